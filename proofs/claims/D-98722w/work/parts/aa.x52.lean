/-! THE LAW's rounds, part 1. Written by mod/maa.py -/
set_option maxRecDepth 100000
section
variable {G : JG} {b L X : Nat} {xs : Nat → Int32} {i : Int} {σ0 σ : JH} {tp fa pl tr p un im : Int} {B r s : Int → Int} {U I : Int → Int → Int} {T : XT} {LL : XL}
theorem tq_whale {w what : Int} {x t : Int} (h : qWhale_ p r s w what = (x, t)) : 0 ≤ t ∧ t ≤ 6 ∧ t ≠ 4 := by
  have e : (qWhale_ p r s w what).2 = t := by rw [h]
  rw [← e]
  unfold qWhale_
  (repeat' split) <;> ((try dsimp only); omega)
theorem law_c4 {e5 e6 : Option AV} (h : LI_ G b L X i σ tp fa pl tr p un im B r s U I T LL) (hK : ∀ (e5 e6 : Option AV) (σ' : JH), LE_ G X σ σ' → GoW_ G b L xs σ0 1834 [some (A_ (some b)), some (A_ (some X)), some (A_ (some (X + 13))), some (A_ (some (X + 30))), some (I_ i), e5, e6] [] σ') : GoW_ G b L xs σ0 380 [some (A_ (some b)), some (A_ (some X)), some (A_ (some (X + 13))), some (A_ (some (X + 30))), some (I_ i), e5, e6] [] σ := by
  obtain ⟨hS, hM, htr, hB, ⟨hbl, hL, hi0, hi6⟩, hrm, hst⟩ := h
  refine g_lt (fun hlt hgz => ?_)
  refine g_al1 dX0_law_380 ?_
  refine g_al0 dX0_law_381 ?_
  refine g_il4 dX0_law_382 ?_
  refine g_iconst dX0_law_384 ?_
  refine g_iadd dX0_law_385 ?_
  refine g_sld hbl (by omega) hL dX0_law_386 ?_
  refine g_al0 dX0_law_387 ?_
  refine g_il4 dX0_law_388 ?_
  refine g_iconst dX0_law_390 ?_
  refine g_iadd dX0_law_391 ?_
  refine g_sld hbl (by omega) hL dX0_law_392 ?_
  refine g_callV2I (d' := 6) lk_X0_37 hS.1.1.sh rfl ⟨Nat.le_of_ble_eq_true rfl, Nat.le_of_ble_eq_true rfl⟩ (Nat.le_of_ble_eq_true rfl) dX0_law_393 ?_
  refine xo_whale hS.1 hM.P (xr_ _) (xr_ _) (fun x1 t1 σ1 e1 hX1 hE1 => ?_)
  refine g_lt (fun hlt1 hgz1 => ?_)
  have hM1 := hM.gx hB hE1.w
  refine g_al2 dX0_law_396 ?_
  refine g_al0 dX0_law_397 ?_
  refine g_il4 dX0_law_398 ?_
  refine g_iconst dX0_law_400 ?_
  refine g_iadd dX0_law_401 ?_
  refine g_sld hbl (by omega) hL dX0_law_402 ?_
  refine g_al0 dX0_law_403 ?_
  refine g_il4 dX0_law_404 ?_
  refine g_iconst dX0_law_406 ?_
  refine g_iadd dX0_law_407 ?_
  refine g_sld hbl (by omega) hL dX0_law_408 ?_
  refine g_callV2I (d' := 4) lk_X0_41 hM1.M.sh rfl ⟨Nat.le_of_ble_eq_true rfl, Nat.le_of_ble_eq_true rfl⟩ (Nat.le_of_ble_eq_true rfl) dX0_law_409 ?_
  refine mo_whale hM1.M hM1.p14 hM.P (xr_ _) (xr_ _) (fun x2 t2 σ2 e2 hM2 hE2 => ?_)
  obtain ⟨rfl, rfl⟩ := Prod.mk.inj (e1.symm.trans e2)
  refine g_sameI (tgt := 1834) dX0_law_412 (by decide) ?_
  exact hK _ _ _ (le_q hS hM hB hlt hlt1 hE1 hM2 hE2 (tq_whale e1))
theorem tq_box {b what : Int} {x t : Int} (h : qBox_ p r s b what = (x, t)) : 0 ≤ t ∧ t ≤ 6 ∧ t ≠ 4 := by
  have e : (qBox_ p r s b what).2 = t := by rw [h]
  rw [← e]
  unfold qBox_
  (repeat' split) <;> ((try dsimp only); omega)
theorem law_c5 {e5 e6 : Option AV} (h : LI_ G b L X i σ tp fa pl tr p un im B r s U I T LL) (hK : ∀ (e5 e6 : Option AV) (σ' : JH), LE_ G X σ σ' → GoW_ G b L xs σ0 1834 [some (A_ (some b)), some (A_ (some X)), some (A_ (some (X + 13))), some (A_ (some (X + 30))), some (I_ i), e5, e6] [] σ') : GoW_ G b L xs σ0 417 [some (A_ (some b)), some (A_ (some X)), some (A_ (some (X + 13))), some (A_ (some (X + 30))), some (I_ i), e5, e6] [] σ := by
  obtain ⟨hS, hM, htr, hB, ⟨hbl, hL, hi0, hi6⟩, hrm, hst⟩ := h
  refine g_lt (fun hlt hgz => ?_)
  refine g_al1 dX0_law_417 ?_
  refine g_al0 dX0_law_418 ?_
  refine g_il4 dX0_law_419 ?_
  refine g_iconst dX0_law_421 ?_
  refine g_iadd dX0_law_422 ?_
  refine g_sld hbl (by omega) hL dX0_law_423 ?_
  refine g_al0 dX0_law_424 ?_
  refine g_il4 dX0_law_425 ?_
  refine g_iconst dX0_law_427 ?_
  refine g_iadd dX0_law_428 ?_
  refine g_sld hbl (by omega) hL dX0_law_429 ?_
  refine g_callV2I (d' := 6) lk_X0_42 hS.1.1.sh rfl ⟨Nat.le_of_ble_eq_true rfl, Nat.le_of_ble_eq_true rfl⟩ (Nat.le_of_ble_eq_true rfl) dX0_law_430 ?_
  refine xo_box hS.1 hM.P (xr_ _) (xr_ _) (fun x1 t1 σ1 e1 hX1 hE1 => ?_)
  refine g_lt (fun hlt1 hgz1 => ?_)
  have hM1 := hM.gx hB hE1.w
  refine g_al2 dX0_law_433 ?_
  refine g_al0 dX0_law_434 ?_
  refine g_il4 dX0_law_435 ?_
  refine g_iconst dX0_law_437 ?_
  refine g_iadd dX0_law_438 ?_
  refine g_sld hbl (by omega) hL dX0_law_439 ?_
  refine g_al0 dX0_law_440 ?_
  refine g_il4 dX0_law_441 ?_
  refine g_iconst dX0_law_443 ?_
  refine g_iadd dX0_law_444 ?_
  refine g_sld hbl (by omega) hL dX0_law_445 ?_
  refine g_callV2I (d' := 4) lk_X0_45 hM1.M.sh rfl ⟨Nat.le_of_ble_eq_true rfl, Nat.le_of_ble_eq_true rfl⟩ (Nat.le_of_ble_eq_true rfl) dX0_law_446 ?_
  refine mo_box hM1.M hM1.p14 hM.P (xr_ _) (xr_ _) (fun x2 t2 σ2 e2 hM2 hE2 => ?_)
  obtain ⟨rfl, rfl⟩ := Prod.mk.inj (e1.symm.trans e2)
  refine g_sameI (tgt := 1834) dX0_law_449 (by decide) ?_
  exact hK _ _ _ (le_q hS hM hB hlt hlt1 hE1 hM2 hE2 (tq_box e1))
theorem tq_length {i : Int} {x t : Int} (h : qLength_ p r i = (x, t)) : 0 ≤ t ∧ t ≤ 6 ∧ t ≠ 4 := by
  have e : (qLength_ p r i).2 = t := by rw [h]
  rw [← e]
  unfold qLength_
  (repeat' split) <;> ((try dsimp only); omega)
theorem law_c6 {e5 e6 : Option AV} (h : LI_ G b L X i σ tp fa pl tr p un im B r s U I T LL) (hK : ∀ (e5 e6 : Option AV) (σ' : JH), LE_ G X σ σ' → GoW_ G b L xs σ0 1834 [some (A_ (some b)), some (A_ (some X)), some (A_ (some (X + 13))), some (A_ (some (X + 30))), some (I_ i), e5, e6] [] σ') : GoW_ G b L xs σ0 454 [some (A_ (some b)), some (A_ (some X)), some (A_ (some (X + 13))), some (A_ (some (X + 30))), some (I_ i), e5, e6] [] σ := by
  obtain ⟨hS, hM, htr, hB, ⟨hbl, hL, hi0, hi6⟩, hrm, hst⟩ := h
  refine g_lt (fun hlt hgz => ?_)
  refine g_al1 dX0_law_454 ?_
  refine g_al0 dX0_law_455 ?_
  refine g_il4 dX0_law_456 ?_
  refine g_iconst dX0_law_458 ?_
  refine g_iadd dX0_law_459 ?_
  refine g_sld hbl (by omega) hL dX0_law_460 ?_
  refine g_callV1I (d' := 6) lk_X0_46 hS.1.1.sh rfl ⟨Nat.le_of_ble_eq_true rfl, Nat.le_of_ble_eq_true rfl⟩ (Nat.le_of_ble_eq_true rfl) dX0_law_461 ?_
  refine xo_length hS.1 hM.P (xr_ _) (fun x1 t1 σ1 e1 hX1 hE1 => ?_)
  refine g_lt (fun hlt1 hgz1 => ?_)
  have hM1 := hM.gx hB hE1.w
  refine g_al2 dX0_law_464 ?_
  refine g_al0 dX0_law_465 ?_
  refine g_il4 dX0_law_466 ?_
  refine g_iconst dX0_law_468 ?_
  refine g_iadd dX0_law_469 ?_
  refine g_sld hbl (by omega) hL dX0_law_470 ?_
  refine g_callV1I (d' := 4) lk_X0_49 hM1.M.sh rfl ⟨Nat.le_of_ble_eq_true rfl, Nat.le_of_ble_eq_true rfl⟩ (Nat.le_of_ble_eq_true rfl) dX0_law_471 ?_
  refine mo_length hM1.M hM1.p14 hM.P (xr_ _) (fun x2 t2 σ2 e2 hM2 hE2 => ?_)
  obtain ⟨rfl, rfl⟩ := Prod.mk.inj (e1.symm.trans e2)
  refine g_sameI (tgt := 1834) dX0_law_474 (by decide) ?_
  exact hK _ _ _ (le_q hS hM hB hlt hlt1 hE1 hM2 hE2 (tq_length e1))
theorem tq_note {i k : Int} {x t : Int} (h : qNote_ p r s i k = (x, t)) : 0 ≤ t ∧ t ≤ 6 ∧ t ≠ 4 := by
  have e : (qNote_ p r s i k).2 = t := by rw [h]
  rw [← e]
  unfold qNote_
  (repeat' split) <;> ((try dsimp only); omega)
theorem law_c7 {e5 e6 : Option AV} (h : LI_ G b L X i σ tp fa pl tr p un im B r s U I T LL) (hK : ∀ (e5 e6 : Option AV) (σ' : JH), LE_ G X σ σ' → GoW_ G b L xs σ0 1834 [some (A_ (some b)), some (A_ (some X)), some (A_ (some (X + 13))), some (A_ (some (X + 30))), some (I_ i), e5, e6] [] σ') : GoW_ G b L xs σ0 479 [some (A_ (some b)), some (A_ (some X)), some (A_ (some (X + 13))), some (A_ (some (X + 30))), some (I_ i), e5, e6] [] σ := by
  obtain ⟨hS, hM, htr, hB, ⟨hbl, hL, hi0, hi6⟩, hrm, hst⟩ := h
  refine g_lt (fun hlt hgz => ?_)
  refine g_al1 dX0_law_479 ?_
  refine g_al0 dX0_law_480 ?_
  refine g_il4 dX0_law_481 ?_
  refine g_iconst dX0_law_483 ?_
  refine g_iadd dX0_law_484 ?_
  refine g_sld hbl (by omega) hL dX0_law_485 ?_
  refine g_al0 dX0_law_486 ?_
  refine g_il4 dX0_law_487 ?_
  refine g_iconst dX0_law_489 ?_
  refine g_iadd dX0_law_490 ?_
  refine g_sld hbl (by omega) hL dX0_law_491 ?_
  refine g_callV2I (d' := 6) lk_X0_50 hS.1.1.sh rfl ⟨Nat.le_of_ble_eq_true rfl, Nat.le_of_ble_eq_true rfl⟩ (Nat.le_of_ble_eq_true rfl) dX0_law_492 ?_
  refine xo_note hS.1 hM.P (xr_ _) (xr_ _) (fun x1 t1 σ1 e1 hX1 hE1 => ?_)
  refine g_lt (fun hlt1 hgz1 => ?_)
  have hM1 := hM.gx hB hE1.w
  refine g_al2 dX0_law_495 ?_
  refine g_al0 dX0_law_496 ?_
  refine g_il4 dX0_law_497 ?_
  refine g_iconst dX0_law_499 ?_
  refine g_iadd dX0_law_500 ?_
  refine g_sld hbl (by omega) hL dX0_law_501 ?_
  refine g_al0 dX0_law_502 ?_
  refine g_il4 dX0_law_503 ?_
  refine g_iconst dX0_law_505 ?_
  refine g_iadd dX0_law_506 ?_
  refine g_sld hbl (by omega) hL dX0_law_507 ?_
  refine g_callV2I (d' := 4) lk_X0_53 hM1.M.sh rfl ⟨Nat.le_of_ble_eq_true rfl, Nat.le_of_ble_eq_true rfl⟩ (Nat.le_of_ble_eq_true rfl) dX0_law_508 ?_
  refine mo_note hM1.M hM1.p14 hM.P (xr_ _) (xr_ _) (fun x2 t2 σ2 e2 hM2 hE2 => ?_)
  obtain ⟨rfl, rfl⟩ := Prod.mk.inj (e1.symm.trans e2)
  refine g_sameI (tgt := 1834) dX0_law_511 (by decide) ?_
  exact hK _ _ _ (le_q hS hM hB hlt hlt1 hE1 hM2 hE2 (tq_note e1))
theorem tq_sung {b k : Int} {x t : Int} (h : qSung_ p r s b k = (x, t)) : 0 ≤ t ∧ t ≤ 6 ∧ t ≠ 4 := by
  have e : (qSung_ p r s b k).2 = t := by rw [h]
  rw [← e]
  unfold qSung_
  (repeat' split) <;> ((try dsimp only); omega)
theorem law_c8 {e5 e6 : Option AV} (h : LI_ G b L X i σ tp fa pl tr p un im B r s U I T LL) (hK : ∀ (e5 e6 : Option AV) (σ' : JH), LE_ G X σ σ' → GoW_ G b L xs σ0 1834 [some (A_ (some b)), some (A_ (some X)), some (A_ (some (X + 13))), some (A_ (some (X + 30))), some (I_ i), e5, e6] [] σ') : GoW_ G b L xs σ0 516 [some (A_ (some b)), some (A_ (some X)), some (A_ (some (X + 13))), some (A_ (some (X + 30))), some (I_ i), e5, e6] [] σ := by
  obtain ⟨hS, hM, htr, hB, ⟨hbl, hL, hi0, hi6⟩, hrm, hst⟩ := h
  refine g_lt (fun hlt hgz => ?_)
  refine g_al1 dX0_law_516 ?_
  refine g_al0 dX0_law_517 ?_
  refine g_il4 dX0_law_518 ?_
  refine g_iconst dX0_law_520 ?_
  refine g_iadd dX0_law_521 ?_
  refine g_sld hbl (by omega) hL dX0_law_522 ?_
  refine g_al0 dX0_law_523 ?_
  refine g_il4 dX0_law_524 ?_
  refine g_iconst dX0_law_526 ?_
  refine g_iadd dX0_law_527 ?_
  refine g_sld hbl (by omega) hL dX0_law_528 ?_
  refine g_callV2I (d' := 7) lk_X0_54 hS.1.1.sh rfl ⟨Nat.le_of_ble_eq_true rfl, Nat.le_of_ble_eq_true rfl⟩ (Nat.le_of_ble_eq_true rfl) dX0_law_529 ?_
  refine xo_sung hS.1 hM.P (xr_ _) (xr_ _) (fun x1 t1 σ1 e1 hX1 hE1 => ?_)
  refine g_lt (fun hlt1 hgz1 => ?_)
  have hM1 := hM.gx hB hE1.w
  refine g_al2 dX0_law_532 ?_
  refine g_al0 dX0_law_533 ?_
  refine g_il4 dX0_law_534 ?_
  refine g_iconst dX0_law_536 ?_
  refine g_iadd dX0_law_537 ?_
  refine g_sld hbl (by omega) hL dX0_law_538 ?_
  refine g_al0 dX0_law_539 ?_
  refine g_il4 dX0_law_540 ?_
  refine g_iconst dX0_law_542 ?_
  refine g_iadd dX0_law_543 ?_
  refine g_sld hbl (by omega) hL dX0_law_544 ?_
  refine g_callV2I (d' := 4) lk_X0_57 hM1.M.sh rfl ⟨Nat.le_of_ble_eq_true rfl, Nat.le_of_ble_eq_true rfl⟩ (Nat.le_of_ble_eq_true rfl) dX0_law_545 ?_
  refine mo_sung hM1.M hM1.p14 hM.P (xr_ _) (xr_ _) (fun x2 t2 σ2 e2 hM2 hE2 => ?_)
  obtain ⟨rfl, rfl⟩ := Prod.mk.inj (e1.symm.trans e2)
  refine g_sameI (tgt := 1834) dX0_law_548 (by decide) ?_
  exact hK _ _ _ (le_q hS hM hB hlt hlt1 hE1 hM2 hE2 (tq_sung e1))
theorem tq_heard {b : Int} {x t : Int} (h : qHeard_ p r s b = (x, t)) : 0 ≤ t ∧ t ≤ 6 ∧ t ≠ 4 := by
  have e : (qHeard_ p r s b).2 = t := by rw [h]
  rw [← e]
  unfold qHeard_
  (repeat' split) <;> ((try dsimp only); omega)
theorem law_c9 {e5 e6 : Option AV} (h : LI_ G b L X i σ tp fa pl tr p un im B r s U I T LL) (hK : ∀ (e5 e6 : Option AV) (σ' : JH), LE_ G X σ σ' → GoW_ G b L xs σ0 1834 [some (A_ (some b)), some (A_ (some X)), some (A_ (some (X + 13))), some (A_ (some (X + 30))), some (I_ i), e5, e6] [] σ') : GoW_ G b L xs σ0 553 [some (A_ (some b)), some (A_ (some X)), some (A_ (some (X + 13))), some (A_ (some (X + 30))), some (I_ i), e5, e6] [] σ := by
  obtain ⟨hS, hM, htr, hB, ⟨hbl, hL, hi0, hi6⟩, hrm, hst⟩ := h
  refine g_lt (fun hlt hgz => ?_)
  refine g_al1 dX0_law_553 ?_
  refine g_al0 dX0_law_554 ?_
  refine g_il4 dX0_law_555 ?_
  refine g_iconst dX0_law_557 ?_
  refine g_iadd dX0_law_558 ?_
  refine g_sld hbl (by omega) hL dX0_law_559 ?_
  refine g_callV1I (d' := 9) lk_X0_58 hS.1.1.sh rfl ⟨Nat.le_of_ble_eq_true rfl, Nat.le_of_ble_eq_true rfl⟩ (Nat.le_of_ble_eq_true rfl) dX0_law_560 ?_
  refine xo_heard hS.1 hM.P (xr_ _) (fun x1 t1 σ1 e1 hX1 hE1 => ?_)
  refine g_lt (fun hlt1 hgz1 => ?_)
  have hM1 := hM.gx hB hE1.w
  refine g_al2 dX0_law_563 ?_
  refine g_al0 dX0_law_564 ?_
  refine g_il4 dX0_law_565 ?_
  refine g_iconst dX0_law_567 ?_
  refine g_iadd dX0_law_568 ?_
  refine g_sld hbl (by omega) hL dX0_law_569 ?_
  refine g_callV1I (d' := 7) lk_X0_61 hM1.M.sh rfl ⟨Nat.le_of_ble_eq_true rfl, Nat.le_of_ble_eq_true rfl⟩ (Nat.le_of_ble_eq_true rfl) dX0_law_570 ?_
  refine mo_heard hM1.M hM1.p14 hM.P (xr_ _) (fun x2 t2 σ2 e2 hM2 hE2 => ?_)
  obtain ⟨rfl, rfl⟩ := Prod.mk.inj (e1.symm.trans e2)
  refine g_sameI (tgt := 1834) dX0_law_573 (by decide) ?_
  exact hK _ _ _ (le_q hS hM hB hlt hlt1 hE1 hM2 hE2 (tq_heard e1))
theorem tq_way {i j : Int} {x t : Int} (h : qWay_ p r s i j = (x, t)) : 0 ≤ t ∧ t ≤ 6 ∧ t ≠ 4 := by
  have e : (qWay_ p r s i j).2 = t := by rw [h]
  rw [← e]
  unfold qWay_
  (repeat' split) <;> ((try dsimp only); omega)
theorem law_c10 {e5 e6 : Option AV} (h : LI_ G b L X i σ tp fa pl tr p un im B r s U I T LL) (hK : ∀ (e5 e6 : Option AV) (σ' : JH), LE_ G X σ σ' → GoW_ G b L xs σ0 1834 [some (A_ (some b)), some (A_ (some X)), some (A_ (some (X + 13))), some (A_ (some (X + 30))), some (I_ i), e5, e6] [] σ') : GoW_ G b L xs σ0 578 [some (A_ (some b)), some (A_ (some X)), some (A_ (some (X + 13))), some (A_ (some (X + 30))), some (I_ i), e5, e6] [] σ := by
  obtain ⟨hS, hM, htr, hB, ⟨hbl, hL, hi0, hi6⟩, hrm, hst⟩ := h
  refine g_lt (fun hlt hgz => ?_)
  refine g_al1 dX0_law_578 ?_
  refine g_al0 dX0_law_579 ?_
  refine g_il4 dX0_law_580 ?_
  refine g_iconst dX0_law_582 ?_
  refine g_iadd dX0_law_583 ?_
  refine g_sld hbl (by omega) hL dX0_law_584 ?_
  refine g_al0 dX0_law_585 ?_
  refine g_il4 dX0_law_586 ?_
  refine g_iconst dX0_law_588 ?_
  refine g_iadd dX0_law_589 ?_
  refine g_sld hbl (by omega) hL dX0_law_590 ?_
  refine g_callV2I (d' := 5) lk_X0_62 hS.1.1.sh rfl ⟨Nat.le_of_ble_eq_true rfl, Nat.le_of_ble_eq_true rfl⟩ (Nat.le_of_ble_eq_true rfl) dX0_law_591 ?_
  refine xo_way hS.1 hM.P (xr_ _) (xr_ _) (fun x1 t1 σ1 e1 hX1 hE1 => ?_)
  refine g_lt (fun hlt1 hgz1 => ?_)
  have hM1 := hM.gx hB hE1.w
  refine g_al2 dX0_law_594 ?_
  refine g_al0 dX0_law_595 ?_
  refine g_il4 dX0_law_596 ?_
  refine g_iconst dX0_law_598 ?_
  refine g_iadd dX0_law_599 ?_
  refine g_sld hbl (by omega) hL dX0_law_600 ?_
  refine g_al0 dX0_law_601 ?_
  refine g_il4 dX0_law_602 ?_
  refine g_iconst dX0_law_604 ?_
  refine g_iadd dX0_law_605 ?_
  refine g_sld hbl (by omega) hL dX0_law_606 ?_
  refine g_callV2I (d' := 5) lk_X0_65 hM1.M.sh rfl ⟨Nat.le_of_ble_eq_true rfl, Nat.le_of_ble_eq_true rfl⟩ (Nat.le_of_ble_eq_true rfl) dX0_law_607 ?_
  refine mo_way hM1.M hM1.p14 hM.P (xr_ _) (xr_ _) (fun x2 t2 σ2 e2 hM2 hE2 => ?_)
  obtain ⟨rfl, rfl⟩ := Prod.mk.inj (e1.symm.trans e2)
  refine g_sameI (tgt := 1834) dX0_law_610 (by decide) ?_
  exact hK _ _ _ (le_q hS hM hB hlt hlt1 hE1 hM2 hE2 (tq_way e1))
theorem tq_season {d : Int} {x t : Int} (h : qSeason_ p d = (x, t)) : 0 ≤ t ∧ t ≤ 6 ∧ t ≠ 4 := by
  have e : (qSeason_ p d).2 = t := by rw [h]
  rw [← e]
  unfold qSeason_
  (repeat' split) <;> ((try dsimp only); omega)
theorem law_c11 {e5 e6 : Option AV} (h : LI_ G b L X i σ tp fa pl tr p un im B r s U I T LL) (hK : ∀ (e5 e6 : Option AV) (σ' : JH), LE_ G X σ σ' → GoW_ G b L xs σ0 1834 [some (A_ (some b)), some (A_ (some X)), some (A_ (some (X + 13))), some (A_ (some (X + 30))), some (I_ i), e5, e6] [] σ') : GoW_ G b L xs σ0 615 [some (A_ (some b)), some (A_ (some X)), some (A_ (some (X + 13))), some (A_ (some (X + 30))), some (I_ i), e5, e6] [] σ := by
  obtain ⟨hS, hM, htr, hB, ⟨hbl, hL, hi0, hi6⟩, hrm, hst⟩ := h
  refine g_lt (fun hlt hgz => ?_)
  refine g_al1 dX0_law_615 ?_
  refine g_al0 dX0_law_616 ?_
  refine g_il4 dX0_law_617 ?_
  refine g_iconst dX0_law_619 ?_
  refine g_iadd dX0_law_620 ?_
  refine g_sld hbl (by omega) hL dX0_law_621 ?_
  refine g_callV1I (d' := 3) lk_X0_66 hS.1.1.sh rfl ⟨Nat.le_of_ble_eq_true rfl, Nat.le_of_ble_eq_true rfl⟩ (Nat.le_of_ble_eq_true rfl) dX0_law_622 ?_
  refine xo_season hS.1 hM.P (xr_ _) (fun x1 t1 σ1 e1 hX1 hE1 => ?_)
  refine g_lt (fun hlt1 hgz1 => ?_)
  have hM1 := hM.gx hB hE1.w
  refine g_al2 dX0_law_625 ?_
  refine g_al0 dX0_law_626 ?_
  refine g_il4 dX0_law_627 ?_
  refine g_iconst dX0_law_629 ?_
  refine g_iadd dX0_law_630 ?_
  refine g_sld hbl (by omega) hL dX0_law_631 ?_
  refine g_callV1I (d' := 3) lk_X0_69 hM1.M.sh rfl ⟨Nat.le_of_ble_eq_true rfl, Nat.le_of_ble_eq_true rfl⟩ (Nat.le_of_ble_eq_true rfl) dX0_law_632 ?_
  refine mo_season hM1.M hM1.p14 hM.P (xr_ _) (fun x2 t2 σ2 e2 hM2 hE2 => ?_)
  obtain ⟨rfl, rfl⟩ := Prod.mk.inj (e1.symm.trans e2)
  refine g_sameI (tgt := 1834) dX0_law_635 (by decide) ?_
  exact hK _ _ _ (le_q hS hM hB hlt hlt1 hE1 hM2 hE2 (tq_season e1))
theorem tq_sets {w k d : Int} {x t : Int} (h : qSets_ p r s w k d = (x, t)) : 0 ≤ t ∧ t ≤ 6 ∧ t ≠ 4 := by
  have e : (qSets_ p r s w k d).2 = t := by rw [h]
  rw [← e]
  unfold qSets_
  (repeat' split) <;> ((try dsimp only); omega)
theorem law_c12 {e5 e6 : Option AV} (h : LI_ G b L X i σ tp fa pl tr p un im B r s U I T LL) (hK : ∀ (e5 e6 : Option AV) (σ' : JH), LE_ G X σ σ' → GoW_ G b L xs σ0 1834 [some (A_ (some b)), some (A_ (some X)), some (A_ (some (X + 13))), some (A_ (some (X + 30))), some (I_ i), e5, e6] [] σ') : GoW_ G b L xs σ0 640 [some (A_ (some b)), some (A_ (some X)), some (A_ (some (X + 13))), some (A_ (some (X + 30))), some (I_ i), e5, e6] [] σ := by
  obtain ⟨hS, hM, htr, hB, ⟨hbl, hL, hi0, hi6⟩, hrm, hst⟩ := h
  refine g_lt (fun hlt hgz => ?_)
  refine g_al1 dX0_law_640 ?_
  refine g_al0 dX0_law_641 ?_
  refine g_il4 dX0_law_642 ?_
  refine g_iconst dX0_law_644 ?_
  refine g_iadd dX0_law_645 ?_
  refine g_sld hbl (by omega) hL dX0_law_646 ?_
  refine g_al0 dX0_law_647 ?_
  refine g_il4 dX0_law_648 ?_
  refine g_iconst dX0_law_650 ?_
  refine g_iadd dX0_law_651 ?_
  refine g_sld hbl (by omega) hL dX0_law_652 ?_
  refine g_al0 dX0_law_653 ?_
  refine g_il4 dX0_law_654 ?_
  refine g_iconst dX0_law_656 ?_
  refine g_iadd dX0_law_657 ?_
  refine g_sld hbl (by omega) hL dX0_law_658 ?_
  refine g_callV3I (d' := 6) lk_X0_70 hS.1.1.sh rfl ⟨Nat.le_of_ble_eq_true rfl, Nat.le_of_ble_eq_true rfl⟩ (Nat.le_of_ble_eq_true rfl) dX0_law_659 ?_
  refine xo_sets hS.1 hM.P (xr_ _) (xr_ _) (xr_ _) (fun x1 t1 σ1 e1 hX1 hE1 => ?_)
  refine g_lt (fun hlt1 hgz1 => ?_)
  have hM1 := hM.gx hB hE1.w
  refine g_al2 dX0_law_662 ?_
  refine g_al0 dX0_law_663 ?_
  refine g_il4 dX0_law_664 ?_
  refine g_iconst dX0_law_666 ?_
  refine g_iadd dX0_law_667 ?_
  refine g_sld hbl (by omega) hL dX0_law_668 ?_
  refine g_al0 dX0_law_669 ?_
  refine g_il4 dX0_law_670 ?_
  refine g_iconst dX0_law_672 ?_
  refine g_iadd dX0_law_673 ?_
  refine g_sld hbl (by omega) hL dX0_law_674 ?_
  refine g_al0 dX0_law_675 ?_
  refine g_il4 dX0_law_676 ?_
  refine g_iconst dX0_law_678 ?_
  refine g_iadd dX0_law_679 ?_
  refine g_sld hbl (by omega) hL dX0_law_680 ?_
  refine g_callV3I (d' := 4) lk_X0_74 hM1.M.sh rfl ⟨Nat.le_of_ble_eq_true rfl, Nat.le_of_ble_eq_true rfl⟩ (Nat.le_of_ble_eq_true rfl) dX0_law_681 ?_
  refine mo_sets hM1.M hM1.p14 hM.P (xr_ _) (xr_ _) (xr_ _) (fun x2 t2 σ2 e2 hM2 hE2 => ?_)
  obtain ⟨rfl, rfl⟩ := Prod.mk.inj (e1.symm.trans e2)
  refine g_sameI (tgt := 1834) dX0_law_684 (by decide) ?_
  exact hK _ _ _ (le_q hS hM hB hlt hlt1 hE1 hM2 hE2 (tq_sets e1))
theorem tq_sent {what : Int} {x t : Int} (h : qSent_ p r s what = (x, t)) : 0 ≤ t ∧ t ≤ 6 ∧ t ≠ 4 := by
  have e : (qSent_ p r s what).2 = t := by rw [h]
  rw [← e]
  unfold qSent_
  (repeat' split) <;> ((try dsimp only); omega)
theorem law_c13 {e5 e6 : Option AV} (h : LI_ G b L X i σ tp fa pl tr p un im B r s U I T LL) (hK : ∀ (e5 e6 : Option AV) (σ' : JH), LE_ G X σ σ' → GoW_ G b L xs σ0 1834 [some (A_ (some b)), some (A_ (some X)), some (A_ (some (X + 13))), some (A_ (some (X + 30))), some (I_ i), e5, e6] [] σ') : GoW_ G b L xs σ0 689 [some (A_ (some b)), some (A_ (some X)), some (A_ (some (X + 13))), some (A_ (some (X + 30))), some (I_ i), e5, e6] [] σ := by
  obtain ⟨hS, hM, htr, hB, ⟨hbl, hL, hi0, hi6⟩, hrm, hst⟩ := h
  refine g_lt (fun hlt hgz => ?_)
  refine g_al1 dX0_law_689 ?_
  refine g_al0 dX0_law_690 ?_
  refine g_il4 dX0_law_691 ?_
  refine g_iconst dX0_law_693 ?_
  refine g_iadd dX0_law_694 ?_
  refine g_sld hbl (by omega) hL dX0_law_695 ?_
  refine g_callV1I (d' := 6) lk_X0_75 hS.1.1.sh rfl ⟨Nat.le_of_ble_eq_true rfl, Nat.le_of_ble_eq_true rfl⟩ (Nat.le_of_ble_eq_true rfl) dX0_law_696 ?_
  refine xo_sent hS.1 hM.P (xr_ _) (fun x1 t1 σ1 e1 hX1 hE1 => ?_)
  refine g_lt (fun hlt1 hgz1 => ?_)
  have hM1 := hM.gx hB hE1.w
  refine g_al2 dX0_law_699 ?_
  refine g_al0 dX0_law_700 ?_
  refine g_il4 dX0_law_701 ?_
  refine g_iconst dX0_law_703 ?_
  refine g_iadd dX0_law_704 ?_
  refine g_sld hbl (by omega) hL dX0_law_705 ?_
  refine g_callV1I (d' := 3) lk_X0_78 hM1.M.sh rfl ⟨Nat.le_of_ble_eq_true rfl, Nat.le_of_ble_eq_true rfl⟩ (Nat.le_of_ble_eq_true rfl) dX0_law_706 ?_
  refine mo_sent hM1.M hM1.p14 hM.P (xr_ _) (fun x2 t2 σ2 e2 hM2 hE2 => ?_)
  obtain ⟨rfl, rfl⟩ := Prod.mk.inj (e1.symm.trans e2)
  refine g_sameI (tgt := 1834) dX0_law_709 (by decide) ?_
  exact hK _ _ _ (le_q hS hM hB hlt hlt1 hE1 hM2 hE2 (tq_sent e1))
theorem tq_apart {i j : Int} {x t : Int} (h : qApart_ p r i j = (x, t)) : 0 ≤ t ∧ t ≤ 6 ∧ t ≠ 4 := by
  have e : (qApart_ p r i j).2 = t := by rw [h]
  rw [← e]
  unfold qApart_
  (repeat' split) <;> ((try dsimp only); omega)
theorem law_c14 {e5 e6 : Option AV} (h : LI_ G b L X i σ tp fa pl tr p un im B r s U I T LL) (hK : ∀ (e5 e6 : Option AV) (σ' : JH), LE_ G X σ σ' → GoW_ G b L xs σ0 1834 [some (A_ (some b)), some (A_ (some X)), some (A_ (some (X + 13))), some (A_ (some (X + 30))), some (I_ i), e5, e6] [] σ') : GoW_ G b L xs σ0 714 [some (A_ (some b)), some (A_ (some X)), some (A_ (some (X + 13))), some (A_ (some (X + 30))), some (I_ i), e5, e6] [] σ := by
  obtain ⟨hS, hM, htr, hB, ⟨hbl, hL, hi0, hi6⟩, hrm, hst⟩ := h
  refine g_lt (fun hlt hgz => ?_)
  refine g_al1 dX0_law_714 ?_
  refine g_al0 dX0_law_715 ?_
  refine g_il4 dX0_law_716 ?_
  refine g_iconst dX0_law_718 ?_
  refine g_iadd dX0_law_719 ?_
  refine g_sld hbl (by omega) hL dX0_law_720 ?_
  refine g_al0 dX0_law_721 ?_
  refine g_il4 dX0_law_722 ?_
  refine g_iconst dX0_law_724 ?_
  refine g_iadd dX0_law_725 ?_
  refine g_sld hbl (by omega) hL dX0_law_726 ?_
  refine g_callV2I (d' := 8) lk_X0_79 hS.1.1.sh rfl ⟨Nat.le_of_ble_eq_true rfl, Nat.le_of_ble_eq_true rfl⟩ (Nat.le_of_ble_eq_true rfl) dX0_law_727 ?_
  refine xo_apart hS.1 hM.P (xr_ _) (xr_ _) (fun x1 t1 σ1 e1 hX1 hE1 => ?_)
  refine g_lt (fun hlt1 hgz1 => ?_)
  have hM1 := hM.gx hB hE1.w
  refine g_al2 dX0_law_730 ?_
  refine g_al0 dX0_law_731 ?_
  refine g_il4 dX0_law_732 ?_
  refine g_iconst dX0_law_734 ?_
  refine g_iadd dX0_law_735 ?_
  refine g_sld hbl (by omega) hL dX0_law_736 ?_
  refine g_al0 dX0_law_737 ?_
  refine g_il4 dX0_law_738 ?_
  refine g_iconst dX0_law_740 ?_
  refine g_iadd dX0_law_741 ?_
  refine g_sld hbl (by omega) hL dX0_law_742 ?_
  refine g_callV2I (d' := 4) lk_X0_82 hM1.M.sh rfl ⟨Nat.le_of_ble_eq_true rfl, Nat.le_of_ble_eq_true rfl⟩ (Nat.le_of_ble_eq_true rfl) dX0_law_743 ?_
  refine mo_apart hM1.M hM1.p14 hM.P (xr_ _) (xr_ _) (fun x2 t2 σ2 e2 hM2 hE2 => ?_)
  obtain ⟨rfl, rfl⟩ := Prod.mk.inj (e1.symm.trans e2)
  refine g_sameI (tgt := 1834) dX0_law_746 (by decide) ?_
  exact hK _ _ _ (le_q hS hM hB hlt hlt1 hE1 hM2 hE2 (tq_apart e1))
theorem tq_bear {x t : Int} (h : qBear_ p r = (x, t)) : 0 ≤ t ∧ t ≤ 6 ∧ t ≠ 4 := by
  have e : (qBear_ p r).2 = t := by rw [h]
  rw [← e]
  unfold qBear_
  (repeat' split) <;> ((try dsimp only); omega)
theorem law_c15 {e5 e6 : Option AV} (h : LI_ G b L X i σ tp fa pl tr p un im B r s U I T LL) (hK : ∀ (e5 e6 : Option AV) (σ' : JH), LE_ G X σ σ' → GoW_ G b L xs σ0 1834 [some (A_ (some b)), some (A_ (some X)), some (A_ (some (X + 13))), some (A_ (some (X + 30))), some (I_ i), e5, e6] [] σ') : GoW_ G b L xs σ0 751 [some (A_ (some b)), some (A_ (some X)), some (A_ (some (X + 13))), some (A_ (some (X + 30))), some (I_ i), e5, e6] [] σ := by
  obtain ⟨hS, hM, htr, hB, ⟨hbl, hL, hi0, hi6⟩, hrm, hst⟩ := h
  refine g_lt (fun hlt hgz => ?_)
  refine g_al1 dX0_law_751 ?_
  refine g_callV0I (d' := 8) lk_X0_83 hS.1.1.sh rfl ⟨Nat.le_of_ble_eq_true rfl, Nat.le_of_ble_eq_true rfl⟩ (Nat.le_of_ble_eq_true rfl) dX0_law_752 ?_
  refine xo_bear hS.1 hM.P (fun x1 t1 σ1 e1 hX1 hE1 => ?_)
  refine g_lt (fun hlt1 hgz1 => ?_)
  have hM1 := hM.gx hB hE1.w
  refine g_al2 dX0_law_755 ?_
  refine g_callV0I (d' := 4) lk_X0_86 hM1.M.sh rfl ⟨Nat.le_of_ble_eq_true rfl, Nat.le_of_ble_eq_true rfl⟩ (Nat.le_of_ble_eq_true rfl) dX0_law_756 ?_
  refine mo_bear hM1.M hM1.p14 hM.P (fun x2 t2 σ2 e2 hM2 hE2 => ?_)
  obtain ⟨rfl, rfl⟩ := Prod.mk.inj (e1.symm.trans e2)
  refine g_sameI (tgt := 1834) dX0_law_759 (by decide) ?_
  exact hK _ _ _ (le_q hS hM hB hlt hlt1 hE1 hM2 hE2 (tq_bear e1))
theorem tq_mixed {x t : Int} (h : qMixed_ p r = (x, t)) : 0 ≤ t ∧ t ≤ 6 ∧ t ≠ 4 := by
  have e : (qMixed_ p r).2 = t := by rw [h]
  rw [← e]
  unfold qMixed_
  (repeat' split) <;> ((try dsimp only); omega)
theorem law_c16 {e5 e6 : Option AV} (h : LI_ G b L X i σ tp fa pl tr p un im B r s U I T LL) (hK : ∀ (e5 e6 : Option AV) (σ' : JH), LE_ G X σ σ' → GoW_ G b L xs σ0 1834 [some (A_ (some b)), some (A_ (some X)), some (A_ (some (X + 13))), some (A_ (some (X + 30))), some (I_ i), e5, e6] [] σ') : GoW_ G b L xs σ0 764 [some (A_ (some b)), some (A_ (some X)), some (A_ (some (X + 13))), some (A_ (some (X + 30))), some (I_ i), e5, e6] [] σ := by
  obtain ⟨hS, hM, htr, hB, ⟨hbl, hL, hi0, hi6⟩, hrm, hst⟩ := h
  refine g_lt (fun hlt hgz => ?_)
  refine g_al1 dX0_law_764 ?_
  refine g_callV0I (d' := 8) lk_X0_87 hS.1.1.sh rfl ⟨Nat.le_of_ble_eq_true rfl, Nat.le_of_ble_eq_true rfl⟩ (Nat.le_of_ble_eq_true rfl) dX0_law_765 ?_
  refine xo_mixed hS.1 hM.P (fun x1 t1 σ1 e1 hX1 hE1 => ?_)
  refine g_lt (fun hlt1 hgz1 => ?_)
  have hM1 := hM.gx hB hE1.w
  refine g_al2 dX0_law_768 ?_
  refine g_callV0I (d' := 4) lk_X0_90 hM1.M.sh rfl ⟨Nat.le_of_ble_eq_true rfl, Nat.le_of_ble_eq_true rfl⟩ (Nat.le_of_ble_eq_true rfl) dX0_law_769 ?_
  refine mo_mixed hM1.M hM1.p14 hM.P (fun x2 t2 σ2 e2 hM2 hE2 => ?_)
  obtain ⟨rfl, rfl⟩ := Prod.mk.inj (e1.symm.trans e2)
  refine g_sameI (tgt := 1834) dX0_law_772 (by decide) ?_
  exact hK _ _ _ (le_q hS hM hB hlt hlt1 hE1 hM2 hE2 (tq_mixed e1))
theorem tq_fresh {l a : Int} {x t : Int} (h : qFresh_ p r s l a = (x, t)) : 0 ≤ t ∧ t ≤ 6 ∧ t ≠ 4 := by
  have e : (qFresh_ p r s l a).2 = t := by rw [h]
  rw [← e]
  unfold qFresh_
  (repeat' split) <;> ((try dsimp only); omega)
theorem law_c17 {e5 e6 : Option AV} (h : LI_ G b L X i σ tp fa pl tr p un im B r s U I T LL) (hK : ∀ (e5 e6 : Option AV) (σ' : JH), LE_ G X σ σ' → GoW_ G b L xs σ0 1834 [some (A_ (some b)), some (A_ (some X)), some (A_ (some (X + 13))), some (A_ (some (X + 30))), some (I_ i), e5, e6] [] σ') : GoW_ G b L xs σ0 777 [some (A_ (some b)), some (A_ (some X)), some (A_ (some (X + 13))), some (A_ (some (X + 30))), some (I_ i), e5, e6] [] σ := by
  obtain ⟨hS, hM, htr, hB, ⟨hbl, hL, hi0, hi6⟩, hrm, hst⟩ := h
  refine g_lt (fun hlt hgz => ?_)
  refine g_al1 dX0_law_777 ?_
  refine g_al0 dX0_law_778 ?_
  refine g_il4 dX0_law_779 ?_
  refine g_iconst dX0_law_781 ?_
  refine g_iadd dX0_law_782 ?_
  refine g_sld hbl (by omega) hL dX0_law_783 ?_
  refine g_al0 dX0_law_784 ?_
  refine g_il4 dX0_law_785 ?_
  refine g_iconst dX0_law_787 ?_
  refine g_iadd dX0_law_788 ?_
  refine g_sld hbl (by omega) hL dX0_law_789 ?_
  refine g_callV2I (d' := 8) lk_X0_91 hS.1.1.sh rfl ⟨Nat.le_of_ble_eq_true rfl, Nat.le_of_ble_eq_true rfl⟩ (Nat.le_of_ble_eq_true rfl) dX0_law_790 ?_
  refine xo_fresh hS.1 hM.P (xr_ _) (xr_ _) (fun x1 t1 σ1 e1 hX1 hE1 => ?_)
  refine g_lt (fun hlt1 hgz1 => ?_)
  have hM1 := hM.gx hB hE1.w
  refine g_al2 dX0_law_793 ?_
  refine g_al0 dX0_law_794 ?_
  refine g_il4 dX0_law_795 ?_
  refine g_iconst dX0_law_797 ?_
  refine g_iadd dX0_law_798 ?_
  refine g_sld hbl (by omega) hL dX0_law_799 ?_
  refine g_al0 dX0_law_800 ?_
  refine g_il4 dX0_law_801 ?_
  refine g_iconst dX0_law_803 ?_
  refine g_iadd dX0_law_804 ?_
  refine g_sld hbl (by omega) hL dX0_law_805 ?_
  refine g_callV2I (d' := 4) lk_X0_94 hM1.M.sh rfl ⟨Nat.le_of_ble_eq_true rfl, Nat.le_of_ble_eq_true rfl⟩ (Nat.le_of_ble_eq_true rfl) dX0_law_806 ?_
  refine mo_fresh hM1.M hM1.p14 hM.P (xr_ _) (xr_ _) (fun x2 t2 σ2 e2 hM2 hE2 => ?_)
  obtain ⟨rfl, rfl⟩ := Prod.mk.inj (e1.symm.trans e2)
  refine g_sameI (tgt := 1834) dX0_law_809 (by decide) ?_
  exact hK _ _ _ (le_q hS hM hB hlt hlt1 hE1 hM2 hE2 (tq_fresh e1))
theorem tq_byTurns {l a : Int} {x t : Int} (h : qByTurns_ p r s l a = (x, t)) : 0 ≤ t ∧ t ≤ 6 ∧ t ≠ 4 := by
  have e : (qByTurns_ p r s l a).2 = t := by rw [h]
  rw [← e]
  unfold qByTurns_
  (repeat' split) <;> ((try dsimp only); omega)
theorem law_c18 {e5 e6 : Option AV} (h : LI_ G b L X i σ tp fa pl tr p un im B r s U I T LL) (hK : ∀ (e5 e6 : Option AV) (σ' : JH), LE_ G X σ σ' → GoW_ G b L xs σ0 1834 [some (A_ (some b)), some (A_ (some X)), some (A_ (some (X + 13))), some (A_ (some (X + 30))), some (I_ i), e5, e6] [] σ') : GoW_ G b L xs σ0 814 [some (A_ (some b)), some (A_ (some X)), some (A_ (some (X + 13))), some (A_ (some (X + 30))), some (I_ i), e5, e6] [] σ := by
  obtain ⟨hS, hM, htr, hB, ⟨hbl, hL, hi0, hi6⟩, hrm, hst⟩ := h
  refine g_lt (fun hlt hgz => ?_)
  refine g_al1 dX0_law_814 ?_
  refine g_al0 dX0_law_815 ?_
  refine g_il4 dX0_law_816 ?_
  refine g_iconst dX0_law_818 ?_
  refine g_iadd dX0_law_819 ?_
  refine g_sld hbl (by omega) hL dX0_law_820 ?_
  refine g_al0 dX0_law_821 ?_
  refine g_il4 dX0_law_822 ?_
  refine g_iconst dX0_law_824 ?_
  refine g_iadd dX0_law_825 ?_
  refine g_sld hbl (by omega) hL dX0_law_826 ?_
  refine g_callV2I (d' := 8) lk_X0_95 hS.1.1.sh rfl ⟨Nat.le_of_ble_eq_true rfl, Nat.le_of_ble_eq_true rfl⟩ (Nat.le_of_ble_eq_true rfl) dX0_law_827 ?_
  refine xo_byTurns hS.1 hM.P (xr_ _) (xr_ _) (fun x1 t1 σ1 e1 hX1 hE1 => ?_)
  refine g_lt (fun hlt1 hgz1 => ?_)
  have hM1 := hM.gx hB hE1.w
  refine g_al2 dX0_law_830 ?_
  refine g_al0 dX0_law_831 ?_
  refine g_il4 dX0_law_832 ?_
  refine g_iconst dX0_law_834 ?_
  refine g_iadd dX0_law_835 ?_
  refine g_sld hbl (by omega) hL dX0_law_836 ?_
  refine g_al0 dX0_law_837 ?_
  refine g_il4 dX0_law_838 ?_
  refine g_iconst dX0_law_840 ?_
  refine g_iadd dX0_law_841 ?_
  refine g_sld hbl (by omega) hL dX0_law_842 ?_
  refine g_callV2I (d' := 4) lk_X0_98 hM1.M.sh rfl ⟨Nat.le_of_ble_eq_true rfl, Nat.le_of_ble_eq_true rfl⟩ (Nat.le_of_ble_eq_true rfl) dX0_law_843 ?_
  refine mo_byTurns hM1.M hM1.p14 hM.P (xr_ _) (xr_ _) (fun x2 t2 σ2 e2 hM2 hE2 => ?_)
  obtain ⟨rfl, rfl⟩ := Prod.mk.inj (e1.symm.trans e2)
  refine g_sameI (tgt := 1834) dX0_law_846 (by decide) ?_
  exact hK _ _ _ (le_q hS hM hB hlt hlt1 hE1 hM2 hE2 (tq_byTurns e1))
theorem tq_near {b : Int} {x t : Int} (h : qNear_ p r s b = (x, t)) : 0 ≤ t ∧ t ≤ 6 ∧ t ≠ 4 := by
  have e : (qNear_ p r s b).2 = t := by rw [h]
  rw [← e]
  unfold qNear_
  (repeat' split) <;> ((try dsimp only); omega)
theorem law_c19 {e5 e6 : Option AV} (h : LI_ G b L X i σ tp fa pl tr p un im B r s U I T LL) (hK : ∀ (e5 e6 : Option AV) (σ' : JH), LE_ G X σ σ' → GoW_ G b L xs σ0 1834 [some (A_ (some b)), some (A_ (some X)), some (A_ (some (X + 13))), some (A_ (some (X + 30))), some (I_ i), e5, e6] [] σ') : GoW_ G b L xs σ0 851 [some (A_ (some b)), some (A_ (some X)), some (A_ (some (X + 13))), some (A_ (some (X + 30))), some (I_ i), e5, e6] [] σ := by
  obtain ⟨hS, hM, htr, hB, ⟨hbl, hL, hi0, hi6⟩, hrm, hst⟩ := h
  refine g_lt (fun hlt hgz => ?_)
  refine g_al1 dX0_law_851 ?_
  refine g_al0 dX0_law_852 ?_
  refine g_il4 dX0_law_853 ?_
  refine g_iconst dX0_law_855 ?_
  refine g_iadd dX0_law_856 ?_
  refine g_sld hbl (by omega) hL dX0_law_857 ?_
  refine g_callV1I (d' := 9) lk_X0_99 hS.1.1.sh rfl ⟨Nat.le_of_ble_eq_true rfl, Nat.le_of_ble_eq_true rfl⟩ (Nat.le_of_ble_eq_true rfl) dX0_law_858 ?_
  refine xo_near hS.1 hM.P (xr_ _) (fun x1 t1 σ1 e1 hX1 hE1 => ?_)
  refine g_lt (fun hlt1 hgz1 => ?_)
  have hM1 := hM.gx hB hE1.w
  refine g_al2 dX0_law_861 ?_
  refine g_al0 dX0_law_862 ?_
  refine g_il4 dX0_law_863 ?_
  refine g_iconst dX0_law_865 ?_
  refine g_iadd dX0_law_866 ?_
  refine g_sld hbl (by omega) hL dX0_law_867 ?_
  refine g_callV1I (d' := 6) lk_X0_102 hM1.M.sh rfl ⟨Nat.le_of_ble_eq_true rfl, Nat.le_of_ble_eq_true rfl⟩ (Nat.le_of_ble_eq_true rfl) dX0_law_868 ?_
  refine mo_near hM1.M hM1.p14 hM.P (xr_ _) (fun x2 t2 σ2 e2 hM2 hE2 => ?_)
  obtain ⟨rfl, rfl⟩ := Prod.mk.inj (e1.symm.trans e2)
  refine g_sameI (tgt := 1834) dX0_law_871 (by decide) ?_
  exact hK _ _ _ (le_q hS hM hB hlt hlt1 hE1 hM2 hE2 (tq_near e1))
theorem tq_asNear {b : Int} {x t : Int} (h : qAsNear_ p r s b = (x, t)) : 0 ≤ t ∧ t ≤ 6 ∧ t ≠ 4 := by
  have e : (qAsNear_ p r s b).2 = t := by rw [h]
  rw [← e]
  unfold qAsNear_
  (repeat' split) <;> ((try dsimp only); omega)
theorem law_c20 {e5 e6 : Option AV} (h : LI_ G b L X i σ tp fa pl tr p un im B r s U I T LL) (hK : ∀ (e5 e6 : Option AV) (σ' : JH), LE_ G X σ σ' → GoW_ G b L xs σ0 1834 [some (A_ (some b)), some (A_ (some X)), some (A_ (some (X + 13))), some (A_ (some (X + 30))), some (I_ i), e5, e6] [] σ') : GoW_ G b L xs σ0 876 [some (A_ (some b)), some (A_ (some X)), some (A_ (some (X + 13))), some (A_ (some (X + 30))), some (I_ i), e5, e6] [] σ := by
  obtain ⟨hS, hM, htr, hB, ⟨hbl, hL, hi0, hi6⟩, hrm, hst⟩ := h
  refine g_lt (fun hlt hgz => ?_)
  refine g_al1 dX0_law_876 ?_
  refine g_al0 dX0_law_877 ?_
  refine g_il4 dX0_law_878 ?_
  refine g_iconst dX0_law_880 ?_
  refine g_iadd dX0_law_881 ?_
  refine g_sld hbl (by omega) hL dX0_law_882 ?_
  refine g_callV1I (d' := 9) lk_X0_103 hS.1.1.sh rfl ⟨Nat.le_of_ble_eq_true rfl, Nat.le_of_ble_eq_true rfl⟩ (Nat.le_of_ble_eq_true rfl) dX0_law_883 ?_
  refine xo_asNear hS.1 hM.P (xr_ _) (fun x1 t1 σ1 e1 hX1 hE1 => ?_)
  refine g_lt (fun hlt1 hgz1 => ?_)
  have hM1 := hM.gx hB hE1.w
  refine g_al2 dX0_law_886 ?_
  refine g_al0 dX0_law_887 ?_
  refine g_il4 dX0_law_888 ?_
  refine g_iconst dX0_law_890 ?_
  refine g_iadd dX0_law_891 ?_
  refine g_sld hbl (by omega) hL dX0_law_892 ?_
  refine g_callV1I (d' := 6) lk_X0_106 hM1.M.sh rfl ⟨Nat.le_of_ble_eq_true rfl, Nat.le_of_ble_eq_true rfl⟩ (Nat.le_of_ble_eq_true rfl) dX0_law_893 ?_
  refine mo_asNear hM1.M hM1.p14 hM.P (xr_ _) (fun x2 t2 σ2 e2 hM2 hE2 => ?_)
  obtain ⟨rfl, rfl⟩ := Prod.mk.inj (e1.symm.trans e2)
  refine g_sameI (tgt := 1834) dX0_law_896 (by decide) ?_
  exact hK _ _ _ (le_q hS hM hB hlt hlt1 hE1 hM2 hE2 (tq_asNear e1))
theorem tq_heardIn {b n : Int} {x t : Int} (h : qHeardIn_ p r s b n = (x, t)) : 0 ≤ t ∧ t ≤ 6 ∧ t ≠ 4 := by
  have e : (qHeardIn_ p r s b n).2 = t := by rw [h]
  rw [← e]
  unfold qHeardIn_
  (repeat' split) <;> ((try dsimp only); omega)
theorem law_c21 {e5 e6 : Option AV} (h : LI_ G b L X i σ tp fa pl tr p un im B r s U I T LL) (hK : ∀ (e5 e6 : Option AV) (σ' : JH), LE_ G X σ σ' → GoW_ G b L xs σ0 1834 [some (A_ (some b)), some (A_ (some X)), some (A_ (some (X + 13))), some (A_ (some (X + 30))), some (I_ i), e5, e6] [] σ') : GoW_ G b L xs σ0 901 [some (A_ (some b)), some (A_ (some X)), some (A_ (some (X + 13))), some (A_ (some (X + 30))), some (I_ i), e5, e6] [] σ := by
  obtain ⟨hS, hM, htr, hB, ⟨hbl, hL, hi0, hi6⟩, hrm, hst⟩ := h
  refine g_lt (fun hlt hgz => ?_)
  refine g_al1 dX0_law_901 ?_
  refine g_al0 dX0_law_902 ?_
  refine g_il4 dX0_law_903 ?_
  refine g_iconst dX0_law_905 ?_
  refine g_iadd dX0_law_906 ?_
  refine g_sld hbl (by omega) hL dX0_law_907 ?_
  refine g_al0 dX0_law_908 ?_
  refine g_il4 dX0_law_909 ?_
  refine g_iconst dX0_law_911 ?_
  refine g_iadd dX0_law_912 ?_
  refine g_sld hbl (by omega) hL dX0_law_913 ?_
  refine g_callV2I (d' := 8) lk_X0_107 hS.1.1.sh rfl ⟨Nat.le_of_ble_eq_true rfl, Nat.le_of_ble_eq_true rfl⟩ (Nat.le_of_ble_eq_true rfl) dX0_law_914 ?_
  refine xo_heardIn hS.1 hM.P (xr_ _) (xr_ _) (fun x1 t1 σ1 e1 hX1 hE1 => ?_)
  refine g_lt (fun hlt1 hgz1 => ?_)
  have hM1 := hM.gx hB hE1.w
  refine g_al2 dX0_law_917 ?_
  refine g_al0 dX0_law_918 ?_
  refine g_il4 dX0_law_919 ?_
  refine g_iconst dX0_law_921 ?_
  refine g_iadd dX0_law_922 ?_
  refine g_sld hbl (by omega) hL dX0_law_923 ?_
  refine g_al0 dX0_law_924 ?_
  refine g_il4 dX0_law_925 ?_
  refine g_iconst dX0_law_927 ?_
  refine g_iadd dX0_law_928 ?_
  refine g_sld hbl (by omega) hL dX0_law_929 ?_
  refine g_callV2I (d' := 6) lk_X0_110 hM1.M.sh rfl ⟨Nat.le_of_ble_eq_true rfl, Nat.le_of_ble_eq_true rfl⟩ (Nat.le_of_ble_eq_true rfl) dX0_law_930 ?_
  refine mo_heardIn hM1.M hM1.p14 hM.P (xr_ _) (xr_ _) (fun x2 t2 σ2 e2 hM2 hE2 => ?_)
  obtain ⟨rfl, rfl⟩ := Prod.mk.inj (e1.symm.trans e2)
  refine g_sameI (tgt := 1834) dX0_law_933 (by decide) ?_
  exact hK _ _ _ (le_q hS hM hB hlt hlt1 hE1 hM2 hE2 (tq_heardIn e1))
theorem tq_strange {i : Int} {x t : Int} (h : qStrange_ p r s i = (x, t)) : 0 ≤ t ∧ t ≤ 6 ∧ t ≠ 4 := by
  have e : (qStrange_ p r s i).2 = t := by rw [h]
  rw [← e]
  unfold qStrange_
  (repeat' split) <;> ((try dsimp only); omega)
theorem law_c22 {e5 e6 : Option AV} (h : LI_ G b L X i σ tp fa pl tr p un im B r s U I T LL) (hK : ∀ (e5 e6 : Option AV) (σ' : JH), LE_ G X σ σ' → GoW_ G b L xs σ0 1834 [some (A_ (some b)), some (A_ (some X)), some (A_ (some (X + 13))), some (A_ (some (X + 30))), some (I_ i), e5, e6] [] σ') : GoW_ G b L xs σ0 938 [some (A_ (some b)), some (A_ (some X)), some (A_ (some (X + 13))), some (A_ (some (X + 30))), some (I_ i), e5, e6] [] σ := by
  obtain ⟨hS, hM, htr, hB, ⟨hbl, hL, hi0, hi6⟩, hrm, hst⟩ := h
  refine g_lt (fun hlt hgz => ?_)
  refine g_al1 dX0_law_938 ?_
  refine g_al0 dX0_law_939 ?_
  refine g_il4 dX0_law_940 ?_
  refine g_iconst dX0_law_942 ?_
  refine g_iadd dX0_law_943 ?_
  refine g_sld hbl (by omega) hL dX0_law_944 ?_
  refine g_callV1I (d' := 8) lk_X0_111 hS.1.1.sh rfl ⟨Nat.le_of_ble_eq_true rfl, Nat.le_of_ble_eq_true rfl⟩ (Nat.le_of_ble_eq_true rfl) dX0_law_945 ?_
  refine xo_strange hS.1 hM.P (xr_ _) (fun x1 t1 σ1 e1 hX1 hE1 => ?_)
  refine g_lt (fun hlt1 hgz1 => ?_)
  have hM1 := hM.gx hB hE1.w
  refine g_al2 dX0_law_948 ?_
  refine g_al0 dX0_law_949 ?_
  refine g_il4 dX0_law_950 ?_
  refine g_iconst dX0_law_952 ?_
  refine g_iadd dX0_law_953 ?_
  refine g_sld hbl (by omega) hL dX0_law_954 ?_
  refine g_callV1I (d' := 4) lk_X0_114 hM1.M.sh rfl ⟨Nat.le_of_ble_eq_true rfl, Nat.le_of_ble_eq_true rfl⟩ (Nat.le_of_ble_eq_true rfl) dX0_law_955 ?_
  refine mo_strange hM1.M hM1.p14 hM.P (xr_ _) (fun x2 t2 σ2 e2 hM2 hE2 => ?_)
  obtain ⟨rfl, rfl⟩ := Prod.mk.inj (e1.symm.trans e2)
  refine g_sameI (tgt := 1834) dX0_law_958 (by decide) ?_
  exact hK _ _ _ (le_q hS hM hB hlt hlt1 hE1 hM2 hE2 (tq_strange e1))
theorem tq_arrival {w fr to d : Int} {x t : Int} (h : qArrival_ p r s w fr to d = (x, t)) : 0 ≤ t ∧ t ≤ 6 ∧ t ≠ 4 := by
  have e : (qArrival_ p r s w fr to d).2 = t := by rw [h]
  rw [← e]
  unfold qArrival_
  (repeat' split) <;> ((try dsimp only); omega)
theorem law_c23 {e5 e6 : Option AV} (h : LI_ G b L X i σ tp fa pl tr p un im B r s U I T LL) (hK : ∀ (e5 e6 : Option AV) (σ' : JH), LE_ G X σ σ' → GoW_ G b L xs σ0 1834 [some (A_ (some b)), some (A_ (some X)), some (A_ (some (X + 13))), some (A_ (some (X + 30))), some (I_ i), e5, e6] [] σ') : GoW_ G b L xs σ0 963 [some (A_ (some b)), some (A_ (some X)), some (A_ (some (X + 13))), some (A_ (some (X + 30))), some (I_ i), e5, e6] [] σ := by
  obtain ⟨hS, hM, htr, hB, ⟨hbl, hL, hi0, hi6⟩, hrm, hst⟩ := h
  refine g_lt (fun hlt hgz => ?_)
  refine g_al1 dX0_law_963 ?_
  refine g_al0 dX0_law_964 ?_
  refine g_il4 dX0_law_965 ?_
  refine g_iconst dX0_law_967 ?_
  refine g_iadd dX0_law_968 ?_
  refine g_sld hbl (by omega) hL dX0_law_969 ?_
  refine g_al0 dX0_law_970 ?_
  refine g_il4 dX0_law_971 ?_
  refine g_iconst dX0_law_973 ?_
  refine g_iadd dX0_law_974 ?_
  refine g_sld hbl (by omega) hL dX0_law_975 ?_
  refine g_al0 dX0_law_976 ?_
  refine g_il4 dX0_law_977 ?_
  refine g_iconst dX0_law_979 ?_
  refine g_iadd dX0_law_980 ?_
  refine g_sld hbl (by omega) hL dX0_law_981 ?_
  refine g_al0 dX0_law_982 ?_
  refine g_il4 dX0_law_983 ?_
  refine g_iconst dX0_law_985 ?_
  refine g_iadd dX0_law_986 ?_
  refine g_sld hbl (by omega) hL dX0_law_987 ?_
  refine g_callV4I (d' := 8) lk_X0_115 hS.1.1.sh rfl ⟨Nat.le_of_ble_eq_true rfl, Nat.le_of_ble_eq_true rfl⟩ (Nat.le_of_ble_eq_true rfl) dX0_law_988 ?_
  refine xo_arrival hS.1 hM.P (xr_ _) (xr_ _) (xr_ _) (xr_ _) (fun x1 t1 σ1 e1 hX1 hE1 => ?_)
  refine g_lt (fun hlt1 hgz1 => ?_)
  have hM1 := hM.gx hB hE1.w
  refine g_al2 dX0_law_991 ?_
  refine g_al0 dX0_law_992 ?_
  refine g_il4 dX0_law_993 ?_
  refine g_iconst dX0_law_995 ?_
  refine g_iadd dX0_law_996 ?_
  refine g_sld hbl (by omega) hL dX0_law_997 ?_
  refine g_al0 dX0_law_998 ?_
  refine g_il4 dX0_law_999 ?_
  refine g_iconst dX0_law_1001 ?_
  refine g_iadd dX0_law_1002 ?_
  refine g_sld hbl (by omega) hL dX0_law_1003 ?_
  refine g_al0 dX0_law_1004 ?_
  refine g_il4 dX0_law_1005 ?_
  refine g_iconst dX0_law_1007 ?_
  refine g_iadd dX0_law_1008 ?_
  refine g_sld hbl (by omega) hL dX0_law_1009 ?_
  refine g_al0 dX0_law_1010 ?_
  refine g_il4 dX0_law_1011 ?_
  refine g_iconst dX0_law_1013 ?_
  refine g_iadd dX0_law_1014 ?_
  refine g_sld hbl (by omega) hL dX0_law_1015 ?_
  refine g_callV4I (d' := 8) lk_X0_119 hM1.M.sh rfl ⟨Nat.le_of_ble_eq_true rfl, Nat.le_of_ble_eq_true rfl⟩ (Nat.le_of_ble_eq_true rfl) dX0_law_1016 ?_
  refine mo_arrival hM1.M hM1.p14 hM.P (xr_ _) (xr_ _) (xr_ _) (xr_ _) (fun x2 t2 σ2 e2 hM2 hE2 => ?_)
  obtain ⟨rfl, rfl⟩ := Prod.mk.inj (e1.symm.trans e2)
  refine g_sameI (tgt := 1834) dX0_law_1019 (by decide) ?_
  exact hK _ _ _ (le_q hS hM hB hlt hlt1 hE1 hM2 hE2 (tq_arrival e1))
theorem tq_brings {w b : Int} {x t : Int} (h : qBrings_ p r s w b = (x, t)) : 0 ≤ t ∧ t ≤ 6 ∧ t ≠ 4 := by
  have e : (qBrings_ p r s w b).2 = t := by rw [h]
  rw [← e]
  unfold qBrings_
  (repeat' split) <;> ((try dsimp only); omega)
theorem law_c24 {e5 e6 : Option AV} (h : LI_ G b L X i σ tp fa pl tr p un im B r s U I T LL) (hK : ∀ (e5 e6 : Option AV) (σ' : JH), LE_ G X σ σ' → GoW_ G b L xs σ0 1834 [some (A_ (some b)), some (A_ (some X)), some (A_ (some (X + 13))), some (A_ (some (X + 30))), some (I_ i), e5, e6] [] σ') : GoW_ G b L xs σ0 1024 [some (A_ (some b)), some (A_ (some X)), some (A_ (some (X + 13))), some (A_ (some (X + 30))), some (I_ i), e5, e6] [] σ := by
  obtain ⟨hS, hM, htr, hB, ⟨hbl, hL, hi0, hi6⟩, hrm, hst⟩ := h
  refine g_lt (fun hlt hgz => ?_)
  refine g_al1 dX0_law_1024 ?_
  refine g_al0 dX0_law_1025 ?_
  refine g_il4 dX0_law_1026 ?_
  refine g_iconst dX0_law_1028 ?_
  refine g_iadd dX0_law_1029 ?_
  refine g_sld hbl (by omega) hL dX0_law_1030 ?_
  refine g_al0 dX0_law_1031 ?_
  refine g_il4 dX0_law_1032 ?_
  refine g_iconst dX0_law_1034 ?_
  refine g_iadd dX0_law_1035 ?_
  refine g_sld hbl (by omega) hL dX0_law_1036 ?_
  refine g_callV2I (d' := 12) lk_X0_120 hS.1.1.sh rfl ⟨Nat.le_of_ble_eq_true rfl, Nat.le_of_ble_eq_true rfl⟩ (Nat.le_of_ble_eq_true rfl) dX0_law_1037 ?_
  refine xo_brings hS.1 hM.P (xr_ _) (xr_ _) (fun x1 t1 σ1 e1 hX1 hE1 => ?_)
  refine g_lt (fun hlt1 hgz1 => ?_)
  have hM1 := hM.gx hB hE1.w
  refine g_al2 dX0_law_1040 ?_
  refine g_al0 dX0_law_1041 ?_
  refine g_il4 dX0_law_1042 ?_
  refine g_iconst dX0_law_1044 ?_
  refine g_iadd dX0_law_1045 ?_
  refine g_sld hbl (by omega) hL dX0_law_1046 ?_
  refine g_al0 dX0_law_1047 ?_
  refine g_il4 dX0_law_1048 ?_
  refine g_iconst dX0_law_1050 ?_
  refine g_iadd dX0_law_1051 ?_
  refine g_sld hbl (by omega) hL dX0_law_1052 ?_
  refine g_callV2I (d' := 10) lk_X0_123 hM1.M.sh rfl ⟨Nat.le_of_ble_eq_true rfl, Nat.le_of_ble_eq_true rfl⟩ (Nat.le_of_ble_eq_true rfl) dX0_law_1053 ?_
  refine mo_brings hM1.M hM1.p14 hM.P (xr_ _) (xr_ _) (fun x2 t2 σ2 e2 hM2 hE2 => ?_)
  obtain ⟨rfl, rfl⟩ := Prod.mk.inj (e1.symm.trans e2)
  refine g_sameI (tgt := 1834) dX0_law_1056 (by decide) ?_
  exact hK _ _ _ (le_q hS hM hB hlt hlt1 hE1 hM2 hE2 (tq_brings e1))
theorem tq_soonest {b : Int} {x t : Int} (h : qSoonest_ p r s b = (x, t)) : 0 ≤ t ∧ t ≤ 6 ∧ t ≠ 4 := by
  have e : (qSoonest_ p r s b).2 = t := by rw [h]
  rw [← e]
  unfold qSoonest_
  (repeat' split) <;> ((try dsimp only); omega)
theorem law_c25 {e5 e6 : Option AV} (h : LI_ G b L X i σ tp fa pl tr p un im B r s U I T LL) (hK : ∀ (e5 e6 : Option AV) (σ' : JH), LE_ G X σ σ' → GoW_ G b L xs σ0 1834 [some (A_ (some b)), some (A_ (some X)), some (A_ (some (X + 13))), some (A_ (some (X + 30))), some (I_ i), e5, e6] [] σ') : GoW_ G b L xs σ0 1061 [some (A_ (some b)), some (A_ (some X)), some (A_ (some (X + 13))), some (A_ (some (X + 30))), some (I_ i), e5, e6] [] σ := by
  obtain ⟨hS, hM, htr, hB, ⟨hbl, hL, hi0, hi6⟩, hrm, hst⟩ := h
  refine g_lt (fun hlt hgz => ?_)
  refine g_al1 dX0_law_1061 ?_
  refine g_al0 dX0_law_1062 ?_
  refine g_il4 dX0_law_1063 ?_
  refine g_iconst dX0_law_1065 ?_
  refine g_iadd dX0_law_1066 ?_
  refine g_sld hbl (by omega) hL dX0_law_1067 ?_
  refine g_callV1I (d' := 12) lk_X0_124 hS.1.1.sh rfl ⟨Nat.le_of_ble_eq_true rfl, Nat.le_of_ble_eq_true rfl⟩ (Nat.le_of_ble_eq_true rfl) dX0_law_1068 ?_
  refine xo_soonest hS.1 hM.P (xr_ _) (fun x1 t1 σ1 e1 hX1 hE1 => ?_)
  refine g_lt (fun hlt1 hgz1 => ?_)
  have hM1 := hM.gx hB hE1.w
  refine g_al2 dX0_law_1071 ?_
  refine g_al0 dX0_law_1072 ?_
  refine g_il4 dX0_law_1073 ?_
  refine g_iconst dX0_law_1075 ?_
  refine g_iadd dX0_law_1076 ?_
  refine g_sld hbl (by omega) hL dX0_law_1077 ?_
  refine g_callV1I (d' := 10) lk_X0_127 hM1.M.sh rfl ⟨Nat.le_of_ble_eq_true rfl, Nat.le_of_ble_eq_true rfl⟩ (Nat.le_of_ble_eq_true rfl) dX0_law_1078 ?_
  refine mo_soonest hM1.M hM1.p14 hM.P (xr_ _) (fun x2 t2 σ2 e2 hM2 hE2 => ?_)
  obtain ⟨rfl, rfl⟩ := Prod.mk.inj (e1.symm.trans e2)
  refine g_sameI (tgt := 1834) dX0_law_1081 (by decide) ?_
  exact hK _ _ _ (le_q hS hM hB hlt hlt1 hE1 hM2 hE2 (tq_soonest e1))
theorem tq_surest {b : Int} {x t : Int} (h : qSurest_ p r s b = (x, t)) : 0 ≤ t ∧ t ≤ 6 ∧ t ≠ 4 := by
  have e : (qSurest_ p r s b).2 = t := by rw [h]
  rw [← e]
  unfold qSurest_
  (repeat' split) <;> ((try dsimp only); omega)
theorem law_c26 {e5 e6 : Option AV} (h : LI_ G b L X i σ tp fa pl tr p un im B r s U I T LL) (hK : ∀ (e5 e6 : Option AV) (σ' : JH), LE_ G X σ σ' → GoW_ G b L xs σ0 1834 [some (A_ (some b)), some (A_ (some X)), some (A_ (some (X + 13))), some (A_ (some (X + 30))), some (I_ i), e5, e6] [] σ') : GoW_ G b L xs σ0 1086 [some (A_ (some b)), some (A_ (some X)), some (A_ (some (X + 13))), some (A_ (some (X + 30))), some (I_ i), e5, e6] [] σ := by
  obtain ⟨hS, hM, htr, hB, ⟨hbl, hL, hi0, hi6⟩, hrm, hst⟩ := h
  refine g_lt (fun hlt hgz => ?_)
  refine g_al1 dX0_law_1086 ?_
  refine g_al0 dX0_law_1087 ?_
  refine g_il4 dX0_law_1088 ?_
  refine g_iconst dX0_law_1090 ?_
  refine g_iadd dX0_law_1091 ?_
  refine g_sld hbl (by omega) hL dX0_law_1092 ?_
  refine g_callV1I (d' := 13) lk_X0_128 hS.1.1.sh rfl ⟨Nat.le_of_ble_eq_true rfl, Nat.le_of_ble_eq_true rfl⟩ (Nat.le_of_ble_eq_true rfl) dX0_law_1093 ?_
  refine xo_surest hS.1 hM.P (xr_ _) (fun x1 t1 σ1 e1 hX1 hE1 => ?_)
  refine g_lt (fun hlt1 hgz1 => ?_)
  have hM1 := hM.gx hB hE1.w
  refine g_al2 dX0_law_1096 ?_
  refine g_al0 dX0_law_1097 ?_
  refine g_il4 dX0_law_1098 ?_
  refine g_iconst dX0_law_1100 ?_
  refine g_iadd dX0_law_1101 ?_
  refine g_sld hbl (by omega) hL dX0_law_1102 ?_
  refine g_callV1I (d' := 11) lk_X0_131 hM1.M.sh rfl ⟨Nat.le_of_ble_eq_true rfl, Nat.le_of_ble_eq_true rfl⟩ (Nat.le_of_ble_eq_true rfl) dX0_law_1103 ?_
  refine mo_surest hM1.M hM1.p14 hM.P (xr_ _) (fun x2 t2 σ2 e2 hM2 hE2 => ?_)
  obtain ⟨rfl, rfl⟩ := Prod.mk.inj (e1.symm.trans e2)
  refine g_sameI (tgt := 1834) dX0_law_1106 (by decide) ?_
  exact hK _ _ _ (le_q hS hM hB hlt hlt1 hE1 hM2 hE2 (tq_surest e1))
theorem tq_by {b d : Int} {x t : Int} (h : qBy_ p r s b d = (x, t)) : 0 ≤ t ∧ t ≤ 6 ∧ t ≠ 4 := by
  have e : (qBy_ p r s b d).2 = t := by rw [h]
  rw [← e]
  unfold qBy_
  (repeat' split) <;> ((try dsimp only); omega)
theorem law_c27 {e5 e6 : Option AV} (h : LI_ G b L X i σ tp fa pl tr p un im B r s U I T LL) (hK : ∀ (e5 e6 : Option AV) (σ' : JH), LE_ G X σ σ' → GoW_ G b L xs σ0 1834 [some (A_ (some b)), some (A_ (some X)), some (A_ (some (X + 13))), some (A_ (some (X + 30))), some (I_ i), e5, e6] [] σ') : GoW_ G b L xs σ0 1111 [some (A_ (some b)), some (A_ (some X)), some (A_ (some (X + 13))), some (A_ (some (X + 30))), some (I_ i), e5, e6] [] σ := by
  obtain ⟨hS, hM, htr, hB, ⟨hbl, hL, hi0, hi6⟩, hrm, hst⟩ := h
  refine g_lt (fun hlt hgz => ?_)
  refine g_al1 dX0_law_1111 ?_
  refine g_al0 dX0_law_1112 ?_
  refine g_il4 dX0_law_1113 ?_
  refine g_iconst dX0_law_1115 ?_
  refine g_iadd dX0_law_1116 ?_
  refine g_sld hbl (by omega) hL dX0_law_1117 ?_
  refine g_al0 dX0_law_1118 ?_
  refine g_il4 dX0_law_1119 ?_
  refine g_iconst dX0_law_1121 ?_
  refine g_iadd dX0_law_1122 ?_
  refine g_sld hbl (by omega) hL dX0_law_1123 ?_
  refine g_callV2I (d' := 12) lk_X0_132 hS.1.1.sh rfl ⟨Nat.le_of_ble_eq_true rfl, Nat.le_of_ble_eq_true rfl⟩ (Nat.le_of_ble_eq_true rfl) dX0_law_1124 ?_
  refine xo_by hS.1 hM.P (xr_ _) (xr_ _) (fun x1 t1 σ1 e1 hX1 hE1 => ?_)
  refine g_lt (fun hlt1 hgz1 => ?_)
  have hM1 := hM.gx hB hE1.w
  refine g_al2 dX0_law_1127 ?_
  refine g_al0 dX0_law_1128 ?_
  refine g_il4 dX0_law_1129 ?_
  refine g_iconst dX0_law_1131 ?_
  refine g_iadd dX0_law_1132 ?_
  refine g_sld hbl (by omega) hL dX0_law_1133 ?_
  refine g_al0 dX0_law_1134 ?_
  refine g_il4 dX0_law_1135 ?_
  refine g_iconst dX0_law_1137 ?_
  refine g_iadd dX0_law_1138 ?_
  refine g_sld hbl (by omega) hL dX0_law_1139 ?_
  refine g_callV2I (d' := 10) lk_X0_135 hM1.M.sh rfl ⟨Nat.le_of_ble_eq_true rfl, Nat.le_of_ble_eq_true rfl⟩ (Nat.le_of_ble_eq_true rfl) dX0_law_1140 ?_
  refine mo_by hM1.M hM1.p14 hM.P (xr_ _) (xr_ _) (fun x2 t2 σ2 e2 hM2 hE2 => ?_)
  obtain ⟨rfl, rfl⟩ := Prod.mk.inj (e1.symm.trans e2)
  refine g_sameI (tgt := 1834) dX0_law_1143 (by decide) ?_
  exact hK _ _ _ (le_q hS hM hB hlt hlt1 hE1 hM2 hE2 (tq_by e1))
end
