/-! THE LAW's rounds, part 3. Written by mod/maa.py -/
set_option maxRecDepth 100000
section
theorem qLed_rng {p : Int} {r s : Int → Int} (hP : MP_ p r s) (i : Int) : -2147483648 ≤ qLed_ p r s i ∧ qLed_ p r s i < 2147483648 := by
  unfold qLed_
  split
  · rename_i hp
    have hn := (hP.get hp).1.n
    rcases fI_spec (fun b => decide (s (12 + b) ≤ 0 ∧ sI_ (fun c => if s (12 + c) ≤ 0 then 1 else 0) b = i)) (n := r 7) (by omega) with ⟨h, -⟩ | ⟨h1, h2, -⟩ <;> omega
  · omega
end
section
variable {G : JG} {b L X : Nat} {xs : Nat → Int32} {i : Int} {σ0 σ : JH} {tp fa pl tr p un im : Int} {B r s : Int → Int} {U I : Int → Int → Int} {T : XT} {LL : XL}
theorem law_c0 {e5 e6 : Option AV} (h : LI_ G b L X i σ tp fa pl tr p un im B r s U I T LL) (hK : ∀ (e5 e6 : Option AV) (σ' : JH), LE_ G X σ σ' → GoW_ G b L xs σ0 1834 [some (A_ (some b)), some (A_ (some X)), some (A_ (some (X + 13))), some (A_ (some (X + 30))), some (I_ i), e5, e6] [] σ') : GoW_ G b L xs σ0 256 [some (A_ (some b)), some (A_ (some X)), some (A_ (some (X + 13))), some (A_ (some (X + 30))), some (I_ i), e5, e6] [] σ := by
  obtain ⟨hS, hM, htr, hB, ⟨hbl, hL, hi0, hi6⟩, hrm, hst⟩ := h
  refine g_lt (fun hlt hgz => ?_)
  refine g_al1 dX0_law_256 ?_
  refine g_al0 dX0_law_257 ?_
  refine g_il4 dX0_law_258 ?_
  refine g_iconst dX0_law_260 ?_
  refine g_iadd dX0_law_261 ?_
  refine g_sld hbl (by omega) hL dX0_law_262 ?_
  refine g_al0 dX0_law_263 ?_
  refine g_il4 dX0_law_264 ?_
  refine g_iconst dX0_law_266 ?_
  refine g_iadd dX0_law_267 ?_
  refine g_sld hbl (by omega) hL dX0_law_268 ?_
  refine g_al0 dX0_law_269 ?_
  refine g_il4 dX0_law_270 ?_
  refine g_iconst dX0_law_272 ?_
  refine g_iadd dX0_law_273 ?_
  refine g_sld hbl (by omega) hL dX0_law_274 ?_
  refine g_al0 dX0_law_275 ?_
  refine g_il4 dX0_law_276 ?_
  refine g_iconst dX0_law_278 ?_
  refine g_iadd dX0_law_279 ?_
  refine g_sld hbl (by omega) hL dX0_law_280 ?_
  refine g_al0 dX0_law_281 ?_
  refine g_il4 dX0_law_282 ?_
  refine g_iconst dX0_law_284 ?_
  refine g_iadd dX0_law_285 ?_
  refine g_sld hbl (by omega) hL dX0_law_286 ?_
  refine g_callV5I (d' := 2) lk_X0_19 hS.1.1.sh rfl ⟨Nat.le_of_ble_eq_true rfl, Nat.le_of_ble_eq_true rfl⟩ (Nat.le_of_ble_eq_true rfl) dX0_law_287 ?_
  refine xo_feed hS (fun x1 tp1 B1 σ1 e1 hS1 f1 => ?_)
  refine g_lt (fun hlt1 hgz1 => ?_)
  have hM1 := hM.gx hB f1
  refine g_al2 dX0_law_290 ?_
  refine g_al0 dX0_law_291 ?_
  refine g_il4 dX0_law_292 ?_
  refine g_iconst dX0_law_294 ?_
  refine g_iadd dX0_law_295 ?_
  refine g_sld hbl (by omega) hL dX0_law_296 ?_
  refine g_al0 dX0_law_297 ?_
  refine g_il4 dX0_law_298 ?_
  refine g_iconst dX0_law_300 ?_
  refine g_iadd dX0_law_301 ?_
  refine g_sld hbl (by omega) hL dX0_law_302 ?_
  refine g_al0 dX0_law_303 ?_
  refine g_il4 dX0_law_304 ?_
  refine g_iconst dX0_law_306 ?_
  refine g_iadd dX0_law_307 ?_
  refine g_sld hbl (by omega) hL dX0_law_308 ?_
  refine g_al0 dX0_law_309 ?_
  refine g_il4 dX0_law_310 ?_
  refine g_iconst dX0_law_312 ?_
  refine g_iadd dX0_law_313 ?_
  refine g_sld hbl (by omega) hL dX0_law_314 ?_
  refine g_al0 dX0_law_315 ?_
  refine g_il4 dX0_law_316 ?_
  refine g_iconst dX0_law_318 ?_
  refine g_iadd dX0_law_319 ?_
  refine g_sld hbl (by omega) hL dX0_law_320 ?_
  refine g_callV5I (d' := 2) lk_X0_23 hM1.M.sh rfl ⟨Nat.le_of_ble_eq_true rfl, Nat.le_of_ble_eq_true rfl⟩ (Nat.le_of_ble_eq_true rfl) dX0_law_321 ?_
  refine mo_feed hM1 (fun x2 tp2 B2 σ2 e2 hM2 f2 => ?_)
  cases e1.symm.trans e2
  refine g_sameI (tgt := 1834) dX0_law_324 (by decide) ?_
  exact hK _ _ _ (le_act hS1 hM hM2 hB hlt1 f1 f2 (by decide) (by decide) htr)
theorem law_c2 {e5 e6 : Option AV} (h : LI_ G b L X i σ tp fa pl tr p un im B r s U I T LL) (hK : ∀ (e5 e6 : Option AV) (σ' : JH), LE_ G X σ σ' → GoW_ G b L xs σ0 1834 [some (A_ (some b)), some (A_ (some X)), some (A_ (some (X + 13))), some (A_ (some (X + 30))), some (I_ i), e5, e6] [] σ') : GoW_ G b L xs σ0 354 [some (A_ (some b)), some (A_ (some X)), some (A_ (some (X + 13))), some (A_ (some (X + 30))), some (I_ i), e5, e6] [] σ := by
  obtain ⟨hS, hM, htr, hB, ⟨hbl, hL, hi0, hi6⟩, hrm, hst⟩ := h
  refine g_lt (fun hlt hgz => ?_)
  refine g_al1 dX0_law_354 ?_
  refine g_callV0I (d' := 2) lk_X0_28 hS.1.1.sh rfl ⟨Nat.le_of_ble_eq_true rfl, Nat.le_of_ble_eq_true rfl⟩ (Nat.le_of_ble_eq_true rfl) dX0_law_355 ?_
  refine xo_fault hS ?_
  have hM1 := hM
  refine g_al2 dX0_law_358 ?_
  refine g_callV0I (d' := 2) lk_X0_32 hM1.M.sh rfl ⟨Nat.le_of_ble_eq_true rfl, Nat.le_of_ble_eq_true rfl⟩ (Nat.le_of_ble_eq_true rfl) dX0_law_359 ?_
  refine mo_fault hM (fun σ2 hM2 f2 => ?_)
  refine g_sameI (tgt := 1834) dX0_law_362 (by decide) ?_
  exact hK _ _ _ (le_act hS hM hM2 hB hlt (Gw_.rf (S := xw_ X (X + 31))) f2 (by decide) (by decide) htr)
theorem law_c3 {e5 e6 : Option AV} (h : LI_ G b L X i σ tp fa pl tr p un im B r s U I T LL) (hK : ∀ (e5 e6 : Option AV) (σ' : JH), LE_ G X σ σ' → GoW_ G b L xs σ0 1834 [some (A_ (some b)), some (A_ (some X)), some (A_ (some (X + 13))), some (A_ (some (X + 30))), some (I_ i), e5, e6] [] σ') : GoW_ G b L xs σ0 367 [some (A_ (some b)), some (A_ (some X)), some (A_ (some (X + 13))), some (A_ (some (X + 30))), some (I_ i), e5, e6] [] σ := by
  obtain ⟨hS, hM, htr, hB, ⟨hbl, hL, hi0, hi6⟩, hrm, hst⟩ := h
  refine g_lt (fun hlt hgz => ?_)
  refine g_al1 dX0_law_367 ?_
  refine g_callV0I (d' := 2) lk_X0_33 hS.1.1.sh rfl ⟨Nat.le_of_ble_eq_true rfl, Nat.le_of_ble_eq_true rfl⟩ (Nat.le_of_ble_eq_true rfl) dX0_law_368 ?_
  refine xo_where hS ?_
  have hM1 := hM
  refine g_al2 dX0_law_371 ?_
  refine g_callV0I (d' := 2) lk_X0_36 hM1.M.sh rfl ⟨Nat.le_of_ble_eq_true rfl, Nat.le_of_ble_eq_true rfl⟩ (Nat.le_of_ble_eq_true rfl) dX0_law_372 ?_
  refine mo_where hM htr (fun σ2 hM2 f2 => ?_)
  refine g_sameI (tgt := 1834) dX0_law_375 (by decide) ?_
  exact hK _ _ _ (le_act hS hM hM2 hB hlt (Gw_.rf (S := xw_ X (X + 31))) f2 (by decide) (by decide) htr)
theorem law_c48 {e5 e6 : Option AV} (h : LI_ G b L X i σ tp fa pl tr p un im B r s U I T LL) (hK : ∀ (e5 e6 : Option AV) (σ' : JH), LE_ G X σ σ' → GoW_ G b L xs σ0 1834 [some (A_ (some b)), some (A_ (some X)), some (A_ (some (X + 13))), some (A_ (some (X + 30))), some (I_ i), e5, e6] [] σ') : GoW_ G b L xs σ0 1796 [some (A_ (some b)), some (A_ (some X)), some (A_ (some (X + 13))), some (A_ (some (X + 30))), some (I_ i), e5, e6] [] σ := by
  obtain ⟨hS, hM, htr, hB, ⟨hbl, hL, hi0, hi6⟩, hrm, hst⟩ := h
  refine g_lt (fun hlt hgz => ?_)
  refine g_al1 dX0_law_1796 ?_
  refine g_al0 dX0_law_1797 ?_
  refine g_il4 dX0_law_1798 ?_
  refine g_iconst dX0_law_1800 ?_
  refine g_iadd dX0_law_1801 ?_
  refine g_sld hbl (by omega) hL dX0_law_1802 ?_
  refine g_callV1I (d' := 3) lk_X0_226 hS.1.1.sh rfl ⟨Nat.le_of_ble_eq_true rfl, Nat.le_of_ble_eq_true rfl⟩ (Nat.le_of_ble_eq_true rfl) dX0_law_1803 ?_
  refine xo_size hS hM.P (xr_ _) ?_
  have hM1 := hM
  refine g_al2 dX0_law_1806 ?_
  refine g_al0 dX0_law_1807 ?_
  refine g_il4 dX0_law_1808 ?_
  refine g_iconst dX0_law_1810 ?_
  refine g_iadd dX0_law_1811 ?_
  refine g_sld hbl (by omega) hL dX0_law_1812 ?_
  refine g_callV1I (d' := 3) lk_X0_229 hM1.M.sh rfl ⟨Nat.le_of_ble_eq_true rfl, Nat.le_of_ble_eq_true rfl⟩ (Nat.le_of_ble_eq_true rfl) dX0_law_1813 ?_
  refine mo_size hM (xr_ _) (fun σ2 hM2 f2 => ?_)
  refine g_sameI (tgt := 1834) dX0_law_1816 (by decide) ?_
  exact hK _ _ _ (le_act hS hM hM2 hB hlt (Gw_.rf (S := xw_ X (X + 31))) f2 (by decide) (by decide) htr)
theorem law_c49 {e5 e6 : Option AV} (h : LI_ G b L X i σ tp fa pl tr p un im B r s U I T LL) (hK : ∀ (e5 e6 : Option AV) (σ' : JH), LE_ G X σ σ' → GoW_ G b L xs σ0 1834 [some (A_ (some b)), some (A_ (some X)), some (A_ (some (X + 13))), some (A_ (some (X + 30))), some (I_ i), e5, e6] [] σ') : GoW_ G b L xs σ0 1821 [some (A_ (some b)), some (A_ (some X)), some (A_ (some (X + 13))), some (A_ (some (X + 30))), some (I_ i), e5, e6] [] σ := by
  obtain ⟨hS, hM, htr, hB, ⟨hbl, hL, hi0, hi6⟩, hrm, hst⟩ := h
  refine g_lt (fun hlt hgz => ?_)
  refine g_al1 dX0_law_1821 ?_
  refine g_callV0I (d' := 2) lk_X0_230 hS.1.1.sh rfl ⟨Nat.le_of_ble_eq_true rfl, Nat.le_of_ble_eq_true rfl⟩ (Nat.le_of_ble_eq_true rfl) dX0_law_1822 ?_
  refine xo_trouble hS ?_
  have hM1 := hM
  refine g_al2 dX0_law_1825 ?_
  refine g_callV0I (d' := 2) lk_X0_233 hM1.M.sh rfl ⟨Nat.le_of_ble_eq_true rfl, Nat.le_of_ble_eq_true rfl⟩ (Nat.le_of_ble_eq_true rfl) dX0_law_1826 ?_
  refine mo_trouble hM (fun σ2 hM2 f2 => ?_)
  refine g_sameI (tgt := 1834) dX0_law_1829 (by decide) ?_
  exact hK _ _ _ (le_act hS hM hM2 hB hlt (Gw_.rf (S := xw_ X (X + 31))) f2 (by decide) (by decide) htr)
theorem law_c47 {e5 e6 : Option AV} (h : LI_ G b L X i σ tp fa pl tr p un im B r s U I T LL) (hK : ∀ (e5 e6 : Option AV) (σ' : JH), LE_ G X σ σ' → GoW_ G b L xs σ0 1834 [some (A_ (some b)), some (A_ (some X)), some (A_ (some (X + 13))), some (A_ (some (X + 30))), some (I_ i), e5, e6] [] σ') : GoW_ G b L xs σ0 1740 [some (A_ (some b)), some (A_ (some X)), some (A_ (some (X + 13))), some (A_ (some (X + 30))), some (I_ i), e5, e6] [] σ := by
  obtain ⟨hS, hM, htr, hB, ⟨hbl, hL, hi0, hi6⟩, hrm, hst⟩ := h
  refine g_lt (fun hlt hgz => ?_)
  refine g_al1 dX0_law_1740 ?_
  refine g_al0 dX0_law_1741 ?_
  refine g_il4 dX0_law_1742 ?_
  refine g_iconst dX0_law_1744 ?_
  refine g_iadd dX0_law_1745 ?_
  refine g_sld hbl (by omega) hL dX0_law_1746 ?_
  refine g_al3 dX0_law_1747 ?_
  refine g_callSW3I (d' := 8) q1598 q1599 q130 q1600 (by decide +kernel) ⟨Nat.le_of_ble_eq_true rfl, Nat.le_of_ble_eq_true rfl⟩ (Nat.le_of_ble_eq_true rfl) dX0_law_1748 ?_
  refine xl_led hst hS hM.P (xr_ _) hB.2.2.2.1 (by have := hB.2.2.2.2.2; omega) ⟨by omega, by omega⟩ (fun hq => ?_) (fun hq n u hn hu => ?_)
  · have f0 : Gw_ (fun b _ => b = X + 30) 0 0 σ (pi_ σ (X + 30) 0 (qLed_ p r s (xs (i + 1).toNat).toInt)) := (Fr_.rf.pi rfl).gw
    refine g_lt (fun hlt1 _ => ?_)
    have hS1 := hS.fw f0 hlt (fun b k q => by omega) hM.M.1 hB.2.2.2.1 hM.P
    have hM1 := hM.eq (σ' := pi_ σ (X + 30) 0 (qLed_ p r s (xs (i + 1).toNat).toInt)) (fun b b0 b1 => ⟨rfl, fun k => ⟨rfl, by rw [iv_pi, if_neg (by omega)]⟩⟩)
    have hB1 := hB.gw f0 (fun b k q => by omega)
    refine g_is5 dX0_law_1751 (by decide) rfl ?_
    refine g_al2 dX0_law_1753 ?_
    refine g_al0 dX0_law_1754 ?_
    refine g_il4 dX0_law_1755 ?_
    refine g_iconst dX0_law_1757 ?_
    refine g_iadd dX0_law_1758 ?_
    refine g_sld hbl (by omega) hL dX0_law_1759 ?_
    refine g_callV1I (d' := 2) lk_X0_222 hM1.M.sh rfl ⟨Nat.le_of_ble_eq_true rfl, Nat.le_of_ble_eq_true rfl⟩ (Nat.le_of_ble_eq_true rfl) dX0_law_1760 ?_
    refine mo_led hM1 (xr_ _) (fun x2 σ2 hM2 f2 hh => ?_)
    obtain ⟨-, hx, h0⟩ : 0 ≤ qLed_ p r s (xs (i + 1).toNat).toInt ∧ x2 = qLed_ p r s (xs (i + 1).toNat).toInt ∧ iv_ σ2 (X + 13) 0 = 0 := by
      rcases hh with hh | hh
      · exact hh
      · omega
    subst hx
    refine g_is6 dX0_law_1763 (by decide) rfl ?_
    refine g_al2 dX0_law_1765 ?_
    refine g_callV0I (d' := 2) lk_X0_223 hM2.M.sh rfl ⟨Nat.le_of_ble_eq_true rfl, Nat.le_of_ble_eq_true rfl⟩ (Nat.le_of_ble_eq_true rfl) dX0_law_1766 ?_
    refine mo_thrown hM2 ?_
    rw [h0]
    refine g_il5 dX0_law_1769 ?_
    refine g_sameI (tgt := 1776) dX0_law_1771 (by decide) ?_
    refine g_il5 dX0_law_1776 ?_
    refine g_if_ne (tgt := 1793) dX0_law_1778 (by decide) (by omega) (fun h => absurd rfl h) (fun _ => ?_)
    refine g_al3 dX0_law_1781 ?_
    refine g_iconst dX0_law_1782 ?_
    refine g_lalv ((f2.1 _).trans hB1.2.2.2.1) (by omega) ((f2.2.2.2.2 (X + 30) 0 (fun q => by unfold ML_ at q; omega)).trans (by rw [iv_pi, if_pos ⟨rfl, rfl⟩])) dX0_law_1783 ?_
    refine g_il6 dX0_law_1784 ?_
    refine g_i2l dX0_law_1786 (qLed_rng hM.P _) ?_
    refine g_lcmp dX0_law_1787 ?_
    rw [lcmp_self]
    refine g_if_eq (tgt := 1793) dX0_law_1788 (by decide) (by omega) (fun _ => ?_) (fun h => absurd rfl h)
    refine g_goto (tgt := 1834) dX0_law_1793 (by decide) ?_
    exact hK _ _ _ ⟨⟨tp, fa, pl, tr, p, un, im, B, r, s, U, I, T, LL, hS1.fw f2.gw hlt1 (fun b k q => by unfold ML_ at q; omega) hM1.M.1 hB1.2.2.2.1 hM.P, hM2, htr⟩, hB1.gw f2.gw (fun b k q => by unfold ML_ at q; omega), by have h1 := f0.2.2; have h2 := f2.2.2.1; have h3 := f2.2.2.2.1; omega⟩
  · have f0 : Gw_ (fun _ _ => False) 1 6 σ (gr_ σ n u) := ⟨fun _ _ => rfl, fun _ _ _ _ => ⟨rfl, rfl⟩, hn, hu⟩
    refine g_lt (fun hlt1 _ => ?_)
    have hS1 := hS.fw f0 hlt (fun b k q => q.elim) hM.M.1 hB.2.2.2.1 hM.P
    have hM1 := hM.eq (σ' := gr_ σ n u) (fun b b0 b1 => ⟨rfl, fun k => ⟨rfl, rfl⟩⟩)
    have hB1 := hB.gw f0 (fun b k q => q.elim)
    refine g_is5 dX0_law_1751 (by decide) rfl ?_
    refine g_al2 dX0_law_1753 ?_
    refine g_al0 dX0_law_1754 ?_
    refine g_il4 dX0_law_1755 ?_
    refine g_iconst dX0_law_1757 ?_
    refine g_iadd dX0_law_1758 ?_
    refine g_sld hbl (by omega) hL dX0_law_1759 ?_
    refine g_callV1I (d' := 2) lk_X0_222 hM1.M.sh rfl ⟨Nat.le_of_ble_eq_true rfl, Nat.le_of_ble_eq_true rfl⟩ (Nat.le_of_ble_eq_true rfl) dX0_law_1760 ?_
    refine mo_led hM1 (xr_ _) (fun x2 σ2 hM2 f2 hh => ?_)
    obtain ⟨-, hx, h0⟩ : qLed_ p r s (xs (i + 1).toNat).toInt = -1 ∧ x2 = 0 ∧ iv_ σ2 (X + 13) 0 = 1 := by
      rcases hh with hh | hh
      · omega
      · exact hh
    refine g_is6 dX0_law_1763 (by decide) rfl ?_
    refine g_al2 dX0_law_1765 ?_
    refine g_callV0I (d' := 2) lk_X0_223 hM2.M.sh rfl ⟨Nat.le_of_ble_eq_true rfl, Nat.le_of_ble_eq_true rfl⟩ (Nat.le_of_ble_eq_true rfl) dX0_law_1766 ?_
    refine mo_thrown hM2 ?_
    rw [h0]
    refine g_il5 dX0_law_1769 ?_
    refine g_sameI (tgt := 1776) dX0_law_1771 (by decide) ?_
    refine g_il5 dX0_law_1776 ?_
    refine g_if_ne (tgt := 1793) dX0_law_1778 (by decide) (by omega) (fun _ => ?_) (fun h => absurd h (by decide))
    refine g_goto (tgt := 1834) dX0_law_1793 (by decide) ?_
    exact hK _ _ _ ⟨⟨tp, fa, pl, tr, p, un, im, B, r, s, U, I, T, LL, hS1.fw f2.gw hlt1 (fun b k q => by unfold ML_ at q; omega) hM1.M.1 hB1.2.2.2.1 hM.P, hM2, htr⟩, hB1.gw f2.gw (fun b k q => by unfold ML_ at q; omega), by have h1 := f0.2.2; have h2 := f2.2.2.1; have h3 := f2.2.2.2.1; omega⟩
theorem ds_cg {r' : Int → Int} (hW : RW_ r) (e : ∀ j, 0 ≤ j → j < 363 → r' j = r j) {k : Int} (k0 : 0 ≤ k) (k1 : k < 76) : ds_ r' k = ds_ r k := by
  have hn := hW.n
  unfold ds_
  rw [e 6 (by omega) (by omega), e 7 (by omega) (by omega)]
  by_cases h1 : 2 ≤ k ∧ k < 2 + r 6
  · rw [if_pos h1, if_pos h1]
    exact e _ (by omega) (by omega)
  · rw [if_neg h1, if_neg h1]
    by_cases h2 : 28 ≤ k ∧ k < 28 + 6 * r 7
    · rw [if_pos h2, if_pos h2]
      have hb := hW.box (b := (k - 28) / 6) (by omega) (by omega)
      rw [e (128 + 4 * ((k - 28) / 6)) (by omega) (by omega)]
      exact e _ (by omega) (by omega)
    · rw [if_neg h2, if_neg h2]
/-- both read the same text -/
theorem post_ea {m dc du : Nat} {n : Int} {σ1 σ3 : JH} {S : Nat → Int → Prop} (f1 : Gw_ S dc du σ σ1) (hz : m + 4 < sz_ σ) (hS : ∀ b k, m ≤ b → b ≤ m + 4 → ¬ S b k) (f3 : Fr_ (fun b k => b = m ∧ (k = 0 ∨ k = 11)) σ1 σ3) (h0 : iv_ σ3 m 0 = 0 ∧ iv_ σ3 m 11 = 0) : ∀ b k, m ≤ b → b ≤ m + 4 → iv_ (pe_ m (ini_ m σ3 n)) b k = iv_ (pe_ m (ini_ m (pi_ (pi_ σ m 0 0) m 11 0) n)) b k := by
  have h : EA_ (fun b => m ≤ b ∧ b ≤ m + 4) (pi_ (pi_ σ m 0 0) m 11 0) σ3 := fun b k hb => by
    rw [iv_pi, iv_pi]
    by_cases q : b = m ∧ k = 11
    · rw [if_pos q, q.1, q.2]; exact h0.2
    · rw [if_neg q]
      by_cases q2 : b = m ∧ k = 0
      · rw [if_pos q2, q2.1, q2.2]; exact h0.1
      · rw [if_neg q2]
        exact (f3.2.2.2.2 b k (fun w => by omega)).trans ((f1.2.1 b k (by omega) (hS b k hb.1 hb.2)).2)
  exact fun b k b0 b1 => (h.ini n).pe ⟨⟨by omega, by omega⟩, ⟨by omega, by omega⟩, ⟨by omega, by omega⟩⟩ ⟨by omega, by omega⟩ b k ⟨b0, b1⟩
theorem law_c1 {e5 e6 : Option AV} (h : LI_ G b L X i σ tp fa pl tr p un im B r s U I T LL) (hK : ∀ (e5 e6 : Option AV) (σ' : JH), LE_ G X σ σ' → GoW_ G b L xs σ0 1834 [some (A_ (some b)), some (A_ (some X)), some (A_ (some (X + 13))), some (A_ (some (X + 30))), some (I_ i), e5, e6] [] σ') : GoW_ G b L xs σ0 329 [some (A_ (some b)), some (A_ (some X)), some (A_ (some (X + 13))), some (A_ (some (X + 30))), some (I_ i), e5, e6] [] σ := by
  obtain ⟨hS, hM, htr, hB, ⟨hbl, hL, hi0, hi6⟩, hrm, hst⟩ := h
  refine g_lt (fun hlt hgz => ?_)
  refine g_al1 dX0_law_329 ?_
  refine g_al0 dX0_law_330 ?_
  refine g_il4 dX0_law_331 ?_
  refine g_iconst dX0_law_333 ?_
  refine g_iadd dX0_law_334 ?_
  refine g_sld hbl (by omega) hL dX0_law_335 ?_
  refine g_callV1I (d' := 17) lk_X0_24 hS.1.1.sh rfl ⟨Nat.le_of_ble_eq_true rfl, Nat.le_of_ble_eq_true rfl⟩ (Nat.le_of_ble_eq_true rfl) dX0_law_336 ?_
  have hnS : ∀ b k, X + 13 ≤ b → b ≤ X + 13 + 4 → ¬ xw_ X (X + 31) b k := fun b k b0 b1 q => by unfold xw_ at q; omega
  refine xo_post (γ := pi_ (pi_ σ (X + 13) 0 0) (X + 13) 11 0) (m := X + 13) hS hB.2.2.2.2.1 hB.1 hB.2.1 hB.2.2.1 hM.M.1.pi.pi (hB.1.gen (S := fun b _ => b = X + 13) ((Fr_.rf.pi rfl).pi rfl) (fun b k q => by have := hB.2.2.2.2.2; omega)) (fun k k0 k1 => by rw [iv_pi, if_neg (by omega), iv_pi, if_neg (by omega)]; exact hM.2.1.2.2 k k0 k1) (xr_ _) hrm (fun hn σ1 hS1 f1 => ?_) (fun hn h13 σ1 hS1 f1 => ?_) (fun hn h13 T1 L1 σ1 hW1 hS1 f1 => ?_)
  · refine g_lt (fun hlt1 hgz1 => ?_)
    have hM1 := hM.gx hB f1
    have hB1 : LB_ G X _ := hB.gw f1 (fun b k q => by unfold xw_ at q; omega)
    refine g_al2 dX0_law_339 ?_
    refine g_al0 dX0_law_340 ?_
    refine g_il4 dX0_law_341 ?_
    refine g_iconst dX0_law_343 ?_
    refine g_iadd dX0_law_344 ?_
    refine g_sld hbl (by omega) hL dX0_law_345 ?_
    refine g_callV1I (d' := 14) lk_X0_27 hM1.M.sh rfl ⟨Nat.le_of_ble_eq_true rfl, Nat.le_of_ble_eq_true rfl⟩ (Nat.le_of_ble_eq_true rfl) dX0_law_346 ?_
    refine mo_post hM1 hB1.1 (xr_ _) (fun hn2 σ2 hM2 f2 => ?_) (fun hn2 => absurd hn2 hn) (fun hn2 => absurd hn2 hn)
    refine g_sameI (tgt := 1834) dX0_law_349 (by decide) ?_
    exact hK _ _ _ (le_act hS1 hM hM2 hB hlt1 f1 f2 (by decide) (by decide) (by omega))
  · refine g_lt (fun hlt1 hgz1 => ?_)
    have hM1 := hM.gx hB f1
    have hB1 : LB_ G X _ := hB.gw f1 (fun b k q => by unfold xw_ at q; omega)
    refine g_al2 dX0_law_339 ?_
    refine g_al0 dX0_law_340 ?_
    refine g_il4 dX0_law_341 ?_
    refine g_iconst dX0_law_343 ?_
    refine g_iadd dX0_law_344 ?_
    refine g_sld hbl (by omega) hL dX0_law_345 ?_
    refine g_callV1I (d' := 14) lk_X0_27 hM1.M.sh rfl ⟨Nat.le_of_ble_eq_true rfl, Nat.le_of_ble_eq_true rfl⟩ (Nat.le_of_ble_eq_true rfl) dX0_law_346 ?_
    refine mo_post hM1 hB1.1 (xr_ _) (fun hn2 => absurd hn hn2) (fun _ σ3 f3 h03 h133 σ2 hM2 f2 => ?_) (fun _ σ3 f3 h03 h133 => absurd (h133.symm.trans ((post_ea (n := (xs (i + 1).toNat).toInt) f1 (by have := hB.2.2.2.2.1; omega) hnS f3 h03 (X + 13) 13 (by omega) (by omega)).trans h13)) (by decide))
    have ea := post_ea (n := (xs (i + 1).toNat).toInt) f1 (by have := hB.2.2.2.2.1; omega) hnS f3 h03
    rw [ea (X + 13) 9 (by omega) (by omega), ea (X + 13) 10 (by omega) (by omega)] at hM2
    refine g_sameI (tgt := 1834) dX0_law_349 (by decide) ?_
    exact hK _ _ _ (le_act hS1 hM hM2 hB hlt1 f1 f2 (by decide) (by decide) (by omega))
  · refine g_lt (fun hlt1 hgz1 => ?_)
    have hM1 := hM.gx hB f1
    have hB1 : LB_ G X _ := hB.gw f1 (fun b k q => by unfold xw_ at q; omega)
    refine g_al2 dX0_law_339 ?_
    refine g_al0 dX0_law_340 ?_
    refine g_il4 dX0_law_341 ?_
    refine g_iconst dX0_law_343 ?_
    refine g_iadd dX0_law_344 ?_
    refine g_sld hbl (by omega) hL dX0_law_345 ?_
    refine g_callV1I (d' := 14) lk_X0_27 hM1.M.sh rfl ⟨Nat.le_of_ble_eq_true rfl, Nat.le_of_ble_eq_true rfl⟩ (Nat.le_of_ble_eq_true rfl) dX0_law_346 ?_
    refine mo_post hM1 hB1.1 (xr_ _) (fun hn2 => absurd hn hn2) (fun _ σ3 f3 h03 h133 => absurd (h133.symm.trans ((post_ea (n := (xs (i + 1).toNat).toInt) f1 (by have := hB.2.2.2.2.1; omega) hnS f3 h03 (X + 13) 13 (by omega) (by omega)).trans h13)) (by decide)) (fun _ σ3 f3 h03 h133 r2 s2 σ2 hr2 hW2 hs2 hM2 f2 => ?_)
    have ea := post_ea (n := (xs (i + 1).toNat).toInt) f1 (by have := hB.2.2.2.2.1; omega) hnS f3 h03
    rw [ea (X + 13) 10 (by omega) (by omega)] at hM2
    have er : ∀ j, 0 ≤ j → j < 363 → r2 j = iv_ (pe_ (X + 13) (ini_ (X + 13) (pi_ (pi_ σ (X + 13) 0 0) (X + 13) 11 0) (xs (i + 1).toNat).toInt)) (X + 13 + 4) j := fun j j0 j1 => (hr2 j j0 j1).trans (ea _ _ (by omega) (by omega))
    have hS1 := hS1.cg hW1 hW2 er (fun j j0 j1 => (hs2 j j0 j1).trans (ds_cg hW1 er j0 j1))
    rw [er 4 (by omega) (by omega)]
    refine g_sameI (tgt := 1834) dX0_law_349 (by decide) ?_
    exact hK _ _ _ (le_act hS1 hM hM2 hB hlt1 f1 f2 (by decide) (by decide) (by omega))
end
