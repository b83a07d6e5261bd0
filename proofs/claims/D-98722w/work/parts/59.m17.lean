/-! THE REFERENCE: names found. Written by mod/m59.py -/
set_option maxRecDepth 100000
section
variable {G : JG} {m : Nat} {σ : JH}
/-- what is told so far: bounds -/
def FB_ (m : Nat) (γ : JH) : Prop := ∀ k, 0 ≤ k → k < 363 → 0 ≤ iv_ γ (m + 4) k ∧ iv_ γ (m + 4) k ≤ 9999
/-- a name is the word that stands there -/
def nm1_ (m : Nat) (γ : JH) (n : Int) : Bool := decide (0 < iv_ γ (m + 4) (183 + n) ∧ iv_ γ (m + 4) (183 + n) = iv_ γ m 8) && al_ (fun k => decide (iv_ γ (m + 4) (203 + 8 * n + k) = iv_ γ (m + 2) k)) (iv_ γ m 8)
def fd_ (m : Nat) (γ : JH) : Int := fI_ (nm1_ m γ) 20
theorem fd_in (γ : JH) : fd_ m γ = -1 ∨ (0 ≤ fd_ m γ ∧ fd_ m γ < 20) := by
  rcases fI_spec (nm1_ m γ) (n := 20) (by decide) with q | q
  · exact Or.inl q.1
  · exact Or.inr ⟨q.1, q.2.1⟩
theorem mo_find  {Q : Int → JH → Prop} (hR : MR_ G m σ) (hP : PI_ m σ) (hB : FB_ m σ) (h2 : iv_ σ m 6 = 2)
    (hQ : Q (fd_ m σ) σ) : CallI_ G 2 yX2_find cX2_find 4 (some .int) [A_ (some m)] σ Q := by
  refine call_go [some (A_ (some m)), none, none, none] (by decide) (Nat.le_of_ble_eq_true rfl) rfl ?_
  have hp8 := (hP.2.2.2.2.2.2.2 h2).1
  have L2 : ∀ (n : Nat) (n1 : Int) (v2 : Option AV) (v3 : Option AV), 20 - n1 < (n : Int) → (0 ≤ n1) → (n1 ≤ 20) → (∀ j, 0 ≤ j → j < n1 → nm1_ m σ j = false) → GoM_ G 2 yX2_find cX2_find 4 (some .int) σ (fun v σ' => ∃ x : Int, v = some (I_ x) ∧ Q x σ') 2 [some (A_ (some m)), some (I_ n1), v2, v3] [] σ := by
    intro n
    induction n with
    | zero => intro n1 v2 v3 hn h0 h1 ha; exact absurd hn (by omega)
    | succ n ih =>
      intro n1 v2 v3 hn h0 h1 ha
      refine g_il1 dX2_find_2 ?_
      refine g_bipush dX2_find_3 (by decide) (by decide) ?_
      refine g_icmp_ge (tgt := 106) dX2_find_5 (by decide) (by omega) (fun h5 => ?_) (fun h5 => ?_)
      · refine g_iconst dX2_find_106 ?_
        exact g_iret rfl dX2_find_107 ⟨_, rfl, by have e : fd_ m σ = -1 := fI_none (fun j j0 j1 => ha j j0 (by omega)); rw [e] at hQ; exact hQ⟩
      have hb0 := hB (183 + n1) (by omega) (by omega)
      have L46 : ∀ (n : Nat) (z : Int) (k : Int), iv_ σ m 8 - k < (n : Int) → (0 ≤ k) → (k ≤ iv_ σ m 8) → ((z = 1 ∧ (0 < iv_ σ (m + 4) (183 + n1) ∧ iv_ σ (m + 4) (183 + n1) = iv_ σ m 8) ∧ ∀ j : Int, 0 ≤ j → j < k → iv_ σ (m + 4) (203 + 8 * n1 + j) = iv_ σ (m + 2) j) ∨ (z = 0 ∧ nm1_ m σ n1 = false)) → GoM_ G 2 yX2_find cX2_find 4 (some .int) σ (fun v σ' => ∃ x : Int, v = some (I_ x) ∧ Q x σ') 46 [some (A_ (some m)), some (I_ n1), some (I_ z), some (I_ k)] [] σ := by
        intro n2
        induction n2 with
        | zero => intro z k hn g0 g1 gI; exact absurd hn (by omega)
        | succ n2 ih2 =>
          intro z k hn g0 g1 gI
          refine g_il3 dX2_find_46 ?_
          refine g_al0 dX2_find_47 ?_
          refine f_getI 8 fk_X2_84 rfl hR.sh (fun _ _ => rfl) dX2_find_48 ?_
          refine g_icmp_ge (tgt := 94) dX2_find_51 (by decide) (by omega) (fun h51 => ?_) (fun h51 => ?_)
          · refine g_il2 dX2_find_94 ?_
            refine g_if_eq (tgt := 100) dX2_find_95 (by decide) (by omega) (fun h95 => ?_) (fun h95 => ?_)
            · refine g_inc1 dX2_find_100 (by decide) rfl ?_
              refine g_goto (tgt := 2) dX2_find_103 (by decide) ?_
              refine ih _ _ _ (by omega) (by omega) (by omega) (fun j j0 j1 => ?_)
              by_cases hj : j = n1
              · rw [hj]; rcases gI with q | q
                · omega
                · exact q.2
              · exact ha j j0 (by omega)
            refine g_il1 dX2_find_98 ?_
            exact g_iret rfl dX2_find_99 ⟨_, rfl, by have e : fd_ m σ = n1 := fI_hit h0 (by omega) (by unfold nm1_; rcases gI with q | q; (rw [Bool.and_eq_true, al_iff (by omega)]; exact ⟨decide_eq_true q.2.1, fun j j0 j1 => decide_eq_true (q.2.2 j j0 (by omega))⟩); (omega)) ha; rw [e] at hQ; exact hQ⟩
          refine g_il2 dX2_find_54 ?_
          refine g_if_eq (tgt := 94) dX2_find_55 (by decide) (by omega) (fun h55 => ?_) (fun h55 => ?_)
          · refine g_il2 dX2_find_94 ?_
            refine g_if_eq (tgt := 100) dX2_find_95 (by decide) (by omega) (fun h95 => ?_) (fun h95 => ?_)
            · refine g_inc1 dX2_find_100 (by decide) rfl ?_
              refine g_goto (tgt := 2) dX2_find_103 (by decide) ?_
              refine ih _ _ _ (by omega) (by omega) (by omega) (fun j j0 j1 => ?_)
              by_cases hj : j = n1
              · rw [hj]; rcases gI with q | q
                · omega
                · exact q.2
              · exact ha j j0 (by omega)
            refine g_il1 dX2_find_98 ?_
            exact g_iret rfl dX2_find_99 ⟨_, rfl, by have e : fd_ m σ = n1 := fI_hit h0 (by omega) (by unfold nm1_; rcases gI with q | q; (rw [Bool.and_eq_true, al_iff (by omega)]; exact ⟨decide_eq_true q.2.1, fun j j0 j1 => decide_eq_true (q.2.2 j j0 (by omega))⟩); (omega)) ha; rw [e] at hQ; exact hQ⟩
          refine g_al0 dX2_find_58 ?_
          refine f_getA 16 fk_X2_23 rfl hR.sh (fun _ _ => rfl) hR.f16 dX2_find_59 ?_
          refine g_sipush dX2_find_62 (by decide) (by decide) ?_
          refine g_bipush dX2_find_65 (by decide) (by decide) ?_
          refine g_il1 dX2_find_67 ?_
          refine g_imul dX2_find_68 ?_
          refine g_iadd dX2_find_69 ?_
          refine g_il3 dX2_find_70 ?_
          refine g_iadd dX2_find_71 ?_
          have hb1 := hB (203 + 8 * n1 + k) (by omega) (by omega)
          have hp := hP.2.2.2.2.2.2.2 h2
          have hl := hp.2 k (by omega) (by omega)
          refine g_iald hR.a16 (by omega) dX2_find_72 ?_
          refine g_al0 dX2_find_73 ?_
          refine f_getA 12 fk_X2_17 rfl hR.sh (fun _ _ => rfl) hR.f12 dX2_find_74 ?_
          refine g_il3 dX2_find_77 ?_
          refine g_iald hR.a12 (by omega) dX2_find_78 ?_
          refine g_icmp_ne (tgt := 86) dX2_find_79 (by decide) (by omega) (fun h79 => ?_) (fun h79 => ?_)
          · refine g_iconst dX2_find_86 ?_
            refine g_is2 dX2_find_87 (by decide) rfl ?_
            refine g_inc3 dX2_find_88 (by decide) rfl ?_
            refine g_goto (tgt := 46) dX2_find_91 (by decide) ?_
            refine ih2 _ _ (by omega) (by omega) (by omega) (Or.inr ⟨rfl, Bool.eq_false_iff.mpr fun w => by unfold nm1_ at w; rw [Bool.and_eq_true, al_iff (by omega)] at w; exact absurd (of_decide_eq_true (w.2 k g0 (by omega))) (by omega)⟩)
          refine g_iconst dX2_find_82 ?_
          refine g_goto (tgt := 87) dX2_find_83 (by decide) ?_
          refine g_is2 dX2_find_87 (by decide) rfl ?_
          refine g_inc3 dX2_find_88 (by decide) rfl ?_
          refine g_goto (tgt := 46) dX2_find_91 (by decide) ?_
          refine ih2 _ _ (by omega) (by omega) (by omega) (Or.inl ⟨rfl, by rcases gI with q | q; (exact q.2.1); (omega), fun j j0 j1 => by rcases gI with q | q; (by_cases hj : j = k; (rw [hj]; omega); (exact q.2.2 j j0 (by omega))); (omega)⟩)
      refine g_al0 dX2_find_8 ?_
      refine f_getA 16 fk_X2_23 rfl hR.sh (fun _ _ => rfl) hR.f16 dX2_find_9 ?_
      refine g_sipush dX2_find_12 (by decide) (by decide) ?_
      refine g_il1 dX2_find_15 ?_
      refine g_iadd dX2_find_16 ?_
      refine g_iald hR.a16 (by omega) dX2_find_17 ?_
      refine g_if_le (tgt := 42) dX2_find_18 (by decide) (by omega) (fun h18 => ?_) (fun h18 => ?_)
      · refine g_iconst dX2_find_42 ?_
        refine g_is2 dX2_find_43 (by decide) rfl ?_
        refine g_iconst dX2_find_44 ?_
        refine g_is3 dX2_find_45 (by decide) rfl ?_
        exact L46 9 _ _ (by omega) (by omega) (by omega) (Or.inr ⟨rfl, Bool.eq_false_iff.mpr fun w => by unfold nm1_ at w; rw [Bool.and_eq_true] at w; exact absurd (of_decide_eq_true w.1) (by omega)⟩)
      refine g_al0 dX2_find_21 ?_
      refine f_getA 16 fk_X2_23 rfl hR.sh (fun _ _ => rfl) hR.f16 dX2_find_22 ?_
      refine g_sipush dX2_find_25 (by decide) (by decide) ?_
      refine g_il1 dX2_find_28 ?_
      refine g_iadd dX2_find_29 ?_
      refine g_iald hR.a16 (by omega) dX2_find_30 ?_
      refine g_al0 dX2_find_31 ?_
      refine f_getI 8 fk_X2_84 rfl hR.sh (fun _ _ => rfl) dX2_find_32 ?_
      refine g_icmp_ne (tgt := 42) dX2_find_35 (by decide) (by omega) (fun h35 => ?_) (fun h35 => ?_)
      · refine g_iconst dX2_find_42 ?_
        refine g_is2 dX2_find_43 (by decide) rfl ?_
        refine g_iconst dX2_find_44 ?_
        refine g_is3 dX2_find_45 (by decide) rfl ?_
        exact L46 9 _ _ (by omega) (by omega) (by omega) (Or.inr ⟨rfl, Bool.eq_false_iff.mpr fun w => by unfold nm1_ at w; rw [Bool.and_eq_true] at w; exact absurd (of_decide_eq_true w.1) (by omega)⟩)
      refine g_iconst dX2_find_38 ?_
      refine g_goto (tgt := 43) dX2_find_39 (by decide) ?_
      refine g_is2 dX2_find_43 (by decide) rfl ?_
      refine g_iconst dX2_find_44 ?_
      refine g_is3 dX2_find_45 (by decide) rfl ?_
      exact L46 9 _ _ (by omega) (by omega) (by omega) (Or.inl ⟨rfl, by omega, fun j j0 j1 => by omega⟩)
  refine g_iconst dX2_find_0 ?_
  refine g_is1 dX2_find_1 (by decide) rfl ?_
  exact L2 21 _ _ _ (by omega) (by omega) (by omega) (fun j j0 j1 => by omega)
end
