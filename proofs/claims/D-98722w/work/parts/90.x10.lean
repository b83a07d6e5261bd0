/-! THE COMPONENT: the pier. Written by mod/m90.py -/
set_option maxRecDepth 100000
section
variable {G : JG} {X : Nat} {σ : JH} {T : XT} {r s : Int → Int}
/-- while the pier is sought: its row lies at A, the first address that was free -/
def PW_ (G : JG) (X A : Nat) (σ σ' : JH) (T : XT) (r s : Int → Int) : Prop := Gw_ (xe_ X) 1 7 σ σ' ∧ (∀ k, rv_ σ' X k = rv_ σ X k) ∧ XD_ G X σ' T r s ∧ sh_ σ' A = some (.inr (0, 7)) ∧ (X + 12 < A ∧ (gH_ G).size ≤ A ∧ sz_ σ ≤ A) ∧ (∀ a s, sh_ σ' a = some s → a < sz_ σ')
theorem PW_.mk0 (hX : XD_ G X σ T r s) (hlt : ∀ a s, sh_ σ a = some s → a < sz_ σ) (hlt2 : ∀ a s, sh_ (nw_ σ (.inr (0, 7)) 7) a = some s → a < sz_ (nw_ σ (.inr (0, 7)) 7)) (hgz : (gH_ G).size ≤ sz_ σ) : PW_ G X (sz_ σ) σ (nw_ σ (.inr (0, 7)) 7) T r s := by
  have hl := hX.R.lt hlt
  have hr : ∀ k, rv_ (nw_ σ (.inr (0, 7)) 7) X k = rv_ σ X k := fun k => by rw [rv_nw, if_neg (by omega)]
  have g : Gw_ (xe_ X) 1 7 σ (nw_ σ (.inr (0, 7)) 7) := Gw_.rf.nw
  exact ⟨g, hr, hX.gw g hlt hr, by rw [sh_nw, if_pos rfl], ⟨by omega, hgz, Nat.le_refl _⟩, hlt2⟩
theorem PW_.tx {A : Nat} {σ1 σ2 : JH} (h : PW_ G X A σ σ1 T r s) (f : Fr_ (xft_ X) σ1 σ2) : PW_ G X A σ σ2 T r s := by
  obtain ⟨a, b, c, d, e, g⟩ := h
  refine ⟨a.tr (f.tx.mono (fun _ _ q => Or.inl q)).gw, fun k => (f.2.1 X k).trans (b k), c.xs f.tx g, (f.1 A).trans d, e, lt_fr g f⟩
theorem PW_.pi {A : Nat} {σ1 : JH} {k x : Int} (h : PW_ G X A σ σ1 T r s) (hX : XD_ G X σ T r s) (hlt : ∀ a s, sh_ σ a = some s → a < sz_ σ) : PW_ G X A σ (pi_ σ1 A k x) T r s := by
  obtain ⟨a, b, c, d, e, g⟩ := h
  have a' := a.pi (a := A) (k := k) (x := x) (fun q => absurd q (by omega))
  exact ⟨a', b, hX.gw a' hlt b, d, e, g⟩
theorem PW_.A {A : Nat} {σ1 σ2 : JH} (h : PW_ G X A σ σ1 T r s) (f : Fr_ (xft_ X) σ1 σ2) (k : Int) : iv_ σ2 A k = iv_ σ1 A k := f.2.2.2.2 _ _ (fun q => by have := h.2.2.2.2.1; unfold xft_ at q; omega)
/-- how many of the first whales can be at an island -/
def pcn_ (r s : Int → Int) (d i n : Int) : Int := sI_ (fun w => if (fa_ r s w).2.2 = 1 ∧ hb_ (rc_ r s w d) i then 1 else 0) n
def pan_ (r s : Int → Int) (n : Int) : Int := sI_ (fun w => if (fa_ r s w).2.2 = 1 then 1 else 0) n
theorem pcn_in {d i n : Int} (hn : 0 ≤ n) : 0 ≤ pcn_ r s d i n ∧ pcn_ r s d i n ≤ n := by
  have := sI_bd (f := fun w => if (fa_ r s w).2.2 = 1 ∧ hb_ (rc_ r s w d) i then 1 else 0) (n := n) (lo := 0) (hi := 1) (fun k _ _ => by split <;> omega) hn
  unfold pcn_
  omega
theorem pan_in {n : Int} (hn : 0 ≤ n) : 0 ≤ pan_ r s n ∧ pan_ r s n ≤ n := by
  have := sI_bd (f := fun w => if (fa_ r s w).2.2 = 1 then 1 else 0) (n := n) (lo := 0) (hi := 1) (fun k _ _ => by split <;> omega) hn
  unfold pan_
  omega
theorem po_e (d i : Int) : po_ r s d i = if 0 ≤ 2 * pcn_ r s d i (r 6) - pan_ r s (r 6) then 2 * pcn_ r s d i (r 6) - pan_ r s (r 6) else 0 - (2 * pcn_ r s d i (r 6) - pan_ r s (r 6)) := by
  show (if pan_ r s (r 6) < 2 * pcn_ r s d i (r 6) then _ else _) = _
  split <;> split <;> (show (_ : Int) = _) <;> (unfold pa_ pc_ pan_ pcn_ at *) <;> omega
theorem pf_1 (hr : 0 ≤ r 6 ∧ r 6 ≤ 5) (d : Int) : iI_ (pf_ r s d) (-1, 1000000) 1 = (0, po_ r s d 0) := by
  rw [show (1 : Int) = 0 + 1 from rfl, iI_s _ _ (by decide), iI_0]
  have h1 := pcn_in (r := r) (s := s) (d := d) (i := 0) hr.1
  have h2 := pan_in (r := r) (s := s) hr.1
  have h3 : po_ r s d 0 < 1000000 := by rw [po_e]; split <;> omega
  exact if_pos h3
theorem xo_pier {p : Int} {d : Int} {Q : Int → JH → Prop} (hX0 : XQ_ G X σ p T r s) (hP : MP_ p r s) (hd : -2147483648 ≤ d ∧ d < 2147483648) (hrm : sz_ σ + 1 ≤ lc_ G ∧ us_ σ + 7 ≤ ls_ G)
    (hQ : ∀ (x t : Int) (σ' : JH), qPier_ p r s d = (x, t) → XQ_ G X σ' p T r s → XE_ X σ σ' t → Q x σ') : CallI_ G 9 yX1_pier cX1_pier 7 (some .int) [A_ (some X), I_ d] σ Q := by
  refine call_go [some (A_ (some X)), some (I_ d), none, none, none, none, none] (by decide) (Nat.le_of_ble_eq_true rfl) rfl ?_
  refine g_lt (fun hlt hgz => ?_)
  have hR := hX0.1
  have hp01 := hP.b
  rcases hX0.2 with q | q
  · have hp0 : p = 0 := q.1
    refine g_al0 dX1_pier_0 ?_
    refine f_getA 5 fk_X1_104 rfl hR.sh (fun _ _ => rfl) q.2 dX1_pier_1 ?_
    refine g_ifnonnull (tgt := 13) dX1_pier_4 (by decide) (fun _ h4 => ?_) (fun h4 => ?_)
    · cases h4
    refine g_al0 dX1_pier_7 ?_
    refine g_iconst dX1_pier_8 ?_
    refine g_callV1I (d' := 2) lk_X1_65 hR.sh rfl (rm_lt (by decide) (by decide)) (Nat.le_of_ble_eq_true rfl) dX1_pier_9 ?_
    refine xo_refused hR ?_
    exact g_iret rfl dX1_pier_12 ⟨_, rfl, hQ _ _ _ (by unfold qPier_; rw [if_neg (by omega)]) (hX0.e (XE_.rf) hlt) (XE_.rf)⟩
  · have hp1 : p = 1 := q.1
    have hX := q.2
    obtain ⟨hW, hD⟩ := hP.get hp1
    have hn := hW.n
    refine g_al0 dX1_pier_0 ?_
    refine f_getA 5 fk_X1_104 rfl hR.sh (fun _ _ => rfl) hX.f5 dX1_pier_1 ?_
    refine g_ifnonnull (tgt := 13) dX1_pier_4 (by decide) (fun _ h4 => ?_) (fun h4 => ?_)
    · refine g_il1 dX1_pier_13 ?_
      refine g_iconst dX1_pier_14 ?_
      refine g_ldc (x := 99999) q1228 dX1_pier_15 (by decide) ?_
      refine g_callS3I (d' := 2) lk_X1_79 (rm_lt (by decide) (by decide)) (Nat.le_of_ble_eq_true rfl) dX1_pier_17 ?_
      refine xo_in (by omega) (by omega) (by omega) (fun x17 hx17 => ?_)
      refine g_if_ne (tgt := 29) dX1_pier_20 (by decide) (by omega) (fun h20 => ?_) (fun h20 => ?_)
      · have hX9 := hX
        have hlt9 := hlt
        have hlt0 := hlt
        refine g_iconst dX1_pier_29 ?_
        refine g_is2 dX1_pier_30 (by decide) rfl ?_
        refine g_bipush dX1_pier_31 (by decide) (by decide) ?_
        refine g_newa (t := 0) (n := 7) (atype := .int) rfl (by decide) q260 rfl (by decide) (by omega) dX1_pier_33 ?_
        refine g_lt (fun hlt2 hgz2 => ?_)
        have hW2 := PW_.mk0 hX hlt hlt2 hgz
        have hz0 : ∀ j, iv_ (nw_ σ (.inr (0, 7)) 7) (sz_ σ) j = 0 := fun j => by rw [iv_nw, if_pos rfl]
        generalize sz_ σ = A at hW2 hz0 ⊢
        have hX := hW2.2.2.1
        have hR := hX.R
        have hA := hW2.2.2.2.2.1
        have hlt := hW2.2.2.2.2.2
        have L39 : ∀ (fu : Nat) (σ' : JH) (n1 : Int) (w : Int) (v56 : Option AV × Option AV), r 6 - w < (fu : Int) → (PW_ G X A σ σ' T r s) → (0 ≤ w) → (w ≤ r 6) → (∀ j, 0 ≤ j → j < 7 → iv_ σ' A j = pcn_ r s d j w) → (n1 = pan_ r s w) → GoM_ G 9 yX1_pier cX1_pier 7 (some .int) σ (fun v σ' => ∃ x : Int, v = some (I_ x) ∧ Q x σ') 39 [some (A_ (some X)), some (I_ d), some (I_ n1), some (A_ (some A)), some (I_ w), v56.1, v56.2] [] σ' := by
          intro fu
          induction fu with
          | zero => intro σ' n1 w v56 hn hW2 h0 h1 hV hn1; exact absurd hn (by omega)
          | succ fu ih =>
            intro σ' n1 w v56 hn hW2 h0 h1 hV hn1
            have hX := hW2.2.2.1
            have hR := hX.R
            have hA := hW2.2.2.2.2.1
            have hlt := hW2.2.2.2.2.2
            have hpa := pan_in (r := r) (s := s) (n := w) (by omega)
            refine g_il4 dX1_pier_39 ?_
            refine g_al0 dX1_pier_41 ?_
            refine f_getA 5 fk_X1_104 rfl hR.sh (fun _ _ => rfl) hX.f5 dX1_pier_42 ?_
            refine f_getA 6 fk_X1_131 rfl hX.P.sh (fun _ _ => rfl) hX.P.f6 dX1_pier_45 ?_
            refine g_callV0I (d' := 2) lk_X1_127 hX.P.l2.1 rfl (rm_lt (by decide) (by decide)) (Nat.le_of_ble_eq_true rfl) dX1_pier_48 ?_
            refine js_size hX.P.l2 ?_
            refine g_icmp_ge (tgt := 122) dX1_pier_51 (by decide) (by omega) (fun h51 => ?_) (fun h51 => ?_)
            · have ew : w = r 6 := by omega
              subst hn1
              subst ew
              have L128 : ∀ (fu2 : Nat) (be : Int) (i : Int) (v6 : Option AV), r 4 - i < (fu2 : Int) → (1 ≤ i) → (i ≤ r 4) → (0 ≤ be ∧ be < i) → (iI_ (pf_ r s d) (-1, 1000000) i = (be, po_ r s d be)) → GoM_ G 9 yX1_pier cX1_pier 7 (some .int) σ (fun v σ' => ∃ x : Int, v = some (I_ x) ∧ Q x σ') 128 [some (A_ (some X)), some (I_ d), some (I_ (pan_ r s (r 6))), some (A_ (some A)), some (I_ be), some (I_ i), v6] [] σ' := by
                intro fu2
                induction fu2 with
                | zero => intro be i v6 hn g0 g1 gb gv; exact absurd hn (by omega)
                | succ fu2 ih2 =>
                  intro be i v6 hn g0 g1 gb gv
                  have pb := pcn_in (r := r) (s := s) (d := d) (i := be) (n := r 6) (by omega)
                  have pq := pcn_in (r := r) (s := s) (d := d) (i := i) (n := r 6) (by omega)
                  have pn := pan_in (r := r) (s := s) (n := r 6) (by omega)
                  have eb := po_e (r := r) (s := s) d be
                  have ei := po_e (r := r) (s := s) d i
                  refine g_il5 dX1_pier_128 ?_
                  refine g_al0 dX1_pier_130 ?_
                  refine f_getA 5 fk_X1_104 rfl hR.sh (fun _ _ => rfl) hX.f5 dX1_pier_131 ?_
                  refine f_getA 4 fk_X1_122 rfl hX.P.sh (fun _ _ => rfl) hX.P.f4 dX1_pier_134 ?_
                  refine g_callV0I (d' := 2) lk_X1_127 hX.P.l0.1 rfl (rm_lt (by decide) (by decide)) (Nat.le_of_ble_eq_true rfl) dX1_pier_137 ?_
                  refine js_size hX.P.l0 ?_
                  refine g_icmp_ge (tgt := 178) dX1_pier_140 (by decide) (by omega) (fun h140 => ?_) (fun h140 => ?_)
                  · refine g_al0 dX1_pier_178 ?_
                    refine g_il4 dX1_pier_179 ?_
                    refine g_callV1I (d' := 2) lk_X1_69 hR.sh rfl (rm_lt (by decide) (by decide)) (Nat.le_of_ble_eq_true rfl) dX1_pier_181 ?_
                    refine xo_well hR ?_
                    exact g_iret rfl dX1_pier_184 ⟨_, rfl, hQ _ _ _ (by unfold qPier_; rw [if_pos (by omega), if_pos (by omega), show r 4 = i by omega, gv]) (hX0.e (XE_.of hW2.1 hW2.2.1 (by omega) (by omega)) hlt0) (XE_.of hW2.1 hW2.2.1 (by omega) (by omega))⟩
                  refine g_iconst dX1_pier_143 ?_
                  refine g_al3 dX1_pier_144 ?_
                  refine g_il5 dX1_pier_145 ?_
                  refine g_ialv hW2.2.2.2.1 (by omega) (hV i (by omega) (by omega)) dX1_pier_147 ?_
                  refine g_imul dX1_pier_148 ?_
                  refine g_il2 dX1_pier_149 ?_
                  refine g_isub dX1_pier_150 ?_
                  refine g_mabs q1487 (by omega) (rm_64 (by decide)) (Nat.le_of_ble_eq_true rfl) dX1_pier_151 ?_
                  rw [← ei]
                  refine g_iconst dX1_pier_154 ?_
                  refine g_al3 dX1_pier_155 ?_
                  refine g_il4 dX1_pier_156 ?_
                  refine g_ialv hW2.2.2.2.1 (by omega) (hV be (by omega) (by omega)) dX1_pier_158 ?_
                  refine g_imul dX1_pier_159 ?_
                  refine g_il2 dX1_pier_160 ?_
                  refine g_isub dX1_pier_161 ?_
                  refine g_mabs q1487 (by omega) (rm_64 (by decide)) (Nat.le_of_ble_eq_true rfl) dX1_pier_162 ?_
                  rw [← eb]
                  have hpi : 0 ≤ po_ r s d i ∧ po_ r s d i ≤ 100 := by rw [ei]; split <;> omega
                  have hpb : 0 ≤ po_ r s d be ∧ po_ r s d be ≤ 100 := by rw [eb]; split <;> omega
                  refine g_icmp_ge (tgt := 172) dX1_pier_165 (by decide) (by omega) (fun h165 => ?_) (fun h165 => ?_)
                  · refine g_inc5 dX1_pier_172 (by decide) rfl ?_
                    refine g_goto (tgt := 128) dX1_pier_175 (by decide) ?_
                    refine ih2 _ _ _ (by omega) (by omega) (by omega) (by omega) ?_
                    rw [iI_s _ _ (by omega), gv]
                    exact if_neg (by show ¬ po_ r s d i < po_ r s d be; omega)
                  refine g_il5 dX1_pier_168 ?_
                  refine g_is4 dX1_pier_170 (by decide) rfl ?_
                  refine g_inc5 dX1_pier_172 (by decide) rfl ?_
                  refine g_goto (tgt := 128) dX1_pier_175 (by decide) ?_
                  refine ih2 _ _ _ (by omega) (by omega) (by omega) (by omega) ?_
                  rw [iI_s _ _ (by omega), gv]
                  exact if_pos (by show po_ r s d i < po_ r s d be; omega)
              refine g_iconst dX1_pier_122 ?_
              refine g_is4 dX1_pier_123 (by decide) rfl ?_
              refine g_iconst dX1_pier_125 ?_
              refine g_is5 dX1_pier_126 (by decide) rfl ?_
              exact L128 ((r 4).toNat + 1) _ _ _ (by omega) (by omega) (by omega) (by omega) (pf_1 (by omega) d)
            refine g_al0 dX1_pier_54 ?_
            refine g_il4 dX1_pier_55 ?_
            refine g_callV1I (d' := 8) lk_X1_383 hR.sh rfl (rm_lt (by decide) (by decide)) (Nat.le_of_ble_eq_true rfl) dX1_pier_57 ?_
            refine xo_isFit hX hW hD hlt (by omega) (fun z3 σ3 hF3 hz3 => ?_)
            have hV := fun j j0 j1 => (hW2.A hF3 j).trans (hV j j0 j1)
            have hW2 := hW2.tx hF3
            have hX := hW2.2.2.1
            have hR := hX.R
            have hA := hW2.2.2.2.2.1
            have hlt := hW2.2.2.2.2.2
            refine g_if_ne (tgt := 66) dX1_pier_60 (by decide) (by omega) (fun h60 => ?_) (fun h60 => ?_)
            · refine g_inc2 dX1_pier_66 (by decide) rfl ?_
              refine g_al0 dX1_pier_69 ?_
              refine g_il4 dX1_pier_70 ?_
              refine g_il1 dX1_pier_72 ?_
              refine g_callV2I (d' := 7) lk_X1_386 hR.sh rfl (rm_lt (by decide) (by decide)) (Nat.le_of_ble_eq_true rfl) dX1_pier_73 ?_
              refine xo_reached hX hW hD hlt (by omega) (by omega) (fun σ4 hF4 => ?_)
              have hV := fun j j0 j1 => (hW2.A hF4 j).trans (hV j j0 j1)
              have hW2 := hW2.tx hF4
              have hX := hW2.2.2.1
              have hR := hX.R
              have hA := hW2.2.2.2.2.1
              have hlt := hW2.2.2.2.2.2
              refine g_is5 dX1_pier_76 (by decide) rfl ?_
              subst hn1
              have L81 : ∀ (fu3 : Nat) (σ2 : JH) (i : Int), 7 - i < (fu3 : Int) → (PW_ G X A σ σ2 T r s) → (0 ≤ i) → (i ≤ 7) → (∀ j, 0 ≤ j → j < 7 → iv_ σ2 A j = if j < i then pcn_ r s d j (w + 1) else pcn_ r s d j w) → GoM_ G 9 yX1_pier cX1_pier 7 (some .int) σ (fun v σ' => ∃ x : Int, v = some (I_ x) ∧ Q x σ') 81 [some (A_ (some X)), some (I_ d), some (I_ (pan_ r s w + 1)), some (A_ (some A)), some (I_ w), some (I_ (rc_ r s w d)), some (I_ i)] [] σ2 := by
                intro fu3
                induction fu3 with
                | zero => intro σ2 i hn hW2 g0 g1 gV; exact absurd hn (by omega)
                | succ fu3 ih3 =>
                  intro σ2 i hn hW2 g0 g1 gV
                  have hX := hW2.2.2.1
                  have hR := hX.R
                  have hA := hW2.2.2.2.2.1
                  have hlt := hW2.2.2.2.2.2
                  have hpw := pcn_in (r := r) (s := s) (d := d) (i := i) (n := w) (by omega)
                  refine g_il6 dX1_pier_81 ?_
                  refine g_bipush dX1_pier_83 (by decide) (by decide) ?_
                  refine g_icmp_ge (tgt := 116) dX1_pier_85 (by decide) (by omega) (fun h85 => ?_) (fun h85 => ?_)
                  · refine g_inc4 dX1_pier_116 (by decide) rfl ?_
                    refine g_goto (tgt := 39) dX1_pier_119 (by decide) ?_
                    exact ih _ _ (w + 1) (some (I_ (rc_ r s w d)), some (I_ i)) (by omega) hW2 (by omega) (by omega) (fun j j0 j1 => by rw [gV j j0 j1, if_pos (by omega)]) (by unfold pan_; rw [sI_s _ (by omega), if_pos (by omega)])
                  refine g_al3 dX1_pier_88 ?_
                  refine g_il6 dX1_pier_89 ?_
                  refine g_dup2 dX1_pier_91 rfl rfl ?_
                  refine g_ialv hW2.2.2.2.1 (by omega) (show iv_ σ2 A i = pcn_ r s d i w by rw [gV i (by omega) (by omega), if_neg (by omega)]) dX1_pier_92 ?_
                  refine g_il5 dX1_pier_93 ?_
                  refine g_il6 dX1_pier_95 ?_
                  refine g_callS2I (d' := 2) lk_X1_222 (rm_lt (by decide) (by decide)) (Nat.le_of_ble_eq_true rfl) dX1_pier_97 ?_
                  refine xo_has (fun zh hzh => ?_)
                  refine g_if_eq (tgt := 107) dX1_pier_100 (by decide) (by omega) (fun h100 => ?_) (fun h100 => ?_)
                  · refine g_iconst dX1_pier_107 ?_
                    refine g_iadd dX1_pier_108 ?_
                    refine g_iast hW2.2.2.2.1 hW2.2.2.2.2.1.2.1 (by omega) dX1_pier_109 ?_
                    refine g_inc6 dX1_pier_110 (by decide) rfl ?_
                    refine g_goto (tgt := 81) dX1_pier_113 (by decide) ?_
                    refine ih3 _ _ (by omega) (hW2.pi hX9 hlt9) (by omega) (by omega) (fun j j0 j1 => ?_)
                    rw [iv_pi]
                    by_cases hj : j = i
                    · subst hj
                      rw [if_pos ⟨rfl, rfl⟩, if_pos (by omega)]
                      unfold pcn_
                      rw [sI_s _ (by omega), if_neg (fun q => by have := q.2; omega)]
                    · rw [if_neg (fun q => hj q.2), gV j j0 j1]
                      by_cases c : j < i
                      · rw [if_pos c, if_pos (by omega)]
                      · rw [if_neg c, if_neg (by omega)]
                  refine g_iconst dX1_pier_103 ?_
                  refine g_goto (tgt := 108) dX1_pier_104 (by decide) ?_
                  refine g_iadd dX1_pier_108 ?_
                  refine g_iast hW2.2.2.2.1 hW2.2.2.2.2.1.2.1 (by omega) dX1_pier_109 ?_
                  refine g_inc6 dX1_pier_110 (by decide) rfl ?_
                  refine g_goto (tgt := 81) dX1_pier_113 (by decide) ?_
                  refine ih3 _ _ (by omega) (hW2.pi hX9 hlt9) (by omega) (by omega) (fun j j0 j1 => ?_)
                  rw [iv_pi]
                  by_cases hj : j = i
                  · subst hj
                    rw [if_pos ⟨rfl, rfl⟩, if_pos (by omega)]
                    unfold pcn_
                    rw [sI_s _ (by omega), if_pos ⟨by omega, by omega⟩]
                  · rw [if_neg (fun q => hj q.2), gV j j0 j1]
                    by_cases c : j < i
                    · rw [if_pos c, if_pos (by omega)]
                    · rw [if_neg c, if_neg (by omega)]
              refine g_iconst dX1_pier_78 ?_
              refine g_is6 dX1_pier_79 (by decide) rfl ?_
              exact L81 8 _ _ (by omega) hW2 (by omega) (by omega) (fun j j0 j1 => by rw [if_neg (by omega)]; exact hV j j0 j1)
            refine g_goto (tgt := 116) dX1_pier_63 (by decide) ?_
            refine g_inc4 dX1_pier_116 (by decide) rfl ?_
            refine g_goto (tgt := 39) dX1_pier_119 (by decide) ?_
            exact ih _ _ _ v56 (by omega) hW2 (by omega) (by omega) (fun j j0 j1 => by rw [hV j j0 j1]; unfold pcn_; rw [sI_s _ (by omega), if_neg (by omega)]; omega) (by rw [hn1]; unfold pan_; rw [sI_s _ (by omega), if_neg (by omega)]; omega)
        refine g_as3 dX1_pier_35 (by decide) rfl ?_
        refine g_iconst dX1_pier_36 ?_
        refine g_is4 dX1_pier_37 (by decide) rfl ?_
        exact L39 ((r 6).toNat + 1) _ _ _ (none, none) (by omega) hW2 (by omega) (by omega) (fun j _ _ => hz0 j) rfl
      refine g_al0 dX1_pier_23 ?_
      refine g_iconst dX1_pier_24 ?_
      refine g_callV1I (d' := 2) lk_X1_65 hR.sh rfl (rm_lt (by decide) (by decide)) (Nat.le_of_ble_eq_true rfl) dX1_pier_25 ?_
      refine xo_refused hR ?_
      exact g_iret rfl dX1_pier_28 ⟨_, rfl, hQ _ _ _ (by unfold qPier_; rw [if_pos (by omega), if_neg (by omega)]) (hX0.e (XE_.rf) hlt) (XE_.rf)⟩
    cases h4
end
