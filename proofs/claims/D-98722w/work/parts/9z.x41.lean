/-! THE COMPONENT: a post, tokens, a reader are made. Written by mod/m9z.py -/
set_option maxRecDepth 100000
section
variable {G : JG} {m X ρ o : Nat} {σ σ' γ : JH} {T : XT} {c d : Int}
variable {D : Nat}
theorem xp_init  {Q : JH → Prop} (hlt : ∀ a s, sh_ σ a = some s → a < sz_ σ) (hs : sh_ σ D = some (.inl 5)) (ha : (gH_ G).size ≤ D) (hr : sz_ σ + 5 ≤ lc_ G ∧ us_ σ + 15 ≤ ls_ G)
    (hQ : ∀ σ', BO_ G D σ σ' [(4, .inl 2), (5, .inl 2), (6, .inl 2), (7, .inl 2), (8, .inl 2)] 15 (fun k => iv_ σ D k) → Q σ') : CallV_ G 5 yX5_init cX5_init 1 none [A_ (some D)] σ Q := by
  refine call_go [some (A_ (some D))] (by decide) (Nat.le_of_ble_eq_true rfl) rfl ?_
  have hB := BO_.mk0 (G := G) (D := D) (σ0 := σ) (by have := hlt _ _ hs; omega)
  refine g_al0 dX5_init_0 ?_
  refine g_objInit q304 q_oi1 q_oi2 (rm_1 (by decide)) (Nat.le_of_ble_eq_true rfl) dX5_init_1 ?_
  refine g_al0 dX5_init_4 ?_
  refine g_lt (fun hlt1 hgz1 => ?_)
  refine g_new (ci := 2) nq_X5_9 ⟨_, rfl⟩ (by have := hB.sz; simp at this; omega) dX5_init_5 ?_
  refine g_dup dX5_init_8 rfl ?_
  refine g_callI0 (d' := 4) lk_X5_11 (rm_lt (by decide) (by decide)) (Nat.le_of_ble_eq_true rfl) dX5_init_9 ?_
  refine js_linit (by rw [sh_nw, if_pos rfl]) hgz1 ?_
  refine f_putAF 4 fk_X5_12 rfl (fin_ rfl ⟨rfl, rfl⟩) rfl (hB.sn (s := .inl 2) (n := 3) hs) ha (Or.inl ⟨_, rfl⟩) dX5_init_12 ?_
  refine g_bdL 4 rfl hB (by decide) (fun σ1 hB => ?_)
  replace hB : BO_ G D σ σ1 [(4, .inl 2)] 3 (fun k => iv_ σ D k) := hB
  refine g_al0 dX5_init_15 ?_
  refine g_lt (fun hlt1 hgz1 => ?_)
  refine g_new (ci := 2) nq_X5_9 ⟨_, rfl⟩ (by have := hB.sz; simp at this; omega) dX5_init_16 ?_
  refine g_dup dX5_init_19 rfl ?_
  refine g_callI0 (d' := 4) lk_X5_11 (rm_lt (by decide) (by decide)) (Nat.le_of_ble_eq_true rfl) dX5_init_20 ?_
  refine js_linit (by rw [sh_nw, if_pos rfl]) hgz1 ?_
  refine f_putAF 5 fk_X5_18 rfl (fin_ rfl ⟨rfl, rfl⟩) rfl (hB.sn (s := .inl 2) (n := 3) hs) ha (Or.inl ⟨_, rfl⟩) dX5_init_23 ?_
  refine g_bdL 5 rfl hB (by decide) (fun σ1 hB => ?_)
  replace hB : BO_ G D σ σ1 [(4, .inl 2), (5, .inl 2)] 6 (fun k => iv_ σ D k) := hB
  refine g_al0 dX5_init_26 ?_
  refine g_lt (fun hlt1 hgz1 => ?_)
  refine g_new (ci := 2) nq_X5_9 ⟨_, rfl⟩ (by have := hB.sz; simp at this; omega) dX5_init_27 ?_
  refine g_dup dX5_init_30 rfl ?_
  refine g_callI0 (d' := 4) lk_X5_11 (rm_lt (by decide) (by decide)) (Nat.le_of_ble_eq_true rfl) dX5_init_31 ?_
  refine js_linit (by rw [sh_nw, if_pos rfl]) hgz1 ?_
  refine f_putAF 6 fk_X5_21 rfl (fin_ rfl ⟨rfl, rfl⟩) rfl (hB.sn (s := .inl 2) (n := 3) hs) ha (Or.inl ⟨_, rfl⟩) dX5_init_34 ?_
  refine g_bdL 6 rfl hB (by decide) (fun σ1 hB => ?_)
  replace hB : BO_ G D σ σ1 [(4, .inl 2), (5, .inl 2), (6, .inl 2)] 9 (fun k => iv_ σ D k) := hB
  refine g_al0 dX5_init_37 ?_
  refine g_lt (fun hlt1 hgz1 => ?_)
  refine g_new (ci := 2) nq_X5_9 ⟨_, rfl⟩ (by have := hB.sz; simp at this; omega) dX5_init_38 ?_
  refine g_dup dX5_init_41 rfl ?_
  refine g_callI0 (d' := 4) lk_X5_11 (rm_lt (by decide) (by decide)) (Nat.le_of_ble_eq_true rfl) dX5_init_42 ?_
  refine js_linit (by rw [sh_nw, if_pos rfl]) hgz1 ?_
  refine f_putAF 7 fk_X5_24 rfl (fin_ rfl ⟨rfl, rfl⟩) rfl (hB.sn (s := .inl 2) (n := 3) hs) ha (Or.inl ⟨_, rfl⟩) dX5_init_45 ?_
  refine g_bdL 7 rfl hB (by decide) (fun σ1 hB => ?_)
  replace hB : BO_ G D σ σ1 [(4, .inl 2), (5, .inl 2), (6, .inl 2), (7, .inl 2)] 12 (fun k => iv_ σ D k) := hB
  refine g_al0 dX5_init_48 ?_
  refine g_lt (fun hlt1 hgz1 => ?_)
  refine g_new (ci := 2) nq_X5_9 ⟨_, rfl⟩ (by have := hB.sz; simp at this; omega) dX5_init_49 ?_
  refine g_dup dX5_init_52 rfl ?_
  refine g_callI0 (d' := 4) lk_X5_11 (rm_lt (by decide) (by decide)) (Nat.le_of_ble_eq_true rfl) dX5_init_53 ?_
  refine js_linit (by rw [sh_nw, if_pos rfl]) hgz1 ?_
  refine f_putAF 8 fk_X5_27 rfl (fin_ rfl ⟨rfl, rfl⟩) rfl (hB.sn (s := .inl 2) (n := 3) hs) ha (Or.inl ⟨_, rfl⟩) dX5_init_56 ?_
  refine g_bdL 8 rfl hB (by decide) (fun σ1 hB => ?_)
  replace hB : BO_ G D σ σ1 [(4, .inl 2), (5, .inl 2), (6, .inl 2), (7, .inl 2), (8, .inl 2)] 15 (fun k => iv_ σ D k) := hB
  exact g_vret rfl dX5_init_59 ⟨rfl, hQ _ hB⟩
theorem xt_init {a : Nat} {n : Int} {Q : JH → Prop} (hs : sh_ σ D = some (.inl 4)) (ha : (gH_ G).size ≤ D)
    (hQ : Q (pi_ (pr_ σ D 0 (some a)) D 1 n)) : CallV_ G 2 yX4_init cX4_init 3 none [A_ (some D), A_ (some a), I_ n] σ Q := by
  refine call_go [some (A_ (some D)), some (A_ (some a)), some (I_ n)] (by decide) (Nat.le_of_ble_eq_true rfl) rfl ?_
  refine g_al0 dX4_init_0 ?_
  refine g_objInit q284 q_oi1 q_oi2 (rm_1 (by decide)) (Nat.le_of_ble_eq_true rfl) dX4_init_1 ?_
  refine g_al0 dX4_init_4 ?_
  refine g_al1 dX4_init_5 ?_
  refine f_putAF 0 fk_X4_9 rfl (fin_ rfl ⟨rfl, rfl⟩) rfl hs ha (Or.inr ⟨_, rfl⟩) dX4_init_6 ?_
  refine g_al0 dX4_init_9 ?_
  refine g_il2 dX4_init_10 ?_
  refine f_putIF 1 fk_X4_15 rfl (fin_ rfl ⟨rfl, rfl⟩) rfl hs ha rfl dX4_init_11 ?_
  exact g_vret rfl dX4_init_14 ⟨rfl, hQ⟩
theorem nxt_E1 (hT : TX_ m γ) (he : 0 ≤ iv_ γ m 5 ∧ iv_ γ m 5 ≤ iv_ γ m 3) : iv_ (nxt_ m γ) m 6 = 0 → iv_ (nxt_ m γ) m 5 = iv_ (nxt_ m γ) m 3 ∧ iv_ (nxt_ m γ) m 4 = iv_ (nxt_ m γ) m 3 := fun q => by
  have hB := skp_in (P := isB2_) (L := lk_ m γ) he.2 (by unfold lk_; rw [if_neg (by omega)]; rfl)
  have hl := lk_in hT (k := skp_ isB2_ (lk_ m γ) (iv_ γ m 5) (iv_ γ m 3)) (by omega)
  have h3 : iv_ (nxt_ m γ) m 3 = iv_ γ m 3 := (nxt_f0 γ).2.2.2.2 m 3 (fun w => by unfold pf0_ at w; omega)
  rw [h3]
  generalize hk : skp_ isB2_ (lk_ m γ) (iv_ γ m 5) (iv_ γ m 3) = k at *
  by_cases c1 : lk_ m γ k = -1
  · have := nxt_e hk c1
    omega
  · exfalso
    by_cases c2 : isS_ (lk_ m γ k) = true
    · have := (nxt_w hk c1 c2 rfl).2.2.1
      split at this <;> omega
    · by_cases c3 : isD_ (lk_ m γ k) = true
      · have := (nxt_d hk c1 c2 c3 rfl).2.2.1
        split at this <;> omega
      · have := (nxt_o hk c1 c2 c3).2.2
        split at this <;> omega
/-- a new post's things -/

def pG_ (G : JG) (P : Nat) : XT := (P, 0, (fun i => P + 1 + i), (fun _ => gK_ G 100), (fun _ => 0), (fun _ _ => 0), (fun _ => 0))
theorem TD_.new (hk : gK_ G 100 < (gH_ G).size) (P : Nat) : TD_ G (pG_ G P) := fun i j hi hj hij => ⟨fun q => by
  have : P + 1 + i = P + 1 + j := q
  omega, fun q => by
  have : (gH_ G).size ≤ gK_ G 100 := q
  omega⟩
/-- a new post -/
theorem PP_.new {σ0 : JH} {f : Int → Int} {P lo : Nat} (hB : BO_ G P σ0 σ [(4, .inl 2), (5, .inl 2), (6, .inl 2), (7, .inl 2), (8, .inl 2)] 15 (fun k => iv_ σ0 P k)) (hs : sh_ σ0 P = some (.inl 5)) (hz : ∀ k, iv_ σ0 P k = 0) (hsz : sz_ σ0 = P + 1) (hE : sh_ σ (gK_ G 100) = some (.inr (3, 0))) (hk : gK_ G 100 < (gH_ G).size) (hge : (gH_ G).size ≤ lo) (hlo : lo ≤ P) (hf : ∀ k, 0 ≤ k → k < 363 → f k = 0) : PP_ G σ lo (pG_ G P) f := by
  have sP : sh_ σ P = some (.inl 5) := hB.sh.trans hs
  have vP := fun k => (hB.2.2.2.2.1 k).trans (hz k)
  have ls : ∀ i : Nat, i < 5 → ∀ k : Nat, [(4, .inl 2), (5, .inl 2), (6, .inl 2), (7, .inl 2), (8, .inl 2)][i]? = some (k, (.inl 2 : JS)) → rv_ σ P (k : Int) = some (P + 1 + i) ∧ Ls_ G σ (P + 1 + i) (gK_ G 100) 0 0 (fun _ => 0) := fun i hi k q => by
    have w := hB.at i q
    rw [hsz] at w
    have w4 := w.2.2.2 rfl
    exact ⟨w.1, w.2.1, by omega, w4.1, hE, w4.2, ⟨Int.le_refl _, Int.le_refl _⟩, Or.inl ⟨rfl, rfl⟩, fun i i0 i1 => by omega⟩
  have f0 := hf 0 (by decide) (by decide)
  have f1 := hf 1 (by decide) (by decide)
  have f2 := hf 2 (by decide) (by decide)
  have f3 := hf 3 (by decide) (by decide)
  have f4 := hf 4 (by decide) (by decide)
  have f5 := hf 5 (by decide) (by decide)
  have f6 := hf 6 (by decide) (by decide)
  have f7 := hf 7 (by decide) (by decide)
  have f8 := hf 8 (by decide) (by decide)
  refine ⟨⟨⟨sP, hlo, by rw [f0]; exact vP 0, by rw [f1]; exact vP 1, by rw [f2]; exact vP 2, by rw [f3]; exact vP 3⟩, ⟨(ls 0 (by decide) 4 rfl).1, by rw [f4]; exact (ls 0 (by decide) 4 rfl).2, (show lo ≤ P + 1 + 0 by omega), Or.inr rfl⟩, ⟨(ls 1 (by decide) 5 rfl).1, by rw [f5]; exact (ls 1 (by decide) 5 rfl).2, (show lo ≤ P + 1 + 1 by omega), Or.inr rfl⟩, ⟨(ls 2 (by decide) 6 rfl).1, by rw [f6]; exact (ls 2 (by decide) 6 rfl).2, (show lo ≤ P + 1 + 2 by omega), Or.inr rfl⟩, ⟨(ls 3 (by decide) 7 rfl).1, by rw [f7]; exact (ls 3 (by decide) 7 rfl).2, (show lo ≤ P + 1 + 3 by omega), Or.inr rfl⟩, ⟨(ls 4 (by decide) 8 rfl).1, by rw [f8]; exact (ls 4 (by decide) 8 rfl).2, (show lo ≤ P + 1 + 4 by omega), Or.inr rfl⟩, fun i i0 i1 => by omega, fun i i0 i1 => by omega, fun i i0 i1 => by omega, fun i i0 i1 => by omega, fun i i0 i1 => by omega⟩, fun k k0 k1 => by rw [hf k k0 k1]; decide, fun i i0 i1 => by omega, fun i i0 i1 => by omega, fun i i0 i1 => by omega, hk, hge⟩
end
