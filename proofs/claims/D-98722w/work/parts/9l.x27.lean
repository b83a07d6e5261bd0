/-! THE COMPONENT: what a post is made of; a post grows. Written by mod/m9l.py -/
set_option maxRecDepth 100000
section
variable {G : JG} {m X ρ o : Nat} {σ σ' γ : JH} {T : XT} {c d : Int}
theorem xi_island {x y : Nat} {Q : JH → Prop} (hs : sh_ σ o = some (.inl 9)) (ha : (gH_ G).size ≤ o)
    (hQ : Q (pr_ (pr_ σ o 0 (some x)) o 1 (some y))) : CallV_ G 2 yX7_init cX7_init 3 none [A_ (some o), A_ (some x), A_ (some y)] σ Q := by
  refine call_go [some (A_ (some o)), some (A_ (some x)), some (A_ (some y))] (by decide) (Nat.le_of_ble_eq_true rfl) rfl ?_
  refine g_al0 dX7_init_0 ?_
  refine g_objInit q811 q_oi1 q_oi2 (rm_1 (by decide)) (Nat.le_of_ble_eq_true rfl) dX7_init_1 ?_
  refine g_al0 dX7_init_4 ?_
  refine g_al1 dX7_init_5 ?_
  refine f_putAF 0 fk_X7_7 rfl (fin_ rfl ⟨rfl, rfl⟩) rfl hs ha (Or.inl ⟨_, rfl⟩) dX7_init_6 ?_
  refine g_al0 dX7_init_9 ?_
  refine g_al2 dX7_init_10 ?_
  refine f_putAF 1 fk_X7_13 rfl (fin_ rfl ⟨rfl, rfl⟩) rfl hs ha (Or.inr ⟨_, rfl⟩) dX7_init_11 ?_
  exact g_vret rfl dX7_init_14 ⟨rfl, hQ⟩
theorem xi_way  {x y : Int} {Q : JH → Prop} (hs : sh_ σ o = some (.inl 10)) (ha : (gH_ G).size ≤ o)
    (hQ : Q (pi_ (pi_ σ o 0 x) o 1 y)) : CallV_ G 2 yX8_init cX8_init 3 none [A_ (some o), I_ x, I_ y] σ Q := by
  refine call_go [some (A_ (some o)), some (I_ x), some (I_ y)] (by decide) (Nat.le_of_ble_eq_true rfl) rfl ?_
  refine g_al0 dX8_init_0 ?_
  refine g_objInit q902 q_oi1 q_oi2 (rm_1 (by decide)) (Nat.le_of_ble_eq_true rfl) dX8_init_1 ?_
  refine g_al0 dX8_init_4 ?_
  refine g_il1 dX8_init_5 ?_
  refine f_putIF 0 fk_X8_9 rfl (fin_ rfl ⟨rfl, rfl⟩) rfl hs ha rfl dX8_init_6 ?_
  refine g_al0 dX8_init_9 ?_
  refine g_il2 dX8_init_10 ?_
  refine f_putIF 1 fk_X8_15 rfl (fin_ rfl ⟨rfl, rfl⟩) rfl hs ha rfl dX8_init_11 ?_
  exact g_vret rfl dX8_init_14 ⟨rfl, hQ⟩
theorem xi_box {x : Nat} {Q : JH → Prop} (hs : sh_ σ o = some (.inl 15)) (ha : (gH_ G).size ≤ o)
    (hQ : Q (pr_ σ o 0 (some x))) : CallV_ G 2 yX13_init cX13_init 2 none [A_ (some o), A_ (some x)] σ Q := by
  refine call_go [some (A_ (some o)), some (A_ (some x))] (by decide) (Nat.le_of_ble_eq_true rfl) rfl ?_
  refine g_al0 dX13_init_0 ?_
  refine g_objInit q1007 q_oi1 q_oi2 (rm_1 (by decide)) (Nat.le_of_ble_eq_true rfl) dX13_init_1 ?_
  refine g_al0 dX13_init_4 ?_
  refine g_al1 dX13_init_5 ?_
  refine f_putAF 0 fk_X13_7 rfl (fin_ rfl ⟨rfl, rfl⟩) rfl hs ha (Or.inl ⟨_, rfl⟩) dX13_init_6 ?_
  exact g_vret rfl dX13_init_9 ⟨rfl, hQ⟩
theorem xi_spout  {x y z : Int} {Q : JH → Prop} (hs : sh_ σ o = some (.inl 16)) (ha : (gH_ G).size ≤ o)
    (hQ : Q (pi_ (pi_ (pi_ σ o 0 x) o 1 y) o 2 z)) : CallV_ G 2 yX14_init cX14_init 4 none [A_ (some o), I_ x, I_ y, I_ z] σ Q := by
  refine call_go [some (A_ (some o)), some (I_ x), some (I_ y), some (I_ z)] (by decide) (Nat.le_of_ble_eq_true rfl) rfl ?_
  refine g_al0 dX14_init_0 ?_
  refine g_objInit q1049 q_oi1 q_oi2 (rm_1 (by decide)) (Nat.le_of_ble_eq_true rfl) dX14_init_1 ?_
  refine g_al0 dX14_init_4 ?_
  refine g_il1 dX14_init_5 ?_
  refine f_putIF 0 fk_X14_7 rfl (fin_ rfl ⟨rfl, rfl⟩) rfl hs ha rfl dX14_init_6 ?_
  refine g_al0 dX14_init_9 ?_
  refine g_il2 dX14_init_10 ?_
  refine f_putIF 1 fk_X14_13 rfl (fin_ rfl ⟨rfl, rfl⟩) rfl hs ha rfl dX14_init_11 ?_
  refine g_al0 dX14_init_14 ?_
  refine g_il3 dX14_init_15 ?_
  refine f_putIF 2 fk_X14_16 rfl (fin_ rfl ⟨rfl, rfl⟩) rfl hs ha rfl dX14_init_16 ?_
  exact g_vret rfl dX14_init_19 ⟨rfl, hQ⟩
theorem xi_whale0 {x : Nat} {Q : JH → Prop} (hs : sh_ σ o = some (.inl 11)) (ha : (gH_ G).size ≤ o)
    (hQ : Q (pr_ σ o 0 (some x))) : CallV_ G 2 yX9_init cX9_init 2 none [A_ (some o), A_ (some x)] σ Q := by
  refine call_go [some (A_ (some o)), some (A_ (some x))] (by decide) (Nat.le_of_ble_eq_true rfl) rfl ?_
  refine g_al0 dX9_init_0 ?_
  refine g_objInit q942 q_oi1 q_oi2 (rm_1 (by decide)) (Nat.le_of_ble_eq_true rfl) dX9_init_1 ?_
  refine g_al0 dX9_init_4 ?_
  refine g_al1 dX9_init_5 ?_
  refine f_putAF 0 (fk_X9_9 0 (by decide)) rfl (fin_ rfl ⟨rfl, rfl⟩) rfl hs ha (Or.inl ⟨_, rfl⟩) dX9_init_6 ?_
  exact g_vret rfl dX9_init_9 ⟨rfl, hQ⟩
theorem xi_whale1 {x : Nat} {Q : JH → Prop} (hs : sh_ σ o = some (.inl 12)) (ha : (gH_ G).size ≤ o)
    (hQ : Q (pr_ σ o 0 (some x))) : CallV_ G 2 yX9_init cX9_init 2 none [A_ (some o), A_ (some x)] σ Q := by
  refine call_go [some (A_ (some o)), some (A_ (some x))] (by decide) (Nat.le_of_ble_eq_true rfl) rfl ?_
  refine g_al0 dX9_init_0 ?_
  refine g_objInit q942 q_oi1 q_oi2 (rm_1 (by decide)) (Nat.le_of_ble_eq_true rfl) dX9_init_1 ?_
  refine g_al0 dX9_init_4 ?_
  refine g_al1 dX9_init_5 ?_
  refine f_putAF 0 (fk_X9_9 1 (by decide)) rfl (fin_ rfl ⟨rfl, rfl⟩) rfl hs ha (Or.inl ⟨_, rfl⟩) dX9_init_6 ?_
  exact g_vret rfl dX9_init_9 ⟨rfl, hQ⟩
theorem xi_whale2 {x : Nat} {Q : JH → Prop} (hs : sh_ σ o = some (.inl 13)) (ha : (gH_ G).size ≤ o)
    (hQ : Q (pr_ σ o 0 (some x))) : CallV_ G 2 yX9_init cX9_init 2 none [A_ (some o), A_ (some x)] σ Q := by
  refine call_go [some (A_ (some o)), some (A_ (some x))] (by decide) (Nat.le_of_ble_eq_true rfl) rfl ?_
  refine g_al0 dX9_init_0 ?_
  refine g_objInit q942 q_oi1 q_oi2 (rm_1 (by decide)) (Nat.le_of_ble_eq_true rfl) dX9_init_1 ?_
  refine g_al0 dX9_init_4 ?_
  refine g_al1 dX9_init_5 ?_
  refine f_putAF 0 (fk_X9_9 2 (by decide)) rfl (fin_ rfl ⟨rfl, rfl⟩) rfl hs ha (Or.inl ⟨_, rfl⟩) dX9_init_6 ?_
  exact g_vret rfl dX9_init_9 ⟨rfl, hQ⟩
theorem xi_whale3 {x : Nat} {Q : JH → Prop} (hs : sh_ σ o = some (.inl 14)) (ha : (gH_ G).size ≤ o)
    (hQ : Q (pr_ σ o 0 (some x))) : CallV_ G 2 yX9_init cX9_init 2 none [A_ (some o), A_ (some x)] σ Q := by
  refine call_go [some (A_ (some o)), some (A_ (some x))] (by decide) (Nat.le_of_ble_eq_true rfl) rfl ?_
  refine g_al0 dX9_init_0 ?_
  refine g_objInit q942 q_oi1 q_oi2 (rm_1 (by decide)) (Nat.le_of_ble_eq_true rfl) dX9_init_1 ?_
  refine g_al0 dX9_init_4 ?_
  refine g_al1 dX9_init_5 ?_
  refine f_putAF 0 (fk_X9_9 3 (by decide)) rfl (fin_ rfl ⟨rfl, rfl⟩) rfl hs ha (Or.inl ⟨_, rfl⟩) dX9_init_6 ?_
  exact g_vret rfl dX9_init_9 ⟨rfl, hQ⟩
theorem xi_calf {x : Nat} {Q : JH → Prop} (hs : sh_ σ o = some (.inl 11)) (ha : (gH_ G).size ≤ o)
    (hQ : Q (pr_ σ o 0 (some x))) : CallV_ G 3 yX10_init cX10_init 2 none [A_ (some o), A_ (some x)] σ Q := by
  refine call_go [some (A_ (some o)), some (A_ (some x))] (by decide) (Nat.le_of_ble_eq_true rfl) rfl ?_
  refine g_al0 dX10_init_0 ?_
  refine g_al1 dX10_init_1 ?_
  refine g_callI1 (d' := 2) lk_X10_1 (rm_lt (by decide) (by decide)) (Nat.le_of_ble_eq_true rfl) dX10_init_2 ?_
  refine xi_whale0 hs ha ?_
  exact g_vret rfl dX10_init_5 ⟨rfl, hQ⟩
theorem xi_bull {x : Nat} {Q : JH → Prop} (hs : sh_ σ o = some (.inl 13)) (ha : (gH_ G).size ≤ o)
    (hQ : Q (pr_ σ o 0 (some x))) : CallV_ G 3 yX11_init cX11_init 2 none [A_ (some o), A_ (some x)] σ Q := by
  refine call_go [some (A_ (some o)), some (A_ (some x))] (by decide) (Nat.le_of_ble_eq_true rfl) rfl ?_
  refine g_al0 dX11_init_0 ?_
  refine g_al1 dX11_init_1 ?_
  refine g_callI1 (d' := 2) lk_X11_1 (rm_lt (by decide) (by decide)) (Nat.le_of_ble_eq_true rfl) dX11_init_2 ?_
  refine xi_whale2 hs ha ?_
  exact g_vret rfl dX11_init_5 ⟨rfl, hQ⟩
theorem xi_old {x : Nat} {Q : JH → Prop} (hs : sh_ σ o = some (.inl 14)) (ha : (gH_ G).size ≤ o)
    (hQ : Q (pr_ σ o 0 (some x))) : CallV_ G 3 yX12_init cX12_init 2 none [A_ (some o), A_ (some x)] σ Q := by
  refine call_go [some (A_ (some o)), some (A_ (some x))] (by decide) (Nat.le_of_ble_eq_true rfl) rfl ?_
  refine g_al0 dX12_init_0 ?_
  refine g_al1 dX12_init_1 ?_
  refine g_callI1 (d' := 2) lk_X12_1 (rm_lt (by decide) (by decide)) (Nat.le_of_ble_eq_true rfl) dX12_init_2 ?_
  refine xi_whale3 hs ha ?_
  exact g_vret rfl dX12_init_5 ⟨rfl, hQ⟩
/-- the lists of a post are not one -/
def TD_ (G : JG) (T : XT) : Prop := ∀ i j : Nat, i < 5 → j < 5 → i ≠ j → xA_ T i ≠ xA_ T j ∧ ((gH_ G).size ≤ xE_ T i → xE_ T i ≠ xE_ T j)
/-- one of the lists another -/
def xU_ (T : XT) (ln e cap : Nat) (g : Int → Nat) (S : Int → Nat) : XT := (T.1, T.2.1, T.2.2.1, (fun q => if q = ln then e else xE_ T q), (fun q => if q = ln then cap else xC_ T q), (fun q => if q = ln then g else xg_ T q), S)
def up_ (f : Int → Int) (c : Int) : Int → Int := fun j => if j = c then f c + 1 else f j
theorem up_eq (f : Int → Int) (c : Int) : up_ f c c = f c + 1 := if_pos rfl
theorem up_ne {f : Int → Int} {c j : Int} (h : j ≠ c) : up_ f c j = f j := if_neg h
theorem ca9 : CA_ 9 := fun r h => by cases h; decide
theorem ca10 : CA_ 10 := fun r h => by cases h; decide
theorem ca15 : CA_ 15 := fun r h => by cases h; decide
theorem ca16 : CA_ 16 := fun r h => by cases h; decide
theorem ca11 {κ : Nat} (hκ : κ < 4) : CA_ (11 + κ) := by
  match κ, hκ with
  | 0, _ => exact fun r h => by cases h; decide
  | 1, _ => exact fun r h => by cases h; decide
  | 2, _ => exact fun r h => by cases h; decide
  | 3, _ => exact fun r h => by cases h; decide
variable {f : Int → Int} {lo ln e' cap' : Nat} {dc du : Nat} {gl : Int → Nat}
theorem TD_.upd {S : Int → Nat} (h : TD_ G T) (hP : PQ_ G σ lo T f) (hl : ln < 5) (he : e' = xE_ T ln ∨ e' = sz_ σ) (hlt : ∀ a s, sh_ σ a = some s → a < sz_ σ) : TD_ G (xU_ T ln e' cap' gl S) := by
  intro i j hi hj hij
  refine ⟨(h i j hi hj hij).1, ?_⟩
  show (gH_ G).size ≤ (if i = ln then e' else xE_ T i) → (if i = ln then e' else xE_ T i) ≠ (if j = ln then e' else xE_ T j)
  have lE : ∀ q, q < 5 → xE_ T q < sz_ σ := fun q hq => by
    obtain ⟨n, w, -, -⟩ := hP.ls hq
    exact hlt _ _ w.2.2.2.1
  have li := lE i hi
  have lj := lE j hj
  by_cases c1 : i = ln
  · rw [if_pos c1, if_neg (by omega)]
    intro hg
    rcases he with q | q
    · rw [q] at hg ⊢; rw [← c1] at hg ⊢; exact (h i j hi hj hij).2 hg
    · omega
  · rw [if_neg c1]
    by_cases c2 : j = ln
    · rw [if_pos c2]
      intro hg
      rcases he with q | q
      · rw [q, ← c2]; exact (h i j hi hj hij).2 hg
      · omega
    · rw [if_neg c2]; exact (h i j hi hj hij).2
/-- what stays when a list grows -/
theorem PP_.grw (h : PP_ G σ lo T f) (hTD : TD_ G T) (hl : ln < 5) (hw : Gw_ (fun b _ => b = xA_ T ln ∨ (b = xE_ T ln ∧ (gH_ G).size ≤ xE_ T ln)) dc du σ σ') (hlt : ∀ a s, sh_ σ a = some s → a < sz_ σ) :
    (∀ b s, sh_ σ b = some s → (∀ q, s ≠ .inr (3, q)) → s ≠ .inl 2 → sh_ σ' b = some s ∧ ∀ k, rv_ σ' b k = rv_ σ b k ∧ iv_ σ' b k = iv_ σ b k) ∧
    (∀ {j : Nat} {n : Int} {g : Int → Nat}, j < 5 → j ≠ ln → Ls_ G σ (xA_ T j) (xE_ T j) (xC_ T j) n g → Ls_ G σ' (xA_ T j) (xE_ T j) (xC_ T j) n g) := by
  obtain ⟨n0, w0, l0, -⟩ := h.1.ls hl
  have shA := w0.1
  have shE := w0.2.2.2.1
  refine ⟨fun b s hs h3 h2 => ⟨(hw.1 b (hlt _ _ hs)).trans hs, fun k => hw.2.1 b k (hlt _ _ hs) (fun q => ?_)⟩, fun {j n g} hj hne hL => hL.gw hw hlt (fun k q => ?_) (fun k q => ?_)⟩
  · rcases q with q | q
    · rw [q, shA] at hs; exact h2 (Option.some.inj hs).symm
    · rw [q.1, shE] at hs; exact h3 _ (Option.some.inj hs).symm
  · rcases q with q | q
    · exact (hTD j ln hj hl hne).1 q
    · have := hL.1
      rw [q.1, shE] at this
      cases this
  · rcases q with q | q
    · have := hL.2.2.2.1
      rw [q, shA] at this
      cases this
    · exact (hTD ln j hl hj (Ne.symm hne)).2 q.2 q.1.symm
theorem NM_.ob {z : Int} {w : Int → Int} {oo : Nat} (h : NM_ σ lo oo z w) (ob : ∀ b s, sh_ σ b = some s → (∀ q, s ≠ .inr (3, q)) → s ≠ .inl 2 → sh_ σ' b = some s ∧ ∀ k, rv_ σ' b k = rv_ σ b k ∧ iv_ σ' b k = iv_ σ b k) {ci : Nat} (hs : sh_ σ oo = some (.inl ci)) (hc : ci ≠ 2) : NM_ σ' lo oo z w := by
  obtain ⟨wd, wv, n, a1, ⟨s1, s2, s3, s4, s5, s6⟩, a3, a4, a5⟩ := h
  have e0 := (ob _ _ hs (fun q w => by cases w) (fun w => hc (Sum.inl.inj w))).2 0
  have e1 := ob _ _ s1 (fun q w => by cases w) (fun w => by cases w)
  have e2 := ob _ _ s3 (fun q w => by cases w) (fun w => by cases w)
  exact ⟨wd, wv, n, e0.1.trans a1, ⟨e1.1, (e1.2 0).1.trans s2, e2.1, (e1.2 1).2.trans s4, s5, fun k k0 k1 => by rw [(e2.2 k).2]; exact s6 k k0 k1⟩, a3, a4, a5⟩
theorem PP_.addI {A : Nat} (ho : sh_ σ o = some (.inl 9) ∧ lo ≤ o ∧ rv_ σ o 1 = some A ∧ sh_ σ A = some (.inr (0, (f (10 + 7 * f 4)).toNat)) ∧ lo ≤ A ∧ ∀ k, 0 ≤ k → k < f (10 + 7 * f 4) → iv_ σ A k = f (11 + 7 * f 4 + k)) (hnm : NM_ σ lo o (f (183 + f 4)) (fun k => f (203 + 8 * f 4 + k))) (h : PP_ G σ lo T f) (hTD : TD_ G T) (hc0 : 0 ≤ f 4 ∧ 0 ≤ f 5 ∧ 0 ≤ f 6 ∧ 0 ≤ f 7 ∧ 0 ≤ f 8) (hfc : f 4 < 9999) (hlo : lo ≤ sz_ σ)
    (hL : Ls_ G σ' (xA_ T 0) e' cap' (f 4 + 1) (fun i => if i = f 4 then o else xg_ T 0 i)) (he : e' = xE_ T 0 ∨ e' = sz_ σ) (hw : Gw_ (fun b _ => b = xA_ T 0 ∨ (b = xE_ T 0 ∧ (gH_ G).size ≤ xE_ T 0)) dc du σ σ') (hlt : ∀ a s, sh_ σ a = some s → a < sz_ σ) : PP_ G σ' lo (xU_ T 0 e' cap' (fun i => if i = f 4 then o else xg_ T 0 i) (fun i => if i = f 4 then A else xS_ T i)) (up_ f 4) ∧ TD_ G (xU_ T 0 e' cap' (fun i => if i = f 4 then o else xg_ T 0 i) (fun i => if i = f 4 then A else xS_ T i)) := by
  refine ⟨?_, hTD.upd h.1 (by decide) he hlt⟩
  obtain ⟨ob, lst⟩ := h.grw hTD (ln := 0) (by decide) hw hlt
  obtain ⟨⟨⟨q1, q2, q3, q4, q5, q6⟩, ⟨u0, v0, w0⟩, ⟨u1, v1, w1⟩, ⟨u2, v2, w2⟩, ⟨u3, v3, w3⟩, ⟨u4, v4, w4⟩, qi, qw, qh, qb, qs⟩, hF, ni, nw, nb, hk, hgl⟩ := h
  have xP := ob _ _ q1 (fun q w => by cases w) (fun w => by cases w)
  have u0' := (xP.2 4).1.trans u0
  have u1' := (xP.2 5).1.trans u1
  have u2' := (xP.2 6).1.trans u2
  have u3' := (xP.2 7).1.trans u3
  have u4' := (xP.2 8).1.trans u4
  have hee : lo ≤ e' ∨ e' = gK_ G 100 := by
    rcases he with q | q
    · rw [q]; exact w0.2
    · left; omega
  refine ⟨⟨⟨xP.1, q2, by rw [up_ne (by decide)]; exact (xP.2 0).2.trans q3, by rw [up_ne (by decide)]; exact (xP.2 1).2.trans q4, by rw [up_ne (by decide)]; exact (xP.2 2).2.trans q5, by rw [up_ne (by decide)]; exact (xP.2 3).2.trans q6⟩, ⟨u0', by rw [show up_ f 4 4 = f 4 + 1 from if_pos rfl]; exact hL, w0.1, hee⟩, ⟨u1', by rw [show up_ f 4 5 = f 5 from if_neg (by decide)]; exact lst (j := 1) (by decide) (by decide) v1, w1.1, w1.2⟩, ⟨u2', by rw [show up_ f 4 6 = f 6 from if_neg (by decide)]; exact lst (j := 2) (by decide) (by decide) v2, w2.1, w2.2⟩, ⟨u3', by rw [show up_ f 4 7 = f 7 from if_neg (by decide)]; exact lst (j := 3) (by decide) (by decide) v3, w3.1, w3.2⟩, ⟨u4', by rw [show up_ f 4 8 = f 8 from if_neg (by decide)]; exact lst (j := 4) (by decide) (by decide) v4, w4.1, w4.2⟩, fun i i0 i1 => ?_, fun k k0 k1 => ?_, fun w w0 w1 => ?_, fun b b0 b1 => ?_, fun k k0 k1 => ?_⟩, fun k k0 k1 => ?_, fun i i0 i1 => ?_, fun w w0 w1 => ?_, fun b b0 b1 => ?_, hk, hgl⟩
  · have i1' : i < f 4 + 1 := by rw [show up_ f 4 4 = f 4 + 1 from if_pos rfl] at i1; exact i1
    by_cases hq : i = f 4
    · subst hq
      obtain ⟨a1, a2, a3, a4, a5, a6⟩ := ho
      have x1 := ob _ _ a1 (fun q w => by cases w) (fun w => by cases w)
      have x2 := ob _ _ a4 (fun q w => by cases w) (fun w => by cases w)
      show sh_ σ' (if f 4 = f 4 then o else xg_ T 0 (f 4)) = _ ∧ lo ≤ (if f 4 = f 4 then o else xg_ T 0 (f 4)) ∧ rv_ σ' (if f 4 = f 4 then o else xg_ T 0 (f 4)) 1 = some (if f 4 = f 4 then A else xS_ T (f 4)) ∧ sh_ σ' (if f 4 = f 4 then A else xS_ T (f 4)) = _ ∧ lo ≤ (if f 4 = f 4 then A else xS_ T (f 4)) ∧ _
      rw [if_pos rfl, if_pos rfl]
      refine ⟨x1.1, a2, (x1.2 1).1.trans a3, ?_, a5, fun k k0 k1 => ?_⟩
      · rw [up_ne (show _ ≠ (4 : Int) by omega)]; exact x2.1
      · rw [up_ne (show _ ≠ (4 : Int) by omega)] at k1
        show iv_ σ' (if f 4 = f 4 then A else xS_ T (f 4)) k = _
        rw [if_pos rfl, up_ne (show _ ≠ (4 : Int) by omega)]; exact ((x2.2 k).2).trans (a6 k k0 k1)
    · show sh_ σ' (if i = f 4 then o else xg_ T 0 i) = _ ∧ lo ≤ (if i = f 4 then o else xg_ T 0 i) ∧ rv_ σ' (if i = f 4 then o else xg_ T 0 i) 1 = some (if i = f 4 then A else xS_ T i) ∧ sh_ σ' (if i = f 4 then A else xS_ T i) = _ ∧ lo ≤ (if i = f 4 then A else xS_ T i) ∧ ∀ k, 0 ≤ k → k < up_ f 4 (10 + 7 * i) → iv_ σ' (if i = f 4 then A else xS_ T i) k = up_ f 4 (11 + 7 * i + k)
      rw [if_neg hq, if_neg hq]
      obtain ⟨a1, a2, a3, a4, a5, a6⟩ := qi i i0 (by omega)
      have x1 := ob _ _ a1 (fun q w => by cases w) (fun w => by cases w)
      have x2 := ob _ _ a4 (fun q w => by cases w) (fun w => by cases w)
      refine ⟨x1.1, a2, (x1.2 1).1.trans a3, ?_, a5, fun k k0 k1 => ?_⟩
      · rw [up_ne (show _ ≠ (4 : Int) by omega)]; exact x2.1
      · rw [up_ne (show _ ≠ (4 : Int) by omega)] at k1
        rw [up_ne (show _ ≠ (4 : Int) by omega)]; exact ((x2.2 k).2).trans (a6 k k0 k1)
  · have k1' : k < f 5 := by rw [show up_ f 4 5 = f 5 from if_neg (by decide)] at k1; exact k1
    obtain ⟨a1, a2, a3, a4, a5, a6⟩ := qw k k0 k1'
    have x1 := ob _ _ a1 (fun q w => by cases w) (fun w => by cases w)
    rw [up_ne (show _ ≠ (4 : Int) by omega), up_ne (show _ ≠ (4 : Int) by omega), up_ne (show _ ≠ (4 : Int) by omega), up_ne (show _ ≠ (4 : Int) by omega)]
    exact ⟨x1.1, a2, (x1.2 0).2.trans a3, (x1.2 1).2.trans a4, (x1.2 2).2.trans a5, (x1.2 3).2.trans a6⟩
  · have w1' : w < f 6 := by rw [show up_ f 4 6 = f 6 from if_neg (by decide)] at w1; exact w1
    obtain ⟨⟨κ', c1, c2, a1⟩, a2, a3, a4, a5⟩ := qh w w0 w1'
    have x1 := ob _ _ a1 (fun q w => by cases w) (fun w => by have := Sum.inl.inj w; omega)
    rw [up_ne (show _ ≠ (4 : Int) by omega), up_ne (show _ ≠ (4 : Int) by omega), up_ne (show _ ≠ (4 : Int) by omega), up_ne (show _ ≠ (4 : Int) by omega)]
    exact ⟨⟨κ', c1, c2, x1.1⟩, a2, (x1.2 1).2.trans a3, (x1.2 2).2.trans a4, (x1.2 3).2.trans a5⟩
  · have b1' : b < f 7 := by rw [show up_ f 4 7 = f 7 from if_neg (by decide)] at b1; exact b1
    obtain ⟨a1, a2, a3, a4, a5, a6⟩ := qb b b0 b1'
    have x1 := ob _ _ a1 (fun q w => by cases w) (fun w => by cases w)
    rw [up_ne (show _ ≠ (4 : Int) by omega), up_ne (show _ ≠ (4 : Int) by omega), up_ne (show _ ≠ (4 : Int) by omega), up_ne (show _ ≠ (4 : Int) by omega)]
    exact ⟨x1.1, a2, (x1.2 1).2.trans a3, (x1.2 2).2.trans a4, (x1.2 3).2.trans a5, (x1.2 4).2.trans a6⟩
  · have k1' : k < f 8 := by rw [show up_ f 4 8 = f 8 from if_neg (by decide)] at k1; exact k1
    obtain ⟨a1, a2, a3, a4, a5⟩ := qs k k0 k1'
    have x1 := ob _ _ a1 (fun q w => by cases w) (fun w => by cases w)
    rw [up_ne (show _ ≠ (4 : Int) by omega), up_ne (show _ ≠ (4 : Int) by omega), up_ne (show _ ≠ (4 : Int) by omega)]
    exact ⟨x1.1, a2, (x1.2 0).2.trans a3, (x1.2 1).2.trans a4, (x1.2 2).2.trans a5⟩
  · unfold up_
    have := hF k k0 k1
    have := hF 4 (by decide) (by decide)
    split <;> omega
  · have i1' : i < f 4 + 1 := by rw [show up_ f 4 4 = f 4 + 1 from if_pos rfl] at i1; exact i1
    by_cases hq : i = f 4
    · subst hq
      show NM_ σ' lo (if f 4 = f 4 then o else xg_ T 0 (f 4)) _ _
      rw [if_pos rfl]
      exact (hnm.ob ob ho.1 (by decide)).cg (up_ne (show _ ≠ (4 : Int) by omega)) (fun k k0 k1 => up_ne (show _ ≠ (4 : Int) by omega))
    · show NM_ σ' lo (if i = f 4 then o else xg_ T 0 i) _ _
      rw [if_neg hq]
      exact ((ni i i0 (by omega)).ob ob (qi i i0 (by omega)).1 (by decide)).cg (up_ne (show _ ≠ (4 : Int) by omega)) (fun k k0 k1 => up_ne (show _ ≠ (4 : Int) by omega))
  · have w1' : w < f 6 := by rw [show up_ f 4 6 = f 6 from if_neg (by decide)] at w1; exact w1
    obtain ⟨⟨κ', c1, c2, a1⟩, -⟩ := qh w w0 w1'
    exact ((nw w w0 w1').ob ob a1 (by omega)).cg (up_ne (show _ ≠ (4 : Int) by omega)) (fun k k0 k1 => up_ne (show _ ≠ (4 : Int) by omega))
  · have b1' : b < f 7 := by rw [show up_ f 4 7 = f 7 from if_neg (by decide)] at b1; exact b1
    exact ((nb b b0 b1').ob ob (qb b b0 b1').1 (by decide)).cg (up_ne (show _ ≠ (4 : Int) by omega)) (fun k k0 k1 => up_ne (show _ ≠ (4 : Int) by omega))
theorem PP_.addW (ho : sh_ σ o = some (.inl 10) ∧ lo ≤ o ∧ iv_ σ o 0 = f (59 + 4 * f 5) ∧ iv_ σ o 1 = f (60 + 4 * f 5) ∧ iv_ σ o 2 = f (61 + 4 * f 5) ∧ iv_ σ o 3 = f (62 + 4 * f 5)) (h : PP_ G σ lo T f) (hTD : TD_ G T) (hc0 : 0 ≤ f 4 ∧ 0 ≤ f 5 ∧ 0 ≤ f 6 ∧ 0 ≤ f 7 ∧ 0 ≤ f 8) (hfc : f 5 < 9999) (hlo : lo ≤ sz_ σ)
    (hL : Ls_ G σ' (xA_ T 1) e' cap' (f 5 + 1) (fun i => if i = f 5 then o else xg_ T 1 i)) (he : e' = xE_ T 1 ∨ e' = sz_ σ) (hw : Gw_ (fun b _ => b = xA_ T 1 ∨ (b = xE_ T 1 ∧ (gH_ G).size ≤ xE_ T 1)) dc du σ σ') (hlt : ∀ a s, sh_ σ a = some s → a < sz_ σ) : PP_ G σ' lo (xU_ T 1 e' cap' (fun i => if i = f 5 then o else xg_ T 1 i) (xS_ T)) (up_ f 5) ∧ TD_ G (xU_ T 1 e' cap' (fun i => if i = f 5 then o else xg_ T 1 i) (xS_ T)) := by
  refine ⟨?_, hTD.upd h.1 (by decide) he hlt⟩
  obtain ⟨ob, lst⟩ := h.grw hTD (ln := 1) (by decide) hw hlt
  obtain ⟨⟨⟨q1, q2, q3, q4, q5, q6⟩, ⟨u0, v0, w0⟩, ⟨u1, v1, w1⟩, ⟨u2, v2, w2⟩, ⟨u3, v3, w3⟩, ⟨u4, v4, w4⟩, qi, qw, qh, qb, qs⟩, hF, ni, nw, nb, hk, hgl⟩ := h
  have xP := ob _ _ q1 (fun q w => by cases w) (fun w => by cases w)
  have u0' := (xP.2 4).1.trans u0
  have u1' := (xP.2 5).1.trans u1
  have u2' := (xP.2 6).1.trans u2
  have u3' := (xP.2 7).1.trans u3
  have u4' := (xP.2 8).1.trans u4
  have hee : lo ≤ e' ∨ e' = gK_ G 100 := by
    rcases he with q | q
    · rw [q]; exact w1.2
    · left; omega
  refine ⟨⟨⟨xP.1, q2, by rw [up_ne (by decide)]; exact (xP.2 0).2.trans q3, by rw [up_ne (by decide)]; exact (xP.2 1).2.trans q4, by rw [up_ne (by decide)]; exact (xP.2 2).2.trans q5, by rw [up_ne (by decide)]; exact (xP.2 3).2.trans q6⟩, ⟨u0', by rw [show up_ f 5 4 = f 4 from if_neg (by decide)]; exact lst (j := 0) (by decide) (by decide) v0, w0.1, w0.2⟩, ⟨u1', by rw [show up_ f 5 5 = f 5 + 1 from if_pos rfl]; exact hL, w1.1, hee⟩, ⟨u2', by rw [show up_ f 5 6 = f 6 from if_neg (by decide)]; exact lst (j := 2) (by decide) (by decide) v2, w2.1, w2.2⟩, ⟨u3', by rw [show up_ f 5 7 = f 7 from if_neg (by decide)]; exact lst (j := 3) (by decide) (by decide) v3, w3.1, w3.2⟩, ⟨u4', by rw [show up_ f 5 8 = f 8 from if_neg (by decide)]; exact lst (j := 4) (by decide) (by decide) v4, w4.1, w4.2⟩, fun i i0 i1 => ?_, fun k k0 k1 => ?_, fun w w0 w1 => ?_, fun b b0 b1 => ?_, fun k k0 k1 => ?_⟩, fun k k0 k1 => ?_, fun i i0 i1 => ?_, fun w w0 w1 => ?_, fun b b0 b1 => ?_, hk, hgl⟩
  · have i1' : i < f 4 := by rw [show up_ f 5 4 = f 4 from if_neg (by decide)] at i1; exact i1
    obtain ⟨a1, a2, a3, a4, a5, a6⟩ := qi i i0 i1'
    have x1 := ob _ _ a1 (fun q w => by cases w) (fun w => by cases w)
    have x2 := ob _ _ a4 (fun q w => by cases w) (fun w => by cases w)
    refine ⟨x1.1, a2, (x1.2 1).1.trans a3, ?_, a5, fun k k0 k1 => ?_⟩
    · rw [up_ne (show _ ≠ (5 : Int) by omega)]; exact x2.1
    · rw [up_ne (show _ ≠ (5 : Int) by omega)] at k1
      rw [up_ne (show _ ≠ (5 : Int) by omega)]; exact ((x2.2 k).2).trans (a6 k k0 k1)
  · have k1' : k < f 5 + 1 := by rw [show up_ f 5 5 = f 5 + 1 from if_pos rfl] at k1; exact k1
    by_cases hq : k = f 5
    · subst hq
      obtain ⟨a1, a2, a3, a4, a5, a6⟩ := ho
      have x1 := ob _ _ a1 (fun q w => by cases w) (fun w => by cases w)
      show sh_ σ' (if f 5 = f 5 then o else xg_ T 1 (f 5)) = _ ∧ lo ≤ (if f 5 = f 5 then o else xg_ T 1 (f 5)) ∧ iv_ σ' (if f 5 = f 5 then o else xg_ T 1 (f 5)) 0 = _ ∧ iv_ σ' (if f 5 = f 5 then o else xg_ T 1 (f 5)) 1 = _ ∧ iv_ σ' (if f 5 = f 5 then o else xg_ T 1 (f 5)) 2 = _ ∧ iv_ σ' (if f 5 = f 5 then o else xg_ T 1 (f 5)) 3 = _
      rw [if_pos rfl]
      rw [up_ne (show _ ≠ (5 : Int) by omega), up_ne (show _ ≠ (5 : Int) by omega), up_ne (show _ ≠ (5 : Int) by omega), up_ne (show _ ≠ (5 : Int) by omega)]
      exact ⟨x1.1, a2, (x1.2 0).2.trans a3, (x1.2 1).2.trans a4, (x1.2 2).2.trans a5, (x1.2 3).2.trans a6⟩
    · show sh_ σ' (if k = f 5 then o else xg_ T 1 k) = _ ∧ lo ≤ (if k = f 5 then o else xg_ T 1 k) ∧ iv_ σ' (if k = f 5 then o else xg_ T 1 k) 0 = _ ∧ iv_ σ' (if k = f 5 then o else xg_ T 1 k) 1 = _ ∧ iv_ σ' (if k = f 5 then o else xg_ T 1 k) 2 = _ ∧ iv_ σ' (if k = f 5 then o else xg_ T 1 k) 3 = _
      rw [if_neg hq]
      obtain ⟨a1, a2, a3, a4, a5, a6⟩ := qw k k0 (by omega)
      have x1 := ob _ _ a1 (fun q w => by cases w) (fun w => by cases w)
      rw [up_ne (show _ ≠ (5 : Int) by omega), up_ne (show _ ≠ (5 : Int) by omega), up_ne (show _ ≠ (5 : Int) by omega), up_ne (show _ ≠ (5 : Int) by omega)]
      exact ⟨x1.1, a2, (x1.2 0).2.trans a3, (x1.2 1).2.trans a4, (x1.2 2).2.trans a5, (x1.2 3).2.trans a6⟩
  · have w1' : w < f 6 := by rw [show up_ f 5 6 = f 6 from if_neg (by decide)] at w1; exact w1
    obtain ⟨⟨κ', c1, c2, a1⟩, a2, a3, a4, a5⟩ := qh w w0 w1'
    have x1 := ob _ _ a1 (fun q w => by cases w) (fun w => by have := Sum.inl.inj w; omega)
    rw [up_ne (show _ ≠ (5 : Int) by omega), up_ne (show _ ≠ (5 : Int) by omega), up_ne (show _ ≠ (5 : Int) by omega), up_ne (show _ ≠ (5 : Int) by omega)]
    exact ⟨⟨κ', c1, c2, x1.1⟩, a2, (x1.2 1).2.trans a3, (x1.2 2).2.trans a4, (x1.2 3).2.trans a5⟩
  · have b1' : b < f 7 := by rw [show up_ f 5 7 = f 7 from if_neg (by decide)] at b1; exact b1
    obtain ⟨a1, a2, a3, a4, a5, a6⟩ := qb b b0 b1'
    have x1 := ob _ _ a1 (fun q w => by cases w) (fun w => by cases w)
    rw [up_ne (show _ ≠ (5 : Int) by omega), up_ne (show _ ≠ (5 : Int) by omega), up_ne (show _ ≠ (5 : Int) by omega), up_ne (show _ ≠ (5 : Int) by omega)]
    exact ⟨x1.1, a2, (x1.2 1).2.trans a3, (x1.2 2).2.trans a4, (x1.2 3).2.trans a5, (x1.2 4).2.trans a6⟩
  · have k1' : k < f 8 := by rw [show up_ f 5 8 = f 8 from if_neg (by decide)] at k1; exact k1
    obtain ⟨a1, a2, a3, a4, a5⟩ := qs k k0 k1'
    have x1 := ob _ _ a1 (fun q w => by cases w) (fun w => by cases w)
    rw [up_ne (show _ ≠ (5 : Int) by omega), up_ne (show _ ≠ (5 : Int) by omega), up_ne (show _ ≠ (5 : Int) by omega)]
    exact ⟨x1.1, a2, (x1.2 0).2.trans a3, (x1.2 1).2.trans a4, (x1.2 2).2.trans a5⟩
  · unfold up_
    have := hF k k0 k1
    have := hF 5 (by decide) (by decide)
    split <;> omega
  · have i1' : i < f 4 := by rw [show up_ f 5 4 = f 4 from if_neg (by decide)] at i1; exact i1
    exact ((ni i i0 i1').ob ob (qi i i0 i1').1 (by decide)).cg (up_ne (show _ ≠ (5 : Int) by omega)) (fun k k0 k1 => up_ne (show _ ≠ (5 : Int) by omega))
  · have w1' : w < f 6 := by rw [show up_ f 5 6 = f 6 from if_neg (by decide)] at w1; exact w1
    obtain ⟨⟨κ', c1, c2, a1⟩, -⟩ := qh w w0 w1'
    exact ((nw w w0 w1').ob ob a1 (by omega)).cg (up_ne (show _ ≠ (5 : Int) by omega)) (fun k k0 k1 => up_ne (show _ ≠ (5 : Int) by omega))
  · have b1' : b < f 7 := by rw [show up_ f 5 7 = f 7 from if_neg (by decide)] at b1; exact b1
    exact ((nb b b0 b1').ob ob (qb b b0 b1').1 (by decide)).cg (up_ne (show _ ≠ (5 : Int) by omega)) (fun k k0 k1 => up_ne (show _ ≠ (5 : Int) by omega))
theorem PP_.addH {κ : Nat} (hκ : κ < 4) (hkk : f (107 + 4 * f 6) = (κ : Int)) (ho : sh_ σ o = some (.inl (11 + κ)) ∧ lo ≤ o ∧ iv_ σ o 1 = f (108 + 4 * f 6) ∧ iv_ σ o 2 = f (109 + 4 * f 6) ∧ iv_ σ o 3 = f (110 + 4 * f 6)) (hnm : NM_ σ lo o (f (190 + f 6)) (fun k => f (259 + 8 * f 6 + k))) (h : PP_ G σ lo T f) (hTD : TD_ G T) (hc0 : 0 ≤ f 4 ∧ 0 ≤ f 5 ∧ 0 ≤ f 6 ∧ 0 ≤ f 7 ∧ 0 ≤ f 8) (hfc : f 6 < 9999) (hlo : lo ≤ sz_ σ)
    (hL : Ls_ G σ' (xA_ T 2) e' cap' (f 6 + 1) (fun i => if i = f 6 then o else xg_ T 2 i)) (he : e' = xE_ T 2 ∨ e' = sz_ σ) (hw : Gw_ (fun b _ => b = xA_ T 2 ∨ (b = xE_ T 2 ∧ (gH_ G).size ≤ xE_ T 2)) dc du σ σ') (hlt : ∀ a s, sh_ σ a = some s → a < sz_ σ) : PP_ G σ' lo (xU_ T 2 e' cap' (fun i => if i = f 6 then o else xg_ T 2 i) (xS_ T)) (up_ f 6) ∧ TD_ G (xU_ T 2 e' cap' (fun i => if i = f 6 then o else xg_ T 2 i) (xS_ T)) := by
  refine ⟨?_, hTD.upd h.1 (by decide) he hlt⟩
  obtain ⟨ob, lst⟩ := h.grw hTD (ln := 2) (by decide) hw hlt
  obtain ⟨⟨⟨q1, q2, q3, q4, q5, q6⟩, ⟨u0, v0, w0⟩, ⟨u1, v1, w1⟩, ⟨u2, v2, w2⟩, ⟨u3, v3, w3⟩, ⟨u4, v4, w4⟩, qi, qw, qh, qb, qs⟩, hF, ni, nw, nb, hk, hgl⟩ := h
  have xP := ob _ _ q1 (fun q w => by cases w) (fun w => by cases w)
  have u0' := (xP.2 4).1.trans u0
  have u1' := (xP.2 5).1.trans u1
  have u2' := (xP.2 6).1.trans u2
  have u3' := (xP.2 7).1.trans u3
  have u4' := (xP.2 8).1.trans u4
  have hee : lo ≤ e' ∨ e' = gK_ G 100 := by
    rcases he with q | q
    · rw [q]; exact w2.2
    · left; omega
  refine ⟨⟨⟨xP.1, q2, by rw [up_ne (by decide)]; exact (xP.2 0).2.trans q3, by rw [up_ne (by decide)]; exact (xP.2 1).2.trans q4, by rw [up_ne (by decide)]; exact (xP.2 2).2.trans q5, by rw [up_ne (by decide)]; exact (xP.2 3).2.trans q6⟩, ⟨u0', by rw [show up_ f 6 4 = f 4 from if_neg (by decide)]; exact lst (j := 0) (by decide) (by decide) v0, w0.1, w0.2⟩, ⟨u1', by rw [show up_ f 6 5 = f 5 from if_neg (by decide)]; exact lst (j := 1) (by decide) (by decide) v1, w1.1, w1.2⟩, ⟨u2', by rw [show up_ f 6 6 = f 6 + 1 from if_pos rfl]; exact hL, w2.1, hee⟩, ⟨u3', by rw [show up_ f 6 7 = f 7 from if_neg (by decide)]; exact lst (j := 3) (by decide) (by decide) v3, w3.1, w3.2⟩, ⟨u4', by rw [show up_ f 6 8 = f 8 from if_neg (by decide)]; exact lst (j := 4) (by decide) (by decide) v4, w4.1, w4.2⟩, fun i i0 i1 => ?_, fun k k0 k1 => ?_, fun w w0 w1 => ?_, fun b b0 b1 => ?_, fun k k0 k1 => ?_⟩, fun k k0 k1 => ?_, fun i i0 i1 => ?_, fun w w0 w1 => ?_, fun b b0 b1 => ?_, hk, hgl⟩
  · have i1' : i < f 4 := by rw [show up_ f 6 4 = f 4 from if_neg (by decide)] at i1; exact i1
    obtain ⟨a1, a2, a3, a4, a5, a6⟩ := qi i i0 i1'
    have x1 := ob _ _ a1 (fun q w => by cases w) (fun w => by cases w)
    have x2 := ob _ _ a4 (fun q w => by cases w) (fun w => by cases w)
    refine ⟨x1.1, a2, (x1.2 1).1.trans a3, ?_, a5, fun k k0 k1 => ?_⟩
    · rw [up_ne (show _ ≠ (6 : Int) by omega)]; exact x2.1
    · rw [up_ne (show _ ≠ (6 : Int) by omega)] at k1
      rw [up_ne (show _ ≠ (6 : Int) by omega)]; exact ((x2.2 k).2).trans (a6 k k0 k1)
  · have k1' : k < f 5 := by rw [show up_ f 6 5 = f 5 from if_neg (by decide)] at k1; exact k1
    obtain ⟨a1, a2, a3, a4, a5, a6⟩ := qw k k0 k1'
    have x1 := ob _ _ a1 (fun q w => by cases w) (fun w => by cases w)
    rw [up_ne (show _ ≠ (6 : Int) by omega), up_ne (show _ ≠ (6 : Int) by omega), up_ne (show _ ≠ (6 : Int) by omega), up_ne (show _ ≠ (6 : Int) by omega)]
    exact ⟨x1.1, a2, (x1.2 0).2.trans a3, (x1.2 1).2.trans a4, (x1.2 2).2.trans a5, (x1.2 3).2.trans a6⟩
  · have w1' : w < f 6 + 1 := by rw [show up_ f 6 6 = f 6 + 1 from if_pos rfl] at w1; exact w1
    by_cases hq : w = f 6
    · subst hq
      obtain ⟨a1, a2, a3, a4, a5⟩ := ho
      have x1 := ob _ _ a1 (fun q w => by cases w) (fun w => by have := Sum.inl.inj w; omega)
      show (∃ κ : Nat, κ < 4 ∧ _ ∧ sh_ σ' (if f 6 = f 6 then o else xg_ T 2 (f 6)) = _) ∧ lo ≤ (if f 6 = f 6 then o else xg_ T 2 (f 6)) ∧ iv_ σ' (if f 6 = f 6 then o else xg_ T 2 (f 6)) 1 = _ ∧ iv_ σ' (if f 6 = f 6 then o else xg_ T 2 (f 6)) 2 = _ ∧ iv_ σ' (if f 6 = f 6 then o else xg_ T 2 (f 6)) 3 = _
      rw [if_pos rfl]
      rw [up_ne (show _ ≠ (6 : Int) by omega), up_ne (show _ ≠ (6 : Int) by omega), up_ne (show _ ≠ (6 : Int) by omega), up_ne (show _ ≠ (6 : Int) by omega)]
      exact ⟨⟨κ, hκ, hkk, x1.1⟩, a2, (x1.2 1).2.trans a3, (x1.2 2).2.trans a4, (x1.2 3).2.trans a5⟩
    · show (∃ κ : Nat, κ < 4 ∧ _ ∧ sh_ σ' (if w = f 6 then o else xg_ T 2 w) = _) ∧ lo ≤ (if w = f 6 then o else xg_ T 2 w) ∧ iv_ σ' (if w = f 6 then o else xg_ T 2 w) 1 = _ ∧ iv_ σ' (if w = f 6 then o else xg_ T 2 w) 2 = _ ∧ iv_ σ' (if w = f 6 then o else xg_ T 2 w) 3 = _
      rw [if_neg hq]
      obtain ⟨⟨κ', c1, c2, a1⟩, a2, a3, a4, a5⟩ := qh w w0 (by omega)
      have x1 := ob _ _ a1 (fun q w => by cases w) (fun w => by have := Sum.inl.inj w; omega)
      rw [up_ne (show _ ≠ (6 : Int) by omega), up_ne (show _ ≠ (6 : Int) by omega), up_ne (show _ ≠ (6 : Int) by omega), up_ne (show _ ≠ (6 : Int) by omega)]
      exact ⟨⟨κ', c1, c2, x1.1⟩, a2, (x1.2 1).2.trans a3, (x1.2 2).2.trans a4, (x1.2 3).2.trans a5⟩
  · have b1' : b < f 7 := by rw [show up_ f 6 7 = f 7 from if_neg (by decide)] at b1; exact b1
    obtain ⟨a1, a2, a3, a4, a5, a6⟩ := qb b b0 b1'
    have x1 := ob _ _ a1 (fun q w => by cases w) (fun w => by cases w)
    rw [up_ne (show _ ≠ (6 : Int) by omega), up_ne (show _ ≠ (6 : Int) by omega), up_ne (show _ ≠ (6 : Int) by omega), up_ne (show _ ≠ (6 : Int) by omega)]
    exact ⟨x1.1, a2, (x1.2 1).2.trans a3, (x1.2 2).2.trans a4, (x1.2 3).2.trans a5, (x1.2 4).2.trans a6⟩
  · have k1' : k < f 8 := by rw [show up_ f 6 8 = f 8 from if_neg (by decide)] at k1; exact k1
    obtain ⟨a1, a2, a3, a4, a5⟩ := qs k k0 k1'
    have x1 := ob _ _ a1 (fun q w => by cases w) (fun w => by cases w)
    rw [up_ne (show _ ≠ (6 : Int) by omega), up_ne (show _ ≠ (6 : Int) by omega), up_ne (show _ ≠ (6 : Int) by omega)]
    exact ⟨x1.1, a2, (x1.2 0).2.trans a3, (x1.2 1).2.trans a4, (x1.2 2).2.trans a5⟩
  · unfold up_
    have := hF k k0 k1
    have := hF 6 (by decide) (by decide)
    split <;> omega
  · have i1' : i < f 4 := by rw [show up_ f 6 4 = f 4 from if_neg (by decide)] at i1; exact i1
    exact ((ni i i0 i1').ob ob (qi i i0 i1').1 (by decide)).cg (up_ne (show _ ≠ (6 : Int) by omega)) (fun k k0 k1 => up_ne (show _ ≠ (6 : Int) by omega))
  · have w1' : w < f 6 + 1 := by rw [show up_ f 6 6 = f 6 + 1 from if_pos rfl] at w1; exact w1
    by_cases hq : w = f 6
    · subst hq
      show NM_ σ' lo (if f 6 = f 6 then o else xg_ T 2 (f 6)) _ _
      rw [if_pos rfl]
      exact (hnm.ob ob ho.1 (by omega)).cg (up_ne (show _ ≠ (6 : Int) by omega)) (fun k k0 k1 => up_ne (show _ ≠ (6 : Int) by omega))
    · show NM_ σ' lo (if w = f 6 then o else xg_ T 2 w) _ _
      rw [if_neg hq]
      obtain ⟨⟨κ', c1, c2, a1⟩, -⟩ := qh w w0 (by omega)
      exact ((nw w w0 (by omega)).ob ob a1 (by omega)).cg (up_ne (show _ ≠ (6 : Int) by omega)) (fun k k0 k1 => up_ne (show _ ≠ (6 : Int) by omega))
  · have b1' : b < f 7 := by rw [show up_ f 6 7 = f 7 from if_neg (by decide)] at b1; exact b1
    exact ((nb b b0 b1').ob ob (qb b b0 b1').1 (by decide)).cg (up_ne (show _ ≠ (6 : Int) by omega)) (fun k k0 k1 => up_ne (show _ ≠ (6 : Int) by omega))
theorem PP_.addB (ho : sh_ σ o = some (.inl 15) ∧ lo ≤ o ∧ iv_ σ o 1 = f (127 + 4 * f 7) ∧ iv_ σ o 2 = f (128 + 4 * f 7) ∧ iv_ σ o 3 = f (129 + 4 * f 7) ∧ iv_ σ o 4 = f (130 + 4 * f 7)) (hnm : NM_ σ lo o (f (195 + f 7)) (fun k => f (299 + 8 * f 7 + k))) (h : PP_ G σ lo T f) (hTD : TD_ G T) (hc0 : 0 ≤ f 4 ∧ 0 ≤ f 5 ∧ 0 ≤ f 6 ∧ 0 ≤ f 7 ∧ 0 ≤ f 8) (hfc : f 7 < 9999) (hlo : lo ≤ sz_ σ)
    (hL : Ls_ G σ' (xA_ T 3) e' cap' (f 7 + 1) (fun i => if i = f 7 then o else xg_ T 3 i)) (he : e' = xE_ T 3 ∨ e' = sz_ σ) (hw : Gw_ (fun b _ => b = xA_ T 3 ∨ (b = xE_ T 3 ∧ (gH_ G).size ≤ xE_ T 3)) dc du σ σ') (hlt : ∀ a s, sh_ σ a = some s → a < sz_ σ) : PP_ G σ' lo (xU_ T 3 e' cap' (fun i => if i = f 7 then o else xg_ T 3 i) (xS_ T)) (up_ f 7) ∧ TD_ G (xU_ T 3 e' cap' (fun i => if i = f 7 then o else xg_ T 3 i) (xS_ T)) := by
  refine ⟨?_, hTD.upd h.1 (by decide) he hlt⟩
  obtain ⟨ob, lst⟩ := h.grw hTD (ln := 3) (by decide) hw hlt
  obtain ⟨⟨⟨q1, q2, q3, q4, q5, q6⟩, ⟨u0, v0, w0⟩, ⟨u1, v1, w1⟩, ⟨u2, v2, w2⟩, ⟨u3, v3, w3⟩, ⟨u4, v4, w4⟩, qi, qw, qh, qb, qs⟩, hF, ni, nw, nb, hk, hgl⟩ := h
  have xP := ob _ _ q1 (fun q w => by cases w) (fun w => by cases w)
  have u0' := (xP.2 4).1.trans u0
  have u1' := (xP.2 5).1.trans u1
  have u2' := (xP.2 6).1.trans u2
  have u3' := (xP.2 7).1.trans u3
  have u4' := (xP.2 8).1.trans u4
  have hee : lo ≤ e' ∨ e' = gK_ G 100 := by
    rcases he with q | q
    · rw [q]; exact w3.2
    · left; omega
  refine ⟨⟨⟨xP.1, q2, by rw [up_ne (by decide)]; exact (xP.2 0).2.trans q3, by rw [up_ne (by decide)]; exact (xP.2 1).2.trans q4, by rw [up_ne (by decide)]; exact (xP.2 2).2.trans q5, by rw [up_ne (by decide)]; exact (xP.2 3).2.trans q6⟩, ⟨u0', by rw [show up_ f 7 4 = f 4 from if_neg (by decide)]; exact lst (j := 0) (by decide) (by decide) v0, w0.1, w0.2⟩, ⟨u1', by rw [show up_ f 7 5 = f 5 from if_neg (by decide)]; exact lst (j := 1) (by decide) (by decide) v1, w1.1, w1.2⟩, ⟨u2', by rw [show up_ f 7 6 = f 6 from if_neg (by decide)]; exact lst (j := 2) (by decide) (by decide) v2, w2.1, w2.2⟩, ⟨u3', by rw [show up_ f 7 7 = f 7 + 1 from if_pos rfl]; exact hL, w3.1, hee⟩, ⟨u4', by rw [show up_ f 7 8 = f 8 from if_neg (by decide)]; exact lst (j := 4) (by decide) (by decide) v4, w4.1, w4.2⟩, fun i i0 i1 => ?_, fun k k0 k1 => ?_, fun w w0 w1 => ?_, fun b b0 b1 => ?_, fun k k0 k1 => ?_⟩, fun k k0 k1 => ?_, fun i i0 i1 => ?_, fun w w0 w1 => ?_, fun b b0 b1 => ?_, hk, hgl⟩
  · have i1' : i < f 4 := by rw [show up_ f 7 4 = f 4 from if_neg (by decide)] at i1; exact i1
    obtain ⟨a1, a2, a3, a4, a5, a6⟩ := qi i i0 i1'
    have x1 := ob _ _ a1 (fun q w => by cases w) (fun w => by cases w)
    have x2 := ob _ _ a4 (fun q w => by cases w) (fun w => by cases w)
    refine ⟨x1.1, a2, (x1.2 1).1.trans a3, ?_, a5, fun k k0 k1 => ?_⟩
    · rw [up_ne (show _ ≠ (7 : Int) by omega)]; exact x2.1
    · rw [up_ne (show _ ≠ (7 : Int) by omega)] at k1
      rw [up_ne (show _ ≠ (7 : Int) by omega)]; exact ((x2.2 k).2).trans (a6 k k0 k1)
  · have k1' : k < f 5 := by rw [show up_ f 7 5 = f 5 from if_neg (by decide)] at k1; exact k1
    obtain ⟨a1, a2, a3, a4, a5, a6⟩ := qw k k0 k1'
    have x1 := ob _ _ a1 (fun q w => by cases w) (fun w => by cases w)
    rw [up_ne (show _ ≠ (7 : Int) by omega), up_ne (show _ ≠ (7 : Int) by omega), up_ne (show _ ≠ (7 : Int) by omega), up_ne (show _ ≠ (7 : Int) by omega)]
    exact ⟨x1.1, a2, (x1.2 0).2.trans a3, (x1.2 1).2.trans a4, (x1.2 2).2.trans a5, (x1.2 3).2.trans a6⟩
  · have w1' : w < f 6 := by rw [show up_ f 7 6 = f 6 from if_neg (by decide)] at w1; exact w1
    obtain ⟨⟨κ', c1, c2, a1⟩, a2, a3, a4, a5⟩ := qh w w0 w1'
    have x1 := ob _ _ a1 (fun q w => by cases w) (fun w => by have := Sum.inl.inj w; omega)
    rw [up_ne (show _ ≠ (7 : Int) by omega), up_ne (show _ ≠ (7 : Int) by omega), up_ne (show _ ≠ (7 : Int) by omega), up_ne (show _ ≠ (7 : Int) by omega)]
    exact ⟨⟨κ', c1, c2, x1.1⟩, a2, (x1.2 1).2.trans a3, (x1.2 2).2.trans a4, (x1.2 3).2.trans a5⟩
  · have b1' : b < f 7 + 1 := by rw [show up_ f 7 7 = f 7 + 1 from if_pos rfl] at b1; exact b1
    by_cases hq : b = f 7
    · subst hq
      obtain ⟨a1, a2, a3, a4, a5, a6⟩ := ho
      have x1 := ob _ _ a1 (fun q w => by cases w) (fun w => by cases w)
      show sh_ σ' (if f 7 = f 7 then o else xg_ T 3 (f 7)) = _ ∧ lo ≤ (if f 7 = f 7 then o else xg_ T 3 (f 7)) ∧ iv_ σ' (if f 7 = f 7 then o else xg_ T 3 (f 7)) 1 = _ ∧ iv_ σ' (if f 7 = f 7 then o else xg_ T 3 (f 7)) 2 = _ ∧ iv_ σ' (if f 7 = f 7 then o else xg_ T 3 (f 7)) 3 = _ ∧ iv_ σ' (if f 7 = f 7 then o else xg_ T 3 (f 7)) 4 = _
      rw [if_pos rfl]
      rw [up_ne (show _ ≠ (7 : Int) by omega), up_ne (show _ ≠ (7 : Int) by omega), up_ne (show _ ≠ (7 : Int) by omega), up_ne (show _ ≠ (7 : Int) by omega)]
      exact ⟨x1.1, a2, (x1.2 1).2.trans a3, (x1.2 2).2.trans a4, (x1.2 3).2.trans a5, (x1.2 4).2.trans a6⟩
    · show sh_ σ' (if b = f 7 then o else xg_ T 3 b) = _ ∧ lo ≤ (if b = f 7 then o else xg_ T 3 b) ∧ iv_ σ' (if b = f 7 then o else xg_ T 3 b) 1 = _ ∧ iv_ σ' (if b = f 7 then o else xg_ T 3 b) 2 = _ ∧ iv_ σ' (if b = f 7 then o else xg_ T 3 b) 3 = _ ∧ iv_ σ' (if b = f 7 then o else xg_ T 3 b) 4 = _
      rw [if_neg hq]
      obtain ⟨a1, a2, a3, a4, a5, a6⟩ := qb b b0 (by omega)
      have x1 := ob _ _ a1 (fun q w => by cases w) (fun w => by cases w)
      rw [up_ne (show _ ≠ (7 : Int) by omega), up_ne (show _ ≠ (7 : Int) by omega), up_ne (show _ ≠ (7 : Int) by omega), up_ne (show _ ≠ (7 : Int) by omega)]
      exact ⟨x1.1, a2, (x1.2 1).2.trans a3, (x1.2 2).2.trans a4, (x1.2 3).2.trans a5, (x1.2 4).2.trans a6⟩
  · have k1' : k < f 8 := by rw [show up_ f 7 8 = f 8 from if_neg (by decide)] at k1; exact k1
    obtain ⟨a1, a2, a3, a4, a5⟩ := qs k k0 k1'
    have x1 := ob _ _ a1 (fun q w => by cases w) (fun w => by cases w)
    rw [up_ne (show _ ≠ (7 : Int) by omega), up_ne (show _ ≠ (7 : Int) by omega), up_ne (show _ ≠ (7 : Int) by omega)]
    exact ⟨x1.1, a2, (x1.2 0).2.trans a3, (x1.2 1).2.trans a4, (x1.2 2).2.trans a5⟩
  · unfold up_
    have := hF k k0 k1
    have := hF 7 (by decide) (by decide)
    split <;> omega
  · have i1' : i < f 4 := by rw [show up_ f 7 4 = f 4 from if_neg (by decide)] at i1; exact i1
    exact ((ni i i0 i1').ob ob (qi i i0 i1').1 (by decide)).cg (up_ne (show _ ≠ (7 : Int) by omega)) (fun k k0 k1 => up_ne (show _ ≠ (7 : Int) by omega))
  · have w1' : w < f 6 := by rw [show up_ f 7 6 = f 6 from if_neg (by decide)] at w1; exact w1
    obtain ⟨⟨κ', c1, c2, a1⟩, -⟩ := qh w w0 w1'
    exact ((nw w w0 w1').ob ob a1 (by omega)).cg (up_ne (show _ ≠ (7 : Int) by omega)) (fun k k0 k1 => up_ne (show _ ≠ (7 : Int) by omega))
  · have b1' : b < f 7 + 1 := by rw [show up_ f 7 7 = f 7 + 1 from if_pos rfl] at b1; exact b1
    by_cases hq : b = f 7
    · subst hq
      show NM_ σ' lo (if f 7 = f 7 then o else xg_ T 3 (f 7)) _ _
      rw [if_pos rfl]
      exact (hnm.ob ob ho.1 (by decide)).cg (up_ne (show _ ≠ (7 : Int) by omega)) (fun k k0 k1 => up_ne (show _ ≠ (7 : Int) by omega))
    · show NM_ σ' lo (if b = f 7 then o else xg_ T 3 b) _ _
      rw [if_neg hq]
      exact ((nb b b0 (by omega)).ob ob (qb b b0 (by omega)).1 (by decide)).cg (up_ne (show _ ≠ (7 : Int) by omega)) (fun k k0 k1 => up_ne (show _ ≠ (7 : Int) by omega))
theorem PP_.addS (ho : sh_ σ o = some (.inl 16) ∧ lo ≤ o ∧ iv_ σ o 0 = f (159 + 3 * f 8) ∧ iv_ σ o 1 = f (160 + 3 * f 8) ∧ iv_ σ o 2 = f (161 + 3 * f 8)) (h : PP_ G σ lo T f) (hTD : TD_ G T) (hc0 : 0 ≤ f 4 ∧ 0 ≤ f 5 ∧ 0 ≤ f 6 ∧ 0 ≤ f 7 ∧ 0 ≤ f 8) (hfc : f 8 < 9999) (hlo : lo ≤ sz_ σ)
    (hL : Ls_ G σ' (xA_ T 4) e' cap' (f 8 + 1) (fun i => if i = f 8 then o else xg_ T 4 i)) (he : e' = xE_ T 4 ∨ e' = sz_ σ) (hw : Gw_ (fun b _ => b = xA_ T 4 ∨ (b = xE_ T 4 ∧ (gH_ G).size ≤ xE_ T 4)) dc du σ σ') (hlt : ∀ a s, sh_ σ a = some s → a < sz_ σ) : PP_ G σ' lo (xU_ T 4 e' cap' (fun i => if i = f 8 then o else xg_ T 4 i) (xS_ T)) (up_ f 8) ∧ TD_ G (xU_ T 4 e' cap' (fun i => if i = f 8 then o else xg_ T 4 i) (xS_ T)) := by
  refine ⟨?_, hTD.upd h.1 (by decide) he hlt⟩
  obtain ⟨ob, lst⟩ := h.grw hTD (ln := 4) (by decide) hw hlt
  obtain ⟨⟨⟨q1, q2, q3, q4, q5, q6⟩, ⟨u0, v0, w0⟩, ⟨u1, v1, w1⟩, ⟨u2, v2, w2⟩, ⟨u3, v3, w3⟩, ⟨u4, v4, w4⟩, qi, qw, qh, qb, qs⟩, hF, ni, nw, nb, hk, hgl⟩ := h
  have xP := ob _ _ q1 (fun q w => by cases w) (fun w => by cases w)
  have u0' := (xP.2 4).1.trans u0
  have u1' := (xP.2 5).1.trans u1
  have u2' := (xP.2 6).1.trans u2
  have u3' := (xP.2 7).1.trans u3
  have u4' := (xP.2 8).1.trans u4
  have hee : lo ≤ e' ∨ e' = gK_ G 100 := by
    rcases he with q | q
    · rw [q]; exact w4.2
    · left; omega
  refine ⟨⟨⟨xP.1, q2, by rw [up_ne (by decide)]; exact (xP.2 0).2.trans q3, by rw [up_ne (by decide)]; exact (xP.2 1).2.trans q4, by rw [up_ne (by decide)]; exact (xP.2 2).2.trans q5, by rw [up_ne (by decide)]; exact (xP.2 3).2.trans q6⟩, ⟨u0', by rw [show up_ f 8 4 = f 4 from if_neg (by decide)]; exact lst (j := 0) (by decide) (by decide) v0, w0.1, w0.2⟩, ⟨u1', by rw [show up_ f 8 5 = f 5 from if_neg (by decide)]; exact lst (j := 1) (by decide) (by decide) v1, w1.1, w1.2⟩, ⟨u2', by rw [show up_ f 8 6 = f 6 from if_neg (by decide)]; exact lst (j := 2) (by decide) (by decide) v2, w2.1, w2.2⟩, ⟨u3', by rw [show up_ f 8 7 = f 7 from if_neg (by decide)]; exact lst (j := 3) (by decide) (by decide) v3, w3.1, w3.2⟩, ⟨u4', by rw [show up_ f 8 8 = f 8 + 1 from if_pos rfl]; exact hL, w4.1, hee⟩, fun i i0 i1 => ?_, fun k k0 k1 => ?_, fun w w0 w1 => ?_, fun b b0 b1 => ?_, fun k k0 k1 => ?_⟩, fun k k0 k1 => ?_, fun i i0 i1 => ?_, fun w w0 w1 => ?_, fun b b0 b1 => ?_, hk, hgl⟩
  · have i1' : i < f 4 := by rw [show up_ f 8 4 = f 4 from if_neg (by decide)] at i1; exact i1
    obtain ⟨a1, a2, a3, a4, a5, a6⟩ := qi i i0 i1'
    have x1 := ob _ _ a1 (fun q w => by cases w) (fun w => by cases w)
    have x2 := ob _ _ a4 (fun q w => by cases w) (fun w => by cases w)
    refine ⟨x1.1, a2, (x1.2 1).1.trans a3, ?_, a5, fun k k0 k1 => ?_⟩
    · rw [up_ne (show _ ≠ (8 : Int) by omega)]; exact x2.1
    · rw [up_ne (show _ ≠ (8 : Int) by omega)] at k1
      rw [up_ne (show _ ≠ (8 : Int) by omega)]; exact ((x2.2 k).2).trans (a6 k k0 k1)
  · have k1' : k < f 5 := by rw [show up_ f 8 5 = f 5 from if_neg (by decide)] at k1; exact k1
    obtain ⟨a1, a2, a3, a4, a5, a6⟩ := qw k k0 k1'
    have x1 := ob _ _ a1 (fun q w => by cases w) (fun w => by cases w)
    rw [up_ne (show _ ≠ (8 : Int) by omega), up_ne (show _ ≠ (8 : Int) by omega), up_ne (show _ ≠ (8 : Int) by omega), up_ne (show _ ≠ (8 : Int) by omega)]
    exact ⟨x1.1, a2, (x1.2 0).2.trans a3, (x1.2 1).2.trans a4, (x1.2 2).2.trans a5, (x1.2 3).2.trans a6⟩
  · have w1' : w < f 6 := by rw [show up_ f 8 6 = f 6 from if_neg (by decide)] at w1; exact w1
    obtain ⟨⟨κ', c1, c2, a1⟩, a2, a3, a4, a5⟩ := qh w w0 w1'
    have x1 := ob _ _ a1 (fun q w => by cases w) (fun w => by have := Sum.inl.inj w; omega)
    rw [up_ne (show _ ≠ (8 : Int) by omega), up_ne (show _ ≠ (8 : Int) by omega), up_ne (show _ ≠ (8 : Int) by omega), up_ne (show _ ≠ (8 : Int) by omega)]
    exact ⟨⟨κ', c1, c2, x1.1⟩, a2, (x1.2 1).2.trans a3, (x1.2 2).2.trans a4, (x1.2 3).2.trans a5⟩
  · have b1' : b < f 7 := by rw [show up_ f 8 7 = f 7 from if_neg (by decide)] at b1; exact b1
    obtain ⟨a1, a2, a3, a4, a5, a6⟩ := qb b b0 b1'
    have x1 := ob _ _ a1 (fun q w => by cases w) (fun w => by cases w)
    rw [up_ne (show _ ≠ (8 : Int) by omega), up_ne (show _ ≠ (8 : Int) by omega), up_ne (show _ ≠ (8 : Int) by omega), up_ne (show _ ≠ (8 : Int) by omega)]
    exact ⟨x1.1, a2, (x1.2 1).2.trans a3, (x1.2 2).2.trans a4, (x1.2 3).2.trans a5, (x1.2 4).2.trans a6⟩
  · have k1' : k < f 8 + 1 := by rw [show up_ f 8 8 = f 8 + 1 from if_pos rfl] at k1; exact k1
    by_cases hq : k = f 8
    · subst hq
      obtain ⟨a1, a2, a3, a4, a5⟩ := ho
      have x1 := ob _ _ a1 (fun q w => by cases w) (fun w => by cases w)
      show sh_ σ' (if f 8 = f 8 then o else xg_ T 4 (f 8)) = _ ∧ lo ≤ (if f 8 = f 8 then o else xg_ T 4 (f 8)) ∧ iv_ σ' (if f 8 = f 8 then o else xg_ T 4 (f 8)) 0 = _ ∧ iv_ σ' (if f 8 = f 8 then o else xg_ T 4 (f 8)) 1 = _ ∧ iv_ σ' (if f 8 = f 8 then o else xg_ T 4 (f 8)) 2 = _
      rw [if_pos rfl]
      rw [up_ne (show _ ≠ (8 : Int) by omega), up_ne (show _ ≠ (8 : Int) by omega), up_ne (show _ ≠ (8 : Int) by omega)]
      exact ⟨x1.1, a2, (x1.2 0).2.trans a3, (x1.2 1).2.trans a4, (x1.2 2).2.trans a5⟩
    · show sh_ σ' (if k = f 8 then o else xg_ T 4 k) = _ ∧ lo ≤ (if k = f 8 then o else xg_ T 4 k) ∧ iv_ σ' (if k = f 8 then o else xg_ T 4 k) 0 = _ ∧ iv_ σ' (if k = f 8 then o else xg_ T 4 k) 1 = _ ∧ iv_ σ' (if k = f 8 then o else xg_ T 4 k) 2 = _
      rw [if_neg hq]
      obtain ⟨a1, a2, a3, a4, a5⟩ := qs k k0 (by omega)
      have x1 := ob _ _ a1 (fun q w => by cases w) (fun w => by cases w)
      rw [up_ne (show _ ≠ (8 : Int) by omega), up_ne (show _ ≠ (8 : Int) by omega), up_ne (show _ ≠ (8 : Int) by omega)]
      exact ⟨x1.1, a2, (x1.2 0).2.trans a3, (x1.2 1).2.trans a4, (x1.2 2).2.trans a5⟩
  · unfold up_
    have := hF k k0 k1
    have := hF 8 (by decide) (by decide)
    split <;> omega
  · have i1' : i < f 4 := by rw [show up_ f 8 4 = f 4 from if_neg (by decide)] at i1; exact i1
    exact ((ni i i0 i1').ob ob (qi i i0 i1').1 (by decide)).cg (up_ne (show _ ≠ (8 : Int) by omega)) (fun k k0 k1 => up_ne (show _ ≠ (8 : Int) by omega))
  · have w1' : w < f 6 := by rw [show up_ f 8 6 = f 6 from if_neg (by decide)] at w1; exact w1
    obtain ⟨⟨κ', c1, c2, a1⟩, -⟩ := qh w w0 w1'
    exact ((nw w w0 w1').ob ob a1 (by omega)).cg (up_ne (show _ ≠ (8 : Int) by omega)) (fun k k0 k1 => up_ne (show _ ≠ (8 : Int) by omega))
  · have b1' : b < f 7 := by rw [show up_ f 8 7 = f 7 from if_neg (by decide)] at b1; exact b1
    exact ((nb b b0 b1').ob ob (qb b b0 b1').1 (by decide)).cg (up_ne (show _ ≠ (8 : Int) by omega)) (fun k k0 k1 => up_ne (show _ ≠ (8 : Int) by omega))
end
