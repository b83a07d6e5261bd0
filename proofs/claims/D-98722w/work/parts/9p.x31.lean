/-! THE COMPONENT: a thing that is being told. Written by mod/m9p.py -/
set_option maxRecDepth 100000
/-- what of the post is told anew is E -/
def SM_ (m : Nat) (γ1 γ : JH) (E : Int → Prop) : Prop := iv_ γ m 13 = 0 → iv_ γ1 m 13 = 0 ∧ ∀ j, ¬ E j → iv_ γ (m + 4) j = iv_ γ1 (m + 4) j
/-- a thing that is made -/
def BT_ (σ : JH) (T : XT) (b cb : Nat) (wd : Option Nat) (V : Int → Int) : Prop := sh_ σ b = some (.inl cb) ∧ NP_ σ T b ∧ (∀ k, iv_ σ b k = V k) ∧ rv_ σ b 0 = wd
section
variable {G : JG} {m X ρ o : Nat} {σ σ' γ : JH} {T : XT} {c d : Int}
variable {γ1 δ : JH} {E : Int → Prop} {b cb : Nat} {wd : Option Nat} {V : Int → Int} {dc du : Nat}
theorem SM_.rf : SM_ m γ γ E := fun q => ⟨q, fun _ _ => rfl⟩
theorem SM_.f0 (s : SM_ m γ1 γ E) (a : A0_ (pf0_ m) m γ δ) : SM_ m γ1 δ E := fun q => ⟨(s (a.ok q)).1, fun j hj => (a.1.f4 j).trans ((s (a.ok q)).2 j hj)⟩
theorem SM_.p4 {k x : Int} (s : SM_ m γ1 γ E) (hk : E k) : SM_ m γ1 (pi_ γ (m + 4) k x) E := fun q => by
  rw [p4_13] at q
  refine ⟨(s q).1, fun j hj => ?_⟩
  rw [iv_pi, if_neg (fun w => hj (by rw [w.2]; exact hk))]
  exact (s q).2 j hj
theorem SM_.nna {n : Int} (hI : PI_ m γ) (hE : ∀ j, (j = 183 + n ∨ (203 + 8 * n ≤ j ∧ j < 211 + 8 * n)) → E j) : SM_ m γ (nna_ m γ n) E := fun q => by
  have q1 : iv_ γ m 13 = 0 := (nna_A1 hI _).ok q
  have z := nna_ok hI q1 q
  refine ⟨q1, fun j hj => ?_⟩
  have h1 : j ≠ 183 + n := fun w => hj (hE j (Or.inl w))
  have h2 : ¬ (203 + 8 * n ≤ j ∧ j < 211 + 8 * n) := fun w => hj (hE j (Or.inr w))
  have h8 := z.2.2.2.1
  rw [z.2.2.2.2 j, if_neg h1, if_neg (by omega)]
theorem SM_.rl (s : SM_ m γ1 γ E) (hF : FW_ (iv_ γ1 (m + 4))) (hE : iv_ γ1 m 13 = 0 → ∀ j, E j → ¬ RL_ (iv_ γ1 (m + 4)) j ∧ ¬ (183 ≤ j ∧ j < 190)) (q : iv_ γ m 13 = 0) : (∀ j, 0 ≤ j → j ≤ 8 → iv_ γ (m + 4) j = iv_ γ1 (m + 4) j) ∧ (∀ i, 0 ≤ i → i < iv_ γ (m + 4) 4 → iv_ γ (m + 4) (10 + 7 * i) ≤ 6) ∧ (∀ k, E k → ¬ RL_ (iv_ γ (m + 4)) k) ∧ ((0 ≤ iv_ γ (m + 4) 4 ∧ iv_ γ (m + 4) 4 ≤ 7) ∧ ∀ i, iv_ γ (m + 4) 4 ≤ i → i < 7 → iv_ γ (m + 4) (183 + i) = 0) := by
  have h := (s q).2
  have hE := hE (s q).1
  have h8 : ∀ j, 0 ≤ j → j ≤ 8 → iv_ γ (m + 4) j = iv_ γ1 (m + 4) j := fun j j0 j1 => h j (fun w => (hE j w).1 (Or.inl ⟨j0, j1⟩))
  have e4 := h8 4 (by decide) (by decide)
  have e5 := h8 5 (by decide) (by decide)
  have e6 := h8 6 (by decide) (by decide)
  have e7 := h8 7 (by decide) (by decide)
  have e8 := h8 8 (by decide) (by decide)
  have hcn := hF.cn
  refine ⟨h8, fun i i0 i1 => ?_, fun k hk w => (hE k hk).1 ?_, ⟨by omega, fun i i0 i1 => ?_⟩⟩
  · rw [h _ (fun w => (hE _ w).1 (Or.inr (Or.inl ⟨by omega, by omega⟩)))]
    exact hF.rl.2.2 i i0 (by omega)
  · unfold RL_ at *
    rw [e4, e5, e6, e7, e8] at w
    exact w
  · rw [h _ (fun w => (hE _ w).2 ⟨by omega, by omega⟩)]
    exact hF.2.2.1 i (by omega) i1
theorem RR_.p4s {k x : Int} (h : RR_ G m X ρ σ γ o T c d) (s : SM_ m γ1 γ E) (hF : FW_ (iv_ γ1 (m + 4))) (hE : iv_ γ1 m 13 = 0 → ∀ j, E j → ¬ RL_ (iv_ γ1 (m + 4)) j ∧ ¬ (183 ≤ j ∧ j < 190)) (hk : E k) (hk2 : k < 183) (hx : 0 ≤ x ∧ x ≤ 9999) : RR_ G m X ρ σ (pi_ γ (m + 4) k x) o T c d ∧ SM_ m γ1 (pi_ γ (m + 4) k x) E :=
  ⟨h.p4 (fun q => (s.rl hF hE q).2.1) (fun q => (s.rl hF hE q).2.2.1 k hk) hk2 hx, s.p4 hk⟩
theorem bw_id {w : String} (h : iv_ γ m 13 ≠ 0) : bw_ m γ w = γ := by
  unfold bw_ ibh_ mus_
  rw [if_neg h]
  unfold ndd_
  rw [if_neg h]
  exact if_neg h
theorem aw_id {w : String} {l h' : Int} (h : iv_ γ m 13 ≠ 0) : aw_ m γ w l h' = γ := by
  unfold aw_ aft_ mus_
  rw [if_neg h]
  exact if_neg h
theorem E0_.sy (h : E0_ m γ δ) : E0_ m δ γ := fun b k hb => (h b k hb).symm
theorem E0_.pq {k : Int} {w : String} (h : E0_ m γ1 γ) (q : iv_ γ1 m 13 ≠ 0) : E0_ m γ1 (pq_ m γ k w) := by
  unfold pq_
  rw [bw_id (by rw [h m 13 (Or.inl rfl)]; exact q)]
  exact h.tr E0_.p4
theorem E0_.ps {k l h' : Int} {w : String} (h : E0_ m γ1 γ) (q : iv_ γ1 m 13 ≠ 0) : E0_ m γ1 (ps_ m γ k w l h') := by
  unfold ps_
  rw [aw_id (by rw [h m 13 (Or.inl rfl)]; exact q)]
  exact h.tr E0_.p4
theorem bw_nd {w : String} (hI : PI_ m γ) (q : iv_ (bw_ m γ w) m 13 = 0) : iv_ (ndd_ m (mus_ m γ ((w.length : Nat) : Int) (tx_ w)) 0 6) m 13 = 0 := (onn_ok ((hI.mus _ _).ndd _ _) q).1
theorem RR_.atb {σ' : JH} (h : RR_ G m X ρ σ γ o T c d) (hs : sh_ σ b = some (.inl cb)) (hc : 9 ≤ cb) (hn : NP_ σ T b) (e : (∀ a, sh_ σ' a = sh_ σ a) ∧ (∀ a j, a ≠ b → rv_ σ' a j = rv_ σ a j ∧ iv_ σ' a j = iv_ σ a j) ∧ sz_ σ' = sz_ σ ∧ us_ σ' = us_ σ) : RR_ G m X ρ σ' γ o T c d ∧ NP_ σ' T b ∧ OB_ σ σ' := by
  have hne : ∀ a s, sh_ σ a = some s → s ≠ .inl cb → a ≠ b := fun a s ha q w => by
    rw [w, hs] at ha; exact q (Option.some.inj ha).symm
  have ob : OB_ σ σ' := fun a s ha q => ⟨(e.1 a).trans ha, fun j => e.2.1 a j (hne a s ha (fun w => by rcases q with q | q | q | q | ⟨n, q⟩ <;> rw [q] at w <;> cases w <;> omega))⟩
  obtain ⟨f, hP, hPf⟩ := h.2.2.2.2.1
  obtain ⟨p1, p2, p3, p4, p5, p6, p7⟩ := hP
  have hA : ∀ i, i < 5 → ∀ j, iv_ σ' (xA_ T i) j = iv_ σ (xA_ T i) j := fun i hi j => by
    obtain ⟨n, w, -, -⟩ := p1.ls hi
    exact (e.2.1 _ j (hne _ _ w.1 (fun q => by cases q; omega))).2
  have nb : ∀ b', PA_ T f b' → b' ≠ b := fun b' hb q => by
    rcases hb with z | ⟨j, hj, z | z⟩ | ⟨i, ⟨i0, i1⟩, z | z⟩ | ⟨i, ⟨i0, i1⟩, z⟩ | ⟨i, ⟨i0, i1⟩, z⟩ | ⟨i, ⟨i0, i1⟩, z⟩ | ⟨i, ⟨i0, i1⟩, z⟩
    · have := p1.sh; rw [← z, q, hs] at this; cases this; omega
    · obtain ⟨n, w, -, -⟩ := p1.ls hj
      have := w.1; rw [← z, q, hs] at this; cases this; omega
    · obtain ⟨n, w, -, -⟩ := p1.ls hj
      have := w.2.2.2.1; rw [← z, q, hs] at this; cases this
    · exact hn 0 i (by decide) i0 (by rw [p1.l0.2.2.2.2.1]; exact i1) (z.symm.trans q)
    · have := (p1.2.2.2.2.2.2.1 i i0 i1).2.2.2.1; rw [← z, q, hs] at this; cases this
    · exact hn 1 i (by decide) i0 (by rw [p1.l1.2.2.2.2.1]; exact i1) (z.symm.trans q)
    · exact hn 2 i (by decide) i0 (by rw [p1.l2.2.2.2.2.1]; exact i1) (z.symm.trans q)
    · exact hn 3 i (by decide) i0 (by rw [p1.l3.2.2.2.2.1]; exact i1) (z.symm.trans q)
    · exact hn 4 i (by decide) i0 (by rw [p1.l4.2.2.2.2.1]; exact i1) (z.symm.trans q)
  have nms : ∀ (oo : Nat) (z : Int) (w : Int → Int), PA_ T f oo → NM_ σ (ρ + 2) oo z w → NM_ σ' (ρ + 2) oo z w := fun oo z w hp hh => by
    obtain ⟨wd, wv, n, a1, a2, a3, a4⟩ := hh
    exact ⟨wd, wv, n, (e.2.1 oo 0 (nb oo hp)).1.trans a1, a2.obs ob, a3, a4⟩
  have z := h.chg (dc := 0) (du := 0) (δ := γ) (T' := T) ob ⟨by omega, by omega⟩ rfl E0_.rf ⟨f, ⟨p1.pres fun b' hb => ⟨e.1 b', fun j => e.2.1 b' j (nb b' hb)⟩, p2, fun i i0 i1 => nms _ _ _ (Or.inr (Or.inr (Or.inl ⟨i, ⟨i0, i1⟩, Or.inl rfl⟩))) (p3 i i0 i1), fun i i0 i1 => nms _ _ _ (Or.inr (Or.inr (Or.inr (Or.inr (Or.inl ⟨i, ⟨i0, i1⟩, rfl⟩))))) (p4 i i0 i1), fun i i0 i1 => nms _ _ _ (Or.inr (Or.inr (Or.inr (Or.inr (Or.inr (Or.inl ⟨i, ⟨i0, i1⟩, rfl⟩)))))) (p5 i i0 i1), p6, p7⟩, hPf⟩
  exact ⟨z.wk (by omega) (by omega), hn.eq (fun i hi => hA i hi 2), ob⟩
theorem BT_.gx (h : BT_ σ T b cb wd V) (hc : 9 ≤ cb) (hR : RR_ G m X ρ σ γ o T c d) (g : GX_ ρ σ σ') (hlt : ∀ a s, sh_ σ a = some s → a < sz_ σ) : BT_ σ' T b cb wd V := by
  obtain ⟨h1, h2, h3, h4⟩ := h
  have hl := hlt _ _ h1
  have e := fun k => g.2.1 b k hl (fun q => by rw [q, hR.h3] at h1; cases h1; omega) (fun q => by rw [q, hR.h4] at h1; cases h1; omega) (fun q => by rw [h1] at q; have := q.2.1; cases this; omega)
  exact ⟨(g.1 b hl).trans h1, h2.gx hR g hlt, fun k => (e k).2.trans (h3 k), (e 0).1.trans h4⟩
theorem BT_.pi {k x : Int} (h : BT_ σ T b cb wd V) (hc : 9 ≤ cb) (hR : RR_ G m X ρ σ γ o T c d) : RR_ G m X ρ (pi_ σ b k x) γ o T c d ∧ BT_ (pi_ σ b k x) T b cb wd (fun j => if j = k then x else V j) ∧ OB_ σ (pi_ σ b k x) := by
  obtain ⟨h1, h2, h3, h4⟩ := h
  have z := hR.atb (σ' := pi_ σ b k x) h1 hc h2 ⟨fun _ => rfl, fun a j q => ⟨rfl, by rw [iv_pi, if_neg (fun w => q w.1)]⟩, rfl, rfl⟩
  refine ⟨z.1, ⟨h1, z.2.1, fun j => ?_, h4⟩, z.2.2⟩
  rw [iv_pi]
  by_cases q : j = k
  · (try dsimp only); rw [if_pos ⟨rfl, q⟩, if_pos q]
  · (try dsimp only); rw [if_neg (fun w => q w.2), if_neg q]; exact h3 j
theorem BT_.pr {x : Option Nat} (h : BT_ σ T b cb wd V) (hc : 9 ≤ cb) (hR : RR_ G m X ρ σ γ o T c d) : RR_ G m X ρ (pr_ σ b 0 x) γ o T c d ∧ BT_ (pr_ σ b 0 x) T b cb x V ∧ OB_ σ (pr_ σ b 0 x) := by
  obtain ⟨h1, h2, h3, h4⟩ := h
  have z := hR.atb (σ' := pr_ σ b 0 x) h1 hc h2 ⟨fun _ => rfl, fun a j q => ⟨by rw [rv_pr, if_neg (fun w => q w.1)], rfl⟩, rfl, rfl⟩
  exact ⟨z.1, ⟨h1, z.2.1, h3, by rw [rv_pr, if_pos ⟨rfl, rfl⟩]⟩, z.2.2⟩
theorem BT_.new {n : Nat} (hR : RR_ G m X ρ σ γ o T c d) (hlt : ∀ a s, sh_ σ a = some s → a < sz_ σ) : RR_ G m X ρ (nw_ σ (.inl cb) n) γ o T (c - (1 : Nat)) (d - (n : Nat)) ∧ BT_ (nw_ σ (.inl cb) n) T (sz_ σ) cb none (fun _ => 0) ∧ Gw_ (fun _ _ => False) 1 n σ (nw_ σ (.inl cb) n) := by
  have gw : Gw_ (fun _ _ => False) 1 n σ (nw_ σ (.inl cb) n) := Gw_.rf.nw.mono (fun _ _ _ q => q) (by omega) (by omega)
  refine ⟨hR.gw gw hlt, ⟨by rw [sh_nw, if_pos rfl], (hR.np hlt).eq (fun i hi => ?_), fun k => by rw [iv_nw, if_pos rfl], by rw [rv_nw, if_pos rfl]⟩, gw⟩
  obtain ⟨f, hP, -⟩ := hR.2.2.2.2.1
  obtain ⟨n', w, -, -⟩ := hP.1.ls hi
  exact (gw.2.1 _ 2 (hlt _ _ w.1) (fun q => q)).2
end
