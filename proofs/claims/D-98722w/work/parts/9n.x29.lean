/-! THE COMPONENT: the reader's things under changes elsewhere. Written by mod/m9n.py -/
set_option maxRecDepth 100000
/-- what keeps the reader's things -/
def OB_ (σ σ' : JH) : Prop := ∀ a s, sh_ σ a = some s → (s = .inl 3 ∨ s = .inl 4 ∨ s = .inl 6 ∨ s = .inl 8 ∨ ∃ n, s = .inr (1, n)) → sh_ σ' a = some s ∧ ∀ k, rv_ σ' a k = rv_ σ a k ∧ iv_ σ' a k = iv_ σ a k
/-- b is none of a post's things -/
def NP_ (σ : JH) (T : XT) (b : Nat) : Prop := ∀ (i : Nat) (j : Int), i < 5 → 0 ≤ j → j < iv_ σ (xA_ T i) 2 → xg_ T i j ≠ b
section
variable {G : JG} {m X ρ o : Nat} {σ σ' γ : JH} {T : XT} {c d : Int}
variable {T' : XT} {δ : JH} {dc du ln b cb : Nat} {f : Int → Int} {lo : Nat}
theorem Str_.obs {a v n : Nat} {w : Int → Int} (h : Str_ σ a v n w) (f : OB_ σ σ') : Str_ σ' a v n w := by
  obtain ⟨s1, s2, s3, s4, s5, s6⟩ := h
  have e1 := f _ _ s1 (Or.inr (Or.inr (Or.inr (Or.inl rfl))))
  have e2 := f _ _ s3 (Or.inr (Or.inr (Or.inr (Or.inr ⟨_, rfl⟩))))
  exact ⟨e1.1, (e1.2 0).1.trans s2, e2.1, (e1.2 1).2.trans s4, s5, fun k k0 k1 => by rw [(e2.2 k).2]; exact s6 k k0 k1⟩
theorem RR_.chg (h : RR_ G m X ρ σ γ o T c d) (f : OB_ σ σ') (hz : sz_ σ' ≤ sz_ σ + dc ∧ us_ σ' ≤ us_ σ + du) (hT : xP_ T' = xP_ T) (e : E0_ m γ δ) (hP : ∃ f, PP_ G σ' (ρ + 2) T' f ∧ (iv_ γ m 13 = 0 → f = iv_ δ (m + 4))) : RR_ G m X ρ σ' δ o T' (c - dc) (d - du) := by
  have e0 := fun k => e m k (Or.inl rfl)
  have e1 := fun k => e (m + 1) k (Or.inr (Or.inl rfl))
  have e2 := fun k => e (m + 2) k (Or.inr (Or.inr rfl))
  obtain ⟨⟨b1, b2, b3, b4, b5, b6, b7⟩, ⟨a, t1, t2⟩, h13, ⟨so, pl, nu, wd, wv, n, w, k1, k2⟩, -, ⟨hI, hE⟩, hL, hM⟩ := h
  have hId := hI.cg e0 e1 e2
  have x3 := f _ _ b1 (Or.inl rfl)
  have x4 := f _ _ t1.1 (Or.inr (Or.inl rfl))
  have xo := f _ _ k1.1 (Or.inr (Or.inr (Or.inl rfl)))
  have xX := f _ _ t1.2.2.2.2.2.2.1 (Or.inr (Or.inr (Or.inr (Or.inr ⟨_, rfl⟩))))
  refine ⟨⟨x3.1, b2, b3, (x3.2 0).1.trans b4, (x3.2 1).1.trans b5, (x3.2 2).1.trans b6, hT.trans b7⟩, ⟨a, ?_, by rw [e0, e0]; exact t2⟩, by rw [e0, e0, e0, (x3.2 3).2, (x3.2 4).2]; exact h13, ⟨so, pl, nu, wd, wv, n, w, ?_, fun q => ?_⟩, ?_, ⟨hId, by rw [e0, e0, e0, e0]; exact hE⟩, ?_, ?_⟩
  · obtain ⟨a1, a2, a3, a4, a5, a6, a7, a8, a9, a10⟩ := t1
    exact ⟨x4.1, a2, (x4.2 0).1.trans a3, by rw [e0]; exact (x4.2 1).2.trans a4, (x4.2 2).2.trans a5, by rw [e0]; exact a6, xX.1, fun k k0 q => by rw [e1]; rw [e0] at q; exact (xX.2 k).2.trans (a8 k k0 q), hId.1, a10⟩
  · obtain ⟨a1, a2, a3, a4, a5, a6, a7, a8, a9, a10, a11⟩ := k1
    have xw := f _ _ a7.1 (Or.inr (Or.inr (Or.inr (Or.inl rfl))))
    refine ⟨xo.1, a2, (xo.2 0).2.trans a3, (xo.2 1).2.trans a4, (xo.2 2).2.trans a5, (xo.2 3).1.trans a6, a7.obs f, a8, fun q => ⟨(a9 q).1, (a9 q).2.1, ?_⟩, a10, a11⟩
    have z := (a9 q).2.2
    unfold HS_ at *
    rw [(xw.2 2).2, (xw.2 3).2]
    exact z
  · rw [e0] at q
    have z := k2 q
    unfold TM_ at *
    rw [e0, e0, e0, e0]
    simp only [e2]
    exact z
  · obtain ⟨f, p1, p2⟩ := hP
    exact ⟨f, p1, fun q => p2 (by rw [← e0]; exact q)⟩
  · intro i q hq
    obtain ⟨v, s, s1⟩ := hL i q hq
    exact ⟨v, s.obs f, s1⟩
  · unfold RM_ at *
    rw [e0, (x4.2 2).2, (xo.2 0).2]
    omega
theorem E0_.rf : E0_ m γ γ := fun _ _ _ => rfl
theorem E0_.mor {K : Int} : E0_ m γ (mor_ m γ K) := fun b j hb => by
  unfold mor_
  split
  · rw [iv_pi, if_neg (by omega)]
  · rfl
/-- a list of the post has grown -/
theorem RR_.mor {K : Int} (h : RR_ G m X ρ σ γ o T c d) (h0 : iv_ γ m 13 = 0) (hTD : TD_ G T) (hl : ln < 5) (hw : Gw_ (fun b _ => b = xA_ T ln ∨ (b = xE_ T ln ∧ (gH_ G).size ≤ xE_ T ln)) 1 15 σ σ') (hlt : ∀ a s, sh_ σ a = some s → a < sz_ σ) (hT : xP_ T' = xP_ T) (hP : PP_ G σ' (ρ + 2) T' (up_ (iv_ γ (m + 4)) K)) : RR_ G m X ρ σ' (mor_ m γ K) o T' (c - 1) (d - 15) ∧ OL_ ρ σ σ' := by
  have hp := h.P h0
  have ob := (hp.grw hTD hl hw hlt).1
  obtain ⟨n0, w0, l0, l1⟩ := hp.1.ls hl
  have hk := hp.2.2.2.2.2.1
  have hge := h.ge
  have hρ := hlt _ _ h.h3
  refine ⟨h.chg (fun a s hs q => ob a s hs (fun z w => by rcases q with q | q | q | q | ⟨n, q⟩ <;> rw [q] at w <;> cases w) (fun w => by rcases q with q | q | q | q | ⟨n, q⟩ <;> rw [q] at w <;> cases w)) ⟨hw.2.2.1.2, hw.2.2.2.2⟩ hT E0_.mor ⟨_, hP, fun _ => funext fun j => ?_⟩, fun b hb => ⟨hw.1 b (by omega), fun k => hw.2.1 b k (by omega) (fun q => by omega)⟩, hw.2.2.1.1, hw.2.2.2.1⟩
  rw [mor_4 h0]
  rfl
theorem RR_.np (h : RR_ G m X ρ σ γ o T c d) (hlt : ∀ a s, sh_ σ a = some s → a < sz_ σ) : NP_ σ T (sz_ σ) := by
  obtain ⟨f, hP, -⟩ := h.2.2.2.2.1
  have hp := hP.1
  intro i j hi j0 j1 q
  have key : ∀ b, PA_ T f b → b < sz_ σ := fun b hb => hp.lt hlt hb
  match i, hi with
  | 0, _ => have := key _ (Or.inr (Or.inr (Or.inl ⟨j, ⟨j0, by rw [hp.l0.2.2.2.2.1] at j1; exact j1⟩, Or.inl rfl⟩))); omega
  | 1, _ => have := key _ (Or.inr (Or.inr (Or.inr (Or.inl ⟨j, ⟨j0, by rw [hp.l1.2.2.2.2.1] at j1; exact j1⟩, rfl⟩)))); omega
  | 2, _ => have := key _ (Or.inr (Or.inr (Or.inr (Or.inr (Or.inl ⟨j, ⟨j0, by rw [hp.l2.2.2.2.2.1] at j1; exact j1⟩, rfl⟩))))); omega
  | 3, _ => have := key _ (Or.inr (Or.inr (Or.inr (Or.inr (Or.inr (Or.inl ⟨j, ⟨j0, by rw [hp.l3.2.2.2.2.1] at j1; exact j1⟩, rfl⟩)))))); omega
  | 4, _ => have := key _ (Or.inr (Or.inr (Or.inr (Or.inr (Or.inr (Or.inr ⟨j, ⟨j0, by rw [hp.l4.2.2.2.2.1] at j1; exact j1⟩, rfl⟩)))))); omega
theorem NP_.eq (h : NP_ σ T b) (e : ∀ i, i < 5 → iv_ σ' (xA_ T i) 2 = iv_ σ (xA_ T i) 2) : NP_ σ' T b := fun i j hi j0 j1 => h i j hi j0 (by rw [← e i hi]; exact j1)
theorem NP_.gx (h : NP_ σ T b) (hR : RR_ G m X ρ σ γ o T c d) (g : GX_ ρ σ σ') (hlt : ∀ a s, sh_ σ a = some s → a < sz_ σ) : NP_ σ' T b := h.eq fun i hi => by
  obtain ⟨f, hP, -⟩ := hR.2.2.2.2.1
  obtain ⟨n, w, -, -⟩ := hP.1.ls hi
  exact (g.2.1 _ 2 (hlt _ _ w.1) (fun q => by have := w.1; rw [q, hR.h3] at this; cases this) (fun q => by have := w.1; rw [q, hR.h4] at this; cases this) (fun q => by rw [w.1] at q; cases q.2.1)).2
/-- a thing of its own is written -/
theorem RR_.pib {k x : Int} (h : RR_ G m X ρ σ γ o T c d) (hs : sh_ σ b = some (.inl cb)) (hc : 9 ≤ cb) (hn : NP_ σ T b) : RR_ G m X ρ (pi_ σ b k x) γ o T c d ∧ NP_ (pi_ σ b k x) T b := by
  have hne : ∀ a s, sh_ σ a = some s → s ≠ .inl cb → ∀ j, iv_ (pi_ σ b k x) a j = iv_ σ a j := fun a s ha q j => by
    rw [iv_pi, if_neg (fun w => by rw [w.1, hs] at ha; exact q (Option.some.inj ha).symm)]
  have ob : OB_ σ (pi_ σ b k x) := fun a s ha q => ⟨ha, fun j => ⟨rfl, hne a s ha (fun w => by rcases q with q | q | q | q | ⟨n, q⟩ <;> rw [q] at w <;> cases w <;> omega) j⟩⟩
  obtain ⟨f, hP, hPf⟩ := h.2.2.2.2.1
  obtain ⟨p1, p2, p3, p4, p5, p6, p7⟩ := hP
  have hA : ∀ i, i < 5 → ∀ j, iv_ (pi_ σ b k x) (xA_ T i) j = iv_ σ (xA_ T i) j := fun i hi j => by
    obtain ⟨n, w, -, -⟩ := p1.ls hi
    exact hne _ _ w.1 (fun q => by cases q; omega) j
  have nb : ∀ b', PA_ T f b' → b' ≠ b := fun b' hb q => by
    rcases hb with z | ⟨j, hj, z | z⟩ | ⟨i, ⟨i0, i1⟩, z | z⟩ | ⟨i, ⟨i0, i1⟩, z⟩ | ⟨i, ⟨i0, i1⟩, z⟩ | ⟨i, ⟨i0, i1⟩, z⟩ | ⟨i, ⟨i0, i1⟩, z⟩
    · have := p1.sh; rw [← z, q, hs] at this; cases this; omega
    · obtain ⟨n, w, -, -⟩ := p1.ls hj
      have := w.1; rw [← z, q, hs] at this; cases this; omega
    · obtain ⟨n, w, -, -⟩ := p1.ls hj
      have := w.2.2.2.1; rw [← z, q, hs] at this; cases this
    · exact hn 0 i (by decide) i0 (by rw [p1.l0.2.2.2.2.1]; exact i1) (z.symm.trans q)
    · have := (p1.2.2.2.2.2.2.1 i i0 i1).2.2.2.1; rw [← z, q, hs] at this; cases this
    · exact hn 1 i (by decide) i0 (by rw [p1.l1.2.2.2.2.1]; exact i1) (z.symm.trans q)
    · exact hn 2 i (by decide) i0 (by rw [p1.l2.2.2.2.2.1]; exact i1) (z.symm.trans q)
    · exact hn 3 i (by decide) i0 (by rw [p1.l3.2.2.2.2.1]; exact i1) (z.symm.trans q)
    · exact hn 4 i (by decide) i0 (by rw [p1.l4.2.2.2.2.1]; exact i1) (z.symm.trans q)
  have nm : ∀ {oo : Nat} {z : Int} {w : Int → Int}, NM_ σ (ρ + 2) oo z w → NM_ (pi_ σ b k x) (ρ + 2) oo z w := fun {oo z w} hh => by
    obtain ⟨wd, wv, n, a1, a2, a3, a4⟩ := hh
    exact ⟨wd, wv, n, a1, a2.obs ob, a3, a4⟩
  have z := h.chg (dc := 0) (du := 0) (δ := γ) (T' := T) ob ⟨Nat.le_refl _, Nat.le_refl _⟩ rfl E0_.rf ⟨f, ⟨p1.pres fun b' hb => ⟨rfl, fun j => ⟨rfl, by rw [iv_pi, if_neg (fun w => nb b' hb w.1)]⟩⟩, p2, fun i i0 i1 => nm (p3 i i0 i1), fun i i0 i1 => nm (p4 i i0 i1), fun i i0 i1 => nm (p5 i i0 i1), p6, p7⟩, hPf⟩
  refine ⟨by simpa using z, hn.eq fun i hi => hA i hi 2⟩
theorem nna_id {n : Int} (h : iv_ γ m 13 ≠ 0) : nna_ m γ n = γ := if_neg h
theorem sg0_id {i : Int} (h : iv_ γ m 13 ≠ 0) : sg0_ m γ i = γ := if_neg h
theorem il_eq (h13 : iv_ γ m 13 = 0 ∨ iv_ γ m 13 = 1) (hn : ∀ n, iv_ (nna_ m γ n) m 13 = 0 ∨ iv_ (nna_ m γ n) m 13 = 1) : il_ m γ = mor_ m (sg0_ m (nna_ m γ (iv_ γ (m + 4) 4)) (iv_ γ (m + 4) 4)) 4 := by
  unfold il_ il1_
  by_cases h0 : iv_ γ m 13 = 0
  · rw [if_pos h0]
    have hb := hn (iv_ γ (m + 4) 4)
    generalize nna_ m γ (iv_ γ (m + 4) 4) = γ2 at *
    by_cases h2 : iv_ γ2 m 13 = 0
    · rw [if_pos h2]
      unfold il2_ sg0_ mor_
      rw [if_pos h2]
      by_cases q6 : iv_ γ2 m 6 = 2
      · rw [if_pos q6, if_pos q6]
        by_cases qt : tld_ m γ2 (iv_ γ (m + 4) 4) = true
        · rw [if_pos qt, if_pos qt, if_neg (by rw [wr_13 hb]; decide)]
        · rw [if_neg qt, if_neg qt]
          by_cases qs : sgi_ m γ2 = true
          · rw [if_pos qs, if_pos qs, if_pos]
            rw [(nxt_fix _).1]
            unfold psg_
            rw [iv_pb, if_neg (by omega), iv_pi, if_neg (by omega)]
            exact h2
          · rw [if_neg qs, if_neg qs, if_neg (by rw [wr_13 hb]; decide)]
      · rw [if_neg q6, if_neg q6, if_neg (by rw [wr_13 hb]; decide)]
    · rw [if_neg h2, sg0_id h2]
      unfold mor_
      rw [if_neg h2]
  · rw [if_neg h0, nna_id h0, sg0_id h0]
    unfold mor_
    rw [if_neg h0]
end
