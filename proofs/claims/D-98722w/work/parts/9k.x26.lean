/-! THE COMPONENT: other ghosts; new names. Written by mod/m9k.py -/
set_option maxRecDepth 100000
/-- what a post told so far rests on -/
def RL_ (f : Int → Int) (j : Int) : Prop := (0 ≤ j ∧ j ≤ 8) ∨ (10 ≤ j ∧ j < 10 + 7 * f 4) ∨ (59 ≤ j ∧ j < 59 + 4 * f 5) ∨ (107 ≤ j ∧ j < 107 + 4 * f 6) ∨ (127 ≤ j ∧ j < 127 + 4 * f 7) ∨ (159 ≤ j ∧ j < 159 + 3 * f 8)
def US_ (f : Int → Int) (ν : Int) : Prop := (0 ≤ ν ∧ ν < f 4) ∨ (7 ≤ ν ∧ ν < 7 + f 6) ∨ (12 ≤ ν ∧ ν < 12 + f 7)
/-- ghosts that read alike -/
def E0_ (m : Nat) (γ δ : JH) : Prop := ∀ b k, (b = m ∨ b = m + 1 ∨ b = m + 2) → iv_ δ b k = iv_ γ b k
section
variable {G : JG} {m X ρ o : Nat} {σ σ' γ : JH} {T : XT} {c d : Int}
variable {f g : Int → Int} {δ : JH} {lo : Nat}
theorem PQ_.cgr (h : PQ_ G σ lo T f) (h6 : ∀ i, 0 ≤ i → i < f 4 → f (10 + 7 * i) ≤ 6) (e : ∀ j, RL_ f j → g j = f j) : PQ_ G σ lo T g := by
  have e8 : ∀ j, 0 ≤ j → j ≤ 8 → g j = f j := fun j j0 j1 => e j (Or.inl ⟨j0, j1⟩)
  have ei : ∀ i k, 0 ≤ i → i < f 4 → 0 ≤ k → k < 7 → g (10 + 7 * i + k) = f (10 + 7 * i + k) := fun i k i0 i1 k0 k1 => e _ (Or.inr (Or.inl ⟨by omega, by omega⟩))
  have ew : ∀ i k, 0 ≤ i → i < f 5 → 0 ≤ k → k < 4 → g (59 + 4 * i + k) = f (59 + 4 * i + k) := fun i k i0 i1 k0 k1 => e _ (Or.inr (Or.inr (Or.inl ⟨by omega, by omega⟩)))
  have eh : ∀ i k, 0 ≤ i → i < f 6 → 0 ≤ k → k < 4 → g (107 + 4 * i + k) = f (107 + 4 * i + k) := fun i k i0 i1 k0 k1 => e _ (Or.inr (Or.inr (Or.inr (Or.inl ⟨by omega, by omega⟩))))
  have eb : ∀ i k, 0 ≤ i → i < f 7 → 0 ≤ k → k < 4 → g (127 + 4 * i + k) = f (127 + 4 * i + k) := fun i k i0 i1 k0 k1 => e _ (Or.inr (Or.inr (Or.inr (Or.inr (Or.inl ⟨by omega, by omega⟩)))))
  have es : ∀ i k, 0 ≤ i → i < f 8 → 0 ≤ k → k < 3 → g (159 + 3 * i + k) = f (159 + 3 * i + k) := fun i k i0 i1 k0 k1 => e _ (Or.inr (Or.inr (Or.inr (Or.inr (Or.inr ⟨by omega, by omega⟩)))))
  obtain ⟨⟨q1, q2, q3, q4, q5, q6⟩, ⟨u0, v0, w0⟩, ⟨u1, v1, w1⟩, ⟨u2, v2, w2⟩, ⟨u3, v3, w3⟩, ⟨u4, v4, w4⟩, qi, qw, qh, qb, qs⟩ := h
  have E4 := e8 4 (by decide) (by decide)
  have E5 := e8 5 (by decide) (by decide)
  have E6 := e8 6 (by decide) (by decide)
  have E7 := e8 7 (by decide) (by decide)
  have E8 := e8 8 (by decide) (by decide)
  refine ⟨⟨q1, q2, by rw [e8 0 (by decide) (by decide)]; exact q3, by rw [e8 1 (by decide) (by decide)]; exact q4, by rw [e8 2 (by decide) (by decide)]; exact q5, by rw [e8 3 (by decide) (by decide)]; exact q6⟩, ⟨u0, by rw [E4]; exact v0, w0⟩, ⟨u1, by rw [E5]; exact v1, w1⟩, ⟨u2, by rw [E6]; exact v2, w2⟩, ⟨u3, by rw [E7]; exact v3, w3⟩, ⟨u4, by rw [E8]; exact v4, w4⟩, fun i i0 i1 => ?_, fun k k0 k1 => ?_, fun w z0 z1 => ?_, fun b b0 b1 => ?_, fun k k0 k1 => ?_⟩
  · rw [E4] at i1
    have hz := h6 i i0 i1
    have x0 := ei i 0 i0 i1 (by decide) (by decide)
    rw [Int.add_zero] at x0
    obtain ⟨a1, a2, a3, a4, a5, a6⟩ := qi i i0 i1
    refine ⟨a1, a2, a3, by rw [x0]; exact a4, a5, fun k k0 k1 => ?_⟩
    rw [x0] at k1
    have x1 := ei i (1 + k) i0 i1 (by omega) (by omega)
    rw [show 10 + 7 * i + (1 + k) = 11 + 7 * i + k by omega] at x1
    rw [x1]
    exact a6 k k0 k1
  · rw [E5] at k1
    have x0 := ew k 0 k0 k1 (by decide) (by decide)
    have x1 := ew k 1 k0 k1 (by decide) (by decide)
    have x2 := ew k 2 k0 k1 (by decide) (by decide)
    have x3 := ew k 3 k0 k1 (by decide) (by decide)
    rw [Int.add_zero] at x0
    rw [show 59 + 4 * k + 1 = 60 + 4 * k by omega] at x1
    rw [show 59 + 4 * k + 2 = 61 + 4 * k by omega] at x2
    rw [show 59 + 4 * k + 3 = 62 + 4 * k by omega] at x3
    rw [x0, x1, x2, x3]
    exact qw k k0 k1
  · rw [E6] at z1
    have x0 := eh w 0 z0 z1 (by decide) (by decide)
    have x1 := eh w 1 z0 z1 (by decide) (by decide)
    have x2 := eh w 2 z0 z1 (by decide) (by decide)
    have x3 := eh w 3 z0 z1 (by decide) (by decide)
    rw [Int.add_zero] at x0
    rw [show 107 + 4 * w + 1 = 108 + 4 * w by omega] at x1
    rw [show 107 + 4 * w + 2 = 109 + 4 * w by omega] at x2
    rw [show 107 + 4 * w + 3 = 110 + 4 * w by omega] at x3
    rw [x0, x1, x2, x3]
    exact qh w z0 z1
  · rw [E7] at b1
    have x0 := eb b 0 b0 b1 (by decide) (by decide)
    have x1 := eb b 1 b0 b1 (by decide) (by decide)
    have x2 := eb b 2 b0 b1 (by decide) (by decide)
    have x3 := eb b 3 b0 b1 (by decide) (by decide)
    rw [Int.add_zero] at x0
    rw [show 127 + 4 * b + 1 = 128 + 4 * b by omega] at x1
    rw [show 127 + 4 * b + 2 = 129 + 4 * b by omega] at x2
    rw [show 127 + 4 * b + 3 = 130 + 4 * b by omega] at x3
    rw [x0, x1, x2, x3]
    exact qb b b0 b1
  · rw [E8] at k1
    have x0 := es k 0 k0 k1 (by decide) (by decide)
    have x1 := es k 1 k0 k1 (by decide) (by decide)
    have x2 := es k 2 k0 k1 (by decide) (by decide)
    rw [Int.add_zero] at x0
    rw [show 159 + 3 * k + 1 = 160 + 3 * k by omega] at x1
    rw [show 159 + 3 * k + 2 = 161 + 3 * k by omega] at x2
    rw [x0, x1, x2]
    exact qs k k0 k1
theorem NM_.cg {z z' : Int} {w w' : Int → Int} {oo : Nat} (h : NM_ σ lo oo z w) (hz : z' = z) (hw : ∀ k, 0 ≤ k → k < z → w' k = w k) : NM_ σ lo oo z' w' := by
  obtain ⟨wd, wv, n, a1, ⟨s1, s2, s3, s4, s5, s6⟩, a3, a4, a5⟩ := h
  exact ⟨wd, wv, n, a1, ⟨s1, s2, s3, s4, s5, fun k k0 k1 => by rw [hw k k0 (by omega)]; exact s6 k k0 k1⟩, a3.trans hz.symm, a4, a5⟩
theorem PP_.cgr (h : PP_ G σ lo T f) (h6 : ∀ i, 0 ≤ i → i < f 4 → f (10 + 7 * i) ≤ 6) (hg : ∀ k, 0 ≤ k → k < 363 → 0 ≤ g k ∧ g k ≤ 9999) (e : ∀ j, RL_ f j → g j = f j) (eu : ∀ ν, US_ f ν → g (183 + ν) = f (183 + ν) ∧ ∀ k, 0 ≤ k → k < f (183 + ν) → g (203 + 8 * ν + k) = f (203 + 8 * ν + k)) : PP_ G σ lo T g := by
  obtain ⟨h1, h2, hi, hw, hb, hk, hgl⟩ := h
  have E4 := e 4 (Or.inl ⟨by decide, by decide⟩)
  have E6 := e 6 (Or.inl ⟨by decide, by decide⟩)
  have E7 := e 7 (Or.inl ⟨by decide, by decide⟩)
  refine ⟨h1.cgr h6 e, hg, fun i i0 i1 => ?_, fun w w0 w1 => ?_, fun b b0 b1 => ?_, hk, hgl⟩
  · have q := eu i (Or.inl ⟨i0, by omega⟩)
    exact (hi i i0 (by omega)).cg q.1 q.2
  · have q := eu (7 + w) (Or.inr (Or.inl ⟨by omega, by omega⟩))
    rw [show 183 + (7 + w) = 190 + w by omega, show 203 + 8 * (7 + w) = 259 + 8 * w by omega] at q
    exact (hw w w0 (by omega)).cg q.1 q.2
  · have q := eu (12 + b) (Or.inr (Or.inr ⟨by omega, by omega⟩))
    rw [show 183 + (12 + b) = 195 + b by omega, show 203 + 8 * (12 + b) = 299 + 8 * b by omega] at q
    exact (hb b b0 (by omega)).cg q.1 q.2
/-- another ghost that reads alike -/
theorem RR_.eq0 (h : RR_ G m X ρ σ γ o T c d) (e : E0_ m γ δ) (hP : iv_ γ m 13 = 0 → PP_ G σ (ρ + 2) T (iv_ δ (m + 4))) : RR_ G m X ρ σ δ o T c d := by
  have e0 := fun k => e m k (Or.inl rfl)
  have e1 := fun k => e (m + 1) k (Or.inr (Or.inl rfl))
  have e2 := fun k => e (m + 2) k (Or.inr (Or.inr rfl))
  obtain ⟨b, ⟨a, t1, t2⟩, h13, ⟨so, pl, nu, wd, wv, n, w, k1, k2⟩, ⟨f0, p1, p2⟩, ⟨hI, hE⟩, hL, hM⟩ := h
  have hId := hI.cg e0 e1 e2
  refine ⟨b, ⟨a, ?_, by rw [e0, e0]; exact t2⟩, by rw [e0, e0, e0]; exact h13, ⟨so, pl, nu, wd, wv, n, w, k1, fun q => ?_⟩, ?_, ⟨hId, by rw [e0, e0, e0, e0]; exact hE⟩, hL, by unfold RM_ at *; rw [e0]; exact hM⟩
  · obtain ⟨a1, a2, a3, a4, a5, a6, a7, a8, a9, a10⟩ := t1
    exact ⟨a1, a2, a3, by rw [e0]; exact a4, a5, by rw [e0]; exact a6, a7, fun k k0 q => by rw [e1]; rw [e0] at q; exact a8 k k0 q, hId.1, a10⟩
  · rw [e0] at q
    have z := k2 q
    unfold TM_ at *
    rw [e0, e0, e0, e0]
    simp only [e2]
    exact z
  · by_cases h0 : iv_ γ m 13 = 0
    · exact ⟨_, hP h0, fun _ => rfl⟩
    · exact ⟨f0, p1, fun q => absurd (by rw [← e0]; exact q) h0⟩
theorem E0_.p4 {k x : Int} : E0_ m γ (pi_ γ (m + 4) k x) := fun b j hb => by rw [iv_pi, if_neg (by omega)]
theorem E0_.tr {δ' : JH} (h : E0_ m γ δ) (h' : E0_ m δ δ') : E0_ m γ δ' := fun b k hb => (h' b k hb).trans (h b k hb)
/-- what is told is written ahead -/
theorem RR_.p4 {k x : Int} (h : RR_ G m X ρ σ γ o T c d) (h6 : iv_ γ m 13 = 0 → ∀ i, 0 ≤ i → i < iv_ γ (m + 4) 4 → iv_ γ (m + 4) (10 + 7 * i) ≤ 6) (hk : iv_ γ m 13 = 0 → ¬ RL_ (iv_ γ (m + 4)) k) (hk2 : k < 183) (hx : 0 ≤ x ∧ x ≤ 9999) : RR_ G m X ρ σ (pi_ γ (m + 4) k x) o T c d :=
  h.eq0 E0_.p4 (fun h0 => (h.P h0).cgr (h6 h0) (fun j j0 j1 => by
    rw [iv_pi]
    split
    · exact hx
    · exact (h.P h0).2.1 j j0 j1) (fun j hj => by rw [iv_pi, if_neg (fun q => hk h0 (by rw [← q.2]; exact hj))]) (fun ν hν => by
      have hc4 := (h.P h0).1.l0.2.2.2.2.2.1
      unfold US_ at hν
      exact ⟨by rw [iv_pi, if_neg (by omega)], fun j j0 j1 => by rw [iv_pi, if_neg (by omega)]⟩))
theorem RR_.pnm {n1 : Int} (h : RR_ G m X ρ σ γ o T c d) (h0 : iv_ γ m 13 = 0) (h6 : ∀ i, 0 ≤ i → i < iv_ γ (m + 4) 4 → iv_ γ (m + 4) (10 + 7 * i) ≤ 6) (h2 : iv_ γ m 6 = 2) (hn : 0 ≤ n1 ∧ n1 < 20) (hu : ¬ US_ (iv_ γ (m + 4)) n1) (h8 : ∀ ν, US_ (iv_ γ (m + 4)) ν → ν < 20 ∧ iv_ γ (m + 4) (183 + ν) ≤ 8) (hcn : ∀ j, RL_ (iv_ γ (m + 4)) j → j < 183) : RR_ G m X ρ σ (pnm_ m γ n1) o T c d := by
  have hI := h.I
  have hw := hI.2.2.2.2.2.2.2 h2
  have ev : ∀ j, iv_ (pnm_ m γ n1) (m + 4) j = if j = 183 + n1 then iv_ γ m 8 else if 203 + 8 * n1 ≤ j ∧ j < 203 + 8 * n1 + iv_ γ m 8 then iv_ γ (m + 2) (j - (203 + 8 * n1)) else iv_ γ (m + 4) j := fun j => by
    unfold pnm_
    rw [iv_pi, iv_pb]
    by_cases c1 : j = 183 + n1
    · rw [if_pos ⟨rfl, c1⟩, if_pos c1]
    · rw [if_neg (fun q => c1 q.2), if_neg c1]
      by_cases c2 : 203 + 8 * n1 ≤ j ∧ j < 203 + 8 * n1 + iv_ γ m 8
      · rw [if_pos ⟨rfl, c2⟩, if_pos c2]
      · rw [if_neg (fun q => c2 q.2), if_neg c2]
  refine h.eq0 (fun b j hb => by unfold pnm_; rw [iv_pi, if_neg (by omega), iv_pb, if_neg (by omega)]) (fun _ => (h.P h0).cgr h6 (fun j j0 j1 => ?_) (fun j hj => ?_) (fun ν hν => ?_))
  · rw [ev]
    split
    · omega
    · split
      · have := hw.2 (j - (203 + 8 * n1)) (by omega) (by omega); omega
      · exact (h.P h0).2.1 j j0 j1
  · have hc4 := (h.P h0).1.l0.2.2.2.2.2.1
    have hc5 := (h.P h0).1.l1.2.2.2.2.2.1
    have hb := hcn j hj
    rw [ev, if_neg (by omega), if_neg (by omega)]
  · have q := h8 ν hν
    have hne : ν ≠ n1 := fun w => hu (by rw [← w]; exact hν)
    unfold US_ at hν
    refine ⟨by rw [ev, if_neg (by omega), if_neg (by omega)], fun k k0 k1 => by rw [ev, if_neg (by omega), if_neg (by omega)]⟩
theorem xr_wrongF  {k : Int} {Q : JH → Prop} (hR : RR_ G m X ρ σ γ o T c d) (hk : 1 ≤ k ∧ k ≤ 7)
    (hQ : ∀ σ', RR_ G m X ρ σ' (wr_ m γ k (iv_ γ m 4)) o T c d → GX_ ρ σ σ' → Fr_ (fun b _ => b = ρ) σ σ' → Q σ') : CallV_ G 3 yX3_wrong cX3_wrong 2 none [A_ (some ρ), I_ k] σ Q := by
  refine call_go [some (A_ (some ρ)), some (I_ k)] (by decide) (Nat.le_of_ble_eq_true rfl) rfl ?_
  refine g_al0 dX3_wrong_0 ?_
  refine g_callV0I (d' := 2) lk_X3_36 hR.h3 rfl (rm_lt (by decide) (by decide)) (Nat.le_of_ble_eq_true rfl) dX3_wrong_1 ?_
  refine xr_isOver hR (fun x1 hx1 => ?_)
  refine g_if_eq (tgt := 8) dX3_wrong_4 (by decide) (by omega) (fun h4 => ?_) (fun h4 => ?_)
  · refine g_al0 dX3_wrong_8 ?_
    refine g_il1 dX3_wrong_9 ?_
    refine f_putI 3 fk_X3_32 rfl (nf_ rfl rfl) hR.h3 hR.ge rfl dX3_wrong_10 ?_
    refine g_al0 dX3_wrong_13 ?_
    refine g_al0 dX3_wrong_14 ?_
    obtain ⟨so, pl, nu, wd, wv, n, w, hK, hTM⟩ := hR.2.2.2.1
    have hpl := (hTM (by omega)).1
    refine f_getA 2 fk_X3_28 rfl hR.h3 (fun _ _ => rfl) hR.1.2.2.2.2.2.1 dX3_wrong_15 ?_
    refine f_getv 1 fk_X3_40 rfl hK.1 (fun _ _ => rfl) (show iv_ (pi_ σ ρ 3 k) o 1 = iv_ γ m 4 by rw [iv_pi, if_neg (fun q => by have := hK.1; rw [q.1, hR.h3] at this; cases this)]; exact hK.2.2.2.1.trans hpl) dX3_wrong_18 ?_
    refine f_putI 4 fk_X3_45 rfl (nf_ rfl rfl) hR.h3 hR.ge rfl dX3_wrong_21 ?_
    exact g_vret rfl dX3_wrong_24 ⟨rfl, hQ _ (hR.fail (by omega) hk) ((GX_.rf.pi (Or.inl rfl)).pi (Or.inl rfl)) ((Fr_.rf.pi rfl).pi rfl)⟩
  exact g_vret rfl dX3_wrong_7 ⟨rfl, hQ _ (by rw [wr_id (by omega)]; exact hR) GX_.rf Fr_.rf⟩
theorem TK_.fw {so pl nu : Int} {wd wv n : Nat} {w : Int → Int} (h : TK_ G σ lo o so pl nu wd wv n w) (f : Fr_ (fun b _ => b = ρ) σ σ') (h3 : sh_ σ ρ = some (.inl 3)) : TK_ G σ' lo o so pl nu wd wv n w := by
  obtain ⟨a1, a2, a3, a4, a5, a6, ⟨s1, s2, s3, s4, s5, s6⟩, a8, a9, a10, a11⟩ := h
  have n1 : o ≠ ρ := fun q => by rw [q, h3] at a1; cases a1
  have n2 : wd ≠ ρ := fun q => by rw [q, h3] at s1; cases s1
  have n3 : wv ≠ ρ := fun q => by rw [q, h3] at s3; cases s3
  have e := f.2.2.2.2
  refine ⟨(f.1 _).trans a1, a2, (e _ _ n1).trans a3, (e _ _ n1).trans a4, (e _ _ n1).trans a5, (f.2.1 _ _).trans a6, ⟨(f.1 _).trans s1, (f.2.1 _ _).trans s2, (f.1 _).trans s3, (e _ _ n2).trans s4, s5, fun k k0 k1 => by rw [e _ _ n3]; exact s6 k k0 k1⟩, a8, fun q => ⟨(a9 q).1, (a9 q).2.1, ?_⟩, a10, a11⟩
  have z := (a9 q).2.2
  unfold HS_ at *
  rw [e _ _ n2, e _ _ n2]
  exact z
theorem FW_.rl (h : FW_ f) : (∀ j, RL_ f j → j < 183) ∧ (∀ ν, US_ f ν → ν < 20 ∧ f (183 + ν) ≤ 8) ∧ ∀ i, 0 ≤ i → i < f 4 → f (10 + 7 * i) ≤ 6 := by
  have c := h.cn
  refine ⟨fun j hj => by unfold RL_ at hj; omega, fun ν hν => ?_, fun i i0 i1 => ?_⟩
  · have hb : 0 ≤ ν ∧ ν < 20 := by unfold US_ at hν; omega
    exact ⟨hb.2, (h.2.2.2.2.2.2 ν hb.1 hb.2).2⟩
  · rcases h.1 with q | q
    · omega
    · exact (q.2.2.1 i i0 i1).2
/-- a new name, ahead of the next token -/
def fr0_ (m : Nat) (γ : JH) : JH := if iv_ γ m 13 = 0 then (if isn_ m γ then (if 0 ≤ fd_ m γ then wr_ m γ 3 (iv_ γ m 4) else γ) else wr_ m γ 1 (iv_ γ m 4)) else γ
theorem xr_fresh {n1 : Int} {Q : Option Nat → JH → Prop} (hR : RR_ G m X ρ σ γ o T c d) (hcd : 0 ≤ c ∧ 0 ≤ d) (hF : iv_ γ m 13 = 0 → FW_ (iv_ γ (m + 4))) (hn1 : iv_ γ m 13 = 0 → 0 ≤ n1 ∧ n1 < 20) (hu : iv_ γ m 13 = 0 → ¬ US_ (iv_ γ (m + 4)) n1)
    (hQ : ∀ σ' o' wd wv n w, RR_ G m X ρ σ' (nna_ m γ n1) o' T c d → GX_ ρ σ σ' → Str_ σ' wd wv n w → (iv_ (nna_ m γ n1) m 13 = 0 → (n : Int) = iv_ (nna_ m γ n1) (m + 4) (183 + n1) ∧ (∀ k, 0 ≤ k → k < (n : Int) → w k = iv_ (nna_ m γ n1) (m + 4) (203 + 8 * n1 + k)) ∧ ρ + 2 ≤ wd ∧ ρ + 2 ≤ wv) → Q (some wd) σ') : CallA_ G 12 yX3_fresh cX3_fresh 2 (some (.object "java/lang/String")) [A_ (some ρ)] σ Q := by
  refine call_go [some (A_ (some ρ)), none] (by decide) (Nat.le_of_ble_eq_true rfl) rfl ?_
  obtain ⟨so, pl, nu, wd, wv, n, w, hK, hTM0⟩ := hR.2.2.2.1
  have hKb := hK.2.2.2.2.2.2.2.2.2.1
  have J36 : ∀ σ2, RR_ G m X ρ σ2 (fr0_ m γ) o T c d → GX_ ρ σ σ2 → TK_ G σ2 (ρ + 2) o so pl nu wd wv n w → GoM_ G 12 yX3_fresh cX3_fresh 2 (some (.object "java/lang/String")) σ (fun v σ' => ∃ x : Option Nat, v = some (A_ x) ∧ Q x σ') 36 [some (A_ (some ρ)), some (A_ (some o))] [] σ2 := by
    intro σ2 hR2 hg2 hK2
    refine g_lt (fun hlt2 hgz2 => ?_)
    have h13 := hR.b13
    obtain ⟨δ, hRd, hδ⟩ : ∃ δ, RR_ G m X ρ σ2 δ o T c d ∧ onn_ m δ = nna_ m γ n1 := by
      by_cases hok : iv_ γ m 13 = 0 ∧ isn_ m γ ∧ ¬ 0 ≤ fd_ m γ
      · have e : fr0_ m γ = γ := by unfold fr0_; rw [if_pos hok.1, if_pos hok.2.1, if_neg hok.2.2]
        rw [e] at hR2
        have hrl := (hF hok.1).rl
        refine ⟨pnm_ m γ n1, hR2.pnm hok.1 hrl.2.2 hok.2.1.1 (hn1 hok.1) (hu hok.1) hrl.2.1 hrl.1, ?_⟩
        unfold onn_ nna_
        rw [if_pos (show iv_ (pnm_ m γ n1) m 13 = 0 by unfold pnm_; rw [iv_pi, if_neg (by omega), iv_pb, if_neg (by omega)]; exact hok.1), if_pos hok.1, if_pos hok.2.1, if_neg hok.2.2]
      · refine ⟨fr0_ m γ, hR2, ?_⟩
        unfold onn_ nna_ fr0_
        by_cases h0 : iv_ γ m 13 = 0
        · rw [if_pos h0, if_pos h0]
          by_cases hi : isn_ m γ
          · have hfd : 0 ≤ fd_ m γ := Classical.byContradiction fun q => hok ⟨h0, hi, q⟩
            rw [if_pos hi, if_pos hi, if_pos hfd, if_pos hfd]
            exact if_neg (by rw [wr_13 h13]; decide)
          · rw [if_neg hi, if_neg hi]
            exact if_neg (by rw [wr_13 h13]; decide)
        · rw [if_neg h0, if_neg h0, if_neg h0]
    refine g_al0 dX3_fresh_36 ?_
    refine g_callV0V (d' := 11) lk_X3_49 hRd.h3 rfl (rm_lt (by decide) (by decide)) (Nat.le_of_ble_eq_true rfl) dX3_fresh_37 ?_
    refine xr_on hRd hcd (fun σ3 o3 hR3 hg3 => ?_)
    refine g_lt (fun hlt3 hgz3 => ?_)
    have hS3 := hK2.2.2.2.2.2.2.1.gx hg3 hlt2 hRd.h3 hRd.h4
    have hol := hlt2 _ _ hK2.1
    have hno : o ≠ ρ ∧ o ≠ ρ + 1 := ⟨fun q => (by have := hK2.1; rw [q, hRd.h3] at this; cases this), fun q => (by have := hK2.1; rw [q, hRd.h4] at this; cases this)⟩
    have hK3 : sh_ σ3 o = some (.inl 6) := (hg3.1 o hol).trans hK2.1
    have hw3 : rv_ σ3 o 3 = some wd := ((hg3.2.1 o 3 hol hno.1 hno.2 (fun q => by rw [hK2.1] at q; cases q.2.1)).1).trans hK2.2.2.2.2.2.1
    refine g_al1 dX3_fresh_40 ?_
    refine f_getA 3 fk_X3_78 rfl hK3 (fun _ _ => rfl) hw3 dX3_fresh_41 ?_
    exact g_aret rfl (Or.inl ⟨_, rfl⟩) dX3_fresh_44 ⟨_, rfl, hQ _ _ wd wv n w (by rw [← hδ]; exact hR3 _ _ (Or.inl ⟨Int.le_refl _, Int.le_refl _⟩)) (hg2.tr hg3) hS3 (fun q => by
        have h0 : iv_ γ m 13 = 0 := Classical.byContradiction fun w => w ((((nna_A1 hR.I n1).2.2) w).1.symm.trans q)
        obtain ⟨hi, -, -, hb8, hv⟩ := nna_ok hR.I h0 q
        have hn1 := hn1 h0
        have h2 := (((hTM0 h0).isn h0).mp hi).1
        have hT : iv_ γ m 6 = 2 ∧ (n : Int) = iv_ γ m 8 ∧ ∀ k, 0 ≤ k → k < (n : Int) → w k = iv_ γ (m + 2) k := by rcases (hTM0 h0).2 with z | z | z | z | z <;> first | omega | exact ⟨z.1, z.2.2.1, z.2.2.2⟩
        have h9 := hK2.2.2.2.2.2.2.2.2.1 h2
        refine ⟨by rw [hv, if_pos rfl]; exact hT.2.1, fun k k0 k1 => ?_, h9.1, ?_⟩
        · rw [hv, if_neg (by omega), if_pos (by omega), show 203 + 8 * n1 + k - (203 + 8 * n1) = k by omega]
          exact hT.2.2 k k0 k1
        · rcases hK2.2.2.2.2.2.2.2.1 with z | z
          · exact z.2
          · have := hR.ge; omega)⟩
  have J17 : ∀ σ1 γ1, RR_ G m X ρ σ1 γ1 o T c d → GX_ ρ σ σ1 → TK_ G σ1 (ρ + 2) o so pl nu wd wv n w → ((γ1 = γ ∧ (iv_ γ m 13 = 0 → isn_ m γ)) ∨ (γ1 = wr_ m γ 1 (iv_ γ m 4) ∧ (iv_ γ m 13 = 0 → ¬ isn_ m γ))) → GoM_ G 12 yX3_fresh cX3_fresh 2 (some (.object "java/lang/String")) σ (fun v σ' => ∃ x : Option Nat, v = some (A_ x) ∧ Q x σ') 17 [some (A_ (some ρ)), some (A_ (some o))] [] σ1 := by
    intro σ1 γ1 hR1 hg1 hK1 hγ
    refine g_lt (fun hlt1 hgz1 => ?_)
    have h13 := hR.b13
    obtain ⟨f, hP, hPf⟩ := hR1.2.2.2.2.1
    have hP1 : rv_ σ1 ρ 1 = some (xP_ T) := by rw [hR1.1.2.2.2.2.2.2]; exact hR1.1.2.2.2.2.1
    refine g_al0 dX3_fresh_17 ?_
    refine f_getA 1 fk_X3_12 rfl hR1.h3 (fun _ _ => rfl) hP1 dX3_fresh_18 ?_
    refine g_al1 dX3_fresh_21 ?_
    refine f_getA 3 fk_X3_78 rfl hK1.1 (fun _ _ => rfl) hK1.2.2.2.2.2.1 dX3_fresh_22 ?_
    refine g_callV1I (d' := 6) lk_X3_82 hP.1.sh rfl (rm_lt (by decide) (by decide)) (Nat.le_of_ble_eq_true rfl) dX3_fresh_25 ?_
    refine xp_isName hP hK1.2.2.2.2.2.2.1 (fun z hz => ?_)
    refine g_if_eq (tgt := 36) dX3_fresh_28 (by decide) (by omega) (fun h28 => ?_) (fun h28 => ?_)
    · refine J36 σ1 ?_ hg1 hK1
      have e : fr0_ m γ = γ1 := by
        unfold fr0_
        rcases hγ with ⟨e, q⟩ | ⟨e, q⟩
        · rw [e] at hPf ⊢
          by_cases h0 : iv_ γ m 13 = 0
          · have h2 := (((hTM0 h0).isn h0).mp (q h0)).1
            have hN := fd_non (hTM0 h0) h2 (hK1.2.2.2.2.2.2.2.2.1 h2).2.1.1 (hF h0)
            rw [hPf h0] at hz
            rw [if_pos h0, if_pos (q h0), if_neg (by rcases hz with z | z; (omega); (exact hN.mp z.2))]
          · rw [if_neg h0]
        · rw [e]
          by_cases h0 : iv_ γ m 13 = 0
          · rw [if_pos h0, if_neg (q h0)]
          · rw [if_neg h0, wr_id h0]
      rw [e]
      exact hR1
    refine g_al0 dX3_fresh_31 ?_
    refine g_iconst dX3_fresh_32 ?_
    refine g_callV1V (d' := 3) lk_X3_56 hR1.h3 rfl (rm_lt (by decide) (by decide)) (Nat.le_of_ble_eq_true rfl) dX3_fresh_33 ?_
    refine xr_wrongF hR1 (by omega) (fun σ2 hR2 hg2 hf2 => ?_)
    refine J36 σ2 ?_ (hg1.tr hg2) (hK1.fw hf2 hR1.h3)
    have e : fr0_ m γ = wr_ m γ1 3 (iv_ γ1 m 4) := by
      unfold fr0_
      rcases hγ with ⟨e, q⟩ | ⟨e, q⟩
      · rw [e] at hPf ⊢
        by_cases h0 : iv_ γ m 13 = 0
        · have h2 := (((hTM0 h0).isn h0).mp (q h0)).1
          have hN := fd_non (hTM0 h0) h2 (hK1.2.2.2.2.2.2.2.2.1 h2).2.1.1 (hF h0)
          rw [hPf h0] at hz
          rw [if_pos h0, if_pos (q h0), if_pos (Classical.byContradiction fun w => by rcases hz with z | z; (exact z.2 (hN.mpr w)); (omega))]
        · rw [if_neg h0, wr_id h0]
      · rw [e]
        by_cases h0 : iv_ γ m 13 = 0
        · rw [if_pos h0, if_neg (q h0)]
          exact (wr_id (by rw [wr_13 h13]; decide)).symm
        · rw [if_neg h0, wr_id h0, wr_id h0]
    rw [e]
    exact hR2
  refine g_al0 dX3_fresh_0 ?_
  refine f_getA 2 fk_X3_28 rfl hR.h3 (fun _ _ => rfl) hR.1.2.2.2.2.2.1 dX3_fresh_1 ?_
  refine g_as1 dX3_fresh_4 (by decide) rfl ?_
  refine g_al1 dX3_fresh_5 ?_
  refine g_lt (fun hlt hgz => ?_)
  refine g_callV0I (d' := 6) lk_X3_75 hK.1 rfl (rm_lt (by decide) (by decide)) (Nat.le_of_ble_eq_true rfl) dX3_fresh_6 ?_
  refine xt_isName hK hR.2.2.2.2.2.2.1 (by have := hR.ge; omega) (fun z6 σ6 hF6 hn6 hH6 hz6 => ?_)
  obtain ⟨hR, hg6, hK⟩ := hR.hsh hK hTM0 hF6 hn6 hH6 hlt
  refine g_if_ne (tgt := 17) dX3_fresh_9 (by decide) (by omega) (fun h9 => ?_) (fun h9 => ?_)
  · refine J17 σ6 γ hR hg6 hK (Or.inl ⟨rfl, fun h0 => ((hTM0 h0).isn h0).mpr (by rcases hz6 with q | q; (exact q.2); (omega))⟩)
  refine g_al0 dX3_fresh_12 ?_
  refine g_iconst dX3_fresh_13 ?_
  refine g_callV1V (d' := 3) lk_X3_56 hR.h3 rfl (rm_lt (by decide) (by decide)) (Nat.le_of_ble_eq_true rfl) dX3_fresh_14 ?_
  refine xr_wrongF hR (by omega) (fun σ1 hR1 hg1 hf1 => ?_)
  refine J17 σ1 _ hR1 (hg6.tr hg1) (hK.fw hf1 hR.h3) (Or.inr ⟨rfl, fun h0 q => by rcases hz6 with z | z; (omega); (exact z.2 (((hTM0 h0).isn h0).mp q))⟩)
end
