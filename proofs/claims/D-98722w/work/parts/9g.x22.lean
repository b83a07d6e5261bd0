/-! THE COMPONENT: the reader. Written by mod/m9g.py -/
set_option maxRecDepth 100000
/-- of what was there only the reader's two cells and strings' hashes change -/
def GX_ (ρ : Nat) (σ σ' : JH) : Prop := (∀ b, b < sz_ σ → sh_ σ' b = sh_ σ b) ∧ (∀ b k, b < sz_ σ → b ≠ ρ → b ≠ ρ + 1 → ¬ (ρ ≤ b ∧ sh_ σ b = some (.inl 8) ∧ (k = 2 ∨ k = 3)) → rv_ σ' b k = rv_ σ b k ∧ iv_ σ' b k = iv_ σ b k) ∧ (sz_ σ ≤ sz_ σ' ∧ us_ σ ≤ us_ σ')
/-- what lies below stays -/
def OL_ (ρ : Nat) (σ σ' : JH) : Prop := (∀ b, b < ρ → sh_ σ' b = sh_ σ b ∧ ∀ k, rv_ σ' b k = rv_ σ b k ∧ iv_ σ' b k = iv_ σ b k) ∧ (sz_ σ ≤ sz_ σ' ∧ us_ σ ≤ us_ σ')
/-- a thing's name -/
def NM_ (σ : JH) (lo o : Nat) (z : Int) (c : Int → Int) : Prop := ∃ wd wv n : Nat, rv_ σ o 0 = some wd ∧ Str_ σ wd wv n c ∧ (n : Int) = z ∧ lo ≤ wd ∧ lo ≤ wv
/-- a post that is being told, with its names -/
def PP_ (G : JG) (σ : JH) (lo : Nat) (T : XT) (f : Int → Int) : Prop := PQ_ G σ lo T f ∧ (∀ k, 0 ≤ k → k < 363 → 0 ≤ f k ∧ f k ≤ 9999) ∧ (∀ i, 0 ≤ i → i < f 4 → NM_ σ lo (xg_ T 0 i) (f (183 + i)) (fun k => f (203 + 8 * i + k))) ∧ (∀ w, 0 ≤ w → w < f 6 → NM_ σ lo (xg_ T 2 w) (f (190 + w)) (fun k => f (259 + 8 * w + k))) ∧ (∀ b, 0 ≤ b → b < f 7 → NM_ σ lo (xg_ T 3 b) (f (195 + b)) (fun k => f (299 + 8 * b + k))) ∧ gK_ G 100 < (gH_ G).size ∧ (gH_ G).size ≤ lo
/-- the room that reading has -/
def RM_ (G : JG) (m : Nat) (σ γ : JH) (ρ o : Nat) (c d : Int) : Prop := (sz_ σ : Int) + 8 * (iv_ γ m 3 - iv_ σ (ρ + 1) 2 + (if iv_ σ o 0 = 1 then 0 else 1)) + c ≤ lc_ G ∧ (us_ σ : Int) + 59 * (iv_ γ m 3 - iv_ σ (ρ + 1) 2 + (if iv_ σ o 0 = 1 then 0 else 1)) + d ≤ ls_ G
/-- the reader at ρ, with the ghost γ: while that hasn't failed all is as there; its last token at o, its post at T -/
def RR_ (G : JG) (m X ρ : Nat) (σ γ : JH) (o : Nat) (T : XT) (c d : Int) : Prop :=
  (sh_ σ ρ = some (.inl 3) ∧ (gH_ G).size ≤ ρ ∧ X + 12 < ρ ∧ rv_ σ ρ 0 = some (ρ + 1) ∧ rv_ σ ρ 1 = some (ρ + 2) ∧ rv_ σ ρ 2 = some o ∧ xP_ T = ρ + 2) ∧
  (∃ a, TS_ G m X σ γ (ρ + 1) a ∧ (iv_ γ m 13 = 0 → a = iv_ γ m 5)) ∧
  ((iv_ γ m 13 = 0 ∧ iv_ σ ρ 3 = 0) ∨ (iv_ γ m 13 = 1 ∧ iv_ σ ρ 3 = iv_ γ m 9 ∧ iv_ σ ρ 4 = iv_ γ m 10 ∧ 1 ≤ iv_ γ m 9 ∧ iv_ γ m 9 ≤ 7)) ∧
  (∃ (so pl nu : Int) (wd wv n : Nat) (w : Int → Int), TK_ G σ (ρ + 2) o so pl nu wd wv n w ∧ (iv_ γ m 13 = 0 → TM_ m γ so pl nu n w)) ∧
  (∃ f, PP_ G σ (ρ + 2) T f ∧ (iv_ γ m 13 = 0 → f = iv_ γ (m + 4))) ∧
  (PI_ m γ ∧ (iv_ γ m 6 = 0 → iv_ γ m 5 = iv_ γ m 3 ∧ iv_ γ m 4 = iv_ γ m 3)) ∧ LS_ G σ ∧ RM_ G m σ γ ρ o c d
section
variable {G : JG} {m X ρ o : Nat} {σ σ' σ'' γ : JH} {T : XT} {c d : Int} {S : Nat → Int → Prop} {dc du lo : Nat}
theorem GX_.rf : GX_ ρ σ σ := ⟨fun _ _ => rfl, fun _ _ _ _ _ _ => ⟨rfl, rfl⟩, Nat.le_refl _, Nat.le_refl _⟩
theorem GX_.tr (h : GX_ ρ σ σ') (g : GX_ ρ σ' σ'') : GX_ ρ σ σ'' := by
  have hl := h.2.2
  refine ⟨fun b hb => (g.1 b (by omega)).trans (h.1 b hb), fun b k hb h1 h2 h3 => ?_, by have := g.2.2; omega⟩
  have e := h.2.1 b k hb h1 h2 h3
  have e2 := g.2.1 b k (by omega) h1 h2 (fun w => h3 ⟨w.1, by rw [← h.1 b hb]; exact w.2.1, w.2.2⟩)
  exact ⟨e2.1.trans e.1, e2.2.trans e.2⟩
theorem Gw_.gx (f : Gw_ S dc du σ σ') (hS : ∀ b k, b < sz_ σ → S b k → b = ρ ∨ b = ρ + 1 ∨ (ρ ≤ b ∧ sh_ σ b = some (.inl 8) ∧ (k = 2 ∨ k = 3))) : GX_ ρ σ σ' :=
  ⟨f.1, fun b k hb h1 h2 h3 => f.2.1 b k hb (fun q => by
    rcases hS b k hb q with w | w | w
    · exact h1 w
    · exact h2 w
    · exact h3 w), f.2.2.1.1, f.2.2.2.1⟩
theorem GX_.pi {a : Nat} {k x : Int} (h : GX_ ρ σ σ') (ha : a = ρ ∨ a = ρ + 1 ∨ sz_ σ ≤ a) : GX_ ρ σ (pi_ σ' a k x) :=
  ⟨h.1, fun b j hb h1 h2 h3 => ⟨(h.2.1 b j hb h1 h2 h3).1, by rw [iv_pi, if_neg (by omega)]; exact (h.2.1 b j hb h1 h2 h3).2⟩, h.2.2⟩
theorem GX_.pr {a : Nat} {k : Int} {r : Option Nat} (h : GX_ ρ σ σ') (ha : a = ρ ∨ a = ρ + 1 ∨ sz_ σ ≤ a) : GX_ ρ σ (pr_ σ' a k r) :=
  ⟨h.1, fun b j hb h1 h2 h3 => ⟨by rw [rv_pr, if_neg (by omega)]; exact (h.2.1 b j hb h1 h2 h3).1, (h.2.1 b j hb h1 h2 h3).2⟩, h.2.2⟩
theorem GX_.nw {s : JS} {n : Nat} (h : GX_ ρ σ σ') : GX_ ρ σ (nw_ σ' s n) := by
  have hl := h.2.2
  refine ⟨fun b hb => by rw [sh_nw, if_neg (by omega)]; exact h.1 b hb, fun b k hb h1 h2 h3 => ?_, by rw [sz_nw, us_nw]; omega⟩
  rw [rv_nw, iv_nw, if_neg (by omega), if_neg (by omega)]
  exact h.2.1 b k hb h1 h2 h3
theorem GX_.ol (h : GX_ ρ σ σ') (hρ : ρ ≤ sz_ σ) : OL_ ρ σ σ' := ⟨fun b hb => ⟨h.1 b (by omega), fun k => h.2.1 b k (by omega) (by omega) (by omega) (fun w => by omega)⟩, h.2.2⟩
theorem OL_.tr (h : OL_ ρ σ σ') (g : OL_ ρ σ' σ'') : OL_ ρ σ σ'' := ⟨fun b hb => ⟨(g.1 b hb).1.trans (h.1 b hb).1, fun k => ⟨((g.1 b hb).2 k).1.trans ((h.1 b hb).2 k).1, ((g.1 b hb).2 k).2.trans ((h.1 b hb).2 k).2⟩⟩, by have := h.2; have := g.2; omega⟩
/-! what stays under such a change -/
theorem Str_.gx {a v n : Nat} {w : Int → Int} (h : Str_ σ a v n w) (f : GX_ ρ σ σ') (hlt : ∀ a s, sh_ σ a = some s → a < sz_ σ) (h3 : sh_ σ ρ = some (.inl 3)) (h4 : sh_ σ (ρ + 1) = some (.inl 4)) : Str_ σ' a v n w := by
  obtain ⟨s1, s2, s3, s4, s5, s6⟩ := h
  have la := hlt _ _ s1
  have lv := hlt _ _ s3
  have n1 : a ≠ ρ := fun q => by rw [q, h3] at s1; cases s1
  have n2 : a ≠ ρ + 1 := fun q => by rw [q, h4] at s1; cases s1
  have n3 : v ≠ ρ := fun q => by rw [q, h3] at s3; cases s3
  have n4 : v ≠ ρ + 1 := fun q => by rw [q, h4] at s3; cases s3
  have ev := fun k => f.2.1 v k lv n3 n4 (fun q => by rw [s3] at q; cases q.2.1)
  exact ⟨(f.1 a la).trans s1, (f.2.1 a 0 la n1 n2 (fun q => by omega)).1.trans s2, (f.1 v lv).trans s3, (f.2.1 a 1 la n1 n2 (fun q => by omega)).2.trans s4, s5, fun k k0 k1 => by rw [(ev k).2]; exact s6 k k0 k1⟩
theorem NM_.gx {z : Int} {w : Int → Int} (h : NM_ σ lo o z w) (f : GX_ ρ σ σ') (hlt : ∀ a s, sh_ σ a = some s → a < sz_ σ) (h3 : sh_ σ ρ = some (.inl 3)) (h4 : sh_ σ (ρ + 1) = some (.inl 4)) (lo_ : o < sz_ σ) (n1 : o ≠ ρ ∧ o ≠ ρ + 1) : NM_ σ' lo o z w := by
  obtain ⟨wd, wv, n, a1, a2, a3, a4, a5⟩ := h
  exact ⟨wd, wv, n, (f.2.1 o 0 lo_ n1.1 n1.2 (fun q => by omega)).1.trans a1, a2.gx f hlt h3 h4, a3, a4, a5⟩
theorem PP_.gx {f : Int → Int} (h : PP_ G σ lo T f) (g : GX_ ρ σ σ') (hlt : ∀ a s, sh_ σ a = some s → a < sz_ σ) (h3 : sh_ σ ρ = some (.inl 3)) (h4 : sh_ σ (ρ + 1) = some (.inl 4)) (hge : (gH_ G).size ≤ ρ) (hlo : ρ + 2 ≤ lo) : PP_ G σ' lo T f := by
  obtain ⟨h1, h2, hi, hw, hb, hk, hgl⟩ := h
  have nn : ∀ b, PA_ T f b → b < sz_ σ ∧ b ≠ ρ ∧ b ≠ ρ + 1 := fun b hb => by
    have := (h1.shp hb).2
    exact ⟨h1.lt hlt hb, by omega, by omega⟩
  refine ⟨h1.pres fun b hb => ⟨g.1 b (nn b hb).1, fun k => g.2.1 b k (nn b hb).1 (nn b hb).2.1 (nn b hb).2.2 (fun q => ?_)⟩, h2, fun i i0 i1 => ?_, fun w w0 w1 => ?_, fun b b0 b1 => ?_, hk, hgl⟩
  · rcases (h1.shp hb).1 with ⟨ci, c1, c2⟩ | ⟨cap, c1, -⟩ | ⟨i, n, -, -, c1⟩
    · rw [c1] at q; have := q.2.1; cases this; omega
    · rw [c1] at q; cases q.2.1
    · rw [c1] at q; cases q.2.1
  · have w := nn _ (Or.inr (Or.inr (Or.inl ⟨i, ⟨i0, i1⟩, Or.inl rfl⟩)))
    exact (hi i i0 i1).gx g hlt h3 h4 w.1 w.2
  · have q := nn _ (Or.inr (Or.inr (Or.inr (Or.inr (Or.inl ⟨w, ⟨w0, w1⟩, rfl⟩)))))
    exact (hw w w0 w1).gx g hlt h3 h4 q.1 q.2
  · have q := nn _ (Or.inr (Or.inr (Or.inr (Or.inr (Or.inr (Or.inl ⟨b, ⟨b0, b1⟩, rfl⟩))))))
    exact (hb b b0 b1).gx g hlt h3 h4 q.1 q.2
theorem LS_.gx (h : LS_ G σ) (g : GX_ ρ σ σ') (hlt : ∀ a s, sh_ σ a = some s → a < sz_ σ) (h3 : sh_ σ ρ = some (.inl 3)) (h4 : sh_ σ (ρ + 1) = some (.inl 4)) : LS_ G σ' := fun i q e => by
  obtain ⟨v, a1, a2, a3⟩ := h i q e
  exact ⟨v, a1.gx g hlt h3 h4, a2, a3⟩
theorem TK_.gx {so pl nu : Int} {wd wv n : Nat} {w : Int → Int} (h : TK_ G σ lo o so pl nu wd wv n w) (g : GX_ ρ σ σ') (hlt : ∀ a s, sh_ σ a = some s → a < sz_ σ) (h3 : sh_ σ ρ = some (.inl 3)) (h4 : sh_ σ (ρ + 1) = some (.inl 4)) (hh : so = 2 → HS_ σ' wd (w32_ (hsh_ w n))) : TK_ G σ' lo o so pl nu wd wv n w := by
  obtain ⟨a1, a2, a3, a4, a5, a6, a7, a8, a9, a10, a11⟩ := h
  have l := hlt _ _ a1
  have n1 : o ≠ ρ := fun q => by rw [q, h3] at a1; cases a1
  have n2 : o ≠ ρ + 1 := fun q => by rw [q, h4] at a1; cases a1
  have e := fun k => g.2.1 o k l n1 n2 (fun q => by rw [a1] at q; cases q.2.1)
  exact ⟨(g.1 _ l).trans a1, a2, (e 0).2.trans a3, (e 1).2.trans a4, (e 2).2.trans a5, (e 3).1.trans a6, a7.gx g hlt h3 h4, a8, fun q => ⟨(a9 q).1, (a9 q).2.1, hh q⟩, a10, a11⟩
theorem RR_.h3 (h : RR_ G m X ρ σ γ o T c d) : sh_ σ ρ = some (.inl 3) := h.1.1
theorem RR_.ge (h : RR_ G m X ρ σ γ o T c d) : (gH_ G).size ≤ ρ := h.1.2.1
theorem RR_.h4 (h : RR_ G m X ρ σ γ o T c d) : sh_ σ (ρ + 1) = some (.inl 4) := by
  obtain ⟨a, h1, -⟩ := h.2.1
  exact h1.1
theorem RR_.I (h : RR_ G m X ρ σ γ o T c d) : PI_ m γ := h.2.2.2.2.2.1.1
theorem RR_.b13 (h : RR_ G m X ρ σ γ o T c d) : iv_ γ m 13 = 0 ∨ iv_ γ m 13 = 1 := h.I.2.2.1
theorem RR_.P (h : RR_ G m X ρ σ γ o T c d) (h0 : iv_ γ m 13 = 0) : PP_ G σ (ρ + 2) T (iv_ γ (m + 4)) := by
  obtain ⟨f, h1, h2⟩ := h.2.2.2.2.1
  rw [← h2 h0]
  exact h1
theorem RM_.wk {c' d' : Int} (h : RM_ G m σ γ ρ o c d) (hc : c' ≤ c) (hd : d' ≤ d) : RM_ G m σ γ ρ o c' d' := by
  unfold RM_ at *
  omega
theorem RR_.wk {c' d' : Int} (h : RR_ G m X ρ σ γ o T c d) (hc : c' ≤ c) (hd : d' ≤ d) : RR_ G m X ρ σ γ o T c' d' := ⟨h.1, h.2.1, h.2.2.1, h.2.2.2.1, h.2.2.2.2.1, h.2.2.2.2.2.1, h.2.2.2.2.2.2.1, h.2.2.2.2.2.2.2.wk hc hd⟩
/-- new things are made; the reader's own cells stay; strings' hashes too -/
theorem RR_.gw (h : RR_ G m X ρ σ γ o T c d) (f : Gw_ (fun _ _ => False) dc du σ σ') (hlt : ∀ a s, sh_ σ a = some s → a < sz_ σ) : RR_ G m X ρ σ' γ o T (c - dc) (d - du) := by
  have g : GX_ ρ σ σ' := f.gx (fun _ _ _ q => q.elim)
  have e3 := h.h3
  have e4 := h.h4
  have hge := h.ge
  obtain ⟨⟨b1, b2, b3, b4, b5, b6, b7⟩, ⟨a, t1, t2⟩, h13, ⟨so, pl, nu, wd, wv, n, w, k1, k2⟩, ⟨f0, p1, p2⟩, hI, hL, hM⟩ := h
  have l3 := hlt _ _ e3
  have l4 := hlt _ _ e4
  have lo_ := hlt _ _ k1.1
  have ev := fun b k hb => (f.2.1 b k hb (fun q => q))
  have lw := hlt _ _ k1.2.2.2.2.2.2.1.1
  refine ⟨⟨(f.1 _ l3).trans b1, b2, b3, (ev _ 0 l3).1.trans b4, (ev _ 1 l3).1.trans b5, (ev _ 2 l3).1.trans b6, b7⟩, ⟨a, t1.gw f hlt (fun _ q => q) (fun _ q => q), t2⟩, ?_, ⟨so, pl, nu, wd, wv, n, w, k1.gx g hlt e3 e4 (fun q => (k1.2.2.2.2.2.2.2.2.1 q).2.2.gw f lw (fun _ q => q)), k2⟩, ⟨f0, p1.gx g hlt e3 e4 hge (Nat.le_refl _), p2⟩, hI, hL.gx g hlt e3 e4, ?_⟩
  · rw [(ev _ 3 l3).2, (ev _ 4 l3).2]; exact h13
  · have hz := f.2.2
    unfold RM_ at *
    rw [(ev _ 2 l4).2, (ev _ 0 lo_).2]
    omega
theorem xr_isOver  {Q : Int → JH → Prop} (hR : RR_ G m X ρ σ γ o T c d)
    (hQ : ∀ z : Int, (z = 1 ∧ iv_ γ m 13 = 1) ∨ (z = 0 ∧ iv_ γ m 13 = 0) → Q z σ) : CallI_ G 2 yX3_isOver cX3_isOver 1 (some .boolean) [A_ (some ρ)] σ Q := by
  refine call_go [some (A_ (some ρ))] (by decide) (Nat.le_of_ble_eq_true rfl) rfl ?_
  refine g_al0 dX3_isOver_0 ?_
  have h13 := hR.2.2.1
  refine f_getI 3 fk_X3_32 rfl hR.h3 (fun _ _ => rfl) dX3_isOver_1 ?_
  refine g_if_le (tgt := 11) dX3_isOver_4 (by decide) (by omega) (fun h4 => ?_) (fun h4 => ?_)
  · refine g_iconst dX3_isOver_11 ?_
    exact g_zret rfl (by omega) dX3_isOver_12 ⟨_, rfl, hQ _ (Or.inr ⟨rfl, by omega⟩)⟩
  refine g_iconst dX3_isOver_7 ?_
  refine g_goto (tgt := 12) dX3_isOver_8 (by decide) ?_
  exact g_zret rfl (by omega) dX3_isOver_12 ⟨_, rfl, hQ _ (Or.inl ⟨rfl, by omega⟩)⟩
theorem RR_.fail (h : RR_ G m X ρ σ γ o T c d) (h0 : iv_ γ m 13 = 0) {k : Int} (hk : 1 ≤ k ∧ k ≤ 7) : RR_ G m X ρ (pi_ (pi_ σ ρ 3 k) ρ 4 (iv_ γ m 4)) (wr_ m γ k (iv_ γ m 4)) o T c d := by
  have e3 := h.h3
  have e4 := h.h4
  obtain ⟨⟨b1, b2, b3, b4, b5, b6, b7⟩, ⟨a, t1, t2⟩, h13, ⟨so, pl, nu, wd, wv, n, w, k1, k2⟩, ⟨f0, p1, p2⟩, ⟨hI, hE⟩, hL, hM⟩ := h
  have hw13 := wr_13 (m := m) (γ := γ) (w := k) (a := iv_ γ m 4) (Or.inl h0)
  have hw9 := wr_9 (m := m) (γ := γ) (w := k) (a := iv_ γ m 4) h0
  have hf0 := wr_f0 (m := m) γ k (iv_ γ m 4)
  have hw : ∀ b j, ¬ (b = m ∧ (j = 13 ∨ j = 9 ∨ j = 10)) → iv_ (wr_ m γ k (iv_ γ m 4)) b j = iv_ γ b j := fun b j q => by
    unfold wr_
    rw [if_pos h0, iv_pi, if_neg (by omega), iv_pi, if_neg (by omega), iv_pi, if_neg (by omega)]
  have e : ∀ b j, b ≠ ρ → iv_ (pi_ (pi_ σ ρ 3 k) ρ 4 (iv_ γ m 4)) b j = iv_ σ b j := fun b j q => by rw [iv_pi, if_neg (by omega), iv_pi, if_neg (by omega)]
  have g : GX_ ρ σ (pi_ (pi_ σ ρ 3 k) ρ 4 (iv_ γ m 4)) := (GX_.rf.pi (Or.inl rfl)).pi (Or.inl rfl)
  have nof : ∀ (o' : Nat) (s : JS), sh_ σ o' = some s → s ≠ .inl 3 → o' ≠ ρ := fun o' s hs hn q => by
    rw [q, e3] at hs
    exact hn (Option.some.inj hs).symm
  have nl3 : ∀ (i : Nat), i ≠ 3 → (Sum.inl i : JS) ≠ .inl 3 := fun i hi q => hi (Sum.inl.inj q)
  have no : o ≠ ρ := nof o _ k1.1 (nl3 6 (by decide))
  have hTX := t1.2.2.2.2.2.2.2.2.1
  refine ⟨⟨b1, b2, b3, b4, b5, b6, b7⟩, ⟨a, ?_, fun q => by omega⟩, Or.inr ⟨hw13, ?_, ?_, by omega, by omega⟩, ⟨so, pl, nu, wd, wv, n, w, ?_, fun q => by omega⟩, ⟨f0, ?_, fun q => by omega⟩, ⟨hI.wr _ _, ?_⟩, ?_, ?_⟩
  · obtain ⟨a1, a2, a3, a4, a5, a6, a7, a8, a9, a10⟩ := t1
    exact ⟨a1, a2, a3, by rw [e _ _ (by omega), hw _ _ (by omega)]; exact a4, by rw [e _ _ (by omega)]; exact a5, by rw [hw _ _ (by omega)]; exact a6, a7, fun j j0 j1 => by rw [e _ _ (by omega), hw _ _ (by omega)]; rw [hw _ _ (by omega)] at j1; exact a8 j j0 j1, (hI.wr _ _).1, a10⟩
  · rw [iv_pi, if_neg (by omega), iv_pi, if_pos ⟨rfl, rfl⟩, hw9.1]
  · rw [iv_pi, if_pos ⟨rfl, rfl⟩, hw9.2]
  · obtain ⟨a1, a2, a3, a4, a5, a6, a7, a8, a9, a10, a11⟩ := k1
    refine ⟨a1, a2, by rw [e _ _ no]; exact a3, by rw [e _ _ no]; exact a4, by rw [e _ _ no]; exact a5, a6, ?_, a8, fun q => ⟨(a9 q).1, (a9 q).2.1, ?_⟩, a10, a11⟩
    · obtain ⟨s1, s2, s3, s4, s5, s6⟩ := a7
      exact ⟨s1, s2, s3, by rw [e _ _ (nof wd _ s1 (nl3 8 (by decide)))]; exact s4, s5, fun j j0 j1 => by rw [e _ _ (nof wv _ s3 (fun q => by cases q))]; exact s6 j j0 j1⟩
    · have nw := nof wd _ a7.1 (nl3 8 (by decide))
      unfold HS_ at *
      rw [e _ _ nw, e _ _ nw]
      exact (a9 q).2.2
  · obtain ⟨q1, q2, qi, qw, qb, qk, ql⟩ := p1
    have str : ∀ {wd wv n : Nat} {cc : Int → Int}, Str_ σ wd wv n cc → Str_ (pi_ (pi_ σ ρ 3 k) ρ 4 (iv_ γ m 4)) wd wv n cc := fun {wd wv n cc} hs => by
      obtain ⟨s1, s2, s3, s4, s5, s6⟩ := hs
      exact ⟨s1, s2, s3, by rw [e _ _ (nof wd _ s1 (nl3 8 (by decide)))]; exact s4, s5, fun j j0 j1 => by rw [e _ _ (nof wv _ s3 (fun q => by cases q))]; exact s6 j j0 j1⟩
    refine ⟨q1.pres fun b hb => ⟨rfl, fun j => ⟨rfl, e _ _ (by have := (q1.shp hb).2; omega)⟩⟩, q2, fun i i0 i1 => ?_, fun w w0 w1 => ?_, fun b b0 b1 => ?_, qk, ql⟩
    · obtain ⟨x, y, z, z1, z2, z3⟩ := qi i i0 i1
      exact ⟨x, y, z, z1, str z2, z3⟩
    · obtain ⟨x, y, z, z1, z2, z3⟩ := qw w w0 w1
      exact ⟨x, y, z, z1, str z2, z3⟩
    · obtain ⟨x, y, z, z1, z2, z3⟩ := qb b b0 b1
      exact ⟨x, y, z, z1, str z2, z3⟩
  · rw [hw _ _ (by omega), hw _ _ (by omega), hw _ _ (by omega), hw _ _ (by omega)]; exact hE
  · intro i q hq
    obtain ⟨v, s, s1, s2⟩ := hL i q hq
    obtain ⟨x1, x2, x3, x4, x5, x6⟩ := s
    exact ⟨v, ⟨x1, x2, x3, by rw [e _ _ (by omega)]; exact x4, x5, fun j j0 j1 => by rw [e _ _ (by omega)]; exact x6 j j0 j1⟩, s1, s2⟩
  · unfold RM_ at *
    rw [hw _ _ (by omega), e _ _ (by omega), e _ _ no]
    exact hM
theorem xr_wrong  {k : Int} {Q : JH → Prop} (hR : RR_ G m X ρ σ γ o T c d) (hk : 1 ≤ k ∧ k ≤ 7)
    (hQ : ∀ σ', RR_ G m X ρ σ' (wr_ m γ k (iv_ γ m 4)) o T c d → GX_ ρ σ σ' → Q σ') : CallV_ G 3 yX3_wrong cX3_wrong 2 none [A_ (some ρ), I_ k] σ Q := by
  refine call_go [some (A_ (some ρ)), some (I_ k)] (by decide) (Nat.le_of_ble_eq_true rfl) rfl ?_
  refine g_al0 dX3_wrong_0 ?_
  refine g_callV0I (d' := 2) lk_X3_36 hR.h3 rfl (rm_lt (by decide) (by decide)) (Nat.le_of_ble_eq_true rfl) dX3_wrong_1 ?_
  refine xr_isOver hR (fun x1 hx1 => ?_)
  refine g_if_eq (tgt := 8) dX3_wrong_4 (by decide) (by omega) (fun h4 => ?_) (fun h4 => ?_)
  · refine g_al0 dX3_wrong_8 ?_
    refine g_il1 dX3_wrong_9 ?_
    refine f_putI 3 fk_X3_32 rfl (nf_ rfl rfl) hR.h3 hR.ge rfl dX3_wrong_10 ?_
    refine g_al0 dX3_wrong_13 ?_
    refine g_al0 dX3_wrong_14 ?_
    obtain ⟨so, pl, nu, wd, wv, n, w, hK, hTM⟩ := hR.2.2.2.1
    have hpl := (hTM (by omega)).1
    refine f_getA 2 fk_X3_28 rfl hR.h3 (fun _ _ => rfl) hR.1.2.2.2.2.2.1 dX3_wrong_15 ?_
    refine f_getv 1 fk_X3_40 rfl hK.1 (fun _ _ => rfl) (show iv_ (pi_ σ ρ 3 k) o 1 = iv_ γ m 4 by rw [iv_pi, if_neg (fun q => by have := hK.1; rw [q.1, hR.h3] at this; cases this)]; exact hK.2.2.2.1.trans hpl) dX3_wrong_18 ?_
    refine f_putI 4 fk_X3_45 rfl (nf_ rfl rfl) hR.h3 hR.ge rfl dX3_wrong_21 ?_
    exact g_vret rfl dX3_wrong_24 ⟨rfl, hQ _ (hR.fail (by omega) hk) ((GX_.rf.pi (Or.inl rfl)).pi (Or.inl rfl))⟩
  exact g_vret rfl dX3_wrong_7 ⟨rfl, hQ _ (by rw [wr_id (by omega)]; exact hR) GX_.rf⟩
theorem nxt_end (hI : PI_ m γ) (h6 : iv_ γ m 6 = 0) (hE : iv_ γ m 5 = iv_ γ m 3 ∧ iv_ γ m 4 = iv_ γ m 3) : iv_ (nxt_ m γ) m 4 = iv_ γ m 4 ∧ iv_ (nxt_ m γ) m 5 = iv_ γ m 5 ∧ iv_ (nxt_ m γ) m 6 = 0 := by
  have hk : skp_ isB2_ (lk_ m γ) (iv_ γ m 5) (iv_ γ m 3) = iv_ γ m 3 := skp_hit (by omega) (by omega) (fun j j0 j1 => by omega) (by unfold lk_; rw [if_neg (by omega)]; rfl)
  have := nxt_e hk (by unfold lk_; rw [if_neg (by omega)])
  omega
theorem nxt_E0 (hI : PI_ m γ) : iv_ (nxt_ m γ) m 6 = 0 → iv_ (nxt_ m γ) m 5 = iv_ (nxt_ m γ) m 3 ∧ iv_ (nxt_ m γ) m 4 = iv_ (nxt_ m γ) m 3 := fun q => by
  have hT := hI.1
  have he := hI.2.1
  have hB := skp_in (P := isB2_) (L := lk_ m γ) he.2 (by unfold lk_; rw [if_neg (by omega)]; rfl)
  have hl := lk_in hT (k := skp_ isB2_ (lk_ m γ) (iv_ γ m 5) (iv_ γ m 3)) (by omega)
  have h3 : iv_ (nxt_ m γ) m 3 = iv_ γ m 3 := (nxt_f0 γ).2.2.2.2 m 3 (fun w => by unfold pf0_ at w; omega)
  rw [h3]
  generalize hk : skp_ isB2_ (lk_ m γ) (iv_ γ m 5) (iv_ γ m 3) = k at *
  by_cases c1 : lk_ m γ k = -1
  · have := nxt_e hk c1
    omega
  · exfalso
    by_cases c2 : isS_ (lk_ m γ k) = true
    · have := (nxt_w hk c1 c2 rfl).2.2.1
      split at this <;> omega
    · by_cases c3 : isD_ (lk_ m γ k) = true
      · have := (nxt_d hk c1 c2 c3 rfl).2.2.1
        split at this <;> omega
      · have := (nxt_o hk c1 c2 c3).2.2
        split at this <;> omega
theorem RR_.sort (h : RR_ G m X ρ σ γ o T c d) (h0 : iv_ γ m 13 = 0) {so pl nu : Int} {n : Nat} {w : Int → Int} (k : TM_ m γ so pl nu n w) : (so = 1 ↔ iv_ γ m 6 = 0) ∧ (so = 2 ↔ iv_ γ m 6 = 2) ∧ (so = 3 ↔ iv_ γ m 6 = 3) ∧ (so = 4 ↔ iv_ γ m 6 = 59) := by
  rcases k.2 with q | q | q | q | q <;> omega
/-- at the end nothing is read -/
theorem RR_.fin (h : RR_ G m X ρ σ γ o T c d) (h0 : iv_ γ m 13 = 0) (h6 : iv_ γ m 6 = 0) : RR_ G m X ρ σ (nxt_ m γ) o T c d := by
  obtain ⟨b, ⟨a, t1, t2⟩, h13, ⟨so, pl, nu, wd, wv, n, w, k1, k2⟩, ⟨f0, p1, p2⟩, ⟨hI, hE⟩, hL, hM⟩ := h
  have e := nxt_end hI h6 (hE h6)
  have ef := nxt_fix (m := m) γ
  have f0' := nxt_f0 (m := m) γ
  have e3 : iv_ (nxt_ m γ) m 3 = iv_ γ m 3 := f0'.2.2.2.2 m 3 (fun w => by unfold pf0_ at w; omega)
  have e1 : ∀ k, iv_ (nxt_ m γ) (m + 1) k = iv_ γ (m + 1) k := fun k => f0'.2.2.2.2 _ _ (fun w => by unfold pf0_ at w; omega)
  refine ⟨b, ⟨a, ?_, fun _ => by rw [e.2.1]; exact t2 h0⟩, by rw [ef.1, ef.2.1, ef.2.2]; exact h13, ⟨so, pl, nu, wd, wv, n, w, k1, fun _ => ⟨by rw [e.1]; exact (k2 h0).1, Or.inl ⟨e.2.2, ?_⟩⟩⟩, ⟨f0, p1, fun _ => by rw [p2 h0]; exact funext fun k => (f0'.f4 k).symm⟩, ⟨hI.nxt, nxt_E0 hI⟩, hL, by unfold RM_ at *; rw [e3]; exact hM⟩
  · obtain ⟨a1, a2, a3, a4, a5, a6, a7, a8, a9, a10⟩ := t1
    exact ⟨a1, a2, a3, by rw [e3]; exact a4, a5, by rw [e3]; exact a6, a7, fun k k0 k1 => by rw [e1]; rw [e3] at k1; exact a8 k k0 k1, hI.nxt.1, a10⟩
  · rcases (k2 h0).2 with q | q | q | q | q <;> omega
theorem xr_on  {Q : JH → Prop} (hR : RR_ G m X ρ σ γ o T c d) (hcd : 0 ≤ c ∧ 0 ≤ d)
    (hQ : ∀ σ' o', (∀ c' d', (c' ≤ c ∧ d' ≤ d) ∨ (iv_ γ m 13 = 0 ∧ iv_ γ m 6 ≠ 0 ∧ c' ≤ c + 3 ∧ d' ≤ d + 23) → RR_ G m X ρ σ' (onn_ m γ) o' T c' d') → GX_ ρ σ σ' → Q σ') : CallV_ G 11 yX3_on cX3_on 1 none [A_ (some ρ)] σ Q := by
  refine call_go [some (A_ (some ρ))] (by decide) (Nat.le_of_ble_eq_true rfl) rfl ?_
  refine g_al0 dX3_on_0 ?_
  refine g_callV0I (d' := 2) lk_X3_36 hR.h3 rfl (rm_lt (by decide) (by decide)) (Nat.le_of_ble_eq_true rfl) dX3_on_1 ?_
  refine xr_isOver hR (fun x1 hx1 => ?_)
  refine g_if_ne (tgt := 29) dX3_on_4 (by decide) (by omega) (fun h4 => ?_) (fun h4 => ?_)
  · exact g_vret rfl dX3_on_29 ⟨rfl, hQ σ o (fun c' d' hcd => by rw [show onn_ m γ = γ from if_neg (by omega)]; exact hR.wk (by omega) (by omega)) GX_.rf⟩
  obtain ⟨so, pl, nu, wd, wv, n, w, hK, hTM0⟩ := hR.2.2.2.1
  have hTM := hTM0 (by omega)
  have hKb := hK.2.2.2.2.2.2.2.2.2.1
  refine g_al0 dX3_on_7 ?_
  refine f_getA 2 fk_X3_28 rfl hR.h3 (fun _ _ => rfl) hR.1.2.2.2.2.2.1 dX3_on_8 ?_
  refine f_getv 0 fk_X3_46 rfl hK.1 (fun _ _ => rfl) hK.2.2.1 dX3_on_11 ?_
  refine g_iconst dX3_on_14 ?_
  refine g_icmp_eq (tgt := 29) dX3_on_15 (by decide) (by omega) (fun h15 => ?_) (fun h15 => ?_)
  · have h6 := (hR.sort (by omega) hTM).1.mp h15
    exact g_vret rfl dX3_on_29 ⟨rfl, hQ σ o (fun c' d' hcd => by rw [show onn_ m γ = nxt_ m γ from if_pos (by omega)]; exact (hR.fin (by omega) h6).wk (by omega) (by omega)) GX_.rf⟩
  refine g_lt (fun hlt hgz => ?_)
  refine g_al0 dX3_on_18 ?_
  refine g_al0 dX3_on_19 ?_
  refine f_getA 0 fk_X3_18 rfl hR.h3 (fun _ _ => rfl) hR.1.2.2.2.1 dX3_on_20 ?_
  refine g_callV0A (d' := 10) lk_X3_22 hR.h4 rfl (rm_lt (by decide) (by decide)) (Nat.le_of_ble_eq_true rfl) dX3_on_23 ?_
  obtain ⟨a, hT, hTa⟩ := hR.2.1
  have ha5 := hTa (by omega)
  subst ha5
  have h3l := hlt _ _ hR.h3
  have h4l := hlt _ _ hR.h4
  have hM := hR.2.2.2.2.2.2.2
  have hRM := hM
  unfold RM_ at hRM
  rw [hT.2.2.2.2.1, hK.2.2.1, if_neg (by omega)] at hRM
  have hbd := hT.2.2.2.2.2.1
  refine xt_next (lo := ρ + 2) hT hR.2.2.2.2.2.2.1 (by have := hR.h4; omega) (by omega) (fun σ' o' so' pl' nu' wd' wv' n' w' hK' hTM' ho' hT' hG' => ?_)
  refine g_lt (fun hlt' hgz' => ?_)
  refine f_putA 2 fk_X3_28 rfl (nf_ rfl rfl) ((hG'.1 _ h3l).trans hR.h3) hR.ge (Or.inl ⟨_, rfl⟩) dX3_on_26 ?_
  exact g_vret rfl dX3_on_29 ⟨rfl, by
      have hson := hR.sort (by omega) hTM
      have h6 : iv_ γ m 6 ≠ 0 := fun q => by have := hson.1; omega
      have e5 := (nxt_5 hR.I)
      have eI := hR.I.nxt.2.1
      have e3 : iv_ (nxt_ m γ) m 3 = iv_ γ m 3 := (nxt_f0 γ).2.2.2.2 m 3 (fun w => by unfold pf0_ at w; omega)
      have e1 : ∀ k, iv_ (nxt_ m γ) (m + 1) k = iv_ γ (m + 1) k := fun k => (nxt_f0 γ).2.2.2.2 _ _ (fun w => by unfold pf0_ at w; omega)
      have ef := nxt_fix (m := m) γ
      have hge := hR.ge
      have gx : GX_ ρ σ σ' := hG'.gx (fun b k _ q => Or.inr (Or.inl q.1))
      have hos : o' ≠ ρ := by omega
      have hson' : so' = 1 ↔ iv_ (nxt_ m γ) m 6 = 0 := by rcases hTM'.2 with q | q | q | q | q <;> omega
      have onn : onn_ m γ = nxt_ m γ := if_pos (by omega)
      have hz' := hG'.2.2
      obtain ⟨f0, p1, p2⟩ := hR.2.2.2.2.1
      obtain ⟨b1, b2, b3, b4, b5, b6, b7⟩ := hR.1
      have ev : ∀ b k, b < sz_ σ → ¬ (b = ρ + 1 ∧ k = 2) → rv_ σ' b k = rv_ σ b k ∧ iv_ σ' b k = iv_ σ b k := fun b k hb q => hG'.2.1 b k hb q
      have h13 := hR.2.2.1
      have hT2 : TS_ G m X (pr_ σ' ρ 2 (some o')) (nxt_ m γ) (ρ + 1) (iv_ (nxt_ m γ) m 5) := by
        obtain ⟨a1, a2, a3, a4, a5, a6, a7, a8, a9, a10⟩ := hT'
        exact ⟨a1, a2, by rw [rv_pr, if_neg (by omega)]; exact a3, by rw [e3]; exact a4, a5, by rw [e3]; exact a6, a7, fun k k0 k1 => by rw [e1]; rw [e3] at k1; exact a8 k k0 k1, hR.I.nxt.1, a10⟩
      have g2 : GX_ ρ σ (pr_ σ' ρ 2 (some o')) := gx.pr (Or.inl rfl)
      have h3' : sh_ σ' ρ = some (.inl 3) := (hG'.1 _ h3l).trans b1
      have h4' : sh_ σ' (ρ + 1) = some (.inl 4) := hT'.1
      have gy : GX_ ρ σ' (pr_ σ' ρ 2 (some o')) := GX_.rf.pr (Or.inl rfl)
      rw [onn] at hQ
      refine hQ (pr_ σ' ρ 2 (some o')) o' (fun c' d' hcd => ?_) g2
      refine ⟨⟨h3', b2, b3, by rw [rv_pr, if_neg (by omega)]; exact (ev _ _ h3l (by omega)).1.trans b4, by rw [rv_pr, if_neg (by omega)]; exact (ev _ _ h3l (by omega)).1.trans b5, by rw [rv_pr, if_pos ⟨rfl, rfl⟩], b7⟩, ⟨_, hT2, fun _ => rfl⟩, ?_, ⟨so', pl', nu', wd', wv', n', w', hK'.gx gy hlt' h3' h4' (fun q => (hK'.2.2.2.2.2.2.2.2.1 q).2.2), fun _ => hTM'⟩, ⟨f0, p1.gx g2 hlt hR.h3 hR.h4 hge (Nat.le_refl _), fun _ => by rw [p2 (by omega)]; exact funext fun k => ((nxt_f0 γ).f4 k).symm⟩, ⟨hR.I.nxt, nxt_E0 hR.I⟩, hR.2.2.2.2.2.2.1.gx g2 hlt hR.h3 hR.h4, ?_⟩
      · rw [ef.1, ef.2.1, ef.2.2, iv_pr, iv_pr, (ev _ _ h3l (by omega)).2, (ev _ _ h3l (by omega)).2]; exact h13
      · unfold RM_
        rw [e3, iv_pr, iv_pr, hT'.2.2.2.2.1, hK'.2.2.1]
        show (sz_ σ' : Int) + _ + _ ≤ _ ∧ (us_ σ' : Int) + _ + _ ≤ _
        have e5b := e5.1
        have e5c := e5.2
        by_cases q : so' = 1
        · rw [if_pos q]; omega
        · rw [if_neg q]
          have := e5c (fun w => q (hson'.mpr w))
          omega⟩
end
