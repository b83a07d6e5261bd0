/-! THE COMPONENT: its whole state; what is kept. Written by mod/m9c.py -/
set_option maxRecDepth 100000
/-- where the past and the images lie: their arrays, how long those are, their desks -/
abbrev XL : Type := (Nat × Nat × (Int → Nat)) × (Nat × Nat × (Int → Nat))
def sby_ (v : Int) : Int := if v < 128 then v else v - 256
def DS_ (G : JG) (σ : JH) (lo : Nat) (T : XT) (D : Nat) (r u : Int → Int) : Prop := DQ_ G σ lo D r u ∧ ∀ i, 0 ≤ i → i < r 4 → xS_ T i < D
/-- a list of desks at a -/
def PL_ (G : JG) (σ : JH) (lo : Nat) (T : XT) (r : Int → Int) (p : Int) (a : Nat) (l : Nat × Nat × (Int → Nat)) (n : Int) (U : Int → Int → Int) : Prop :=
  Ls_ G σ a l.1 l.2.1 n l.2.2 ∧ (lo ≤ l.1 ∨ l.1 = gK_ G 100) ∧ (∀ k, 0 ≤ k → k < n → DS_ G σ lo T (l.2.2 k) r (U k)) ∧ (p = 1 → (gH_ G).size ≤ l.1 → ∀ j, j < 5 → l.1 ≠ xE_ T j)
/-- desks are not one -/
def DD_ (D : Nat) (un im : Int) (g1 g2 : Int → Nat) : Prop := (∀ k, 0 ≤ k → k < un → g1 k ≠ D) ∧ (∀ k, 0 ≤ k → k < im → g2 k ≠ D) ∧ (∀ k j, 0 ≤ k → k < j → j < un → g1 k ≠ g1 j) ∧ (∀ k j, 0 ≤ k → k < un → 0 ≤ j → j < im → g1 k ≠ g2 j)
/-- the tape and the small fields -/
def XF_ (G : JG) (X : Nat) (σ : JH) (tp fa pl tr : Int) (B : Int → Int) : Prop := (iv_ σ X 1 = tp ∧ (0 ≤ tp ∧ tp ≤ 1000) ∧ ∀ k, 0 ≤ k → k < tp → iv_ σ (X + 1) k = sby_ (B k)) ∧ (iv_ σ X 2 = fa ∧ iv_ σ X 3 = (if tr = 4 then pl else -1) ∧ iv_ σ X 4 = tr) ∧ sh_ σ (gK_ G 100) = some (.inr (3, 0))
/-- all of the component; new things lie from lo on -/
def XS_ (G : JG) (X lo : Nat) (σ : JH) (tp fa pl tr p un im : Int) (B r s : Int → Int) (U I : Int → Int → Int) (T : XT) (L : XL) : Prop :=
  XQ_ G X σ p T r s ∧ X + 13 ≤ lo ∧ XF_ G X σ tp fa pl tr B ∧ (p = 1 → lo ≤ xD_ T ∧ ∀ i, 0 ≤ i → i < r 4 → xS_ T i < xD_ T) ∧ (p ≠ 1 → un = 0 ∧ im = 0) ∧
  PL_ G σ lo T r p (X + 2) L.1 un U ∧ PL_ G σ lo T r p (X + 3) L.2 im I ∧ ((gH_ G).size ≤ L.1.1 → L.1.1 ≠ L.2.1) ∧ (p = 1 → DD_ (xD_ T) un im L.1.2.2 L.2.2.2)
/-- what a call of it writes -/
def xw_ (X lo : Nat) (b : Nat) (_ : Int) : Prop := (X ≤ b ∧ b ≤ X + 12) ∨ lo ≤ b
/-- the same, another desk -/
def xT_ (T : XT) (D : Nat) : XT := (T.1, D, T.2.2)
/-- what is there with a post, but for the desks -/
def XC_ (G : JG) (X : Nat) (σ : JH) (tp fa pl tr : Int) (B r : Int → Int) (T : XT) : Prop := XR_ G X σ ∧ rv_ σ X 5 = some (xP_ T) ∧ PQ_ G σ (X + 13) T r ∧ XF_ G X σ tp fa pl tr B
theorem ca17 : CA_ 17 := fun r h => by cases h; decide
section
variable {G : JG} {X lo D : Nat} {σ σ' : JH} {tp fa pl tr p un im : Int} {B r s : Int → Int} {U I : Int → Int → Int} {T : XT} {L : XL} {S : Nat → Int → Prop} {dc du : Nat}
theorem XF_.gw (h : XF_ G X σ tp fa pl tr B) (f : Gw_ S dc du σ σ') (hlt : ∀ a s, sh_ σ a = some s → a < sz_ σ) (hX : X + 1 < sz_ σ) (h1 : ∀ k, ¬ S (X + 1) k) (h2 : ∀ k, 1 ≤ k → k ≤ 4 → ¬ S X k) : XF_ G X σ' tp fa pl tr B := by
  obtain ⟨⟨a1, a2, a3⟩, ⟨b1, b2, b3⟩, c⟩ := h
  have e := fun k k1 k2 => (f.2.1 X k (by omega) (h2 k k1 k2)).2
  exact ⟨⟨(e 1 (by decide) (by decide)).trans a1, a2, fun k k0 k1 => (f.2.1 _ k hX (h1 k)).2.trans (a3 k k0 k1)⟩, ⟨(e 2 (by decide) (by decide)).trans b1, (e 3 (by decide) (by decide)).trans b2, (e 4 (by decide) (by decide)).trans b3⟩, (f.1 _ (hlt _ _ c)).trans c⟩
theorem PQ_.lt (h : PQ_ G σ lo T r) (hlt : ∀ a s, sh_ σ a = some s → a < sz_ σ) {b : Nat} (hb : PA_ T r b) : b < sz_ σ := by
  rcases (h.shp hb).1 with ⟨ci, c1, c2⟩ | ⟨cap, c1, -⟩ | ⟨i, n, -, -, c1⟩
  · exact hlt _ _ c1
  · exact hlt _ _ c1
  · exact hlt _ _ c1
theorem XC_.gw (h : XC_ G X σ tp fa pl tr B r T) (f : Gw_ S dc du σ σ') (hlt : ∀ a s, sh_ σ a = some s → a < sz_ σ) (hS : ∀ b k, S b k → b = X + 2 ∨ b = X + 3 ∨ (X + 13 ≤ b ∧ ¬ PA_ T r b)) : XC_ G X σ' tp fa pl tr B r T := by
  obtain ⟨hR, h5, hP, hF⟩ := h
  have hl := hR.lt hlt
  have hge := hR.ge
  have hk := hR.k100
  have nX : ∀ k, ¬ S X k := fun k q => by have := hS _ _ q; omega
  refine ⟨hR.to (fun b hb => f.1 b (by omega)) (fun k _ _ => (f.2.1 X k (by omega) (nX k)).1), ((f.2.1 X 5 (by omega) (nX 5)).1).trans h5, hP.pres fun b hb => ?_, hF.gw f hlt (by omega) (fun k q => by have := hS _ _ q; omega) (fun k _ _ => nX k)⟩
  have hlo := (hP.shp hb).2
  have hbz := hP.lt hlt hb
  exact ⟨f.1 b hbz, fun k => f.2.1 b k hbz (fun q => by
    rcases hS _ _ q with w | w | w
    · omega
    · omega
    · exact w.2 hb)⟩
theorem XC_.pr6 (h : XC_ G X σ tp fa pl tr B r T) (q : Option Nat) : XC_ G X (pr_ σ X 6 q) tp fa pl tr B r T := by
  obtain ⟨hR, h5, hP, hF⟩ := h
  have hge := hR.ge
  have hk := hR.k100
  refine ⟨hR.to (fun _ _ => rfl) (fun k _ k6 => by rw [rv_pr, if_neg (fun w => k6 w.2)]), by rw [rv_pr, if_neg (by omega)]; exact h5, hP.pres fun b hb => ⟨rfl, fun k => ⟨?_, rfl⟩⟩, hF⟩
  have hlo := (hP.shp hb).2
  rw [rv_pr, if_neg (by omega)]
theorem DA_.nls (h : DA_ σ D) {e c : Nat} (he : sh_ σ e = some (.inr (3, c))) (h0 : D ≤ e) (h1 : e ≤ D + 5) : False := by
  obtain ⟨a0, ⟨-, a1⟩, ⟨-, a2⟩, ⟨-, a3⟩, ⟨-, a4⟩, -, a5⟩ := h
  rcases (show e = D ∨ e = D + 1 ∨ e = D + 2 ∨ e = D + 3 ∨ e = D + 4 ∨ e = D + 5 by omega) with c | c | c | c | c | c <;> subst c
  · rw [he] at a0; cases a0
  · rw [he] at a1; cases a1
  · rw [he] at a2; cases a2
  · rw [he] at a3; cases a3
  · rw [he] at a4; cases a4
  · rw [he] at a5; cases a5
theorem PL_.gw (D' : Nat) {a : Nat} {l : Nat × Nat × (Int → Nat)} {n : Int} (h : PL_ G σ lo T r p a l n U) (f : Gw_ S dc du σ σ') (hlt : ∀ a s, sh_ σ a = some s → a < sz_ σ) (ha : ∀ k, ¬ S a k) (he : ∀ k, ¬ S l.1 k) (hS : ∀ k, 0 ≤ k → k < n → ∀ b j, l.2.2 k ≤ b → b ≤ l.2.2 k + 5 → ¬ S b j) : PL_ G σ' lo (xT_ T D') r p a l n U := by
  obtain ⟨h1, h2, h3, h4⟩ := h
  exact ⟨h1.gw f hlt ha he, h2, fun k k0 k1 => ⟨(h3 k k0 k1).1.gwn f hlt (hS k k0 k1), (h3 k k0 k1).2⟩, h4⟩
theorem PL_.cg {a : Nat} {l : Nat × Nat × (Int → Nat)} {n : Int} {U' : Int → Int → Int} (h : PL_ G σ lo T r p a l n U) (e : ∀ k, 0 ≤ k → k < n → U' k = U k) : PL_ G σ lo T r p a l n U' := ⟨h.1, h.2.1, fun k k0 k1 => by rw [e k k0 k1]; exact h.2.2.1 k k0 k1, h.2.2.2⟩
theorem PL_.pr6 (D' : Nat) {a : Nat} {l : Nat × Nat × (Int → Nat)} {n : Int} {q : Option Nat} (h : PL_ G σ lo T r p a l n U) (hX : X < a ∧ (gH_ G).size ≤ X ∧ X + 13 ≤ lo) (hk : gK_ G 100 < (gH_ G).size) : PL_ G (pr_ σ X 6 q) lo (xT_ T D') r p a l n U := by
  obtain ⟨h1, h2, h3, h4⟩ := h
  refine ⟨h1.pres ⟨rfl, fun k => ⟨by rw [rv_pr, if_neg (by omega)], rfl⟩⟩ ⟨rfl, fun k => ⟨by rw [rv_pr, if_neg (by omega)], rfl⟩⟩, h2, fun k k0 k1 => ⟨(h3 k k0 k1).1.pres fun b b0 b1 => ⟨rfl, fun j => ⟨?_, rfl⟩⟩, (h3 k k0 k1).2⟩, h4⟩
  have := (h3 k k0 k1).1.1.2.1
  rw [rv_pr, if_neg (by omega)]
theorem XS_.R (h : XS_ G X lo σ tp fa pl tr p un im B r s U I T L) : XR_ G X σ := h.1.1
theorem XS_.core (h : XS_ G X lo σ tp fa pl tr p un im B r s U I T L) (hp : p = 1) : XC_ G X σ tp fa pl tr B r T := by
  have hX := h.1.get hp
  exact ⟨hX.R, hX.f5, hX.P, h.2.2.1⟩
theorem XS_.dsk (h : XS_ G X lo σ tp fa pl tr p un im B r s U I T L) (hp : p = 1) : DS_ G σ lo T (xD_ T) r s := by
  have hX := h.1.get hp
  have h4 := h.2.2.2.1 hp
  exact ⟨hX.K.low h4.1, h4.2⟩
theorem XS_.mk1 (c : XC_ G X σ tp fa pl tr B r T) (hlo : X + 13 ≤ lo) (h6 : rv_ σ X 6 = some (xD_ T)) (hd : DS_ G σ lo T (xD_ T) r s) (a : PL_ G σ lo T r 1 (X + 2) L.1 un U) (b : PL_ G σ lo T r 1 (X + 3) L.2 im I) (e : (gH_ G).size ≤ L.1.1 → L.1.1 ≠ L.2.1) (d : DD_ (xD_ T) un im L.1.2.2 L.2.2.2) : XS_ G X lo σ tp fa pl tr 1 un im B r s U I T L := by
  have := hd.1.1.2.1
  exact ⟨⟨c.1, Or.inr ⟨rfl, c.1, c.2.1, h6, c.2.2.1, hd.1.low (by omega)⟩⟩, hlo, c.2.2.2, fun _ => ⟨by omega, hd.2⟩, fun q => absurd rfl q, a, b, e, fun _ => d⟩
/-- what a list of desks' array is not -/
theorem PL_.na {a : Nat} {l : Nat × Nat × (Int → Nat)} {n : Int} (h : PL_ G σ lo T r 1 a l n U) (hP : PQ_ G σ (X + 13) T r) (hge : (gH_ G).size ≤ l.1) : ¬ PA_ T r l.1 := fun q => by
  rcases (hP.shp q).1 with ⟨ci, c1, c2⟩ | ⟨cap, c1, j, hj, c2⟩ | ⟨i, n, -, -, c1⟩
  · rw [h.1.2.2.2.1] at c1; cases c1
  · exact h.2.2.2 rfl hge j hj c2
  · rw [h.1.2.2.2.1] at c1; cases c1
/-- by scratch and the small fields -/
theorem XS_.gx {t : Int} (h : XS_ G X lo σ tp fa pl tr p un im B r s U I T L) (f : Gw_ (xe_ X) dc du σ σ') (hr : ∀ k, rv_ σ' X k = rv_ σ X k) (hlt : ∀ a s, sh_ σ a = some s → a < sz_ σ) (h3 : iv_ σ' X 3 = (if t = 4 then pl else -1)) (h4 : iv_ σ' X 4 = t) : XS_ G X lo σ' tp fa pl t p un im B r s U I T L := by
  have hl := h.R.lt hlt
  have hge := h.R.ge
  have hk := h.R.k100
  obtain ⟨a1, a2, ⟨⟨b1, b2, b3⟩, ⟨b4, -, -⟩, b5⟩, a4, a5, a6, a7, a8, a9⟩ := h
  refine ⟨a1.gw f hlt hr, a2, ⟨⟨((f.2.1 X 1 (by omega) (fun q => by unfold xe_ xs_ at q; omega)).2).trans b1, b2, fun k k0 k1 => ((f.2.1 (X + 1) k (by omega) (fun q => by unfold xe_ xs_ at q; omega)).2).trans (b3 k k0 k1)⟩, ⟨((f.2.1 X 2 (by omega) (fun q => by unfold xe_ xs_ at q; omega)).2).trans b4, h3, h4⟩, (f.1 _ (hlt _ _ b5)).trans b5⟩, a4, a5, ?_, ?_, a8, a9⟩
  · exact PL_.gw (xD_ T) a6 f hlt (fun k q => by unfold xe_ xs_ at q; omega) (fun k q => by have := a6.2.1; unfold xe_ xs_ at q; omega) (fun k k0 k1 b j b0 b1 q => by have := (a6.2.2.1 k k0 k1).1.1.2.1; unfold xe_ xs_ at q; omega)
  · exact PL_.gw (xD_ T) a7 f hlt (fun k q => by unfold xe_ xs_ at q; omega) (fun k q => by have := a7.2.1; unfold xe_ xs_ at q; omega) (fun k k0 k1 b j b0 b1 q => by have := (a7.2.2.1 k k0 k1).1.1.2.1; unfold xe_ xs_ at q; omega)
theorem XS_.q {t : Int} (h : XS_ G X lo σ tp fa pl tr p un im B r s U I T L) (e : XE_ X σ σ' t) (hlt : ∀ a s, sh_ σ a = some s → a < sz_ σ) (ht : t ≠ 4) : XS_ G X lo σ' tp fa pl t p un im B r s U I T L := h.gx e.1 e.2.1 hlt (by rw [if_neg ht]; exact e.2.2.2) e.2.2.1
theorem XS_.xs (h : XS_ G X lo σ tp fa pl tr p un im B r s U I T L) (f : Fr_ (xs_ X) σ σ') (hlt : ∀ a s, sh_ σ a = some s → a < sz_ σ) : XS_ G X lo σ' tp fa pl tr p un im B r s U I T L := h.gx (f.mono (fun _ _ q => Or.inl q)).gw (fun k => f.2.1 X k) hlt ((f.2.2.2.2 X 3 (fun q => by unfold xs_ at q; omega)).trans h.2.2.1.2.1.2.1) ((f.2.2.2.2 X 4 (fun q => by unfold xs_ at q; omega)).trans h.2.2.1.2.1.2.2)
theorem XE_.w {t : Int} (e : XE_ X σ σ' t) : Gw_ (xw_ X lo) 7 100 σ σ' := e.1.mono (fun b k _ q => by unfold xe_ xs_ at q; unfold xw_; omega) (by decide) (by decide)
theorem Fr_.xw (f : Fr_ (xs_ X) σ σ') : Gw_ (xw_ X lo) 0 0 σ σ' := f.gw.mono (fun b k _ q => by unfold xs_ at q; unfold xw_; omega) (by decide) (by decide)
/-- what is in the desk is written -/
theorem XS_.dk {s' : Int → Int} (h : XS_ G X lo σ tp fa pl tr 1 un im B r s U I T L) (f : Fr_ (fun b _ => xD_ T ≤ b ∧ b ≤ xD_ T + 5) σ σ') (hlt : ∀ a s, sh_ σ a = some s → a < sz_ σ) (hK : DQ_ G σ' lo (xD_ T) r s') : XS_ G X lo σ' tp fa pl tr 1 un im B r s' U I T L := by
  have hd := h.dsk rfl
  have hc := h.core rfl
  have hge := h.R.ge
  have h6 := (h.1.get rfl).f6
  have hlD := hd.1.1.2.1
  obtain ⟨-, a2, -, -, -, a6, a7, a8, a9⟩ := h
  have ap : ∀ {a : Nat} {l : Nat × Nat × (Int → Nat)} {n : Int} {V : Int → Int → Int}, a ≤ X + 12 → PL_ G σ lo T r 1 a l n V → (∀ k, 0 ≤ k → k < n → l.2.2 k ≠ xD_ T) → PL_ G σ' lo T r 1 a l n V := fun {a l n V} ha hl hn =>
    PL_.gw (xD_ T) hl f.gw hlt (fun k q => by omega) (fun k q => hd.1.da.nls hl.1.2.2.2.1 q.1 q.2) (fun k k0 k1 b j b0 b1 q => by
      have := (hl.2.2.1 k k0 k1).1.da.apart hd.1.da (hn k k0 k1)
      omega)
  exact XS_.mk1 (hc.gw f.gw hlt (fun b k q => Or.inr (Or.inr ⟨by omega, hc.2.2.1.dsk hd.2 hd.1.da q.1 q.2⟩))) a2 ((f.2.1 X 6).trans h6) ⟨hK, hd.2⟩ (ap (by omega) a6 (a9 rfl).1) (ap (by omega) a7 (a9 rfl).2.1) a8 (a9 rfl)
end
section
variable {G : JG} {X lo : Nat} {σ : JH} {tp fa pl tr p un im : Int} {B r s : Int → Int} {U I : Int → Int → Int} {T : XT} {L : XL}
/-- an operation on one of the lists -/
theorem XS_.lop {σ' : JH} {dc du a : Nat} {l : Nat × Nat × (Int → Nat)} {n : Int} {q6 : Option Nat} (ha : a = X + 2 ∨ a = X + 3) (hc : XC_ G X σ tp fa pl tr B r T) (hlo : X + 13 ≤ lo) (h6 : rv_ σ X 6 = q6) (h1 : PL_ G σ lo T r 1 a l n U) (f : Gw_ (fun b _ => b = a ∨ (b = l.1 ∧ (gH_ G).size ≤ l.1)) dc du σ σ') (hlt : ∀ a s, sh_ σ a = some s → a < sz_ σ) :
    XC_ G X σ' tp fa pl tr B r T ∧ rv_ σ' X 6 = q6 ∧ (∀ {D : Nat} {u : Int → Int}, DQ_ G σ lo D r u → DQ_ G σ' lo D r u) ∧ (∀ {a2 : Nat} {l2 : Nat × Nat × (Int → Nat)} {n2 : Int} {U2 : Int → Int → Int}, (a2 = X + 2 ∨ a2 = X + 3) → a2 ≠ a → ((gH_ G).size ≤ l.1 → l.1 ≠ l2.1) → PL_ G σ lo T r 1 a2 l2 n2 U2 → PL_ G σ' lo T r 1 a2 l2 n2 U2) := by
  have hge := hc.1.ge
  have hl := hc.1.lt hlt
  have hk := hc.1.k100
  have hle := h1.2.1
  have hDQ : ∀ {D : Nat} {u : Int → Int}, DQ_ G σ lo D r u → DQ_ G σ' lo D r u := fun {D u} hD => hD.gwn f hlt (fun b k b0 b1 q => by
    have hD0 := hD.1.2.1
    rcases q with q | q
    · omega
    · rw [q.1] at b0 b1
      exact hD.da.nls h1.1.2.2.2.1 b0 b1)
  refine ⟨hc.gw f hlt (fun b k q => ?_), ((f.2.1 X 6 (by omega) (fun q => by omega)).1).trans h6, hDQ, fun {a2 l2 n2 U2} ha2 hne hse h2 => ?_⟩
  · rcases q with q | q
    · omega
    · rw [q.1]; exact Or.inr (Or.inr ⟨by omega, h1.na hc.2.2.1 q.2⟩)
  · refine ⟨h2.1.gw f hlt (fun k q => ?_) (fun k q => ?_), h2.2.1, fun k k0 k1 => ⟨hDQ (h2.2.2.1 k k0 k1).1, (h2.2.2.1 k k0 k1).2⟩, h2.2.2.2⟩
    · rcases q with q | q
      · exact hne q
      · have c1 := h2.1.1
        rw [q.1, h1.1.2.2.2.1] at c1
        cases c1
    · rcases q with q | q
      · have := h2.2.1; omega
      · exact hse q.2 q.1.symm
theorem xo_remembers  {Q : JH → Prop} (hS : XS_ G X lo σ tp fa pl tr 1 un im B r s U I T L) (hW : RW_ r) (hu : 0 ≤ un ∧ un ≤ 12) (hr : sz_ σ + 7 ≤ lc_ G ∧ us_ σ + 96 ≤ ls_ G)
    (hQ : ∀ σ' D' L', XS_ G X lo σ' tp fa pl tr 1 (puN_ un) im B r s (puU_ un U s) I (xT_ T D') L' → sz_ σ ≤ D' → Gw_ (xw_ X lo) 7 96 σ σ' → Q σ') : CallV_ G 9 yX1_remembers cX1_remembers 1 none [A_ (some X)] σ Q := by
  refine call_go [some (A_ (some X))] (by decide) (Nat.le_of_ble_eq_true rfl) rfl ?_
  refine g_lt (fun hlt hgz => ?_)
  have hlo := hS.2.1
  have hR := hS.R
  have hge := hR.ge
  have hl := hR.lt hlt
  have hk := hR.k100
  have hc0 := hS.core rfl
  have h60 := (hS.1.get rfl).f6
  have hdk0 := hS.dsk rfl
  have hse := hS.2.2.2.2.2.2.2.1
  have J21 : ∀ (σ1 : JH) (n1 : Int) (g1 : Int → Nat) (U1 : Int → Int → Int), XC_ G X σ1 tp fa pl tr B r T → rv_ σ1 X 6 = some (xD_ T) → DS_ G σ1 lo T (xD_ T) r s → PL_ G σ1 lo T r 1 (X + 2) (L.1.1, L.1.2.1, g1) n1 U1 → PL_ G σ1 lo T r 1 (X + 3) L.2 im I → (0 ≤ n1 ∧ n1 ≤ 11) → DD_ (xD_ T) n1 im g1 L.2.2.2 → n1 + 1 = puN_ un → (∀ k, 0 ≤ k → k < n1 + 1 → puU_ un U s k = if k = n1 then s else U1 k) → Gw_ (xw_ X lo) 0 0 σ σ1 → GoM_ G 9 yX1_remembers cX1_remembers 1 none σ (fun v σ' => v = none ∧ Q σ') 21 [some (A_ (some X))] [] σ1 := by
    intro σ1 n1 g1 U1 hc1 h6 hdk hp1 hp2 hn1 hdd hpn hpu hG1
    have hR := hc1.1
    have hge := hR.ge
    refine g_lt (fun hlt hgz => ?_)
    have hl := hR.lt hlt
    have hk := hR.k100
    have hDlo := hdk.1.1.2.1
    have hDz := hlt _ _ hdk.1.sh
    refine g_al0 dX1_remembers_21 ?_
    refine f_getA 7 fk_X1_20 rfl hR.sh (fun _ _ => rfl) hR.f7 dX1_remembers_22 ?_
    refine g_al0 dX1_remembers_25 ?_
    refine f_getA 6 fk_X1_111 rfl hR.sh (fun _ _ => rfl) h6 dX1_remembers_26 ?_
    refine g_callV1I (d' := 8) lk_X1_417 hR.h2.1 rfl (rm_lt (by decide) (by decide)) (Nat.le_of_ble_eq_true rfl) dX1_remembers_29 ?_
    refine js_add (o := xD_ T) (co := 17) hlt hgz hc1.2.2.2.2.2 hR.k100 hp1.1 (fun i i0 i1 => ⟨17, (hp1.2.2.1 i i0 i1).1.sh, ca17⟩) (by omega) hdk.1.sh ca17 (by have := hG1.2.2; omega) (fun σ2 e' cap' hL2 he2 hw2 => ?_)
    obtain ⟨hc2, h62, hDQ2, hPL2⟩ := XS_.lop (q6 := some (xD_ T)) (Or.inl rfl) hc1 hlo h6 hp1 hw2 hlt
    have hdk2 : DS_ G σ2 lo T (xD_ T) r s := ⟨hDQ2 hdk.1, hdk.2⟩
    have hp22 := hPL2 (Or.inr rfl) (by omega) (by exact hse) hp2
    have hp12 : PL_ G σ2 lo T r 1 (X + 2) (e', cap', fun i => if i = n1 then xD_ T else g1 i) (n1 + 1) (puU_ un U s) := by
      refine ⟨hL2, ?_, fun k k0 k1 => ?_, fun _ hg j hj => ?_⟩
      · rcases he2 with q | q
        · show lo ≤ e' ∨ e' = gK_ G 100
          rw [q]; exact hp1.2.1
        · show lo ≤ e' ∨ e' = gK_ G 100
          omega
      · rw [hpu k k0 k1]
        show DS_ G σ2 lo T (if k = n1 then xD_ T else g1 k) r _
        by_cases q : k = n1
        · rw [if_pos q, if_pos q]; exact hdk2
        · rw [if_neg q, if_neg q]
          have w := hp1.2.2.1 k k0 (by omega)
          exact ⟨hDQ2 w.1, w.2⟩
      · show e' ≠ xE_ T j
        rcases he2 with q | q
        · have hg : (gH_ G).size ≤ e' := hg
          rw [q] at hg ⊢
          exact hp1.2.2.2 rfl hg j hj
        · obtain ⟨nn, w, -, -⟩ := hc1.2.2.1.ls hj
          have := hlt _ _ w.2.2.2.1
          omega
    have hse2 : (gH_ G).size ≤ e' → e' ≠ L.2.1 := fun hg => by
      rcases he2 with q | q
      · rw [q] at hg ⊢; exact hse hg
      · have := hlt _ _ hp2.1.2.2.2.1; omega
    have hG2 : Gw_ (xw_ X lo) 1 15 σ σ2 := (hG1.tr (hw2.mono (S' := xw_ X lo) (fun b k hb q => by
      unfold xw_
      rcases q with q | q
      · omega
      · have := hp1.2.1; omega) (Nat.le_refl _) (Nat.le_refl _))).mono (fun _ _ _ q => q) (by omega) (by omega)
    have hR := hc2.1
    have h6 := h62
    have hdk := hdk2
    refine g_lt (fun hlt2 hgz2 => ?_)
    refine g_pop dX1_remembers_32 rfl ?_
    refine g_al0 dX1_remembers_33 ?_
    refine g_al0 dX1_remembers_34 ?_
    refine f_getA 6 fk_X1_111 rfl hR.sh (fun _ _ => rfl) h6 dX1_remembers_35 ?_
    refine g_callV0A (d' := 3) lk_X1_421 hdk.1.sh rfl (rm_lt (by decide) (by decide)) (Nat.le_of_ble_eq_true rfl) dX1_remembers_38 ?_
    refine xd_copy (lo' := lo) hlt2 hgz2 hdk.1 hW (by have := hG2.2.2; have := hw2.2.2; omega) (by have := hG2.2.2; omega) (fun σ3 hK3 hG3 => ?_)
    have hc3 := hc2.gw hG3 hlt2 (fun _ _ q => q.elim)
    have hR := hc3.1
    refine f_putA 6 fk_X1_111 rfl (nf_ rfl rfl) hR.sh hR.ge (Or.inl ⟨_, rfl⟩) dX1_remembers_41 ?_
    exact g_vret rfl dX1_remembers_44 ⟨rfl, by
        rw [← hpn] at hQ
        have hge := hc2.1.ge
        have hk := hc2.1.k100
        refine hQ _ (sz_ σ2) (((e', cap', fun i => if i = n1 then xD_ T else g1 i) : Nat × Nat × (Int → Nat)), L.2) ?_ (by have := hG2.2.2; omega) ((hG2.tr (hG3.mono (S' := xw_ X lo) (fun _ _ _ q => q.elim) (Nat.le_refl _) (Nat.le_refl _))).pr (fun _ => Or.inl (by omega)))
        refine XS_.mk1 (T := xT_ T (sz_ σ2)) (L := ((e', cap', fun i => if i = n1 then xD_ T else g1 i), L.2)) (hc3.pr6 _) hlo (by rw [rv_pr, if_pos ⟨rfl, rfl⟩]; rfl) ⟨hK3.pres (fun b b0 b1 => ⟨rfl, fun j => ⟨by rw [rv_pr, if_neg (by have := hG2.2.2; have := hw2.2.2; omega)], rfl⟩⟩), fun i i0 i1 => ?_⟩ ?_ ?_ hse2 ?_
        · have := hdk.2 i i0 i1
          have hz := hlt2 _ _ hdk.1.sh
          show xS_ T i < sz_ σ2
          omega
        · exact PL_.pr6 (sz_ σ2) (PL_.gw (xD_ T) hp12 hG3 hlt2 (fun _ q => q) (fun _ q => q) (fun _ _ _ _ _ _ _ q => q)) ⟨by omega, hge, hlo⟩ hk
        · exact PL_.pr6 (sz_ σ2) (PL_.gw (xD_ T) hp22 hG3 hlt2 (fun _ q => q) (fun _ q => q) (fun _ _ _ _ _ _ _ q => q)) ⟨by omega, hge, hlo⟩ hk
        · have l1 : ∀ k, 0 ≤ k → k < n1 + 1 → (if k = n1 then xD_ T else g1 k) < sz_ σ2 := fun k k0 k1 => hlt2 _ _ (hp12.2.2.1 k k0 k1).1.sh
          have l2 : ∀ k, 0 ≤ k → k < im → L.2.2.2 k < sz_ σ2 := fun k k0 k1 => hlt2 _ _ (hp22.2.2.1 k k0 k1).1.sh
          refine ⟨fun k k0 k1 => Nat.ne_of_lt (l1 k k0 k1), fun k k0 k1 => Nat.ne_of_lt (l2 k k0 k1), fun k j k0 k1 k2 => ?_, fun k j k0 k1 j0 j1 => ?_⟩
          · show (if k = n1 then xD_ T else g1 k) ≠ (if j = n1 then xD_ T else g1 j)
            rw [if_neg (by omega)]
            by_cases q : j = n1
            · rw [if_pos q]; exact hdd.1 k k0 (by omega)
            · rw [if_neg q]; exact hdd.2.2.1 k j k0 k1 (by omega)
          · show (if k = n1 then xD_ T else g1 k) ≠ _
            by_cases q : k = n1
            · rw [if_pos q]; exact (hdd.2.1 j j0 j1).symm
            · rw [if_neg q]; exact hdd.2.2.2 k j k0 (by omega) j0 j1⟩
  refine g_al0 dX1_remembers_0 ?_
  refine f_getA 7 fk_X1_20 rfl hR.sh (fun _ _ => rfl) hR.f7 dX1_remembers_1 ?_
  refine g_callV0I (d' := 2) lk_X1_127 hR.h2.1 rfl (rm_lt (by decide) (by decide)) (Nat.le_of_ble_eq_true rfl) dX1_remembers_4 ?_
  refine js_size hS.2.2.2.2.2.1.1 ?_
  refine g_bipush dX1_remembers_7 (by decide) (by decide) ?_
  refine g_icmp_ne (tgt := 21) dX1_remembers_9 (by decide) (by omega) (fun h9 => ?_) (fun h9 => ?_)
  · exact J21 σ un L.1.2.2 U hc0 h60 hdk0 hS.2.2.2.2.2.1 hS.2.2.2.2.2.2.1 (by omega) (hS.2.2.2.2.2.2.2.2 rfl) (by unfold puN_; rw [if_neg (by omega)]) (fun k k0 k1 => by unfold puU_; rw [if_neg (by omega)]) (Gw_.rf)
  refine g_al0 dX1_remembers_12 ?_
  refine f_getA 7 fk_X1_20 rfl hR.sh (fun _ _ => rfl) hR.f7 dX1_remembers_13 ?_
  refine g_iconst dX1_remembers_16 ?_
  refine g_callV1A (d' := 4) lk_X1_414 hR.h2.1 rfl (rm_lt (by decide) (by decide)) (Nat.le_of_ble_eq_true rfl) dX1_remembers_17 ?_
  have hs12 : un = 12 := by omega
  refine js_remove hS.2.2.2.2.2.1.1 (fun i i0 i1 => ⟨17, (hS.2.2.2.2.2.1.2.2.1 i i0 i1).1.sh, ca17⟩) (by omega) (fun σ1 hL1 hw1 => ?_)
  obtain ⟨hc1, h61, hDQ1, hPL1⟩ := XS_.lop (q6 := some (xD_ T)) (Or.inl rfl) hc0 hlo h60 hS.2.2.2.2.2.1 hw1 hlt
  have hp11 : PL_ G σ1 lo T r 1 (X + 2) (L.1.1, L.1.2.1, fun k => if k < 0 then L.1.2.2 k else L.1.2.2 (k + 1)) (un - 1) (fun k => U (k + 1)) := by
    refine ⟨hL1, hS.2.2.2.2.2.1.2.1, fun k k0 k1 => ?_, hS.2.2.2.2.2.1.2.2.2⟩
    have w := hS.2.2.2.2.2.1.2.2.1 (k + 1) (by omega) (by omega)
    show DS_ G σ1 lo T (if k < 0 then L.1.2.2 k else L.1.2.2 (k + 1)) r (U (k + 1))
    rw [if_neg (by omega)]
    exact ⟨hDQ1 w.1, w.2⟩
  have hd0 := hS.2.2.2.2.2.2.2.2 rfl
  have hR := hc1.1
  refine g_pop dX1_remembers_20 rfl ?_
  refine J21 σ1 (un - 1) _ _ hc1 h61 ⟨hDQ1 hdk0.1, hdk0.2⟩ hp11 (hPL1 (Or.inr rfl) (by omega) hse hS.2.2.2.2.2.2.1) (by omega) ⟨fun k k0 k1 => ?_, hd0.2.1, fun k j k0 k1 k2 => ?_, fun k j k0 k1 j0 j1 => ?_⟩ (by unfold puN_; rw [if_pos hs12]; omega) (fun k k0 k1 => ?_) (hw1.mono (fun b k _ q => by
    unfold xw_
    rcases q with q | q
    · omega
    · have := hS.2.2.2.2.2.1.2.1; omega) (Nat.le_refl _) (Nat.le_refl _))
  · show (if k < 0 then L.1.2.2 k else L.1.2.2 (k + 1)) ≠ _
    rw [if_neg (by omega)]; exact hd0.1 (k + 1) (by omega) (by omega)
  · show (if k < 0 then L.1.2.2 k else L.1.2.2 (k + 1)) ≠ (if j < 0 then L.1.2.2 j else L.1.2.2 (j + 1))
    rw [if_neg (by omega), if_neg (by omega)]; exact hd0.2.2.1 (k + 1) (j + 1) (by omega) (by omega) (by omega)
  · show (if k < 0 then L.1.2.2 k else L.1.2.2 (k + 1)) ≠ _
    rw [if_neg (by omega)]; exact hd0.2.2.2 (k + 1) j (by omega) (by omega) j0 j1
  · unfold puU_
    rw [if_pos hs12]
    by_cases q : k = 11
    · rw [if_pos q, if_pos (by omega)]
    · rw [if_neg q, if_neg (by omega)]
end
