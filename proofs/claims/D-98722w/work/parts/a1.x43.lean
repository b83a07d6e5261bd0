/-! THE COMPONENT: what a post's reading keeps; what was read. Written by mod/ma1.py -/
set_option maxRecDepth 100000
/-- what lies below ρ stays, but the small fields of X -/
def KX_ (X ρ : Nat) (σ σ' : JH) : Prop := (∀ b, b < ρ → sh_ σ' b = sh_ σ b) ∧ (∀ b k, b < ρ → ¬ (b = X ∧ 1 ≤ k ∧ k ≤ 4) → rv_ σ' b k = rv_ σ b k ∧ iv_ σ' b k = iv_ σ b k) ∧ (∀ k, rv_ σ' X k = rv_ σ X k) ∧ (sz_ σ ≤ sz_ σ' ∧ us_ σ ≤ us_ σ')
section
variable {G : JG} {m X ρ o : Nat} {σ σ' γ : JH} {T : XT} {c d : Int}
variable {σ1 : JH}
theorem KX_.rf : KX_ X ρ σ σ := ⟨fun _ _ => rfl, fun _ _ _ _ => ⟨rfl, rfl⟩, fun _ => rfl, Nat.le_refl _, Nat.le_refl _⟩
theorem KX_.ol (h : KX_ X ρ σ σ1) (f : OL_ ρ σ1 σ') (hX : X < ρ) : KX_ X ρ σ σ' :=
  ⟨fun b hb => (f.1 b hb).1.trans (h.1 b hb), fun b k hb hn => ⟨((f.1 b hb).2 k).1.trans (h.2.1 b k hb hn).1, ((f.1 b hb).2 k).2.trans (h.2.1 b k hb hn).2⟩, fun k => ((f.1 X hX).2 k).1.trans (h.2.2.1 k), Nat.le_trans h.2.2.2.1 f.2.1, Nat.le_trans h.2.2.2.2 f.2.2⟩
theorem KX_.pi {k x : Int} (h : KX_ X ρ σ σ') (hk : 1 ≤ k ∧ k ≤ 4) : KX_ X ρ σ (pi_ σ' X k x) :=
  ⟨h.1, fun b j hb hn => ⟨(h.2.1 b j hb hn).1, by rw [iv_pi, if_neg (fun q => hn ⟨q.1, by omega⟩)]; exact (h.2.1 b j hb hn).2⟩, h.2.2.1, h.2.2.2⟩
theorem KX_.gw {dc du : Nat} (h : KX_ X ρ σ σ') (hρ : ρ = sz_ σ) (hs : sz_ σ' ≤ sz_ σ + dc ∧ us_ σ' ≤ us_ σ + du) : Gw_ (fun b k => b = X ∧ 1 ≤ k ∧ k ≤ 4) dc du σ σ' :=
  ⟨fun b hb => h.1 b (by omega), fun b k hb hn => h.2.1 b k (by omega) hn, ⟨h.2.2.2.1, hs.1⟩, h.2.2.2.2, hs.2⟩
theorem RR_.pX {k x : Int} (h : RR_ G m X ρ σ γ o T c d) (hs : sh_ σ X = some (.inl 0)) : RR_ G m X ρ (pi_ σ X k x) γ o T c d := by
  have hne : ∀ a s, sh_ σ a = some s → s ≠ .inl 0 → a ≠ X := fun a s ha q w => by
    rw [w, hs] at ha; exact q (Option.some.inj ha).symm
  have ev : ∀ a j, a ≠ X → rv_ (pi_ σ X k x) a j = rv_ σ a j ∧ iv_ (pi_ σ X k x) a j = iv_ σ a j := fun a j q => ⟨rfl, by rw [iv_pi, if_neg (fun w => q w.1)]⟩
  have ob : OB_ σ (pi_ σ X k x) := fun a s ha q => ⟨ha, fun j => ev a j (hne a s ha (fun w => by rcases q with q | q | q | q | ⟨n, q⟩ <;> rw [q] at w <;> cases w))⟩
  obtain ⟨f, hP, hPf⟩ := h.2.2.2.2.1
  obtain ⟨p1, p2, p3, p4, p5, p6, p7⟩ := hP
  have nb : ∀ b', PA_ T f b' → b' ≠ X := fun b' hb => by
    rcases (p1.shp hb).1 with ⟨ci, c1, c2⟩ | ⟨cap, c1, -⟩ | ⟨i, n, -, -, c1⟩
    · exact hne _ _ c1 (fun q => by cases q; omega)
    · exact hne _ _ c1 (fun q => by cases q)
    · exact hne _ _ c1 (fun q => by cases q)
  have nms : ∀ (oo : Nat) (z : Int) (w : Int → Int), PA_ T f oo → NM_ σ (ρ + 2) oo z w → NM_ (pi_ σ X k x) (ρ + 2) oo z w := fun oo z w hp hh => by
    obtain ⟨wd, wv, n, a1, a2, a3, a4⟩ := hh
    exact ⟨wd, wv, n, a1, a2.obs ob, a3, a4⟩
  have z := h.chg (dc := 0) (du := 0) (δ := γ) (T' := T) ob ⟨Nat.le_refl _, Nat.le_refl _⟩ rfl E0_.rf ⟨f, ⟨p1.pres fun b' hb => ⟨rfl, fun j => ev b' j (nb b' hb)⟩, p2, fun i i0 i1 => nms _ _ _ (Or.inr (Or.inr (Or.inl ⟨i, ⟨i0, i1⟩, Or.inl rfl⟩))) (p3 i i0 i1), fun i i0 i1 => nms _ _ _ (Or.inr (Or.inr (Or.inr (Or.inr (Or.inl ⟨i, ⟨i0, i1⟩, rfl⟩))))) (p4 i i0 i1), fun i i0 i1 => nms _ _ _ (Or.inr (Or.inr (Or.inr (Or.inr (Or.inr (Or.inl ⟨i, ⟨i0, i1⟩, rfl⟩)))))) (p5 i i0 i1), p6, p7⟩, hPf⟩
  exact z.wk (by omega) (by omega)
theorem rls_FW (n : Nat) : ∀ {γ : JH}, RB_ G m γ → (iv_ γ m 13 = 0 → FW_ (iv_ γ (m + 4)) ∧ iv_ γ (m + 4) 9 = 1) → RB_ G m (rls_ m n γ) ∧ (iv_ (rls_ m n γ) m 13 = 0 → FW_ (iv_ (rls_ m n γ) (m + 4)) ∧ iv_ (rls_ m n γ) (m + 4) 9 = 1) := by
  induction n with
  | zero => intro γ h hf; exact ⟨h, hf⟩
  | succ n ih =>
    intro γ h hf
    simp only [rls_]
    split
    · rename_i q
      have hs := h.sn
      have hf1 := hf q.1
      have e4 : iv_ (nxt_ m γ) (m + 4) = iv_ γ (m + 4) := funext fun j => (nxt_f0 γ).f4 j
      have n0 : iv_ (nxt_ m γ) m 13 = 0 := by rw [(nxt_fix _).1]; exact q.1
      have nF : FW_ (iv_ (nxt_ m γ) (m + 4)) := by rw [e4]; exact hf1.1
      exact ih (rl_RS hs.1).1 (fun w => ⟨rl_FW hs.1 n0 nF w, rl_g9 hs.1 n0 nF w⟩)
    · exact ⟨h, hf⟩
/-- what was read is a post -/
theorem pe_ok {δ : JH} (h : RB_ G m (nxt_ m δ)) (h0 : iv_ (nxt_ m δ) m 13 = 0) (hF : FW_ (iv_ (nxt_ m δ) (m + 4))) (q : iv_ (pe_ m δ) m 13 = 0) : RW_ (iv_ (pe_ m δ) (m + 4)) := by
  have r := rls_FW (m := m) 1001 (rl_RS h).1 (fun w => ⟨rl_FW h h0 hF w, rl_g9 h h0 hF w⟩)
  have b13 := r.1.2.1.2.2.1
  have e : pe_ m δ = pe2_ m (pe1_ m (rls_ m 1001 (rl_ m (nxt_ m δ)))) := rfl
  rw [e] at q ⊢
  generalize rls_ m 1001 (rl_ m (nxt_ m δ)) = δ1 at *
  have e1 : pe1_ m δ1 = δ1 ∨ iv_ (pe1_ m δ1) m 13 = 1 := by
    unfold pe1_
    split
    · exact Or.inr (wr_13 b13)
    · exact Or.inl rfl
  rcases e1 with w | w
  · rw [w] at q ⊢
    unfold pe2_ at q ⊢
    by_cases z : iv_ δ1 m 13 = 0 ∧ (iv_ δ1 (m + 4) 9 = 0 ∨ iv_ δ1 (m + 4) 4 = 0)
    · rw [if_pos z, wr_13 b13] at q; omega
    · rw [if_neg z] at q ⊢
      have f := r.2 q
      have c := f.1.cn
      exact (f.1.rx f.2).to (by omega)
  · exfalso
    unfold pe2_ at q
    rw [if_neg (fun z => by omega)] at q
    omega
theorem rl_m0 {δ : JH} (h : RB_ G m (nxt_ m δ)) : iv_ (rl_ m (nxt_ m δ)) m 13 = 1 ∨ iv_ (rl_ m (nxt_ m δ)) m 3 - iv_ (rl_ m (nxt_ m δ)) m 5 < (1001 : Nat) := by
  have r2 := rl_RS h
  have h3 : iv_ (rl_ m (nxt_ m δ)) m 3 = iv_ (nxt_ m δ) m 3 := r2.2.1.2.2.2.2 _ _ (fun w => by unfold pf1_ at w; omega)
  have h5 := r2.2.2.1
  have hT := h.2.1.1.1
  have he := h.2.1.2.1
  exact Or.inr (by omega)
end
section
variable {G : JG} {X lo : Nat} {σ σ' : JH} {tp fa pl tr p un im : Int} {B r s : Int → Int} {U I : Int → Int → Int} {T : XT} {L : XL} {dc du : Nat}
/-- the small fields are written -/
theorem XS_.f4 {fa' pl' t : Int} (h : XS_ G X lo σ tp fa pl tr p un im B r s U I T L) (f : Gw_ (fun b k => b = X ∧ 1 ≤ k ∧ k ≤ 4) dc du σ σ') (hr : ∀ k, rv_ σ' X k = rv_ σ X k) (hlt : ∀ a s, sh_ σ a = some s → a < sz_ σ) (h1 : iv_ σ' X 1 = 0) (h2 : iv_ σ' X 2 = fa') (h3 : iv_ σ' X 3 = (if t = 4 then pl' else -1)) (h4 : iv_ σ' X 4 = t) : XS_ G X lo σ' 0 fa' pl' t p un im B r s U I T L := by
  have hl := h.R.lt hlt
  have hge := h.R.ge
  have hk := h.R.k100
  have hR' : XR_ G X σ' := h.R.to (fun b hb => f.1 b (by omega)) (fun k _ _ => hr k)
  obtain ⟨a1, a2, ⟨-, -, b5⟩, a4, a5, a6, a7, a8, a9⟩ := h
  refine ⟨⟨hR', ?_⟩, a2, ⟨⟨h1, ⟨by decide, by decide⟩, fun k k0 k1 => by omega⟩, ⟨h2, h3, h4⟩, (f.1 _ (hlt _ _ b5)).trans b5⟩, a4, a5, ?_, ?_, a8, a9⟩
  · rcases a1.2 with q | q
    · exact Or.inl ⟨q.1, (hr 5).trans q.2⟩
    · exact Or.inr ⟨q.1, hR', (hr 5).trans q.2.f5, (hr 6).trans q.2.f6, q.2.P.gw f hlt (fun b k w => by omega) hk, q.2.K.gw f hlt (fun b k w => by omega)⟩
  · exact PL_.gw (xD_ T) a6 f hlt (fun k q => by omega) (fun k q => by have := a6.2.1; omega) (fun k k0 k1 b j b0 b1 q => by have := (a6.2.2.1 k k0 k1).1.1.2.1; omega)
  · exact PL_.gw (xD_ T) a7 f hlt (fun k q => by omega) (fun k q => by have := a7.2.1; omega) (fun k k0 k1 b j b0 b1 q => by have := (a7.2.2.1 k k0 k1).1.1.2.1; omega)
end
