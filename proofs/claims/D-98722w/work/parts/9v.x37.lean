/-! GHOSTS that are alike read alike. Written by mod/m9v.py -/
set_option maxRecDepth 100000
/-- two heaps hold the same numbers at A -/
def EA_ (A : Nat → Prop) (γ δ : JH) : Prop := ∀ b k, A b → iv_ δ b k = iv_ γ b k
section
variable {A : Nat → Prop} {m : Nat} {γ δ : JH}
theorem EA_.rf : EA_ A γ γ := fun _ _ _ => rfl
theorem EA_.pi {a : Nat} {k x : Int} (h : EA_ A γ δ) : EA_ A (pi_ γ a k x) (pi_ δ a k x) := fun b j hb => by
  rw [iv_pi, iv_pi, h b j hb]
theorem EA_.pb {a : Nat} {lo n : Int} {f g : Int → Int} (h : EA_ A γ δ) (e : ∀ k, 0 ≤ k → k < n → g k = f k) : EA_ A (pb_ γ a lo n f) (pb_ δ a lo n g) := fun b j hb => by
  rw [iv_pb, iv_pb, h b j hb]
  split
  · exact e _ (by omega) (by omega)
  · rfl
theorem EA_.ite {p : Prop} [Decidable p] {γ' δ' : JH} (h : EA_ A γ δ) (h' : EA_ A γ' δ') : EA_ A (if p then γ else γ') (if p then δ else δ') := by
  split
  · exact h
  · exact h'
/-- the reader's cells -/
def A3_ (A : Nat → Prop) (m : Nat) : Prop := A m ∧ A (m + 1) ∧ A (m + 2)
theorem EA_.lk (h : EA_ A γ δ) (a : A3_ A m) : lk_ m δ = lk_ m γ := funext fun k => by
  unfold lk_
  rw [h m 3 a.1, h (m + 1) k a.2.1]
theorem EA_.nxt (h : EA_ A γ δ) (a : A3_ A m) : EA_ A (nxt_ m γ) (nxt_ m δ) := by
  unfold nxt_
  dsimp only
  rw [h.lk a, h m 3 a.1, h m 5 a.1]
  refine EA_.ite h.pi.pi.pi.pi.pi (EA_.ite (EA_.pi (EA_.pi (EA_.pi (EA_.pb h.pi.pi.pi (fun _ _ _ => rfl))))) (EA_.ite h.pi.pi.pi.pi.pi.pi h.pi.pi.pi.pi.pi))
theorem EA_.wr {w x y : Int} (h : EA_ A γ δ) (a : A3_ A m) (e : y = x) : EA_ A (wr_ m γ w x) (wr_ m δ w y) := by
  subst e
  unfold wr_
  rw [h m 13 a.1]
  exact EA_.ite h.pi.pi.pi h
theorem EA_.iw (h : EA_ A γ δ) (a : A3_ A m) (n : Int) (c : Int → Int) : iw_ m δ n c = iw_ m γ n c := by
  unfold iw_
  rw [h m 13 a.1, h m 6 a.1, h m 8 a.1]
  congr 1
  exact congrArg (al_ · n) (funext fun k => by rw [h (m + 2) k a.2.2])
theorem EA_.mus (h : EA_ A γ δ) (a : A3_ A m) (n : Int) (c : Int → Int) : EA_ A (mus_ m γ n c) (mus_ m δ n c) := by
  unfold mus_
  rw [h m 13 a.1, h.iw a, h m 4 a.1]
  exact EA_.ite (EA_.ite (h.nxt a) (h.wr a rfl)) h
theorem EA_.num (h : EA_ A γ δ) (a : A3_ A m) (lo hi : Int) : EA_ A (num_ m γ lo hi) (num_ m δ lo hi) ∧ nuv_ m δ lo hi = nuv_ m γ lo hi := by
  unfold num_ nuv_
  rw [h m 13 a.1, h m 6 a.1, h m 7 a.1, h m 4 a.1]
  exact ⟨EA_.ite (EA_.ite (EA_.ite (h.nxt a) (h.wr a rfl)) (h.wr a rfl)) h, rfl⟩
theorem EA_.aw (h : EA_ A γ δ) (a : A3_ A m) (w : String) (lo hi : Int) : EA_ A (aw_ m γ w lo hi) (aw_ m δ w lo hi) ∧ awv_ m δ w lo hi = awv_ m γ w lo hi := (h.mus a _ _).num a lo hi
theorem EA_.onn (h : EA_ A γ δ) (a : A3_ A m) : EA_ A (onn_ m γ) (onn_ m δ) := by
  unfold onn_
  rw [h m 13 a.1]
  exact EA_.ite (h.nxt a) h
theorem E0_.ea (h : E0_ m γ δ) : EA_ (fun b => b = m ∨ b = m + 1 ∨ b = m + 2) γ δ := h
theorem E0_.a3 : A3_ (fun b => b = m ∨ b = m + 1 ∨ b = m + 2) m := ⟨Or.inl rfl, Or.inr (Or.inl rfl), Or.inr (Or.inr rfl)⟩
theorem E0_.aw {w : String} {lo hi : Int} (h : E0_ m γ δ) : E0_ m (aw_ m γ w lo hi) (aw_ m δ w lo hi) ∧ awv_ m δ w lo hi = awv_ m γ w lo hi := h.ea.aw E0_.a3 w lo hi
/-! with what is told -/
theorem EA_.f4 (h : EA_ A γ δ) (a4 : A (m + 4)) : iv_ δ (m + 4) = iv_ γ (m + 4) := funext fun k => h _ k a4
theorem EA_.kw (h : EA_ A γ δ) (a : A3_ A m) : kw_ m δ = kw_ m γ := by
  unfold kw_
  rw [h.iw a, h.iw a, h.iw a, h.iw a, h.iw a, h.iw a]
theorem EA_.isn (h : EA_ A γ δ) (a : A3_ A m) : isn_ m δ = isn_ m γ := by
  unfold isn_
  rw [h m 6 a.1, h.kw a]
theorem EA_.fd (h : EA_ A γ δ) (a : A3_ A m) (a4 : A (m + 4)) : fd_ m δ = fd_ m γ := by
  have e : nm1_ m δ = nm1_ m γ := funext fun n => by
    unfold nm1_
    rw [h (m + 4) _ a4, h m 8 a.1]
    congr 1
    exact congrArg (al_ · _) (funext fun k => by rw [h (m + 4) _ a4, h (m + 2) k a.2.2])
  unfold fd_
  rw [e]
theorem EA_.ndd (h : EA_ A γ δ) (a : A3_ A m) (a4 : A (m + 4)) (lo hi : Int) : EA_ A (ndd_ m γ lo hi) (ndd_ m δ lo hi) ∧ ndv_ m δ lo hi = ndv_ m γ lo hi := by
  have ei := h.isn a
  have ef := h.fd a a4
  unfold ndd_ ndv_
  simp only [h m 13 a.1, ei, ef, h m 4 a.1]
  exact ⟨EA_.ite (EA_.ite (EA_.ite h (h.wr a rfl)) (h.wr a rfl)) h, trivial⟩
theorem EA_.pnm (h : EA_ A γ δ) (a : A3_ A m) (n : Int) : EA_ A (pnm_ m γ n) (pnm_ m δ n) := by
  unfold pnm_
  rw [h m 8 a.1]
  exact EA_.pi (EA_.pb h (fun k _ _ => h _ k a.2.2))
theorem EA_.nna (h : EA_ A γ δ) (a : A3_ A m) (a4 : A (m + 4)) (n : Int) : EA_ A (nna_ m γ n) (nna_ m δ n) := by
  have ei := h.isn a
  have ef := h.fd a a4
  unfold nna_
  simp only [h m 13 a.1, ei, ef, h m 4 a.1]
  exact EA_.ite (EA_.ite (EA_.ite (h.wr a rfl) ((h.pnm a n).nxt a)) (h.wr a rfl)) h
theorem EA_.bw (h : EA_ A γ δ) (a : A3_ A m) (a4 : A (m + 4)) (w : String) : EA_ A (bw_ m γ w) (bw_ m δ w) ∧ bwv_ m δ w = bwv_ m γ w :=
  ⟨((h.mus a _ _).ndd a a4 0 6).1.onn a, ((h.mus a _ _).ndd a a4 0 6).2⟩
theorem EA_.ps (h : EA_ A γ δ) (a : A3_ A m) (k : Int) (w : String) (lo hi : Int) : EA_ A (ps_ m γ k w lo hi) (ps_ m δ k w lo hi) := by
  unfold ps_
  rw [(h.aw a w lo hi).2]
  exact (h.aw a w lo hi).1.pi
theorem EA_.pq (h : EA_ A γ δ) (a : A3_ A m) (a4 : A (m + 4)) (k : Int) (w : String) : EA_ A (pq_ m γ k w) (pq_ m δ k w) := by
  unfold pq_
  rw [(h.bw a a4 w).2]
  exact (h.bw a a4 w).1.pi
theorem EA_.mor (h : EA_ A γ δ) (a : A3_ A m) (a4 : A (m + 4)) (k : Int) : EA_ A (mor_ m γ k) (mor_ m δ k) := by
  unfold mor_
  rw [h m 13 a.1, h (m + 4) k a4]
  exact EA_.ite h.pi h
theorem EA_.pl (h : EA_ A γ δ) (a : A3_ A m) (a4 : A (m + 4)) : EA_ A (pl_ m γ) (pl_ m δ) := by
  have h1 : EA_ A (pl1_ m (nxt_ m γ)) (pl1_ m (nxt_ m δ)) := ((((h.nxt a).ps a _ _ _ _).ps a _ _ _ _).ps a _ _ _ _).ps a _ _ _ _
  unfold pl_
  rw [h (m + 4) 9 a4, h m 4 a.1, h1 m 13 a.1]
  exact EA_.ite (h.wr a rfl) (EA_.ite h1.pi h1)
theorem EA_.bgs (h : EA_ A γ δ) (a : A3_ A m) (a4 : A (m + 4)) (c : Int) : EA_ A (bgs_ m γ c) (bgs_ m δ c) := by
  unfold bgs_
  rw [h (m + 4) 9 a4, h m 4 a.1]
  exact EA_.ite (h.wr a rfl) (EA_.ite (h.wr a rfl) (h.nxt a))
theorem EA_.il (h : EA_ A γ δ) (a : A3_ A m) (a4 : A (m + 4)) : EA_ A (il_ m γ) (il_ m δ) := by
  have key : ∀ {γ δ : JH}, EA_ A γ δ → ∀ i, EA_ A (il2_ m γ i) (il2_ m δ i) := fun {γ δ} h i => by
    have e1 : tld_ m δ i = tld_ m γ i := by
      unfold tld_
      congr 1
      refine congrArg (al_ · i) (funext fun j => ?_)
      unfold sg1_
      rw [h (m + 4) _ a4, h m 8 a.1]
      congr 2
      exact congrArg (al_ · _) (funext fun k => by rw [h (m + 4) _ a4, h (m + 2) k a.2.2])
    have e2 : sgi_ m δ = sgi_ m γ := by
      unfold sgi_
      rw [h m 8 a.1]
      congr 1
      exact congrArg (al_ · _) (funext fun k => by rw [h (m + 4) _ a4, h (m + 2) k a.2.2])
    have e3 : EA_ A (psg_ m γ i) (psg_ m δ i) := by
      unfold psg_
      rw [h m 8 a.1]
      exact h.pi.pb (fun k _ _ => by rw [h (m + 2) k a.2.2])
    unfold il2_
    rw [h m 6 a.1, h m 4 a.1, e1, e2, (e3.nxt a) (m + 4) 4 a4]
    exact EA_.ite (EA_.ite (h.wr a rfl) (EA_.ite (e3.nxt a).pi (h.wr a rfl))) (h.wr a rfl)
  unfold il_ il1_
  rw [h m 13 a.1, h (m + 4) 4 a4, (h.nna a a4 _) m 13 a.1]
  exact EA_.ite (EA_.ite (key (h.nna a a4 _) _) (h.nna a a4 _)) h
theorem EA_.wl (h : EA_ A γ δ) (a : A3_ A m) (a4 : A (m + 4)) : EA_ A (wl_ m γ) (wl_ m δ) := by
  have key : ∀ {γ δ : JH}, EA_ A γ δ → ∀ f x y, EA_ A (wl2_ m γ f x y) (wl2_ m δ f x y) := fun {γ δ} h f x y => by
    have e1 : wag_ m δ x y = wag_ m γ x y := by
      unfold wag_
      rw [h.f4 a4]
    unfold wl2_ wl3_
    rw [h m 13 a.1, e1, h m 4 a.1]
    exact EA_.ite (EA_.ite (h.wr a rfl) (EA_.mor (((h.nxt a).pi.pi.ps a _ _ _ _).ps a _ _ _ _) a a4 5)) h
  have ha := (h.ndd a a4 0 6).1.onn a
  unfold wl_ wl1_
  rw [h m 13 a.1, h (m + 4) 5 a4, (h.ndd a a4 0 6).2, (ha.ndd a a4 0 6).2]
  exact EA_.ite (key (ha.ndd a a4 0 6).1 _ _ _) h
theorem EA_.kd (h : EA_ A γ δ) (a : A3_ A m) : kd_ m δ = kd_ m γ := by
  unfold kd_
  rw [h.iw a, h.iw a, h.iw a, h.iw a]
theorem EA_.hl (h : EA_ A γ δ) (a : A3_ A m) (a4 : A (m + 4)) : EA_ A (hl_ m γ) (hl_ m δ) := by
  have key : ∀ {γ δ : JH}, EA_ A γ δ → ∀ f, EA_ A (hl1_ m γ f) (hl1_ m δ f) := fun {γ δ} h f => by
    unfold hl1_ hl2_
    rw [h.kd a, h m 4 a.1]
    exact EA_.ite (h.wr a rfl) (EA_.mor ((((h.nxt a).pi.pq a a4 _ _).ps a _ _ _ _).ps a _ _ _ _) a a4 6)
  unfold hl_
  rw [h m 13 a.1, h (m + 4) 6 a4]
  exact EA_.ite (key (h.nna a a4 _) _) h
theorem EA_.bl (h : EA_ A γ δ) (a : A3_ A m) (a4 : A (m + 4)) : EA_ A (bl2_ m γ) (bl2_ m δ) := by
  unfold bl2_ bl1_
  rw [h m 13 a.1, h (m + 4) 7 a4]
  exact EA_.ite (EA_.mor (((((h.nna a a4 _).pq a a4 _ _).pq a a4 _ _).ps a _ _ _ _).ps a _ _ _ _) a a4 7) h
theorem EA_.sl (h : EA_ A γ δ) (a : A3_ A m) (a4 : A (m + 4)) : EA_ A (sl_ m γ) (sl_ m δ) := by
  have key : ∀ {γ δ : JH}, EA_ A γ δ → ∀ f w i, EA_ A (sl2_ m γ f w i) (sl2_ m δ f w i) := fun {γ δ} h f w i => by
    have e1 : lst_ m δ w = lst_ m γ w := by
      unfold lst_
      rw [h.f4 a4]
    have h2 := h.aw a "day" (lst_ m γ w) 9999
    unfold sl2_ sl3_
    rw [e1, h2.2, h2.1 m 13 a.1, h2.1 (m + 4) 8 a4]
    exact EA_.ite h2.1.pi.pi.pi.pi h2.1
  have ha := (h.ndd a a4 7 11).1.onn a
  have hb := (ha.ndd a a4 0 6).1.onn a
  unfold sl_ sl1_
  rw [h m 13 a.1, h (m + 4) 8 a4, (h.ndd a a4 7 11).2, (ha.ndd a a4 0 6).2]
  exact EA_.ite (key hb _ _ _) h
theorem EA_.rl (h : EA_ A γ δ) (a : A3_ A m) (a4 : A (m + 4)) : EA_ A (rl_ m γ) (rl_ m δ) := by
  unfold rl_
  rw [h.iw a, h.iw a, h.iw a, h.iw a, h.iw a, h.iw a, h (m + 4) 4 a4, h (m + 4) 5 a4, h (m + 4) 6 a4, h (m + 4) 7 a4, h (m + 4) 8 a4, h m 4 a.1]
  exact EA_.ite (h.pl a a4) (EA_.ite ((h.bgs a a4 _).il a a4) (EA_.ite ((h.bgs a a4 _).wl a a4) (EA_.ite ((h.bgs a a4 _).hl a a4) (EA_.ite ((h.bgs a a4 _).bl a a4) (EA_.ite ((h.bgs a a4 _).sl a a4) (h.wr a rfl))))))
theorem EA_.rls (a : A3_ A m) (a4 : A (m + 4)) (n : Nat) : ∀ {γ δ : JH}, EA_ A γ δ → EA_ A (rls_ m n γ) (rls_ m n δ) := by
  induction n with
  | zero => intro γ δ h; exact h
  | succ n ih =>
    intro γ δ h
    unfold rls_
    rw [h m 13 a.1, h m 6 a.1]
    exact EA_.ite (ih ((h.nxt a).rl a a4)) h
theorem EA_.pe (h : EA_ A γ δ) (a : A3_ A m) (a4 : A (m + 4)) : EA_ A (pe_ m γ) (pe_ m δ) := by
  have h1 : EA_ A (rla_ m γ) (rla_ m δ) := EA_.rls a a4 1001 ((h.nxt a).rl a a4)
  have h2 : EA_ A (pe1_ m (rla_ m γ)) (pe1_ m (rla_ m δ)) := by
    unfold pe1_
    rw [h1 m 13 a.1, h1 m 6 a.1, h1 m 4 a.1]
    exact EA_.ite (h1.wr a rfl) h1
  unfold pe_ pe2_
  rw [h2 m 13 a.1, h2 (m + 4) 9 a4, h2 (m + 4) 4 a4, h2 m 4 a.1]
  exact EA_.ite (h2.wr a rfl) h2
theorem EA_.ini (h : EA_ A γ δ) (n : Int) : EA_ A (ini_ m γ n) (ini_ m δ n) := by
  unfold ini_
  exact EA_.pi (EA_.pi (EA_.pb h.pi.pi.pi (fun _ _ _ => rfl)))
end
