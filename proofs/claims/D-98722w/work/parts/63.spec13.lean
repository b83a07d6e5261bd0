/-! PARSING, part 3: how reading goes on; the lines -/
set_option maxRecDepth 100000
section
variable {G : JG} {m : Nat} {γ : JH}
theorem PI_.cg {γ' : JH} (h : PI_ m γ) (e0 : ∀ k, iv_ γ' m k = iv_ γ m k) (e1 : ∀ k, iv_ γ' (m + 1) k = iv_ γ (m + 1) k) (e2 : ∀ k, iv_ γ' (m + 2) k = iv_ γ (m + 2) k) : PI_ m γ' := by
  unfold PI_ TX_ at *
  simp only [e0, e1, e2]
  exact h
/-- reading goes on: what it writes; the end of what was read; a fault stays -/
def A0_ (S : Nat → Int → Prop) (m : Nat) (γ γ' : JH) : Prop := Fr_ S γ γ' ∧ iv_ γ m 5 ≤ iv_ γ' m 5 ∧ (iv_ γ m 13 ≠ 0 → iv_ γ' m 13 = iv_ γ m 13 ∧ iv_ γ' m 9 = iv_ γ m 9 ∧ iv_ γ' m 10 = iv_ γ m 10)
theorem A0_.rf {S : Nat → Int → Prop} : A0_ S m γ γ := ⟨Fr_.rf, Int.le_refl _, fun _ => ⟨rfl, rfl, rfl⟩⟩
theorem A0_.tr {S : Nat → Int → Prop} {γ1 γ2 : JH} (h : A0_ S m γ γ1) (g : A0_ S m γ1 γ2) : A0_ S m γ γ2 := ⟨h.1.tr g.1, Int.le_trans h.2.1 g.2.1, fun q => by
  obtain ⟨a1, a2, a3⟩ := h.2.2 q
  obtain ⟨b1, b2, b3⟩ := g.2.2 (by rw [a1]; exact q)
  exact ⟨b1.trans a1, b2.trans a2, b3.trans a3⟩⟩
theorem A0_.f1 {γ1 : JH} (h : A0_ (pf0_ m) m γ γ1) : A0_ (pf1_ m) m γ γ1 := ⟨h.1.f1, h.2⟩
theorem nxt_fix (γ : JH) : iv_ (nxt_ m γ) m 13 = iv_ γ m 13 ∧ iv_ (nxt_ m γ) m 9 = iv_ γ m 9 ∧ iv_ (nxt_ m γ) m 10 = iv_ γ m 10 := by
  unfold nxt_
  dsimp only
  split
  · simp [iv_pi]
  · split
    · simp [iv_pi, iv_pb]
    · split <;> simp [iv_pi]
theorem nxt_5 (h : PI_ m γ) : iv_ γ m 5 ≤ iv_ (nxt_ m γ) m 5 ∧ (iv_ (nxt_ m γ) m 6 ≠ 0 → iv_ γ m 5 < iv_ (nxt_ m γ) m 5) := by
  have hT := h.1
  have he := h.2.1
  have hB := skp_in (P := isB2_) (L := lk_ m γ) he.2 (by unfold lk_; rw [if_neg (by omega)]; rfl)
  have hl := lk_in hT (k := skp_ isB2_ (lk_ m γ) (iv_ γ m 5) (iv_ γ m 3)) (by omega)
  unfold nxt_
  dsimp only
  generalize hk : skp_ isB2_ (lk_ m γ) (iv_ γ m 5) (iv_ γ m 3) = k at *
  by_cases c1 : lk_ m γ k = -1
  · rw [if_pos c1]
    simp [iv_pi]
    omega
  · rw [if_neg c1]
    by_cases c2 : isS_ (lk_ m γ k) = true
    · rw [if_pos c2]
      have hS := skp_in (P := isS_) (L := lk_ m γ) (k0 := k) (e := iv_ γ m 3) (by omega) (by unfold lk_; rw [if_neg (by omega)]; rfl)
      generalize hk2 : skp_ isS_ (lk_ m γ) k (iv_ γ m 3) = k2 at *
      have hne : k < k2 := Classical.byContradiction fun q => by
        have e : k2 = k := by omega
        rw [e, c2] at hS
        exact absurd hS.2.2 (by decide)
      simp [iv_pi]
      omega
    · rw [if_neg c2]
      by_cases c3 : isD_ (lk_ m γ k) = true
      · rw [if_pos c3]
        have hS := skp_in (P := isD_) (L := lk_ m γ) (k0 := k) (e := iv_ γ m 3) (by omega) (by unfold lk_; rw [if_neg (by omega)]; rfl)
        generalize hk2 : skp_ isD_ (lk_ m γ) k (iv_ γ m 3) = k2 at *
        have hne : k < k2 := Classical.byContradiction fun q => by
          have e : k2 = k := by omega
          rw [e, c3] at hS
          exact absurd hS.2.2 (by decide)
        simp [iv_pi]
        omega
      · rw [if_neg c3]
        simp [iv_pi]
        omega
theorem nxt_A0 (h : PI_ m γ) : A0_ (pf0_ m) m γ (nxt_ m γ) := ⟨nxt_f0 γ, (nxt_5 h).1, fun _ => nxt_fix γ⟩
theorem wr_A0 (w a : Int) : A0_ (pf0_ m) m γ (wr_ m γ w a) := by
  refine ⟨wr_f0 _ _ _, ?_, ?_⟩
  · unfold wr_
    split
    · simp [iv_pi]
    · exact Int.le_refl _
  · intro q
    unfold wr_
    rw [if_neg q]
    exact ⟨rfl, rfl, rfl⟩
theorem wr_id {w a : Int} (h : iv_ γ m 13 ≠ 0) : wr_ m γ w a = γ := if_neg h
theorem mus_A0 (h : PI_ m γ) (n : Int) (c : Int → Int) : A0_ (pf0_ m) m γ (mus_ m γ n c) := by
  unfold mus_
  split
  · split
    · exact nxt_A0 h
    · exact wr_A0 _ _
  · exact A0_.rf
theorem num_A0 (h : PI_ m γ) (lo hi : Int) : A0_ (pf0_ m) m γ (num_ m γ lo hi) := by
  unfold num_
  split
  · split
    · split
      · exact nxt_A0 h
      · exact wr_A0 _ _
    · exact wr_A0 _ _
  · exact A0_.rf
theorem ndd_A0 (lo hi : Int) : A0_ (pf0_ m) m γ (ndd_ m γ lo hi) := by
  unfold ndd_
  split
  · split
    · split
      · exact A0_.rf
      · exact wr_A0 _ _
    · exact wr_A0 _ _
  · exact A0_.rf
theorem onn_A0 (h : PI_ m γ) : A0_ (pf0_ m) m γ (onn_ m γ) := by
  unfold onn_
  split
  · exact nxt_A0 h
  · exact A0_.rf
theorem aft_A0 (h : PI_ m γ) (n : Int) (c : Int → Int) (lo hi : Int) : A0_ (pf0_ m) m γ (aft_ m γ n c lo hi) := (mus_A0 h n c).tr (num_A0 (h.mus n c) lo hi)
theorem ibh_A0 (h : PI_ m γ) (n : Int) (c : Int → Int) : A0_ (pf0_ m) m γ (ibh_ m γ n c) := (mus_A0 h n c).tr ((ndd_A0 0 6).tr (onn_A0 ((h.mus n c).ndd 0 6)))
theorem nuv_in (h : PI_ m γ) {lo hi : Int} : nuv_ m γ lo hi = lo ∨ (lo ≤ nuv_ m γ lo hi ∧ nuv_ m γ lo hi ≤ hi) := by
  unfold nuv_
  split <;> omega
theorem ndv_in (γ : JH) {lo hi : Int} (h : 0 ≤ lo) : ndv_ m γ lo hi = 0 ∨ (0 ≤ ndv_ m γ lo hi ∧ ndv_ m γ lo hi ≤ hi - lo) := by
  unfold ndv_
  split <;> omega
/-- what is told is written -/
theorem PI_.p4 (h : PI_ m γ) {k x : Int} : PI_ m (pi_ γ (m + 4) k x) := h.cg (fun k => by rw [iv_pi, if_neg (by omega)]) (fun k => by rw [iv_pi, if_neg (by omega)]) (fun k => by rw [iv_pi, if_neg (by omega)])
theorem PI_.pb4 (h : PI_ m γ) {lo n : Int} {f : Int → Int} : PI_ m (pb_ γ (m + 4) lo n f) := h.cg (fun k => by rw [iv_pb, if_neg (by omega)]) (fun k => by rw [iv_pb, if_neg (by omega)]) (fun k => by rw [iv_pb, if_neg (by omega)])
theorem A1_p4 {k x : Int} : A0_ (pf1_ m) m γ (pi_ γ (m + 4) k x) := ⟨Fr_.rf.pi (Or.inr (Or.inr rfl)), by rw [iv_pi, if_neg (by omega)]; exact Int.le_refl _, fun _ => by simp [iv_pi]⟩
theorem A1_pb4 {lo n : Int} {f : Int → Int} : A0_ (pf1_ m) m γ (pb_ γ (m + 4) lo n f) := ⟨⟨fun _ => rfl, fun _ _ => rfl, rfl, rfl, fun b k q => by rw [iv_pb, if_neg (fun w => q (Or.inr (Or.inr w.1)))]⟩, by rw [iv_pb, if_neg (by omega)]; exact Int.le_refl _, fun _ => by simp [iv_pb]⟩
theorem FB_.p4 (h : FB_ m γ) {k x : Int} (hx : 0 ≤ x ∧ x ≤ 9999) : FB_ m (pi_ γ (m + 4) k x) := fun j j0 j1 => by
  rw [iv_pi]
  split
  · exact hx
  · exact h j j0 j1
theorem FB_.pb4 (h : FB_ m γ) {lo n : Int} {f : Int → Int} (hx : ∀ k, 0 ≤ k → k < n → 0 ≤ f k ∧ f k ≤ 9999) : FB_ m (pb_ γ (m + 4) lo n f) := fun j j0 j1 => by
  rw [iv_pb]
  split
  · exact hx _ (by omega) (by omega)
  · exact h j j0 j1
theorem pnm_PI (h : PI_ m γ) (n : Int) : PI_ m (pnm_ m γ n) := h.pb4.p4
theorem pnm_A1 (n : Int) : A0_ (pf1_ m) m γ (pnm_ m γ n) := A1_pb4.tr A1_p4
theorem pnm_FB (h : PI_ m γ) (hB : FB_ m γ) (h2 : iv_ γ m 6 = 2) (n : Int) : FB_ m (pnm_ m γ n) := by
  have h8 := h.2.2.2.2.2.2.2 h2
  refine FB_.p4 (FB_.pb4 hB (fun k k0 k1 => ?_)) (by omega)
  have := h8.2 k k0 k1
  omega
theorem nna_PI (h : PI_ m γ) (n : Int) : PI_ m (nna_ m γ n) := by
  unfold nna_
  split
  · split
    · split
      · exact h.wr _ _
      · exact (pnm_PI h n).nxt
    · exact h.wr _ _
  · exact h
theorem nna_FB (h : PI_ m γ) (hB : FB_ m γ) (n : Int) : FB_ m (nna_ m γ n) := by
  unfold nna_
  split
  · split
    · rename_i q
      split
      · exact hB.f0 (wr_f0 _ _ _)
      · exact (pnm_FB h hB q.1 n).f0 (nxt_f0 _)
    · exact hB.f0 (wr_f0 _ _ _)
  · exact hB
theorem nna_A1 (h : PI_ m γ) (n : Int) : A0_ (pf1_ m) m γ (nna_ m γ n) := by
  unfold nna_
  split
  · split
    · split
      · exact (wr_A0 _ _).f1
      · exact (pnm_A1 n).tr (nxt_A0 (pnm_PI h n)).f1
    · exact (wr_A0 _ _).f1
  · exact A0_.rf
/-- all that reading needs -/
def RB_ (G : JG) (m : Nat) (γ : JH) : Prop := MR_ G m γ ∧ PI_ m γ ∧ FB_ m γ ∧ LS_ G γ
theorem RB_.of {γ' : JH} (h : RB_ G m γ) (a : A0_ (pf0_ m) m γ γ') (p : PI_ m γ') : RB_ G m γ' := ⟨h.1.fr a.1, p, h.2.2.1.f0 a.1, h.2.2.2.fr h.1.ge a.1.f1⟩
theorem RB_.of1 {γ' : JH} (h : RB_ G m γ) (a : A0_ (pf1_ m) m γ γ') (p : PI_ m γ') (b : FB_ m γ') : RB_ G m γ' := ⟨h.1.fr a.1, p, b, h.2.2.2.fr h.1.ge a.1⟩
theorem RB_.p4 (h : RB_ G m γ) {k x : Int} (hx : 0 ≤ x ∧ x ≤ 9999) : RB_ G m (pi_ γ (m + 4) k x) := h.of1 A1_p4 h.2.1.p4 (h.2.2.1.p4 hx)
/-- a number behind a word of the tongue, an island behind one -/
def aw_ (m : Nat) (γ : JH) (w : String) (lo hi : Int) : JH := aft_ m γ ((w.length : Nat) : Int) (tx_ w) lo hi
def awv_ (m : Nat) (γ : JH) (w : String) (lo hi : Int) : Int := afv_ m γ ((w.length : Nat) : Int) (tx_ w) lo hi
def bw_ (m : Nat) (γ : JH) (w : String) : JH := ibh_ m γ ((w.length : Nat) : Int) (tx_ w)
def bwv_ (m : Nat) (γ : JH) (w : String) : Int := ibv_ m γ ((w.length : Nat) : Int) (tx_ w)
/-- the same, told -/
def ps_ (m : Nat) (γ : JH) (k : Int) (w : String) (lo hi : Int) : JH := pi_ (aw_ m γ w lo hi) (m + 4) k (awv_ m γ w lo hi)
def pq_ (m : Nat) (γ : JH) (k : Int) (w : String) : JH := pi_ (bw_ m γ w) (m + 4) k (bwv_ m γ w)
theorem ps_A1 (h : PI_ m γ) (k : Int) (w : String) (lo hi : Int) : A0_ (pf1_ m) m γ (ps_ m γ k w lo hi) := (aft_A0 h _ _ _ _).f1.tr A1_p4
theorem pq_A1 (h : PI_ m γ) (k : Int) (w : String) : A0_ (pf1_ m) m γ (pq_ m γ k w) := (ibh_A0 h _ _).f1.tr A1_p4
theorem ps_PI (h : PI_ m γ) (k : Int) (w : String) (lo hi : Int) : PI_ m (ps_ m γ k w lo hi) := (h.aft _ _ _ _).p4
theorem pq_PI (h : PI_ m γ) (k : Int) (w : String) : PI_ m (pq_ m γ k w) := (h.ibh _ _).p4
theorem awv_in (h : PI_ m γ) (w : String) {lo hi : Int} : awv_ m γ w lo hi = lo ∨ (lo ≤ awv_ m γ w lo hi ∧ awv_ m γ w lo hi ≤ hi) := nuv_in (h.mus _ _)
theorem bwv_in (γ : JH) (w : String) : 0 ≤ bwv_ m γ w ∧ bwv_ m γ w ≤ 6 := by
  have := ndv_in (m := m) (mus_ m γ ((w.length : Nat) : Int) (tx_ w)) (lo := 0) (hi := 6) (by decide)
  unfold bwv_ ibv_
  omega
theorem ps_FB (h : PI_ m γ) (hB : FB_ m γ) (k : Int) (w : String) {lo hi : Int} (hl : 0 ≤ lo ∧ lo ≤ 9999) (hh : hi ≤ 9999) : FB_ m (ps_ m γ k w lo hi) := (hB.f0 (aft_A0 h _ _ _ _).1).p4 (by have := awv_in h w (lo := lo) (hi := hi); omega)
theorem pq_FB (h : PI_ m γ) (hB : FB_ m γ) (k : Int) (w : String) : FB_ m (pq_ m γ k w) := (hB.f0 (ibh_A0 h _ _).1).p4 (by have := bwv_in (m := m) γ w; omega)
theorem RB_.ps (h : RB_ G m γ) (k : Int) (w : String) {lo hi : Int} (hl : 0 ≤ lo ∧ lo ≤ 9999) (hh : hi ≤ 9999) : RB_ G m (ps_ m γ k w lo hi) := h.of1 (ps_A1 h.2.1 _ _ _ _) (ps_PI h.2.1 _ _ _ _) (ps_FB h.2.1 h.2.2.1 _ _ hl hh)
theorem RB_.pq (h : RB_ G m γ) (k : Int) (w : String) : RB_ G m (pq_ m γ k w) := h.of1 (pq_A1 h.2.1 _ _) (pq_PI h.2.1 _ _) (pq_FB h.2.1 h.2.2.1 _ _)
/-- one more of a sort, if nothing failed -/
def mor_ (m : Nat) (γ : JH) (k : Int) : JH := if iv_ γ m 13 = 0 then pi_ γ (m + 4) k (iv_ γ (m + 4) k + 1) else γ
/-- the post's line -/
def pl1_ (m : Nat) (γ : JH) : JH := ps_ m (ps_ m (ps_ m (ps_ m γ 0 "notes" 2 4) 1 "errors" 0 3) 2 "drift" 0 50) 3 "slip" 0 100
def pl_ (m : Nat) (γ : JH) : JH :=
  if iv_ γ (m + 4) 9 = 1 then wr_ m γ 3 (iv_ γ m 4)
  else if iv_ (pl1_ m (nxt_ m γ)) m 13 = 0 then pi_ (pl1_ m (nxt_ m γ)) (m + 4) 9 1 else pl1_ m (nxt_ m γ)
/-- a line begins -/
def bgs_ (m : Nat) (γ : JH) (can : Int) : JH := if can = 0 then wr_ m γ 5 (iv_ γ m 4) else if iv_ γ (m + 4) 9 = 0 then wr_ m γ 6 (iv_ γ m 4) else nxt_ m γ
/-- an island's line -/
def sgi_ (m : Nat) (γ : JH) : Bool := decide (2 ≤ iv_ γ m 8 ∧ iv_ γ m 8 ≤ 6) && al_ (fun k => decide (iv_ γ (m + 2) k - 97 < iv_ γ (m + 4) 0)) (iv_ γ m 8)
def sg1_ (m : Nat) (γ : JH) (j : Int) : Bool := decide (iv_ γ (m + 4) (10 + 7 * j) = iv_ γ m 8) && al_ (fun k => decide (iv_ γ (m + 4) (10 + 7 * j + 1 + k) = iv_ γ (m + 2) k - 97)) (iv_ γ m 8)
def tld_ (m : Nat) (γ : JH) (i : Int) : Bool := !al_ (fun j => !sg1_ m γ j) i
def psg_ (m : Nat) (γ : JH) (i : Int) : JH := pb_ (pi_ γ (m + 4) (10 + 7 * i) (iv_ γ m 8)) (m + 4) (10 + 7 * i + 1) (iv_ γ m 8) (fun k => iv_ γ (m + 2) k - 97)
def il2_ (m : Nat) (γ : JH) (i : Int) : JH :=
  if iv_ γ m 6 = 2 then
    if tld_ m γ i = true then wr_ m γ 3 (iv_ γ m 4)
    else if sgi_ m γ = true then pi_ (nxt_ m (psg_ m γ i)) (m + 4) 4 (iv_ (nxt_ m (psg_ m γ i)) (m + 4) 4 + 1)
    else wr_ m γ 7 (iv_ γ m 4)
  else wr_ m γ 1 (iv_ γ m 4)
def il1_ (m : Nat) (γ : JH) (i : Int) : JH := if iv_ (nna_ m γ i) m 13 = 0 then il2_ m (nna_ m γ i) i else nna_ m γ i
def il_ (m : Nat) (γ : JH) : JH := if iv_ γ m 13 = 0 then il1_ m γ (iv_ γ (m + 4) 4) else γ
/-- a way's line -/
def wag_ (m : Nat) (γ : JH) (a b : Int) : Bool := decide (a = b) || !al_ (fun k => decide (¬ jn_ (iv_ γ (m + 4)) k a b)) (iv_ γ (m + 4) 5)
def wl3_ (m : Nat) (γ : JH) (f a b : Int) : JH := ps_ m (ps_ m (pi_ (pi_ (nxt_ m γ) (m + 4) f a) (m + 4) (f + 1) b) (f + 2) "days" 1 99) (f + 3) "open" 1 15
def wl2_ (m : Nat) (γ : JH) (f a b : Int) : JH := if iv_ γ m 13 = 0 then (if wag_ m γ a b = true then wr_ m γ 3 (iv_ γ m 4) else mor_ m (wl3_ m γ f a b) 5) else γ
def wl1_ (m : Nat) (γ : JH) (f a : Int) : JH := wl2_ m (ndd_ m γ 0 6) f a (ndv_ m γ 0 6)
def wl_ (m : Nat) (γ : JH) : JH := if iv_ γ m 13 = 0 then wl1_ m (onn_ m (ndd_ m γ 0 6)) (59 + 4 * iv_ γ (m + 4) 5) (ndv_ m γ 0 6) else γ
/-- a whale's line -/
def kd_ (m : Nat) (γ : JH) : Int := if iw_ m γ (("calf".length : Nat) : Int) (tx_ "calf") = true then 0 else if iw_ m γ (("cow".length : Nat) : Int) (tx_ "cow") = true then 1 else if iw_ m γ (("bull".length : Nat) : Int) (tx_ "bull") = true then 2 else if iw_ m γ (("old".length : Nat) : Int) (tx_ "old") = true then 3 else -1
def hl2_ (m : Nat) (γ : JH) (f k : Int) : JH := ps_ m (ps_ m (pq_ m (pi_ (nxt_ m γ) (m + 4) f k) (f + 1) "at") (f + 2) "keeps" 0 99) (f + 3) "lost" 0 99
def hl1_ (m : Nat) (γ : JH) (f : Int) : JH := if kd_ m γ < 0 then wr_ m γ 1 (iv_ γ m 4) else mor_ m (hl2_ m γ f (kd_ m γ)) 6
def hl_ (m : Nat) (γ : JH) : JH := if iv_ γ m 13 = 0 then hl1_ m (nna_ m γ (7 + iv_ γ (m + 4) 6)) (107 + 4 * iv_ γ (m + 4) 6) else γ
/-- a box's line -/
def bl1_ (m : Nat) (γ : JH) (f : Int) : JH := mor_ m (ps_ m (ps_ m (pq_ m (pq_ m γ f "from") (f + 1) "to") (f + 2) "weighs" 1 99) (f + 3) "day" 0 9999) 7
def bl2_ (m : Nat) (γ : JH) : JH := if iv_ γ m 13 = 0 then bl1_ m (nna_ m γ (12 + iv_ γ (m + 4) 7)) (127 + 4 * iv_ γ (m + 4) 7) else γ
/-- a spout's line -/
def lst_ (m : Nat) (γ : JH) (w : Int) : Int := iI_ (fun k a => if iv_ γ (m + 4) (159 + 3 * k) = w then iv_ γ (m + 4) (159 + 3 * k + 2) + 1 else a) 0 (iv_ γ (m + 4) 8)
def sl3_ (m : Nat) (γ : JH) (f w i d : Int) : JH := pi_ (pi_ (pi_ (pi_ γ (m + 4) f w) (m + 4) (f + 1) i) (m + 4) (f + 2) d) (m + 4) 8 (iv_ γ (m + 4) 8 + 1)
def sl2_ (m : Nat) (γ : JH) (f w i : Int) : JH := if iv_ (aw_ m γ "day" (lst_ m γ w) 9999) m 13 = 0 then sl3_ m (aw_ m γ "day" (lst_ m γ w) 9999) f w i (awv_ m γ "day" (lst_ m γ w) 9999) else aw_ m γ "day" (lst_ m γ w) 9999
def sl1_ (m : Nat) (γ : JH) (f w : Int) : JH := sl2_ m (onn_ m (ndd_ m γ 0 6)) f w (ndv_ m γ 0 6)
def sl_ (m : Nat) (γ : JH) : JH := if iv_ γ m 13 = 0 then sl1_ m (onn_ m (ndd_ m γ 7 11)) (159 + 3 * iv_ γ (m + 4) 8) (ndv_ m γ 7 11) else γ
/-- a line -/
def ca1_ (a b : Int) : Int := if a < b then 1 else 0
def rl_ (m : Nat) (γ : JH) : JH :=
  if iw_ m γ (("post".length : Nat) : Int) (tx_ "post") = true then pl_ m γ
  else if iw_ m γ (("island".length : Nat) : Int) (tx_ "island") = true then il_ m (bgs_ m γ (ca1_ (iv_ γ (m + 4) 4) 7))
  else if iw_ m γ (("way".length : Nat) : Int) (tx_ "way") = true then wl_ m (bgs_ m γ (ca1_ (iv_ γ (m + 4) 5) 12))
  else if iw_ m γ (("whale".length : Nat) : Int) (tx_ "whale") = true then hl_ m (bgs_ m γ (ca1_ (iv_ γ (m + 4) 6) 5))
  else if iw_ m γ (("box".length : Nat) : Int) (tx_ "box") = true then bl2_ m (bgs_ m γ (ca1_ (iv_ γ (m + 4) 7) 8))
  else if iw_ m γ (("spout".length : Nat) : Int) (tx_ "spout") = true then sl_ m (bgs_ m γ (ca1_ (iv_ γ (m + 4) 8) 8))
  else wr_ m γ 1 (iv_ γ m 4)
end
