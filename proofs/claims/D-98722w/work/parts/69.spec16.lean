/-! PARSING, part 6: each line keeps what is told a post -/
set_option maxRecDepth 100000
section
variable {G : JG} {m : Nat} {γ γ' : JH}
theorem A0_.ok {S : Nat → Int → Prop} (h : A0_ S m γ γ') (q : iv_ γ' m 13 = 0) : iv_ γ m 13 = 0 := Classical.byContradiction fun w => w ((h.2.2 w).1.symm.trans q)
theorem p4_13 {k x : Int} : iv_ (pi_ γ (m + 4) k x) m 13 = iv_ γ m 13 := by rw [iv_pi, if_neg (by omega)]
theorem mor_13 {k : Int} : iv_ (mor_ m γ k) m 13 = iv_ γ m 13 := by
  unfold mor_
  split
  · exact p4_13
  · rfl
theorem mor_4 {k : Int} (h : iv_ γ m 13 = 0) (j : Int) : iv_ (mor_ m γ k) (m + 4) j = if j = k then iv_ γ (m + 4) k + 1 else iv_ γ (m + 4) j := by
  unfold mor_
  rw [if_pos h, p4_4]
theorem wr_no {w a : Int} (h : iv_ γ m 13 = 0 ∨ iv_ γ m 13 = 1) (q : iv_ (wr_ m γ w a) m 13 = 0) : False := by
  rw [wr_13 h] at q
  exact absurd q (by decide)
theorem ndd_ok {lo hi : Int} (h : PI_ m γ) (q : iv_ (ndd_ m γ lo hi) m 13 = 0) : iv_ γ m 13 = 0 ∧ isn_ m γ ∧ (lo ≤ fd_ m γ ∧ fd_ m γ ≤ hi) ∧ ndd_ m γ lo hi = γ ∧ ndv_ m γ lo hi = fd_ m γ - lo := by
  unfold ndd_ at q ⊢
  unfold ndv_
  by_cases c0 : iv_ γ m 13 = 0
  · rw [if_pos c0] at q ⊢
    by_cases c1 : isn_ m γ
    · rw [if_pos c1] at q ⊢
      by_cases c2 : lo ≤ fd_ m γ ∧ fd_ m γ ≤ hi
      · rw [if_pos c2, if_pos ⟨c0, c1, c2⟩]
        exact ⟨c0, c1, c2, rfl, rfl⟩
      · rw [if_neg c2] at q
        exact (wr_no h.2.2.1 q).elim
    · rw [if_neg c1] at q
      exact (wr_no h.2.2.1 q).elim
  · rw [if_neg c0] at q
    exact absurd q c0
theorem fd_hit (h : 0 ≤ fd_ m γ) : fd_ m γ < 20 ∧ nm1_ m γ (fd_ m γ) = true ∧ ∀ j, 0 ≤ j → j < fd_ m γ → nm1_ m γ j = false := by
  unfold fd_ at *
  rcases fI_spec (nm1_ m γ) (n := 20) (by decide) with q | q
  · omega
  · exact ⟨q.2.1, q.2.2.1, q.2.2.2⟩
theorem fd_no (h : fd_ m γ = -1) : ∀ j, 0 ≤ j → j < 20 → nm1_ m γ j = false := by
  unfold fd_ at *
  rcases fI_spec (nm1_ m γ) (n := 20) (by decide) with q | q
  · exact q.2
  · omega
theorem nm1_sz {n : Int} (h : nm1_ m γ n = true) : 0 < iv_ γ (m + 4) (183 + n) := by
  unfold nm1_ at h
  rw [Bool.and_eq_true] at h
  exact (of_decide_eq_true h.1).1
theorem onn_ok (h : PI_ m γ) (q : iv_ (onn_ m γ) m 13 = 0) : iv_ γ m 13 = 0 ∧ onn_ m γ = nxt_ m γ := by
  have := (onn_A0 h).ok q
  exact ⟨this, by unfold onn_; rw [if_pos this]⟩
theorem bw_ok (w : String) (h : PI_ m γ) (q : iv_ (bw_ m γ w) m 13 = 0) : (0 ≤ bwv_ m γ w ∧ bwv_ m γ w ≤ 6) ∧ 0 < iv_ γ (m + 4) (183 + bwv_ m γ w) := by
  have hm := h.mus ((w.length : Nat) : Int) (tx_ w)
  have a := (onn_ok (hm.ndd 0 6) q).1
  obtain ⟨a1, a2, a3, a4, a5⟩ := ndd_ok hm a
  have e : bwv_ m γ w = fd_ m (mus_ m γ ((w.length : Nat) : Int) (tx_ w)) := by
    unfold bwv_ ibv_
    rw [a5]
    omega
  rw [e]
  refine ⟨a3, ?_⟩
  have := nm1_sz (fd_hit a3.1).2.1
  rw [(mus_f0 γ _ _).f4] at this
  exact this
theorem ps_ok {k lo hi : Int} {w : String} (h : PI_ m γ) (q : iv_ (ps_ m γ k w lo hi) m 13 = 0) : iv_ γ m 13 = 0 ∧ lo ≤ awv_ m γ w lo hi ∧ awv_ m γ w lo hi ≤ hi := by
  have q1 : iv_ (aw_ m γ w lo hi) m 13 = 0 := by
    unfold ps_ at q
    rw [p4_13] at q
    exact q
  exact ⟨(aft_A0 h _ _ _ _).ok q1, aw_ok w h q1⟩
theorem pq_ok {k : Int} {w : String} (h : PI_ m γ) (q : iv_ (pq_ m γ k w) m 13 = 0) : iv_ γ m 13 = 0 ∧ (0 ≤ bwv_ m γ w ∧ bwv_ m γ w ≤ 6) ∧ 0 < iv_ γ (m + 4) (183 + bwv_ m γ w) := by
  have q1 : iv_ (bw_ m γ w) m 13 = 0 := by
    unfold pq_ at q
    rw [p4_13] at q
    exact q
  exact ⟨(ibh_A0 h _ _).ok q1, bw_ok w h q1⟩
/-- the post's line -/
theorem pl_ok (h : RB_ G m γ) (h0 : iv_ γ m 13 = 0) (q : iv_ (pl_ m γ) m 13 = 0) : iv_ γ (m + 4) 9 ≠ 1 ∧ iv_ (pl1_ m (nxt_ m γ)) m 13 = 0 ∧ pl_ m γ = pi_ (pl1_ m (nxt_ m γ)) (m + 4) 9 1 := by
  unfold pl_ at q ⊢
  split at q
  · exact (wr_no h.2.1.2.2.1 q).elim
  · rename_i c
    split at q
    · rename_i d
      rw [if_neg c, if_pos d]
      exact ⟨c, d, rfl⟩
    · exact absurd q (by assumption)
theorem pl1_ok (h : RB_ G m γ) (q : iv_ (pl1_ m γ) m 13 = 0) : ∃ a b c d : Int, (2 ≤ a ∧ a ≤ 4) ∧ (0 ≤ b ∧ b ≤ 3) ∧ (0 ≤ c ∧ c ≤ 50) ∧ (0 ≤ d ∧ d ≤ 100) ∧ ∀ j, iv_ (pl1_ m γ) (m + 4) j = if j = 3 then d else if j = 2 then c else if j = 1 then b else if j = 0 then a else iv_ γ (m + 4) j := by
  unfold pl1_ at q ⊢
  have r1 := h.sp 0 "notes" (lo := 2) (hi := 4) (by decide) (by decide)
  have r2 := r1.1.sp 1 "errors" (lo := 0) (hi := 3) (by decide) (by decide)
  have r3 := r2.1.sp 2 "drift" (lo := 0) (hi := 50) (by decide) (by decide)
  have q3 := ps_ok r3.1.2.1 q
  have q2 := ps_ok r2.1.2.1 q3.1
  have q1 := ps_ok r1.1.2.1 q2.1
  have q0 := ps_ok h.2.1 q1.1
  exact ⟨_, _, _, _, q0.2, q1.2, q2.2, q3.2, fun j => by rw [ps_4, ps_4, ps_4, ps_4]⟩
theorem pl_FW (h : RB_ G m γ) (h0 : iv_ γ m 13 = 0) (hF : FW_ (iv_ γ (m + 4))) (q : iv_ (pl_ m γ) m 13 = 0) : FW_ (iv_ (pl_ m γ) (m + 4)) := by
  obtain ⟨h9, q1, e⟩ := pl_ok h h0 q
  obtain ⟨a, b, c, d, ha, hb, hc, hd, e1⟩ := pl1_ok h.sn.1 q1
  have E : ∀ j, iv_ (pl_ m γ) (m + 4) j = if j = 9 then 1 else if j = 3 then d else if j = 2 then c else if j = 1 then b else if j = 0 then a else iv_ γ (m + 4) j := fun j => by rw [e, p4_4, e1, nxt_4]
  generalize iv_ (pl_ m γ) (m + 4) = g at *
  have hf := hF
  unfold FW_ at hf
  generalize iv_ γ (m + 4) = f at *
  have E' : ∀ j, 4 ≤ j → j ≠ 9 → g j = f j := fun j j0 j1 => by rw [E, if_neg (by omega), if_neg (by omega), if_neg (by omega), if_neg (by omega), if_neg (by omega)]
  obtain ⟨hf1, hf2, hf3, hf4, hf5, hf6, hf7⟩ := hf
  have hz : f 9 = 0 ∧ f 4 = 0 ∧ f 5 = 0 ∧ f 6 = 0 ∧ f 7 = 0 ∧ f 8 = 0 := by
    rcases hf1 with w | w
    · exact w
    · exact absurd w.1 h9
  have g9 : g 9 = 1 := by rw [E, if_pos rfl]
  have g3 : g 3 = d := by rw [E, if_neg (by decide), if_pos rfl]
  have g2 : g 2 = c := by rw [E, if_neg (by decide), if_neg (by decide), if_pos rfl]
  have g1 : g 1 = b := by rw [E, if_neg (by decide), if_neg (by decide), if_neg (by decide), if_pos rfl]
  have g0 : g 0 = a := by rw [E, if_neg (by decide), if_neg (by decide), if_neg (by decide), if_neg (by decide), if_pos rfl]
  have g4 := E' 4 (by decide) (by decide)
  have g5 := E' 5 (by decide) (by decide)
  have g6 := E' 6 (by decide) (by decide)
  have g7 := E' 7 (by decide) (by decide)
  have g8 := E' 8 (by decide) (by decide)
  refine ⟨Or.inr ⟨g9, by omega, ?_, ?_, ?_, ?_, ?_, ?_, ?_⟩, ?_, ?_, ?_, ?_, ?_, ?_⟩
  · intro i i0 i1; omega
  · intro i k i0 i1; omega
  · intro k k0 k1; omega
  · intro k k0 k1; omega
  · intro k k0 k1; omega
  · intro k k0 k1; omega
  · intro k j k0 k1 k2; omega
  · intro i k i0 i1 k0 k1; rw [E' _ (by omega) (by omega)]; exact hf2 i k (by omega) i1 k0 k1
  · intro n n0 n1; rw [E' _ (by omega) (by omega)]; exact hf3 n (by omega) n1
  · intro n n0 n1; rw [E' _ (by omega) (by omega)]; exact hf4 n (by omega) n1
  · intro n n0 n1; rw [E' _ (by omega) (by omega)]; exact hf5 n (by omega) n1
  · intro i w i0 i1; omega
  · intro n n0 n1; rw [E' _ (by omega) (by omega)]; exact hf7 n n0 n1
/-- a new name: what is told behind it -/
theorem nna_ok (h : PI_ m γ) {n : Int} (h0 : iv_ γ m 13 = 0) (q : iv_ (nna_ m γ n) m 13 = 0) : isn_ m γ ∧ fd_ m γ = -1 ∧ nna_ m γ n = nxt_ m (pnm_ m γ n) ∧ (1 ≤ iv_ γ m 8 ∧ iv_ γ m 8 ≤ 8) ∧ ∀ j, iv_ (nna_ m γ n) (m + 4) j = if j = 183 + n then iv_ γ m 8 else if 203 + 8 * n ≤ j ∧ j < 203 + 8 * n + iv_ γ m 8 then iv_ γ (m + 2) (j - (203 + 8 * n)) else iv_ γ (m + 4) j := by
  rcases nna_cs h h0 n with w | w
  · omega
  · exact ⟨w.2.1, w.2.2.1, w.2.2.2, (h.2.2.2.2.2.2.2 w.2.1.1).1, fun j => by rw [w.2.2.2, nxt_4, pnm_4]⟩
/-- a new name isn't one that was told -/
theorem nna_new (h : PI_ m γ) {n a : Int} (h0 : iv_ γ m 13 = 0) (q : iv_ (nna_ m γ n) m 13 = 0) (ha : 0 ≤ a ∧ a < 20) (hn : 0 ≤ n ∧ n < 20) (hne : a ≠ n) {g : Int → Int} (e : ∀ j, 183 ≤ j → j < 363 → g j = iv_ (nna_ m γ n) (m + 4) j) : ¬ nms_ g a n ∧ ¬ nms_ g n a := by
  obtain ⟨k1, k2, k3, k4, E⟩ := nna_ok h h0 q
  have hno := fd_no k2 a ha.1 ha.2
  have key : ¬ (iv_ γ (m + 4) (183 + a) = iv_ γ m 8 ∧ ∀ k, 0 ≤ k → k < iv_ γ m 8 → iv_ γ (m + 4) (203 + 8 * a + k) = iv_ γ (m + 2) k) := fun w => by
    have : nm1_ m γ a = true := by
      unfold nm1_
      rw [Bool.and_eq_true, al_iff (by omega)]
      exact ⟨decide_eq_true ⟨by omega, w.1⟩, fun k k0 k1 => decide_eq_true (w.2 k k0 k1)⟩
    rw [this] at hno
    exact absurd hno (by decide)
  have e1 : g (183 + n) = iv_ γ m 8 := by rw [e _ (by omega) (by omega), E, if_pos rfl]
  have e2 : g (183 + a) = iv_ γ (m + 4) (183 + a) := by rw [e _ (by omega) (by omega), E, if_neg (by omega), if_neg (by omega)]
  have e3 : ∀ k, 0 ≤ k → k < iv_ γ m 8 → g (203 + 8 * n + k) = iv_ γ (m + 2) k := fun k k0 k1 => by
    rw [e _ (by omega) (by omega), E, if_neg (by omega), if_pos (by omega), show 203 + 8 * n + k - (203 + 8 * n) = k by omega]
  have e4 : ∀ k, 0 ≤ k → k < iv_ γ m 8 → g (203 + 8 * a + k) = iv_ γ (m + 4) (203 + 8 * a + k) := fun k k0 k1 => by
    rw [e _ (by omega) (by omega), E, if_neg (by omega), if_neg (by omega)]
  constructor
  · intro w
    have w1 : iv_ γ (m + 4) (183 + a) = iv_ γ m 8 := by rw [← e1, ← e2]; exact w.1
    exact key ⟨w1, fun k k0 k1 => by rw [← e4 k k0 k1, ← e3 k k0 k1]; exact w.2 k k0 (by omega)⟩
  · intro w
    have w1 : iv_ γ (m + 4) (183 + a) = iv_ γ m 8 := by rw [← e1, ← e2]; exact w.1.symm
    exact key ⟨w1, fun k k0 k1 => by rw [← e4 k k0 k1, ← e3 k k0 k1]; exact (w.2 k k0 (by omega)).symm⟩
/-- a box's line -/
theorem bl2_ok (h : RB_ G m γ) (h0 : iv_ γ m 13 = 0) (hc8 : iv_ γ (m + 4) 7 < 8) (q : iv_ (bl2_ m γ) m 13 = 0) : iv_ (nna_ m γ (12 + iv_ γ (m + 4) 7)) m 13 = 0 ∧ ∃ a b w d : Int, ((0 ≤ a ∧ a ≤ 6) ∧ 0 < iv_ γ (m + 4) (183 + a)) ∧ ((0 ≤ b ∧ b ≤ 6) ∧ 0 < iv_ γ (m + 4) (183 + b)) ∧ (1 ≤ w ∧ w ≤ 99) ∧ (0 ≤ d ∧ d ≤ 9999) ∧
    ∀ j, iv_ (bl2_ m γ) (m + 4) j = if j = 7 then iv_ γ (m + 4) 7 + 1 else if j = 127 + 4 * iv_ γ (m + 4) 7 + 3 then d else if j = 127 + 4 * iv_ γ (m + 4) 7 + 2 then w else if j = 127 + 4 * iv_ γ (m + 4) 7 + 1 then b else if j = 127 + 4 * iv_ γ (m + 4) 7 then a else iv_ (nna_ m γ (12 + iv_ γ (m + 4) 7)) (m + 4) j := by
  have c7 := h.c4 (k := 7) (by decide) (by decide)
  unfold bl2_ at q ⊢
  rw [if_pos h0] at q ⊢
  have a := h.sN (12 + iv_ γ (m + 4) 7)
  have en : ∀ k, k < 183 → iv_ (nna_ m γ (12 + iv_ γ (m + 4) 7)) (m + 4) k = iv_ γ (m + 4) k := fun k hk => nna_4 h.2.1 (by omega) hk
  have es : ∀ k, 0 ≤ k → k ≤ 6 → iv_ (nna_ m γ (12 + iv_ γ (m + 4) 7)) m 13 = 0 → iv_ (nna_ m γ (12 + iv_ γ (m + 4) 7)) (m + 4) (183 + k) = iv_ γ (m + 4) (183 + k) := fun k k0 k1 q0 => by
    have := (nna_ok h.2.1 h0 q0).2.2.2
    rw [this.2, if_neg (by omega), if_neg (by omega)]
  generalize nna_ m γ (12 + iv_ γ (m + 4) 7) = γa at *
  generalize hc : iv_ γ (m + 4) 7 = c at *
  unfold bl1_ at q ⊢
  rw [mor_13] at q
  have a1 := a.1.sq (127 + 4 * c) "from"
  have a2 := a1.1.sq (127 + 4 * c + 1) "to"
  have a3 := a2.1.sp (127 + 4 * c + 2) "weighs" (lo := 1) (hi := 99) (by decide) (by decide)
  have q3 := ps_ok a3.1.2.1 q
  have q2 := ps_ok a2.1.2.1 q3.1
  have q1 := pq_ok a1.1.2.1 q2.1
  have q0 := pq_ok a.1.2.1 q1.1
  have k1 := q1.2.2
  have k0 := q0.2.2
  rw [es _ q0.2.1.1 q0.2.1.2 q0.1] at k0
  rw [pq_4, if_neg (by omega), es _ q1.2.1.1 q1.2.1.2 q0.1] at k1
  refine ⟨q0.1, _, _, _, _, ⟨q0.2.1, k0⟩, ⟨q1.2.1, k1⟩, q2.2, q3.2, fun j => ?_⟩
  rw [mor_4 q]
  by_cases j7 : j = 7
  · rw [if_pos j7, if_pos j7, ps_4 _ _ _ _ 7, if_neg (by omega), ps_4 _ _ _ _ 7, if_neg (by omega), pq_4 _ _ 7, if_neg (by omega), pq_4 _ _ 7, if_neg (by omega), en 7 (by decide), hc]
  · rw [if_neg j7, if_neg j7, ps_4, ps_4, pq_4, pq_4]
/-- a way's line -/
theorem wl_ok (h : RB_ G m γ) (h0 : iv_ γ m 13 = 0) (q : iv_ (wl_ m γ) m 13 = 0) : ∃ a b d o : Int, ((0 ≤ a ∧ a ≤ 6) ∧ 0 < iv_ γ (m + 4) (183 + a)) ∧ ((0 ≤ b ∧ b ≤ 6) ∧ 0 < iv_ γ (m + 4) (183 + b)) ∧ (1 ≤ d ∧ d ≤ 99) ∧ (1 ≤ o ∧ o ≤ 15) ∧ a ≠ b ∧ (∀ k, 0 ≤ k → k < iv_ γ (m + 4) 5 → ¬ jn_ (iv_ γ (m + 4)) k a b) ∧
    ∀ j, iv_ (wl_ m γ) (m + 4) j = if j = 5 then iv_ γ (m + 4) 5 + 1 else if j = 59 + 4 * iv_ γ (m + 4) 5 + 3 then o else if j = 59 + 4 * iv_ γ (m + 4) 5 + 2 then d else if j = 59 + 4 * iv_ γ (m + 4) 5 + 1 then b else if j = 59 + 4 * iv_ γ (m + 4) 5 then a else iv_ γ (m + 4) j := by
  have c5 := h.c4 (k := 5) (by decide) (by decide)
  unfold wl_ at q ⊢
  rw [if_pos h0] at q ⊢
  have r1 := h.sd 0 6
  have r2 := r1.1.so
  have r3 := r2.1.sd 0 6
  unfold wl1_ wl2_ at q ⊢
  have q3 : iv_ (ndd_ m (onn_ m (ndd_ m γ 0 6)) 0 6) m 13 = 0 := by
    split at q
    · assumption
    · exact q
  rw [if_pos q3] at q ⊢
  have t3 := ndd_ok r2.1.2.1 q3
  have t2 := onn_ok r1.1.2.1 t3.1
  have t1 := ndd_ok h.2.1 t2.1
  have e4 : ∀ j, iv_ (ndd_ m (onn_ m (ndd_ m γ 0 6)) 0 6) (m + 4) j = iv_ γ (m + 4) j := fun j => by rw [ndd_4, onn_4, ndd_4]
  have va : ndv_ m γ 0 6 = fd_ m γ := by rw [t1.2.2.2.2]; omega
  have vb : ndv_ m (onn_ m (ndd_ m γ 0 6)) 0 6 = fd_ m (onn_ m (ndd_ m γ 0 6)) := by rw [t3.2.2.2.2]; omega
  have sa := nm1_sz (fd_hit t1.2.2.1.1).2.1
  have sb := nm1_sz (fd_hit t3.2.2.1.1).2.1
  rw [onn_4, ndd_4] at sb
  have ba := t1.2.2.1
  have bb := t3.2.2.1
  rw [← va] at sa ba
  rw [← vb] at sb bb
  generalize ndv_ m (onn_ m (ndd_ m γ 0 6)) 0 6 = b at *
  generalize ndv_ m γ 0 6 = a at *
  generalize ndd_ m (onn_ m (ndd_ m γ 0 6)) 0 6 = γ3 at *
  generalize hc : iv_ γ (m + 4) 5 = c at *
  have hag : wag_ m γ3 a b = false := by
    by_cases w : wag_ m γ3 a b = true
    · rw [if_pos w] at q
      exact (wr_no r3.1.2.1.2.2.1 q).elim
    · exact Bool.eq_false_iff.mpr w
  rw [if_neg (by rw [hag]; decide)] at q ⊢
  rw [mor_13] at q
  unfold wag_ at hag
  rw [Bool.or_eq_false_iff, Bool.not_eq_false', al_iff (by rw [e4, hc]; exact c5.1), e4, hc] at hag
  have a1 := r3.1.sn
  have a2 := a1.1.s4 (k := 59 + 4 * c) (x := a) (by omega)
  have a3 := a2.1.s4 (k := 59 + 4 * c + 1) (x := b) (by omega)
  have a4 := a3.1.sp (59 + 4 * c + 2) "days" (lo := 1) (hi := 99) (by decide) (by decide)
  unfold wl3_ at q ⊢
  have u2 := ps_ok a4.1.2.1 q
  have u1 := ps_ok a3.1.2.1 u2.1
  refine ⟨a, b, _, _, ⟨ba, sa⟩, ⟨bb, sb⟩, u1.2, u2.2, of_decide_eq_false hag.1, fun k k0 k1 w => ?_, fun j => ?_⟩
  · have := of_decide_eq_true (hag.2 k k0 k1)
    unfold jn_ at this w
    rw [e4, e4] at this
    exact this w
  · rw [mor_4 q]
    by_cases j7 : j = 5
    · rw [if_pos j7, if_pos j7, ps_4 _ _ _ _ 5, if_neg (by omega), ps_4 _ _ _ _ 5, if_neg (by omega), p4_4 _ _ 5, if_neg (by omega), p4_4 _ _ 5, if_neg (by omega), nxt_4 5, e4 5, hc]
    · rw [if_neg j7, if_neg j7, ps_4, ps_4, p4_4, p4_4, nxt_4, e4]
/-- a whale's line -/
theorem hl_ok (h : RB_ G m γ) (h0 : iv_ γ m 13 = 0) (hc5 : iv_ γ (m + 4) 6 < 5) (q : iv_ (hl_ m γ) m 13 = 0) : iv_ (nna_ m γ (7 + iv_ γ (m + 4) 6)) m 13 = 0 ∧ ∃ k a e l : Int, (0 ≤ k ∧ k ≤ 3) ∧ ((0 ≤ a ∧ a ≤ 6) ∧ 0 < iv_ γ (m + 4) (183 + a)) ∧ (0 ≤ e ∧ e ≤ 99) ∧ (0 ≤ l ∧ l ≤ 99) ∧ k = kd_ m (nna_ m γ (7 + iv_ γ (m + 4) 6)) ∧
    ∀ j, iv_ (hl_ m γ) (m + 4) j = if j = 6 then iv_ γ (m + 4) 6 + 1 else if j = 107 + 4 * iv_ γ (m + 4) 6 + 3 then l else if j = 107 + 4 * iv_ γ (m + 4) 6 + 2 then e else if j = 107 + 4 * iv_ γ (m + 4) 6 + 1 then a else if j = 107 + 4 * iv_ γ (m + 4) 6 then k else iv_ (nna_ m γ (7 + iv_ γ (m + 4) 6)) (m + 4) j := by
  have c6 := h.c4 (k := 6) (by decide) (by decide)
  unfold hl_ at q ⊢
  rw [if_pos h0] at q ⊢
  have a := h.sN (7 + iv_ γ (m + 4) 6)
  have en : ∀ k, k < 183 → iv_ (nna_ m γ (7 + iv_ γ (m + 4) 6)) (m + 4) k = iv_ γ (m + 4) k := fun k hk => nna_4 h.2.1 (by omega) hk
  have es : ∀ k, 0 ≤ k → k ≤ 6 → iv_ (nna_ m γ (7 + iv_ γ (m + 4) 6)) m 13 = 0 → iv_ (nna_ m γ (7 + iv_ γ (m + 4) 6)) (m + 4) (183 + k) = iv_ γ (m + 4) (183 + k) := fun k k0 k1 q0 => by
    have := (nna_ok h.2.1 h0 q0).2.2.2
    rw [this.2, if_neg (by omega), if_neg (by omega)]
  generalize nna_ m γ (7 + iv_ γ (m + 4) 6) = γa at *
  generalize hc : iv_ γ (m + 4) 6 = c at *
  unfold hl1_ at q ⊢
  by_cases hk : kd_ m γa < 0
  · rw [if_pos hk] at q
    exact (wr_no a.1.2.1.2.2.1 q).elim
  rw [if_neg hk] at q ⊢
  have k3 : kd_ m γa ≤ 3 := by
    unfold kd_
    repeat' split
    all_goals omega
  generalize hkd : kd_ m γa = k at *
  rw [mor_13] at q
  unfold hl2_ at q ⊢
  have a1 := a.1.sn
  have a2 := a1.1.s4 (k := 107 + 4 * c) (x := k) (by omega)
  have a3 := a2.1.sq (107 + 4 * c + 1) "at"
  have a4 := a3.1.sp (107 + 4 * c + 2) "keeps" (lo := 0) (hi := 99) (by decide) (by decide)
  have u3 := ps_ok a4.1.2.1 q
  have u2 := ps_ok a3.1.2.1 u3.1
  have u1 := pq_ok a2.1.2.1 u2.1
  have u0 := a1.2.ok (by have := u1.1; rw [p4_13] at this; exact this)
  have k1 := u1.2.2
  rw [p4_4, if_neg (by omega), nxt_4, es _ u1.2.1.1 u1.2.1.2 u0] at k1
  refine ⟨u0, k, _, _, _, by omega, ⟨u1.2.1, k1⟩, u2.2, u3.2, rfl, fun j => ?_⟩
  rw [mor_4 q]
  by_cases j7 : j = 6
  · rw [if_pos j7, if_pos j7, ps_4 _ _ _ _ 6, if_neg (by omega), ps_4 _ _ _ _ 6, if_neg (by omega), pq_4 _ _ 6, if_neg (by omega), p4_4 _ _ 6, if_neg (by omega), nxt_4 6, en 6 (by decide), hc]
  · rw [if_neg j7, if_neg j7, ps_4, ps_4, pq_4, p4_4, nxt_4]
/-- a spout's line -/
theorem sl_ok (h : RB_ G m γ) (h0 : iv_ γ m 13 = 0) (h8 : iv_ γ (m + 4) 8 < 8) (q : iv_ (sl_ m γ) m 13 = 0) : ∃ w i d : Int, ((0 ≤ w ∧ w ≤ 4) ∧ 0 < iv_ γ (m + 4) (190 + w)) ∧ ((0 ≤ i ∧ i ≤ 6) ∧ 0 < iv_ γ (m + 4) (183 + i)) ∧ (0 ≤ d ∧ d ≤ 9999) ∧
    ∀ j, iv_ (sl_ m γ) (m + 4) j = if j = 8 then iv_ γ (m + 4) 8 + 1 else if j = 159 + 3 * iv_ γ (m + 4) 8 + 2 then d else if j = 159 + 3 * iv_ γ (m + 4) 8 + 1 then i else if j = 159 + 3 * iv_ γ (m + 4) 8 then w else iv_ γ (m + 4) j := by
  have c8 := h.c4 (k := 8) (by decide) (by decide)
  unfold sl_ at q ⊢
  rw [if_pos h0] at q ⊢
  have r1 := h.sd 7 11
  have r2 := r1.1.so
  have r3 := r2.1.sd 0 6
  have r4 := r3.1.so
  unfold sl1_ sl2_ at q ⊢
  have hl := lst_in r4.1 (by rw [onn_4, ndd_4, onn_4, ndd_4]; omega) (ndv_ m γ 7 11)
  have q5 : iv_ (aw_ m (onn_ m (ndd_ m (onn_ m (ndd_ m γ 7 11)) 0 6)) "day" (lst_ m (onn_ m (ndd_ m (onn_ m (ndd_ m γ 7 11)) 0 6)) (ndv_ m γ 7 11)) 9999) m 13 = 0 := by
    split at q
    · assumption
    · exact q
  rw [if_pos q5] at q ⊢
  have q4 := (aft_A0 r4.1.2.1 _ _ _ _).ok q5
  have hd := aw_ok "day" r4.1.2.1 q5
  have t4 := onn_ok r3.1.2.1 q4
  have t3 := ndd_ok r2.1.2.1 t4.1
  have t2 := onn_ok r1.1.2.1 t3.1
  have t1 := ndd_ok h.2.1 t2.1
  have e4 : ∀ j, iv_ (aw_ m (onn_ m (ndd_ m (onn_ m (ndd_ m γ 7 11)) 0 6)) "day" (lst_ m (onn_ m (ndd_ m (onn_ m (ndd_ m γ 7 11)) 0 6)) (ndv_ m γ 7 11)) 9999) (m + 4) j = iv_ γ (m + 4) j := fun j => by rw [aw_4, onn_4, ndd_4, onn_4, ndd_4]
  have vi : ndv_ m (onn_ m (ndd_ m γ 7 11)) 0 6 = fd_ m (onn_ m (ndd_ m γ 7 11)) := by rw [t3.2.2.2.2]; omega
  have sa := nm1_sz (fd_hit (by omega : 0 ≤ fd_ m γ)).2.1
  have sb := nm1_sz (fd_hit t3.2.2.1.1).2.1
  rw [onn_4, ndd_4] at sb
  have ba := t1.2.2.1
  have bb := t3.2.2.1
  have vw := t1.2.2.2.2
  rw [← vi] at sb bb
  rw [show (183 : Int) + fd_ m γ = 190 + (fd_ m γ - 7) by omega, ← vw] at sa
  generalize awv_ m (onn_ m (ndd_ m (onn_ m (ndd_ m γ 7 11)) 0 6)) "day" (lst_ m (onn_ m (ndd_ m (onn_ m (ndd_ m γ 7 11)) 0 6)) (ndv_ m γ 7 11)) 9999 = d at *
  generalize aw_ m (onn_ m (ndd_ m (onn_ m (ndd_ m γ 7 11)) 0 6)) "day" (lst_ m (onn_ m (ndd_ m (onn_ m (ndd_ m γ 7 11)) 0 6)) (ndv_ m γ 7 11)) 9999 = γ5 at *
  generalize ndv_ m (onn_ m (ndd_ m γ 7 11)) 0 6 = i at *
  refine ⟨ndv_ m γ 7 11, i, d, ⟨by omega, sa⟩, ⟨bb, sb⟩, by omega, fun j => ?_⟩
  unfold sl3_
  rw [p4_4]
  by_cases j8 : j = 8
  · rw [if_pos j8, if_pos j8, e4]
  · rw [if_neg j8, if_neg j8, p4_4, p4_4, p4_4, e4]
/-- an island's line -/
theorem il_ok (h : RB_ G m γ) (h0 : iv_ γ m 13 = 0) (q : iv_ (il_ m γ) m 13 = 0) : iv_ (nna_ m γ (iv_ γ (m + 4) 4)) m 13 = 0 ∧ ∃ (z : Int) (L : Int → Int), (2 ≤ z ∧ z ≤ 6) ∧ (∀ k, 0 ≤ k → k < z → 0 ≤ L k ∧ L k < iv_ γ (m + 4) 0) ∧
    ∀ j, iv_ (il_ m γ) (m + 4) j = if j = 4 then iv_ γ (m + 4) 4 + 1 else if 10 + 7 * iv_ γ (m + 4) 4 + 1 ≤ j ∧ j < 10 + 7 * iv_ γ (m + 4) 4 + 1 + z then L (j - (10 + 7 * iv_ γ (m + 4) 4 + 1)) else if j = 10 + 7 * iv_ γ (m + 4) 4 then z else iv_ (nna_ m γ (iv_ γ (m + 4) 4)) (m + 4) j := by
  have c4 := h.c4 (k := 4) (by decide) (by decide)
  unfold il_ at q ⊢
  rw [if_pos h0] at q ⊢
  have a := h.sN (iv_ γ (m + 4) 4)
  have en : ∀ k, k < 183 → iv_ (nna_ m γ (iv_ γ (m + 4) 4)) (m + 4) k = iv_ γ (m + 4) k := fun k hk => nna_4 h.2.1 (by omega) hk
  unfold il1_ at q ⊢
  have qa : iv_ (nna_ m γ (iv_ γ (m + 4) 4)) m 13 = 0 := by
    split at q
    · assumption
    · exact q
  rw [if_pos qa] at q ⊢
  generalize nna_ m γ (iv_ γ (m + 4) 4) = γa at *
  generalize hc : iv_ γ (m + 4) 4 = c at *
  unfold il2_ at q ⊢
  by_cases w6 : iv_ γa m 6 = 2
  · rw [if_pos w6] at q ⊢
    by_cases wt : tld_ m γa c = true
    · rw [if_pos wt] at q
      exact (wr_no a.1.2.1.2.2.1 q).elim
    rw [if_neg wt] at q ⊢
    by_cases ws : sgi_ m γa = true
    · rw [if_pos ws] at q ⊢
      have hs := ws
      have p8 := a.1.2.1.2.2.2.2.2.2.2 w6
      unfold sgi_ at hs
      rw [Bool.and_eq_true, al_iff (by omega)] at hs
      have z6 := of_decide_eq_true hs.1
      refine ⟨qa, iv_ γa m 8, fun k => iv_ γa (m + 2) k - 97, z6, fun k k0 k1 => ?_, fun j => ?_⟩
      · have b1 := p8.2 k k0 k1
        have b2 := of_decide_eq_true (hs.2 k k0 k1)
        rw [en 0 (by decide)] at b2
        dsimp only
        omega
      · rw [p4_4]
        by_cases j4 : j = 4
        · rw [if_pos j4, if_pos j4, nxt_4 4, psg_4 c 4, if_neg (by omega), if_neg (by omega), en 4 (by decide), hc]
        · rw [if_neg j4, if_neg j4, nxt_4, psg_4]
    · rw [if_neg ws] at q
      exact (wr_no a.1.2.1.2.2.1 q).elim
  · rw [if_neg w6] at q
    exact (wr_no a.1.2.1.2.2.1 q).elim
end
