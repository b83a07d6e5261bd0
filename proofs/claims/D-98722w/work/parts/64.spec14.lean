/-! PARSING, part 4: what each line keeps -/
set_option maxRecDepth 100000
section
variable {G : JG} {m : Nat} {γ γ1 γ2 : JH}
def RS_ (G : JG) (m : Nat) (γ γ' : JH) : Prop := RB_ G m γ' ∧ A0_ (pf1_ m) m γ γ'
theorem RS_.rf (h : RB_ G m γ) : RS_ G m γ γ := ⟨h, A0_.rf⟩
theorem RS_.tr (h : RS_ G m γ γ1) (g : RS_ G m γ1 γ2) : RS_ G m γ γ2 := ⟨g.1, h.2.tr g.2⟩
theorem RB_.sn (h : RB_ G m γ) : RS_ G m γ (nxt_ m γ) := ⟨h.of (nxt_A0 h.2.1) h.2.1.nxt, (nxt_A0 h.2.1).f1⟩
theorem RB_.sw (h : RB_ G m γ) (w a : Int) : RS_ G m γ (wr_ m γ w a) := ⟨h.of (wr_A0 _ _) (h.2.1.wr _ _), (wr_A0 _ _).f1⟩
theorem RB_.sd (h : RB_ G m γ) (lo hi : Int) : RS_ G m γ (ndd_ m γ lo hi) := ⟨h.of (ndd_A0 _ _) (h.2.1.ndd _ _), (ndd_A0 _ _).f1⟩
theorem RB_.so (h : RB_ G m γ) : RS_ G m γ (onn_ m γ) := ⟨h.of (onn_A0 h.2.1) h.2.1.onn, (onn_A0 h.2.1).f1⟩
theorem RB_.sa (h : RB_ G m γ) (w : String) (lo hi : Int) : RS_ G m γ (aw_ m γ w lo hi) := ⟨h.of (aft_A0 h.2.1 _ _ _ _) (h.2.1.aft _ _ _ _), (aft_A0 h.2.1 _ _ _ _).f1⟩
theorem RB_.s4 (h : RB_ G m γ) {k x : Int} (hx : 0 ≤ x ∧ x ≤ 9999) : RS_ G m γ (pi_ γ (m + 4) k x) := ⟨h.p4 hx, A1_p4⟩
theorem RB_.sp (h : RB_ G m γ) (k : Int) (w : String) {lo hi : Int} (hl : 0 ≤ lo ∧ lo ≤ 9999) (hh : hi ≤ 9999) : RS_ G m γ (ps_ m γ k w lo hi) := ⟨h.ps k w hl hh, ps_A1 h.2.1 _ _ _ _⟩
theorem RB_.sq (h : RB_ G m γ) (k : Int) (w : String) : RS_ G m γ (pq_ m γ k w) := ⟨h.pq k w, pq_A1 h.2.1 _ _⟩
theorem RB_.sN (h : RB_ G m γ) (n : Int) : RS_ G m γ (nna_ m γ n) := ⟨h.of1 (nna_A1 h.2.1 n) (nna_PI h.2.1 n) (nna_FB h.2.1 h.2.2.1 n), nna_A1 h.2.1 n⟩
theorem RB_.c4 (h : RB_ G m γ) {k : Int} (h0 : 0 ≤ k) (h1 : k < 363) : 0 ≤ iv_ γ (m + 4) k ∧ iv_ γ (m + 4) k ≤ 9999 := h.2.2.1 k h0 h1
/-- what is told, behind each step -/
theorem wr_4 (w a k : Int) : iv_ (wr_ m γ w a) (m + 4) k = iv_ γ (m + 4) k := (wr_f0 γ w a).f4 k
theorem nxt_4 (k : Int) : iv_ (nxt_ m γ) (m + 4) k = iv_ γ (m + 4) k := (nxt_f0 γ).f4 k
theorem aw_4 (w : String) (lo hi k : Int) : iv_ (aw_ m γ w lo hi) (m + 4) k = iv_ γ (m + 4) k := (aft_f0 γ _ _ lo hi).f4 k
theorem bw_4 (w : String) (k : Int) : iv_ (bw_ m γ w) (m + 4) k = iv_ γ (m + 4) k := (ibh_f0 γ _ _).f4 k
theorem ndd_4 (lo hi k : Int) : iv_ (ndd_ m γ lo hi) (m + 4) k = iv_ γ (m + 4) k := (ndd_f0 γ lo hi).f4 k
theorem onn_4 (k : Int) : iv_ (onn_ m γ) (m + 4) k = iv_ γ (m + 4) k := (onn_f0 γ).f4 k
theorem ps_4 (k : Int) (w : String) (lo hi j : Int) : iv_ (ps_ m γ k w lo hi) (m + 4) j = if j = k then awv_ m γ w lo hi else iv_ γ (m + 4) j := by
  unfold ps_
  rw [iv_pi, aw_4]
  by_cases q : j = k
  · rw [if_pos ⟨rfl, q⟩, if_pos q]
  · rw [if_neg (fun w => q w.2), if_neg q]
theorem pq_4 (k : Int) (w : String) (j : Int) : iv_ (pq_ m γ k w) (m + 4) j = if j = k then bwv_ m γ w else iv_ γ (m + 4) j := by
  unfold pq_
  rw [iv_pi, bw_4]
  by_cases q : j = k
  · rw [if_pos ⟨rfl, q⟩, if_pos q]
  · rw [if_neg (fun w => q w.2), if_neg q]
theorem p4_4 (k x j : Int) : iv_ (pi_ γ (m + 4) k x) (m + 4) j = if j = k then x else iv_ γ (m + 4) j := by
  rw [iv_pi]
  by_cases q : j = k
  · rw [if_pos ⟨rfl, q⟩, if_pos q]
  · rw [if_neg (fun w => q w.2), if_neg q]
theorem pnm_4 (n j : Int) : iv_ (pnm_ m γ n) (m + 4) j = if j = 183 + n then iv_ γ m 8 else if 203 + 8 * n ≤ j ∧ j < 203 + 8 * n + iv_ γ m 8 then iv_ γ (m + 2) (j - (203 + 8 * n)) else iv_ γ (m + 4) j := by
  unfold pnm_
  rw [p4_4]
  split
  · rfl
  · rw [iv_pb]
    by_cases q : 203 + 8 * n ≤ j ∧ j < 203 + 8 * n + iv_ γ m 8
    · rw [if_pos ⟨rfl, q⟩, if_pos q]
    · rw [if_neg (fun w => q w.2), if_neg q]
/-- a new name: it failed, or it stands there and is new -/
theorem nna_cs (h : PI_ m γ) (h0 : iv_ γ m 13 = 0) (n : Int) : (iv_ (nna_ m γ n) m 13 = 1 ∧ ∃ w, nna_ m γ n = wr_ m γ w (iv_ γ m 4)) ∨ (iv_ (nna_ m γ n) m 13 = 0 ∧ isn_ m γ ∧ fd_ m γ = -1 ∧ nna_ m γ n = nxt_ m (pnm_ m γ n)) := by
  unfold nna_
  rw [if_pos h0]
  by_cases c1 : isn_ m γ
  · rw [if_pos c1]
    by_cases c2 : 0 ≤ fd_ m γ
    · rw [if_pos c2]
      exact Or.inl ⟨wr_13 (Or.inl h0), 3, rfl⟩
    · rw [if_neg c2]
      have := fd_in (m := m) γ
      refine Or.inr ⟨?_, c1, by omega, rfl⟩
      rw [(nxt_fix _).1]
      unfold pnm_
      rw [iv_pi, if_neg (by omega), iv_pb, if_neg (by omega)]
      exact h0
  · rw [if_neg c1]
    exact Or.inl ⟨wr_13 (Or.inl h0), 1, rfl⟩
theorem nna_4 (h : PI_ m γ) {n k : Int} (hn : 0 ≤ n) (hk : k < 183) : iv_ (nna_ m γ n) (m + 4) k = iv_ γ (m + 4) k := by
  by_cases h0 : iv_ γ m 13 = 0
  · rcases nna_cs h h0 n with ⟨-, w, e⟩ | ⟨-, -, -, e⟩
    · rw [e, wr_4]
    · rw [e, nxt_4, pnm_4, if_neg (by omega), if_neg (by omega)]
  · unfold nna_
    rw [if_neg h0]
theorem mor_RS (h : RB_ G m γ) {k : Int} (h0 : 0 ≤ iv_ γ (m + 4) k) (h1 : iv_ γ (m + 4) k ≤ 9998) : RS_ G m γ (mor_ m γ k) := by
  unfold mor_
  split
  · exact h.s4 (by omega)
  · exact RS_.rf h
theorem pl1_RS (h : RB_ G m γ) : RS_ G m γ (pl1_ m γ) := by
  have a := h.sp 0 "notes" (lo := 2) (hi := 4) (by decide) (by decide)
  have b := a.tr (a.1.sp 1 "errors" (lo := 0) (hi := 3) (by decide) (by decide))
  have c := b.tr (b.1.sp 2 "drift" (lo := 0) (hi := 50) (by decide) (by decide))
  exact c.tr (c.1.sp 3 "slip" (lo := 0) (hi := 100) (by decide) (by decide))
theorem pl_RS (h : RB_ G m γ) : RS_ G m γ (pl_ m γ) := by
  unfold pl_
  split
  · exact h.sw _ _
  · have a := h.sn.tr (pl1_RS h.sn.1)
    split
    · exact a.tr (a.1.s4 (by decide))
    · exact a
theorem bgs_RS (h : RB_ G m γ) (c : Int) : RS_ G m γ (bgs_ m γ c) := by
  unfold bgs_
  split
  · exact h.sw _ _
  · split
    · exact h.sw _ _
    · exact h.sn
theorem bgs_cs (h : iv_ γ m 13 = 0) (c : Int) : (iv_ (bgs_ m γ c) m 13 = 1) ∨ (c ≠ 0 ∧ iv_ γ (m + 4) 9 ≠ 0 ∧ bgs_ m γ c = nxt_ m γ) := by
  unfold bgs_
  split
  · exact Or.inl (wr_13 (Or.inl h))
  · split
    · exact Or.inl (wr_13 (Or.inl h))
    · exact Or.inr ⟨by assumption, by assumption, rfl⟩
theorem bgs_4 (c k : Int) : iv_ (bgs_ m γ c) (m + 4) k = iv_ γ (m + 4) k := by
  unfold bgs_
  split
  · exact wr_4 _ _ _
  · split
    · exact wr_4 _ _ _
    · exact nxt_4 _
theorem bgs_lt (h : iv_ γ m 13 = 0) {a b k : Int} (ha : a = iv_ γ (m + 4) k) (q : iv_ (bgs_ m γ (ca1_ a b)) m 13 = 0) : iv_ (bgs_ m γ (ca1_ a b)) (m + 4) k < b := by
  rw [bgs_4, ← ha]
  rcases bgs_cs h (ca1_ a b) with e | e
  · omega
  · have := e.1
    unfold ca1_ at this
    split at this
    · assumption
    · exact absurd rfl this
theorem psg_4 (i j : Int) : iv_ (psg_ m γ i) (m + 4) j = if 10 + 7 * i + 1 ≤ j ∧ j < 10 + 7 * i + 1 + iv_ γ m 8 then iv_ γ (m + 2) (j - (10 + 7 * i + 1)) - 97 else if j = 10 + 7 * i then iv_ γ m 8 else iv_ γ (m + 4) j := by
  unfold psg_
  rw [iv_pb, p4_4]
  by_cases q : 10 + 7 * i + 1 ≤ j ∧ j < 10 + 7 * i + 1 + iv_ γ m 8
  · rw [if_pos ⟨rfl, q⟩, if_pos q]
  · rw [if_neg (fun w => q w.2), if_neg q]
theorem psg_RS (h : RB_ G m γ) (h2 : iv_ γ m 6 = 2) (i : Int) : RS_ G m γ (psg_ m γ i) := by
  have h8 := h.2.1.2.2.2.2.2.2.2 h2
  have a := h.s4 (k := 10 + 7 * i) (x := iv_ γ m 8) (by omega)
  refine a.tr ⟨a.1.of1 A1_pb4 a.1.2.1.pb4 (FB_.pb4 a.1.2.2.1 fun k k0 k1 => ?_), A1_pb4⟩
  have := h8.2 k k0 k1
  omega
theorem il2_RS (h : RB_ G m γ) {i : Int} (hi : 0 ≤ i) (hc : iv_ γ (m + 4) 4 < 7) : RS_ G m γ (il2_ m γ i) := by
  have c4 := h.c4 (k := 4) (by decide) (by decide)
  unfold il2_
  split
  · rename_i h2
    split
    · exact h.sw _ _
    · split
      · have a := psg_RS h h2 i
        have b := a.tr a.1.sn
        refine b.tr (b.1.s4 ?_)
        rw [nxt_4, psg_4, if_neg (by omega), if_neg (by omega)]
        omega
      · exact h.sw _ _
  · exact h.sw _ _
theorem il_RS (h : RB_ G m γ) (hc : iv_ γ m 13 = 0 → iv_ γ (m + 4) 4 < 7) : RS_ G m γ (il_ m γ) := by
  have c4 := h.c4 (k := 4) (by decide) (by decide)
  unfold il_
  split
  · rename_i h0
    unfold il1_
    have a := h.sN (iv_ γ (m + 4) 4)
    split
    · exact a.tr (il2_RS a.1 c4.1 (by rw [nna_4 h.2.1 c4.1 (by decide)]; exact hc h0))
    · exact a
  · exact RS_.rf h
theorem wl2_RS (h : RB_ G m γ) {f a b : Int} (hf : 59 ≤ f) (ha : 0 ≤ a ∧ a ≤ 6) (hb : 0 ≤ b ∧ b ≤ 6) (hc : iv_ γ (m + 4) 5 ≤ 9998) : RS_ G m γ (wl2_ m γ f a b) := by
  have c5 := h.c4 (k := 5) (by decide) (by decide)
  unfold wl2_
  split
  · split
    · exact h.sw _ _
    · have a1 := h.sn
      have a2 := a1.tr (a1.1.s4 (k := f) (x := a) (by omega))
      have a3 := a2.tr (a2.1.s4 (k := f + 1) (x := b) (by omega))
      have a4 := a3.tr (a3.1.sp (f + 2) "days" (lo := 1) (hi := 99) (by decide) (by decide))
      have a5 := a4.tr (a4.1.sp (f + 3) "open" (lo := 1) (hi := 15) (by decide) (by decide))
      have e : iv_ (wl3_ m γ f a b) (m + 4) 5 = iv_ γ (m + 4) 5 := by
        unfold wl3_
        rw [ps_4, if_neg (by omega), ps_4, if_neg (by omega), p4_4, if_neg (by omega), p4_4, if_neg (by omega), nxt_4]
      exact a5.tr (mor_RS (γ := wl3_ m γ f a b) a5.1 (by rw [e]; omega) (by rw [e]; omega))
  · exact RS_.rf h
theorem ndv6_in (γ : JH) : 0 ≤ ndv_ m γ 0 6 ∧ ndv_ m γ 0 6 ≤ 6 := by
  have := ndv_in (m := m) γ (lo := 0) (hi := 6) (by decide)
  omega
theorem wl_RS (h : RB_ G m γ) (hc : iv_ γ m 13 = 0 → iv_ γ (m + 4) 5 < 12) : RS_ G m γ (wl_ m γ) := by
  have c5 := h.c4 (k := 5) (by decide) (by decide)
  unfold wl_
  split
  · rename_i h0
    have a1 := h.sd 0 6
    have a2 := a1.tr a1.1.so
    have a3 := a2.tr (a2.1.sd 0 6)
    refine a3.tr (wl2_RS a3.1 (by omega) (ndv6_in _) (ndv6_in _) ?_)
    rw [ndd_4, onn_4, ndd_4]
    have := hc h0
    omega
  · exact RS_.rf h
theorem hl_RS (h : RB_ G m γ) (hc : iv_ γ m 13 = 0 → iv_ γ (m + 4) 6 < 5) : RS_ G m γ (hl_ m γ) := by
  have c6 := h.c4 (k := 6) (by decide) (by decide)
  unfold hl_
  split
  · rename_i h0
    have hc := hc h0
    have a := h.sN (7 + iv_ γ (m + 4) 6)
    have e6 := nna_4 (γ := γ) h.2.1 (n := 7 + iv_ γ (m + 4) 6) (k := 6) (by omega) (by decide)
    generalize nna_ m γ (7 + iv_ γ (m + 4) 6) = γa at *
    unfold hl1_
    split
    · exact a.tr (a.1.sw _ _)
    · rename_i hk
      have k3 : kd_ m γa ≤ 3 := by
        unfold kd_
        repeat' split
        all_goals omega
      generalize kd_ m γa = k at *
      have a1 := a.tr a.1.sn
      have a2 := a1.tr (a1.1.s4 (k := 107 + 4 * iv_ γ (m + 4) 6) (x := k) (by omega))
      have a3 := a2.tr (a2.1.sq (107 + 4 * iv_ γ (m + 4) 6 + 1) "at")
      have a4 := a3.tr (a3.1.sp (107 + 4 * iv_ γ (m + 4) 6 + 2) "keeps" (lo := 0) (hi := 99) (by decide) (by decide))
      have a5 := a4.tr (a4.1.sp (107 + 4 * iv_ γ (m + 4) 6 + 3) "lost" (lo := 0) (hi := 99) (by decide) (by decide))
      have e : iv_ (hl2_ m γa (107 + 4 * iv_ γ (m + 4) 6) k) (m + 4) 6 = iv_ γ (m + 4) 6 := by
        unfold hl2_
        rw [ps_4, if_neg (by omega), ps_4, if_neg (by omega), pq_4, if_neg (by omega), p4_4, if_neg (by omega), nxt_4, e6]
      exact a5.tr (mor_RS (γ := hl2_ m γa (107 + 4 * iv_ γ (m + 4) 6) k) a5.1 (by rw [e]; omega) (by rw [e]; omega))
  · exact RS_.rf h
theorem bl2_RS (h : RB_ G m γ) (hc : iv_ γ m 13 = 0 → iv_ γ (m + 4) 7 < 8) : RS_ G m γ (bl2_ m γ) := by
  have c7 := h.c4 (k := 7) (by decide) (by decide)
  unfold bl2_
  split
  · rename_i h0
    have hc := hc h0
    have a := h.sN (12 + iv_ γ (m + 4) 7)
    have e7 := nna_4 (γ := γ) h.2.1 (n := 12 + iv_ γ (m + 4) 7) (k := 7) (by omega) (by decide)
    generalize nna_ m γ (12 + iv_ γ (m + 4) 7) = γa at *
    have a1 := a.tr (a.1.sq (127 + 4 * iv_ γ (m + 4) 7) "from")
    have a2 := a1.tr (a1.1.sq (127 + 4 * iv_ γ (m + 4) 7 + 1) "to")
    have a3 := a2.tr (a2.1.sp (127 + 4 * iv_ γ (m + 4) 7 + 2) "weighs" (lo := 1) (hi := 99) (by decide) (by decide))
    have a4 := a3.tr (a3.1.sp (127 + 4 * iv_ γ (m + 4) 7 + 3) "day" (lo := 0) (hi := 9999) (by decide) (by decide))
    unfold bl1_
    refine a4.tr (mor_RS a4.1 ?_ ?_)
    all_goals rw [ps_4, if_neg (by omega), ps_4, if_neg (by omega), pq_4, if_neg (by omega), pq_4, if_neg (by omega), e7]; omega
  · exact RS_.rf h
theorem num_ok {lo hi : Int} (h : PI_ m γ) (q : iv_ (num_ m γ lo hi) m 13 = 0) : lo ≤ nuv_ m γ lo hi ∧ nuv_ m γ lo hi ≤ hi ∧ num_ m γ lo hi = nxt_ m γ ∧ iv_ γ m 13 = 0 ∧ iv_ γ m 6 = 3 ∧ nuv_ m γ lo hi = iv_ γ m 7 := by
  unfold num_ at q ⊢
  unfold nuv_
  by_cases c0 : iv_ γ m 13 = 0
  · rw [if_pos c0] at q ⊢
    by_cases c1 : iv_ γ m 6 = 3
    · rw [if_pos c1] at q ⊢
      by_cases c2 : lo ≤ iv_ γ m 7 ∧ iv_ γ m 7 ≤ hi
      · rw [if_pos c2, if_pos ⟨c0, c1, c2⟩]
        exact ⟨c2.1, c2.2, rfl, c0, c1, rfl⟩
      · rw [if_neg c2, wr_13 (Or.inl c0)] at q
        exact absurd q (by decide)
    · rw [if_neg c1, wr_13 (Or.inl c0)] at q
      exact absurd q (by decide)
  · rw [if_neg c0] at q
    exact absurd q c0
theorem aw_ok (w : String) {lo hi : Int} (h : PI_ m γ) (q : iv_ (aw_ m γ w lo hi) m 13 = 0) : lo ≤ awv_ m γ w lo hi ∧ awv_ m γ w lo hi ≤ hi := by
  have := num_ok (h.mus _ _) q
  exact ⟨this.1, this.2.1⟩
theorem lst_in (h : RB_ G m γ) (hc : iv_ γ (m + 4) 8 ≤ 8) (w : Int) : 0 ≤ lst_ m γ w ∧ lst_ m γ w ≤ 10000 := by
  have c8 := h.c4 (k := 8) (by decide) (by decide)
  unfold lst_
  refine iI_inv (n := iv_ γ (m + 4) 8) (fun _ (a : Int) => 0 ≤ a ∧ a ≤ 10000) (by decide) (fun k a k0 k1 ha => ?_) c8.1
  have := h.c4 (k := 159 + 3 * k + 2) (by omega) (by omega)
  split <;> omega
theorem sl2_RS (h : RB_ G m γ) {f w i : Int} (hc : iv_ γ (m + 4) 8 ≤ 8) (hw : 0 ≤ w ∧ w ≤ 9999) (hi : 0 ≤ i ∧ i ≤ 9999) : RS_ G m γ (sl2_ m γ f w i) := by
  have c8 := h.c4 (k := 8) (by decide) (by decide)
  have hl := lst_in h hc w
  have a := h.sa "day" (lst_ m γ w) 9999
  unfold sl2_
  split
  · rename_i q
    have hv := aw_ok "day" h.2.1 q
    have e8 := aw_4 (γ := γ) (m := m) "day" (lst_ m γ w) 9999 8
    generalize awv_ m γ "day" (lst_ m γ w) 9999 = d at *
    generalize aw_ m γ "day" (lst_ m γ w) 9999 = γ1 at *
    have a1 := a.tr (a.1.s4 (k := f) (x := w) hw)
    have a2 := a1.tr (a1.1.s4 (k := f + 1) (x := i) hi)
    have a3 := a2.tr (a2.1.s4 (k := f + 2) (x := d) (by omega))
    exact a3.tr (a3.1.s4 (by omega))
  · exact a
theorem sl_RS (h : RB_ G m γ) (hc : iv_ γ m 13 = 0 → iv_ γ (m + 4) 8 < 8) : RS_ G m γ (sl_ m γ) := by
  have c8 := h.c4 (k := 8) (by decide) (by decide)
  unfold sl_
  split
  · rename_i h0
    have hc := hc h0
    have a1 := h.sd 7 11
    have a2 := a1.tr a1.1.so
    have a3 := a2.tr (a2.1.sd 0 6)
    have a4 := a3.tr a3.1.so
    refine a4.tr (sl2_RS a4.1 ?_ ?_ ?_)
    · rw [onn_4, ndd_4, onn_4, ndd_4]; omega
    · have := ndv_in (m := m) γ (lo := 7) (hi := 11) (by decide)
      omega
    · have := ndv6_in (m := m) (onn_ m (ndd_ m γ 7 11))
      omega
  · exact RS_.rf h
theorem iw_13 {n : Int} {c : Int → Int} (h : iw_ m γ n c = true) : iv_ γ m 13 = 0 ∧ iv_ γ m 6 = 2 := by
  unfold iw_ at h
  rw [Bool.and_eq_true] at h
  have := of_decide_eq_true h.1
  exact ⟨this.1, this.2.1⟩
theorem rl_RS (h : RB_ G m γ) : RS_ G m γ (rl_ m γ) := by
  unfold rl_
  split
  · exact pl_RS h
  · split
    · rename_i q
      exact (bgs_RS h _).tr (il_RS (bgs_RS h _).1 (bgs_lt (iw_13 q).1 rfl))
    · split
      · rename_i q
        exact (bgs_RS h _).tr (wl_RS (bgs_RS h _).1 (bgs_lt (iw_13 q).1 rfl))
      · split
        · rename_i q
          exact (bgs_RS h _).tr (hl_RS (bgs_RS h _).1 (bgs_lt (iw_13 q).1 rfl))
        · split
          · rename_i q
            exact (bgs_RS h _).tr (bl2_RS (bgs_RS h _).1 (bgs_lt (iw_13 q).1 rfl))
          · split
            · rename_i q
              exact (bgs_RS h _).tr (sl_RS (bgs_RS h _).1 (bgs_lt (iw_13 q).1 rfl))
            · exact h.sw _ _
end
