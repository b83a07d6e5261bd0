/-! THE REFERENCE: post. Written by mod/m72.py -/
set_option maxRecDepth 100000
section
variable {G : JG} {m : Nat} {σ : JH} {tp fa pl tr p un im : Int} {T r s : Int → Int} {U I : Int → Int → Int}
/-- what reading a post writes -/
def pz_ (m : Nat) (b : Nat) (k : Int) : Prop := (b = m ∧ (2 ≤ k ∧ k ≤ 10) ∨ (b = m ∧ k = 13)) ∨ b = m + 2 ∨ b = m + 4
theorem Fr_.pz {γ γ' : JH} (h : Fr_ (pf1_ m) γ γ') : Fr_ (pz_ m) γ γ' := h.mono fun b k q => by unfold pf1_ at q; unfold pz_; omega
theorem ini_pz (γ : JH) (n : Int) : Fr_ (pz_ m) γ (ini_ m γ n) := by
  obtain ⟨a, b, c, d, e⟩ := ini_f (m := m) γ n
  refine ⟨a, b, c, d, fun x k w => ?_⟩
  unfold pz_ at w
  rw [e, if_neg (by omega), if_neg (by omega), if_neg (by omega), if_neg (by omega), if_neg (by omega), if_neg (by omega)]
theorem wr_9 {γ : JH} {w a : Int} (h : iv_ γ m 13 = 0) : iv_ (wr_ m γ w a) m 9 = w ∧ iv_ (wr_ m γ w a) m 10 = a := by
  unfold wr_
  rw [if_pos h]
  simp [iv_pi]
/-- a fault's number stays 0 while nothing failed -/
def k9_ (m : Nat) (γ γ' : JH) : Prop := iv_ γ' m 13 = 0 → iv_ γ' m 9 = iv_ γ m 9
theorem A0_.k9 {S : Nat → Int → Prop} {γ γ1 γ2 : JH} (h : k9_ m γ γ1) (a : A0_ S m γ1 γ2) (g : k9_ m γ1 γ2) : k9_ m γ γ2 := fun q => (g q).trans (h (Classical.byContradiction fun w => w ((a.2.2 w).1.symm.trans q)))
theorem nxt_k9 (γ : JH) : k9_ m γ (nxt_ m γ) := fun _ => (nxt_fix γ).2.1
theorem wr_k9 {γ : JH} (w a : Int) (h : iv_ γ m 13 = 0 ∨ iv_ γ m 13 = 1) : k9_ m γ (wr_ m γ w a) := fun q => (wr_no h q).elim
theorem mus_k9 {γ : JH} (h : PI_ m γ) (n : Int) (c : Int → Int) : k9_ m γ (mus_ m γ n c) := by
  unfold mus_
  split
  · split
    · exact nxt_k9 γ
    · exact wr_k9 _ _ h.2.2.1
  · exact fun _ => rfl
theorem num_k9 {γ : JH} (h : PI_ m γ) (lo hi : Int) : k9_ m γ (num_ m γ lo hi) := by
  unfold num_
  split
  · split
    · split
      · exact nxt_k9 γ
      · exact wr_k9 _ _ h.2.2.1
    · exact wr_k9 _ _ h.2.2.1
  · exact fun _ => rfl
theorem ndd_k9 {γ : JH} (h : PI_ m γ) (lo hi : Int) : k9_ m γ (ndd_ m γ lo hi) := by
  unfold ndd_
  split
  · split
    · split
      · exact fun _ => rfl
      · exact wr_k9 _ _ h.2.2.1
    · exact wr_k9 _ _ h.2.2.1
  · exact fun _ => rfl
theorem onn_k9 {γ : JH} : k9_ m γ (onn_ m γ) := by
  unfold onn_
  split
  · exact nxt_k9 γ
  · exact fun _ => rfl
theorem aw_k9 {γ : JH} (h : PI_ m γ) (w : String) (lo hi : Int) : k9_ m γ (aw_ m γ w lo hi) := (num_A0 (h.mus _ _) lo hi).k9 (mus_k9 h _ _) (num_k9 (h.mus _ _) lo hi)
theorem bw_k9 {γ : JH} (h : PI_ m γ) (w : String) : k9_ m γ (bw_ m γ w) := (onn_A0 ((h.mus _ _).ndd 0 6)).k9 ((ndd_A0 0 6).k9 (mus_k9 h _ _) (ndd_k9 (h.mus _ _) 0 6)) onn_k9
theorem p4_k9 {γ : JH} {k x : Int} : k9_ m γ (pi_ γ (m + 4) k x) := fun _ => by rw [iv_pi, if_neg (by omega)]
theorem pb4_k9 {γ : JH} {lo n : Int} {f : Int → Int} : k9_ m γ (pb_ γ (m + 4) lo n f) := fun _ => by rw [iv_pb, if_neg (by omega)]
theorem ps_k9 {γ : JH} (h : PI_ m γ) (k : Int) (w : String) (lo hi : Int) : k9_ m γ (ps_ m γ k w lo hi) := A1_p4.k9 (aw_k9 h w lo hi) p4_k9
theorem pq_k9 {γ : JH} (h : PI_ m γ) (k : Int) (w : String) : k9_ m γ (pq_ m γ k w) := A1_p4.k9 (bw_k9 h w) p4_k9
theorem nna_k9 {γ : JH} (h : PI_ m γ) (n : Int) : k9_ m γ (nna_ m γ n) := by
  unfold nna_
  split
  · split
    · split
      · exact wr_k9 _ _ h.2.2.1
      · exact (nxt_A0 (pnm_PI h n)).k9 (A1_p4.k9 pb4_k9 p4_k9) (nxt_k9 _)
    · exact wr_k9 _ _ h.2.2.1
  · exact fun _ => rfl
theorem mor_k9 {γ : JH} {k : Int} : k9_ m γ (mor_ m γ k) := by
  unfold mor_
  split
  · exact p4_k9
  · exact fun _ => rfl
theorem mor_A1 {γ : JH} {k : Int} : A0_ (pf1_ m) m γ (mor_ m γ k) := by
  unfold mor_
  split
  · exact A1_p4
  · exact A0_.rf
theorem pl_k9 {γ : JH} (h : RB_ G m γ) : k9_ m γ (pl_ m γ) := by
  have h1 := h.sn.1
  have a1 := h1.sp 0 "notes" (lo := 2) (hi := 4) (by decide) (by decide)
  have a2 := a1.1.sp 1 "errors" (lo := 0) (hi := 3) (by decide) (by decide)
  have a3 := a2.1.sp 2 "drift" (lo := 0) (hi := 50) (by decide) (by decide)
  have a4 := a3.1.sp 3 "slip" (lo := 0) (hi := 100) (by decide) (by decide)
  have k : k9_ m γ (pl1_ m (nxt_ m γ)) := a4.2.k9 (a3.2.k9 (a2.2.k9 (a1.2.k9 (nxt_k9 γ) (ps_k9 h1.2.1 _ _ _ _)) (ps_k9 a1.1.2.1 _ _ _ _)) (ps_k9 a2.1.2.1 _ _ _ _)) (ps_k9 a3.1.2.1 _ _ _ _)
  unfold pl_
  split
  · exact wr_k9 _ _ h.2.1.2.2.1
  · split
    · exact A1_p4.k9 k p4_k9
    · exact k
theorem il_k9 {γ : JH} (h : RB_ G m γ) : k9_ m γ (il_ m γ) := by
  unfold il_
  split
  · unfold il1_
    have a := h.sN (iv_ γ (m + 4) 4)
    split
    · unfold il2_
      split
      · rename_i q2
        split
        · exact (wr_A0 _ _).k9 (nna_k9 h.2.1 _) (wr_k9 _ _ a.1.2.1.2.2.1)
        · split
          · have b := psg_RS a.1 q2 (iv_ γ (m + 4) 4)
            exact A1_p4.k9 ((nxt_A0 b.1.2.1).k9 (A1_pb4.k9 (A1_p4.k9 (nna_k9 h.2.1 _) p4_k9) pb4_k9) (nxt_k9 _)) p4_k9
          · exact (wr_A0 _ _).k9 (nna_k9 h.2.1 _) (wr_k9 _ _ a.1.2.1.2.2.1)
      · exact (wr_A0 _ _).k9 (nna_k9 h.2.1 _) (wr_k9 _ _ a.1.2.1.2.2.1)
    · exact nna_k9 h.2.1 _
  · exact fun _ => rfl
theorem wl_k9 {γ : JH} (h : RB_ G m γ) : k9_ m γ (wl_ m γ) := by
  unfold wl_
  split
  · have r1 := h.sd 0 6
    have r2 := r1.1.so
    have r3 := r2.1.sd 0 6
    have k3 : k9_ m γ (ndd_ m (onn_ m (ndd_ m γ 0 6)) 0 6) := r3.2.k9 (r2.2.k9 (ndd_k9 h.2.1 0 6) onn_k9) (ndd_k9 r2.1.2.1 0 6)
    unfold wl1_ wl2_
    split
    · split
      · exact (wr_A0 _ _).k9 k3 (wr_k9 _ _ r3.1.2.1.2.2.1)
      · have a1 := r3.1.sn
        have a3 := a1.1.2.1.p4 (k := 59 + 4 * iv_ γ (m + 4) 5) (x := ndv_ m γ 0 6)
        have a4 := a3.p4 (k := 59 + 4 * iv_ γ (m + 4) 5 + 1) (x := ndv_ m (onn_ m (ndd_ m γ 0 6)) 0 6)
        have a5 := ps_PI a4 (59 + 4 * iv_ γ (m + 4) 5 + 2) "days" 1 99
        exact mor_A1.k9 ((ps_A1 a5 _ _ _ _).k9 ((ps_A1 a4 _ _ _ _).k9 (A1_p4.k9 (A1_p4.k9 (a1.2.k9 k3 (nxt_k9 _)) p4_k9) p4_k9) (ps_k9 a4 _ _ _ _)) (ps_k9 a5 _ _ _ _)) mor_k9
    · exact k3
  · exact fun _ => rfl
theorem hl_k9 {γ : JH} (h : RB_ G m γ) : k9_ m γ (hl_ m γ) := by
  unfold hl_
  split
  · have a := h.sN (7 + iv_ γ (m + 4) 6)
    have k0 := nna_k9 h.2.1 (7 + iv_ γ (m + 4) 6)
    unfold hl1_
    split
    · exact (wr_A0 _ _).k9 k0 (wr_k9 _ _ a.1.2.1.2.2.1)
    · have a1 := a.1.sn
      have a2 := a1.1.2.1.p4 (k := 107 + 4 * iv_ γ (m + 4) 6) (x := kd_ m (nna_ m γ (7 + iv_ γ (m + 4) 6)))
      have a3 := pq_PI a2 (107 + 4 * iv_ γ (m + 4) 6 + 1) "at"
      have a4 := ps_PI a3 (107 + 4 * iv_ γ (m + 4) 6 + 2) "keeps" 0 99
      exact mor_A1.k9 ((ps_A1 a4 _ _ _ _).k9 ((ps_A1 a3 _ _ _ _).k9 ((pq_A1 a2 _ _).k9 (A1_p4.k9 (a1.2.k9 k0 (nxt_k9 _)) p4_k9) (pq_k9 a2 _ _)) (ps_k9 a3 _ _ _ _)) (ps_k9 a4 _ _ _ _)) mor_k9
  · exact fun _ => rfl
theorem bl2_k9 {γ : JH} (h : RB_ G m γ) : k9_ m γ (bl2_ m γ) := by
  unfold bl2_
  split
  · have a := h.sN (12 + iv_ γ (m + 4) 7)
    have k0 := nna_k9 h.2.1 (12 + iv_ γ (m + 4) 7)
    have a1 := pq_PI a.1.2.1 (127 + 4 * iv_ γ (m + 4) 7) "from"
    have a2 := pq_PI a1 (127 + 4 * iv_ γ (m + 4) 7 + 1) "to"
    have a3 := ps_PI a2 (127 + 4 * iv_ γ (m + 4) 7 + 2) "weighs" 1 99
    unfold bl1_
    exact mor_A1.k9 ((ps_A1 a3 _ _ _ _).k9 ((ps_A1 a2 _ _ _ _).k9 ((pq_A1 a1 _ _).k9 ((pq_A1 a.1.2.1 _ _).k9 k0 (pq_k9 a.1.2.1 _ _)) (pq_k9 a1 _ _)) (ps_k9 a2 _ _ _ _)) (ps_k9 a3 _ _ _ _)) mor_k9
  · exact fun _ => rfl
theorem sl_k9 {γ : JH} (h : RB_ G m γ) : k9_ m γ (sl_ m γ) := by
  unfold sl_
  split
  · have r1 := h.sd 7 11
    have r2 := r1.1.so
    have r3 := r2.1.sd 0 6
    have r4 := r3.1.so
    have k4 : k9_ m γ (onn_ m (ndd_ m (onn_ m (ndd_ m γ 7 11)) 0 6)) := r4.2.k9 (r3.2.k9 (r2.2.k9 (ndd_k9 h.2.1 7 11) onn_k9) (ndd_k9 r2.1.2.1 0 6)) onn_k9
    unfold sl1_ sl2_
    have k5 := (aft_A0 r4.1.2.1 _ _ _ _).k9 k4 (aw_k9 r4.1.2.1 "day" (lst_ m (onn_ m (ndd_ m (onn_ m (ndd_ m γ 7 11)) 0 6)) (ndv_ m γ 7 11)) 9999)
    split
    · exact A1_p4.k9 (A1_p4.k9 (A1_p4.k9 (A1_p4.k9 k5 p4_k9) p4_k9) p4_k9) p4_k9
    · exact k5
  · exact fun _ => rfl
theorem bgs_k9 {γ : JH} (h : PI_ m γ) (c : Int) : k9_ m γ (bgs_ m γ c) := by
  unfold bgs_
  split
  · exact wr_k9 _ _ h.2.2.1
  · split
    · exact wr_k9 _ _ h.2.2.1
    · exact nxt_k9 γ
theorem rl_9 {γ : JH} (h : RB_ G m γ) (h0 : iv_ γ m 13 = 0) (h9 : iv_ γ m 9 = 0) (q : iv_ (rl_ m γ) m 13 = 0) : iv_ (rl_ m γ) m 9 = 0 := by
  have key : k9_ m γ (rl_ m γ) := by
    unfold rl_
    split
    · exact pl_k9 h
    · split
      · exact (il_RS (bgs_RS h _).1 (bgs_lt h0 rfl)).2.k9 (bgs_k9 h.2.1 _) (il_k9 (bgs_RS h _).1)
      · split
        · exact (wl_RS (bgs_RS h _).1 (bgs_lt h0 rfl)).2.k9 (bgs_k9 h.2.1 _) (wl_k9 (bgs_RS h _).1)
        · split
          · exact (hl_RS (bgs_RS h _).1 (bgs_lt h0 rfl)).2.k9 (bgs_k9 h.2.1 _) (hl_k9 (bgs_RS h _).1)
          · split
            · exact (bl2_RS (bgs_RS h _).1 (bgs_lt h0 rfl)).2.k9 (bgs_k9 h.2.1 _) (bl2_k9 (bgs_RS h _).1)
            · split
              · exact (sl_RS (bgs_RS h _).1 (bgs_lt h0 rfl)).2.k9 (bgs_k9 h.2.1 _) (sl_k9 (bgs_RS h _).1)
              · exact wr_k9 _ _ h.2.1.2.2.1
  exact (key q).trans h9
theorem mo_good2 {Q : JH → Prop} (hM : MD_ G m σ r s)
    (hQ : ∀ σ', MD_ G m σ' r s → ME_ m σ σ' 0 → Fr_ (fun b k => b = m ∧ (k = 0 ∨ k = 11)) σ σ' → Q σ') : CallV_ G 2 yX2_good cX2_good 1 none [A_ (some m)] σ Q := by
  refine call_go [some (A_ (some m))] (by decide) (Nat.le_of_ble_eq_true rfl) rfl ?_
  refine g_al0 dX2_good_0 ?_
  refine g_iconst dX2_good_1 ?_
  refine f_putI 0 fk_X2_62 rfl (nf_ rfl rfl) hM.sh hM.ge rfl dX2_good_2 ?_
  refine g_al0 dX2_good_5 ?_
  refine g_iconst dX2_good_6 ?_
  refine f_putI 11 fk_X2_65 rfl (nf_ rfl rfl) hM.sh hM.ge rfl dX2_good_7 ?_
  exact g_vret rfl dX2_good_10 ⟨rfl, hQ _ ((hM.pi ⟨by omega, by omega⟩).pi ⟨by omega, by omega⟩) ⟨(Fr_.rf.pi (by unfold me_; omega)).pi (by unfold me_; omega), by simp [iv_pi], by simp [iv_pi]⟩ ((Fr_.rf.pi (by omega)).pi (by omega))⟩
theorem mo_post  {n : Int} {Q : Int → JH → Prop} (hS : MS_ G m σ tp fa pl tr p un im T r s U I) (hL : LS_ G σ) (hn : -2147483648 ≤ n ∧ n < 2147483648)
    (hQ2 : ¬ (0 ≤ n ∧ n ≤ tp) → ∀ σ', MS_ G m σ' tp fa pl 2 p un im T r s U I → Fr_ (ML_ m) σ σ' → Q (-1) σ')
    (hQ4 : (0 ≤ n ∧ n ≤ tp) → ∀ σ1, Fr_ (fun b k => b = m ∧ (k = 0 ∨ k = 11)) σ σ1 → (iv_ σ1 m 0 = 0 ∧ iv_ σ1 m 11 = 0) → iv_ (pe_ m (ini_ m σ1 n)) m 13 = 1 → ∀ σ', MS_ G m σ' 0 (iv_ (pe_ m (ini_ m σ1 n)) m 9) (iv_ (pe_ m (ini_ m σ1 n)) m 10) 4 p un im T r s U I → Fr_ (ML_ m) σ σ' → Q (-1) σ')
    (hQ0 : (0 ≤ n ∧ n ≤ tp) → ∀ σ1, Fr_ (fun b k => b = m ∧ (k = 0 ∨ k = 11)) σ σ1 → (iv_ σ1 m 0 = 0 ∧ iv_ σ1 m 11 = 0) → iv_ (pe_ m (ini_ m σ1 n)) m 13 = 0 → ∀ (r' s' : Int → Int) σ', (∀ k, 0 ≤ k → k < 363 → r' k = iv_ (pe_ m (ini_ m σ1 n)) (m + 4) k) → RW_ r' → (∀ k, 0 ≤ k → k < 76 → s' k = ds_ r' k) → MS_ G m σ' 0 0 (iv_ (pe_ m (ini_ m σ1 n)) m 10) 0 1 0 0 T r' s' U I → Fr_ (ML_ m) σ σ' → Q (r' 4) σ')
     : CallI_ G 14 yX2_post cX2_post 3 (some .int) [A_ (some m), I_ n] σ Q := by
  refine call_go [some (A_ (some m)), some (I_ n), none] (by decide) (Nat.le_of_ble_eq_true rfl) rfl ?_
  have hR := hS.1.1
  refine g_al0 dX2_post_0 ?_
  refine g_callV0V (d' := 2) lk_X2_167 hR.sh rfl (rm_lt (by decide) (by decide)) (Nat.le_of_ble_eq_true rfl) dX2_post_1 ?_
  refine mo_good2 hS.1 (fun σ1 hM hE hg0 => ?_)
  have htp := (hS.q hM hE).2.1
  have hR := hM.1
  refine g_il1 dX2_post_4 ?_
  refine g_iconst dX2_post_5 ?_
  refine g_al0 dX2_post_6 ?_
  refine f_getv 2 fk_X2_68 rfl hR.sh (fun _ _ => rfl) htp.1 dX2_post_7 ?_
  refine g_callS3I (d' := 2) lk_X2_149 (rm_lt (by decide) (by decide)) (Nat.le_of_ble_eq_true rfl) dX2_post_10 ?_
  refine mo_in (by omega) (by omega) (by omega) (fun z hz => ?_)
  refine g_if_ne (tgt := 22) dX2_post_13 (by decide) (by omega) (fun h13 => ?_) (fun h13 => ?_)
  · have hin : 0 ≤ n ∧ n ≤ tp := by omega
    have hS1 := hS.q hM hE
    have hT1 := hS1.2.1
    have hR1 := hM.1
    have hL1 := hL.gen hE.1 (fun b k q => by unfold me_ ms_ at q; have := hR1.ge; omega)
    have hi := ini_RB (n := n) hR1 hL1 (by omega) (fun k k0 k1 => by have := hT1.2.2 k k0 (by omega); omega)
    have hRi : MR_ G m (ini_ m σ1 n) := hR1
    have hG : Fr_ (fun b k => b = m ∧ (k = 0 ∨ k = 11)) σ σ1 := hg0
    have hG2 : iv_ σ1 m 0 = 0 ∧ iv_ σ1 m 11 = 0 := hE.2
    have J163 : ∀ δ : JH, δ = pe_ m (ini_ m σ1 n) → RB_ G m δ → Fr_ (pz_ m) σ1 δ → iv_ δ m 2 = 0 → (iv_ δ m 13 = 0 → FW_ (iv_ δ (m + 4)) ∧ iv_ δ (m + 4) 9 = 1 ∧ 1 ≤ iv_ δ (m + 4) 4) → (iv_ δ m 13 = 0 → iv_ δ m 9 = 0) → GoM_ G 14 yX2_post cX2_post 3 (some .int) σ (fun v σ' => ∃ x : Int, v = some (I_ x) ∧ Q x σ') 163 [some (A_ (some m)), some (I_ n), some (I_ 363)] [] δ := by
      intro δ hδ hX hFz hd2 hpe hd9
      have hdo : ∀ b k, ¬ pz_ m b k → iv_ δ b k = iv_ σ1 b k := fun b k q => hFz.2.2.2.2 b k q
      have hd0 : iv_ δ m 0 = 0 := (hdo m 0 (by unfold pz_; omega)).trans hE.2.1
      have hd11 : iv_ δ m 11 = 0 := (hdo m 11 (by unfold pz_; omega)).trans hE.2.2
      have hd3 : ∀ k, iv_ δ (m + 3) k = iv_ σ1 (m + 3) k := fun k => hdo _ _ (by unfold pz_; omega)
      have hd5 : ∀ k, iv_ δ (m + 5) k = iv_ σ1 (m + 5) k := fun k => hdo _ _ (by unfold pz_; omega)
      have hFd : Fr_ (ML_ m) σ δ := (hE.mA.ml).tr (hFz.mono fun b k q => by unfold pz_ at q; unfold ML_; omega)
      have hq := hX.2.1.2.2.1
      have hR := hX.1
      refine g_al0 dX2_post_163 ?_
      refine f_getI 13 fk_X2_100 rfl hR.sh (fun _ _ => rfl) dX2_post_164 ?_
      refine g_if_eq (tgt := 176) dX2_post_167 (by decide) (by omega) (fun h167 => ?_) (fun h167 => ?_)
      · have h13 : iv_ δ m 13 = 0 := by omega
        have hd9 := hd9 h13
        have hW0 : RW_ (iv_ δ (m + 4)) := by
          have := hpe (by omega)
          exact (this.1.rx this.2.1).to this.2.2
        refine g_al0 dX2_post_176 ?_
        refine f_getA 16 fk_X2_23 rfl hR.sh (fun _ _ => rfl) hR.f16 dX2_post_177 ?_
        refine g_iconst dX2_post_180 ?_
        refine g_al0 dX2_post_181 ?_
        refine f_getA 15 fk_X2_20 rfl hR.sh (fun _ _ => rfl) hR.f15 dX2_post_182 ?_
        refine g_iconst dX2_post_185 ?_
        refine g_sipush dX2_post_186 (by decide) (by decide) ?_
        refine g_callS5V (d' := 2) lk_X2_176 (rm_lt (by decide) (by decide)) (Nat.le_of_ble_eq_true rfl) dX2_post_189 ?_
        refine mo_copy hR.a16 hR.a15 hR.g15 (by omega) (by omega) (by omega) (by omega) (by decide) (fun σa haf hav => ?_)
        have hRa := hR.fr haf
        have hav' : ∀ k, 0 ≤ k → k < 363 → iv_ σa (m + 3) k = iv_ δ (m + 4) k := fun k k0 k1 => by
          have := hav k k0 k1
          rw [show (0 : Int) + k = k by omega] at this
          exact this
        have hW : RW_ (iv_ σa (m + 3)) := by
          have := hpe (by omega)
          have h4 := hav' 4 (by omega) (by omega)
          exact ((this.1.rx this.2.1).cg (fun j j0 j1 => hav' j j0 (by omega))).to (by have := this.2.2; omega)
        have hn := hW.n
        refine g_iconst dX2_post_192 ?_
        refine g_is2 dX2_post_193 (by decide) rfl ?_
        have L194 : ∀ (fu : Nat) (k : Int), 76 - k < (fu : Int) → (0 ≤ k) → (k ≤ 76) → GoM_ G 14 yX2_post cX2_post 3 (some .int) σ (fun v σ' => ∃ x : Int, v = some (I_ x) ∧ Q x σ') 194 [some (A_ (some m)), some (I_ n), some (I_ k)] [] (pb_ σa (m + 5) 0 k (fun _ => 0)) := by
          intro fu
          induction fu with
          | zero => intro k hn k0 k1; exact absurd hn (by omega)
          | succ fu ih =>
            intro k hn k0 k1
            refine g_il2 dX2_post_194 ?_
            refine g_bipush dX2_post_195 (by decide) (by decide) ?_
            refine g_icmp_ge (tgt := 213) dX2_post_197 (by decide) (by omega) (fun h197 => ?_) (fun h197 => ?_)
            · have ek : k = 76 := by omega
              subst ek
              have L215 : ∀ (fu : Nat) (w : Int), iv_ σa (m + 3) 6 - w < (fu : Int) → (0 ≤ w) → (w ≤ iv_ σa (m + 3) 6) → GoM_ G 14 yX2_post cX2_post 3 (some .int) σ (fun v σ' => ∃ x : Int, v = some (I_ x) ∧ Q x σ') 215 [some (A_ (some m)), some (I_ n), some (I_ w)] [] (pb_ (pb_ σa (m + 5) 0 76 (fun _ => 0)) (m + 5) 2 w (fun w => iv_ σa (m + 3) (107 + 4 * w + 1))) := by
                intro fu
                induction fu with
                | zero => intro w hn w0 w1; exact absurd hn (by omega)
                | succ fu ih =>
                  intro w hn w0 w1
                  refine g_il2 dX2_post_215 ?_
                  refine g_al0 dX2_post_216 ?_
                  refine f_getA 15 fk_X2_20 rfl hRa.sh (fun _ _ => rfl) hRa.f15 dX2_post_217 ?_
                  refine g_bipush dX2_post_220 (by decide) (by decide) ?_
                  refine g_ialv hRa.a15 (by omega) (show iv_ (pb_ _ _ _ _ _) (m + 3) 6 = iv_ σa (m + 3) 6 by rw [iv_pb, if_neg (by omega), iv_pb, if_neg (by omega)]) dX2_post_222 ?_
                  refine g_icmp_ge (tgt := 253) dX2_post_223 (by decide) (by omega) (fun h223 => ?_) (fun h223 => ?_)
                  · have ew : w = iv_ σa (m + 3) 6 := by omega
                    subst ew
                    generalize hσc : pb_ (pb_ σa (m + 5) 0 76 (fun _ => 0)) (m + 5) 2 (iv_ σa (m + 3) 6) (fun w => iv_ σa (m + 3) (107 + 4 * w + 1)) = σc
                    have hcf : ∀ b k, b ≠ m + 5 → iv_ σc b k = iv_ σa b k := fun b k q => by rw [← hσc, iv_pb, if_neg (by omega), iv_pb, if_neg (by omega)]
                    have hc3 : ∀ k, iv_ σc (m + 3) k = iv_ σa (m + 3) k := fun k => hcf _ _ (by omega)
                    have hc5 : ∀ k, 0 ≤ k → k < 76 → iv_ σc (m + 5) k = if 2 ≤ k ∧ k < 2 + iv_ σa (m + 3) 6 then iv_ σa (m + 3) (108 + 4 * (k - 2)) else 0 := fun k k0 k1 => by
                      rw [← hσc, iv_pb]
                      by_cases c1 : 2 ≤ k ∧ k < 2 + iv_ σa (m + 3) 6
                      · rw [if_pos ⟨rfl, c1⟩, if_pos c1]
                        exact congrArg _ (by omega)
                      · rw [if_neg (fun q => c1 q.2), if_neg c1, iv_pb, if_pos ⟨rfl, k0, by omega⟩]
                    have hRc : MR_ G m σc := by rw [← hσc]; exact hRa.pb.pb
                    have hcF : Fr_ (ML_ m) σa σc := by
                      rw [← hσc]
                      exact ⟨fun _ => rfl, fun _ _ => rfl, rfl, rfl, fun b k q => by unfold ML_ at q; rw [iv_pb, if_neg (by omega), iv_pb, if_neg (by omega)]⟩
                    have K313 : ∀ (σd : JH), Fr_ (fun b _ => b = m + 5) σc σd → (∀ k, 0 ≤ k → k < 76 → (k < 28 ∨ 28 + 6 * iv_ σa (m + 3) 7 ≤ k) → iv_ σd (m + 5) k = iv_ σc (m + 5) k) → (∀ j k, 0 ≤ j → j < iv_ σa (m + 3) 7 → 0 ≤ k → k < 6 → iv_ σd (m + 5) (28 + 6 * j + k) = iv_ σa (m + 3) (11 + 7 * iv_ σa (m + 3) (128 + 4 * j) + k)) → Q (iv_ σa (m + 3) 4) (pi_ (pi_ (pi_ σd m 14 1) m 20 0) m 21 0) := by
                      intro σd f5 g1 g2
                      have ne : ∀ b k, b ≠ m + 3 → b ≠ m + 5 → ¬ (b = m ∧ (k = 14 ∨ k = 20 ∨ k = 21)) → iv_ (pi_ (pi_ (pi_ σd m 14 1) m 20 0) m 21 0) b k = iv_ δ b k := fun b k n3 n5 nm => by
                        rw [iv_pi, if_neg (by omega), iv_pi, if_neg (by omega), iv_pi, if_neg (by omega)]
                        exact (f5.2.2.2.2 _ _ (by omega)).trans ((hcf b k n5).trans (haf.2.2.2.2 _ _ (by omega)))
                      have e3 : ∀ k, iv_ (pi_ (pi_ (pi_ σd m 14 1) m 20 0) m 21 0) (m + 3) k = iv_ σa (m + 3) k := fun k => by
                        rw [iv_pi, if_neg (by omega), iv_pi, if_neg (by omega), iv_pi, if_neg (by omega)]
                        exact (f5.2.2.2.2 _ _ (by omega)).trans (hc3 k)
                      have e5 : ∀ k, iv_ (pi_ (pi_ (pi_ σd m 14 1) m 20 0) m 21 0) (m + 5) k = iv_ σd (m + 5) k := fun k => by
                        rw [iv_pi, if_neg (by omega), iv_pi, if_neg (by omega), iv_pi, if_neg (by omega)]
                      have hs : ∀ k, 0 ≤ k → k < 76 → iv_ σd (m + 5) k = ds_ (iv_ σa (m + 3)) k := fun k k0 k1 => by
                        have hn := hW.n
                        unfold ds_
                        by_cases c1 : 2 ≤ k ∧ k < 2 + iv_ σa (m + 3) 6
                        · rw [if_pos c1, g1 k k0 k1 (by omega), hc5 k k0 k1, if_pos c1]
                        · rw [if_neg c1]
                          by_cases c2 : 28 ≤ k ∧ k < 28 + 6 * iv_ σa (m + 3) 7
                          · rw [if_pos c2, ← g2 ((k - 28) / 6) ((k - 28) % 6) (by omega) (by omega) (by omega) (by omega)]
                            congr 1
                            omega
                          · rw [if_neg c2, g1 k k0 k1 (by omega), hc5 k k0 k1, if_neg c1]
                      have fall : Fr_ (ML_ m) σ (pi_ (pi_ (pi_ σd m 14 1) m 20 0) m 21 0) := by
                        have f6 : Fr_ (ML_ m) σ σd := hFd.tr ((haf.mono (fun b k q => by unfold ML_; omega)).tr (hcF.tr (f5.mono (fun b k q => by unfold ML_; omega))))
                        exact ((f6.pi (by unfold ML_; omega)).pi (by unfold ML_; omega)).pi (by unfold ML_; omega)
                      refine hQ0 hin σ1 hG hG2 (by rw [← hδ]; exact h13) (iv_ σa (m + 3)) (iv_ σd (m + 5)) _ (fun k k0 k1 => by rw [← hδ]; have := hav k k0 k1; rw [show (0 : Int) + k = k by omega] at this; exact this) hW hs ?_ fall
                      have hRe : MR_ G m (pi_ (pi_ (pi_ σd m 14 1) m 20 0) m 21 0) := (hRc.fr f5).pi.pi.pi
                      refine ⟨⟨hRe, e3, e5⟩, ⟨?_, by omega, fun k k0 k1 => by omega⟩, ⟨?_, ?_, ?_⟩, ⟨?_, Or.inr ⟨rfl, hW, ds_DW hW hs⟩⟩, ⟨?_, by omega, fun k j k0 k1 => by omega, fun k k0 k1 => by omega⟩, ?_, by omega, fun k j k0 k1 => by omega, fun k k0 k1 => by omega⟩
                      · rw [ne m 2 (by omega) (by omega) (by omega)]; exact hd2
                      · rw [ne m 9 (by omega) (by omega) (by omega)]; exact hd9
                      · rw [← hδ]; exact ne m 10 (by omega) (by omega) (by omega)
                      · rw [ne m 11 (by omega) (by omega) (by omega)]; exact hd11
                      · rw [iv_pi, if_neg (by omega), iv_pi, if_neg (by omega), iv_pi, if_pos ⟨rfl, rfl⟩]
                      · rw [iv_pi, if_neg (by omega), iv_pi, if_pos ⟨rfl, rfl⟩]
                      · rw [iv_pi, if_pos ⟨rfl, rfl⟩]
                    have J313 : ∀ (v2 : Option AV) (σd : JH), Fr_ (fun b _ => b = m + 5) σc σd → (∀ k, 0 ≤ k → k < 76 → (k < 28 ∨ 28 + 6 * iv_ σa (m + 3) 7 ≤ k) → iv_ σd (m + 5) k = iv_ σc (m + 5) k) → (∀ j k, 0 ≤ j → j < iv_ σa (m + 3) 7 → 0 ≤ k → k < 6 → iv_ σd (m + 5) (28 + 6 * j + k) = iv_ σa (m + 3) (11 + 7 * iv_ σa (m + 3) (128 + 4 * j) + k)) → GoM_ G 14 yX2_post cX2_post 3 (some .int) σ (fun v σ' => ∃ x : Int, v = some (I_ x) ∧ Q x σ') 313 [some (A_ (some m)), some (I_ n), v2] [] σd := by
                      intro v2 σd f5 g1 g2
                      have hRd := hRc.fr f5
                      refine g_al0 dX2_post_313 ?_
                      refine g_iconst dX2_post_314 ?_
                      refine f_putZ 14 fk_X2_180 rfl (nf_ rfl rfl) hRd.sh hRd.ge rfl (by omega) dX2_post_315 ?_
                      refine g_al0 dX2_post_318 ?_
                      refine g_iconst dX2_post_319 ?_
                      refine f_putI 20 fk_X2_183 rfl (nf_ rfl rfl) hRd.sh hRd.ge rfl dX2_post_320 ?_
                      refine g_al0 dX2_post_323 ?_
                      refine g_iconst dX2_post_324 ?_
                      refine f_putI 21 fk_X2_186 rfl (nf_ rfl rfl) hRd.sh hRd.ge rfl dX2_post_325 ?_
                      refine g_al0 dX2_post_328 ?_
                      refine f_getA 15 fk_X2_20 rfl hRd.sh (fun _ _ => rfl) hRd.f15 dX2_post_329 ?_
                      refine g_iconst dX2_post_332 ?_
                      refine g_ialv hRd.a15 (by omega) (show iv_ (pi_ (pi_ (pi_ σd m 14 1) m 20 0) m 21 0) (m + 3) 4 = iv_ σa (m + 3) 4 by rw [iv_pi, if_neg (by omega), iv_pi, if_neg (by omega), iv_pi, if_neg (by omega)]; exact (f5.2.2.2.2 _ _ (by omega)).trans (hc3 4)) dX2_post_333 ?_
                      exact g_iret rfl dX2_post_334 ⟨_, rfl, K313 σd f5 g1 g2⟩
                    have L255 : ∀ (fu : Nat) (b : Int) (σd : JH), iv_ σa (m + 3) 7 - b < (fu : Int) → (0 ≤ b) → (b ≤ iv_ σa (m + 3) 7) → (Fr_ (fun b _ => b = m + 5) σc σd ∧ (∀ k, 0 ≤ k → k < 76 → (k < 28 ∨ 28 + 6 * b ≤ k) → iv_ σd (m + 5) k = iv_ σc (m + 5) k) ∧ ∀ j k, 0 ≤ j → j < b → 0 ≤ k → k < 6 → iv_ σd (m + 5) (28 + 6 * j + k) = iv_ σa (m + 3) (11 + 7 * iv_ σa (m + 3) (128 + 4 * j) + k)) → GoM_ G 14 yX2_post cX2_post 3 (some .int) σ (fun v σ' => ∃ x : Int, v = some (I_ x) ∧ Q x σ') 255 [some (A_ (some m)), some (I_ n), some (I_ b)] [] σd := by
                      intro fu
                      induction fu with
                      | zero => intro b σd hn b0 b1 gI; exact absurd hn (by omega)
                      | succ fu ih =>
                        intro b σd hn b0 b1 gI
                        have hRd := hRc.fr gI.1
                        have e3 : ∀ k, iv_ σd (m + 3) k = iv_ σa (m + 3) k := fun k => (gI.1.2.2.2.2 _ _ (by omega)).trans (hc3 k)
                        refine g_il2 dX2_post_255 ?_
                        refine g_al0 dX2_post_256 ?_
                        refine f_getA 15 fk_X2_20 rfl hRd.sh (fun _ _ => rfl) hRd.f15 dX2_post_257 ?_
                        refine g_bipush dX2_post_260 (by decide) (by decide) ?_
                        refine g_ialv hRd.a15 (by omega) (e3 7) dX2_post_262 ?_
                        refine g_icmp_ge (tgt := 313) dX2_post_263 (by decide) (by omega) (fun h263 => ?_) (fun h263 => ?_)
                        · exact J313 _ σd (gI.1) (fun k k0 k1 k2 => gI.2.1 k k0 k1 (by omega)) (fun j k j0 j1 k0 k1 => gI.2.2 j k j0 (by omega) k0 k1)
                        refine g_al0 dX2_post_266 ?_
                        refine f_getA 15 fk_X2_20 rfl hRd.sh (fun _ _ => rfl) hRd.f15 dX2_post_267 ?_
                        refine g_bipush dX2_post_270 (by decide) (by decide) ?_
                        refine g_bipush dX2_post_272 (by decide) (by decide) ?_
                        refine g_al0 dX2_post_274 ?_
                        refine f_getA 15 fk_X2_20 rfl hRd.sh (fun _ _ => rfl) hRd.f15 dX2_post_275 ?_
                        refine g_bipush dX2_post_278 (by decide) (by decide) ?_
                        refine g_iconst dX2_post_280 ?_
                        refine g_il2 dX2_post_281 ?_
                        refine g_imul dX2_post_282 ?_
                        refine g_iadd dX2_post_283 ?_
                        refine g_iconst dX2_post_284 ?_
                        refine g_iadd dX2_post_285 ?_
                        have hbx := hW.box (b := b) b0 (by omega)
                        refine g_ialv hRd.a15 (by omega) ((e3 _).trans (congrArg _ (by omega : 127 + 4 * b + 1 = 128 + 4 * b))) dX2_post_286 ?_
                        refine g_imul dX2_post_287 ?_
                        refine g_iadd dX2_post_288 ?_
                        refine g_iconst dX2_post_289 ?_
                        refine g_iadd dX2_post_290 ?_
                        refine g_al0 dX2_post_291 ?_
                        refine f_getA 17 fk_X2_26 rfl hRd.sh (fun _ _ => rfl) hRd.f17 dX2_post_292 ?_
                        refine g_bipush dX2_post_295 (by decide) (by decide) ?_
                        refine g_bipush dX2_post_297 (by decide) (by decide) ?_
                        refine g_il2 dX2_post_299 ?_
                        refine g_imul dX2_post_300 ?_
                        refine g_iadd dX2_post_301 ?_
                        refine g_bipush dX2_post_302 (by decide) (by decide) ?_
                        refine g_callS5V (d' := 2) lk_X2_176 (rm_lt (by decide) (by decide)) (Nat.le_of_ble_eq_true rfl) dX2_post_304 ?_
                        refine mo_copy hRd.a15 hRd.a17 hRd.g17 (by omega) (by omega) (by omega) (by omega) (by decide) (fun σf hf hv => ?_)
                        refine g_inc2 dX2_post_307 (by decide) rfl ?_
                        refine g_goto (tgt := 255) dX2_post_310 (by decide) ?_
                        refine ih (b + 1) σf (by omega) (by omega) (by omega) ⟨gI.1.tr (hf.mono fun _ _ q => q.1), fun k k0 k1 k2 => ?_, fun j k j0 j1 k0 k1 => ?_⟩
                        · exact (hf.2.2.2.2 _ _ (by omega)).trans (gI.2.1 k k0 k1 (by omega))
                        · by_cases hj : j = b
                          · subst hj
                            rw [hv k k0 k1, e3]
                            congr 1
                            omega
                          · exact (hf.2.2.2.2 _ _ (by omega)).trans (gI.2.2 j k j0 (by omega) k0 k1)
                    refine g_iconst dX2_post_253 ?_
                    refine g_is2 dX2_post_254 (by decide) rfl ?_
                    exact L255 9 _ σc (by omega) (by omega) (by omega) ⟨Fr_.rf, fun k k0 k1 k2 => rfl, fun j k j0 j1 => by omega⟩
                  refine g_al0 dX2_post_226 ?_
                  refine f_getA 17 fk_X2_26 rfl hRa.sh (fun _ _ => rfl) hRa.f17 dX2_post_227 ?_
                  refine g_iconst dX2_post_230 ?_
                  refine g_il2 dX2_post_231 ?_
                  refine g_iadd dX2_post_232 ?_
                  refine g_al0 dX2_post_233 ?_
                  refine f_getA 15 fk_X2_20 rfl hRa.sh (fun _ _ => rfl) hRa.f15 dX2_post_234 ?_
                  refine g_bipush dX2_post_237 (by decide) (by decide) ?_
                  refine g_iconst dX2_post_239 ?_
                  refine g_il2 dX2_post_240 ?_
                  refine g_imul dX2_post_241 ?_
                  refine g_iadd dX2_post_242 ?_
                  refine g_iconst dX2_post_243 ?_
                  refine g_iadd dX2_post_244 ?_
                  have hwh := hW.whale (w := w) w0 (by omega)
                  refine g_ialv hRa.a15 (by omega) (show iv_ (pb_ _ _ _ _ _) (m + 3) (107 + 4 * w + 1) = iv_ σa (m + 3) (107 + 4 * w + 1) by rw [iv_pb, if_neg (by omega), iv_pb, if_neg (by omega)]) dX2_post_245 ?_
                  refine g_iast hRa.a17 hRa.g17 (by omega) dX2_post_246 ?_
                  refine g_inc2 dX2_post_247 (by decide) rfl ?_
                  refine g_goto (tgt := 215) dX2_post_250 (by decide) ?_
                  have h := ih (w + 1) (by omega) (by omega) (by omega)
                  rw [← pb_s _ _ _ _ w0] at h
                  exact h
              refine g_iconst dX2_post_213 ?_
              refine g_is2 dX2_post_214 (by decide) rfl ?_
              have h := L215 6 0 (by omega) (by omega) (by omega)
              rw [pb_0] at h
              exact h
            refine g_al0 dX2_post_200 ?_
            refine f_getA 17 fk_X2_26 rfl hRa.sh (fun _ _ => rfl) hRa.f17 dX2_post_201 ?_
            refine g_il2 dX2_post_204 ?_
            refine g_iconst dX2_post_205 ?_
            refine g_iast hRa.a17 hRa.g17 (by omega) dX2_post_206 ?_
            refine g_inc2 dX2_post_207 (by decide) rfl ?_
            refine g_goto (tgt := 194) dX2_post_210 (by decide) ?_
            have h := ih (k + 1) (by omega) (by omega) (by omega)
            rw [← pb_s _ _ _ _ k0, show (0 : Int) + k = k by omega] at h
            exact h
        have h := L194 77 0 (by omega) (by omega) (by omega)
        rw [pb_0] at h
        exact h
      have h163 : iv_ δ m 13 = 1 := by omega
      have KF : ∀ σ3 : JH, MD_ G m σ3 r s → ME_ m δ σ3 4 → Q (-1) σ3 := by
        intro σ3 hM3 hE3
        have e : ∀ b k, ¬ me_ m b k → iv_ σ3 b k = iv_ δ b k := hE3.1.2.2.2.2
        have nm : ∀ k, k ≠ 0 → k ≠ 11 → k ≠ 23 → k ≠ 26 → k ≠ 27 → (k < 31 ∨ 34 < k) → k ≠ 38 → iv_ σ3 m k = iv_ δ m k := fun k a0 a1 a2 a3 a4 a5 a6 => e m k (fun q => by unfold me_ ms_ at q; omega)
        refine hQ4 hin σ1 hG hG2 (by rw [← hδ]; exact h163) σ3 ?_ (hFd.tr (hE3.mA.ml))
        have hS1 := hS.q hM hE
        obtain ⟨-, -, -, ⟨p1, p2⟩, ⟨u1, u2, u3, u4⟩, i1, i2, i3, i4⟩ := hS1
        refine ⟨hM3, ⟨(nm 2 (by omega) (by omega) (by omega) (by omega) (by omega) (by omega) (by omega)).trans hd2, by omega, fun k k0 k1 => by omega⟩, ⟨by rw [← hδ]; exact nm 9 (by omega) (by omega) (by omega) (by omega) (by omega) (by omega) (by omega), by rw [← hδ]; exact nm 10 (by omega) (by omega) (by omega) (by omega) (by omega) (by omega) (by omega), hE3.2.2⟩, ⟨((nm 14 (by omega) (by omega) (by omega) (by omega) (by omega) (by omega) (by omega)).trans (hdo m 14 (by unfold pz_; omega))).trans p1, p2⟩, ⟨((nm 20 (by omega) (by omega) (by omega) (by omega) (by omega) (by omega) (by omega)).trans (hdo m 20 (by unfold pz_; omega))).trans u1, u2, fun k j k0 k1 j0 j1 => ((e (m + 6) _ (fun q => by unfold me_ ms_ at q; omega)).trans (hdo (m + 6) _ (by unfold pz_; omega))).trans (u3 k j k0 k1 j0 j1), u4⟩, ((nm 21 (by omega) (by omega) (by omega) (by omega) (by omega) (by omega) (by omega)).trans (hdo m 21 (by unfold pz_; omega))).trans i1, i2, fun k j k0 k1 j0 j1 => ((e (m + 7) _ (fun q => by unfold me_ ms_ at q; omega)).trans (hdo (m + 7) _ (by unfold pz_; omega))).trans (i3 k j k0 k1 j0 j1), i4⟩
      have hMd : MD_ G m δ r s := ⟨hR, fun k => (hd3 k).trans (hM.rr k), fun k => (hd5 k).trans (hM.ss k)⟩
      have hEd : ME_ m δ δ 0 := ⟨Fr_.rf, hd0, hd11⟩
      refine g_al0 dX2_post_170 ?_
      refine g_iconst dX2_post_171 ?_
      refine g_callV1I (d' := 2) lk_X2_170 hR.sh rfl (rm_lt (by decide) (by decide)) (Nat.le_of_ble_eq_true rfl) dX2_post_172 ?_
      refine mo_no hMd hEd (fun σ3 hM3 hE3 => ?_)
      exact g_iret rfl dX2_post_175 ⟨_, rfl, KF σ3 hM3 hE3⟩
    have J127 : ∀ δ : JH, δ = pe1_ m (rla_ m (ini_ m σ1 n)) → RB_ G m δ → Fr_ (pz_ m) σ1 δ → iv_ δ m 2 = 0 → (iv_ δ m 13 = 0 → FW_ (iv_ δ (m + 4)) ∧ iv_ δ m 9 = 0) → GoM_ G 14 yX2_post cX2_post 3 (some .int) σ (fun v σ' => ∃ x : Int, v = some (I_ x) ∧ Q x σ') 127 [some (A_ (some m)), some (I_ n), some (I_ 363)] [] δ := by
      intro δ hδ hX0 hFz hd2 hpe
      have hR := hX0.1
      have hq := hX0.2.1.2.2.1
      have c9 := hX0.c4 (k := 9) (by decide) (by decide)
      have c4 := hX0.c4 (k := 4) (by decide) (by decide)
      refine g_al0 dX2_post_127 ?_
      refine f_getI 13 fk_X2_100 rfl hR.sh (fun _ _ => rfl) dX2_post_128 ?_
      refine g_if_ne (tgt := 163) dX2_post_131 (by decide) (by omega) (fun h131 => ?_) (fun h131 => ?_)
      · exact J163 δ (by unfold pe_; rw [← hδ]; unfold pe2_; rw [if_neg (by omega)]) hX0 hFz hd2 (fun q => ⟨(hpe q).1, by omega, by omega⟩) (fun q => (hpe q).2)
      refine g_al0 dX2_post_134 ?_
      refine f_getA 16 fk_X2_23 rfl hR.sh (fun _ _ => rfl) hR.f16 dX2_post_135 ?_
      refine g_bipush dX2_post_138 (by decide) (by decide) ?_
      refine g_iald hR.a16 (by omega) dX2_post_140 ?_
      refine g_if_eq (tgt := 153) dX2_post_141 (by decide) (by omega) (fun h141 => ?_) (fun h141 => ?_)
      · refine g_al0 dX2_post_153 ?_
        refine g_bipush dX2_post_154 (by decide) (by decide) ?_
        refine g_al0 dX2_post_156 ?_
        refine f_getI 4 fk_X2_81 rfl hR.sh (fun _ _ => rfl) dX2_post_157 ?_
        refine g_callV2V (d' := 2) lk_X2_127 hR.sh rfl (rm_lt (by decide) (by decide)) (Nat.le_of_ble_eq_true rfl) dX2_post_160 ?_
        have hq6 : iv_ δ (m + 4) 9 = 0 ∨ iv_ δ (m + 4) 4 = 0 := by omega
        refine mp_wrong hX0 (fun σ2 e2 hX2 hA2 h13 => ?_)
        exact J163 σ2 (by unfold pe_; rw [← hδ]; unfold pe2_; rw [if_pos (by omega)]; exact e2) hX2 (hFz.tr hA2.1.f1.pz) ((hA2.1.2.2.2.2 m 2 (fun q => by unfold pf0_ at q; omega)).trans hd2) (fun q => by omega) (fun q => by omega)
      refine g_al0 dX2_post_144 ?_
      refine f_getA 16 fk_X2_23 rfl hR.sh (fun _ _ => rfl) hR.f16 dX2_post_145 ?_
      refine g_iconst dX2_post_148 ?_
      refine g_iald hR.a16 (by omega) dX2_post_149 ?_
      refine g_if_ne (tgt := 163) dX2_post_150 (by decide) (by omega) (fun h150 => ?_) (fun h150 => ?_)
      · exact J163 δ (by unfold pe_; rw [← hδ]; unfold pe2_; rw [if_neg (by omega)]) hX0 hFz hd2 (fun q => ⟨(hpe q).1, by have := (hpe q).1.1; omega, by omega⟩) (fun q => (hpe q).2)
      refine g_al0 dX2_post_153 ?_
      refine g_bipush dX2_post_154 (by decide) (by decide) ?_
      refine g_al0 dX2_post_156 ?_
      refine f_getI 4 fk_X2_81 rfl hR.sh (fun _ _ => rfl) dX2_post_157 ?_
      refine g_callV2V (d' := 2) lk_X2_127 hR.sh rfl (rm_lt (by decide) (by decide)) (Nat.le_of_ble_eq_true rfl) dX2_post_160 ?_
      have hq6 : iv_ δ (m + 4) 9 = 0 ∨ iv_ δ (m + 4) 4 = 0 := by omega
      refine mp_wrong hX0 (fun σ2 e2 hX2 hA2 h13 => ?_)
      exact J163 σ2 (by unfold pe_; rw [← hδ]; unfold pe2_; rw [if_pos (by omega)]; exact e2) hX2 (hFz.tr hA2.1.f1.pz) ((hA2.1.2.2.2.2 m 2 (fun q => by unfold pf0_ at q; omega)).trans hd2) (fun q => by omega) (fun q => by omega)
    have J104 : ∀ δ : JH, δ = rla_ m (ini_ m σ1 n) → RB_ G m δ → Fr_ (pz_ m) σ1 δ → iv_ δ m 2 = 0 → (iv_ δ m 13 = 0 → FW_ (iv_ δ (m + 4)) ∧ iv_ δ m 9 = 0) → GoM_ G 14 yX2_post cX2_post 3 (some .int) σ (fun v σ' => ∃ x : Int, v = some (I_ x) ∧ Q x σ') 104 [some (A_ (some m)), some (I_ n), some (I_ 363)] [] δ := by
      intro δ hδ hX0 hFz hd2 hpe
      have hR := hX0.1
      have hq := hX0.2.1.2.2.1
      have ht := hX0.2.1.2.2.2.2.1
      refine g_al0 dX2_post_104 ?_
      refine f_getI 13 fk_X2_100 rfl hR.sh (fun _ _ => rfl) dX2_post_105 ?_
      refine g_if_ne (tgt := 127) dX2_post_108 (by decide) (by omega) (fun h108 => ?_) (fun h108 => ?_)
      · exact J127 δ (by rw [← hδ]; unfold pe1_; rw [if_neg (by omega)]) hX0 hFz hd2 hpe
      refine g_al0 dX2_post_111 ?_
      refine f_getI 6 fk_X2_90 rfl hR.sh (fun _ _ => rfl) dX2_post_112 ?_
      refine g_if_eq (tgt := 127) dX2_post_115 (by decide) (by omega) (fun h115 => ?_) (fun h115 => ?_)
      · exact J127 δ (by rw [← hδ]; unfold pe1_; rw [if_neg (by omega)]) hX0 hFz hd2 hpe
      refine g_al0 dX2_post_118 ?_
      refine g_iconst dX2_post_119 ?_
      refine g_al0 dX2_post_120 ?_
      refine f_getI 4 fk_X2_81 rfl hR.sh (fun _ _ => rfl) dX2_post_121 ?_
      refine g_callV2V (d' := 2) lk_X2_127 hR.sh rfl (rm_lt (by decide) (by decide)) (Nat.le_of_ble_eq_true rfl) dX2_post_124 ?_
      refine mp_wrong hX0 (fun σ2 e2 hX2 hA2 h13 => ?_)
      exact J127 σ2 (by rw [← hδ]; unfold pe1_; rw [if_pos (by omega)]; exact e2) hX2 (hFz.tr hA2.1.f1.pz) ((hA2.1.2.2.2.2 m 2 (fun q => by unfold pf0_ at q; omega)).trans hd2) (fun q => by omega)
    have L77 : ∀ (fu : Nat) (F : Nat) (δ : JH), (F : Int) < (fu : Int) → (iv_ δ m 13 = 1 ∨ iv_ δ m 3 - iv_ δ m 5 < (F : Int)) → (rls_ m F δ = rla_ m (ini_ m σ1 n)) → (RB_ G m δ) → (Fr_ (pz_ m) σ1 δ) → (iv_ δ m 2 = 0) → (iv_ δ m 13 = 0 → FW_ (iv_ δ (m + 4)) ∧ iv_ δ m 9 = 0) → GoM_ G 14 yX2_post cX2_post 3 (some .int) σ (fun v σ' => ∃ x : Int, v = some (I_ x) ∧ Q x σ') 77 [some (A_ (some m)), some (I_ n), some (I_ 363)] [] δ := by
      intro fu
      induction fu with
      | zero => intro F δ hn hm hδ hX0 hFz hd2 hpe; exact absurd hn (by omega)
      | succ fu ih =>
        intro F δ hn hm hδ hX0 hFz hd2 hpe
        have hR := hX0.1
        have hq := hX0.2.1.2.2.1
        have ht := hX0.2.1.2.2.2.2.1
        have he := hX0.2.1.2.1
        refine g_al0 dX2_post_77 ?_
        refine f_getI 13 fk_X2_100 rfl hR.sh (fun _ _ => rfl) dX2_post_78 ?_
        refine g_if_ne (tgt := 104) dX2_post_81 (by decide) (by omega) (fun h81 => ?_) (fun h81 => ?_)
        · have ez : rls_ m F δ = δ := by
            cases F with
            | zero => rfl
            | succ F1 => simp only [rls_]; rw [if_neg (by omega)]
          exact J104 δ (by rw [← hδ, ez]) hX0 hFz hd2 hpe
        refine g_al0 dX2_post_84 ?_
        refine f_getI 6 fk_X2_90 rfl hR.sh (fun _ _ => rfl) dX2_post_85 ?_
        refine g_bipush dX2_post_88 (by decide) (by decide) ?_
        refine g_icmp_ne (tgt := 104) dX2_post_90 (by decide) (by omega) (fun h90 => ?_) (fun h90 => ?_)
        · have ez : rls_ m F δ = δ := by
            cases F with
            | zero => rfl
            | succ F1 => simp only [rls_]; rw [if_neg (by omega)]
          exact J104 δ (by rw [← hδ, ez]) hX0 hFz hd2 hpe
        refine g_al0 dX2_post_93 ?_
        refine g_callV0V (d' := 3) lk_X2_121 hR.sh rfl (rm_lt (by decide) (by decide)) (Nat.le_of_ble_eq_true rfl) dX2_post_94 ?_
        refine mp_next hX0 (fun δ1 e1' hX1 hA1 => ?_)
        have hR := hX1.1
        refine g_al0 dX2_post_97 ?_
        refine g_callV0V (d' := 13) lk_X2_173 hR.sh rfl (rm_lt (by decide) (by decide)) (Nat.le_of_ble_eq_true rfl) dX2_post_98 ?_
        refine mp_readLine hX1 ?_
        refine g_goto (tgt := 77) dX2_post_101 (by decide) ?_
        obtain ⟨F1, rfl⟩ : ∃ k, F = k + 1 := ⟨F - 1, by omega⟩
        have h0 : iv_ δ m 13 = 0 := by omega
        have hon := rl_on hX0 (F := (F1 : Int)) (by omega)
        rw [← e1'] at hon
        have hA2 := rl_RS hX1
        have h13 : iv_ δ1 m 13 = 0 := by rw [e1', (nxt_fix _).1]; exact h0
        have hfw : FW_ (iv_ δ1 (m + 4)) := by
          have : iv_ δ1 (m + 4) = iv_ δ (m + 4) := funext fun j => hA1.1.f4 j
          rw [this]
          exact (hpe h0).1
        refine ih F1 _ (by omega) hon (by rw [← hδ, e1']; simp only [rls_]; rw [if_pos ⟨h0, by omega⟩]) hA2.1 (hFz.tr (hA1.1.f1.pz.tr hA2.2.1.pz)) (((hA2.2.1.2.2.2.2 m 2 (fun q => by unfold pf1_ at q; omega)).trans (hA1.1.2.2.2.2 m 2 (fun q => by unfold pf0_ at q; omega))).trans hd2) (fun q => ⟨rl_FW hX1 h13 hfw q, ?_⟩)
        exact rl_9 hX1 h13 (by rw [e1', (nxt_fix _).2.1]; exact (hpe h0).2) q
    have L39 : ∀ (fu : Nat) (k : Int), 363 - k < (fu : Int) → (0 ≤ k) → (k ≤ 363) → GoM_ G 14 yX2_post cX2_post 3 (some .int) σ (fun v σ' => ∃ x : Int, v = some (I_ x) ∧ Q x σ') 39 [some (A_ (some m)), some (I_ n), some (I_ k)] [] (pb_ (pi_ (pi_ (pi_ σ1 m 2 0) m 9 0) m 13 0) (m + 4) 0 k (fun _ => 0)) := by
      intro fu
      induction fu with
      | zero => intro k hn k0 k1; exact absurd hn (by omega)
      | succ fu ih =>
        intro k hn k0 k1
        refine g_il2 dX2_post_39 ?_
        refine g_sipush dX2_post_40 (by decide) (by decide) ?_
        refine g_icmp_ge (tgt := 59) dX2_post_43 (by decide) (by omega) (fun h43 => ?_) (fun h43 => ?_)
        · have ek : k = 363 := by omega
          subst ek
          refine g_al0 dX2_post_59 ?_
          refine g_il1 dX2_post_60 ?_
          refine f_putI 3 fk_X2_71 rfl (nf_ rfl rfl) hR1.sh hR1.ge rfl dX2_post_61 ?_
          refine g_al0 dX2_post_64 ?_
          refine g_iconst dX2_post_65 ?_
          refine f_putI 5 fk_X2_74 rfl (nf_ rfl rfl) hR1.sh hR1.ge rfl dX2_post_66 ?_
          refine g_al0 dX2_post_69 ?_
          refine g_callV0V (d' := 3) lk_X2_121 hR1.sh rfl (rm_lt (by decide) (by decide)) (Nat.le_of_ble_eq_true rfl) dX2_post_70 ?_
          refine mo_next (σ := ini_ m σ1 n) hRi hi.1 hi.2.1 ?_
          have hR1 := hi.2.2.1.1
          refine g_al0 dX2_post_73 ?_
          refine g_callV0V (d' := 13) lk_X2_173 hR1.sh rfl (rm_lt (by decide) (by decide)) (Nat.le_of_ble_eq_true rfl) dX2_post_74 ?_
          refine mp_readLine hi.2.2.1 ?_
          have rA := rl_RS hi.2.2.1
          have rF : Fr_ (pz_ m) σ1 (rl_ m (nxt_ m (ini_ m σ1 n))) := (ini_pz σ1 n).tr ((nxt_fr _).pz.tr rA.2.1.pz)
          have b2 : iv_ (rl_ m (nxt_ m (ini_ m σ1 n))) m 2 = 0 := by
            rw [rA.2.1.2.2.2.2 m 2 (fun q => by unfold pf1_ at q; omega), (nxt_fr (m := m) _).2.2.2.2 m 2 (fun q => by unfold pf1_ at q; omega), (ini_f σ1 n).2.2.2.2, if_neg (by omega), if_neg (by omega), if_neg (by omega), if_neg (by omega), if_neg (by omega), if_pos ⟨rfl, rfl⟩]
          have b9 : iv_ (nxt_ m (ini_ m σ1 n)) m 9 = 0 := by
            rw [(nxt_fix _).2.1, (ini_f σ1 n).2.2.2.2, if_neg (by omega), if_neg (by omega), if_neg (by omega), if_neg (by omega), if_pos ⟨rfl, rfl⟩]
          have b5 := rA.1.2.1.2.1
          have b3 := rA.1.2.1.1.1
          exact L77 1002 1001 _ (by omega) (Or.inr (by omega)) rfl rA.1 rF b2 (fun q => ⟨rl_FW hi.2.2.1 hi.2.2.2.1 hi.2.2.2.2 q, rl_9 hi.2.2.1 hi.2.2.2.1 b9 q⟩)
        refine g_al0 dX2_post_46 ?_
        refine f_getA 16 fk_X2_23 rfl hR1.sh (fun _ _ => rfl) hR1.f16 dX2_post_47 ?_
        refine g_il2 dX2_post_50 ?_
        refine g_iconst dX2_post_51 ?_
        refine g_iast hR1.a16 hR1.g16 (by omega) dX2_post_52 ?_
        refine g_inc2 dX2_post_53 (by decide) rfl ?_
        refine g_goto (tgt := 39) dX2_post_56 (by decide) ?_
        have h := ih (k + 1) (by omega) (by omega) (by omega)
        rw [← pb_s _ _ _ _ k0, show (0 : Int) + k = k by omega] at h
        exact h
    refine g_al0 dX2_post_22 ?_
    refine g_iconst dX2_post_23 ?_
    refine f_putI 2 fk_X2_68 rfl (nf_ rfl rfl) hR1.sh hR1.ge rfl dX2_post_24 ?_
    refine g_al0 dX2_post_27 ?_
    refine g_iconst dX2_post_28 ?_
    refine f_putI 9 fk_X2_104 rfl (nf_ rfl rfl) hR1.sh hR1.ge rfl dX2_post_29 ?_
    refine g_al0 dX2_post_32 ?_
    refine g_iconst dX2_post_33 ?_
    refine f_putZ 13 fk_X2_100 rfl (nf_ rfl rfl) hR1.sh hR1.ge rfl (by omega) dX2_post_34 ?_
    refine g_iconst dX2_post_37 ?_
    refine g_is2 dX2_post_38 (by decide) rfl ?_
    have h := L39 364 0 (by omega) (by omega) (by omega)
    rw [pb_0] at h
    exact h
  refine g_al0 dX2_post_16 ?_
  refine g_iconst dX2_post_17 ?_
  refine g_callV1I (d' := 2) lk_X2_170 hR.sh rfl (rm_lt (by decide) (by decide)) (Nat.le_of_ble_eq_true rfl) dX2_post_18 ?_
  refine mo_no hM hE (fun σ2 hM2 hE2 => ?_)
  exact g_iret rfl dX2_post_21 ⟨_, rfl, hQ2 (by omega) σ2 (hS.q hM2 hE2) hE2.mA.ml⟩
end
