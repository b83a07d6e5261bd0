/-! THE COMPONENT: tokens. Written by mod/m9f.py -/
set_option maxRecDepth 100000
section
variable {G : JG} {m X : Nat} {σ σ' γ : JH} {S : Nat → Int → Prop} {dc du : Nat}
theorem sb_and {v : Int} (h : 0 ≤ v ∧ v ≤ 255) : iand_ (sby_ v) 255 = v ∧ -128 ≤ sby_ v ∧ sby_ v ≤ 127 := by
  obtain ⟨n, rfl⟩ := Int.eq_ofNat_of_zero_le h.1
  have hn : n < 256 := by omega
  have : ∀ k : Fin 256, iand_ (sby_ ((k.val : Nat) : Int)) 255 = ((k.val : Nat) : Int) := by decide +kernel
  refine ⟨this ⟨n, hn⟩, ?_⟩
  unfold sby_
  split <;> omega
theorem Str_.gw {a v n : Nat} {c : Int → Int} (h : Str_ σ a v n c) (f : Gw_ S dc du σ σ') (hlt : ∀ a s, sh_ σ a = some s → a < sz_ σ) (ha : ∀ k, (k = 0 ∨ k = 1) → ¬ S a k) (hv : ∀ k, ¬ S v k) : Str_ σ' a v n c := by
  obtain ⟨h1, h2, h3, h4, h5, h6⟩ := h
  have la := hlt _ _ h1
  have lv := hlt _ _ h3
  exact ⟨(f.1 a la).trans h1, (f.2.1 a 0 la (ha 0 (Or.inl rfl))).1.trans h2, (f.1 v lv).trans h3, (f.2.1 a 1 la (ha 1 (Or.inr rfl))).2.trans h4, h5, fun k k0 k1 => by rw [(f.2.1 v k lv (hv k)).2]; exact h6 k k0 k1⟩
theorem HS_.gw {a : Nat} {x : Int} (h : HS_ σ a x) (f : Gw_ S dc du σ σ') (la : a < sz_ σ) (ha : ∀ k, ¬ S a k) : HS_ σ' a x := by
  unfold HS_ at *
  rw [(f.2.1 a 2 la (ha 2)).2, (f.2.1 a 3 la (ha 3)).2]
  exact h
/-! what the next token is -/
theorem nxt_e {k : Int} (hk : skp_ isB2_ (lk_ m γ) (iv_ γ m 5) (iv_ γ m 3) = k) (h : lk_ m γ k = -1) : iv_ (nxt_ m γ) m 4 = k ∧ iv_ (nxt_ m γ) m 5 = k ∧ iv_ (nxt_ m γ) m 6 = 0 := by
  unfold nxt_
  dsimp only
  rw [hk, if_pos h]
  simp [iv_pi]
theorem nxt_w {k k2 : Int} (hk : skp_ isB2_ (lk_ m γ) (iv_ γ m 5) (iv_ γ m 3) = k) (h : ¬ lk_ m γ k = -1) (hs : isS_ (lk_ m γ k) = true) (hk2 : skp_ isS_ (lk_ m γ) k (iv_ γ m 3) = k2) : iv_ (nxt_ m γ) m 4 = k ∧ iv_ (nxt_ m γ) m 5 = k2 ∧ iv_ (nxt_ m γ) m 6 = (if 8 < k2 - k then 1 else 2) ∧ iv_ (nxt_ m γ) m 8 = k2 - k ∧ ∀ j, 0 ≤ j → j < mn8_ (k2 - k) 8 → iv_ (nxt_ m γ) (m + 2) j = lk_ m γ (k + j) := by
  unfold nxt_
  dsimp only
  rw [hk, if_neg h, if_pos hs, hk2]
  simp [iv_pi, iv_pb]
  intro j j0 j1 j2
  omega
theorem nxt_d {k k2 : Int} (hk : skp_ isB2_ (lk_ m γ) (iv_ γ m 5) (iv_ γ m 3) = k) (h : ¬ lk_ m γ k = -1) (hs : ¬ isS_ (lk_ m γ k) = true) (hd : isD_ (lk_ m γ k) = true) (hk2 : skp_ isD_ (lk_ m γ) k (iv_ γ m 3) = k2) : iv_ (nxt_ m γ) m 4 = k ∧ iv_ (nxt_ m γ) m 5 = k2 ∧ iv_ (nxt_ m γ) m 6 = (if 4 < k2 - k then 1 else 3) ∧ iv_ (nxt_ m γ) m 7 = dv_ (lk_ m γ) k (mn8_ (k2 - k) 4) := by
  unfold nxt_
  dsimp only
  rw [hk, if_neg h, if_neg hs, if_pos hd, hk2]
  simp [iv_pi]
theorem nxt_o {k : Int} (hk : skp_ isB2_ (lk_ m γ) (iv_ γ m 5) (iv_ γ m 3) = k) (h : ¬ lk_ m γ k = -1) (hs : ¬ isS_ (lk_ m γ k) = true) (hd : ¬ isD_ (lk_ m γ k) = true) : iv_ (nxt_ m γ) m 4 = k ∧ iv_ (nxt_ m γ) m 5 = k + 1 ∧ iv_ (nxt_ m γ) m 6 = (if lk_ m γ k = 59 then 59 else 1) := by
  unfold nxt_
  dsimp only
  rw [hk, if_neg h, if_neg hs, if_neg hd]
  simp [iv_pi]
/-- the reader of tokens at τ stands at a place of the ghost's text -/
def TS_ (G : JG) (m X : Nat) (σ γ : JH) (τ : Nat) (a : Int) : Prop := sh_ σ τ = some (.inl 4) ∧ (gH_ G).size ≤ τ ∧ rv_ σ τ 0 = some (X + 1) ∧ iv_ σ τ 1 = iv_ γ m 3 ∧ iv_ σ τ 2 = a ∧ (0 ≤ a ∧ a ≤ iv_ γ m 3) ∧ sh_ σ (X + 1) = some (.inr (1, 1000)) ∧ (∀ k, 0 ≤ k → k < iv_ γ m 3 → iv_ σ (X + 1) k = sby_ (iv_ γ (m + 1) k)) ∧ TX_ m γ ∧ X + 1 < τ
theorem TS_.gw {τ : Nat} {a : Int} (h : TS_ G m X σ γ τ a) (f : Gw_ S dc du σ σ') (hlt : ∀ a s, sh_ σ a = some s → a < sz_ σ) (h1 : ∀ k, ¬ S τ k) (h2 : ∀ k, ¬ S (X + 1) k) : TS_ G m X σ' γ τ a := by
  obtain ⟨a1, a2, a3, a4, a5, a6, a7, a8, a9, a10⟩ := h
  have lt := hlt _ _ a1
  have lx := hlt _ _ a7
  exact ⟨(f.1 _ lt).trans a1, a2, (f.2.1 _ 0 lt (h1 0)).1.trans a3, (f.2.1 _ 1 lt (h1 1)).2.trans a4, (f.2.1 _ 2 lt (h1 2)).2.trans a5, a6, (f.1 _ lx).trans a7, fun k k0 k1 => (f.2.1 _ k lx (h2 k)).2.trans (a8 k k0 k1), a9, a10⟩
theorem TS_.st {τ : Nat} {a : Int} (h : TS_ G m X σ γ τ a) {b : Int} (hb : 0 ≤ b ∧ b ≤ iv_ γ m 3) : TS_ G m X (pi_ σ τ 2 b) γ τ b := by
  obtain ⟨a1, a2, a3, a4, a5, a6, a7, a8, a9, a10⟩ := h
  exact ⟨a1, a2, a3, by rw [iv_pi, if_neg (by omega)]; exact a4, by rw [iv_pi, if_pos ⟨rfl, rfl⟩], hb, a7, fun k k0 k1 => by rw [iv_pi, if_neg (by omega)]; exact a8 k k0 k1, a9, a10⟩
/-- a token -/
def TK_ (G : JG) (σ : JH) (lo o : Nat) (so pl nu : Int) (wd wv n : Nat) (c : Int → Int) : Prop := sh_ σ o = some (.inl 6) ∧ lo ≤ o ∧ iv_ σ o 0 = so ∧ iv_ σ o 1 = pl ∧ iv_ σ o 2 = nu ∧ rv_ σ o 3 = some wd ∧ Str_ σ wd wv n c ∧ ((lo ≤ wd ∧ lo ≤ wv) ∨ (wd < (gH_ G).size ∧ wv < (gH_ G).size)) ∧ (so = 2 → lo ≤ wd ∧ (1 ≤ n ∧ n ≤ 8) ∧ HS_ σ wd (w32_ (hsh_ c n))) ∧ ((0 ≤ so ∧ so ≤ 4) ∧ (0 ≤ pl ∧ pl ≤ 1000) ∧ (0 ≤ nu ∧ nu ≤ 9999)) ∧ n ≤ 8
/-- it is the ghost's -/
def TM_ (m : Nat) (γ : JH) (so pl nu : Int) (n : Nat) (c : Int → Int) : Prop := pl = iv_ γ m 4 ∧ ((iv_ γ m 6 = 0 ∧ so = 1) ∨ (iv_ γ m 6 = 1 ∧ so = 0) ∨ (iv_ γ m 6 = 2 ∧ so = 2 ∧ (n : Int) = iv_ γ m 8 ∧ ∀ k, 0 ≤ k → k < (n : Int) → c k = iv_ γ (m + 2) k) ∨ (iv_ γ m 6 = 3 ∧ so = 3 ∧ nu = iv_ γ m 7) ∨ (iv_ γ m 6 = 59 ∧ so = 4))
theorem TK_.mk {lo o : Nat} {so pl nu : Int} {wd wv n : Nat} {c : Int → Int} (hs : sh_ σ o = some (.inl 6)) (ho : lo ≤ o) (hS : Str_ σ wd wv n c) (hw : (lo ≤ wd ∧ lo ≤ wv) ∨ (wd < (gH_ G).size ∧ wv < (gH_ G).size)) (h2 : so = 2 → lo ≤ wd ∧ (1 ≤ n ∧ n ≤ 8) ∧ HS_ σ wd (w32_ (hsh_ c n))) (hb : (0 ≤ so ∧ so ≤ 4) ∧ (0 ≤ pl ∧ pl ≤ 1000) ∧ (0 ≤ nu ∧ nu ≤ 9999)) (hn : n ≤ 8) : TK_ G (pr_ (pi_ (pi_ (pi_ σ o 0 so) o 1 pl) o 2 nu) o 3 (some wd)) lo o so pl nu wd wv n c := by
  obtain ⟨s1, s2, s3, s4, s5, s6⟩ := hS
  have n1 : wd ≠ o := fun q => by rw [q, hs] at s1; cases s1
  have n2 : wv ≠ o := fun q => by rw [q, hs] at s3; cases s3
  have e : ∀ b k, b ≠ o → iv_ (pr_ (pi_ (pi_ (pi_ σ o 0 so) o 1 pl) o 2 nu) o 3 (some wd)) b k = iv_ σ b k := fun b k q => by
    rw [iv_pr, iv_pi, if_neg (fun w => q w.1), iv_pi, if_neg (fun w => q w.1), iv_pi, if_neg (fun w => q w.1)]
  refine ⟨hs, ho, by simp [iv_pr, iv_pi], by simp [iv_pr, iv_pi], by simp [iv_pr, iv_pi], by rw [rv_pr, if_pos ⟨rfl, rfl⟩], ⟨s1, ?_, s3, (e _ _ n1).trans s4, s5, fun k k0 k1 => by rw [e _ _ n2]; exact s6 k k0 k1⟩, hw, fun q => ?_, hb, hn⟩
  · rw [rv_pr, if_neg (fun w => n1 w.1)]; exact s2
  · obtain ⟨b1, b2, b3⟩ := h2 q
    refine ⟨b1, b2, ?_⟩
    unfold HS_ at *
    rw [e _ _ n1, e _ _ n1]
    exact b3
theorem xt_look {τ : Nat} {a : Int} {Q : Int → JH → Prop} (hT : TS_ G m X σ γ τ a)
    (hQ : Q (lk_ m γ a) σ) : CallI_ G 2 yX4_look cX4_look 1 (some .int) [A_ (some τ)] σ Q := by
  refine call_go [some (A_ (some τ))] (by decide) (Nat.le_of_ble_eq_true rfl) rfl ?_
  refine g_al0 dX4_look_0 ?_
  refine f_getv 2 fk_X4_19 rfl hT.1 (fun _ _ => rfl) hT.2.2.2.2.1 dX4_look_1 ?_
  refine g_al0 dX4_look_4 ?_
  refine f_getv 1 fk_X4_15 rfl hT.1 (fun _ _ => rfl) hT.2.2.2.1 dX4_look_5 ?_
  have ha := hT.2.2.2.2.2.1
  have h3 := hT.2.2.2.2.2.2.2.2.1.1
  refine g_icmp_ge (tgt := 27) dX4_look_8 (by decide) (by omega) (fun h8 => ?_) (fun h8 => ?_)
  · refine g_iconst dX4_look_27 ?_
    exact g_iret rfl dX4_look_28 ⟨_, rfl, by unfold lk_ at hQ; rw [if_neg (by omega)] at hQ; exact hQ⟩
  refine g_al0 dX4_look_11 ?_
  refine f_getA 0 fk_X4_9 rfl hT.1 (fun _ _ => rfl) hT.2.2.1 dX4_look_12 ?_
  refine g_al0 dX4_look_15 ?_
  refine f_getv 2 fk_X4_19 rfl hT.1 (fun _ _ => rfl) hT.2.2.2.2.1 dX4_look_16 ?_
  have hv := hT.2.2.2.2.2.2.2.2.1.2 a (by omega) (by omega)
  have hsb := sb_and hv
  refine g_balv hT.2.2.2.2.2.2.1 (by omega) (hT.2.2.2.2.2.2.2.1 a (by omega) (by omega)) dX4_look_19 ?_
  refine g_sipush dX4_look_20 (by decide) (by decide) ?_
  refine g_iand dX4_look_23 ?_
  refine g_top hsb.1 ?_
  refine g_goto (tgt := 28) dX4_look_24 (by decide) ?_
  exact g_iret rfl dX4_look_28 ⟨_, rfl, by unfold lk_ at hQ; rw [if_pos (by omega)] at hQ; exact hQ⟩
theorem xt_tinit {o wd : Nat} {so pl nu : Int} {Q : JH → Prop} (hs : sh_ σ o = some (.inl 6)) (ho : (gH_ G).size ≤ o)
    (hQ : Q (pr_ (pi_ (pi_ (pi_ σ o 0 so) o 1 pl) o 2 nu) o 3 (some wd))) : CallV_ G 2 yX6_init cX6_init 5 none [A_ (some o), I_ so, I_ pl, I_ nu, A_ (some wd)] σ Q := by
  refine call_go [some (A_ (some o)), some (I_ so), some (I_ pl), some (I_ nu), some (A_ (some wd))] (by decide) (Nat.le_of_ble_eq_true rfl) rfl ?_
  refine g_al0 dX6_init_0 ?_
  refine g_objInit q369 q_oi1 q_oi2 (rm_1 (by decide)) (Nat.le_of_ble_eq_true rfl) dX6_init_1 ?_
  refine g_al0 dX6_init_4 ?_
  refine g_il1 dX6_init_5 ?_
  refine f_putIF 0 fk_X6_7 rfl (fin_ rfl ⟨rfl, rfl⟩) rfl hs ho rfl dX6_init_6 ?_
  refine g_al0 dX6_init_9 ?_
  refine g_il2 dX6_init_10 ?_
  refine f_putIF 1 fk_X6_13 rfl (fin_ rfl ⟨rfl, rfl⟩) rfl hs ho rfl dX6_init_11 ?_
  refine g_al0 dX6_init_14 ?_
  refine g_il3 dX6_init_15 ?_
  refine f_putIF 2 fk_X6_16 rfl (fin_ rfl ⟨rfl, rfl⟩) rfl hs ho rfl dX6_init_16 ?_
  refine g_al0 dX6_init_19 ?_
  refine g_al4 dX6_init_20 ?_
  refine f_putAF 3 fk_X6_19 rfl (fin_ rfl ⟨rfl, rfl⟩) rfl hs ho (Or.inl ⟨_, rfl⟩) dX6_init_22 ?_
  exact g_vret rfl dX6_init_25 ⟨rfl, hQ⟩
theorem i2cs_ {x : Int} (h : 0 ≤ x ∧ x ≤ 127) : i2c_ x = x := by
  obtain ⟨n, rfl⟩ := Int.eq_ofNat_of_zero_le h.1
  have hn : n < 128 := by omega
  have : ∀ k : Fin 128, i2c_ ((k.val : Nat) : Int) = ((k.val : Nat) : Int) := by decide +kernel
  exact this ⟨n, hn⟩
theorem xt_next {τ lo : Nat} {Q : Option Nat → JH → Prop} (hT0 : TS_ G m X σ γ τ (iv_ γ m 5)) (hL : LS_ G σ) (hlo : lo ≤ sz_ σ) (hr : sz_ σ + 5 ≤ lc_ G ∧ us_ σ + 36 ≤ ls_ G)
    (hQ : ∀ σ' o so pl nu wd wv n c, TK_ G σ' lo o so pl nu wd wv n c → TM_ m (nxt_ m γ) so pl nu n c → sz_ σ ≤ o → TS_ G m X σ' γ τ (iv_ (nxt_ m γ) m 5) → Gw_ (fun b k => b = τ ∧ k = 2) 5 36 σ σ' → Q (some o) σ') : CallA_ G 10 yX4_next cX4_next 3 (some (.object "WhalePost$Token")) [A_ (some τ)] σ Q := by
  refine call_go [some (A_ (some τ)), none, none] (by decide) (Nat.le_of_ble_eq_true rfl) rfl ?_
  refine g_lt (fun hlt0 hgz0 => ?_)
  have h30 := hT0.2.2.2.2.2.2.2.2.1.1
  have hk0 := hT0.2.2.2.2.2.1
  have J22 : ∀ (k : Int) (σ1 : JH), TS_ G m X σ1 γ τ k → Gw_ (fun b k => b = τ ∧ k = 2) 0 0 σ σ1 → skp_ isB2_ (lk_ m γ) (iv_ γ m 5) (iv_ γ m 3) = k → GoM_ G 10 yX4_next cX4_next 3 (some (.object "WhalePost$Token")) σ (fun v σ' => ∃ x : Option Nat, v = some (A_ x) ∧ Q x σ') 22 [some (A_ (some τ)), none, none] [] σ1 := by
    intro k σ1 hT hG hsk
    have h3 := hT.2.2.2.2.2.2.2.2.1.1
    have hk := hT.2.2.2.2.2.1
    have hlk := lk_in hT.2.2.2.2.2.2.2.2.1 (k := k) (by omega)
    refine g_al0 dX4_next_22 ?_
    refine f_getv 2 fk_X4_19 rfl hT.1 (fun _ _ => rfl) hT.2.2.2.2.1 dX4_next_23 ?_
    refine g_is1 dX4_next_26 (by decide) rfl ?_
    refine g_al0 dX4_next_27 ?_
    refine f_getv 2 fk_X4_19 rfl hT.1 (fun _ _ => rfl) hT.2.2.2.2.1 dX4_next_28 ?_
    refine g_al0 dX4_next_31 ?_
    refine f_getv 1 fk_X4_15 rfl hT.1 (fun _ _ => rfl) hT.2.2.2.1 dX4_next_32 ?_
    refine g_icmp_ne (tgt := 51) dX4_next_35 (by decide) (by omega) (fun h35 => ?_) (fun h35 => ?_)
    · refine g_al0 dX4_next_51 ?_
      refine g_callV0I (d' := 2) lk_X4_22 hT.1 rfl (rm_lt (by decide) (by decide)) (Nat.le_of_ble_eq_true rfl) dX4_next_52 ?_
      refine xt_look hT ?_
      refine g_bipush dX4_next_55 (by decide) (by decide) ?_
      refine g_bipush dX4_next_57 (by decide) (by decide) ?_
      refine g_callSN3I (d' := 2) lk_X4_33 (rm_lt (by decide) (by decide)) (Nat.le_of_ble_eq_true rfl) dX4_next_59 ?_
      refine xo_in (by omega) (by omega) (by omega) (fun x59 hx59 => ?_)
      refine g_if_eq (tgt := 151) dX4_next_62 (by decide) (by omega) (fun h62 => ?_) (fun h62 => ?_)
      · refine g_al0 dX4_next_151 ?_
        refine g_callV0I (d' := 2) lk_X4_22 hT.1 rfl (rm_lt (by decide) (by decide)) (Nat.le_of_ble_eq_true rfl) dX4_next_152 ?_
        refine xt_look hT ?_
        refine g_bipush dX4_next_155 (by decide) (by decide) ?_
        refine g_bipush dX4_next_157 (by decide) (by decide) ?_
        refine g_callSN3I (d' := 2) lk_X4_33 (rm_lt (by decide) (by decide)) (Nat.le_of_ble_eq_true rfl) dX4_next_159 ?_
        refine xo_in (by omega) (by omega) (by omega) (fun x159 hx159 => ?_)
        refine g_if_eq (tgt := 244) dX4_next_162 (by decide) (by omega) (fun h162 => ?_) (fun h162 => ?_)
        · refine g_al0 dX4_next_244 ?_
          refine g_callV0I (d' := 2) lk_X4_22 hT.1 rfl (rm_lt (by decide) (by decide)) (Nat.le_of_ble_eq_true rfl) dX4_next_245 ?_
          refine xt_look hT ?_
          refine g_is2 dX4_next_248 (by decide) rfl ?_
          refine g_al0 dX4_next_249 ?_
          refine g_dup dX4_next_250 rfl ?_
          refine f_getv 2 fk_X4_19 rfl hT.1 (fun _ _ => rfl) hT.2.2.2.2.1 dX4_next_251 ?_
          refine g_iconst dX4_next_254 ?_
          refine g_iadd dX4_next_255 ?_
          refine f_putI 2 fk_X4_19 rfl (nf_ rfl rfl) hT.1 hT.2.1 rfl dX4_next_256 ?_
          have hG := hG.pi (a := τ) (k := 2) (x := k + 1) (fun _ => ⟨rfl, rfl⟩)
          have hT := hT.st (b := k + 1) (by omega)
          generalize pi_ σ1 τ 2 (k + 1) = σ1 at hG hT ⊢
          refine g_lt (fun hlt1 hgz1 => ?_)
          refine g_new (ci := 6) nq_X4_26 ⟨_, rfl⟩ (by have := hG.2.2; omega) dX4_next_259 ?_
          refine g_lt (fun hltn hgzn => ?_)
          refine g_dup dX4_next_262 rfl ?_
          refine g_il2 dX4_next_263 ?_
          refine g_bipush dX4_next_264 (by decide) (by decide) ?_
          refine g_icmp_ne (tgt := 273) dX4_next_266 (by decide) (by omega) (fun h266 => ?_) (fun h266 => ?_)
          · refine g_iconst dX4_next_273 ?_
            refine g_il1 dX4_next_274 ?_
            refine g_il2 dX4_next_275 ?_
            refine g_ldcS (j := 47) rfl dX4_next_276 ?_
            refine g_callI4 (d' := 2) lk_X4_30 (rm_lt (by decide) (by decide)) (Nat.le_of_ble_eq_true rfl) dX4_next_278 ?_
            refine xt_tinit (by rw [sh_nw, if_pos rfl]) (by have := hG.2.2; omega) ?_
            exact g_aret rfl (Or.inl ⟨_, rfl⟩) dX4_next_281 ⟨_, rfl, by
                obtain ⟨v0, hS0, hk0, hv0⟩ := hL 47 _ rfl
                have hge := hT.2.1
                have hz := hG.2.2
                have gN : Gw_ (fun b k => b = τ ∧ k = 2) 1 4 σ (nw_ σ1 (.inl 6) 4) := hG.nw.mono (fun _ _ _ q => q) (by omega) (by omega)
                have hSn := hS0.gw gN hlt0 (fun k _ q => by have := q.1; omega) (fun k q => by have := q.1; omega)
                have hTn : TS_ G m X (nw_ σ1 (.inl 6) 4) γ τ _ := hT.gw (S := fun _ _ => False) Gw_.rf.nw hlt1 (fun _ q => q) (fun _ q => q)
                have nT : τ < sz_ σ1 := hlt1 _ _ hT.1
                have hTo := hTn.gw (σ' := pr_ (pi_ (pi_ (pi_ (nw_ σ1 (.inl 6) 4) (sz_ σ1) 0 0) (sz_ σ1) 1 k) (sz_ σ1) 2 (lk_ m γ k)) (sz_ σ1) 3 (some (gK_ G 47))) (S := fun b _ => b = sz_ σ1) ((((Gw_.rf.pi (fun _ => rfl)).pi (fun _ => rfl)).pi (fun _ => rfl)).pr (fun _ => rfl)) hltn (fun _ q => by omega) (fun _ q => by have := hT.2.2.2.2.2.2.2.2.2; omega)
                have hx := nxt_o hsk (by omega) (fun q => by have := of_decide_eq_true q; omega) (fun q => by have := of_decide_eq_true q; omega)
                refine hQ _ (sz_ σ1) 0 k (lk_ m γ k) (gK_ G 47) v0 0 _ (TK_.mk (by rw [sh_nw, if_pos rfl]) (by omega) hSn (Or.inr ⟨hk0, hv0⟩) (fun q => by omega) (by omega) (by decide)) ⟨hx.1.symm, Or.inr (Or.inl ⟨by rw [hx.2.2, if_neg (by omega)], rfl⟩)⟩ (by omega) (by rw [hx.2.1]; exact hTo) ((((((gN.pi (fun q => by omega)).pi (fun q => by omega)).pi (fun q => by omega)).pr (fun q => by omega))).mono (fun _ _ _ q => q) (by omega) (by omega))⟩
          refine g_iconst dX4_next_269 ?_
          refine g_goto (tgt := 274) dX4_next_270 (by decide) ?_
          refine g_il1 dX4_next_274 ?_
          refine g_il2 dX4_next_275 ?_
          refine g_ldcS (j := 47) rfl dX4_next_276 ?_
          refine g_callI4 (d' := 2) lk_X4_30 (rm_lt (by decide) (by decide)) (Nat.le_of_ble_eq_true rfl) dX4_next_278 ?_
          refine xt_tinit (by rw [sh_nw, if_pos rfl]) (by have := hG.2.2; omega) ?_
          exact g_aret rfl (Or.inl ⟨_, rfl⟩) dX4_next_281 ⟨_, rfl, by
              obtain ⟨v0, hS0, hk0, hv0⟩ := hL 47 _ rfl
              have hge := hT.2.1
              have hz := hG.2.2
              have gN : Gw_ (fun b k => b = τ ∧ k = 2) 1 4 σ (nw_ σ1 (.inl 6) 4) := hG.nw.mono (fun _ _ _ q => q) (by omega) (by omega)
              have hSn := hS0.gw gN hlt0 (fun k _ q => by have := q.1; omega) (fun k q => by have := q.1; omega)
              have hTn : TS_ G m X (nw_ σ1 (.inl 6) 4) γ τ _ := hT.gw (S := fun _ _ => False) Gw_.rf.nw hlt1 (fun _ q => q) (fun _ q => q)
              have nT : τ < sz_ σ1 := hlt1 _ _ hT.1
              have hTo := hTn.gw (σ' := pr_ (pi_ (pi_ (pi_ (nw_ σ1 (.inl 6) 4) (sz_ σ1) 0 4) (sz_ σ1) 1 k) (sz_ σ1) 2 (lk_ m γ k)) (sz_ σ1) 3 (some (gK_ G 47))) (S := fun b _ => b = sz_ σ1) ((((Gw_.rf.pi (fun _ => rfl)).pi (fun _ => rfl)).pi (fun _ => rfl)).pr (fun _ => rfl)) hltn (fun _ q => by omega) (fun _ q => by have := hT.2.2.2.2.2.2.2.2.2; omega)
              have hx := nxt_o hsk (by omega) (fun q => by have := of_decide_eq_true q; omega) (fun q => by have := of_decide_eq_true q; omega)
              refine hQ _ (sz_ σ1) 4 k (lk_ m γ k) (gK_ G 47) v0 0 _ (TK_.mk (by rw [sh_nw, if_pos rfl]) (by omega) hSn (Or.inr ⟨hk0, hv0⟩) (fun q => by omega) (by omega) (by decide)) ⟨hx.1.symm, Or.inr (Or.inr (Or.inr (Or.inr ⟨by rw [hx.2.2, if_pos (by omega)], rfl⟩)))⟩ (by omega) (by rw [hx.2.1]; exact hTo) ((((((gN.pi (fun q => by omega)).pi (fun q => by omega)).pi (fun q => by omega)).pr (fun q => by omega))).mono (fun _ _ _ q => q) (by omega) (by omega))⟩
        refine g_iconst dX4_next_165 ?_
        refine g_is2 dX4_next_166 (by decide) rfl ?_
        have hdg : 48 ≤ lk_ m γ k ∧ lk_ m γ k ≤ 57 := by omega
        have L167 : ∀ (fu : Nat) (σ3 : JH) (j : Int) (v : Int), iv_ γ m 3 - (k + j) < (fu : Int) → (TS_ G m X σ3 γ τ (k + j)) → (Gw_ (fun b k => b = τ ∧ k = 2) 0 0 σ σ3) → (0 ≤ j) → (k + j ≤ iv_ γ m 3) → (∀ i, k ≤ i → i < k + j → isD_ (lk_ m γ i) = true) → (v = dv_ (lk_ m γ) k (mn8_ j 4)) → GoM_ G 10 yX4_next cX4_next 3 (some (.object "WhalePost$Token")) σ (fun v σ' => ∃ x : Option Nat, v = some (A_ x) ∧ Q x σ') 167 [some (A_ (some τ)), some (I_ k), some (I_ (v))] [] σ3 := by
          intro fu
          induction fu with
          | zero => intro σ3 j v hn hT hG3 j0 j1 hal hv; exact absurd hn (by omega)
          | succ fu ih =>
            intro σ3 j v hn hT hG3 j0 j1 hal hv
            have hkj := hT.2.2.2.2.2.1
            have hlj := lk_in hT.2.2.2.2.2.2.2.2.1 (k := k + j) (by omega)
            have hm4 : mn8_ j 4 = if j < 4 then j else 4 := rfl
            have hvb := dv_in (L := lk_ m γ) (k := k) (n := mn8_ j 4) (by rw [hm4]; split <;> omega) (fun i i0 i1 => of_decide_eq_true (hal i i0 (by rw [hm4] at i1; split at i1 <;> omega)))
            rw [← hv] at hvb
            refine g_al0 dX4_next_167 ?_
            refine g_callV0I (d' := 2) lk_X4_22 hT.1 rfl (rm_lt (by decide) (by decide)) (Nat.le_of_ble_eq_true rfl) dX4_next_168 ?_
            refine xt_look hT ?_
            refine g_bipush dX4_next_171 (by decide) (by decide) ?_
            refine g_bipush dX4_next_173 (by decide) (by decide) ?_
            refine g_callSN3I (d' := 2) lk_X4_33 (rm_lt (by decide) (by decide)) (Nat.le_of_ble_eq_true rfl) dX4_next_175 ?_
            refine xo_in (by omega) (by omega) (by omega) (fun x175 hx175 => ?_)
            refine g_if_eq (tgt := 217) dX4_next_178 (by decide) (by omega) (fun h178 => ?_) (fun h178 => ?_)
            · have hk2 : skp_ isD_ (lk_ m γ) k (iv_ γ m 3) = k + j := skp_hit (by omega) (by omega) hal (decide_eq_false (fun q => by omega))
              refine g_lt (fun hlt3 hgz3 => ?_)
              have nT : τ < sz_ σ3 := hlt3 _ _ hT.1
              refine g_new (ci := 6) nq_X4_26 ⟨_, rfl⟩ (by have := hG3.2.2; omega) dX4_next_217 ?_
              refine g_lt (fun hltn hgzn => ?_)
              refine g_dup dX4_next_220 rfl ?_
              refine g_al0 dX4_next_221 ?_
              refine f_getv 2 fk_X4_19 rfl (show sh_ (nw_ σ3 (.inl 6) 4) τ = some (.inl 4) by rw [sh_nw, if_neg (by omega)]; exact hT.1) (fun _ _ => rfl) (show iv_ (nw_ σ3 (.inl 6) 4) τ 2 = k + j by rw [iv_nw, if_neg (by omega)]; exact hT.2.2.2.2.1) dX4_next_222 ?_
              refine g_il1 dX4_next_225 ?_
              refine g_isub dX4_next_226 ?_
              refine g_top (show k + j - k = j by omega) ?_
              refine g_iconst dX4_next_227 ?_
              refine g_icmp_le (tgt := 235) dX4_next_228 (by decide) (by omega) (fun h228 => ?_) (fun h228 => ?_)
              · refine g_iconst dX4_next_235 ?_
                refine g_il1 dX4_next_236 ?_
                refine g_il2 dX4_next_237 ?_
                refine g_ldcS (j := 47) rfl dX4_next_238 ?_
                refine g_callI4 (d' := 2) lk_X4_30 (rm_lt (by decide) (by decide)) (Nat.le_of_ble_eq_true rfl) dX4_next_240 ?_
                refine xt_tinit (by rw [sh_nw, if_pos rfl]) (by have := hG3.2.2; omega) ?_
                exact g_aret rfl (Or.inl ⟨_, rfl⟩) dX4_next_243 ⟨_, rfl, by
                    obtain ⟨v0, hS0, hk0, hv0⟩ := hL 47 _ rfl
                    have hge := hT.2.1
                    have hz := hG3.2.2
                    have gN : Gw_ (fun b k => b = τ ∧ k = 2) 1 4 σ (nw_ σ3 (.inl 6) 4) := hG3.nw.mono (fun _ _ _ q => q) (by omega) (by omega)
                    have hSn := hS0.gw gN hlt0 (fun k _ q => by have := q.1; omega) (fun k q => by have := q.1; omega)
                    have hTn : TS_ G m X (nw_ σ3 (.inl 6) 4) γ τ (k + j) := hT.gw (S := fun _ _ => False) Gw_.rf.nw hlt3 (fun _ q => q) (fun _ q => q)
                    have hbx := hT.2.2.2.2.2.2.2.2.2
                    have hTo := hTn.gw (σ' := pr_ (pi_ (pi_ (pi_ (nw_ σ3 (.inl 6) 4) (sz_ σ3) 0 3) (sz_ σ3) 1 k) (sz_ σ3) 2 v) (sz_ σ3) 3 (some (gK_ G 47))) (S := fun b _ => b = sz_ σ3) ((((Gw_.rf.pi (fun _ => rfl)).pi (fun _ => rfl)).pi (fun _ => rfl)).pr (fun _ => rfl)) hltn (fun _ q => by omega) (fun _ q => by omega)
                    have hx := nxt_d hsk (by omega) (fun q => by have := of_decide_eq_true q; omega) (decide_eq_true hdg) hk2
                    refine hQ _ (sz_ σ3) 3 k v (gK_ G 47) v0 0 _ (TK_.mk (by rw [sh_nw, if_pos rfl]) (by omega) hSn (Or.inr ⟨hk0, hv0⟩) (fun q => by omega) (by omega) (by decide)) ⟨hx.1.symm, Or.inr (Or.inr (Or.inr (Or.inl ⟨by rw [hx.2.2.1, if_neg (by omega)], rfl, by rw [hx.2.2.2, hv, show k + j - k = j by omega]⟩)))⟩ (by omega) (by rw [hx.2.1]; exact hTo) ((((((gN.pi (fun q => by omega)).pi (fun q => by omega)).pi (fun q => by omega)).pr (fun q => by omega))).mono (fun _ _ _ q => q) (by omega) (by omega))⟩
              refine g_iconst dX4_next_231 ?_
              refine g_goto (tgt := 236) dX4_next_232 (by decide) ?_
              refine g_il1 dX4_next_236 ?_
              refine g_il2 dX4_next_237 ?_
              refine g_ldcS (j := 47) rfl dX4_next_238 ?_
              refine g_callI4 (d' := 2) lk_X4_30 (rm_lt (by decide) (by decide)) (Nat.le_of_ble_eq_true rfl) dX4_next_240 ?_
              refine xt_tinit (by rw [sh_nw, if_pos rfl]) (by have := hG3.2.2; omega) ?_
              exact g_aret rfl (Or.inl ⟨_, rfl⟩) dX4_next_243 ⟨_, rfl, by
                  obtain ⟨v0, hS0, hk0, hv0⟩ := hL 47 _ rfl
                  have hge := hT.2.1
                  have hz := hG3.2.2
                  have gN : Gw_ (fun b k => b = τ ∧ k = 2) 1 4 σ (nw_ σ3 (.inl 6) 4) := hG3.nw.mono (fun _ _ _ q => q) (by omega) (by omega)
                  have hSn := hS0.gw gN hlt0 (fun k _ q => by have := q.1; omega) (fun k q => by have := q.1; omega)
                  have hTn : TS_ G m X (nw_ σ3 (.inl 6) 4) γ τ (k + j) := hT.gw (S := fun _ _ => False) Gw_.rf.nw hlt3 (fun _ q => q) (fun _ q => q)
                  have hbx := hT.2.2.2.2.2.2.2.2.2
                  have hTo := hTn.gw (σ' := pr_ (pi_ (pi_ (pi_ (nw_ σ3 (.inl 6) 4) (sz_ σ3) 0 0) (sz_ σ3) 1 k) (sz_ σ3) 2 v) (sz_ σ3) 3 (some (gK_ G 47))) (S := fun b _ => b = sz_ σ3) ((((Gw_.rf.pi (fun _ => rfl)).pi (fun _ => rfl)).pi (fun _ => rfl)).pr (fun _ => rfl)) hltn (fun _ q => by omega) (fun _ q => by omega)
                  have hx := nxt_d hsk (by omega) (fun q => by have := of_decide_eq_true q; omega) (decide_eq_true hdg) hk2
                  refine hQ _ (sz_ σ3) 0 k v (gK_ G 47) v0 0 _ (TK_.mk (by rw [sh_nw, if_pos rfl]) (by omega) hSn (Or.inr ⟨hk0, hv0⟩) (fun q => by omega) (by omega) (by decide)) ⟨hx.1.symm, Or.inr (Or.inl ⟨by rw [hx.2.2.1, if_pos (by omega)], rfl⟩)⟩ (by omega) (by rw [hx.2.1]; exact hTo) ((((((gN.pi (fun q => by omega)).pi (fun q => by omega)).pi (fun q => by omega)).pr (fun q => by omega))).mono (fun _ _ _ q => q) (by omega) (by omega))⟩
            refine g_al0 dX4_next_181 ?_
            refine f_getv 2 fk_X4_19 rfl hT.1 (fun _ _ => rfl) hT.2.2.2.2.1 dX4_next_182 ?_
            refine g_il1 dX4_next_185 ?_
            refine g_isub dX4_next_186 ?_
            refine g_top (show k + j - k = j by omega) ?_
            refine g_iconst dX4_next_187 ?_
            refine g_icmp_ge (tgt := 204) dX4_next_188 (by decide) (by omega) (fun h188 => ?_) (fun h188 => ?_)
            · refine g_al0 dX4_next_204 ?_
              refine g_dup dX4_next_205 rfl ?_
              refine f_getv 2 fk_X4_19 rfl hT.1 (fun _ _ => rfl) hT.2.2.2.2.1 dX4_next_206 ?_
              refine g_iconst dX4_next_209 ?_
              refine g_iadd dX4_next_210 ?_
              refine f_putI 2 fk_X4_19 rfl (nf_ rfl rfl) hT.1 hT.2.1 rfl dX4_next_211 ?_
              refine g_goto (tgt := 167) dX4_next_214 (by decide) ?_
              have hT := hT.st (b := k + (j + 1)) (by omega)
              rw [show k + j + 1 = k + (j + 1) by omega]
              refine ih _ (j + 1) _ (by omega) hT (hG3.pi (fun _ => ⟨rfl, rfl⟩)) (by omega) (by omega) (fun i i0 i1 => ?_) ?_
              · by_cases hi : i = k + j
                · rw [hi]; exact decide_eq_true (by omega)
                · exact hal i i0 (by omega)
              · rw [hv, show mn8_ (j + 1) 4 = mn8_ j 4 by (unfold mn8_; (repeat' split) <;> omega)]
            refine g_bipush dX4_next_191 (by decide) (by decide) ?_
            refine g_il2 dX4_next_193 ?_
            refine g_imul dX4_next_194 ?_
            refine g_al0 dX4_next_195 ?_
            refine g_callV0I (d' := 2) lk_X4_22 hT.1 rfl (rm_lt (by decide) (by decide)) (Nat.le_of_ble_eq_true rfl) dX4_next_196 ?_
            refine xt_look hT ?_
            refine g_iadd dX4_next_199 ?_
            refine g_bipush dX4_next_200 (by decide) (by decide) ?_
            refine g_isub dX4_next_202 ?_
            refine g_is2 dX4_next_203 (by decide) rfl ?_
            refine g_al0 dX4_next_204 ?_
            refine g_dup dX4_next_205 rfl ?_
            refine f_getv 2 fk_X4_19 rfl hT.1 (fun _ _ => rfl) hT.2.2.2.2.1 dX4_next_206 ?_
            refine g_iconst dX4_next_209 ?_
            refine g_iadd dX4_next_210 ?_
            refine f_putI 2 fk_X4_19 rfl (nf_ rfl rfl) hT.1 hT.2.1 rfl dX4_next_211 ?_
            refine g_goto (tgt := 167) dX4_next_214 (by decide) ?_
            have hT := hT.st (b := k + (j + 1)) (by omega)
            rw [show k + j + 1 = k + (j + 1) by omega]
            refine ih _ (j + 1) _ (by omega) hT (hG3.pi (fun _ => ⟨rfl, rfl⟩)) (by omega) (by omega) (fun i i0 i1 => ?_) ?_
            · by_cases hi : i = k + j
              · rw [hi]; exact decide_eq_true (by omega)
              · exact hal i i0 (by omega)
            · rw [hv, show mn8_ j 4 = j by (unfold mn8_; rw [if_pos (by omega)]), show mn8_ (j + 1) 4 = j + 1 by (unfold mn8_; split <;> omega)]
              unfold dv_
              rw [iI_s _ _ j0]
        exact L167 ((iv_ γ m 3 - k).toNat + 1) σ1 0 0 (by omega) (by rw [Int.add_zero]; exact hT) hG (by omega) (by omega) (fun i i0 i1 => by omega) (by unfold mn8_ dv_; rw [if_pos (by decide), iI_0])
      refine g_lt (fun hlt1 hgz1 => ?_)
      refine g_new (ci := 7) nq_X4_37 ⟨_, rfl⟩ (by have := hG.2.2; omega) dX4_next_65 ?_
      refine g_lt (fun hltb hgzb => ?_)
      refine g_dup dX4_next_68 rfl ?_
      refine g_callI0 (d' := 5) lk_X4_39 (rm_lt (by decide) (by decide)) (Nat.le_of_ble_eq_true rfl) dX4_next_69 ?_
      refine js_sbinit hltb (by rw [sh_nw, if_pos rfl]) hgz1 (by rw [sz_nw, us_nw]; have := hG.2.2; omega) ?_
      refine g_as2 dX4_next_72 (by decide) rfl ?_
      have hz := hG.2.2
      have nT : τ < sz_ σ1 := hlt1 _ _ hT.1
      have hbx := hT.2.2.2.2.2.2.2.2.2
      have g2 : Gw_ (fun b k => b = τ ∧ k = 2) 2 20 σ (pi_ (pr_ (nw_ (nw_ σ1 (.inl 7) 4) (.inr (1, 16)) 16) (sz_ σ1) 0 (some (sz_ (nw_ σ1 (.inl 7) 4)))) (sz_ σ1) 1 0) := ((((hG.nw (s := .inl 7) (n := 4)).nw (s := .inr (1, 16)) (n := 16)).pr (a := sz_ σ1) (k := 0) (fun q => by omega)).pi (a := sz_ σ1) (k := 1) (x := 0) (fun q => by omega)).mono (fun _ _ _ q => q) (by omega) (by omega)
      have gl : Gw_ (fun _ _ => False) 2 20 σ1 (pi_ (pr_ (nw_ (nw_ σ1 (.inl 7) 4) (.inr (1, 16)) 16) (sz_ σ1) 0 (some (sz_ (nw_ σ1 (.inl 7) 4)))) (sz_ σ1) 1 0) := ((((Gw_.rf (σ := σ1)).nw (s := .inl 7) (n := 4)).nw (s := .inr (1, 16)) (n := 16)).pr (a := sz_ σ1) (k := 0) (fun q => by omega)).pi (a := sz_ σ1) (k := 1) (x := 0) (fun q => by omega) |>.mono (fun _ _ _ q => q) (by omega) (by omega)
      have hB0 : SB_ G (pi_ (pr_ (nw_ (nw_ σ1 (.inl 7) 4) (.inr (1, 16)) 16) (sz_ σ1) 0 (some (sz_ (nw_ σ1 (.inl 7) 4)))) (sz_ σ1) 1 0) (sz_ σ1) (sz_ σ1 + 1) 0 (fun j => lk_ m γ (k + j)) := by
        refine ⟨?_, hgz1, ?_, ?_, by omega, ?_, ?_, by omega, fun j j0 j1 => by omega⟩
        · rw [sh_pi, sh_pr, sh_nw, if_neg (by rw [sz_nw]; omega), sh_nw, if_pos rfl]
        · rw [rv_pi, rv_pr, if_pos ⟨rfl, rfl⟩]; rfl
        · rw [sh_pi, sh_pr, sh_nw, if_pos (by rw [sz_nw])]
        · rw [iv_pi, if_pos ⟨rfl, rfl⟩]
        · rw [iv_pi, if_neg (by omega), iv_pr, iv_nw, if_neg (by rw [sz_nw]; omega), iv_nw, if_pos rfl]
      have hT2 := hT.gw gl hlt1 (fun _ q => q) (fun _ q => q)
      have hz2 : sz_ (pi_ (pr_ (nw_ (nw_ σ1 (.inl 7) 4) (.inr (1, 16)) 16) (sz_ σ1) 0 (some (sz_ (nw_ σ1 (.inl 7) 4)))) (sz_ σ1) 1 0) = sz_ σ1 + 2 := rfl
      have hsl : 97 ≤ lk_ m γ k ∧ lk_ m γ k ≤ 122 := by omega
      generalize (pi_ (pr_ (nw_ (nw_ σ1 (.inl 7) 4) (.inr (1, 16)) 16) (sz_ σ1) 0 (some (sz_ (nw_ σ1 (.inl 7) 4)))) (sz_ σ1) 1 0) = σ2 at g2 hB0 hT2 hz2 ⊢
      have hbs : sz_ σ ≤ sz_ σ1 := by omega
      generalize sz_ σ1 = b at hB0 hz2 nT hbs ⊢
      have L73 : ∀ (fu : Nat) (σ3 : JH) (j : Int), iv_ γ m 3 - (k + j) < (fu : Int) → (TS_ G m X σ3 γ τ (k + j)) → (Gw_ (fun b k => b = τ ∧ k = 2) 2 20 σ σ3) → (SB_ G σ3 b (b + 1) (if j < 8 then j else 8) (fun j => lk_ m γ (k + j))) → (0 ≤ j) → (k + j ≤ iv_ γ m 3) → (∀ i, k ≤ i → i < k + j → isS_ (lk_ m γ i) = true) → (sz_ σ3 = b + 2) → GoM_ G 10 yX4_next cX4_next 3 (some (.object "WhalePost$Token")) σ (fun v σ' => ∃ x : Option Nat, v = some (A_ x) ∧ Q x σ') 73 [some (A_ (some τ)), some (I_ k), some (A_ (some b))] [] σ3 := by
        intro fu
        induction fu with
        | zero => intro σ3 j hn hT hG3 hB j0 j1 hal hzz; exact absurd hn (by omega)
        | succ fu ih =>
          intro σ3 j hn hT hG3 hB j0 j1 hal hzz
          refine g_lt (fun hlt3 hgz3 => ?_)
          have hkj := hT.2.2.2.2.2.1
          have hlj := lk_in hT.2.2.2.2.2.2.2.2.1 (k := k + j) (by omega)
          have J108 : ∀ σ4, TS_ G m X σ4 γ τ (k + j) → Gw_ (fun b k => b = τ ∧ k = 2) 2 20 σ σ4 → SB_ G σ4 b (b + 1) (if j + 1 < 8 then j + 1 else 8) (fun j => lk_ m γ (k + j)) → sz_ σ4 = b + 2 → (97 ≤ lk_ m γ (k + j) ∧ lk_ m γ (k + j) ≤ 122) → GoM_ G 10 yX4_next cX4_next 3 (some (.object "WhalePost$Token")) σ (fun v σ' => ∃ x : Option Nat, v = some (A_ x) ∧ Q x σ') 108 [some (A_ (some τ)), some (I_ k), some (A_ (some b))] [] σ4 := by
            intro σ4 hT hG3 hB hzz hcs
            refine g_al0 dX4_next_108 ?_
            refine g_dup dX4_next_109 rfl ?_
            refine f_getv 2 fk_X4_19 rfl hT.1 (fun _ _ => rfl) hT.2.2.2.2.1 dX4_next_110 ?_
            refine g_iconst dX4_next_113 ?_
            refine g_iadd dX4_next_114 ?_
            refine f_putI 2 fk_X4_19 rfl (nf_ rfl rfl) hT.1 hT.2.1 rfl dX4_next_115 ?_
            refine g_goto (tgt := 73) dX4_next_118 (by decide) ?_
            have hT := hT.st (b := k + (j + 1)) (by omega)
            rw [show k + j + 1 = k + (j + 1) by omega]
            refine ih _ (j + 1) (by omega) hT (hG3.pi (fun _ => ⟨rfl, rfl⟩)) ?_ (by omega) (by omega) (fun i i0 i1 => ?_) hzz
            · obtain ⟨q1, q2, q3, q4, q5, q6, q7, q8, q9⟩ := hB
              refine ⟨q1, q2, q3, q4, q5, by rw [iv_pi, if_neg (by omega)]; exact q6, by rw [iv_pi, if_neg (by omega)]; exact q7, q8, fun i i0 i1 => by rw [iv_pi, if_neg (by omega)]; exact q9 i i0 i1⟩
            · by_cases hi : i = k + j
              · rw [hi]; exact decide_eq_true hcs
              · exact hal i i0 (by omega)
          refine g_al0 dX4_next_73 ?_
          refine g_callV0I (d' := 2) lk_X4_22 hT.1 rfl (rm_lt (by decide) (by decide)) (Nat.le_of_ble_eq_true rfl) dX4_next_74 ?_
          refine xt_look hT ?_
          refine g_bipush dX4_next_77 (by decide) (by decide) ?_
          refine g_bipush dX4_next_79 (by decide) (by decide) ?_
          refine g_callSN3I (d' := 2) lk_X4_33 (rm_lt (by decide) (by decide)) (Nat.le_of_ble_eq_true rfl) dX4_next_81 ?_
          refine xo_in (by omega) (by omega) (by omega) (fun x81 hx81 => ?_)
          refine g_if_eq (tgt := 121) dX4_next_84 (by decide) (by omega) (fun h84 => ?_) (fun h84 => ?_)
          · have hk2 : skp_ isS_ (lk_ m γ) k (iv_ γ m 3) = k + j := skp_hit (by omega) (by omega) hal (decide_eq_false (fun q => by omega))
            refine g_lt (fun hlt3 hgz3 => ?_)
            refine g_new (ci := 6) nq_X4_26 ⟨_, rfl⟩ (by have := hG3.2.2; omega) dX4_next_121 ?_
            refine g_lt (fun hltn hgzn => ?_)
            refine g_dup dX4_next_124 rfl ?_
            refine g_al0 dX4_next_125 ?_
            refine f_getv 2 fk_X4_19 rfl (show sh_ (nw_ σ3 (.inl 6) 4) τ = some (.inl 4) by rw [sh_nw, if_neg (by omega)]; exact hT.1) (fun _ _ => rfl) (show iv_ (nw_ σ3 (.inl 6) 4) τ 2 = k + j by rw [iv_nw, if_neg (by omega)]; exact hT.2.2.2.2.1) dX4_next_126 ?_
            refine g_il1 dX4_next_129 ?_
            refine g_isub dX4_next_130 ?_
            refine g_top (show k + j - k = j by omega) ?_
            refine g_bipush dX4_next_131 (by decide) (by decide) ?_
            refine g_icmp_le (tgt := 140) dX4_next_133 (by decide) (by omega) (fun h133 => ?_) (fun h133 => ?_)
            · refine g_iconst dX4_next_140 ?_
              refine g_il1 dX4_next_141 ?_
              refine g_iconst dX4_next_142 ?_
              refine g_al2 dX4_next_143 ?_
              refine g_callV0A (d' := 9) lk_X4_44 (show sh_ (nw_ σ3 (.inl 6) 4) b = some (.inl 7) by rw [sh_nw, if_neg (by omega)]; exact hB.1) rfl (rm_lt (by decide) (by decide)) (Nat.le_of_ble_eq_true rfl) dX4_next_144 ?_
              obtain ⟨nn, hnn⟩ : ∃ nn : Nat, (nn : Int) = if j < 8 then j else 8 := ⟨(if j < 8 then j else 8).toNat, by split <;> omega⟩
              have hnb : (nn : Int) = j ∧ j < 8 ∨ (nn : Int) = 8 ∧ 8 ≤ j := by rw [hnn]; split <;> omega
              have hB6 : SB_ G (nw_ σ3 (.inl 6) 4) b (b + 1) (nn : Int) (fun j => lk_ m γ (k + j)) := by
                rw [hnn]
                obtain ⟨q1, q2, q3, q4, q5, q6, q7, q8, q9⟩ := hB
                refine ⟨by rw [sh_nw, if_neg (by omega)]; exact q1, q2, by rw [rv_nw, if_neg (by omega)]; exact q3, by rw [sh_nw, if_neg (by omega)]; exact q4, q5, by rw [iv_nw, if_neg (by omega)]; exact q6, by rw [iv_nw, if_neg (by omega)]; exact q7, q8, fun i i0 i1 => by rw [iv_nw, if_neg (by omega)]; exact q9 i i0 i1⟩
              have g6 : Gw_ (fun b k => b = τ ∧ k = 2) 3 24 σ (nw_ σ3 (.inl 6) 4) := hG3.nw
              have hT6 := hT.gw (S := fun _ _ => False) (Gw_.rf.nw (s := .inl 6) (n := 4)) hlt3 (fun _ q => q) (fun _ q => q)
              have hz6 : sz_ (nw_ σ3 (.inl 6) 4) = b + 3 := by rw [sz_nw, hzz]
              refine js_toString hltn (by omega) hB6 (by have := g6.2.2; omega) (fun σ7 hS7 hH7 hg7 => ?_)
              have g7 := g6.tr (hg7.mono (S' := (fun b k => b = τ ∧ k = 2)) (fun _ _ _ q => q.elim) (Nat.le_refl _) (Nat.le_refl _))
              have hT7 := hT6.gw hg7 hltn (fun _ q => q) (fun _ q => q)
              have hs7 : sh_ σ7 (b + 2) = some (.inl 6) := by rw [hg7.1 _ (by omega), sh_nw, if_pos hzz.symm]
              rw [hz6] at hS7 hH7 ⊢
              refine g_lt (fun hlt7 hgz7 => ?_)
              rw [hzz]
              refine g_callI4 (d' := 2) lk_X4_30 (rm_lt (by decide) (by decide)) (Nat.le_of_ble_eq_true rfl) dX4_next_147 ?_
              refine xt_tinit hs7 (by omega) ?_
              exact g_aret rfl (Or.inl ⟨_, rfl⟩) dX4_next_150 ⟨_, rfl, by
                  have hx := nxt_w hsk (by omega) (decide_eq_true hsl) hk2
                  have hTo := hT7.gw (σ' := pr_ (pi_ (pi_ (pi_ σ7 (b + 2) 0 2) (b + 2) 1 k) (b + 2) 2 0) (b + 2) 3 (some (b + 3))) (S := fun c _ => c = b + 2) ((((Gw_.rf.pi (fun _ => rfl)).pi (fun _ => rfl)).pi (fun _ => rfl)).pr (fun _ => rfl)) hlt7 (fun _ q => by omega) (fun _ q => by omega)
                  have hj1 : 1 ≤ j := Classical.byContradiction fun q => by
                    have e : j = 0 := by omega
                    subst e
                    rw [Int.add_zero] at hlj
                    have := hsl
                    rw [Int.add_zero] at hx81
                    omega
                  refine hQ _ (b + 2) 2 k 0 (b + 3) (b + 4) nn _ (TK_.mk hs7 (by omega) hS7 (Or.inl ⟨by omega, by omega⟩) (fun q => ⟨by omega, by omega, hH7⟩) (by omega) (by omega)) ⟨hx.1.symm, Or.inr (Or.inr (Or.inl ⟨by rw [hx.2.2.1, if_neg (by omega)], rfl, by rw [hx.2.2.2.1]; omega, fun i i0 i1 => (hx.2.2.2.2 i i0 (by unfold mn8_; split <;> omega)).symm⟩))⟩ (by omega) (by rw [hx.2.1]; exact hTo) ((((((g7.pi (fun q => by omega)).pi (fun q => by omega)).pi (fun q => by omega)).pr (fun q => by omega))).mono (fun _ _ _ q => q) (by omega) (by omega))⟩
            refine g_iconst dX4_next_136 ?_
            refine g_goto (tgt := 141) dX4_next_137 (by decide) ?_
            refine g_il1 dX4_next_141 ?_
            refine g_iconst dX4_next_142 ?_
            refine g_al2 dX4_next_143 ?_
            refine g_callV0A (d' := 9) lk_X4_44 (show sh_ (nw_ σ3 (.inl 6) 4) b = some (.inl 7) by rw [sh_nw, if_neg (by omega)]; exact hB.1) rfl (rm_lt (by decide) (by decide)) (Nat.le_of_ble_eq_true rfl) dX4_next_144 ?_
            obtain ⟨nn, hnn⟩ : ∃ nn : Nat, (nn : Int) = if j < 8 then j else 8 := ⟨(if j < 8 then j else 8).toNat, by split <;> omega⟩
            have hnb : (nn : Int) = j ∧ j < 8 ∨ (nn : Int) = 8 ∧ 8 ≤ j := by rw [hnn]; split <;> omega
            have hB6 : SB_ G (nw_ σ3 (.inl 6) 4) b (b + 1) (nn : Int) (fun j => lk_ m γ (k + j)) := by
              rw [hnn]
              obtain ⟨q1, q2, q3, q4, q5, q6, q7, q8, q9⟩ := hB
              refine ⟨by rw [sh_nw, if_neg (by omega)]; exact q1, q2, by rw [rv_nw, if_neg (by omega)]; exact q3, by rw [sh_nw, if_neg (by omega)]; exact q4, q5, by rw [iv_nw, if_neg (by omega)]; exact q6, by rw [iv_nw, if_neg (by omega)]; exact q7, q8, fun i i0 i1 => by rw [iv_nw, if_neg (by omega)]; exact q9 i i0 i1⟩
            have g6 : Gw_ (fun b k => b = τ ∧ k = 2) 3 24 σ (nw_ σ3 (.inl 6) 4) := hG3.nw
            have hT6 := hT.gw (S := fun _ _ => False) (Gw_.rf.nw (s := .inl 6) (n := 4)) hlt3 (fun _ q => q) (fun _ q => q)
            have hz6 : sz_ (nw_ σ3 (.inl 6) 4) = b + 3 := by rw [sz_nw, hzz]
            refine js_toString hltn (by omega) hB6 (by have := g6.2.2; omega) (fun σ7 hS7 hH7 hg7 => ?_)
            have g7 := g6.tr (hg7.mono (S' := (fun b k => b = τ ∧ k = 2)) (fun _ _ _ q => q.elim) (Nat.le_refl _) (Nat.le_refl _))
            have hT7 := hT6.gw hg7 hltn (fun _ q => q) (fun _ q => q)
            have hs7 : sh_ σ7 (b + 2) = some (.inl 6) := by rw [hg7.1 _ (by omega), sh_nw, if_pos hzz.symm]
            rw [hz6] at hS7 hH7 ⊢
            refine g_lt (fun hlt7 hgz7 => ?_)
            rw [hzz]
            refine g_callI4 (d' := 2) lk_X4_30 (rm_lt (by decide) (by decide)) (Nat.le_of_ble_eq_true rfl) dX4_next_147 ?_
            refine xt_tinit hs7 (by omega) ?_
            exact g_aret rfl (Or.inl ⟨_, rfl⟩) dX4_next_150 ⟨_, rfl, by
                have hx := nxt_w hsk (by omega) (decide_eq_true hsl) hk2
                have hTo := hT7.gw (σ' := pr_ (pi_ (pi_ (pi_ σ7 (b + 2) 0 0) (b + 2) 1 k) (b + 2) 2 0) (b + 2) 3 (some (b + 3))) (S := fun c _ => c = b + 2) ((((Gw_.rf.pi (fun _ => rfl)).pi (fun _ => rfl)).pi (fun _ => rfl)).pr (fun _ => rfl)) hlt7 (fun _ q => by omega) (fun _ q => by omega)
                have hj1 : 1 ≤ j := Classical.byContradiction fun q => by
                  have e : j = 0 := by omega
                  subst e
                  rw [Int.add_zero] at hlj
                  have := hsl
                  rw [Int.add_zero] at hx81
                  omega
                refine hQ _ (b + 2) 0 k 0 (b + 3) (b + 4) nn _ (TK_.mk hs7 (by omega) hS7 (Or.inl ⟨by omega, by omega⟩) (fun q => ⟨by omega, by omega, hH7⟩) (by omega) (by omega)) ⟨hx.1.symm, Or.inr (Or.inl ⟨by rw [hx.2.2.1, if_pos (by omega)], rfl⟩)⟩ (by omega) (by rw [hx.2.1]; exact hTo) ((((((g7.pi (fun q => by omega)).pi (fun q => by omega)).pi (fun q => by omega)).pr (fun q => by omega))).mono (fun _ _ _ q => q) (by omega) (by omega))⟩
          refine g_al0 dX4_next_87 ?_
          refine f_getv 2 fk_X4_19 rfl hT.1 (fun _ _ => rfl) hT.2.2.2.2.1 dX4_next_88 ?_
          refine g_il1 dX4_next_91 ?_
          refine g_isub dX4_next_92 ?_
          refine g_top (show k + j - k = j by omega) ?_
          refine g_bipush dX4_next_93 (by decide) (by decide) ?_
          refine g_icmp_ge (tgt := 108) dX4_next_95 (by decide) (by omega) (fun h95 => ?_) (fun h95 => ?_)
          · rw [show (if j < 8 then j else 8) = (if j + 1 < 8 then j + 1 else 8) by (rw [if_neg (by omega), if_neg (by omega)])] at hB
            exact J108 σ3 hT hG3 hB hzz (by omega)
          refine g_al2 dX4_next_98 ?_
          refine g_al0 dX4_next_99 ?_
          refine g_callV0I (d' := 2) lk_X4_22 hT.1 rfl (rm_lt (by decide) (by decide)) (Nat.le_of_ble_eq_true rfl) dX4_next_100 ?_
          refine xt_look hT ?_
          refine g_i2c dX4_next_103 ?_
          refine g_top (i2cs_ (by omega)) ?_
          refine g_callV1A (d' := 9) lk_X4_40 hB.1 rfl (rm_lt (by decide) (by decide)) (Nat.le_of_ble_eq_true rfl) dX4_next_104 ?_
          rw [if_pos (show j < 8 by omega)] at hB
          refine js_append hB (by omega) (by omega) ?_
          refine g_pop dX4_next_107 rfl ?_
          have hkj2 : k + j < iv_ γ m 3 := by omega
          have hBb : SB_ G (pi_ (pi_ σ3 b 3 (j + 1)) (b + 1) j (lk_ m γ (k + j))) b (b + 1) (j + 1) (fun j => lk_ m γ (k + j)) := by
            obtain ⟨q1, q2, q3, q4, q5, q6, q7, q8, q9⟩ := hB
            refine ⟨q1, q2, q3, q4, q5, ?_, ?_, by omega, fun i i0 i1 => ?_⟩
            · rw [iv_pi, if_neg (by omega), iv_pi, if_neg (by omega)]; exact q6
            · rw [iv_pi, if_neg (by omega), iv_pi, if_pos ⟨rfl, rfl⟩]
            · by_cases hij : i = j
              · subst hij
                show _ = lk_ m γ (k + i) ∧ 0 ≤ lk_ m γ (k + i) ∧ lk_ m γ (k + i) ≤ 127
                exact ⟨by rw [iv_pi, if_pos ⟨rfl, rfl⟩], by omega, by omega⟩
              · rw [iv_pi, if_neg (by omega), iv_pi, if_neg (by omega)]; exact q9 i i0 (by omega)
          have hTb : TS_ G m X (pi_ (pi_ σ3 b 3 (j + 1)) (b + 1) j (lk_ m γ (k + j))) γ τ (k + j) := hT.gw (S := fun c _ => c = b ∨ c = b + 1) (((Gw_.rf (σ := σ3)).pi (fun _ => Or.inl rfl)).pi (fun _ => Or.inr rfl)) hlt3 (fun _ q => by omega) (fun _ q => by omega)
          exact J108 _ hTb ((hG3.pi (fun q => by omega)).pi (fun q => by omega)) (by rw [show (if j + 1 < 8 then j + 1 else 8) = j + 1 by (split <;> omega)]; exact hBb) hzz (by omega)
      exact L73 ((iv_ γ m 3 - k).toNat + 1) σ2 0 (by omega) (by rw [Int.add_zero]; exact hT2) g2 hB0 (by omega) (by omega) (fun i i0 i1 => by omega) hz2
    refine g_lt (fun hlt1 hgz1 => ?_)
    refine g_new (ci := 6) nq_X4_26 ⟨_, rfl⟩ (by have := hG.2.2; omega) dX4_next_38 ?_
    refine g_lt (fun hltn hgzn => ?_)
    refine g_dup dX4_next_41 rfl ?_
    refine g_iconst dX4_next_42 ?_
    refine g_il1 dX4_next_43 ?_
    refine g_iconst dX4_next_44 ?_
    refine g_ldcS (j := 47) rfl dX4_next_45 ?_
    refine g_callI4 (d' := 2) lk_X4_30 (rm_lt (by decide) (by decide)) (Nat.le_of_ble_eq_true rfl) dX4_next_47 ?_
    refine xt_tinit (by rw [sh_nw, if_pos rfl]) (by have := hG.2.2; omega) ?_
    exact g_aret rfl (Or.inl ⟨_, rfl⟩) dX4_next_50 ⟨_, rfl, by
        obtain ⟨v0, hS0, hk0, hv0⟩ := hL 47 _ rfl
        have hge := hT.2.1
        have hz := hG.2.2
        have gN : Gw_ (fun b k => b = τ ∧ k = 2) 1 4 σ (nw_ σ1 (.inl 6) 4) := hG.nw.mono (fun _ _ _ q => q) (by omega) (by omega)
        have hSn := hS0.gw gN hlt0 (fun k _ q => by have := q.1; omega) (fun k q => by have := q.1; omega)
        have hTn : TS_ G m X (nw_ σ1 (.inl 6) 4) γ τ _ := hT.gw (S := fun _ _ => False) Gw_.rf.nw hlt1 (fun _ q => q) (fun _ q => q)
        have nT : τ < sz_ σ1 := hlt1 _ _ hT.1
        have hTo := hTn.gw (σ' := pr_ (pi_ (pi_ (pi_ (nw_ σ1 (.inl 6) 4) (sz_ σ1) 0 1) (sz_ σ1) 1 k) (sz_ σ1) 2 0) (sz_ σ1) 3 (some (gK_ G 47))) (S := fun b _ => b = sz_ σ1) ((((Gw_.rf.pi (fun _ => rfl)).pi (fun _ => rfl)).pi (fun _ => rfl)).pr (fun _ => rfl)) hltn (fun _ q => by omega) (fun _ q => by have := hT.2.2.2.2.2.2.2.2.2; omega)
        have hx := nxt_e hsk (by omega)
        refine hQ _ (sz_ σ1) 1 k 0 (gK_ G 47) v0 0 _ (TK_.mk (by rw [sh_nw, if_pos rfl]) (by omega) hSn (Or.inr ⟨hk0, hv0⟩) (fun q => by omega) (by omega) (by decide)) ⟨hx.1.symm, Or.inl ⟨hx.2.2, rfl⟩⟩ (by omega) (by rw [hx.2.1]; exact hTo) ((((((gN.pi (fun q => by omega)).pi (fun q => by omega)).pi (fun q => by omega)).pr (fun q => by omega))).mono (fun _ _ _ q => q) (by omega) (by omega))⟩
  have L0 : ∀ (fu : Nat) (σ1 : JH) (k : Int), iv_ γ m 3 - k < (fu : Int) → (TS_ G m X σ1 γ τ k) → (Gw_ (fun b k => b = τ ∧ k = 2) 0 0 σ σ1) → (iv_ γ m 5 ≤ k) → (k ≤ iv_ γ m 3) → (∀ i, iv_ γ m 5 ≤ i → i < k → isB2_ (lk_ m γ i) = true) → GoM_ G 10 yX4_next cX4_next 3 (some (.object "WhalePost$Token")) σ (fun v σ' => ∃ x : Option Nat, v = some (A_ x) ∧ Q x σ') 0 [some (A_ (some τ)), none, none] [] σ1 := by
    intro fu
    induction fu with
    | zero => intro σ1 k hn hT hG k0 k1 hal; exact absurd hn (by omega)
    | succ fu ih =>
      intro σ1 k hn hT hG k0 k1 hal
      have h3 := hT.2.2.2.2.2.2.2.2.1.1
      have hk := hT.2.2.2.2.2.1
      have hlk := lk_in hT.2.2.2.2.2.2.2.2.1 (k := k) (by omega)
      refine g_al0 dX4_next_0 ?_
      refine g_callV0I (d' := 2) lk_X4_22 hT.1 rfl (rm_lt (by decide) (by decide)) (Nat.le_of_ble_eq_true rfl) dX4_next_1 ?_
      refine xt_look hT ?_
      refine g_bipush dX4_next_4 (by decide) (by decide) ?_
      refine g_icmp_ne (tgt := 22) dX4_next_6 (by decide) (by omega) (fun h6 => ?_) (fun h6 => ?_)
      · exact J22 k σ1 hT hG (skp_hit (by omega) (by omega) hal (decide_eq_false (fun q => by omega)))
      refine g_al0 dX4_next_9 ?_
      refine g_dup dX4_next_10 rfl ?_
      refine f_getv 2 fk_X4_19 rfl hT.1 (fun _ _ => rfl) hT.2.2.2.2.1 dX4_next_11 ?_
      refine g_iconst dX4_next_14 ?_
      refine g_iadd dX4_next_15 ?_
      refine f_putI 2 fk_X4_19 rfl (nf_ rfl rfl) hT.1 hT.2.1 rfl dX4_next_16 ?_
      refine g_goto (tgt := 0) dX4_next_19 (by decide) ?_
      have hT := hT.st (b := k + 1) (by omega)
      refine ih _ (k + 1) (by omega) hT (hG.pi (fun _ => ⟨rfl, rfl⟩)) (by omega) (by omega) (fun i i0 i1 => ?_)
      by_cases hi : i = k
      · rw [hi]; exact decide_eq_true (by omega)
      · exact hal i i0 (by omega)
  exact L0 ((iv_ γ m 3 - iv_ γ m 5).toNat + 1) σ _ (by omega) hT0 Gw_.rf (by omega) (by omega) (fun i i0 i1 => by omega)
end
