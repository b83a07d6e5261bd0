/-! THE REFERENCE: small methods. Written by mod/m31.py -/
set_option maxRecDepth 100000
/-- a question's end: thrown 0, the trouble t; else the scratch alone has changed since σ -/
def me_ (m : Nat) (b : Nat) (k : Int) : Prop := ms_ m b k ∨ (b = m ∧ (k = 0 ∨ k = 11))
def ME_ (m : Nat) (σ σ' : JH) (t : Int) : Prop := Fr_ (me_ m) σ σ' ∧ iv_ σ' m 0 = 0 ∧ iv_ σ' m 11 = t
section
variable {G : JG} {m : Nat} {σ σb : JH} {r s : Int → Int} {t : Int}
theorem ME_.fr {σ' : JH} (h : ME_ m σb σ t) (f : Fr_ (ms_ m) σ σ') : ME_ m σb σ' t := by
  refine ⟨h.1.tr (f.mono fun _ _ q => Or.inl q), ?_, ?_⟩
  · rw [f.2.2.2.2 m 0 (fun q => by unfold ms_ at q; omega)]; exact h.2.1
  · rw [f.2.2.2.2 m 11 (fun q => by unfold ms_ at q; omega)]; exact h.2.2

theorem mo_good {Q : JH → Prop} (hM : MD_ G m σ r s)
    (hQ : ∀ σ', MD_ G m σ' r s → ME_ m σ σ' 0 → Q σ') : CallV_ G 2 yX2_good cX2_good 1 none [A_ (some m)] σ Q := by
  refine call_go [some (A_ (some m))] (by decide) (Nat.le_of_ble_eq_true rfl) rfl ?_
  refine g_al0 dX2_good_0 ?_
  refine g_iconst dX2_good_1 ?_
  refine f_putI 0 fk_X2_62 rfl (nf_ rfl rfl) hM.sh hM.ge rfl dX2_good_2 ?_
  refine g_al0 dX2_good_5 ?_
  refine g_iconst dX2_good_6 ?_
  refine f_putI 11 fk_X2_65 rfl (nf_ rfl rfl) hM.sh hM.ge rfl dX2_good_7 ?_
  exact g_vret rfl dX2_good_10 ⟨rfl, hQ _ (MD_.pi (MD_.pi hM ⟨by omega, by omega⟩) ⟨by omega, by omega⟩) ⟨(Fr_.rf.pi (Or.inr ⟨rfl, Or.inl rfl⟩)).pi (Or.inr ⟨rfl, Or.inr rfl⟩), by simp [iv_pi], by simp [iv_pi]⟩⟩
theorem mo_no {why : Int} {Q : Int → JH → Prop} (hM : MD_ G m σ r s) (hE : ME_ m σb σ t)
    (hQ : ∀ σ', MD_ G m σ' r s → ME_ m σb σ' why → Q (-1) σ') : CallI_ G 2 yX2_no cX2_no 2 (some .int) [A_ (some m), I_ why] σ Q := by
  refine call_go [some (A_ (some m)), some (I_ why)] (by decide) (Nat.le_of_ble_eq_true rfl) rfl ?_
  refine g_al0 dX2_no_0 ?_
  refine g_il1 dX2_no_1 ?_
  refine f_putI 11 fk_X2_65 rfl (nf_ rfl rfl) hM.sh hM.ge rfl dX2_no_2 ?_
  refine g_iconst dX2_no_5 ?_
  exact g_iret rfl dX2_no_6 ⟨_, rfl, hQ _ (MD_.pi hM ⟨by omega, by omega⟩) ⟨hE.1.pi (Or.inr ⟨rfl, Or.inr rfl⟩), by rw [iv_pi]; simp; exact hE.2.1, by simp [iv_pi]⟩⟩
theorem mo_isNot {why : Int} {Q : Int → JH → Prop} (hM : MD_ G m σ r s) (hE : ME_ m σb σ t)
    (hQ : ∀ σ', MD_ G m σ' r s → ME_ m σb σ' why → Q 0 σ') : CallI_ G 2 yX2_isNot cX2_isNot 2 (some .boolean) [A_ (some m), I_ why] σ Q := by
  refine call_go [some (A_ (some m)), some (I_ why)] (by decide) (Nat.le_of_ble_eq_true rfl) rfl ?_
  refine g_al0 dX2_isNot_0 ?_
  refine g_il1 dX2_isNot_1 ?_
  refine f_putI 11 fk_X2_65 rfl (nf_ rfl rfl) hM.sh hM.ge rfl dX2_isNot_2 ?_
  refine g_iconst dX2_isNot_5 ?_
  exact g_zret rfl (by omega) dX2_isNot_6 ⟨_, rfl, hQ _ (MD_.pi hM ⟨by omega, by omega⟩) ⟨hE.1.pi (Or.inr ⟨rfl, Or.inr rfl⟩), by rw [iv_pi]; simp; exact hE.2.1, by simp [iv_pi]⟩⟩
theorem mo_in {v lo hi : Int} {Q : Int → JH → Prop} (hv : -2147483648 ≤ v ∧ v < 2147483648) (hlo : -2147483648 ≤ lo ∧ lo < 2147483648) (hhi : -2147483648 ≤ hi ∧ hi < 2147483648)
    (hQ : ∀ x : Int, (x = 1 ∧ lo ≤ v ∧ v ≤ hi) ∨ (x = 0 ∧ ¬ (lo ≤ v ∧ v ≤ hi)) → Q x σ) : CallI_ G 2 yX2_in cX2_in 3 (some .boolean) [I_ v, I_ lo, I_ hi] σ Q := by
  refine call_go [some (I_ v), some (I_ lo), some (I_ hi)] (by decide) (Nat.le_of_ble_eq_true rfl) rfl ?_
  refine g_il0 dX2_in_0 ?_
  refine g_il1 dX2_in_1 ?_
  refine g_icmp_lt (tgt := 14) dX2_in_2 (by decide) (by omega) (fun h2 => ?_) (fun h2 => ?_)
  · refine g_iconst dX2_in_14 ?_
    exact g_zret rfl (by omega) dX2_in_15 ⟨_, rfl, hQ _ (by omega)⟩
  refine g_il0 dX2_in_5 ?_
  refine g_il2 dX2_in_6 ?_
  refine g_icmp_gt (tgt := 14) dX2_in_7 (by decide) (by omega) (fun h7 => ?_) (fun h7 => ?_)
  · refine g_iconst dX2_in_14 ?_
    exact g_zret rfl (by omega) dX2_in_15 ⟨_, rfl, hQ _ (by omega)⟩
  refine g_iconst dX2_in_10 ?_
  refine g_goto (tgt := 15) dX2_in_11 (by decide) ?_
  exact g_zret rfl (by omega) dX2_in_15 ⟨_, rfl, hQ _ (by omega)⟩
theorem mo_isSmall {v : Int} {Q : Int → JH → Prop} (hv : -2147483648 ≤ v ∧ v < 2147483648)
    (hQ : ∀ x : Int, (x = 1 ∧ 97 ≤ v ∧ v ≤ 122) ∨ (x = 0 ∧ ¬ (97 ≤ v ∧ v ≤ 122)) → Q x σ) : CallI_ G 2 yX2_isSmall cX2_isSmall 1 (some .boolean) [I_ v] σ Q := by
  refine call_go [some (I_ v)] (by decide) (Nat.le_of_ble_eq_true rfl) rfl ?_
  refine g_il0 dX2_isSmall_0 ?_
  refine g_bipush dX2_isSmall_1 (by decide) (by decide) ?_
  refine g_icmp_lt (tgt := 16) dX2_isSmall_3 (by decide) (by omega) (fun h3 => ?_) (fun h3 => ?_)
  · refine g_iconst dX2_isSmall_16 ?_
    exact g_zret rfl (by omega) dX2_isSmall_17 ⟨_, rfl, hQ _ (by omega)⟩
  refine g_il0 dX2_isSmall_6 ?_
  refine g_bipush dX2_isSmall_7 (by decide) (by decide) ?_
  refine g_icmp_gt (tgt := 16) dX2_isSmall_9 (by decide) (by omega) (fun h9 => ?_) (fun h9 => ?_)
  · refine g_iconst dX2_isSmall_16 ?_
    exact g_zret rfl (by omega) dX2_isSmall_17 ⟨_, rfl, hQ _ (by omega)⟩
  refine g_iconst dX2_isSmall_12 ?_
  refine g_goto (tgt := 17) dX2_isSmall_13 (by decide) ?_
  exact g_zret rfl (by omega) dX2_isSmall_17 ⟨_, rfl, hQ _ (by omega)⟩
theorem mo_isDigit {v : Int} {Q : Int → JH → Prop} (hv : -2147483648 ≤ v ∧ v < 2147483648)
    (hQ : ∀ x : Int, (x = 1 ∧ 48 ≤ v ∧ v ≤ 57) ∨ (x = 0 ∧ ¬ (48 ≤ v ∧ v ≤ 57)) → Q x σ) : CallI_ G 2 yX2_isDigit cX2_isDigit 1 (some .boolean) [I_ v] σ Q := by
  refine call_go [some (I_ v)] (by decide) (Nat.le_of_ble_eq_true rfl) rfl ?_
  refine g_il0 dX2_isDigit_0 ?_
  refine g_bipush dX2_isDigit_1 (by decide) (by decide) ?_
  refine g_icmp_lt (tgt := 16) dX2_isDigit_3 (by decide) (by omega) (fun h3 => ?_) (fun h3 => ?_)
  · refine g_iconst dX2_isDigit_16 ?_
    exact g_zret rfl (by omega) dX2_isDigit_17 ⟨_, rfl, hQ _ (by omega)⟩
  refine g_il0 dX2_isDigit_6 ?_
  refine g_bipush dX2_isDigit_7 (by decide) (by decide) ?_
  refine g_icmp_gt (tgt := 16) dX2_isDigit_9 (by decide) (by omega) (fun h9 => ?_) (fun h9 => ?_)
  · refine g_iconst dX2_isDigit_16 ?_
    exact g_zret rfl (by omega) dX2_isDigit_17 ⟨_, rfl, hQ _ (by omega)⟩
  refine g_iconst dX2_isDigit_12 ?_
  refine g_goto (tgt := 17) dX2_isDigit_13 (by decide) ?_
  exact g_zret rfl (by omega) dX2_isDigit_17 ⟨_, rfl, hQ _ (by omega)⟩
theorem ia1_in (x : Int) : -2147483648 ≤ iand_ x 1 ∧ iand_ x 1 < 2147483648 := ⟨Int32.le_toInt _, Int32.toInt_lt _⟩
theorem mo_hasBit {x k : Int} {Q : Int → JH → Prop} 
    (hQ : ∀ z : Int, (z = 1 ∧ hb_ x k) ∨ (z = 0 ∧ ¬ hb_ x k) → Q z σ) : CallI_ G 2 yX2_hasBit cX2_hasBit 2 (some .boolean) [I_ x, I_ k] σ Q := by
  refine call_go [some (I_ x), some (I_ k)] (by decide) (Nat.le_of_ble_eq_true rfl) rfl ?_
  refine g_il0 dX2_hasBit_0 ?_
  refine g_il1 dX2_hasBit_1 ?_
  refine g_ishr dX2_hasBit_2 ?_
  refine g_iconst dX2_hasBit_3 ?_
  refine g_iand dX2_hasBit_4 ?_
  refine g_iconst dX2_hasBit_5 ?_
  refine g_icmp_ne (tgt := 13) dX2_hasBit_6 (by decide) (by have := ia1_in (ishr_ x k); omega) (fun h6 => ?_) (fun h6 => ?_)
  · refine g_iconst dX2_hasBit_13 ?_
    exact g_zret rfl (by omega) dX2_hasBit_14 ⟨_, rfl, hQ _ (Or.inr ⟨rfl, h6⟩)⟩
  refine g_iconst dX2_hasBit_9 ?_
  refine g_goto (tgt := 14) dX2_hasBit_10 (by decide) ?_
  exact g_zret rfl (by omega) dX2_hasBit_14 ⟨_, rfl, hQ _ (Or.inl ⟨rfl, h6⟩)⟩
theorem mo_later {a b : Int} {Q : Int → JH → Prop} (ha : -2147483648 ≤ a ∧ a < 2147483648) (hb : -2147483648 ≤ b ∧ b < 2147483648)
    (hQ : ∀ x : Int, (b < a ∧ x = a) ∨ (a ≤ b ∧ x = b) → Q x σ) : CallI_ G 2 yX2_later cX2_later 2 (some .int) [I_ a, I_ b] σ Q := by
  refine call_go [some (I_ a), some (I_ b)] (by decide) (Nat.le_of_ble_eq_true rfl) rfl ?_
  refine g_il0 dX2_later_0 ?_
  refine g_il1 dX2_later_1 ?_
  refine g_icmp_le (tgt := 9) dX2_later_2 (by decide) (by omega) (fun h2 => ?_) (fun h2 => ?_)
  · refine g_il1 dX2_later_9 ?_
    exact g_iret rfl dX2_later_10 ⟨_, rfl, hQ _ (by omega)⟩
  refine g_il0 dX2_later_5 ?_
  refine g_goto (tgt := 10) dX2_later_6 (by decide) ?_
  exact g_iret rfl dX2_later_10 ⟨_, rfl, hQ _ (by omega)⟩
theorem mo_ofWhale {w what : Int} {Q : Int → JH → Prop} (hM : MD_ G m σ r s) (hw : 0 ≤ w ∧ w < 8) (hx : 0 ≤ what ∧ what < 4)
    (hQ : Q (r (107 + 4 * w + what)) σ) : CallI_ G 2 yX2_ofWhale cX2_ofWhale 3 (some .int) [A_ (some m), I_ w, I_ what] σ Q := by
  refine call_go [some (A_ (some m)), some (I_ w), some (I_ what)] (by decide) (Nat.le_of_ble_eq_true rfl) rfl ?_
  refine g_al0 dX2_ofWhale_0 ?_
  refine f_getA 15 fk_X2_20 rfl hM.sh (fun _ _ => rfl) hM.f15 dX2_ofWhale_1 ?_
  refine g_bipush dX2_ofWhale_4 (by decide) (by decide) ?_
  refine g_iconst dX2_ofWhale_6 ?_
  refine g_il1 dX2_ofWhale_7 ?_
  refine g_imul dX2_ofWhale_8 ?_
  refine g_iadd dX2_ofWhale_9 ?_
  refine g_il2 dX2_ofWhale_10 ?_
  refine g_iadd dX2_ofWhale_11 ?_
  refine g_ialv hM.a15 (by omega) (hM.rr _) dX2_ofWhale_12 ?_
  exact g_iret rfl dX2_ofWhale_13 ⟨_, rfl, hQ⟩
theorem mo_ofBox {w what : Int} {Q : Int → JH → Prop} (hM : MD_ G m σ r s) (hw : 0 ≤ w ∧ w < 8) (hx : 0 ≤ what ∧ what < 4)
    (hQ : Q (r (127 + 4 * w + what)) σ) : CallI_ G 2 yX2_ofBox cX2_ofBox 3 (some .int) [A_ (some m), I_ w, I_ what] σ Q := by
  refine call_go [some (A_ (some m)), some (I_ w), some (I_ what)] (by decide) (Nat.le_of_ble_eq_true rfl) rfl ?_
  refine g_al0 dX2_ofBox_0 ?_
  refine f_getA 15 fk_X2_20 rfl hM.sh (fun _ _ => rfl) hM.f15 dX2_ofBox_1 ?_
  refine g_bipush dX2_ofBox_4 (by decide) (by decide) ?_
  refine g_iconst dX2_ofBox_6 ?_
  refine g_il1 dX2_ofBox_7 ?_
  refine g_imul dX2_ofBox_8 ?_
  refine g_iadd dX2_ofBox_9 ?_
  refine g_il2 dX2_ofBox_10 ?_
  refine g_iadd dX2_ofBox_11 ?_
  refine g_ialv hM.a15 (by omega) (hM.rr _) dX2_ofBox_12 ?_
  exact g_iret rfl dX2_ofBox_13 ⟨_, rfl, hQ⟩
theorem mo_songLong {i : Int} {Q : Int → JH → Prop} (hM : MD_ G m σ r s) (hi : 0 ≤ i ∧ i < 7)
    (hQ : Q (r (10 + 7 * i)) σ) : CallI_ G 2 yX2_songLong cX2_songLong 2 (some .int) [A_ (some m), I_ i] σ Q := by
  refine call_go [some (A_ (some m)), some (I_ i)] (by decide) (Nat.le_of_ble_eq_true rfl) rfl ?_
  refine g_al0 dX2_songLong_0 ?_
  refine f_getA 15 fk_X2_20 rfl hM.sh (fun _ _ => rfl) hM.f15 dX2_songLong_1 ?_
  refine g_bipush dX2_songLong_4 (by decide) (by decide) ?_
  refine g_bipush dX2_songLong_6 (by decide) (by decide) ?_
  refine g_il1 dX2_songLong_8 ?_
  refine g_imul dX2_songLong_9 ?_
  refine g_iadd dX2_songLong_10 ?_
  refine g_ialv hM.a15 (by omega) (hM.rr _) dX2_songLong_11 ?_
  exact g_iret rfl dX2_songLong_12 ⟨_, rfl, hQ⟩
theorem mo_boxLong {b : Int} {Q : Int → JH → Prop} (hM : MD_ G m σ r s) (hW : RW_ r) (hb : 0 ≤ b ∧ b < r 7)
    (hQ : Q (bl_ r b) σ) : CallI_ G 3 yX2_boxLong cX2_boxLong 2 (some .int) [A_ (some m), I_ b] σ Q := by
  refine call_go [some (A_ (some m)), some (I_ b)] (by decide) (Nat.le_of_ble_eq_true rfl) rfl ?_
  refine g_al0 dX2_boxLong_0 ?_
  refine g_al0 dX2_boxLong_1 ?_
  refine g_il1 dX2_boxLong_2 ?_
  refine g_iconst dX2_boxLong_3 ?_
  refine g_callV2I (d' := 2) lk_X2_262 hM.sh rfl (rm_lt (by decide) (by decide)) (Nat.le_of_ble_eq_true rfl) dX2_boxLong_4 ?_
  refine mo_ofBox hM (by have := hW.n; omega) (by omega) ?_
  rw [show 127 + 4 * b + 1 = 128 + 4 * b by omega]
  refine g_callV1I (d' := 2) lk_X2_265 hM.sh rfl (rm_lt (by decide) (by decide)) (Nat.le_of_ble_eq_true rfl) dX2_boxLong_7 ?_
  refine mo_songLong hM (by have := hW.box hb.1 hb.2; have := hW.n; omega) ?_
  exact g_iret rfl dX2_boxLong_10 ⟨_, rfl, hQ⟩
theorem mo_isIsland {i : Int} {Q : Int → JH → Prop} {p : Int} (hM : MD_ G m σ r s) (hp : iv_ σ m 14 = p) (hp1 : p = 0 ∨ p = 1 ∧ RW_ r) (hi : -2147483648 ≤ i ∧ i < 2147483648)
    (hQ : ∀ x : Int, (x = 1 ∧ isI_ p r i) ∨ (x = 0 ∧ ¬ isI_ p r i) → Q x σ) : CallI_ G 3 yX2_isIsland cX2_isIsland 2 (some .boolean) [A_ (some m), I_ i] σ Q := by
  refine call_go [some (A_ (some m)), some (I_ i)] (by decide) (Nat.le_of_ble_eq_true rfl) rfl ?_
  refine g_al0 dX2_isIsland_0 ?_
  refine f_getv 14 fk_X2_180 rfl hM.sh (fun _ _ => rfl) hp dX2_isIsland_1 ?_
  refine g_if_eq (tgt := 27) dX2_isIsland_4 (by decide) (by omega) (fun h4 => ?_) (fun h4 => ?_)
  · refine g_iconst dX2_isIsland_27 ?_
    exact g_zret rfl (by omega) dX2_isIsland_28 ⟨_, rfl, hQ _ (by unfold isI_; omega)⟩
  refine g_il1 dX2_isIsland_7 ?_
  refine g_iconst dX2_isIsland_8 ?_
  refine g_al0 dX2_isIsland_9 ?_
  refine f_getA 15 fk_X2_20 rfl hM.sh (fun _ _ => rfl) hM.f15 dX2_isIsland_10 ?_
  refine g_iconst dX2_isIsland_13 ?_
  refine g_ialv hM.a15 (by omega) (hM.rr _) dX2_isIsland_14 ?_
  refine g_iconst dX2_isIsland_15 ?_
  refine g_isub dX2_isIsland_16 ?_
  refine g_callS3I (d' := 2) lk_X2_149 (rm_lt (by decide) (by decide)) (Nat.le_of_ble_eq_true rfl) dX2_isIsland_17 ?_
  refine mo_in (by omega) (by omega) (by rcases hp1 with q | ⟨q, hW⟩; omega; have := hW.n; omega) (fun x hx => ?_)
  refine g_if_eq (tgt := 27) dX2_isIsland_20 (by decide) (by omega) (fun h20 => ?_) (fun h20 => ?_)
  · refine g_iconst dX2_isIsland_27 ?_
    exact g_zret rfl (by omega) dX2_isIsland_28 ⟨_, rfl, hQ _ (by unfold isI_; omega)⟩
  refine g_iconst dX2_isIsland_23 ?_
  refine g_goto (tgt := 28) dX2_isIsland_24 (by decide) ?_
  exact g_zret rfl (by omega) dX2_isIsland_28 ⟨_, rfl, hQ _ (by unfold isI_; omega)⟩
theorem mo_isWhale {i : Int} {Q : Int → JH → Prop} {p : Int} (hM : MD_ G m σ r s) (hp : iv_ σ m 14 = p) (hp1 : p = 0 ∨ p = 1 ∧ RW_ r) (hi : -2147483648 ≤ i ∧ i < 2147483648)
    (hQ : ∀ x : Int, (x = 1 ∧ isW_ p r i) ∨ (x = 0 ∧ ¬ isW_ p r i) → Q x σ) : CallI_ G 3 yX2_isWhale cX2_isWhale 2 (some .boolean) [A_ (some m), I_ i] σ Q := by
  refine call_go [some (A_ (some m)), some (I_ i)] (by decide) (Nat.le_of_ble_eq_true rfl) rfl ?_
  refine g_al0 dX2_isWhale_0 ?_
  refine f_getv 14 fk_X2_180 rfl hM.sh (fun _ _ => rfl) hp dX2_isWhale_1 ?_
  refine g_if_eq (tgt := 28) dX2_isWhale_4 (by decide) (by omega) (fun h4 => ?_) (fun h4 => ?_)
  · refine g_iconst dX2_isWhale_28 ?_
    exact g_zret rfl (by omega) dX2_isWhale_29 ⟨_, rfl, hQ _ (by unfold isW_; omega)⟩
  refine g_il1 dX2_isWhale_7 ?_
  refine g_iconst dX2_isWhale_8 ?_
  refine g_al0 dX2_isWhale_9 ?_
  refine f_getA 15 fk_X2_20 rfl hM.sh (fun _ _ => rfl) hM.f15 dX2_isWhale_10 ?_
  refine g_bipush dX2_isWhale_13 (by decide) (by decide) ?_
  refine g_ialv hM.a15 (by omega) (hM.rr _) dX2_isWhale_15 ?_
  refine g_iconst dX2_isWhale_16 ?_
  refine g_isub dX2_isWhale_17 ?_
  refine g_callS3I (d' := 2) lk_X2_149 (rm_lt (by decide) (by decide)) (Nat.le_of_ble_eq_true rfl) dX2_isWhale_18 ?_
  refine mo_in (by omega) (by omega) (by rcases hp1 with q | ⟨q, hW⟩; omega; have := hW.n; omega) (fun x hx => ?_)
  refine g_if_eq (tgt := 28) dX2_isWhale_21 (by decide) (by omega) (fun h21 => ?_) (fun h21 => ?_)
  · refine g_iconst dX2_isWhale_28 ?_
    exact g_zret rfl (by omega) dX2_isWhale_29 ⟨_, rfl, hQ _ (by unfold isW_; omega)⟩
  refine g_iconst dX2_isWhale_24 ?_
  refine g_goto (tgt := 29) dX2_isWhale_25 (by decide) ?_
  exact g_zret rfl (by omega) dX2_isWhale_29 ⟨_, rfl, hQ _ (by unfold isW_; omega)⟩
theorem mo_isBox {i : Int} {Q : Int → JH → Prop} {p : Int} (hM : MD_ G m σ r s) (hp : iv_ σ m 14 = p) (hp1 : p = 0 ∨ p = 1 ∧ RW_ r) (hi : -2147483648 ≤ i ∧ i < 2147483648)
    (hQ : ∀ x : Int, (x = 1 ∧ isB_ p r i) ∨ (x = 0 ∧ ¬ isB_ p r i) → Q x σ) : CallI_ G 3 yX2_isBox cX2_isBox 2 (some .boolean) [A_ (some m), I_ i] σ Q := by
  refine call_go [some (A_ (some m)), some (I_ i)] (by decide) (Nat.le_of_ble_eq_true rfl) rfl ?_
  refine g_al0 dX2_isBox_0 ?_
  refine f_getv 14 fk_X2_180 rfl hM.sh (fun _ _ => rfl) hp dX2_isBox_1 ?_
  refine g_if_eq (tgt := 28) dX2_isBox_4 (by decide) (by omega) (fun h4 => ?_) (fun h4 => ?_)
  · refine g_iconst dX2_isBox_28 ?_
    exact g_zret rfl (by omega) dX2_isBox_29 ⟨_, rfl, hQ _ (by unfold isB_; omega)⟩
  refine g_il1 dX2_isBox_7 ?_
  refine g_iconst dX2_isBox_8 ?_
  refine g_al0 dX2_isBox_9 ?_
  refine f_getA 15 fk_X2_20 rfl hM.sh (fun _ _ => rfl) hM.f15 dX2_isBox_10 ?_
  refine g_bipush dX2_isBox_13 (by decide) (by decide) ?_
  refine g_ialv hM.a15 (by omega) (hM.rr _) dX2_isBox_15 ?_
  refine g_iconst dX2_isBox_16 ?_
  refine g_isub dX2_isBox_17 ?_
  refine g_callS3I (d' := 2) lk_X2_149 (rm_lt (by decide) (by decide)) (Nat.le_of_ble_eq_true rfl) dX2_isBox_18 ?_
  refine mo_in (by omega) (by omega) (by rcases hp1 with q | ⟨q, hW⟩; omega; have := hW.n; omega) (fun x hx => ?_)
  refine g_if_eq (tgt := 28) dX2_isBox_21 (by decide) (by omega) (fun h21 => ?_) (fun h21 => ?_)
  · refine g_iconst dX2_isBox_28 ?_
    exact g_zret rfl (by omega) dX2_isBox_29 ⟨_, rfl, hQ _ (by unfold isB_; omega)⟩
  refine g_iconst dX2_isBox_24 ?_
  refine g_goto (tgt := 29) dX2_isBox_25 (by decide) ?_
  exact g_zret rfl (by omega) dX2_isBox_29 ⟨_, rfl, hQ _ (by unfold isB_; omega)⟩
/-- no post, or a post with its bounds -/
def MP_ (p : Int) (r s : Int → Int) : Prop := p = 0 ∨ (p = 1 ∧ RW_ r ∧ DW_ r s)
theorem MP_.rw {p : Int} (h : MP_ p r s) : p = 0 ∨ p = 1 ∧ RW_ r := h.elim Or.inl (fun h => Or.inr ⟨h.1, h.2.1⟩)
theorem MP_.get {p : Int} (h : MP_ p r s) (hp : p = 1) : RW_ r ∧ DW_ r s := h.elim (fun q => by omega) (fun h => h.2)
theorem MP_.b {p : Int} (h : MP_ p r s) : p = 0 ∨ p = 1 := h.elim Or.inl (fun h => Or.inr h.1)
theorem ME_.p14 {σ' : JH} (h : ME_ m σ σ' t) : iv_ σ' m 14 = iv_ σ m 14 := h.1.2.2.2.2 m 14 (fun q => by unfold me_ ms_ at q; omega)

theorem mo_noteIn {i k yr : Int} {Q : Int → JH → Prop} (hM : MD_ G m σ r s) (hW : RW_ r) (hi : 0 ≤ i ∧ i < r 4) (hk : 0 ≤ k ∧ k < 6) (hy : 0 ≤ yr ∧ yr < 100000)
    (hQ : Q (nt_ r i k yr) σ) : CallI_ G 2 yX2_noteIn cX2_noteIn 5 (some .int) [A_ (some m), I_ i, I_ k, I_ yr] σ Q := by
  refine call_go [some (A_ (some m)), some (I_ i), some (I_ k), some (I_ yr), none] (by decide) (Nat.le_of_ble_eq_true rfl) rfl ?_
  have h0 := hW.n
  have hn := hW.song hi.1 hi.2 hk.1 hk.2
  refine g_al0 dX2_noteIn_0 ?_
  refine f_getA 15 fk_X2_20 rfl hM.sh (fun _ _ => rfl) hM.f15 dX2_noteIn_1 ?_
  refine g_iconst dX2_noteIn_4 ?_
  refine g_ialv hM.a15 (by omega) (hM.rr _) dX2_noteIn_5 ?_
  refine g_if_ne (tgt := 13) dX2_noteIn_6 (by decide) (by omega) (fun h6 => ?_) (fun h6 => ?_)
  · refine g_il3 dX2_noteIn_13 ?_
    refine g_al0 dX2_noteIn_14 ?_
    refine f_getA 15 fk_X2_20 rfl hM.sh (fun _ _ => rfl) hM.f15 dX2_noteIn_15 ?_
    refine g_iconst dX2_noteIn_18 ?_
    refine g_ialv hM.a15 (by omega) (hM.rr _) dX2_noteIn_19 ?_
    refine g_idiv dX2_noteIn_20 (by omega) ?_
    refine g_al0 dX2_noteIn_21 ?_
    refine f_getA 15 fk_X2_20 rfl hM.sh (fun _ _ => rfl) hM.f15 dX2_noteIn_22 ?_
    refine g_iconst dX2_noteIn_25 ?_
    refine g_ialv hM.a15 (by omega) (hM.rr _) dX2_noteIn_26 ?_
    have e1 := dm_ (a := yr) (b := r 2) (by omega) (by omega)
    refine g_irem dX2_noteIn_27 (by omega) ?_
    refine g_nm fun lw hlw => ?_
    have e2 : 0 ≤ lw ∧ lw < r 0 ∧ lw = (if r 2 = 0 then 0 else yr / r 2 % r 0) := (by rw [if_neg h6]; have := dm_ (a := yr / r 2) (b := r 0) (by omega) (by omega); omega)
    refine g_is4 dX2_noteIn_28 (by decide) rfl ?_
    refine g_al0 dX2_noteIn_30 ?_
    refine f_getA 15 fk_X2_20 rfl hM.sh (fun _ _ => rfl) hM.f15 dX2_noteIn_31 ?_
    refine g_bipush dX2_noteIn_34 (by decide) (by decide) ?_
    refine g_bipush dX2_noteIn_36 (by decide) (by decide) ?_
    refine g_il1 dX2_noteIn_38 ?_
    refine g_imul dX2_noteIn_39 ?_
    refine g_iadd dX2_noteIn_40 ?_
    refine g_iconst dX2_noteIn_41 ?_
    refine g_iadd dX2_noteIn_42 ?_
    refine g_il2 dX2_noteIn_43 ?_
    refine g_iadd dX2_noteIn_44 ?_
    refine g_ialv hM.a15 (by omega) (hM.rrx (j := 11 + 7 * i + k) (by omega)) dX2_noteIn_45 ?_
    refine g_al0 dX2_noteIn_46 ?_
    refine f_getA 15 fk_X2_20 rfl hM.sh (fun _ _ => rfl) hM.f15 dX2_noteIn_47 ?_
    refine g_iconst dX2_noteIn_50 ?_
    refine g_ialv hM.a15 (by omega) (hM.rr _) dX2_noteIn_51 ?_
    refine g_iadd dX2_noteIn_52 ?_
    refine g_il4 dX2_noteIn_53 ?_
    refine g_isub dX2_noteIn_55 ?_
    refine g_al0 dX2_noteIn_56 ?_
    refine f_getA 15 fk_X2_20 rfl hM.sh (fun _ _ => rfl) hM.f15 dX2_noteIn_57 ?_
    refine g_iconst dX2_noteIn_60 ?_
    refine g_ialv hM.a15 (by omega) (hM.rr _) dX2_noteIn_61 ?_
    refine g_irem dX2_noteIn_62 (by omega) ?_
    exact g_iret rfl dX2_noteIn_63 ⟨_, rfl, by rw [e2.2.2]; exact hQ⟩
  refine g_iconst dX2_noteIn_9 ?_
  refine g_goto (tgt := 28) dX2_noteIn_10 (by decide) ?_
  refine g_nm fun lw hlw => ?_
  have e2 : 0 ≤ lw ∧ lw < r 0 ∧ lw = (if r 2 = 0 then 0 else yr / r 2 % r 0) := (by rw [if_pos h6]; omega)
  refine g_is4 dX2_noteIn_28 (by decide) rfl ?_
  refine g_al0 dX2_noteIn_30 ?_
  refine f_getA 15 fk_X2_20 rfl hM.sh (fun _ _ => rfl) hM.f15 dX2_noteIn_31 ?_
  refine g_bipush dX2_noteIn_34 (by decide) (by decide) ?_
  refine g_bipush dX2_noteIn_36 (by decide) (by decide) ?_
  refine g_il1 dX2_noteIn_38 ?_
  refine g_imul dX2_noteIn_39 ?_
  refine g_iadd dX2_noteIn_40 ?_
  refine g_iconst dX2_noteIn_41 ?_
  refine g_iadd dX2_noteIn_42 ?_
  refine g_il2 dX2_noteIn_43 ?_
  refine g_iadd dX2_noteIn_44 ?_
  refine g_ialv hM.a15 (by omega) (hM.rrx (j := 11 + 7 * i + k) (by omega)) dX2_noteIn_45 ?_
  refine g_al0 dX2_noteIn_46 ?_
  refine f_getA 15 fk_X2_20 rfl hM.sh (fun _ _ => rfl) hM.f15 dX2_noteIn_47 ?_
  refine g_iconst dX2_noteIn_50 ?_
  refine g_ialv hM.a15 (by omega) (hM.rr _) dX2_noteIn_51 ?_
  refine g_iadd dX2_noteIn_52 ?_
  refine g_il4 dX2_noteIn_53 ?_
  refine g_isub dX2_noteIn_55 ?_
  refine g_al0 dX2_noteIn_56 ?_
  refine f_getA 15 fk_X2_20 rfl hM.sh (fun _ _ => rfl) hM.f15 dX2_noteIn_57 ?_
  refine g_iconst dX2_noteIn_60 ?_
  refine g_ialv hM.a15 (by omega) (hM.rr _) dX2_noteIn_61 ?_
  refine g_irem dX2_noteIn_62 (by omega) ?_
  exact g_iret rfl dX2_noteIn_63 ⟨_, rfl, by rw [e2.2.2]; exact hQ⟩
end
