/-! THE COMPONENT: numbers; ways, whales, songs. Written by mod/m78.py -/
set_option maxRecDepth 100000
section
variable {G : JG} {X : Nat} {σ : JH} {T : XT} {r s : Int → Int}
theorem xo_in  {v lo hi : Int} {Q : Int → JH → Prop} (hv : -2147483648 ≤ v ∧ v < 2147483648) (hlo : -2147483648 ≤ lo ∧ lo < 2147483648) (hhi : -2147483648 ≤ hi ∧ hi < 2147483648)
    (hQ : ∀ z : Int, (z = 1 ∧ lo ≤ v ∧ v ≤ hi) ∨ (z = 0 ∧ ¬ (lo ≤ v ∧ v ≤ hi)) → Q z σ) : CallI_ G 2 yX1_in cX1_in 3 (some .boolean) [I_ v, I_ lo, I_ hi] σ Q := by
  refine call_go [some (I_ v), some (I_ lo), some (I_ hi)] (by decide) (Nat.le_of_ble_eq_true rfl) rfl ?_
  refine g_il0 dX1_in_0 ?_
  refine g_il1 dX1_in_1 ?_
  refine g_icmp_lt (tgt := 14) dX1_in_2 (by decide) (by omega) (fun h2 => ?_) (fun h2 => ?_)
  · refine g_iconst dX1_in_14 ?_
    exact g_zret rfl (by omega) dX1_in_15 ⟨_, rfl, hQ _ (by omega)⟩
  refine g_il0 dX1_in_5 ?_
  refine g_il2 dX1_in_6 ?_
  refine g_icmp_gt (tgt := 14) dX1_in_7 (by decide) (by omega) (fun h7 => ?_) (fun h7 => ?_)
  · refine g_iconst dX1_in_14 ?_
    exact g_zret rfl (by omega) dX1_in_15 ⟨_, rfl, hQ _ (by omega)⟩
  refine g_iconst dX1_in_10 ?_
  refine g_goto (tgt := 15) dX1_in_11 (by decide) ?_
  exact g_zret rfl (by omega) dX1_in_15 ⟨_, rfl, hQ _ (by omega)⟩
theorem xo_has  {x k : Int} {Q : Int → JH → Prop} 
    (hQ : ∀ z : Int, (z = 1 ∧ hb_ x k) ∨ (z = 0 ∧ ¬ hb_ x k) → Q z σ) : CallI_ G 2 yX1_has cX1_has 2 (some .boolean) [I_ x, I_ k] σ Q := by
  refine call_go [some (I_ x), some (I_ k)] (by decide) (Nat.le_of_ble_eq_true rfl) rfl ?_
  refine g_il0 dX1_has_0 ?_
  refine g_il1 dX1_has_1 ?_
  refine g_ishr dX1_has_2 ?_
  refine g_iconst dX1_has_3 ?_
  refine g_iand dX1_has_4 ?_
  refine g_iconst dX1_has_5 ?_
  refine g_icmp_ne (tgt := 13) dX1_has_6 (by decide) (by have := ia1_in (ishr_ x k); omega) (fun h6 => ?_) (fun h6 => ?_)
  · refine g_iconst dX1_has_13 ?_
    exact g_zret rfl (by omega) dX1_has_14 ⟨_, rfl, hQ _ (Or.inr ⟨rfl, h6⟩)⟩
  refine g_iconst dX1_has_9 ?_
  refine g_goto (tgt := 14) dX1_has_10 (by decide) ?_
  exact g_zret rfl (by omega) dX1_has_14 ⟨_, rfl, hQ _ (Or.inl ⟨rfl, h6⟩)⟩
theorem xw_is {o t : Int} {a b : Int} {Q : Int → JH → Prop} (hs : sh_ σ X = some (.inl 10)) (h1 : iv_ σ X 0 = o) (h2 : iv_ σ X 1 = t) (ho : -1 ≤ o ∧ o < 100) (ht : -1 ≤ t ∧ t < 100) (ha : -2147483648 ≤ a ∧ a < 2147483648) (hb : -2147483648 ≤ b ∧ b < 2147483648)
    (hQ : ∀ z : Int, (z = 1 ∧ ((o = a ∧ t = b) ∨ (o = b ∧ t = a))) ∨ (z = 0 ∧ ¬ ((o = a ∧ t = b) ∨ (o = b ∧ t = a))) → Q z σ) : CallI_ G 2 yX8_is cX8_is 3 (some .boolean) [A_ (some X), I_ a, I_ b] σ Q := by
  refine call_go [some (A_ (some X)), some (I_ a), some (I_ b)] (by decide) (Nat.le_of_ble_eq_true rfl) rfl ?_
  refine g_al0 dX8_is_0 ?_
  refine f_getv 0 fk_X8_9 rfl hs (fun _ _ => rfl) h1 dX8_is_1 ?_
  refine g_il1 dX8_is_4 ?_
  refine g_icmp_ne (tgt := 16) dX8_is_5 (by decide) (by omega) (fun h5 => ?_) (fun h5 => ?_)
  · refine g_al0 dX8_is_16 ?_
    refine f_getv 0 fk_X8_9 rfl hs (fun _ _ => rfl) h1 dX8_is_17 ?_
    refine g_il2 dX8_is_20 ?_
    refine g_icmp_ne (tgt := 36) dX8_is_21 (by decide) (by omega) (fun h21 => ?_) (fun h21 => ?_)
    · refine g_iconst dX8_is_36 ?_
      exact g_zret rfl (by omega) dX8_is_37 ⟨_, rfl, hQ _ (by omega)⟩
    refine g_al0 dX8_is_24 ?_
    refine f_getv 1 fk_X8_15 rfl hs (fun _ _ => rfl) h2 dX8_is_25 ?_
    refine g_il1 dX8_is_28 ?_
    refine g_icmp_ne (tgt := 36) dX8_is_29 (by decide) (by omega) (fun h29 => ?_) (fun h29 => ?_)
    · refine g_iconst dX8_is_36 ?_
      exact g_zret rfl (by omega) dX8_is_37 ⟨_, rfl, hQ _ (by omega)⟩
    refine g_iconst dX8_is_32 ?_
    refine g_goto (tgt := 37) dX8_is_33 (by decide) ?_
    exact g_zret rfl (by omega) dX8_is_37 ⟨_, rfl, hQ _ (by omega)⟩
  refine g_al0 dX8_is_8 ?_
  refine f_getv 1 fk_X8_15 rfl hs (fun _ _ => rfl) h2 dX8_is_9 ?_
  refine g_il2 dX8_is_12 ?_
  refine g_icmp_eq (tgt := 32) dX8_is_13 (by decide) (by omega) (fun h13 => ?_) (fun h13 => ?_)
  · refine g_iconst dX8_is_32 ?_
    refine g_goto (tgt := 37) dX8_is_33 (by decide) ?_
    exact g_zret rfl (by omega) dX8_is_37 ⟨_, rfl, hQ _ (by omega)⟩
  refine g_al0 dX8_is_16 ?_
  refine f_getv 0 fk_X8_9 rfl hs (fun _ _ => rfl) h1 dX8_is_17 ?_
  refine g_il2 dX8_is_20 ?_
  refine g_icmp_ne (tgt := 36) dX8_is_21 (by decide) (by omega) (fun h21 => ?_) (fun h21 => ?_)
  · refine g_iconst dX8_is_36 ?_
    exact g_zret rfl (by omega) dX8_is_37 ⟨_, rfl, hQ _ (by omega)⟩
  refine g_al0 dX8_is_24 ?_
  refine f_getv 1 fk_X8_15 rfl hs (fun _ _ => rfl) h2 dX8_is_25 ?_
  refine g_il1 dX8_is_28 ?_
  refine g_icmp_ne (tgt := 36) dX8_is_29 (by decide) (by omega) (fun h29 => ?_) (fun h29 => ?_)
  · refine g_iconst dX8_is_36 ?_
    exact g_zret rfl (by omega) dX8_is_37 ⟨_, rfl, hQ _ (by omega)⟩
  refine g_iconst dX8_is_32 ?_
  refine g_goto (tgt := 37) dX8_is_33 (by decide) ?_
  exact g_zret rfl (by omega) dX8_is_37 ⟨_, rfl, hQ _ (by omega)⟩
theorem xw_from {o t : Int} {a : Int} {Q : Int → JH → Prop} (hs : sh_ σ X = some (.inl 10)) (h1 : iv_ σ X 0 = o) (h2 : iv_ σ X 1 = t) (ho : -1 ≤ o ∧ o < 100) (ht : -1 ≤ t ∧ t < 100) (ha : -2147483648 ≤ a ∧ a < 2147483648)
    (hQ : Q (if a = o then t else if a = t then o else -1) σ) : CallI_ G 2 yX8_from cX8_from 2 (some .int) [A_ (some X), I_ a] σ Q := by
  refine call_go [some (A_ (some X)), some (I_ a)] (by decide) (Nat.le_of_ble_eq_true rfl) rfl ?_
  refine g_il1 dX8_from_0 ?_
  refine g_al0 dX8_from_1 ?_
  refine f_getv 0 fk_X8_9 rfl hs (fun _ _ => rfl) h1 dX8_from_2 ?_
  refine g_icmp_ne (tgt := 15) dX8_from_5 (by decide) (by omega) (fun h5 => ?_) (fun h5 => ?_)
  · refine g_il1 dX8_from_15 ?_
    refine g_al0 dX8_from_16 ?_
    refine f_getv 1 fk_X8_15 rfl hs (fun _ _ => rfl) h2 dX8_from_17 ?_
    refine g_icmp_ne (tgt := 30) dX8_from_20 (by decide) (by omega) (fun h20 => ?_) (fun h20 => ?_)
    · refine g_iconst dX8_from_30 ?_
      exact g_iret rfl dX8_from_31 ⟨_, rfl, by rw [if_neg (by omega), if_neg (by omega)] at hQ; exact hQ⟩
    refine g_al0 dX8_from_23 ?_
    refine f_getv 0 fk_X8_9 rfl hs (fun _ _ => rfl) h1 dX8_from_24 ?_
    refine g_goto (tgt := 31) dX8_from_27 (by decide) ?_
    exact g_iret rfl dX8_from_31 ⟨_, rfl, by rw [if_neg (by omega), if_pos (by omega)] at hQ; exact hQ⟩
  refine g_al0 dX8_from_8 ?_
  refine f_getv 1 fk_X8_15 rfl hs (fun _ _ => rfl) h2 dX8_from_9 ?_
  refine g_goto (tgt := 31) dX8_from_12 (by decide) ?_
  exact g_iret rfl dX8_from_31 ⟨_, rfl, by rw [if_pos (by omega)] at hQ; exact hQ⟩
theorem x9_kind  {Q : Int → JH → Prop} 
    (hQ : Q 1 σ) : CallI_ G 2 yX9_kind cX9_kind 1 (some .int) [A_ (some X)] σ Q := by
  refine call_go [some (A_ (some X))] (by decide) (Nat.le_of_ble_eq_true rfl) rfl ?_
  refine g_iconst dX9_kind_0 ?_
  exact g_iret rfl dX9_kind_1 ⟨_, rfl, hQ⟩
theorem x10_kind  {Q : Int → JH → Prop} 
    (hQ : Q 0 σ) : CallI_ G 2 yX10_kind cX10_kind 1 (some .int) [A_ (some X)] σ Q := by
  refine call_go [some (A_ (some X))] (by decide) (Nat.le_of_ble_eq_true rfl) rfl ?_
  refine g_iconst dX10_kind_0 ?_
  exact g_iret rfl dX10_kind_1 ⟨_, rfl, hQ⟩
theorem x11_kind  {Q : Int → JH → Prop} 
    (hQ : Q 2 σ) : CallI_ G 2 yX11_kind cX11_kind 1 (some .int) [A_ (some X)] σ Q := by
  refine call_go [some (A_ (some X))] (by decide) (Nat.le_of_ble_eq_true rfl) rfl ?_
  refine g_iconst dX11_kind_0 ?_
  exact g_iret rfl dX11_kind_1 ⟨_, rfl, hQ⟩
theorem x12_kind  {Q : Int → JH → Prop} 
    (hQ : Q 3 σ) : CallI_ G 2 yX12_kind cX12_kind 1 (some .int) [A_ (some X)] σ Q := by
  refine call_go [some (A_ (some X))] (by decide) (Nat.le_of_ble_eq_true rfl) rfl ?_
  refine g_iconst dX12_kind_0 ?_
  exact g_iret rfl dX12_kind_1 ⟨_, rfl, hQ⟩
theorem x9_carries  {Q : Int → JH → Prop} 
    (hQ : Q 9 σ) : CallI_ G 2 yX9_carries cX9_carries 1 (some .int) [A_ (some X)] σ Q := by
  refine call_go [some (A_ (some X))] (by decide) (Nat.le_of_ble_eq_true rfl) rfl ?_
  refine g_bipush dX9_carries_0 (by decide) (by decide) ?_
  exact g_iret rfl dX9_carries_2 ⟨_, rfl, hQ⟩
theorem x10_carries  {Q : Int → JH → Prop} 
    (hQ : Q 3 σ) : CallI_ G 2 yX10_carries cX10_carries 1 (some .int) [A_ (some X)] σ Q := by
  refine call_go [some (A_ (some X))] (by decide) (Nat.le_of_ble_eq_true rfl) rfl ?_
  refine g_iconst dX10_carries_0 ?_
  exact g_iret rfl dX10_carries_1 ⟨_, rfl, hQ⟩
theorem x11_carries  {Q : Int → JH → Prop} 
    (hQ : Q 99 σ) : CallI_ G 2 yX11_carries cX11_carries 1 (some .int) [A_ (some X)] σ Q := by
  refine call_go [some (A_ (some X))] (by decide) (Nat.le_of_ble_eq_true rfl) rfl ?_
  refine g_bipush dX11_carries_0 (by decide) (by decide) ?_
  exact g_iret rfl dX11_carries_2 ⟨_, rfl, hQ⟩
theorem x9_ways  {Q : Int → JH → Prop} 
    (hQ : Q 7 σ) : CallI_ G 2 yX9_ways cX9_ways 1 (some .int) [A_ (some X)] σ Q := by
  refine call_go [some (A_ (some X))] (by decide) (Nat.le_of_ble_eq_true rfl) rfl ?_
  refine g_bipush dX9_ways_0 (by decide) (by decide) ?_
  exact g_iret rfl dX9_ways_2 ⟨_, rfl, hQ⟩
theorem x10_ways  {Q : Int → JH → Prop} 
    (hQ : Q 1 σ) : CallI_ G 2 yX10_ways cX10_ways 1 (some .int) [A_ (some X)] σ Q := by
  refine call_go [some (A_ (some X))] (by decide) (Nat.le_of_ble_eq_true rfl) rfl ?_
  refine g_iconst dX10_ways_0 ?_
  exact g_iret rfl dX10_ways_1 ⟨_, rfl, hQ⟩
theorem x9_goes  {d : Int} {Q : Int → JH → Prop} 
    (hQ : Q d σ) : CallI_ G 2 yX9_goes cX9_goes 2 (some .int) [A_ (some X), I_ d] σ Q := by
  refine call_go [some (A_ (some X)), some (I_ d)] (by decide) (Nat.le_of_ble_eq_true rfl) rfl ?_
  refine g_il1 dX9_goes_0 ?_
  exact g_iret rfl dX9_goes_1 ⟨_, rfl, hQ⟩
theorem x11_goes  {d : Int} {Q : Int → JH → Prop} (hs : sh_ σ X = some (.inl 13))
    (hQ : Q (2 * d) σ) : CallI_ G 3 yX11_goes cX11_goes 2 (some .int) [A_ (some X), I_ d] σ Q := by
  refine call_go [some (A_ (some X)), some (I_ d)] (by decide) (Nat.le_of_ble_eq_true rfl) rfl ?_
  refine g_iconst dX11_goes_0 ?_
  refine g_al0 dX11_goes_1 ?_
  refine g_il1 dX11_goes_2 ?_
  refine g_callSU1I (d' := 2) lks_X11_7 hs (rm_lt (by decide) (by decide)) (Nat.le_of_ble_eq_true rfl) dX11_goes_3 ?_
  refine x9_goes ?_
  refine g_imul dX11_goes_6 ?_
  exact g_iret rfl dX11_goes_7 ⟨_, rfl, hQ⟩
theorem x9_knows {w : Nat} {op : Int} {d : Int} {Q : Int → JH → Prop} (hw : sh_ σ w = some (.inl 10)) (ho : iv_ σ w 3 = op) (hd : 0 ≤ d ∧ d < 2000000)
    (hQ : ∀ z : Int, (z = 1 ∧ hb_ op (d / 90 % 4)) ∨ (z = 0 ∧ ¬ hb_ op (d / 90 % 4)) → Q z σ) : CallI_ G 3 yX9_knows cX9_knows 3 (some .boolean) [A_ (some X), A_ (some w), I_ d] σ Q := by
  refine call_go [some (A_ (some X)), some (A_ (some w)), some (I_ d)] (by decide) (Nat.le_of_ble_eq_true rfl) rfl ?_
  refine g_al1 dX9_knows_0 ?_
  refine f_getv 3 fk_X9_15 rfl hw (fun _ _ => rfl) ho dX9_knows_1 ?_
  refine g_il2 dX9_knows_4 ?_
  refine g_bipush dX9_knows_5 (by decide) (by decide) ?_
  refine g_idiv dX9_knows_7 (by omega) ?_
  have hq := dm_ hd.1 (b := 90) (by decide)
  refine g_iconst dX9_knows_8 ?_
  refine g_irem dX9_knows_9 (by omega) ?_
  refine g_callSN2I (d' := 2) lk_X9_21 (rm_lt (by decide) (by decide)) (Nat.le_of_ble_eq_true rfl) dX9_knows_10 ?_
  refine xo_has (fun z hz => ?_)
  exact g_zret rfl (by omega) dX9_knows_13 ⟨_, rfl, hQ _ hz⟩
theorem x12_knows {w : Nat} {d : Int} {Q : Int → JH → Prop} 
    (hQ : Q 1 σ) : CallI_ G 2 yX12_knows cX12_knows 3 (some .boolean) [A_ (some X), A_ (some w), I_ d] σ Q := by
  refine call_go [some (A_ (some X)), some (A_ (some w)), some (I_ d)] (by decide) (Nat.le_of_ble_eq_true rfl) rfl ?_
  refine g_iconst dX12_knows_0 ?_
  exact g_zret rfl (by omega) dX12_knows_1 ⟨_, rfl, hQ⟩
end
section
variable {G : JG} {y : MethodName} {cc : ByteArray} {nL d : Nat} {ret : Option FieldType} {σ0 σ : JH} {Z : List Frame → Array Value → State → State → Prop} {pc : Nat} {ev : List (Option AV)} {st rest : List AV} {κ b : Nat}
theorem gv_X1_153  (hy : y.cls = RX1) (hκ : κ < 4) (hs : sh_ σ b = some (.inl (11 + κ))) (hdd : 3 ≤ d) (hst : (rest.map cw_).sum ≤ 8) (hd : decode cc pc = .ok (.invokevirtual 153, 3)) (k : Go_ G (rm_ G d σ0) y cc nL ret σ0 Z (pc + 3) ev (I_ ((κ : Int)) :: rest) σ) : Go_ G (rm_ G d σ0) y cc nL ret σ0 Z pc ev (A_ (some b) :: rest) σ := by
  match κ, hκ, hs, k with
  | 0, _, hs, k =>
    refine g_callU0I (d' := 2) (by rw [hy]; exact lk_X1_153_c11) hs rfl (rm_lt (by omega) (by decide)) hst hd ?_
    exact x10_kind k
  | 1, _, hs, k =>
    refine g_callV0I (d' := 2) (by rw [hy]; exact lk_X1_153) hs rfl (rm_lt (by omega) (by decide)) hst hd ?_
    exact x9_kind k
  | 2, _, hs, k =>
    refine g_callU0I (d' := 2) (by rw [hy]; exact lk_X1_153_c13) hs rfl (rm_lt (by omega) (by decide)) hst hd ?_
    exact x11_kind k
  | 3, _, hs, k =>
    refine g_callU0I (d' := 2) (by rw [hy]; exact lk_X1_153_c14) hs rfl (rm_lt (by omega) (by decide)) hst hd ?_
    exact x12_kind k
theorem gv_X1_292  (hy : y.cls = RX1) (hκ : κ < 4) (hs : sh_ σ b = some (.inl (11 + κ))) (hdd : 3 ≤ d) (hst : (rest.map cw_).sum ≤ 8) (hd : decode cc pc = .ok (.invokevirtual 292, 3)) (k : Go_ G (rm_ G d σ0) y cc nL ret σ0 Z (pc + 3) ev (I_ (if (κ : Int) = 0 then 1 else 7) :: rest) σ) : Go_ G (rm_ G d σ0) y cc nL ret σ0 Z pc ev (A_ (some b) :: rest) σ := by
  match κ, hκ, hs, k with
  | 0, _, hs, k =>
    refine g_callU0I (d' := 2) (by rw [hy]; exact lk_X1_292_c11) hs rfl (rm_lt (by omega) (by decide)) hst hd ?_
    exact x10_ways k
  | 1, _, hs, k =>
    refine g_callV0I (d' := 2) (by rw [hy]; exact lk_X1_292) hs rfl (rm_lt (by omega) (by decide)) hst hd ?_
    exact x9_ways k
  | 2, _, hs, k =>
    refine g_callU0I (d' := 2) (by rw [hy]; exact lk_X1_292_c13) hs rfl (rm_lt (by omega) (by decide)) hst hd ?_
    exact x9_ways k
  | 3, _, hs, k =>
    refine g_callU0I (d' := 2) (by rw [hy]; exact lk_X1_292_c14) hs rfl (rm_lt (by omega) (by decide)) hst hd ?_
    exact x9_ways k
theorem gv_X1_310 {x : Int} (hy : y.cls = RX1) (hκ : κ < 4) (hs : sh_ σ b = some (.inl (11 + κ))) (hdd : 4 ≤ d) (hst : (rest.map cw_).sum ≤ 8) (hd : decode cc pc = .ok (.invokevirtual 310, 3)) (k : Go_ G (rm_ G d σ0) y cc nL ret σ0 Z (pc + 3) ev (I_ ((if (κ : Int) = 2 then 2 else 1) * x) :: rest) σ) : Go_ G (rm_ G d σ0) y cc nL ret σ0 Z pc ev (I_ x :: A_ (some b) :: rest) σ := by
  match κ, hκ, hs, k with
  | 0, _, hs, k =>
    refine g_callU1I (d' := 2) (by rw [hy]; exact lk_X1_310_c11) hs rfl (rm_lt (by omega) (by decide)) hst hd ?_
    refine x9_goes ?_
    rw [show (if (((0 : Nat) : Int)) = 2 then (2 : Int) else 1) * x = x by (rw [if_neg (by decide)]; omega)] at k
    exact k
  | 1, _, hs, k =>
    refine g_callV1I (d' := 2) (by rw [hy]; exact lk_X1_310) hs rfl (rm_lt (by omega) (by decide)) hst hd ?_
    refine x9_goes ?_
    rw [show (if (((1 : Nat) : Int)) = 2 then (2 : Int) else 1) * x = x by (rw [if_neg (by decide)]; omega)] at k
    exact k
  | 2, _, hs, k =>
    refine g_callU1I (d' := 3) (by rw [hy]; exact lk_X1_310_c13) hs rfl (rm_lt (by omega) (by decide)) hst hd ?_
    exact x11_goes hs k
  | 3, _, hs, k =>
    refine g_callU1I (d' := 2) (by rw [hy]; exact lk_X1_310_c14) hs rfl (rm_lt (by omega) (by decide)) hst hd ?_
    refine x9_goes ?_
    rw [show (if (((3 : Nat) : Int)) = 2 then (2 : Int) else 1) * x = x by (rw [if_neg (by decide)]; omega)] at k
    exact k
theorem gv_X1_322  (hy : y.cls = RX1) (hκ : κ < 4) (hs : sh_ σ b = some (.inl (11 + κ))) (hdd : 3 ≤ d) (hst : (rest.map cw_).sum ≤ 8) (hd : decode cc pc = .ok (.invokevirtual 322, 3)) (k : Go_ G (rm_ G d σ0) y cc nL ret σ0 Z (pc + 3) ev (I_ (mo_ (κ : Int)) :: rest) σ) : Go_ G (rm_ G d σ0) y cc nL ret σ0 Z pc ev (A_ (some b) :: rest) σ := by
  match κ, hκ, hs, k with
  | 0, _, hs, k =>
    refine g_callU0I (d' := 2) (by rw [hy]; exact lk_X1_322_c11) hs rfl (rm_lt (by omega) (by decide)) hst hd ?_
    exact x10_carries k
  | 1, _, hs, k =>
    refine g_callV0I (d' := 2) (by rw [hy]; exact lk_X1_322) hs rfl (rm_lt (by omega) (by decide)) hst hd ?_
    exact x9_carries k
  | 2, _, hs, k =>
    refine g_callU0I (d' := 2) (by rw [hy]; exact lk_X1_322_c13) hs rfl (rm_lt (by omega) (by decide)) hst hd ?_
    exact x11_carries k
  | 3, _, hs, k =>
    refine g_callU0I (d' := 2) (by rw [hy]; exact lk_X1_322_c14) hs rfl (rm_lt (by omega) (by decide)) hst hd ?_
    exact x9_carries k
theorem gv_X9_25 {x op : Int} {w : Nat} (hw : sh_ σ w = some (.inl 10)) (ho : iv_ σ w 3 = op) (hx : 0 ≤ x ∧ x < 2000000) (hy : y.cls = RX9) (hκ : κ < 4) (hs : sh_ σ b = some (.inl (11 + κ))) (hdd : 4 ≤ d) (hst : (rest.map cw_).sum ≤ 8) (hd : decode cc pc = .ok (.invokevirtual 25, 3)) (k : ∀ z : Int, (z = 1 ∧ ((κ : Int) = 3 ∨ hb_ op (x / 90 % 4))) ∨ (z = 0 ∧ ¬ ((κ : Int) = 3 ∨ hb_ op (x / 90 % 4))) → Go_ G (rm_ G d σ0) y cc nL ret σ0 Z (pc + 3) ev (I_ (z) :: rest) σ) : Go_ G (rm_ G d σ0) y cc nL ret σ0 Z pc ev (I_ x :: A_ (some w) :: A_ (some b) :: rest) σ := by
  match κ, hκ, hs, k with
  | 0, _, hs, k =>
    refine g_callU2I (d' := 3) (by rw [hy]; exact lk_X9_25_c11) hs rfl (rm_lt (by omega) (by decide)) hst hd ?_
    exact x9_knows hw ho hx (fun z hz => k z (hz.elim (fun q => Or.inl ⟨q.1, Or.inr q.2⟩) (fun q => Or.inr ⟨q.1, fun u => u.elim (fun u => absurd u (by decide)) q.2⟩)))
  | 1, _, hs, k =>
    refine g_callV2I (d' := 3) (by rw [hy]; exact lk_X9_25) hs rfl (rm_lt (by omega) (by decide)) hst hd ?_
    exact x9_knows hw ho hx (fun z hz => k z (hz.elim (fun q => Or.inl ⟨q.1, Or.inr q.2⟩) (fun q => Or.inr ⟨q.1, fun u => u.elim (fun u => absurd u (by decide)) q.2⟩)))
  | 2, _, hs, k =>
    refine g_callU2I (d' := 3) (by rw [hy]; exact lk_X9_25_c13) hs rfl (rm_lt (by omega) (by decide)) hst hd ?_
    exact x9_knows hw ho hx (fun z hz => k z (hz.elim (fun q => Or.inl ⟨q.1, Or.inr q.2⟩) (fun q => Or.inr ⟨q.1, fun u => u.elim (fun u => absurd u (by decide)) q.2⟩)))
  | 3, _, hs, k =>
    refine g_callU2I (d' := 2) (by rw [hy]; exact lk_X9_25_c14) hs rfl (rm_lt (by omega) (by decide)) hst hd ?_
    exact x12_knows (k 1 (Or.inl ⟨rfl, Or.inl rfl⟩))
end
section
variable {G : JG} {X : Nat} {σ : JH}
theorem x9_sets {w κ : Nat} {op : Int} {d : Int} {Q : Int → JH → Prop} (hκ : κ < 4) (hs : sh_ σ X = some (.inl (11 + κ))) (hw : sh_ σ w = some (.inl 10)) (ho : iv_ σ w 3 = op) (hop : 1 ≤ op ∧ op ≤ 15) (hd : 0 ≤ d ∧ d ≤ 1000000)
    (hQ : Q (if (κ : Int) = 3 then d else sd_ op d) σ) : CallI_ G 4 yX9_sets cX9_sets 4 (some .int) [A_ (some X), A_ (some w), I_ d] σ Q := by
  refine call_go [some (A_ (some X)), some (A_ (some w)), some (I_ d), none] (by decide) (Nat.le_of_ble_eq_true rfl) rfl ?_
  have L2 : ∀ (fu : Nat) (x : Int), d + 271 - x < (fu : Int) → (d ≤ x) → (x ≤ d + 270) → ((κ : Int) ≠ 3 → sd_ op x = sd_ op d) → (x = d ∨ (κ : Int) ≠ 3) → GoM_ G 4 yX9_sets cX9_sets 4 (some .int) σ (fun v σ' => ∃ x : Int, v = some (I_ x) ∧ Q x σ') 2 [some (A_ (some X)), some (A_ (some w)), some (I_ d), some (I_ x)] [] σ := by
    intro fu
    induction fu with
    | zero => intro x hn h0 h1 hx hh; exact absurd hn (by omega)
    | succ fu ih =>
      intro x hn h0 h1 hx hh
      refine g_al0 dX9_sets_2 ?_
      refine g_al1 dX9_sets_3 ?_
      refine g_il3 dX9_sets_4 ?_
      refine gv_X9_25 hw ho (by omega) rfl hκ hs (by decide) (Nat.le_of_ble_eq_true rfl) dX9_sets_5 (fun z hz => ?_)
      
      have hq := dm_ (a := x) (b := 90) (by omega) (by decide)
      have hz01 : z = 0 ∨ z = 1 := by omega
      refine g_if_ne (tgt := 24) dX9_sets_8 (by decide) (by omega) (fun h8 => ?_) (fun h8 => ?_)
      · refine g_il3 dX9_sets_24 ?_
        exact g_iret rfl dX9_sets_25 ⟨_, rfl, by
  by_cases h3 : (κ : Int) = 3
  · rw [if_pos h3] at hQ
    rw [show x = d by omega]
    exact hQ
  · rw [if_neg h3, ← hx h3, sd_one (by omega)] at hQ
    exact hQ⟩
      refine g_il3 dX9_sets_11 ?_
      refine g_bipush dX9_sets_12 (by decide) (by decide) ?_
      refine g_idiv dX9_sets_14 (by omega) ?_
      refine g_iconst dX9_sets_15 ?_
      refine g_iadd dX9_sets_16 ?_
      refine g_bipush dX9_sets_17 (by decide) (by decide) ?_
      refine g_imul dX9_sets_19 ?_
      refine g_is3 dX9_sets_20 (by decide) rfl ?_
      refine g_goto (tgt := 2) dX9_sets_21 (by decide) ?_
      have h3 : (κ : Int) ≠ 3 := by omega
      have hnb : ¬ hb_ op (x / 90 % 4) := by omega
      have hsn := sd_next hop (d := x) (by omega) hnb
      have hsp := sd_spec hop (d := x) (by omega)
      have hle : (x / 90 + 1) * 90 ≤ sd_ op x := Classical.byContradiction fun q => by
        have hin := hsp.2.2.1
        have e : sd_ op x / 90 = x / 90 := by omega
        rw [e] at hin
        exact hnb hin
      have hsd := sd_spec hop (d := d) (by omega)
      have hx' := hx h3
      refine ih _ (by omega) (by omega) (by omega) (fun _ => ?_) (Or.inr h3)
      rw [← hx', hsn, show 90 * (x / 90 + 1) = (x / 90 + 1) * 90 by omega]
  refine g_il2 dX9_sets_0 ?_
  refine g_is3 dX9_sets_1 (by decide) rfl ?_
  exact L2 272 _ (by omega) (by omega) (by omega) (fun _ => rfl) (Or.inl rfl)
end
section
variable {G : JG} {y : MethodName} {cc : ByteArray} {nL d : Nat} {ret : Option FieldType} {σ0 σ : JH} {Z : List Frame → Array Value → State → State → Prop} {pc : Nat} {ev : List (Option AV)} {st rest : List AV} {κ b : Nat}
theorem gv_X1_243 {x op : Int} {w : Nat} (hw : sh_ σ w = some (.inl 10)) (ho : iv_ σ w 3 = op) (hop : 1 ≤ op ∧ op ≤ 15) (hx : 0 ≤ x ∧ x ≤ 1000000) (hy : y.cls = RX1) (hκ : κ < 4) (hs : sh_ σ b = some (.inl (11 + κ))) (hdd : 5 ≤ d) (hst : (rest.map cw_).sum ≤ 8) (hd : decode cc pc = .ok (.invokevirtual 243, 3)) (k : Go_ G (rm_ G d σ0) y cc nL ret σ0 Z (pc + 3) ev (I_ (if (κ : Int) = 3 then x else sd_ op x) :: rest) σ) : Go_ G (rm_ G d σ0) y cc nL ret σ0 Z pc ev (I_ x :: A_ (some w) :: A_ (some b) :: rest) σ := by
  match κ, hκ, hs, k with
  | 0, _, hs, k =>
    refine g_callU2I (d' := 4) (by rw [hy]; exact lk_X1_243_c11) hs rfl (rm_lt (by omega) (by decide)) hst hd ?_
    exact x9_sets (κ := 0) (by decide) hs hw ho hop hx k
  | 1, _, hs, k =>
    refine g_callV2I (d' := 4) (by rw [hy]; exact lk_X1_243) hs rfl (rm_lt (by omega) (by decide)) hst hd ?_
    exact x9_sets (κ := 1) (by decide) hs hw ho hop hx k
  | 2, _, hs, k =>
    refine g_callU2I (d' := 4) (by rw [hy]; exact lk_X1_243_c13) hs rfl (rm_lt (by omega) (by decide)) hst hd ?_
    exact x9_sets (κ := 2) (by decide) hs hw ho hop hx k
  | 3, _, hs, k =>
    refine g_callU2I (d' := 4) (by rw [hy]; exact lk_X1_243_c14) hs rfl (rm_lt (by omega) (by decide)) hst hd ?_
    exact x9_sets (κ := 3) (by decide) hs hw ho hop hx k
end
section
variable {G : JG} {X lo : Nat} {σ : JH} {T : XT} {r s : Int → Int}
theorem xp_length  {i : Int} {Q : Int → JH → Prop} (hP : PQ_ G σ lo T r) (hW : RW_ r) (hi : 0 ≤ i ∧ i < r 4)
    (hQ : Q (r (10 + 7 * i)) σ) : CallI_ G 5 yX5_length cX5_length 2 (some .int) [A_ (some (xP_ T)), I_ i] σ Q := by
  refine call_go [some (A_ (some (xP_ T))), some (I_ i)] (by decide) (Nat.le_of_ble_eq_true rfl) rfl ?_
  refine g_al0 dX5_length_0 ?_
  refine f_getA 4 fk_X5_12 rfl hP.sh (fun _ _ => rfl) hP.f4 dX5_length_1 ?_
  refine g_il1 dX5_length_4 ?_
  refine g_callV1A (d' := 4) lk_X5_34 hP.l0.1 rfl (rm_lt (by decide) (by decide)) (Nat.le_of_ble_eq_true rfl) dX5_length_5 ?_
  refine js_get hP.l0 hi ?_
  have hI := hP.isl (i := i) (by omega) (by omega)
  have hl := hW.len (i := i) (by omega) (by omega)
  refine g_cast q759 hI.1 (Or.inl rfl) dX5_length_8 ?_
  refine f_getA 1 fk_X5_77 rfl hI.1 (fun _ _ => rfl) hI.2.2.1 dX5_length_11 ?_
  refine g_alen (by decide) hI.2.2.2.1 dX5_length_14 ?_
  refine g_top (show ((r (10 + 7 * i)).toNat : Int) = r (10 + 7 * i) by omega) ?_
  exact g_iret rfl dX5_length_15 ⟨_, rfl, hQ⟩
theorem xp_note  {i k y : Int} {Q : Int → JH → Prop} (hP : PQ_ G σ lo T r) (hW : RW_ r) (hi : 0 ≤ i ∧ i < r 4) (hk : 0 ≤ k ∧ k < r (10 + 7 * i)) (hy : 0 ≤ y ∧ y < 100000)
    (hQ : Q (nt_ r i k y) σ) : CallI_ G 5 yX5_note cX5_note 5 (some .int) [A_ (some (xP_ T)), I_ i, I_ k, I_ y] σ Q := by
  refine call_go [some (A_ (some (xP_ T))), some (I_ i), some (I_ k), some (I_ y), none] (by decide) (Nat.le_of_ble_eq_true rfl) rfl ?_
  refine g_al0 dX5_note_0 ?_
  refine f_getv 2 fk_X5_81 rfl hP.sh (fun _ _ => rfl) hP.n2 dX5_note_1 ?_
  have hn := hW.n
  refine g_if_ne (tgt := 11) dX5_note_4 (by decide) (by omega) (fun h4 => ?_) (fun h4 => ?_)
  · refine g_il3 dX5_note_11 ?_
    refine g_al0 dX5_note_12 ?_
    refine f_getv 2 fk_X5_81 rfl hP.sh (fun _ _ => rfl) hP.n2 dX5_note_13 ?_
    refine g_idiv dX5_note_16 (by omega) ?_
    have hq := dm_ (a := y) (b := r 2) (by omega) (by omega)
    refine g_al0 dX5_note_17 ?_
    refine f_getv 0 fk_X5_84 rfl hP.sh (fun _ _ => rfl) hP.n0 dX5_note_18 ?_
    refine g_irem dX5_note_21 (by omega) ?_
    have hq2 := dm_ (a := y / r 2) (b := r 0) (by omega) (by omega)
    refine g_is4 dX5_note_22 (by decide) rfl ?_
    refine g_al0 dX5_note_24 ?_
    refine f_getA 4 fk_X5_12 rfl hP.sh (fun _ _ => rfl) hP.f4 dX5_note_25 ?_
    refine g_il1 dX5_note_28 ?_
    refine g_callV1A (d' := 4) lk_X5_34 hP.l0.1 rfl (rm_lt (by decide) (by decide)) (Nat.le_of_ble_eq_true rfl) dX5_note_29 ?_
    refine js_get hP.l0 hi ?_
    have hI := hP.isl (i := i) (by omega) (by omega)
    have hl := hW.len (i := i) (by omega) (by omega)
    have hsg := hW.song (i := i) (k := k) (by omega) (by omega) (by omega) (by omega)
    refine g_cast q759 hI.1 (Or.inl rfl) dX5_note_32 ?_
    refine f_getA 1 fk_X5_77 rfl hI.1 (fun _ _ => rfl) hI.2.2.1 dX5_note_35 ?_
    refine g_il2 dX5_note_38 ?_
    refine g_ialv hI.2.2.2.1 (by omega) (hI.2.2.2.2.2 k hk.1 hk.2) dX5_note_39 ?_
    refine g_al0 dX5_note_40 ?_
    refine f_getv 0 fk_X5_84 rfl hP.sh (fun _ _ => rfl) hP.n0 dX5_note_41 ?_
    refine g_iadd dX5_note_44 ?_
    refine g_il4 dX5_note_45 ?_
    refine g_isub dX5_note_47 ?_
    refine g_al0 dX5_note_48 ?_
    refine f_getv 0 fk_X5_84 rfl hP.sh (fun _ _ => rfl) hP.n0 dX5_note_49 ?_
    refine g_irem dX5_note_52 (by omega) ?_
    exact g_iret rfl dX5_note_53 ⟨_, rfl, by unfold nt_ at hQ; rw [if_neg (by omega)] at hQ; exact hQ⟩
  refine g_iconst dX5_note_7 ?_
  refine g_goto (tgt := 22) dX5_note_8 (by decide) ?_
  refine g_is4 dX5_note_22 (by decide) rfl ?_
  refine g_al0 dX5_note_24 ?_
  refine f_getA 4 fk_X5_12 rfl hP.sh (fun _ _ => rfl) hP.f4 dX5_note_25 ?_
  refine g_il1 dX5_note_28 ?_
  refine g_callV1A (d' := 4) lk_X5_34 hP.l0.1 rfl (rm_lt (by decide) (by decide)) (Nat.le_of_ble_eq_true rfl) dX5_note_29 ?_
  refine js_get hP.l0 hi ?_
  have hI := hP.isl (i := i) (by omega) (by omega)
  have hl := hW.len (i := i) (by omega) (by omega)
  have hsg := hW.song (i := i) (k := k) (by omega) (by omega) (by omega) (by omega)
  refine g_cast q759 hI.1 (Or.inl rfl) dX5_note_32 ?_
  refine f_getA 1 fk_X5_77 rfl hI.1 (fun _ _ => rfl) hI.2.2.1 dX5_note_35 ?_
  refine g_il2 dX5_note_38 ?_
  refine g_ialv hI.2.2.2.1 (by omega) (hI.2.2.2.2.2 k hk.1 hk.2) dX5_note_39 ?_
  refine g_al0 dX5_note_40 ?_
  refine f_getv 0 fk_X5_84 rfl hP.sh (fun _ _ => rfl) hP.n0 dX5_note_41 ?_
  refine g_iadd dX5_note_44 ?_
  refine g_il4 dX5_note_45 ?_
  refine g_isub dX5_note_47 ?_
  refine g_al0 dX5_note_48 ?_
  refine f_getv 0 fk_X5_84 rfl hP.sh (fun _ _ => rfl) hP.n0 dX5_note_49 ?_
  refine g_irem dX5_note_52 (by omega) ?_
  exact g_iret rfl dX5_note_53 ⟨_, rfl, by unfold nt_ at hQ; rw [if_pos (by omega)] at hQ; exact hQ⟩
theorem xp_unlike {a na : Nat} {ρ : Int → Int} {fr i y : Int} {Q : Int → JH → Prop} (hP : PQ_ G σ lo T r) (hW : RW_ r) (hi : 0 ≤ i ∧ i < r 4) (hy : 0 ≤ y ∧ y < 100000) (hsa : sh_ σ a = some (.inr (0, na))) (hro : ∀ k, 0 ≤ k → k < r (10 + 7 * i) → iv_ σ a (fr + k) = ρ k ∧ -100 ≤ ρ k ∧ ρ k ≤ 100) (hfr : 0 ≤ fr ∧ fr + r (10 + 7 * i) ≤ na ∧ na ≤ 100000)
    (hQ : Q (ul_ r ρ i y (r (10 + 7 * i))) σ) : CallI_ G 6 yX5_unlike cX5_unlike 7 (some .int) [A_ (some (xP_ T)), A_ (some a), I_ fr, I_ i, I_ y] σ Q := by
  refine call_go [some (A_ (some (xP_ T))), some (A_ (some a)), some (I_ fr), some (I_ i), some (I_ y), none, none] (by decide) (Nat.le_of_ble_eq_true rfl) rfl ?_
  have hln := hW.len hi.1 hi.2
  have L6 : ∀ (fu : Nat) (n1 : Int) (k : Int), r (10 + 7 * i) - k < (fu : Int) → (0 ≤ k) → (k ≤ r (10 + 7 * i)) → (0 ≤ n1 ∧ n1 ≤ k) → (n1 = sI_ (fun k => if nt_ r i k y = ρ k then 0 else 1) k) → GoM_ G 6 yX5_unlike cX5_unlike 7 (some .int) σ (fun v σ' => ∃ x : Int, v = some (I_ x) ∧ Q x σ') 6 [some (A_ (some (xP_ T))), some (A_ (some a)), some (I_ fr), some (I_ i), some (I_ y), some (I_ n1), some (I_ k)] [] σ := by
    intro fu
    induction fu with
    | zero => intro n1 k hn h0 h1 hn1 hc; exact absurd hn (by omega)
    | succ fu ih =>
      intro n1 k hn h0 h1 hn1 hc
      refine g_il6 dX5_unlike_6 ?_
      refine g_al0 dX5_unlike_8 ?_
      refine g_il3 dX5_unlike_9 ?_
      refine g_callV1I (d' := 5) lk_X5_87 hP.sh rfl (rm_lt (by decide) (by decide)) (Nat.le_of_ble_eq_true rfl) dX5_unlike_10 ?_
      refine xp_length hP hW hi ?_
      refine g_icmp_ge (tgt := 50) dX5_unlike_13 (by decide) (by omega) (fun h13 => ?_) (fun h13 => ?_)
      · refine g_il5 dX5_unlike_50 ?_
        exact g_iret rfl dX5_unlike_52 ⟨_, rfl, by unfold ul_ at hQ; rw [show r (10 + 7 * i) = k by omega, ← hc] at hQ; exact hQ⟩
      refine g_il5 dX5_unlike_16 ?_
      refine g_al1 dX5_unlike_18 ?_
      refine g_il2 dX5_unlike_19 ?_
      refine g_il6 dX5_unlike_20 ?_
      refine g_iadd dX5_unlike_22 ?_
      have hk := hro k h0 (by omega)
      refine g_ialv hsa (by omega) hk.1 dX5_unlike_23 ?_
      refine g_al0 dX5_unlike_24 ?_
      refine g_il3 dX5_unlike_25 ?_
      refine g_il6 dX5_unlike_26 ?_
      refine g_il4 dX5_unlike_28 ?_
      refine g_callV3I (d' := 5) lk_X5_91 hP.sh rfl (rm_lt (by decide) (by decide)) (Nat.le_of_ble_eq_true rfl) dX5_unlike_30 ?_
      refine xp_note hP hW hi ⟨h0, by omega⟩ hy ?_
      have hnt := nt_in hW i k y
      have hn0 := hW.n
      refine g_icmp_eq (tgt := 40) dX5_unlike_33 (by decide) (by omega) (fun h33 => ?_) (fun h33 => ?_)
      · refine g_iconst dX5_unlike_40 ?_
        refine g_iadd dX5_unlike_41 ?_
        refine g_is5 dX5_unlike_42 (by decide) rfl ?_
        refine g_inc6 dX5_unlike_44 (by decide) rfl ?_
        refine g_goto (tgt := 6) dX5_unlike_47 (by decide) ?_
        refine ih _ _ (by omega) (by omega) (by omega) (by omega) ?_
        rw [sI_s _ h0, ← hc]
        rw [if_pos (by omega)]
      refine g_iconst dX5_unlike_36 ?_
      refine g_goto (tgt := 41) dX5_unlike_37 (by decide) ?_
      refine g_iadd dX5_unlike_41 ?_
      refine g_is5 dX5_unlike_42 (by decide) rfl ?_
      refine g_inc6 dX5_unlike_44 (by decide) rfl ?_
      refine g_goto (tgt := 6) dX5_unlike_47 (by decide) ?_
      refine ih _ _ (by omega) (by omega) (by omega) (by omega) ?_
      rw [sI_s _ h0, ← hc]
      rw [if_neg (by omega)]
  refine g_iconst dX5_unlike_0 ?_
  refine g_is5 dX5_unlike_1 (by decide) rfl ?_
  refine g_iconst dX5_unlike_3 ?_
  refine g_is6 dX5_unlike_4 (by decide) rfl ?_
  exact L6 7 _ _ (by omega) (by omega) (by omega) (by omega) (sI_0 _).symm
theorem xp_heard {a na : Nat} {ρ : Int → Int} {fr L y : Int} {Q : Int → JH → Prop} (hP : PQ_ G σ lo T r) (hW : RW_ r) (hL : 2 ≤ L ∧ L ≤ 6) (hy : 0 ≤ y ∧ y < 100000) (hsa : sh_ σ a = some (.inr (0, na))) (hro : ∀ k, 0 ≤ k → k < L → iv_ σ a (fr + k) = ρ k ∧ -100 ≤ ρ k ∧ ρ k ≤ 100) (hfr : 0 ≤ fr ∧ fr + L ≤ na ∧ na ≤ 100000)
    (hQ : Q (hd_ r ρ L y) σ) : CallI_ G 7 yX5_heard cX5_heard 9 (some .int) [A_ (some (xP_ T)), A_ (some a), I_ fr, I_ L, I_ y] σ Q := by
  refine call_go [some (A_ (some (xP_ T))), some (A_ (some a)), some (I_ fr), some (I_ L), some (I_ y), none, none, none, none] (by decide) (Nat.le_of_ble_eq_true rfl) rfl ?_
  have hn := hW.n
  have L11 : ∀ (fu : Nat) (be : Int) (le : Int) (i : Int) (v8 : Option AV), r 4 - i < (fu : Int) → (0 ≤ i) → (i ≤ r 4) → (0 ≤ le ∧ le ≤ 7) → (-2 ≤ be ∧ be ≤ 7) → ((be, le) = iI_ (hs_ r ρ L y) (-2, 7) i) → GoM_ G 7 yX5_heard cX5_heard 9 (some .int) σ (fun v σ' => ∃ x : Int, v = some (I_ x) ∧ Q x σ') 11 [some (A_ (some (xP_ T))), some (A_ (some a)), some (I_ fr), some (I_ L), some (I_ y), some (I_ be), some (I_ le), some (I_ i), v8] [] σ := by
    intro fu
    induction fu with
    | zero => intro be le i v8 hn h0 h1 hle hbe hc; exact absurd hn (by omega)
    | succ fu ih =>
      intro be le i v8 hn h0 h1 hle hbe hc
      refine g_il7 dX5_heard_11 ?_
      refine g_al0 dX5_heard_13 ?_
      refine f_getA 4 fk_X5_12 rfl hP.sh (fun _ _ => rfl) hP.f4 dX5_heard_14 ?_
      refine g_callV0I (d' := 2) lk_X5_30 hP.l0.1 rfl (rm_lt (by decide) (by decide)) (Nat.le_of_ble_eq_true rfl) dX5_heard_17 ?_
      refine js_size hP.l0 ?_
      refine g_icmp_ge (tgt := 84) dX5_heard_20 (by decide) (by omega) (fun h20 => ?_) (fun h20 => ?_)
      · refine g_il6 dX5_heard_84 ?_
        refine g_al0 dX5_heard_86 ?_
        refine f_getv 1 fk_X5_99 rfl hP.sh (fun _ _ => rfl) hP.n1 dX5_heard_87 ?_
        refine g_icmp_gt (tgt := 98) dX5_heard_90 (by decide) (by omega) (fun h90 => ?_) (fun h90 => ?_)
        · refine g_bipush dX5_heard_98 (by decide) (by decide) ?_
          exact g_iret rfl dX5_heard_100 ⟨_, rfl, (by have e : r 4 = i := (by omega); unfold hd_ at hQ; rw [e, ← hc] at hQ; dsimp only at hQ; split at hQ <;> first | exact hQ | (exfalso; omega))⟩
        refine g_il5 dX5_heard_93 ?_
        refine g_goto (tgt := 100) dX5_heard_95 (by decide) ?_
        exact g_iret rfl dX5_heard_100 ⟨_, rfl, (by have e : r 4 = i := (by omega); unfold hd_ at hQ; rw [e, ← hc] at hQ; dsimp only at hQ; split at hQ <;> first | exact hQ | (exfalso; omega))⟩
      refine g_al0 dX5_heard_23 ?_
      refine g_il7 dX5_heard_24 ?_
      refine g_callV1I (d' := 5) lk_X5_87 hP.sh rfl (rm_lt (by decide) (by decide)) (Nat.le_of_ble_eq_true rfl) dX5_heard_26 ?_
      refine xp_length hP hW ⟨h0, by omega⟩ ?_
      have hl := hW.len (i := i) (by omega) (by omega)
      refine g_il3 dX5_heard_29 ?_
      refine g_icmp_eq (tgt := 36) dX5_heard_30 (by decide) (by omega) (fun h30 => ?_) (fun h30 => ?_)
      · refine g_al0 dX5_heard_36 ?_
        refine g_al1 dX5_heard_37 ?_
        refine g_il2 dX5_heard_38 ?_
        refine g_il7 dX5_heard_39 ?_
        refine g_il4 dX5_heard_41 ?_
        refine g_callV4I (d' := 6) lk_X5_95 hP.sh rfl (rm_lt (by decide) (by decide)) (Nat.le_of_ble_eq_true rfl) dX5_heard_43 ?_
        have eL : r (10 + 7 * i) = L := by omega
        refine xp_unlike hP hW ⟨h0, by omega⟩ hy hsa (by rw [eL]; exact hro) (by rw [eL]; exact hfr) ?_
        rw [eL]
        have hu := ul_in r ρ i y (L := L) (by omega)
        refine g_is8 dX5_heard_46 (by decide) rfl ?_
        refine g_il8 dX5_heard_48 ?_
        refine g_il6 dX5_heard_50 ?_
        refine g_icmp_le (tgt := 58) dX5_heard_52 (by decide) (by omega) (fun h52 => ?_) (fun h52 => ?_)
        · refine g_il8 dX5_heard_58 ?_
          refine g_il6 dX5_heard_60 ?_
          refine g_icmp_ge (tgt := 70) dX5_heard_62 (by decide) (by omega) (fun h62 => ?_) (fun h62 => ?_)
          · refine g_bipush dX5_heard_70 (by decide) (by decide) ?_
            refine g_is5 dX5_heard_72 (by decide) rfl ?_
            refine g_il8 dX5_heard_74 ?_
            refine g_is6 dX5_heard_76 (by decide) rfl ?_
            refine g_inc7 dX5_heard_78 (by decide) rfl ?_
            refine g_goto (tgt := 11) dX5_heard_81 (by decide) ?_
            refine ih _ _ _ _ (by omega) (by omega) (by omega) (by omega) (by omega) ?_
            rw [iI_s _ _ h0, ← hc]
            unfold hs_
            (dsimp only; repeat' split) <;> first | rfl | (exfalso; omega) | (simp only [Prod.mk.injEq]; omega) | omega
          refine g_il7 dX5_heard_65 ?_
          refine g_goto (tgt := 72) dX5_heard_67 (by decide) ?_
          refine g_is5 dX5_heard_72 (by decide) rfl ?_
          refine g_il8 dX5_heard_74 ?_
          refine g_is6 dX5_heard_76 (by decide) rfl ?_
          refine g_inc7 dX5_heard_78 (by decide) rfl ?_
          refine g_goto (tgt := 11) dX5_heard_81 (by decide) ?_
          refine ih _ _ _ _ (by omega) (by omega) (by omega) (by omega) (by omega) ?_
          rw [iI_s _ _ h0, ← hc]
          unfold hs_
          (dsimp only; repeat' split) <;> first | rfl | (exfalso; omega) | (simp only [Prod.mk.injEq]; omega) | omega
        refine g_goto (tgt := 78) dX5_heard_55 (by decide) ?_
        refine g_inc7 dX5_heard_78 (by decide) rfl ?_
        refine g_goto (tgt := 11) dX5_heard_81 (by decide) ?_
        refine ih _ _ _ _ (by omega) (by omega) (by omega) (by omega) (by omega) ?_
        rw [iI_s _ _ h0, ← hc]
        unfold hs_
        (dsimp only; repeat' split) <;> first | rfl | (exfalso; omega) | (simp only [Prod.mk.injEq]; omega) | omega
      refine g_goto (tgt := 78) dX5_heard_33 (by decide) ?_
      refine g_inc7 dX5_heard_78 (by decide) rfl ?_
      refine g_goto (tgt := 11) dX5_heard_81 (by decide) ?_
      refine ih _ _ _ _ (by omega) (by omega) (by omega) (by omega) (by omega) ?_
      rw [iI_s _ _ h0, ← hc]
      unfold hs_
      (dsimp only; repeat' split) <;> first | rfl | (exfalso; omega) | (simp only [Prod.mk.injEq]; omega) | omega
  refine g_bipush dX5_heard_0 (by decide) (by decide) ?_
  refine g_is5 dX5_heard_2 (by decide) rfl ?_
  refine g_bipush dX5_heard_4 (by decide) (by decide) ?_
  refine g_is6 dX5_heard_6 (by decide) rfl ?_
  refine g_iconst dX5_heard_8 ?_
  refine g_is7 dX5_heard_9 (by decide) rfl ?_
  exact L11 8 _ _ _ _ (by omega) (by omega) (by omega) (by omega) (by omega) rfl
theorem ul_ap {i j : Int} (hW : RW_ r) (hi : 0 ≤ i ∧ i < r 4) (hj : 0 ≤ j ∧ j < r 4) (e : r (10 + 7 * i) = r (10 + 7 * j)) : ul_ r (fun k => r (11 + 7 * i + k)) j 0 (r (10 + 7 * j)) = ap_ r i j := by
  unfold ul_ ap_
  rw [if_pos e, e]
  refine sI_congr fun k k0 k1 => ?_
  have hn := hW.n
  have hl := hW.len hj.1 hj.2
  have h1 := hW.song (i := i) (k := k) hi.1 hi.2 k0 (by omega)
  have h2 := hW.song (i := j) (k := k) hj.1 hj.2 k0 (by omega)
  have en : nt_ r j k 0 = r (11 + 7 * j + k) := by
    unfold nt_
    have z : (if r 2 = 0 then (0 : Int) else 0 / r 2 % r 0) = 0 := by split <;> simp
    rw [z, show r (11 + 7 * j + k) + r 0 - 0 = r (11 + 7 * j + k) + r 0 by omega, Int.add_emod_right]
    exact Int.emod_eq_of_lt h2.1 h2.2
  rw [en]
  by_cases q : r (11 + 7 * i + k) = r (11 + 7 * j + k)
  · rw [if_pos q.symm, if_pos q]
  · rw [if_neg (fun w => q w.symm), if_neg q]
theorem xp_apart  {i j : Int} {Q : Int → JH → Prop} (hP : PQ_ G σ lo T r) (hW : RW_ r) (hi : 0 ≤ i ∧ i < r 4) (hj : 0 ≤ j ∧ j < r 4)
    (hQ : Q (ap_ r i j) σ) : CallI_ G 7 yX5_apart cX5_apart 3 (some .int) [A_ (some (xP_ T)), I_ i, I_ j] σ Q := by
  refine call_go [some (A_ (some (xP_ T))), some (I_ i), some (I_ j)] (by decide) (Nat.le_of_ble_eq_true rfl) rfl ?_
  refine g_al0 dX5_apart_0 ?_
  refine g_il1 dX5_apart_1 ?_
  refine g_callV1I (d' := 5) lk_X5_87 hP.sh rfl (rm_lt (by decide) (by decide)) (Nat.le_of_ble_eq_true rfl) dX5_apart_2 ?_
  refine xp_length hP hW hi ?_
  have hl1 := hW.len hi.1 hi.2
  refine g_al0 dX5_apart_5 ?_
  refine g_il2 dX5_apart_6 ?_
  refine g_callV1I (d' := 5) lk_X5_87 hP.sh rfl (rm_lt (by decide) (by decide)) (Nat.le_of_ble_eq_true rfl) dX5_apart_7 ?_
  refine xp_length hP hW hj ?_
  have hl2 := hW.len hj.1 hj.2
  refine g_icmp_eq (tgt := 18) dX5_apart_10 (by decide) (by omega) (fun h10 => ?_) (fun h10 => ?_)
  · refine g_al0 dX5_apart_18 ?_
    refine g_al0 dX5_apart_19 ?_
    refine f_getA 4 fk_X5_12 rfl hP.sh (fun _ _ => rfl) hP.f4 dX5_apart_20 ?_
    refine g_il1 dX5_apart_23 ?_
    refine g_callV1A (d' := 4) lk_X5_34 hP.l0.1 rfl (rm_lt (by decide) (by decide)) (Nat.le_of_ble_eq_true rfl) dX5_apart_24 ?_
    refine js_get hP.l0 hi ?_
    have hI := hP.isl hi.1 hi.2
    refine g_cast q759 hI.1 (Or.inl rfl) dX5_apart_27 ?_
    refine f_getA 1 fk_X5_77 rfl hI.1 (fun _ _ => rfl) hI.2.2.1 dX5_apart_30 ?_
    refine g_iconst dX5_apart_33 ?_
    refine g_il2 dX5_apart_34 ?_
    refine g_iconst dX5_apart_35 ?_
    refine g_callV4I (d' := 6) lk_X5_95 hP.sh rfl (rm_lt (by decide) (by decide)) (Nat.le_of_ble_eq_true rfl) dX5_apart_36 ?_
    have ee : r (10 + 7 * i) = r (10 + 7 * j) := by omega
    refine xp_unlike hP hW hj (by omega) (ρ := fun k => r (11 + 7 * i + k)) hI.2.2.2.1 (fun k k0 k1 => ?_) (by omega) ?_
    · have h1 := hW.song (i := i) (k := k) hi.1 hi.2 k0 (by omega)
      have hn := hW.n
      refine ⟨?_, by omega, by omega⟩
      rw [show (0 : Int) + k = k by omega]
      exact hI.2.2.2.2.2 k k0 (by omega)
    rw [ul_ap hW hi hj ee]
    exact g_iret rfl dX5_apart_39 ⟨_, rfl, hQ⟩
  refine g_bipush dX5_apart_13 (by decide) (by decide) ?_
  refine g_goto (tgt := 39) dX5_apart_15 (by decide) ?_
  exact g_iret rfl dX5_apart_39 ⟨_, rfl, by unfold ap_ at hQ; rw [if_neg (by omega)] at hQ; exact hQ⟩
end
