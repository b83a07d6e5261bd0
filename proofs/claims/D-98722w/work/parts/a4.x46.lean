/-! BOTH are made. Written by mod/ma4.py -/
set_option maxRecDepth 100000
section
variable {G : JG} {D : Nat} {σ : JH}
theorem xo_init  {Q : JH → Prop} (hlt : ∀ a s, sh_ σ a = some s → a < sz_ σ) (hs : sh_ σ D = some (.inl 0)) (ha : (gH_ G).size ≤ D) (hr : sz_ σ + 12 ≤ lc_ G ∧ us_ σ + 3544 ≤ ls_ G)
    (hQ : ∀ σ', BO_ G D σ σ' [(0, .inr (1, 1000)), (7, .inl 2), (8, .inl 2), (9, .inr (0, 1024)), (10, .inr (0, 6)), (11, .inr (0, 7)), (12, .inr (0, 7)), (13, .inr (2, 288)), (14, .inr (0, 256)), (15, .inr (0, 5)), (18, .inr (0, 49)), (19, .inr (0, 896))] 3544 (fun j => if j = 3 then -1 else iv_ σ D j) → Q σ') : CallV_ G 5 yX1_init cX1_init 1 none [A_ (some D)] σ Q := by
  refine call_go [some (A_ (some D))] (by decide) (Nat.le_of_ble_eq_true rfl) rfl ?_
  have hB := BO_.mk0 (G := G) (D := D) (σ0 := σ) (by have := hlt _ _ hs; omega)
  refine g_al0 dX1_init_0 ?_
  refine g_objInit q169 q_oi1 q_oi2 (rm_1 (by decide)) (Nat.le_of_ble_eq_true rfl) dX1_init_1 ?_
  refine g_al0 dX1_init_4 ?_
  refine g_sipush dX1_init_5 (by decide) (by decide) ?_
  refine g_newa (t := 1) (n := 1000) (atype := .byte) rfl (by decide) q198 rfl (by decide) (by have := hB.sz; simp at this; omega) dX1_init_8 ?_
  refine f_putAF 0 fk_X1_9 rfl (fin_ rfl ⟨rfl, rfl⟩) rfl (hB.sn (s := .inr (1, 1000)) (n := 1000) hs) ha (Or.inr ⟨_, rfl⟩) dX1_init_10 ?_
  refine g_bdA 0 rfl hB (by decide) (fun σ1 hB => ?_)
  replace hB : BO_ G D σ σ1 [(0, .inr (1, 1000))] 1000 (fun k => iv_ σ D k) := hB
  refine g_al0 dX1_init_13 ?_
  refine g_iconst dX1_init_14 ?_
  refine f_putI 3 fk_X1_13 rfl (nf_ rfl rfl) (hB.sh.trans hs) ha rfl dX1_init_15 ?_
  replace hB := hB.pi (k := 3) (x := -1)
  generalize pi_ _ D 3 (-1) = σ1 at hB ⊢
  refine g_al0 dX1_init_18 ?_
  refine g_lt (fun hlt1 hgz1 => ?_)
  refine g_new (ci := 2) nq_X1_17 ⟨_, rfl⟩ (by have := hB.sz; simp at this; omega) dX1_init_19 ?_
  refine g_dup dX1_init_22 rfl ?_
  refine g_callI0 (d' := 4) lk_X1_19 (rm_lt (by decide) (by decide)) (Nat.le_of_ble_eq_true rfl) dX1_init_23 ?_
  refine js_linit (by rw [sh_nw, if_pos rfl]) hgz1 ?_
  refine f_putAF 7 fk_X1_20 rfl (fin_ rfl ⟨rfl, rfl⟩) rfl (hB.sn (s := .inl 2) (n := 3) hs) ha (Or.inl ⟨_, rfl⟩) dX1_init_26 ?_
  refine g_bdL 7 rfl hB (by decide) (fun σ1 hB => ?_)
  replace hB : BO_ G D σ σ1 [(0, .inr (1, 1000)), (7, .inl 2)] 1003 (fun j => if j = 3 then -1 else iv_ σ D j) := hB
  refine g_al0 dX1_init_29 ?_
  refine g_lt (fun hlt1 hgz1 => ?_)
  refine g_new (ci := 2) nq_X1_17 ⟨_, rfl⟩ (by have := hB.sz; simp at this; omega) dX1_init_30 ?_
  refine g_dup dX1_init_33 rfl ?_
  refine g_callI0 (d' := 4) lk_X1_19 (rm_lt (by decide) (by decide)) (Nat.le_of_ble_eq_true rfl) dX1_init_34 ?_
  refine js_linit (by rw [sh_nw, if_pos rfl]) hgz1 ?_
  refine f_putAF 8 fk_X1_24 rfl (fin_ rfl ⟨rfl, rfl⟩) rfl (hB.sn (s := .inl 2) (n := 3) hs) ha (Or.inl ⟨_, rfl⟩) dX1_init_37 ?_
  refine g_bdL 8 rfl hB (by decide) (fun σ1 hB => ?_)
  replace hB : BO_ G D σ σ1 [(0, .inr (1, 1000)), (7, .inl 2), (8, .inl 2)] 1006 (fun j => if j = 3 then -1 else iv_ σ D j) := hB
  refine g_al0 dX1_init_40 ?_
  refine g_sipush dX1_init_41 (by decide) (by decide) ?_
  refine g_newa (t := 0) (n := 1024) (atype := .int) rfl (by decide) q260 rfl (by decide) (by have := hB.sz; simp at this; omega) dX1_init_44 ?_
  refine f_putAF 9 fk_X1_27 rfl (fin_ rfl ⟨rfl, rfl⟩) rfl (hB.sn (s := .inr (0, 1024)) (n := 1024) hs) ha (Or.inr ⟨_, rfl⟩) dX1_init_46 ?_
  refine g_bdA 9 rfl hB (by decide) (fun σ1 hB => ?_)
  replace hB : BO_ G D σ σ1 [(0, .inr (1, 1000)), (7, .inl 2), (8, .inl 2), (9, .inr (0, 1024))] 2030 (fun j => if j = 3 then -1 else iv_ σ D j) := hB
  refine g_al0 dX1_init_49 ?_
  refine g_bipush dX1_init_50 (by decide) (by decide) ?_
  refine g_newa (t := 0) (n := 6) (atype := .int) rfl (by decide) q260 rfl (by decide) (by have := hB.sz; simp at this; omega) dX1_init_52 ?_
  refine f_putAF 10 fk_X1_31 rfl (fin_ rfl ⟨rfl, rfl⟩) rfl (hB.sn (s := .inr (0, 6)) (n := 6) hs) ha (Or.inr ⟨_, rfl⟩) dX1_init_54 ?_
  refine g_bdA 10 rfl hB (by decide) (fun σ1 hB => ?_)
  replace hB : BO_ G D σ σ1 [(0, .inr (1, 1000)), (7, .inl 2), (8, .inl 2), (9, .inr (0, 1024)), (10, .inr (0, 6))] 2036 (fun j => if j = 3 then -1 else iv_ σ D j) := hB
  refine g_al0 dX1_init_57 ?_
  refine g_bipush dX1_init_58 (by decide) (by decide) ?_
  refine g_newa (t := 0) (n := 7) (atype := .int) rfl (by decide) q260 rfl (by decide) (by have := hB.sz; simp at this; omega) dX1_init_60 ?_
  refine f_putAF 11 fk_X1_34 rfl (fin_ rfl ⟨rfl, rfl⟩) rfl (hB.sn (s := .inr (0, 7)) (n := 7) hs) ha (Or.inr ⟨_, rfl⟩) dX1_init_62 ?_
  refine g_bdA 11 rfl hB (by decide) (fun σ1 hB => ?_)
  replace hB : BO_ G D σ σ1 [(0, .inr (1, 1000)), (7, .inl 2), (8, .inl 2), (9, .inr (0, 1024)), (10, .inr (0, 6)), (11, .inr (0, 7))] 2043 (fun j => if j = 3 then -1 else iv_ σ D j) := hB
  refine g_al0 dX1_init_65 ?_
  refine g_bipush dX1_init_66 (by decide) (by decide) ?_
  refine g_newa (t := 0) (n := 7) (atype := .int) rfl (by decide) q260 rfl (by decide) (by have := hB.sz; simp at this; omega) dX1_init_68 ?_
  refine f_putAF 12 fk_X1_37 rfl (fin_ rfl ⟨rfl, rfl⟩) rfl (hB.sn (s := .inr (0, 7)) (n := 7) hs) ha (Or.inr ⟨_, rfl⟩) dX1_init_70 ?_
  refine g_bdA 12 rfl hB (by decide) (fun σ1 hB => ?_)
  replace hB : BO_ G D σ σ1 [(0, .inr (1, 1000)), (7, .inl 2), (8, .inl 2), (9, .inr (0, 1024)), (10, .inr (0, 6)), (11, .inr (0, 7)), (12, .inr (0, 7))] 2050 (fun j => if j = 3 then -1 else iv_ σ D j) := hB
  refine g_al0 dX1_init_73 ?_
  refine g_sipush dX1_init_74 (by decide) (by decide) ?_
  refine g_newa (t := 2) (n := 288) (atype := .long) rfl (by decide) q261 rfl (by decide) (by have := hB.sz; simp at this; omega) dX1_init_77 ?_
  refine f_putAF 13 fk_X1_40 rfl (fin_ rfl ⟨rfl, rfl⟩) rfl (hB.sn (s := .inr (2, 288)) (n := 288) hs) ha (Or.inr ⟨_, rfl⟩) dX1_init_79 ?_
  refine g_bdA 13 rfl hB (by decide) (fun σ1 hB => ?_)
  replace hB : BO_ G D σ σ1 [(0, .inr (1, 1000)), (7, .inl 2), (8, .inl 2), (9, .inr (0, 1024)), (10, .inr (0, 6)), (11, .inr (0, 7)), (12, .inr (0, 7)), (13, .inr (2, 288))] 2338 (fun j => if j = 3 then -1 else iv_ σ D j) := hB
  refine g_al0 dX1_init_82 ?_
  refine g_sipush dX1_init_83 (by decide) (by decide) ?_
  refine g_newa (t := 0) (n := 256) (atype := .int) rfl (by decide) q260 rfl (by decide) (by have := hB.sz; simp at this; omega) dX1_init_86 ?_
  refine f_putAF 14 fk_X1_44 rfl (fin_ rfl ⟨rfl, rfl⟩) rfl (hB.sn (s := .inr (0, 256)) (n := 256) hs) ha (Or.inr ⟨_, rfl⟩) dX1_init_88 ?_
  refine g_bdA 14 rfl hB (by decide) (fun σ1 hB => ?_)
  replace hB : BO_ G D σ σ1 [(0, .inr (1, 1000)), (7, .inl 2), (8, .inl 2), (9, .inr (0, 1024)), (10, .inr (0, 6)), (11, .inr (0, 7)), (12, .inr (0, 7)), (13, .inr (2, 288)), (14, .inr (0, 256))] 2594 (fun j => if j = 3 then -1 else iv_ σ D j) := hB
  refine g_al0 dX1_init_91 ?_
  refine g_iconst dX1_init_92 ?_
  refine g_newa (t := 0) (n := 5) (atype := .int) rfl (by decide) q260 rfl (by decide) (by have := hB.sz; simp at this; omega) dX1_init_93 ?_
  refine f_putAF 15 fk_X1_47 rfl (fin_ rfl ⟨rfl, rfl⟩) rfl (hB.sn (s := .inr (0, 5)) (n := 5) hs) ha (Or.inr ⟨_, rfl⟩) dX1_init_95 ?_
  refine g_bdA 15 rfl hB (by decide) (fun σ1 hB => ?_)
  replace hB : BO_ G D σ σ1 [(0, .inr (1, 1000)), (7, .inl 2), (8, .inl 2), (9, .inr (0, 1024)), (10, .inr (0, 6)), (11, .inr (0, 7)), (12, .inr (0, 7)), (13, .inr (2, 288)), (14, .inr (0, 256)), (15, .inr (0, 5))] 2599 (fun j => if j = 3 then -1 else iv_ σ D j) := hB
  refine g_al0 dX1_init_98 ?_
  refine g_bipush dX1_init_99 (by decide) (by decide) ?_
  refine g_newa (t := 0) (n := 49) (atype := .int) rfl (by decide) q260 rfl (by decide) (by have := hB.sz; simp at this; omega) dX1_init_101 ?_
  refine f_putAF 18 fk_X1_50 rfl (fin_ rfl ⟨rfl, rfl⟩) rfl (hB.sn (s := .inr (0, 49)) (n := 49) hs) ha (Or.inr ⟨_, rfl⟩) dX1_init_103 ?_
  refine g_bdA 18 rfl hB (by decide) (fun σ1 hB => ?_)
  replace hB : BO_ G D σ σ1 [(0, .inr (1, 1000)), (7, .inl 2), (8, .inl 2), (9, .inr (0, 1024)), (10, .inr (0, 6)), (11, .inr (0, 7)), (12, .inr (0, 7)), (13, .inr (2, 288)), (14, .inr (0, 256)), (15, .inr (0, 5)), (18, .inr (0, 49))] 2648 (fun j => if j = 3 then -1 else iv_ σ D j) := hB
  refine g_al0 dX1_init_106 ?_
  refine g_sipush dX1_init_107 (by decide) (by decide) ?_
  refine g_newa (t := 0) (n := 896) (atype := .int) rfl (by decide) q260 rfl (by decide) (by have := hB.sz; simp at this; omega) dX1_init_110 ?_
  refine f_putAF 19 fk_X1_53 rfl (fin_ rfl ⟨rfl, rfl⟩) rfl (hB.sn (s := .inr (0, 896)) (n := 896) hs) ha (Or.inr ⟨_, rfl⟩) dX1_init_112 ?_
  refine g_bdA 19 rfl hB (by decide) (fun σ1 hB => ?_)
  replace hB : BO_ G D σ σ1 [(0, .inr (1, 1000)), (7, .inl 2), (8, .inl 2), (9, .inr (0, 1024)), (10, .inr (0, 6)), (11, .inr (0, 7)), (12, .inr (0, 7)), (13, .inr (2, 288)), (14, .inr (0, 256)), (15, .inr (0, 5)), (18, .inr (0, 49)), (19, .inr (0, 896))] 3544 (fun j => if j = 3 then -1 else iv_ σ D j) := hB
  exact g_vret rfl dX1_init_115 ⟨rfl, hQ _ hB⟩
theorem mo_init  {Q : JH → Prop} (hlt : ∀ a s, sh_ σ a = some s → a < sz_ σ) (hs : sh_ σ D = some (.inl 1)) (ha : (gH_ G).size ≤ D) (hr : sz_ σ + 16 ≤ lc_ G ∧ us_ σ + 6283 ≤ ls_ G)
    (hQ : ∀ σ', BO_ G D σ σ' [(1, .inr (0, 1000)), (12, .inr (0, 8)), (15, .inr (0, 363)), (16, .inr (0, 363)), (17, .inr (0, 76)), (18, .inr (0, 912)), (19, .inr (0, 228)), (22, .inr (0, 3200)), (24, .inr (0, 7)), (25, .inr (0, 7)), (28, .inr (0, 8)), (29, .inr (0, 8)), (30, .inr (0, 40)), (35, .inr (0, 49)), (36, .inr (0, 7)), (37, .inr (0, 7))] 6283 (fun j => if j = 10 then -1 else iv_ σ D j) → Q σ') : CallV_ G 2 yX2_init cX2_init 1 none [A_ (some D)] σ Q := by
  refine call_go [some (A_ (some D))] (by decide) (Nat.le_of_ble_eq_true rfl) rfl ?_
  have hB := BO_.mk0 (G := G) (D := D) (σ0 := σ) (by have := hlt _ _ hs; omega)
  refine g_al0 dX2_init_0 ?_
  refine g_objInit q1672 q_oi1 q_oi2 (rm_1 (by decide)) (Nat.le_of_ble_eq_true rfl) dX2_init_1 ?_
  refine g_al0 dX2_init_4 ?_
  refine g_sipush dX2_init_5 (by decide) (by decide) ?_
  refine g_newa (t := 0) (n := 1000) (atype := .int) rfl (by decide) q260 rfl (by decide) (by have := hB.sz; simp at this; omega) dX2_init_8 ?_
  refine f_putAF 1 fk_X2_7 rfl (fin_ rfl ⟨rfl, rfl⟩) rfl (hB.sn (s := .inr (0, 1000)) (n := 1000) hs) ha (Or.inr ⟨_, rfl⟩) dX2_init_10 ?_
  refine g_bdA 1 rfl hB (by decide) (fun σ1 hB => ?_)
  replace hB : BO_ G D σ σ1 [(1, .inr (0, 1000))] 1000 (fun k => iv_ σ D k) := hB
  refine g_al0 dX2_init_13 ?_
  refine g_iconst dX2_init_14 ?_
  refine f_putI 10 fk_X2_13 rfl (nf_ rfl rfl) (hB.sh.trans hs) ha rfl dX2_init_15 ?_
  replace hB := hB.pi (k := 10) (x := -1)
  generalize pi_ _ D 10 (-1) = σ1 at hB ⊢
  refine g_al0 dX2_init_18 ?_
  refine g_bipush dX2_init_19 (by decide) (by decide) ?_
  refine g_newa (t := 0) (n := 8) (atype := .int) rfl (by decide) q260 rfl (by decide) (by have := hB.sz; simp at this; omega) dX2_init_21 ?_
  refine f_putAF 12 fk_X2_17 rfl (fin_ rfl ⟨rfl, rfl⟩) rfl (hB.sn (s := .inr (0, 8)) (n := 8) hs) ha (Or.inr ⟨_, rfl⟩) dX2_init_23 ?_
  refine g_bdA 12 rfl hB (by decide) (fun σ1 hB => ?_)
  replace hB : BO_ G D σ σ1 [(1, .inr (0, 1000)), (12, .inr (0, 8))] 1008 (fun j => if j = 10 then -1 else iv_ σ D j) := hB
  refine g_al0 dX2_init_26 ?_
  refine g_sipush dX2_init_27 (by decide) (by decide) ?_
  refine g_newa (t := 0) (n := 363) (atype := .int) rfl (by decide) q260 rfl (by decide) (by have := hB.sz; simp at this; omega) dX2_init_30 ?_
  refine f_putAF 15 fk_X2_20 rfl (fin_ rfl ⟨rfl, rfl⟩) rfl (hB.sn (s := .inr (0, 363)) (n := 363) hs) ha (Or.inr ⟨_, rfl⟩) dX2_init_32 ?_
  refine g_bdA 15 rfl hB (by decide) (fun σ1 hB => ?_)
  replace hB : BO_ G D σ σ1 [(1, .inr (0, 1000)), (12, .inr (0, 8)), (15, .inr (0, 363))] 1371 (fun j => if j = 10 then -1 else iv_ σ D j) := hB
  refine g_al0 dX2_init_35 ?_
  refine g_sipush dX2_init_36 (by decide) (by decide) ?_
  refine g_newa (t := 0) (n := 363) (atype := .int) rfl (by decide) q260 rfl (by decide) (by have := hB.sz; simp at this; omega) dX2_init_39 ?_
  refine f_putAF 16 fk_X2_23 rfl (fin_ rfl ⟨rfl, rfl⟩) rfl (hB.sn (s := .inr (0, 363)) (n := 363) hs) ha (Or.inr ⟨_, rfl⟩) dX2_init_41 ?_
  refine g_bdA 16 rfl hB (by decide) (fun σ1 hB => ?_)
  replace hB : BO_ G D σ σ1 [(1, .inr (0, 1000)), (12, .inr (0, 8)), (15, .inr (0, 363)), (16, .inr (0, 363))] 1734 (fun j => if j = 10 then -1 else iv_ σ D j) := hB
  refine g_al0 dX2_init_44 ?_
  refine g_bipush dX2_init_45 (by decide) (by decide) ?_
  refine g_newa (t := 0) (n := 76) (atype := .int) rfl (by decide) q260 rfl (by decide) (by have := hB.sz; simp at this; omega) dX2_init_47 ?_
  refine f_putAF 17 fk_X2_26 rfl (fin_ rfl ⟨rfl, rfl⟩) rfl (hB.sn (s := .inr (0, 76)) (n := 76) hs) ha (Or.inr ⟨_, rfl⟩) dX2_init_49 ?_
  refine g_bdA 17 rfl hB (by decide) (fun σ1 hB => ?_)
  replace hB : BO_ G D σ σ1 [(1, .inr (0, 1000)), (12, .inr (0, 8)), (15, .inr (0, 363)), (16, .inr (0, 363)), (17, .inr (0, 76))] 1810 (fun j => if j = 10 then -1 else iv_ σ D j) := hB
  refine g_al0 dX2_init_52 ?_
  refine g_sipush dX2_init_53 (by decide) (by decide) ?_
  refine g_newa (t := 0) (n := 912) (atype := .int) rfl (by decide) q260 rfl (by decide) (by have := hB.sz; simp at this; omega) dX2_init_56 ?_
  refine f_putAF 18 fk_X2_29 rfl (fin_ rfl ⟨rfl, rfl⟩) rfl (hB.sn (s := .inr (0, 912)) (n := 912) hs) ha (Or.inr ⟨_, rfl⟩) dX2_init_58 ?_
  refine g_bdA 18 rfl hB (by decide) (fun σ1 hB => ?_)
  replace hB : BO_ G D σ σ1 [(1, .inr (0, 1000)), (12, .inr (0, 8)), (15, .inr (0, 363)), (16, .inr (0, 363)), (17, .inr (0, 76)), (18, .inr (0, 912))] 2722 (fun j => if j = 10 then -1 else iv_ σ D j) := hB
  refine g_al0 dX2_init_61 ?_
  refine g_sipush dX2_init_62 (by decide) (by decide) ?_
  refine g_newa (t := 0) (n := 228) (atype := .int) rfl (by decide) q260 rfl (by decide) (by have := hB.sz; simp at this; omega) dX2_init_65 ?_
  refine f_putAF 19 fk_X2_32 rfl (fin_ rfl ⟨rfl, rfl⟩) rfl (hB.sn (s := .inr (0, 228)) (n := 228) hs) ha (Or.inr ⟨_, rfl⟩) dX2_init_67 ?_
  refine g_bdA 19 rfl hB (by decide) (fun σ1 hB => ?_)
  replace hB : BO_ G D σ σ1 [(1, .inr (0, 1000)), (12, .inr (0, 8)), (15, .inr (0, 363)), (16, .inr (0, 363)), (17, .inr (0, 76)), (18, .inr (0, 912)), (19, .inr (0, 228))] 2950 (fun j => if j = 10 then -1 else iv_ σ D j) := hB
  refine g_al0 dX2_init_70 ?_
  refine g_sipush dX2_init_71 (by decide) (by decide) ?_
  refine g_newa (t := 0) (n := 3200) (atype := .int) rfl (by decide) q260 rfl (by decide) (by have := hB.sz; simp at this; omega) dX2_init_74 ?_
  refine f_putAF 22 fk_X2_35 rfl (fin_ rfl ⟨rfl, rfl⟩) rfl (hB.sn (s := .inr (0, 3200)) (n := 3200) hs) ha (Or.inr ⟨_, rfl⟩) dX2_init_76 ?_
  refine g_bdA 22 rfl hB (by decide) (fun σ1 hB => ?_)
  replace hB : BO_ G D σ σ1 [(1, .inr (0, 1000)), (12, .inr (0, 8)), (15, .inr (0, 363)), (16, .inr (0, 363)), (17, .inr (0, 76)), (18, .inr (0, 912)), (19, .inr (0, 228)), (22, .inr (0, 3200))] 6150 (fun j => if j = 10 then -1 else iv_ σ D j) := hB
  refine g_al0 dX2_init_79 ?_
  refine g_bipush dX2_init_80 (by decide) (by decide) ?_
  refine g_newa (t := 0) (n := 7) (atype := .int) rfl (by decide) q260 rfl (by decide) (by have := hB.sz; simp at this; omega) dX2_init_82 ?_
  refine f_putAF 24 fk_X2_38 rfl (fin_ rfl ⟨rfl, rfl⟩) rfl (hB.sn (s := .inr (0, 7)) (n := 7) hs) ha (Or.inr ⟨_, rfl⟩) dX2_init_84 ?_
  refine g_bdA 24 rfl hB (by decide) (fun σ1 hB => ?_)
  replace hB : BO_ G D σ σ1 [(1, .inr (0, 1000)), (12, .inr (0, 8)), (15, .inr (0, 363)), (16, .inr (0, 363)), (17, .inr (0, 76)), (18, .inr (0, 912)), (19, .inr (0, 228)), (22, .inr (0, 3200)), (24, .inr (0, 7))] 6157 (fun j => if j = 10 then -1 else iv_ σ D j) := hB
  refine g_al0 dX2_init_87 ?_
  refine g_bipush dX2_init_88 (by decide) (by decide) ?_
  refine g_newa (t := 0) (n := 7) (atype := .int) rfl (by decide) q260 rfl (by decide) (by have := hB.sz; simp at this; omega) dX2_init_90 ?_
  refine f_putAF 25 fk_X2_41 rfl (fin_ rfl ⟨rfl, rfl⟩) rfl (hB.sn (s := .inr (0, 7)) (n := 7) hs) ha (Or.inr ⟨_, rfl⟩) dX2_init_92 ?_
  refine g_bdA 25 rfl hB (by decide) (fun σ1 hB => ?_)
  replace hB : BO_ G D σ σ1 [(1, .inr (0, 1000)), (12, .inr (0, 8)), (15, .inr (0, 363)), (16, .inr (0, 363)), (17, .inr (0, 76)), (18, .inr (0, 912)), (19, .inr (0, 228)), (22, .inr (0, 3200)), (24, .inr (0, 7)), (25, .inr (0, 7))] 6164 (fun j => if j = 10 then -1 else iv_ σ D j) := hB
  refine g_al0 dX2_init_95 ?_
  refine g_bipush dX2_init_96 (by decide) (by decide) ?_
  refine g_newa (t := 0) (n := 8) (atype := .int) rfl (by decide) q260 rfl (by decide) (by have := hB.sz; simp at this; omega) dX2_init_98 ?_
  refine f_putAF 28 fk_X2_44 rfl (fin_ rfl ⟨rfl, rfl⟩) rfl (hB.sn (s := .inr (0, 8)) (n := 8) hs) ha (Or.inr ⟨_, rfl⟩) dX2_init_100 ?_
  refine g_bdA 28 rfl hB (by decide) (fun σ1 hB => ?_)
  replace hB : BO_ G D σ σ1 [(1, .inr (0, 1000)), (12, .inr (0, 8)), (15, .inr (0, 363)), (16, .inr (0, 363)), (17, .inr (0, 76)), (18, .inr (0, 912)), (19, .inr (0, 228)), (22, .inr (0, 3200)), (24, .inr (0, 7)), (25, .inr (0, 7)), (28, .inr (0, 8))] 6172 (fun j => if j = 10 then -1 else iv_ σ D j) := hB
  refine g_al0 dX2_init_103 ?_
  refine g_bipush dX2_init_104 (by decide) (by decide) ?_
  refine g_newa (t := 0) (n := 8) (atype := .int) rfl (by decide) q260 rfl (by decide) (by have := hB.sz; simp at this; omega) dX2_init_106 ?_
  refine f_putAF 29 fk_X2_47 rfl (fin_ rfl ⟨rfl, rfl⟩) rfl (hB.sn (s := .inr (0, 8)) (n := 8) hs) ha (Or.inr ⟨_, rfl⟩) dX2_init_108 ?_
  refine g_bdA 29 rfl hB (by decide) (fun σ1 hB => ?_)
  replace hB : BO_ G D σ σ1 [(1, .inr (0, 1000)), (12, .inr (0, 8)), (15, .inr (0, 363)), (16, .inr (0, 363)), (17, .inr (0, 76)), (18, .inr (0, 912)), (19, .inr (0, 228)), (22, .inr (0, 3200)), (24, .inr (0, 7)), (25, .inr (0, 7)), (28, .inr (0, 8)), (29, .inr (0, 8))] 6180 (fun j => if j = 10 then -1 else iv_ σ D j) := hB
  refine g_al0 dX2_init_111 ?_
  refine g_bipush dX2_init_112 (by decide) (by decide) ?_
  refine g_newa (t := 0) (n := 40) (atype := .int) rfl (by decide) q260 rfl (by decide) (by have := hB.sz; simp at this; omega) dX2_init_114 ?_
  refine f_putAF 30 fk_X2_50 rfl (fin_ rfl ⟨rfl, rfl⟩) rfl (hB.sn (s := .inr (0, 40)) (n := 40) hs) ha (Or.inr ⟨_, rfl⟩) dX2_init_116 ?_
  refine g_bdA 30 rfl hB (by decide) (fun σ1 hB => ?_)
  replace hB : BO_ G D σ σ1 [(1, .inr (0, 1000)), (12, .inr (0, 8)), (15, .inr (0, 363)), (16, .inr (0, 363)), (17, .inr (0, 76)), (18, .inr (0, 912)), (19, .inr (0, 228)), (22, .inr (0, 3200)), (24, .inr (0, 7)), (25, .inr (0, 7)), (28, .inr (0, 8)), (29, .inr (0, 8)), (30, .inr (0, 40))] 6220 (fun j => if j = 10 then -1 else iv_ σ D j) := hB
  refine g_al0 dX2_init_119 ?_
  refine g_bipush dX2_init_120 (by decide) (by decide) ?_
  refine g_newa (t := 0) (n := 49) (atype := .int) rfl (by decide) q260 rfl (by decide) (by have := hB.sz; simp at this; omega) dX2_init_122 ?_
  refine f_putAF 35 fk_X2_53 rfl (fin_ rfl ⟨rfl, rfl⟩) rfl (hB.sn (s := .inr (0, 49)) (n := 49) hs) ha (Or.inr ⟨_, rfl⟩) dX2_init_124 ?_
  refine g_bdA 35 rfl hB (by decide) (fun σ1 hB => ?_)
  replace hB : BO_ G D σ σ1 [(1, .inr (0, 1000)), (12, .inr (0, 8)), (15, .inr (0, 363)), (16, .inr (0, 363)), (17, .inr (0, 76)), (18, .inr (0, 912)), (19, .inr (0, 228)), (22, .inr (0, 3200)), (24, .inr (0, 7)), (25, .inr (0, 7)), (28, .inr (0, 8)), (29, .inr (0, 8)), (30, .inr (0, 40)), (35, .inr (0, 49))] 6269 (fun j => if j = 10 then -1 else iv_ σ D j) := hB
  refine g_al0 dX2_init_127 ?_
  refine g_bipush dX2_init_128 (by decide) (by decide) ?_
  refine g_newa (t := 0) (n := 7) (atype := .int) rfl (by decide) q260 rfl (by decide) (by have := hB.sz; simp at this; omega) dX2_init_130 ?_
  refine f_putAF 36 fk_X2_56 rfl (fin_ rfl ⟨rfl, rfl⟩) rfl (hB.sn (s := .inr (0, 7)) (n := 7) hs) ha (Or.inr ⟨_, rfl⟩) dX2_init_132 ?_
  refine g_bdA 36 rfl hB (by decide) (fun σ1 hB => ?_)
  replace hB : BO_ G D σ σ1 [(1, .inr (0, 1000)), (12, .inr (0, 8)), (15, .inr (0, 363)), (16, .inr (0, 363)), (17, .inr (0, 76)), (18, .inr (0, 912)), (19, .inr (0, 228)), (22, .inr (0, 3200)), (24, .inr (0, 7)), (25, .inr (0, 7)), (28, .inr (0, 8)), (29, .inr (0, 8)), (30, .inr (0, 40)), (35, .inr (0, 49)), (36, .inr (0, 7))] 6276 (fun j => if j = 10 then -1 else iv_ σ D j) := hB
  refine g_al0 dX2_init_135 ?_
  refine g_bipush dX2_init_136 (by decide) (by decide) ?_
  refine g_newa (t := 0) (n := 7) (atype := .int) rfl (by decide) q260 rfl (by decide) (by have := hB.sz; simp at this; omega) dX2_init_138 ?_
  refine f_putAF 37 fk_X2_59 rfl (fin_ rfl ⟨rfl, rfl⟩) rfl (hB.sn (s := .inr (0, 7)) (n := 7) hs) ha (Or.inr ⟨_, rfl⟩) dX2_init_140 ?_
  refine g_bdA 37 rfl hB (by decide) (fun σ1 hB => ?_)
  replace hB : BO_ G D σ σ1 [(1, .inr (0, 1000)), (12, .inr (0, 8)), (15, .inr (0, 363)), (16, .inr (0, 363)), (17, .inr (0, 76)), (18, .inr (0, 912)), (19, .inr (0, 228)), (22, .inr (0, 3200)), (24, .inr (0, 7)), (25, .inr (0, 7)), (28, .inr (0, 8)), (29, .inr (0, 8)), (30, .inr (0, 40)), (35, .inr (0, 49)), (36, .inr (0, 7)), (37, .inr (0, 7))] 6283 (fun j => if j = 10 then -1 else iv_ σ D j) := hB
  exact g_vret rfl dX2_init_143 ⟨rfl, hQ _ hB⟩
end
