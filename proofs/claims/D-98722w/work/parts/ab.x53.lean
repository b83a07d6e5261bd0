/-! THE LAW's rounds, part 2. Written by mod/maa.py -/
set_option maxRecDepth 100000
section
variable {G : JG} {b L X : Nat} {xs : Nat → Int32} {i : Int} {σ0 σ : JH} {tp fa pl tr p un im : Int} {B r s : Int → Int} {U I : Int → Int → Int} {T : XT} {LL : XL}
theorem tq_match {x t : Int} (h : qMatch_ p r s = (x, t)) : 0 ≤ t ∧ t ≤ 6 ∧ t ≠ 4 := by
  have e : (qMatch_ p r s).2 = t := by rw [h]
  rw [← e]
  unfold qMatch_
  (repeat' split) <;> ((try dsimp only); omega)
theorem law_c29 {e5 e6 : Option AV} (h : LI_ G b L X i σ tp fa pl tr p un im B r s U I T LL) (hK : ∀ (e5 e6 : Option AV) (σ' : JH), LE_ G X σ σ' → GoW_ G b L xs σ0 1834 [some (A_ (some b)), some (A_ (some X)), some (A_ (some (X + 13))), some (A_ (some (X + 30))), some (I_ i), e5, e6] [] σ') : GoW_ G b L xs σ0 1202 [some (A_ (some b)), some (A_ (some X)), some (A_ (some (X + 13))), some (A_ (some (X + 30))), some (I_ i), e5, e6] [] σ := by
  obtain ⟨hS, hM, htr, hB, ⟨hbl, hL, hi0, hi6⟩, hrm, hst⟩ := h
  refine g_lt (fun hlt hgz => ?_)
  refine g_al1 dX0_law_1202 ?_
  refine g_callV0I (d' := 15) lk_X0_141 hS.1.1.sh rfl ⟨Nat.le_of_ble_eq_true rfl, Nat.le_of_ble_eq_true rfl⟩ (Nat.le_of_ble_eq_true rfl) dX0_law_1203 ?_
  refine xo_match hS.1 hM.P (fun x1 t1 σ1 e1 hX1 hE1 => ?_)
  refine g_lt (fun hlt1 hgz1 => ?_)
  have hM1 := hM.gx hB hE1.w
  refine g_al2 dX0_law_1206 ?_
  refine g_callV0I (d' := 15) lk_X0_144 hM1.M.sh rfl ⟨Nat.le_of_ble_eq_true rfl, Nat.le_of_ble_eq_true rfl⟩ (Nat.le_of_ble_eq_true rfl) dX0_law_1207 ?_
  refine mo_match hM1.M hM1.p14 hM.P (fun x2 t2 σ2 e2 hM2 hE2 => ?_)
  obtain ⟨rfl, rfl⟩ := Prod.mk.inj (e1.symm.trans e2)
  refine g_sameI (tgt := 1834) dX0_law_1210 (by decide) ?_
  exact hK _ _ _ (le_q hS hM hB hlt hlt1 hE1 hM2 hE2 (tq_match e1))
theorem tq_matchDays {x t : Int} (h : qMatchDays_ p r s = (x, t)) : 0 ≤ t ∧ t ≤ 6 ∧ t ≠ 4 := by
  have e : (qMatchDays_ p r s).2 = t := by rw [h]
  rw [← e]
  unfold qMatchDays_
  (repeat' split) <;> ((try dsimp only); omega)
theorem law_c30 {e5 e6 : Option AV} (h : LI_ G b L X i σ tp fa pl tr p un im B r s U I T LL) (hK : ∀ (e5 e6 : Option AV) (σ' : JH), LE_ G X σ σ' → GoW_ G b L xs σ0 1834 [some (A_ (some b)), some (A_ (some X)), some (A_ (some (X + 13))), some (A_ (some (X + 30))), some (I_ i), e5, e6] [] σ') : GoW_ G b L xs σ0 1215 [some (A_ (some b)), some (A_ (some X)), some (A_ (some (X + 13))), some (A_ (some (X + 30))), some (I_ i), e5, e6] [] σ := by
  obtain ⟨hS, hM, htr, hB, ⟨hbl, hL, hi0, hi6⟩, hrm, hst⟩ := h
  refine g_lt (fun hlt hgz => ?_)
  refine g_al1 dX0_law_1215 ?_
  refine g_callV0I (d' := 15) lk_X0_145 hS.1.1.sh rfl ⟨Nat.le_of_ble_eq_true rfl, Nat.le_of_ble_eq_true rfl⟩ (Nat.le_of_ble_eq_true rfl) dX0_law_1216 ?_
  refine xo_matchDays hS.1 hM.P (fun x1 t1 σ1 e1 hX1 hE1 => ?_)
  refine g_lt (fun hlt1 hgz1 => ?_)
  have hM1 := hM.gx hB hE1.w
  refine g_al2 dX0_law_1219 ?_
  refine g_callV0I (d' := 15) lk_X0_148 hM1.M.sh rfl ⟨Nat.le_of_ble_eq_true rfl, Nat.le_of_ble_eq_true rfl⟩ (Nat.le_of_ble_eq_true rfl) dX0_law_1220 ?_
  refine mo_matchDays hM1.M hM1.p14 hM.P (fun x2 t2 σ2 e2 hM2 hE2 => ?_)
  obtain ⟨rfl, rfl⟩ := Prod.mk.inj (e1.symm.trans e2)
  refine g_sameI (tgt := 1834) dX0_law_1223 (by decide) ?_
  exact hK _ _ _ (le_q hS hM hB hlt hlt1 hE1 hM2 hE2 (tq_matchDays e1))
theorem tq_matchOf {b : Int} {x t : Int} (h : qMatchOf_ p r s b = (x, t)) : 0 ≤ t ∧ t ≤ 6 ∧ t ≠ 4 := by
  have e : (qMatchOf_ p r s b).2 = t := by rw [h]
  rw [← e]
  unfold qMatchOf_
  (repeat' split) <;> ((try dsimp only); omega)
theorem law_c31 {e5 e6 : Option AV} (h : LI_ G b L X i σ tp fa pl tr p un im B r s U I T LL) (hK : ∀ (e5 e6 : Option AV) (σ' : JH), LE_ G X σ σ' → GoW_ G b L xs σ0 1834 [some (A_ (some b)), some (A_ (some X)), some (A_ (some (X + 13))), some (A_ (some (X + 30))), some (I_ i), e5, e6] [] σ') : GoW_ G b L xs σ0 1228 [some (A_ (some b)), some (A_ (some X)), some (A_ (some (X + 13))), some (A_ (some (X + 30))), some (I_ i), e5, e6] [] σ := by
  obtain ⟨hS, hM, htr, hB, ⟨hbl, hL, hi0, hi6⟩, hrm, hst⟩ := h
  refine g_lt (fun hlt hgz => ?_)
  refine g_al1 dX0_law_1228 ?_
  refine g_al0 dX0_law_1229 ?_
  refine g_il4 dX0_law_1230 ?_
  refine g_iconst dX0_law_1232 ?_
  refine g_iadd dX0_law_1233 ?_
  refine g_sld hbl (by omega) hL dX0_law_1234 ?_
  refine g_callV1I (d' := 15) lk_X0_149 hS.1.1.sh rfl ⟨Nat.le_of_ble_eq_true rfl, Nat.le_of_ble_eq_true rfl⟩ (Nat.le_of_ble_eq_true rfl) dX0_law_1235 ?_
  refine xo_matchOf hS.1 hM.P (xr_ _) (fun x1 t1 σ1 e1 hX1 hE1 => ?_)
  refine g_lt (fun hlt1 hgz1 => ?_)
  have hM1 := hM.gx hB hE1.w
  refine g_al2 dX0_law_1238 ?_
  refine g_al0 dX0_law_1239 ?_
  refine g_il4 dX0_law_1240 ?_
  refine g_iconst dX0_law_1242 ?_
  refine g_iadd dX0_law_1243 ?_
  refine g_sld hbl (by omega) hL dX0_law_1244 ?_
  refine g_callV1I (d' := 15) lk_X0_152 hM1.M.sh rfl ⟨Nat.le_of_ble_eq_true rfl, Nat.le_of_ble_eq_true rfl⟩ (Nat.le_of_ble_eq_true rfl) dX0_law_1245 ?_
  refine mo_matchOf hM1.M hM1.p14 hM.P (xr_ _) (fun x2 t2 σ2 e2 hM2 hE2 => ?_)
  obtain ⟨rfl, rfl⟩ := Prod.mk.inj (e1.symm.trans e2)
  refine g_sameI (tgt := 1834) dX0_law_1248 (by decide) ?_
  exact hK _ _ _ (le_q hS hM hB hlt hlt1 hE1 hM2 hE2 (tq_matchOf e1))
theorem tq_meet {b w c v : Int} {x t : Int} (h : qMeet_ p r s b w c v = (x, t)) : 0 ≤ t ∧ t ≤ 6 ∧ t ≠ 4 := by
  have e : (qMeet_ p r s b w c v).2 = t := by rw [h]
  rw [← e]
  unfold qMeet_
  (repeat' split) <;> ((try dsimp only); omega)
theorem law_c32 {e5 e6 : Option AV} (h : LI_ G b L X i σ tp fa pl tr p un im B r s U I T LL) (hK : ∀ (e5 e6 : Option AV) (σ' : JH), LE_ G X σ σ' → GoW_ G b L xs σ0 1834 [some (A_ (some b)), some (A_ (some X)), some (A_ (some (X + 13))), some (A_ (some (X + 30))), some (I_ i), e5, e6] [] σ') : GoW_ G b L xs σ0 1253 [some (A_ (some b)), some (A_ (some X)), some (A_ (some (X + 13))), some (A_ (some (X + 30))), some (I_ i), e5, e6] [] σ := by
  obtain ⟨hS, hM, htr, hB, ⟨hbl, hL, hi0, hi6⟩, hrm, hst⟩ := h
  refine g_lt (fun hlt hgz => ?_)
  refine g_al1 dX0_law_1253 ?_
  refine g_al0 dX0_law_1254 ?_
  refine g_il4 dX0_law_1255 ?_
  refine g_iconst dX0_law_1257 ?_
  refine g_iadd dX0_law_1258 ?_
  refine g_sld hbl (by omega) hL dX0_law_1259 ?_
  refine g_al0 dX0_law_1260 ?_
  refine g_il4 dX0_law_1261 ?_
  refine g_iconst dX0_law_1263 ?_
  refine g_iadd dX0_law_1264 ?_
  refine g_sld hbl (by omega) hL dX0_law_1265 ?_
  refine g_al0 dX0_law_1266 ?_
  refine g_il4 dX0_law_1267 ?_
  refine g_iconst dX0_law_1269 ?_
  refine g_iadd dX0_law_1270 ?_
  refine g_sld hbl (by omega) hL dX0_law_1271 ?_
  refine g_al0 dX0_law_1272 ?_
  refine g_il4 dX0_law_1273 ?_
  refine g_iconst dX0_law_1275 ?_
  refine g_iadd dX0_law_1276 ?_
  refine g_sld hbl (by omega) hL dX0_law_1277 ?_
  refine g_callV4I (d' := 11) lk_X0_153 hS.1.1.sh rfl ⟨Nat.le_of_ble_eq_true rfl, Nat.le_of_ble_eq_true rfl⟩ (Nat.le_of_ble_eq_true rfl) dX0_law_1278 ?_
  refine xo_meet hS.1 hM.P (xr_ _) (xr_ _) (xr_ _) (xr_ _) (fun x1 t1 σ1 e1 hX1 hE1 => ?_)
  refine g_lt (fun hlt1 hgz1 => ?_)
  have hM1 := hM.gx hB hE1.w
  refine g_al2 dX0_law_1281 ?_
  refine g_al0 dX0_law_1282 ?_
  refine g_il4 dX0_law_1283 ?_
  refine g_iconst dX0_law_1285 ?_
  refine g_iadd dX0_law_1286 ?_
  refine g_sld hbl (by omega) hL dX0_law_1287 ?_
  refine g_al0 dX0_law_1288 ?_
  refine g_il4 dX0_law_1289 ?_
  refine g_iconst dX0_law_1291 ?_
  refine g_iadd dX0_law_1292 ?_
  refine g_sld hbl (by omega) hL dX0_law_1293 ?_
  refine g_al0 dX0_law_1294 ?_
  refine g_il4 dX0_law_1295 ?_
  refine g_iconst dX0_law_1297 ?_
  refine g_iadd dX0_law_1298 ?_
  refine g_sld hbl (by omega) hL dX0_law_1299 ?_
  refine g_al0 dX0_law_1300 ?_
  refine g_il4 dX0_law_1301 ?_
  refine g_iconst dX0_law_1303 ?_
  refine g_iadd dX0_law_1304 ?_
  refine g_sld hbl (by omega) hL dX0_law_1305 ?_
  refine g_callV4I (d' := 9) lk_X0_156 hM1.M.sh rfl ⟨Nat.le_of_ble_eq_true rfl, Nat.le_of_ble_eq_true rfl⟩ (Nat.le_of_ble_eq_true rfl) dX0_law_1306 ?_
  refine mo_meet hM1.M hM1.p14 hM.P (xr_ _) (xr_ _) (xr_ _) (xr_ _) (fun x2 t2 σ2 e2 hM2 hE2 => ?_)
  obtain ⟨rfl, rfl⟩ := Prod.mk.inj (e1.symm.trans e2)
  refine g_sameI (tgt := 1834) dX0_law_1309 (by decide) ?_
  exact hK _ _ _ (le_q hS hM hB hlt hlt1 hE1 hM2 hE2 (tq_meet e1))
theorem tq_fits {x t : Int} (h : qFits_ p r s = (x, t)) : 0 ≤ t ∧ t ≤ 6 ∧ t ≠ 4 := by
  have e : (qFits_ p r s).2 = t := by rw [h]
  rw [← e]
  unfold qFits_
  (repeat' split) <;> ((try dsimp only); omega)
theorem law_c33 {e5 e6 : Option AV} (h : LI_ G b L X i σ tp fa pl tr p un im B r s U I T LL) (hK : ∀ (e5 e6 : Option AV) (σ' : JH), LE_ G X σ σ' → GoW_ G b L xs σ0 1834 [some (A_ (some b)), some (A_ (some X)), some (A_ (some (X + 13))), some (A_ (some (X + 30))), some (I_ i), e5, e6] [] σ') : GoW_ G b L xs σ0 1314 [some (A_ (some b)), some (A_ (some X)), some (A_ (some (X + 13))), some (A_ (some (X + 30))), some (I_ i), e5, e6] [] σ := by
  obtain ⟨hS, hM, htr, hB, ⟨hbl, hL, hi0, hi6⟩, hrm, hst⟩ := h
  refine g_lt (fun hlt hgz => ?_)
  refine g_al1 dX0_law_1314 ?_
  refine g_callV0I (d' := 9) lk_X0_157 hS.1.1.sh rfl ⟨Nat.le_of_ble_eq_true rfl, Nat.le_of_ble_eq_true rfl⟩ (Nat.le_of_ble_eq_true rfl) dX0_law_1315 ?_
  refine xo_fits hS.1 hM.P (fun x1 t1 σ1 e1 hX1 hE1 => ?_)
  refine g_lt (fun hlt1 hgz1 => ?_)
  have hM1 := hM.gx hB hE1.w
  refine g_al2 dX0_law_1318 ?_
  refine g_callV0I (d' := 9) lk_X0_160 hM1.M.sh rfl ⟨Nat.le_of_ble_eq_true rfl, Nat.le_of_ble_eq_true rfl⟩ (Nat.le_of_ble_eq_true rfl) dX0_law_1319 ?_
  refine mo_fits hM1.M hM1.p14 hM.P (fun x2 t2 σ2 e2 hM2 hE2 => ?_)
  obtain ⟨rfl, rfl⟩ := Prod.mk.inj (e1.symm.trans e2)
  refine g_sameI (tgt := 1834) dX0_law_1322 (by decide) ?_
  exact hK _ _ _ (le_q hS hM hB hlt hlt1 hE1 hM2 hE2 (tq_fits e1))
theorem tq_reach {w d : Int} {x t : Int} (h : qReach_ p r s w d = (x, t)) : 0 ≤ t ∧ t ≤ 6 ∧ t ≠ 4 := by
  have e : (qReach_ p r s w d).2 = t := by rw [h]
  rw [← e]
  unfold qReach_
  (repeat' split) <;> ((try dsimp only); omega)
theorem law_c34 {e5 e6 : Option AV} (h : LI_ G b L X i σ tp fa pl tr p un im B r s U I T LL) (hK : ∀ (e5 e6 : Option AV) (σ' : JH), LE_ G X σ σ' → GoW_ G b L xs σ0 1834 [some (A_ (some b)), some (A_ (some X)), some (A_ (some (X + 13))), some (A_ (some (X + 30))), some (I_ i), e5, e6] [] σ') : GoW_ G b L xs σ0 1327 [some (A_ (some b)), some (A_ (some X)), some (A_ (some (X + 13))), some (A_ (some (X + 30))), some (I_ i), e5, e6] [] σ := by
  obtain ⟨hS, hM, htr, hB, ⟨hbl, hL, hi0, hi6⟩, hrm, hst⟩ := h
  refine g_lt (fun hlt hgz => ?_)
  refine g_al1 dX0_law_1327 ?_
  refine g_al0 dX0_law_1328 ?_
  refine g_il4 dX0_law_1329 ?_
  refine g_iconst dX0_law_1331 ?_
  refine g_iadd dX0_law_1332 ?_
  refine g_sld hbl (by omega) hL dX0_law_1333 ?_
  refine g_al0 dX0_law_1334 ?_
  refine g_il4 dX0_law_1335 ?_
  refine g_iconst dX0_law_1337 ?_
  refine g_iadd dX0_law_1338 ?_
  refine g_sld hbl (by omega) hL dX0_law_1339 ?_
  refine g_callV2I (d' := 8) lk_X0_161 hS.1.1.sh rfl ⟨Nat.le_of_ble_eq_true rfl, Nat.le_of_ble_eq_true rfl⟩ (Nat.le_of_ble_eq_true rfl) dX0_law_1340 ?_
  refine xo_reach hS.1 hM.P (xr_ _) (xr_ _) (fun x1 t1 σ1 e1 hX1 hE1 => ?_)
  refine g_lt (fun hlt1 hgz1 => ?_)
  have hM1 := hM.gx hB hE1.w
  refine g_al2 dX0_law_1343 ?_
  refine g_al0 dX0_law_1344 ?_
  refine g_il4 dX0_law_1345 ?_
  refine g_iconst dX0_law_1347 ?_
  refine g_iadd dX0_law_1348 ?_
  refine g_sld hbl (by omega) hL dX0_law_1349 ?_
  refine g_al0 dX0_law_1350 ?_
  refine g_il4 dX0_law_1351 ?_
  refine g_iconst dX0_law_1353 ?_
  refine g_iadd dX0_law_1354 ?_
  refine g_sld hbl (by omega) hL dX0_law_1355 ?_
  refine g_callV2I (d' := 10) lk_X0_164 hM1.M.sh rfl ⟨Nat.le_of_ble_eq_true rfl, Nat.le_of_ble_eq_true rfl⟩ (Nat.le_of_ble_eq_true rfl) dX0_law_1356 ?_
  refine mo_reach hM1.M hM1.p14 hM.P (xr_ _) (xr_ _) (fun x2 t2 σ2 e2 hM2 hE2 => ?_)
  obtain ⟨rfl, rfl⟩ := Prod.mk.inj (e1.symm.trans e2)
  refine g_sameI (tgt := 1834) dX0_law_1359 (by decide) ?_
  exact hK _ _ _ (le_q hS hM hB hlt hlt1 hE1 hM2 hE2 (tq_reach e1))
theorem tq_pier {d : Int} {x t : Int} (h : qPier_ p r s d = (x, t)) : 0 ≤ t ∧ t ≤ 6 ∧ t ≠ 4 := by
  have e : (qPier_ p r s d).2 = t := by rw [h]
  rw [← e]
  unfold qPier_
  (repeat' split) <;> ((try dsimp only); omega)
theorem law_c35 {e5 e6 : Option AV} (h : LI_ G b L X i σ tp fa pl tr p un im B r s U I T LL) (hK : ∀ (e5 e6 : Option AV) (σ' : JH), LE_ G X σ σ' → GoW_ G b L xs σ0 1834 [some (A_ (some b)), some (A_ (some X)), some (A_ (some (X + 13))), some (A_ (some (X + 30))), some (I_ i), e5, e6] [] σ') : GoW_ G b L xs σ0 1364 [some (A_ (some b)), some (A_ (some X)), some (A_ (some (X + 13))), some (A_ (some (X + 30))), some (I_ i), e5, e6] [] σ := by
  obtain ⟨hS, hM, htr, hB, ⟨hbl, hL, hi0, hi6⟩, hrm, hst⟩ := h
  refine g_lt (fun hlt hgz => ?_)
  refine g_al1 dX0_law_1364 ?_
  refine g_al0 dX0_law_1365 ?_
  refine g_il4 dX0_law_1366 ?_
  refine g_iconst dX0_law_1368 ?_
  refine g_iadd dX0_law_1369 ?_
  refine g_sld hbl (by omega) hL dX0_law_1370 ?_
  refine g_callV1I (d' := 9) lk_X0_165 hS.1.1.sh rfl ⟨Nat.le_of_ble_eq_true rfl, Nat.le_of_ble_eq_true rfl⟩ (Nat.le_of_ble_eq_true rfl) dX0_law_1371 ?_
  refine xo_pier hS.1 hM.P (xr_ _) ⟨by omega, by omega⟩ (fun x1 t1 σ1 e1 hX1 hE1 => ?_)
  refine g_lt (fun hlt1 hgz1 => ?_)
  have hM1 := hM.gx hB hE1.w
  refine g_al2 dX0_law_1374 ?_
  refine g_al0 dX0_law_1375 ?_
  refine g_il4 dX0_law_1376 ?_
  refine g_iconst dX0_law_1378 ?_
  refine g_iadd dX0_law_1379 ?_
  refine g_sld hbl (by omega) hL dX0_law_1380 ?_
  refine g_callV1I (d' := 10) lk_X0_168 hM1.M.sh rfl ⟨Nat.le_of_ble_eq_true rfl, Nat.le_of_ble_eq_true rfl⟩ (Nat.le_of_ble_eq_true rfl) dX0_law_1381 ?_
  refine mo_pier hM1.M hM1.p14 hM.P (xr_ _) (fun x2 t2 σ2 e2 hM2 hE2 => ?_)
  obtain ⟨rfl, rfl⟩ := Prod.mk.inj (e1.symm.trans e2)
  refine g_sameI (tgt := 1834) dX0_law_1384 (by decide) ?_
  exact hK _ _ _ (le_q hS hM hB hlt hlt1 hE1 hM2 hE2 (tq_pier e1))
theorem tq_watch {i j : Int} {x t : Int} (h : qWatch_ p r s i j = (x, t)) : 0 ≤ t ∧ t ≤ 6 ∧ t ≠ 4 := by
  have e : (qWatch_ p r s i j).2 = t := by rw [h]
  rw [← e]
  unfold qWatch_
  (repeat' split) <;> ((try dsimp only); omega)
theorem law_c36 {e5 e6 : Option AV} (h : LI_ G b L X i σ tp fa pl tr p un im B r s U I T LL) (hK : ∀ (e5 e6 : Option AV) (σ' : JH), LE_ G X σ σ' → GoW_ G b L xs σ0 1834 [some (A_ (some b)), some (A_ (some X)), some (A_ (some (X + 13))), some (A_ (some (X + 30))), some (I_ i), e5, e6] [] σ') : GoW_ G b L xs σ0 1389 [some (A_ (some b)), some (A_ (some X)), some (A_ (some (X + 13))), some (A_ (some (X + 30))), some (I_ i), e5, e6] [] σ := by
  obtain ⟨hS, hM, htr, hB, ⟨hbl, hL, hi0, hi6⟩, hrm, hst⟩ := h
  refine g_lt (fun hlt hgz => ?_)
  refine g_al1 dX0_law_1389 ?_
  refine g_al0 dX0_law_1390 ?_
  refine g_il4 dX0_law_1391 ?_
  refine g_iconst dX0_law_1393 ?_
  refine g_iadd dX0_law_1394 ?_
  refine g_sld hbl (by omega) hL dX0_law_1395 ?_
  refine g_al0 dX0_law_1396 ?_
  refine g_il4 dX0_law_1397 ?_
  refine g_iconst dX0_law_1399 ?_
  refine g_iadd dX0_law_1400 ?_
  refine g_sld hbl (by omega) hL dX0_law_1401 ?_
  refine g_callV2I (d' := 6) lk_X0_169 hS.1.1.sh rfl ⟨Nat.le_of_ble_eq_true rfl, Nat.le_of_ble_eq_true rfl⟩ (Nat.le_of_ble_eq_true rfl) dX0_law_1402 ?_
  refine xo_watch hS.1 hM.P (xr_ _) (xr_ _) (fun x1 t1 σ1 e1 hX1 hE1 => ?_)
  refine g_lt (fun hlt1 hgz1 => ?_)
  have hM1 := hM.gx hB hE1.w
  refine g_al2 dX0_law_1405 ?_
  refine g_al0 dX0_law_1406 ?_
  refine g_il4 dX0_law_1407 ?_
  refine g_iconst dX0_law_1409 ?_
  refine g_iadd dX0_law_1410 ?_
  refine g_sld hbl (by omega) hL dX0_law_1411 ?_
  refine g_al0 dX0_law_1412 ?_
  refine g_il4 dX0_law_1413 ?_
  refine g_iconst dX0_law_1415 ?_
  refine g_iadd dX0_law_1416 ?_
  refine g_sld hbl (by omega) hL dX0_law_1417 ?_
  refine g_callV2I (d' := 5) lk_X0_172 hM1.M.sh rfl ⟨Nat.le_of_ble_eq_true rfl, Nat.le_of_ble_eq_true rfl⟩ (Nat.le_of_ble_eq_true rfl) dX0_law_1418 ?_
  refine mo_watch hM1.M hM1.p14 hM.P (xr_ _) (xr_ _) (fun x2 t2 σ2 e2 hM2 hE2 => ?_)
  obtain ⟨rfl, rfl⟩ := Prod.mk.inj (e1.symm.trans e2)
  refine g_sameI (tgt := 1834) dX0_law_1421 (by decide) ?_
  exact hK _ _ _ (le_q hS hM hB hlt hlt1 hE1 hM2 hE2 (tq_watch e1))
theorem tq_round {i : Int} {x t : Int} (h : qRound_ p r s i = (x, t)) : 0 ≤ t ∧ t ≤ 6 ∧ t ≠ 4 := by
  have e : (qRound_ p r s i).2 = t := by rw [h]
  rw [← e]
  unfold qRound_
  (repeat' split) <;> ((try dsimp only); omega)
theorem law_c37 {e5 e6 : Option AV} (h : LI_ G b L X i σ tp fa pl tr p un im B r s U I T LL) (hK : ∀ (e5 e6 : Option AV) (σ' : JH), LE_ G X σ σ' → GoW_ G b L xs σ0 1834 [some (A_ (some b)), some (A_ (some X)), some (A_ (some (X + 13))), some (A_ (some (X + 30))), some (I_ i), e5, e6] [] σ') : GoW_ G b L xs σ0 1426 [some (A_ (some b)), some (A_ (some X)), some (A_ (some (X + 13))), some (A_ (some (X + 30))), some (I_ i), e5, e6] [] σ := by
  obtain ⟨hS, hM, htr, hB, ⟨hbl, hL, hi0, hi6⟩, hrm, hst⟩ := h
  refine g_lt (fun hlt hgz => ?_)
  refine g_al1 dX0_law_1426 ?_
  refine g_al0 dX0_law_1427 ?_
  refine g_il4 dX0_law_1428 ?_
  refine g_iconst dX0_law_1430 ?_
  refine g_iadd dX0_law_1431 ?_
  refine g_sld hbl (by omega) hL dX0_law_1432 ?_
  refine g_callV1I (d' := 8) lk_X0_173 hS.1.1.sh rfl ⟨Nat.le_of_ble_eq_true rfl, Nat.le_of_ble_eq_true rfl⟩ (Nat.le_of_ble_eq_true rfl) dX0_law_1433 ?_
  refine xo_round hS.1 hM.P (xr_ _) (fun x1 t1 σ1 e1 hX1 hE1 => ?_)
  refine g_lt (fun hlt1 hgz1 => ?_)
  have hM1 := hM.gx hB hE1.w
  refine g_al2 dX0_law_1436 ?_
  refine g_al0 dX0_law_1437 ?_
  refine g_il4 dX0_law_1438 ?_
  refine g_iconst dX0_law_1440 ?_
  refine g_iadd dX0_law_1441 ?_
  refine g_sld hbl (by omega) hL dX0_law_1442 ?_
  refine g_callV1I (d' := 15) lk_X0_176 hM1.M.sh rfl ⟨Nat.le_of_ble_eq_true rfl, Nat.le_of_ble_eq_true rfl⟩ (Nat.le_of_ble_eq_true rfl) dX0_law_1443 ?_
  refine mo_round hM1.M hM1.p14 hM.P (xr_ _) (fun x2 t2 σ2 e2 hM2 hE2 => ?_)
  obtain ⟨rfl, rfl⟩ := Prod.mk.inj (e1.symm.trans e2)
  refine g_sameI (tgt := 1834) dX0_law_1446 (by decide) ?_
  exact hK _ _ _ (le_q hS hM hB hlt hlt1 hE1 hM2 hE2 (tq_round e1))
theorem tq_roundAt {i k : Int} {x t : Int} (h : qRoundAt_ p r s i k = (x, t)) : 0 ≤ t ∧ t ≤ 6 ∧ t ≠ 4 := by
  have e : (qRoundAt_ p r s i k).2 = t := by rw [h]
  rw [← e]
  unfold qRoundAt_
  (repeat' split) <;> ((try dsimp only); omega)
theorem law_c38 {e5 e6 : Option AV} (h : LI_ G b L X i σ tp fa pl tr p un im B r s U I T LL) (hK : ∀ (e5 e6 : Option AV) (σ' : JH), LE_ G X σ σ' → GoW_ G b L xs σ0 1834 [some (A_ (some b)), some (A_ (some X)), some (A_ (some (X + 13))), some (A_ (some (X + 30))), some (I_ i), e5, e6] [] σ') : GoW_ G b L xs σ0 1451 [some (A_ (some b)), some (A_ (some X)), some (A_ (some (X + 13))), some (A_ (some (X + 30))), some (I_ i), e5, e6] [] σ := by
  obtain ⟨hS, hM, htr, hB, ⟨hbl, hL, hi0, hi6⟩, hrm, hst⟩ := h
  refine g_lt (fun hlt hgz => ?_)
  refine g_al1 dX0_law_1451 ?_
  refine g_al0 dX0_law_1452 ?_
  refine g_il4 dX0_law_1453 ?_
  refine g_iconst dX0_law_1455 ?_
  refine g_iadd dX0_law_1456 ?_
  refine g_sld hbl (by omega) hL dX0_law_1457 ?_
  refine g_al0 dX0_law_1458 ?_
  refine g_il4 dX0_law_1459 ?_
  refine g_iconst dX0_law_1461 ?_
  refine g_iadd dX0_law_1462 ?_
  refine g_sld hbl (by omega) hL dX0_law_1463 ?_
  refine g_callV2I (d' := 8) lk_X0_177 hS.1.1.sh rfl ⟨Nat.le_of_ble_eq_true rfl, Nat.le_of_ble_eq_true rfl⟩ (Nat.le_of_ble_eq_true rfl) dX0_law_1464 ?_
  refine xo_roundAt hS.1 hM.P (xr_ _) (xr_ _) (fun x1 t1 σ1 e1 hX1 hE1 => ?_)
  refine g_lt (fun hlt1 hgz1 => ?_)
  have hM1 := hM.gx hB hE1.w
  refine g_al2 dX0_law_1467 ?_
  refine g_al0 dX0_law_1468 ?_
  refine g_il4 dX0_law_1469 ?_
  refine g_iconst dX0_law_1471 ?_
  refine g_iadd dX0_law_1472 ?_
  refine g_sld hbl (by omega) hL dX0_law_1473 ?_
  refine g_al0 dX0_law_1474 ?_
  refine g_il4 dX0_law_1475 ?_
  refine g_iconst dX0_law_1477 ?_
  refine g_iadd dX0_law_1478 ?_
  refine g_sld hbl (by omega) hL dX0_law_1479 ?_
  refine g_callV2I (d' := 15) lk_X0_180 hM1.M.sh rfl ⟨Nat.le_of_ble_eq_true rfl, Nat.le_of_ble_eq_true rfl⟩ (Nat.le_of_ble_eq_true rfl) dX0_law_1480 ?_
  refine mo_roundAt hM1.M hM1.p14 hM.P (xr_ _) (xr_ _) (fun x2 t2 σ2 e2 hM2 hE2 => ?_)
  obtain ⟨rfl, rfl⟩ := Prod.mk.inj (e1.symm.trans e2)
  refine g_sameI (tgt := 1834) dX0_law_1483 (by decide) ?_
  exact hK _ _ _ (le_q hS hM hB hlt hlt1 hE1 hM2 hE2 (tq_roundAt e1))
theorem tq_decade {sd ny : Int} {x t : Int} (h : qDecade_ p r s sd ny = (x, t)) : 0 ≤ t ∧ t ≤ 6 ∧ t ≠ 4 := by
  have e : (qDecade_ p r s sd ny).2 = t := by rw [h]
  rw [← e]
  unfold qDecade_
  (repeat' split) <;> ((try dsimp only); omega)
theorem law_c39 {e5 e6 : Option AV} (h : LI_ G b L X i σ tp fa pl tr p un im B r s U I T LL) (hK : ∀ (e5 e6 : Option AV) (σ' : JH), LE_ G X σ σ' → GoW_ G b L xs σ0 1834 [some (A_ (some b)), some (A_ (some X)), some (A_ (some (X + 13))), some (A_ (some (X + 30))), some (I_ i), e5, e6] [] σ') : GoW_ G b L xs σ0 1488 [some (A_ (some b)), some (A_ (some X)), some (A_ (some (X + 13))), some (A_ (some (X + 30))), some (I_ i), e5, e6] [] σ := by
  obtain ⟨hS, hM, htr, hB, ⟨hbl, hL, hi0, hi6⟩, hrm, hst⟩ := h
  refine g_lt (fun hlt hgz => ?_)
  refine g_al1 dX0_law_1488 ?_
  refine g_al0 dX0_law_1489 ?_
  refine g_il4 dX0_law_1490 ?_
  refine g_iconst dX0_law_1492 ?_
  refine g_iadd dX0_law_1493 ?_
  refine g_sld hbl (by omega) hL dX0_law_1494 ?_
  refine g_al0 dX0_law_1495 ?_
  refine g_il4 dX0_law_1496 ?_
  refine g_iconst dX0_law_1498 ?_
  refine g_iadd dX0_law_1499 ?_
  refine g_sld hbl (by omega) hL dX0_law_1500 ?_
  refine g_callV2I (d' := 8) lk_X0_181 hS.1.1.sh rfl ⟨Nat.le_of_ble_eq_true rfl, Nat.le_of_ble_eq_true rfl⟩ (Nat.le_of_ble_eq_true rfl) dX0_law_1501 ?_
  refine xo_decade hS.1 hM.P (xr_ _) (xr_ _) (fun x1 t1 σ1 e1 hX1 hE1 => ?_)
  refine g_lt (fun hlt1 hgz1 => ?_)
  have hM1 := hM.gx hB hE1.w
  refine g_al2 dX0_law_1504 ?_
  refine g_al0 dX0_law_1505 ?_
  refine g_il4 dX0_law_1506 ?_
  refine g_iconst dX0_law_1508 ?_
  refine g_iadd dX0_law_1509 ?_
  refine g_sld hbl (by omega) hL dX0_law_1510 ?_
  refine g_al0 dX0_law_1511 ?_
  refine g_il4 dX0_law_1512 ?_
  refine g_iconst dX0_law_1514 ?_
  refine g_iadd dX0_law_1515 ?_
  refine g_sld hbl (by omega) hL dX0_law_1516 ?_
  refine g_callV2I (d' := 6) lk_X0_184 hM1.M.sh rfl ⟨Nat.le_of_ble_eq_true rfl, Nat.le_of_ble_eq_true rfl⟩ (Nat.le_of_ble_eq_true rfl) dX0_law_1517 ?_
  refine mo_decade hM1.M hM1.p14 hM.P (xr_ _) (xr_ _) (fun x2 t2 σ2 e2 hM2 hE2 => ?_)
  obtain ⟨rfl, rfl⟩ := Prod.mk.inj (e1.symm.trans e2)
  refine g_sameI (tgt := 1834) dX0_law_1520 (by decide) ?_
  exact hK _ _ _ (le_q hS hM hB hlt hlt1 hE1 hM2 hE2 (tq_decade e1))
theorem tq_registered {b lo : Int} {x t : Int} (h : qReg_ p r s b lo = (x, t)) : 0 ≤ t ∧ t ≤ 6 ∧ t ≠ 4 := by
  have e : (qReg_ p r s b lo).2 = t := by rw [h]
  rw [← e]
  unfold qReg_
  (repeat' split) <;> ((try dsimp only); omega)
theorem law_c28 {e5 e6 : Option AV} (h : LI_ G b L X i σ tp fa pl tr p un im B r s U I T LL) (hK : ∀ (e5 e6 : Option AV) (σ' : JH), LE_ G X σ σ' → GoW_ G b L xs σ0 1834 [some (A_ (some b)), some (A_ (some X)), some (A_ (some (X + 13))), some (A_ (some (X + 30))), some (I_ i), e5, e6] [] σ') : GoW_ G b L xs σ0 1148 [some (A_ (some b)), some (A_ (some X)), some (A_ (some (X + 13))), some (A_ (some (X + 30))), some (I_ i), e5, e6] [] σ := by
  obtain ⟨hS, hM, htr, hB, ⟨hbl, hL, hi0, hi6⟩, hrm, hst⟩ := h
  refine g_lt (fun hlt hgz => ?_)
  by_cases hz : (xs (i + 2).toNat).toInt = 0
  · refine g_al1 dX0_law_1148 ?_
    refine g_al0 dX0_law_1149 ?_
    refine g_il4 dX0_law_1150 ?_
    refine g_iconst dX0_law_1152 ?_
    refine g_iadd dX0_law_1153 ?_
    refine g_sld hbl (by omega) hL dX0_law_1154 ?_
    refine g_al0 dX0_law_1155 ?_
    refine g_il4 dX0_law_1156 ?_
    refine g_iconst dX0_law_1158 ?_
    refine g_iadd dX0_law_1159 ?_
    refine g_sld hbl (by omega) hL dX0_law_1160 ?_
    refine g_if_eq (tgt := 1168) dX0_law_1161 (by decide) (xr_ _) (fun h1161 => ?_) (fun h1161 => ?_)
    · refine g_iconst dX0_law_1168 ?_
      refine g_callV2L (d' := 13) lk_X0_136 hS.1.1.sh rfl ⟨Nat.le_of_ble_eq_true rfl, Nat.le_of_ble_eq_true rfl⟩ (Nat.le_of_ble_eq_true rfl) dX0_law_1169 ?_
      refine xo_registered hS.1 hM.P (by first | exact xr_ _ | omega) (by first | exact xr_ _ | omega) (by omega) (fun x1 t1 σ1 e1 hX1 hE1 => ?_)
      refine g_lt (fun hlt1 hgz1 => ?_)
      have hM1 := hM.gx hB hE1.w
      refine g_al2 dX0_law_1172 ?_
      refine g_al0 dX0_law_1173 ?_
      refine g_il4 dX0_law_1174 ?_
      refine g_iconst dX0_law_1176 ?_
      refine g_iadd dX0_law_1177 ?_
      refine g_sld hbl (by omega) hL dX0_law_1178 ?_
      refine g_al0 dX0_law_1179 ?_
      refine g_il4 dX0_law_1180 ?_
      refine g_iconst dX0_law_1182 ?_
      refine g_iadd dX0_law_1183 ?_
      refine g_sld hbl (by omega) hL dX0_law_1184 ?_
      refine g_if_eq (tgt := 1192) dX0_law_1185 (by decide) (xr_ _) (fun h1185 => ?_) (fun h1185 => ?_)
      · refine g_iconst dX0_law_1192 ?_
        refine g_callV2L (d' := 11) lk_X0_140 hM1.M.sh rfl ⟨Nat.le_of_ble_eq_true rfl, Nat.le_of_ble_eq_true rfl⟩ (Nat.le_of_ble_eq_true rfl) dX0_law_1193 ?_
        refine mo_registered hM1.M hM1.p14 hM.P (by first | exact xr_ _ | omega) (by first | exact xr_ _ | omega) (by omega) (fun x2 t2 σ2 e2 hM2 hE2 => ?_)
        obtain ⟨rfl, rfl⟩ := Prod.mk.inj (e1.symm.trans e2)
        refine g_lcmp dX0_law_1196 ?_
        rw [lcmp_self]
        refine g_if_eq (tgt := 1834) dX0_law_1197 (by decide) (by omega) (fun _ => ?_) (fun h => absurd rfl h)
        exact hK _ _ _ (le_q hS hM hB hlt hlt1 hE1 hM2 hE2 (tq_registered e1))
      exact absurd hz h1185
    exact absurd hz h1161
  · refine g_al1 dX0_law_1148 ?_
    refine g_al0 dX0_law_1149 ?_
    refine g_il4 dX0_law_1150 ?_
    refine g_iconst dX0_law_1152 ?_
    refine g_iadd dX0_law_1153 ?_
    refine g_sld hbl (by omega) hL dX0_law_1154 ?_
    refine g_al0 dX0_law_1155 ?_
    refine g_il4 dX0_law_1156 ?_
    refine g_iconst dX0_law_1158 ?_
    refine g_iadd dX0_law_1159 ?_
    refine g_sld hbl (by omega) hL dX0_law_1160 ?_
    refine g_if_eq (tgt := 1168) dX0_law_1161 (by decide) (xr_ _) (fun h1161 => ?_) (fun h1161 => ?_)
    · exact absurd h1161 hz
    refine g_iconst dX0_law_1164 ?_
    refine g_goto (tgt := 1169) dX0_law_1165 (by decide) ?_
    refine g_callV2L (d' := 13) lk_X0_136 hS.1.1.sh rfl ⟨Nat.le_of_ble_eq_true rfl, Nat.le_of_ble_eq_true rfl⟩ (Nat.le_of_ble_eq_true rfl) dX0_law_1169 ?_
    refine xo_registered hS.1 hM.P (by first | exact xr_ _ | omega) (by first | exact xr_ _ | omega) (by omega) (fun x1 t1 σ1 e1 hX1 hE1 => ?_)
    refine g_lt (fun hlt1 hgz1 => ?_)
    have hM1 := hM.gx hB hE1.w
    refine g_al2 dX0_law_1172 ?_
    refine g_al0 dX0_law_1173 ?_
    refine g_il4 dX0_law_1174 ?_
    refine g_iconst dX0_law_1176 ?_
    refine g_iadd dX0_law_1177 ?_
    refine g_sld hbl (by omega) hL dX0_law_1178 ?_
    refine g_al0 dX0_law_1179 ?_
    refine g_il4 dX0_law_1180 ?_
    refine g_iconst dX0_law_1182 ?_
    refine g_iadd dX0_law_1183 ?_
    refine g_sld hbl (by omega) hL dX0_law_1184 ?_
    refine g_if_eq (tgt := 1192) dX0_law_1185 (by decide) (xr_ _) (fun h1185 => ?_) (fun h1185 => ?_)
    · exact absurd h1185 hz
    refine g_iconst dX0_law_1188 ?_
    refine g_goto (tgt := 1193) dX0_law_1189 (by decide) ?_
    refine g_callV2L (d' := 11) lk_X0_140 hM1.M.sh rfl ⟨Nat.le_of_ble_eq_true rfl, Nat.le_of_ble_eq_true rfl⟩ (Nat.le_of_ble_eq_true rfl) dX0_law_1193 ?_
    refine mo_registered hM1.M hM1.p14 hM.P (by first | exact xr_ _ | omega) (by first | exact xr_ _ | omega) (by omega) (fun x2 t2 σ2 e2 hM2 hE2 => ?_)
    obtain ⟨rfl, rfl⟩ := Prod.mk.inj (e1.symm.trans e2)
    refine g_lcmp dX0_law_1196 ?_
    rw [lcmp_self]
    refine g_if_eq (tgt := 1834) dX0_law_1197 (by decide) (by omega) (fun _ => ?_) (fun h => absurd rfl h)
    exact hK _ _ _ (le_q hS hM hB hlt hlt1 hE1 hM2 hE2 (tq_registered e1))
theorem tq_send {w b : Int} {x t : Int} {un' : Int} {U' : Int → Int → Int} {s' : Int → Int} (h : aSend_ p r s un U w b = (x, t, un', U', s')) : 0 ≤ t ∧ t ≤ 6 ∧ t ≠ 4 := by
  have e : (aSend_ p r s un U w b).2.1 = t := by rw [h]
  rw [← e]
  unfold aSend_
  (repeat' split) <;> ((try dsimp only); omega)
theorem law_c40 {e5 e6 : Option AV} (h : LI_ G b L X i σ tp fa pl tr p un im B r s U I T LL) (hK : ∀ (e5 e6 : Option AV) (σ' : JH), LE_ G X σ σ' → GoW_ G b L xs σ0 1834 [some (A_ (some b)), some (A_ (some X)), some (A_ (some (X + 13))), some (A_ (some (X + 30))), some (I_ i), e5, e6] [] σ') : GoW_ G b L xs σ0 1525 [some (A_ (some b)), some (A_ (some X)), some (A_ (some (X + 13))), some (A_ (some (X + 30))), some (I_ i), e5, e6] [] σ := by
  obtain ⟨hS, hM, htr, hB, ⟨hbl, hL, hi0, hi6⟩, hrm, hst⟩ := h
  refine g_lt (fun hlt hgz => ?_)
  refine g_al1 dX0_law_1525 ?_
  refine g_al0 dX0_law_1526 ?_
  refine g_il4 dX0_law_1527 ?_
  refine g_iconst dX0_law_1529 ?_
  refine g_iadd dX0_law_1530 ?_
  refine g_sld hbl (by omega) hL dX0_law_1531 ?_
  refine g_al0 dX0_law_1532 ?_
  refine g_il4 dX0_law_1533 ?_
  refine g_iconst dX0_law_1535 ?_
  refine g_iadd dX0_law_1536 ?_
  refine g_sld hbl (by omega) hL dX0_law_1537 ?_
  refine g_callV2I (d' := 12) lk_X0_185 hS.1.1.sh rfl ⟨Nat.le_of_ble_eq_true rfl, Nat.le_of_ble_eq_true rfl⟩ (Nat.le_of_ble_eq_true rfl) dX0_law_1538 ?_
  refine xo_send hS hM.P hM.2.2.2.2.1.2.1 hM.2.2.2.2.2.2.1 (xr_ _) (xr_ _) ⟨by omega, by omega⟩ (fun x1 t1 un1 U1 s1 T1 L1 σ1 e1 hS1 f1 => ?_)
  refine g_lt (fun hlt1 hgz1 => ?_)
  have hM1 := hM.gx hB f1
  refine g_al2 dX0_law_1541 ?_
  refine g_al0 dX0_law_1542 ?_
  refine g_il4 dX0_law_1543 ?_
  refine g_iconst dX0_law_1545 ?_
  refine g_iadd dX0_law_1546 ?_
  refine g_sld hbl (by omega) hL dX0_law_1547 ?_
  refine g_al0 dX0_law_1548 ?_
  refine g_il4 dX0_law_1549 ?_
  refine g_iconst dX0_law_1551 ?_
  refine g_iadd dX0_law_1552 ?_
  refine g_sld hbl (by omega) hL dX0_law_1553 ?_
  refine g_callV2I (d' := 10) lk_X0_188 hM1.M.sh rfl ⟨Nat.le_of_ble_eq_true rfl, Nat.le_of_ble_eq_true rfl⟩ (Nat.le_of_ble_eq_true rfl) dX0_law_1554 ?_
  refine mo_send hM1 (xr_ _) (xr_ _) (fun x2 t2 un2 U2 s2 σ2 e2 hM2 f2 => ?_)
  cases e1.symm.trans e2
  refine g_sameI (tgt := 1834) dX0_law_1557 (by decide) ?_
  exact hK _ _ _ (le_act hS1 hM hM2 hB hlt1 f1 f2 (by decide) (by decide) ⟨(tq_send e1).1, (tq_send e1).2.1⟩)
theorem tq_tune {b k v : Int} {x t : Int} {un' : Int} {U' : Int → Int → Int} {s' : Int → Int} (h : aTune_ p r s un U b k v = (x, t, un', U', s')) : 0 ≤ t ∧ t ≤ 6 ∧ t ≠ 4 := by
  have e : (aTune_ p r s un U b k v).2.1 = t := by rw [h]
  rw [← e]
  unfold aTune_
  (repeat' split) <;> ((try dsimp only); omega)
theorem law_c41 {e5 e6 : Option AV} (h : LI_ G b L X i σ tp fa pl tr p un im B r s U I T LL) (hK : ∀ (e5 e6 : Option AV) (σ' : JH), LE_ G X σ σ' → GoW_ G b L xs σ0 1834 [some (A_ (some b)), some (A_ (some X)), some (A_ (some (X + 13))), some (A_ (some (X + 30))), some (I_ i), e5, e6] [] σ') : GoW_ G b L xs σ0 1562 [some (A_ (some b)), some (A_ (some X)), some (A_ (some (X + 13))), some (A_ (some (X + 30))), some (I_ i), e5, e6] [] σ := by
  obtain ⟨hS, hM, htr, hB, ⟨hbl, hL, hi0, hi6⟩, hrm, hst⟩ := h
  refine g_lt (fun hlt hgz => ?_)
  refine g_al1 dX0_law_1562 ?_
  refine g_al0 dX0_law_1563 ?_
  refine g_il4 dX0_law_1564 ?_
  refine g_iconst dX0_law_1566 ?_
  refine g_iadd dX0_law_1567 ?_
  refine g_sld hbl (by omega) hL dX0_law_1568 ?_
  refine g_al0 dX0_law_1569 ?_
  refine g_il4 dX0_law_1570 ?_
  refine g_iconst dX0_law_1572 ?_
  refine g_iadd dX0_law_1573 ?_
  refine g_sld hbl (by omega) hL dX0_law_1574 ?_
  refine g_al0 dX0_law_1575 ?_
  refine g_il4 dX0_law_1576 ?_
  refine g_iconst dX0_law_1578 ?_
  refine g_iadd dX0_law_1579 ?_
  refine g_sld hbl (by omega) hL dX0_law_1580 ?_
  refine g_callV3I (d' := 10) lk_X0_189 hS.1.1.sh rfl ⟨Nat.le_of_ble_eq_true rfl, Nat.le_of_ble_eq_true rfl⟩ (Nat.le_of_ble_eq_true rfl) dX0_law_1581 ?_
  refine xo_tune hS hM.P hM.2.2.2.2.1.2.1 hM.2.2.2.2.2.2.1 (xr_ _) (xr_ _) (xr_ _) ⟨by omega, by omega⟩ (fun x1 t1 un1 U1 s1 T1 L1 σ1 e1 hS1 f1 => ?_)
  refine g_lt (fun hlt1 hgz1 => ?_)
  have hM1 := hM.gx hB f1
  refine g_al2 dX0_law_1584 ?_
  refine g_al0 dX0_law_1585 ?_
  refine g_il4 dX0_law_1586 ?_
  refine g_iconst dX0_law_1588 ?_
  refine g_iadd dX0_law_1589 ?_
  refine g_sld hbl (by omega) hL dX0_law_1590 ?_
  refine g_al0 dX0_law_1591 ?_
  refine g_il4 dX0_law_1592 ?_
  refine g_iconst dX0_law_1594 ?_
  refine g_iadd dX0_law_1595 ?_
  refine g_sld hbl (by omega) hL dX0_law_1596 ?_
  refine g_al0 dX0_law_1597 ?_
  refine g_il4 dX0_law_1598 ?_
  refine g_iconst dX0_law_1600 ?_
  refine g_iadd dX0_law_1601 ?_
  refine g_sld hbl (by omega) hL dX0_law_1602 ?_
  refine g_callV3I (d' := 4) lk_X0_193 hM1.M.sh rfl ⟨Nat.le_of_ble_eq_true rfl, Nat.le_of_ble_eq_true rfl⟩ (Nat.le_of_ble_eq_true rfl) dX0_law_1603 ?_
  refine mo_tune hM1 (xr_ _) (xr_ _) (xr_ _) (fun x2 t2 un2 U2 s2 σ2 e2 hM2 f2 => ?_)
  cases e1.symm.trans e2
  refine g_sameI (tgt := 1834) dX0_law_1606 (by decide) ?_
  exact hK _ _ _ (le_act hS1 hM hM2 hB hlt1 f1 f2 (by decide) (by decide) ⟨(tq_tune e1).1, (tq_tune e1).2.1⟩)
theorem tq_years {n : Int} {x t : Int} {un' : Int} {U' : Int → Int → Int} {s' : Int → Int} (h : aYears_ p s un U n = (x, t, un', U', s')) : 0 ≤ t ∧ t ≤ 6 ∧ t ≠ 4 := by
  have e : (aYears_ p s un U n).2.1 = t := by rw [h]
  rw [← e]
  unfold aYears_
  (repeat' split) <;> ((try dsimp only); omega)
theorem law_c42 {e5 e6 : Option AV} (h : LI_ G b L X i σ tp fa pl tr p un im B r s U I T LL) (hK : ∀ (e5 e6 : Option AV) (σ' : JH), LE_ G X σ σ' → GoW_ G b L xs σ0 1834 [some (A_ (some b)), some (A_ (some X)), some (A_ (some (X + 13))), some (A_ (some (X + 30))), some (I_ i), e5, e6] [] σ') : GoW_ G b L xs σ0 1611 [some (A_ (some b)), some (A_ (some X)), some (A_ (some (X + 13))), some (A_ (some (X + 30))), some (I_ i), e5, e6] [] σ := by
  obtain ⟨hS, hM, htr, hB, ⟨hbl, hL, hi0, hi6⟩, hrm, hst⟩ := h
  refine g_lt (fun hlt hgz => ?_)
  refine g_al1 dX0_law_1611 ?_
  refine g_al0 dX0_law_1612 ?_
  refine g_il4 dX0_law_1613 ?_
  refine g_iconst dX0_law_1615 ?_
  refine g_iadd dX0_law_1616 ?_
  refine g_sld hbl (by omega) hL dX0_law_1617 ?_
  refine g_callV1I (d' := 10) lk_X0_194 hS.1.1.sh rfl ⟨Nat.le_of_ble_eq_true rfl, Nat.le_of_ble_eq_true rfl⟩ (Nat.le_of_ble_eq_true rfl) dX0_law_1618 ?_
  refine xo_years hS hM.P hM.2.2.2.2.1.2.1 hM.2.2.2.2.2.2.1 (xr_ _) ⟨by omega, by omega⟩ (fun x1 t1 un1 U1 s1 T1 L1 σ1 e1 hS1 f1 => ?_)
  refine g_lt (fun hlt1 hgz1 => ?_)
  have hM1 := hM.gx hB f1
  refine g_al2 dX0_law_1621 ?_
  refine g_al0 dX0_law_1622 ?_
  refine g_il4 dX0_law_1623 ?_
  refine g_iconst dX0_law_1625 ?_
  refine g_iadd dX0_law_1626 ?_
  refine g_sld hbl (by omega) hL dX0_law_1627 ?_
  refine g_callV1I (d' := 4) lk_X0_197 hM1.M.sh rfl ⟨Nat.le_of_ble_eq_true rfl, Nat.le_of_ble_eq_true rfl⟩ (Nat.le_of_ble_eq_true rfl) dX0_law_1628 ?_
  refine mo_years hM1 (xr_ _) (fun x2 t2 un2 U2 s2 σ2 e2 hM2 f2 => ?_)
  cases e1.symm.trans e2
  refine g_sameI (tgt := 1834) dX0_law_1631 (by decide) ?_
  exact hK _ _ _ (le_act hS1 hM hM2 hB hlt1 f1 f2 (by decide) (by decide) ⟨(tq_years e1).1, (tq_years e1).2.1⟩)
theorem tq_undo {x t : Int} {un' : Int} {U' : Int → Int → Int} {s' : Int → Int} (h : aUndo_ s un U = (x, t, un', U', s')) : 0 ≤ t ∧ t ≤ 6 ∧ t ≠ 4 := by
  have e : (aUndo_ s un U).2.1 = t := by rw [h]
  rw [← e]
  unfold aUndo_
  (repeat' split) <;> ((try dsimp only); omega)
theorem law_c44 {e5 e6 : Option AV} (h : LI_ G b L X i σ tp fa pl tr p un im B r s U I T LL) (hK : ∀ (e5 e6 : Option AV) (σ' : JH), LE_ G X σ σ' → GoW_ G b L xs σ0 1834 [some (A_ (some b)), some (A_ (some X)), some (A_ (some (X + 13))), some (A_ (some (X + 30))), some (I_ i), e5, e6] [] σ') : GoW_ G b L xs σ0 1689 [some (A_ (some b)), some (A_ (some X)), some (A_ (some (X + 13))), some (A_ (some (X + 30))), some (I_ i), e5, e6] [] σ := by
  obtain ⟨hS, hM, htr, hB, ⟨hbl, hL, hi0, hi6⟩, hrm, hst⟩ := h
  refine g_lt (fun hlt hgz => ?_)
  refine g_al1 dX0_law_1689 ?_
  refine g_callV0I (d' := 5) lk_X0_203 hS.1.1.sh rfl ⟨Nat.le_of_ble_eq_true rfl, Nat.le_of_ble_eq_true rfl⟩ (Nat.le_of_ble_eq_true rfl) dX0_law_1690 ?_
  refine xo_undo hS hM.P hM.2.2.2.2.1.2.1 hM.2.2.2.2.2.2.1 ⟨by omega, by omega⟩ (fun x1 t1 un1 U1 s1 T1 L1 σ1 e1 hS1 f1 => ?_)
  refine g_lt (fun hlt1 hgz1 => ?_)
  have hM1 := hM.gx hB f1
  refine g_al2 dX0_law_1693 ?_
  refine g_callV0I (d' := 3) lk_X0_207 hM1.M.sh rfl ⟨Nat.le_of_ble_eq_true rfl, Nat.le_of_ble_eq_true rfl⟩ (Nat.le_of_ble_eq_true rfl) dX0_law_1694 ?_
  refine mo_undo hM1 (fun x2 t2 un2 U2 s2 σ2 e2 hM2 f2 => ?_)
  cases e1.symm.trans e2
  refine g_sameI (tgt := 1834) dX0_law_1697 (by decide) ?_
  exact hK _ _ _ (le_act hS1 hM hM2 hB hlt1 f1 f2 (by decide) (by decide) ⟨(tq_undo e1).1, (tq_undo e1).2.1⟩)
theorem tq_image {x t : Int} {im' : Int} {I' : Int → Int → Int} (h : aImage_ p s im I = (x, t, im', I')) : 0 ≤ t ∧ t ≤ 6 ∧ t ≠ 4 := by
  have e : (aImage_ p s im I).2.1 = t := by rw [h]
  rw [← e]
  unfold aImage_
  (repeat' split) <;> ((try dsimp only); omega)
theorem law_c45 {e5 e6 : Option AV} (h : LI_ G b L X i σ tp fa pl tr p un im B r s U I T LL) (hK : ∀ (e5 e6 : Option AV) (σ' : JH), LE_ G X σ σ' → GoW_ G b L xs σ0 1834 [some (A_ (some b)), some (A_ (some X)), some (A_ (some (X + 13))), some (A_ (some (X + 30))), some (I_ i), e5, e6] [] σ') : GoW_ G b L xs σ0 1702 [some (A_ (some b)), some (A_ (some X)), some (A_ (some (X + 13))), some (A_ (some (X + 30))), some (I_ i), e5, e6] [] σ := by
  obtain ⟨hS, hM, htr, hB, ⟨hbl, hL, hi0, hi6⟩, hrm, hst⟩ := h
  refine g_lt (fun hlt hgz => ?_)
  refine g_al1 dX0_law_1702 ?_
  refine g_callV0I (d' := 9) lk_X0_208 hS.1.1.sh rfl ⟨Nat.le_of_ble_eq_true rfl, Nat.le_of_ble_eq_true rfl⟩ (Nat.le_of_ble_eq_true rfl) dX0_law_1703 ?_
  refine xo_image hS hM.P hM.2.2.2.2.1.2.1 hM.2.2.2.2.2.2.1 ⟨by omega, by omega⟩ (fun x1 t1 im1 I1 T1 L1 σ1 e1 hS1 f1 => ?_)
  refine g_lt (fun hlt1 hgz1 => ?_)
  have hM1 := hM.gx hB f1
  refine g_al2 dX0_law_1706 ?_
  refine g_callV0I (d' := 3) lk_X0_211 hM1.M.sh rfl ⟨Nat.le_of_ble_eq_true rfl, Nat.le_of_ble_eq_true rfl⟩ (Nat.le_of_ble_eq_true rfl) dX0_law_1707 ?_
  refine mo_image hM1 (fun x2 t2 im2 I2 σ2 e2 hM2 f2 => ?_)
  cases e1.symm.trans e2
  refine g_sameI (tgt := 1834) dX0_law_1710 (by decide) ?_
  exact hK _ _ _ (le_act hS1 hM hM2 hB hlt1 f1 f2 (by decide) (by decide) ⟨(tq_image e1).1, (tq_image e1).2.1⟩)
theorem tq_back {i : Int} {x t : Int} {un' : Int} {s' : Int → Int} (h : aBack_ s un im I i = (x, t, un', s')) : 0 ≤ t ∧ t ≤ 6 ∧ t ≠ 4 := by
  have e : (aBack_ s un im I i).2.1 = t := by rw [h]
  rw [← e]
  unfold aBack_
  (repeat' split) <;> ((try dsimp only); omega)
theorem law_c46 {e5 e6 : Option AV} (h : LI_ G b L X i σ tp fa pl tr p un im B r s U I T LL) (hK : ∀ (e5 e6 : Option AV) (σ' : JH), LE_ G X σ σ' → GoW_ G b L xs σ0 1834 [some (A_ (some b)), some (A_ (some X)), some (A_ (some (X + 13))), some (A_ (some (X + 30))), some (I_ i), e5, e6] [] σ') : GoW_ G b L xs σ0 1715 [some (A_ (some b)), some (A_ (some X)), some (A_ (some (X + 13))), some (A_ (some (X + 30))), some (I_ i), e5, e6] [] σ := by
  obtain ⟨hS, hM, htr, hB, ⟨hbl, hL, hi0, hi6⟩, hrm, hst⟩ := h
  refine g_lt (fun hlt hgz => ?_)
  refine g_al1 dX0_law_1715 ?_
  refine g_al0 dX0_law_1716 ?_
  refine g_il4 dX0_law_1717 ?_
  refine g_iconst dX0_law_1719 ?_
  refine g_iadd dX0_law_1720 ?_
  refine g_sld hbl (by omega) hL dX0_law_1721 ?_
  refine g_callV1I (d' := 5) lk_X0_212 hS.1.1.sh rfl ⟨Nat.le_of_ble_eq_true rfl, Nat.le_of_ble_eq_true rfl⟩ (Nat.le_of_ble_eq_true rfl) dX0_law_1722 ?_
  refine xo_back hS hM.P hM.2.2.2.2.1.2.1 hM.2.2.2.2.2.2.1 (xr_ _) ⟨by omega, by omega⟩ (fun x1 t1 un1 s1 T1 L1 σ1 e1 hS1 f1 => ?_)
  refine g_lt (fun hlt1 hgz1 => ?_)
  have hM1 := hM.gx hB f1
  refine g_al2 dX0_law_1725 ?_
  refine g_al0 dX0_law_1726 ?_
  refine g_il4 dX0_law_1727 ?_
  refine g_iconst dX0_law_1729 ?_
  refine g_iadd dX0_law_1730 ?_
  refine g_sld hbl (by omega) hL dX0_law_1731 ?_
  refine g_callV1I (d' := 3) lk_X0_216 hM1.M.sh rfl ⟨Nat.le_of_ble_eq_true rfl, Nat.le_of_ble_eq_true rfl⟩ (Nat.le_of_ble_eq_true rfl) dX0_law_1732 ?_
  refine mo_back hM1 (xr_ _) (fun x2 t2 un2 s2 σ2 e2 hM2 f2 => ?_)
  cases e1.symm.trans e2
  refine g_sameI (tgt := 1834) dX0_law_1735 (by decide) ?_
  exact hK _ _ _ (le_act hS1 hM hM2 hB hlt1 f1 f2 (by decide) (by decide) ⟨(tq_back e1).1, (tq_back e1).2.1⟩)
theorem tq_close {k is : Int} {x t : Int} {un' : Int} {U' : Int → Int → Int} {s' : Int → Int} (h : aClose_ p r s un U k is = (x, t, un', U', s')) : 0 ≤ t ∧ t ≤ 6 ∧ t ≠ 4 := by
  have e : (aClose_ p r s un U k is).2.1 = t := by rw [h]
  rw [← e]
  unfold aClose_
  (repeat' split) <;> ((try dsimp only); omega)
theorem law_c43 {e5 e6 : Option AV} (h : LI_ G b L X i σ tp fa pl tr p un im B r s U I T LL) (hK : ∀ (e5 e6 : Option AV) (σ' : JH), LE_ G X σ σ' → GoW_ G b L xs σ0 1834 [some (A_ (some b)), some (A_ (some X)), some (A_ (some (X + 13))), some (A_ (some (X + 30))), some (I_ i), e5, e6] [] σ') : GoW_ G b L xs σ0 1636 [some (A_ (some b)), some (A_ (some X)), some (A_ (some (X + 13))), some (A_ (some (X + 30))), some (I_ i), e5, e6] [] σ := by
  obtain ⟨hS, hM, htr, hB, ⟨hbl, hL, hi0, hi6⟩, hrm, hst⟩ := h
  refine g_lt (fun hlt hgz => ?_)
  by_cases hz : (xs (i + 2).toNat).toInt = 0
  · refine g_al1 dX0_law_1636 ?_
    refine g_al0 dX0_law_1637 ?_
    refine g_il4 dX0_law_1638 ?_
    refine g_iconst dX0_law_1640 ?_
    refine g_iadd dX0_law_1641 ?_
    refine g_sld hbl (by omega) hL dX0_law_1642 ?_
    refine g_al0 dX0_law_1643 ?_
    refine g_il4 dX0_law_1644 ?_
    refine g_iconst dX0_law_1646 ?_
    refine g_iadd dX0_law_1647 ?_
    refine g_sld hbl (by omega) hL dX0_law_1648 ?_
    refine g_if_eq (tgt := 1656) dX0_law_1649 (by decide) (xr_ _) (fun h1649 => ?_) (fun h1649 => ?_)
    · refine g_iconst dX0_law_1656 ?_
      refine g_callV2I (d' := 10) lk_X0_198 hS.1.1.sh rfl ⟨Nat.le_of_ble_eq_true rfl, Nat.le_of_ble_eq_true rfl⟩ (Nat.le_of_ble_eq_true rfl) dX0_law_1657 ?_
      refine xo_close hS hM.P hM.2.2.2.2.1.2.1 hM.2.2.2.2.2.2.1 (by first | exact xr_ _ | omega) (by first | exact xr_ _ | omega) ⟨by omega, by omega⟩ (by omega) (fun x1 t1 un1 U1 s1 T1 L1 σ1 e1 hS1 f1 => ?_)
      refine g_lt (fun hlt1 hgz1 => ?_)
      have hM1 := hM.gx hB f1
      refine g_al2 dX0_law_1660 ?_
      refine g_al0 dX0_law_1661 ?_
      refine g_il4 dX0_law_1662 ?_
      refine g_iconst dX0_law_1664 ?_
      refine g_iadd dX0_law_1665 ?_
      refine g_sld hbl (by omega) hL dX0_law_1666 ?_
      refine g_al0 dX0_law_1667 ?_
      refine g_il4 dX0_law_1668 ?_
      refine g_iconst dX0_law_1670 ?_
      refine g_iadd dX0_law_1671 ?_
      refine g_sld hbl (by omega) hL dX0_law_1672 ?_
      refine g_if_eq (tgt := 1680) dX0_law_1673 (by decide) (xr_ _) (fun h1673 => ?_) (fun h1673 => ?_)
      · refine g_iconst dX0_law_1680 ?_
        refine g_callV2I (d' := 4) lk_X0_202 hM1.M.sh rfl ⟨Nat.le_of_ble_eq_true rfl, Nat.le_of_ble_eq_true rfl⟩ (Nat.le_of_ble_eq_true rfl) dX0_law_1681 ?_
        refine mo_close hM1 (by first | exact xr_ _ | omega) (by first | exact xr_ _ | omega) (by omega) (fun x2 t2 un2 U2 s2 σ2 e2 hM2 f2 => ?_)
        cases e1.symm.trans e2
        refine g_sameI (tgt := 1834) dX0_law_1684 (by decide) ?_
        exact hK _ _ _ (le_act hS1 hM hM2 hB hlt1 f1 f2 (by decide) (by decide) ⟨(tq_close e1).1, (tq_close e1).2.1⟩)
      exact absurd hz h1673
    exact absurd hz h1649
  · refine g_al1 dX0_law_1636 ?_
    refine g_al0 dX0_law_1637 ?_
    refine g_il4 dX0_law_1638 ?_
    refine g_iconst dX0_law_1640 ?_
    refine g_iadd dX0_law_1641 ?_
    refine g_sld hbl (by omega) hL dX0_law_1642 ?_
    refine g_al0 dX0_law_1643 ?_
    refine g_il4 dX0_law_1644 ?_
    refine g_iconst dX0_law_1646 ?_
    refine g_iadd dX0_law_1647 ?_
    refine g_sld hbl (by omega) hL dX0_law_1648 ?_
    refine g_if_eq (tgt := 1656) dX0_law_1649 (by decide) (xr_ _) (fun h1649 => ?_) (fun h1649 => ?_)
    · exact absurd h1649 hz
    refine g_iconst dX0_law_1652 ?_
    refine g_goto (tgt := 1657) dX0_law_1653 (by decide) ?_
    refine g_callV2I (d' := 10) lk_X0_198 hS.1.1.sh rfl ⟨Nat.le_of_ble_eq_true rfl, Nat.le_of_ble_eq_true rfl⟩ (Nat.le_of_ble_eq_true rfl) dX0_law_1657 ?_
    refine xo_close hS hM.P hM.2.2.2.2.1.2.1 hM.2.2.2.2.2.2.1 (by first | exact xr_ _ | omega) (by first | exact xr_ _ | omega) ⟨by omega, by omega⟩ (by omega) (fun x1 t1 un1 U1 s1 T1 L1 σ1 e1 hS1 f1 => ?_)
    refine g_lt (fun hlt1 hgz1 => ?_)
    have hM1 := hM.gx hB f1
    refine g_al2 dX0_law_1660 ?_
    refine g_al0 dX0_law_1661 ?_
    refine g_il4 dX0_law_1662 ?_
    refine g_iconst dX0_law_1664 ?_
    refine g_iadd dX0_law_1665 ?_
    refine g_sld hbl (by omega) hL dX0_law_1666 ?_
    refine g_al0 dX0_law_1667 ?_
    refine g_il4 dX0_law_1668 ?_
    refine g_iconst dX0_law_1670 ?_
    refine g_iadd dX0_law_1671 ?_
    refine g_sld hbl (by omega) hL dX0_law_1672 ?_
    refine g_if_eq (tgt := 1680) dX0_law_1673 (by decide) (xr_ _) (fun h1673 => ?_) (fun h1673 => ?_)
    · exact absurd h1673 hz
    refine g_iconst dX0_law_1676 ?_
    refine g_goto (tgt := 1681) dX0_law_1677 (by decide) ?_
    refine g_callV2I (d' := 4) lk_X0_202 hM1.M.sh rfl ⟨Nat.le_of_ble_eq_true rfl, Nat.le_of_ble_eq_true rfl⟩ (Nat.le_of_ble_eq_true rfl) dX0_law_1681 ?_
    refine mo_close hM1 (by first | exact xr_ _ | omega) (by first | exact xr_ _ | omega) (by omega) (fun x2 t2 un2 U2 s2 σ2 e2 hM2 f2 => ?_)
    cases e1.symm.trans e2
    refine g_sameI (tgt := 1834) dX0_law_1684 (by decide) ?_
    exact hK _ _ _ (le_act hS1 hM hM2 hB hlt1 f1 f2 (by decide) (by decide) ⟨(tq_close e1).1, (tq_close e1).2.1⟩)
end
