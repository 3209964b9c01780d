/-! the law: its cases (4) -/
set_option maxRecDepth 100000

set_option maxHeartbeats 4000000 in
set_option maxRecDepth 100000 in
/-- rankIf -/
theorem lc_rankIf {l : Launch} {G : Gl} {p9 : Program} {e9 : Env} {s9 : State} {m9 : MethodId} {a9 : Array Value} {b9 : List Frame} {meth9 : Method} {c9 : Code} {Q9 : State → Prop} (X : HX G p9 s9 m9 a9 c9 cL_law 10 "SpokenMarksLaw") (hSt : l.stackTraces = false) (w : Wd) (b x m o od L : Nat) (xs : Nat → Int) (hxs : ∀ j, R32 (xs j)) (hSx : va_X b L (fun j => iI (xs j)) s9 (gH G)) (hbB : b < gB G) (i : Nat) (hi : i < 24) (hiL : 6 * i + 6 ≤ L) (hL9 : L ≤ 144) (U V : Nat) (hI : LI G w x m o od i U V) (H : Heap) (locs : List Loc) (ls : Array Slot) (hR : Rp G w H) (hL : LK G locs) (hl : lv_has ls 10 [(0, .ref b), (1, .ref x), (2, .ref m), (3, .ref o), (4, .ref od), (5, .int (iI ((6 * i : Nat) : Int)))])
  (kk : ∀ (w1 : Wd) (U1 V1 : Nat), LI G w1 x m o od (i + 1) U1 V1 → ∀ (H1 : Heap) (locs1 : List Loc) (ls1 : Array Slot), Rp G w1 H1 → LK G locs1 → lv_has ls1 10 [(0, .ref b), (1, .ref x), (2, .ref m), (3, .ref o), (4, .ref od), (5, .int (iI ((6 * i : Nat) : Int)))] → W p9 l e9 (rmk 26 1200048 5501818) s9 m9 a9 b9 meth9 c9 H1 locs1 U1 V1 Q9 (F0 m9 2178 ls1 [])) : W p9 l e9 (rmk 26 1200048 5501818) s9 m9 a9 b9 meth9 c9 H locs U V Q9 (F0 m9 1237 ls []) := by
  have hx := X.1.1
  have hb := X.1.2.1
  obtain ⟨z, k0, hA, hT, ⟨fo, hO⟩, ⟨fd, hOd⟩, hG, hok, hU, hV⟩ := hI
  have hb2 : (2200 : Int) ≤ 3000 + 1000 * (i : Int) := by omega
  have hb9 : (3000 : Int) + 1000 * (i : Int) < 890000 := by omega
  obtain ⟨v1, hv_1⟩ : ∃ v_, v_ = xs (6 * i + 1) := ⟨_, rfl⟩
  have r1 : R32 v1 := by rw [hv_1]; exact hxs _
  have hbl : (zB ((aRnk z v1).2.2)).length ≤ (zB z).length := zTB_le z v1
  refine lv_aload_n hx hb dL_law_1237 rfl (lv_at hl 1 rfl) ?_
  refine lv_aload_n hx hb dL_law_1238 rfl (lv_at hl 0 rfl) ?_
  refine lv_iload hx hb dL_law_1239 (lv_at hl 5 rfl) ?_
  refine h_iconst hx hb dL_law_1241 ?_
  refine h_iadd hx hb dL_law_1242 ?_
  refine h_sld X hR hSx hbB (by omega) (by omega) dL_law_1243 ?_
  refine W.eq (g2 := F0 m9 1244 ls [.int (iI (v1)), .ref x]) (congrArg (fun z_ : Int => F0 m9 1244 ls [.int (iI (z_)), .ref x]) (show (xs (((6 * i : Nat) : Int) + 1).toNat : Int) = v1 from (by rw [hv_1, show (((6 * i : Nat) : Int) + 1).toNat = 6 * i + 1 by omega]))) ?_
  refine lv_aload_n hx hb dL_law_1244 rfl (lv_at hl 3 rfl) ?_
  -- call SpokenMarksLaw.rankIf
  refine h_xI (h_xrunTS X hR (ww_rankIf l G w hSt x z _ hA hok hb2 hb9 hG v1 r1 o fo hO) pn_yX0_rankIf q2431 q2432 q119 q2433 ⟨by decide, by decide⟩ hl.1 (Nat.le_of_ble_eq_true rfl) dL_law_1245 ⟨by omega, by omega⟩) hL (fun xq_4 E_5 ce_ w_6 hx__7 H locs hR hL hce_ hcv_ hcl_ => ?_) (fun z_1 w_2 hp_3 H locs hR hL => ?_)
  ·
    exact absurd hx__7 id
  ·
    obtain ⟨⟨hk3, hkc⟩, hA, hKt, hG, hok1, ⟨fo, hO, hOv⟩, hKd⟩ := hp_3
    have hOd := hKd _ _ hOd
    have hT := hT.kt hKt
    refine lv_istore (lv' := [(6, .int (iI (z_1))), (0, .ref b), (1, .ref x), (2, .ref m), (3, .ref o), (4, .ref od), (5, .int (iI (((6 * i : Nat) : Int))))]) hx hb dL_law_1248 hl (by decide) rfl (fun ls hl => ?_)
    refine lv_aload_n hx hb dL_law_1250 rfl (lv_at hl 3 rfl) ?_
    refine lv_aload_n hx hb dL_law_1251 rfl (lv_at hl 1 rfl) ?_
    refine lv_iload hx hb dL_law_1252 (lv_at hl 6 rfl) ?_
    refine h_iconst hx hb dL_law_1254 ?_
    refine h_iadd hx hb dL_law_1255 ?_
    refine h_sld X hR hSx hbB (by omega) (by omega) dL_law_1256 ?_
    refine W.eq (g2 := F0 m9 1257 ls [.int (iI (v1)), .ref m]) (congrArg (fun z_ : Int => F0 m9 1257 ls [.int (iI (z_)), .ref m]) (show (xs (((6 * i : Nat) : Int) + 1).toNat : Int) = v1 from (by rw [hv_1, show (((6 * i : Nat) : Int) + 1).toNat = 6 * i + 1 by omega]))) ?_
    -- call SpokenMarksModel.rankIf
    have hRb := hR
    refine h_kI (h_runV X hR (tt_rankIf l G w_2 m z _ _ hT hok hb9 v1 r1) pn_yX10_rankIf (hT.hx) q3193 q3194 q3195 q161 q3196 ⟨by decide, by decide⟩ hl.1 (Nat.le_of_ble_eq_true rfl) dL_law_1257 ⟨by omega, by omega⟩) hL (fun z_8 w_9 hp_10 H locs hR hL => ?_)
    obtain ⟨hv2, hT2, hF2, hO2⟩ := hp_10
    obtain ⟨w3, hR, hT3, hF3, hG⟩ := hT2.fix hRb hR hG hF2 hO2
    have hA := hA.tw hT hF3
    have hO := hF3 _ _ _ hO (hT.noL hO)
    have hOd := hF3 _ _ _ hOd (hT.noD hOd)
    have hT := hT3
    refine lv_istore (lv' := [(7, .int (iI (z_8))), (6, .int (iI (z_1))), (0, .ref b), (1, .ref x), (2, .ref m), (3, .ref o), (4, .ref od), (5, .int (iI (((6 * i : Nat) : Int))))]) hx hb dL_law_1260 hl (by decide) rfl (fun ls hl => ?_)
    refine lv_aload_n hx hb dL_law_1262 rfl (lv_at hl 4 rfl) ?_
    -- call SpokenMarksModel.thrown
    refine h_kIp (h_runV X hR (tt_thrown l G w3 m (aRnk z v1).2.2 ((aRnk z v1).1) hT) pn_yX10_thrown (hT.hx) q2713 q2714 q2715 q161 q2716 ⟨by decide, by decide⟩ hl.1 (Nat.le_of_ble_eq_true rfl) dL_law_1263 ⟨by omega, by omega⟩) hL (fun H locs hR hL => ?_)
    refine lv_iload hx hb dL_law_1266 (lv_at hl 1 rfl) ?_
    refine h_icmpEq hx hb 1273 dL_law_1268 (by decide) hkc.symm ?_
    refine lv_iload hx hb dL_law_1273 (lv_at hl 1 rfl) ?_
    refine h_if_ne hx hb 1290 dL_law_1275 (by decide) ⟨by omega, by omega⟩ (fun c_k => ?_) (fun c_k => ?_)
    ·
      refine lv_goto (tgt := 2178) hx hb dL_law_1290 (by decide) ?_
      exact kk _ _ _ ⟨(aRnk z v1).2.2, _, hA, hT, ⟨_, hO⟩, ⟨_, hOd⟩, hG, hok1.mono (by omega), by omega, by omega⟩ _ _ _ hR hL (lv_sub hl [2, 3, 4, 5, 6, 7] rfl)
    ·
      refine lv_aload_n hx hb dL_law_1278 rfl (lv_at hl 5 rfl) ?_
      refine h_iconst hx hb dL_law_1279 ?_
      refine h_lald X hR hO (by omega) (by omega) dL_law_1280 ?_
      have hO0 := hOv (by omega)
      refine W.eq (g2 := F0 m9 1281 ls [.long (lI (c32 ((aRnk z v1).2.1)))]) (congrArg (fun z_ : Int => F0 m9 1281 ls [.long (lI (z_))]) (show (fo (Int.toNat 0) : Int) = c32 ((aRnk z v1).2.1) from (by exact hO0))) ?_
      refine lv_iload hx hb dL_law_1281 (lv_at hl 0 rfl) ?_
      refine W.eq (g2 := F0 m9 1283 ls [.int (iI (c32 z_8)), .long (lI (c32 ((aRnk z v1).2.1)))]) (by rw [c32_i]) ?_
      refine h_i2l hx hb dL_law_1283 (c32_r _) ?_
      refine h_lcmp hx hb dL_law_1284 (c32_j _) (c32_j _) ?_
      refine W.eq (g2 := F0 m9 1285 ls [.int (iI (0))]) (congrArg (fun z_ : Int => F0 m9 1285 ls [.int (iI (z_))]) (show (cmpZ (c32 ((aRnk z v1).2.1)) (c32 z_8) : Int) = 0 from (by rw [hv2]; exact cmpZ_0.mpr rfl))) ?_
      refine h_if_eq hx hb 1290 dL_law_1285 (by decide) (by decide) (fun _ => ?_) (fun z_ => absurd z_ (by decide))
      refine lv_goto (tgt := 2178) hx hb dL_law_1290 (by decide) ?_
      exact kk _ _ _ ⟨(aRnk z v1).2.2, _, hA, hT, ⟨_, hO⟩, ⟨_, hOd⟩, hG, hok1.mono (by omega), by omega, by omega⟩ _ _ _ hR hL (lv_sub hl [2, 3, 4, 5, 6, 7] rfl)

set_option maxHeartbeats 4000000 in
set_option maxRecDepth 100000 in
/-- placeIf -/
theorem lc_placeIf {l : Launch} {G : Gl} {p9 : Program} {e9 : Env} {s9 : State} {m9 : MethodId} {a9 : Array Value} {b9 : List Frame} {meth9 : Method} {c9 : Code} {Q9 : State → Prop} (X : HX G p9 s9 m9 a9 c9 cL_law 10 "SpokenMarksLaw") (hSt : l.stackTraces = false) (w : Wd) (b x m o od L : Nat) (xs : Nat → Int) (hxs : ∀ j, R32 (xs j)) (hSx : va_X b L (fun j => iI (xs j)) s9 (gH G)) (hbB : b < gB G) (i : Nat) (hi : i < 24) (hiL : 6 * i + 6 ≤ L) (hL9 : L ≤ 144) (U V : Nat) (hI : LI G w x m o od i U V) (H : Heap) (locs : List Loc) (ls : Array Slot) (hR : Rp G w H) (hL : LK G locs) (hl : lv_has ls 10 [(0, .ref b), (1, .ref x), (2, .ref m), (3, .ref o), (4, .ref od), (5, .int (iI ((6 * i : Nat) : Int)))])
  (kk : ∀ (w1 : Wd) (U1 V1 : Nat), LI G w1 x m o od (i + 1) U1 V1 → ∀ (H1 : Heap) (locs1 : List Loc) (ls1 : Array Slot), Rp G w1 H1 → LK G locs1 → lv_has ls1 10 [(0, .ref b), (1, .ref x), (2, .ref m), (3, .ref o), (4, .ref od), (5, .int (iI ((6 * i : Nat) : Int)))] → W p9 l e9 (rmk 26 1200048 5501818) s9 m9 a9 b9 meth9 c9 H1 locs1 U1 V1 Q9 (F0 m9 2178 ls1 [])) : W p9 l e9 (rmk 26 1200048 5501818) s9 m9 a9 b9 meth9 c9 H locs U V Q9 (F0 m9 1293 ls []) := by
  have hx := X.1.1
  have hb := X.1.2.1
  obtain ⟨z, k0, hA, hT, ⟨fo, hO⟩, ⟨fd, hOd⟩, hG, hok, hU, hV⟩ := hI
  have hb2 : (2200 : Int) ≤ 3000 + 1000 * (i : Int) := by omega
  have hb9 : (3000 : Int) + 1000 * (i : Int) < 890000 := by omega
  obtain ⟨v1, hv_1⟩ : ∃ v_, v_ = xs (6 * i + 1) := ⟨_, rfl⟩
  have r1 : R32 v1 := by rw [hv_1]; exact hxs _
  have hbl : (zB ((aPlc z v1).2.2)).length ≤ (zB z).length := zTB_le z v1
  refine lv_aload_n hx hb dL_law_1293 rfl (lv_at hl 1 rfl) ?_
  refine lv_aload_n hx hb dL_law_1294 rfl (lv_at hl 0 rfl) ?_
  refine lv_iload hx hb dL_law_1295 (lv_at hl 5 rfl) ?_
  refine h_iconst hx hb dL_law_1297 ?_
  refine h_iadd hx hb dL_law_1298 ?_
  refine h_sld X hR hSx hbB (by omega) (by omega) dL_law_1299 ?_
  refine W.eq (g2 := F0 m9 1300 ls [.int (iI (v1)), .ref x]) (congrArg (fun z_ : Int => F0 m9 1300 ls [.int (iI (z_)), .ref x]) (show (xs (((6 * i : Nat) : Int) + 1).toNat : Int) = v1 from (by rw [hv_1, show (((6 * i : Nat) : Int) + 1).toNat = 6 * i + 1 by omega]))) ?_
  refine lv_aload_n hx hb dL_law_1300 rfl (lv_at hl 3 rfl) ?_
  -- call SpokenMarksLaw.placeIf
  refine h_xI (h_xrunTS X hR (ww_placeIf l G w hSt x z _ hA hok hb2 hb9 hG v1 r1 o fo hO) pn_yX0_placeIf q2449 q2450 q119 q2451 ⟨by decide, by decide⟩ hl.1 (Nat.le_of_ble_eq_true rfl) dL_law_1301 ⟨by omega, by omega⟩) hL (fun xq_4 E_5 ce_ w_6 hx__7 H locs hR hL hce_ hcv_ hcl_ => ?_) (fun z_1 w_2 hp_3 H locs hR hL => ?_)
  ·
    exact absurd hx__7 id
  ·
    obtain ⟨⟨hk3, hkc⟩, hA, hKt, hG, hok1, ⟨fo, hO, hOv⟩, hKd⟩ := hp_3
    have hOd := hKd _ _ hOd
    have hT := hT.kt hKt
    refine lv_istore (lv' := [(6, .int (iI (z_1))), (0, .ref b), (1, .ref x), (2, .ref m), (3, .ref o), (4, .ref od), (5, .int (iI (((6 * i : Nat) : Int))))]) hx hb dL_law_1304 hl (by decide) rfl (fun ls hl => ?_)
    refine lv_aload_n hx hb dL_law_1306 rfl (lv_at hl 3 rfl) ?_
    refine lv_aload_n hx hb dL_law_1307 rfl (lv_at hl 1 rfl) ?_
    refine lv_iload hx hb dL_law_1308 (lv_at hl 6 rfl) ?_
    refine h_iconst hx hb dL_law_1310 ?_
    refine h_iadd hx hb dL_law_1311 ?_
    refine h_sld X hR hSx hbB (by omega) (by omega) dL_law_1312 ?_
    refine W.eq (g2 := F0 m9 1313 ls [.int (iI (v1)), .ref m]) (congrArg (fun z_ : Int => F0 m9 1313 ls [.int (iI (z_)), .ref m]) (show (xs (((6 * i : Nat) : Int) + 1).toNat : Int) = v1 from (by rw [hv_1, show (((6 * i : Nat) : Int) + 1).toNat = 6 * i + 1 by omega]))) ?_
    -- call SpokenMarksModel.placeIf
    have hRb := hR
    refine h_kI (h_runV X hR (tt_placeIf l G w_2 m z _ _ hT hok hb9 v1 r1) pn_yX10_placeIf (hT.hx) q3201 q3202 q3203 q161 q3204 ⟨by decide, by decide⟩ hl.1 (Nat.le_of_ble_eq_true rfl) dL_law_1313 ⟨by omega, by omega⟩) hL (fun z_8 w_9 hp_10 H locs hR hL => ?_)
    obtain ⟨hv2, hT2, hF2, hO2⟩ := hp_10
    obtain ⟨w3, hR, hT3, hF3, hG⟩ := hT2.fix hRb hR hG hF2 hO2
    have hA := hA.tw hT hF3
    have hO := hF3 _ _ _ hO (hT.noL hO)
    have hOd := hF3 _ _ _ hOd (hT.noD hOd)
    have hT := hT3
    refine lv_istore (lv' := [(7, .int (iI (z_8))), (6, .int (iI (z_1))), (0, .ref b), (1, .ref x), (2, .ref m), (3, .ref o), (4, .ref od), (5, .int (iI (((6 * i : Nat) : Int))))]) hx hb dL_law_1316 hl (by decide) rfl (fun ls hl => ?_)
    refine lv_aload_n hx hb dL_law_1318 rfl (lv_at hl 4 rfl) ?_
    -- call SpokenMarksModel.thrown
    refine h_kIp (h_runV X hR (tt_thrown l G w3 m (aPlc z v1).2.2 ((aPlc z v1).1) hT) pn_yX10_thrown (hT.hx) q2713 q2714 q2715 q161 q2716 ⟨by decide, by decide⟩ hl.1 (Nat.le_of_ble_eq_true rfl) dL_law_1319 ⟨by omega, by omega⟩) hL (fun H locs hR hL => ?_)
    refine lv_iload hx hb dL_law_1322 (lv_at hl 1 rfl) ?_
    refine h_icmpEq hx hb 1329 dL_law_1324 (by decide) hkc.symm ?_
    refine lv_iload hx hb dL_law_1329 (lv_at hl 1 rfl) ?_
    refine h_if_ne hx hb 1346 dL_law_1331 (by decide) ⟨by omega, by omega⟩ (fun c_k => ?_) (fun c_k => ?_)
    ·
      refine lv_goto (tgt := 2178) hx hb dL_law_1346 (by decide) ?_
      exact kk _ _ _ ⟨(aPlc z v1).2.2, _, hA, hT, ⟨_, hO⟩, ⟨_, hOd⟩, hG, hok1.mono (by omega), by omega, by omega⟩ _ _ _ hR hL (lv_sub hl [2, 3, 4, 5, 6, 7] rfl)
    ·
      refine lv_aload_n hx hb dL_law_1334 rfl (lv_at hl 5 rfl) ?_
      refine h_iconst hx hb dL_law_1335 ?_
      refine h_lald X hR hO (by omega) (by omega) dL_law_1336 ?_
      have hO0 := hOv (by omega)
      refine W.eq (g2 := F0 m9 1337 ls [.long (lI (c32 ((aPlc z v1).2.1)))]) (congrArg (fun z_ : Int => F0 m9 1337 ls [.long (lI (z_))]) (show (fo (Int.toNat 0) : Int) = c32 ((aPlc z v1).2.1) from (by exact hO0))) ?_
      refine lv_iload hx hb dL_law_1337 (lv_at hl 0 rfl) ?_
      refine W.eq (g2 := F0 m9 1339 ls [.int (iI (c32 z_8)), .long (lI (c32 ((aPlc z v1).2.1)))]) (by rw [c32_i]) ?_
      refine h_i2l hx hb dL_law_1339 (c32_r _) ?_
      refine h_lcmp hx hb dL_law_1340 (c32_j _) (c32_j _) ?_
      refine W.eq (g2 := F0 m9 1341 ls [.int (iI (0))]) (congrArg (fun z_ : Int => F0 m9 1341 ls [.int (iI (z_))]) (show (cmpZ (c32 ((aPlc z v1).2.1)) (c32 z_8) : Int) = 0 from (by rw [hv2]; exact cmpZ_0.mpr rfl))) ?_
      refine h_if_eq hx hb 1346 dL_law_1341 (by decide) (by decide) (fun _ => ?_) (fun z_ => absurd z_ (by decide))
      refine lv_goto (tgt := 2178) hx hb dL_law_1346 (by decide) ?_
      exact kk _ _ _ ⟨(aPlc z v1).2.2, _, hA, hT, ⟨_, hO⟩, ⟨_, hOd⟩, hG, hok1.mono (by omega), by omega, by omega⟩ _ _ _ hR hL (lv_sub hl [2, 3, 4, 5, 6, 7] rfl)

set_option maxHeartbeats 4000000 in
set_option maxRecDepth 100000 in
/-- movesIf -/
theorem lc_movesIf {l : Launch} {G : Gl} {p9 : Program} {e9 : Env} {s9 : State} {m9 : MethodId} {a9 : Array Value} {b9 : List Frame} {meth9 : Method} {c9 : Code} {Q9 : State → Prop} (X : HX G p9 s9 m9 a9 c9 cL_law 10 "SpokenMarksLaw") (hSt : l.stackTraces = false) (w : Wd) (b x m o od L : Nat) (xs : Nat → Int) (hxs : ∀ j, R32 (xs j)) (hSx : va_X b L (fun j => iI (xs j)) s9 (gH G)) (hbB : b < gB G) (i : Nat) (hi : i < 24) (hiL : 6 * i + 6 ≤ L) (hL9 : L ≤ 144) (U V : Nat) (hI : LI G w x m o od i U V) (H : Heap) (locs : List Loc) (ls : Array Slot) (hR : Rp G w H) (hL : LK G locs) (hl : lv_has ls 10 [(0, .ref b), (1, .ref x), (2, .ref m), (3, .ref o), (4, .ref od), (5, .int (iI ((6 * i : Nat) : Int)))])
  (kk : ∀ (w1 : Wd) (U1 V1 : Nat), LI G w1 x m o od (i + 1) U1 V1 → ∀ (H1 : Heap) (locs1 : List Loc) (ls1 : Array Slot), Rp G w1 H1 → LK G locs1 → lv_has ls1 10 [(0, .ref b), (1, .ref x), (2, .ref m), (3, .ref o), (4, .ref od), (5, .int (iI ((6 * i : Nat) : Int)))] → W p9 l e9 (rmk 26 1200048 5501818) s9 m9 a9 b9 meth9 c9 H1 locs1 U1 V1 Q9 (F0 m9 2178 ls1 [])) : W p9 l e9 (rmk 26 1200048 5501818) s9 m9 a9 b9 meth9 c9 H locs U V Q9 (F0 m9 1349 ls []) := by
  have hx := X.1.1
  have hb := X.1.2.1
  obtain ⟨z, k0, hA, hT, ⟨fo, hO⟩, ⟨fd, hOd⟩, hG, hok, hU, hV⟩ := hI
  have hb2 : (2200 : Int) ≤ 3000 + 1000 * (i : Int) := by omega
  have hb9 : (3000 : Int) + 1000 * (i : Int) < 890000 := by omega
  obtain ⟨v1, hv_1⟩ : ∃ v_, v_ = xs (6 * i + 1) := ⟨_, rfl⟩
  have r1 : R32 v1 := by rw [hv_1]; exact hxs _
  have hbl : (zB ((aMov z v1).2.2)).length ≤ (zB z).length := zTB_le z v1
  refine lv_aload_n hx hb dL_law_1349 rfl (lv_at hl 1 rfl) ?_
  refine lv_aload_n hx hb dL_law_1350 rfl (lv_at hl 0 rfl) ?_
  refine lv_iload hx hb dL_law_1351 (lv_at hl 5 rfl) ?_
  refine h_iconst hx hb dL_law_1353 ?_
  refine h_iadd hx hb dL_law_1354 ?_
  refine h_sld X hR hSx hbB (by omega) (by omega) dL_law_1355 ?_
  refine W.eq (g2 := F0 m9 1356 ls [.int (iI (v1)), .ref x]) (congrArg (fun z_ : Int => F0 m9 1356 ls [.int (iI (z_)), .ref x]) (show (xs (((6 * i : Nat) : Int) + 1).toNat : Int) = v1 from (by rw [hv_1, show (((6 * i : Nat) : Int) + 1).toNat = 6 * i + 1 by omega]))) ?_
  refine lv_aload_n hx hb dL_law_1356 rfl (lv_at hl 3 rfl) ?_
  -- call SpokenMarksLaw.movesIf
  refine h_xI (h_xrunTS X hR (ww_movesIf l G w hSt x z _ hA hok hb2 hb9 hG v1 r1 o fo hO) pn_yX0_movesIf q2458 q2459 q119 q2460 ⟨by decide, by decide⟩ hl.1 (Nat.le_of_ble_eq_true rfl) dL_law_1357 ⟨by omega, by omega⟩) hL (fun xq_4 E_5 ce_ w_6 hx__7 H locs hR hL hce_ hcv_ hcl_ => ?_) (fun z_1 w_2 hp_3 H locs hR hL => ?_)
  ·
    exact absurd hx__7 id
  ·
    obtain ⟨⟨hk3, hkc⟩, hA, hKt, hG, hok1, ⟨fo, hO, hOv⟩, hKd⟩ := hp_3
    have hOd := hKd _ _ hOd
    have hT := hT.kt hKt
    refine lv_istore (lv' := [(6, .int (iI (z_1))), (0, .ref b), (1, .ref x), (2, .ref m), (3, .ref o), (4, .ref od), (5, .int (iI (((6 * i : Nat) : Int))))]) hx hb dL_law_1360 hl (by decide) rfl (fun ls hl => ?_)
    refine lv_aload_n hx hb dL_law_1362 rfl (lv_at hl 3 rfl) ?_
    refine lv_aload_n hx hb dL_law_1363 rfl (lv_at hl 1 rfl) ?_
    refine lv_iload hx hb dL_law_1364 (lv_at hl 6 rfl) ?_
    refine h_iconst hx hb dL_law_1366 ?_
    refine h_iadd hx hb dL_law_1367 ?_
    refine h_sld X hR hSx hbB (by omega) (by omega) dL_law_1368 ?_
    refine W.eq (g2 := F0 m9 1369 ls [.int (iI (v1)), .ref m]) (congrArg (fun z_ : Int => F0 m9 1369 ls [.int (iI (z_)), .ref m]) (show (xs (((6 * i : Nat) : Int) + 1).toNat : Int) = v1 from (by rw [hv_1, show (((6 * i : Nat) : Int) + 1).toNat = 6 * i + 1 by omega]))) ?_
    -- call SpokenMarksModel.movesIf
    have hRb := hR
    refine h_kI (h_runV X hR (tt_movesIf l G w_2 m z _ _ hT hok hb9 v1 r1) pn_yX10_movesIf (hT.hx) q3205 q3206 q3207 q161 q3208 ⟨by decide, by decide⟩ hl.1 (Nat.le_of_ble_eq_true rfl) dL_law_1369 ⟨by omega, by omega⟩) hL (fun z_8 w_9 hp_10 H locs hR hL => ?_)
    obtain ⟨hv2, hT2, hF2, hO2⟩ := hp_10
    obtain ⟨w3, hR, hT3, hF3, hG⟩ := hT2.fix hRb hR hG hF2 hO2
    have hA := hA.tw hT hF3
    have hO := hF3 _ _ _ hO (hT.noL hO)
    have hOd := hF3 _ _ _ hOd (hT.noD hOd)
    have hT := hT3
    refine lv_istore (lv' := [(7, .int (iI (z_8))), (6, .int (iI (z_1))), (0, .ref b), (1, .ref x), (2, .ref m), (3, .ref o), (4, .ref od), (5, .int (iI (((6 * i : Nat) : Int))))]) hx hb dL_law_1372 hl (by decide) rfl (fun ls hl => ?_)
    refine lv_aload_n hx hb dL_law_1374 rfl (lv_at hl 4 rfl) ?_
    -- call SpokenMarksModel.thrown
    refine h_kIp (h_runV X hR (tt_thrown l G w3 m (aMov z v1).2.2 ((aMov z v1).1) hT) pn_yX10_thrown (hT.hx) q2713 q2714 q2715 q161 q2716 ⟨by decide, by decide⟩ hl.1 (Nat.le_of_ble_eq_true rfl) dL_law_1375 ⟨by omega, by omega⟩) hL (fun H locs hR hL => ?_)
    refine lv_iload hx hb dL_law_1378 (lv_at hl 1 rfl) ?_
    refine h_icmpEq hx hb 1385 dL_law_1380 (by decide) hkc.symm ?_
    refine lv_iload hx hb dL_law_1385 (lv_at hl 1 rfl) ?_
    refine h_if_ne hx hb 1402 dL_law_1387 (by decide) ⟨by omega, by omega⟩ (fun c_k => ?_) (fun c_k => ?_)
    ·
      refine lv_goto (tgt := 2178) hx hb dL_law_1402 (by decide) ?_
      exact kk _ _ _ ⟨(aMov z v1).2.2, _, hA, hT, ⟨_, hO⟩, ⟨_, hOd⟩, hG, hok1.mono (by omega), by omega, by omega⟩ _ _ _ hR hL (lv_sub hl [2, 3, 4, 5, 6, 7] rfl)
    ·
      refine lv_aload_n hx hb dL_law_1390 rfl (lv_at hl 5 rfl) ?_
      refine h_iconst hx hb dL_law_1391 ?_
      refine h_lald X hR hO (by omega) (by omega) dL_law_1392 ?_
      have hO0 := hOv (by omega)
      refine W.eq (g2 := F0 m9 1393 ls [.long (lI (c32 ((aMov z v1).2.1)))]) (congrArg (fun z_ : Int => F0 m9 1393 ls [.long (lI (z_))]) (show (fo (Int.toNat 0) : Int) = c32 ((aMov z v1).2.1) from (by exact hO0))) ?_
      refine lv_iload hx hb dL_law_1393 (lv_at hl 0 rfl) ?_
      refine W.eq (g2 := F0 m9 1395 ls [.int (iI (c32 z_8)), .long (lI (c32 ((aMov z v1).2.1)))]) (by rw [c32_i]) ?_
      refine h_i2l hx hb dL_law_1395 (c32_r _) ?_
      refine h_lcmp hx hb dL_law_1396 (c32_j _) (c32_j _) ?_
      refine W.eq (g2 := F0 m9 1397 ls [.int (iI (0))]) (congrArg (fun z_ : Int => F0 m9 1397 ls [.int (iI (z_))]) (show (cmpZ (c32 ((aMov z v1).2.1)) (c32 z_8) : Int) = 0 from (by rw [hv2]; exact cmpZ_0.mpr rfl))) ?_
      refine h_if_eq hx hb 1402 dL_law_1397 (by decide) (by decide) (fun _ => ?_) (fun z_ => absurd z_ (by decide))
      refine lv_goto (tgt := 2178) hx hb dL_law_1402 (by decide) ?_
      exact kk _ _ _ ⟨(aMov z v1).2.2, _, hA, hT, ⟨_, hO⟩, ⟨_, hOd⟩, hG, hok1.mono (by omega), by omega, by omega⟩ _ _ _ hR hL (lv_sub hl [2, 3, 4, 5, 6, 7] rfl)

set_option maxHeartbeats 4000000 in
set_option maxRecDepth 100000 in
/-- why -/
theorem lc_why {l : Launch} {G : Gl} {p9 : Program} {e9 : Env} {s9 : State} {m9 : MethodId} {a9 : Array Value} {b9 : List Frame} {meth9 : Method} {c9 : Code} {Q9 : State → Prop} (X : HX G p9 s9 m9 a9 c9 cL_law 10 "SpokenMarksLaw") (hSt : l.stackTraces = false) (w : Wd) (b x m o od L : Nat) (xs : Nat → Int) (hxs : ∀ j, R32 (xs j)) (hSx : va_X b L (fun j => iI (xs j)) s9 (gH G)) (hbB : b < gB G) (i : Nat) (hi : i < 24) (hiL : 6 * i + 6 ≤ L) (hL9 : L ≤ 144) (U V : Nat) (hI : LI G w x m o od i U V) (H : Heap) (locs : List Loc) (ls : Array Slot) (hR : Rp G w H) (hL : LK G locs) (hl : lv_has ls 10 [(0, .ref b), (1, .ref x), (2, .ref m), (3, .ref o), (4, .ref od), (5, .int (iI ((6 * i : Nat) : Int)))])
  (kk : ∀ (w1 : Wd) (U1 V1 : Nat), LI G w1 x m o od (i + 1) U1 V1 → ∀ (H1 : Heap) (locs1 : List Loc) (ls1 : Array Slot), Rp G w1 H1 → LK G locs1 → lv_has ls1 10 [(0, .ref b), (1, .ref x), (2, .ref m), (3, .ref o), (4, .ref od), (5, .int (iI ((6 * i : Nat) : Int)))] → W p9 l e9 (rmk 26 1200048 5501818) s9 m9 a9 b9 meth9 c9 H1 locs1 U1 V1 Q9 (F0 m9 2178 ls1 [])) : W p9 l e9 (rmk 26 1200048 5501818) s9 m9 a9 b9 meth9 c9 H locs U V Q9 (F0 m9 1405 ls []) := by
  have hx := X.1.1
  have hb := X.1.2.1
  obtain ⟨z, k0, hA, hT, ⟨fo, hO⟩, ⟨fd, hOd⟩, hG, hok, hU, hV⟩ := hI
  have hb2 : (2200 : Int) ≤ 3000 + 1000 * (i : Int) := by omega
  have hb9 : (3000 : Int) + 1000 * (i : Int) < 890000 := by omega
  obtain ⟨v1, hv_1⟩ : ∃ v_, v_ = xs (6 * i + 1) := ⟨_, rfl⟩
  have r1 : R32 v1 := by rw [hv_1]; exact hxs _
  have hbl : (zB ((aWhy z v1).2.2)).length ≤ (zB z).length := zTB_le z v1
  refine lv_aload_n hx hb dL_law_1405 rfl (lv_at hl 1 rfl) ?_
  refine lv_aload_n hx hb dL_law_1406 rfl (lv_at hl 0 rfl) ?_
  refine lv_iload hx hb dL_law_1407 (lv_at hl 5 rfl) ?_
  refine h_iconst hx hb dL_law_1409 ?_
  refine h_iadd hx hb dL_law_1410 ?_
  refine h_sld X hR hSx hbB (by omega) (by omega) dL_law_1411 ?_
  refine W.eq (g2 := F0 m9 1412 ls [.int (iI (v1)), .ref x]) (congrArg (fun z_ : Int => F0 m9 1412 ls [.int (iI (z_)), .ref x]) (show (xs (((6 * i : Nat) : Int) + 1).toNat : Int) = v1 from (by rw [hv_1, show (((6 * i : Nat) : Int) + 1).toNat = 6 * i + 1 by omega]))) ?_
  refine lv_aload_n hx hb dL_law_1412 rfl (lv_at hl 3 rfl) ?_
  -- call SpokenMarksLaw.why
  refine h_xI (h_xrunTS X hR (ww_why l G w hSt x z _ hA hok hb2 hb9 hG v1 r1 o fo hO) pn_yX0_why q2469 q2470 q119 q2471 ⟨by decide, by decide⟩ hl.1 (Nat.le_of_ble_eq_true rfl) dL_law_1413 ⟨by omega, by omega⟩) hL (fun xq_4 E_5 ce_ w_6 hx__7 H locs hR hL hce_ hcv_ hcl_ => ?_) (fun z_1 w_2 hp_3 H locs hR hL => ?_)
  ·
    exact absurd hx__7 id
  ·
    obtain ⟨⟨hk3, hkc⟩, hA, hKt, hG, hok1, ⟨fo, hO, hOv⟩, hKd⟩ := hp_3
    have hOd := hKd _ _ hOd
    have hT := hT.kt hKt
    refine lv_istore (lv' := [(6, .int (iI (z_1))), (0, .ref b), (1, .ref x), (2, .ref m), (3, .ref o), (4, .ref od), (5, .int (iI (((6 * i : Nat) : Int))))]) hx hb dL_law_1416 hl (by decide) rfl (fun ls hl => ?_)
    refine lv_aload_n hx hb dL_law_1418 rfl (lv_at hl 3 rfl) ?_
    refine lv_aload_n hx hb dL_law_1419 rfl (lv_at hl 1 rfl) ?_
    refine lv_iload hx hb dL_law_1420 (lv_at hl 6 rfl) ?_
    refine h_iconst hx hb dL_law_1422 ?_
    refine h_iadd hx hb dL_law_1423 ?_
    refine h_sld X hR hSx hbB (by omega) (by omega) dL_law_1424 ?_
    refine W.eq (g2 := F0 m9 1425 ls [.int (iI (v1)), .ref m]) (congrArg (fun z_ : Int => F0 m9 1425 ls [.int (iI (z_)), .ref m]) (show (xs (((6 * i : Nat) : Int) + 1).toNat : Int) = v1 from (by rw [hv_1, show (((6 * i : Nat) : Int) + 1).toNat = 6 * i + 1 by omega]))) ?_
    -- call SpokenMarksModel.why
    have hRb := hR
    refine h_kI (h_runV X hR (tt_why l G w_2 m z _ _ hT hok hb9 v1 r1) pn_yX10_why (hT.hx) q3209 q3210 q3211 q161 q3212 ⟨by decide, by decide⟩ hl.1 (Nat.le_of_ble_eq_true rfl) dL_law_1425 ⟨by omega, by omega⟩) hL (fun z_8 w_9 hp_10 H locs hR hL => ?_)
    obtain ⟨hv2, hT2, hF2, hO2⟩ := hp_10
    obtain ⟨w3, hR, hT3, hF3, hG⟩ := hT2.fix hRb hR hG hF2 hO2
    have hA := hA.tw hT hF3
    have hO := hF3 _ _ _ hO (hT.noL hO)
    have hOd := hF3 _ _ _ hOd (hT.noD hOd)
    have hT := hT3
    refine lv_istore (lv' := [(7, .int (iI (z_8))), (6, .int (iI (z_1))), (0, .ref b), (1, .ref x), (2, .ref m), (3, .ref o), (4, .ref od), (5, .int (iI (((6 * i : Nat) : Int))))]) hx hb dL_law_1428 hl (by decide) rfl (fun ls hl => ?_)
    refine lv_aload_n hx hb dL_law_1430 rfl (lv_at hl 4 rfl) ?_
    -- call SpokenMarksModel.thrown
    refine h_kIp (h_runV X hR (tt_thrown l G w3 m (aWhy z v1).2.2 ((aWhy z v1).1) hT) pn_yX10_thrown (hT.hx) q2713 q2714 q2715 q161 q2716 ⟨by decide, by decide⟩ hl.1 (Nat.le_of_ble_eq_true rfl) dL_law_1431 ⟨by omega, by omega⟩) hL (fun H locs hR hL => ?_)
    refine lv_iload hx hb dL_law_1434 (lv_at hl 1 rfl) ?_
    refine h_icmpEq hx hb 1441 dL_law_1436 (by decide) hkc.symm ?_
    refine lv_iload hx hb dL_law_1441 (lv_at hl 1 rfl) ?_
    refine h_if_ne hx hb 1458 dL_law_1443 (by decide) ⟨by omega, by omega⟩ (fun c_k => ?_) (fun c_k => ?_)
    ·
      refine lv_goto (tgt := 2178) hx hb dL_law_1458 (by decide) ?_
      exact kk _ _ _ ⟨(aWhy z v1).2.2, _, hA, hT, ⟨_, hO⟩, ⟨_, hOd⟩, hG, hok1.mono (by omega), by omega, by omega⟩ _ _ _ hR hL (lv_sub hl [2, 3, 4, 5, 6, 7] rfl)
    ·
      refine lv_aload_n hx hb dL_law_1446 rfl (lv_at hl 5 rfl) ?_
      refine h_iconst hx hb dL_law_1447 ?_
      refine h_lald X hR hO (by omega) (by omega) dL_law_1448 ?_
      have hO0 := hOv (by omega)
      refine W.eq (g2 := F0 m9 1449 ls [.long (lI (c32 ((aWhy z v1).2.1)))]) (congrArg (fun z_ : Int => F0 m9 1449 ls [.long (lI (z_))]) (show (fo (Int.toNat 0) : Int) = c32 ((aWhy z v1).2.1) from (by exact hO0))) ?_
      refine lv_iload hx hb dL_law_1449 (lv_at hl 0 rfl) ?_
      refine W.eq (g2 := F0 m9 1451 ls [.int (iI (c32 z_8)), .long (lI (c32 ((aWhy z v1).2.1)))]) (by rw [c32_i]) ?_
      refine h_i2l hx hb dL_law_1451 (c32_r _) ?_
      refine h_lcmp hx hb dL_law_1452 (c32_j _) (c32_j _) ?_
      refine W.eq (g2 := F0 m9 1453 ls [.int (iI (0))]) (congrArg (fun z_ : Int => F0 m9 1453 ls [.int (iI (z_))]) (show (cmpZ (c32 ((aWhy z v1).2.1)) (c32 z_8) : Int) = 0 from (by rw [hv2]; exact cmpZ_0.mpr rfl))) ?_
      refine h_if_eq hx hb 1458 dL_law_1453 (by decide) (by decide) (fun _ => ?_) (fun z_ => absurd z_ (by decide))
      refine lv_goto (tgt := 2178) hx hb dL_law_1458 (by decide) ?_
      exact kk _ _ _ ⟨(aWhy z v1).2.2, _, hA, hT, ⟨_, hO⟩, ⟨_, hOd⟩, hG, hok1.mono (by omega), by omega, by omega⟩ _ _ _ hR hL (lv_sub hl [2, 3, 4, 5, 6, 7] rfl)

set_option maxHeartbeats 4000000 in
set_option maxRecDepth 100000 in
/-- cause -/
theorem lc_cause {l : Launch} {G : Gl} {p9 : Program} {e9 : Env} {s9 : State} {m9 : MethodId} {a9 : Array Value} {b9 : List Frame} {meth9 : Method} {c9 : Code} {Q9 : State → Prop} (X : HX G p9 s9 m9 a9 c9 cL_law 10 "SpokenMarksLaw") (hSt : l.stackTraces = false) (w : Wd) (b x m o od L : Nat) (xs : Nat → Int) (hxs : ∀ j, R32 (xs j)) (hSx : va_X b L (fun j => iI (xs j)) s9 (gH G)) (hbB : b < gB G) (i : Nat) (hi : i < 24) (hiL : 6 * i + 6 ≤ L) (hL9 : L ≤ 144) (U V : Nat) (hI : LI G w x m o od i U V) (H : Heap) (locs : List Loc) (ls : Array Slot) (hR : Rp G w H) (hL : LK G locs) (hl : lv_has ls 10 [(0, .ref b), (1, .ref x), (2, .ref m), (3, .ref o), (4, .ref od), (5, .int (iI ((6 * i : Nat) : Int)))])
  (kk : ∀ (w1 : Wd) (U1 V1 : Nat), LI G w1 x m o od (i + 1) U1 V1 → ∀ (H1 : Heap) (locs1 : List Loc) (ls1 : Array Slot), Rp G w1 H1 → LK G locs1 → lv_has ls1 10 [(0, .ref b), (1, .ref x), (2, .ref m), (3, .ref o), (4, .ref od), (5, .int (iI ((6 * i : Nat) : Int)))] → W p9 l e9 (rmk 26 1200048 5501818) s9 m9 a9 b9 meth9 c9 H1 locs1 U1 V1 Q9 (F0 m9 2178 ls1 [])) : W p9 l e9 (rmk 26 1200048 5501818) s9 m9 a9 b9 meth9 c9 H locs U V Q9 (F0 m9 1461 ls []) := by
  have hx := X.1.1
  have hb := X.1.2.1
  obtain ⟨z, k0, hA, hT, ⟨fo, hO⟩, ⟨fd, hOd⟩, hG, hok, hU, hV⟩ := hI
  have hb2 : (2200 : Int) ≤ 3000 + 1000 * (i : Int) := by omega
  have hb9 : (3000 : Int) + 1000 * (i : Int) < 890000 := by omega
  have hbl : (zB ((aCau z).2.2)).length ≤ (zB z).length := Nat.le_refl _
  refine lv_aload_n hx hb dL_law_1461 rfl (lv_at hl 1 rfl) ?_
  -- call SpokenMarks.cause
  refine h_kI (h_runV X hR (cc_cause l G w hSt x z _ hA hok hb2 hb9 hG ) pn_yX1_cause (hA.hx) q1765 q1766 q1767 q120 q1768 ⟨by decide, by decide⟩ hl.1 (Nat.le_of_ble_eq_true rfl) dL_law_1462 ⟨by omega, by omega⟩) hL (fun z_1 w_2 hp_3 H locs hR hL => ?_)
  obtain ⟨-, hv1, hA, hKp, hG, hok1⟩ := hp_3
  have hT := hT.kt hKp.t
  have hO := hKp.2.2.1 _ _ _ hO
  have hOd := hKp.2.2.2 _ _ _ hOd
  refine lv_aload_n hx hb dL_law_1465 rfl (lv_at hl 2 rfl) ?_
  -- call SpokenMarksModel.cause
  have hRb := hR
  refine h_kI (h_runV X hR (tt_cause l G w_2 m z _ _ hT hok hb9 ) pn_yX10_cause (hT.hx) q3221 q3222 q3223 q161 q3224 ⟨by decide, by decide⟩ hl.1 (Nat.le_of_ble_eq_true rfl) dL_law_1466 ⟨by omega, by omega⟩) hL (fun z_4 w_5 hp_6 H locs hR hL => ?_)
  obtain ⟨hv2, hT2, hF2, hO2⟩ := hp_6
  obtain ⟨w3, hR, hT3, hF3, hG⟩ := hT2.fix hRb hR hG hF2 hO2
  have hA := hA.tw hT hF3
  have hO := hF3 _ _ _ hO (hT.noL hO)
  have hOd := hF3 _ _ _ hOd (hT.noD hOd)
  have hT := hT3
  refine h_icmpEq hx hb 2178 dL_law_1469 (by decide) (hv1.trans hv2.symm) ?_
  exact kk _ _ _ ⟨(aCau z).2.2, _, hA, hT, ⟨_, hO⟩, ⟨_, hOd⟩, hG, hok1.mono (by omega), by omega, by omega⟩ _ _ _ hR hL (lv_sub hl [0, 1, 2, 3, 4, 5] rfl)

set_option maxHeartbeats 4000000 in
set_option maxRecDepth 100000 in
/-- filled -/
theorem lc_filled {l : Launch} {G : Gl} {p9 : Program} {e9 : Env} {s9 : State} {m9 : MethodId} {a9 : Array Value} {b9 : List Frame} {meth9 : Method} {c9 : Code} {Q9 : State → Prop} (X : HX G p9 s9 m9 a9 c9 cL_law 10 "SpokenMarksLaw") (hSt : l.stackTraces = false) (w : Wd) (b x m o od L : Nat) (xs : Nat → Int) (hxs : ∀ j, R32 (xs j)) (hSx : va_X b L (fun j => iI (xs j)) s9 (gH G)) (hbB : b < gB G) (i : Nat) (hi : i < 24) (hiL : 6 * i + 6 ≤ L) (hL9 : L ≤ 144) (U V : Nat) (hI : LI G w x m o od i U V) (H : Heap) (locs : List Loc) (ls : Array Slot) (hR : Rp G w H) (hL : LK G locs) (hl : lv_has ls 10 [(0, .ref b), (1, .ref x), (2, .ref m), (3, .ref o), (4, .ref od), (5, .int (iI ((6 * i : Nat) : Int)))])
  (kk : ∀ (w1 : Wd) (U1 V1 : Nat), LI G w1 x m o od (i + 1) U1 V1 → ∀ (H1 : Heap) (locs1 : List Loc) (ls1 : Array Slot), Rp G w1 H1 → LK G locs1 → lv_has ls1 10 [(0, .ref b), (1, .ref x), (2, .ref m), (3, .ref o), (4, .ref od), (5, .int (iI ((6 * i : Nat) : Int)))] → W p9 l e9 (rmk 26 1200048 5501818) s9 m9 a9 b9 meth9 c9 H1 locs1 U1 V1 Q9 (F0 m9 2178 ls1 [])) : W p9 l e9 (rmk 26 1200048 5501818) s9 m9 a9 b9 meth9 c9 H locs U V Q9 (F0 m9 1474 ls []) := by
  have hx := X.1.1
  have hb := X.1.2.1
  obtain ⟨z, k0, hA, hT, ⟨fo, hO⟩, ⟨fd, hOd⟩, hG, hok, hU, hV⟩ := hI
  have hb2 : (2200 : Int) ≤ 3000 + 1000 * (i : Int) := by omega
  have hb9 : (3000 : Int) + 1000 * (i : Int) < 890000 := by omega
  obtain ⟨v1, hv_1⟩ : ∃ v_, v_ = xs (6 * i + 1) := ⟨_, rfl⟩
  have r1 : R32 v1 := by rw [hv_1]; exact hxs _
  have hbl : (zB (z)).length ≤ (zB z).length := Nat.le_refl _
  refine lv_aload_n hx hb dL_law_1474 rfl (lv_at hl 1 rfl) ?_
  refine lv_aload_n hx hb dL_law_1475 rfl (lv_at hl 0 rfl) ?_
  refine lv_iload hx hb dL_law_1476 (lv_at hl 5 rfl) ?_
  refine h_iconst hx hb dL_law_1478 ?_
  refine h_iadd hx hb dL_law_1479 ?_
  refine h_sld X hR hSx hbB (by omega) (by omega) dL_law_1480 ?_
  refine W.eq (g2 := F0 m9 1481 ls [.int (iI (v1)), .ref x]) (congrArg (fun z_ : Int => F0 m9 1481 ls [.int (iI (z_)), .ref x]) (show (xs (((6 * i : Nat) : Int) + 1).toNat : Int) = v1 from (by rw [hv_1, show (((6 * i : Nat) : Int) + 1).toNat = 6 * i + 1 by omega]))) ?_
  refine lv_aload hx hb dL_law_1481 (lv_at hl 4 rfl) ?_
  -- call SpokenMarksLaw.filled
  refine h_xI (h_xrunTS X hR (ww_filled l G w hSt x z _ hA hok hb2 hb9 hG v1 r1 od fd hOd) pn_yX0_filled q2485 q2486 q119 q2487 ⟨by decide, by decide⟩ hl.1 (Nat.le_of_ble_eq_true rfl) dL_law_1483 ⟨by omega, by omega⟩) hL (fun xq_4 E_5 ce_ w_6 hx__7 H locs hR hL hce_ hcv_ hcl_ => ?_) (fun z_1 w_2 hp_3 H locs hR hL => ?_)
  ·
    exact absurd hx__7 id
  ·
    obtain ⟨⟨hk3, hkc⟩, hA, hKt, hG, ⟨fd, hOd, hOv⟩, hKd⟩ := hp_3
    have hO := hKd _ _ hO
    have hok1 := hok.mono (show (3000 + 1000 * (i : Int)) ≤ 3000 + 1000 * (i : Int) + 1000 by omega)
    have hT := hT.kt hKt
    refine lv_istore (lv' := [(6, .int (iI (z_1))), (0, .ref b), (1, .ref x), (2, .ref m), (3, .ref o), (4, .ref od), (5, .int (iI (((6 * i : Nat) : Int))))]) hx hb dL_law_1486 hl (by decide) rfl (fun ls hl => ?_)
    refine lv_aload_n hx hb dL_law_1488 rfl (lv_at hl 3 rfl) ?_
    refine lv_aload_n hx hb dL_law_1489 rfl (lv_at hl 1 rfl) ?_
    refine lv_iload hx hb dL_law_1490 (lv_at hl 6 rfl) ?_
    refine h_iconst hx hb dL_law_1492 ?_
    refine h_iadd hx hb dL_law_1493 ?_
    refine h_sld X hR hSx hbB (by omega) (by omega) dL_law_1494 ?_
    refine W.eq (g2 := F0 m9 1495 ls [.int (iI (v1)), .ref m]) (congrArg (fun z_ : Int => F0 m9 1495 ls [.int (iI (z_)), .ref m]) (show (xs (((6 * i : Nat) : Int) + 1).toNat : Int) = v1 from (by rw [hv_1, show (((6 * i : Nat) : Int) + 1).toNat = 6 * i + 1 by omega]))) ?_
    -- call SpokenMarksModel.filled
    have hRb := hR
    refine h_kF (h_runV X hR (tt_filled l G w_2 m z _ _ hT hok hb9 v1 r1) pn_yX10_filled (hT.hx) q3225 q3226 q3227 q161 q3228 ⟨by decide, by decide⟩ hl.1 (Nat.le_of_ble_eq_true rfl) dL_law_1495 ⟨by omega, by omega⟩) hL (fun z_8 w_9 hp_10 H locs hR hL => ?_)
    obtain ⟨hv2, hT2, hF2, hO2⟩ := hp_10
    obtain ⟨w3, hR, hT3, hF3, hG⟩ := hT2.fix hRb hR hG hF2 hO2
    have hA := hA.tw hT hF3
    have hO := hF3 _ _ _ hO (hT.noL hO)
    have hOd := hF3 _ _ _ hOd (hT.noD hOd)
    have hT := hT3
    refine lv_fstore (lv' := [(7, .float z_8), (6, .int (iI (z_1))), (0, .ref b), (1, .ref x), (2, .ref m), (3, .ref o), (4, .ref od), (5, .int (iI (((6 * i : Nat) : Int))))]) hx hb dL_law_1498 hl (by decide) rfl (fun ls hl => ?_)
    refine lv_aload_n hx hb dL_law_1500 rfl (lv_at hl 4 rfl) ?_
    -- call SpokenMarksModel.thrown
    refine h_kIp (h_runV X hR (tt_thrown l G w3 m z ((if 0 ≤ v1 ∧ v1 < cSh (sC (zS z)) then 0 else 1)) hT) pn_yX10_thrown (hT.hx) q2713 q2714 q2715 q161 q2716 ⟨by decide, by decide⟩ hl.1 (Nat.le_of_ble_eq_true rfl) dL_law_1501 ⟨by omega, by omega⟩) hL (fun H locs hR hL => ?_)
    refine lv_iload hx hb dL_law_1504 (lv_at hl 1 rfl) ?_
    refine h_icmpEq hx hb 1511 dL_law_1506 (by decide) hkc.symm ?_
    refine lv_iload hx hb dL_law_1511 (lv_at hl 1 rfl) ?_
    refine h_if_ne hx hb 1549 dL_law_1513 (by decide) ⟨by omega, by omega⟩ (fun c_k => ?_) (fun c_k => ?_)
    ·
      refine lv_goto (tgt := 2178) hx hb dL_law_1549 (by decide) ?_
      exact kk _ _ _ ⟨z, _, hA, hT, ⟨_, hO⟩, ⟨_, hOd⟩, hG, hok1.mono (by omega), by omega, by omega⟩ _ _ _ hR hL (lv_sub hl [2, 3, 4, 5, 6, 7] rfl)
    ·
      refine lv_aload hx hb dL_law_1516 (lv_at hl 6 rfl) ?_
      refine h_iconst hx hb dL_law_1518 ?_
      refine h_dald X hR hOd (by omega) (by omega) dL_law_1519 ?_
      refine W.eq (g2 := F0 m9 1520 ls [.double (FP.f2d (qFil (sC (zS z)) v1))]) (by rw [show fd (Int.toNat 0) = FP.f2d (qFil (sC (zS z)) v1) from hOv (by omega)]) ?_
      refine lv_fload hx hb dL_law_1520 (lv_at hl 0 rfl) ?_
      have hnf : NnF z_8 := by rw [hv2]; exact qFil_n hok.s v1
      refine lv_f2d hx hb dL_law_1522 hnf.d.n ?_
      refine h_dcmpEq hx hb dL_law_1523 (by rw [hv2]) hnf.d ?_
      refine h_if_eq hx hb 1549 dL_law_1524 (by decide) (by decide) (fun _ => ?_) (fun z_ => absurd z_ (by decide))
      refine lv_goto (tgt := 2178) hx hb dL_law_1549 (by decide) ?_
      exact kk _ _ _ ⟨z, _, hA, hT, ⟨_, hO⟩, ⟨_, hOd⟩, hG, hok1.mono (by omega), by omega, by omega⟩ _ _ _ hR hL (lv_sub hl [2, 3, 4, 5, 6, 7] rfl)

set_option maxHeartbeats 4000000 in
set_option maxRecDepth 100000 in
/-- meanMoves -/
theorem lc_meanMoves {l : Launch} {G : Gl} {p9 : Program} {e9 : Env} {s9 : State} {m9 : MethodId} {a9 : Array Value} {b9 : List Frame} {meth9 : Method} {c9 : Code} {Q9 : State → Prop} (X : HX G p9 s9 m9 a9 c9 cL_law 10 "SpokenMarksLaw") (hSt : l.stackTraces = false) (w : Wd) (b x m o od L : Nat) (xs : Nat → Int) (hxs : ∀ j, R32 (xs j)) (hSx : va_X b L (fun j => iI (xs j)) s9 (gH G)) (hbB : b < gB G) (i : Nat) (hi : i < 24) (hiL : 6 * i + 6 ≤ L) (hL9 : L ≤ 144) (U V : Nat) (hI : LI G w x m o od i U V) (H : Heap) (locs : List Loc) (ls : Array Slot) (hR : Rp G w H) (hL : LK G locs) (hl : lv_has ls 10 [(0, .ref b), (1, .ref x), (2, .ref m), (3, .ref o), (4, .ref od), (5, .int (iI ((6 * i : Nat) : Int)))])
  (kk : ∀ (w1 : Wd) (U1 V1 : Nat), LI G w1 x m o od (i + 1) U1 V1 → ∀ (H1 : Heap) (locs1 : List Loc) (ls1 : Array Slot), Rp G w1 H1 → LK G locs1 → lv_has ls1 10 [(0, .ref b), (1, .ref x), (2, .ref m), (3, .ref o), (4, .ref od), (5, .int (iI ((6 * i : Nat) : Int)))] → W p9 l e9 (rmk 26 1200048 5501818) s9 m9 a9 b9 meth9 c9 H1 locs1 U1 V1 Q9 (F0 m9 2178 ls1 [])) : W p9 l e9 (rmk 26 1200048 5501818) s9 m9 a9 b9 meth9 c9 H locs U V Q9 (F0 m9 1552 ls []) := by
  have hx := X.1.1
  have hb := X.1.2.1
  obtain ⟨z, k0, hA, hT, ⟨fo, hO⟩, ⟨fd, hOd⟩, hG, hok, hU, hV⟩ := hI
  have hb2 : (2200 : Int) ≤ 3000 + 1000 * (i : Int) := by omega
  have hb9 : (3000 : Int) + 1000 * (i : Int) < 890000 := by omega
  have hbl : (zB (z)).length ≤ (zB z).length := Nat.le_refl _
  refine lv_aload_n hx hb dL_law_1552 rfl (lv_at hl 1 rfl) ?_
  -- call SpokenMarks.meanMoves
  refine h_kD (h_runV X hR (cc_meanMoves l G w hSt x z _ hA hok hb2 hb9 hG ) pn_yX1_meanMoves (hA.hx) q1769 q1770 q1771 q120 q1772 ⟨by decide, by decide⟩ hl.1 (Nat.le_of_ble_eq_true rfl) dL_law_1553 ⟨by omega, by omega⟩) hL (fun z_1 w_2 hp_3 H locs hR hL => ?_)
  obtain ⟨hv1, hw_e⟩ := hp_3
  rw [hw_e] at hR
  have hok1 := hok.mono (show (3000 + 1000 * (i : Int)) ≤ 3000 + 1000 * (i : Int) + 1000 by omega)
  refine lv_dstore (lv' := [(6, .double z_1), (0, .ref b), (1, .ref x), (2, .ref m), (3, .ref o), (4, .ref od), (5, .int (iI (((6 * i : Nat) : Int))))]) hx hb dL_law_1556 hl (by decide) rfl (fun ls hl => ?_)
  refine lv_aload_n hx hb dL_law_1558 rfl (lv_at hl 3 rfl) ?_
  -- call SpokenMarksModel.meanMoves
  have hRb := hR
  refine h_kD (h_runV X hR (tt_meanMoves l G w m z _ _ hT hok hb9 ) pn_yX10_meanMoves (hT.hx) q3229 q3230 q3231 q161 q3232 ⟨by decide, by decide⟩ hl.1 (Nat.le_of_ble_eq_true rfl) dL_law_1559 ⟨by omega, by omega⟩) hL (fun z_4 w_5 hp_6 H locs hR hL => ?_)
  obtain ⟨hv2, hT2, hF2, hO2⟩ := hp_6
  obtain ⟨w3, hR, hT3, hF3, hG⟩ := hT2.fix hRb hR hG hF2 hO2
  have hA := hA.tw hT hF3
  have hO := hF3 _ _ _ hO (hT.noL hO)
  have hOd := hF3 _ _ _ hOd (hT.noD hOd)
  have hT := hT3
  refine lv_dstore (lv' := [(8, .double z_4), (6, .double z_1), (0, .ref b), (1, .ref x), (2, .ref m), (3, .ref o), (4, .ref od), (5, .int (iI (((6 * i : Nat) : Int))))]) hx hb dL_law_1562 hl (by decide) rfl (fun ls hl => ?_)
  refine lv_dload hx hb dL_law_1564 (lv_at hl 1 rfl) ?_
  refine lv_dload hx hb dL_law_1566 (lv_at hl 0 rfl) ?_
  refine h_dcmpEq hx hb dL_law_1568 (hv1.trans hv2.symm) (by rw [hv2]; exact qMea_n hok.s) ?_
  refine h_if_eq hx hb 1590 dL_law_1569 (by decide) (by decide) (fun _ => ?_) (fun z_ => absurd z_ (by decide))
  refine lv_goto (tgt := 2178) hx hb dL_law_1590 (by decide) ?_
  exact kk _ _ _ ⟨z, _, hA, hT, ⟨_, hO⟩, ⟨_, hOd⟩, hG, hok1.mono (by omega), by omega, by omega⟩ _ _ _ hR hL (lv_sub hl [2, 3, 4, 5, 6, 7] rfl)
