/-! the law: its cases (2) -/
set_option maxRecDepth 100000

set_option maxHeartbeats 4000000 in
set_option maxRecDepth 100000 in
/-- mark -/
theorem lc_mark {l : Launch} {G : Gl} {p9 : Program} {e9 : Env} {s9 : State} {m9 : MethodId} {a9 : Array Value} {b9 : List Frame} {meth9 : Method} {c9 : Code} {Q9 : State → Prop} (X : HX G p9 s9 m9 a9 c9 cL_law 10 "SpokenMarksLaw") (hSt : l.stackTraces = false) (w : Wd) (b x m o od L : Nat) (xs : Nat → Int) (hxs : ∀ j, R32 (xs j)) (hSx : va_X b L (fun j => iI (xs j)) s9 (gH G)) (hbB : b < gB G) (i : Nat) (hi : i < 24) (hiL : 6 * i + 6 ≤ L) (hL9 : L ≤ 144) (U V : Nat) (hI : LI G w x m o od i U V) (H : Heap) (locs : List Loc) (ls : Array Slot) (hR : Rp G w H) (hL : LK G locs) (hl : lv_has ls 10 [(0, .ref b), (1, .ref x), (2, .ref m), (3, .ref o), (4, .ref od), (5, .int (iI ((6 * i : Nat) : Int)))])
  (kk : ∀ (w1 : Wd) (U1 V1 : Nat), LI G w1 x m o od (i + 1) U1 V1 → ∀ (H1 : Heap) (locs1 : List Loc) (ls1 : Array Slot), Rp G w1 H1 → LK G locs1 → lv_has ls1 10 [(0, .ref b), (1, .ref x), (2, .ref m), (3, .ref o), (4, .ref od), (5, .int (iI ((6 * i : Nat) : Int)))] → W p9 l e9 (rmk 26 1200048 5501818) s9 m9 a9 b9 meth9 c9 H1 locs1 U1 V1 Q9 (F0 m9 2178 ls1 [])) : W p9 l e9 (rmk 26 1200048 5501818) s9 m9 a9 b9 meth9 c9 H locs U V Q9 (F0 m9 499 ls []) := by
  have hx := X.1.1
  have hb := X.1.2.1
  obtain ⟨z, k0, hA, hT, ⟨fo, hO⟩, ⟨fd, hOd⟩, hG, hok, hU, hV⟩ := hI
  have hb2 : (2200 : Int) ≤ 3000 + 1000 * (i : Int) := by omega
  have hb9 : (3000 : Int) + 1000 * (i : Int) < 890000 := by omega
  obtain ⟨v1, hv_1⟩ : ∃ v_, v_ = xs (6 * i + 1) := ⟨_, rfl⟩
  have r1 : R32 v1 := by rw [hv_1]; exact hxs _
  obtain ⟨v2, hv_2⟩ : ∃ v_, v_ = xs (6 * i + 2) := ⟨_, rfl⟩
  have r2 : R32 v2 := by rw [hv_2]; exact hxs _
  have hbl : (zB ((aMrk z v1 v2).2.2)).length ≤ (zB z).length := Nat.le_refl _
  refine lv_aload_n hx hb dL_law_499 rfl (lv_at hl 1 rfl) ?_
  refine lv_aload_n hx hb dL_law_500 rfl (lv_at hl 0 rfl) ?_
  refine lv_iload hx hb dL_law_501 (lv_at hl 5 rfl) ?_
  refine h_iconst hx hb dL_law_503 ?_
  refine h_iadd hx hb dL_law_504 ?_
  refine h_sld X hR hSx hbB (by omega) (by omega) dL_law_505 ?_
  refine W.eq (g2 := F0 m9 506 ls [.int (iI (v1)), .ref x]) (congrArg (fun z_ : Int => F0 m9 506 ls [.int (iI (z_)), .ref x]) (show (xs (((6 * i : Nat) : Int) + 1).toNat : Int) = v1 from (by rw [hv_1, show (((6 * i : Nat) : Int) + 1).toNat = 6 * i + 1 by omega]))) ?_
  refine lv_aload_n hx hb dL_law_506 rfl (lv_at hl 0 rfl) ?_
  refine lv_iload hx hb dL_law_507 (lv_at hl 5 rfl) ?_
  refine h_iconst hx hb dL_law_509 ?_
  refine h_iadd hx hb dL_law_510 ?_
  refine h_sld X hR hSx hbB (by omega) (by omega) dL_law_511 ?_
  refine W.eq (g2 := F0 m9 512 ls [.int (iI (v2)), .int (iI (v1)), .ref x]) (congrArg (fun z_ : Int => F0 m9 512 ls [.int (iI (z_)), .int (iI (v1)), .ref x]) (show (xs (((6 * i : Nat) : Int) + 2).toNat : Int) = v2 from (by rw [hv_2, show (((6 * i : Nat) : Int) + 2).toNat = 6 * i + 2 by omega]))) ?_
  refine lv_aload_n hx hb dL_law_512 rfl (lv_at hl 3 rfl) ?_
  -- call SpokenMarksLaw.mark
  refine h_xI (h_xrunTS X hR (ww_mark l G w hSt x z _ hA hok hb2 hb9 hG v1 v2 r1 r2 o fo hO) pn_yX0_mark q2270 q2271 q119 q2272 ⟨by decide, by decide⟩ hl.1 (Nat.le_of_ble_eq_true rfl) dL_law_513 ⟨by omega, by omega⟩) hL (fun xq_4 E_5 ce_ w_6 hx__7 H locs hR hL hce_ hcv_ hcl_ => ?_) (fun z_1 w_2 hp_3 H locs hR hL => ?_)
  ·
    exact absurd hx__7 id
  ·
    obtain ⟨⟨hk3, hkc⟩, hA, hKt, hG, hok1, ⟨fo, hO, hOv⟩, hKd⟩ := hp_3
    have hOd := hKd _ _ hOd
    have hT := hT.kt hKt
    refine lv_istore (lv' := [(6, .int (iI (z_1))), (0, .ref b), (1, .ref x), (2, .ref m), (3, .ref o), (4, .ref od), (5, .int (iI (((6 * i : Nat) : Int))))]) hx hb dL_law_516 hl (by decide) rfl (fun ls hl => ?_)
    refine lv_aload_n hx hb dL_law_518 rfl (lv_at hl 3 rfl) ?_
    refine lv_aload_n hx hb dL_law_519 rfl (lv_at hl 1 rfl) ?_
    refine lv_iload hx hb dL_law_520 (lv_at hl 6 rfl) ?_
    refine h_iconst hx hb dL_law_522 ?_
    refine h_iadd hx hb dL_law_523 ?_
    refine h_sld X hR hSx hbB (by omega) (by omega) dL_law_524 ?_
    refine W.eq (g2 := F0 m9 525 ls [.int (iI (v1)), .ref m]) (congrArg (fun z_ : Int => F0 m9 525 ls [.int (iI (z_)), .ref m]) (show (xs (((6 * i : Nat) : Int) + 1).toNat : Int) = v1 from (by rw [hv_1, show (((6 * i : Nat) : Int) + 1).toNat = 6 * i + 1 by omega]))) ?_
    refine lv_aload_n hx hb dL_law_525 rfl (lv_at hl 1 rfl) ?_
    refine lv_iload hx hb dL_law_526 (lv_at hl 6 rfl) ?_
    refine h_iconst hx hb dL_law_528 ?_
    refine h_iadd hx hb dL_law_529 ?_
    refine h_sld X hR hSx hbB (by omega) (by omega) dL_law_530 ?_
    refine W.eq (g2 := F0 m9 531 ls [.int (iI (v2)), .int (iI (v1)), .ref m]) (congrArg (fun z_ : Int => F0 m9 531 ls [.int (iI (z_)), .int (iI (v1)), .ref m]) (show (xs (((6 * i : Nat) : Int) + 2).toNat : Int) = v2 from (by rw [hv_2, show (((6 * i : Nat) : Int) + 2).toNat = 6 * i + 2 by omega]))) ?_
    -- call SpokenMarksModel.mark
    have hRb := hR
    refine h_kI (h_runV X hR (tt_mark l G w_2 m z _ _ hT hok hb9 v1 v2 r1 r2) pn_yX10_mark (hT.hx) q3093 q3094 q3095 q161 q3096 ⟨by decide, by decide⟩ hl.1 (Nat.le_of_ble_eq_true rfl) dL_law_531 ⟨by omega, by omega⟩) hL (fun z_8 w_9 hp_10 H locs hR hL => ?_)
    obtain ⟨hv2, hT2, hF2, hO2⟩ := hp_10
    obtain ⟨w3, hR, hT3, hF3, hG⟩ := hT2.fix hRb hR hG hF2 hO2
    have hA := hA.tw hT hF3
    have hO := hF3 _ _ _ hO (hT.noL hO)
    have hOd := hF3 _ _ _ hOd (hT.noD hOd)
    have hT := hT3
    refine lv_istore (lv' := [(7, .int (iI (z_8))), (6, .int (iI (z_1))), (0, .ref b), (1, .ref x), (2, .ref m), (3, .ref o), (4, .ref od), (5, .int (iI (((6 * i : Nat) : Int))))]) hx hb dL_law_534 hl (by decide) rfl (fun ls hl => ?_)
    refine lv_aload_n hx hb dL_law_536 rfl (lv_at hl 4 rfl) ?_
    -- call SpokenMarksModel.thrown
    refine h_kIp (h_runV X hR (tt_thrown l G w3 m (aMrk z v1 v2).2.2 ((aMrk z v1 v2).1) hT) pn_yX10_thrown (hT.hx) q2713 q2714 q2715 q161 q2716 ⟨by decide, by decide⟩ hl.1 (Nat.le_of_ble_eq_true rfl) dL_law_537 ⟨by omega, by omega⟩) hL (fun H locs hR hL => ?_)
    refine lv_iload hx hb dL_law_540 (lv_at hl 1 rfl) ?_
    refine h_icmpEq hx hb 547 dL_law_542 (by decide) hkc.symm ?_
    refine lv_iload hx hb dL_law_547 (lv_at hl 1 rfl) ?_
    refine h_if_ne hx hb 564 dL_law_549 (by decide) ⟨by omega, by omega⟩ (fun c_k => ?_) (fun c_k => ?_)
    ·
      refine lv_goto (tgt := 2178) hx hb dL_law_564 (by decide) ?_
      exact kk _ _ _ ⟨(aMrk z v1 v2).2.2, _, hA, hT, ⟨_, hO⟩, ⟨_, hOd⟩, hG, hok1.mono (by omega), by omega, by omega⟩ _ _ _ hR hL (lv_sub hl [2, 3, 4, 5, 6, 7] rfl)
    ·
      refine lv_aload_n hx hb dL_law_552 rfl (lv_at hl 5 rfl) ?_
      refine h_iconst hx hb dL_law_553 ?_
      refine h_lald X hR hO (by omega) (by omega) dL_law_554 ?_
      have hO0 := hOv (by omega)
      refine W.eq (g2 := F0 m9 555 ls [.long (lI (c32 ((aMrk z v1 v2).2.1)))]) (congrArg (fun z_ : Int => F0 m9 555 ls [.long (lI (z_))]) (show (fo (Int.toNat 0) : Int) = c32 ((aMrk z v1 v2).2.1) from (by exact hO0))) ?_
      refine lv_iload hx hb dL_law_555 (lv_at hl 0 rfl) ?_
      refine W.eq (g2 := F0 m9 557 ls [.int (iI (c32 z_8)), .long (lI (c32 ((aMrk z v1 v2).2.1)))]) (by rw [c32_i]) ?_
      refine h_i2l hx hb dL_law_557 (c32_r _) ?_
      refine h_lcmp hx hb dL_law_558 (c32_j _) (c32_j _) ?_
      refine W.eq (g2 := F0 m9 559 ls [.int (iI (0))]) (congrArg (fun z_ : Int => F0 m9 559 ls [.int (iI (z_))]) (show (cmpZ (c32 ((aMrk z v1 v2).2.1)) (c32 z_8) : Int) = 0 from (by rw [hv2]; exact cmpZ_0.mpr rfl))) ?_
      refine h_if_eq hx hb 564 dL_law_559 (by decide) (by decide) (fun _ => ?_) (fun z_ => absurd z_ (by decide))
      refine lv_goto (tgt := 2178) hx hb dL_law_564 (by decide) ?_
      exact kk _ _ _ ⟨(aMrk z v1 v2).2.2, _, hA, hT, ⟨_, hO⟩, ⟨_, hOd⟩, hG, hok1.mono (by omega), by omega, by omega⟩ _ _ _ hR hL (lv_sub hl [2, 3, 4, 5, 6, 7] rfl)

set_option maxHeartbeats 4000000 in
set_option maxRecDepth 100000 in
/-- number -/
theorem lc_number {l : Launch} {G : Gl} {p9 : Program} {e9 : Env} {s9 : State} {m9 : MethodId} {a9 : Array Value} {b9 : List Frame} {meth9 : Method} {c9 : Code} {Q9 : State → Prop} (X : HX G p9 s9 m9 a9 c9 cL_law 10 "SpokenMarksLaw") (hSt : l.stackTraces = false) (w : Wd) (b x m o od L : Nat) (xs : Nat → Int) (hxs : ∀ j, R32 (xs j)) (hSx : va_X b L (fun j => iI (xs j)) s9 (gH G)) (hbB : b < gB G) (i : Nat) (hi : i < 24) (hiL : 6 * i + 6 ≤ L) (hL9 : L ≤ 144) (U V : Nat) (hI : LI G w x m o od i U V) (H : Heap) (locs : List Loc) (ls : Array Slot) (hR : Rp G w H) (hL : LK G locs) (hl : lv_has ls 10 [(0, .ref b), (1, .ref x), (2, .ref m), (3, .ref o), (4, .ref od), (5, .int (iI ((6 * i : Nat) : Int)))])
  (kk : ∀ (w1 : Wd) (U1 V1 : Nat), LI G w1 x m o od (i + 1) U1 V1 → ∀ (H1 : Heap) (locs1 : List Loc) (ls1 : Array Slot), Rp G w1 H1 → LK G locs1 → lv_has ls1 10 [(0, .ref b), (1, .ref x), (2, .ref m), (3, .ref o), (4, .ref od), (5, .int (iI ((6 * i : Nat) : Int)))] → W p9 l e9 (rmk 26 1200048 5501818) s9 m9 a9 b9 meth9 c9 H1 locs1 U1 V1 Q9 (F0 m9 2178 ls1 [])) : W p9 l e9 (rmk 26 1200048 5501818) s9 m9 a9 b9 meth9 c9 H locs U V Q9 (F0 m9 567 ls []) := by
  have hx := X.1.1
  have hb := X.1.2.1
  obtain ⟨z, k0, hA, hT, ⟨fo, hO⟩, ⟨fd, hOd⟩, hG, hok, hU, hV⟩ := hI
  have hb2 : (2200 : Int) ≤ 3000 + 1000 * (i : Int) := by omega
  have hb9 : (3000 : Int) + 1000 * (i : Int) < 890000 := by omega
  obtain ⟨v1, hv_1⟩ : ∃ v_, v_ = xs (6 * i + 1) := ⟨_, rfl⟩
  have r1 : R32 v1 := by rw [hv_1]; exact hxs _
  obtain ⟨v2, hv_2⟩ : ∃ v_, v_ = xs (6 * i + 2) := ⟨_, rfl⟩
  have r2 : R32 v2 := by rw [hv_2]; exact hxs _
  have hbl : (zB ((aNum z v1 v2).2.2)).length ≤ (zB z).length := Nat.le_refl _
  refine lv_aload_n hx hb dL_law_567 rfl (lv_at hl 1 rfl) ?_
  refine lv_aload_n hx hb dL_law_568 rfl (lv_at hl 0 rfl) ?_
  refine lv_iload hx hb dL_law_569 (lv_at hl 5 rfl) ?_
  refine h_iconst hx hb dL_law_571 ?_
  refine h_iadd hx hb dL_law_572 ?_
  refine h_sld X hR hSx hbB (by omega) (by omega) dL_law_573 ?_
  refine W.eq (g2 := F0 m9 574 ls [.int (iI (v1)), .ref x]) (congrArg (fun z_ : Int => F0 m9 574 ls [.int (iI (z_)), .ref x]) (show (xs (((6 * i : Nat) : Int) + 1).toNat : Int) = v1 from (by rw [hv_1, show (((6 * i : Nat) : Int) + 1).toNat = 6 * i + 1 by omega]))) ?_
  refine lv_aload_n hx hb dL_law_574 rfl (lv_at hl 0 rfl) ?_
  refine lv_iload hx hb dL_law_575 (lv_at hl 5 rfl) ?_
  refine h_iconst hx hb dL_law_577 ?_
  refine h_iadd hx hb dL_law_578 ?_
  refine h_sld X hR hSx hbB (by omega) (by omega) dL_law_579 ?_
  refine W.eq (g2 := F0 m9 580 ls [.int (iI (v2)), .int (iI (v1)), .ref x]) (congrArg (fun z_ : Int => F0 m9 580 ls [.int (iI (z_)), .int (iI (v1)), .ref x]) (show (xs (((6 * i : Nat) : Int) + 2).toNat : Int) = v2 from (by rw [hv_2, show (((6 * i : Nat) : Int) + 2).toNat = 6 * i + 2 by omega]))) ?_
  refine lv_aload_n hx hb dL_law_580 rfl (lv_at hl 3 rfl) ?_
  -- call SpokenMarksLaw.number
  refine h_xI (h_xrunTS X hR (ww_number l G w hSt x z _ hA hok hb2 hb9 hG v1 v2 r1 r2 o fo hO) pn_yX0_number q2299 q2300 q119 q2301 ⟨by decide, by decide⟩ hl.1 (Nat.le_of_ble_eq_true rfl) dL_law_581 ⟨by omega, by omega⟩) hL (fun xq_4 E_5 ce_ w_6 hx__7 H locs hR hL hce_ hcv_ hcl_ => ?_) (fun z_1 w_2 hp_3 H locs hR hL => ?_)
  ·
    exact absurd hx__7 id
  ·
    obtain ⟨⟨hk3, hkc⟩, hA, hKt, hG, hok1, ⟨fo, hO, hOv⟩, hKd⟩ := hp_3
    have hOd := hKd _ _ hOd
    have hT := hT.kt hKt
    refine lv_istore (lv' := [(6, .int (iI (z_1))), (0, .ref b), (1, .ref x), (2, .ref m), (3, .ref o), (4, .ref od), (5, .int (iI (((6 * i : Nat) : Int))))]) hx hb dL_law_584 hl (by decide) rfl (fun ls hl => ?_)
    refine lv_aload_n hx hb dL_law_586 rfl (lv_at hl 3 rfl) ?_
    refine lv_aload_n hx hb dL_law_587 rfl (lv_at hl 1 rfl) ?_
    refine lv_iload hx hb dL_law_588 (lv_at hl 6 rfl) ?_
    refine h_iconst hx hb dL_law_590 ?_
    refine h_iadd hx hb dL_law_591 ?_
    refine h_sld X hR hSx hbB (by omega) (by omega) dL_law_592 ?_
    refine W.eq (g2 := F0 m9 593 ls [.int (iI (v1)), .ref m]) (congrArg (fun z_ : Int => F0 m9 593 ls [.int (iI (z_)), .ref m]) (show (xs (((6 * i : Nat) : Int) + 1).toNat : Int) = v1 from (by rw [hv_1, show (((6 * i : Nat) : Int) + 1).toNat = 6 * i + 1 by omega]))) ?_
    refine lv_aload_n hx hb dL_law_593 rfl (lv_at hl 1 rfl) ?_
    refine lv_iload hx hb dL_law_594 (lv_at hl 6 rfl) ?_
    refine h_iconst hx hb dL_law_596 ?_
    refine h_iadd hx hb dL_law_597 ?_
    refine h_sld X hR hSx hbB (by omega) (by omega) dL_law_598 ?_
    refine W.eq (g2 := F0 m9 599 ls [.int (iI (v2)), .int (iI (v1)), .ref m]) (congrArg (fun z_ : Int => F0 m9 599 ls [.int (iI (z_)), .int (iI (v1)), .ref m]) (show (xs (((6 * i : Nat) : Int) + 2).toNat : Int) = v2 from (by rw [hv_2, show (((6 * i : Nat) : Int) + 2).toNat = 6 * i + 2 by omega]))) ?_
    -- call SpokenMarksModel.number
    have hRb := hR
    refine h_kI (h_runV X hR (tt_number l G w_2 m z _ _ hT hok hb9 v1 v2 r1 r2) pn_yX10_number (hT.hx) q3113 q3114 q3115 q161 q3116 ⟨by decide, by decide⟩ hl.1 (Nat.le_of_ble_eq_true rfl) dL_law_599 ⟨by omega, by omega⟩) hL (fun z_8 w_9 hp_10 H locs hR hL => ?_)
    obtain ⟨hv2, hT2, hF2, hO2⟩ := hp_10
    obtain ⟨w3, hR, hT3, hF3, hG⟩ := hT2.fix hRb hR hG hF2 hO2
    have hA := hA.tw hT hF3
    have hO := hF3 _ _ _ hO (hT.noL hO)
    have hOd := hF3 _ _ _ hOd (hT.noD hOd)
    have hT := hT3
    refine lv_istore (lv' := [(7, .int (iI (z_8))), (6, .int (iI (z_1))), (0, .ref b), (1, .ref x), (2, .ref m), (3, .ref o), (4, .ref od), (5, .int (iI (((6 * i : Nat) : Int))))]) hx hb dL_law_602 hl (by decide) rfl (fun ls hl => ?_)
    refine lv_aload_n hx hb dL_law_604 rfl (lv_at hl 4 rfl) ?_
    -- call SpokenMarksModel.thrown
    refine h_kIp (h_runV X hR (tt_thrown l G w3 m (aNum z v1 v2).2.2 ((aNum z v1 v2).1) hT) pn_yX10_thrown (hT.hx) q2713 q2714 q2715 q161 q2716 ⟨by decide, by decide⟩ hl.1 (Nat.le_of_ble_eq_true rfl) dL_law_605 ⟨by omega, by omega⟩) hL (fun H locs hR hL => ?_)
    refine lv_iload hx hb dL_law_608 (lv_at hl 1 rfl) ?_
    refine h_icmpEq hx hb 615 dL_law_610 (by decide) hkc.symm ?_
    refine lv_iload hx hb dL_law_615 (lv_at hl 1 rfl) ?_
    refine h_if_ne hx hb 632 dL_law_617 (by decide) ⟨by omega, by omega⟩ (fun c_k => ?_) (fun c_k => ?_)
    ·
      refine lv_goto (tgt := 2178) hx hb dL_law_632 (by decide) ?_
      exact kk _ _ _ ⟨(aNum z v1 v2).2.2, _, hA, hT, ⟨_, hO⟩, ⟨_, hOd⟩, hG, hok1.mono (by omega), by omega, by omega⟩ _ _ _ hR hL (lv_sub hl [2, 3, 4, 5, 6, 7] rfl)
    ·
      refine lv_aload_n hx hb dL_law_620 rfl (lv_at hl 5 rfl) ?_
      refine h_iconst hx hb dL_law_621 ?_
      refine h_lald X hR hO (by omega) (by omega) dL_law_622 ?_
      have hO0 := hOv (by omega)
      refine W.eq (g2 := F0 m9 623 ls [.long (lI (c32 ((aNum z v1 v2).2.1)))]) (congrArg (fun z_ : Int => F0 m9 623 ls [.long (lI (z_))]) (show (fo (Int.toNat 0) : Int) = c32 ((aNum z v1 v2).2.1) from (by exact hO0))) ?_
      refine lv_iload hx hb dL_law_623 (lv_at hl 0 rfl) ?_
      refine W.eq (g2 := F0 m9 625 ls [.int (iI (c32 z_8)), .long (lI (c32 ((aNum z v1 v2).2.1)))]) (by rw [c32_i]) ?_
      refine h_i2l hx hb dL_law_625 (c32_r _) ?_
      refine h_lcmp hx hb dL_law_626 (c32_j _) (c32_j _) ?_
      refine W.eq (g2 := F0 m9 627 ls [.int (iI (0))]) (congrArg (fun z_ : Int => F0 m9 627 ls [.int (iI (z_))]) (show (cmpZ (c32 ((aNum z v1 v2).2.1)) (c32 z_8) : Int) = 0 from (by rw [hv2]; exact cmpZ_0.mpr rfl))) ?_
      refine h_if_eq hx hb 632 dL_law_627 (by decide) (by decide) (fun _ => ?_) (fun z_ => absurd z_ (by decide))
      refine lv_goto (tgt := 2178) hx hb dL_law_632 (by decide) ?_
      exact kk _ _ _ ⟨(aNum z v1 v2).2.2, _, hA, hT, ⟨_, hO⟩, ⟨_, hOd⟩, hG, hok1.mono (by omega), by omega, by omega⟩ _ _ _ hR hL (lv_sub hl [2, 3, 4, 5, 6, 7] rfl)

set_option maxHeartbeats 4000000 in
set_option maxRecDepth 100000 in
/-- letter -/
theorem lc_letter {l : Launch} {G : Gl} {p9 : Program} {e9 : Env} {s9 : State} {m9 : MethodId} {a9 : Array Value} {b9 : List Frame} {meth9 : Method} {c9 : Code} {Q9 : State → Prop} (X : HX G p9 s9 m9 a9 c9 cL_law 10 "SpokenMarksLaw") (hSt : l.stackTraces = false) (w : Wd) (b x m o od L : Nat) (xs : Nat → Int) (hxs : ∀ j, R32 (xs j)) (hSx : va_X b L (fun j => iI (xs j)) s9 (gH G)) (hbB : b < gB G) (i : Nat) (hi : i < 24) (hiL : 6 * i + 6 ≤ L) (hL9 : L ≤ 144) (U V : Nat) (hI : LI G w x m o od i U V) (H : Heap) (locs : List Loc) (ls : Array Slot) (hR : Rp G w H) (hL : LK G locs) (hl : lv_has ls 10 [(0, .ref b), (1, .ref x), (2, .ref m), (3, .ref o), (4, .ref od), (5, .int (iI ((6 * i : Nat) : Int)))])
  (kk : ∀ (w1 : Wd) (U1 V1 : Nat), LI G w1 x m o od (i + 1) U1 V1 → ∀ (H1 : Heap) (locs1 : List Loc) (ls1 : Array Slot), Rp G w1 H1 → LK G locs1 → lv_has ls1 10 [(0, .ref b), (1, .ref x), (2, .ref m), (3, .ref o), (4, .ref od), (5, .int (iI ((6 * i : Nat) : Int)))] → W p9 l e9 (rmk 26 1200048 5501818) s9 m9 a9 b9 meth9 c9 H1 locs1 U1 V1 Q9 (F0 m9 2178 ls1 [])) : W p9 l e9 (rmk 26 1200048 5501818) s9 m9 a9 b9 meth9 c9 H locs U V Q9 (F0 m9 635 ls []) := by
  have hx := X.1.1
  have hb := X.1.2.1
  obtain ⟨z, k0, hA, hT, ⟨fo, hO⟩, ⟨fd, hOd⟩, hG, hok, hU, hV⟩ := hI
  have hb2 : (2200 : Int) ≤ 3000 + 1000 * (i : Int) := by omega
  have hb9 : (3000 : Int) + 1000 * (i : Int) < 890000 := by omega
  obtain ⟨v1, hv_1⟩ : ∃ v_, v_ = xs (6 * i + 1) := ⟨_, rfl⟩
  have r1 : R32 v1 := by rw [hv_1]; exact hxs _
  obtain ⟨v2, hv_2⟩ : ∃ v_, v_ = xs (6 * i + 2) := ⟨_, rfl⟩
  have r2 : R32 v2 := by rw [hv_2]; exact hxs _
  obtain ⟨v3, hv_3⟩ : ∃ v_, v_ = xs (6 * i + 3) := ⟨_, rfl⟩
  have r3 : R32 v3 := by rw [hv_3]; exact hxs _
  obtain ⟨v4, hv_4⟩ : ∃ v_, v_ = xs (6 * i + 4) := ⟨_, rfl⟩
  have r4 : R32 v4 := by rw [hv_4]; exact hxs _
  have hbl : (zB ((aLet z v1 v2 v3 v4).2.2)).length ≤ (zB z).length := Nat.le_refl _
  refine lv_aload_n hx hb dL_law_635 rfl (lv_at hl 1 rfl) ?_
  refine lv_aload_n hx hb dL_law_636 rfl (lv_at hl 0 rfl) ?_
  refine lv_iload hx hb dL_law_637 (lv_at hl 5 rfl) ?_
  refine h_iconst hx hb dL_law_639 ?_
  refine h_iadd hx hb dL_law_640 ?_
  refine h_sld X hR hSx hbB (by omega) (by omega) dL_law_641 ?_
  refine W.eq (g2 := F0 m9 642 ls [.int (iI (v1)), .ref x]) (congrArg (fun z_ : Int => F0 m9 642 ls [.int (iI (z_)), .ref x]) (show (xs (((6 * i : Nat) : Int) + 1).toNat : Int) = v1 from (by rw [hv_1, show (((6 * i : Nat) : Int) + 1).toNat = 6 * i + 1 by omega]))) ?_
  refine lv_aload_n hx hb dL_law_642 rfl (lv_at hl 0 rfl) ?_
  refine lv_iload hx hb dL_law_643 (lv_at hl 5 rfl) ?_
  refine h_iconst hx hb dL_law_645 ?_
  refine h_iadd hx hb dL_law_646 ?_
  refine h_sld X hR hSx hbB (by omega) (by omega) dL_law_647 ?_
  refine W.eq (g2 := F0 m9 648 ls [.int (iI (v2)), .int (iI (v1)), .ref x]) (congrArg (fun z_ : Int => F0 m9 648 ls [.int (iI (z_)), .int (iI (v1)), .ref x]) (show (xs (((6 * i : Nat) : Int) + 2).toNat : Int) = v2 from (by rw [hv_2, show (((6 * i : Nat) : Int) + 2).toNat = 6 * i + 2 by omega]))) ?_
  refine lv_aload_n hx hb dL_law_648 rfl (lv_at hl 0 rfl) ?_
  refine lv_iload hx hb dL_law_649 (lv_at hl 5 rfl) ?_
  refine h_iconst hx hb dL_law_651 ?_
  refine h_iadd hx hb dL_law_652 ?_
  refine h_sld X hR hSx hbB (by omega) (by omega) dL_law_653 ?_
  refine W.eq (g2 := F0 m9 654 ls [.int (iI (v3)), .int (iI (v2)), .int (iI (v1)), .ref x]) (congrArg (fun z_ : Int => F0 m9 654 ls [.int (iI (z_)), .int (iI (v2)), .int (iI (v1)), .ref x]) (show (xs (((6 * i : Nat) : Int) + 3).toNat : Int) = v3 from (by rw [hv_3, show (((6 * i : Nat) : Int) + 3).toNat = 6 * i + 3 by omega]))) ?_
  refine h_if_eq hx hb 661 dL_law_654 (by decide) r3 (fun c_v3 => ?_) (fun c_v3 => ?_)
  ·
    refine h_iconst hx hb dL_law_661 ?_
    refine lv_aload_n hx hb dL_law_662 rfl (lv_at hl 0 rfl) ?_
    refine lv_iload hx hb dL_law_663 (lv_at hl 5 rfl) ?_
    refine h_iconst hx hb dL_law_665 ?_
    refine h_iadd hx hb dL_law_666 ?_
    refine h_sld X hR hSx hbB (by omega) (by omega) dL_law_667 ?_
    refine W.eq (g2 := F0 m9 668 ls [.int (iI (v4)), .int (iI (0)), .int (iI (v2)), .int (iI (v1)), .ref x]) (congrArg (fun z_ : Int => F0 m9 668 ls [.int (iI (z_)), .int (iI (0)), .int (iI (v2)), .int (iI (v1)), .ref x]) (show (xs (((6 * i : Nat) : Int) + 4).toNat : Int) = v4 from (by rw [hv_4, show (((6 * i : Nat) : Int) + 4).toNat = 6 * i + 4 by omega]))) ?_
    refine lv_aload_n hx hb dL_law_668 rfl (lv_at hl 3 rfl) ?_
    -- call SpokenMarksLaw.letter
    refine h_xI (h_xrunTS X hR (ww_letter l G w hSt x z _ hA hok hb2 hb9 hG v1 v2 0 v4 r1 r2 (⟨by decide, by decide⟩) r4 o fo hO) pn_yX0_letter q2311 q2312 q119 q2313 ⟨by decide, by decide⟩ hl.1 (Nat.le_of_ble_eq_true rfl) dL_law_669 ⟨by omega, by omega⟩) hL (fun xq_4 E_5 ce_ w_6 hx__7 H locs hR hL hce_ hcv_ hcl_ => ?_) (fun z_1 w_2 hp_3 H locs hR hL => ?_)
    ·
      exact absurd hx__7 id
    ·
      obtain ⟨⟨hk3, hkc⟩, hA, hKt, hG, hok1, ⟨fo, hO, hOv⟩, hKd⟩ := hp_3
      have hOd := hKd _ _ hOd
      have hT := hT.kt hKt
      refine lv_istore (lv' := [(6, .int (iI (z_1))), (0, .ref b), (1, .ref x), (2, .ref m), (3, .ref o), (4, .ref od), (5, .int (iI (((6 * i : Nat) : Int))))]) hx hb dL_law_672 hl (by decide) rfl (fun ls hl => ?_)
      refine lv_aload_n hx hb dL_law_674 rfl (lv_at hl 3 rfl) ?_
      refine lv_aload_n hx hb dL_law_675 rfl (lv_at hl 1 rfl) ?_
      refine lv_iload hx hb dL_law_676 (lv_at hl 6 rfl) ?_
      refine h_iconst hx hb dL_law_678 ?_
      refine h_iadd hx hb dL_law_679 ?_
      refine h_sld X hR hSx hbB (by omega) (by omega) dL_law_680 ?_
      refine W.eq (g2 := F0 m9 681 ls [.int (iI (v1)), .ref m]) (congrArg (fun z_ : Int => F0 m9 681 ls [.int (iI (z_)), .ref m]) (show (xs (((6 * i : Nat) : Int) + 1).toNat : Int) = v1 from (by rw [hv_1, show (((6 * i : Nat) : Int) + 1).toNat = 6 * i + 1 by omega]))) ?_
      refine lv_aload_n hx hb dL_law_681 rfl (lv_at hl 1 rfl) ?_
      refine lv_iload hx hb dL_law_682 (lv_at hl 6 rfl) ?_
      refine h_iconst hx hb dL_law_684 ?_
      refine h_iadd hx hb dL_law_685 ?_
      refine h_sld X hR hSx hbB (by omega) (by omega) dL_law_686 ?_
      refine W.eq (g2 := F0 m9 687 ls [.int (iI (v2)), .int (iI (v1)), .ref m]) (congrArg (fun z_ : Int => F0 m9 687 ls [.int (iI (z_)), .int (iI (v1)), .ref m]) (show (xs (((6 * i : Nat) : Int) + 2).toNat : Int) = v2 from (by rw [hv_2, show (((6 * i : Nat) : Int) + 2).toNat = 6 * i + 2 by omega]))) ?_
      refine lv_aload_n hx hb dL_law_687 rfl (lv_at hl 1 rfl) ?_
      refine lv_iload hx hb dL_law_688 (lv_at hl 6 rfl) ?_
      refine h_iconst hx hb dL_law_690 ?_
      refine h_iadd hx hb dL_law_691 ?_
      refine h_sld X hR hSx hbB (by omega) (by omega) dL_law_692 ?_
      refine W.eq (g2 := F0 m9 693 ls [.int (iI (v3)), .int (iI (v2)), .int (iI (v1)), .ref m]) (congrArg (fun z_ : Int => F0 m9 693 ls [.int (iI (z_)), .int (iI (v2)), .int (iI (v1)), .ref m]) (show (xs (((6 * i : Nat) : Int) + 3).toNat : Int) = v3 from (by rw [hv_3, show (((6 * i : Nat) : Int) + 3).toNat = 6 * i + 3 by omega]))) ?_
      refine h_if_eq hx hb 700 dL_law_693 (by decide) (by omega) (fun c_b => ?_) (fun c_b => ?_)
      ·
        refine h_iconst hx hb dL_law_700 ?_
        refine lv_aload_n hx hb dL_law_701 rfl (lv_at hl 1 rfl) ?_
        refine lv_iload hx hb dL_law_702 (lv_at hl 6 rfl) ?_
        refine h_iconst hx hb dL_law_704 ?_
        refine h_iadd hx hb dL_law_705 ?_
        refine h_sld X hR hSx hbB (by omega) (by omega) dL_law_706 ?_
        refine W.eq (g2 := F0 m9 707 ls [.int (iI (v4)), .int (iI (0)), .int (iI (v2)), .int (iI (v1)), .ref m]) (congrArg (fun z_ : Int => F0 m9 707 ls [.int (iI (z_)), .int (iI (0)), .int (iI (v2)), .int (iI (v1)), .ref m]) (show (xs (((6 * i : Nat) : Int) + 4).toNat : Int) = v4 from (by rw [hv_4, show (((6 * i : Nat) : Int) + 4).toNat = 6 * i + 4 by omega]))) ?_
        -- call SpokenMarksModel.letter
        have hRb := hR
        refine h_kI (h_runV X hR (tt_letter l G w_2 m z _ _ hT hok hb9 v1 v2 0 v4 r1 r2 (⟨by decide, by decide⟩) r4) pn_yX10_letter_2 (hT.hx) q3121 q3122 q3123 q161 q3124 ⟨by decide, by decide⟩ hl.1 (Nat.le_of_ble_eq_true rfl) dL_law_707 ⟨by omega, by omega⟩) hL (fun z_8 w_9 hp_10 H locs hR hL => ?_)
        obtain ⟨hv2, hT2, hF2, hO2⟩ := hp_10
        obtain ⟨w3, hR, hT3, hF3, hG⟩ := hT2.fix hRb hR hG hF2 hO2
        have hA := hA.tw hT hF3
        have hO := hF3 _ _ _ hO (hT.noL hO)
        have hOd := hF3 _ _ _ hOd (hT.noD hOd)
        have hT := hT3
        refine lv_istore (lv' := [(7, .int (iI (z_8))), (6, .int (iI (z_1))), (0, .ref b), (1, .ref x), (2, .ref m), (3, .ref o), (4, .ref od), (5, .int (iI (((6 * i : Nat) : Int))))]) hx hb dL_law_710 hl (by decide) rfl (fun ls hl => ?_)
        refine lv_aload_n hx hb dL_law_712 rfl (lv_at hl 4 rfl) ?_
        -- call SpokenMarksModel.thrown
        refine h_kIp (h_runV X hR (tt_thrown l G w3 m (aLet z v1 v2 v3 v4).2.2 ((aLet z v1 v2 v3 v4).1) hT) pn_yX10_thrown (hT.hx) q2713 q2714 q2715 q161 q2716 ⟨by decide, by decide⟩ hl.1 (Nat.le_of_ble_eq_true rfl) dL_law_713 ⟨by omega, by omega⟩) hL (fun H locs hR hL => ?_)
        refine lv_iload hx hb dL_law_716 (lv_at hl 1 rfl) ?_
        refine h_icmpEq hx hb 723 dL_law_718 (by decide) hkc.symm ?_
        refine lv_iload hx hb dL_law_723 (lv_at hl 1 rfl) ?_
        refine h_if_ne hx hb 740 dL_law_725 (by decide) ⟨by omega, by omega⟩ (fun c_k => ?_) (fun c_k => ?_)
        ·
          refine lv_goto (tgt := 2178) hx hb dL_law_740 (by decide) ?_
          exact kk _ _ _ ⟨(aLet z v1 v2 v3 v4).2.2, _, hA, hT, ⟨_, hO⟩, ⟨_, hOd⟩, hG, hok1.mono (by omega), by omega, by omega⟩ _ _ _ hR hL (lv_sub hl [2, 3, 4, 5, 6, 7] rfl)
        ·
          refine lv_aload_n hx hb dL_law_728 rfl (lv_at hl 5 rfl) ?_
          refine h_iconst hx hb dL_law_729 ?_
          refine h_lald X hR hO (by omega) (by omega) dL_law_730 ?_
          have hO0 := hOv (by omega)
          refine W.eq (g2 := F0 m9 731 ls [.long (lI (c32 ((aLet z v1 v2 v3 v4).2.1)))]) (congrArg (fun z_ : Int => F0 m9 731 ls [.long (lI (z_))]) (show (fo (Int.toNat 0) : Int) = c32 ((aLet z v1 v2 v3 v4).2.1) from (by exact hO0))) ?_
          refine lv_iload hx hb dL_law_731 (lv_at hl 0 rfl) ?_
          refine W.eq (g2 := F0 m9 733 ls [.int (iI (c32 z_8)), .long (lI (c32 ((aLet z v1 v2 v3 v4).2.1)))]) (by rw [c32_i]) ?_
          refine h_i2l hx hb dL_law_733 (c32_r _) ?_
          refine h_lcmp hx hb dL_law_734 (c32_j _) (c32_j _) ?_
          refine W.eq (g2 := F0 m9 735 ls [.int (iI (0))]) (congrArg (fun z_ : Int => F0 m9 735 ls [.int (iI (z_))]) (show (cmpZ (c32 ((aLet z v1 v2 v3 v4).2.1)) (c32 z_8) : Int) = 0 from (by rw [hv2]; exact cmpZ_0.mpr rfl))) ?_
          refine h_if_eq hx hb 740 dL_law_735 (by decide) (by decide) (fun _ => ?_) (fun z_ => absurd z_ (by decide))
          refine lv_goto (tgt := 2178) hx hb dL_law_740 (by decide) ?_
          exact kk _ _ _ ⟨(aLet z v1 v2 v3 v4).2.2, _, hA, hT, ⟨_, hO⟩, ⟨_, hOd⟩, hG, hok1.mono (by omega), by omega, by omega⟩ _ _ _ hR hL (lv_sub hl [2, 3, 4, 5, 6, 7] rfl)
      ·
        exact absurd c_v3 c_b
  ·
    refine h_iconst hx hb dL_law_657 ?_
    refine lv_goto (tgt := 662) hx hb dL_law_658 (by decide) ?_
    refine lv_aload_n hx hb dL_law_662 rfl (lv_at hl 0 rfl) ?_
    refine lv_iload hx hb dL_law_663 (lv_at hl 5 rfl) ?_
    refine h_iconst hx hb dL_law_665 ?_
    refine h_iadd hx hb dL_law_666 ?_
    refine h_sld X hR hSx hbB (by omega) (by omega) dL_law_667 ?_
    refine W.eq (g2 := F0 m9 668 ls [.int (iI (v4)), .int (iI (1)), .int (iI (v2)), .int (iI (v1)), .ref x]) (congrArg (fun z_ : Int => F0 m9 668 ls [.int (iI (z_)), .int (iI (1)), .int (iI (v2)), .int (iI (v1)), .ref x]) (show (xs (((6 * i : Nat) : Int) + 4).toNat : Int) = v4 from (by rw [hv_4, show (((6 * i : Nat) : Int) + 4).toNat = 6 * i + 4 by omega]))) ?_
    refine lv_aload_n hx hb dL_law_668 rfl (lv_at hl 3 rfl) ?_
    -- call SpokenMarksLaw.letter
    refine h_xI (h_xrunTS X hR (ww_letter l G w hSt x z _ hA hok hb2 hb9 hG v1 v2 1 v4 r1 r2 (⟨by decide, by decide⟩) r4 o fo hO) pn_yX0_letter q2311 q2312 q119 q2313 ⟨by decide, by decide⟩ hl.1 (Nat.le_of_ble_eq_true rfl) dL_law_669 ⟨by omega, by omega⟩) hL (fun xq_18 E_19 ce_ w_20 hx__21 H locs hR hL hce_ hcv_ hcl_ => ?_) (fun z_15 w_16 hp_17 H locs hR hL => ?_)
    ·
      exact absurd hx__21 id
    ·
      obtain ⟨⟨hk3, hkc⟩, hA, hKt, hG, hok1, ⟨fo, hO, hOv⟩, hKd⟩ := hp_17
      have hOd := hKd _ _ hOd
      have hT := hT.kt hKt
      refine lv_istore (lv' := [(6, .int (iI (z_15))), (0, .ref b), (1, .ref x), (2, .ref m), (3, .ref o), (4, .ref od), (5, .int (iI (((6 * i : Nat) : Int))))]) hx hb dL_law_672 hl (by decide) rfl (fun ls hl => ?_)
      refine lv_aload_n hx hb dL_law_674 rfl (lv_at hl 3 rfl) ?_
      refine lv_aload_n hx hb dL_law_675 rfl (lv_at hl 1 rfl) ?_
      refine lv_iload hx hb dL_law_676 (lv_at hl 6 rfl) ?_
      refine h_iconst hx hb dL_law_678 ?_
      refine h_iadd hx hb dL_law_679 ?_
      refine h_sld X hR hSx hbB (by omega) (by omega) dL_law_680 ?_
      refine W.eq (g2 := F0 m9 681 ls [.int (iI (v1)), .ref m]) (congrArg (fun z_ : Int => F0 m9 681 ls [.int (iI (z_)), .ref m]) (show (xs (((6 * i : Nat) : Int) + 1).toNat : Int) = v1 from (by rw [hv_1, show (((6 * i : Nat) : Int) + 1).toNat = 6 * i + 1 by omega]))) ?_
      refine lv_aload_n hx hb dL_law_681 rfl (lv_at hl 1 rfl) ?_
      refine lv_iload hx hb dL_law_682 (lv_at hl 6 rfl) ?_
      refine h_iconst hx hb dL_law_684 ?_
      refine h_iadd hx hb dL_law_685 ?_
      refine h_sld X hR hSx hbB (by omega) (by omega) dL_law_686 ?_
      refine W.eq (g2 := F0 m9 687 ls [.int (iI (v2)), .int (iI (v1)), .ref m]) (congrArg (fun z_ : Int => F0 m9 687 ls [.int (iI (z_)), .int (iI (v1)), .ref m]) (show (xs (((6 * i : Nat) : Int) + 2).toNat : Int) = v2 from (by rw [hv_2, show (((6 * i : Nat) : Int) + 2).toNat = 6 * i + 2 by omega]))) ?_
      refine lv_aload_n hx hb dL_law_687 rfl (lv_at hl 1 rfl) ?_
      refine lv_iload hx hb dL_law_688 (lv_at hl 6 rfl) ?_
      refine h_iconst hx hb dL_law_690 ?_
      refine h_iadd hx hb dL_law_691 ?_
      refine h_sld X hR hSx hbB (by omega) (by omega) dL_law_692 ?_
      refine W.eq (g2 := F0 m9 693 ls [.int (iI (v3)), .int (iI (v2)), .int (iI (v1)), .ref m]) (congrArg (fun z_ : Int => F0 m9 693 ls [.int (iI (z_)), .int (iI (v2)), .int (iI (v1)), .ref m]) (show (xs (((6 * i : Nat) : Int) + 3).toNat : Int) = v3 from (by rw [hv_3, show (((6 * i : Nat) : Int) + 3).toNat = 6 * i + 3 by omega]))) ?_
      refine h_if_eq hx hb 700 dL_law_693 (by decide) (by omega) (fun c_b => ?_) (fun c_b => ?_)
      ·
        exact absurd c_b c_v3
      ·
        refine h_iconst hx hb dL_law_696 ?_
        refine lv_goto (tgt := 701) hx hb dL_law_697 (by decide) ?_
        refine lv_aload_n hx hb dL_law_701 rfl (lv_at hl 1 rfl) ?_
        refine lv_iload hx hb dL_law_702 (lv_at hl 6 rfl) ?_
        refine h_iconst hx hb dL_law_704 ?_
        refine h_iadd hx hb dL_law_705 ?_
        refine h_sld X hR hSx hbB (by omega) (by omega) dL_law_706 ?_
        refine W.eq (g2 := F0 m9 707 ls [.int (iI (v4)), .int (iI (1)), .int (iI (v2)), .int (iI (v1)), .ref m]) (congrArg (fun z_ : Int => F0 m9 707 ls [.int (iI (z_)), .int (iI (1)), .int (iI (v2)), .int (iI (v1)), .ref m]) (show (xs (((6 * i : Nat) : Int) + 4).toNat : Int) = v4 from (by rw [hv_4, show (((6 * i : Nat) : Int) + 4).toNat = 6 * i + 4 by omega]))) ?_
        -- call SpokenMarksModel.letter
        have hRb := hR
        refine h_kI (h_runV X hR (tt_letter l G w_16 m z _ _ hT hok hb9 v1 v2 1 v4 r1 r2 (⟨by decide, by decide⟩) r4) pn_yX10_letter_2 (hT.hx) q3121 q3122 q3123 q161 q3124 ⟨by decide, by decide⟩ hl.1 (Nat.le_of_ble_eq_true rfl) dL_law_707 ⟨by omega, by omega⟩) hL (fun z_22 w_23 hp_24 H locs hR hL => ?_)
        obtain ⟨hv2, hT2, hF2, hO2⟩ := hp_24
        obtain ⟨w3, hR, hT3, hF3, hG⟩ := hT2.fix hRb hR hG hF2 hO2
        have hA := hA.tw hT hF3
        have hO := hF3 _ _ _ hO (hT.noL hO)
        have hOd := hF3 _ _ _ hOd (hT.noD hOd)
        have hT := hT3
        refine lv_istore (lv' := [(7, .int (iI (z_22))), (6, .int (iI (z_15))), (0, .ref b), (1, .ref x), (2, .ref m), (3, .ref o), (4, .ref od), (5, .int (iI (((6 * i : Nat) : Int))))]) hx hb dL_law_710 hl (by decide) rfl (fun ls hl => ?_)
        refine lv_aload_n hx hb dL_law_712 rfl (lv_at hl 4 rfl) ?_
        -- call SpokenMarksModel.thrown
        refine h_kIp (h_runV X hR (tt_thrown l G w3 m (aLet z v1 v2 v3 v4).2.2 ((aLet z v1 v2 v3 v4).1) hT) pn_yX10_thrown (hT.hx) q2713 q2714 q2715 q161 q2716 ⟨by decide, by decide⟩ hl.1 (Nat.le_of_ble_eq_true rfl) dL_law_713 ⟨by omega, by omega⟩) hL (fun H locs hR hL => ?_)
        refine lv_iload hx hb dL_law_716 (lv_at hl 1 rfl) ?_
        refine h_icmpEq hx hb 723 dL_law_718 (by decide) hkc.symm ?_
        refine lv_iload hx hb dL_law_723 (lv_at hl 1 rfl) ?_
        refine h_if_ne hx hb 740 dL_law_725 (by decide) ⟨by omega, by omega⟩ (fun c_k => ?_) (fun c_k => ?_)
        ·
          refine lv_goto (tgt := 2178) hx hb dL_law_740 (by decide) ?_
          exact kk _ _ _ ⟨(aLet z v1 v2 v3 v4).2.2, _, hA, hT, ⟨_, hO⟩, ⟨_, hOd⟩, hG, hok1.mono (by omega), by omega, by omega⟩ _ _ _ hR hL (lv_sub hl [2, 3, 4, 5, 6, 7] rfl)
        ·
          refine lv_aload_n hx hb dL_law_728 rfl (lv_at hl 5 rfl) ?_
          refine h_iconst hx hb dL_law_729 ?_
          refine h_lald X hR hO (by omega) (by omega) dL_law_730 ?_
          have hO0 := hOv (by omega)
          refine W.eq (g2 := F0 m9 731 ls [.long (lI (c32 ((aLet z v1 v2 v3 v4).2.1)))]) (congrArg (fun z_ : Int => F0 m9 731 ls [.long (lI (z_))]) (show (fo (Int.toNat 0) : Int) = c32 ((aLet z v1 v2 v3 v4).2.1) from (by exact hO0))) ?_
          refine lv_iload hx hb dL_law_731 (lv_at hl 0 rfl) ?_
          refine W.eq (g2 := F0 m9 733 ls [.int (iI (c32 z_22)), .long (lI (c32 ((aLet z v1 v2 v3 v4).2.1)))]) (by rw [c32_i]) ?_
          refine h_i2l hx hb dL_law_733 (c32_r _) ?_
          refine h_lcmp hx hb dL_law_734 (c32_j _) (c32_j _) ?_
          refine W.eq (g2 := F0 m9 735 ls [.int (iI (0))]) (congrArg (fun z_ : Int => F0 m9 735 ls [.int (iI (z_))]) (show (cmpZ (c32 ((aLet z v1 v2 v3 v4).2.1)) (c32 z_22) : Int) = 0 from (by rw [hv2]; exact cmpZ_0.mpr rfl))) ?_
          refine h_if_eq hx hb 740 dL_law_735 (by decide) (by decide) (fun _ => ?_) (fun z_ => absurd z_ (by decide))
          refine lv_goto (tgt := 2178) hx hb dL_law_740 (by decide) ?_
          exact kk _ _ _ ⟨(aLet z v1 v2 v3 v4).2.2, _, hA, hT, ⟨_, hO⟩, ⟨_, hOd⟩, hG, hok1.mono (by omega), by omega, by omega⟩ _ _ _ hR hL (lv_sub hl [2, 3, 4, 5, 6, 7] rfl)

set_option maxHeartbeats 4000000 in
set_option maxRecDepth 100000 in
/-- ruleLetter -/
theorem lc_ruleLetter {l : Launch} {G : Gl} {p9 : Program} {e9 : Env} {s9 : State} {m9 : MethodId} {a9 : Array Value} {b9 : List Frame} {meth9 : Method} {c9 : Code} {Q9 : State → Prop} (X : HX G p9 s9 m9 a9 c9 cL_law 10 "SpokenMarksLaw") (hSt : l.stackTraces = false) (w : Wd) (b x m o od L : Nat) (xs : Nat → Int) (hxs : ∀ j, R32 (xs j)) (hSx : va_X b L (fun j => iI (xs j)) s9 (gH G)) (hbB : b < gB G) (i : Nat) (hi : i < 24) (hiL : 6 * i + 6 ≤ L) (hL9 : L ≤ 144) (U V : Nat) (hI : LI G w x m o od i U V) (H : Heap) (locs : List Loc) (ls : Array Slot) (hR : Rp G w H) (hL : LK G locs) (hl : lv_has ls 10 [(0, .ref b), (1, .ref x), (2, .ref m), (3, .ref o), (4, .ref od), (5, .int (iI ((6 * i : Nat) : Int)))])
  (kk : ∀ (w1 : Wd) (U1 V1 : Nat), LI G w1 x m o od (i + 1) U1 V1 → ∀ (H1 : Heap) (locs1 : List Loc) (ls1 : Array Slot), Rp G w1 H1 → LK G locs1 → lv_has ls1 10 [(0, .ref b), (1, .ref x), (2, .ref m), (3, .ref o), (4, .ref od), (5, .int (iI ((6 * i : Nat) : Int)))] → W p9 l e9 (rmk 26 1200048 5501818) s9 m9 a9 b9 meth9 c9 H1 locs1 U1 V1 Q9 (F0 m9 2178 ls1 [])) : W p9 l e9 (rmk 26 1200048 5501818) s9 m9 a9 b9 meth9 c9 H locs U V Q9 (F0 m9 743 ls []) := by
  have hx := X.1.1
  have hb := X.1.2.1
  obtain ⟨z, k0, hA, hT, ⟨fo, hO⟩, ⟨fd, hOd⟩, hG, hok, hU, hV⟩ := hI
  have hb2 : (2200 : Int) ≤ 3000 + 1000 * (i : Int) := by omega
  have hb9 : (3000 : Int) + 1000 * (i : Int) < 890000 := by omega
  obtain ⟨v1, hv_1⟩ : ∃ v_, v_ = xs (6 * i + 1) := ⟨_, rfl⟩
  have r1 : R32 v1 := by rw [hv_1]; exact hxs _
  obtain ⟨v2, hv_2⟩ : ∃ v_, v_ = xs (6 * i + 2) := ⟨_, rfl⟩
  have r2 : R32 v2 := by rw [hv_2]; exact hxs _
  obtain ⟨v3, hv_3⟩ : ∃ v_, v_ = xs (6 * i + 3) := ⟨_, rfl⟩
  have r3 : R32 v3 := by rw [hv_3]; exact hxs _
  have hbl : (zB ((aRul z v1 v2 v3).2.2)).length ≤ (zB z).length := Nat.le_refl _
  refine lv_aload_n hx hb dL_law_743 rfl (lv_at hl 1 rfl) ?_
  refine lv_aload_n hx hb dL_law_744 rfl (lv_at hl 0 rfl) ?_
  refine lv_iload hx hb dL_law_745 (lv_at hl 5 rfl) ?_
  refine h_iconst hx hb dL_law_747 ?_
  refine h_iadd hx hb dL_law_748 ?_
  refine h_sld X hR hSx hbB (by omega) (by omega) dL_law_749 ?_
  refine W.eq (g2 := F0 m9 750 ls [.int (iI (v1)), .ref x]) (congrArg (fun z_ : Int => F0 m9 750 ls [.int (iI (z_)), .ref x]) (show (xs (((6 * i : Nat) : Int) + 1).toNat : Int) = v1 from (by rw [hv_1, show (((6 * i : Nat) : Int) + 1).toNat = 6 * i + 1 by omega]))) ?_
  refine lv_aload_n hx hb dL_law_750 rfl (lv_at hl 0 rfl) ?_
  refine lv_iload hx hb dL_law_751 (lv_at hl 5 rfl) ?_
  refine h_iconst hx hb dL_law_753 ?_
  refine h_iadd hx hb dL_law_754 ?_
  refine h_sld X hR hSx hbB (by omega) (by omega) dL_law_755 ?_
  refine W.eq (g2 := F0 m9 756 ls [.int (iI (v2)), .int (iI (v1)), .ref x]) (congrArg (fun z_ : Int => F0 m9 756 ls [.int (iI (z_)), .int (iI (v1)), .ref x]) (show (xs (((6 * i : Nat) : Int) + 2).toNat : Int) = v2 from (by rw [hv_2, show (((6 * i : Nat) : Int) + 2).toNat = 6 * i + 2 by omega]))) ?_
  refine h_if_eq hx hb 763 dL_law_756 (by decide) r2 (fun c_v2 => ?_) (fun c_v2 => ?_)
  ·
    refine h_iconst hx hb dL_law_763 ?_
    refine lv_aload_n hx hb dL_law_764 rfl (lv_at hl 0 rfl) ?_
    refine lv_iload hx hb dL_law_765 (lv_at hl 5 rfl) ?_
    refine h_iconst hx hb dL_law_767 ?_
    refine h_iadd hx hb dL_law_768 ?_
    refine h_sld X hR hSx hbB (by omega) (by omega) dL_law_769 ?_
    refine W.eq (g2 := F0 m9 770 ls [.int (iI (v3)), .int (iI (0)), .int (iI (v1)), .ref x]) (congrArg (fun z_ : Int => F0 m9 770 ls [.int (iI (z_)), .int (iI (0)), .int (iI (v1)), .ref x]) (show (xs (((6 * i : Nat) : Int) + 3).toNat : Int) = v3 from (by rw [hv_3, show (((6 * i : Nat) : Int) + 3).toNat = 6 * i + 3 by omega]))) ?_
    refine lv_aload_n hx hb dL_law_770 rfl (lv_at hl 3 rfl) ?_
    -- call SpokenMarksLaw.ruleLetter
    refine h_xI (h_xrunTS X hR (ww_ruleLetter l G w hSt x z _ hA hok hb2 hb9 hG v1 0 v3 r1 (⟨by decide, by decide⟩) r3 o fo hO) pn_yX0_ruleLetter q2322 q2323 q119 q2324 ⟨by decide, by decide⟩ hl.1 (Nat.le_of_ble_eq_true rfl) dL_law_771 ⟨by omega, by omega⟩) hL (fun xq_4 E_5 ce_ w_6 hx__7 H locs hR hL hce_ hcv_ hcl_ => ?_) (fun z_1 w_2 hp_3 H locs hR hL => ?_)
    ·
      exact absurd hx__7 id
    ·
      obtain ⟨⟨hk3, hkc⟩, hA, hKt, hG, hok1, ⟨fo, hO, hOv⟩, hKd⟩ := hp_3
      have hOd := hKd _ _ hOd
      have hT := hT.kt hKt
      refine lv_istore (lv' := [(6, .int (iI (z_1))), (0, .ref b), (1, .ref x), (2, .ref m), (3, .ref o), (4, .ref od), (5, .int (iI (((6 * i : Nat) : Int))))]) hx hb dL_law_774 hl (by decide) rfl (fun ls hl => ?_)
      refine lv_aload_n hx hb dL_law_776 rfl (lv_at hl 3 rfl) ?_
      refine lv_aload_n hx hb dL_law_777 rfl (lv_at hl 1 rfl) ?_
      refine lv_iload hx hb dL_law_778 (lv_at hl 6 rfl) ?_
      refine h_iconst hx hb dL_law_780 ?_
      refine h_iadd hx hb dL_law_781 ?_
      refine h_sld X hR hSx hbB (by omega) (by omega) dL_law_782 ?_
      refine W.eq (g2 := F0 m9 783 ls [.int (iI (v1)), .ref m]) (congrArg (fun z_ : Int => F0 m9 783 ls [.int (iI (z_)), .ref m]) (show (xs (((6 * i : Nat) : Int) + 1).toNat : Int) = v1 from (by rw [hv_1, show (((6 * i : Nat) : Int) + 1).toNat = 6 * i + 1 by omega]))) ?_
      refine lv_aload_n hx hb dL_law_783 rfl (lv_at hl 1 rfl) ?_
      refine lv_iload hx hb dL_law_784 (lv_at hl 6 rfl) ?_
      refine h_iconst hx hb dL_law_786 ?_
      refine h_iadd hx hb dL_law_787 ?_
      refine h_sld X hR hSx hbB (by omega) (by omega) dL_law_788 ?_
      refine W.eq (g2 := F0 m9 789 ls [.int (iI (v2)), .int (iI (v1)), .ref m]) (congrArg (fun z_ : Int => F0 m9 789 ls [.int (iI (z_)), .int (iI (v1)), .ref m]) (show (xs (((6 * i : Nat) : Int) + 2).toNat : Int) = v2 from (by rw [hv_2, show (((6 * i : Nat) : Int) + 2).toNat = 6 * i + 2 by omega]))) ?_
      refine h_if_eq hx hb 796 dL_law_789 (by decide) (by omega) (fun c_b => ?_) (fun c_b => ?_)
      ·
        refine h_iconst hx hb dL_law_796 ?_
        refine lv_aload_n hx hb dL_law_797 rfl (lv_at hl 1 rfl) ?_
        refine lv_iload hx hb dL_law_798 (lv_at hl 6 rfl) ?_
        refine h_iconst hx hb dL_law_800 ?_
        refine h_iadd hx hb dL_law_801 ?_
        refine h_sld X hR hSx hbB (by omega) (by omega) dL_law_802 ?_
        refine W.eq (g2 := F0 m9 803 ls [.int (iI (v3)), .int (iI (0)), .int (iI (v1)), .ref m]) (congrArg (fun z_ : Int => F0 m9 803 ls [.int (iI (z_)), .int (iI (0)), .int (iI (v1)), .ref m]) (show (xs (((6 * i : Nat) : Int) + 3).toNat : Int) = v3 from (by rw [hv_3, show (((6 * i : Nat) : Int) + 3).toNat = 6 * i + 3 by omega]))) ?_
        -- call SpokenMarksModel.ruleLetter
        have hRb := hR
        refine h_kI (h_runV X hR (tt_ruleLetter l G w_2 m z _ _ hT hok hb9 v1 0 v3 r1 (⟨by decide, by decide⟩) r3) pn_yX10_ruleLetter (hT.hx) q3133 q3134 q3135 q161 q3136 ⟨by decide, by decide⟩ hl.1 (Nat.le_of_ble_eq_true rfl) dL_law_803 ⟨by omega, by omega⟩) hL (fun z_8 w_9 hp_10 H locs hR hL => ?_)
        obtain ⟨hv2, hT2, hF2, hO2⟩ := hp_10
        obtain ⟨w3, hR, hT3, hF3, hG⟩ := hT2.fix hRb hR hG hF2 hO2
        have hA := hA.tw hT hF3
        have hO := hF3 _ _ _ hO (hT.noL hO)
        have hOd := hF3 _ _ _ hOd (hT.noD hOd)
        have hT := hT3
        refine lv_istore (lv' := [(7, .int (iI (z_8))), (6, .int (iI (z_1))), (0, .ref b), (1, .ref x), (2, .ref m), (3, .ref o), (4, .ref od), (5, .int (iI (((6 * i : Nat) : Int))))]) hx hb dL_law_806 hl (by decide) rfl (fun ls hl => ?_)
        refine lv_aload_n hx hb dL_law_808 rfl (lv_at hl 4 rfl) ?_
        -- call SpokenMarksModel.thrown
        refine h_kIp (h_runV X hR (tt_thrown l G w3 m (aRul z v1 v2 v3).2.2 ((aRul z v1 v2 v3).1) hT) pn_yX10_thrown (hT.hx) q2713 q2714 q2715 q161 q2716 ⟨by decide, by decide⟩ hl.1 (Nat.le_of_ble_eq_true rfl) dL_law_809 ⟨by omega, by omega⟩) hL (fun H locs hR hL => ?_)
        refine lv_iload hx hb dL_law_812 (lv_at hl 1 rfl) ?_
        refine h_icmpEq hx hb 819 dL_law_814 (by decide) hkc.symm ?_
        refine lv_iload hx hb dL_law_819 (lv_at hl 1 rfl) ?_
        refine h_if_ne hx hb 836 dL_law_821 (by decide) ⟨by omega, by omega⟩ (fun c_k => ?_) (fun c_k => ?_)
        ·
          refine lv_goto (tgt := 2178) hx hb dL_law_836 (by decide) ?_
          exact kk _ _ _ ⟨(aRul z v1 v2 v3).2.2, _, hA, hT, ⟨_, hO⟩, ⟨_, hOd⟩, hG, hok1.mono (by omega), by omega, by omega⟩ _ _ _ hR hL (lv_sub hl [2, 3, 4, 5, 6, 7] rfl)
        ·
          refine lv_aload_n hx hb dL_law_824 rfl (lv_at hl 5 rfl) ?_
          refine h_iconst hx hb dL_law_825 ?_
          refine h_lald X hR hO (by omega) (by omega) dL_law_826 ?_
          have hO0 := hOv (by omega)
          refine W.eq (g2 := F0 m9 827 ls [.long (lI (c32 ((aRul z v1 v2 v3).2.1)))]) (congrArg (fun z_ : Int => F0 m9 827 ls [.long (lI (z_))]) (show (fo (Int.toNat 0) : Int) = c32 ((aRul z v1 v2 v3).2.1) from (by exact hO0))) ?_
          refine lv_iload hx hb dL_law_827 (lv_at hl 0 rfl) ?_
          refine W.eq (g2 := F0 m9 829 ls [.int (iI (c32 z_8)), .long (lI (c32 ((aRul z v1 v2 v3).2.1)))]) (by rw [c32_i]) ?_
          refine h_i2l hx hb dL_law_829 (c32_r _) ?_
          refine h_lcmp hx hb dL_law_830 (c32_j _) (c32_j _) ?_
          refine W.eq (g2 := F0 m9 831 ls [.int (iI (0))]) (congrArg (fun z_ : Int => F0 m9 831 ls [.int (iI (z_))]) (show (cmpZ (c32 ((aRul z v1 v2 v3).2.1)) (c32 z_8) : Int) = 0 from (by rw [hv2]; exact cmpZ_0.mpr rfl))) ?_
          refine h_if_eq hx hb 836 dL_law_831 (by decide) (by decide) (fun _ => ?_) (fun z_ => absurd z_ (by decide))
          refine lv_goto (tgt := 2178) hx hb dL_law_836 (by decide) ?_
          exact kk _ _ _ ⟨(aRul z v1 v2 v3).2.2, _, hA, hT, ⟨_, hO⟩, ⟨_, hOd⟩, hG, hok1.mono (by omega), by omega, by omega⟩ _ _ _ hR hL (lv_sub hl [2, 3, 4, 5, 6, 7] rfl)
      ·
        exact absurd c_v2 c_b
  ·
    refine h_iconst hx hb dL_law_759 ?_
    refine lv_goto (tgt := 764) hx hb dL_law_760 (by decide) ?_
    refine lv_aload_n hx hb dL_law_764 rfl (lv_at hl 0 rfl) ?_
    refine lv_iload hx hb dL_law_765 (lv_at hl 5 rfl) ?_
    refine h_iconst hx hb dL_law_767 ?_
    refine h_iadd hx hb dL_law_768 ?_
    refine h_sld X hR hSx hbB (by omega) (by omega) dL_law_769 ?_
    refine W.eq (g2 := F0 m9 770 ls [.int (iI (v3)), .int (iI (1)), .int (iI (v1)), .ref x]) (congrArg (fun z_ : Int => F0 m9 770 ls [.int (iI (z_)), .int (iI (1)), .int (iI (v1)), .ref x]) (show (xs (((6 * i : Nat) : Int) + 3).toNat : Int) = v3 from (by rw [hv_3, show (((6 * i : Nat) : Int) + 3).toNat = 6 * i + 3 by omega]))) ?_
    refine lv_aload_n hx hb dL_law_770 rfl (lv_at hl 3 rfl) ?_
    -- call SpokenMarksLaw.ruleLetter
    refine h_xI (h_xrunTS X hR (ww_ruleLetter l G w hSt x z _ hA hok hb2 hb9 hG v1 1 v3 r1 (⟨by decide, by decide⟩) r3 o fo hO) pn_yX0_ruleLetter q2322 q2323 q119 q2324 ⟨by decide, by decide⟩ hl.1 (Nat.le_of_ble_eq_true rfl) dL_law_771 ⟨by omega, by omega⟩) hL (fun xq_18 E_19 ce_ w_20 hx__21 H locs hR hL hce_ hcv_ hcl_ => ?_) (fun z_15 w_16 hp_17 H locs hR hL => ?_)
    ·
      exact absurd hx__21 id
    ·
      obtain ⟨⟨hk3, hkc⟩, hA, hKt, hG, hok1, ⟨fo, hO, hOv⟩, hKd⟩ := hp_17
      have hOd := hKd _ _ hOd
      have hT := hT.kt hKt
      refine lv_istore (lv' := [(6, .int (iI (z_15))), (0, .ref b), (1, .ref x), (2, .ref m), (3, .ref o), (4, .ref od), (5, .int (iI (((6 * i : Nat) : Int))))]) hx hb dL_law_774 hl (by decide) rfl (fun ls hl => ?_)
      refine lv_aload_n hx hb dL_law_776 rfl (lv_at hl 3 rfl) ?_
      refine lv_aload_n hx hb dL_law_777 rfl (lv_at hl 1 rfl) ?_
      refine lv_iload hx hb dL_law_778 (lv_at hl 6 rfl) ?_
      refine h_iconst hx hb dL_law_780 ?_
      refine h_iadd hx hb dL_law_781 ?_
      refine h_sld X hR hSx hbB (by omega) (by omega) dL_law_782 ?_
      refine W.eq (g2 := F0 m9 783 ls [.int (iI (v1)), .ref m]) (congrArg (fun z_ : Int => F0 m9 783 ls [.int (iI (z_)), .ref m]) (show (xs (((6 * i : Nat) : Int) + 1).toNat : Int) = v1 from (by rw [hv_1, show (((6 * i : Nat) : Int) + 1).toNat = 6 * i + 1 by omega]))) ?_
      refine lv_aload_n hx hb dL_law_783 rfl (lv_at hl 1 rfl) ?_
      refine lv_iload hx hb dL_law_784 (lv_at hl 6 rfl) ?_
      refine h_iconst hx hb dL_law_786 ?_
      refine h_iadd hx hb dL_law_787 ?_
      refine h_sld X hR hSx hbB (by omega) (by omega) dL_law_788 ?_
      refine W.eq (g2 := F0 m9 789 ls [.int (iI (v2)), .int (iI (v1)), .ref m]) (congrArg (fun z_ : Int => F0 m9 789 ls [.int (iI (z_)), .int (iI (v1)), .ref m]) (show (xs (((6 * i : Nat) : Int) + 2).toNat : Int) = v2 from (by rw [hv_2, show (((6 * i : Nat) : Int) + 2).toNat = 6 * i + 2 by omega]))) ?_
      refine h_if_eq hx hb 796 dL_law_789 (by decide) (by omega) (fun c_b => ?_) (fun c_b => ?_)
      ·
        exact absurd c_b c_v2
      ·
        refine h_iconst hx hb dL_law_792 ?_
        refine lv_goto (tgt := 797) hx hb dL_law_793 (by decide) ?_
        refine lv_aload_n hx hb dL_law_797 rfl (lv_at hl 1 rfl) ?_
        refine lv_iload hx hb dL_law_798 (lv_at hl 6 rfl) ?_
        refine h_iconst hx hb dL_law_800 ?_
        refine h_iadd hx hb dL_law_801 ?_
        refine h_sld X hR hSx hbB (by omega) (by omega) dL_law_802 ?_
        refine W.eq (g2 := F0 m9 803 ls [.int (iI (v3)), .int (iI (1)), .int (iI (v1)), .ref m]) (congrArg (fun z_ : Int => F0 m9 803 ls [.int (iI (z_)), .int (iI (1)), .int (iI (v1)), .ref m]) (show (xs (((6 * i : Nat) : Int) + 3).toNat : Int) = v3 from (by rw [hv_3, show (((6 * i : Nat) : Int) + 3).toNat = 6 * i + 3 by omega]))) ?_
        -- call SpokenMarksModel.ruleLetter
        have hRb := hR
        refine h_kI (h_runV X hR (tt_ruleLetter l G w_16 m z _ _ hT hok hb9 v1 1 v3 r1 (⟨by decide, by decide⟩) r3) pn_yX10_ruleLetter (hT.hx) q3133 q3134 q3135 q161 q3136 ⟨by decide, by decide⟩ hl.1 (Nat.le_of_ble_eq_true rfl) dL_law_803 ⟨by omega, by omega⟩) hL (fun z_22 w_23 hp_24 H locs hR hL => ?_)
        obtain ⟨hv2, hT2, hF2, hO2⟩ := hp_24
        obtain ⟨w3, hR, hT3, hF3, hG⟩ := hT2.fix hRb hR hG hF2 hO2
        have hA := hA.tw hT hF3
        have hO := hF3 _ _ _ hO (hT.noL hO)
        have hOd := hF3 _ _ _ hOd (hT.noD hOd)
        have hT := hT3
        refine lv_istore (lv' := [(7, .int (iI (z_22))), (6, .int (iI (z_15))), (0, .ref b), (1, .ref x), (2, .ref m), (3, .ref o), (4, .ref od), (5, .int (iI (((6 * i : Nat) : Int))))]) hx hb dL_law_806 hl (by decide) rfl (fun ls hl => ?_)
        refine lv_aload_n hx hb dL_law_808 rfl (lv_at hl 4 rfl) ?_
        -- call SpokenMarksModel.thrown
        refine h_kIp (h_runV X hR (tt_thrown l G w3 m (aRul z v1 v2 v3).2.2 ((aRul z v1 v2 v3).1) hT) pn_yX10_thrown (hT.hx) q2713 q2714 q2715 q161 q2716 ⟨by decide, by decide⟩ hl.1 (Nat.le_of_ble_eq_true rfl) dL_law_809 ⟨by omega, by omega⟩) hL (fun H locs hR hL => ?_)
        refine lv_iload hx hb dL_law_812 (lv_at hl 1 rfl) ?_
        refine h_icmpEq hx hb 819 dL_law_814 (by decide) hkc.symm ?_
        refine lv_iload hx hb dL_law_819 (lv_at hl 1 rfl) ?_
        refine h_if_ne hx hb 836 dL_law_821 (by decide) ⟨by omega, by omega⟩ (fun c_k => ?_) (fun c_k => ?_)
        ·
          refine lv_goto (tgt := 2178) hx hb dL_law_836 (by decide) ?_
          exact kk _ _ _ ⟨(aRul z v1 v2 v3).2.2, _, hA, hT, ⟨_, hO⟩, ⟨_, hOd⟩, hG, hok1.mono (by omega), by omega, by omega⟩ _ _ _ hR hL (lv_sub hl [2, 3, 4, 5, 6, 7] rfl)
        ·
          refine lv_aload_n hx hb dL_law_824 rfl (lv_at hl 5 rfl) ?_
          refine h_iconst hx hb dL_law_825 ?_
          refine h_lald X hR hO (by omega) (by omega) dL_law_826 ?_
          have hO0 := hOv (by omega)
          refine W.eq (g2 := F0 m9 827 ls [.long (lI (c32 ((aRul z v1 v2 v3).2.1)))]) (congrArg (fun z_ : Int => F0 m9 827 ls [.long (lI (z_))]) (show (fo (Int.toNat 0) : Int) = c32 ((aRul z v1 v2 v3).2.1) from (by exact hO0))) ?_
          refine lv_iload hx hb dL_law_827 (lv_at hl 0 rfl) ?_
          refine W.eq (g2 := F0 m9 829 ls [.int (iI (c32 z_22)), .long (lI (c32 ((aRul z v1 v2 v3).2.1)))]) (by rw [c32_i]) ?_
          refine h_i2l hx hb dL_law_829 (c32_r _) ?_
          refine h_lcmp hx hb dL_law_830 (c32_j _) (c32_j _) ?_
          refine W.eq (g2 := F0 m9 831 ls [.int (iI (0))]) (congrArg (fun z_ : Int => F0 m9 831 ls [.int (iI (z_))]) (show (cmpZ (c32 ((aRul z v1 v2 v3).2.1)) (c32 z_22) : Int) = 0 from (by rw [hv2]; exact cmpZ_0.mpr rfl))) ?_
          refine h_if_eq hx hb 836 dL_law_831 (by decide) (by decide) (fun _ => ?_) (fun z_ => absurd z_ (by decide))
          refine lv_goto (tgt := 2178) hx hb dL_law_836 (by decide) ?_
          exact kk _ _ _ ⟨(aRul z v1 v2 v3).2.2, _, hA, hT, ⟨_, hO⟩, ⟨_, hOd⟩, hG, hok1.mono (by omega), by omega, by omega⟩ _ _ _ hR hL (lv_sub hl [2, 3, 4, 5, 6, 7] rfl)

set_option maxHeartbeats 4000000 in
set_option maxRecDepth 100000 in
/-- shelf -/
theorem lc_shelf {l : Launch} {G : Gl} {p9 : Program} {e9 : Env} {s9 : State} {m9 : MethodId} {a9 : Array Value} {b9 : List Frame} {meth9 : Method} {c9 : Code} {Q9 : State → Prop} (X : HX G p9 s9 m9 a9 c9 cL_law 10 "SpokenMarksLaw") (hSt : l.stackTraces = false) (w : Wd) (b x m o od L : Nat) (xs : Nat → Int) (hxs : ∀ j, R32 (xs j)) (hSx : va_X b L (fun j => iI (xs j)) s9 (gH G)) (hbB : b < gB G) (i : Nat) (hi : i < 24) (hiL : 6 * i + 6 ≤ L) (hL9 : L ≤ 144) (U V : Nat) (hI : LI G w x m o od i U V) (H : Heap) (locs : List Loc) (ls : Array Slot) (hR : Rp G w H) (hL : LK G locs) (hl : lv_has ls 10 [(0, .ref b), (1, .ref x), (2, .ref m), (3, .ref o), (4, .ref od), (5, .int (iI ((6 * i : Nat) : Int)))])
  (kk : ∀ (w1 : Wd) (U1 V1 : Nat), LI G w1 x m o od (i + 1) U1 V1 → ∀ (H1 : Heap) (locs1 : List Loc) (ls1 : Array Slot), Rp G w1 H1 → LK G locs1 → lv_has ls1 10 [(0, .ref b), (1, .ref x), (2, .ref m), (3, .ref o), (4, .ref od), (5, .int (iI ((6 * i : Nat) : Int)))] → W p9 l e9 (rmk 26 1200048 5501818) s9 m9 a9 b9 meth9 c9 H1 locs1 U1 V1 Q9 (F0 m9 2178 ls1 [])) : W p9 l e9 (rmk 26 1200048 5501818) s9 m9 a9 b9 meth9 c9 H locs U V Q9 (F0 m9 839 ls []) := by
  have hx := X.1.1
  have hb := X.1.2.1
  obtain ⟨z, k0, hA, hT, ⟨fo, hO⟩, ⟨fd, hOd⟩, hG, hok, hU, hV⟩ := hI
  have hb2 : (2200 : Int) ≤ 3000 + 1000 * (i : Int) := by omega
  have hb9 : (3000 : Int) + 1000 * (i : Int) < 890000 := by omega
  obtain ⟨v1, hv_1⟩ : ∃ v_, v_ = xs (6 * i + 1) := ⟨_, rfl⟩
  have r1 : R32 v1 := by rw [hv_1]; exact hxs _
  obtain ⟨v2, hv_2⟩ : ∃ v_, v_ = xs (6 * i + 2) := ⟨_, rfl⟩
  have r2 : R32 v2 := by rw [hv_2]; exact hxs _
  have hbl : (zB ((aShf z v1 v2).2.2)).length ≤ (zB z).length := Nat.le_refl _
  refine lv_aload_n hx hb dL_law_839 rfl (lv_at hl 1 rfl) ?_
  refine lv_aload_n hx hb dL_law_840 rfl (lv_at hl 0 rfl) ?_
  refine lv_iload hx hb dL_law_841 (lv_at hl 5 rfl) ?_
  refine h_iconst hx hb dL_law_843 ?_
  refine h_iadd hx hb dL_law_844 ?_
  refine h_sld X hR hSx hbB (by omega) (by omega) dL_law_845 ?_
  refine W.eq (g2 := F0 m9 846 ls [.int (iI (v1)), .ref x]) (congrArg (fun z_ : Int => F0 m9 846 ls [.int (iI (z_)), .ref x]) (show (xs (((6 * i : Nat) : Int) + 1).toNat : Int) = v1 from (by rw [hv_1, show (((6 * i : Nat) : Int) + 1).toNat = 6 * i + 1 by omega]))) ?_
  refine lv_aload_n hx hb dL_law_846 rfl (lv_at hl 0 rfl) ?_
  refine lv_iload hx hb dL_law_847 (lv_at hl 5 rfl) ?_
  refine h_iconst hx hb dL_law_849 ?_
  refine h_iadd hx hb dL_law_850 ?_
  refine h_sld X hR hSx hbB (by omega) (by omega) dL_law_851 ?_
  refine W.eq (g2 := F0 m9 852 ls [.int (iI (v2)), .int (iI (v1)), .ref x]) (congrArg (fun z_ : Int => F0 m9 852 ls [.int (iI (z_)), .int (iI (v1)), .ref x]) (show (xs (((6 * i : Nat) : Int) + 2).toNat : Int) = v2 from (by rw [hv_2, show (((6 * i : Nat) : Int) + 2).toNat = 6 * i + 2 by omega]))) ?_
  refine lv_aload_n hx hb dL_law_852 rfl (lv_at hl 3 rfl) ?_
  -- call SpokenMarksLaw.shelf
  refine h_xI (h_xrunTS X hR (ww_shelf l G w hSt x z _ hA hok hb2 hb9 hG v1 v2 r1 r2 o fo hO) pn_yX0_shelf q2333 q2334 q119 q2335 ⟨by decide, by decide⟩ hl.1 (Nat.le_of_ble_eq_true rfl) dL_law_853 ⟨by omega, by omega⟩) hL (fun xq_4 E_5 ce_ w_6 hx__7 H locs hR hL hce_ hcv_ hcl_ => ?_) (fun z_1 w_2 hp_3 H locs hR hL => ?_)
  ·
    exact absurd hx__7 id
  ·
    obtain ⟨⟨hk3, hkc⟩, hA, hKt, hG, hok1, ⟨fo, hO, hOv⟩, hKd⟩ := hp_3
    have hOd := hKd _ _ hOd
    have hT := hT.kt hKt
    refine lv_istore (lv' := [(6, .int (iI (z_1))), (0, .ref b), (1, .ref x), (2, .ref m), (3, .ref o), (4, .ref od), (5, .int (iI (((6 * i : Nat) : Int))))]) hx hb dL_law_856 hl (by decide) rfl (fun ls hl => ?_)
    refine lv_aload_n hx hb dL_law_858 rfl (lv_at hl 3 rfl) ?_
    refine lv_aload_n hx hb dL_law_859 rfl (lv_at hl 1 rfl) ?_
    refine lv_iload hx hb dL_law_860 (lv_at hl 6 rfl) ?_
    refine h_iconst hx hb dL_law_862 ?_
    refine h_iadd hx hb dL_law_863 ?_
    refine h_sld X hR hSx hbB (by omega) (by omega) dL_law_864 ?_
    refine W.eq (g2 := F0 m9 865 ls [.int (iI (v1)), .ref m]) (congrArg (fun z_ : Int => F0 m9 865 ls [.int (iI (z_)), .ref m]) (show (xs (((6 * i : Nat) : Int) + 1).toNat : Int) = v1 from (by rw [hv_1, show (((6 * i : Nat) : Int) + 1).toNat = 6 * i + 1 by omega]))) ?_
    refine lv_aload_n hx hb dL_law_865 rfl (lv_at hl 1 rfl) ?_
    refine lv_iload hx hb dL_law_866 (lv_at hl 6 rfl) ?_
    refine h_iconst hx hb dL_law_868 ?_
    refine h_iadd hx hb dL_law_869 ?_
    refine h_sld X hR hSx hbB (by omega) (by omega) dL_law_870 ?_
    refine W.eq (g2 := F0 m9 871 ls [.int (iI (v2)), .int (iI (v1)), .ref m]) (congrArg (fun z_ : Int => F0 m9 871 ls [.int (iI (z_)), .int (iI (v1)), .ref m]) (show (xs (((6 * i : Nat) : Int) + 2).toNat : Int) = v2 from (by rw [hv_2, show (((6 * i : Nat) : Int) + 2).toNat = 6 * i + 2 by omega]))) ?_
    -- call SpokenMarksModel.shelf
    have hRb := hR
    refine h_kI (h_runV X hR (tt_shelf l G w_2 m z _ _ hT hok hb9 v1 v2 r1 r2) pn_yX10_shelf (hT.hx) q3141 q3142 q3143 q161 q3144 ⟨by decide, by decide⟩ hl.1 (Nat.le_of_ble_eq_true rfl) dL_law_871 ⟨by omega, by omega⟩) hL (fun z_8 w_9 hp_10 H locs hR hL => ?_)
    obtain ⟨hv2, hT2, hF2, hO2⟩ := hp_10
    obtain ⟨w3, hR, hT3, hF3, hG⟩ := hT2.fix hRb hR hG hF2 hO2
    have hA := hA.tw hT hF3
    have hO := hF3 _ _ _ hO (hT.noL hO)
    have hOd := hF3 _ _ _ hOd (hT.noD hOd)
    have hT := hT3
    refine lv_istore (lv' := [(7, .int (iI (z_8))), (6, .int (iI (z_1))), (0, .ref b), (1, .ref x), (2, .ref m), (3, .ref o), (4, .ref od), (5, .int (iI (((6 * i : Nat) : Int))))]) hx hb dL_law_874 hl (by decide) rfl (fun ls hl => ?_)
    refine lv_aload_n hx hb dL_law_876 rfl (lv_at hl 4 rfl) ?_
    -- call SpokenMarksModel.thrown
    refine h_kIp (h_runV X hR (tt_thrown l G w3 m (aShf z v1 v2).2.2 ((aShf z v1 v2).1) hT) pn_yX10_thrown (hT.hx) q2713 q2714 q2715 q161 q2716 ⟨by decide, by decide⟩ hl.1 (Nat.le_of_ble_eq_true rfl) dL_law_877 ⟨by omega, by omega⟩) hL (fun H locs hR hL => ?_)
    refine lv_iload hx hb dL_law_880 (lv_at hl 1 rfl) ?_
    refine h_icmpEq hx hb 887 dL_law_882 (by decide) hkc.symm ?_
    refine lv_iload hx hb dL_law_887 (lv_at hl 1 rfl) ?_
    refine h_if_ne hx hb 904 dL_law_889 (by decide) ⟨by omega, by omega⟩ (fun c_k => ?_) (fun c_k => ?_)
    ·
      refine lv_goto (tgt := 2178) hx hb dL_law_904 (by decide) ?_
      exact kk _ _ _ ⟨(aShf z v1 v2).2.2, _, hA, hT, ⟨_, hO⟩, ⟨_, hOd⟩, hG, hok1.mono (by omega), by omega, by omega⟩ _ _ _ hR hL (lv_sub hl [2, 3, 4, 5, 6, 7] rfl)
    ·
      refine lv_aload_n hx hb dL_law_892 rfl (lv_at hl 5 rfl) ?_
      refine h_iconst hx hb dL_law_893 ?_
      refine h_lald X hR hO (by omega) (by omega) dL_law_894 ?_
      have hO0 := hOv (by omega)
      refine W.eq (g2 := F0 m9 895 ls [.long (lI (c32 ((aShf z v1 v2).2.1)))]) (congrArg (fun z_ : Int => F0 m9 895 ls [.long (lI (z_))]) (show (fo (Int.toNat 0) : Int) = c32 ((aShf z v1 v2).2.1) from (by exact hO0))) ?_
      refine lv_iload hx hb dL_law_895 (lv_at hl 0 rfl) ?_
      refine W.eq (g2 := F0 m9 897 ls [.int (iI (c32 z_8)), .long (lI (c32 ((aShf z v1 v2).2.1)))]) (by rw [c32_i]) ?_
      refine h_i2l hx hb dL_law_897 (c32_r _) ?_
      refine h_lcmp hx hb dL_law_898 (c32_j _) (c32_j _) ?_
      refine W.eq (g2 := F0 m9 899 ls [.int (iI (0))]) (congrArg (fun z_ : Int => F0 m9 899 ls [.int (iI (z_))]) (show (cmpZ (c32 ((aShf z v1 v2).2.1)) (c32 z_8) : Int) = 0 from (by rw [hv2]; exact cmpZ_0.mpr rfl))) ?_
      refine h_if_eq hx hb 904 dL_law_899 (by decide) (by decide) (fun _ => ?_) (fun z_ => absurd z_ (by decide))
      refine lv_goto (tgt := 2178) hx hb dL_law_904 (by decide) ?_
      exact kk _ _ _ ⟨(aShf z v1 v2).2.2, _, hA, hT, ⟨_, hO⟩, ⟨_, hOd⟩, hG, hok1.mono (by omega), by omega, by omega⟩ _ _ _ hR hL (lv_sub hl [2, 3, 4, 5, 6, 7] rfl)

set_option maxHeartbeats 4000000 in
set_option maxRecDepth 100000 in
/-- gap -/
theorem lc_gap {l : Launch} {G : Gl} {p9 : Program} {e9 : Env} {s9 : State} {m9 : MethodId} {a9 : Array Value} {b9 : List Frame} {meth9 : Method} {c9 : Code} {Q9 : State → Prop} (X : HX G p9 s9 m9 a9 c9 cL_law 10 "SpokenMarksLaw") (hSt : l.stackTraces = false) (w : Wd) (b x m o od L : Nat) (xs : Nat → Int) (hxs : ∀ j, R32 (xs j)) (hSx : va_X b L (fun j => iI (xs j)) s9 (gH G)) (hbB : b < gB G) (i : Nat) (hi : i < 24) (hiL : 6 * i + 6 ≤ L) (hL9 : L ≤ 144) (U V : Nat) (hI : LI G w x m o od i U V) (H : Heap) (locs : List Loc) (ls : Array Slot) (hR : Rp G w H) (hL : LK G locs) (hl : lv_has ls 10 [(0, .ref b), (1, .ref x), (2, .ref m), (3, .ref o), (4, .ref od), (5, .int (iI ((6 * i : Nat) : Int)))])
  (kk : ∀ (w1 : Wd) (U1 V1 : Nat), LI G w1 x m o od (i + 1) U1 V1 → ∀ (H1 : Heap) (locs1 : List Loc) (ls1 : Array Slot), Rp G w1 H1 → LK G locs1 → lv_has ls1 10 [(0, .ref b), (1, .ref x), (2, .ref m), (3, .ref o), (4, .ref od), (5, .int (iI ((6 * i : Nat) : Int)))] → W p9 l e9 (rmk 26 1200048 5501818) s9 m9 a9 b9 meth9 c9 H1 locs1 U1 V1 Q9 (F0 m9 2178 ls1 [])) : W p9 l e9 (rmk 26 1200048 5501818) s9 m9 a9 b9 meth9 c9 H locs U V Q9 (F0 m9 907 ls []) := by
  have hx := X.1.1
  have hb := X.1.2.1
  obtain ⟨z, k0, hA, hT, ⟨fo, hO⟩, ⟨fd, hOd⟩, hG, hok, hU, hV⟩ := hI
  have hb2 : (2200 : Int) ≤ 3000 + 1000 * (i : Int) := by omega
  have hb9 : (3000 : Int) + 1000 * (i : Int) < 890000 := by omega
  have hbl : (zB ((aGap z).2.2)).length ≤ (zB z).length := Nat.le_refl _
  refine lv_aload_n hx hb dL_law_907 rfl (lv_at hl 1 rfl) ?_
  -- call SpokenMarks.gap
  refine h_kI (h_runV X hR (cc_gap l G w hSt x z _ hA hok hb2 hb9 hG ) pn_yX1_gap (hA.hx) q1746 q1747 q1748 q120 q1749 ⟨by decide, by decide⟩ hl.1 (Nat.le_of_ble_eq_true rfl) dL_law_908 ⟨by omega, by omega⟩) hL (fun z_1 w_2 hp_3 H locs hR hL => ?_)
  obtain ⟨-, hv1, hA, hKp, hG, hok1⟩ := hp_3
  have hT := hT.kt hKp.t
  have hO := hKp.2.2.1 _ _ _ hO
  have hOd := hKp.2.2.2 _ _ _ hOd
  refine lv_aload_n hx hb dL_law_911 rfl (lv_at hl 2 rfl) ?_
  -- call SpokenMarksModel.gap
  have hRb := hR
  refine h_kI (h_runV X hR (tt_gap l G w_2 m z _ _ hT hok hb9 ) pn_yX10_gap (hT.hx) q3157 q3158 q3159 q161 q3160 ⟨by decide, by decide⟩ hl.1 (Nat.le_of_ble_eq_true rfl) dL_law_912 ⟨by omega, by omega⟩) hL (fun z_4 w_5 hp_6 H locs hR hL => ?_)
  obtain ⟨hv2, hT2, hF2, hO2⟩ := hp_6
  obtain ⟨k2, hT2⟩ := hT2
  obtain ⟨w3, hR, hT3, hF3, hG⟩ := hT2.fix hRb hR hG hF2 hO2
  have hA := hA.tw hT hF3
  have hO := hF3 _ _ _ hO (hT.noL hO)
  have hOd := hF3 _ _ _ hOd (hT.noD hOd)
  have hT := hT3
  refine h_icmpEq hx hb 2178 dL_law_915 (by decide) (hv1.trans hv2.symm) ?_
  exact kk _ _ _ ⟨(aGap z).2.2, _, hA, hT, ⟨_, hO⟩, ⟨_, hOd⟩, hG, hok1.mono (by omega), by omega, by omega⟩ _ _ _ hR hL (lv_sub hl [0, 1, 2, 3, 4, 5] rfl)
