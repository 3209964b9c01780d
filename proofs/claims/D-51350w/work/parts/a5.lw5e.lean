/-! the law: its cases (5) -/
set_option maxRecDepth 100000

set_option maxHeartbeats 4000000 in
set_option maxRecDepth 100000 in
/-- add -/
theorem lc_add {l : Launch} {G : Gl} {p9 : Program} {e9 : Env} {s9 : State} {m9 : MethodId} {a9 : Array Value} {b9 : List Frame} {meth9 : Method} {c9 : Code} {Q9 : State → Prop} (X : HX G p9 s9 m9 a9 c9 cL_law 10 "SpokenMarksLaw") (hSt : l.stackTraces = false) (w : Wd) (b x m o od L : Nat) (xs : Nat → Int) (hxs : ∀ j, R32 (xs j)) (hSx : va_X b L (fun j => iI (xs j)) s9 (gH G)) (hbB : b < gB G) (i : Nat) (hi : i < 24) (hiL : 6 * i + 6 ≤ L) (hL9 : L ≤ 144) (U V : Nat) (hI : LI G w x m o od i U V) (H : Heap) (locs : List Loc) (ls : Array Slot) (hR : Rp G w H) (hL : LK G locs) (hl : lv_has ls 10 [(0, .ref b), (1, .ref x), (2, .ref m), (3, .ref o), (4, .ref od), (5, .int (iI ((6 * i : Nat) : Int)))])
  (kk : ∀ (w1 : Wd) (U1 V1 : Nat), LI G w1 x m o od (i + 1) U1 V1 → ∀ (H1 : Heap) (locs1 : List Loc) (ls1 : Array Slot), Rp G w1 H1 → LK G locs1 → lv_has ls1 10 [(0, .ref b), (1, .ref x), (2, .ref m), (3, .ref o), (4, .ref od), (5, .int (iI ((6 * i : Nat) : Int)))] → W p9 l e9 (rmk 26 1200048 5501818) s9 m9 a9 b9 meth9 c9 H1 locs1 U1 V1 Q9 (F0 m9 2178 ls1 [])) : W p9 l e9 (rmk 26 1200048 5501818) s9 m9 a9 b9 meth9 c9 H locs U V Q9 (F0 m9 1593 ls []) := by
  have hx := X.1.1
  have hb := X.1.2.1
  obtain ⟨z, k0, hA, hT, ⟨fo, hO⟩, ⟨fd, hOd⟩, hG, hok, hU, hV⟩ := hI
  have hb2 : (2200 : Int) ≤ 3000 + 1000 * (i : Int) := by omega
  have hb9 : (3000 : Int) + 1000 * (i : Int) < 890000 := by omega
  obtain ⟨v1, hv_1⟩ : ∃ v_, v_ = xs (6 * i + 1) := ⟨_, rfl⟩
  have r1 : R32 v1 := by rw [hv_1]; exact hxs _
  obtain ⟨v2, hv_2⟩ : ∃ v_, v_ = xs (6 * i + 2) := ⟨_, rfl⟩
  have r2 : R32 v2 := by rw [hv_2]; exact hxs _
  have hbl : (zB ((aAdd z v1 v2).2.2)).length ≤ (zB z).length := (by unfold aAdd; split; first | exact Nat.zero_le _ | exact Nat.le_refl _; exact Nat.le_refl _)
  refine lv_aload_n hx hb dL_law_1593 rfl (lv_at hl 1 rfl) ?_
  refine lv_aload_n hx hb dL_law_1594 rfl (lv_at hl 0 rfl) ?_
  refine lv_iload hx hb dL_law_1595 (lv_at hl 5 rfl) ?_
  refine h_iconst hx hb dL_law_1597 ?_
  refine h_iadd hx hb dL_law_1598 ?_
  refine h_sld X hR hSx hbB (by omega) (by omega) dL_law_1599 ?_
  refine W.eq (g2 := F0 m9 1600 ls [.int (iI (v1)), .ref x]) (congrArg (fun z_ : Int => F0 m9 1600 ls [.int (iI (z_)), .ref x]) (show (xs (((6 * i : Nat) : Int) + 1).toNat : Int) = v1 from (by rw [hv_1, show (((6 * i : Nat) : Int) + 1).toNat = 6 * i + 1 by omega]))) ?_
  refine lv_aload_n hx hb dL_law_1600 rfl (lv_at hl 0 rfl) ?_
  refine lv_iload hx hb dL_law_1601 (lv_at hl 5 rfl) ?_
  refine h_iconst hx hb dL_law_1603 ?_
  refine h_iadd hx hb dL_law_1604 ?_
  refine h_sld X hR hSx hbB (by omega) (by omega) dL_law_1605 ?_
  refine W.eq (g2 := F0 m9 1606 ls [.int (iI (v2)), .int (iI (v1)), .ref x]) (congrArg (fun z_ : Int => F0 m9 1606 ls [.int (iI (z_)), .int (iI (v1)), .ref x]) (show (xs (((6 * i : Nat) : Int) + 2).toNat : Int) = v2 from (by rw [hv_2, show (((6 * i : Nat) : Int) + 2).toNat = 6 * i + 2 by omega]))) ?_
  refine lv_aload_n hx hb dL_law_1606 rfl (lv_at hl 3 rfl) ?_
  -- call SpokenMarksLaw.add
  refine h_xI (h_xrunTS X hR (ww_add l G w hSt x z _ hA hok hb2 hb9 hG v1 v2 r1 r2 o fo hO) pn_yX0_add q2492 q2493 q119 q2494 ⟨by decide, by decide⟩ hl.1 (Nat.le_of_ble_eq_true rfl) dL_law_1607 ⟨by omega, by omega⟩) hL (fun xq_4 E_5 ce_ w_6 hx__7 H locs hR hL hce_ hcv_ hcl_ => ?_) (fun z_1 w_2 hp_3 H locs hR hL => ?_)
  ·
    exact absurd hx__7 id
  ·
    obtain ⟨⟨hk3, hkc⟩, hA, hKt, hG, hok1, ⟨fo, hO, hOv⟩, hKd⟩ := hp_3
    have hOd := hKd _ _ hOd
    have hT := hT.kt hKt
    refine lv_istore (lv' := [(6, .int (iI (z_1))), (0, .ref b), (1, .ref x), (2, .ref m), (3, .ref o), (4, .ref od), (5, .int (iI (((6 * i : Nat) : Int))))]) hx hb dL_law_1610 hl (by decide) rfl (fun ls hl => ?_)
    refine lv_aload_n hx hb dL_law_1612 rfl (lv_at hl 3 rfl) ?_
    refine lv_aload_n hx hb dL_law_1613 rfl (lv_at hl 1 rfl) ?_
    refine lv_iload hx hb dL_law_1614 (lv_at hl 6 rfl) ?_
    refine h_iconst hx hb dL_law_1616 ?_
    refine h_iadd hx hb dL_law_1617 ?_
    refine h_sld X hR hSx hbB (by omega) (by omega) dL_law_1618 ?_
    refine W.eq (g2 := F0 m9 1619 ls [.int (iI (v1)), .ref m]) (congrArg (fun z_ : Int => F0 m9 1619 ls [.int (iI (z_)), .ref m]) (show (xs (((6 * i : Nat) : Int) + 1).toNat : Int) = v1 from (by rw [hv_1, show (((6 * i : Nat) : Int) + 1).toNat = 6 * i + 1 by omega]))) ?_
    refine lv_aload_n hx hb dL_law_1619 rfl (lv_at hl 1 rfl) ?_
    refine lv_iload hx hb dL_law_1620 (lv_at hl 6 rfl) ?_
    refine h_iconst hx hb dL_law_1622 ?_
    refine h_iadd hx hb dL_law_1623 ?_
    refine h_sld X hR hSx hbB (by omega) (by omega) dL_law_1624 ?_
    refine W.eq (g2 := F0 m9 1625 ls [.int (iI (v2)), .int (iI (v1)), .ref m]) (congrArg (fun z_ : Int => F0 m9 1625 ls [.int (iI (z_)), .int (iI (v1)), .ref m]) (show (xs (((6 * i : Nat) : Int) + 2).toNat : Int) = v2 from (by rw [hv_2, show (((6 * i : Nat) : Int) + 2).toNat = 6 * i + 2 by omega]))) ?_
    -- call SpokenMarksModel.add
    have hRb := hR
    refine h_kI (h_runV X hR (tt_add l G w_2 m z _ _ hT hok hb9 v1 v2 r1 r2) pn_yX10_add (hT.hx) q3233 q3234 q3235 q161 q3236 ⟨by decide, by decide⟩ hl.1 (Nat.le_of_ble_eq_true rfl) dL_law_1625 ⟨by omega, by omega⟩) hL (fun z_8 w_9 hp_10 H locs hR hL => ?_)
    obtain ⟨hv2, hT2, hF2, hO2⟩ := hp_10
    obtain ⟨w3, hR, hT3, hF3, hG⟩ := hT2.fix hRb hR hG hF2 hO2
    have hA := hA.tw hT hF3
    have hO := hF3 _ _ _ hO (hT.noL hO)
    have hOd := hF3 _ _ _ hOd (hT.noD hOd)
    have hT := hT3
    refine lv_istore (lv' := [(7, .int (iI (z_8))), (6, .int (iI (z_1))), (0, .ref b), (1, .ref x), (2, .ref m), (3, .ref o), (4, .ref od), (5, .int (iI (((6 * i : Nat) : Int))))]) hx hb dL_law_1628 hl (by decide) rfl (fun ls hl => ?_)
    refine lv_aload_n hx hb dL_law_1630 rfl (lv_at hl 4 rfl) ?_
    -- call SpokenMarksModel.thrown
    refine h_kIp (h_runV X hR (tt_thrown l G w3 m (aAdd z v1 v2).2.2 ((aAdd z v1 v2).1) hT) pn_yX10_thrown (hT.hx) q2713 q2714 q2715 q161 q2716 ⟨by decide, by decide⟩ hl.1 (Nat.le_of_ble_eq_true rfl) dL_law_1631 ⟨by omega, by omega⟩) hL (fun H locs hR hL => ?_)
    refine lv_iload hx hb dL_law_1634 (lv_at hl 1 rfl) ?_
    refine h_icmpEq hx hb 1641 dL_law_1636 (by decide) hkc.symm ?_
    refine lv_iload hx hb dL_law_1641 (lv_at hl 1 rfl) ?_
    refine h_if_ne hx hb 1658 dL_law_1643 (by decide) ⟨by omega, by omega⟩ (fun c_k => ?_) (fun c_k => ?_)
    ·
      refine lv_goto (tgt := 2178) hx hb dL_law_1658 (by decide) ?_
      exact kk _ _ _ ⟨(aAdd z v1 v2).2.2, _, hA, hT, ⟨_, hO⟩, ⟨_, hOd⟩, hG, hok1.mono (by omega), by omega, by omega⟩ _ _ _ hR hL (lv_sub hl [2, 3, 4, 5, 6, 7] rfl)
    ·
      refine lv_aload_n hx hb dL_law_1646 rfl (lv_at hl 5 rfl) ?_
      refine h_iconst hx hb dL_law_1647 ?_
      refine h_lald X hR hO (by omega) (by omega) dL_law_1648 ?_
      have hO0 := hOv (by omega)
      refine W.eq (g2 := F0 m9 1649 ls [.long (lI (c32 ((aAdd z v1 v2).2.1)))]) (congrArg (fun z_ : Int => F0 m9 1649 ls [.long (lI (z_))]) (show (fo (Int.toNat 0) : Int) = c32 ((aAdd z v1 v2).2.1) from (by exact hO0))) ?_
      refine lv_iload hx hb dL_law_1649 (lv_at hl 0 rfl) ?_
      refine W.eq (g2 := F0 m9 1651 ls [.int (iI (c32 z_8)), .long (lI (c32 ((aAdd z v1 v2).2.1)))]) (by rw [c32_i]) ?_
      refine h_i2l hx hb dL_law_1651 (c32_r _) ?_
      refine h_lcmp hx hb dL_law_1652 (c32_j _) (c32_j _) ?_
      refine W.eq (g2 := F0 m9 1653 ls [.int (iI (0))]) (congrArg (fun z_ : Int => F0 m9 1653 ls [.int (iI (z_))]) (show (cmpZ (c32 ((aAdd z v1 v2).2.1)) (c32 z_8) : Int) = 0 from (by rw [hv2]; exact cmpZ_0.mpr rfl))) ?_
      refine h_if_eq hx hb 1658 dL_law_1653 (by decide) (by decide) (fun _ => ?_) (fun z_ => absurd z_ (by decide))
      refine lv_goto (tgt := 2178) hx hb dL_law_1658 (by decide) ?_
      exact kk _ _ _ ⟨(aAdd z v1 v2).2.2, _, hA, hT, ⟨_, hO⟩, ⟨_, hOd⟩, hG, hok1.mono (by omega), by omega, by omega⟩ _ _ _ hR hL (lv_sub hl [2, 3, 4, 5, 6, 7] rfl)

set_option maxHeartbeats 4000000 in
set_option maxRecDepth 100000 in
/-- drop -/
theorem lc_drop {l : Launch} {G : Gl} {p9 : Program} {e9 : Env} {s9 : State} {m9 : MethodId} {a9 : Array Value} {b9 : List Frame} {meth9 : Method} {c9 : Code} {Q9 : State → Prop} (X : HX G p9 s9 m9 a9 c9 cL_law 10 "SpokenMarksLaw") (hSt : l.stackTraces = false) (w : Wd) (b x m o od L : Nat) (xs : Nat → Int) (hxs : ∀ j, R32 (xs j)) (hSx : va_X b L (fun j => iI (xs j)) s9 (gH G)) (hbB : b < gB G) (i : Nat) (hi : i < 24) (hiL : 6 * i + 6 ≤ L) (hL9 : L ≤ 144) (U V : Nat) (hI : LI G w x m o od i U V) (H : Heap) (locs : List Loc) (ls : Array Slot) (hR : Rp G w H) (hL : LK G locs) (hl : lv_has ls 10 [(0, .ref b), (1, .ref x), (2, .ref m), (3, .ref o), (4, .ref od), (5, .int (iI ((6 * i : Nat) : Int)))])
  (kk : ∀ (w1 : Wd) (U1 V1 : Nat), LI G w1 x m o od (i + 1) U1 V1 → ∀ (H1 : Heap) (locs1 : List Loc) (ls1 : Array Slot), Rp G w1 H1 → LK G locs1 → lv_has ls1 10 [(0, .ref b), (1, .ref x), (2, .ref m), (3, .ref o), (4, .ref od), (5, .int (iI ((6 * i : Nat) : Int)))] → W p9 l e9 (rmk 26 1200048 5501818) s9 m9 a9 b9 meth9 c9 H1 locs1 U1 V1 Q9 (F0 m9 2178 ls1 [])) : W p9 l e9 (rmk 26 1200048 5501818) s9 m9 a9 b9 meth9 c9 H locs U V Q9 (F0 m9 1661 ls []) := by
  have hx := X.1.1
  have hb := X.1.2.1
  obtain ⟨z, k0, hA, hT, ⟨fo, hO⟩, ⟨fd, hOd⟩, hG, hok, hU, hV⟩ := hI
  have hb2 : (2200 : Int) ≤ 3000 + 1000 * (i : Int) := by omega
  have hb9 : (3000 : Int) + 1000 * (i : Int) < 890000 := by omega
  obtain ⟨v1, hv_1⟩ : ∃ v_, v_ = xs (6 * i + 1) := ⟨_, rfl⟩
  have r1 : R32 v1 := by rw [hv_1]; exact hxs _
  have hbl : (zB ((aDrp z v1).2.2)).length ≤ (zB z).length := Nat.le_refl _
  refine lv_aload_n hx hb dL_law_1661 rfl (lv_at hl 1 rfl) ?_
  refine lv_aload_n hx hb dL_law_1662 rfl (lv_at hl 0 rfl) ?_
  refine lv_iload hx hb dL_law_1663 (lv_at hl 5 rfl) ?_
  refine h_iconst hx hb dL_law_1665 ?_
  refine h_iadd hx hb dL_law_1666 ?_
  refine h_sld X hR hSx hbB (by omega) (by omega) dL_law_1667 ?_
  refine W.eq (g2 := F0 m9 1668 ls [.int (iI (v1)), .ref x]) (congrArg (fun z_ : Int => F0 m9 1668 ls [.int (iI (z_)), .ref x]) (show (xs (((6 * i : Nat) : Int) + 1).toNat : Int) = v1 from (by rw [hv_1, show (((6 * i : Nat) : Int) + 1).toNat = 6 * i + 1 by omega]))) ?_
  refine lv_aload_n hx hb dL_law_1668 rfl (lv_at hl 3 rfl) ?_
  -- call SpokenMarksLaw.drop
  refine h_xI (h_xrunTS X hR (ww_drop l G w hSt x z _ hA hok hb2 hb9 hG v1 r1 o fo hO) pn_yX0_drop q2512 q2513 q119 q2514 ⟨by decide, by decide⟩ hl.1 (Nat.le_of_ble_eq_true rfl) dL_law_1669 ⟨by omega, by omega⟩) hL (fun xq_4 E_5 ce_ w_6 hx__7 H locs hR hL hce_ hcv_ hcl_ => ?_) (fun z_1 w_2 hp_3 H locs hR hL => ?_)
  ·
    exact absurd hx__7 id
  ·
    obtain ⟨⟨hk3, hkc⟩, hA, hKt, hG, hok1, ⟨fo, hO, hOv⟩, hKd⟩ := hp_3
    have hOd := hKd _ _ hOd
    have hT := hT.kt hKt
    refine lv_istore (lv' := [(6, .int (iI (z_1))), (0, .ref b), (1, .ref x), (2, .ref m), (3, .ref o), (4, .ref od), (5, .int (iI (((6 * i : Nat) : Int))))]) hx hb dL_law_1672 hl (by decide) rfl (fun ls hl => ?_)
    refine lv_aload_n hx hb dL_law_1674 rfl (lv_at hl 3 rfl) ?_
    refine lv_aload_n hx hb dL_law_1675 rfl (lv_at hl 1 rfl) ?_
    refine lv_iload hx hb dL_law_1676 (lv_at hl 6 rfl) ?_
    refine h_iconst hx hb dL_law_1678 ?_
    refine h_iadd hx hb dL_law_1679 ?_
    refine h_sld X hR hSx hbB (by omega) (by omega) dL_law_1680 ?_
    refine W.eq (g2 := F0 m9 1681 ls [.int (iI (v1)), .ref m]) (congrArg (fun z_ : Int => F0 m9 1681 ls [.int (iI (z_)), .ref m]) (show (xs (((6 * i : Nat) : Int) + 1).toNat : Int) = v1 from (by rw [hv_1, show (((6 * i : Nat) : Int) + 1).toNat = 6 * i + 1 by omega]))) ?_
    -- call SpokenMarksModel.drop
    have hRb := hR
    refine h_kI (h_runV X hR (tt_drop l G w_2 m z _ _ hT hok hb9 v1 r1) pn_yX10_drop (hT.hx) q3250 q3251 q3252 q161 q3253 ⟨by decide, by decide⟩ hl.1 (Nat.le_of_ble_eq_true rfl) dL_law_1681 ⟨by omega, by omega⟩) hL (fun z_8 w_9 hp_10 H locs hR hL => ?_)
    obtain ⟨hv2, hT2, hF2, hO2⟩ := hp_10
    obtain ⟨w3, hR, hT3, hF3, hG⟩ := hT2.fix hRb hR hG hF2 hO2
    have hA := hA.tw hT hF3
    have hO := hF3 _ _ _ hO (hT.noL hO)
    have hOd := hF3 _ _ _ hOd (hT.noD hOd)
    have hT := hT3
    refine lv_istore (lv' := [(7, .int (iI (z_8))), (6, .int (iI (z_1))), (0, .ref b), (1, .ref x), (2, .ref m), (3, .ref o), (4, .ref od), (5, .int (iI (((6 * i : Nat) : Int))))]) hx hb dL_law_1684 hl (by decide) rfl (fun ls hl => ?_)
    refine lv_aload_n hx hb dL_law_1686 rfl (lv_at hl 4 rfl) ?_
    -- call SpokenMarksModel.thrown
    refine h_kIp (h_runV X hR (tt_thrown l G w3 m (aDrp z v1).2.2 ((aDrp z v1).1) hT) pn_yX10_thrown (hT.hx) q2713 q2714 q2715 q161 q2716 ⟨by decide, by decide⟩ hl.1 (Nat.le_of_ble_eq_true rfl) dL_law_1687 ⟨by omega, by omega⟩) hL (fun H locs hR hL => ?_)
    refine lv_iload hx hb dL_law_1690 (lv_at hl 1 rfl) ?_
    refine h_icmpEq hx hb 1697 dL_law_1692 (by decide) hkc.symm ?_
    refine lv_iload hx hb dL_law_1697 (lv_at hl 1 rfl) ?_
    refine h_if_ne hx hb 1714 dL_law_1699 (by decide) ⟨by omega, by omega⟩ (fun c_k => ?_) (fun c_k => ?_)
    ·
      refine lv_goto (tgt := 2178) hx hb dL_law_1714 (by decide) ?_
      exact kk _ _ _ ⟨(aDrp z v1).2.2, _, hA, hT, ⟨_, hO⟩, ⟨_, hOd⟩, hG, hok1.mono (by omega), by omega, by omega⟩ _ _ _ hR hL (lv_sub hl [2, 3, 4, 5, 6, 7] rfl)
    ·
      refine lv_aload_n hx hb dL_law_1702 rfl (lv_at hl 5 rfl) ?_
      refine h_iconst hx hb dL_law_1703 ?_
      refine h_lald X hR hO (by omega) (by omega) dL_law_1704 ?_
      have hO0 := hOv (by omega)
      refine W.eq (g2 := F0 m9 1705 ls [.long (lI (c32 ((aDrp z v1).2.1)))]) (congrArg (fun z_ : Int => F0 m9 1705 ls [.long (lI (z_))]) (show (fo (Int.toNat 0) : Int) = c32 ((aDrp z v1).2.1) from (by exact hO0))) ?_
      refine lv_iload hx hb dL_law_1705 (lv_at hl 0 rfl) ?_
      refine W.eq (g2 := F0 m9 1707 ls [.int (iI (c32 z_8)), .long (lI (c32 ((aDrp z v1).2.1)))]) (by rw [c32_i]) ?_
      refine h_i2l hx hb dL_law_1707 (c32_r _) ?_
      refine h_lcmp hx hb dL_law_1708 (c32_j _) (c32_j _) ?_
      refine W.eq (g2 := F0 m9 1709 ls [.int (iI (0))]) (congrArg (fun z_ : Int => F0 m9 1709 ls [.int (iI (z_))]) (show (cmpZ (c32 ((aDrp z v1).2.1)) (c32 z_8) : Int) = 0 from (by rw [hv2]; exact cmpZ_0.mpr rfl))) ?_
      refine h_if_eq hx hb 1714 dL_law_1709 (by decide) (by decide) (fun _ => ?_) (fun z_ => absurd z_ (by decide))
      refine lv_goto (tgt := 2178) hx hb dL_law_1714 (by decide) ?_
      exact kk _ _ _ ⟨(aDrp z v1).2.2, _, hA, hT, ⟨_, hO⟩, ⟨_, hOd⟩, hG, hok1.mono (by omega), by omega, by omega⟩ _ _ _ hR hL (lv_sub hl [2, 3, 4, 5, 6, 7] rfl)

set_option maxHeartbeats 4000000 in
set_option maxRecDepth 100000 in
/-- say -/
theorem lc_say {l : Launch} {G : Gl} {p9 : Program} {e9 : Env} {s9 : State} {m9 : MethodId} {a9 : Array Value} {b9 : List Frame} {meth9 : Method} {c9 : Code} {Q9 : State → Prop} (X : HX G p9 s9 m9 a9 c9 cL_law 10 "SpokenMarksLaw") (hSt : l.stackTraces = false) (w : Wd) (b x m o od L : Nat) (xs : Nat → Int) (hxs : ∀ j, R32 (xs j)) (hSx : va_X b L (fun j => iI (xs j)) s9 (gH G)) (hbB : b < gB G) (i : Nat) (hi : i < 24) (hiL : 6 * i + 6 ≤ L) (hL9 : L ≤ 144) (U V : Nat) (hI : LI G w x m o od i U V) (H : Heap) (locs : List Loc) (ls : Array Slot) (hR : Rp G w H) (hL : LK G locs) (hl : lv_has ls 10 [(0, .ref b), (1, .ref x), (2, .ref m), (3, .ref o), (4, .ref od), (5, .int (iI ((6 * i : Nat) : Int)))])
  (kk : ∀ (w1 : Wd) (U1 V1 : Nat), LI G w1 x m o od (i + 1) U1 V1 → ∀ (H1 : Heap) (locs1 : List Loc) (ls1 : Array Slot), Rp G w1 H1 → LK G locs1 → lv_has ls1 10 [(0, .ref b), (1, .ref x), (2, .ref m), (3, .ref o), (4, .ref od), (5, .int (iI ((6 * i : Nat) : Int)))] → W p9 l e9 (rmk 26 1200048 5501818) s9 m9 a9 b9 meth9 c9 H1 locs1 U1 V1 Q9 (F0 m9 2178 ls1 [])) : W p9 l e9 (rmk 26 1200048 5501818) s9 m9 a9 b9 meth9 c9 H locs U V Q9 (F0 m9 1717 ls []) := by
  have hx := X.1.1
  have hb := X.1.2.1
  obtain ⟨z, k0, hA, hT, ⟨fo, hO⟩, ⟨fd, hOd⟩, hG, hok, hU, hV⟩ := hI
  have hb2 : (2200 : Int) ≤ 3000 + 1000 * (i : Int) := by omega
  have hb9 : (3000 : Int) + 1000 * (i : Int) < 890000 := by omega
  obtain ⟨v1, hv_1⟩ : ∃ v_, v_ = xs (6 * i + 1) := ⟨_, rfl⟩
  have r1 : R32 v1 := by rw [hv_1]; exact hxs _
  have hbl : (zB ((aSay z v1).2.2)).length ≤ (zB z).length := (by unfold aSay; split; first | exact Nat.zero_le _ | exact Nat.le_refl _; exact Nat.le_refl _)
  refine lv_aload_n hx hb dL_law_1717 rfl (lv_at hl 1 rfl) ?_
  refine lv_aload_n hx hb dL_law_1718 rfl (lv_at hl 0 rfl) ?_
  refine lv_iload hx hb dL_law_1719 (lv_at hl 5 rfl) ?_
  refine h_iconst hx hb dL_law_1721 ?_
  refine h_iadd hx hb dL_law_1722 ?_
  refine h_sld X hR hSx hbB (by omega) (by omega) dL_law_1723 ?_
  refine W.eq (g2 := F0 m9 1724 ls [.int (iI (v1)), .ref x]) (congrArg (fun z_ : Int => F0 m9 1724 ls [.int (iI (z_)), .ref x]) (show (xs (((6 * i : Nat) : Int) + 1).toNat : Int) = v1 from (by rw [hv_1, show (((6 * i : Nat) : Int) + 1).toNat = 6 * i + 1 by omega]))) ?_
  refine lv_aload_n hx hb dL_law_1724 rfl (lv_at hl 3 rfl) ?_
  -- call SpokenMarksLaw.say
  refine h_xI (h_xrunTS X hR (ww_say l G w hSt x z _ hA hok hb2 hb9 hG v1 r1 o fo hO) pn_yX0_say q2529 q2530 q119 q2531 ⟨by decide, by decide⟩ hl.1 (Nat.le_of_ble_eq_true rfl) dL_law_1725 ⟨by omega, by omega⟩) hL (fun xq_4 E_5 ce_ w_6 hx__7 H locs hR hL hce_ hcv_ hcl_ => ?_) (fun z_1 w_2 hp_3 H locs hR hL => ?_)
  ·
    exact absurd hx__7 id
  ·
    obtain ⟨⟨hk3, hkc⟩, hA, hKt, hG, hok1, ⟨fo, hO, hOv⟩, hKd⟩ := hp_3
    have hOd := hKd _ _ hOd
    have hT := hT.kt hKt
    refine lv_istore (lv' := [(6, .int (iI (z_1))), (0, .ref b), (1, .ref x), (2, .ref m), (3, .ref o), (4, .ref od), (5, .int (iI (((6 * i : Nat) : Int))))]) hx hb dL_law_1728 hl (by decide) rfl (fun ls hl => ?_)
    refine lv_aload_n hx hb dL_law_1730 rfl (lv_at hl 3 rfl) ?_
    refine lv_aload_n hx hb dL_law_1731 rfl (lv_at hl 1 rfl) ?_
    refine lv_iload hx hb dL_law_1732 (lv_at hl 6 rfl) ?_
    refine h_iconst hx hb dL_law_1734 ?_
    refine h_iadd hx hb dL_law_1735 ?_
    refine h_sld X hR hSx hbB (by omega) (by omega) dL_law_1736 ?_
    refine W.eq (g2 := F0 m9 1737 ls [.int (iI (v1)), .ref m]) (congrArg (fun z_ : Int => F0 m9 1737 ls [.int (iI (z_)), .ref m]) (show (xs (((6 * i : Nat) : Int) + 1).toNat : Int) = v1 from (by rw [hv_1, show (((6 * i : Nat) : Int) + 1).toNat = 6 * i + 1 by omega]))) ?_
    -- call SpokenMarksModel.say
    have hRb := hR
    refine h_kI (h_runV X hR (tt_say l G w_2 m z _ _ hT hok hb9 v1 r1) pn_yX10_say (hT.hx) q3283 q3284 q3285 q161 q3286 ⟨by decide, by decide⟩ hl.1 (Nat.le_of_ble_eq_true rfl) dL_law_1737 ⟨by omega, by omega⟩) hL (fun z_8 w_9 hp_10 H locs hR hL => ?_)
    obtain ⟨hv2, hT2, hF2, hO2⟩ := hp_10
    obtain ⟨w3, hR, hT3, hF3, hG⟩ := hT2.fix hRb hR hG hF2 hO2
    have hA := hA.tw hT hF3
    have hO := hF3 _ _ _ hO (hT.noL hO)
    have hOd := hF3 _ _ _ hOd (hT.noD hOd)
    have hT := hT3
    refine lv_istore (lv' := [(7, .int (iI (z_8))), (6, .int (iI (z_1))), (0, .ref b), (1, .ref x), (2, .ref m), (3, .ref o), (4, .ref od), (5, .int (iI (((6 * i : Nat) : Int))))]) hx hb dL_law_1740 hl (by decide) rfl (fun ls hl => ?_)
    refine lv_aload_n hx hb dL_law_1742 rfl (lv_at hl 4 rfl) ?_
    -- call SpokenMarksModel.thrown
    refine h_kIp (h_runV X hR (tt_thrown l G w3 m (aSay z v1).2.2 ((aSay z v1).1) hT) pn_yX10_thrown (hT.hx) q2713 q2714 q2715 q161 q2716 ⟨by decide, by decide⟩ hl.1 (Nat.le_of_ble_eq_true rfl) dL_law_1743 ⟨by omega, by omega⟩) hL (fun H locs hR hL => ?_)
    refine lv_iload hx hb dL_law_1746 (lv_at hl 1 rfl) ?_
    refine h_icmpEq hx hb 1753 dL_law_1748 (by decide) hkc.symm ?_
    refine lv_iload hx hb dL_law_1753 (lv_at hl 1 rfl) ?_
    refine h_if_ne hx hb 1770 dL_law_1755 (by decide) ⟨by omega, by omega⟩ (fun c_k => ?_) (fun c_k => ?_)
    ·
      refine lv_goto (tgt := 2178) hx hb dL_law_1770 (by decide) ?_
      exact kk _ _ _ ⟨(aSay z v1).2.2, _, hA, hT, ⟨_, hO⟩, ⟨_, hOd⟩, hG, hok1.mono (by omega), by omega, by omega⟩ _ _ _ hR hL (lv_sub hl [2, 3, 4, 5, 6, 7] rfl)
    ·
      refine lv_aload_n hx hb dL_law_1758 rfl (lv_at hl 5 rfl) ?_
      refine h_iconst hx hb dL_law_1759 ?_
      refine h_lald X hR hO (by omega) (by omega) dL_law_1760 ?_
      have hO0 := hOv (by omega)
      refine W.eq (g2 := F0 m9 1761 ls [.long (lI (c32 ((aSay z v1).2.1)))]) (congrArg (fun z_ : Int => F0 m9 1761 ls [.long (lI (z_))]) (show (fo (Int.toNat 0) : Int) = c32 ((aSay z v1).2.1) from (by exact hO0))) ?_
      refine lv_iload hx hb dL_law_1761 (lv_at hl 0 rfl) ?_
      refine W.eq (g2 := F0 m9 1763 ls [.int (iI (c32 z_8)), .long (lI (c32 ((aSay z v1).2.1)))]) (by rw [c32_i]) ?_
      refine h_i2l hx hb dL_law_1763 (c32_r _) ?_
      refine h_lcmp hx hb dL_law_1764 (c32_j _) (c32_j _) ?_
      refine W.eq (g2 := F0 m9 1765 ls [.int (iI (0))]) (congrArg (fun z_ : Int => F0 m9 1765 ls [.int (iI (z_))]) (show (cmpZ (c32 ((aSay z v1).2.1)) (c32 z_8) : Int) = 0 from (by rw [hv2]; exact cmpZ_0.mpr rfl))) ?_
      refine h_if_eq hx hb 1770 dL_law_1765 (by decide) (by decide) (fun _ => ?_) (fun z_ => absurd z_ (by decide))
      refine lv_goto (tgt := 2178) hx hb dL_law_1770 (by decide) ?_
      exact kk _ _ _ ⟨(aSay z v1).2.2, _, hA, hT, ⟨_, hO⟩, ⟨_, hOd⟩, hG, hok1.mono (by omega), by omega, by omega⟩ _ _ _ hR hL (lv_sub hl [2, 3, 4, 5, 6, 7] rfl)

set_option maxHeartbeats 4000000 in
set_option maxRecDepth 100000 in
/-- unsay -/
theorem lc_unsay {l : Launch} {G : Gl} {p9 : Program} {e9 : Env} {s9 : State} {m9 : MethodId} {a9 : Array Value} {b9 : List Frame} {meth9 : Method} {c9 : Code} {Q9 : State → Prop} (X : HX G p9 s9 m9 a9 c9 cL_law 10 "SpokenMarksLaw") (hSt : l.stackTraces = false) (w : Wd) (b x m o od L : Nat) (xs : Nat → Int) (hxs : ∀ j, R32 (xs j)) (hSx : va_X b L (fun j => iI (xs j)) s9 (gH G)) (hbB : b < gB G) (i : Nat) (hi : i < 24) (hiL : 6 * i + 6 ≤ L) (hL9 : L ≤ 144) (U V : Nat) (hI : LI G w x m o od i U V) (H : Heap) (locs : List Loc) (ls : Array Slot) (hR : Rp G w H) (hL : LK G locs) (hl : lv_has ls 10 [(0, .ref b), (1, .ref x), (2, .ref m), (3, .ref o), (4, .ref od), (5, .int (iI ((6 * i : Nat) : Int)))])
  (kk : ∀ (w1 : Wd) (U1 V1 : Nat), LI G w1 x m o od (i + 1) U1 V1 → ∀ (H1 : Heap) (locs1 : List Loc) (ls1 : Array Slot), Rp G w1 H1 → LK G locs1 → lv_has ls1 10 [(0, .ref b), (1, .ref x), (2, .ref m), (3, .ref o), (4, .ref od), (5, .int (iI ((6 * i : Nat) : Int)))] → W p9 l e9 (rmk 26 1200048 5501818) s9 m9 a9 b9 meth9 c9 H1 locs1 U1 V1 Q9 (F0 m9 2178 ls1 [])) : W p9 l e9 (rmk 26 1200048 5501818) s9 m9 a9 b9 meth9 c9 H locs U V Q9 (F0 m9 1773 ls []) := by
  have hx := X.1.1
  have hb := X.1.2.1
  obtain ⟨z, k0, hA, hT, ⟨fo, hO⟩, ⟨fd, hOd⟩, hG, hok, hU, hV⟩ := hI
  have hb2 : (2200 : Int) ≤ 3000 + 1000 * (i : Int) := by omega
  have hb9 : (3000 : Int) + 1000 * (i : Int) < 890000 := by omega
  obtain ⟨v1, hv_1⟩ : ∃ v_, v_ = xs (6 * i + 1) := ⟨_, rfl⟩
  have r1 : R32 v1 := by rw [hv_1]; exact hxs _
  have hbl : (zB ((aUns z v1).2.2)).length ≤ (zB z).length := Nat.le_refl _
  refine lv_aload_n hx hb dL_law_1773 rfl (lv_at hl 1 rfl) ?_
  refine lv_aload_n hx hb dL_law_1774 rfl (lv_at hl 0 rfl) ?_
  refine lv_iload hx hb dL_law_1775 (lv_at hl 5 rfl) ?_
  refine h_iconst hx hb dL_law_1777 ?_
  refine h_iadd hx hb dL_law_1778 ?_
  refine h_sld X hR hSx hbB (by omega) (by omega) dL_law_1779 ?_
  refine W.eq (g2 := F0 m9 1780 ls [.int (iI (v1)), .ref x]) (congrArg (fun z_ : Int => F0 m9 1780 ls [.int (iI (z_)), .ref x]) (show (xs (((6 * i : Nat) : Int) + 1).toNat : Int) = v1 from (by rw [hv_1, show (((6 * i : Nat) : Int) + 1).toNat = 6 * i + 1 by omega]))) ?_
  refine lv_aload_n hx hb dL_law_1780 rfl (lv_at hl 3 rfl) ?_
  -- call SpokenMarksLaw.unsay
  refine h_xI (h_xrunTS X hR (ww_unsay l G w hSt x z _ hA hok hb2 hb9 hG v1 r1 o fo hO) pn_yX0_unsay q2547 q2548 q119 q2549 ⟨by decide, by decide⟩ hl.1 (Nat.le_of_ble_eq_true rfl) dL_law_1781 ⟨by omega, by omega⟩) hL (fun xq_4 E_5 ce_ w_6 hx__7 H locs hR hL hce_ hcv_ hcl_ => ?_) (fun z_1 w_2 hp_3 H locs hR hL => ?_)
  ·
    exact absurd hx__7 id
  ·
    obtain ⟨⟨hk3, hkc⟩, hA, hKt, hG, hok1, ⟨fo, hO, hOv⟩, hKd⟩ := hp_3
    have hOd := hKd _ _ hOd
    have hT := hT.kt hKt
    refine lv_istore (lv' := [(6, .int (iI (z_1))), (0, .ref b), (1, .ref x), (2, .ref m), (3, .ref o), (4, .ref od), (5, .int (iI (((6 * i : Nat) : Int))))]) hx hb dL_law_1784 hl (by decide) rfl (fun ls hl => ?_)
    refine lv_aload_n hx hb dL_law_1786 rfl (lv_at hl 3 rfl) ?_
    refine lv_aload_n hx hb dL_law_1787 rfl (lv_at hl 1 rfl) ?_
    refine lv_iload hx hb dL_law_1788 (lv_at hl 6 rfl) ?_
    refine h_iconst hx hb dL_law_1790 ?_
    refine h_iadd hx hb dL_law_1791 ?_
    refine h_sld X hR hSx hbB (by omega) (by omega) dL_law_1792 ?_
    refine W.eq (g2 := F0 m9 1793 ls [.int (iI (v1)), .ref m]) (congrArg (fun z_ : Int => F0 m9 1793 ls [.int (iI (z_)), .ref m]) (show (xs (((6 * i : Nat) : Int) + 1).toNat : Int) = v1 from (by rw [hv_1, show (((6 * i : Nat) : Int) + 1).toNat = 6 * i + 1 by omega]))) ?_
    -- call SpokenMarksModel.unsay
    have hRb := hR
    refine h_kI (h_runV X hR (tt_unsay l G w_2 m z _ _ hT hok hb9 v1 r1) pn_yX10_unsay (hT.hx) q3291 q3292 q3293 q161 q3294 ⟨by decide, by decide⟩ hl.1 (Nat.le_of_ble_eq_true rfl) dL_law_1793 ⟨by omega, by omega⟩) hL (fun z_8 w_9 hp_10 H locs hR hL => ?_)
    obtain ⟨hv2, hT2, hF2, hO2⟩ := hp_10
    obtain ⟨w3, hR, hT3, hF3, hG⟩ := hT2.fix hRb hR hG hF2 hO2
    have hA := hA.tw hT hF3
    have hO := hF3 _ _ _ hO (hT.noL hO)
    have hOd := hF3 _ _ _ hOd (hT.noD hOd)
    have hT := hT3
    refine lv_istore (lv' := [(7, .int (iI (z_8))), (6, .int (iI (z_1))), (0, .ref b), (1, .ref x), (2, .ref m), (3, .ref o), (4, .ref od), (5, .int (iI (((6 * i : Nat) : Int))))]) hx hb dL_law_1796 hl (by decide) rfl (fun ls hl => ?_)
    refine lv_aload_n hx hb dL_law_1798 rfl (lv_at hl 4 rfl) ?_
    -- call SpokenMarksModel.thrown
    refine h_kIp (h_runV X hR (tt_thrown l G w3 m (aUns z v1).2.2 ((aUns z v1).1) hT) pn_yX10_thrown (hT.hx) q2713 q2714 q2715 q161 q2716 ⟨by decide, by decide⟩ hl.1 (Nat.le_of_ble_eq_true rfl) dL_law_1799 ⟨by omega, by omega⟩) hL (fun H locs hR hL => ?_)
    refine lv_iload hx hb dL_law_1802 (lv_at hl 1 rfl) ?_
    refine h_icmpEq hx hb 1809 dL_law_1804 (by decide) hkc.symm ?_
    refine lv_iload hx hb dL_law_1809 (lv_at hl 1 rfl) ?_
    refine h_if_ne hx hb 1826 dL_law_1811 (by decide) ⟨by omega, by omega⟩ (fun c_k => ?_) (fun c_k => ?_)
    ·
      refine lv_goto (tgt := 2178) hx hb dL_law_1826 (by decide) ?_
      exact kk _ _ _ ⟨(aUns z v1).2.2, _, hA, hT, ⟨_, hO⟩, ⟨_, hOd⟩, hG, hok1.mono (by omega), by omega, by omega⟩ _ _ _ hR hL (lv_sub hl [2, 3, 4, 5, 6, 7] rfl)
    ·
      refine lv_aload_n hx hb dL_law_1814 rfl (lv_at hl 5 rfl) ?_
      refine h_iconst hx hb dL_law_1815 ?_
      refine h_lald X hR hO (by omega) (by omega) dL_law_1816 ?_
      have hO0 := hOv (by omega)
      refine W.eq (g2 := F0 m9 1817 ls [.long (lI (c32 ((aUns z v1).2.1)))]) (congrArg (fun z_ : Int => F0 m9 1817 ls [.long (lI (z_))]) (show (fo (Int.toNat 0) : Int) = c32 ((aUns z v1).2.1) from (by exact hO0))) ?_
      refine lv_iload hx hb dL_law_1817 (lv_at hl 0 rfl) ?_
      refine W.eq (g2 := F0 m9 1819 ls [.int (iI (c32 z_8)), .long (lI (c32 ((aUns z v1).2.1)))]) (by rw [c32_i]) ?_
      refine h_i2l hx hb dL_law_1819 (c32_r _) ?_
      refine h_lcmp hx hb dL_law_1820 (c32_j _) (c32_j _) ?_
      refine W.eq (g2 := F0 m9 1821 ls [.int (iI (0))]) (congrArg (fun z_ : Int => F0 m9 1821 ls [.int (iI (z_))]) (show (cmpZ (c32 ((aUns z v1).2.1)) (c32 z_8) : Int) = 0 from (by rw [hv2]; exact cmpZ_0.mpr rfl))) ?_
      refine h_if_eq hx hb 1826 dL_law_1821 (by decide) (by decide) (fun _ => ?_) (fun z_ => absurd z_ (by decide))
      refine lv_goto (tgt := 2178) hx hb dL_law_1826 (by decide) ?_
      exact kk _ _ _ ⟨(aUns z v1).2.2, _, hA, hT, ⟨_, hO⟩, ⟨_, hOd⟩, hG, hok1.mono (by omega), by omega, by omega⟩ _ _ _ hR hL (lv_sub hl [2, 3, 4, 5, 6, 7] rfl)

set_option maxHeartbeats 4000000 in
set_option maxRecDepth 100000 in
/-- setWidth -/
theorem lc_setWidth {l : Launch} {G : Gl} {p9 : Program} {e9 : Env} {s9 : State} {m9 : MethodId} {a9 : Array Value} {b9 : List Frame} {meth9 : Method} {c9 : Code} {Q9 : State → Prop} (X : HX G p9 s9 m9 a9 c9 cL_law 10 "SpokenMarksLaw") (hSt : l.stackTraces = false) (w : Wd) (b x m o od L : Nat) (xs : Nat → Int) (hxs : ∀ j, R32 (xs j)) (hSx : va_X b L (fun j => iI (xs j)) s9 (gH G)) (hbB : b < gB G) (i : Nat) (hi : i < 24) (hiL : 6 * i + 6 ≤ L) (hL9 : L ≤ 144) (U V : Nat) (hI : LI G w x m o od i U V) (H : Heap) (locs : List Loc) (ls : Array Slot) (hR : Rp G w H) (hL : LK G locs) (hl : lv_has ls 10 [(0, .ref b), (1, .ref x), (2, .ref m), (3, .ref o), (4, .ref od), (5, .int (iI ((6 * i : Nat) : Int)))])
  (kk : ∀ (w1 : Wd) (U1 V1 : Nat), LI G w1 x m o od (i + 1) U1 V1 → ∀ (H1 : Heap) (locs1 : List Loc) (ls1 : Array Slot), Rp G w1 H1 → LK G locs1 → lv_has ls1 10 [(0, .ref b), (1, .ref x), (2, .ref m), (3, .ref o), (4, .ref od), (5, .int (iI ((6 * i : Nat) : Int)))] → W p9 l e9 (rmk 26 1200048 5501818) s9 m9 a9 b9 meth9 c9 H1 locs1 U1 V1 Q9 (F0 m9 2178 ls1 [])) : W p9 l e9 (rmk 26 1200048 5501818) s9 m9 a9 b9 meth9 c9 H locs U V Q9 (F0 m9 1829 ls []) := by
  have hx := X.1.1
  have hb := X.1.2.1
  obtain ⟨z, k0, hA, hT, ⟨fo, hO⟩, ⟨fd, hOd⟩, hG, hok, hU, hV⟩ := hI
  have hb2 : (2200 : Int) ≤ 3000 + 1000 * (i : Int) := by omega
  have hb9 : (3000 : Int) + 1000 * (i : Int) < 890000 := by omega
  obtain ⟨v1, hv_1⟩ : ∃ v_, v_ = xs (6 * i + 1) := ⟨_, rfl⟩
  have r1 : R32 v1 := by rw [hv_1]; exact hxs _
  obtain ⟨v2, hv_2⟩ : ∃ v_, v_ = xs (6 * i + 2) := ⟨_, rfl⟩
  have r2 : R32 v2 := by rw [hv_2]; exact hxs _
  have hbl : (zB ((aWid z v1 v2).2.2)).length ≤ (zB z).length := Nat.le_refl _
  refine lv_aload_n hx hb dL_law_1829 rfl (lv_at hl 1 rfl) ?_
  refine lv_aload_n hx hb dL_law_1830 rfl (lv_at hl 0 rfl) ?_
  refine lv_iload hx hb dL_law_1831 (lv_at hl 5 rfl) ?_
  refine h_iconst hx hb dL_law_1833 ?_
  refine h_iadd hx hb dL_law_1834 ?_
  refine h_sld X hR hSx hbB (by omega) (by omega) dL_law_1835 ?_
  refine W.eq (g2 := F0 m9 1836 ls [.int (iI (v1)), .ref x]) (congrArg (fun z_ : Int => F0 m9 1836 ls [.int (iI (z_)), .ref x]) (show (xs (((6 * i : Nat) : Int) + 1).toNat : Int) = v1 from (by rw [hv_1, show (((6 * i : Nat) : Int) + 1).toNat = 6 * i + 1 by omega]))) ?_
  refine lv_aload_n hx hb dL_law_1836 rfl (lv_at hl 0 rfl) ?_
  refine lv_iload hx hb dL_law_1837 (lv_at hl 5 rfl) ?_
  refine h_iconst hx hb dL_law_1839 ?_
  refine h_iadd hx hb dL_law_1840 ?_
  refine h_sld X hR hSx hbB (by omega) (by omega) dL_law_1841 ?_
  refine W.eq (g2 := F0 m9 1842 ls [.int (iI (v2)), .int (iI (v1)), .ref x]) (congrArg (fun z_ : Int => F0 m9 1842 ls [.int (iI (z_)), .int (iI (v1)), .ref x]) (show (xs (((6 * i : Nat) : Int) + 2).toNat : Int) = v2 from (by rw [hv_2, show (((6 * i : Nat) : Int) + 2).toNat = 6 * i + 2 by omega]))) ?_
  refine lv_aload_n hx hb dL_law_1842 rfl (lv_at hl 3 rfl) ?_
  -- call SpokenMarksLaw.setWidth
  refine h_xI (h_xrunTS X hR (ww_setWidth l G w hSt x z _ hA hok hb2 hb9 hG v1 v2 r1 r2 o fo hO) pn_yX0_setWidth q2564 q2565 q119 q2566 ⟨by decide, by decide⟩ hl.1 (Nat.le_of_ble_eq_true rfl) dL_law_1843 ⟨by omega, by omega⟩) hL (fun xq_4 E_5 ce_ w_6 hx__7 H locs hR hL hce_ hcv_ hcl_ => ?_) (fun z_1 w_2 hp_3 H locs hR hL => ?_)
  ·
    exact absurd hx__7 id
  ·
    obtain ⟨⟨hk3, hkc⟩, hA, hKt, hG, hok1, ⟨fo, hO, hOv⟩, hKd⟩ := hp_3
    have hOd := hKd _ _ hOd
    have hT := hT.kt hKt
    refine lv_istore (lv' := [(6, .int (iI (z_1))), (0, .ref b), (1, .ref x), (2, .ref m), (3, .ref o), (4, .ref od), (5, .int (iI (((6 * i : Nat) : Int))))]) hx hb dL_law_1846 hl (by decide) rfl (fun ls hl => ?_)
    refine lv_aload_n hx hb dL_law_1848 rfl (lv_at hl 3 rfl) ?_
    refine lv_aload_n hx hb dL_law_1849 rfl (lv_at hl 1 rfl) ?_
    refine lv_iload hx hb dL_law_1850 (lv_at hl 6 rfl) ?_
    refine h_iconst hx hb dL_law_1852 ?_
    refine h_iadd hx hb dL_law_1853 ?_
    refine h_sld X hR hSx hbB (by omega) (by omega) dL_law_1854 ?_
    refine W.eq (g2 := F0 m9 1855 ls [.int (iI (v1)), .ref m]) (congrArg (fun z_ : Int => F0 m9 1855 ls [.int (iI (z_)), .ref m]) (show (xs (((6 * i : Nat) : Int) + 1).toNat : Int) = v1 from (by rw [hv_1, show (((6 * i : Nat) : Int) + 1).toNat = 6 * i + 1 by omega]))) ?_
    refine lv_aload_n hx hb dL_law_1855 rfl (lv_at hl 1 rfl) ?_
    refine lv_iload hx hb dL_law_1856 (lv_at hl 6 rfl) ?_
    refine h_iconst hx hb dL_law_1858 ?_
    refine h_iadd hx hb dL_law_1859 ?_
    refine h_sld X hR hSx hbB (by omega) (by omega) dL_law_1860 ?_
    refine W.eq (g2 := F0 m9 1861 ls [.int (iI (v2)), .int (iI (v1)), .ref m]) (congrArg (fun z_ : Int => F0 m9 1861 ls [.int (iI (z_)), .int (iI (v1)), .ref m]) (show (xs (((6 * i : Nat) : Int) + 2).toNat : Int) = v2 from (by rw [hv_2, show (((6 * i : Nat) : Int) + 2).toNat = 6 * i + 2 by omega]))) ?_
    -- call SpokenMarksModel.setWidth
    have hRb := hR
    refine h_kI (h_runV X hR (tt_setWidth l G w_2 m z _ _ hT hok hb9 v1 v2 r1 r2) pn_yX10_setWidth (hT.hx) q3295 q3296 q3297 q161 q3298 ⟨by decide, by decide⟩ hl.1 (Nat.le_of_ble_eq_true rfl) dL_law_1861 ⟨by omega, by omega⟩) hL (fun z_8 w_9 hp_10 H locs hR hL => ?_)
    obtain ⟨hv2, hT2, hF2, hO2⟩ := hp_10
    obtain ⟨w3, hR, hT3, hF3, hG⟩ := hT2.fix hRb hR hG hF2 hO2
    have hA := hA.tw hT hF3
    have hO := hF3 _ _ _ hO (hT.noL hO)
    have hOd := hF3 _ _ _ hOd (hT.noD hOd)
    have hT := hT3
    refine lv_istore (lv' := [(7, .int (iI (z_8))), (6, .int (iI (z_1))), (0, .ref b), (1, .ref x), (2, .ref m), (3, .ref o), (4, .ref od), (5, .int (iI (((6 * i : Nat) : Int))))]) hx hb dL_law_1864 hl (by decide) rfl (fun ls hl => ?_)
    refine lv_aload_n hx hb dL_law_1866 rfl (lv_at hl 4 rfl) ?_
    -- call SpokenMarksModel.thrown
    refine h_kIp (h_runV X hR (tt_thrown l G w3 m (aWid z v1 v2).2.2 ((aWid z v1 v2).1) hT) pn_yX10_thrown (hT.hx) q2713 q2714 q2715 q161 q2716 ⟨by decide, by decide⟩ hl.1 (Nat.le_of_ble_eq_true rfl) dL_law_1867 ⟨by omega, by omega⟩) hL (fun H locs hR hL => ?_)
    refine lv_iload hx hb dL_law_1870 (lv_at hl 1 rfl) ?_
    refine h_icmpEq hx hb 1877 dL_law_1872 (by decide) hkc.symm ?_
    refine lv_iload hx hb dL_law_1877 (lv_at hl 1 rfl) ?_
    refine h_if_ne hx hb 1894 dL_law_1879 (by decide) ⟨by omega, by omega⟩ (fun c_k => ?_) (fun c_k => ?_)
    ·
      refine lv_goto (tgt := 2178) hx hb dL_law_1894 (by decide) ?_
      exact kk _ _ _ ⟨(aWid z v1 v2).2.2, _, hA, hT, ⟨_, hO⟩, ⟨_, hOd⟩, hG, hok1.mono (by omega), by omega, by omega⟩ _ _ _ hR hL (lv_sub hl [2, 3, 4, 5, 6, 7] rfl)
    ·
      refine lv_aload_n hx hb dL_law_1882 rfl (lv_at hl 5 rfl) ?_
      refine h_iconst hx hb dL_law_1883 ?_
      refine h_lald X hR hO (by omega) (by omega) dL_law_1884 ?_
      have hO0 := hOv (by omega)
      refine W.eq (g2 := F0 m9 1885 ls [.long (lI (c32 ((aWid z v1 v2).2.1)))]) (congrArg (fun z_ : Int => F0 m9 1885 ls [.long (lI (z_))]) (show (fo (Int.toNat 0) : Int) = c32 ((aWid z v1 v2).2.1) from (by exact hO0))) ?_
      refine lv_iload hx hb dL_law_1885 (lv_at hl 0 rfl) ?_
      refine W.eq (g2 := F0 m9 1887 ls [.int (iI (c32 z_8)), .long (lI (c32 ((aWid z v1 v2).2.1)))]) (by rw [c32_i]) ?_
      refine h_i2l hx hb dL_law_1887 (c32_r _) ?_
      refine h_lcmp hx hb dL_law_1888 (c32_j _) (c32_j _) ?_
      refine W.eq (g2 := F0 m9 1889 ls [.int (iI (0))]) (congrArg (fun z_ : Int => F0 m9 1889 ls [.int (iI (z_))]) (show (cmpZ (c32 ((aWid z v1 v2).2.1)) (c32 z_8) : Int) = 0 from (by rw [hv2]; exact cmpZ_0.mpr rfl))) ?_
      refine h_if_eq hx hb 1894 dL_law_1889 (by decide) (by decide) (fun _ => ?_) (fun z_ => absurd z_ (by decide))
      refine lv_goto (tgt := 2178) hx hb dL_law_1894 (by decide) ?_
      exact kk _ _ _ ⟨(aWid z v1 v2).2.2, _, hA, hT, ⟨_, hO⟩, ⟨_, hOd⟩, hG, hok1.mono (by omega), by omega, by omega⟩ _ _ _ hR hL (lv_sub hl [2, 3, 4, 5, 6, 7] rfl)

set_option maxHeartbeats 4000000 in
set_option maxRecDepth 100000 in
/-- setBound -/
theorem lc_setBound {l : Launch} {G : Gl} {p9 : Program} {e9 : Env} {s9 : State} {m9 : MethodId} {a9 : Array Value} {b9 : List Frame} {meth9 : Method} {c9 : Code} {Q9 : State → Prop} (X : HX G p9 s9 m9 a9 c9 cL_law 10 "SpokenMarksLaw") (hSt : l.stackTraces = false) (w : Wd) (b x m o od L : Nat) (xs : Nat → Int) (hxs : ∀ j, R32 (xs j)) (hSx : va_X b L (fun j => iI (xs j)) s9 (gH G)) (hbB : b < gB G) (i : Nat) (hi : i < 24) (hiL : 6 * i + 6 ≤ L) (hL9 : L ≤ 144) (U V : Nat) (hI : LI G w x m o od i U V) (H : Heap) (locs : List Loc) (ls : Array Slot) (hR : Rp G w H) (hL : LK G locs) (hl : lv_has ls 10 [(0, .ref b), (1, .ref x), (2, .ref m), (3, .ref o), (4, .ref od), (5, .int (iI ((6 * i : Nat) : Int)))])
  (kk : ∀ (w1 : Wd) (U1 V1 : Nat), LI G w1 x m o od (i + 1) U1 V1 → ∀ (H1 : Heap) (locs1 : List Loc) (ls1 : Array Slot), Rp G w1 H1 → LK G locs1 → lv_has ls1 10 [(0, .ref b), (1, .ref x), (2, .ref m), (3, .ref o), (4, .ref od), (5, .int (iI ((6 * i : Nat) : Int)))] → W p9 l e9 (rmk 26 1200048 5501818) s9 m9 a9 b9 meth9 c9 H1 locs1 U1 V1 Q9 (F0 m9 2178 ls1 [])) : W p9 l e9 (rmk 26 1200048 5501818) s9 m9 a9 b9 meth9 c9 H locs U V Q9 (F0 m9 1897 ls []) := by
  have hx := X.1.1
  have hb := X.1.2.1
  obtain ⟨z, k0, hA, hT, ⟨fo, hO⟩, ⟨fd, hOd⟩, hG, hok, hU, hV⟩ := hI
  have hb2 : (2200 : Int) ≤ 3000 + 1000 * (i : Int) := by omega
  have hb9 : (3000 : Int) + 1000 * (i : Int) < 890000 := by omega
  obtain ⟨v1, hv_1⟩ : ∃ v_, v_ = xs (6 * i + 1) := ⟨_, rfl⟩
  have r1 : R32 v1 := by rw [hv_1]; exact hxs _
  obtain ⟨v2, hv_2⟩ : ∃ v_, v_ = xs (6 * i + 2) := ⟨_, rfl⟩
  have r2 : R32 v2 := by rw [hv_2]; exact hxs _
  have hbl : (zB ((aBnd z v1 v2).2.2)).length ≤ (zB z).length := Nat.le_refl _
  refine lv_aload_n hx hb dL_law_1897 rfl (lv_at hl 1 rfl) ?_
  refine lv_aload_n hx hb dL_law_1898 rfl (lv_at hl 0 rfl) ?_
  refine lv_iload hx hb dL_law_1899 (lv_at hl 5 rfl) ?_
  refine h_iconst hx hb dL_law_1901 ?_
  refine h_iadd hx hb dL_law_1902 ?_
  refine h_sld X hR hSx hbB (by omega) (by omega) dL_law_1903 ?_
  refine W.eq (g2 := F0 m9 1904 ls [.int (iI (v1)), .ref x]) (congrArg (fun z_ : Int => F0 m9 1904 ls [.int (iI (z_)), .ref x]) (show (xs (((6 * i : Nat) : Int) + 1).toNat : Int) = v1 from (by rw [hv_1, show (((6 * i : Nat) : Int) + 1).toNat = 6 * i + 1 by omega]))) ?_
  refine lv_aload_n hx hb dL_law_1904 rfl (lv_at hl 0 rfl) ?_
  refine lv_iload hx hb dL_law_1905 (lv_at hl 5 rfl) ?_
  refine h_iconst hx hb dL_law_1907 ?_
  refine h_iadd hx hb dL_law_1908 ?_
  refine h_sld X hR hSx hbB (by omega) (by omega) dL_law_1909 ?_
  refine W.eq (g2 := F0 m9 1910 ls [.int (iI (v2)), .int (iI (v1)), .ref x]) (congrArg (fun z_ : Int => F0 m9 1910 ls [.int (iI (z_)), .int (iI (v1)), .ref x]) (show (xs (((6 * i : Nat) : Int) + 2).toNat : Int) = v2 from (by rw [hv_2, show (((6 * i : Nat) : Int) + 2).toNat = 6 * i + 2 by omega]))) ?_
  refine lv_aload_n hx hb dL_law_1910 rfl (lv_at hl 3 rfl) ?_
  -- call SpokenMarksLaw.setBound
  refine h_xI (h_xrunTS X hR (ww_setBound l G w hSt x z _ hA hok hb2 hb9 hG v1 v2 r1 r2 o fo hO) pn_yX0_setBound q2584 q2585 q119 q2586 ⟨by decide, by decide⟩ hl.1 (Nat.le_of_ble_eq_true rfl) dL_law_1911 ⟨by omega, by omega⟩) hL (fun xq_4 E_5 ce_ w_6 hx__7 H locs hR hL hce_ hcv_ hcl_ => ?_) (fun z_1 w_2 hp_3 H locs hR hL => ?_)
  ·
    exact absurd hx__7 id
  ·
    obtain ⟨⟨hk3, hkc⟩, hA, hKt, hG, hok1, ⟨fo, hO, hOv⟩, hKd⟩ := hp_3
    have hOd := hKd _ _ hOd
    have hT := hT.kt hKt
    refine lv_istore (lv' := [(6, .int (iI (z_1))), (0, .ref b), (1, .ref x), (2, .ref m), (3, .ref o), (4, .ref od), (5, .int (iI (((6 * i : Nat) : Int))))]) hx hb dL_law_1914 hl (by decide) rfl (fun ls hl => ?_)
    refine lv_aload_n hx hb dL_law_1916 rfl (lv_at hl 3 rfl) ?_
    refine lv_aload_n hx hb dL_law_1917 rfl (lv_at hl 1 rfl) ?_
    refine lv_iload hx hb dL_law_1918 (lv_at hl 6 rfl) ?_
    refine h_iconst hx hb dL_law_1920 ?_
    refine h_iadd hx hb dL_law_1921 ?_
    refine h_sld X hR hSx hbB (by omega) (by omega) dL_law_1922 ?_
    refine W.eq (g2 := F0 m9 1923 ls [.int (iI (v1)), .ref m]) (congrArg (fun z_ : Int => F0 m9 1923 ls [.int (iI (z_)), .ref m]) (show (xs (((6 * i : Nat) : Int) + 1).toNat : Int) = v1 from (by rw [hv_1, show (((6 * i : Nat) : Int) + 1).toNat = 6 * i + 1 by omega]))) ?_
    refine lv_aload_n hx hb dL_law_1923 rfl (lv_at hl 1 rfl) ?_
    refine lv_iload hx hb dL_law_1924 (lv_at hl 6 rfl) ?_
    refine h_iconst hx hb dL_law_1926 ?_
    refine h_iadd hx hb dL_law_1927 ?_
    refine h_sld X hR hSx hbB (by omega) (by omega) dL_law_1928 ?_
    refine W.eq (g2 := F0 m9 1929 ls [.int (iI (v2)), .int (iI (v1)), .ref m]) (congrArg (fun z_ : Int => F0 m9 1929 ls [.int (iI (z_)), .int (iI (v1)), .ref m]) (show (xs (((6 * i : Nat) : Int) + 2).toNat : Int) = v2 from (by rw [hv_2, show (((6 * i : Nat) : Int) + 2).toNat = 6 * i + 2 by omega]))) ?_
    -- call SpokenMarksModel.setBound
    have hRb := hR
    refine h_kI (h_runV X hR (tt_setBound l G w_2 m z _ _ hT hok hb9 v1 v2 r1 r2) pn_yX10_setBound (hT.hx) q3299 q3300 q3301 q161 q3302 ⟨by decide, by decide⟩ hl.1 (Nat.le_of_ble_eq_true rfl) dL_law_1929 ⟨by omega, by omega⟩) hL (fun z_8 w_9 hp_10 H locs hR hL => ?_)
    obtain ⟨hv2, hT2, hF2, hO2⟩ := hp_10
    obtain ⟨w3, hR, hT3, hF3, hG⟩ := hT2.fix hRb hR hG hF2 hO2
    have hA := hA.tw hT hF3
    have hO := hF3 _ _ _ hO (hT.noL hO)
    have hOd := hF3 _ _ _ hOd (hT.noD hOd)
    have hT := hT3
    refine lv_istore (lv' := [(7, .int (iI (z_8))), (6, .int (iI (z_1))), (0, .ref b), (1, .ref x), (2, .ref m), (3, .ref o), (4, .ref od), (5, .int (iI (((6 * i : Nat) : Int))))]) hx hb dL_law_1932 hl (by decide) rfl (fun ls hl => ?_)
    refine lv_aload_n hx hb dL_law_1934 rfl (lv_at hl 4 rfl) ?_
    -- call SpokenMarksModel.thrown
    refine h_kIp (h_runV X hR (tt_thrown l G w3 m (aBnd z v1 v2).2.2 ((aBnd z v1 v2).1) hT) pn_yX10_thrown (hT.hx) q2713 q2714 q2715 q161 q2716 ⟨by decide, by decide⟩ hl.1 (Nat.le_of_ble_eq_true rfl) dL_law_1935 ⟨by omega, by omega⟩) hL (fun H locs hR hL => ?_)
    refine lv_iload hx hb dL_law_1938 (lv_at hl 1 rfl) ?_
    refine h_icmpEq hx hb 1945 dL_law_1940 (by decide) hkc.symm ?_
    refine lv_iload hx hb dL_law_1945 (lv_at hl 1 rfl) ?_
    refine h_if_ne hx hb 1962 dL_law_1947 (by decide) ⟨by omega, by omega⟩ (fun c_k => ?_) (fun c_k => ?_)
    ·
      refine lv_goto (tgt := 2178) hx hb dL_law_1962 (by decide) ?_
      exact kk _ _ _ ⟨(aBnd z v1 v2).2.2, _, hA, hT, ⟨_, hO⟩, ⟨_, hOd⟩, hG, hok1.mono (by omega), by omega, by omega⟩ _ _ _ hR hL (lv_sub hl [2, 3, 4, 5, 6, 7] rfl)
    ·
      refine lv_aload_n hx hb dL_law_1950 rfl (lv_at hl 5 rfl) ?_
      refine h_iconst hx hb dL_law_1951 ?_
      refine h_lald X hR hO (by omega) (by omega) dL_law_1952 ?_
      have hO0 := hOv (by omega)
      refine W.eq (g2 := F0 m9 1953 ls [.long (lI (c32 ((aBnd z v1 v2).2.1)))]) (congrArg (fun z_ : Int => F0 m9 1953 ls [.long (lI (z_))]) (show (fo (Int.toNat 0) : Int) = c32 ((aBnd z v1 v2).2.1) from (by exact hO0))) ?_
      refine lv_iload hx hb dL_law_1953 (lv_at hl 0 rfl) ?_
      refine W.eq (g2 := F0 m9 1955 ls [.int (iI (c32 z_8)), .long (lI (c32 ((aBnd z v1 v2).2.1)))]) (by rw [c32_i]) ?_
      refine h_i2l hx hb dL_law_1955 (c32_r _) ?_
      refine h_lcmp hx hb dL_law_1956 (c32_j _) (c32_j _) ?_
      refine W.eq (g2 := F0 m9 1957 ls [.int (iI (0))]) (congrArg (fun z_ : Int => F0 m9 1957 ls [.int (iI (z_))]) (show (cmpZ (c32 ((aBnd z v1 v2).2.1)) (c32 z_8) : Int) = 0 from (by rw [hv2]; exact cmpZ_0.mpr rfl))) ?_
      refine h_if_eq hx hb 1962 dL_law_1957 (by decide) (by decide) (fun _ => ?_) (fun z_ => absurd z_ (by decide))
      refine lv_goto (tgt := 2178) hx hb dL_law_1962 (by decide) ?_
      exact kk _ _ _ ⟨(aBnd z v1 v2).2.2, _, hA, hT, ⟨_, hO⟩, ⟨_, hOd⟩, hG, hok1.mono (by omega), by omega, by omega⟩ _ _ _ hR hL (lv_sub hl [2, 3, 4, 5, 6, 7] rfl)
