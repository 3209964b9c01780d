/-! the law: its cases (6) -/
set_option maxRecDepth 100000

set_option maxHeartbeats 4000000 in
set_option maxRecDepth 100000 in
/-- balance -/
theorem lc_balance {l : Launch} {G : Gl} {p9 : Program} {e9 : Env} {s9 : State} {m9 : MethodId} {a9 : Array Value} {b9 : List Frame} {meth9 : Method} {c9 : Code} {Q9 : State → Prop} (X : HX G p9 s9 m9 a9 c9 cL_law 10 "SpokenMarksLaw") (hSt : l.stackTraces = false) (w : Wd) (b x m o od L : Nat) (xs : Nat → Int) (hxs : ∀ j, R32 (xs j)) (hSx : va_X b L (fun j => iI (xs j)) s9 (gH G)) (hbB : b < gB G) (i : Nat) (hi : i < 24) (hiL : 6 * i + 6 ≤ L) (hL9 : L ≤ 144) (U V : Nat) (hI : LI G w x m o od i U V) (H : Heap) (locs : List Loc) (ls : Array Slot) (hR : Rp G w H) (hL : LK G locs) (hl : lv_has ls 10 [(0, .ref b), (1, .ref x), (2, .ref m), (3, .ref o), (4, .ref od), (5, .int (iI ((6 * i : Nat) : Int)))])
  (kk : ∀ (w1 : Wd) (U1 V1 : Nat), LI G w1 x m o od (i + 1) U1 V1 → ∀ (H1 : Heap) (locs1 : List Loc) (ls1 : Array Slot), Rp G w1 H1 → LK G locs1 → lv_has ls1 10 [(0, .ref b), (1, .ref x), (2, .ref m), (3, .ref o), (4, .ref od), (5, .int (iI ((6 * i : Nat) : Int)))] → W p9 l e9 (rmk 26 1200048 5501818) s9 m9 a9 b9 meth9 c9 H1 locs1 U1 V1 Q9 (F0 m9 2178 ls1 [])) : W p9 l e9 (rmk 26 1200048 5501818) s9 m9 a9 b9 meth9 c9 H locs U V Q9 (F0 m9 1965 ls []) := by
  have hx := X.1.1
  have hb := X.1.2.1
  obtain ⟨z, k0, hA, hT, ⟨fo, hO⟩, ⟨fd, hOd⟩, hG, hok, hU, hV⟩ := hI
  have hb2 : (2200 : Int) ≤ 3000 + 1000 * (i : Int) := by omega
  have hb9 : (3000 : Int) + 1000 * (i : Int) < 890000 := by omega
  have hbl : (zB ((aBal z).2.2)).length ≤ (zB z).length := Nat.le_refl _
  refine lv_aload_n hx hb dL_law_1965 rfl (lv_at hl 1 rfl) ?_
  -- call SpokenMarks.balance
  refine h_kI (h_runV X hR (cc_balance l G w hSt x z _ hA hok hb2 hb9 hG ) pn_yX1_balance (hA.hx) q1773 q1774 q1775 q120 q1776 ⟨by decide, by decide⟩ hl.1 (Nat.le_of_ble_eq_true rfl) dL_law_1966 ⟨by omega, by omega⟩) hL (fun z_1 w_2 hp_3 H locs hR hL => ?_)
  obtain ⟨-, hv1, hA, hKp, hG, hok1⟩ := hp_3
  have hT := hT.kt hKp.t
  have hO := hKp.2.2.1 _ _ _ hO
  have hOd := hKp.2.2.2 _ _ _ hOd
  refine lv_aload_n hx hb dL_law_1969 rfl (lv_at hl 2 rfl) ?_
  -- call SpokenMarksModel.balance
  have hRb := hR
  refine h_kI (h_runV X hR (tt_balance l G w_2 m z _ _ hT hok hb9 ) pn_yX10_balance (hT.hx) q3303 q3304 q3305 q161 q3306 ⟨by decide, by decide⟩ hl.1 (Nat.le_of_ble_eq_true rfl) dL_law_1970 ⟨by omega, by omega⟩) hL (fun z_4 w_5 hp_6 H locs hR hL => ?_)
  obtain ⟨hv2, hT2, hF2, hO2⟩ := hp_6
  obtain ⟨w3, hR, hT3, hF3, hG⟩ := hT2.fix hRb hR hG hF2 hO2
  have hA := hA.tw hT hF3
  have hO := hF3 _ _ _ hO (hT.noL hO)
  have hOd := hF3 _ _ _ hOd (hT.noD hOd)
  have hT := hT3
  refine h_icmpEq hx hb 2178 dL_law_1973 (by decide) (hv1.trans hv2.symm) ?_
  exact kk _ _ _ ⟨(aBal z).2.2, _, hA, hT, ⟨_, hO⟩, ⟨_, hOd⟩, hG, hok1.mono (by omega), by omega, by omega⟩ _ _ _ hR hL (lv_sub hl [0, 1, 2, 3, 4, 5] rfl)

set_option maxHeartbeats 4000000 in
set_option maxRecDepth 100000 in
/-- respace -/
theorem lc_respace {l : Launch} {G : Gl} {p9 : Program} {e9 : Env} {s9 : State} {m9 : MethodId} {a9 : Array Value} {b9 : List Frame} {meth9 : Method} {c9 : Code} {Q9 : State → Prop} (X : HX G p9 s9 m9 a9 c9 cL_law 10 "SpokenMarksLaw") (hSt : l.stackTraces = false) (w : Wd) (b x m o od L : Nat) (xs : Nat → Int) (hxs : ∀ j, R32 (xs j)) (hSx : va_X b L (fun j => iI (xs j)) s9 (gH G)) (hbB : b < gB G) (i : Nat) (hi : i < 24) (hiL : 6 * i + 6 ≤ L) (hL9 : L ≤ 144) (U V : Nat) (hI : LI G w x m o od i U V) (H : Heap) (locs : List Loc) (ls : Array Slot) (hR : Rp G w H) (hL : LK G locs) (hl : lv_has ls 10 [(0, .ref b), (1, .ref x), (2, .ref m), (3, .ref o), (4, .ref od), (5, .int (iI ((6 * i : Nat) : Int)))])
  (kk : ∀ (w1 : Wd) (U1 V1 : Nat), LI G w1 x m o od (i + 1) U1 V1 → ∀ (H1 : Heap) (locs1 : List Loc) (ls1 : Array Slot), Rp G w1 H1 → LK G locs1 → lv_has ls1 10 [(0, .ref b), (1, .ref x), (2, .ref m), (3, .ref o), (4, .ref od), (5, .int (iI ((6 * i : Nat) : Int)))] → W p9 l e9 (rmk 26 1200048 5501818) s9 m9 a9 b9 meth9 c9 H1 locs1 U1 V1 Q9 (F0 m9 2178 ls1 [])) : W p9 l e9 (rmk 26 1200048 5501818) s9 m9 a9 b9 meth9 c9 H locs U V Q9 (F0 m9 1978 ls []) := by
  have hx := X.1.1
  have hb := X.1.2.1
  obtain ⟨z, k0, hA, hT, ⟨fo, hO⟩, ⟨fd, hOd⟩, hG, hok, hU, hV⟩ := hI
  have hb2 : (2200 : Int) ≤ 3000 + 1000 * (i : Int) := by omega
  have hb9 : (3000 : Int) + 1000 * (i : Int) < 890000 := by omega
  have hbl : (zB ((aRsp z).2.2)).length ≤ (zB z).length := Nat.le_refl _
  refine lv_aload_n hx hb dL_law_1978 rfl (lv_at hl 1 rfl) ?_
  -- call SpokenMarks.respace
  refine h_kI (h_runV X hR (cc_respace l G w hSt x z _ hA hok hb2 hb9 hG ) pn_yX1_respace (hA.hx) q1984 q1985 q1986 q120 q1987 ⟨by decide, by decide⟩ hl.1 (Nat.le_of_ble_eq_true rfl) dL_law_1979 ⟨by omega, by omega⟩) hL (fun z_1 w_2 hp_3 H locs hR hL => ?_)
  obtain ⟨-, hv1, hA, hKp, hG, hok1⟩ := hp_3
  have hT := hT.kt hKp.t
  have hO := hKp.2.2.1 _ _ _ hO
  have hOd := hKp.2.2.2 _ _ _ hOd
  refine lv_aload_n hx hb dL_law_1982 rfl (lv_at hl 2 rfl) ?_
  -- call SpokenMarksModel.respace
  have hRb := hR
  refine h_kI (h_runV X hR (tt_respace l G w_2 m z _ _ hT hok hb9 ) pn_yX10_respace (hT.hx) q3307 q3308 q3309 q161 q3310 ⟨by decide, by decide⟩ hl.1 (Nat.le_of_ble_eq_true rfl) dL_law_1983 ⟨by omega, by omega⟩) hL (fun z_4 w_5 hp_6 H locs hR hL => ?_)
  obtain ⟨hv2, hT2, hF2, hO2⟩ := hp_6
  obtain ⟨w3, hR, hT3, hF3, hG⟩ := hT2.fix hRb hR hG hF2 hO2
  have hA := hA.tw hT hF3
  have hO := hF3 _ _ _ hO (hT.noL hO)
  have hOd := hF3 _ _ _ hOd (hT.noD hOd)
  have hT := hT3
  refine h_icmpEq hx hb 2178 dL_law_1986 (by decide) (hv1.trans hv2.symm) ?_
  exact kk _ _ _ ⟨(aRsp z).2.2, _, hA, hT, ⟨_, hO⟩, ⟨_, hOd⟩, hG, hok1.mono (by omega), by omega, by omega⟩ _ _ _ hR hL (lv_sub hl [0, 1, 2, 3, 4, 5] rfl)

set_option maxHeartbeats 4000000 in
set_option maxRecDepth 100000 in
/-- play -/
theorem lc_play {l : Launch} {G : Gl} {p9 : Program} {e9 : Env} {s9 : State} {m9 : MethodId} {a9 : Array Value} {b9 : List Frame} {meth9 : Method} {c9 : Code} {Q9 : State → Prop} (X : HX G p9 s9 m9 a9 c9 cL_law 10 "SpokenMarksLaw") (hSt : l.stackTraces = false) (w : Wd) (b x m o od L : Nat) (xs : Nat → Int) (hxs : ∀ j, R32 (xs j)) (hSx : va_X b L (fun j => iI (xs j)) s9 (gH G)) (hbB : b < gB G) (i : Nat) (hi : i < 24) (hiL : 6 * i + 6 ≤ L) (hL9 : L ≤ 144) (U V : Nat) (hI : LI G w x m o od i U V) (H : Heap) (locs : List Loc) (ls : Array Slot) (hR : Rp G w H) (hL : LK G locs) (hl : lv_has ls 10 [(0, .ref b), (1, .ref x), (2, .ref m), (3, .ref o), (4, .ref od), (5, .int (iI ((6 * i : Nat) : Int)))])
  (kk : ∀ (w1 : Wd) (U1 V1 : Nat), LI G w1 x m o od (i + 1) U1 V1 → ∀ (H1 : Heap) (locs1 : List Loc) (ls1 : Array Slot), Rp G w1 H1 → LK G locs1 → lv_has ls1 10 [(0, .ref b), (1, .ref x), (2, .ref m), (3, .ref o), (4, .ref od), (5, .int (iI ((6 * i : Nat) : Int)))] → W p9 l e9 (rmk 26 1200048 5501818) s9 m9 a9 b9 meth9 c9 H1 locs1 U1 V1 Q9 (F0 m9 2178 ls1 [])) : W p9 l e9 (rmk 26 1200048 5501818) s9 m9 a9 b9 meth9 c9 H locs U V Q9 (F0 m9 1991 ls []) := by
  have hx := X.1.1
  have hb := X.1.2.1
  obtain ⟨z, k0, hA, hT, ⟨fo, hO⟩, ⟨fd, hOd⟩, hG, hok, hU, hV⟩ := hI
  have hb2 : (2200 : Int) ≤ 3000 + 1000 * (i : Int) := by omega
  have hb9 : (3000 : Int) + 1000 * (i : Int) < 890000 := by omega
  obtain ⟨v1, hv_1⟩ : ∃ v_, v_ = xs (6 * i + 1) := ⟨_, rfl⟩
  have r1 : R32 v1 := by rw [hv_1]; exact hxs _
  by_cases hgk : gOk (zB z) v1
  ·
    have hbl : (zB (aPla z v1).2.2).length = 0 := by unfold aPla; rw [if_pos hgk]; rfl
    refine lv_aload_n hx hb dL_law_1991 rfl (lv_at hl 1 rfl) ?_
    refine lv_aload_n hx hb dL_law_1992 rfl (lv_at hl 0 rfl) ?_
    refine lv_iload hx hb dL_law_1993 (lv_at hl 5 rfl) ?_
    refine h_iconst hx hb dL_law_1995 ?_
    refine h_iadd hx hb dL_law_1996 ?_
    refine h_sld X hR hSx hbB (by omega) (by omega) dL_law_1997 ?_
    refine W.eq (g2 := F0 m9 1998 ls [.int (iI (v1)), .ref x]) (congrArg (fun z_ : Int => F0 m9 1998 ls [.int (iI (z_)), .ref x]) (show (xs (((6 * i : Nat) : Int) + 1).toNat : Int) = v1 from (by rw [hv_1, show (((6 * i : Nat) : Int) + 1).toNat = 6 * i + 1 by omega]))) ?_
    refine lv_aload_n hx hb dL_law_1998 rfl (lv_at hl 3 rfl) ?_
    -- call SpokenMarksLaw.play
    refine h_xI (h_xrunTS X hR (ww_play l G w hSt x z _ hA hok hb2 hb9 hG v1 r1 o fo hO) pn_yX0_play q2604 q2605 q119 q2606 ⟨by decide, by decide⟩ hl.1 (Nat.le_of_ble_eq_true rfl) dL_law_1999 ⟨by omega, by omega⟩) hL (fun xq_4 E_5 ce_ w_6 hx__7 H locs hR hL hce_ hcv_ hcl_ => ?_) (fun z_1 w_2 hp_3 H locs hR hL => ?_)
    ·
      exact absurd hx__7 id
    ·
      obtain ⟨⟨hk3, hkc⟩, hA, hKt, hG, hok1, ⟨fo, hO, hOv⟩, hKd⟩ := hp_3
      have hOd := hKd _ _ hOd
      have hT := hT.kt hKt
      refine lv_istore (lv' := [(6, .int (iI (z_1))), (0, .ref b), (1, .ref x), (2, .ref m), (3, .ref o), (4, .ref od), (5, .int (iI (((6 * i : Nat) : Int))))]) hx hb dL_law_2002 hl (by decide) rfl (fun ls hl => ?_)
      refine lv_aload_n hx hb dL_law_2004 rfl (lv_at hl 3 rfl) ?_
      refine lv_aload_n hx hb dL_law_2005 rfl (lv_at hl 1 rfl) ?_
      refine lv_iload hx hb dL_law_2006 (lv_at hl 6 rfl) ?_
      refine h_iconst hx hb dL_law_2008 ?_
      refine h_iadd hx hb dL_law_2009 ?_
      refine h_sld X hR hSx hbB (by omega) (by omega) dL_law_2010 ?_
      refine W.eq (g2 := F0 m9 2011 ls [.int (iI (v1)), .ref m]) (congrArg (fun z_ : Int => F0 m9 2011 ls [.int (iI (z_)), .ref m]) (show (xs (((6 * i : Nat) : Int) + 1).toNat : Int) = v1 from (by rw [hv_1, show (((6 * i : Nat) : Int) + 1).toNat = 6 * i + 1 by omega]))) ?_
      -- call SpokenMarksModel.play
      have hRb := hR
      refine h_kI (h_runV X hR (tt_play l G w_2 m z _ _ hT hok hb9 v1 r1) pn_yX10_play (hT.hx) q3311 q3312 q3313 q161 q3314 ⟨by decide, by decide⟩ hl.1 (Nat.le_of_ble_eq_true rfl) dL_law_2011 ⟨by omega, by omega⟩) hL (fun z_8 w_9 hp_10 H locs hR hL => ?_)
      obtain ⟨hv2, hT2, hF2, hO2⟩ := hp_10
      obtain ⟨w3, hR, hT3, hF3, hG⟩ := hT2.fix hRb hR hG hF2 hO2
      have hA := hA.tw hT hF3
      have hO := hF3 _ _ _ hO (hT.noL hO)
      have hOd := hF3 _ _ _ hOd (hT.noD hOd)
      have hT := hT3
      refine lv_istore (lv' := [(7, .int (iI (z_8))), (6, .int (iI (z_1))), (0, .ref b), (1, .ref x), (2, .ref m), (3, .ref o), (4, .ref od), (5, .int (iI (((6 * i : Nat) : Int))))]) hx hb dL_law_2014 hl (by decide) rfl (fun ls hl => ?_)
      refine lv_aload_n hx hb dL_law_2016 rfl (lv_at hl 4 rfl) ?_
      -- call SpokenMarksModel.thrown
      refine h_kIp (h_runV X hR (tt_thrown l G w3 m (aPla z v1).2.2 ((aPla z v1).1) hT) pn_yX10_thrown (hT.hx) q2713 q2714 q2715 q161 q2716 ⟨by decide, by decide⟩ hl.1 (Nat.le_of_ble_eq_true rfl) dL_law_2017 ⟨by omega, by omega⟩) hL (fun H locs hR hL => ?_)
      refine lv_iload hx hb dL_law_2020 (lv_at hl 1 rfl) ?_
      refine h_icmpEq hx hb 2027 dL_law_2022 (by decide) hkc.symm ?_
      refine lv_iload hx hb dL_law_2027 (lv_at hl 1 rfl) ?_
      refine h_if_ne hx hb 2044 dL_law_2029 (by decide) ⟨by omega, by omega⟩ (fun c_k => ?_) (fun c_k => ?_)
      ·
        refine lv_goto (tgt := 2178) hx hb dL_law_2044 (by decide) ?_
        exact kk _ _ _ ⟨(aPla z v1).2.2, _, hA, hT, ⟨_, hO⟩, ⟨_, hOd⟩, hG, hok1.mono (by omega), by omega, by omega⟩ _ _ _ hR hL (lv_sub hl [2, 3, 4, 5, 6, 7] rfl)
      ·
        refine lv_aload_n hx hb dL_law_2032 rfl (lv_at hl 5 rfl) ?_
        refine h_iconst hx hb dL_law_2033 ?_
        refine h_lald X hR hO (by omega) (by omega) dL_law_2034 ?_
        have hO0 := hOv (by omega)
        refine W.eq (g2 := F0 m9 2035 ls [.long (lI (c32 ((aPla z v1).2.1)))]) (congrArg (fun z_ : Int => F0 m9 2035 ls [.long (lI (z_))]) (show (fo (Int.toNat 0) : Int) = c32 ((aPla z v1).2.1) from (by exact hO0))) ?_
        refine lv_iload hx hb dL_law_2035 (lv_at hl 0 rfl) ?_
        refine W.eq (g2 := F0 m9 2037 ls [.int (iI (c32 z_8)), .long (lI (c32 ((aPla z v1).2.1)))]) (by rw [c32_i]) ?_
        refine h_i2l hx hb dL_law_2037 (c32_r _) ?_
        refine h_lcmp hx hb dL_law_2038 (c32_j _) (c32_j _) ?_
        refine W.eq (g2 := F0 m9 2039 ls [.int (iI (0))]) (congrArg (fun z_ : Int => F0 m9 2039 ls [.int (iI (z_))]) (show (cmpZ (c32 ((aPla z v1).2.1)) (c32 z_8) : Int) = 0 from (by rw [hv2]; exact cmpZ_0.mpr rfl))) ?_
        refine h_if_eq hx hb 2044 dL_law_2039 (by decide) (by decide) (fun _ => ?_) (fun z_ => absurd z_ (by decide))
        refine lv_goto (tgt := 2178) hx hb dL_law_2044 (by decide) ?_
        exact kk _ _ _ ⟨(aPla z v1).2.2, _, hA, hT, ⟨_, hO⟩, ⟨_, hOd⟩, hG, hok1.mono (by omega), by omega, by omega⟩ _ _ _ hR hL (lv_sub hl [2, 3, 4, 5, 6, 7] rfl)
  ·
    have hbl : (zB (aPla z v1).2.2).length ≤ (zB z).length := by unfold aPla; rw [if_neg hgk]; exact Nat.le_refl _
    refine lv_aload_n hx hb dL_law_1991 rfl (lv_at hl 1 rfl) ?_
    refine lv_aload_n hx hb dL_law_1992 rfl (lv_at hl 0 rfl) ?_
    refine lv_iload hx hb dL_law_1993 (lv_at hl 5 rfl) ?_
    refine h_iconst hx hb dL_law_1995 ?_
    refine h_iadd hx hb dL_law_1996 ?_
    refine h_sld X hR hSx hbB (by omega) (by omega) dL_law_1997 ?_
    refine W.eq (g2 := F0 m9 1998 ls [.int (iI (v1)), .ref x]) (congrArg (fun z_ : Int => F0 m9 1998 ls [.int (iI (z_)), .ref x]) (show (xs (((6 * i : Nat) : Int) + 1).toNat : Int) = v1 from (by rw [hv_1, show (((6 * i : Nat) : Int) + 1).toNat = 6 * i + 1 by omega]))) ?_
    refine lv_aload_n hx hb dL_law_1998 rfl (lv_at hl 3 rfl) ?_
    -- call SpokenMarksLaw.play
    refine h_xI (h_xrunTS X hR (ww_playX l G w hSt x z _ hA hok hb2 hb9 hG v1 r1 hgk o fo hO) pn_yX0_play q2604 q2605 q119 q2606 ⟨by decide, by decide⟩ hl.1 (Nat.le_of_ble_eq_true rfl) dL_law_1999 ⟨by omega, by omega⟩) hL (fun xq_18 E_19 ce_ w_20 hx__21 H locs hR hL hce_ hcv_ hcl_ => ?_) (fun z_15 w_16 hp_17 H locs hR hL => ?_)
    ·
      exact absurd hx__21 id
    ·
      obtain ⟨⟨hk3, hkc⟩, hA, hKt, hG, hok1, ⟨fo, hO, hOv⟩, hKd⟩ := hp_17
      have hOd := hKd _ _ hOd
      have hT := hT.kt hKt
      refine lv_istore (lv' := [(6, .int (iI (z_15))), (0, .ref b), (1, .ref x), (2, .ref m), (3, .ref o), (4, .ref od), (5, .int (iI (((6 * i : Nat) : Int))))]) hx hb dL_law_2002 hl (by decide) rfl (fun ls hl => ?_)
      refine lv_aload_n hx hb dL_law_2004 rfl (lv_at hl 3 rfl) ?_
      refine lv_aload_n hx hb dL_law_2005 rfl (lv_at hl 1 rfl) ?_
      refine lv_iload hx hb dL_law_2006 (lv_at hl 6 rfl) ?_
      refine h_iconst hx hb dL_law_2008 ?_
      refine h_iadd hx hb dL_law_2009 ?_
      refine h_sld X hR hSx hbB (by omega) (by omega) dL_law_2010 ?_
      refine W.eq (g2 := F0 m9 2011 ls [.int (iI (v1)), .ref m]) (congrArg (fun z_ : Int => F0 m9 2011 ls [.int (iI (z_)), .ref m]) (show (xs (((6 * i : Nat) : Int) + 1).toNat : Int) = v1 from (by rw [hv_1, show (((6 * i : Nat) : Int) + 1).toNat = 6 * i + 1 by omega]))) ?_
      -- call SpokenMarksModel.play
      have hRb := hR
      refine h_kI (h_runV X hR (tt_play l G w_16 m z _ _ hT hok hb9 v1 r1) pn_yX10_play (hT.hx) q3311 q3312 q3313 q161 q3314 ⟨by decide, by decide⟩ hl.1 (Nat.le_of_ble_eq_true rfl) dL_law_2011 ⟨by omega, by omega⟩) hL (fun z_22 w_23 hp_24 H locs hR hL => ?_)
      obtain ⟨hv2, hT2, hF2, hO2⟩ := hp_24
      obtain ⟨w3, hR, hT3, hF3, hG⟩ := hT2.fix hRb hR hG hF2 hO2
      have hA := hA.tw hT hF3
      have hO := hF3 _ _ _ hO (hT.noL hO)
      have hOd := hF3 _ _ _ hOd (hT.noD hOd)
      have hT := hT3
      refine lv_istore (lv' := [(7, .int (iI (z_22))), (6, .int (iI (z_15))), (0, .ref b), (1, .ref x), (2, .ref m), (3, .ref o), (4, .ref od), (5, .int (iI (((6 * i : Nat) : Int))))]) hx hb dL_law_2014 hl (by decide) rfl (fun ls hl => ?_)
      refine lv_aload_n hx hb dL_law_2016 rfl (lv_at hl 4 rfl) ?_
      -- call SpokenMarksModel.thrown
      refine h_kIp (h_runV X hR (tt_thrown l G w3 m (aPla z v1).2.2 ((aPla z v1).1) hT) pn_yX10_thrown (hT.hx) q2713 q2714 q2715 q161 q2716 ⟨by decide, by decide⟩ hl.1 (Nat.le_of_ble_eq_true rfl) dL_law_2017 ⟨by omega, by omega⟩) hL (fun H locs hR hL => ?_)
      refine lv_iload hx hb dL_law_2020 (lv_at hl 1 rfl) ?_
      refine h_icmpEq hx hb 2027 dL_law_2022 (by decide) hkc.symm ?_
      refine lv_iload hx hb dL_law_2027 (lv_at hl 1 rfl) ?_
      refine h_if_ne hx hb 2044 dL_law_2029 (by decide) ⟨by omega, by omega⟩ (fun c_k => ?_) (fun c_k => ?_)
      ·
        refine lv_goto (tgt := 2178) hx hb dL_law_2044 (by decide) ?_
        exact kk _ _ _ ⟨(aPla z v1).2.2, _, hA, hT, ⟨_, hO⟩, ⟨_, hOd⟩, hG, hok1.mono (by omega), by omega, by omega⟩ _ _ _ hR hL (lv_sub hl [2, 3, 4, 5, 6, 7] rfl)
      ·
        refine lv_aload_n hx hb dL_law_2032 rfl (lv_at hl 5 rfl) ?_
        refine h_iconst hx hb dL_law_2033 ?_
        refine h_lald X hR hO (by omega) (by omega) dL_law_2034 ?_
        have hO0 := hOv (by omega)
        refine W.eq (g2 := F0 m9 2035 ls [.long (lI (c32 ((aPla z v1).2.1)))]) (congrArg (fun z_ : Int => F0 m9 2035 ls [.long (lI (z_))]) (show (fo (Int.toNat 0) : Int) = c32 ((aPla z v1).2.1) from (by exact hO0))) ?_
        refine lv_iload hx hb dL_law_2035 (lv_at hl 0 rfl) ?_
        refine W.eq (g2 := F0 m9 2037 ls [.int (iI (c32 z_22)), .long (lI (c32 ((aPla z v1).2.1)))]) (by rw [c32_i]) ?_
        refine h_i2l hx hb dL_law_2037 (c32_r _) ?_
        refine h_lcmp hx hb dL_law_2038 (c32_j _) (c32_j _) ?_
        refine W.eq (g2 := F0 m9 2039 ls [.int (iI (0))]) (congrArg (fun z_ : Int => F0 m9 2039 ls [.int (iI (z_))]) (show (cmpZ (c32 ((aPla z v1).2.1)) (c32 z_22) : Int) = 0 from (by rw [hv2]; exact cmpZ_0.mpr rfl))) ?_
        refine h_if_eq hx hb 2044 dL_law_2039 (by decide) (by decide) (fun _ => ?_) (fun z_ => absurd z_ (by decide))
        refine lv_goto (tgt := 2178) hx hb dL_law_2044 (by decide) ?_
        exact kk _ _ _ ⟨(aPla z v1).2.2, _, hA, hT, ⟨_, hO⟩, ⟨_, hOd⟩, hG, hok1.mono (by omega), by omega, by omega⟩ _ _ _ hR hL (lv_sub hl [2, 3, 4, 5, 6, 7] rfl)

set_option maxHeartbeats 4000000 in
set_option maxRecDepth 100000 in
/-- format -/
theorem lc_format {l : Launch} {G : Gl} {p9 : Program} {e9 : Env} {s9 : State} {m9 : MethodId} {a9 : Array Value} {b9 : List Frame} {meth9 : Method} {c9 : Code} {Q9 : State → Prop} (X : HX G p9 s9 m9 a9 c9 cL_law 10 "SpokenMarksLaw") (hSt : l.stackTraces = false) (w : Wd) (b x m o od L : Nat) (xs : Nat → Int) (hxs : ∀ j, R32 (xs j)) (hSx : va_X b L (fun j => iI (xs j)) s9 (gH G)) (hbB : b < gB G) (i : Nat) (hi : i < 24) (hiL : 6 * i + 6 ≤ L) (hL9 : L ≤ 144) (U V : Nat) (hI : LI G w x m o od i U V) (H : Heap) (locs : List Loc) (ls : Array Slot) (hR : Rp G w H) (hL : LK G locs) (hl : lv_has ls 10 [(0, .ref b), (1, .ref x), (2, .ref m), (3, .ref o), (4, .ref od), (5, .int (iI ((6 * i : Nat) : Int)))])
  (kk : ∀ (w1 : Wd) (U1 V1 : Nat), LI G w1 x m o od (i + 1) U1 V1 → ∀ (H1 : Heap) (locs1 : List Loc) (ls1 : Array Slot), Rp G w1 H1 → LK G locs1 → lv_has ls1 10 [(0, .ref b), (1, .ref x), (2, .ref m), (3, .ref o), (4, .ref od), (5, .int (iI ((6 * i : Nat) : Int)))] → W p9 l e9 (rmk 26 1200048 5501818) s9 m9 a9 b9 meth9 c9 H1 locs1 U1 V1 Q9 (F0 m9 2178 ls1 [])) : W p9 l e9 (rmk 26 1200048 5501818) s9 m9 a9 b9 meth9 c9 H locs U V Q9 (F0 m9 2047 ls []) := by
  have hx := X.1.1
  have hb := X.1.2.1
  obtain ⟨z, k0, hA, hT, ⟨fo, hO⟩, ⟨fd, hOd⟩, hG, hok, hU, hV⟩ := hI
  have hb2 : (2200 : Int) ≤ 3000 + 1000 * (i : Int) := by omega
  have hb9 : (3000 : Int) + 1000 * (i : Int) < 890000 := by omega
  obtain ⟨v1, hv_1⟩ : ∃ v_, v_ = xs (6 * i + 1) := ⟨_, rfl⟩
  have r1 : R32 v1 := by rw [hv_1]; exact hxs _
  have hbl : (zB ((aFmt z v1).2.2)).length ≤ (zB z).length := (by unfold aFmt; split; first | exact Nat.zero_le _ | exact Nat.le_refl _; exact Nat.le_refl _)
  refine lv_aload_n hx hb dL_law_2047 rfl (lv_at hl 1 rfl) ?_
  refine lv_aload_n hx hb dL_law_2048 rfl (lv_at hl 0 rfl) ?_
  refine lv_iload hx hb dL_law_2049 (lv_at hl 5 rfl) ?_
  refine h_iconst hx hb dL_law_2051 ?_
  refine h_iadd hx hb dL_law_2052 ?_
  refine h_sld X hR hSx hbB (by omega) (by omega) dL_law_2053 ?_
  refine W.eq (g2 := F0 m9 2054 ls [.int (iI (v1)), .ref x]) (congrArg (fun z_ : Int => F0 m9 2054 ls [.int (iI (z_)), .ref x]) (show (xs (((6 * i : Nat) : Int) + 1).toNat : Int) = v1 from (by rw [hv_1, show (((6 * i : Nat) : Int) + 1).toNat = 6 * i + 1 by omega]))) ?_
  refine lv_aload_n hx hb dL_law_2054 rfl (lv_at hl 3 rfl) ?_
  -- call SpokenMarksLaw.format
  refine h_xI (h_xrunTS X hR (ww_format l G w hSt x z _ hA hok hb2 hb9 hG v1 r1 o fo hO) pn_yX0_format q2695 q2696 q119 q2697 ⟨by decide, by decide⟩ hl.1 (Nat.le_of_ble_eq_true rfl) dL_law_2055 ⟨by omega, by omega⟩) hL (fun xq_4 E_5 ce_ w_6 hx__7 H locs hR hL hce_ hcv_ hcl_ => ?_) (fun z_1 w_2 hp_3 H locs hR hL => ?_)
  ·
    exact absurd hx__7 id
  ·
    obtain ⟨⟨hk3, hkc⟩, hA, hKt, hG, hok1, ⟨fo, hO, hOv⟩, hKd⟩ := hp_3
    have hOd := hKd _ _ hOd
    have hT := hT.kt hKt
    refine lv_istore (lv' := [(6, .int (iI (z_1))), (0, .ref b), (1, .ref x), (2, .ref m), (3, .ref o), (4, .ref od), (5, .int (iI (((6 * i : Nat) : Int))))]) hx hb dL_law_2058 hl (by decide) rfl (fun ls hl => ?_)
    refine lv_aload_n hx hb dL_law_2060 rfl (lv_at hl 3 rfl) ?_
    refine lv_aload_n hx hb dL_law_2061 rfl (lv_at hl 1 rfl) ?_
    refine lv_iload hx hb dL_law_2062 (lv_at hl 6 rfl) ?_
    refine h_iconst hx hb dL_law_2064 ?_
    refine h_iadd hx hb dL_law_2065 ?_
    refine h_sld X hR hSx hbB (by omega) (by omega) dL_law_2066 ?_
    refine W.eq (g2 := F0 m9 2067 ls [.int (iI (v1)), .ref m]) (congrArg (fun z_ : Int => F0 m9 2067 ls [.int (iI (z_)), .ref m]) (show (xs (((6 * i : Nat) : Int) + 1).toNat : Int) = v1 from (by rw [hv_1, show (((6 * i : Nat) : Int) + 1).toNat = 6 * i + 1 by omega]))) ?_
    -- call SpokenMarksModel.format
    have hRb := hR
    refine h_kI (h_runV X hR (tt_format l G w_2 m z _ _ hT hok hb9 v1 r1) pn_yX10_format (hT.hx) q3341 q3342 q3343 q161 q3344 ⟨by decide, by decide⟩ hl.1 (Nat.le_of_ble_eq_true rfl) dL_law_2067 ⟨by omega, by omega⟩) hL (fun z_8 w_9 hp_10 H locs hR hL => ?_)
    obtain ⟨hv2, hT2, hF2, hO2⟩ := hp_10
    obtain ⟨w3, hR, hT3, hF3, hG⟩ := hT2.fix hRb hR hG hF2 hO2
    have hA := hA.tw hT hF3
    have hO := hF3 _ _ _ hO (hT.noL hO)
    have hOd := hF3 _ _ _ hOd (hT.noD hOd)
    have hT := hT3
    refine lv_istore (lv' := [(7, .int (iI (z_8))), (6, .int (iI (z_1))), (0, .ref b), (1, .ref x), (2, .ref m), (3, .ref o), (4, .ref od), (5, .int (iI (((6 * i : Nat) : Int))))]) hx hb dL_law_2070 hl (by decide) rfl (fun ls hl => ?_)
    refine lv_aload_n hx hb dL_law_2072 rfl (lv_at hl 4 rfl) ?_
    -- call SpokenMarksModel.thrown
    refine h_kIp (h_runV X hR (tt_thrown l G w3 m (aFmt z v1).2.2 ((aFmt z v1).1) hT) pn_yX10_thrown (hT.hx) q2713 q2714 q2715 q161 q2716 ⟨by decide, by decide⟩ hl.1 (Nat.le_of_ble_eq_true rfl) dL_law_2073 ⟨by omega, by omega⟩) hL (fun H locs hR hL => ?_)
    refine lv_iload hx hb dL_law_2076 (lv_at hl 1 rfl) ?_
    refine h_icmpEq hx hb 2083 dL_law_2078 (by decide) hkc.symm ?_
    refine lv_iload hx hb dL_law_2083 (lv_at hl 1 rfl) ?_
    refine h_if_ne hx hb 2100 dL_law_2085 (by decide) ⟨by omega, by omega⟩ (fun c_k => ?_) (fun c_k => ?_)
    ·
      refine lv_goto (tgt := 2178) hx hb dL_law_2100 (by decide) ?_
      exact kk _ _ _ ⟨(aFmt z v1).2.2, _, hA, hT, ⟨_, hO⟩, ⟨_, hOd⟩, hG, hok1.mono (by omega), by omega, by omega⟩ _ _ _ hR hL (lv_sub hl [2, 3, 4, 5, 6, 7] rfl)
    ·
      refine lv_aload_n hx hb dL_law_2088 rfl (lv_at hl 5 rfl) ?_
      refine h_iconst hx hb dL_law_2089 ?_
      refine h_lald X hR hO (by omega) (by omega) dL_law_2090 ?_
      have hO0 := hOv (by omega)
      refine W.eq (g2 := F0 m9 2091 ls [.long (lI (c32 ((aFmt z v1).2.1)))]) (congrArg (fun z_ : Int => F0 m9 2091 ls [.long (lI (z_))]) (show (fo (Int.toNat 0) : Int) = c32 ((aFmt z v1).2.1) from (by exact hO0))) ?_
      refine lv_iload hx hb dL_law_2091 (lv_at hl 0 rfl) ?_
      refine W.eq (g2 := F0 m9 2093 ls [.int (iI (c32 z_8)), .long (lI (c32 ((aFmt z v1).2.1)))]) (by rw [c32_i]) ?_
      refine h_i2l hx hb dL_law_2093 (c32_r _) ?_
      refine h_lcmp hx hb dL_law_2094 (c32_j _) (c32_j _) ?_
      refine W.eq (g2 := F0 m9 2095 ls [.int (iI (0))]) (congrArg (fun z_ : Int => F0 m9 2095 ls [.int (iI (z_))]) (show (cmpZ (c32 ((aFmt z v1).2.1)) (c32 z_8) : Int) = 0 from (by rw [hv2]; exact cmpZ_0.mpr rfl))) ?_
      refine h_if_eq hx hb 2100 dL_law_2095 (by decide) (by decide) (fun _ => ?_) (fun z_ => absurd z_ (by decide))
      refine lv_goto (tgt := 2178) hx hb dL_law_2100 (by decide) ?_
      exact kk _ _ _ ⟨(aFmt z v1).2.2, _, hA, hT, ⟨_, hO⟩, ⟨_, hOd⟩, hG, hok1.mono (by omega), by omega, by omega⟩ _ _ _ hR hL (lv_sub hl [2, 3, 4, 5, 6, 7] rfl)

set_option maxHeartbeats 4000000 in
set_option maxRecDepth 100000 in
/-- formattedByte -/
theorem lc_formattedByte {l : Launch} {G : Gl} {p9 : Program} {e9 : Env} {s9 : State} {m9 : MethodId} {a9 : Array Value} {b9 : List Frame} {meth9 : Method} {c9 : Code} {Q9 : State → Prop} (X : HX G p9 s9 m9 a9 c9 cL_law 10 "SpokenMarksLaw") (hSt : l.stackTraces = false) (w : Wd) (b x m o od L : Nat) (xs : Nat → Int) (hxs : ∀ j, R32 (xs j)) (hSx : va_X b L (fun j => iI (xs j)) s9 (gH G)) (hbB : b < gB G) (i : Nat) (hi : i < 24) (hiL : 6 * i + 6 ≤ L) (hL9 : L ≤ 144) (U V : Nat) (hI : LI G w x m o od i U V) (H : Heap) (locs : List Loc) (ls : Array Slot) (hR : Rp G w H) (hL : LK G locs) (hl : lv_has ls 10 [(0, .ref b), (1, .ref x), (2, .ref m), (3, .ref o), (4, .ref od), (5, .int (iI ((6 * i : Nat) : Int)))])
  (kk : ∀ (w1 : Wd) (U1 V1 : Nat), LI G w1 x m o od (i + 1) U1 V1 → ∀ (H1 : Heap) (locs1 : List Loc) (ls1 : Array Slot), Rp G w1 H1 → LK G locs1 → lv_has ls1 10 [(0, .ref b), (1, .ref x), (2, .ref m), (3, .ref o), (4, .ref od), (5, .int (iI ((6 * i : Nat) : Int)))] → W p9 l e9 (rmk 26 1200048 5501818) s9 m9 a9 b9 meth9 c9 H1 locs1 U1 V1 Q9 (F0 m9 2178 ls1 [])) : W p9 l e9 (rmk 26 1200048 5501818) s9 m9 a9 b9 meth9 c9 H locs U V Q9 (F0 m9 2103 ls []) := by
  have hx := X.1.1
  have hb := X.1.2.1
  obtain ⟨z, k0, hA, hT, ⟨fo, hO⟩, ⟨fd, hOd⟩, hG, hok, hU, hV⟩ := hI
  have hb2 : (2200 : Int) ≤ 3000 + 1000 * (i : Int) := by omega
  have hb9 : (3000 : Int) + 1000 * (i : Int) < 890000 := by omega
  obtain ⟨v1, hv_1⟩ : ∃ v_, v_ = xs (6 * i + 1) := ⟨_, rfl⟩
  have r1 : R32 v1 := by rw [hv_1]; exact hxs _
  have hbl : (zB ((aFmb z v1).2.2)).length ≤ (zB z).length := Nat.le_refl _
  refine lv_aload_n hx hb dL_law_2103 rfl (lv_at hl 1 rfl) ?_
  refine lv_aload_n hx hb dL_law_2104 rfl (lv_at hl 0 rfl) ?_
  refine lv_iload hx hb dL_law_2105 (lv_at hl 5 rfl) ?_
  refine h_iconst hx hb dL_law_2107 ?_
  refine h_iadd hx hb dL_law_2108 ?_
  refine h_sld X hR hSx hbB (by omega) (by omega) dL_law_2109 ?_
  refine W.eq (g2 := F0 m9 2110 ls [.int (iI (v1)), .ref x]) (congrArg (fun z_ : Int => F0 m9 2110 ls [.int (iI (z_)), .ref x]) (show (xs (((6 * i : Nat) : Int) + 1).toNat : Int) = v1 from (by rw [hv_1, show (((6 * i : Nat) : Int) + 1).toNat = 6 * i + 1 by omega]))) ?_
  -- call SpokenMarks.formattedByte
  refine h_kI (h_runV X hR (cc_formattedByte l G w hSt x z _ hA hok hb2 hb9 hG v1 r1) pn_yX1_formattedByte (hA.hx) q1988 q1989 q1990 q120 q1991 ⟨by decide, by decide⟩ hl.1 (Nat.le_of_ble_eq_true rfl) dL_law_2110 ⟨by omega, by omega⟩) hL (fun z_1 w_2 hp_3 H locs hR hL => ?_)
  obtain ⟨-, hv1, hA, hKp, hG, hok1⟩ := hp_3
  have hT := hT.kt hKp.t
  have hO := hKp.2.2.1 _ _ _ hO
  have hOd := hKp.2.2.2 _ _ _ hOd
  refine lv_aload_n hx hb dL_law_2113 rfl (lv_at hl 2 rfl) ?_
  refine lv_aload_n hx hb dL_law_2114 rfl (lv_at hl 0 rfl) ?_
  refine lv_iload hx hb dL_law_2115 (lv_at hl 5 rfl) ?_
  refine h_iconst hx hb dL_law_2117 ?_
  refine h_iadd hx hb dL_law_2118 ?_
  refine h_sld X hR hSx hbB (by omega) (by omega) dL_law_2119 ?_
  refine W.eq (g2 := F0 m9 2120 ls [.int (iI (v1)), .ref m, .int (iI (z_1))]) (congrArg (fun z_ : Int => F0 m9 2120 ls [.int (iI (z_)), .ref m, .int (iI (z_1))]) (show (xs (((6 * i : Nat) : Int) + 1).toNat : Int) = v1 from (by rw [hv_1, show (((6 * i : Nat) : Int) + 1).toNat = 6 * i + 1 by omega]))) ?_
  -- call SpokenMarksModel.formattedByte
  have hRb := hR
  refine h_kI (h_runV X hR (tt_formattedByte l G w_2 m z _ _ hT hok hb9 v1 r1) pn_yX10_formattedByte (hT.hx) q3353 q3354 q3355 q161 q3356 ⟨by decide, by decide⟩ hl.1 (Nat.le_of_ble_eq_true rfl) dL_law_2120 ⟨by omega, by omega⟩) hL (fun z_4 w_5 hp_6 H locs hR hL => ?_)
  obtain ⟨hv2, hT2, hF2, hO2⟩ := hp_6
  obtain ⟨w3, hR, hT3, hF3, hG⟩ := hT2.fix hRb hR hG hF2 hO2
  have hA := hA.tw hT hF3
  have hO := hF3 _ _ _ hO (hT.noL hO)
  have hOd := hF3 _ _ _ hOd (hT.noD hOd)
  have hT := hT3
  refine h_icmpEq hx hb 2178 dL_law_2123 (by decide) (hv1.trans hv2.symm) ?_
  exact kk _ _ _ ⟨(aFmb z v1).2.2, _, hA, hT, ⟨_, hO⟩, ⟨_, hOd⟩, hG, hok1.mono (by omega), by omega, by omega⟩ _ _ _ hR hL (lv_sub hl [0, 1, 2, 3, 4, 5] rfl)

set_option maxHeartbeats 4000000 in
set_option maxRecDepth 100000 in
/-- undoCount -/
theorem lc_undoCount {l : Launch} {G : Gl} {p9 : Program} {e9 : Env} {s9 : State} {m9 : MethodId} {a9 : Array Value} {b9 : List Frame} {meth9 : Method} {c9 : Code} {Q9 : State → Prop} (X : HX G p9 s9 m9 a9 c9 cL_law 10 "SpokenMarksLaw") (hSt : l.stackTraces = false) (w : Wd) (b x m o od L : Nat) (xs : Nat → Int) (hxs : ∀ j, R32 (xs j)) (hSx : va_X b L (fun j => iI (xs j)) s9 (gH G)) (hbB : b < gB G) (i : Nat) (hi : i < 24) (hiL : 6 * i + 6 ≤ L) (hL9 : L ≤ 144) (U V : Nat) (hI : LI G w x m o od i U V) (H : Heap) (locs : List Loc) (ls : Array Slot) (hR : Rp G w H) (hL : LK G locs) (hl : lv_has ls 10 [(0, .ref b), (1, .ref x), (2, .ref m), (3, .ref o), (4, .ref od), (5, .int (iI ((6 * i : Nat) : Int)))])
  (kk : ∀ (w1 : Wd) (U1 V1 : Nat), LI G w1 x m o od (i + 1) U1 V1 → ∀ (H1 : Heap) (locs1 : List Loc) (ls1 : Array Slot), Rp G w1 H1 → LK G locs1 → lv_has ls1 10 [(0, .ref b), (1, .ref x), (2, .ref m), (3, .ref o), (4, .ref od), (5, .int (iI ((6 * i : Nat) : Int)))] → W p9 l e9 (rmk 26 1200048 5501818) s9 m9 a9 b9 meth9 c9 H1 locs1 U1 V1 Q9 (F0 m9 2178 ls1 [])) : W p9 l e9 (rmk 26 1200048 5501818) s9 m9 a9 b9 meth9 c9 H locs U V Q9 (F0 m9 2128 ls []) := by
  have hx := X.1.1
  have hb := X.1.2.1
  obtain ⟨z, k0, hA, hT, ⟨fo, hO⟩, ⟨fd, hOd⟩, hG, hok, hU, hV⟩ := hI
  have hb2 : (2200 : Int) ≤ 3000 + 1000 * (i : Int) := by omega
  have hb9 : (3000 : Int) + 1000 * (i : Int) < 890000 := by omega
  have hbl : (zB ((aUnc z).2.2)).length ≤ (zB z).length := Nat.le_refl _
  refine lv_aload_n hx hb dL_law_2128 rfl (lv_at hl 1 rfl) ?_
  -- call SpokenMarks.undoCount
  refine h_kI (h_runV X hR (cc_undoCount l G w hSt x z _ hA hok hb2 hb9 hG ) pn_yX1_undoCount (hA.hx) q1994 q1995 q1996 q120 q1997 ⟨by decide, by decide⟩ hl.1 (Nat.le_of_ble_eq_true rfl) dL_law_2129 ⟨by omega, by omega⟩) hL (fun z_1 w_2 hp_3 H locs hR hL => ?_)
  obtain ⟨-, hv1, hA, hKp, hG, hok1⟩ := hp_3
  have hT := hT.kt hKp.t
  have hO := hKp.2.2.1 _ _ _ hO
  have hOd := hKp.2.2.2 _ _ _ hOd
  refine lv_aload_n hx hb dL_law_2132 rfl (lv_at hl 2 rfl) ?_
  -- call SpokenMarksModel.undoCount
  have hRb := hR
  refine h_kI (h_runV X hR (tt_undoCount l G w_2 m z _ _ hT hok hb9 ) pn_yX10_undoCount (hT.hx) q3357 q3358 q3359 q161 q3360 ⟨by decide, by decide⟩ hl.1 (Nat.le_of_ble_eq_true rfl) dL_law_2133 ⟨by omega, by omega⟩) hL (fun z_4 w_5 hp_6 H locs hR hL => ?_)
  obtain ⟨hv2, hT2, hF2, hO2⟩ := hp_6
  obtain ⟨w3, hR, hT3, hF3, hG⟩ := hT2.fix hRb hR hG hF2 hO2
  have hA := hA.tw hT hF3
  have hO := hF3 _ _ _ hO (hT.noL hO)
  have hOd := hF3 _ _ _ hOd (hT.noD hOd)
  have hT := hT3
  refine h_icmpEq hx hb 2178 dL_law_2136 (by decide) (hv1.trans hv2.symm) ?_
  exact kk _ _ _ ⟨(aUnc z).2.2, _, hA, hT, ⟨_, hO⟩, ⟨_, hOd⟩, hG, hok1.mono (by omega), by omega, by omega⟩ _ _ _ hR hL (lv_sub hl [0, 1, 2, 3, 4, 5] rfl)

set_option maxHeartbeats 4000000 in
set_option maxRecDepth 100000 in
/-- undo -/
theorem lc_undo {l : Launch} {G : Gl} {p9 : Program} {e9 : Env} {s9 : State} {m9 : MethodId} {a9 : Array Value} {b9 : List Frame} {meth9 : Method} {c9 : Code} {Q9 : State → Prop} (X : HX G p9 s9 m9 a9 c9 cL_law 10 "SpokenMarksLaw") (hSt : l.stackTraces = false) (w : Wd) (b x m o od L : Nat) (xs : Nat → Int) (hxs : ∀ j, R32 (xs j)) (hSx : va_X b L (fun j => iI (xs j)) s9 (gH G)) (hbB : b < gB G) (i : Nat) (hi : i < 24) (hiL : 6 * i + 6 ≤ L) (hL9 : L ≤ 144) (U V : Nat) (hI : LI G w x m o od i U V) (H : Heap) (locs : List Loc) (ls : Array Slot) (hR : Rp G w H) (hL : LK G locs) (hl : lv_has ls 10 [(0, .ref b), (1, .ref x), (2, .ref m), (3, .ref o), (4, .ref od), (5, .int (iI ((6 * i : Nat) : Int)))])
  (kk : ∀ (w1 : Wd) (U1 V1 : Nat), LI G w1 x m o od (i + 1) U1 V1 → ∀ (H1 : Heap) (locs1 : List Loc) (ls1 : Array Slot), Rp G w1 H1 → LK G locs1 → lv_has ls1 10 [(0, .ref b), (1, .ref x), (2, .ref m), (3, .ref o), (4, .ref od), (5, .int (iI ((6 * i : Nat) : Int)))] → W p9 l e9 (rmk 26 1200048 5501818) s9 m9 a9 b9 meth9 c9 H1 locs1 U1 V1 Q9 (F0 m9 2178 ls1 [])) : W p9 l e9 (rmk 26 1200048 5501818) s9 m9 a9 b9 meth9 c9 H locs U V Q9 (F0 m9 2141 ls []) := by
  have hx := X.1.1
  have hb := X.1.2.1
  obtain ⟨z, k0, hA, hT, ⟨fo, hO⟩, ⟨fd, hOd⟩, hG, hok, hU, hV⟩ := hI
  have hb2 : (2200 : Int) ≤ 3000 + 1000 * (i : Int) := by omega
  have hb9 : (3000 : Int) + 1000 * (i : Int) < 890000 := by omega
  have hbl : (zB ((aUnd z).2.2)).length ≤ (zB z).length := Nat.le_refl _
  refine lv_aload_n hx hb dL_law_2141 rfl (lv_at hl 1 rfl) ?_
  -- call SpokenMarks.undo
  refine h_kI (h_runV X hR (cc_undo l G w hSt x z _ hA hok hb2 hb9 hG ) pn_yX1_undo (hA.hx) q1998 q1999 q2000 q120 q2001 ⟨by decide, by decide⟩ hl.1 (Nat.le_of_ble_eq_true rfl) dL_law_2142 ⟨by omega, by omega⟩) hL (fun z_1 w_2 hp_3 H locs hR hL => ?_)
  obtain ⟨-, hv1, hA, hKp, hG, hok1⟩ := hp_3
  have hT := hT.kt hKp.t
  have hO := hKp.2.2.1 _ _ _ hO
  have hOd := hKp.2.2.2 _ _ _ hOd
  refine lv_aload_n hx hb dL_law_2145 rfl (lv_at hl 2 rfl) ?_
  -- call SpokenMarksModel.undo
  have hRb := hR
  refine h_kI (h_runV X hR (tt_undo l G w_2 m z _ _ hT hok hb9 ) pn_yX10_undo (hT.hx) q3361 q3362 q3363 q161 q3364 ⟨by decide, by decide⟩ hl.1 (Nat.le_of_ble_eq_true rfl) dL_law_2146 ⟨by omega, by omega⟩) hL (fun z_4 w_5 hp_6 H locs hR hL => ?_)
  obtain ⟨hv2, hT2, hF2, hO2⟩ := hp_6
  obtain ⟨w3, hR, hT3, hF3, hG⟩ := hT2.fix hRb hR hG hF2 hO2
  have hA := hA.tw hT hF3
  have hO := hF3 _ _ _ hO (hT.noL hO)
  have hOd := hF3 _ _ _ hOd (hT.noD hOd)
  have hT := hT3
  refine h_icmpEq hx hb 2178 dL_law_2149 (by decide) (hv1.trans hv2.symm) ?_
  exact kk _ _ _ ⟨(aUnd z).2.2, _, hA, hT, ⟨_, hO⟩, ⟨_, hOd⟩, hG, hok1.mono (by omega), by omega, by omega⟩ _ _ _ hR hL (lv_sub hl [0, 1, 2, 3, 4, 5] rfl)

set_option maxHeartbeats 4000000 in
set_option maxRecDepth 100000 in
/-- saveSnapshot -/
theorem lc_saveSnapshot {l : Launch} {G : Gl} {p9 : Program} {e9 : Env} {s9 : State} {m9 : MethodId} {a9 : Array Value} {b9 : List Frame} {meth9 : Method} {c9 : Code} {Q9 : State → Prop} (X : HX G p9 s9 m9 a9 c9 cL_law 10 "SpokenMarksLaw") (hSt : l.stackTraces = false) (w : Wd) (b x m o od L : Nat) (xs : Nat → Int) (hxs : ∀ j, R32 (xs j)) (hSx : va_X b L (fun j => iI (xs j)) s9 (gH G)) (hbB : b < gB G) (i : Nat) (hi : i < 24) (hiL : 6 * i + 6 ≤ L) (hL9 : L ≤ 144) (U V : Nat) (hI : LI G w x m o od i U V) (H : Heap) (locs : List Loc) (ls : Array Slot) (hR : Rp G w H) (hL : LK G locs) (hl : lv_has ls 10 [(0, .ref b), (1, .ref x), (2, .ref m), (3, .ref o), (4, .ref od), (5, .int (iI ((6 * i : Nat) : Int)))])
  (kk : ∀ (w1 : Wd) (U1 V1 : Nat), LI G w1 x m o od (i + 1) U1 V1 → ∀ (H1 : Heap) (locs1 : List Loc) (ls1 : Array Slot), Rp G w1 H1 → LK G locs1 → lv_has ls1 10 [(0, .ref b), (1, .ref x), (2, .ref m), (3, .ref o), (4, .ref od), (5, .int (iI ((6 * i : Nat) : Int)))] → W p9 l e9 (rmk 26 1200048 5501818) s9 m9 a9 b9 meth9 c9 H1 locs1 U1 V1 Q9 (F0 m9 2178 ls1 [])) : W p9 l e9 (rmk 26 1200048 5501818) s9 m9 a9 b9 meth9 c9 H locs U V Q9 (F0 m9 2154 ls []) := by
  have hx := X.1.1
  have hb := X.1.2.1
  obtain ⟨z, k0, hA, hT, ⟨fo, hO⟩, ⟨fd, hOd⟩, hG, hok, hU, hV⟩ := hI
  have hb2 : (2200 : Int) ≤ 3000 + 1000 * (i : Int) := by omega
  have hb9 : (3000 : Int) + 1000 * (i : Int) < 890000 := by omega
  have hbl : (zB ((aSav z).2.2)).length ≤ (zB z).length := Nat.le_refl _
  refine lv_aload_n hx hb dL_law_2154 rfl (lv_at hl 1 rfl) ?_
  -- call SpokenMarks.saveSnapshot
  refine h_kV (h_runV X hR (cc_saveSnapshot l G w hSt x z _ hA hok hb2 hb9 hG ) pn_yX1_saveSnapshot (hA.hx) q2017 q2018 q2019 q120 q2020 ⟨by decide, by decide⟩ hl.1 (Nat.le_of_ble_eq_true rfl) dL_law_2155 ⟨by omega, by omega⟩) hL (fun w_2 hp_3 H locs hR hL => ?_)
  obtain ⟨-, hv1, hA, hKp, hG, hok1⟩ := hp_3
  have hT := hT.kt hKp.t
  have hO := hKp.2.2.1 _ _ _ hO
  have hOd := hKp.2.2.2 _ _ _ hOd
  refine lv_aload_n hx hb dL_law_2158 rfl (lv_at hl 2 rfl) ?_
  -- call SpokenMarksModel.saveSnapshot
  have hRb := hR
  refine h_kV (h_runV X hR (tt_saveSnapshot l G w_2 m z _ _ hT hok hb9 ) pn_yX10_saveSnapshot (hT.hx) q3365 q3366 q3367 q161 q3368 ⟨by decide, by decide⟩ hl.1 (Nat.le_of_ble_eq_true rfl) dL_law_2159 ⟨by omega, by omega⟩) hL (fun w_5 hp_6 H locs hR hL => ?_)
  obtain ⟨hv2, hT2, hF2, hO2⟩ := hp_6
  obtain ⟨w3, hR, hT3, hF3, hG⟩ := hT2.fix hRb hR hG hF2 hO2
  have hA := hA.tw hT hF3
  have hO := hF3 _ _ _ hO (hT.noL hO)
  have hOd := hF3 _ _ _ hOd (hT.noD hOd)
  have hT := hT3
  refine lv_goto (tgt := 2178) hx hb dL_law_2162 (by decide) ?_
  exact kk _ _ _ ⟨(aSav z).2.2, _, hA, hT, ⟨_, hO⟩, ⟨_, hOd⟩, hG, hok1.mono (by omega), by omega, by omega⟩ _ _ _ hR hL (lv_sub hl [0, 1, 2, 3, 4, 5] rfl)

set_option maxHeartbeats 4000000 in
set_option maxRecDepth 100000 in
/-- restoreSnapshot -/
theorem lc_restoreSnapshot {l : Launch} {G : Gl} {p9 : Program} {e9 : Env} {s9 : State} {m9 : MethodId} {a9 : Array Value} {b9 : List Frame} {meth9 : Method} {c9 : Code} {Q9 : State → Prop} (X : HX G p9 s9 m9 a9 c9 cL_law 10 "SpokenMarksLaw") (hSt : l.stackTraces = false) (w : Wd) (b x m o od L : Nat) (xs : Nat → Int) (hxs : ∀ j, R32 (xs j)) (hSx : va_X b L (fun j => iI (xs j)) s9 (gH G)) (hbB : b < gB G) (i : Nat) (hi : i < 24) (hiL : 6 * i + 6 ≤ L) (hL9 : L ≤ 144) (U V : Nat) (hI : LI G w x m o od i U V) (H : Heap) (locs : List Loc) (ls : Array Slot) (hR : Rp G w H) (hL : LK G locs) (hl : lv_has ls 10 [(0, .ref b), (1, .ref x), (2, .ref m), (3, .ref o), (4, .ref od), (5, .int (iI ((6 * i : Nat) : Int)))])
  (kk : ∀ (w1 : Wd) (U1 V1 : Nat), LI G w1 x m o od (i + 1) U1 V1 → ∀ (H1 : Heap) (locs1 : List Loc) (ls1 : Array Slot), Rp G w1 H1 → LK G locs1 → lv_has ls1 10 [(0, .ref b), (1, .ref x), (2, .ref m), (3, .ref o), (4, .ref od), (5, .int (iI ((6 * i : Nat) : Int)))] → W p9 l e9 (rmk 26 1200048 5501818) s9 m9 a9 b9 meth9 c9 H1 locs1 U1 V1 Q9 (F0 m9 2178 ls1 [])) : W p9 l e9 (rmk 26 1200048 5501818) s9 m9 a9 b9 meth9 c9 H locs U V Q9 (F0 m9 2165 ls []) := by
  have hx := X.1.1
  have hb := X.1.2.1
  obtain ⟨z, k0, hA, hT, ⟨fo, hO⟩, ⟨fd, hOd⟩, hG, hok, hU, hV⟩ := hI
  have hb2 : (2200 : Int) ≤ 3000 + 1000 * (i : Int) := by omega
  have hb9 : (3000 : Int) + 1000 * (i : Int) < 890000 := by omega
  have hbl : (zB ((aRst z).2.2)).length ≤ (zB z).length := (by unfold aRst; split <;> exact Nat.le_refl _)
  refine lv_aload_n hx hb dL_law_2165 rfl (lv_at hl 1 rfl) ?_
  -- call SpokenMarks.restoreSnapshot
  refine h_kI (h_runV X hR (cc_restoreSnapshot l G w hSt x z _ hA hok hb2 hb9 hG ) pn_yX1_restoreSnapshot (hA.hx) q2021 q2022 q2023 q120 q2024 ⟨by decide, by decide⟩ hl.1 (Nat.le_of_ble_eq_true rfl) dL_law_2166 ⟨by omega, by omega⟩) hL (fun z_1 w_2 hp_3 H locs hR hL => ?_)
  obtain ⟨-, hv1, hA, hKp, hG, hok1⟩ := hp_3
  have hT := hT.kt hKp.t
  have hO := hKp.2.2.1 _ _ _ hO
  have hOd := hKp.2.2.2 _ _ _ hOd
  refine lv_aload_n hx hb dL_law_2169 rfl (lv_at hl 2 rfl) ?_
  -- call SpokenMarksModel.restoreSnapshot
  have hRb := hR
  refine h_kI (h_runV X hR (tt_restoreSnapshot l G w_2 m z _ _ hT hok hb9 ) pn_yX10_restoreSnapshot (hT.hx) q3369 q3370 q3371 q161 q3372 ⟨by decide, by decide⟩ hl.1 (Nat.le_of_ble_eq_true rfl) dL_law_2170 ⟨by omega, by omega⟩) hL (fun z_4 w_5 hp_6 H locs hR hL => ?_)
  obtain ⟨hv2, hT2, hF2, hO2⟩ := hp_6
  obtain ⟨w3, hR, hT3, hF3, hG⟩ := hT2.fix hRb hR hG hF2 hO2
  have hA := hA.tw hT hF3
  have hO := hF3 _ _ _ hO (hT.noL hO)
  have hOd := hF3 _ _ _ hOd (hT.noD hOd)
  have hT := hT3
  refine h_icmpEq hx hb 2178 dL_law_2173 (by decide) (hv1.trans hv2.symm) ?_
  exact kk _ _ _ ⟨(aRst z).2.2, _, hA, hT, ⟨_, hO⟩, ⟨_, hOd⟩, hG, hok1.mono (by omega), by omega, by omega⟩ _ _ _ hR hL (lv_sub hl [0, 1, 2, 3, 4, 5] rfl)
