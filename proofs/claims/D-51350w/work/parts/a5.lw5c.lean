/-! the law: its cases (3) -/
set_option maxRecDepth 100000

set_option maxHeartbeats 4000000 in
set_option maxRecDepth 100000 in
/-- compare -/
theorem lc_compare {l : Launch} {G : Gl} {p9 : Program} {e9 : Env} {s9 : State} {m9 : MethodId} {a9 : Array Value} {b9 : List Frame} {meth9 : Method} {c9 : Code} {Q9 : State → Prop} (X : HX G p9 s9 m9 a9 c9 cL_law 10 "SpokenMarksLaw") (hSt : l.stackTraces = false) (w : Wd) (b x m o od L : Nat) (xs : Nat → Int) (hxs : ∀ j, R32 (xs j)) (hSx : va_X b L (fun j => iI (xs j)) s9 (gH G)) (hbB : b < gB G) (i : Nat) (hi : i < 24) (hiL : 6 * i + 6 ≤ L) (hL9 : L ≤ 144) (U V : Nat) (hI : LI G w x m o od i U V) (H : Heap) (locs : List Loc) (ls : Array Slot) (hR : Rp G w H) (hL : LK G locs) (hl : lv_has ls 10 [(0, .ref b), (1, .ref x), (2, .ref m), (3, .ref o), (4, .ref od), (5, .int (iI ((6 * i : Nat) : Int)))])
  (kk : ∀ (w1 : Wd) (U1 V1 : Nat), LI G w1 x m o od (i + 1) U1 V1 → ∀ (H1 : Heap) (locs1 : List Loc) (ls1 : Array Slot), Rp G w1 H1 → LK G locs1 → lv_has ls1 10 [(0, .ref b), (1, .ref x), (2, .ref m), (3, .ref o), (4, .ref od), (5, .int (iI ((6 * i : Nat) : Int)))] → W p9 l e9 (rmk 26 1200048 5501818) s9 m9 a9 b9 meth9 c9 H1 locs1 U1 V1 Q9 (F0 m9 2178 ls1 [])) : W p9 l e9 (rmk 26 1200048 5501818) s9 m9 a9 b9 meth9 c9 H locs U V Q9 (F0 m9 920 ls []) := by
  have hx := X.1.1
  have hb := X.1.2.1
  obtain ⟨z, k0, hA, hT, ⟨fo, hO⟩, ⟨fd, hOd⟩, hG, hok, hU, hV⟩ := hI
  have hb2 : (2200 : Int) ≤ 3000 + 1000 * (i : Int) := by omega
  have hb9 : (3000 : Int) + 1000 * (i : Int) < 890000 := by omega
  obtain ⟨v1, hv_1⟩ : ∃ v_, v_ = xs (6 * i + 1) := ⟨_, rfl⟩
  have r1 : R32 v1 := by rw [hv_1]; exact hxs _
  obtain ⟨v2, hv_2⟩ : ∃ v_, v_ = xs (6 * i + 2) := ⟨_, rfl⟩
  have r2 : R32 v2 := by rw [hv_2]; exact hxs _
  have hbl : (zB ((aCmp z v1 v2).2.2)).length ≤ (zB z).length := Nat.le_refl _
  refine lv_aload_n hx hb dL_law_920 rfl (lv_at hl 1 rfl) ?_
  refine lv_aload_n hx hb dL_law_921 rfl (lv_at hl 0 rfl) ?_
  refine lv_iload hx hb dL_law_922 (lv_at hl 5 rfl) ?_
  refine h_iconst hx hb dL_law_924 ?_
  refine h_iadd hx hb dL_law_925 ?_
  refine h_sld X hR hSx hbB (by omega) (by omega) dL_law_926 ?_
  refine W.eq (g2 := F0 m9 927 ls [.int (iI (v1)), .ref x]) (congrArg (fun z_ : Int => F0 m9 927 ls [.int (iI (z_)), .ref x]) (show (xs (((6 * i : Nat) : Int) + 1).toNat : Int) = v1 from (by rw [hv_1, show (((6 * i : Nat) : Int) + 1).toNat = 6 * i + 1 by omega]))) ?_
  refine lv_aload_n hx hb dL_law_927 rfl (lv_at hl 0 rfl) ?_
  refine lv_iload hx hb dL_law_928 (lv_at hl 5 rfl) ?_
  refine h_iconst hx hb dL_law_930 ?_
  refine h_iadd hx hb dL_law_931 ?_
  refine h_sld X hR hSx hbB (by omega) (by omega) dL_law_932 ?_
  refine W.eq (g2 := F0 m9 933 ls [.int (iI (v2)), .int (iI (v1)), .ref x]) (congrArg (fun z_ : Int => F0 m9 933 ls [.int (iI (z_)), .int (iI (v1)), .ref x]) (show (xs (((6 * i : Nat) : Int) + 2).toNat : Int) = v2 from (by rw [hv_2, show (((6 * i : Nat) : Int) + 2).toNat = 6 * i + 2 by omega]))) ?_
  refine lv_aload_n hx hb dL_law_933 rfl (lv_at hl 3 rfl) ?_
  -- call SpokenMarksLaw.compare
  refine h_xI (h_xrunTS X hR (ww_compare l G w hSt x z _ hA hok hb2 hb9 hG v1 v2 r1 r2 o fo hO) pn_yX0_compare q2354 q2355 q119 q2356 ⟨by decide, by decide⟩ hl.1 (Nat.le_of_ble_eq_true rfl) dL_law_934 ⟨by omega, by omega⟩) hL (fun xq_4 E_5 ce_ w_6 hx__7 H locs hR hL hce_ hcv_ hcl_ => ?_) (fun z_1 w_2 hp_3 H locs hR hL => ?_)
  ·
    exact absurd hx__7 id
  ·
    obtain ⟨⟨hk3, hkc⟩, hA, hKt, hG, hok1, ⟨fo, hO, hOv⟩, hKd⟩ := hp_3
    have hOd := hKd _ _ hOd
    have hT := hT.kt hKt
    refine lv_istore (lv' := [(6, .int (iI (z_1))), (0, .ref b), (1, .ref x), (2, .ref m), (3, .ref o), (4, .ref od), (5, .int (iI (((6 * i : Nat) : Int))))]) hx hb dL_law_937 hl (by decide) rfl (fun ls hl => ?_)
    refine lv_aload_n hx hb dL_law_939 rfl (lv_at hl 3 rfl) ?_
    refine lv_aload_n hx hb dL_law_940 rfl (lv_at hl 1 rfl) ?_
    refine lv_iload hx hb dL_law_941 (lv_at hl 6 rfl) ?_
    refine h_iconst hx hb dL_law_943 ?_
    refine h_iadd hx hb dL_law_944 ?_
    refine h_sld X hR hSx hbB (by omega) (by omega) dL_law_945 ?_
    refine W.eq (g2 := F0 m9 946 ls [.int (iI (v1)), .ref m]) (congrArg (fun z_ : Int => F0 m9 946 ls [.int (iI (z_)), .ref m]) (show (xs (((6 * i : Nat) : Int) + 1).toNat : Int) = v1 from (by rw [hv_1, show (((6 * i : Nat) : Int) + 1).toNat = 6 * i + 1 by omega]))) ?_
    refine lv_aload_n hx hb dL_law_946 rfl (lv_at hl 1 rfl) ?_
    refine lv_iload hx hb dL_law_947 (lv_at hl 6 rfl) ?_
    refine h_iconst hx hb dL_law_949 ?_
    refine h_iadd hx hb dL_law_950 ?_
    refine h_sld X hR hSx hbB (by omega) (by omega) dL_law_951 ?_
    refine W.eq (g2 := F0 m9 952 ls [.int (iI (v2)), .int (iI (v1)), .ref m]) (congrArg (fun z_ : Int => F0 m9 952 ls [.int (iI (z_)), .int (iI (v1)), .ref m]) (show (xs (((6 * i : Nat) : Int) + 2).toNat : Int) = v2 from (by rw [hv_2, show (((6 * i : Nat) : Int) + 2).toNat = 6 * i + 2 by omega]))) ?_
    -- call SpokenMarksModel.compare
    have hRb := hR
    refine h_kI (h_runV X hR (tt_compare l G w_2 m z _ _ hT hok hb9 v1 v2 r1 r2) pn_yX10_compare (hT.hx) q3161 q3162 q3163 q161 q3164 ⟨by decide, by decide⟩ hl.1 (Nat.le_of_ble_eq_true rfl) dL_law_952 ⟨by omega, by omega⟩) hL (fun z_8 w_9 hp_10 H locs hR hL => ?_)
    obtain ⟨hv2, hT2, hF2, hO2⟩ := hp_10
    obtain ⟨w3, hR, hT3, hF3, hG⟩ := hT2.fix hRb hR hG hF2 hO2
    have hA := hA.tw hT hF3
    have hO := hF3 _ _ _ hO (hT.noL hO)
    have hOd := hF3 _ _ _ hOd (hT.noD hOd)
    have hT := hT3
    refine lv_istore (lv' := [(7, .int (iI (z_8))), (6, .int (iI (z_1))), (0, .ref b), (1, .ref x), (2, .ref m), (3, .ref o), (4, .ref od), (5, .int (iI (((6 * i : Nat) : Int))))]) hx hb dL_law_955 hl (by decide) rfl (fun ls hl => ?_)
    refine lv_aload_n hx hb dL_law_957 rfl (lv_at hl 4 rfl) ?_
    -- call SpokenMarksModel.thrown
    refine h_kIp (h_runV X hR (tt_thrown l G w3 m (aCmp z v1 v2).2.2 ((aCmp z v1 v2).1) hT) pn_yX10_thrown (hT.hx) q2713 q2714 q2715 q161 q2716 ⟨by decide, by decide⟩ hl.1 (Nat.le_of_ble_eq_true rfl) dL_law_958 ⟨by omega, by omega⟩) hL (fun H locs hR hL => ?_)
    refine lv_iload hx hb dL_law_961 (lv_at hl 1 rfl) ?_
    refine h_icmpEq hx hb 968 dL_law_963 (by decide) hkc.symm ?_
    refine lv_iload hx hb dL_law_968 (lv_at hl 1 rfl) ?_
    refine h_if_ne hx hb 985 dL_law_970 (by decide) ⟨by omega, by omega⟩ (fun c_k => ?_) (fun c_k => ?_)
    ·
      refine lv_goto (tgt := 2178) hx hb dL_law_985 (by decide) ?_
      exact kk _ _ _ ⟨(aCmp z v1 v2).2.2, _, hA, hT, ⟨_, hO⟩, ⟨_, hOd⟩, hG, hok1.mono (by omega), by omega, by omega⟩ _ _ _ hR hL (lv_sub hl [2, 3, 4, 5, 6, 7] rfl)
    ·
      refine lv_aload_n hx hb dL_law_973 rfl (lv_at hl 5 rfl) ?_
      refine h_iconst hx hb dL_law_974 ?_
      refine h_lald X hR hO (by omega) (by omega) dL_law_975 ?_
      have hO0 := hOv (by omega)
      refine W.eq (g2 := F0 m9 976 ls [.long (lI (c32 ((aCmp z v1 v2).2.1)))]) (congrArg (fun z_ : Int => F0 m9 976 ls [.long (lI (z_))]) (show (fo (Int.toNat 0) : Int) = c32 ((aCmp z v1 v2).2.1) from (by exact hO0))) ?_
      refine lv_iload hx hb dL_law_976 (lv_at hl 0 rfl) ?_
      refine W.eq (g2 := F0 m9 978 ls [.int (iI (c32 z_8)), .long (lI (c32 ((aCmp z v1 v2).2.1)))]) (by rw [c32_i]) ?_
      refine h_i2l hx hb dL_law_978 (c32_r _) ?_
      refine h_lcmp hx hb dL_law_979 (c32_j _) (c32_j _) ?_
      refine W.eq (g2 := F0 m9 980 ls [.int (iI (0))]) (congrArg (fun z_ : Int => F0 m9 980 ls [.int (iI (z_))]) (show (cmpZ (c32 ((aCmp z v1 v2).2.1)) (c32 z_8) : Int) = 0 from (by rw [hv2]; exact cmpZ_0.mpr rfl))) ?_
      refine h_if_eq hx hb 985 dL_law_980 (by decide) (by decide) (fun _ => ?_) (fun z_ => absurd z_ (by decide))
      refine lv_goto (tgt := 2178) hx hb dL_law_985 (by decide) ?_
      exact kk _ _ _ ⟨(aCmp z v1 v2).2.2, _, hA, hT, ⟨_, hO⟩, ⟨_, hOd⟩, hG, hok1.mono (by omega), by omega, by omega⟩ _ _ _ hR hL (lv_sub hl [2, 3, 4, 5, 6, 7] rfl)

set_option maxHeartbeats 4000000 in
set_option maxRecDepth 100000 in
/-- differ -/
theorem lc_differ {l : Launch} {G : Gl} {p9 : Program} {e9 : Env} {s9 : State} {m9 : MethodId} {a9 : Array Value} {b9 : List Frame} {meth9 : Method} {c9 : Code} {Q9 : State → Prop} (X : HX G p9 s9 m9 a9 c9 cL_law 10 "SpokenMarksLaw") (hSt : l.stackTraces = false) (w : Wd) (b x m o od L : Nat) (xs : Nat → Int) (hxs : ∀ j, R32 (xs j)) (hSx : va_X b L (fun j => iI (xs j)) s9 (gH G)) (hbB : b < gB G) (i : Nat) (hi : i < 24) (hiL : 6 * i + 6 ≤ L) (hL9 : L ≤ 144) (U V : Nat) (hI : LI G w x m o od i U V) (H : Heap) (locs : List Loc) (ls : Array Slot) (hR : Rp G w H) (hL : LK G locs) (hl : lv_has ls 10 [(0, .ref b), (1, .ref x), (2, .ref m), (3, .ref o), (4, .ref od), (5, .int (iI ((6 * i : Nat) : Int)))])
  (kk : ∀ (w1 : Wd) (U1 V1 : Nat), LI G w1 x m o od (i + 1) U1 V1 → ∀ (H1 : Heap) (locs1 : List Loc) (ls1 : Array Slot), Rp G w1 H1 → LK G locs1 → lv_has ls1 10 [(0, .ref b), (1, .ref x), (2, .ref m), (3, .ref o), (4, .ref od), (5, .int (iI ((6 * i : Nat) : Int)))] → W p9 l e9 (rmk 26 1200048 5501818) s9 m9 a9 b9 meth9 c9 H1 locs1 U1 V1 Q9 (F0 m9 2178 ls1 [])) : W p9 l e9 (rmk 26 1200048 5501818) s9 m9 a9 b9 meth9 c9 H locs U V Q9 (F0 m9 988 ls []) := by
  have hx := X.1.1
  have hb := X.1.2.1
  obtain ⟨z, k0, hA, hT, ⟨fo, hO⟩, ⟨fd, hOd⟩, hG, hok, hU, hV⟩ := hI
  have hb2 : (2200 : Int) ≤ 3000 + 1000 * (i : Int) := by omega
  have hb9 : (3000 : Int) + 1000 * (i : Int) < 890000 := by omega
  obtain ⟨v1, hv_1⟩ : ∃ v_, v_ = xs (6 * i + 1) := ⟨_, rfl⟩
  have r1 : R32 v1 := by rw [hv_1]; exact hxs _
  obtain ⟨v2, hv_2⟩ : ∃ v_, v_ = xs (6 * i + 2) := ⟨_, rfl⟩
  have r2 : R32 v2 := by rw [hv_2]; exact hxs _
  have hbl : (zB ((aDif z v1 v2).2.2)).length ≤ (zB z).length := Nat.le_refl _
  refine lv_aload_n hx hb dL_law_988 rfl (lv_at hl 1 rfl) ?_
  refine lv_aload_n hx hb dL_law_989 rfl (lv_at hl 0 rfl) ?_
  refine lv_iload hx hb dL_law_990 (lv_at hl 5 rfl) ?_
  refine h_iconst hx hb dL_law_992 ?_
  refine h_iadd hx hb dL_law_993 ?_
  refine h_sld X hR hSx hbB (by omega) (by omega) dL_law_994 ?_
  refine W.eq (g2 := F0 m9 995 ls [.int (iI (v1)), .ref x]) (congrArg (fun z_ : Int => F0 m9 995 ls [.int (iI (z_)), .ref x]) (show (xs (((6 * i : Nat) : Int) + 1).toNat : Int) = v1 from (by rw [hv_1, show (((6 * i : Nat) : Int) + 1).toNat = 6 * i + 1 by omega]))) ?_
  refine lv_aload_n hx hb dL_law_995 rfl (lv_at hl 0 rfl) ?_
  refine lv_iload hx hb dL_law_996 (lv_at hl 5 rfl) ?_
  refine h_iconst hx hb dL_law_998 ?_
  refine h_iadd hx hb dL_law_999 ?_
  refine h_sld X hR hSx hbB (by omega) (by omega) dL_law_1000 ?_
  refine W.eq (g2 := F0 m9 1001 ls [.int (iI (v2)), .int (iI (v1)), .ref x]) (congrArg (fun z_ : Int => F0 m9 1001 ls [.int (iI (z_)), .int (iI (v1)), .ref x]) (show (xs (((6 * i : Nat) : Int) + 2).toNat : Int) = v2 from (by rw [hv_2, show (((6 * i : Nat) : Int) + 2).toNat = 6 * i + 2 by omega]))) ?_
  refine lv_aload_n hx hb dL_law_1001 rfl (lv_at hl 3 rfl) ?_
  -- call SpokenMarksLaw.differ
  refine h_xI (h_xrunTS X hR (ww_differ l G w hSt x z _ hA hok hb2 hb9 hG v1 v2 r1 r2 o fo hO) pn_yX0_differ q2366 q2367 q119 q2368 ⟨by decide, by decide⟩ hl.1 (Nat.le_of_ble_eq_true rfl) dL_law_1002 ⟨by omega, by omega⟩) hL (fun xq_4 E_5 ce_ w_6 hx__7 H locs hR hL hce_ hcv_ hcl_ => ?_) (fun z_1 w_2 hp_3 H locs hR hL => ?_)
  ·
    exact absurd hx__7 id
  ·
    obtain ⟨⟨hk3, hkc⟩, hA, hKt, hG, hok1, ⟨fo, hO, hOv⟩, hKd⟩ := hp_3
    have hOd := hKd _ _ hOd
    have hT := hT.kt hKt
    refine lv_istore (lv' := [(6, .int (iI (z_1))), (0, .ref b), (1, .ref x), (2, .ref m), (3, .ref o), (4, .ref od), (5, .int (iI (((6 * i : Nat) : Int))))]) hx hb dL_law_1005 hl (by decide) rfl (fun ls hl => ?_)
    refine lv_aload_n hx hb dL_law_1007 rfl (lv_at hl 3 rfl) ?_
    refine lv_aload_n hx hb dL_law_1008 rfl (lv_at hl 1 rfl) ?_
    refine lv_iload hx hb dL_law_1009 (lv_at hl 6 rfl) ?_
    refine h_iconst hx hb dL_law_1011 ?_
    refine h_iadd hx hb dL_law_1012 ?_
    refine h_sld X hR hSx hbB (by omega) (by omega) dL_law_1013 ?_
    refine W.eq (g2 := F0 m9 1014 ls [.int (iI (v1)), .ref m]) (congrArg (fun z_ : Int => F0 m9 1014 ls [.int (iI (z_)), .ref m]) (show (xs (((6 * i : Nat) : Int) + 1).toNat : Int) = v1 from (by rw [hv_1, show (((6 * i : Nat) : Int) + 1).toNat = 6 * i + 1 by omega]))) ?_
    refine lv_aload_n hx hb dL_law_1014 rfl (lv_at hl 1 rfl) ?_
    refine lv_iload hx hb dL_law_1015 (lv_at hl 6 rfl) ?_
    refine h_iconst hx hb dL_law_1017 ?_
    refine h_iadd hx hb dL_law_1018 ?_
    refine h_sld X hR hSx hbB (by omega) (by omega) dL_law_1019 ?_
    refine W.eq (g2 := F0 m9 1020 ls [.int (iI (v2)), .int (iI (v1)), .ref m]) (congrArg (fun z_ : Int => F0 m9 1020 ls [.int (iI (z_)), .int (iI (v1)), .ref m]) (show (xs (((6 * i : Nat) : Int) + 2).toNat : Int) = v2 from (by rw [hv_2, show (((6 * i : Nat) : Int) + 2).toNat = 6 * i + 2 by omega]))) ?_
    -- call SpokenMarksModel.differ
    have hRb := hR
    refine h_kI (h_runV X hR (tt_differ l G w_2 m z _ _ hT hok hb9 v1 v2 r1 r2) pn_yX10_differ (hT.hx) q3165 q3166 q3167 q161 q3168 ⟨by decide, by decide⟩ hl.1 (Nat.le_of_ble_eq_true rfl) dL_law_1020 ⟨by omega, by omega⟩) hL (fun z_8 w_9 hp_10 H locs hR hL => ?_)
    obtain ⟨hv2, hT2, hF2, hO2⟩ := hp_10
    obtain ⟨w3, hR, hT3, hF3, hG⟩ := hT2.fix hRb hR hG hF2 hO2
    have hA := hA.tw hT hF3
    have hO := hF3 _ _ _ hO (hT.noL hO)
    have hOd := hF3 _ _ _ hOd (hT.noD hOd)
    have hT := hT3
    refine lv_istore (lv' := [(7, .int (iI (z_8))), (6, .int (iI (z_1))), (0, .ref b), (1, .ref x), (2, .ref m), (3, .ref o), (4, .ref od), (5, .int (iI (((6 * i : Nat) : Int))))]) hx hb dL_law_1023 hl (by decide) rfl (fun ls hl => ?_)
    refine lv_aload_n hx hb dL_law_1025 rfl (lv_at hl 4 rfl) ?_
    -- call SpokenMarksModel.thrown
    refine h_kIp (h_runV X hR (tt_thrown l G w3 m (aDif z v1 v2).2.2 ((aDif z v1 v2).1) hT) pn_yX10_thrown (hT.hx) q2713 q2714 q2715 q161 q2716 ⟨by decide, by decide⟩ hl.1 (Nat.le_of_ble_eq_true rfl) dL_law_1026 ⟨by omega, by omega⟩) hL (fun H locs hR hL => ?_)
    refine lv_iload hx hb dL_law_1029 (lv_at hl 1 rfl) ?_
    refine h_icmpEq hx hb 1036 dL_law_1031 (by decide) hkc.symm ?_
    refine lv_iload hx hb dL_law_1036 (lv_at hl 1 rfl) ?_
    refine h_if_ne hx hb 1053 dL_law_1038 (by decide) ⟨by omega, by omega⟩ (fun c_k => ?_) (fun c_k => ?_)
    ·
      refine lv_goto (tgt := 2178) hx hb dL_law_1053 (by decide) ?_
      exact kk _ _ _ ⟨(aDif z v1 v2).2.2, _, hA, hT, ⟨_, hO⟩, ⟨_, hOd⟩, hG, hok1.mono (by omega), by omega, by omega⟩ _ _ _ hR hL (lv_sub hl [2, 3, 4, 5, 6, 7] rfl)
    ·
      refine lv_aload_n hx hb dL_law_1041 rfl (lv_at hl 5 rfl) ?_
      refine h_iconst hx hb dL_law_1042 ?_
      refine h_lald X hR hO (by omega) (by omega) dL_law_1043 ?_
      have hO0 := hOv (by omega)
      refine W.eq (g2 := F0 m9 1044 ls [.long (lI (c32 ((aDif z v1 v2).2.1)))]) (congrArg (fun z_ : Int => F0 m9 1044 ls [.long (lI (z_))]) (show (fo (Int.toNat 0) : Int) = c32 ((aDif z v1 v2).2.1) from (by exact hO0))) ?_
      refine lv_iload hx hb dL_law_1044 (lv_at hl 0 rfl) ?_
      refine W.eq (g2 := F0 m9 1046 ls [.int (iI (c32 z_8)), .long (lI (c32 ((aDif z v1 v2).2.1)))]) (by rw [c32_i]) ?_
      refine h_i2l hx hb dL_law_1046 (c32_r _) ?_
      refine h_lcmp hx hb dL_law_1047 (c32_j _) (c32_j _) ?_
      refine W.eq (g2 := F0 m9 1048 ls [.int (iI (0))]) (congrArg (fun z_ : Int => F0 m9 1048 ls [.int (iI (z_))]) (show (cmpZ (c32 ((aDif z v1 v2).2.1)) (c32 z_8) : Int) = 0 from (by rw [hv2]; exact cmpZ_0.mpr rfl))) ?_
      refine h_if_eq hx hb 1053 dL_law_1048 (by decide) (by decide) (fun _ => ?_) (fun z_ => absurd z_ (by decide))
      refine lv_goto (tgt := 2178) hx hb dL_law_1053 (by decide) ?_
      exact kk _ _ _ ⟨(aDif z v1 v2).2.2, _, hA, hT, ⟨_, hO⟩, ⟨_, hOd⟩, hG, hok1.mono (by omega), by omega, by omega⟩ _ _ _ hR hL (lv_sub hl [2, 3, 4, 5, 6, 7] rfl)

set_option maxHeartbeats 4000000 in
set_option maxRecDepth 100000 in
/-- alike -/
theorem lc_alike {l : Launch} {G : Gl} {p9 : Program} {e9 : Env} {s9 : State} {m9 : MethodId} {a9 : Array Value} {b9 : List Frame} {meth9 : Method} {c9 : Code} {Q9 : State → Prop} (X : HX G p9 s9 m9 a9 c9 cL_law 10 "SpokenMarksLaw") (hSt : l.stackTraces = false) (w : Wd) (b x m o od L : Nat) (xs : Nat → Int) (hxs : ∀ j, R32 (xs j)) (hSx : va_X b L (fun j => iI (xs j)) s9 (gH G)) (hbB : b < gB G) (i : Nat) (hi : i < 24) (hiL : 6 * i + 6 ≤ L) (hL9 : L ≤ 144) (U V : Nat) (hI : LI G w x m o od i U V) (H : Heap) (locs : List Loc) (ls : Array Slot) (hR : Rp G w H) (hL : LK G locs) (hl : lv_has ls 10 [(0, .ref b), (1, .ref x), (2, .ref m), (3, .ref o), (4, .ref od), (5, .int (iI ((6 * i : Nat) : Int)))])
  (kk : ∀ (w1 : Wd) (U1 V1 : Nat), LI G w1 x m o od (i + 1) U1 V1 → ∀ (H1 : Heap) (locs1 : List Loc) (ls1 : Array Slot), Rp G w1 H1 → LK G locs1 → lv_has ls1 10 [(0, .ref b), (1, .ref x), (2, .ref m), (3, .ref o), (4, .ref od), (5, .int (iI ((6 * i : Nat) : Int)))] → W p9 l e9 (rmk 26 1200048 5501818) s9 m9 a9 b9 meth9 c9 H1 locs1 U1 V1 Q9 (F0 m9 2178 ls1 [])) : W p9 l e9 (rmk 26 1200048 5501818) s9 m9 a9 b9 meth9 c9 H locs U V Q9 (F0 m9 1056 ls []) := by
  have hx := X.1.1
  have hb := X.1.2.1
  obtain ⟨z, k0, hA, hT, ⟨fo, hO⟩, ⟨fd, hOd⟩, hG, hok, hU, hV⟩ := hI
  have hb2 : (2200 : Int) ≤ 3000 + 1000 * (i : Int) := by omega
  have hb9 : (3000 : Int) + 1000 * (i : Int) < 890000 := by omega
  have hbl : (zB ((aAlk z).2.2)).length ≤ (zB z).length := Nat.le_refl _
  refine lv_aload_n hx hb dL_law_1056 rfl (lv_at hl 1 rfl) ?_
  -- call SpokenMarks.alike
  refine h_kI (h_runV X hR (cc_alike l G w hSt x z _ hA hok hb2 hb9 hG ) pn_yX1_alike (hA.hx) q1754 q1755 q1756 q120 q1757 ⟨by decide, by decide⟩ hl.1 (Nat.le_of_ble_eq_true rfl) dL_law_1057 ⟨by omega, by omega⟩) hL (fun z_1 w_2 hp_3 H locs hR hL => ?_)
  obtain ⟨-, hv1, hA, hKp, hG, hok1⟩ := hp_3
  have hT := hT.kt hKp.t
  have hO := hKp.2.2.1 _ _ _ hO
  have hOd := hKp.2.2.2 _ _ _ hOd
  refine lv_aload_n hx hb dL_law_1060 rfl (lv_at hl 2 rfl) ?_
  -- call SpokenMarksModel.alike
  have hRb := hR
  refine h_kI (h_runV X hR (tt_alike l G w_2 m z _ _ hT hok hb9 ) pn_yX10_alike (hT.hx) q3173 q3174 q3175 q161 q3176 ⟨by decide, by decide⟩ hl.1 (Nat.le_of_ble_eq_true rfl) dL_law_1061 ⟨by omega, by omega⟩) hL (fun z_4 w_5 hp_6 H locs hR hL => ?_)
  obtain ⟨hv2, hT2, hF2, hO2⟩ := hp_6
  obtain ⟨k2, hT2⟩ := hT2
  obtain ⟨w3, hR, hT3, hF3, hG⟩ := hT2.fix hRb hR hG hF2 hO2
  have hA := hA.tw hT hF3
  have hO := hF3 _ _ _ hO (hT.noL hO)
  have hOd := hF3 _ _ _ hOd (hT.noD hOd)
  have hT := hT3
  refine h_icmpEq hx hb 2178 dL_law_1064 (by decide) (hv1.trans hv2.symm) ?_
  exact kk _ _ _ ⟨(aAlk z).2.2, _, hA, hT, ⟨_, hO⟩, ⟨_, hOd⟩, hG, hok1.mono (by omega), by omega, by omega⟩ _ _ _ hR hL (lv_sub hl [0, 1, 2, 3, 4, 5] rfl)

set_option maxHeartbeats 4000000 in
set_option maxRecDepth 100000 in
/-- free -/
theorem lc_free {l : Launch} {G : Gl} {p9 : Program} {e9 : Env} {s9 : State} {m9 : MethodId} {a9 : Array Value} {b9 : List Frame} {meth9 : Method} {c9 : Code} {Q9 : State → Prop} (X : HX G p9 s9 m9 a9 c9 cL_law 10 "SpokenMarksLaw") (hSt : l.stackTraces = false) (w : Wd) (b x m o od L : Nat) (xs : Nat → Int) (hxs : ∀ j, R32 (xs j)) (hSx : va_X b L (fun j => iI (xs j)) s9 (gH G)) (hbB : b < gB G) (i : Nat) (hi : i < 24) (hiL : 6 * i + 6 ≤ L) (hL9 : L ≤ 144) (U V : Nat) (hI : LI G w x m o od i U V) (H : Heap) (locs : List Loc) (ls : Array Slot) (hR : Rp G w H) (hL : LK G locs) (hl : lv_has ls 10 [(0, .ref b), (1, .ref x), (2, .ref m), (3, .ref o), (4, .ref od), (5, .int (iI ((6 * i : Nat) : Int)))])
  (kk : ∀ (w1 : Wd) (U1 V1 : Nat), LI G w1 x m o od (i + 1) U1 V1 → ∀ (H1 : Heap) (locs1 : List Loc) (ls1 : Array Slot), Rp G w1 H1 → LK G locs1 → lv_has ls1 10 [(0, .ref b), (1, .ref x), (2, .ref m), (3, .ref o), (4, .ref od), (5, .int (iI ((6 * i : Nat) : Int)))] → W p9 l e9 (rmk 26 1200048 5501818) s9 m9 a9 b9 meth9 c9 H1 locs1 U1 V1 Q9 (F0 m9 2178 ls1 [])) : W p9 l e9 (rmk 26 1200048 5501818) s9 m9 a9 b9 meth9 c9 H locs U V Q9 (F0 m9 1069 ls []) := by
  have hx := X.1.1
  have hb := X.1.2.1
  obtain ⟨z, k0, hA, hT, ⟨fo, hO⟩, ⟨fd, hOd⟩, hG, hok, hU, hV⟩ := hI
  have hb2 : (2200 : Int) ≤ 3000 + 1000 * (i : Int) := by omega
  have hb9 : (3000 : Int) + 1000 * (i : Int) < 890000 := by omega
  obtain ⟨v1, hv_1⟩ : ∃ v_, v_ = xs (6 * i + 1) := ⟨_, rfl⟩
  have r1 : R32 v1 := by rw [hv_1]; exact hxs _
  have hbl : (zB ((aFre z v1).2.2)).length ≤ (zB z).length := Nat.le_refl _
  refine lv_aload_n hx hb dL_law_1069 rfl (lv_at hl 1 rfl) ?_
  refine lv_aload_n hx hb dL_law_1070 rfl (lv_at hl 0 rfl) ?_
  refine lv_iload hx hb dL_law_1071 (lv_at hl 5 rfl) ?_
  refine h_iconst hx hb dL_law_1073 ?_
  refine h_iadd hx hb dL_law_1074 ?_
  refine h_sld X hR hSx hbB (by omega) (by omega) dL_law_1075 ?_
  refine W.eq (g2 := F0 m9 1076 ls [.int (iI (v1)), .ref x]) (congrArg (fun z_ : Int => F0 m9 1076 ls [.int (iI (z_)), .ref x]) (show (xs (((6 * i : Nat) : Int) + 1).toNat : Int) = v1 from (by rw [hv_1, show (((6 * i : Nat) : Int) + 1).toNat = 6 * i + 1 by omega]))) ?_
  refine lv_aload_n hx hb dL_law_1076 rfl (lv_at hl 3 rfl) ?_
  -- call SpokenMarksLaw.free
  refine h_xI (h_xrunTS X hR (ww_free l G w hSt x z _ hA hok hb2 hb9 hG v1 r1 o fo hO) pn_yX0_free q2374 q2375 q119 q2376 ⟨by decide, by decide⟩ hl.1 (Nat.le_of_ble_eq_true rfl) dL_law_1077 ⟨by omega, by omega⟩) hL (fun xq_4 E_5 ce_ w_6 hx__7 H locs hR hL hce_ hcv_ hcl_ => ?_) (fun z_1 w_2 hp_3 H locs hR hL => ?_)
  ·
    exact absurd hx__7 id
  ·
    obtain ⟨⟨hk3, hkc⟩, hA, hKt, hG, hok1, ⟨fo, hO, hOv⟩, hKd⟩ := hp_3
    have hOd := hKd _ _ hOd
    have hT := hT.kt hKt
    refine lv_istore (lv' := [(6, .int (iI (z_1))), (0, .ref b), (1, .ref x), (2, .ref m), (3, .ref o), (4, .ref od), (5, .int (iI (((6 * i : Nat) : Int))))]) hx hb dL_law_1080 hl (by decide) rfl (fun ls hl => ?_)
    refine lv_aload_n hx hb dL_law_1082 rfl (lv_at hl 3 rfl) ?_
    refine lv_aload_n hx hb dL_law_1083 rfl (lv_at hl 1 rfl) ?_
    refine lv_iload hx hb dL_law_1084 (lv_at hl 6 rfl) ?_
    refine h_iconst hx hb dL_law_1086 ?_
    refine h_iadd hx hb dL_law_1087 ?_
    refine h_sld X hR hSx hbB (by omega) (by omega) dL_law_1088 ?_
    refine W.eq (g2 := F0 m9 1089 ls [.int (iI (v1)), .ref m]) (congrArg (fun z_ : Int => F0 m9 1089 ls [.int (iI (z_)), .ref m]) (show (xs (((6 * i : Nat) : Int) + 1).toNat : Int) = v1 from (by rw [hv_1, show (((6 * i : Nat) : Int) + 1).toNat = 6 * i + 1 by omega]))) ?_
    -- call SpokenMarksModel.free
    have hRb := hR
    refine h_kI (h_runV X hR (tt_free l G w_2 m z _ _ hT hok hb9 v1 r1) pn_yX10_free (hT.hx) q3177 q3178 q3179 q161 q3180 ⟨by decide, by decide⟩ hl.1 (Nat.le_of_ble_eq_true rfl) dL_law_1089 ⟨by omega, by omega⟩) hL (fun z_8 w_9 hp_10 H locs hR hL => ?_)
    obtain ⟨hv2, hT2, hF2, hO2⟩ := hp_10
    obtain ⟨w3, hR, hT3, hF3, hG⟩ := hT2.fix hRb hR hG hF2 hO2
    have hA := hA.tw hT hF3
    have hO := hF3 _ _ _ hO (hT.noL hO)
    have hOd := hF3 _ _ _ hOd (hT.noD hOd)
    have hT := hT3
    refine lv_istore (lv' := [(7, .int (iI (z_8))), (6, .int (iI (z_1))), (0, .ref b), (1, .ref x), (2, .ref m), (3, .ref o), (4, .ref od), (5, .int (iI (((6 * i : Nat) : Int))))]) hx hb dL_law_1092 hl (by decide) rfl (fun ls hl => ?_)
    refine lv_aload_n hx hb dL_law_1094 rfl (lv_at hl 4 rfl) ?_
    -- call SpokenMarksModel.thrown
    refine h_kIp (h_runV X hR (tt_thrown l G w3 m (aFre z v1).2.2 ((aFre z v1).1) hT) pn_yX10_thrown (hT.hx) q2713 q2714 q2715 q161 q2716 ⟨by decide, by decide⟩ hl.1 (Nat.le_of_ble_eq_true rfl) dL_law_1095 ⟨by omega, by omega⟩) hL (fun H locs hR hL => ?_)
    refine lv_iload hx hb dL_law_1098 (lv_at hl 1 rfl) ?_
    refine h_icmpEq hx hb 1105 dL_law_1100 (by decide) hkc.symm ?_
    refine lv_iload hx hb dL_law_1105 (lv_at hl 1 rfl) ?_
    refine h_if_ne hx hb 1122 dL_law_1107 (by decide) ⟨by omega, by omega⟩ (fun c_k => ?_) (fun c_k => ?_)
    ·
      refine lv_goto (tgt := 2178) hx hb dL_law_1122 (by decide) ?_
      exact kk _ _ _ ⟨(aFre z v1).2.2, _, hA, hT, ⟨_, hO⟩, ⟨_, hOd⟩, hG, hok1.mono (by omega), by omega, by omega⟩ _ _ _ hR hL (lv_sub hl [2, 3, 4, 5, 6, 7] rfl)
    ·
      refine lv_aload_n hx hb dL_law_1110 rfl (lv_at hl 5 rfl) ?_
      refine h_iconst hx hb dL_law_1111 ?_
      refine h_lald X hR hO (by omega) (by omega) dL_law_1112 ?_
      have hO0 := hOv (by omega)
      refine W.eq (g2 := F0 m9 1113 ls [.long (lI (c32 ((aFre z v1).2.1)))]) (congrArg (fun z_ : Int => F0 m9 1113 ls [.long (lI (z_))]) (show (fo (Int.toNat 0) : Int) = c32 ((aFre z v1).2.1) from (by exact hO0))) ?_
      refine lv_iload hx hb dL_law_1113 (lv_at hl 0 rfl) ?_
      refine W.eq (g2 := F0 m9 1115 ls [.int (iI (c32 z_8)), .long (lI (c32 ((aFre z v1).2.1)))]) (by rw [c32_i]) ?_
      refine h_i2l hx hb dL_law_1115 (c32_r _) ?_
      refine h_lcmp hx hb dL_law_1116 (c32_j _) (c32_j _) ?_
      refine W.eq (g2 := F0 m9 1117 ls [.int (iI (0))]) (congrArg (fun z_ : Int => F0 m9 1117 ls [.int (iI (z_))]) (show (cmpZ (c32 ((aFre z v1).2.1)) (c32 z_8) : Int) = 0 from (by rw [hv2]; exact cmpZ_0.mpr rfl))) ?_
      refine h_if_eq hx hb 1122 dL_law_1117 (by decide) (by decide) (fun _ => ?_) (fun z_ => absurd z_ (by decide))
      refine lv_goto (tgt := 2178) hx hb dL_law_1122 (by decide) ?_
      exact kk _ _ _ ⟨(aFre z v1).2.2, _, hA, hT, ⟨_, hO⟩, ⟨_, hOd⟩, hG, hok1.mono (by omega), by omega, by omega⟩ _ _ _ hR hL (lv_sub hl [2, 3, 4, 5, 6, 7] rfl)

set_option maxHeartbeats 4000000 in
set_option maxRecDepth 100000 in
/-- family -/
theorem lc_family {l : Launch} {G : Gl} {p9 : Program} {e9 : Env} {s9 : State} {m9 : MethodId} {a9 : Array Value} {b9 : List Frame} {meth9 : Method} {c9 : Code} {Q9 : State → Prop} (X : HX G p9 s9 m9 a9 c9 cL_law 10 "SpokenMarksLaw") (hSt : l.stackTraces = false) (w : Wd) (b x m o od L : Nat) (xs : Nat → Int) (hxs : ∀ j, R32 (xs j)) (hSx : va_X b L (fun j => iI (xs j)) s9 (gH G)) (hbB : b < gB G) (i : Nat) (hi : i < 24) (hiL : 6 * i + 6 ≤ L) (hL9 : L ≤ 144) (U V : Nat) (hI : LI G w x m o od i U V) (H : Heap) (locs : List Loc) (ls : Array Slot) (hR : Rp G w H) (hL : LK G locs) (hl : lv_has ls 10 [(0, .ref b), (1, .ref x), (2, .ref m), (3, .ref o), (4, .ref od), (5, .int (iI ((6 * i : Nat) : Int)))])
  (kk : ∀ (w1 : Wd) (U1 V1 : Nat), LI G w1 x m o od (i + 1) U1 V1 → ∀ (H1 : Heap) (locs1 : List Loc) (ls1 : Array Slot), Rp G w1 H1 → LK G locs1 → lv_has ls1 10 [(0, .ref b), (1, .ref x), (2, .ref m), (3, .ref o), (4, .ref od), (5, .int (iI ((6 * i : Nat) : Int)))] → W p9 l e9 (rmk 26 1200048 5501818) s9 m9 a9 b9 meth9 c9 H1 locs1 U1 V1 Q9 (F0 m9 2178 ls1 [])) : W p9 l e9 (rmk 26 1200048 5501818) s9 m9 a9 b9 meth9 c9 H locs U V Q9 (F0 m9 1125 ls []) := by
  have hx := X.1.1
  have hb := X.1.2.1
  obtain ⟨z, k0, hA, hT, ⟨fo, hO⟩, ⟨fd, hOd⟩, hG, hok, hU, hV⟩ := hI
  have hb2 : (2200 : Int) ≤ 3000 + 1000 * (i : Int) := by omega
  have hb9 : (3000 : Int) + 1000 * (i : Int) < 890000 := by omega
  obtain ⟨v1, hv_1⟩ : ∃ v_, v_ = xs (6 * i + 1) := ⟨_, rfl⟩
  have r1 : R32 v1 := by rw [hv_1]; exact hxs _
  have hbl : (zB ((aFam z v1).2.2)).length ≤ (zB z).length := Nat.le_refl _
  refine lv_aload_n hx hb dL_law_1125 rfl (lv_at hl 1 rfl) ?_
  refine lv_aload_n hx hb dL_law_1126 rfl (lv_at hl 0 rfl) ?_
  refine lv_iload hx hb dL_law_1127 (lv_at hl 5 rfl) ?_
  refine h_iconst hx hb dL_law_1129 ?_
  refine h_iadd hx hb dL_law_1130 ?_
  refine h_sld X hR hSx hbB (by omega) (by omega) dL_law_1131 ?_
  refine W.eq (g2 := F0 m9 1132 ls [.int (iI (v1)), .ref x]) (congrArg (fun z_ : Int => F0 m9 1132 ls [.int (iI (z_)), .ref x]) (show (xs (((6 * i : Nat) : Int) + 1).toNat : Int) = v1 from (by rw [hv_1, show (((6 * i : Nat) : Int) + 1).toNat = 6 * i + 1 by omega]))) ?_
  refine lv_aload_n hx hb dL_law_1132 rfl (lv_at hl 3 rfl) ?_
  -- call SpokenMarksLaw.family
  refine h_xI (h_xrunTS X hR (ww_family l G w hSt x z _ hA hok hb2 hb9 hG v1 r1 o fo hO) pn_yX0_family q2382 q2383 q119 q2384 ⟨by decide, by decide⟩ hl.1 (Nat.le_of_ble_eq_true rfl) dL_law_1133 ⟨by omega, by omega⟩) hL (fun xq_4 E_5 ce_ w_6 hx__7 H locs hR hL hce_ hcv_ hcl_ => ?_) (fun z_1 w_2 hp_3 H locs hR hL => ?_)
  ·
    exact absurd hx__7 id
  ·
    obtain ⟨⟨hk3, hkc⟩, hA, hKt, hG, hok1, ⟨fo, hO, hOv⟩, hKd⟩ := hp_3
    have hOd := hKd _ _ hOd
    have hT := hT.kt hKt
    refine lv_istore (lv' := [(6, .int (iI (z_1))), (0, .ref b), (1, .ref x), (2, .ref m), (3, .ref o), (4, .ref od), (5, .int (iI (((6 * i : Nat) : Int))))]) hx hb dL_law_1136 hl (by decide) rfl (fun ls hl => ?_)
    refine lv_aload_n hx hb dL_law_1138 rfl (lv_at hl 3 rfl) ?_
    refine lv_aload_n hx hb dL_law_1139 rfl (lv_at hl 1 rfl) ?_
    refine lv_iload hx hb dL_law_1140 (lv_at hl 6 rfl) ?_
    refine h_iconst hx hb dL_law_1142 ?_
    refine h_iadd hx hb dL_law_1143 ?_
    refine h_sld X hR hSx hbB (by omega) (by omega) dL_law_1144 ?_
    refine W.eq (g2 := F0 m9 1145 ls [.int (iI (v1)), .ref m]) (congrArg (fun z_ : Int => F0 m9 1145 ls [.int (iI (z_)), .ref m]) (show (xs (((6 * i : Nat) : Int) + 1).toNat : Int) = v1 from (by rw [hv_1, show (((6 * i : Nat) : Int) + 1).toNat = 6 * i + 1 by omega]))) ?_
    -- call SpokenMarksModel.family
    have hRb := hR
    refine h_kI (h_runV X hR (tt_family l G w_2 m z _ _ hT hok hb9 v1 r1) pn_yX10_family (hT.hx) q3181 q3182 q3183 q161 q3184 ⟨by decide, by decide⟩ hl.1 (Nat.le_of_ble_eq_true rfl) dL_law_1145 ⟨by omega, by omega⟩) hL (fun z_8 w_9 hp_10 H locs hR hL => ?_)
    obtain ⟨hv2, hT2, hF2, hO2⟩ := hp_10
    obtain ⟨w3, hR, hT3, hF3, hG⟩ := hT2.fix hRb hR hG hF2 hO2
    have hA := hA.tw hT hF3
    have hO := hF3 _ _ _ hO (hT.noL hO)
    have hOd := hF3 _ _ _ hOd (hT.noD hOd)
    have hT := hT3
    refine lv_istore (lv' := [(7, .int (iI (z_8))), (6, .int (iI (z_1))), (0, .ref b), (1, .ref x), (2, .ref m), (3, .ref o), (4, .ref od), (5, .int (iI (((6 * i : Nat) : Int))))]) hx hb dL_law_1148 hl (by decide) rfl (fun ls hl => ?_)
    refine lv_aload_n hx hb dL_law_1150 rfl (lv_at hl 4 rfl) ?_
    -- call SpokenMarksModel.thrown
    refine h_kIp (h_runV X hR (tt_thrown l G w3 m (aFam z v1).2.2 ((aFam z v1).1) hT) pn_yX10_thrown (hT.hx) q2713 q2714 q2715 q161 q2716 ⟨by decide, by decide⟩ hl.1 (Nat.le_of_ble_eq_true rfl) dL_law_1151 ⟨by omega, by omega⟩) hL (fun H locs hR hL => ?_)
    refine lv_iload hx hb dL_law_1154 (lv_at hl 1 rfl) ?_
    refine h_icmpEq hx hb 1161 dL_law_1156 (by decide) hkc.symm ?_
    refine lv_iload hx hb dL_law_1161 (lv_at hl 1 rfl) ?_
    refine h_if_ne hx hb 1178 dL_law_1163 (by decide) ⟨by omega, by omega⟩ (fun c_k => ?_) (fun c_k => ?_)
    ·
      refine lv_goto (tgt := 2178) hx hb dL_law_1178 (by decide) ?_
      exact kk _ _ _ ⟨(aFam z v1).2.2, _, hA, hT, ⟨_, hO⟩, ⟨_, hOd⟩, hG, hok1.mono (by omega), by omega, by omega⟩ _ _ _ hR hL (lv_sub hl [2, 3, 4, 5, 6, 7] rfl)
    ·
      refine lv_aload_n hx hb dL_law_1166 rfl (lv_at hl 5 rfl) ?_
      refine h_iconst hx hb dL_law_1167 ?_
      refine h_lald X hR hO (by omega) (by omega) dL_law_1168 ?_
      have hO0 := hOv (by omega)
      refine W.eq (g2 := F0 m9 1169 ls [.long (lI (c32 ((aFam z v1).2.1)))]) (congrArg (fun z_ : Int => F0 m9 1169 ls [.long (lI (z_))]) (show (fo (Int.toNat 0) : Int) = c32 ((aFam z v1).2.1) from (by exact hO0))) ?_
      refine lv_iload hx hb dL_law_1169 (lv_at hl 0 rfl) ?_
      refine W.eq (g2 := F0 m9 1171 ls [.int (iI (c32 z_8)), .long (lI (c32 ((aFam z v1).2.1)))]) (by rw [c32_i]) ?_
      refine h_i2l hx hb dL_law_1171 (c32_r _) ?_
      refine h_lcmp hx hb dL_law_1172 (c32_j _) (c32_j _) ?_
      refine W.eq (g2 := F0 m9 1173 ls [.int (iI (0))]) (congrArg (fun z_ : Int => F0 m9 1173 ls [.int (iI (z_))]) (show (cmpZ (c32 ((aFam z v1).2.1)) (c32 z_8) : Int) = 0 from (by rw [hv2]; exact cmpZ_0.mpr rfl))) ?_
      refine h_if_eq hx hb 1178 dL_law_1173 (by decide) (by decide) (fun _ => ?_) (fun z_ => absurd z_ (by decide))
      refine lv_goto (tgt := 2178) hx hb dL_law_1178 (by decide) ?_
      exact kk _ _ _ ⟨(aFam z v1).2.2, _, hA, hT, ⟨_, hO⟩, ⟨_, hOd⟩, hG, hok1.mono (by omega), by omega, by omega⟩ _ _ _ hR hL (lv_sub hl [2, 3, 4, 5, 6, 7] rfl)

set_option maxHeartbeats 4000000 in
set_option maxRecDepth 100000 in
/-- soundsLike -/
theorem lc_soundsLike {l : Launch} {G : Gl} {p9 : Program} {e9 : Env} {s9 : State} {m9 : MethodId} {a9 : Array Value} {b9 : List Frame} {meth9 : Method} {c9 : Code} {Q9 : State → Prop} (X : HX G p9 s9 m9 a9 c9 cL_law 10 "SpokenMarksLaw") (hSt : l.stackTraces = false) (w : Wd) (b x m o od L : Nat) (xs : Nat → Int) (hxs : ∀ j, R32 (xs j)) (hSx : va_X b L (fun j => iI (xs j)) s9 (gH G)) (hbB : b < gB G) (i : Nat) (hi : i < 24) (hiL : 6 * i + 6 ≤ L) (hL9 : L ≤ 144) (U V : Nat) (hI : LI G w x m o od i U V) (H : Heap) (locs : List Loc) (ls : Array Slot) (hR : Rp G w H) (hL : LK G locs) (hl : lv_has ls 10 [(0, .ref b), (1, .ref x), (2, .ref m), (3, .ref o), (4, .ref od), (5, .int (iI ((6 * i : Nat) : Int)))])
  (kk : ∀ (w1 : Wd) (U1 V1 : Nat), LI G w1 x m o od (i + 1) U1 V1 → ∀ (H1 : Heap) (locs1 : List Loc) (ls1 : Array Slot), Rp G w1 H1 → LK G locs1 → lv_has ls1 10 [(0, .ref b), (1, .ref x), (2, .ref m), (3, .ref o), (4, .ref od), (5, .int (iI ((6 * i : Nat) : Int)))] → W p9 l e9 (rmk 26 1200048 5501818) s9 m9 a9 b9 meth9 c9 H1 locs1 U1 V1 Q9 (F0 m9 2178 ls1 [])) : W p9 l e9 (rmk 26 1200048 5501818) s9 m9 a9 b9 meth9 c9 H locs U V Q9 (F0 m9 1181 ls []) := by
  have hx := X.1.1
  have hb := X.1.2.1
  obtain ⟨z, k0, hA, hT, ⟨fo, hO⟩, ⟨fd, hOd⟩, hG, hok, hU, hV⟩ := hI
  have hb2 : (2200 : Int) ≤ 3000 + 1000 * (i : Int) := by omega
  have hb9 : (3000 : Int) + 1000 * (i : Int) < 890000 := by omega
  obtain ⟨v1, hv_1⟩ : ∃ v_, v_ = xs (6 * i + 1) := ⟨_, rfl⟩
  have r1 : R32 v1 := by rw [hv_1]; exact hxs _
  have hbl : (zB ((aSnd z v1).2.2)).length ≤ (zB z).length := zTB_le z v1
  refine lv_aload_n hx hb dL_law_1181 rfl (lv_at hl 1 rfl) ?_
  refine lv_aload_n hx hb dL_law_1182 rfl (lv_at hl 0 rfl) ?_
  refine lv_iload hx hb dL_law_1183 (lv_at hl 5 rfl) ?_
  refine h_iconst hx hb dL_law_1185 ?_
  refine h_iadd hx hb dL_law_1186 ?_
  refine h_sld X hR hSx hbB (by omega) (by omega) dL_law_1187 ?_
  refine W.eq (g2 := F0 m9 1188 ls [.int (iI (v1)), .ref x]) (congrArg (fun z_ : Int => F0 m9 1188 ls [.int (iI (z_)), .ref x]) (show (xs (((6 * i : Nat) : Int) + 1).toNat : Int) = v1 from (by rw [hv_1, show (((6 * i : Nat) : Int) + 1).toNat = 6 * i + 1 by omega]))) ?_
  refine lv_aload_n hx hb dL_law_1188 rfl (lv_at hl 3 rfl) ?_
  -- call SpokenMarksLaw.soundsLike
  refine h_xI (h_xrunTS X hR (ww_soundsLike l G w hSt x z _ hA hok hb2 hb9 hG v1 r1 o fo hO) pn_yX0_soundsLike q2394 q2395 q119 q2396 ⟨by decide, by decide⟩ hl.1 (Nat.le_of_ble_eq_true rfl) dL_law_1189 ⟨by omega, by omega⟩) hL (fun xq_4 E_5 ce_ w_6 hx__7 H locs hR hL hce_ hcv_ hcl_ => ?_) (fun z_1 w_2 hp_3 H locs hR hL => ?_)
  ·
    exact absurd hx__7 id
  ·
    obtain ⟨⟨hk3, hkc⟩, hA, hKt, hG, hok1, ⟨fo, hO, hOv⟩, hKd⟩ := hp_3
    have hOd := hKd _ _ hOd
    have hT := hT.kt hKt
    refine lv_istore (lv' := [(6, .int (iI (z_1))), (0, .ref b), (1, .ref x), (2, .ref m), (3, .ref o), (4, .ref od), (5, .int (iI (((6 * i : Nat) : Int))))]) hx hb dL_law_1192 hl (by decide) rfl (fun ls hl => ?_)
    refine lv_aload_n hx hb dL_law_1194 rfl (lv_at hl 3 rfl) ?_
    refine lv_aload_n hx hb dL_law_1195 rfl (lv_at hl 1 rfl) ?_
    refine lv_iload hx hb dL_law_1196 (lv_at hl 6 rfl) ?_
    refine h_iconst hx hb dL_law_1198 ?_
    refine h_iadd hx hb dL_law_1199 ?_
    refine h_sld X hR hSx hbB (by omega) (by omega) dL_law_1200 ?_
    refine W.eq (g2 := F0 m9 1201 ls [.int (iI (v1)), .ref m]) (congrArg (fun z_ : Int => F0 m9 1201 ls [.int (iI (z_)), .ref m]) (show (xs (((6 * i : Nat) : Int) + 1).toNat : Int) = v1 from (by rw [hv_1, show (((6 * i : Nat) : Int) + 1).toNat = 6 * i + 1 by omega]))) ?_
    -- call SpokenMarksModel.soundsLike
    have hRb := hR
    refine h_kI (h_runV X hR (tt_soundsLike l G w_2 m z _ _ hT hok hb9 v1 r1) pn_yX10_soundsLike (hT.hx) q3185 q3186 q3187 q161 q3188 ⟨by decide, by decide⟩ hl.1 (Nat.le_of_ble_eq_true rfl) dL_law_1201 ⟨by omega, by omega⟩) hL (fun z_8 w_9 hp_10 H locs hR hL => ?_)
    obtain ⟨hv2, hT2, hF2, hO2⟩ := hp_10
    obtain ⟨w3, hR, hT3, hF3, hG⟩ := hT2.fix hRb hR hG hF2 hO2
    have hA := hA.tw hT hF3
    have hO := hF3 _ _ _ hO (hT.noL hO)
    have hOd := hF3 _ _ _ hOd (hT.noD hOd)
    have hT := hT3
    refine lv_istore (lv' := [(7, .int (iI (z_8))), (6, .int (iI (z_1))), (0, .ref b), (1, .ref x), (2, .ref m), (3, .ref o), (4, .ref od), (5, .int (iI (((6 * i : Nat) : Int))))]) hx hb dL_law_1204 hl (by decide) rfl (fun ls hl => ?_)
    refine lv_aload_n hx hb dL_law_1206 rfl (lv_at hl 4 rfl) ?_
    -- call SpokenMarksModel.thrown
    refine h_kIp (h_runV X hR (tt_thrown l G w3 m (aSnd z v1).2.2 ((aSnd z v1).1) hT) pn_yX10_thrown (hT.hx) q2713 q2714 q2715 q161 q2716 ⟨by decide, by decide⟩ hl.1 (Nat.le_of_ble_eq_true rfl) dL_law_1207 ⟨by omega, by omega⟩) hL (fun H locs hR hL => ?_)
    refine lv_iload hx hb dL_law_1210 (lv_at hl 1 rfl) ?_
    refine h_icmpEq hx hb 1217 dL_law_1212 (by decide) hkc.symm ?_
    refine lv_iload hx hb dL_law_1217 (lv_at hl 1 rfl) ?_
    refine h_if_ne hx hb 1234 dL_law_1219 (by decide) ⟨by omega, by omega⟩ (fun c_k => ?_) (fun c_k => ?_)
    ·
      refine lv_goto (tgt := 2178) hx hb dL_law_1234 (by decide) ?_
      exact kk _ _ _ ⟨(aSnd z v1).2.2, _, hA, hT, ⟨_, hO⟩, ⟨_, hOd⟩, hG, hok1.mono (by omega), by omega, by omega⟩ _ _ _ hR hL (lv_sub hl [2, 3, 4, 5, 6, 7] rfl)
    ·
      refine lv_aload_n hx hb dL_law_1222 rfl (lv_at hl 5 rfl) ?_
      refine h_iconst hx hb dL_law_1223 ?_
      refine h_lald X hR hO (by omega) (by omega) dL_law_1224 ?_
      have hO0 := hOv (by omega)
      refine W.eq (g2 := F0 m9 1225 ls [.long (lI (c32 ((aSnd z v1).2.1)))]) (congrArg (fun z_ : Int => F0 m9 1225 ls [.long (lI (z_))]) (show (fo (Int.toNat 0) : Int) = c32 ((aSnd z v1).2.1) from (by exact hO0))) ?_
      refine lv_iload hx hb dL_law_1225 (lv_at hl 0 rfl) ?_
      refine W.eq (g2 := F0 m9 1227 ls [.int (iI (c32 z_8)), .long (lI (c32 ((aSnd z v1).2.1)))]) (by rw [c32_i]) ?_
      refine h_i2l hx hb dL_law_1227 (c32_r _) ?_
      refine h_lcmp hx hb dL_law_1228 (c32_j _) (c32_j _) ?_
      refine W.eq (g2 := F0 m9 1229 ls [.int (iI (0))]) (congrArg (fun z_ : Int => F0 m9 1229 ls [.int (iI (z_))]) (show (cmpZ (c32 ((aSnd z v1).2.1)) (c32 z_8) : Int) = 0 from (by rw [hv2]; exact cmpZ_0.mpr rfl))) ?_
      refine h_if_eq hx hb 1234 dL_law_1229 (by decide) (by decide) (fun _ => ?_) (fun z_ => absurd z_ (by decide))
      refine lv_goto (tgt := 2178) hx hb dL_law_1234 (by decide) ?_
      exact kk _ _ _ ⟨(aSnd z v1).2.2, _, hA, hT, ⟨_, hO⟩, ⟨_, hOd⟩, hG, hok1.mono (by omega), by omega, by omega⟩ _ _ _ hR hL (lv_sub hl [2, 3, 4, 5, 6, 7] rfl)
