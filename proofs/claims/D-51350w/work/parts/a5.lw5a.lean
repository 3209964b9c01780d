/-! the law: its cases -/
set_option maxRecDepth 100000
/-- what stands between two calls -/
def LI (G : Gl) (w : Wd) (x m o od : Nat) (i U V : Nat) : Prop := ∃ (z : LSt) (k : Int), CmA G w x z ∧ TwZ G w m k z ∧ (∃ f : Nat → Int, w o = some (o + 1, lE G 1 f)) ∧ (∃ f : Nat → UInt64, w od = some (od + 1, dE G 1 f)) ∧ RegW w ∧ LOk (3000 + 1000 * (i : Int)) z ∧ U + 1200 * (zB z).length ≤ 6000 + 29000 * i ∧ V + 6900 * (zB z).length ≤ 40000 + 167000 * i
theorem zTB_le (z : LSt) (n : Int) : (zTB z n).length ≤ (zB z).length := by
  unfold zTB
  split
  · exact Nat.zero_le _
  · exact Nat.le_refl _
theorem fdA_le (B : List Int) (x1 x2 x3 x4 x5 : Int) : (fdA B x1 x2 x3 x4 x5).length ≤ B.length + 20 := by
  unfold fdA
  split
  · exact Nat.le_add_right _ _
  · rw [fdB_len]
    exact Nat.le_refl _
theorem pn_yX1_alike : ParN yX1_alike 0 := by decide +kernel
theorem pn_yX1_at : ParN yX1_at 1 := by decide +kernel
theorem pn_yX1_balance : ParN yX1_balance 0 := by decide +kernel
theorem pn_yX1_cause : ParN yX1_cause 0 := by decide +kernel
theorem pn_yX1_errorPosition : ParN yX1_errorPosition 0 := by decide +kernel
theorem pn_yX1_feed : ParN yX1_feed 5 := by decide +kernel
theorem pn_yX1_formattedByte : ParN yX1_formattedByte 1 := by decide +kernel
theorem pn_yX1_gap : ParN yX1_gap 0 := by decide +kernel
theorem pn_yX1_meanMoves : ParN yX1_meanMoves 0 := by decide +kernel
theorem pn_yX1_respace : ParN yX1_respace 0 := by decide +kernel
theorem pn_yX1_restoreSnapshot : ParN yX1_restoreSnapshot 0 := by decide +kernel
theorem pn_yX1_saveSnapshot : ParN yX1_saveSnapshot 0 := by decide +kernel
theorem pn_yX1_undo : ParN yX1_undo 0 := by decide +kernel
theorem pn_yX1_undoCount : ParN yX1_undoCount 0 := by decide +kernel
theorem pn_yX0_account : ParN yX0_account 3 := by decide +kernel
theorem pn_yX0_add : ParN yX0_add 4 := by decide +kernel
theorem pn_yX0_compare : ParN yX0_compare 4 := by decide +kernel
theorem pn_yX0_differ : ParN yX0_differ 4 := by decide +kernel
theorem pn_yX0_drop : ParN yX0_drop 3 := by decide +kernel
theorem pn_yX0_family : ParN yX0_family 3 := by decide +kernel
theorem pn_yX0_filled : ParN yX0_filled 3 := by decide +kernel
theorem pn_yX0_format : ParN yX0_format 3 := by decide +kernel
theorem pn_yX0_free : ParN yX0_free 3 := by decide +kernel
theorem pn_yX0_letter : ParN yX0_letter 6 := by decide +kernel
theorem pn_yX0_load : ParN yX0_load 3 := by decide +kernel
theorem pn_yX0_mark : ParN yX0_mark 4 := by decide +kernel
theorem pn_yX0_movesIf : ParN yX0_movesIf 3 := by decide +kernel
theorem pn_yX0_number : ParN yX0_number 4 := by decide +kernel
theorem pn_yX0_placeIf : ParN yX0_placeIf 3 := by decide +kernel
theorem pn_yX0_play : ParN yX0_play 3 := by decide +kernel
theorem pn_yX0_rankIf : ParN yX0_rankIf 3 := by decide +kernel
theorem pn_yX0_ruleLetter : ParN yX0_ruleLetter 5 := by decide +kernel
theorem pn_yX0_say : ParN yX0_say 3 := by decide +kernel
theorem pn_yX0_setBound : ParN yX0_setBound 4 := by decide +kernel
theorem pn_yX0_setWidth : ParN yX0_setWidth 4 := by decide +kernel
theorem pn_yX0_shelf : ParN yX0_shelf 4 := by decide +kernel
theorem pn_yX0_size : ParN yX0_size 3 := by decide +kernel
theorem pn_yX0_soundsLike : ParN yX0_soundsLike 3 := by decide +kernel
theorem pn_yX0_unsay : ParN yX0_unsay 3 := by decide +kernel
theorem pn_yX0_why : ParN yX0_why 3 := by decide +kernel
theorem pn_yX10_account : ParN yX10_account 1 := by decide +kernel
theorem pn_yX10_add : ParN yX10_add 2 := by decide +kernel
theorem pn_yX10_alike : ParN yX10_alike 0 := by decide +kernel
theorem pn_yX10_at : ParN yX10_at 1 := by decide +kernel
theorem pn_yX10_balance : ParN yX10_balance 0 := by decide +kernel
theorem pn_yX10_cause : ParN yX10_cause 0 := by decide +kernel
theorem pn_yX10_compare : ParN yX10_compare 2 := by decide +kernel
theorem pn_yX10_differ : ParN yX10_differ 2 := by decide +kernel
theorem pn_yX10_drop : ParN yX10_drop 1 := by decide +kernel
theorem pn_yX10_errorPosition : ParN yX10_errorPosition 0 := by decide +kernel
theorem pn_yX10_family : ParN yX10_family 1 := by decide +kernel
theorem pn_yX10_feed : ParN yX10_feed 5 := by decide +kernel
theorem pn_yX10_filled : ParN yX10_filled 1 := by decide +kernel
theorem pn_yX10_format : ParN yX10_format 1 := by decide +kernel
theorem pn_yX10_formattedByte : ParN yX10_formattedByte 1 := by decide +kernel
theorem pn_yX10_free : ParN yX10_free 1 := by decide +kernel
theorem pn_yX10_gap : ParN yX10_gap 0 := by decide +kernel
theorem pn_yX10_letter_2 : ParN yX10_letter_2 4 := by decide +kernel
theorem pn_yX10_mark : ParN yX10_mark 2 := by decide +kernel
theorem pn_yX10_meanMoves : ParN yX10_meanMoves 0 := by decide +kernel
theorem pn_yX10_movesIf : ParN yX10_movesIf 1 := by decide +kernel
theorem pn_yX10_number : ParN yX10_number 2 := by decide +kernel
theorem pn_yX10_placeIf : ParN yX10_placeIf 1 := by decide +kernel
theorem pn_yX10_play : ParN yX10_play 1 := by decide +kernel
theorem pn_yX10_rankIf : ParN yX10_rankIf 1 := by decide +kernel
theorem pn_yX10_respace : ParN yX10_respace 0 := by decide +kernel
theorem pn_yX10_restoreSnapshot : ParN yX10_restoreSnapshot 0 := by decide +kernel
theorem pn_yX10_ruleLetter : ParN yX10_ruleLetter 3 := by decide +kernel
theorem pn_yX10_saveSnapshot : ParN yX10_saveSnapshot 0 := by decide +kernel
theorem pn_yX10_say : ParN yX10_say 1 := by decide +kernel
theorem pn_yX10_setBound : ParN yX10_setBound 2 := by decide +kernel
theorem pn_yX10_setWidth : ParN yX10_setWidth 2 := by decide +kernel
theorem pn_yX10_shelf : ParN yX10_shelf 2 := by decide +kernel
theorem pn_yX10_size : ParN yX10_size 1 := by decide +kernel
theorem pn_yX10_soundsLike : ParN yX10_soundsLike 1 := by decide +kernel
theorem pn_yX10_thrown : ParN yX10_thrown 0 := by decide +kernel
theorem pn_yX10_undo : ParN yX10_undo 0 := by decide +kernel
theorem pn_yX10_undoCount : ParN yX10_undoCount 0 := by decide +kernel
theorem pn_yX10_unsay : ParN yX10_unsay 1 := by decide +kernel
theorem pn_yX10_why : ParN yX10_why 1 := by decide +kernel

set_option maxHeartbeats 4000000 in
set_option maxRecDepth 100000 in
/-- feed -/
theorem lc_feed {l : Launch} {G : Gl} {p9 : Program} {e9 : Env} {s9 : State} {m9 : MethodId} {a9 : Array Value} {b9 : List Frame} {meth9 : Method} {c9 : Code} {Q9 : State → Prop} (X : HX G p9 s9 m9 a9 c9 cL_law 10 "SpokenMarksLaw") (hSt : l.stackTraces = false) (w : Wd) (b x m o od L : Nat) (xs : Nat → Int) (hxs : ∀ j, R32 (xs j)) (hSx : va_X b L (fun j => iI (xs j)) s9 (gH G)) (hbB : b < gB G) (i : Nat) (hi : i < 24) (hiL : 6 * i + 6 ≤ L) (hL9 : L ≤ 144) (U V : Nat) (hI : LI G w x m o od i U V) (H : Heap) (locs : List Loc) (ls : Array Slot) (hR : Rp G w H) (hL : LK G locs) (hl : lv_has ls 10 [(0, .ref b), (1, .ref x), (2, .ref m), (3, .ref o), (4, .ref od), (5, .int (iI ((6 * i : Nat) : Int)))])
  (kk : ∀ (w1 : Wd) (U1 V1 : Nat), LI G w1 x m o od (i + 1) U1 V1 → ∀ (H1 : Heap) (locs1 : List Loc) (ls1 : Array Slot), Rp G w1 H1 → LK G locs1 → lv_has ls1 10 [(0, .ref b), (1, .ref x), (2, .ref m), (3, .ref o), (4, .ref od), (5, .int (iI ((6 * i : Nat) : Int)))] → W p9 l e9 (rmk 26 1200048 5501818) s9 m9 a9 b9 meth9 c9 H1 locs1 U1 V1 Q9 (F0 m9 2178 ls1 [])) : W p9 l e9 (rmk 26 1200048 5501818) s9 m9 a9 b9 meth9 c9 H locs U V Q9 (F0 m9 220 ls []) := by
  have hx := X.1.1
  have hb := X.1.2.1
  obtain ⟨z, k0, hA, hT, ⟨fo, hO⟩, ⟨fd, hOd⟩, hG, hok, hU, hV⟩ := hI
  have hb2 : (2200 : Int) ≤ 3000 + 1000 * (i : Int) := by omega
  have hb9 : (3000 : Int) + 1000 * (i : Int) < 890000 := by omega
  obtain ⟨v1, hv_1⟩ : ∃ v_, v_ = xs (6 * i + 1) := ⟨_, rfl⟩
  have r1 : R32 v1 := by rw [hv_1]; exact hxs _
  obtain ⟨v2, hv_2⟩ : ∃ v_, v_ = xs (6 * i + 2) := ⟨_, rfl⟩
  have r2 : R32 v2 := by rw [hv_2]; exact hxs _
  obtain ⟨v3, hv_3⟩ : ∃ v_, v_ = xs (6 * i + 3) := ⟨_, rfl⟩
  have r3 : R32 v3 := by rw [hv_3]; exact hxs _
  obtain ⟨v4, hv_4⟩ : ∃ v_, v_ = xs (6 * i + 4) := ⟨_, rfl⟩
  have r4 : R32 v4 := by rw [hv_4]; exact hxs _
  obtain ⟨v5, hv_5⟩ : ∃ v_, v_ = xs (6 * i + 5) := ⟨_, rfl⟩
  have r5 : R32 v5 := by rw [hv_5]; exact hxs _
  have hbl : (zB (aFee z v1 v2 v3 v4 v5).2.2).length ≤ (zB z).length + 20 := fdA_le _ _ _ _ _ _
  refine lv_aload_n hx hb dL_law_220 rfl (lv_at hl 1 rfl) ?_
  refine lv_aload_n hx hb dL_law_221 rfl (lv_at hl 0 rfl) ?_
  refine lv_iload hx hb dL_law_222 (lv_at hl 5 rfl) ?_
  refine h_iconst hx hb dL_law_224 ?_
  refine h_iadd hx hb dL_law_225 ?_
  refine h_sld X hR hSx hbB (by omega) (by omega) dL_law_226 ?_
  refine W.eq (g2 := F0 m9 227 ls [.int (iI (v1)), .ref x]) (congrArg (fun z_ : Int => F0 m9 227 ls [.int (iI (z_)), .ref x]) (show (xs (((6 * i : Nat) : Int) + 1).toNat : Int) = v1 from (by rw [hv_1, show (((6 * i : Nat) : Int) + 1).toNat = 6 * i + 1 by omega]))) ?_
  refine lv_aload_n hx hb dL_law_227 rfl (lv_at hl 0 rfl) ?_
  refine lv_iload hx hb dL_law_228 (lv_at hl 5 rfl) ?_
  refine h_iconst hx hb dL_law_230 ?_
  refine h_iadd hx hb dL_law_231 ?_
  refine h_sld X hR hSx hbB (by omega) (by omega) dL_law_232 ?_
  refine W.eq (g2 := F0 m9 233 ls [.int (iI (v2)), .int (iI (v1)), .ref x]) (congrArg (fun z_ : Int => F0 m9 233 ls [.int (iI (z_)), .int (iI (v1)), .ref x]) (show (xs (((6 * i : Nat) : Int) + 2).toNat : Int) = v2 from (by rw [hv_2, show (((6 * i : Nat) : Int) + 2).toNat = 6 * i + 2 by omega]))) ?_
  refine lv_aload_n hx hb dL_law_233 rfl (lv_at hl 0 rfl) ?_
  refine lv_iload hx hb dL_law_234 (lv_at hl 5 rfl) ?_
  refine h_iconst hx hb dL_law_236 ?_
  refine h_iadd hx hb dL_law_237 ?_
  refine h_sld X hR hSx hbB (by omega) (by omega) dL_law_238 ?_
  refine W.eq (g2 := F0 m9 239 ls [.int (iI (v3)), .int (iI (v2)), .int (iI (v1)), .ref x]) (congrArg (fun z_ : Int => F0 m9 239 ls [.int (iI (z_)), .int (iI (v2)), .int (iI (v1)), .ref x]) (show (xs (((6 * i : Nat) : Int) + 3).toNat : Int) = v3 from (by rw [hv_3, show (((6 * i : Nat) : Int) + 3).toNat = 6 * i + 3 by omega]))) ?_
  refine lv_aload_n hx hb dL_law_239 rfl (lv_at hl 0 rfl) ?_
  refine lv_iload hx hb dL_law_240 (lv_at hl 5 rfl) ?_
  refine h_iconst hx hb dL_law_242 ?_
  refine h_iadd hx hb dL_law_243 ?_
  refine h_sld X hR hSx hbB (by omega) (by omega) dL_law_244 ?_
  refine W.eq (g2 := F0 m9 245 ls [.int (iI (v4)), .int (iI (v3)), .int (iI (v2)), .int (iI (v1)), .ref x]) (congrArg (fun z_ : Int => F0 m9 245 ls [.int (iI (z_)), .int (iI (v3)), .int (iI (v2)), .int (iI (v1)), .ref x]) (show (xs (((6 * i : Nat) : Int) + 4).toNat : Int) = v4 from (by rw [hv_4, show (((6 * i : Nat) : Int) + 4).toNat = 6 * i + 4 by omega]))) ?_
  refine lv_aload_n hx hb dL_law_245 rfl (lv_at hl 0 rfl) ?_
  refine lv_iload hx hb dL_law_246 (lv_at hl 5 rfl) ?_
  refine h_iconst hx hb dL_law_248 ?_
  refine h_iadd hx hb dL_law_249 ?_
  refine h_sld X hR hSx hbB (by omega) (by omega) dL_law_250 ?_
  refine W.eq (g2 := F0 m9 251 ls [.int (iI (v5)), .int (iI (v4)), .int (iI (v3)), .int (iI (v2)), .int (iI (v1)), .ref x]) (congrArg (fun z_ : Int => F0 m9 251 ls [.int (iI (z_)), .int (iI (v4)), .int (iI (v3)), .int (iI (v2)), .int (iI (v1)), .ref x]) (show (xs (((6 * i : Nat) : Int) + 5).toNat : Int) = v5 from (by rw [hv_5, show (((6 * i : Nat) : Int) + 5).toNat = 6 * i + 5 by omega]))) ?_
  -- call SpokenMarks.feed
  refine h_kI (h_runV X hR (cc_feed l G w hSt x z _ hA hok hb2 hb9 hG v1 v2 v3 v4 v5 r1 r2 r3 r4 r5) pn_yX1_feed (hA.hx) q1726 q1727 q1728 q120 q1729 ⟨by decide, by decide⟩ hl.1 (Nat.le_of_ble_eq_true rfl) dL_law_251 ⟨by omega, by omega⟩) hL (fun z_1 w_2 hp_3 H locs hR hL => ?_)
  obtain ⟨-, hv1, hA, hKp, hG, hok1⟩ := hp_3
  have hT := hT.kt hKp.t
  have hO := hKp.2.2.1 _ _ _ hO
  have hOd := hKp.2.2.2 _ _ _ hOd
  refine lv_aload_n hx hb dL_law_254 rfl (lv_at hl 2 rfl) ?_
  refine lv_aload_n hx hb dL_law_255 rfl (lv_at hl 0 rfl) ?_
  refine lv_iload hx hb dL_law_256 (lv_at hl 5 rfl) ?_
  refine h_iconst hx hb dL_law_258 ?_
  refine h_iadd hx hb dL_law_259 ?_
  refine h_sld X hR hSx hbB (by omega) (by omega) dL_law_260 ?_
  refine W.eq (g2 := F0 m9 261 ls [.int (iI (v1)), .ref m, .int (iI (z_1))]) (congrArg (fun z_ : Int => F0 m9 261 ls [.int (iI (z_)), .ref m, .int (iI (z_1))]) (show (xs (((6 * i : Nat) : Int) + 1).toNat : Int) = v1 from (by rw [hv_1, show (((6 * i : Nat) : Int) + 1).toNat = 6 * i + 1 by omega]))) ?_
  refine lv_aload_n hx hb dL_law_261 rfl (lv_at hl 0 rfl) ?_
  refine lv_iload hx hb dL_law_262 (lv_at hl 5 rfl) ?_
  refine h_iconst hx hb dL_law_264 ?_
  refine h_iadd hx hb dL_law_265 ?_
  refine h_sld X hR hSx hbB (by omega) (by omega) dL_law_266 ?_
  refine W.eq (g2 := F0 m9 267 ls [.int (iI (v2)), .int (iI (v1)), .ref m, .int (iI (z_1))]) (congrArg (fun z_ : Int => F0 m9 267 ls [.int (iI (z_)), .int (iI (v1)), .ref m, .int (iI (z_1))]) (show (xs (((6 * i : Nat) : Int) + 2).toNat : Int) = v2 from (by rw [hv_2, show (((6 * i : Nat) : Int) + 2).toNat = 6 * i + 2 by omega]))) ?_
  refine lv_aload_n hx hb dL_law_267 rfl (lv_at hl 0 rfl) ?_
  refine lv_iload hx hb dL_law_268 (lv_at hl 5 rfl) ?_
  refine h_iconst hx hb dL_law_270 ?_
  refine h_iadd hx hb dL_law_271 ?_
  refine h_sld X hR hSx hbB (by omega) (by omega) dL_law_272 ?_
  refine W.eq (g2 := F0 m9 273 ls [.int (iI (v3)), .int (iI (v2)), .int (iI (v1)), .ref m, .int (iI (z_1))]) (congrArg (fun z_ : Int => F0 m9 273 ls [.int (iI (z_)), .int (iI (v2)), .int (iI (v1)), .ref m, .int (iI (z_1))]) (show (xs (((6 * i : Nat) : Int) + 3).toNat : Int) = v3 from (by rw [hv_3, show (((6 * i : Nat) : Int) + 3).toNat = 6 * i + 3 by omega]))) ?_
  refine lv_aload_n hx hb dL_law_273 rfl (lv_at hl 0 rfl) ?_
  refine lv_iload hx hb dL_law_274 (lv_at hl 5 rfl) ?_
  refine h_iconst hx hb dL_law_276 ?_
  refine h_iadd hx hb dL_law_277 ?_
  refine h_sld X hR hSx hbB (by omega) (by omega) dL_law_278 ?_
  refine W.eq (g2 := F0 m9 279 ls [.int (iI (v4)), .int (iI (v3)), .int (iI (v2)), .int (iI (v1)), .ref m, .int (iI (z_1))]) (congrArg (fun z_ : Int => F0 m9 279 ls [.int (iI (z_)), .int (iI (v3)), .int (iI (v2)), .int (iI (v1)), .ref m, .int (iI (z_1))]) (show (xs (((6 * i : Nat) : Int) + 4).toNat : Int) = v4 from (by rw [hv_4, show (((6 * i : Nat) : Int) + 4).toNat = 6 * i + 4 by omega]))) ?_
  refine lv_aload_n hx hb dL_law_279 rfl (lv_at hl 0 rfl) ?_
  refine lv_iload hx hb dL_law_280 (lv_at hl 5 rfl) ?_
  refine h_iconst hx hb dL_law_282 ?_
  refine h_iadd hx hb dL_law_283 ?_
  refine h_sld X hR hSx hbB (by omega) (by omega) dL_law_284 ?_
  refine W.eq (g2 := F0 m9 285 ls [.int (iI (v5)), .int (iI (v4)), .int (iI (v3)), .int (iI (v2)), .int (iI (v1)), .ref m, .int (iI (z_1))]) (congrArg (fun z_ : Int => F0 m9 285 ls [.int (iI (z_)), .int (iI (v4)), .int (iI (v3)), .int (iI (v2)), .int (iI (v1)), .ref m, .int (iI (z_1))]) (show (xs (((6 * i : Nat) : Int) + 5).toNat : Int) = v5 from (by rw [hv_5, show (((6 * i : Nat) : Int) + 5).toNat = 6 * i + 5 by omega]))) ?_
  -- call SpokenMarksModel.feed
  have hRb := hR
  refine h_kI (h_runV X hR (tt_feed l G w_2 m z _ _ hT hok hb9 v1 v2 v3 v4 v5 r1 r2 r3 r4 r5) pn_yX10_feed (hT.hx) q3042 q3043 q3044 q161 q3045 ⟨by decide, by decide⟩ hl.1 (Nat.le_of_ble_eq_true rfl) dL_law_285 ⟨by omega, by omega⟩) hL (fun z_4 w_5 hp_6 H locs hR hL => ?_)
  obtain ⟨hv2, hT2, hF2, hO2⟩ := hp_6
  obtain ⟨w3, hR, hT3, hF3, hG⟩ := hT2.fix hRb hR hG hF2 hO2
  have hA := hA.tw hT hF3
  have hO := hF3 _ _ _ hO (hT.noL hO)
  have hOd := hF3 _ _ _ hOd (hT.noD hOd)
  have hT := hT3
  refine h_icmpEq hx hb 2178 dL_law_288 (by decide) (hv1.trans hv2.symm) ?_
  exact kk _ _ _ ⟨(aFee z v1 v2 v3 v4 v5).2.2, _, hA, hT, ⟨_, hO⟩, ⟨_, hOd⟩, hG, hok1.mono (by omega), by omega, by omega⟩ _ _ _ hR hL (lv_sub hl [0, 1, 2, 3, 4, 5] rfl)

set_option maxHeartbeats 4000000 in
set_option maxRecDepth 100000 in
/-- load -/
theorem lc_load {l : Launch} {G : Gl} {p9 : Program} {e9 : Env} {s9 : State} {m9 : MethodId} {a9 : Array Value} {b9 : List Frame} {meth9 : Method} {c9 : Code} {Q9 : State → Prop} (X : HX G p9 s9 m9 a9 c9 cL_law 10 "SpokenMarksLaw") (hSt : l.stackTraces = false) (w : Wd) (b x m o od L : Nat) (xs : Nat → Int) (hxs : ∀ j, R32 (xs j)) (hSx : va_X b L (fun j => iI (xs j)) s9 (gH G)) (hbB : b < gB G) (i : Nat) (hi : i < 24) (hiL : 6 * i + 6 ≤ L) (hL9 : L ≤ 144) (U V : Nat) (hI : LI G w x m o od i U V) (H : Heap) (locs : List Loc) (ls : Array Slot) (hR : Rp G w H) (hL : LK G locs) (hl : lv_has ls 10 [(0, .ref b), (1, .ref x), (2, .ref m), (3, .ref o), (4, .ref od), (5, .int (iI ((6 * i : Nat) : Int)))])
  (kk : ∀ (w1 : Wd) (U1 V1 : Nat), LI G w1 x m o od (i + 1) U1 V1 → ∀ (H1 : Heap) (locs1 : List Loc) (ls1 : Array Slot), Rp G w1 H1 → LK G locs1 → lv_has ls1 10 [(0, .ref b), (1, .ref x), (2, .ref m), (3, .ref o), (4, .ref od), (5, .int (iI ((6 * i : Nat) : Int)))] → W p9 l e9 (rmk 26 1200048 5501818) s9 m9 a9 b9 meth9 c9 H1 locs1 U1 V1 Q9 (F0 m9 2178 ls1 [])) : W p9 l e9 (rmk 26 1200048 5501818) s9 m9 a9 b9 meth9 c9 H locs U V Q9 (F0 m9 293 ls []) := by
  have hx := X.1.1
  have hb := X.1.2.1
  obtain ⟨z, k0, hA, hT, ⟨fo, hO⟩, ⟨fd, hOd⟩, hG, hok, hU, hV⟩ := hI
  have hb2 : (2200 : Int) ≤ 3000 + 1000 * (i : Int) := by omega
  have hb9 : (3000 : Int) + 1000 * (i : Int) < 890000 := by omega
  obtain ⟨v1, hv_1⟩ : ∃ v_, v_ = xs (6 * i + 1) := ⟨_, rfl⟩
  have r1 : R32 v1 := by rw [hv_1]; exact hxs _
  by_cases hgk : gOk (zB z) v1
  ·
    have hbl : (zB (aLod z v1).2.2).length = 0 := by unfold aLod; rw [if_pos hgk]; rfl
    refine lv_aload_n hx hb dL_law_293 rfl (lv_at hl 1 rfl) ?_
    refine lv_aload_n hx hb dL_law_294 rfl (lv_at hl 0 rfl) ?_
    refine lv_iload hx hb dL_law_295 (lv_at hl 5 rfl) ?_
    refine h_iconst hx hb dL_law_297 ?_
    refine h_iadd hx hb dL_law_298 ?_
    refine h_sld X hR hSx hbB (by omega) (by omega) dL_law_299 ?_
    refine W.eq (g2 := F0 m9 300 ls [.int (iI (v1)), .ref x]) (congrArg (fun z_ : Int => F0 m9 300 ls [.int (iI (z_)), .ref x]) (show (xs (((6 * i : Nat) : Int) + 1).toNat : Int) = v1 from (by rw [hv_1, show (((6 * i : Nat) : Int) + 1).toNat = 6 * i + 1 by omega]))) ?_
    refine lv_aload_n hx hb dL_law_300 rfl (lv_at hl 3 rfl) ?_
    -- call SpokenMarksLaw.load
    refine h_xI (h_xrunTS X hR (ww_load l G w hSt x z _ hA hok hb2 hb9 hG v1 r1 o fo hO) pn_yX0_load q2032 q2033 q119 q2034 ⟨by decide, by decide⟩ hl.1 (Nat.le_of_ble_eq_true rfl) dL_law_301 ⟨by omega, by omega⟩) hL (fun xq_4 E_5 ce_ w_6 hx__7 H locs hR hL hce_ hcv_ hcl_ => ?_) (fun z_1 w_2 hp_3 H locs hR hL => ?_)
    ·
      exact absurd hx__7 id
    ·
      obtain ⟨⟨hk3, hkc⟩, hA, hKt, hG, hok1, ⟨fo, hO, hOv⟩, hKd⟩ := hp_3
      have hOd := hKd _ _ hOd
      have hT := hT.kt hKt
      refine lv_istore (lv' := [(6, .int (iI (z_1))), (0, .ref b), (1, .ref x), (2, .ref m), (3, .ref o), (4, .ref od), (5, .int (iI (((6 * i : Nat) : Int))))]) hx hb dL_law_304 hl (by decide) rfl (fun ls hl => ?_)
      refine lv_aload_n hx hb dL_law_306 rfl (lv_at hl 3 rfl) ?_
      refine lv_aload_n hx hb dL_law_307 rfl (lv_at hl 1 rfl) ?_
      refine lv_iload hx hb dL_law_308 (lv_at hl 6 rfl) ?_
      refine h_iconst hx hb dL_law_310 ?_
      refine h_iadd hx hb dL_law_311 ?_
      refine h_sld X hR hSx hbB (by omega) (by omega) dL_law_312 ?_
      refine W.eq (g2 := F0 m9 313 ls [.int (iI (v1)), .ref m]) (congrArg (fun z_ : Int => F0 m9 313 ls [.int (iI (z_)), .ref m]) (show (xs (((6 * i : Nat) : Int) + 1).toNat : Int) = v1 from (by rw [hv_1, show (((6 * i : Nat) : Int) + 1).toNat = 6 * i + 1 by omega]))) ?_
      -- call SpokenMarksModel.load
      have hRb := hR
      refine h_kI (h_runV X hR (tt_load l G w_2 m z _ _ hT hok hb9 v1 r1) pn_yX10_load (hT.hx) q3054 q2727 q2728 q161 q2729 ⟨by decide, by decide⟩ hl.1 (Nat.le_of_ble_eq_true rfl) dL_law_313 ⟨by omega, by omega⟩) hL (fun z_8 w_9 hp_10 H locs hR hL => ?_)
      obtain ⟨hv2, hT2, hF2, hO2⟩ := hp_10
      obtain ⟨w3, hR, hT3, hF3, hG⟩ := hT2.fix hRb hR hG hF2 hO2
      have hA := hA.tw hT hF3
      have hO := hF3 _ _ _ hO (hT.noL hO)
      have hOd := hF3 _ _ _ hOd (hT.noD hOd)
      have hT := hT3
      refine lv_istore (lv' := [(7, .int (iI (z_8))), (6, .int (iI (z_1))), (0, .ref b), (1, .ref x), (2, .ref m), (3, .ref o), (4, .ref od), (5, .int (iI (((6 * i : Nat) : Int))))]) hx hb dL_law_316 hl (by decide) rfl (fun ls hl => ?_)
      refine lv_aload_n hx hb dL_law_318 rfl (lv_at hl 4 rfl) ?_
      -- call SpokenMarksModel.thrown
      refine h_kIp (h_runV X hR (tt_thrown l G w3 m (aLod z v1).2.2 ((aLod z v1).1) hT) pn_yX10_thrown (hT.hx) q2713 q2714 q2715 q161 q2716 ⟨by decide, by decide⟩ hl.1 (Nat.le_of_ble_eq_true rfl) dL_law_319 ⟨by omega, by omega⟩) hL (fun H locs hR hL => ?_)
      refine lv_iload hx hb dL_law_322 (lv_at hl 1 rfl) ?_
      refine h_icmpEq hx hb 329 dL_law_324 (by decide) hkc.symm ?_
      refine lv_iload hx hb dL_law_329 (lv_at hl 1 rfl) ?_
      refine h_if_ne hx hb 346 dL_law_331 (by decide) ⟨by omega, by omega⟩ (fun c_k => ?_) (fun c_k => ?_)
      ·
        refine lv_goto (tgt := 2178) hx hb dL_law_346 (by decide) ?_
        exact kk _ _ _ ⟨(aLod z v1).2.2, _, hA, hT, ⟨_, hO⟩, ⟨_, hOd⟩, hG, hok1.mono (by omega), by omega, by omega⟩ _ _ _ hR hL (lv_sub hl [2, 3, 4, 5, 6, 7] rfl)
      ·
        refine lv_aload_n hx hb dL_law_334 rfl (lv_at hl 5 rfl) ?_
        refine h_iconst hx hb dL_law_335 ?_
        refine h_lald X hR hO (by omega) (by omega) dL_law_336 ?_
        have hO0 := hOv (by omega)
        refine W.eq (g2 := F0 m9 337 ls [.long (lI (c32 ((aLod z v1).2.1)))]) (congrArg (fun z_ : Int => F0 m9 337 ls [.long (lI (z_))]) (show (fo (Int.toNat 0) : Int) = c32 ((aLod z v1).2.1) from (by exact hO0))) ?_
        refine lv_iload hx hb dL_law_337 (lv_at hl 0 rfl) ?_
        refine W.eq (g2 := F0 m9 339 ls [.int (iI (c32 z_8)), .long (lI (c32 ((aLod z v1).2.1)))]) (by rw [c32_i]) ?_
        refine h_i2l hx hb dL_law_339 (c32_r _) ?_
        refine h_lcmp hx hb dL_law_340 (c32_j _) (c32_j _) ?_
        refine W.eq (g2 := F0 m9 341 ls [.int (iI (0))]) (congrArg (fun z_ : Int => F0 m9 341 ls [.int (iI (z_))]) (show (cmpZ (c32 ((aLod z v1).2.1)) (c32 z_8) : Int) = 0 from (by rw [hv2]; exact cmpZ_0.mpr rfl))) ?_
        refine h_if_eq hx hb 346 dL_law_341 (by decide) (by decide) (fun _ => ?_) (fun z_ => absurd z_ (by decide))
        refine lv_goto (tgt := 2178) hx hb dL_law_346 (by decide) ?_
        exact kk _ _ _ ⟨(aLod z v1).2.2, _, hA, hT, ⟨_, hO⟩, ⟨_, hOd⟩, hG, hok1.mono (by omega), by omega, by omega⟩ _ _ _ hR hL (lv_sub hl [2, 3, 4, 5, 6, 7] rfl)
  ·
    have hbl : (zB (aLod z v1).2.2).length ≤ (zB z).length := by unfold aLod; rw [if_neg hgk]; exact Nat.le_refl _
    refine lv_aload_n hx hb dL_law_293 rfl (lv_at hl 1 rfl) ?_
    refine lv_aload_n hx hb dL_law_294 rfl (lv_at hl 0 rfl) ?_
    refine lv_iload hx hb dL_law_295 (lv_at hl 5 rfl) ?_
    refine h_iconst hx hb dL_law_297 ?_
    refine h_iadd hx hb dL_law_298 ?_
    refine h_sld X hR hSx hbB (by omega) (by omega) dL_law_299 ?_
    refine W.eq (g2 := F0 m9 300 ls [.int (iI (v1)), .ref x]) (congrArg (fun z_ : Int => F0 m9 300 ls [.int (iI (z_)), .ref x]) (show (xs (((6 * i : Nat) : Int) + 1).toNat : Int) = v1 from (by rw [hv_1, show (((6 * i : Nat) : Int) + 1).toNat = 6 * i + 1 by omega]))) ?_
    refine lv_aload_n hx hb dL_law_300 rfl (lv_at hl 3 rfl) ?_
    -- call SpokenMarksLaw.load
    refine h_xI (h_xrunTS X hR (ww_loadX l G w hSt x z _ hA hok hb2 hb9 hG v1 r1 hgk o fo hO) pn_yX0_load q2032 q2033 q119 q2034 ⟨by decide, by decide⟩ hl.1 (Nat.le_of_ble_eq_true rfl) dL_law_301 ⟨by omega, by omega⟩) hL (fun xq_18 E_19 ce_ w_20 hx__21 H locs hR hL hce_ hcv_ hcl_ => ?_) (fun z_15 w_16 hp_17 H locs hR hL => ?_)
    ·
      exact absurd hx__21 id
    ·
      obtain ⟨⟨hk3, hkc⟩, hA, hKt, hG, hok1, ⟨fo, hO, hOv⟩, hKd⟩ := hp_17
      have hOd := hKd _ _ hOd
      have hT := hT.kt hKt
      refine lv_istore (lv' := [(6, .int (iI (z_15))), (0, .ref b), (1, .ref x), (2, .ref m), (3, .ref o), (4, .ref od), (5, .int (iI (((6 * i : Nat) : Int))))]) hx hb dL_law_304 hl (by decide) rfl (fun ls hl => ?_)
      refine lv_aload_n hx hb dL_law_306 rfl (lv_at hl 3 rfl) ?_
      refine lv_aload_n hx hb dL_law_307 rfl (lv_at hl 1 rfl) ?_
      refine lv_iload hx hb dL_law_308 (lv_at hl 6 rfl) ?_
      refine h_iconst hx hb dL_law_310 ?_
      refine h_iadd hx hb dL_law_311 ?_
      refine h_sld X hR hSx hbB (by omega) (by omega) dL_law_312 ?_
      refine W.eq (g2 := F0 m9 313 ls [.int (iI (v1)), .ref m]) (congrArg (fun z_ : Int => F0 m9 313 ls [.int (iI (z_)), .ref m]) (show (xs (((6 * i : Nat) : Int) + 1).toNat : Int) = v1 from (by rw [hv_1, show (((6 * i : Nat) : Int) + 1).toNat = 6 * i + 1 by omega]))) ?_
      -- call SpokenMarksModel.load
      have hRb := hR
      refine h_kI (h_runV X hR (tt_load l G w_16 m z _ _ hT hok hb9 v1 r1) pn_yX10_load (hT.hx) q3054 q2727 q2728 q161 q2729 ⟨by decide, by decide⟩ hl.1 (Nat.le_of_ble_eq_true rfl) dL_law_313 ⟨by omega, by omega⟩) hL (fun z_22 w_23 hp_24 H locs hR hL => ?_)
      obtain ⟨hv2, hT2, hF2, hO2⟩ := hp_24
      obtain ⟨w3, hR, hT3, hF3, hG⟩ := hT2.fix hRb hR hG hF2 hO2
      have hA := hA.tw hT hF3
      have hO := hF3 _ _ _ hO (hT.noL hO)
      have hOd := hF3 _ _ _ hOd (hT.noD hOd)
      have hT := hT3
      refine lv_istore (lv' := [(7, .int (iI (z_22))), (6, .int (iI (z_15))), (0, .ref b), (1, .ref x), (2, .ref m), (3, .ref o), (4, .ref od), (5, .int (iI (((6 * i : Nat) : Int))))]) hx hb dL_law_316 hl (by decide) rfl (fun ls hl => ?_)
      refine lv_aload_n hx hb dL_law_318 rfl (lv_at hl 4 rfl) ?_
      -- call SpokenMarksModel.thrown
      refine h_kIp (h_runV X hR (tt_thrown l G w3 m (aLod z v1).2.2 ((aLod z v1).1) hT) pn_yX10_thrown (hT.hx) q2713 q2714 q2715 q161 q2716 ⟨by decide, by decide⟩ hl.1 (Nat.le_of_ble_eq_true rfl) dL_law_319 ⟨by omega, by omega⟩) hL (fun H locs hR hL => ?_)
      refine lv_iload hx hb dL_law_322 (lv_at hl 1 rfl) ?_
      refine h_icmpEq hx hb 329 dL_law_324 (by decide) hkc.symm ?_
      refine lv_iload hx hb dL_law_329 (lv_at hl 1 rfl) ?_
      refine h_if_ne hx hb 346 dL_law_331 (by decide) ⟨by omega, by omega⟩ (fun c_k => ?_) (fun c_k => ?_)
      ·
        refine lv_goto (tgt := 2178) hx hb dL_law_346 (by decide) ?_
        exact kk _ _ _ ⟨(aLod z v1).2.2, _, hA, hT, ⟨_, hO⟩, ⟨_, hOd⟩, hG, hok1.mono (by omega), by omega, by omega⟩ _ _ _ hR hL (lv_sub hl [2, 3, 4, 5, 6, 7] rfl)
      ·
        refine lv_aload_n hx hb dL_law_334 rfl (lv_at hl 5 rfl) ?_
        refine h_iconst hx hb dL_law_335 ?_
        refine h_lald X hR hO (by omega) (by omega) dL_law_336 ?_
        have hO0 := hOv (by omega)
        refine W.eq (g2 := F0 m9 337 ls [.long (lI (c32 ((aLod z v1).2.1)))]) (congrArg (fun z_ : Int => F0 m9 337 ls [.long (lI (z_))]) (show (fo (Int.toNat 0) : Int) = c32 ((aLod z v1).2.1) from (by exact hO0))) ?_
        refine lv_iload hx hb dL_law_337 (lv_at hl 0 rfl) ?_
        refine W.eq (g2 := F0 m9 339 ls [.int (iI (c32 z_22)), .long (lI (c32 ((aLod z v1).2.1)))]) (by rw [c32_i]) ?_
        refine h_i2l hx hb dL_law_339 (c32_r _) ?_
        refine h_lcmp hx hb dL_law_340 (c32_j _) (c32_j _) ?_
        refine W.eq (g2 := F0 m9 341 ls [.int (iI (0))]) (congrArg (fun z_ : Int => F0 m9 341 ls [.int (iI (z_))]) (show (cmpZ (c32 ((aLod z v1).2.1)) (c32 z_22) : Int) = 0 from (by rw [hv2]; exact cmpZ_0.mpr rfl))) ?_
        refine h_if_eq hx hb 346 dL_law_341 (by decide) (by decide) (fun _ => ?_) (fun z_ => absurd z_ (by decide))
        refine lv_goto (tgt := 2178) hx hb dL_law_346 (by decide) ?_
        exact kk _ _ _ ⟨(aLod z v1).2.2, _, hA, hT, ⟨_, hO⟩, ⟨_, hOd⟩, hG, hok1.mono (by omega), by omega, by omega⟩ _ _ _ hR hL (lv_sub hl [2, 3, 4, 5, 6, 7] rfl)

set_option maxHeartbeats 4000000 in
set_option maxRecDepth 100000 in
/-- errorPosition -/
theorem lc_errorPosition {l : Launch} {G : Gl} {p9 : Program} {e9 : Env} {s9 : State} {m9 : MethodId} {a9 : Array Value} {b9 : List Frame} {meth9 : Method} {c9 : Code} {Q9 : State → Prop} (X : HX G p9 s9 m9 a9 c9 cL_law 10 "SpokenMarksLaw") (hSt : l.stackTraces = false) (w : Wd) (b x m o od L : Nat) (xs : Nat → Int) (hxs : ∀ j, R32 (xs j)) (hSx : va_X b L (fun j => iI (xs j)) s9 (gH G)) (hbB : b < gB G) (i : Nat) (hi : i < 24) (hiL : 6 * i + 6 ≤ L) (hL9 : L ≤ 144) (U V : Nat) (hI : LI G w x m o od i U V) (H : Heap) (locs : List Loc) (ls : Array Slot) (hR : Rp G w H) (hL : LK G locs) (hl : lv_has ls 10 [(0, .ref b), (1, .ref x), (2, .ref m), (3, .ref o), (4, .ref od), (5, .int (iI ((6 * i : Nat) : Int)))])
  (kk : ∀ (w1 : Wd) (U1 V1 : Nat), LI G w1 x m o od (i + 1) U1 V1 → ∀ (H1 : Heap) (locs1 : List Loc) (ls1 : Array Slot), Rp G w1 H1 → LK G locs1 → lv_has ls1 10 [(0, .ref b), (1, .ref x), (2, .ref m), (3, .ref o), (4, .ref od), (5, .int (iI ((6 * i : Nat) : Int)))] → W p9 l e9 (rmk 26 1200048 5501818) s9 m9 a9 b9 meth9 c9 H1 locs1 U1 V1 Q9 (F0 m9 2178 ls1 [])) : W p9 l e9 (rmk 26 1200048 5501818) s9 m9 a9 b9 meth9 c9 H locs U V Q9 (F0 m9 349 ls []) := by
  have hx := X.1.1
  have hb := X.1.2.1
  obtain ⟨z, k0, hA, hT, ⟨fo, hO⟩, ⟨fd, hOd⟩, hG, hok, hU, hV⟩ := hI
  have hb2 : (2200 : Int) ≤ 3000 + 1000 * (i : Int) := by omega
  have hb9 : (3000 : Int) + 1000 * (i : Int) < 890000 := by omega
  have hbl : (zB ((aErr z).2.2)).length ≤ (zB z).length := Nat.le_refl _
  refine lv_aload_n hx hb dL_law_349 rfl (lv_at hl 1 rfl) ?_
  -- call SpokenMarks.errorPosition
  refine h_kI (h_runV X hR (cc_errorPosition l G w hSt x z _ hA hok hb2 hb9 hG ) pn_yX1_errorPosition (hA.hx) q1730 q1731 q1732 q120 q1733 ⟨by decide, by decide⟩ hl.1 (Nat.le_of_ble_eq_true rfl) dL_law_350 ⟨by omega, by omega⟩) hL (fun z_1 w_2 hp_3 H locs hR hL => ?_)
  obtain ⟨-, hv1, hA, hKp, hG, hok1⟩ := hp_3
  have hT := hT.kt hKp.t
  have hO := hKp.2.2.1 _ _ _ hO
  have hOd := hKp.2.2.2 _ _ _ hOd
  refine lv_aload_n hx hb dL_law_353 rfl (lv_at hl 2 rfl) ?_
  -- call SpokenMarksModel.errorPosition
  have hRb := hR
  refine h_kI (h_runV X hR (tt_errorPosition l G w_2 m z _ _ hT hok hb9 ) pn_yX10_errorPosition (hT.hx) q3050 q3051 q3052 q161 q3053 ⟨by decide, by decide⟩ hl.1 (Nat.le_of_ble_eq_true rfl) dL_law_354 ⟨by omega, by omega⟩) hL (fun z_4 w_5 hp_6 H locs hR hL => ?_)
  obtain ⟨hv2, hT2, hF2, hO2⟩ := hp_6
  obtain ⟨w3, hR, hT3, hF3, hG⟩ := hT2.fix hRb hR hG hF2 hO2
  have hA := hA.tw hT hF3
  have hO := hF3 _ _ _ hO (hT.noL hO)
  have hOd := hF3 _ _ _ hOd (hT.noD hOd)
  have hT := hT3
  refine h_icmpEq hx hb 2178 dL_law_357 (by decide) (hv1.trans hv2.symm) ?_
  exact kk _ _ _ ⟨(aErr z).2.2, _, hA, hT, ⟨_, hO⟩, ⟨_, hOd⟩, hG, hok1.mono (by omega), by omega, by omega⟩ _ _ _ hR hL (lv_sub hl [0, 1, 2, 3, 4, 5] rfl)

set_option maxHeartbeats 4000000 in
set_option maxRecDepth 100000 in
/-- size -/
theorem lc_size {l : Launch} {G : Gl} {p9 : Program} {e9 : Env} {s9 : State} {m9 : MethodId} {a9 : Array Value} {b9 : List Frame} {meth9 : Method} {c9 : Code} {Q9 : State → Prop} (X : HX G p9 s9 m9 a9 c9 cL_law 10 "SpokenMarksLaw") (hSt : l.stackTraces = false) (w : Wd) (b x m o od L : Nat) (xs : Nat → Int) (hxs : ∀ j, R32 (xs j)) (hSx : va_X b L (fun j => iI (xs j)) s9 (gH G)) (hbB : b < gB G) (i : Nat) (hi : i < 24) (hiL : 6 * i + 6 ≤ L) (hL9 : L ≤ 144) (U V : Nat) (hI : LI G w x m o od i U V) (H : Heap) (locs : List Loc) (ls : Array Slot) (hR : Rp G w H) (hL : LK G locs) (hl : lv_has ls 10 [(0, .ref b), (1, .ref x), (2, .ref m), (3, .ref o), (4, .ref od), (5, .int (iI ((6 * i : Nat) : Int)))])
  (kk : ∀ (w1 : Wd) (U1 V1 : Nat), LI G w1 x m o od (i + 1) U1 V1 → ∀ (H1 : Heap) (locs1 : List Loc) (ls1 : Array Slot), Rp G w1 H1 → LK G locs1 → lv_has ls1 10 [(0, .ref b), (1, .ref x), (2, .ref m), (3, .ref o), (4, .ref od), (5, .int (iI ((6 * i : Nat) : Int)))] → W p9 l e9 (rmk 26 1200048 5501818) s9 m9 a9 b9 meth9 c9 H1 locs1 U1 V1 Q9 (F0 m9 2178 ls1 [])) : W p9 l e9 (rmk 26 1200048 5501818) s9 m9 a9 b9 meth9 c9 H locs U V Q9 (F0 m9 362 ls []) := by
  have hx := X.1.1
  have hb := X.1.2.1
  obtain ⟨z, k0, hA, hT, ⟨fo, hO⟩, ⟨fd, hOd⟩, hG, hok, hU, hV⟩ := hI
  have hb2 : (2200 : Int) ≤ 3000 + 1000 * (i : Int) := by omega
  have hb9 : (3000 : Int) + 1000 * (i : Int) < 890000 := by omega
  obtain ⟨v1, hv_1⟩ : ∃ v_, v_ = xs (6 * i + 1) := ⟨_, rfl⟩
  have r1 : R32 v1 := by rw [hv_1]; exact hxs _
  have hbl : (zB ((aSiz z v1).2.2)).length ≤ (zB z).length := Nat.le_refl _
  refine lv_aload_n hx hb dL_law_362 rfl (lv_at hl 1 rfl) ?_
  refine lv_aload_n hx hb dL_law_363 rfl (lv_at hl 0 rfl) ?_
  refine lv_iload hx hb dL_law_364 (lv_at hl 5 rfl) ?_
  refine h_iconst hx hb dL_law_366 ?_
  refine h_iadd hx hb dL_law_367 ?_
  refine h_sld X hR hSx hbB (by omega) (by omega) dL_law_368 ?_
  refine W.eq (g2 := F0 m9 369 ls [.int (iI (v1)), .ref x]) (congrArg (fun z_ : Int => F0 m9 369 ls [.int (iI (z_)), .ref x]) (show (xs (((6 * i : Nat) : Int) + 1).toNat : Int) = v1 from (by rw [hv_1, show (((6 * i : Nat) : Int) + 1).toNat = 6 * i + 1 by omega]))) ?_
  refine lv_aload_n hx hb dL_law_369 rfl (lv_at hl 3 rfl) ?_
  -- call SpokenMarksLaw.size
  refine h_xI (h_xrunTS X hR (ww_size l G w hSt x z _ hA hok hb2 hb9 hG v1 r1 o fo hO) pn_yX0_size q2247 q2248 q119 q2249 ⟨by decide, by decide⟩ hl.1 (Nat.le_of_ble_eq_true rfl) dL_law_370 ⟨by omega, by omega⟩) hL (fun xq_4 E_5 ce_ w_6 hx__7 H locs hR hL hce_ hcv_ hcl_ => ?_) (fun z_1 w_2 hp_3 H locs hR hL => ?_)
  ·
    exact absurd hx__7 id
  ·
    obtain ⟨⟨hk3, hkc⟩, hA, hKt, hG, hok1, ⟨fo, hO, hOv⟩, hKd⟩ := hp_3
    have hOd := hKd _ _ hOd
    have hT := hT.kt hKt
    refine lv_istore (lv' := [(6, .int (iI (z_1))), (0, .ref b), (1, .ref x), (2, .ref m), (3, .ref o), (4, .ref od), (5, .int (iI (((6 * i : Nat) : Int))))]) hx hb dL_law_373 hl (by decide) rfl (fun ls hl => ?_)
    refine lv_aload_n hx hb dL_law_375 rfl (lv_at hl 3 rfl) ?_
    refine lv_aload_n hx hb dL_law_376 rfl (lv_at hl 1 rfl) ?_
    refine lv_iload hx hb dL_law_377 (lv_at hl 6 rfl) ?_
    refine h_iconst hx hb dL_law_379 ?_
    refine h_iadd hx hb dL_law_380 ?_
    refine h_sld X hR hSx hbB (by omega) (by omega) dL_law_381 ?_
    refine W.eq (g2 := F0 m9 382 ls [.int (iI (v1)), .ref m]) (congrArg (fun z_ : Int => F0 m9 382 ls [.int (iI (z_)), .ref m]) (show (xs (((6 * i : Nat) : Int) + 1).toNat : Int) = v1 from (by rw [hv_1, show (((6 * i : Nat) : Int) + 1).toNat = 6 * i + 1 by omega]))) ?_
    -- call SpokenMarksModel.size
    have hRb := hR
    refine h_kI (h_runV X hR (tt_size l G w_2 m z _ _ hT hok hb9 v1 r1) pn_yX10_size (hT.hx) q3055 q3056 q3057 q161 q3058 ⟨by decide, by decide⟩ hl.1 (Nat.le_of_ble_eq_true rfl) dL_law_382 ⟨by omega, by omega⟩) hL (fun z_8 w_9 hp_10 H locs hR hL => ?_)
    obtain ⟨hv2, hT2, hF2, hO2⟩ := hp_10
    obtain ⟨w3, hR, hT3, hF3, hG⟩ := hT2.fix hRb hR hG hF2 hO2
    have hA := hA.tw hT hF3
    have hO := hF3 _ _ _ hO (hT.noL hO)
    have hOd := hF3 _ _ _ hOd (hT.noD hOd)
    have hT := hT3
    refine lv_istore (lv' := [(7, .int (iI (z_8))), (6, .int (iI (z_1))), (0, .ref b), (1, .ref x), (2, .ref m), (3, .ref o), (4, .ref od), (5, .int (iI (((6 * i : Nat) : Int))))]) hx hb dL_law_385 hl (by decide) rfl (fun ls hl => ?_)
    refine lv_aload_n hx hb dL_law_387 rfl (lv_at hl 4 rfl) ?_
    -- call SpokenMarksModel.thrown
    refine h_kIp (h_runV X hR (tt_thrown l G w3 m (aSiz z v1).2.2 ((aSiz z v1).1) hT) pn_yX10_thrown (hT.hx) q2713 q2714 q2715 q161 q2716 ⟨by decide, by decide⟩ hl.1 (Nat.le_of_ble_eq_true rfl) dL_law_388 ⟨by omega, by omega⟩) hL (fun H locs hR hL => ?_)
    refine lv_iload hx hb dL_law_391 (lv_at hl 1 rfl) ?_
    refine h_icmpEq hx hb 398 dL_law_393 (by decide) hkc.symm ?_
    refine lv_iload hx hb dL_law_398 (lv_at hl 1 rfl) ?_
    refine h_if_ne hx hb 415 dL_law_400 (by decide) ⟨by omega, by omega⟩ (fun c_k => ?_) (fun c_k => ?_)
    ·
      refine lv_goto (tgt := 2178) hx hb dL_law_415 (by decide) ?_
      exact kk _ _ _ ⟨(aSiz z v1).2.2, _, hA, hT, ⟨_, hO⟩, ⟨_, hOd⟩, hG, hok1.mono (by omega), by omega, by omega⟩ _ _ _ hR hL (lv_sub hl [2, 3, 4, 5, 6, 7] rfl)
    ·
      refine lv_aload_n hx hb dL_law_403 rfl (lv_at hl 5 rfl) ?_
      refine h_iconst hx hb dL_law_404 ?_
      refine h_lald X hR hO (by omega) (by omega) dL_law_405 ?_
      have hO0 := hOv (by omega)
      refine W.eq (g2 := F0 m9 406 ls [.long (lI (c32 ((aSiz z v1).2.1)))]) (congrArg (fun z_ : Int => F0 m9 406 ls [.long (lI (z_))]) (show (fo (Int.toNat 0) : Int) = c32 ((aSiz z v1).2.1) from (by exact hO0))) ?_
      refine lv_iload hx hb dL_law_406 (lv_at hl 0 rfl) ?_
      refine W.eq (g2 := F0 m9 408 ls [.int (iI (c32 z_8)), .long (lI (c32 ((aSiz z v1).2.1)))]) (by rw [c32_i]) ?_
      refine h_i2l hx hb dL_law_408 (c32_r _) ?_
      refine h_lcmp hx hb dL_law_409 (c32_j _) (c32_j _) ?_
      refine W.eq (g2 := F0 m9 410 ls [.int (iI (0))]) (congrArg (fun z_ : Int => F0 m9 410 ls [.int (iI (z_))]) (show (cmpZ (c32 ((aSiz z v1).2.1)) (c32 z_8) : Int) = 0 from (by rw [hv2]; exact cmpZ_0.mpr rfl))) ?_
      refine h_if_eq hx hb 415 dL_law_410 (by decide) (by decide) (fun _ => ?_) (fun z_ => absurd z_ (by decide))
      refine lv_goto (tgt := 2178) hx hb dL_law_415 (by decide) ?_
      exact kk _ _ _ ⟨(aSiz z v1).2.2, _, hA, hT, ⟨_, hO⟩, ⟨_, hOd⟩, hG, hok1.mono (by omega), by omega, by omega⟩ _ _ _ hR hL (lv_sub hl [2, 3, 4, 5, 6, 7] rfl)

set_option maxHeartbeats 4000000 in
set_option maxRecDepth 100000 in
/-- account -/
theorem lc_account {l : Launch} {G : Gl} {p9 : Program} {e9 : Env} {s9 : State} {m9 : MethodId} {a9 : Array Value} {b9 : List Frame} {meth9 : Method} {c9 : Code} {Q9 : State → Prop} (X : HX G p9 s9 m9 a9 c9 cL_law 10 "SpokenMarksLaw") (hSt : l.stackTraces = false) (w : Wd) (b x m o od L : Nat) (xs : Nat → Int) (hxs : ∀ j, R32 (xs j)) (hSx : va_X b L (fun j => iI (xs j)) s9 (gH G)) (hbB : b < gB G) (i : Nat) (hi : i < 24) (hiL : 6 * i + 6 ≤ L) (hL9 : L ≤ 144) (U V : Nat) (hI : LI G w x m o od i U V) (H : Heap) (locs : List Loc) (ls : Array Slot) (hR : Rp G w H) (hL : LK G locs) (hl : lv_has ls 10 [(0, .ref b), (1, .ref x), (2, .ref m), (3, .ref o), (4, .ref od), (5, .int (iI ((6 * i : Nat) : Int)))])
  (kk : ∀ (w1 : Wd) (U1 V1 : Nat), LI G w1 x m o od (i + 1) U1 V1 → ∀ (H1 : Heap) (locs1 : List Loc) (ls1 : Array Slot), Rp G w1 H1 → LK G locs1 → lv_has ls1 10 [(0, .ref b), (1, .ref x), (2, .ref m), (3, .ref o), (4, .ref od), (5, .int (iI ((6 * i : Nat) : Int)))] → W p9 l e9 (rmk 26 1200048 5501818) s9 m9 a9 b9 meth9 c9 H1 locs1 U1 V1 Q9 (F0 m9 2178 ls1 [])) : W p9 l e9 (rmk 26 1200048 5501818) s9 m9 a9 b9 meth9 c9 H locs U V Q9 (F0 m9 418 ls []) := by
  have hx := X.1.1
  have hb := X.1.2.1
  obtain ⟨z, k0, hA, hT, ⟨fo, hO⟩, ⟨fd, hOd⟩, hG, hok, hU, hV⟩ := hI
  have hb2 : (2200 : Int) ≤ 3000 + 1000 * (i : Int) := by omega
  have hb9 : (3000 : Int) + 1000 * (i : Int) < 890000 := by omega
  obtain ⟨v1, hv_1⟩ : ∃ v_, v_ = xs (6 * i + 1) := ⟨_, rfl⟩
  have r1 : R32 v1 := by rw [hv_1]; exact hxs _
  have hbl : (zB ((aAcc z v1).2.2)).length ≤ (zB z).length := Nat.le_refl _
  refine lv_aload_n hx hb dL_law_418 rfl (lv_at hl 1 rfl) ?_
  refine lv_aload_n hx hb dL_law_419 rfl (lv_at hl 0 rfl) ?_
  refine lv_iload hx hb dL_law_420 (lv_at hl 5 rfl) ?_
  refine h_iconst hx hb dL_law_422 ?_
  refine h_iadd hx hb dL_law_423 ?_
  refine h_sld X hR hSx hbB (by omega) (by omega) dL_law_424 ?_
  refine W.eq (g2 := F0 m9 425 ls [.int (iI (v1)), .ref x]) (congrArg (fun z_ : Int => F0 m9 425 ls [.int (iI (z_)), .ref x]) (show (xs (((6 * i : Nat) : Int) + 1).toNat : Int) = v1 from (by rw [hv_1, show (((6 * i : Nat) : Int) + 1).toNat = 6 * i + 1 by omega]))) ?_
  refine lv_aload_n hx hb dL_law_425 rfl (lv_at hl 3 rfl) ?_
  -- call SpokenMarksLaw.account
  refine h_xI (h_xrunTS X hR (ww_account l G w hSt x z _ hA hok hb2 hb9 hG v1 r1 o fo hO) pn_yX0_account q2263 q2264 q119 q2265 ⟨by decide, by decide⟩ hl.1 (Nat.le_of_ble_eq_true rfl) dL_law_426 ⟨by omega, by omega⟩) hL (fun xq_4 E_5 ce_ w_6 hx__7 H locs hR hL hce_ hcv_ hcl_ => ?_) (fun z_1 w_2 hp_3 H locs hR hL => ?_)
  ·
    exact absurd hx__7 id
  ·
    obtain ⟨⟨hk3, hkc⟩, hA, hKt, hG, hok1, ⟨fo, hO, hOv⟩, hKd⟩ := hp_3
    have hOd := hKd _ _ hOd
    have hT := hT.kt hKt
    refine lv_istore (lv' := [(6, .int (iI (z_1))), (0, .ref b), (1, .ref x), (2, .ref m), (3, .ref o), (4, .ref od), (5, .int (iI (((6 * i : Nat) : Int))))]) hx hb dL_law_429 hl (by decide) rfl (fun ls hl => ?_)
    refine lv_aload_n hx hb dL_law_431 rfl (lv_at hl 3 rfl) ?_
    refine lv_aload_n hx hb dL_law_432 rfl (lv_at hl 1 rfl) ?_
    refine lv_iload hx hb dL_law_433 (lv_at hl 6 rfl) ?_
    refine h_iconst hx hb dL_law_435 ?_
    refine h_iadd hx hb dL_law_436 ?_
    refine h_sld X hR hSx hbB (by omega) (by omega) dL_law_437 ?_
    refine W.eq (g2 := F0 m9 438 ls [.int (iI (v1)), .ref m]) (congrArg (fun z_ : Int => F0 m9 438 ls [.int (iI (z_)), .ref m]) (show (xs (((6 * i : Nat) : Int) + 1).toNat : Int) = v1 from (by rw [hv_1, show (((6 * i : Nat) : Int) + 1).toNat = 6 * i + 1 by omega]))) ?_
    -- call SpokenMarksModel.account
    have hRb := hR
    refine h_kI (h_runV X hR (tt_account l G w_2 m z _ _ hT hok hb9 v1 r1) pn_yX10_account (hT.hx) q3084 q3085 q3086 q161 q3087 ⟨by decide, by decide⟩ hl.1 (Nat.le_of_ble_eq_true rfl) dL_law_438 ⟨by omega, by omega⟩) hL (fun z_8 w_9 hp_10 H locs hR hL => ?_)
    obtain ⟨hv2, hT2, hF2, hO2⟩ := hp_10
    obtain ⟨w3, hR, hT3, hF3, hG⟩ := hT2.fix hRb hR hG hF2 hO2
    have hA := hA.tw hT hF3
    have hO := hF3 _ _ _ hO (hT.noL hO)
    have hOd := hF3 _ _ _ hOd (hT.noD hOd)
    have hT := hT3
    refine lv_istore (lv' := [(7, .int (iI (z_8))), (6, .int (iI (z_1))), (0, .ref b), (1, .ref x), (2, .ref m), (3, .ref o), (4, .ref od), (5, .int (iI (((6 * i : Nat) : Int))))]) hx hb dL_law_441 hl (by decide) rfl (fun ls hl => ?_)
    refine lv_aload_n hx hb dL_law_443 rfl (lv_at hl 4 rfl) ?_
    -- call SpokenMarksModel.thrown
    refine h_kIp (h_runV X hR (tt_thrown l G w3 m (aAcc z v1).2.2 ((aAcc z v1).1) hT) pn_yX10_thrown (hT.hx) q2713 q2714 q2715 q161 q2716 ⟨by decide, by decide⟩ hl.1 (Nat.le_of_ble_eq_true rfl) dL_law_444 ⟨by omega, by omega⟩) hL (fun H locs hR hL => ?_)
    refine lv_iload hx hb dL_law_447 (lv_at hl 1 rfl) ?_
    refine h_icmpEq hx hb 454 dL_law_449 (by decide) hkc.symm ?_
    refine lv_iload hx hb dL_law_454 (lv_at hl 1 rfl) ?_
    refine h_if_ne hx hb 471 dL_law_456 (by decide) ⟨by omega, by omega⟩ (fun c_k => ?_) (fun c_k => ?_)
    ·
      refine lv_goto (tgt := 2178) hx hb dL_law_471 (by decide) ?_
      exact kk _ _ _ ⟨(aAcc z v1).2.2, _, hA, hT, ⟨_, hO⟩, ⟨_, hOd⟩, hG, hok1.mono (by omega), by omega, by omega⟩ _ _ _ hR hL (lv_sub hl [2, 3, 4, 5, 6, 7] rfl)
    ·
      refine lv_aload_n hx hb dL_law_459 rfl (lv_at hl 5 rfl) ?_
      refine h_iconst hx hb dL_law_460 ?_
      refine h_lald X hR hO (by omega) (by omega) dL_law_461 ?_
      have hO0 := hOv (by omega)
      refine W.eq (g2 := F0 m9 462 ls [.long (lI (c32 ((aAcc z v1).2.1)))]) (congrArg (fun z_ : Int => F0 m9 462 ls [.long (lI (z_))]) (show (fo (Int.toNat 0) : Int) = c32 ((aAcc z v1).2.1) from (by exact hO0))) ?_
      refine lv_iload hx hb dL_law_462 (lv_at hl 0 rfl) ?_
      refine W.eq (g2 := F0 m9 464 ls [.int (iI (c32 z_8)), .long (lI (c32 ((aAcc z v1).2.1)))]) (by rw [c32_i]) ?_
      refine h_i2l hx hb dL_law_464 (c32_r _) ?_
      refine h_lcmp hx hb dL_law_465 (c32_j _) (c32_j _) ?_
      refine W.eq (g2 := F0 m9 466 ls [.int (iI (0))]) (congrArg (fun z_ : Int => F0 m9 466 ls [.int (iI (z_))]) (show (cmpZ (c32 ((aAcc z v1).2.1)) (c32 z_8) : Int) = 0 from (by rw [hv2]; exact cmpZ_0.mpr rfl))) ?_
      refine h_if_eq hx hb 471 dL_law_466 (by decide) (by decide) (fun _ => ?_) (fun z_ => absurd z_ (by decide))
      refine lv_goto (tgt := 2178) hx hb dL_law_471 (by decide) ?_
      exact kk _ _ _ ⟨(aAcc z v1).2.2, _, hA, hT, ⟨_, hO⟩, ⟨_, hOd⟩, hG, hok1.mono (by omega), by omega, by omega⟩ _ _ _ hR hL (lv_sub hl [2, 3, 4, 5, 6, 7] rfl)

set_option maxHeartbeats 4000000 in
set_option maxRecDepth 100000 in
/-- at -/
theorem lc_at {l : Launch} {G : Gl} {p9 : Program} {e9 : Env} {s9 : State} {m9 : MethodId} {a9 : Array Value} {b9 : List Frame} {meth9 : Method} {c9 : Code} {Q9 : State → Prop} (X : HX G p9 s9 m9 a9 c9 cL_law 10 "SpokenMarksLaw") (hSt : l.stackTraces = false) (w : Wd) (b x m o od L : Nat) (xs : Nat → Int) (hxs : ∀ j, R32 (xs j)) (hSx : va_X b L (fun j => iI (xs j)) s9 (gH G)) (hbB : b < gB G) (i : Nat) (hi : i < 24) (hiL : 6 * i + 6 ≤ L) (hL9 : L ≤ 144) (U V : Nat) (hI : LI G w x m o od i U V) (H : Heap) (locs : List Loc) (ls : Array Slot) (hR : Rp G w H) (hL : LK G locs) (hl : lv_has ls 10 [(0, .ref b), (1, .ref x), (2, .ref m), (3, .ref o), (4, .ref od), (5, .int (iI ((6 * i : Nat) : Int)))])
  (kk : ∀ (w1 : Wd) (U1 V1 : Nat), LI G w1 x m o od (i + 1) U1 V1 → ∀ (H1 : Heap) (locs1 : List Loc) (ls1 : Array Slot), Rp G w1 H1 → LK G locs1 → lv_has ls1 10 [(0, .ref b), (1, .ref x), (2, .ref m), (3, .ref o), (4, .ref od), (5, .int (iI ((6 * i : Nat) : Int)))] → W p9 l e9 (rmk 26 1200048 5501818) s9 m9 a9 b9 meth9 c9 H1 locs1 U1 V1 Q9 (F0 m9 2178 ls1 [])) : W p9 l e9 (rmk 26 1200048 5501818) s9 m9 a9 b9 meth9 c9 H locs U V Q9 (F0 m9 474 ls []) := by
  have hx := X.1.1
  have hb := X.1.2.1
  obtain ⟨z, k0, hA, hT, ⟨fo, hO⟩, ⟨fd, hOd⟩, hG, hok, hU, hV⟩ := hI
  have hb2 : (2200 : Int) ≤ 3000 + 1000 * (i : Int) := by omega
  have hb9 : (3000 : Int) + 1000 * (i : Int) < 890000 := by omega
  obtain ⟨v1, hv_1⟩ : ∃ v_, v_ = xs (6 * i + 1) := ⟨_, rfl⟩
  have r1 : R32 v1 := by rw [hv_1]; exact hxs _
  have hbl : (zB ((aAt z v1).2.2)).length ≤ (zB z).length := Nat.le_refl _
  refine lv_aload_n hx hb dL_law_474 rfl (lv_at hl 1 rfl) ?_
  refine lv_aload_n hx hb dL_law_475 rfl (lv_at hl 0 rfl) ?_
  refine lv_iload hx hb dL_law_476 (lv_at hl 5 rfl) ?_
  refine h_iconst hx hb dL_law_478 ?_
  refine h_iadd hx hb dL_law_479 ?_
  refine h_sld X hR hSx hbB (by omega) (by omega) dL_law_480 ?_
  refine W.eq (g2 := F0 m9 481 ls [.int (iI (v1)), .ref x]) (congrArg (fun z_ : Int => F0 m9 481 ls [.int (iI (z_)), .ref x]) (show (xs (((6 * i : Nat) : Int) + 1).toNat : Int) = v1 from (by rw [hv_1, show (((6 * i : Nat) : Int) + 1).toNat = 6 * i + 1 by omega]))) ?_
  -- call SpokenMarks.at
  refine h_kI (h_runV X hR (cc_at l G w hSt x z _ hA hok hb2 hb9 hG v1 r1) pn_yX1_at (hA.hx) q1734 q1735 q1736 q120 q1737 ⟨by decide, by decide⟩ hl.1 (Nat.le_of_ble_eq_true rfl) dL_law_481 ⟨by omega, by omega⟩) hL (fun z_1 w_2 hp_3 H locs hR hL => ?_)
  obtain ⟨-, hv1, hA, hKp, hG, hok1⟩ := hp_3
  have hT := hT.kt hKp.t
  have hO := hKp.2.2.1 _ _ _ hO
  have hOd := hKp.2.2.2 _ _ _ hOd
  refine lv_aload_n hx hb dL_law_484 rfl (lv_at hl 2 rfl) ?_
  refine lv_aload_n hx hb dL_law_485 rfl (lv_at hl 0 rfl) ?_
  refine lv_iload hx hb dL_law_486 (lv_at hl 5 rfl) ?_
  refine h_iconst hx hb dL_law_488 ?_
  refine h_iadd hx hb dL_law_489 ?_
  refine h_sld X hR hSx hbB (by omega) (by omega) dL_law_490 ?_
  refine W.eq (g2 := F0 m9 491 ls [.int (iI (v1)), .ref m, .int (iI (z_1))]) (congrArg (fun z_ : Int => F0 m9 491 ls [.int (iI (z_)), .ref m, .int (iI (z_1))]) (show (xs (((6 * i : Nat) : Int) + 1).toNat : Int) = v1 from (by rw [hv_1, show (((6 * i : Nat) : Int) + 1).toNat = 6 * i + 1 by omega]))) ?_
  -- call SpokenMarksModel.at
  have hRb := hR
  refine h_kI (h_runV X hR (tt_at l G w_2 m z _ _ hT hok hb9 v1 r1) pn_yX10_at (hT.hx) q3089 q3090 q3091 q161 q3092 ⟨by decide, by decide⟩ hl.1 (Nat.le_of_ble_eq_true rfl) dL_law_491 ⟨by omega, by omega⟩) hL (fun z_4 w_5 hp_6 H locs hR hL => ?_)
  obtain ⟨hv2, hT2, hF2, hO2⟩ := hp_6
  obtain ⟨k2, hT2⟩ := hT2
  obtain ⟨w3, hR, hT3, hF3, hG⟩ := hT2.fix hRb hR hG hF2 hO2
  have hA := hA.tw hT hF3
  have hO := hF3 _ _ _ hO (hT.noL hO)
  have hOd := hF3 _ _ _ hOd (hT.noD hOd)
  have hT := hT3
  refine h_icmpEq hx hb 2178 dL_law_494 (by decide) (hv1.trans hv2.symm) ?_
  exact kk _ _ _ ⟨(aAt z v1).2.2, _, hA, hT, ⟨_, hO⟩, ⟨_, hOd⟩, hG, hok1.mono (by omega), by omega, by omega⟩ _ _ _ hR hL (lv_sub hl [0, 1, 2, 3, 4, 5] rfl)
