/-! the law: its entry, its loop -/
set_option maxRecDepth 100000
theorem CmA.ad {G : Gl} {w w1 : Wd} {x : Nat} {z : LSt} (h : CmA G w x z) (hF : Fr (fun _ => False) w w1) : CmA G w1 x z := CmS.mv h hF id (fun _ _ => id)
theorem TwZ.ad {G : Gl} {w w1 : Wd} {a : Nat} {k : Int} {z : LSt} (h : TwZ G w a k z) (hF : Fr (fun _ => False) w w1) : TwZ G w1 a k z := h.kt ⟨fun _ _ _ => hF.mono (fun r q => absurd q id), hF.mono (fun r q => absurd q id)⟩
theorem LI.next {G : Gl} {w : Wd} {x m o od i U V : Nat} (h : LI G w x m o od i U V) : LI G w x m o od (i + 1) U V := by
  obtain ⟨z, k, h1, h2, h3, h4, h5, h6, h7, h8⟩ := h
  exact ⟨z, k, h1, h2, h3, h4, h5, h6.mono (by omega), by omega, by omega⟩
theorem pn_yX1_init : ParN yX1_init 0 := by decide +kernel
theorem pn_yX10_init : ParN yX10_init 0 := by decide +kernel

set_option maxHeartbeats 4000000 in
theorem law_entry {l : Launch} {G : Gl} {p9 : Program} {e9 : Env} {s9 : State} {m9 : MethodId} {a9 : Array Value} {b9 : List Frame} {meth9 : Method} {c9 : Code} {Q9 : State → Prop} (X : HX G p9 s9 m9 a9 c9 cL_law 10 "SpokenMarksLaw") (w : Wd) (b : Nat) (hG : RegW w) (H : Heap) (locs : List Loc) (ls : Array Slot) (hR : Rp G w H) (hL : LK G locs) (hl : lv_has ls 10 [(0, .ref b)])
  (kk : ∀ (w1 : Wd) (x m o od : Nat) (U1 V1 : Nat), LI G w1 x m o od 0 U1 V1 → ∀ (H1 : Heap) (locs1 : List Loc) (ls1 : Array Slot), Rp G w1 H1 → LK G locs1 → lv_has ls1 10 [(0, .ref b), (1, .ref x), (2, .ref m), (3, .ref o), (4, .ref od), (5, .int (iI ((6 * 0 : Nat) : Int)))] → W p9 l e9 (rmk 26 1200048 5501818) s9 m9 a9 b9 meth9 c9 H1 locs1 U1 V1 Q9 (F0 m9 28 ls1 [])) : W p9 l e9 (rmk 26 1200048 5501818) s9 m9 a9 b9 meth9 c9 H locs 0 0 Q9 (F0 m9 0 ls []) := by
  have hx := X.1.1
  have hb := X.1.2.1
  refine h_new X hR (ci := 0) (fun q => q + 1) rfl in_X1 tyX1_ok q174 q175 q120 [.null, .null, .int (iI (0)), .int (iI (0)), .int (iI (0)), .int (iI (0)), .int (iI (0)), .int (iI (0)), .null, .null, .null] (by intro j hj; rcases (show j = 0 ∨ j = 1 ∨ j = 2 ∨ j = 3 ∨ j = 4 ∨ j = 5 ∨ j = 6 ∨ j = 7 ∨ j = 8 ∨ j = 9 ∨ j = 10 by omega) with rfl | rfl | rfl | rfl | rfl | rfl | rfl | rfl | rfl | rfl | rfl <;> rfl) (by omega) (by omega) dL_law_0 (fun xa hxa w_1 ew_2 H hR => ?_)
  have hF_xa_w_1 : w_1 xa = some (xa + 1, oE 0 [.null, .null, .int (iI (0)), .int (iI (0)), .int (iI (0)), .int (iI (0)), .int (iI (0)), .int (iI (0)), .null, .null, .null]) := by rw [ew_2]; exact wset_eq _ _ _
  have hG : RegW w_1 := by rw [ew_2]; exact hG.new (Or.inr (Or.inl rfl))
  refine lv_dup hx hb dL_law_3 rfl ?_
  -- call SpokenMarks.<init>
  refine h_kV (h_runI X hR (cc_init l G w_1 xa hF_xa_w_1 hG) pn_yX1_init rfl q176 q177 q120 q178 ⟨by decide, by decide⟩ hl.1 (Nat.le_of_ble_eq_true rfl) dL_law_4 ⟨by omega, by omega⟩) hL (fun w_4 hp_5 H locs hR hL => ?_)
  obtain ⟨hA, -, hG⟩ := hp_5
  refine lv_astore_n (lv' := [(1, .ref xa), (0, .ref b)]) hx hb dL_law_7 rfl hl (by decide) rfl (fun ls hl => ?_)
  refine h_new X hR (ci := 1) (fun q => q + 1) rfl in_X10 tyX10_ok q2717 q2718 q161 [.int (iI (0)), .null, .int (iI (0)), .null, .null, .null, .null, .null, .null, .int (iI (0)), .int (iI (0)), .int (iI (0)), .int (iI (0)), .int (iI (0)), .null, .int (iI (0)), .int (iI (0)), .int (iI (0)), .int (iI (0)), .int (iI (0)), .int (iI (0)), .int (iI (0)), .int (iI (0)), .null, .int (iI (0)), .int (iI (0)), .long (lI (0)), .long (lI (0)), .null, .int (iI (0)), .null, .null, .int (iI (0))] (by intro j hj; rcases (show j = 0 ∨ j = 1 ∨ j = 2 ∨ j = 3 ∨ j = 4 ∨ j = 5 ∨ j = 6 ∨ j = 7 ∨ j = 8 ∨ j = 9 ∨ j = 10 ∨ j = 11 ∨ j = 12 ∨ j = 13 ∨ j = 14 ∨ j = 15 ∨ j = 16 ∨ j = 17 ∨ j = 18 ∨ j = 19 ∨ j = 20 ∨ j = 21 ∨ j = 22 ∨ j = 23 ∨ j = 24 ∨ j = 25 ∨ j = 26 ∨ j = 27 ∨ j = 28 ∨ j = 29 ∨ j = 30 ∨ j = 31 ∨ j = 32 by omega) with rfl | rfl | rfl | rfl | rfl | rfl | rfl | rfl | rfl | rfl | rfl | rfl | rfl | rfl | rfl | rfl | rfl | rfl | rfl | rfl | rfl | rfl | rfl | rfl | rfl | rfl | rfl | rfl | rfl | rfl | rfl | rfl | rfl <;> rfl) (by omega) (by omega) dL_law_8 (fun ma hma w_6 ew_7 H hR => ?_)
  have hF_ma_w_6 : w_6 ma = some (ma + 1, oE 1 [.int (iI (0)), .null, .int (iI (0)), .null, .null, .null, .null, .null, .null, .int (iI (0)), .int (iI (0)), .int (iI (0)), .int (iI (0)), .int (iI (0)), .null, .int (iI (0)), .int (iI (0)), .int (iI (0)), .int (iI (0)), .int (iI (0)), .int (iI (0)), .int (iI (0)), .int (iI (0)), .null, .int (iI (0)), .int (iI (0)), .long (lI (0)), .long (lI (0)), .null, .int (iI (0)), .null, .null, .int (iI (0))]) := by rw [ew_7]; exact wset_eq _ _ _
  have hA : CmA G w_6 xa z00 := CmA.ad hA (by rw [ew_7]; exact Fr.add hma _)
  have hG : RegW w_6 := by rw [ew_7]; exact hG.new (Or.inr (Or.inl rfl))
  refine lv_dup hx hb dL_law_11 rfl ?_
  -- call SpokenMarksModel.<init>
  have hRb := hR
  refine h_kV (h_runI X hR (tt_init l G w_6 ma hF_ma_w_6) pn_yX10_init rfl q2719 q2720 q161 q2721 ⟨by decide, by decide⟩ hl.1 (Nat.le_of_ble_eq_true rfl) dL_law_12 ⟨by omega, by omega⟩) hL (fun w_9 hp_10 H locs hR hL => ?_)
  obtain ⟨hT2, hF2, hO2⟩ := hp_10
  obtain ⟨w3, hR, hT, hF3, hG⟩ := hT2.fix hRb hR hG hF2 hO2
  have hA : CmA G w3 xa z00 := CmS.tw hA hF_ma_w_6 hF3
  refine lv_astore_n (lv' := [(2, .ref ma), (1, .ref xa), (0, .ref b)]) hx hb dL_law_15 rfl hl (by decide) rfl (fun ls hl => ?_)
  refine h_iconst hx hb dL_law_16 ?_
  refine h_newL X hR (fun q => q + 1) q3041 1 rfl (by omega) (by omega) (by omega) dL_law_17 (fun oa hoa w_11 ew_12 H hR => ?_)
  have hF_oa_w_11 : w_11 oa = some (oa + 1, lE G 1 (fun _ => 0)) := by rw [ew_12]; exact wset_eq _ _ _
  have hA : CmA G w_11 xa z00 := CmA.ad hA (by rw [ew_12]; exact Fr.add hoa _)
  have hT : TwZ G w_11 ma 0 z00 := TwZ.ad hT (by rw [ew_12]; exact Fr.add hoa _)
  have hG : RegW w_11 := by rw [ew_12]; exact hG.new (Or.inr (Or.inl rfl))
  refine lv_astore_n (lv' := [(3, .ref oa), (2, .ref ma), (1, .ref xa), (0, .ref b)]) hx hb dL_law_19 rfl hl (by decide) rfl (fun ls hl => ?_)
  refine h_iconst hx hb dL_law_20 ?_
  refine h_newD X hR (fun q => q + 1) q3373 1 rfl (by omega) (by omega) (by omega) dL_law_21 (fun da hda w_13 z0_15 ew_14 H hR => ?_)
  have hF_da_w_13 : w_13 da = some (da + 1, dE G 1 (fun _ => z0_15)) := by rw [ew_14]; exact wset_eq _ _ _
  have hF_oa_w_13 : w_13 oa = some (oa + 1, lE G 1 (fun _ => 0)) := by rw [ew_14]; exact (wset_ne _ (w_neN hF_oa_w_11 hda)).trans hF_oa_w_11
  have hA : CmA G w_13 xa z00 := CmA.ad hA (by rw [ew_14]; exact Fr.add hda _)
  have hT : TwZ G w_13 ma 0 z00 := TwZ.ad hT (by rw [ew_14]; exact Fr.add hda _)
  have hG : RegW w_13 := by rw [ew_14]; exact hG.new (Or.inr (Or.inl rfl))
  refine lv_astore (lv' := [(4, .ref da), (3, .ref oa), (2, .ref ma), (1, .ref xa), (0, .ref b)]) hx hb dL_law_23 hl (by decide) rfl (fun ls hl => ?_)
  refine h_iconst hx hb dL_law_25 ?_
  refine lv_istore (lv' := [(5, .int (iI (0))), (4, .ref da), (3, .ref oa), (2, .ref ma), (1, .ref xa), (0, .ref b)]) hx hb dL_law_26 hl (by decide) rfl (fun ls hl => ?_)
  exact kk _ xa ma oa da _ _ ⟨z00, 0, hA, hT, ⟨_, hF_oa_w_13⟩, ⟨_, hF_da_w_13⟩, hG, LOk.z0.mono (by decide), by decide, by decide⟩ _ _ _ hR hL (lv_sub hl [5, 4, 3, 2, 1, 0] rfl)

set_option maxHeartbeats 8000000 in
theorem law_loop {l : Launch} {G : Gl} {p9 : Program} {e9 : Env} {s9 : State} {m9 : MethodId} {a9 : Array Value} {b9 : List Frame} {meth9 : Method} {c9 : Code} {Q9 : State → Prop} (X : HX G p9 s9 m9 a9 c9 cL_law 10 "SpokenMarksLaw") (hSt : l.stackTraces = false) (b x m o od L : Nat) (xs : Nat → Int) (hxs : ∀ j, R32 (xs j)) (hSx : va_X b L (fun j => iI (xs j)) s9 (gH G)) (hbB : b < gB G) (hL9 : L ≤ 144)
  (kk : ∀ (w1 : Wd) (U1 V1 : Nat) (H1 : Heap) (locs1 : List Loc) (ls1 : Array Slot), U1 ≤ 1200048 → V1 ≤ 5501818 → Rp G w1 H1 → LK G locs1 → W p9 l e9 (rmk 26 1200048 5501818) s9 m9 a9 b9 meth9 c9 H1 locs1 U1 V1 Q9 (F0 m9 2184 ls1 [])) : ∀ (N i : Nat) (w : Wd) (U V : Nat), 24 < N + i → i ≤ 24 → 6 * i ≤ L → LI G w x m o od i U V → ∀ (H : Heap) (locs : List Loc) (ls : Array Slot), Rp G w H → LK G locs → lv_has ls 10 [(0, .ref b), (1, .ref x), (2, .ref m), (3, .ref o), (4, .ref od), (5, .int (iI ((6 * i : Nat) : Int)))] → W p9 l e9 (rmk 26 1200048 5501818) s9 m9 a9 b9 meth9 c9 H locs U V Q9 (F0 m9 28 ls []) := by
  have hx := X.1.1
  have hb := X.1.2.1
  intro N
  induction N with
  | zero => intro i w U V h1 h2; exact absurd h1 (by omega)
  | succ N ih =>
    intro i w U V hN hi24 hiL6 hI H locs ls hR hL hl
    have back : i < 24 → 6 * i + 6 ≤ L → ∀ (w1 : Wd) (U1 V1 : Nat), LI G w1 x m o od (i + 1) U1 V1 → ∀ (H1 : Heap) (locs1 : List Loc) (ls1 : Array Slot), Rp G w1 H1 → LK G locs1 → lv_has ls1 10 [(0, .ref b), (1, .ref x), (2, .ref m), (3, .ref o), (4, .ref od), (5, .int (iI ((6 * i : Nat) : Int)))] → W p9 l e9 (rmk 26 1200048 5501818) s9 m9 a9 b9 meth9 c9 H1 locs1 U1 V1 Q9 (F0 m9 2178 ls1 []) := by
      intro hi hiL w1 U1 V1 hI1 H1 locs1 ls hR hL hl
      refine h_iinc (lv' := [(5, .int (iI (((6 * i : Nat) : Int) + 6))), (0, .ref b), (1, .ref x), (2, .ref m), (3, .ref o), (4, .ref od)]) hx hb dL_law_2178 hl (k := 5) rfl (by decide) rfl (fun ls hl => ?_)
      have hl : lv_has ls 10 [(5, .int (iI (((6 * (i + 1) : Nat) : Int)))), (0, .ref b), (1, .ref x), (2, .ref m), (3, .ref o), (4, .ref od)] := lv_conv hl (congrArg (fun z_ : Int => ([(5, .int (iI (z_))), (0, .ref b), (1, .ref x), (2, .ref m), (3, .ref o), (4, .ref od)] : List (Nat × Value))) (show (((6 * i : Nat) : Int) + 6 : Int) = ((6 * (i + 1) : Nat) : Int) from (by omega)))
      refine lv_goto (tgt := 28) hx hb dL_law_2181 (by decide) ?_
      exact ih (i + 1) _ _ _ (by omega) (by omega) (by omega) hI1 _ _ _ hR hL (lv_sub hl [1, 2, 3, 4, 5, 0] rfl)
    refine lv_iload hx hb dL_law_28 (lv_at hl 5 rfl) ?_
    refine lv_aload_n hx hb dL_law_30 rfl (lv_at hl 0 rfl) ?_
    refine h_slen X hR hSx hbB dL_law_31 ?_
    refine h_bipush hx hb dL_law_32 (by decide) ?_
    refine h_isub hx hb dL_law_34 ?_
    refine h_icmp_gt hx hb 2184 dL_law_35 (by decide) ⟨by omega, by omega⟩ ⟨by omega, by omega⟩ (fun c_x => ?_) (fun c_x => ?_)
    ·
      obtain ⟨z, k, h1, h2, h3, h4, h5, h6, h7, h8⟩ := hI; exact kk w _ _ _ _ _ (by omega) (by omega) hR hL
    ·
      have hiL : 6 * i + 6 ≤ L := by omega
      have hi : i < 24 := by omega
      refine lv_aload_n hx hb dL_law_38 rfl (lv_at hl 0 rfl) ?_
      refine lv_iload hx hb dL_law_39 (lv_at hl 5 rfl) ?_
      refine h_sld X hR hSx hbB ⟨by omega, by omega⟩ (by omega) dL_law_41 ?_
      refine h_bipush hx hb dL_law_42 (by decide) ?_
      refine h_iand hx hb dL_law_44 (iI_and63 _) ?_
      have hb64 : 0 ≤ (xs (((6 * i : Nat) : Int)).toNat) % 64 ∧ (xs (((6 * i : Nat) : Int)).toNat) % 64 < 64 := ⟨by omega, by omega⟩
      generalize (xs (((6 * i : Nat) : Int)).toNat) % 64 = y at hb64 ⊢
      by_cases hin : y < 40
      ·
        rcases (show y = 0 ∨ y = 1 ∨ y = 2 ∨ y = 3 ∨ y = 4 ∨ y = 5 ∨ y = 6 ∨ y = 7 ∨ y = 8 ∨ y = 9 ∨ y = 10 ∨ y = 11 ∨ y = 12 ∨ y = 13 ∨ y = 14 ∨ y = 15 ∨ y = 16 ∨ y = 17 ∨ y = 18 ∨ y = 19 ∨ y = 20 ∨ y = 21 ∨ y = 22 ∨ y = 23 ∨ y = 24 ∨ y = 25 ∨ y = 26 ∨ y = 27 ∨ y = 28 ∨ y = 29 ∨ y = 30 ∨ y = 31 ∨ y = 32 ∨ y = 33 ∨ y = 34 ∨ y = 35 ∨ y = 36 ∨ y = 37 ∨ y = 38 ∨ y = 39 by omega) with q | q | q | q | q | q | q | q | q | q | q | q | q | q | q | q | q | q | q | q | q | q | q | q | q | q | q | q | q | q | q | q | q | q | q | q | q | q | q | q
        · subst q; refine h_tabIn hx hb 220 dL_law_45 ⟨by decide, by decide⟩ ⟨by decide, by decide⟩ (by rfl) (by decide) ?_; exact lc_feed X hSt w b x m o od L xs hxs hSx hbB i hi hiL hL9 U V hI H locs ls hR hL hl (back hi hiL)
        · subst q; refine h_tabIn hx hb 293 dL_law_45 ⟨by decide, by decide⟩ ⟨by decide, by decide⟩ (by rfl) (by decide) ?_; exact lc_load X hSt w b x m o od L xs hxs hSx hbB i hi hiL hL9 U V hI H locs ls hR hL hl (back hi hiL)
        · subst q; refine h_tabIn hx hb 349 dL_law_45 ⟨by decide, by decide⟩ ⟨by decide, by decide⟩ (by rfl) (by decide) ?_; exact lc_errorPosition X hSt w b x m o od L xs hxs hSx hbB i hi hiL hL9 U V hI H locs ls hR hL hl (back hi hiL)
        · subst q; refine h_tabIn hx hb 362 dL_law_45 ⟨by decide, by decide⟩ ⟨by decide, by decide⟩ (by rfl) (by decide) ?_; exact lc_size X hSt w b x m o od L xs hxs hSx hbB i hi hiL hL9 U V hI H locs ls hR hL hl (back hi hiL)
        · subst q; refine h_tabIn hx hb 418 dL_law_45 ⟨by decide, by decide⟩ ⟨by decide, by decide⟩ (by rfl) (by decide) ?_; exact lc_account X hSt w b x m o od L xs hxs hSx hbB i hi hiL hL9 U V hI H locs ls hR hL hl (back hi hiL)
        · subst q; refine h_tabIn hx hb 474 dL_law_45 ⟨by decide, by decide⟩ ⟨by decide, by decide⟩ (by rfl) (by decide) ?_; exact lc_at X hSt w b x m o od L xs hxs hSx hbB i hi hiL hL9 U V hI H locs ls hR hL hl (back hi hiL)
        · subst q; refine h_tabIn hx hb 499 dL_law_45 ⟨by decide, by decide⟩ ⟨by decide, by decide⟩ (by rfl) (by decide) ?_; exact lc_mark X hSt w b x m o od L xs hxs hSx hbB i hi hiL hL9 U V hI H locs ls hR hL hl (back hi hiL)
        · subst q; refine h_tabIn hx hb 567 dL_law_45 ⟨by decide, by decide⟩ ⟨by decide, by decide⟩ (by rfl) (by decide) ?_; exact lc_number X hSt w b x m o od L xs hxs hSx hbB i hi hiL hL9 U V hI H locs ls hR hL hl (back hi hiL)
        · subst q; refine h_tabIn hx hb 635 dL_law_45 ⟨by decide, by decide⟩ ⟨by decide, by decide⟩ (by rfl) (by decide) ?_; exact lc_letter X hSt w b x m o od L xs hxs hSx hbB i hi hiL hL9 U V hI H locs ls hR hL hl (back hi hiL)
        · subst q; refine h_tabIn hx hb 743 dL_law_45 ⟨by decide, by decide⟩ ⟨by decide, by decide⟩ (by rfl) (by decide) ?_; exact lc_ruleLetter X hSt w b x m o od L xs hxs hSx hbB i hi hiL hL9 U V hI H locs ls hR hL hl (back hi hiL)
        · subst q; refine h_tabIn hx hb 839 dL_law_45 ⟨by decide, by decide⟩ ⟨by decide, by decide⟩ (by rfl) (by decide) ?_; exact lc_shelf X hSt w b x m o od L xs hxs hSx hbB i hi hiL hL9 U V hI H locs ls hR hL hl (back hi hiL)
        · subst q; refine h_tabIn hx hb 907 dL_law_45 ⟨by decide, by decide⟩ ⟨by decide, by decide⟩ (by rfl) (by decide) ?_; exact lc_gap X hSt w b x m o od L xs hxs hSx hbB i hi hiL hL9 U V hI H locs ls hR hL hl (back hi hiL)
        · subst q; refine h_tabIn hx hb 920 dL_law_45 ⟨by decide, by decide⟩ ⟨by decide, by decide⟩ (by rfl) (by decide) ?_; exact lc_compare X hSt w b x m o od L xs hxs hSx hbB i hi hiL hL9 U V hI H locs ls hR hL hl (back hi hiL)
        · subst q; refine h_tabIn hx hb 988 dL_law_45 ⟨by decide, by decide⟩ ⟨by decide, by decide⟩ (by rfl) (by decide) ?_; exact lc_differ X hSt w b x m o od L xs hxs hSx hbB i hi hiL hL9 U V hI H locs ls hR hL hl (back hi hiL)
        · subst q; refine h_tabIn hx hb 1056 dL_law_45 ⟨by decide, by decide⟩ ⟨by decide, by decide⟩ (by rfl) (by decide) ?_; exact lc_alike X hSt w b x m o od L xs hxs hSx hbB i hi hiL hL9 U V hI H locs ls hR hL hl (back hi hiL)
        · subst q; refine h_tabIn hx hb 1069 dL_law_45 ⟨by decide, by decide⟩ ⟨by decide, by decide⟩ (by rfl) (by decide) ?_; exact lc_free X hSt w b x m o od L xs hxs hSx hbB i hi hiL hL9 U V hI H locs ls hR hL hl (back hi hiL)
        · subst q; refine h_tabIn hx hb 1125 dL_law_45 ⟨by decide, by decide⟩ ⟨by decide, by decide⟩ (by rfl) (by decide) ?_; exact lc_family X hSt w b x m o od L xs hxs hSx hbB i hi hiL hL9 U V hI H locs ls hR hL hl (back hi hiL)
        · subst q; refine h_tabIn hx hb 1181 dL_law_45 ⟨by decide, by decide⟩ ⟨by decide, by decide⟩ (by rfl) (by decide) ?_; exact lc_soundsLike X hSt w b x m o od L xs hxs hSx hbB i hi hiL hL9 U V hI H locs ls hR hL hl (back hi hiL)
        · subst q; refine h_tabIn hx hb 1237 dL_law_45 ⟨by decide, by decide⟩ ⟨by decide, by decide⟩ (by rfl) (by decide) ?_; exact lc_rankIf X hSt w b x m o od L xs hxs hSx hbB i hi hiL hL9 U V hI H locs ls hR hL hl (back hi hiL)
        · subst q; refine h_tabIn hx hb 1293 dL_law_45 ⟨by decide, by decide⟩ ⟨by decide, by decide⟩ (by rfl) (by decide) ?_; exact lc_placeIf X hSt w b x m o od L xs hxs hSx hbB i hi hiL hL9 U V hI H locs ls hR hL hl (back hi hiL)
        · subst q; refine h_tabIn hx hb 1349 dL_law_45 ⟨by decide, by decide⟩ ⟨by decide, by decide⟩ (by rfl) (by decide) ?_; exact lc_movesIf X hSt w b x m o od L xs hxs hSx hbB i hi hiL hL9 U V hI H locs ls hR hL hl (back hi hiL)
        · subst q; refine h_tabIn hx hb 1405 dL_law_45 ⟨by decide, by decide⟩ ⟨by decide, by decide⟩ (by rfl) (by decide) ?_; exact lc_why X hSt w b x m o od L xs hxs hSx hbB i hi hiL hL9 U V hI H locs ls hR hL hl (back hi hiL)
        · subst q; refine h_tabIn hx hb 1461 dL_law_45 ⟨by decide, by decide⟩ ⟨by decide, by decide⟩ (by rfl) (by decide) ?_; exact lc_cause X hSt w b x m o od L xs hxs hSx hbB i hi hiL hL9 U V hI H locs ls hR hL hl (back hi hiL)
        · subst q; refine h_tabIn hx hb 1474 dL_law_45 ⟨by decide, by decide⟩ ⟨by decide, by decide⟩ (by rfl) (by decide) ?_; exact lc_filled X hSt w b x m o od L xs hxs hSx hbB i hi hiL hL9 U V hI H locs ls hR hL hl (back hi hiL)
        · subst q; refine h_tabIn hx hb 1552 dL_law_45 ⟨by decide, by decide⟩ ⟨by decide, by decide⟩ (by rfl) (by decide) ?_; exact lc_meanMoves X hSt w b x m o od L xs hxs hSx hbB i hi hiL hL9 U V hI H locs ls hR hL hl (back hi hiL)
        · subst q; refine h_tabIn hx hb 1593 dL_law_45 ⟨by decide, by decide⟩ ⟨by decide, by decide⟩ (by rfl) (by decide) ?_; exact lc_add X hSt w b x m o od L xs hxs hSx hbB i hi hiL hL9 U V hI H locs ls hR hL hl (back hi hiL)
        · subst q; refine h_tabIn hx hb 1661 dL_law_45 ⟨by decide, by decide⟩ ⟨by decide, by decide⟩ (by rfl) (by decide) ?_; exact lc_drop X hSt w b x m o od L xs hxs hSx hbB i hi hiL hL9 U V hI H locs ls hR hL hl (back hi hiL)
        · subst q; refine h_tabIn hx hb 1717 dL_law_45 ⟨by decide, by decide⟩ ⟨by decide, by decide⟩ (by rfl) (by decide) ?_; exact lc_say X hSt w b x m o od L xs hxs hSx hbB i hi hiL hL9 U V hI H locs ls hR hL hl (back hi hiL)
        · subst q; refine h_tabIn hx hb 1773 dL_law_45 ⟨by decide, by decide⟩ ⟨by decide, by decide⟩ (by rfl) (by decide) ?_; exact lc_unsay X hSt w b x m o od L xs hxs hSx hbB i hi hiL hL9 U V hI H locs ls hR hL hl (back hi hiL)
        · subst q; refine h_tabIn hx hb 1829 dL_law_45 ⟨by decide, by decide⟩ ⟨by decide, by decide⟩ (by rfl) (by decide) ?_; exact lc_setWidth X hSt w b x m o od L xs hxs hSx hbB i hi hiL hL9 U V hI H locs ls hR hL hl (back hi hiL)
        · subst q; refine h_tabIn hx hb 1897 dL_law_45 ⟨by decide, by decide⟩ ⟨by decide, by decide⟩ (by rfl) (by decide) ?_; exact lc_setBound X hSt w b x m o od L xs hxs hSx hbB i hi hiL hL9 U V hI H locs ls hR hL hl (back hi hiL)
        · subst q; refine h_tabIn hx hb 1965 dL_law_45 ⟨by decide, by decide⟩ ⟨by decide, by decide⟩ (by rfl) (by decide) ?_; exact lc_balance X hSt w b x m o od L xs hxs hSx hbB i hi hiL hL9 U V hI H locs ls hR hL hl (back hi hiL)
        · subst q; refine h_tabIn hx hb 1978 dL_law_45 ⟨by decide, by decide⟩ ⟨by decide, by decide⟩ (by rfl) (by decide) ?_; exact lc_respace X hSt w b x m o od L xs hxs hSx hbB i hi hiL hL9 U V hI H locs ls hR hL hl (back hi hiL)
        · subst q; refine h_tabIn hx hb 1991 dL_law_45 ⟨by decide, by decide⟩ ⟨by decide, by decide⟩ (by rfl) (by decide) ?_; exact lc_play X hSt w b x m o od L xs hxs hSx hbB i hi hiL hL9 U V hI H locs ls hR hL hl (back hi hiL)
        · subst q; refine h_tabIn hx hb 2047 dL_law_45 ⟨by decide, by decide⟩ ⟨by decide, by decide⟩ (by rfl) (by decide) ?_; exact lc_format X hSt w b x m o od L xs hxs hSx hbB i hi hiL hL9 U V hI H locs ls hR hL hl (back hi hiL)
        · subst q; refine h_tabIn hx hb 2103 dL_law_45 ⟨by decide, by decide⟩ ⟨by decide, by decide⟩ (by rfl) (by decide) ?_; exact lc_formattedByte X hSt w b x m o od L xs hxs hSx hbB i hi hiL hL9 U V hI H locs ls hR hL hl (back hi hiL)
        · subst q; refine h_tabIn hx hb 2128 dL_law_45 ⟨by decide, by decide⟩ ⟨by decide, by decide⟩ (by rfl) (by decide) ?_; exact lc_undoCount X hSt w b x m o od L xs hxs hSx hbB i hi hiL hL9 U V hI H locs ls hR hL hl (back hi hiL)
        · subst q; refine h_tabIn hx hb 2141 dL_law_45 ⟨by decide, by decide⟩ ⟨by decide, by decide⟩ (by rfl) (by decide) ?_; exact lc_undo X hSt w b x m o od L xs hxs hSx hbB i hi hiL hL9 U V hI H locs ls hR hL hl (back hi hiL)
        · subst q; refine h_tabIn hx hb 2154 dL_law_45 ⟨by decide, by decide⟩ ⟨by decide, by decide⟩ (by rfl) (by decide) ?_; exact lc_saveSnapshot X hSt w b x m o od L xs hxs hSx hbB i hi hiL hL9 U V hI H locs ls hR hL hl (back hi hiL)
        · subst q; refine h_tabIn hx hb 2165 dL_law_45 ⟨by decide, by decide⟩ ⟨by decide, by decide⟩ (by rfl) (by decide) ?_; exact lc_restoreSnapshot X hSt w b x m o od L xs hxs hSx hbB i hi hiL hL9 U V hI H locs ls hR hL hl (back hi hiL)
      · refine h_tabOut hx hb 2178 dL_law_45 ⟨by omega, by omega⟩ (Or.inr (by omega)) (by decide) ?_
        exact back hi hiL _ _ _ hI.next _ _ _ hR hL hl
