/-! the twin: parts, a rule to be said -/
set_option maxRecDepth 100000
theorem encR_r {t : Tw} {T : List Int} {e : Rd} (h : RdAt t T e) : 0 ≤ encR (rLook T e) ∧ encR (rLook T e) < 282430536481 := by
  cases e with
  | inl x => exact ⟨Int.le_refl _, by show (0 : Int) < _; decide⟩
  | inr s =>
    have hW := h.2.2.2.2
    by_cases h1 : scK s = 1
    · by_cases h2 : scA s - scB s ≤ 8
      · rw [rLook_3 h1 h2]
        have := encP_r (x := .inr (scL T s)) (scL_w hW h1 h2)
        exact this
      · rw [rLook_2 h1 h2]; exact ⟨Int.le_refl _, by show (0 : Int) < _; decide⟩
    · rw [rLook_1 h1]; exact ⟨Int.le_refl _, by show (0 : Int) < _; decide⟩
theorem PsAt.nil {t : Tw} (h : t.1 24 = 0) : PsAt t [] := ⟨h, Nat.zero_le _, fun k hk => absurd hk (Nat.not_lt_zero _), fun x hx => absurd hx List.not_mem_nil⟩

theorem pn_yX10_must : ParN yX10_must 1 := by decide +kernel
theorem pn_yX10_readsPart : ParN yX10_readsPart 0 := by decide +kernel
theorem pn_yX10_takesWord : ParN yX10_takesWord 0 := by decide +kernel

set_option maxHeartbeats 4000000 in
set_option maxRecDepth 100000 in
/-- readsParts -/
theorem m_readsParts (l : Launch) (G : Gl) (w : Wd) (a : Nat) (ad : Nat → Nat) (t : Tw) (hT : TwAt G w a ad t)  (T : List Int) (e : Rd) (hRd : RdAt t T e) : HM l yX10_readsParts cX10_readsParts 1 none 6 0 0 G [.ref a] w (QV G (fun w_ => ∃ t_ : Tw, TwS G w w_ a ad t_ ∧ TwE [1, 2, 17, 18, 19, 20, 21, 22, 23, 24] t t_ ∧ RdAt t_ T (rParts T e).1 ∧ PsAt t_ (rParts T e).2)) := by
  refine HM.mk (by decide +kernel) (Nat.le_of_ble_eq_true rfl) ?_
  intro p9 e9 s9 m9 a9 b9 meth9 c9 ls X hret hlk hnm hl H hR
  have hx := X.1.1
  have hb := X.1.2.1
  have hl : lv_has ls 1 [(0, .ref a)] := hl
  have hL : LK G [] := fun q h => absurd h List.not_mem_nil
  generalize ([] : List Loc) = locs at hL ⊢
  have hTb := hT
  have hT : TwS G w w a ad t := TwS.rf hT
  refine lv_aload_n hx hb dX10_readsParts_0 rfl (lv_at hl 0 rfl) ?_
  refine h_iconst hx hb dX10_readsParts_1 ?_
  refine tw_puti X hR hL hT 24 (by decide) q2965 rfl rfl rfl twF_s24 (by omega) dX10_readsParts_2 (fun t_1 et_2 w_3 hT H locs hR hL => ?_)
  have hE_t_1 := TwE.put et_2
  have hv_t_1 := tput_v et_2
  refine lv_aload_n hx hb dX10_readsParts_5 rfl (lv_at hl 0 rfl) ?_
  -- call SpokenMarksModel.readsPart
  refine h_kV (h_runV X hR (m_readsPart l G w_3 a ad t_1 hT.1 T e ([]) (hRd.mv (TwE.tr (S2 := [24]) (TwE.rf : TwE [] t t) hE_t_1 rfl rfl) (by decide) (by decide) (by decide) (by decide) (by decide) (by decide) (by decide) (by decide)) (.nil hv_t_1)) pn_yX10_readsPart (hasC.of hT.1.ob rfl) q2900 q2902 qs68 q161 q2903 ⟨by decide, by decide⟩ hl.1 (Nat.le_of_ble_eq_true rfl) dX10_readsParts_6 ⟨by omega, by omega⟩) hL (fun w_5 hp_6 H locs hR hL => ?_)
  obtain ⟨t_7, hT2, hE_t_7, et_8⟩ := hp_6
  have hT := hT.tr hT2
  clear hT2
  have LOOP_11 : ∀ (N_ : Nat) (n : Nat) (q : Rd × List Prt) (t_9 : Tw) (w_10 : Wd), (rMore T n q = rParts T e) → (∀ s, q.1 = .inr s → 6 ≤ n + q.2.length) → (TwS G w w_10 a ad t_9) → (TwE [1, 2, 17, 18, 19, 20, 21, 22, 23, 24] t t_9) → (RdAt t_9 T q.1) → (PsAt t_9 q.2) → n < N_ → ∀ (H : Heap) (locs : List Loc) (ls : Array Slot), Rp G w_10 H → LK G locs → lv_has ls 1 [(0, .ref a)] → W p9 l e9 (rmk 6 0 0) s9 m9 a9 b9 meth9 c9 H locs 0 0 (MQ b9 (QV G (fun w_ => ∃ t_ : Tw, TwS G w w_ a ad t_ ∧ TwE [1, 2, 17, 18, 19, 20, 21, 22, 23, 24] t t_ ∧ RdAt t_ T (rParts T e).1 ∧ PsAt t_ (rParts T e).2)) a9 s9 0 0 (frG G)) (F0 m9 9 ls []) := by
    intro N_
    induction N_ with
    | zero => intro _ _ _ _ _ _ _ _ _ _ h_; exact absurd h_ (Nat.not_lt_zero _)
    | succ N_ ih_ =>
      intro n q t_9 w_10 hq hn hT hE_t_9 hRq hPq hN_ H locs ls hR hL hl
      have ih_11 := ih_
      clear ih_
      refine lv_aload_n hx hb dX10_readsParts_9 rfl (lv_at hl 0 rfl) ?_
      refine tw_get X hR hT 21 (by decide) q2962 (v := .int (iI (t_9.1 21))) rfl dX10_readsParts_10 ?_
      have rg_t_9_21 := hT.1.ri 21 (by decide) (by decide)
      refine W.eq (g2 := F0 m9 13 ls [.int (iI (wrC q.1))]) (congrArg (fun z_ : Int => F0 m9 13 ls [.int (iI (z_))]) (show (t_9.1 21 : Int) = wrC q.1 from (hRq.wr))) ?_
      refine h_if_ne hx hb 39 dX10_readsParts_13 (by decide) (by have h_ := hT.1.ri 21 (by decide) (by decide); rwa [hRq.wr] at h_) (fun c_w => ?_) (fun c_w => ?_)
      ·
        exact h_vreturn hx hb hlk hret hR hL ⟨t_9, hT, (TwE.tr (S2 := [1, 2, 17, 18, 19, 20, 21, 22, 23, 24]) (TwE.rf : TwE [] t t) hE_t_9 rfl rfl), (by rw [← hq, rMore_end c_w]; exact ⟨hRq, hPq⟩)⟩ (by omega) (by omega) rfl rfl dX10_readsParts_39
      ·
        obtain ⟨s1, hs1⟩ := hRq.ok c_w
        have hRd_s1 : RdAt t_9 T (.inr s1) := by have h_ := hRq; rwa [hs1] at h_
        have hW_s1 := hRd_s1.2.2.2.2
        refine lv_aload_n hx hb dX10_readsParts_16 rfl (lv_at hl 0 rfl) ?_
        refine tw_get X hR hT 19 (by decide) q2960 (v := .int (iI (t_9.1 19))) rfl dX10_readsParts_17 ?_
        have rg_t_9_19 := hT.1.ri 19 (by decide) (by decide)
        refine W.eq (g2 := F0 m9 20 ls [.int (iI (scK s1))]) (congrArg (fun z_ : Int => F0 m9 20 ls [.int (iI (z_))]) (show (t_9.1 19 : Int) = scK s1 from (hRd_s1.2.2.2.1.2.2.1))) ?_
        have hk5 := hW_s1.2.2.1
        have hn1 := hn s1 hs1
        have hp5 := hPq.2.1
        refine h_iconst hx hb dX10_readsParts_20 ?_
        refine h_icmp_eq hx hb 32 dX10_readsParts_21 (by decide) (by omega) (by omega) (fun c_12 => ?_) (fun c_12 => ?_)
        ·
          refine lv_aload_n hx hb dX10_readsParts_32 rfl (lv_at hl 0 rfl) ?_
          -- call SpokenMarksModel.readsPart
          refine h_kV (h_runV X hR (m_readsPart l G w_10 a ad t_9 hT.1 T q.1 q.2 hRq hPq) pn_yX10_readsPart (hasC.of hT.1.ob rfl) q2900 q2902 qs68 q161 q2903 ⟨by decide, by decide⟩ hl.1 (Nat.le_of_ble_eq_true rfl) dX10_readsParts_33 ⟨by omega, by omega⟩) hL (fun w_14 hp_15 H locs hR hL => ?_)
          obtain ⟨t_16, hT2, hE_t_16, et_17⟩ := hp_15
          have hT := hT.tr hT2
          clear hT2
          refine lv_goto (tgt := 9) hx hb dX10_readsParts_36 (by decide) ?_
          exact ih_11 (n - 1) ((rPart T q.1 q.2)) t_16 w_14 (by rw [← rMore_go hs1 (by omega) (by omega)]; exact hq) (fun s2 h2 => by have h3 := rPart_len (ps := q.2) (show (rPart T (.inr s1) q.2).1 = .inr s2 by rw [← hs1]; exact h2); rw [hs1]; omega) hT (TwE.tr (S2 := [1, 2, 17, 18, 19, 20, 21, 22, 23, 24]) (TwE.tr (S2 := [1, 2, 17, 18, 19, 20, 21, 22, 23, 24]) (TwE.rf : TwE [] t t) hE_t_9 rfl rfl) hE_t_16 rfl rfl) et_17.1 et_17.2 (by omega) _ _ _ hR hL (lv_sub hl [0] rfl)
        ·
          refine lv_aload_n hx hb dX10_readsParts_24 rfl (lv_at hl 0 rfl) ?_
          refine tw_get X hR hT 19 (by decide) q2960 (v := .int (iI (t_9.1 19))) rfl dX10_readsParts_25 ?_
          refine W.eq (g2 := F0 m9 28 ls [.int (iI (scK s1))]) (congrArg (fun z_ : Int => F0 m9 28 ls [.int (iI (z_))]) (show (t_9.1 19 : Int) = scK s1 from (hRd_s1.2.2.2.1.2.2.1))) ?_
          refine h_iconst hx hb dX10_readsParts_28 ?_
          refine h_icmp_ne hx hb 39 dX10_readsParts_29 (by decide) (by omega) (by omega) (fun c_18 => ?_) (fun c_18 => ?_)
          ·
            exact h_vreturn hx hb hlk hret hR hL ⟨t_9, hT, (TwE.tr (S2 := [1, 2, 17, 18, 19, 20, 21, 22, 23, 24]) (TwE.rf : TwE [] t t) hE_t_9 rfl rfl), (by rw [← hq, rMore_no hs1 (by omega)]; exact ⟨hRq, hPq⟩)⟩ (by omega) (by omega) rfl rfl dX10_readsParts_39
          ·
            refine lv_aload_n hx hb dX10_readsParts_32 rfl (lv_at hl 0 rfl) ?_
            -- call SpokenMarksModel.readsPart
            refine h_kV (h_runV X hR (m_readsPart l G w_10 a ad t_9 hT.1 T q.1 q.2 hRq hPq) pn_yX10_readsPart (hasC.of hT.1.ob rfl) q2900 q2902 qs68 q161 q2903 ⟨by decide, by decide⟩ hl.1 (Nat.le_of_ble_eq_true rfl) dX10_readsParts_33 ⟨by omega, by omega⟩) hL (fun w_20 hp_21 H locs hR hL => ?_)
            obtain ⟨t_22, hT2, hE_t_22, et_23⟩ := hp_21
            have hT := hT.tr hT2
            clear hT2
            refine lv_goto (tgt := 9) hx hb dX10_readsParts_36 (by decide) ?_
            exact ih_11 (n - 1) ((rPart T q.1 q.2)) t_22 w_20 (by rw [← rMore_go hs1 (by omega) (by omega)]; exact hq) (fun s2 h2 => by have h3 := rPart_len (ps := q.2) (show (rPart T (.inr s1) q.2).1 = .inr s2 by rw [← hs1]; exact h2); rw [hs1]; omega) hT (TwE.tr (S2 := [1, 2, 17, 18, 19, 20, 21, 22, 23, 24]) (TwE.tr (S2 := [1, 2, 17, 18, 19, 20, 21, 22, 23, 24]) (TwE.rf : TwE [] t t) hE_t_9 rfl rfl) hE_t_22 rfl rfl) et_23.1 et_23.2 (by omega) _ _ _ hR hL (lv_sub hl [0] rfl)
  exact LOOP_11 _ 6 ((rPart T e [])) t_7 w_5 rfl (fun s hs => by omega) hT (TwE.tr (S2 := [1, 2, 17, 18, 19, 20, 21, 22, 23, 24]) (TwE.tr (S2 := [1, 2, 17, 18, 19, 20, 21, 22, 23, 24]) (TwE.rf : TwE [] t t) hE_t_1 rfl rfl) hE_t_7 rfl rfl) et_8.1 et_8.2 (Nat.lt_succ_self _) _ _ _ hR hL (lv_sub hl [0] rfl)

set_option maxHeartbeats 4000000 in
set_option maxRecDepth 100000 in
/-- readsSay -/
theorem m_readsSay (l : Launch) (G : Gl) (w : Wd) (a : Nat) (ad : Nat → Nat) (t : Tw) (hT : TwAt G w a ad t)  (T : List Int) (e : Rd) (hRd : RdAt t T e) : HM l yX10_readsSay cX10_readsSay 1 none 5 0 0 G [.ref a] w (QV G (fun w_ => ∃ t_ : Tw, TwS G w w_ a ad t_ ∧ TwE [1, 2, 17, 18, 19, 20, 21, 22, 26, 27] t t_ ∧ RdAt t_ T (rSay T e).1 ∧ t_.1 26 = encR (rLook T e) ∧ t_.1 27 = encR (rLook T (rMust T 4 (rWord T e).1)))) := by
  refine HM.mk (by decide +kernel) (Nat.le_of_ble_eq_true rfl) ?_
  intro p9 e9 s9 m9 a9 b9 meth9 c9 ls X hret hlk hnm hl H hR
  have hx := X.1.1
  have hb := X.1.2.1
  have hl : lv_has ls 1 [(0, .ref a)] := hl
  have hL : LK G [] := fun q h => absurd h List.not_mem_nil
  generalize ([] : List Loc) = locs at hL ⊢
  have hTb := hT
  have hT : TwS G w w a ad t := TwS.rf hT
  refine lv_aload_n hx hb dX10_readsSay_0 rfl (lv_at hl 0 rfl) ?_
  refine lv_aload_n hx hb dX10_readsSay_1 rfl (lv_at hl 0 rfl) ?_
  -- call SpokenMarksModel.takesWord
  refine h_kL (h_runV X hR (m_takesWord l G w a ad t hT.1 T e hRd) pn_yX10_takesWord (hasC.of hT.1.ob rfl) q2811 q2813 qs49 q161 q2814 ⟨by decide, by decide⟩ hl.1 (Nat.le_of_ble_eq_true rfl) dX10_readsSay_2 ⟨by omega, by omega⟩) hL (fun z_1 w_2 hp_3 H locs hR hL => ?_)
  obtain ⟨rfl, t_4, hT2, hE_t_4, et_5⟩ := hp_3
  have hT := hT.tr hT2
  clear hT2
  have hR1 := et_5
  have hr1 := encR_r hRd
  refine tw_putj X hR hL hT 26 (by decide) (by decide) q2967 rfl rfl rfl twF_s26 (by omega) dX10_readsSay_5 (fun t_6 et_7 w_8 hT H locs hR hL => ?_)
  have hE_t_6 := TwE.put et_7
  have hv_t_6 := tput_v et_7
  refine lv_aload_n hx hb dX10_readsSay_8 rfl (lv_at hl 0 rfl) ?_
  refine h_iconst hx hb dX10_readsSay_9 ?_
  -- call SpokenMarksModel.must
  refine h_kV (h_runV X hR (m_must l G w_8 a ad t_6 hT.1 4 T ((rWord T e).1) (hR1.mv hE_t_6 (by decide) (by decide) (by decide) (by decide) (by decide) (by decide) (by decide) (by decide)) ⟨by decide, by decide⟩) pn_yX10_must (hasC.of hT.1.ob rfl) q2780 q2782 qs42 q161 q2783 ⟨by decide, by decide⟩ hl.1 (Nat.le_of_ble_eq_true rfl) dX10_readsSay_10 ⟨by omega, by omega⟩) hL (fun w_10 hp_11 H locs hR hL => ?_)
  obtain ⟨t_12, hT2, hE_t_12, et_13⟩ := hp_11
  have hT := hT.tr hT2
  clear hT2
  have hR2 := et_13
  refine lv_aload_n hx hb dX10_readsSay_13 rfl (lv_at hl 0 rfl) ?_
  refine lv_aload_n hx hb dX10_readsSay_14 rfl (lv_at hl 0 rfl) ?_
  -- call SpokenMarksModel.takesWord
  refine h_kL (h_runV X hR (m_takesWord l G w_10 a ad t_12 hT.1 T (rMust T 4 (rWord T e).1) hR2) pn_yX10_takesWord (hasC.of hT.1.ob rfl) q2811 q2813 qs49 q161 q2814 ⟨by decide, by decide⟩ hl.1 (Nat.le_of_ble_eq_true rfl) dX10_readsSay_15 ⟨by omega, by omega⟩) hL (fun z_14 w_15 hp_16 H locs hR hL => ?_)
  obtain ⟨rfl, t_17, hT2, hE_t_17, et_18⟩ := hp_16
  have hT := hT.tr hT2
  clear hT2
  have hR3 := et_18
  have hr2 := encR_r hR2
  refine tw_putj X hR hL hT 27 (by decide) (by decide) q2968 rfl rfl rfl twF_s27 (by omega) dX10_readsSay_18 (fun t_19 et_20 w_21 hT H locs hR hL => ?_)
  have hE_t_19 := TwE.put et_20
  have hv_t_19 := tput_v et_20
  exact h_vreturn hx hb hlk hret hR hL ⟨t_19, hT, (TwE.tr (S2 := [1, 2, 17, 18, 19, 20, 21, 22, 26, 27]) (TwE.tr (S2 := [1, 2, 17, 18, 19, 20, 21, 22, 26, 27]) (TwE.tr (S2 := [1, 2, 17, 18, 19, 20, 21, 22, 26, 27]) (TwE.tr (S2 := [1, 2, 17, 18, 19, 20, 21, 22, 26, 27]) (TwE.tr (S2 := [1, 2, 17, 18, 19, 20, 21, 22, 26, 27]) (TwE.rf : TwE [] t t) hE_t_4 rfl rfl) hE_t_6 rfl rfl) hE_t_12 rfl rfl) hE_t_17 rfl rfl) hE_t_19 rfl rfl), ⟨(hR3.mv hE_t_19 (by decide) (by decide) (by decide) (by decide) (by decide) (by decide) (by decide) (by decide)), ((((hE_t_19 26 (by decide)).1).trans (hE_t_17 26 (by decide)).1).trans (hE_t_12 26 (by decide)).1).trans hv_t_6, hv_t_19⟩⟩ (by omega) (by omega) rfl rfl dX10_readsSay_21
