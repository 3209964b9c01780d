/-! the twin: what is asked of it, 3 -/
set_option maxRecDepth 100000

theorem pn_yX10_endOf : ParN yX10_endOf 2 := by decide +kernel
theorem pn_yX10_marksOn : ParN yX10_marksOn 1 := by decide +kernel
theorem pn_yX10_noShelf : ParN yX10_noShelf 1 := by decide +kernel

set_option maxHeartbeats 4000000 in
set_option maxRecDepth 100000 in
/-- shelf -/
theorem m_shelf (l : Launch) (G : Gl) (w : Wd) (a : Nat) (ad : Nat → Nat) (t : Tw) (hT : TwAt G w a ad t) (x : Int) (y : Int) (c0 : Cat) (hC : RowIs (t.2 3) c0) (hx_x : R32 x) (hx_y : R32 y) : HM l yX10_shelf cX10_shelf 3 (some .int) 5 0 0 G [.ref a, .int (iI (x)), .int (iI (y))] w (QI G (fun z_ w_ => z_ = (qShf c0 x y).2 ∧ ∃ t_ : Tw, TwS G w w_ a ad t_ ∧ TwE [0] t t_ ∧ t_.1 0 = (qShf c0 x y).1)) := by
  refine HM.mk (by decide +kernel) (Nat.le_of_ble_eq_true rfl) ?_
  intro p9 e9 s9 m9 a9 b9 meth9 c9 ls X hret hlk hnm hl H hR
  have hx := X.1.1
  have hb := X.1.2.1
  have hl : lv_has ls 3 [(0, .ref a), (1, .int (iI (x))), (2, .int (iI (y)))] := hl
  have hL : LK G [] := fun q h => absurd h List.not_mem_nil
  generalize ([] : List Loc) = locs at hL ⊢
  have hTb := hT
  have hT : TwS G w w a ad t := TwS.rf hT
  have hn40 := hC.n40
  have hsh8 := hC.sh8
  refine lv_aload_n hx hb dX10_shelf_0 rfl (lv_at hl 0 rfl) ?_
  refine h_iconst hx hb dX10_shelf_1 ?_
  refine tw_puti X hR hL hT 0 (by decide) q2941 rfl rfl rfl twF_s0 (by omega) dX10_shelf_2 (fun t_1 et_2 w_3 hT H locs hR hL => ?_)
  have hE_t_1 := TwE.put et_2
  have hv_t_1 := tput_v et_2
  refine lv_aload_n hx hb dX10_shelf_5 rfl (lv_at hl 0 rfl) ?_
  refine lv_iload_n hx hb dX10_shelf_6 rfl (lv_at hl 1 rfl) ?_
  -- call SpokenMarksModel.noShelf
  refine h_kI (h_runV X hR (m_noShelf l G w_3 a ad t_1 hT.1 x c0 (by rw [(hE_t_1 3 (by decide)).2]; exact hC) hx_x hv_t_1) pn_yX10_noShelf (hasC.of hT.1.ob rfl) q3145 q3147 qs93 q161 q3148 ⟨by decide, by decide⟩ hl.1 (Nat.le_of_ble_eq_true rfl) dX10_shelf_7 ⟨by omega, by omega⟩) hL (fun z_4 w_5 hp_6 H locs hR hL => ?_)
  obtain ⟨rfl, t_7, hT2, hE_t_7, et_8⟩ := hp_6
  have hT := hT.tr hT2
  clear hT2
  refine h_if_ne hx hb 30 dX10_shelf_10 (by decide) (b2i_R _) (fun c_f => ?_) (fun c_f => ?_)
  ·
    have hno := b2i_n1.mp c_f
    have hth : t_7.1 0 = 1 := (et_8).trans (if_neg hno)
    refine h_iconst hx hb dX10_shelf_30 ?_
    exact h_ireturn hx hb hlk hret hR hL rfl ⟨(by unfold qShf; rw [if_neg hno]), ⟨t_7, hT, (TwE.tr (S2 := [0]) (TwE.tr (S2 := [0]) (TwE.rf : TwE [] t t) hE_t_1 rfl rfl) hE_t_7 rfl rfl), (by rw [hth]; unfold qShf; rw [if_neg hno])⟩⟩ (by omega) (by omega) rfl rfl dX10_shelf_31
  ·
    have hok := Decidable.not_not.mp (b2i_0.mp c_f)
    have hth : t_7.1 0 = 0 := (et_8).trans (if_pos hok)
    have hokS := hok
    refine lv_aload_n hx hb dX10_shelf_13 rfl (lv_at hl 0 rfl) ?_
    refine lv_iload_n hx hb dX10_shelf_14 rfl (lv_at hl 2 rfl) ?_
    refine h_i2l hx hb dX10_shelf_15 (by omega) ?_
    refine h_lconst hx hb 0 dX10_shelf_16 rfl ?_
    refine lv_ldc2 (v := lI (5)) hx hb X.1.2.2.2.1 (X.1.2.2.2.2 _ q3088) dX10_shelf_17 ?_
    -- call SpokenMarksModel.in
    refine h_kIp (h_runS X hR (m_in l G w_5  y 0 5 (by omega) (by omega) (by omega)) pn_yX10_in q2730 q2731 q161 q2732 ⟨by decide, by decide⟩ hl.1 (Nat.le_of_ble_eq_true rfl) dX10_shelf_20 ⟨by omega, by omega⟩) hL (fun H locs hR hL => ?_)
    refine h_iconst hx hb dX10_shelf_23 ?_
    -- call SpokenMarksModel.fails
    refine h_kI (h_runV X hR (m_fails l G w_5 a ad t_7 hT.1 (b2i (0 ≤ y ∧ y ≤ 5)) 2 (b2i_R _) ⟨by decide, by decide⟩ hth) pn_yX10_fails (hasC.of hT.1.ob rfl) q2733 q2735 qs33 q161 q2736 ⟨by decide, by decide⟩ hl.1 (Nat.le_of_ble_eq_true rfl) dX10_shelf_24 ⟨by omega, by omega⟩) hL (fun z_12 w_13 hp_14 H locs hR hL => ?_)
    obtain ⟨rfl, t_15, hT2, hE_t_15, et_16⟩ := hp_14
    have hT := hT.tr hT2
    clear hT2
    refine h_if_eq hx hb 32 dX10_shelf_27 (by decide) (b2i_R _) (fun c_f => ?_) (fun c_f => ?_)
    ·
      have hok := b2i_n1.mp (b2i_0.mp c_f)
      have hth : t_15.1 0 = 0 := (et_16).trans (if_neg (b2i_0.mp c_f))
      refine lv_iload_n hx hb dX10_shelf_32 rfl (lv_at hl 2 rfl) ?_
      by_cases c_17_in : (0 : Int) ≤ y ∧ y ≤ 4
      ·
        have c_17 : y = 0 ∨ y = 1 ∨ y = 2 ∨ y = 3 ∨ y = 4 := by omega
        rcases c_17 with c_17 | c_17 | c_17 | c_17 | c_17
        ·
          refine h_tabIn hx hb 68 dX10_shelf_33 hx_y (by omega) (by rw [c_17]; rfl) (by decide) ?_
          refine lv_aload_n hx hb dX10_shelf_68 rfl (lv_at hl 0 rfl) ?_
          refine lv_iload_n hx hb dX10_shelf_69 rfl (lv_at hl 1 rfl) ?_
          -- call SpokenMarksModel.bound
          refine h_kIp (h_runV X hR (m_bound l G w_13 a ad t_15 hT.1 x c0 (by rw [(((hE_t_15 3 (by decide)).2).trans (hE_t_7 3 (by decide)).2).trans (hE_t_1 3 (by decide)).2]; exact hC) (by omega)) pn_yX10_bound (hasC.of hT.1.ob rfl) q3072 q3074 qs82 q161 q3075 ⟨by decide, by decide⟩ hl.1 (Nat.le_of_ble_eq_true rfl) dX10_shelf_70 ⟨by omega, by omega⟩) hL (fun H locs hR hL => ?_)
          exact h_ireturn hx hb hlk hret hR hL rfl ⟨(by unfold qShf; rw [if_pos hokS, ans_t hok]; first | (rw [if_neg (by omega), if_neg (by omega), if_neg (by omega), if_pos (by omega), if_pos (by omega)]; done) | (rw [if_neg (by omega), if_neg (by omega), if_neg (by omega), if_pos (by omega), if_neg (by omega)]; done) | (rw [if_pos (by omega)]; unfold bdX; rw [if_neg (by omega)]; done) |  (rw [if_pos (by omega)]; done) | (rw [if_neg (by omega), if_pos (by omega)]; done) | (rw [if_neg (by omega), if_neg (by omega), if_pos (by omega)]; done) | (rw [if_neg (by omega), if_neg (by omega), if_neg (by omega), if_pos (by omega)]; done) | (rw [if_neg (by omega), if_neg (by omega), if_neg (by omega), if_neg (by omega), if_pos (by omega)]; done) | (rw [if_neg (by omega), if_neg (by omega), if_neg (by omega), if_neg (by omega), if_neg (by omega), if_pos (by omega)]; done) | (rw [if_neg (by omega), if_neg (by omega), if_neg (by omega), if_neg (by omega), if_neg (by omega), if_neg (by omega), if_pos (by omega)]; done) | (rw [if_neg (by omega), if_neg (by omega), if_neg (by omega), if_neg (by omega), if_neg (by omega), if_neg (by omega), if_neg (by omega), if_pos (by omega)]; done) | (rw [if_neg (by omega), if_neg (by omega), if_neg (by omega), if_neg (by omega), if_neg (by omega), if_neg (by omega), if_neg (by omega)]; done) | (rw [if_neg (by omega), if_neg (by omega), if_neg (by omega), if_neg (by omega), if_neg (by omega), if_neg (by omega)]; done) | (rw [if_neg (by omega), if_neg (by omega), if_neg (by omega), if_neg (by omega), if_neg (by omega)]; done) | (rw [if_neg (by omega), if_neg (by omega), if_neg (by omega), if_neg (by omega)]; done) | (rw [if_neg (by omega), if_neg (by omega), if_neg (by omega)]; done) | (rw [if_neg (by omega), if_neg (by omega)]; done) | (rw [if_neg (by omega)]; done)), ⟨t_15, hT, (TwE.tr (S2 := [0]) (TwE.tr (S2 := [0]) (TwE.tr (S2 := [0]) (TwE.rf : TwE [] t t) hE_t_1 rfl rfl) hE_t_7 rfl rfl) hE_t_15 rfl rfl), (by rw [hth]; unfold qShf; rw [if_pos hokS, ans_t hok])⟩⟩ (by omega) (by omega) rfl rfl dX10_shelf_73
        ·
          refine h_tabIn hx hb 74 dX10_shelf_33 hx_y (by omega) (by rw [c_17]; rfl) (by decide) ?_
          refine lv_aload_n hx hb dX10_shelf_74 rfl (lv_at hl 0 rfl) ?_
          refine lv_iload_n hx hb dX10_shelf_75 rfl (lv_at hl 1 rfl) ?_
          -- call SpokenMarksModel.marksOn
          refine h_kIp (h_runV X hR (m_marksOn l G w_13 a ad t_15 hT.1 x c0 (by rw [(((hE_t_15 3 (by decide)).2).trans (hE_t_7 3 (by decide)).2).trans (hE_t_1 3 (by decide)).2]; exact hC) (by omega)) pn_yX10_marksOn (hasC.of hT.1.ob rfl) q3149 q3151 qs94 q161 q3152 ⟨by decide, by decide⟩ hl.1 (Nat.le_of_ble_eq_true rfl) dX10_shelf_76 ⟨by omega, by omega⟩) hL (fun H locs hR hL => ?_)
          exact h_ireturn hx hb hlk hret hR hL rfl ⟨(by unfold qShf; rw [if_pos hokS, ans_t hok]; first | (rw [if_neg (by omega), if_neg (by omega), if_neg (by omega), if_pos (by omega), if_pos (by omega)]; done) | (rw [if_neg (by omega), if_neg (by omega), if_neg (by omega), if_pos (by omega), if_neg (by omega)]; done) | (rw [if_pos (by omega)]; unfold bdX; rw [if_neg (by omega)]; done) |  (rw [if_pos (by omega)]; done) | (rw [if_neg (by omega), if_pos (by omega)]; done) | (rw [if_neg (by omega), if_neg (by omega), if_pos (by omega)]; done) | (rw [if_neg (by omega), if_neg (by omega), if_neg (by omega), if_pos (by omega)]; done) | (rw [if_neg (by omega), if_neg (by omega), if_neg (by omega), if_neg (by omega), if_pos (by omega)]; done) | (rw [if_neg (by omega), if_neg (by omega), if_neg (by omega), if_neg (by omega), if_neg (by omega), if_pos (by omega)]; done) | (rw [if_neg (by omega), if_neg (by omega), if_neg (by omega), if_neg (by omega), if_neg (by omega), if_neg (by omega), if_pos (by omega)]; done) | (rw [if_neg (by omega), if_neg (by omega), if_neg (by omega), if_neg (by omega), if_neg (by omega), if_neg (by omega), if_neg (by omega), if_pos (by omega)]; done) | (rw [if_neg (by omega), if_neg (by omega), if_neg (by omega), if_neg (by omega), if_neg (by omega), if_neg (by omega), if_neg (by omega)]; done) | (rw [if_neg (by omega), if_neg (by omega), if_neg (by omega), if_neg (by omega), if_neg (by omega), if_neg (by omega)]; done) | (rw [if_neg (by omega), if_neg (by omega), if_neg (by omega), if_neg (by omega), if_neg (by omega)]; done) | (rw [if_neg (by omega), if_neg (by omega), if_neg (by omega), if_neg (by omega)]; done) | (rw [if_neg (by omega), if_neg (by omega), if_neg (by omega)]; done) | (rw [if_neg (by omega), if_neg (by omega)]; done) | (rw [if_neg (by omega)]; done)), ⟨t_15, hT, (TwE.tr (S2 := [0]) (TwE.tr (S2 := [0]) (TwE.tr (S2 := [0]) (TwE.rf : TwE [] t t) hE_t_1 rfl rfl) hE_t_7 rfl rfl) hE_t_15 rfl rfl), (by rw [hth]; unfold qShf; rw [if_pos hokS, ans_t hok])⟩⟩ (by omega) (by omega) rfl rfl dX10_shelf_79
        ·
          refine h_tabIn hx hb 80 dX10_shelf_33 hx_y (by omega) (by rw [c_17]; rfl) (by decide) ?_
          refine lv_aload_n hx hb dX10_shelf_80 rfl (lv_at hl 0 rfl) ?_
          refine lv_iload_n hx hb dX10_shelf_81 rfl (lv_at hl 1 rfl) ?_
          -- call SpokenMarksModel.widthOn
          refine h_kIp (h_runV X hR (m_widthOn l G w_13 a ad t_15 hT.1 x c0 (by rw [(((hE_t_15 3 (by decide)).2).trans (hE_t_7 3 (by decide)).2).trans (hE_t_1 3 (by decide)).2]; exact hC) (by omega)) pn_yX10_widthOn (hasC.of hT.1.ob rfl) q3064 q3066 qs80 q161 q3067 ⟨by decide, by decide⟩ hl.1 (Nat.le_of_ble_eq_true rfl) dX10_shelf_82 ⟨by omega, by omega⟩) hL (fun H locs hR hL => ?_)
          exact h_ireturn hx hb hlk hret hR hL rfl ⟨(by unfold qShf; rw [if_pos hokS, ans_t hok]; first | (rw [if_neg (by omega), if_neg (by omega), if_neg (by omega), if_pos (by omega), if_pos (by omega)]; done) | (rw [if_neg (by omega), if_neg (by omega), if_neg (by omega), if_pos (by omega), if_neg (by omega)]; done) | (rw [if_pos (by omega)]; unfold bdX; rw [if_neg (by omega)]; done) |  (rw [if_pos (by omega)]; done) | (rw [if_neg (by omega), if_pos (by omega)]; done) | (rw [if_neg (by omega), if_neg (by omega), if_pos (by omega)]; done) | (rw [if_neg (by omega), if_neg (by omega), if_neg (by omega), if_pos (by omega)]; done) | (rw [if_neg (by omega), if_neg (by omega), if_neg (by omega), if_neg (by omega), if_pos (by omega)]; done) | (rw [if_neg (by omega), if_neg (by omega), if_neg (by omega), if_neg (by omega), if_neg (by omega), if_pos (by omega)]; done) | (rw [if_neg (by omega), if_neg (by omega), if_neg (by omega), if_neg (by omega), if_neg (by omega), if_neg (by omega), if_pos (by omega)]; done) | (rw [if_neg (by omega), if_neg (by omega), if_neg (by omega), if_neg (by omega), if_neg (by omega), if_neg (by omega), if_neg (by omega), if_pos (by omega)]; done) | (rw [if_neg (by omega), if_neg (by omega), if_neg (by omega), if_neg (by omega), if_neg (by omega), if_neg (by omega), if_neg (by omega)]; done) | (rw [if_neg (by omega), if_neg (by omega), if_neg (by omega), if_neg (by omega), if_neg (by omega), if_neg (by omega)]; done) | (rw [if_neg (by omega), if_neg (by omega), if_neg (by omega), if_neg (by omega), if_neg (by omega)]; done) | (rw [if_neg (by omega), if_neg (by omega), if_neg (by omega), if_neg (by omega)]; done) | (rw [if_neg (by omega), if_neg (by omega), if_neg (by omega)]; done) | (rw [if_neg (by omega), if_neg (by omega)]; done) | (rw [if_neg (by omega)]; done)), ⟨t_15, hT, (TwE.tr (S2 := [0]) (TwE.tr (S2 := [0]) (TwE.tr (S2 := [0]) (TwE.rf : TwE [] t t) hE_t_1 rfl rfl) hE_t_7 rfl rfl) hE_t_15 rfl rfl), (by rw [hth]; unfold qShf; rw [if_pos hokS, ans_t hok])⟩⟩ (by omega) (by omega) rfl rfl dX10_shelf_85
        ·
          refine h_tabIn hx hb 86 dX10_shelf_33 hx_y (by omega) (by rw [c_17]; rfl) (by decide) ?_
          refine lv_aload_n hx hb dX10_shelf_86 rfl (lv_at hl 0 rfl) ?_
          refine lv_iload_n hx hb dX10_shelf_87 rfl (lv_at hl 1 rfl) ?_
          -- call SpokenMarksModel.widthOn
          refine h_kIp (h_runV X hR (m_widthOn l G w_13 a ad t_15 hT.1 x c0 (by rw [(((hE_t_15 3 (by decide)).2).trans (hE_t_7 3 (by decide)).2).trans (hE_t_1 3 (by decide)).2]; exact hC) (by omega)) pn_yX10_widthOn (hasC.of hT.1.ob rfl) q3064 q3066 qs80 q161 q3067 ⟨by decide, by decide⟩ hl.1 (Nat.le_of_ble_eq_true rfl) dX10_shelf_88 ⟨by omega, by omega⟩) hL (fun H locs hR hL => ?_)
          have hwr := wdOn_r hC.s x
          refine lv_aload_n hx hb dX10_shelf_91 rfl (lv_at hl 0 rfl) ?_
          refine h_iconst hx hb dX10_shelf_92 ?_
          -- call SpokenMarksModel.head
          refine h_kIp (h_runV X hR (m_head l G w_13 a ad t_15 hT.1 1 (by omega)) pn_yX10_head (hasC.of hT.1.ob rfl) q2789 q2791 qs44 q161 q2792 ⟨by decide, by decide⟩ hl.1 (Nat.le_of_ble_eq_true rfl) dX10_shelf_93 ⟨by omega, by omega⟩) hL (fun H locs hR hL => ?_)
          refine W.eq (g2 := F0 m9 96 ls [.int (iI (cRm c0)), .int (iI (wdOn c0 x))]) (congrArg (fun z_ : Int => F0 m9 96 ls [.int (iI (z_)), .int (iI (wdOn c0 x))]) (show (hd t_15 1 : Int) = cRm c0 from (by exact ((congrFun ((((hE_t_15 3 (by decide)).2).trans (hE_t_7 3 (by decide)).2).trans (hE_t_1 3 (by decide)).2) 1).trans hC.rm)))) ?_
          have hrm := hC.s.2.1
          refine h_icmp_le hx hb 113 dX10_shelf_96 (by decide) (by omega) (by omega) (fun c_w => ?_) (fun c_w => ?_)
          ·
            refine h_iconst hx hb dX10_shelf_113 ?_
            exact h_ireturn hx hb hlk hret hR hL rfl ⟨(by unfold qShf; rw [if_pos hokS, ans_t hok]; first | (rw [if_neg (by omega), if_neg (by omega), if_neg (by omega), if_pos (by omega), if_pos (by omega)]; done) | (rw [if_neg (by omega), if_neg (by omega), if_neg (by omega), if_pos (by omega), if_neg (by omega)]; done) | (rw [if_pos (by omega)]; unfold bdX; rw [if_neg (by omega)]; done) |  (rw [if_pos (by omega)]; done) | (rw [if_neg (by omega), if_pos (by omega)]; done) | (rw [if_neg (by omega), if_neg (by omega), if_pos (by omega)]; done) | (rw [if_neg (by omega), if_neg (by omega), if_neg (by omega), if_pos (by omega)]; done) | (rw [if_neg (by omega), if_neg (by omega), if_neg (by omega), if_neg (by omega), if_pos (by omega)]; done) | (rw [if_neg (by omega), if_neg (by omega), if_neg (by omega), if_neg (by omega), if_neg (by omega), if_pos (by omega)]; done) | (rw [if_neg (by omega), if_neg (by omega), if_neg (by omega), if_neg (by omega), if_neg (by omega), if_neg (by omega), if_pos (by omega)]; done) | (rw [if_neg (by omega), if_neg (by omega), if_neg (by omega), if_neg (by omega), if_neg (by omega), if_neg (by omega), if_neg (by omega), if_pos (by omega)]; done) | (rw [if_neg (by omega), if_neg (by omega), if_neg (by omega), if_neg (by omega), if_neg (by omega), if_neg (by omega), if_neg (by omega)]; done) | (rw [if_neg (by omega), if_neg (by omega), if_neg (by omega), if_neg (by omega), if_neg (by omega), if_neg (by omega)]; done) | (rw [if_neg (by omega), if_neg (by omega), if_neg (by omega), if_neg (by omega), if_neg (by omega)]; done) | (rw [if_neg (by omega), if_neg (by omega), if_neg (by omega), if_neg (by omega)]; done) | (rw [if_neg (by omega), if_neg (by omega), if_neg (by omega)]; done) | (rw [if_neg (by omega), if_neg (by omega)]; done) | (rw [if_neg (by omega)]; done)), ⟨t_15, hT, (TwE.tr (S2 := [0]) (TwE.tr (S2 := [0]) (TwE.tr (S2 := [0]) (TwE.rf : TwE [] t t) hE_t_1 rfl rfl) hE_t_7 rfl rfl) hE_t_15 rfl rfl), (by rw [hth]; unfold qShf; rw [if_pos hokS, ans_t hok])⟩⟩ (by omega) (by omega) rfl rfl dX10_shelf_114
          ·
            refine lv_aload_n hx hb dX10_shelf_99 rfl (lv_at hl 0 rfl) ?_
            refine lv_iload_n hx hb dX10_shelf_100 rfl (lv_at hl 1 rfl) ?_
            -- call SpokenMarksModel.widthOn
            refine h_kIp (h_runV X hR (m_widthOn l G w_13 a ad t_15 hT.1 x c0 (by rw [(((hE_t_15 3 (by decide)).2).trans (hE_t_7 3 (by decide)).2).trans (hE_t_1 3 (by decide)).2]; exact hC) (by omega)) pn_yX10_widthOn (hasC.of hT.1.ob rfl) q3064 q3066 qs80 q161 q3067 ⟨by decide, by decide⟩ hl.1 (Nat.le_of_ble_eq_true rfl) dX10_shelf_101 ⟨by omega, by omega⟩) hL (fun H locs hR hL => ?_)
            refine lv_aload_n hx hb dX10_shelf_104 rfl (lv_at hl 0 rfl) ?_
            refine h_iconst hx hb dX10_shelf_105 ?_
            -- call SpokenMarksModel.head
            refine h_kIp (h_runV X hR (m_head l G w_13 a ad t_15 hT.1 1 (by omega)) pn_yX10_head (hasC.of hT.1.ob rfl) q2789 q2791 qs44 q161 q2792 ⟨by decide, by decide⟩ hl.1 (Nat.le_of_ble_eq_true rfl) dX10_shelf_106 ⟨by omega, by omega⟩) hL (fun H locs hR hL => ?_)
            refine W.eq (g2 := F0 m9 109 ls [.int (iI (cRm c0)), .int (iI (wdOn c0 x))]) (congrArg (fun z_ : Int => F0 m9 109 ls [.int (iI (z_)), .int (iI (wdOn c0 x))]) (show (hd t_15 1 : Int) = cRm c0 from (by exact ((congrFun ((((hE_t_15 3 (by decide)).2).trans (hE_t_7 3 (by decide)).2).trans (hE_t_1 3 (by decide)).2) 1).trans hC.rm)))) ?_
            refine h_isub hx hb dX10_shelf_109 ?_
            refine lv_goto (tgt := 114) hx hb dX10_shelf_110 (by decide) ?_
            exact h_ireturn hx hb hlk hret hR hL rfl ⟨(by unfold qShf; rw [if_pos hokS, ans_t hok]; first | (rw [if_neg (by omega), if_neg (by omega), if_neg (by omega), if_pos (by omega), if_pos (by omega)]; done) | (rw [if_neg (by omega), if_neg (by omega), if_neg (by omega), if_pos (by omega), if_neg (by omega)]; done) | (rw [if_pos (by omega)]; unfold bdX; rw [if_neg (by omega)]; done) |  (rw [if_pos (by omega)]; done) | (rw [if_neg (by omega), if_pos (by omega)]; done) | (rw [if_neg (by omega), if_neg (by omega), if_pos (by omega)]; done) | (rw [if_neg (by omega), if_neg (by omega), if_neg (by omega), if_pos (by omega)]; done) | (rw [if_neg (by omega), if_neg (by omega), if_neg (by omega), if_neg (by omega), if_pos (by omega)]; done) | (rw [if_neg (by omega), if_neg (by omega), if_neg (by omega), if_neg (by omega), if_neg (by omega), if_pos (by omega)]; done) | (rw [if_neg (by omega), if_neg (by omega), if_neg (by omega), if_neg (by omega), if_neg (by omega), if_neg (by omega), if_pos (by omega)]; done) | (rw [if_neg (by omega), if_neg (by omega), if_neg (by omega), if_neg (by omega), if_neg (by omega), if_neg (by omega), if_neg (by omega), if_pos (by omega)]; done) | (rw [if_neg (by omega), if_neg (by omega), if_neg (by omega), if_neg (by omega), if_neg (by omega), if_neg (by omega), if_neg (by omega)]; done) | (rw [if_neg (by omega), if_neg (by omega), if_neg (by omega), if_neg (by omega), if_neg (by omega), if_neg (by omega)]; done) | (rw [if_neg (by omega), if_neg (by omega), if_neg (by omega), if_neg (by omega), if_neg (by omega)]; done) | (rw [if_neg (by omega), if_neg (by omega), if_neg (by omega), if_neg (by omega)]; done) | (rw [if_neg (by omega), if_neg (by omega), if_neg (by omega)]; done) | (rw [if_neg (by omega), if_neg (by omega)]; done) | (rw [if_neg (by omega)]; done)), ⟨t_15, hT, (TwE.tr (S2 := [0]) (TwE.tr (S2 := [0]) (TwE.tr (S2 := [0]) (TwE.rf : TwE [] t t) hE_t_1 rfl rfl) hE_t_7 rfl rfl) hE_t_15 rfl rfl), (by rw [hth]; unfold qShf; rw [if_pos hokS, ans_t hok])⟩⟩ (by omega) (by omega) rfl rfl dX10_shelf_114
        ·
          refine h_tabIn hx hb 115 dX10_shelf_33 hx_y (by omega) (by rw [c_17]; rfl) (by decide) ?_
          refine lv_aload_n hx hb dX10_shelf_115 rfl (lv_at hl 0 rfl) ?_
          refine lv_iload_n hx hb dX10_shelf_116 rfl (lv_at hl 1 rfl) ?_
          refine h_iconst hx hb dX10_shelf_117 ?_
          -- call SpokenMarksModel.endOf
          refine h_kIp (h_runV X hR (m_endOf l G w_13 a ad t_15 hT.1 x 0 c0 (by rw [(((hE_t_15 3 (by decide)).2).trans (hE_t_7 3 (by decide)).2).trans (hE_t_1 3 (by decide)).2]; exact hC) (by omega) (Or.inl rfl)) pn_yX10_endOf (hasC.of hT.1.ob rfl) q3153 q3155 qs95 q161 q3156 ⟨by decide, by decide⟩ hl.1 (Nat.le_of_ble_eq_true rfl) dX10_shelf_118 ⟨by omega, by omega⟩) hL (fun H locs hR hL => ?_)
          exact h_ireturn hx hb hlk hret hR hL rfl ⟨(by unfold qShf; rw [if_pos hokS, ans_t hok]; first | (rw [if_neg (by omega), if_neg (by omega), if_neg (by omega), if_pos (by omega), if_pos (by omega)]; done) | (rw [if_neg (by omega), if_neg (by omega), if_neg (by omega), if_pos (by omega), if_neg (by omega)]; done) | (rw [if_pos (by omega)]; unfold bdX; rw [if_neg (by omega)]; done) |  (rw [if_pos (by omega)]; done) | (rw [if_neg (by omega), if_pos (by omega)]; done) | (rw [if_neg (by omega), if_neg (by omega), if_pos (by omega)]; done) | (rw [if_neg (by omega), if_neg (by omega), if_neg (by omega), if_pos (by omega)]; done) | (rw [if_neg (by omega), if_neg (by omega), if_neg (by omega), if_neg (by omega), if_pos (by omega)]; done) | (rw [if_neg (by omega), if_neg (by omega), if_neg (by omega), if_neg (by omega), if_neg (by omega), if_pos (by omega)]; done) | (rw [if_neg (by omega), if_neg (by omega), if_neg (by omega), if_neg (by omega), if_neg (by omega), if_neg (by omega), if_pos (by omega)]; done) | (rw [if_neg (by omega), if_neg (by omega), if_neg (by omega), if_neg (by omega), if_neg (by omega), if_neg (by omega), if_neg (by omega), if_pos (by omega)]; done) | (rw [if_neg (by omega), if_neg (by omega), if_neg (by omega), if_neg (by omega), if_neg (by omega), if_neg (by omega), if_neg (by omega)]; done) | (rw [if_neg (by omega), if_neg (by omega), if_neg (by omega), if_neg (by omega), if_neg (by omega), if_neg (by omega)]; done) | (rw [if_neg (by omega), if_neg (by omega), if_neg (by omega), if_neg (by omega), if_neg (by omega)]; done) | (rw [if_neg (by omega), if_neg (by omega), if_neg (by omega), if_neg (by omega)]; done) | (rw [if_neg (by omega), if_neg (by omega), if_neg (by omega)]; done) | (rw [if_neg (by omega), if_neg (by omega)]; done) | (rw [if_neg (by omega)]; done)), ⟨t_15, hT, (TwE.tr (S2 := [0]) (TwE.tr (S2 := [0]) (TwE.tr (S2 := [0]) (TwE.rf : TwE [] t t) hE_t_1 rfl rfl) hE_t_7 rfl rfl) hE_t_15 rfl rfl), (by rw [hth]; unfold qShf; rw [if_pos hokS, ans_t hok])⟩⟩ (by omega) (by omega) rfl rfl dX10_shelf_121
      ·
        refine h_tabOut hx hb 122 dX10_shelf_33 hx_y (by omega) (by decide) ?_
        refine lv_aload_n hx hb dX10_shelf_122 rfl (lv_at hl 0 rfl) ?_
        refine lv_iload_n hx hb dX10_shelf_123 rfl (lv_at hl 1 rfl) ?_
        refine h_iconst hx hb dX10_shelf_124 ?_
        -- call SpokenMarksModel.endOf
        refine h_kIp (h_runV X hR (m_endOf l G w_13 a ad t_15 hT.1 x 1 c0 (by rw [(((hE_t_15 3 (by decide)).2).trans (hE_t_7 3 (by decide)).2).trans (hE_t_1 3 (by decide)).2]; exact hC) (by omega) (Or.inr rfl)) pn_yX10_endOf (hasC.of hT.1.ob rfl) q3153 q3155 qs95 q161 q3156 ⟨by decide, by decide⟩ hl.1 (Nat.le_of_ble_eq_true rfl) dX10_shelf_125 ⟨by omega, by omega⟩) hL (fun H locs hR hL => ?_)
        exact h_ireturn hx hb hlk hret hR hL rfl ⟨(by unfold qShf; rw [if_pos hokS, ans_t hok]; first | (rw [if_neg (by omega), if_neg (by omega), if_neg (by omega), if_pos (by omega), if_pos (by omega)]; done) | (rw [if_neg (by omega), if_neg (by omega), if_neg (by omega), if_pos (by omega), if_neg (by omega)]; done) | (rw [if_pos (by omega)]; unfold bdX; rw [if_neg (by omega)]; done) |  (rw [if_pos (by omega)]; done) | (rw [if_neg (by omega), if_pos (by omega)]; done) | (rw [if_neg (by omega), if_neg (by omega), if_pos (by omega)]; done) | (rw [if_neg (by omega), if_neg (by omega), if_neg (by omega), if_pos (by omega)]; done) | (rw [if_neg (by omega), if_neg (by omega), if_neg (by omega), if_neg (by omega), if_pos (by omega)]; done) | (rw [if_neg (by omega), if_neg (by omega), if_neg (by omega), if_neg (by omega), if_neg (by omega), if_pos (by omega)]; done) | (rw [if_neg (by omega), if_neg (by omega), if_neg (by omega), if_neg (by omega), if_neg (by omega), if_neg (by omega), if_pos (by omega)]; done) | (rw [if_neg (by omega), if_neg (by omega), if_neg (by omega), if_neg (by omega), if_neg (by omega), if_neg (by omega), if_neg (by omega), if_pos (by omega)]; done) | (rw [if_neg (by omega), if_neg (by omega), if_neg (by omega), if_neg (by omega), if_neg (by omega), if_neg (by omega), if_neg (by omega)]; done) | (rw [if_neg (by omega), if_neg (by omega), if_neg (by omega), if_neg (by omega), if_neg (by omega), if_neg (by omega)]; done) | (rw [if_neg (by omega), if_neg (by omega), if_neg (by omega), if_neg (by omega), if_neg (by omega)]; done) | (rw [if_neg (by omega), if_neg (by omega), if_neg (by omega), if_neg (by omega)]; done) | (rw [if_neg (by omega), if_neg (by omega), if_neg (by omega)]; done) | (rw [if_neg (by omega), if_neg (by omega)]; done) | (rw [if_neg (by omega)]; done)), ⟨t_15, hT, (TwE.tr (S2 := [0]) (TwE.tr (S2 := [0]) (TwE.tr (S2 := [0]) (TwE.rf : TwE [] t t) hE_t_1 rfl rfl) hE_t_7 rfl rfl) hE_t_15 rfl rfl), (by rw [hth]; unfold qShf; rw [if_pos hokS, ans_t hok])⟩⟩ (by omega) (by omega) rfl rfl dX10_shelf_128
    ·
      have hno := b2i_0.mp (b2i_n1.mp c_f)
      have hth : t_15.1 0 = _ := (et_16).trans (if_pos (b2i_n1.mp c_f))
      refine h_iconst hx hb dX10_shelf_30 ?_
      exact h_ireturn hx hb hlk hret hR hL rfl ⟨(by unfold qShf; rw [if_pos hokS, ans_f hno]), ⟨t_15, hT, (TwE.tr (S2 := [0]) (TwE.tr (S2 := [0]) (TwE.tr (S2 := [0]) (TwE.rf : TwE [] t t) hE_t_1 rfl rfl) hE_t_7 rfl rfl) hE_t_15 rfl rfl), (by rw [hth]; unfold qShf; rw [if_pos hokS, ans_f hno])⟩⟩ (by omega) (by omega) rfl rfl dX10_shelf_31

set_option maxHeartbeats 4000000 in
set_option maxRecDepth 100000 in
/-- gap -/
theorem m_gap (l : Launch) (G : Gl) (w : Wd) (a : Nat) (ad : Nat → Nat) (t : Tw) (hT : TwAt G w a ad t)  (c0 : Cat) (hC : RowIs (t.2 3) c0) : HM l yX10_gap cX10_gap 3 (some .int) 4 0 0 G [.ref a] w (QI G (fun z_ w_ => z_ = gapN c0 ∧ ∃ t_ : Tw, TwS G w w_ a ad t_ ∧ TwE [0] t t_ ∧ t.1 0 = t.1 0)) := by
  refine HM.mk (by decide +kernel) (Nat.le_of_ble_eq_true rfl) ?_
  intro p9 e9 s9 m9 a9 b9 meth9 c9 ls X hret hlk hnm hl H hR
  have hx := X.1.1
  have hb := X.1.2.1
  have hl : lv_has ls 3 [(0, .ref a)] := hl
  have hL : LK G [] := fun q h => absurd h List.not_mem_nil
  generalize ([] : List Loc) = locs at hL ⊢
  have hTb := hT
  have hT : TwS G w w a ad t := TwS.rf hT
  have hn40 := hC.n40
  have hsh8 := hC.sh8
  refine lv_aload_n hx hb dX10_gap_0 rfl (lv_at hl 0 rfl) ?_
  refine h_iconst hx hb dX10_gap_1 ?_
  refine tw_puti X hR hL hT 0 (by decide) q2941 rfl rfl rfl twF_s0 (by omega) dX10_gap_2 (fun t_1 et_2 w_3 hT H locs hR hL => ?_)
  have hE_t_1 := TwE.put et_2
  have hv_t_1 := tput_v et_2
  refine h_iconst hx hb dX10_gap_5 ?_
  refine lv_istore_n (lv' := [(1, .int (iI (0))), (0, .ref a)]) hx hb dX10_gap_6 rfl hl (by decide) rfl (fun ls hl => ?_)
  refine h_iconst hx hb dX10_gap_7 ?_
  refine lv_istore_n (lv' := [(2, .int (iI (1))), (1, .int (iI (0))), (0, .ref a)]) hx hb dX10_gap_8 rfl hl (by decide) rfl (fun ls hl => ?_)
  have LOOP_4 : ∀ (N_ : Nat) (j : Nat), (j = 0 ∨ j + 1 ≤ cN c0) → (cN c0 - j) < N_ → ∀ (H : Heap) (locs : List Loc) (ls : Array Slot), Rp G w_3 H → LK G locs → lv_has ls 3 [(0, .ref a), (1, .int (iI (sumN (fun k => b2i (mPl (mk c0 (k + 1)) ≤ mPl (mk c0 k) ∨ 0 ≤ cmpM (cRl c0) (mPs (mk c0 k)) (mPs (mk c0 (k + 1))))) j))), (2, .int (iI ((j : Int) + 1)))] → W p9 l e9 (rmk 4 0 0) s9 m9 a9 b9 meth9 c9 H locs 0 0 (MQ b9 (QI G (fun z_ w_ => z_ = gapN c0 ∧ ∃ t_ : Tw, TwS G w w_ a ad t_ ∧ TwE [0] t t_ ∧ t.1 0 = t.1 0)) a9 s9 0 0 (frG G)) (F0 m9 9 ls []) := by
    intro N_
    induction N_ with
    | zero => intro _ _ h_; exact absurd h_ (Nat.not_lt_zero _)
    | succ N_ ih_ =>
      intro j hj hN_ H locs ls hR hL hl
      have ih_4 := ih_
      clear ih_
      refine lv_iload_n hx hb dX10_gap_9 rfl (lv_at hl 2 rfl) ?_
      refine lv_aload_n hx hb dX10_gap_10 rfl (lv_at hl 0 rfl) ?_
      refine h_iconst hx hb dX10_gap_11 ?_
      -- call SpokenMarksModel.head
      refine h_kIp (h_runV X hR (m_head l G w_3 a ad t_1 hT.1 2 (by omega)) pn_yX10_head (hasC.of hT.1.ob rfl) q2789 q2791 qs44 q161 q2792 ⟨by decide, by decide⟩ hl.1 (Nat.le_of_ble_eq_true rfl) dX10_gap_12 ⟨by omega, by omega⟩) hL (fun H locs hR hL => ?_)
      refine W.eq (g2 := F0 m9 15 ls [.int (iI ((cN c0 : Int))), .int (iI ((j : Int) + 1))]) (congrArg (fun z_ : Int => F0 m9 15 ls [.int (iI (z_)), .int (iI ((j : Int) + 1))]) (show (hd t_1 2 : Int) = (cN c0 : Int) from (by exact ((congrFun ((hE_t_1 3 (by decide)).2) 2).trans hC.n)))) ?_
      refine h_icmp_ge hx hb 55 dX10_gap_15 (by decide) (by omega) (by omega) (fun c_8 => ?_) (fun c_8 => ?_)
      ·
        refine h_iconst hx hb dX10_gap_55 ?_
        refine lv_istore_n (lv' := [(2, .int (iI (1))), (0, .ref a), (1, .int (iI (sumN (fun k => b2i (mPl (mk c0 (k + 1)) ≤ mPl (mk c0 k) ∨ 0 ≤ cmpM (cRl c0) (mPs (mk c0 k)) (mPs (mk c0 (k + 1))))) j)))]) hx hb dX10_gap_56 rfl hl (by decide) rfl (fun ls hl => ?_)
        have LOOP_9 : ∀ (N_ : Nat) (i : Nat), (i = 0 ∨ (i : Int) + 1 ≤ cSh c0) → ((cSh c0).toNat - i) < N_ → ∀ (H : Heap) (locs : List Loc) (ls : Array Slot), Rp G w_3 H → LK G locs → lv_has ls 3 [(0, .ref a), (1, .int (iI (sumN (fun k => b2i (mPl (mk c0 (k + 1)) ≤ mPl (mk c0 k) ∨ 0 ≤ cmpM (cRl c0) (mPs (mk c0 k)) (mPs (mk c0 (k + 1))))) j + sumN (fun s => b2i (bd c0 (s + 1) < bd c0 s)) i))), (2, .int (iI ((i : Int) + 1)))] → W p9 l e9 (rmk 4 0 0) s9 m9 a9 b9 meth9 c9 H locs 0 0 (MQ b9 (QI G (fun z_ w_ => z_ = gapN c0 ∧ ∃ t_ : Tw, TwS G w w_ a ad t_ ∧ TwE [0] t t_ ∧ t.1 0 = t.1 0)) a9 s9 0 0 (frG G)) (F0 m9 57 ls []) := by
          intro N_
          induction N_ with
          | zero => intro _ _ h_; exact absurd h_ (Nat.not_lt_zero _)
          | succ N_ ih_ =>
            intro i hi hN_ H locs ls hR hL hl
            have ih_9 := ih_
            clear ih_
            refine lv_iload_n hx hb dX10_gap_57 rfl (lv_at hl 2 rfl) ?_
            refine lv_aload_n hx hb dX10_gap_58 rfl (lv_at hl 0 rfl) ?_
            refine h_iconst hx hb dX10_gap_59 ?_
            -- call SpokenMarksModel.head
            refine h_kIp (h_runV X hR (m_head l G w_3 a ad t_1 hT.1 0 (by omega)) pn_yX10_head (hasC.of hT.1.ob rfl) q2789 q2791 qs44 q161 q2792 ⟨by decide, by decide⟩ hl.1 (Nat.le_of_ble_eq_true rfl) dX10_gap_60 ⟨by omega, by omega⟩) hL (fun H locs hR hL => ?_)
            refine W.eq (g2 := F0 m9 63 ls [.int (iI (cSh c0)), .int (iI ((i : Int) + 1))]) (congrArg (fun z_ : Int => F0 m9 63 ls [.int (iI (z_)), .int (iI ((i : Int) + 1))]) (show (hd t_1 0 : Int) = cSh c0 from (by exact ((congrFun ((hE_t_1 3 (by decide)).2) 0).trans hC.sh)))) ?_
            refine h_icmp_ge hx hb 90 dX10_gap_63 (by decide) (by omega) (by omega) (fun c_13 => ?_) (fun c_13 => ?_)
            ·
              refine lv_iload_n hx hb dX10_gap_90 rfl (lv_at hl 1 rfl) ?_
              exact h_ireturn hx hb hlk hret hR hL rfl ⟨(by unfold gapN; rw [show cN c0 - 1 = j by omega, show (cSh c0).toNat - 1 = i by omega]), ⟨t_1, hT, (TwE.tr (S2 := [0]) (TwE.rf : TwE [] t t) hE_t_1 rfl rfl), rfl⟩⟩ (by omega) (by omega) rfl rfl dX10_gap_91
            ·
              refine lv_aload_n hx hb dX10_gap_66 rfl (lv_at hl 0 rfl) ?_
              refine lv_iload_n hx hb dX10_gap_67 rfl (lv_at hl 2 rfl) ?_
              -- call SpokenMarksModel.bound
              refine h_kIp (h_runV X hR (m_bound l G w_3 a ad t_1 hT.1 ((i : Int) + 1) c0 (by rw [(hE_t_1 3 (by decide)).2]; exact hC) (by omega)) pn_yX10_bound (hasC.of hT.1.ob rfl) q3072 q3074 qs82 q161 q3075 ⟨by decide, by decide⟩ hl.1 (Nat.le_of_ble_eq_true rfl) dX10_gap_68 ⟨by omega, by omega⟩) hL (fun H locs hR hL => ?_)
              refine W.eq (g2 := F0 m9 71 ls [.int (iI (bd c0 (i + 1)))]) (congrArg (fun z_ : Int => F0 m9 71 ls [.int (iI (z_))]) (show (bdX c0 ((i : Int) + 1) : Int) = bd c0 (i + 1) from (by unfold bdX; rw [if_neg (by omega)]; congr 1))) ?_
              have hbr_a := bd_r hC.s (i + 1) (by omega)
              refine lv_aload_n hx hb dX10_gap_71 rfl (lv_at hl 0 rfl) ?_
              refine lv_iload_n hx hb dX10_gap_72 rfl (lv_at hl 2 rfl) ?_
              refine h_iconst hx hb dX10_gap_73 ?_
              refine h_isub hx hb dX10_gap_74 ?_
              refine W.eq (g2 := F0 m9 75 ls [.int (iI ((i : Int))), .ref a, .int (iI (bd c0 (i + 1)))]) (congrArg (fun z_ : Int => F0 m9 75 ls [.int (iI (z_)), .ref a, .int (iI (bd c0 (i + 1)))]) (show (((i : Int) + 1) - 1 : Int) = (i : Int) from (by omega))) ?_
              -- call SpokenMarksModel.bound
              refine h_kIp (h_runV X hR (m_bound l G w_3 a ad t_1 hT.1 ((i : Int)) c0 (by rw [(hE_t_1 3 (by decide)).2]; exact hC) (by omega)) pn_yX10_bound (hasC.of hT.1.ob rfl) q3072 q3074 qs82 q161 q3075 ⟨by decide, by decide⟩ hl.1 (Nat.le_of_ble_eq_true rfl) dX10_gap_75 ⟨by omega, by omega⟩) hL (fun H locs hR hL => ?_)
              refine W.eq (g2 := F0 m9 78 ls [.int (iI (bd c0 i)), .int (iI (bd c0 (i + 1)))]) (congrArg (fun z_ : Int => F0 m9 78 ls [.int (iI (z_)), .int (iI (bd c0 (i + 1)))]) (show (bdX c0 ((i : Int)) : Int) = bd c0 i from (by unfold bdX; rw [if_neg (by omega)]; congr 1))) ?_
              have hbr_b := bd_r hC.s i (by omega)
              refine h_icmp_ge hx hb 84 dX10_gap_78 (by decide) (by omega) (by omega) (fun c_20 => ?_) (fun c_20 => ?_)
              ·
                refine h_iinc (lv' := [(2, .int (iI ((i : Int) + 1 + 1))), (0, .ref a), (1, .int (iI (sumN (fun k => b2i (mPl (mk c0 (k + 1)) ≤ mPl (mk c0 k) ∨ 0 ≤ cmpM (cRl c0) (mPs (mk c0 k)) (mPs (mk c0 (k + 1))))) j + sumN (fun s => b2i (bd c0 (s + 1) < bd c0 s)) i)))]) hx hb dX10_gap_84 hl (k := 2) rfl (by decide) rfl (fun ls hl => ?_)
                refine lv_goto (tgt := 57) hx hb dX10_gap_87 (by decide) ?_
                have hl : lv_has ls 3 [(2, .int (iI ((i : Int) + 1 + 1))), (0, .ref a), (1, .int (iI (sumN (fun k => b2i (mPl (mk c0 (k + 1)) ≤ mPl (mk c0 k) ∨ 0 ≤ cmpM (cRl c0) (mPs (mk c0 k)) (mPs (mk c0 (k + 1))))) j + sumN (fun s => b2i (bd c0 (s + 1) < bd c0 s)) (i + 1))))] := lv_conv hl (congrArg (fun z_ : Int => ([(2, .int (iI ((i : Int) + 1 + 1))), (0, .ref a), (1, .int (iI (z_)))] : List (Nat × Value))) (show (sumN (fun k => b2i (mPl (mk c0 (k + 1)) ≤ mPl (mk c0 k) ∨ 0 ≤ cmpM (cRl c0) (mPs (mk c0 k)) (mPs (mk c0 (k + 1))))) j + sumN (fun s => b2i (bd c0 (s + 1) < bd c0 s)) i : Int) = sumN (fun k => b2i (mPl (mk c0 (k + 1)) ≤ mPl (mk c0 k) ∨ 0 ≤ cmpM (cRl c0) (mPs (mk c0 k)) (mPs (mk c0 (k + 1))))) j + sumN (fun s => b2i (bd c0 (s + 1) < bd c0 s)) (i + 1) from (by rw [sumN_s]; first | (rw [b2i_t (p := bd c0 (i + 1) < bd c0 i) (by omega)]; omega) | (rw [b2i_f (p := bd c0 (i + 1) < bd c0 i) (by omega)]; omega))))
                exact ih_9 (i + 1) (by omega) (by omega) _ _ _ hR hL (lv_sub hl [1, 2, 0] rfl)
              ·
                refine h_iinc (lv' := [(1, .int (iI (sumN (fun k => b2i (mPl (mk c0 (k + 1)) ≤ mPl (mk c0 k) ∨ 0 ≤ cmpM (cRl c0) (mPs (mk c0 k)) (mPs (mk c0 (k + 1))))) j + sumN (fun s => b2i (bd c0 (s + 1) < bd c0 s)) i + 1))), (0, .ref a), (2, .int (iI ((i : Int) + 1)))]) hx hb dX10_gap_81 hl (k := 1) rfl (by decide) rfl (fun ls hl => ?_)
                refine h_iinc (lv' := [(2, .int (iI ((i : Int) + 1 + 1))), (1, .int (iI (sumN (fun k => b2i (mPl (mk c0 (k + 1)) ≤ mPl (mk c0 k) ∨ 0 ≤ cmpM (cRl c0) (mPs (mk c0 k)) (mPs (mk c0 (k + 1))))) j + sumN (fun s => b2i (bd c0 (s + 1) < bd c0 s)) i + 1))), (0, .ref a)]) hx hb dX10_gap_84 hl (k := 2) rfl (by decide) rfl (fun ls hl => ?_)
                refine lv_goto (tgt := 57) hx hb dX10_gap_87 (by decide) ?_
                have hl : lv_has ls 3 [(2, .int (iI ((i : Int) + 1 + 1))), (1, .int (iI (sumN (fun k => b2i (mPl (mk c0 (k + 1)) ≤ mPl (mk c0 k) ∨ 0 ≤ cmpM (cRl c0) (mPs (mk c0 k)) (mPs (mk c0 (k + 1))))) j + sumN (fun s => b2i (bd c0 (s + 1) < bd c0 s)) (i + 1)))), (0, .ref a)] := lv_conv hl (congrArg (fun z_ : Int => ([(2, .int (iI ((i : Int) + 1 + 1))), (1, .int (iI (z_))), (0, .ref a)] : List (Nat × Value))) (show (sumN (fun k => b2i (mPl (mk c0 (k + 1)) ≤ mPl (mk c0 k) ∨ 0 ≤ cmpM (cRl c0) (mPs (mk c0 k)) (mPs (mk c0 (k + 1))))) j + sumN (fun s => b2i (bd c0 (s + 1) < bd c0 s)) i + 1 : Int) = sumN (fun k => b2i (mPl (mk c0 (k + 1)) ≤ mPl (mk c0 k) ∨ 0 ≤ cmpM (cRl c0) (mPs (mk c0 k)) (mPs (mk c0 (k + 1))))) j + sumN (fun s => b2i (bd c0 (s + 1) < bd c0 s)) (i + 1) from (by rw [sumN_s]; first | (rw [b2i_t (p := bd c0 (i + 1) < bd c0 i) (by omega)]; omega) | (rw [b2i_f (p := bd c0 (i + 1) < bd c0 i) (by omega)]; omega))))
                exact ih_9 (i + 1) (by omega) (by omega) _ _ _ hR hL (lv_sub hl [2, 1, 0] rfl)
        have hl : lv_has ls 3 [(2, .int (iI (1))), (0, .ref a), (1, .int (iI (sumN (fun k => b2i (mPl (mk c0 (k + 1)) ≤ mPl (mk c0 k) ∨ 0 ≤ cmpM (cRl c0) (mPs (mk c0 k)) (mPs (mk c0 (k + 1))))) j + sumN (fun s => b2i (bd c0 (s + 1) < bd c0 s)) 0)))] := lv_conv hl (congrArg (fun z_ : Int => ([(2, .int (iI (1))), (0, .ref a), (1, .int (iI (z_)))] : List (Nat × Value))) (show (sumN (fun k => b2i (mPl (mk c0 (k + 1)) ≤ mPl (mk c0 k) ∨ 0 ≤ cmpM (cRl c0) (mPs (mk c0 k)) (mPs (mk c0 (k + 1))))) j : Int) = sumN (fun k => b2i (mPl (mk c0 (k + 1)) ≤ mPl (mk c0 k) ∨ 0 ≤ cmpM (cRl c0) (mPs (mk c0 k)) (mPs (mk c0 (k + 1))))) j + sumN (fun s => b2i (bd c0 (s + 1) < bd c0 s)) 0 from (by rw [sumN_0, Int.add_zero])))
        exact LOOP_9 _ 0 (by omega) (Nat.lt_succ_self _) _ _ _ hR hL (lv_sub hl [1, 2, 0] rfl)
      ·
        refine lv_aload_n hx hb dX10_gap_18 rfl (lv_at hl 0 rfl) ?_
        refine lv_iload_n hx hb dX10_gap_19 rfl (lv_at hl 2 rfl) ?_
        refine h_iconst hx hb dX10_gap_20 ?_
        -- call SpokenMarksModel.of
        refine h_kIp (h_runV X hR (m_of l G w_3 a ad t_1 hT.1 (j + 1) 2 (by omega) (by omega)) pn_yX10_of (hasC.of hT.1.ob rfl) q2827 q2829 qs53 q161 q2830 ⟨by decide, by decide⟩ hl.1 (Nat.le_of_ble_eq_true rfl) dX10_gap_21 ⟨by omega, by omega⟩) hL (fun H locs hR hL => ?_)
        refine W.eq (g2 := F0 m9 24 ls [.int (iI (mPl (mk c0 (j + 1))))]) (congrArg (fun z_ : Int => F0 m9 24 ls [.int (iI (z_))]) (show (tof t_1 (j + 1 : Nat) 2 : Int) = mPl (mk c0 (j + 1)) from (by exact ((congrFun ((hE_t_1 3 (by decide)).2) ((32 + 14 * (j + 1) + 2))).trans ((hC.m (j + 1) (by omega)).2.2.1))))) ?_
        have hr_a := mPl_r hC.s (j + 1) (by omega)
        refine lv_aload_n hx hb dX10_gap_24 rfl (lv_at hl 0 rfl) ?_
        refine lv_iload_n hx hb dX10_gap_25 rfl (lv_at hl 2 rfl) ?_
        refine h_iconst hx hb dX10_gap_26 ?_
        refine h_isub hx hb dX10_gap_27 ?_
        refine h_iconst hx hb dX10_gap_28 ?_
        refine W.eq (g2 := F0 m9 29 ls [.int (iI (2)), .int (iI ((j : Int))), .ref a, .int (iI (mPl (mk c0 (j + 1))))]) (congrArg (fun z_ : Int => F0 m9 29 ls [.int (iI (2)), .int (iI (z_)), .ref a, .int (iI (mPl (mk c0 (j + 1))))]) (show (((j : Int) + 1) - 1 : Int) = (j : Int) from (by omega))) ?_
        -- call SpokenMarksModel.of
        refine h_kIp (h_runV X hR (m_of l G w_3 a ad t_1 hT.1 j 2 (by omega) (by omega)) pn_yX10_of (hasC.of hT.1.ob rfl) q2827 q2829 qs53 q161 q2830 ⟨by decide, by decide⟩ hl.1 (Nat.le_of_ble_eq_true rfl) dX10_gap_29 ⟨by omega, by omega⟩) hL (fun H locs hR hL => ?_)
        refine W.eq (g2 := F0 m9 32 ls [.int (iI (mPl (mk c0 j))), .int (iI (mPl (mk c0 (j + 1))))]) (congrArg (fun z_ : Int => F0 m9 32 ls [.int (iI (z_)), .int (iI (mPl (mk c0 (j + 1))))]) (show (tof t_1 j 2 : Int) = mPl (mk c0 j) from (by exact ((congrFun ((hE_t_1 3 (by decide)).2) ((32 + 14 * j + 2))).trans ((hC.m j (by omega)).2.2.1))))) ?_
        have hr_q := mPl_r hC.s j (by omega)
        refine h_icmp_le hx hb 46 dX10_gap_32 (by decide) (by omega) (by omega) (fun c_27 => ?_) (fun c_27 => ?_)
        ·
          refine h_iinc (lv' := [(1, .int (iI (sumN (fun k => b2i (mPl (mk c0 (k + 1)) ≤ mPl (mk c0 k) ∨ 0 ≤ cmpM (cRl c0) (mPs (mk c0 k)) (mPs (mk c0 (k + 1))))) j + 1))), (0, .ref a), (2, .int (iI ((j : Int) + 1)))]) hx hb dX10_gap_46 hl (k := 1) rfl (by decide) rfl (fun ls hl => ?_)
          refine h_iinc (lv' := [(2, .int (iI ((j : Int) + 1 + 1))), (1, .int (iI (sumN (fun k => b2i (mPl (mk c0 (k + 1)) ≤ mPl (mk c0 k) ∨ 0 ≤ cmpM (cRl c0) (mPs (mk c0 k)) (mPs (mk c0 (k + 1))))) j + 1))), (0, .ref a)]) hx hb dX10_gap_49 hl (k := 2) rfl (by decide) rfl (fun ls hl => ?_)
          refine lv_goto (tgt := 9) hx hb dX10_gap_52 (by decide) ?_
          have hl : lv_has ls 3 [(2, .int (iI ((j : Int) + 1 + 1))), (1, .int (iI (sumN (fun k => b2i (mPl (mk c0 (k + 1)) ≤ mPl (mk c0 k) ∨ 0 ≤ cmpM (cRl c0) (mPs (mk c0 k)) (mPs (mk c0 (k + 1))))) (j + 1)))), (0, .ref a)] := lv_conv hl (congrArg (fun z_ : Int => ([(2, .int (iI ((j : Int) + 1 + 1))), (1, .int (iI (z_))), (0, .ref a)] : List (Nat × Value))) (show (sumN (fun k => b2i (mPl (mk c0 (k + 1)) ≤ mPl (mk c0 k) ∨ 0 ≤ cmpM (cRl c0) (mPs (mk c0 k)) (mPs (mk c0 (k + 1))))) j + 1 : Int) = sumN (fun k => b2i (mPl (mk c0 (k + 1)) ≤ mPl (mk c0 k) ∨ 0 ≤ cmpM (cRl c0) (mPs (mk c0 k)) (mPs (mk c0 (k + 1))))) (j + 1) from (by rw [sumN_s]; first | (rw [b2i_t (p := mPl (mk c0 (j + 1)) ≤ mPl (mk c0 j) ∨ 0 ≤ cmpM (cRl c0) (mPs (mk c0 j)) (mPs (mk c0 (j + 1)))) (by omega)]; done) | (rw [b2i_f (p := mPl (mk c0 (j + 1)) ≤ mPl (mk c0 j) ∨ 0 ≤ cmpM (cRl c0) (mPs (mk c0 j)) (mPs (mk c0 (j + 1)))) (by omega), Int.add_zero]; done))))
          exact ih_4 (j + 1) (by omega) (by omega) _ _ _ hR hL (lv_sub hl [2, 1, 0] rfl)
        ·
          refine lv_aload_n hx hb dX10_gap_35 rfl (lv_at hl 0 rfl) ?_
          refine lv_iload_n hx hb dX10_gap_36 rfl (lv_at hl 2 rfl) ?_
          refine h_iconst hx hb dX10_gap_37 ?_
          refine h_isub hx hb dX10_gap_38 ?_
          refine lv_iload_n hx hb dX10_gap_39 rfl (lv_at hl 2 rfl) ?_
          refine W.eq (g2 := F0 m9 40 ls [.int (iI ((j : Int) + 1)), .int (iI ((j : Int))), .ref a]) (congrArg (fun z_ : Int => F0 m9 40 ls [.int (iI ((j : Int) + 1)), .int (iI (z_)), .ref a]) (show (((j : Int) + 1) - 1 : Int) = (j : Int) from (by omega))) ?_
          -- call SpokenMarksModel.compares
          refine h_kIp (h_runV X hR (m_compares l G w_3 a ad t_1 hT.1 j (j + 1) (cRl c0) (mPs (mk c0 j)) (mPs (mk c0 (j + 1))) (by omega) (by omega) (by rw [(hE_t_1 3 (by decide)).2]; exact ((hC.m j (by omega)).2.2.2)) (by rw [(hE_t_1 3 (by decide)).2]; exact ((hC.m (j + 1) (by omega)).2.2.2))) pn_yX10_compares (hasC.of hT.1.ob rfl) q2868 q2870 qs61 q161 q2871 ⟨by decide, by decide⟩ hl.1 (Nat.le_of_ble_eq_true rfl) dX10_gap_40 ⟨by omega, by omega⟩) hL (fun H locs hR hL => ?_)
          have hcr := cmpM_r (cRl c0) (mPs (mk c0 j)) (mPs (mk c0 (j + 1)))
          refine h_if_lt hx hb 49 dX10_gap_43 (by decide) (by omega) (fun c_31 => ?_) (fun c_31 => ?_)
          ·
            refine h_iinc (lv' := [(2, .int (iI ((j : Int) + 1 + 1))), (0, .ref a), (1, .int (iI (sumN (fun k => b2i (mPl (mk c0 (k + 1)) ≤ mPl (mk c0 k) ∨ 0 ≤ cmpM (cRl c0) (mPs (mk c0 k)) (mPs (mk c0 (k + 1))))) j)))]) hx hb dX10_gap_49 hl (k := 2) rfl (by decide) rfl (fun ls hl => ?_)
            refine lv_goto (tgt := 9) hx hb dX10_gap_52 (by decide) ?_
            have hl : lv_has ls 3 [(2, .int (iI ((j : Int) + 1 + 1))), (0, .ref a), (1, .int (iI (sumN (fun k => b2i (mPl (mk c0 (k + 1)) ≤ mPl (mk c0 k) ∨ 0 ≤ cmpM (cRl c0) (mPs (mk c0 k)) (mPs (mk c0 (k + 1))))) (j + 1))))] := lv_conv hl (congrArg (fun z_ : Int => ([(2, .int (iI ((j : Int) + 1 + 1))), (0, .ref a), (1, .int (iI (z_)))] : List (Nat × Value))) (show (sumN (fun k => b2i (mPl (mk c0 (k + 1)) ≤ mPl (mk c0 k) ∨ 0 ≤ cmpM (cRl c0) (mPs (mk c0 k)) (mPs (mk c0 (k + 1))))) j : Int) = sumN (fun k => b2i (mPl (mk c0 (k + 1)) ≤ mPl (mk c0 k) ∨ 0 ≤ cmpM (cRl c0) (mPs (mk c0 k)) (mPs (mk c0 (k + 1))))) (j + 1) from (by rw [sumN_s]; first | (rw [b2i_t (p := mPl (mk c0 (j + 1)) ≤ mPl (mk c0 j) ∨ 0 ≤ cmpM (cRl c0) (mPs (mk c0 j)) (mPs (mk c0 (j + 1)))) (by omega)]; done) | (rw [b2i_f (p := mPl (mk c0 (j + 1)) ≤ mPl (mk c0 j) ∨ 0 ≤ cmpM (cRl c0) (mPs (mk c0 j)) (mPs (mk c0 (j + 1)))) (by omega), Int.add_zero]; done))))
            exact ih_4 (j + 1) (by omega) (by omega) _ _ _ hR hL (lv_sub hl [1, 2, 0] rfl)
          ·
            refine h_iinc (lv' := [(1, .int (iI (sumN (fun k => b2i (mPl (mk c0 (k + 1)) ≤ mPl (mk c0 k) ∨ 0 ≤ cmpM (cRl c0) (mPs (mk c0 k)) (mPs (mk c0 (k + 1))))) j + 1))), (0, .ref a), (2, .int (iI ((j : Int) + 1)))]) hx hb dX10_gap_46 hl (k := 1) rfl (by decide) rfl (fun ls hl => ?_)
            refine h_iinc (lv' := [(2, .int (iI ((j : Int) + 1 + 1))), (1, .int (iI (sumN (fun k => b2i (mPl (mk c0 (k + 1)) ≤ mPl (mk c0 k) ∨ 0 ≤ cmpM (cRl c0) (mPs (mk c0 k)) (mPs (mk c0 (k + 1))))) j + 1))), (0, .ref a)]) hx hb dX10_gap_49 hl (k := 2) rfl (by decide) rfl (fun ls hl => ?_)
            refine lv_goto (tgt := 9) hx hb dX10_gap_52 (by decide) ?_
            have hl : lv_has ls 3 [(2, .int (iI ((j : Int) + 1 + 1))), (1, .int (iI (sumN (fun k => b2i (mPl (mk c0 (k + 1)) ≤ mPl (mk c0 k) ∨ 0 ≤ cmpM (cRl c0) (mPs (mk c0 k)) (mPs (mk c0 (k + 1))))) (j + 1)))), (0, .ref a)] := lv_conv hl (congrArg (fun z_ : Int => ([(2, .int (iI ((j : Int) + 1 + 1))), (1, .int (iI (z_))), (0, .ref a)] : List (Nat × Value))) (show (sumN (fun k => b2i (mPl (mk c0 (k + 1)) ≤ mPl (mk c0 k) ∨ 0 ≤ cmpM (cRl c0) (mPs (mk c0 k)) (mPs (mk c0 (k + 1))))) j + 1 : Int) = sumN (fun k => b2i (mPl (mk c0 (k + 1)) ≤ mPl (mk c0 k) ∨ 0 ≤ cmpM (cRl c0) (mPs (mk c0 k)) (mPs (mk c0 (k + 1))))) (j + 1) from (by rw [sumN_s]; first | (rw [b2i_t (p := mPl (mk c0 (j + 1)) ≤ mPl (mk c0 j) ∨ 0 ≤ cmpM (cRl c0) (mPs (mk c0 j)) (mPs (mk c0 (j + 1)))) (by omega)]; done) | (rw [b2i_f (p := mPl (mk c0 (j + 1)) ≤ mPl (mk c0 j) ∨ 0 ≤ cmpM (cRl c0) (mPs (mk c0 j)) (mPs (mk c0 (j + 1)))) (by omega), Int.add_zero]; done))))
            exact ih_4 (j + 1) (by omega) (by omega) _ _ _ hR hL (lv_sub hl [2, 1, 0] rfl)
  exact LOOP_4 _ 0 (by omega) (Nat.lt_succ_self _) _ _ _ hR hL (lv_sub hl [2, 1, 0] rfl)

set_option maxHeartbeats 4000000 in
set_option maxRecDepth 100000 in
/-- alike -/
theorem m_alike (l : Launch) (G : Gl) (w : Wd) (a : Nat) (ad : Nat → Nat) (t : Tw) (hT : TwAt G w a ad t)  (c0 : Cat) (hC : RowIs (t.2 3) c0) : HM l yX10_alike cX10_alike 4 (some .int) 4 0 0 G [.ref a] w (QI G (fun z_ w_ => z_ = alkN c0 ∧ ∃ t_ : Tw, TwS G w w_ a ad t_ ∧ TwE [0] t t_ ∧ t.1 0 = t.1 0)) := by
  refine HM.mk (by decide +kernel) (Nat.le_of_ble_eq_true rfl) ?_
  intro p9 e9 s9 m9 a9 b9 meth9 c9 ls X hret hlk hnm hl H hR
  have hx := X.1.1
  have hb := X.1.2.1
  have hl : lv_has ls 4 [(0, .ref a)] := hl
  have hL : LK G [] := fun q h => absurd h List.not_mem_nil
  generalize ([] : List Loc) = locs at hL ⊢
  have hTb := hT
  have hT : TwS G w w a ad t := TwS.rf hT
  have hn40 := hC.n40
  have hsh8 := hC.sh8
  refine lv_aload_n hx hb dX10_alike_0 rfl (lv_at hl 0 rfl) ?_
  refine h_iconst hx hb dX10_alike_1 ?_
  refine tw_puti X hR hL hT 0 (by decide) q2941 rfl rfl rfl twF_s0 (by omega) dX10_alike_2 (fun t_1 et_2 w_3 hT H locs hR hL => ?_)
  have hE_t_1 := TwE.put et_2
  have hv_t_1 := tput_v et_2
  refine h_iconst hx hb dX10_alike_5 ?_
  refine lv_istore_n (lv' := [(1, .int (iI (0))), (0, .ref a)]) hx hb dX10_alike_6 rfl hl (by decide) rfl (fun ls hl => ?_)
  refine h_iconst hx hb dX10_alike_7 ?_
  refine lv_istore_n (lv' := [(2, .int (iI (0))), (1, .int (iI (0))), (0, .ref a)]) hx hb dX10_alike_8 rfl hl (by decide) rfl (fun ls hl => ?_)
  have LOOP_4 : ∀ (N_ : Nat) (k : Nat), (k ≤ cN c0) → (cN c0 - k) < N_ → ∀ (H : Heap) (locs : List Loc) (ls : Array Slot), Rp G w_3 H → LK G locs → lv_has ls 4 [(0, .ref a), (1, .int (iI (sumN (fun a => sumN (fun i => b2i (difM (cRl c0) (mPs (mk c0 a)) (mPs (mk c0 (a + 1 + i))) = -1)) (cN c0 - (a + 1))) k))), (2, .int (iI ((k : Int))))] → W p9 l e9 (rmk 4 0 0) s9 m9 a9 b9 meth9 c9 H locs 0 0 (MQ b9 (QI G (fun z_ w_ => z_ = alkN c0 ∧ ∃ t_ : Tw, TwS G w w_ a ad t_ ∧ TwE [0] t t_ ∧ t.1 0 = t.1 0)) a9 s9 0 0 (frG G)) (F0 m9 9 ls []) := by
    intro N_
    induction N_ with
    | zero => intro _ _ h_; exact absurd h_ (Nat.not_lt_zero _)
    | succ N_ ih_ =>
      intro k hk hN_ H locs ls hR hL hl
      have ih_4 := ih_
      clear ih_
      refine lv_iload_n hx hb dX10_alike_9 rfl (lv_at hl 2 rfl) ?_
      refine lv_aload_n hx hb dX10_alike_10 rfl (lv_at hl 0 rfl) ?_
      refine h_iconst hx hb dX10_alike_11 ?_
      -- call SpokenMarksModel.head
      refine h_kIp (h_runV X hR (m_head l G w_3 a ad t_1 hT.1 2 (by omega)) pn_yX10_head (hasC.of hT.1.ob rfl) q2789 q2791 qs44 q161 q2792 ⟨by decide, by decide⟩ hl.1 (Nat.le_of_ble_eq_true rfl) dX10_alike_12 ⟨by omega, by omega⟩) hL (fun H locs hR hL => ?_)
      refine W.eq (g2 := F0 m9 15 ls [.int (iI ((cN c0 : Int))), .int (iI ((k : Int)))]) (congrArg (fun z_ : Int => F0 m9 15 ls [.int (iI (z_)), .int (iI ((k : Int)))]) (show (hd t_1 2 : Int) = (cN c0 : Int) from (by exact ((congrFun ((hE_t_1 3 (by decide)).2) 2).trans hC.n)))) ?_
      refine h_icmp_ge hx hb 56 dX10_alike_15 (by decide) (by omega) (by omega) (fun c_8 => ?_) (fun c_8 => ?_)
      ·
        refine lv_iload_n hx hb dX10_alike_56 rfl (lv_at hl 1 rfl) ?_
        exact h_ireturn hx hb hlk hret hR hL rfl ⟨(by rw [show k = cN c0 by omega] <;> rfl), ⟨t_1, hT, (TwE.tr (S2 := [0]) (TwE.rf : TwE [] t t) hE_t_1 rfl rfl), rfl⟩⟩ (by omega) (by omega) rfl rfl dX10_alike_57
      ·
        refine lv_iload_n hx hb dX10_alike_18 rfl (lv_at hl 2 rfl) ?_
        refine h_iconst hx hb dX10_alike_19 ?_
        refine h_iadd hx hb dX10_alike_20 ?_
        refine lv_istore_n (lv' := [(3, .int (iI ((k : Int) + 1))), (0, .ref a), (1, .int (iI (sumN (fun a => sumN (fun i => b2i (difM (cRl c0) (mPs (mk c0 a)) (mPs (mk c0 (a + 1 + i))) = -1)) (cN c0 - (a + 1))) k))), (2, .int (iI ((k : Int))))]) hx hb dX10_alike_21 rfl hl (by decide) rfl (fun ls hl => ?_)
        have LOOP_9 : ∀ (N_ : Nat) (i : Nat), (k + 1 + i ≤ cN c0) → (cN c0 - i) < N_ → ∀ (H : Heap) (locs : List Loc) (ls : Array Slot), Rp G w_3 H → LK G locs → lv_has ls 4 [(0, .ref a), (1, .int (iI (sumN (fun a => sumN (fun i => b2i (difM (cRl c0) (mPs (mk c0 a)) (mPs (mk c0 (a + 1 + i))) = -1)) (cN c0 - (a + 1))) k + sumN (fun i => b2i (difM (cRl c0) (mPs (mk c0 k)) (mPs (mk c0 (k + 1 + i))) = -1)) i))), (2, .int (iI ((k : Int)))), (3, .int (iI ((k : Int) + 1 + (i : Int))))] → W p9 l e9 (rmk 4 0 0) s9 m9 a9 b9 meth9 c9 H locs 0 0 (MQ b9 (QI G (fun z_ w_ => z_ = alkN c0 ∧ ∃ t_ : Tw, TwS G w w_ a ad t_ ∧ TwE [0] t t_ ∧ t.1 0 = t.1 0)) a9 s9 0 0 (frG G)) (F0 m9 22 ls []) := by
          intro N_
          induction N_ with
          | zero => intro _ _ h_; exact absurd h_ (Nat.not_lt_zero _)
          | succ N_ ih_ =>
            intro i hi hN_ H locs ls hR hL hl
            have ih_9 := ih_
            clear ih_
            refine lv_iload_n hx hb dX10_alike_22 rfl (lv_at hl 3 rfl) ?_
            refine lv_aload_n hx hb dX10_alike_23 rfl (lv_at hl 0 rfl) ?_
            refine h_iconst hx hb dX10_alike_24 ?_
            -- call SpokenMarksModel.head
            refine h_kIp (h_runV X hR (m_head l G w_3 a ad t_1 hT.1 2 (by omega)) pn_yX10_head (hasC.of hT.1.ob rfl) q2789 q2791 qs44 q161 q2792 ⟨by decide, by decide⟩ hl.1 (Nat.le_of_ble_eq_true rfl) dX10_alike_25 ⟨by omega, by omega⟩) hL (fun H locs hR hL => ?_)
            refine W.eq (g2 := F0 m9 28 ls [.int (iI ((cN c0 : Int))), .int (iI ((k : Int) + 1 + (i : Int)))]) (congrArg (fun z_ : Int => F0 m9 28 ls [.int (iI (z_)), .int (iI ((k : Int) + 1 + (i : Int)))]) (show (hd t_1 2 : Int) = (cN c0 : Int) from (by exact ((congrFun ((hE_t_1 3 (by decide)).2) 2).trans hC.n)))) ?_
            refine h_icmp_ge hx hb 50 dX10_alike_28 (by decide) (by omega) (by omega) (fun c_13 => ?_) (fun c_13 => ?_)
            ·
              refine h_iinc (lv' := [(2, .int (iI ((k : Int) + 1))), (0, .ref a), (1, .int (iI (sumN (fun a => sumN (fun i => b2i (difM (cRl c0) (mPs (mk c0 a)) (mPs (mk c0 (a + 1 + i))) = -1)) (cN c0 - (a + 1))) k + sumN (fun i => b2i (difM (cRl c0) (mPs (mk c0 k)) (mPs (mk c0 (k + 1 + i))) = -1)) i))), (3, .int (iI ((k : Int) + 1 + (i : Int))))]) hx hb dX10_alike_50 hl (k := 2) rfl (by decide) rfl (fun ls hl => ?_)
              refine lv_goto (tgt := 9) hx hb dX10_alike_53 (by decide) ?_
              have hl : lv_has ls 4 [(2, .int (iI ((k : Int) + 1))), (0, .ref a), (1, .int (iI (sumN (fun a => sumN (fun i => b2i (difM (cRl c0) (mPs (mk c0 a)) (mPs (mk c0 (a + 1 + i))) = -1)) (cN c0 - (a + 1))) (k + 1)))), (3, .int (iI ((k : Int) + 1 + (i : Int))))] := lv_conv hl (congrArg (fun z_ : Int => ([(2, .int (iI ((k : Int) + 1))), (0, .ref a), (1, .int (iI (z_))), (3, .int (iI ((k : Int) + 1 + (i : Int))))] : List (Nat × Value))) (show (sumN (fun a => sumN (fun i => b2i (difM (cRl c0) (mPs (mk c0 a)) (mPs (mk c0 (a + 1 + i))) = -1)) (cN c0 - (a + 1))) k + sumN (fun i => b2i (difM (cRl c0) (mPs (mk c0 k)) (mPs (mk c0 (k + 1 + i))) = -1)) i : Int) = sumN (fun a => sumN (fun i => b2i (difM (cRl c0) (mPs (mk c0 a)) (mPs (mk c0 (a + 1 + i))) = -1)) (cN c0 - (a + 1))) (k + 1) from (by rw [sumN_s, show cN c0 - (k + 1) = i by omega])))
              exact ih_4 (k + 1) (by omega) (by omega) _ _ _ hR hL (lv_sub hl [1, 2, 0] rfl)
            ·
              refine lv_aload_n hx hb dX10_alike_31 rfl (lv_at hl 0 rfl) ?_
              refine lv_iload_n hx hb dX10_alike_32 rfl (lv_at hl 2 rfl) ?_
              refine lv_iload_n hx hb dX10_alike_33 rfl (lv_at hl 3 rfl) ?_
              -- call SpokenMarksModel.differs
              refine h_kIp (h_runV X hR (m_differs l G w_3 a ad t_1 hT.1 k (k + 1 + i) (cRl c0) (mPs (mk c0 k)) (mPs (mk c0 (k + 1 + i))) (by omega) (by omega) (by rw [(hE_t_1 3 (by decide)).2]; exact ((hC.m k (by omega)).2.2.2)) (by rw [(hE_t_1 3 (by decide)).2]; exact ((hC.m (k + 1 + i) (by omega)).2.2.2))) pn_yX10_differs (hasC.of hT.1.ob rfl) q3169 q3171 qs96 q161 q3172 ⟨by decide, by decide⟩ hl.1 (Nat.le_of_ble_eq_true rfl) dX10_alike_34 ⟨by omega, by omega⟩) hL (fun H locs hR hL => ?_)
              have hdr := difM_r (cRl c0) (mPs (mk c0 k)) (mPs (mk c0 (k + 1 + i))) (by have := (hC.m k (by omega)).2.2.2.l5; omega)
              refine h_iconst hx hb dX10_alike_37 ?_
              refine h_icmp_ne hx hb 44 dX10_alike_38 (by decide) (by omega) (by omega) (fun c_d => ?_) (fun c_d => ?_)
              ·
                refine h_iinc (lv' := [(3, .int (iI ((k : Int) + 1 + (i : Int) + 1))), (0, .ref a), (1, .int (iI (sumN (fun a => sumN (fun i => b2i (difM (cRl c0) (mPs (mk c0 a)) (mPs (mk c0 (a + 1 + i))) = -1)) (cN c0 - (a + 1))) k + sumN (fun i => b2i (difM (cRl c0) (mPs (mk c0 k)) (mPs (mk c0 (k + 1 + i))) = -1)) i))), (2, .int (iI ((k : Int))))]) hx hb dX10_alike_44 hl (k := 3) rfl (by decide) rfl (fun ls hl => ?_)
                refine lv_goto (tgt := 22) hx hb dX10_alike_47 (by decide) ?_
                have hl : lv_has ls 4 [(3, .int (iI ((k : Int) + 1 + (i : Int) + 1))), (0, .ref a), (1, .int (iI (sumN (fun a => sumN (fun i => b2i (difM (cRl c0) (mPs (mk c0 a)) (mPs (mk c0 (a + 1 + i))) = -1)) (cN c0 - (a + 1))) k + sumN (fun i => b2i (difM (cRl c0) (mPs (mk c0 k)) (mPs (mk c0 (k + 1 + i))) = -1)) (i + 1)))), (2, .int (iI ((k : Int))))] := lv_conv hl (congrArg (fun z_ : Int => ([(3, .int (iI ((k : Int) + 1 + (i : Int) + 1))), (0, .ref a), (1, .int (iI (z_))), (2, .int (iI ((k : Int))))] : List (Nat × Value))) (show (sumN (fun a => sumN (fun i => b2i (difM (cRl c0) (mPs (mk c0 a)) (mPs (mk c0 (a + 1 + i))) = -1)) (cN c0 - (a + 1))) k + sumN (fun i => b2i (difM (cRl c0) (mPs (mk c0 k)) (mPs (mk c0 (k + 1 + i))) = -1)) i : Int) = sumN (fun a => sumN (fun i => b2i (difM (cRl c0) (mPs (mk c0 a)) (mPs (mk c0 (a + 1 + i))) = -1)) (cN c0 - (a + 1))) k + sumN (fun i => b2i (difM (cRl c0) (mPs (mk c0 k)) (mPs (mk c0 (k + 1 + i))) = -1)) (i + 1) from (by rw [sumN_s]; first | (rw [b2i_t (p := difM (cRl c0) (mPs (mk c0 k)) (mPs (mk c0 (k + 1 + i))) = -1) c_d]; omega) | (rw [b2i_f (p := difM (cRl c0) (mPs (mk c0 k)) (mPs (mk c0 (k + 1 + i))) = -1) c_d]; omega))))
                have hl : lv_has ls 4 [(3, .int (iI ((k : Int) + 1 + ((i + 1 : Nat) : Int)))), (0, .ref a), (1, .int (iI (sumN (fun a => sumN (fun i => b2i (difM (cRl c0) (mPs (mk c0 a)) (mPs (mk c0 (a + 1 + i))) = -1)) (cN c0 - (a + 1))) k + sumN (fun i => b2i (difM (cRl c0) (mPs (mk c0 k)) (mPs (mk c0 (k + 1 + i))) = -1)) (i + 1)))), (2, .int (iI ((k : Int))))] := lv_conv hl (congrArg (fun z_ : Int => ([(3, .int (iI (z_))), (0, .ref a), (1, .int (iI (sumN (fun a => sumN (fun i => b2i (difM (cRl c0) (mPs (mk c0 a)) (mPs (mk c0 (a + 1 + i))) = -1)) (cN c0 - (a + 1))) k + sumN (fun i => b2i (difM (cRl c0) (mPs (mk c0 k)) (mPs (mk c0 (k + 1 + i))) = -1)) (i + 1)))), (2, .int (iI ((k : Int))))] : List (Nat × Value))) (show ((k : Int) + 1 + (i : Int) + 1 : Int) = (k : Int) + 1 + ((i + 1 : Nat) : Int) from (by omega)))
                exact ih_9 (i + 1) (by omega) (by omega) _ _ _ hR hL (lv_sub hl [1, 2, 3, 0] rfl)
              ·
                refine h_iinc (lv' := [(1, .int (iI (sumN (fun a => sumN (fun i => b2i (difM (cRl c0) (mPs (mk c0 a)) (mPs (mk c0 (a + 1 + i))) = -1)) (cN c0 - (a + 1))) k + sumN (fun i => b2i (difM (cRl c0) (mPs (mk c0 k)) (mPs (mk c0 (k + 1 + i))) = -1)) i + 1))), (0, .ref a), (2, .int (iI ((k : Int)))), (3, .int (iI ((k : Int) + 1 + (i : Int))))]) hx hb dX10_alike_41 hl (k := 1) rfl (by decide) rfl (fun ls hl => ?_)
                refine h_iinc (lv' := [(3, .int (iI ((k : Int) + 1 + (i : Int) + 1))), (1, .int (iI (sumN (fun a => sumN (fun i => b2i (difM (cRl c0) (mPs (mk c0 a)) (mPs (mk c0 (a + 1 + i))) = -1)) (cN c0 - (a + 1))) k + sumN (fun i => b2i (difM (cRl c0) (mPs (mk c0 k)) (mPs (mk c0 (k + 1 + i))) = -1)) i + 1))), (0, .ref a), (2, .int (iI ((k : Int))))]) hx hb dX10_alike_44 hl (k := 3) rfl (by decide) rfl (fun ls hl => ?_)
                refine lv_goto (tgt := 22) hx hb dX10_alike_47 (by decide) ?_
                have hl : lv_has ls 4 [(3, .int (iI ((k : Int) + 1 + (i : Int) + 1))), (1, .int (iI (sumN (fun a => sumN (fun i => b2i (difM (cRl c0) (mPs (mk c0 a)) (mPs (mk c0 (a + 1 + i))) = -1)) (cN c0 - (a + 1))) k + sumN (fun i => b2i (difM (cRl c0) (mPs (mk c0 k)) (mPs (mk c0 (k + 1 + i))) = -1)) (i + 1)))), (0, .ref a), (2, .int (iI ((k : Int))))] := lv_conv hl (congrArg (fun z_ : Int => ([(3, .int (iI ((k : Int) + 1 + (i : Int) + 1))), (1, .int (iI (z_))), (0, .ref a), (2, .int (iI ((k : Int))))] : List (Nat × Value))) (show (sumN (fun a => sumN (fun i => b2i (difM (cRl c0) (mPs (mk c0 a)) (mPs (mk c0 (a + 1 + i))) = -1)) (cN c0 - (a + 1))) k + sumN (fun i => b2i (difM (cRl c0) (mPs (mk c0 k)) (mPs (mk c0 (k + 1 + i))) = -1)) i + 1 : Int) = sumN (fun a => sumN (fun i => b2i (difM (cRl c0) (mPs (mk c0 a)) (mPs (mk c0 (a + 1 + i))) = -1)) (cN c0 - (a + 1))) k + sumN (fun i => b2i (difM (cRl c0) (mPs (mk c0 k)) (mPs (mk c0 (k + 1 + i))) = -1)) (i + 1) from (by rw [sumN_s]; first | (rw [b2i_t (p := difM (cRl c0) (mPs (mk c0 k)) (mPs (mk c0 (k + 1 + i))) = -1) c_d]; omega) | (rw [b2i_f (p := difM (cRl c0) (mPs (mk c0 k)) (mPs (mk c0 (k + 1 + i))) = -1) c_d]; omega))))
                have hl : lv_has ls 4 [(3, .int (iI ((k : Int) + 1 + ((i + 1 : Nat) : Int)))), (1, .int (iI (sumN (fun a => sumN (fun i => b2i (difM (cRl c0) (mPs (mk c0 a)) (mPs (mk c0 (a + 1 + i))) = -1)) (cN c0 - (a + 1))) k + sumN (fun i => b2i (difM (cRl c0) (mPs (mk c0 k)) (mPs (mk c0 (k + 1 + i))) = -1)) (i + 1)))), (0, .ref a), (2, .int (iI ((k : Int))))] := lv_conv hl (congrArg (fun z_ : Int => ([(3, .int (iI (z_))), (1, .int (iI (sumN (fun a => sumN (fun i => b2i (difM (cRl c0) (mPs (mk c0 a)) (mPs (mk c0 (a + 1 + i))) = -1)) (cN c0 - (a + 1))) k + sumN (fun i => b2i (difM (cRl c0) (mPs (mk c0 k)) (mPs (mk c0 (k + 1 + i))) = -1)) (i + 1)))), (0, .ref a), (2, .int (iI ((k : Int))))] : List (Nat × Value))) (show ((k : Int) + 1 + (i : Int) + 1 : Int) = (k : Int) + 1 + ((i + 1 : Nat) : Int) from (by omega)))
                exact ih_9 (i + 1) (by omega) (by omega) _ _ _ hR hL (lv_sub hl [2, 1, 3, 0] rfl)
        have hl : lv_has ls 4 [(3, .int (iI ((k : Int) + 1))), (0, .ref a), (1, .int (iI (sumN (fun a => sumN (fun i => b2i (difM (cRl c0) (mPs (mk c0 a)) (mPs (mk c0 (a + 1 + i))) = -1)) (cN c0 - (a + 1))) k + sumN (fun i => b2i (difM (cRl c0) (mPs (mk c0 k)) (mPs (mk c0 (k + 1 + i))) = -1)) 0))), (2, .int (iI ((k : Int))))] := lv_conv hl (congrArg (fun z_ : Int => ([(3, .int (iI ((k : Int) + 1))), (0, .ref a), (1, .int (iI (z_))), (2, .int (iI ((k : Int))))] : List (Nat × Value))) (show (sumN (fun a => sumN (fun i => b2i (difM (cRl c0) (mPs (mk c0 a)) (mPs (mk c0 (a + 1 + i))) = -1)) (cN c0 - (a + 1))) k : Int) = sumN (fun a => sumN (fun i => b2i (difM (cRl c0) (mPs (mk c0 a)) (mPs (mk c0 (a + 1 + i))) = -1)) (cN c0 - (a + 1))) k + sumN (fun i => b2i (difM (cRl c0) (mPs (mk c0 k)) (mPs (mk c0 (k + 1 + i))) = -1)) 0 from (by rw [sumN_0, Int.add_zero])))
        have hl : lv_has ls 4 [(3, .int (iI ((k : Int) + 1 + ((0 : Nat) : Int)))), (0, .ref a), (1, .int (iI (sumN (fun a => sumN (fun i => b2i (difM (cRl c0) (mPs (mk c0 a)) (mPs (mk c0 (a + 1 + i))) = -1)) (cN c0 - (a + 1))) k + sumN (fun i => b2i (difM (cRl c0) (mPs (mk c0 k)) (mPs (mk c0 (k + 1 + i))) = -1)) 0))), (2, .int (iI ((k : Int))))] := lv_conv hl (congrArg (fun z_ : Int => ([(3, .int (iI (z_))), (0, .ref a), (1, .int (iI (sumN (fun a => sumN (fun i => b2i (difM (cRl c0) (mPs (mk c0 a)) (mPs (mk c0 (a + 1 + i))) = -1)) (cN c0 - (a + 1))) k + sumN (fun i => b2i (difM (cRl c0) (mPs (mk c0 k)) (mPs (mk c0 (k + 1 + i))) = -1)) 0))), (2, .int (iI ((k : Int))))] : List (Nat × Value))) (show ((k : Int) + 1 : Int) = (k : Int) + 1 + ((0 : Nat) : Int) from (by omega)))
        exact LOOP_9 _ 0 (by omega) (Nat.lt_succ_self _) _ _ _ hR hL (lv_sub hl [1, 2, 3, 0] rfl)
  exact LOOP_4 _ 0 (by omega) (Nat.lt_succ_self _) _ _ _ hR hL (lv_sub hl [2, 1, 0] rfl)

set_option maxHeartbeats 4000000 in
set_option maxRecDepth 100000 in
/-- family -/
theorem m_family (l : Launch) (G : Gl) (w : Wd) (a : Nat) (ad : Nat → Nat) (t : Tw) (hT : TwAt G w a ad t) (x : Int) (c0 : Cat) (hC : RowIs (t.2 3) c0) (hx_x : R32 x) : HM l yX10_family cX10_family 4 (some .int) 4 0 0 G [.ref a, .int (iI (x))] w (QI G (fun z_ w_ => z_ = (qFam c0 x).2 ∧ ∃ t_ : Tw, TwS G w w_ a ad t_ ∧ TwE [0] t t_ ∧ t_.1 0 = (qFam c0 x).1)) := by
  refine HM.mk (by decide +kernel) (Nat.le_of_ble_eq_true rfl) ?_
  intro p9 e9 s9 m9 a9 b9 meth9 c9 ls X hret hlk hnm hl H hR
  have hx := X.1.1
  have hb := X.1.2.1
  have hl : lv_has ls 4 [(0, .ref a), (1, .int (iI (x)))] := hl
  have hL : LK G [] := fun q h => absurd h List.not_mem_nil
  generalize ([] : List Loc) = locs at hL ⊢
  have hTb := hT
  have hT : TwS G w w a ad t := TwS.rf hT
  have hn40 := hC.n40
  have hsh8 := hC.sh8
  have hrr := rkOf_r c0 x
  refine lv_aload_n hx hb dX10_family_0 rfl (lv_at hl 0 rfl) ?_
  refine h_iconst hx hb dX10_family_1 ?_
  refine tw_puti X hR hL hT 0 (by decide) q2941 rfl rfl rfl twF_s0 (by omega) dX10_family_2 (fun t_1 et_2 w_3 hT H locs hR hL => ?_)
  have hE_t_1 := TwE.put et_2
  have hv_t_1 := tput_v et_2
  refine lv_aload_n hx hb dX10_family_5 rfl (lv_at hl 0 rfl) ?_
  refine lv_iload_n hx hb dX10_family_6 rfl (lv_at hl 1 rfl) ?_
  -- call SpokenMarksModel.noMark
  refine h_kI (h_runV X hR (m_noMark l G w_3 a ad t_1 hT.1 x c0 (by rw [(hE_t_1 3 (by decide)).2]; exact hC) hx_x hv_t_1) pn_yX10_noMark (hasC.of hT.1.ob rfl) q3097 q3099 qs85 q161 q3100 ⟨by decide, by decide⟩ hl.1 (Nat.le_of_ble_eq_true rfl) dX10_family_7 ⟨by omega, by omega⟩) hL (fun z_4 w_5 hp_6 H locs hR hL => ?_)
  obtain ⟨rfl, t_7, hT2, hE_t_7, et_8⟩ := hp_6
  have hT := hT.tr hT2
  clear hT2
  refine h_if_eq hx hb 15 dX10_family_10 (by decide) (b2i_R _) (fun c_f => ?_) (fun c_f => ?_)
  ·
    have hok1 := b2i_0.mp c_f
    have hth : t_7.1 0 = 0 := (et_8).trans (if_neg hok1)
    refine h_iconst hx hb dX10_family_15 ?_
    refine lv_istore_n (lv' := [(2, .int (iI (0))), (0, .ref a), (1, .int (iI (x)))]) hx hb dX10_family_16 rfl hl (by decide) rfl (fun ls hl => ?_)
    refine h_iconst hx hb dX10_family_17 ?_
    refine lv_istore_n (lv' := [(3, .int (iI (0))), (2, .int (iI (0))), (0, .ref a), (1, .int (iI (x)))]) hx hb dX10_family_18 rfl hl (by decide) rfl (fun ls hl => ?_)
    have LOOP_9 : ∀ (N_ : Nat) (k : Nat), (k ≤ cN c0) → (cN c0 - k) < N_ → ∀ (H : Heap) (locs : List Loc) (ls : Array Slot), Rp G w_5 H → LK G locs → lv_has ls 4 [(0, .ref a), (1, .int (iI (x))), (2, .int (iI (sumN (fun k => b2i (encP (earP (cRl c0) ((mPs (mk c0 k)).getD 0 prt0)) = encP (earP (cRl c0) ((mPs (mk c0 (rkOf c0 x).toNat)).getD 0 prt0)))) k))), (3, .int (iI ((k : Int))))] → W p9 l e9 (rmk 4 0 0) s9 m9 a9 b9 meth9 c9 H locs 0 0 (MQ b9 (QI G (fun z_ w_ => z_ = (qFam c0 x).2 ∧ ∃ t_ : Tw, TwS G w w_ a ad t_ ∧ TwE [0] t t_ ∧ t_.1 0 = (qFam c0 x).1)) a9 s9 0 0 (frG G)) (F0 m9 19 ls []) := by
      intro N_
      induction N_ with
      | zero => intro _ _ h_; exact absurd h_ (Nat.not_lt_zero _)
      | succ N_ ih_ =>
        intro k hk hN_ H locs ls hR hL hl
        have ih_9 := ih_
        clear ih_
        refine lv_iload_n hx hb dX10_family_19 rfl (lv_at hl 3 rfl) ?_
        refine lv_aload_n hx hb dX10_family_20 rfl (lv_at hl 0 rfl) ?_
        refine h_iconst hx hb dX10_family_21 ?_
        -- call SpokenMarksModel.head
        refine h_kIp (h_runV X hR (m_head l G w_5 a ad t_7 hT.1 2 (by omega)) pn_yX10_head (hasC.of hT.1.ob rfl) q2789 q2791 qs44 q161 q2792 ⟨by decide, by decide⟩ hl.1 (Nat.le_of_ble_eq_true rfl) dX10_family_22 ⟨by omega, by omega⟩) hL (fun H locs hR hL => ?_)
        refine W.eq (g2 := F0 m9 25 ls [.int (iI ((cN c0 : Int))), .int (iI ((k : Int)))]) (congrArg (fun z_ : Int => F0 m9 25 ls [.int (iI (z_)), .int (iI ((k : Int)))]) (show (hd t_7 2 : Int) = (cN c0 : Int) from (by exact ((congrFun (((hE_t_7 3 (by decide)).2).trans (hE_t_1 3 (by decide)).2) 2).trans hC.n)))) ?_
        refine h_icmp_ge hx hb 57 dX10_family_25 (by decide) (by omega) (by omega) (fun c_13 => ?_) (fun c_13 => ?_)
        ·
          refine lv_iload_n hx hb dX10_family_57 rfl (lv_at hl 2 rfl) ?_
          exact h_ireturn hx hb hlk hret hR hL rfl ⟨(by unfold qFam; rw [ans_t hok1]; rw [show k = cN c0 by omega] <;> rfl), ⟨t_7, hT, (TwE.tr (S2 := [0]) (TwE.tr (S2 := [0]) (TwE.rf : TwE [] t t) hE_t_1 rfl rfl) hE_t_7 rfl rfl), (by rw [hth]; unfold qFam; rw [ans_t hok1])⟩⟩ (by omega) (by omega) rfl rfl dX10_family_58
        ·
          refine lv_aload_n hx hb dX10_family_28 rfl (lv_at hl 0 rfl) ?_
          refine lv_iload_n hx hb dX10_family_29 rfl (lv_at hl 3 rfl) ?_
          refine h_iconst hx hb dX10_family_30 ?_
          -- call SpokenMarksModel.earOf
          refine h_kLp (h_runV X hR (m_earOf l G w_5 a ad t_7 hT.1 k 0 (by omega) (by omega)) pn_yX10_earOf (hasC.of hT.1.ob rfl) q3125 q3127 qs90 q161 q3128 ⟨by decide, by decide⟩ hl.1 (Nat.le_of_ble_eq_true rfl) dX10_family_31 ⟨by omega, by omega⟩) hL (fun H locs hR hL => ?_)
          refine W.eq (g2 := F0 m9 34 ls [.long (lI (encP (earP (cRl c0) ((mPs (mk c0 k)).getD 0 prt0))))]) (congrArg (fun z_ : Int => F0 m9 34 ls [.long (lI (z_))]) (show (t_7.2 3 (32 + 14 * k + 9 + 0) : Int) = encP (earP (cRl c0) ((mPs (mk c0 k)).getD 0 prt0)) from (by exact ((congrFun (((hE_t_7 3 (by decide)).2).trans (hE_t_1 3 (by decide)).2) ((32 + 14 * k + 9 + 0))).trans ((hC.m k (by omega)).2.2.2.er (by have := (hC.mw k (by omega)).2.1.1; omega)))))) ?_
          have her_k := encP_r (earP_w hC.s.2.2.2.2.1 (getW hC.s (r := k) (k := 0) (by omega) (by have := (hC.mw k (by omega)).2.1.1; omega)))
          refine lv_aload_n hx hb dX10_family_34 rfl (lv_at hl 0 rfl) ?_
          refine lv_aload_n hx hb dX10_family_35 rfl (lv_at hl 0 rfl) ?_
          refine lv_iload_n hx hb dX10_family_36 rfl (lv_at hl 1 rfl) ?_
          -- call SpokenMarksModel.rankOf
          refine h_kIp (h_runV X hR (m_rankOf l G w_5 a ad t_7 hT.1 x c0 (by rw [((hE_t_7 3 (by decide)).2).trans (hE_t_1 3 (by decide)).2]; exact hC) hx_x) pn_yX10_rankOf (hasC.of hT.1.ob rfl) q3101 q3103 qs86 q161 q3104 ⟨by decide, by decide⟩ hl.1 (Nat.le_of_ble_eq_true rfl) dX10_family_37 ⟨by omega, by omega⟩) hL (fun H locs hR hL => ?_)
          refine W.eq (g2 := F0 m9 40 ls [.int (iI (((rkOf c0 x).toNat : Int))), .ref a, .long (lI (encP (earP (cRl c0) ((mPs (mk c0 k)).getD 0 prt0))))]) (congrArg (fun z_ : Int => F0 m9 40 ls [.int (iI (z_)), .ref a, .long (lI (encP (earP (cRl c0) ((mPs (mk c0 k)).getD 0 prt0))))]) (show (rkOf c0 x : Int) = ((rkOf c0 x).toNat : Int) from (by omega))) ?_
          refine h_iconst hx hb dX10_family_40 ?_
          -- call SpokenMarksModel.earOf
          refine h_kLp (h_runV X hR (m_earOf l G w_5 a ad t_7 hT.1 ((rkOf c0 x).toNat) 0 (by omega) (by omega)) pn_yX10_earOf (hasC.of hT.1.ob rfl) q3125 q3127 qs90 q161 q3128 ⟨by decide, by decide⟩ hl.1 (Nat.le_of_ble_eq_true rfl) dX10_family_41 ⟨by omega, by omega⟩) hL (fun H locs hR hL => ?_)
          refine W.eq (g2 := F0 m9 44 ls [.long (lI (encP (earP (cRl c0) ((mPs (mk c0 ((rkOf c0 x).toNat))).getD 0 prt0)))), .long (lI (encP (earP (cRl c0) ((mPs (mk c0 k)).getD 0 prt0))))]) (congrArg (fun z_ : Int => F0 m9 44 ls [.long (lI (z_)), .long (lI (encP (earP (cRl c0) ((mPs (mk c0 k)).getD 0 prt0))))]) (show (t_7.2 3 (32 + 14 * ((rkOf c0 x).toNat : Nat) + 9 + 0) : Int) = encP (earP (cRl c0) ((mPs (mk c0 ((rkOf c0 x).toNat))).getD 0 prt0)) from (by exact ((congrFun (((hE_t_7 3 (by decide)).2).trans (hE_t_1 3 (by decide)).2) ((32 + 14 * ((rkOf c0 x).toNat) + 9 + 0))).trans ((hC.m ((rkOf c0 x).toNat) (by omega)).2.2.2.er (by have := (hC.mw ((rkOf c0 x).toNat) (by omega)).2.1.1; omega)))))) ?_
          have her_x := encP_r (earP_w hC.s.2.2.2.2.1 (getW hC.s (r := (rkOf c0 x).toNat) (k := 0) (by omega) (by have := (hC.mw ((rkOf c0 x).toNat) (by omega)).2.1.1; omega)))
          refine h_lcmp hx hb dX10_family_44 (by omega) (by omega) ?_
          refine h_if_ne hx hb 51 dX10_family_45 (by decide) (by have := cmpZ_r (encP (earP (cRl c0) ((mPs (mk c0 k)).getD 0 prt0))) (encP (earP (cRl c0) ((mPs (mk c0 (rkOf c0 x).toNat)).getD 0 prt0))); omega) (fun c_e => ?_) (fun c_e => ?_)
          ·
            refine h_iinc (lv' := [(3, .int (iI ((k : Int) + 1))), (0, .ref a), (1, .int (iI (x))), (2, .int (iI (sumN (fun k => b2i (encP (earP (cRl c0) ((mPs (mk c0 k)).getD 0 prt0)) = encP (earP (cRl c0) ((mPs (mk c0 (rkOf c0 x).toNat)).getD 0 prt0)))) k)))]) hx hb dX10_family_51 hl (k := 3) rfl (by decide) rfl (fun ls hl => ?_)
            refine lv_goto (tgt := 19) hx hb dX10_family_54 (by decide) ?_
            have hl : lv_has ls 4 [(3, .int (iI ((k : Int) + 1))), (0, .ref a), (1, .int (iI (x))), (2, .int (iI (sumN (fun k => b2i (encP (earP (cRl c0) ((mPs (mk c0 k)).getD 0 prt0)) = encP (earP (cRl c0) ((mPs (mk c0 (rkOf c0 x).toNat)).getD 0 prt0)))) (k + 1))))] := lv_conv hl (congrArg (fun z_ : Int => ([(3, .int (iI ((k : Int) + 1))), (0, .ref a), (1, .int (iI (x))), (2, .int (iI (z_)))] : List (Nat × Value))) (show (sumN (fun k => b2i (encP (earP (cRl c0) ((mPs (mk c0 k)).getD 0 prt0)) = encP (earP (cRl c0) ((mPs (mk c0 (rkOf c0 x).toNat)).getD 0 prt0)))) k : Int) = sumN (fun k => b2i (encP (earP (cRl c0) ((mPs (mk c0 k)).getD 0 prt0)) = encP (earP (cRl c0) ((mPs (mk c0 (rkOf c0 x).toNat)).getD 0 prt0)))) (k + 1) from (by rw [sumN_s]; first | (rw [b2i_t (cmpZ_0.mp c_e)]; done) | (rw [b2i_f (fun q => c_e (cmpZ_0.mpr q)), Int.add_zero]; done))))
            exact ih_9 (k + 1) (by omega) (by omega) _ _ _ hR hL (lv_sub hl [1, 2, 3, 0] rfl)
          ·
            refine h_iinc (lv' := [(2, .int (iI (sumN (fun k => b2i (encP (earP (cRl c0) ((mPs (mk c0 k)).getD 0 prt0)) = encP (earP (cRl c0) ((mPs (mk c0 (rkOf c0 x).toNat)).getD 0 prt0)))) k + 1))), (0, .ref a), (1, .int (iI (x))), (3, .int (iI ((k : Int))))]) hx hb dX10_family_48 hl (k := 2) rfl (by decide) rfl (fun ls hl => ?_)
            refine h_iinc (lv' := [(3, .int (iI ((k : Int) + 1))), (2, .int (iI (sumN (fun k => b2i (encP (earP (cRl c0) ((mPs (mk c0 k)).getD 0 prt0)) = encP (earP (cRl c0) ((mPs (mk c0 (rkOf c0 x).toNat)).getD 0 prt0)))) k + 1))), (0, .ref a), (1, .int (iI (x)))]) hx hb dX10_family_51 hl (k := 3) rfl (by decide) rfl (fun ls hl => ?_)
            refine lv_goto (tgt := 19) hx hb dX10_family_54 (by decide) ?_
            have hl : lv_has ls 4 [(3, .int (iI ((k : Int) + 1))), (2, .int (iI (sumN (fun k => b2i (encP (earP (cRl c0) ((mPs (mk c0 k)).getD 0 prt0)) = encP (earP (cRl c0) ((mPs (mk c0 (rkOf c0 x).toNat)).getD 0 prt0)))) (k + 1)))), (0, .ref a), (1, .int (iI (x)))] := lv_conv hl (congrArg (fun z_ : Int => ([(3, .int (iI ((k : Int) + 1))), (2, .int (iI (z_))), (0, .ref a), (1, .int (iI (x)))] : List (Nat × Value))) (show (sumN (fun k => b2i (encP (earP (cRl c0) ((mPs (mk c0 k)).getD 0 prt0)) = encP (earP (cRl c0) ((mPs (mk c0 (rkOf c0 x).toNat)).getD 0 prt0)))) k + 1 : Int) = sumN (fun k => b2i (encP (earP (cRl c0) ((mPs (mk c0 k)).getD 0 prt0)) = encP (earP (cRl c0) ((mPs (mk c0 (rkOf c0 x).toNat)).getD 0 prt0)))) (k + 1) from (by rw [sumN_s]; first | (rw [b2i_t (cmpZ_0.mp c_e)]; done) | (rw [b2i_f (fun q => c_e (cmpZ_0.mpr q)), Int.add_zero]; done))))
            exact ih_9 (k + 1) (by omega) (by omega) _ _ _ hR hL (lv_sub hl [2, 3, 1, 0] rfl)
    exact LOOP_9 _ 0 (by omega) (Nat.lt_succ_self _) _ _ _ hR hL (lv_sub hl [2, 3, 1, 0] rfl)
  ·
    have hno1 := b2i_n1.mp c_f
    have hth : t_7.1 0 = 1 := (et_8).trans (if_pos hno1)
    refine h_iconst hx hb dX10_family_13 ?_
    exact h_ireturn hx hb hlk hret hR hL rfl ⟨(by unfold qFam; rw [ans_f (fun q => q hno1)]), ⟨t_7, hT, (TwE.tr (S2 := [0]) (TwE.tr (S2 := [0]) (TwE.rf : TwE [] t t) hE_t_1 rfl rfl) hE_t_7 rfl rfl), (by rw [hth]; unfold qFam; rw [ans_f (fun q => q hno1)])⟩⟩ (by omega) (by omega) rfl rfl dX10_family_14

set_option maxHeartbeats 4000000 in
set_option maxRecDepth 100000 in
/-- cause -/
theorem m_cause (l : Launch) (G : Gl) (w : Wd) (a : Nat) (ad : Nat → Nat) (t : Tw) (hT : TwAt G w a ad t)    : HM l yX10_cause cX10_cause 1 (some .int) 1 0 0 G [.ref a] w (QI G (fun z_ w_ => z_ = t.1 25 ∧ ∃ t_ : Tw, TwS G w w_ a ad t_ ∧ TwE [0] t t_ ∧ t_.1 0 = 0)) := by
  refine HM.mk (by decide +kernel) (Nat.le_of_ble_eq_true rfl) ?_
  intro p9 e9 s9 m9 a9 b9 meth9 c9 ls X hret hlk hnm hl H hR
  have hx := X.1.1
  have hb := X.1.2.1
  have hl : lv_has ls 1 [(0, .ref a)] := hl
  have hL : LK G [] := fun q h => absurd h List.not_mem_nil
  generalize ([] : List Loc) = locs at hL ⊢
  have hTb := hT
  have hT : TwS G w w a ad t := TwS.rf hT
  refine lv_aload_n hx hb dX10_cause_0 rfl (lv_at hl 0 rfl) ?_
  refine h_iconst hx hb dX10_cause_1 ?_
  refine tw_puti X hR hL hT 0 (by decide) q2941 rfl rfl rfl twF_s0 (by omega) dX10_cause_2 (fun t_1 et_2 w_3 hT H locs hR hL => ?_)
  have hE_t_1 := TwE.put et_2
  have hv_t_1 := tput_v et_2
  refine lv_aload_n hx hb dX10_cause_5 rfl (lv_at hl 0 rfl) ?_
  refine tw_get X hR hT 25 (by decide) q2966 (v := .int (iI (t.1 25))) (congrArg (fun z => some (Value.int (iI z))) ((hE_t_1 25 (by decide)).1)) dX10_cause_6 ?_
  have rg_t_25 := hTb.ri 25 (by decide) (by decide)
  exact h_ireturn hx hb hlk hret hR hL rfl ⟨rfl, ⟨t_1, hT, (TwE.tr (S2 := [0]) (TwE.rf : TwE [] t t) hE_t_1 rfl rfl), hv_t_1⟩⟩ (by omega) (by omega) rfl rfl dX10_cause_9

set_option maxHeartbeats 4000000 in
set_option maxRecDepth 100000 in
/-- errorPosition -/
theorem m_errorPosition (l : Launch) (G : Gl) (w : Wd) (a : Nat) (ad : Nat → Nat) (t : Tw) (hT : TwAt G w a ad t)    : HM l yX10_errorPosition cX10_errorPosition 1 (some .int) 1 0 0 G [.ref a] w (QI G (fun z_ w_ => z_ = t.1 22 ∧ ∃ t_ : Tw, TwS G w w_ a ad t_ ∧ TwE [0] t t_ ∧ t_.1 0 = 0)) := by
  refine HM.mk (by decide +kernel) (Nat.le_of_ble_eq_true rfl) ?_
  intro p9 e9 s9 m9 a9 b9 meth9 c9 ls X hret hlk hnm hl H hR
  have hx := X.1.1
  have hb := X.1.2.1
  have hl : lv_has ls 1 [(0, .ref a)] := hl
  have hL : LK G [] := fun q h => absurd h List.not_mem_nil
  generalize ([] : List Loc) = locs at hL ⊢
  have hTb := hT
  have hT : TwS G w w a ad t := TwS.rf hT
  refine lv_aload_n hx hb dX10_errorPosition_0 rfl (lv_at hl 0 rfl) ?_
  refine h_iconst hx hb dX10_errorPosition_1 ?_
  refine tw_puti X hR hL hT 0 (by decide) q2941 rfl rfl rfl twF_s0 (by omega) dX10_errorPosition_2 (fun t_1 et_2 w_3 hT H locs hR hL => ?_)
  have hE_t_1 := TwE.put et_2
  have hv_t_1 := tput_v et_2
  refine lv_aload_n hx hb dX10_errorPosition_5 rfl (lv_at hl 0 rfl) ?_
  refine tw_get X hR hT 22 (by decide) q2963 (v := .int (iI (t.1 22))) (congrArg (fun z => some (Value.int (iI z))) ((hE_t_1 22 (by decide)).1)) dX10_errorPosition_6 ?_
  have rg_t_22 := hTb.ri 22 (by decide) (by decide)
  exact h_ireturn hx hb hlk hret hR hL rfl ⟨rfl, ⟨t_1, hT, (TwE.tr (S2 := [0]) (TwE.rf : TwE [] t t) hE_t_1 rfl rfl), hv_t_1⟩⟩ (by omega) (by omega) rfl rfl dX10_errorPosition_9

set_option maxHeartbeats 4000000 in
set_option maxRecDepth 100000 in
/-- undoCount -/
theorem m_undoCount (l : Launch) (G : Gl) (w : Wd) (a : Nat) (ad : Nat → Nat) (t : Tw) (hT : TwAt G w a ad t)    : HM l yX10_undoCount cX10_undoCount 1 (some .int) 1 0 0 G [.ref a] w (QI G (fun z_ w_ => z_ = t.1 12 ∧ ∃ t_ : Tw, TwS G w w_ a ad t_ ∧ TwE [0] t t_ ∧ t_.1 0 = 0)) := by
  refine HM.mk (by decide +kernel) (Nat.le_of_ble_eq_true rfl) ?_
  intro p9 e9 s9 m9 a9 b9 meth9 c9 ls X hret hlk hnm hl H hR
  have hx := X.1.1
  have hb := X.1.2.1
  have hl : lv_has ls 1 [(0, .ref a)] := hl
  have hL : LK G [] := fun q h => absurd h List.not_mem_nil
  generalize ([] : List Loc) = locs at hL ⊢
  have hTb := hT
  have hT : TwS G w w a ad t := TwS.rf hT
  refine lv_aload_n hx hb dX10_undoCount_0 rfl (lv_at hl 0 rfl) ?_
  refine h_iconst hx hb dX10_undoCount_1 ?_
  refine tw_puti X hR hL hT 0 (by decide) q2941 rfl rfl rfl twF_s0 (by omega) dX10_undoCount_2 (fun t_1 et_2 w_3 hT H locs hR hL => ?_)
  have hE_t_1 := TwE.put et_2
  have hv_t_1 := tput_v et_2
  refine lv_aload_n hx hb dX10_undoCount_5 rfl (lv_at hl 0 rfl) ?_
  refine tw_get X hR hT 12 (by decide) q2953 (v := .int (iI (t.1 12))) (congrArg (fun z => some (Value.int (iI z))) ((hE_t_1 12 (by decide)).1)) dX10_undoCount_6 ?_
  have rg_t_12 := hTb.ri 12 (by decide) (by decide)
  exact h_ireturn hx hb hlk hret hR hL rfl ⟨rfl, ⟨t_1, hT, (TwE.tr (S2 := [0]) (TwE.rf : TwE [] t t) hE_t_1 rfl rfl), hv_t_1⟩⟩ (by omega) (by omega) rfl rfl dX10_undoCount_9
