/-! the twin: measures -/
set_option maxRecDepth 100000


set_option maxHeartbeats 4000000 in
set_option maxRecDepth 100000 in
/-- filled -/
theorem m_filled (l : Launch) (G : Gl) (w : Wd) (a : Nat) (ad : Nat → Nat) (t : Tw) (hT : TwAt G w a ad t) (x : Int) (c0 : Cat) (hC : RowIs (t.2 3) c0) (hx_x : R32 x) : HM l yX10_filled cX10_filled 2 (some .float) 6 0 0 G [.ref a, .int (iI (x))] w (QF G (fun z_ w_ => z_ = qFil c0 x ∧ ∃ t_ : Tw, TwS G w w_ a ad t_ ∧ TwE [0] t t_ ∧ t_.1 0 = (if 0 ≤ x ∧ x < cSh c0 then 0 else 1))) := by
  refine HM.mk (by decide +kernel) (Nat.le_of_ble_eq_true rfl) ?_
  intro p9 e9 s9 m9 a9 b9 meth9 c9 ls X hret hlk hnm hl H hR
  have hx := X.1.1
  have hb := X.1.2.1
  have hl : lv_has ls 2 [(0, .ref a), (1, .int (iI (x)))] := hl
  have hL : LK G [] := fun q h => absurd h List.not_mem_nil
  generalize ([] : List Loc) = locs at hL ⊢
  have hTb := hT
  have hT : TwS G w w a ad t := TwS.rf hT
  have hn40 := hC.n40
  have hsh8 := hC.sh8
  have hrm := hC.s.2.1
  refine lv_aload_n hx hb dX10_filled_0 rfl (lv_at hl 0 rfl) ?_
  refine h_iconst hx hb dX10_filled_1 ?_
  refine tw_puti X hR hL hT 0 (by decide) q2941 rfl rfl rfl twF_s0 (by omega) dX10_filled_2 (fun t_1 et_2 w_3 hT H locs hR hL => ?_)
  have hE_t_1 := TwE.put et_2
  have hv_t_1 := tput_v et_2
  refine lv_aload_n hx hb dX10_filled_5 rfl (lv_at hl 0 rfl) ?_
  refine lv_iload_n hx hb dX10_filled_6 rfl (lv_at hl 1 rfl) ?_
  -- call SpokenMarksModel.noShelf
  refine h_kI (h_runV X hR (m_noShelf l G w_3 a ad t_1 hT.1 x c0 (by rw [(hE_t_1 3 (by decide)).2]; exact hC) hx_x hv_t_1) pn_yX10_noShelf (hasC.of hT.1.ob rfl) q3145 q3147 qs93 q161 q3148 ⟨by decide, by decide⟩ hl.1 (Nat.le_of_ble_eq_true rfl) dX10_filled_7 ⟨by omega, by omega⟩) hL (fun z_4 w_5 hp_6 H locs hR hL => ?_)
  obtain ⟨rfl, t_7, hT2, hE_t_7, et_8⟩ := hp_6
  have hT := hT.tr hT2
  clear hT2
  refine h_if_eq hx hb 17 dX10_filled_10 (by decide) (b2i_R _) (fun c_g => ?_) (fun c_g => ?_)
  ·
    have hok1 := Decidable.not_not.mp (b2i_0.mp c_g)
    have hth : t_7.1 0 = 0 := (et_8).trans (if_pos hok1)
    refine lv_aload_n hx hb dX10_filled_17 rfl (lv_at hl 0 rfl) ?_
    refine lv_iload_n hx hb dX10_filled_18 rfl (lv_at hl 1 rfl) ?_
    -- call SpokenMarksModel.widthOn
    refine h_kIp (h_runV X hR (m_widthOn l G w_5 a ad t_7 hT.1 x c0 (by rw [((hE_t_7 3 (by decide)).2).trans (hE_t_1 3 (by decide)).2]; exact hC) ⟨by omega, by omega⟩) pn_yX10_widthOn (hasC.of hT.1.ob rfl) q3064 q3066 qs80 q161 q3067 ⟨by decide, by decide⟩ hl.1 (Nat.le_of_ble_eq_true rfl) dX10_filled_19 ⟨by omega, by omega⟩) hL (fun H locs hR hL => ?_)
    refine lv_i2f hx hb dX10_filled_22 ?_
    refine lv_aload_n hx hb dX10_filled_23 rfl (lv_at hl 0 rfl) ?_
    refine h_iconst hx hb dX10_filled_24 ?_
    -- call SpokenMarksModel.head
    refine h_kIp (h_runV X hR (m_head l G w_5 a ad t_7 hT.1 1 (by omega)) pn_yX10_head (hasC.of hT.1.ob rfl) q2789 q2791 qs44 q161 q2792 ⟨by decide, by decide⟩ hl.1 (Nat.le_of_ble_eq_true rfl) dX10_filled_25 ⟨by omega, by omega⟩) hL (fun H locs hR hL => ?_)
    refine W.eq (g2 := F0 m9 28 ls [.int (iI (cRm c0)), .float (FP.i2f (iI (wdOn c0 x)))]) (congrArg (fun z_ : Int => F0 m9 28 ls [.int (iI (z_)), .float (FP.i2f (iI (wdOn c0 x)))]) (show (hd t_7 1 : Int) = cRm c0 from (by exact ((congrFun (((hE_t_7 3 (by decide)).2).trans (hE_t_1 3 (by decide)).2) 1).trans hC.rm)))) ?_
    refine lv_i2f hx hb dX10_filled_28 ?_
    refine lv_fdiv hx hb dX10_filled_29 (by have h1_ := wdOn_r hC.s x; exact fdiv_nn ⟨by omega, by omega⟩ ⟨by omega, by omega⟩ (by omega)) ?_
    exact h_freturn hx hb hlk hret hR hL ⟨(by rw [qFil, if_pos hok1]), ⟨t_7, hT, (TwE.tr (S2 := [0]) (TwE.tr (S2 := [0]) (TwE.rf : TwE [] t t) hE_t_1 rfl rfl) hE_t_7 rfl rfl), (by rw [if_pos hok1]; exact hth)⟩⟩ (by omega) (by omega) rfl rfl dX10_filled_30
  ·
    have hno1 := b2i_n1.mp c_g
    have hth : t_7.1 0 = 1 := (et_8).trans (if_neg hno1)
    refine lv_fconst0 hx hb dX10_filled_13 ?_
    refine lv_goto (tgt := 30) hx hb dX10_filled_14 (by decide) ?_
    exact h_freturn hx hb hlk hret hR hL ⟨(by rw [qFil, if_neg hno1]), ⟨t_7, hT, (TwE.tr (S2 := [0]) (TwE.tr (S2 := [0]) (TwE.rf : TwE [] t t) hE_t_1 rfl rfl) hE_t_7 rfl rfl), (by rw [hth, if_neg hno1])⟩⟩ (by omega) (by omega) rfl rfl dX10_filled_30

set_option maxHeartbeats 4000000 in
set_option maxRecDepth 100000 in
/-- meanMoves -/
theorem m_meanMoves (l : Launch) (G : Gl) (w : Wd) (a : Nat) (ad : Nat → Nat) (t : Tw) (hT : TwAt G w a ad t)  (c0 : Cat) (hC : RowIs (t.2 3) c0) : HM l yX10_meanMoves cX10_meanMoves 1 (some .double) 3 0 0 G [.ref a] w (QD G (fun z_ w_ => z_ = qMea c0 ∧ ∃ t_ : Tw, TwS G w w_ a ad t_ ∧ TwE [0] t t_ ∧ t_.1 0 = 0)) := by
  refine HM.mk (by decide +kernel) (Nat.le_of_ble_eq_true rfl) ?_
  intro p9 e9 s9 m9 a9 b9 meth9 c9 ls X hret hlk hnm hl H hR
  have hx := X.1.1
  have hb := X.1.2.1
  have hl : lv_has ls 1 [(0, .ref a)] := hl
  have hL : LK G [] := fun q h => absurd h List.not_mem_nil
  generalize ([] : List Loc) = locs at hL ⊢
  have hTb := hT
  have hT : TwS G w w a ad t := TwS.rf hT
  have hn40 := hC.n40
  have hsh8 := hC.sh8
  have ha0 := hC.s.2.2.2.2.2.1 0 (by omega)
  have ha2 := hC.s.2.2.2.2.2.1 2 (by omega)
  refine lv_aload_n hx hb dX10_meanMoves_0 rfl (lv_at hl 0 rfl) ?_
  refine h_iconst hx hb dX10_meanMoves_1 ?_
  refine tw_puti X hR hL hT 0 (by decide) q2941 rfl rfl rfl twF_s0 (by omega) dX10_meanMoves_2 (fun t_1 et_2 w_3 hT H locs hR hL => ?_)
  have hE_t_1 := TwE.put et_2
  have hv_t_1 := tput_v et_2
  refine lv_aload_n hx hb dX10_meanMoves_5 rfl (lv_at hl 0 rfl) ?_
  refine tw_get X hR hT 3 (by decide) q2944 rfl dX10_meanMoves_6 ?_
  refine h_iconst hx hb dX10_meanMoves_9 ?_
  refine tw_lald X hR hT (k := 3) (by decide) 5 (by omega) (by show _ < _; simp only [twN]; omega) (v := cAc c0 0) ((congrFun ((hE_t_1 3 (by decide)).2) 5).trans (hC.ac 0 (by omega))) dX10_meanMoves_10 (fun ra_10 => ?_)
  refine h_lconst hx hb 0 dX10_meanMoves_11 rfl ?_
  refine h_lcmp hx hb dX10_meanMoves_12 (by omega) (by omega) ?_
  refine h_if_ne hx hb 20 dX10_meanMoves_13 (by decide) (by have := cmpZ_r (cAc c0 0) 0; exact ⟨by omega, by omega⟩) (fun c_z => ?_) (fun c_z => ?_)
  ·
    have c_0 : ¬ cAc c0 0 = 0 := fun q => c_z (cmpZ_0.mpr q)
    refine lv_aload_n hx hb dX10_meanMoves_20 rfl (lv_at hl 0 rfl) ?_
    refine h_bipush hx hb dX10_meanMoves_21 (by decide) ?_
    -- call SpokenMarksModel.head
    refine h_kIp (h_runV X hR (m_head l G w_3 a ad t_1 hT.1 7 (by omega)) pn_yX10_head (hasC.of hT.1.ob rfl) q2789 q2791 qs44 q161 q2792 ⟨by decide, by decide⟩ hl.1 (Nat.le_of_ble_eq_true rfl) dX10_meanMoves_23 ⟨by omega, by omega⟩) hL (fun H locs hR hL => ?_)
    refine W.eq (g2 := F0 m9 26 ls [.int (iI (cAc c0 2))]) (congrArg (fun z_ : Int => F0 m9 26 ls [.int (iI (z_))]) (show (hd t_1 7 : Int) = cAc c0 2 from (by exact ((congrFun ((hE_t_1 3 (by decide)).2) 7).trans (hC.ac 2 (by omega)))))) ?_
    refine lv_i2d hx hb dX10_meanMoves_26 ?_
    refine lv_aload_n hx hb dX10_meanMoves_27 rfl (lv_at hl 0 rfl) ?_
    refine h_iconst hx hb dX10_meanMoves_28 ?_
    -- call SpokenMarksModel.head
    refine h_kIp (h_runV X hR (m_head l G w_3 a ad t_1 hT.1 5 (by omega)) pn_yX10_head (hasC.of hT.1.ob rfl) q2789 q2791 qs44 q161 q2792 ⟨by decide, by decide⟩ hl.1 (Nat.le_of_ble_eq_true rfl) dX10_meanMoves_29 ⟨by omega, by omega⟩) hL (fun H locs hR hL => ?_)
    refine W.eq (g2 := F0 m9 32 ls [.int (iI (cAc c0 0)), .double (FP.i2d (iI (cAc c0 2)))]) (congrArg (fun z_ : Int => F0 m9 32 ls [.int (iI (z_)), .double (FP.i2d (iI (cAc c0 2)))]) (show (hd t_1 5 : Int) = cAc c0 0 from (by exact ((congrFun ((hE_t_1 3 (by decide)).2) 5).trans (hC.ac 0 (by omega)))))) ?_
    refine lv_i2d hx hb dX10_meanMoves_32 ?_
    refine lv_ddiv hx hb dX10_meanMoves_33 (ddiv_nn ⟨by omega, by omega⟩ ⟨by omega, by omega⟩ c_0) ?_
    exact h_dreturn hx hb hlk hret hR hL ⟨(by rw [qMea, if_neg c_0]), ⟨t_1, hT, (TwE.tr (S2 := [0]) (TwE.rf : TwE [] t t) hE_t_1 rfl rfl), hv_t_1⟩⟩ (by omega) (by omega) rfl rfl dX10_meanMoves_34
  ·
    have c_0 := cmpZ_0.mp c_z
    refine lv_dconst0 hx hb dX10_meanMoves_16 ?_
    refine lv_goto (tgt := 34) hx hb dX10_meanMoves_17 (by decide) ?_
    exact h_dreturn hx hb hlk hret hR hL ⟨(by rw [qMea, if_pos c_0]), ⟨t_1, hT, (TwE.tr (S2 := [0]) (TwE.rf : TwE [] t t) hE_t_1 rfl rfl), hv_t_1⟩⟩ (by omega) (by omega) rfl rfl dX10_meanMoves_34
