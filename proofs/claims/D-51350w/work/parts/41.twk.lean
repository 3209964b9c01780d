/-! the twin: drop, unsay, setWidth, setBound, balance, respace, undo, snapshots -/
set_option maxRecDepth 100000
def opA (s : Sys) (k x y : Int) : Int × Int × Sys := (0, (doA (sC s) k x y).2, opS s (doA (sC s) k x y))
def oDrp (s : Sys) (x : Int) : Int × Int × Sys := if rkOf (sC s) x = -1 then (1, 0, s) else opA s 3 x 0
def oUns (s : Sys) (x : Int) : Int × Int × Sys := if 0 ≤ x ∧ x < ((cRl (sC s)).length : Int) then opA s 2 x 0 else (1, 0, s)
def oWid (s : Sys) (x y : Int) : Int × Int × Sys := if rkOf (sC s) x = -1 then (1, 0, s) else if 1 ≤ y ∧ y ≤ 20 then opA s 4 x y else (2, 0, s)
def oBnd (s : Sys) (x y : Int) : Int × Int × Sys := if 0 ≤ x ∧ x < cSh (sC s) then (if 0 ≤ y ∧ y ≤ 10000 then opA s 5 x y else (2, 0, s)) else (1, 0, s)
/-- one step back: what is left, or -1 -/
def undA (s : Sys) : Int × Sys := if sU s = [] then (-1, s) else (((sU s).length : Int) - 1, (uG (sU s) ((sU s).length - 1), (sU s).take ((sU s).length - 1), sD s, sR s))
theorem UnIs.pop {n n2 : Int} {f g : Nat → Int} {U : List Cat} (h : UnIs n f U) (h0 : 0 < U.length) (hn : n2 = n - 1) (hg : ∀ i, g i = f i) : UnIs n2 g (U.take (U.length - 1)) := by
  have hl : (U.take (U.length - 1)).length = U.length - 1 := by rw [List.length_take]; omega
  refine ⟨by have := h.1; omega, by rw [hn, h.2.1, hl]; omega, fun k hk => ?_⟩
  rw [hl] at hk
  have e : uG (U.take (U.length - 1)) k = uG U k := by unfold uG; rw [List.getD_eq_getElem?_getD, List.getElem?_take, if_pos hk, ← List.getD_eq_getElem?_getD]
  rw [e]
  exact (h.2.2 k (by omega)).mv606 (fun i _ => hg _)

theorem pn_yX10_operates : ParN yX10_operates 3 := by decide +kernel

set_option maxHeartbeats 4000000 in
set_option maxRecDepth 100000 in
/-- drop -/
theorem m_drop (l : Launch) (G : Gl) (w : Wd) (a : Nat) (ad : Nat → Nat) (t : Tw) (hT : TwAt G w a ad t) (x : Int) (s : Sys) (hS : SysIs t s) (hx_x : R32 x) (hW : OpW s) : HM l yX10_drop cX10_drop 2 (some .int) 10 0 0 G [.ref a, .int (iI (x))] w (QI G (fun z_ w_ => z_ = (oDrp s x).2.1 ∧ ∃ t_ : Tw, TwS G w w_ a ad t_ ∧ TwE [0, 1, 2, 3, 5, 8, 9, 10, 12] t t_ ∧ t_.1 0 = (oDrp s x).1 ∧ SysIs t_ (oDrp s x).2.2)) := by
  refine HM.mk (by decide +kernel) (Nat.le_of_ble_eq_true rfl) ?_
  intro p9 e9 s9 m9 a9 b9 meth9 c9 ls X hret hlk hnm hl H hR
  have hx := X.1.1
  have hb := X.1.2.1
  have hl : lv_has ls 2 [(0, .ref a), (1, .int (iI (x)))] := hl
  have hL : LK G [] := fun q h => absurd h List.not_mem_nil
  generalize ([] : List Loc) = locs at hL ⊢
  have hTb := hT
  have hT : TwS G w w a ad t := TwS.rf hT
  refine lv_aload_n hx hb dX10_drop_0 rfl (lv_at hl 0 rfl) ?_
  refine h_iconst hx hb dX10_drop_1 ?_
  refine tw_puti X hR hL hT 0 (by decide) q2941 rfl rfl rfl twF_s0 (by omega) dX10_drop_2 (fun t_1 et_2 w_3 hT H locs hR hL => ?_)
  have hE_t_1 := TwE.put et_2
  have hv_t_1 := tput_v et_2
  refine lv_aload_n hx hb dX10_drop_5 rfl (lv_at hl 0 rfl) ?_
  refine lv_iload_n hx hb dX10_drop_6 rfl (lv_at hl 1 rfl) ?_
  -- call SpokenMarksModel.noMark
  refine h_kI (h_runV X hR (m_noMark l G w_3 a ad t_1 hT.1 x (sC s) (by rw [(hE_t_1 3 (by decide)).2]; exact hS.C) hx_x hv_t_1) pn_yX10_noMark (hasC.of hT.1.ob rfl) q3097 q3099 qs85 q161 q3100 ⟨by decide, by decide⟩ hl.1 (Nat.le_of_ble_eq_true rfl) dX10_drop_7 ⟨by omega, by omega⟩) hL (fun z_4 w_5 hp_6 H locs hR hL => ?_)
  obtain ⟨rfl, t_7, hT2, hE_t_7, et_8⟩ := hp_6
  have hT := hT.tr hT2
  clear hT2
  refine h_if_eq hx hb 17 dX10_drop_10 (by decide) (b2i_R _) (fun c_g => ?_) (fun c_g => ?_)
  ·
    have hok1 := b2i_0.mp c_g
    have hth : t_7.1 0 = 0 := (et_8).trans (if_neg hok1)
    refine lv_aload_n hx hb dX10_drop_17 rfl (lv_at hl 0 rfl) ?_
    refine h_iconst hx hb dX10_drop_18 ?_
    refine lv_iload_n hx hb dX10_drop_19 rfl (lv_at hl 1 rfl) ?_
    refine h_iconst hx hb dX10_drop_20 ?_
    -- call SpokenMarksModel.operates
    refine h_kI (h_runV X hR (m_operates l G w_5 a ad t_7 hT.1 3 x 0 s (hS.mv (TwE.tr (S2 := [0]) (TwE.tr (S2 := [0]) (TwE.rf : TwE [] t t) hE_t_1 rfl rfl) hE_t_7 rfl rfl) (by decide) (by decide) (by decide) (by decide) (by decide)) ⟨by decide, by decide⟩ hx_x ⟨by decide, by decide⟩ (fun q => by omega) (fun q => by omega) hW) pn_yX10_operates (hasC.of hT.1.ob rfl) q3254 q3256 qs104 q161 q3257 ⟨by decide, by decide⟩ hl.1 (Nat.le_of_ble_eq_true rfl) dX10_drop_21 ⟨by omega, by omega⟩) hL (fun z_9 w_10 hp_11 H locs hR hL => ?_)
    obtain ⟨rfl, t_12, hT2, hE_t_12, et_13⟩ := hp_11
    have hT := hT.tr hT2
    clear hT2
    have hth0 : t_12.1 0 = 0 := ((hE_t_12 0 (by decide)).1).trans hth
    exact h_ireturn hx hb hlk hret hR hL rfl ⟨(by unfold oDrp; rw [if_neg hok1]; rfl), ⟨t_12, hT, (TwE.tr (S2 := [0, 1, 2, 3, 5, 8, 9, 10, 12]) (TwE.tr (S2 := [0, 1, 2, 3, 5, 8, 9, 10, 12]) (TwE.tr (S2 := [0, 1, 2, 3, 5, 8, 9, 10, 12]) (TwE.rf : TwE [] t t) hE_t_1 rfl rfl) hE_t_7 rfl rfl) hE_t_12 rfl rfl), ⟨by rw [hth0]; unfold oDrp; rw [if_neg hok1]; rfl, by unfold oDrp; rw [if_neg hok1]; exact et_13⟩⟩⟩ (by omega) (by omega) rfl rfl dX10_drop_24
  ·
    have hno1 := b2i_n1.mp c_g
    have hth : t_7.1 0 = 1 := (et_8).trans (if_pos hno1)
    refine h_iconst hx hb dX10_drop_13 ?_
    refine lv_goto (tgt := 24) hx hb dX10_drop_14 (by decide) ?_
    exact h_ireturn hx hb hlk hret hR hL rfl ⟨(by unfold oDrp; rw [if_pos hno1]), ⟨t_7, hT, (TwE.tr (S2 := [0, 1, 2, 3, 5, 8, 9, 10, 12]) (TwE.tr (S2 := [0, 1, 2, 3, 5, 8, 9, 10, 12]) (TwE.rf : TwE [] t t) hE_t_1 rfl rfl) hE_t_7 rfl rfl), ⟨by rw [hth]; unfold oDrp; rw [if_pos hno1], by unfold oDrp; rw [if_pos hno1]; exact (hS.mv (TwE.tr (S2 := [0]) (TwE.tr (S2 := [0]) (TwE.rf : TwE [] t t) hE_t_1 rfl rfl) hE_t_7 rfl rfl) (by decide) (by decide) (by decide) (by decide) (by decide))⟩⟩⟩ (by omega) (by omega) rfl rfl dX10_drop_24

set_option maxHeartbeats 4000000 in
set_option maxRecDepth 100000 in
/-- unsay -/
theorem m_unsay (l : Launch) (G : Gl) (w : Wd) (a : Nat) (ad : Nat → Nat) (t : Tw) (hT : TwAt G w a ad t) (x : Int) (s : Sys) (hS : SysIs t s) (hx_x : R32 x) (hW : OpW s) : HM l yX10_unsay cX10_unsay 2 (some .int) 10 0 0 G [.ref a, .int (iI (x))] w (QI G (fun z_ w_ => z_ = (oUns s x).2.1 ∧ ∃ t_ : Tw, TwS G w w_ a ad t_ ∧ TwE [0, 1, 2, 3, 5, 8, 9, 10, 12] t t_ ∧ t_.1 0 = (oUns s x).1 ∧ SysIs t_ (oUns s x).2.2)) := by
  refine HM.mk (by decide +kernel) (Nat.le_of_ble_eq_true rfl) ?_
  intro p9 e9 s9 m9 a9 b9 meth9 c9 ls X hret hlk hnm hl H hR
  have hx := X.1.1
  have hb := X.1.2.1
  have hl : lv_has ls 2 [(0, .ref a), (1, .int (iI (x)))] := hl
  have hL : LK G [] := fun q h => absurd h List.not_mem_nil
  generalize ([] : List Loc) = locs at hL ⊢
  have hTb := hT
  have hT : TwS G w w a ad t := TwS.rf hT
  refine lv_aload_n hx hb dX10_unsay_0 rfl (lv_at hl 0 rfl) ?_
  refine h_iconst hx hb dX10_unsay_1 ?_
  refine tw_puti X hR hL hT 0 (by decide) q2941 rfl rfl rfl twF_s0 (by omega) dX10_unsay_2 (fun t_1 et_2 w_3 hT H locs hR hL => ?_)
  have hE_t_1 := TwE.put et_2
  have hv_t_1 := tput_v et_2
  refine lv_aload_n hx hb dX10_unsay_5 rfl (lv_at hl 0 rfl) ?_
  refine lv_iload_n hx hb dX10_unsay_6 rfl (lv_at hl 1 rfl) ?_
  -- call SpokenMarksModel.noRule
  refine h_kI (h_runV X hR (m_noRule l G w_3 a ad t_1 hT.1 x (sC s) (by rw [(hE_t_1 3 (by decide)).2]; exact hS.C) hx_x hv_t_1) pn_yX10_noRule (hasC.of hT.1.ob rfl) q3137 q3139 qs92 q161 q3140 ⟨by decide, by decide⟩ hl.1 (Nat.le_of_ble_eq_true rfl) dX10_unsay_7 ⟨by omega, by omega⟩) hL (fun z_4 w_5 hp_6 H locs hR hL => ?_)
  obtain ⟨rfl, t_7, hT2, hE_t_7, et_8⟩ := hp_6
  have hT := hT.tr hT2
  clear hT2
  refine h_if_eq hx hb 17 dX10_unsay_10 (by decide) (b2i_R _) (fun c_g => ?_) (fun c_g => ?_)
  ·
    have hok1 := Decidable.not_not.mp (b2i_0.mp c_g)
    have hth : t_7.1 0 = 0 := (et_8).trans (if_pos hok1)
    refine lv_aload_n hx hb dX10_unsay_17 rfl (lv_at hl 0 rfl) ?_
    refine h_iconst hx hb dX10_unsay_18 ?_
    refine lv_iload_n hx hb dX10_unsay_19 rfl (lv_at hl 1 rfl) ?_
    refine h_iconst hx hb dX10_unsay_20 ?_
    -- call SpokenMarksModel.operates
    refine h_kI (h_runV X hR (m_operates l G w_5 a ad t_7 hT.1 2 x 0 s (hS.mv (TwE.tr (S2 := [0]) (TwE.tr (S2 := [0]) (TwE.rf : TwE [] t t) hE_t_1 rfl rfl) hE_t_7 rfl rfl) (by decide) (by decide) (by decide) (by decide) (by decide)) ⟨by decide, by decide⟩ hx_x ⟨by decide, by decide⟩ (fun q => hok1.1) (fun q => by omega) hW) pn_yX10_operates (hasC.of hT.1.ob rfl) q3254 q3256 qs104 q161 q3257 ⟨by decide, by decide⟩ hl.1 (Nat.le_of_ble_eq_true rfl) dX10_unsay_21 ⟨by omega, by omega⟩) hL (fun z_9 w_10 hp_11 H locs hR hL => ?_)
    obtain ⟨rfl, t_12, hT2, hE_t_12, et_13⟩ := hp_11
    have hT := hT.tr hT2
    clear hT2
    have hth0 : t_12.1 0 = 0 := ((hE_t_12 0 (by decide)).1).trans hth
    exact h_ireturn hx hb hlk hret hR hL rfl ⟨(by unfold oUns; rw [if_pos hok1]; rfl), ⟨t_12, hT, (TwE.tr (S2 := [0, 1, 2, 3, 5, 8, 9, 10, 12]) (TwE.tr (S2 := [0, 1, 2, 3, 5, 8, 9, 10, 12]) (TwE.tr (S2 := [0, 1, 2, 3, 5, 8, 9, 10, 12]) (TwE.rf : TwE [] t t) hE_t_1 rfl rfl) hE_t_7 rfl rfl) hE_t_12 rfl rfl), ⟨by rw [hth0]; unfold oUns; rw [if_pos hok1]; rfl, by unfold oUns; rw [if_pos hok1]; exact et_13⟩⟩⟩ (by omega) (by omega) rfl rfl dX10_unsay_24
  ·
    have hno1 := b2i_n1.mp c_g
    have hth : t_7.1 0 = 1 := (et_8).trans (if_neg hno1)
    refine h_iconst hx hb dX10_unsay_13 ?_
    refine lv_goto (tgt := 24) hx hb dX10_unsay_14 (by decide) ?_
    exact h_ireturn hx hb hlk hret hR hL rfl ⟨(by unfold oUns; rw [if_neg hno1]), ⟨t_7, hT, (TwE.tr (S2 := [0, 1, 2, 3, 5, 8, 9, 10, 12]) (TwE.tr (S2 := [0, 1, 2, 3, 5, 8, 9, 10, 12]) (TwE.rf : TwE [] t t) hE_t_1 rfl rfl) hE_t_7 rfl rfl), ⟨by rw [hth]; unfold oUns; rw [if_neg hno1], by unfold oUns; rw [if_neg hno1]; exact (hS.mv (TwE.tr (S2 := [0]) (TwE.tr (S2 := [0]) (TwE.rf : TwE [] t t) hE_t_1 rfl rfl) hE_t_7 rfl rfl) (by decide) (by decide) (by decide) (by decide) (by decide))⟩⟩⟩ (by omega) (by omega) rfl rfl dX10_unsay_24

set_option maxHeartbeats 4000000 in
set_option maxRecDepth 100000 in
/-- setWidth -/
theorem m_setWidth (l : Launch) (G : Gl) (w : Wd) (a : Nat) (ad : Nat → Nat) (t : Tw) (hT : TwAt G w a ad t) (x : Int) (y : Int) (s : Sys) (hS : SysIs t s) (hx_x : R32 x) (hx_y : R32 y) (hW : OpW s) : HM l yX10_setWidth cX10_setWidth 3 (some .int) 10 0 0 G [.ref a, .int (iI (x)), .int (iI (y))] w (QI G (fun z_ w_ => z_ = (oWid s x y).2.1 ∧ ∃ t_ : Tw, TwS G w w_ a ad t_ ∧ TwE [0, 1, 2, 3, 5, 8, 9, 10, 12] t t_ ∧ t_.1 0 = (oWid s x y).1 ∧ SysIs t_ (oWid s x y).2.2)) := by
  refine HM.mk (by decide +kernel) (Nat.le_of_ble_eq_true rfl) ?_
  intro p9 e9 s9 m9 a9 b9 meth9 c9 ls X hret hlk hnm hl H hR
  have hx := X.1.1
  have hb := X.1.2.1
  have hl : lv_has ls 3 [(0, .ref a), (1, .int (iI (x))), (2, .int (iI (y)))] := hl
  have hL : LK G [] := fun q h => absurd h List.not_mem_nil
  generalize ([] : List Loc) = locs at hL ⊢
  have hTb := hT
  have hT : TwS G w w a ad t := TwS.rf hT
  refine lv_aload_n hx hb dX10_setWidth_0 rfl (lv_at hl 0 rfl) ?_
  refine h_iconst hx hb dX10_setWidth_1 ?_
  refine tw_puti X hR hL hT 0 (by decide) q2941 rfl rfl rfl twF_s0 (by omega) dX10_setWidth_2 (fun t_1 et_2 w_3 hT H locs hR hL => ?_)
  have hE_t_1 := TwE.put et_2
  have hv_t_1 := tput_v et_2
  refine lv_aload_n hx hb dX10_setWidth_5 rfl (lv_at hl 0 rfl) ?_
  refine lv_iload_n hx hb dX10_setWidth_6 rfl (lv_at hl 1 rfl) ?_
  -- call SpokenMarksModel.noMark
  refine h_kI (h_runV X hR (m_noMark l G w_3 a ad t_1 hT.1 x (sC s) (by rw [(hE_t_1 3 (by decide)).2]; exact hS.C) hx_x hv_t_1) pn_yX10_noMark (hasC.of hT.1.ob rfl) q3097 q3099 qs85 q161 q3100 ⟨by decide, by decide⟩ hl.1 (Nat.le_of_ble_eq_true rfl) dX10_setWidth_7 ⟨by omega, by omega⟩) hL (fun z_4 w_5 hp_6 H locs hR hL => ?_)
  obtain ⟨rfl, t_7, hT2, hE_t_7, et_8⟩ := hp_6
  have hT := hT.tr hT2
  clear hT2
  refine h_if_ne hx hb 30 dX10_setWidth_10 (by decide) (b2i_R _) (fun c_g => ?_) (fun c_g => ?_)
  ·
    have hno1 := b2i_n1.mp c_g
    have hth : t_7.1 0 = 1 := (et_8).trans (if_pos hno1)
    refine h_iconst hx hb dX10_setWidth_30 ?_
    refine lv_goto (tgt := 41) hx hb dX10_setWidth_31 (by decide) ?_
    exact h_ireturn hx hb hlk hret hR hL rfl ⟨(by unfold oWid; rw [if_pos hno1]), ⟨t_7, hT, (TwE.tr (S2 := [0, 1, 2, 3, 5, 8, 9, 10, 12]) (TwE.tr (S2 := [0, 1, 2, 3, 5, 8, 9, 10, 12]) (TwE.rf : TwE [] t t) hE_t_1 rfl rfl) hE_t_7 rfl rfl), ⟨by rw [hth]; unfold oWid; rw [if_pos hno1], by unfold oWid; rw [if_pos hno1]; exact (hS.mv (TwE.tr (S2 := [0]) (TwE.tr (S2 := [0]) (TwE.rf : TwE [] t t) hE_t_1 rfl rfl) hE_t_7 rfl rfl) (by decide) (by decide) (by decide) (by decide) (by decide))⟩⟩⟩ (by omega) (by omega) rfl rfl dX10_setWidth_41
  ·
    have hok1 := b2i_0.mp c_g
    have hth : t_7.1 0 = 0 := (et_8).trans (if_neg hok1)
    refine lv_aload_n hx hb dX10_setWidth_13 rfl (lv_at hl 0 rfl) ?_
    refine lv_iload_n hx hb dX10_setWidth_14 rfl (lv_at hl 2 rfl) ?_
    refine h_i2l hx hb dX10_setWidth_15 (by omega) ?_
    refine h_lconst hx hb 1 dX10_setWidth_16 rfl ?_
    refine lv_ldc2 (v := lI (20)) hx hb X.1.2.2.2.1 (X.1.2.2.2.2 _ q3237) dX10_setWidth_17 ?_
    -- call SpokenMarksModel.in
    refine h_kIp (h_runS X hR (m_in l G w_5  y 1 20 (by omega) (by omega) (by omega)) pn_yX10_in q2730 q2731 q161 q2732 ⟨by decide, by decide⟩ hl.1 (Nat.le_of_ble_eq_true rfl) dX10_setWidth_20 ⟨by omega, by omega⟩) hL (fun H locs hR hL => ?_)
    refine h_iconst hx hb dX10_setWidth_23 ?_
    -- call SpokenMarksModel.fails
    refine h_kI (h_runV X hR (m_fails l G w_5 a ad t_7 hT.1 (b2i (1 ≤ y ∧ y ≤ 20)) 2 (b2i_R _) ⟨by decide, by decide⟩ hth) pn_yX10_fails (hasC.of hT.1.ob rfl) q2733 q2735 qs33 q161 q2736 ⟨by decide, by decide⟩ hl.1 (Nat.le_of_ble_eq_true rfl) dX10_setWidth_24 ⟨by omega, by omega⟩) hL (fun z_12 w_13 hp_14 H locs hR hL => ?_)
    obtain ⟨rfl, t_15, hT2, hE_t_15, et_16⟩ := hp_14
    have hT := hT.tr hT2
    clear hT2
    refine h_if_eq hx hb 34 dX10_setWidth_27 (by decide) (b2i_R _) (fun c_f => ?_) (fun c_f => ?_)
    ·
      have hok := b2i_n1.mp (b2i_0.mp c_f)
      have hth : t_15.1 0 = 0 := (et_16).trans (if_neg (b2i_0.mp c_f))
      refine lv_aload_n hx hb dX10_setWidth_34 rfl (lv_at hl 0 rfl) ?_
      refine h_iconst hx hb dX10_setWidth_35 ?_
      refine lv_iload_n hx hb dX10_setWidth_36 rfl (lv_at hl 1 rfl) ?_
      refine lv_iload_n hx hb dX10_setWidth_37 rfl (lv_at hl 2 rfl) ?_
      -- call SpokenMarksModel.operates
      refine h_kI (h_runV X hR (m_operates l G w_13 a ad t_15 hT.1 4 x y s (hS.mv (TwE.tr (S2 := [0]) (TwE.tr (S2 := [0]) (TwE.tr (S2 := [0]) (TwE.rf : TwE [] t t) hE_t_1 rfl rfl) hE_t_7 rfl rfl) hE_t_15 rfl rfl) (by decide) (by decide) (by decide) (by decide) (by decide)) ⟨by decide, by decide⟩ hx_x hx_y (fun q => by omega) (fun q => hok) hW) pn_yX10_operates (hasC.of hT.1.ob rfl) q3254 q3256 qs104 q161 q3257 ⟨by decide, by decide⟩ hl.1 (Nat.le_of_ble_eq_true rfl) dX10_setWidth_38 ⟨by omega, by omega⟩) hL (fun z_17 w_18 hp_19 H locs hR hL => ?_)
      obtain ⟨rfl, t_20, hT2, hE_t_20, et_21⟩ := hp_19
      have hT := hT.tr hT2
      clear hT2
      have hth0 : t_20.1 0 = 0 := ((hE_t_20 0 (by decide)).1).trans hth
      exact h_ireturn hx hb hlk hret hR hL rfl ⟨(by unfold oWid; rw [if_neg hok1]; rw [if_pos hok]; rfl), ⟨t_20, hT, (TwE.tr (S2 := [0, 1, 2, 3, 5, 8, 9, 10, 12]) (TwE.tr (S2 := [0, 1, 2, 3, 5, 8, 9, 10, 12]) (TwE.tr (S2 := [0, 1, 2, 3, 5, 8, 9, 10, 12]) (TwE.tr (S2 := [0, 1, 2, 3, 5, 8, 9, 10, 12]) (TwE.rf : TwE [] t t) hE_t_1 rfl rfl) hE_t_7 rfl rfl) hE_t_15 rfl rfl) hE_t_20 rfl rfl), ⟨by rw [hth0]; unfold oWid; rw [if_neg hok1]; rw [if_pos hok]; rfl, by unfold oWid; rw [if_neg hok1]; rw [if_pos hok]; exact et_21⟩⟩⟩ (by omega) (by omega) rfl rfl dX10_setWidth_41
    ·
      have hno := b2i_0.mp (b2i_n1.mp c_f)
      have hth : t_15.1 0 = _ := (et_16).trans (if_pos (b2i_n1.mp c_f))
      refine h_iconst hx hb dX10_setWidth_30 ?_
      refine lv_goto (tgt := 41) hx hb dX10_setWidth_31 (by decide) ?_
      exact h_ireturn hx hb hlk hret hR hL rfl ⟨(by unfold oWid; rw [if_neg hok1]; rw [if_neg hno]), ⟨t_15, hT, (TwE.tr (S2 := [0, 1, 2, 3, 5, 8, 9, 10, 12]) (TwE.tr (S2 := [0, 1, 2, 3, 5, 8, 9, 10, 12]) (TwE.tr (S2 := [0, 1, 2, 3, 5, 8, 9, 10, 12]) (TwE.rf : TwE [] t t) hE_t_1 rfl rfl) hE_t_7 rfl rfl) hE_t_15 rfl rfl), ⟨by rw [hth]; unfold oWid; rw [if_neg hok1]; rw [if_neg hno], by unfold oWid; rw [if_neg hok1]; rw [if_neg hno]; exact (hS.mv (TwE.tr (S2 := [0]) (TwE.tr (S2 := [0]) (TwE.tr (S2 := [0]) (TwE.rf : TwE [] t t) hE_t_1 rfl rfl) hE_t_7 rfl rfl) hE_t_15 rfl rfl) (by decide) (by decide) (by decide) (by decide) (by decide))⟩⟩⟩ (by omega) (by omega) rfl rfl dX10_setWidth_41

set_option maxHeartbeats 4000000 in
set_option maxRecDepth 100000 in
/-- setBound -/
theorem m_setBound (l : Launch) (G : Gl) (w : Wd) (a : Nat) (ad : Nat → Nat) (t : Tw) (hT : TwAt G w a ad t) (x : Int) (y : Int) (s : Sys) (hS : SysIs t s) (hx_x : R32 x) (hx_y : R32 y) (hW : OpW s) : HM l yX10_setBound cX10_setBound 3 (some .int) 10 0 0 G [.ref a, .int (iI (x)), .int (iI (y))] w (QI G (fun z_ w_ => z_ = (oBnd s x y).2.1 ∧ ∃ t_ : Tw, TwS G w w_ a ad t_ ∧ TwE [0, 1, 2, 3, 5, 8, 9, 10, 12] t t_ ∧ t_.1 0 = (oBnd s x y).1 ∧ SysIs t_ (oBnd s x y).2.2)) := by
  refine HM.mk (by decide +kernel) (Nat.le_of_ble_eq_true rfl) ?_
  intro p9 e9 s9 m9 a9 b9 meth9 c9 ls X hret hlk hnm hl H hR
  have hx := X.1.1
  have hb := X.1.2.1
  have hl : lv_has ls 3 [(0, .ref a), (1, .int (iI (x))), (2, .int (iI (y)))] := hl
  have hL : LK G [] := fun q h => absurd h List.not_mem_nil
  generalize ([] : List Loc) = locs at hL ⊢
  have hTb := hT
  have hT : TwS G w w a ad t := TwS.rf hT
  refine lv_aload_n hx hb dX10_setBound_0 rfl (lv_at hl 0 rfl) ?_
  refine h_iconst hx hb dX10_setBound_1 ?_
  refine tw_puti X hR hL hT 0 (by decide) q2941 rfl rfl rfl twF_s0 (by omega) dX10_setBound_2 (fun t_1 et_2 w_3 hT H locs hR hL => ?_)
  have hE_t_1 := TwE.put et_2
  have hv_t_1 := tput_v et_2
  refine lv_aload_n hx hb dX10_setBound_5 rfl (lv_at hl 0 rfl) ?_
  refine lv_iload_n hx hb dX10_setBound_6 rfl (lv_at hl 1 rfl) ?_
  -- call SpokenMarksModel.noShelf
  refine h_kI (h_runV X hR (m_noShelf l G w_3 a ad t_1 hT.1 x (sC s) (by rw [(hE_t_1 3 (by decide)).2]; exact hS.C) hx_x hv_t_1) pn_yX10_noShelf (hasC.of hT.1.ob rfl) q3145 q3147 qs93 q161 q3148 ⟨by decide, by decide⟩ hl.1 (Nat.le_of_ble_eq_true rfl) dX10_setBound_7 ⟨by omega, by omega⟩) hL (fun z_4 w_5 hp_6 H locs hR hL => ?_)
  obtain ⟨rfl, t_7, hT2, hE_t_7, et_8⟩ := hp_6
  have hT := hT.tr hT2
  clear hT2
  refine h_if_ne hx hb 30 dX10_setBound_10 (by decide) (b2i_R _) (fun c_g => ?_) (fun c_g => ?_)
  ·
    have hno1 := b2i_n1.mp c_g
    have hth : t_7.1 0 = 1 := (et_8).trans (if_neg hno1)
    refine h_iconst hx hb dX10_setBound_30 ?_
    refine lv_goto (tgt := 41) hx hb dX10_setBound_31 (by decide) ?_
    exact h_ireturn hx hb hlk hret hR hL rfl ⟨(by unfold oBnd; rw [if_neg hno1]), ⟨t_7, hT, (TwE.tr (S2 := [0, 1, 2, 3, 5, 8, 9, 10, 12]) (TwE.tr (S2 := [0, 1, 2, 3, 5, 8, 9, 10, 12]) (TwE.rf : TwE [] t t) hE_t_1 rfl rfl) hE_t_7 rfl rfl), ⟨by rw [hth]; unfold oBnd; rw [if_neg hno1], by unfold oBnd; rw [if_neg hno1]; exact (hS.mv (TwE.tr (S2 := [0]) (TwE.tr (S2 := [0]) (TwE.rf : TwE [] t t) hE_t_1 rfl rfl) hE_t_7 rfl rfl) (by decide) (by decide) (by decide) (by decide) (by decide))⟩⟩⟩ (by omega) (by omega) rfl rfl dX10_setBound_41
  ·
    have hok1 := Decidable.not_not.mp (b2i_0.mp c_g)
    have hth : t_7.1 0 = 0 := (et_8).trans (if_pos hok1)
    refine lv_aload_n hx hb dX10_setBound_13 rfl (lv_at hl 0 rfl) ?_
    refine lv_iload_n hx hb dX10_setBound_14 rfl (lv_at hl 2 rfl) ?_
    refine h_i2l hx hb dX10_setBound_15 (by omega) ?_
    refine h_lconst hx hb 0 dX10_setBound_16 rfl ?_
    refine lv_ldc2 (v := lI (10000)) hx hb X.1.2.2.2.1 (X.1.2.2.2.2 _ q3282) dX10_setBound_17 ?_
    -- call SpokenMarksModel.in
    refine h_kIp (h_runS X hR (m_in l G w_5  y 0 10000 (by omega) (by omega) (by omega)) pn_yX10_in q2730 q2731 q161 q2732 ⟨by decide, by decide⟩ hl.1 (Nat.le_of_ble_eq_true rfl) dX10_setBound_20 ⟨by omega, by omega⟩) hL (fun H locs hR hL => ?_)
    refine h_iconst hx hb dX10_setBound_23 ?_
    -- call SpokenMarksModel.fails
    refine h_kI (h_runV X hR (m_fails l G w_5 a ad t_7 hT.1 (b2i (0 ≤ y ∧ y ≤ 10000)) 2 (b2i_R _) ⟨by decide, by decide⟩ hth) pn_yX10_fails (hasC.of hT.1.ob rfl) q2733 q2735 qs33 q161 q2736 ⟨by decide, by decide⟩ hl.1 (Nat.le_of_ble_eq_true rfl) dX10_setBound_24 ⟨by omega, by omega⟩) hL (fun z_12 w_13 hp_14 H locs hR hL => ?_)
    obtain ⟨rfl, t_15, hT2, hE_t_15, et_16⟩ := hp_14
    have hT := hT.tr hT2
    clear hT2
    refine h_if_eq hx hb 34 dX10_setBound_27 (by decide) (b2i_R _) (fun c_f => ?_) (fun c_f => ?_)
    ·
      have hok := b2i_n1.mp (b2i_0.mp c_f)
      have hth : t_15.1 0 = 0 := (et_16).trans (if_neg (b2i_0.mp c_f))
      refine lv_aload_n hx hb dX10_setBound_34 rfl (lv_at hl 0 rfl) ?_
      refine h_iconst hx hb dX10_setBound_35 ?_
      refine lv_iload_n hx hb dX10_setBound_36 rfl (lv_at hl 1 rfl) ?_
      refine lv_iload_n hx hb dX10_setBound_37 rfl (lv_at hl 2 rfl) ?_
      -- call SpokenMarksModel.operates
      refine h_kI (h_runV X hR (m_operates l G w_13 a ad t_15 hT.1 5 x y s (hS.mv (TwE.tr (S2 := [0]) (TwE.tr (S2 := [0]) (TwE.tr (S2 := [0]) (TwE.rf : TwE [] t t) hE_t_1 rfl rfl) hE_t_7 rfl rfl) hE_t_15 rfl rfl) (by decide) (by decide) (by decide) (by decide) (by decide)) ⟨by decide, by decide⟩ hx_x hx_y (fun q => hok1.1) (fun q => by omega) hW) pn_yX10_operates (hasC.of hT.1.ob rfl) q3254 q3256 qs104 q161 q3257 ⟨by decide, by decide⟩ hl.1 (Nat.le_of_ble_eq_true rfl) dX10_setBound_38 ⟨by omega, by omega⟩) hL (fun z_17 w_18 hp_19 H locs hR hL => ?_)
      obtain ⟨rfl, t_20, hT2, hE_t_20, et_21⟩ := hp_19
      have hT := hT.tr hT2
      clear hT2
      have hth0 : t_20.1 0 = 0 := ((hE_t_20 0 (by decide)).1).trans hth
      exact h_ireturn hx hb hlk hret hR hL rfl ⟨(by unfold oBnd; rw [if_pos hok1]; rw [if_pos hok]; rfl), ⟨t_20, hT, (TwE.tr (S2 := [0, 1, 2, 3, 5, 8, 9, 10, 12]) (TwE.tr (S2 := [0, 1, 2, 3, 5, 8, 9, 10, 12]) (TwE.tr (S2 := [0, 1, 2, 3, 5, 8, 9, 10, 12]) (TwE.tr (S2 := [0, 1, 2, 3, 5, 8, 9, 10, 12]) (TwE.rf : TwE [] t t) hE_t_1 rfl rfl) hE_t_7 rfl rfl) hE_t_15 rfl rfl) hE_t_20 rfl rfl), ⟨by rw [hth0]; unfold oBnd; rw [if_pos hok1]; rw [if_pos hok]; rfl, by unfold oBnd; rw [if_pos hok1]; rw [if_pos hok]; exact et_21⟩⟩⟩ (by omega) (by omega) rfl rfl dX10_setBound_41
    ·
      have hno := b2i_0.mp (b2i_n1.mp c_f)
      have hth : t_15.1 0 = _ := (et_16).trans (if_pos (b2i_n1.mp c_f))
      refine h_iconst hx hb dX10_setBound_30 ?_
      refine lv_goto (tgt := 41) hx hb dX10_setBound_31 (by decide) ?_
      exact h_ireturn hx hb hlk hret hR hL rfl ⟨(by unfold oBnd; rw [if_pos hok1]; rw [if_neg hno]), ⟨t_15, hT, (TwE.tr (S2 := [0, 1, 2, 3, 5, 8, 9, 10, 12]) (TwE.tr (S2 := [0, 1, 2, 3, 5, 8, 9, 10, 12]) (TwE.tr (S2 := [0, 1, 2, 3, 5, 8, 9, 10, 12]) (TwE.rf : TwE [] t t) hE_t_1 rfl rfl) hE_t_7 rfl rfl) hE_t_15 rfl rfl), ⟨by rw [hth]; unfold oBnd; rw [if_pos hok1]; rw [if_neg hno], by unfold oBnd; rw [if_pos hok1]; rw [if_neg hno]; exact (hS.mv (TwE.tr (S2 := [0]) (TwE.tr (S2 := [0]) (TwE.tr (S2 := [0]) (TwE.rf : TwE [] t t) hE_t_1 rfl rfl) hE_t_7 rfl rfl) hE_t_15 rfl rfl) (by decide) (by decide) (by decide) (by decide) (by decide))⟩⟩⟩ (by omega) (by omega) rfl rfl dX10_setBound_41

set_option maxHeartbeats 4000000 in
set_option maxRecDepth 100000 in
/-- balance -/
theorem m_balance (l : Launch) (G : Gl) (w : Wd) (a : Nat) (ad : Nat → Nat) (t : Tw) (hT : TwAt G w a ad t)  (s : Sys) (hS : SysIs t s) (hW : OpW s) : HM l yX10_balance cX10_balance 1 (some .int) 10 0 0 G [.ref a] w (QI G (fun z_ w_ => z_ = (opA s 6 0 0).2.1 ∧ ∃ t_ : Tw, TwS G w w_ a ad t_ ∧ TwE [0, 1, 2, 3, 5, 8, 9, 10, 12] t t_ ∧ t_.1 0 = (opA s 6 0 0).1 ∧ SysIs t_ (opA s 6 0 0).2.2)) := by
  refine HM.mk (by decide +kernel) (Nat.le_of_ble_eq_true rfl) ?_
  intro p9 e9 s9 m9 a9 b9 meth9 c9 ls X hret hlk hnm hl H hR
  have hx := X.1.1
  have hb := X.1.2.1
  have hl : lv_has ls 1 [(0, .ref a)] := hl
  have hL : LK G [] := fun q h => absurd h List.not_mem_nil
  generalize ([] : List Loc) = locs at hL ⊢
  have hTb := hT
  have hT : TwS G w w a ad t := TwS.rf hT
  refine lv_aload_n hx hb dX10_balance_0 rfl (lv_at hl 0 rfl) ?_
  refine h_iconst hx hb dX10_balance_1 ?_
  refine tw_puti X hR hL hT 0 (by decide) q2941 rfl rfl rfl twF_s0 (by omega) dX10_balance_2 (fun t_1 et_2 w_3 hT H locs hR hL => ?_)
  have hE_t_1 := TwE.put et_2
  have hv_t_1 := tput_v et_2
  refine lv_aload_n hx hb dX10_balance_5 rfl (lv_at hl 0 rfl) ?_
  refine h_bipush hx hb dX10_balance_6 (by decide) ?_
  refine h_iconst hx hb dX10_balance_8 ?_
  refine h_iconst hx hb dX10_balance_9 ?_
  -- call SpokenMarksModel.operates
  refine h_kI (h_runV X hR (m_operates l G w_3 a ad t_1 hT.1 6 0 0 s (hS.mv (TwE.tr (S2 := [0]) (TwE.rf : TwE [] t t) hE_t_1 rfl rfl) (by decide) (by decide) (by decide) (by decide) (by decide)) ⟨by decide, by decide⟩ ⟨by decide, by decide⟩ ⟨by decide, by decide⟩ (fun q => by omega) (fun q => by omega) hW) pn_yX10_operates (hasC.of hT.1.ob rfl) q3254 q3256 qs104 q161 q3257 ⟨by decide, by decide⟩ hl.1 (Nat.le_of_ble_eq_true rfl) dX10_balance_10 ⟨by omega, by omega⟩) hL (fun z_4 w_5 hp_6 H locs hR hL => ?_)
  obtain ⟨rfl, t_7, hT2, hE_t_7, et_8⟩ := hp_6
  have hT := hT.tr hT2
  clear hT2
  have hth0 : t_7.1 0 = 0 := ((hE_t_7 0 (by decide)).1).trans hv_t_1
  exact h_ireturn hx hb hlk hret hR hL rfl ⟨(by unfold opA; skip; rfl), ⟨t_7, hT, (TwE.tr (S2 := [0, 1, 2, 3, 5, 8, 9, 10, 12]) (TwE.tr (S2 := [0, 1, 2, 3, 5, 8, 9, 10, 12]) (TwE.rf : TwE [] t t) hE_t_1 rfl rfl) hE_t_7 rfl rfl), ⟨by rw [hth0]; unfold opA; skip; rfl, by unfold opA; skip; exact et_8⟩⟩⟩ (by omega) (by omega) rfl rfl dX10_balance_13

set_option maxHeartbeats 4000000 in
set_option maxRecDepth 100000 in
/-- respace -/
theorem m_respace (l : Launch) (G : Gl) (w : Wd) (a : Nat) (ad : Nat → Nat) (t : Tw) (hT : TwAt G w a ad t)  (s : Sys) (hS : SysIs t s) (hW : OpW s) : HM l yX10_respace cX10_respace 1 (some .int) 10 0 0 G [.ref a] w (QI G (fun z_ w_ => z_ = (opA s 7 0 0).2.1 ∧ ∃ t_ : Tw, TwS G w w_ a ad t_ ∧ TwE [0, 1, 2, 3, 5, 8, 9, 10, 12] t t_ ∧ t_.1 0 = (opA s 7 0 0).1 ∧ SysIs t_ (opA s 7 0 0).2.2)) := by
  refine HM.mk (by decide +kernel) (Nat.le_of_ble_eq_true rfl) ?_
  intro p9 e9 s9 m9 a9 b9 meth9 c9 ls X hret hlk hnm hl H hR
  have hx := X.1.1
  have hb := X.1.2.1
  have hl : lv_has ls 1 [(0, .ref a)] := hl
  have hL : LK G [] := fun q h => absurd h List.not_mem_nil
  generalize ([] : List Loc) = locs at hL ⊢
  have hTb := hT
  have hT : TwS G w w a ad t := TwS.rf hT
  refine lv_aload_n hx hb dX10_respace_0 rfl (lv_at hl 0 rfl) ?_
  refine h_iconst hx hb dX10_respace_1 ?_
  refine tw_puti X hR hL hT 0 (by decide) q2941 rfl rfl rfl twF_s0 (by omega) dX10_respace_2 (fun t_1 et_2 w_3 hT H locs hR hL => ?_)
  have hE_t_1 := TwE.put et_2
  have hv_t_1 := tput_v et_2
  refine lv_aload_n hx hb dX10_respace_5 rfl (lv_at hl 0 rfl) ?_
  refine h_bipush hx hb dX10_respace_6 (by decide) ?_
  refine h_iconst hx hb dX10_respace_8 ?_
  refine h_iconst hx hb dX10_respace_9 ?_
  -- call SpokenMarksModel.operates
  refine h_kI (h_runV X hR (m_operates l G w_3 a ad t_1 hT.1 7 0 0 s (hS.mv (TwE.tr (S2 := [0]) (TwE.rf : TwE [] t t) hE_t_1 rfl rfl) (by decide) (by decide) (by decide) (by decide) (by decide)) ⟨by decide, by decide⟩ ⟨by decide, by decide⟩ ⟨by decide, by decide⟩ (fun q => by omega) (fun q => by omega) hW) pn_yX10_operates (hasC.of hT.1.ob rfl) q3254 q3256 qs104 q161 q3257 ⟨by decide, by decide⟩ hl.1 (Nat.le_of_ble_eq_true rfl) dX10_respace_10 ⟨by omega, by omega⟩) hL (fun z_4 w_5 hp_6 H locs hR hL => ?_)
  obtain ⟨rfl, t_7, hT2, hE_t_7, et_8⟩ := hp_6
  have hT := hT.tr hT2
  clear hT2
  have hth0 : t_7.1 0 = 0 := ((hE_t_7 0 (by decide)).1).trans hv_t_1
  exact h_ireturn hx hb hlk hret hR hL rfl ⟨(by unfold opA; skip; rfl), ⟨t_7, hT, (TwE.tr (S2 := [0, 1, 2, 3, 5, 8, 9, 10, 12]) (TwE.tr (S2 := [0, 1, 2, 3, 5, 8, 9, 10, 12]) (TwE.rf : TwE [] t t) hE_t_1 rfl rfl) hE_t_7 rfl rfl), ⟨by rw [hth0]; unfold opA; skip; rfl, by unfold opA; skip; exact et_8⟩⟩⟩ (by omega) (by omega) rfl rfl dX10_respace_13

set_option maxHeartbeats 4000000 in
set_option maxRecDepth 100000 in
/-- undo -/
theorem m_undo (l : Launch) (G : Gl) (w : Wd) (a : Nat) (ad : Nat → Nat) (t : Tw) (hT : TwAt G w a ad t)  (s : Sys) (hS : SysIs t s) (hb11 : 0 ≤ t.1 11 ∧ t.1 11 < 1000000) : HM l yX10_undo cX10_undo 1 (some .int) 3 0 0 G [.ref a] w (QI G (fun z_ w_ => z_ = (undA s).1 ∧ ∃ t_ : Tw, TwS G w w_ a ad t_ ∧ TwE [0, 3, 11, 12] t t_ ∧ t_.1 0 = 0 ∧ SysIs t_ (undA s).2 ∧ t_.1 11 = t.1 11 + (if sU s = [] then 0 else 1))) := by
  refine HM.mk (by decide +kernel) (Nat.le_of_ble_eq_true rfl) ?_
  intro p9 e9 s9 m9 a9 b9 meth9 c9 ls X hret hlk hnm hl H hR
  have hx := X.1.1
  have hb := X.1.2.1
  have hl : lv_has ls 1 [(0, .ref a)] := hl
  have hL : LK G [] := fun q h => absurd h List.not_mem_nil
  generalize ([] : List Loc) = locs at hL ⊢
  have hTb := hT
  have hT : TwS G w w a ad t := TwS.rf hT
  have hU8 := hS.2.1.1
  have hUe : (sU s = [] ↔ (sU s).length = 0) := List.length_eq_zero_iff.symm
  refine lv_aload_n hx hb dX10_undo_0 rfl (lv_at hl 0 rfl) ?_
  refine h_iconst hx hb dX10_undo_1 ?_
  refine tw_puti X hR hL hT 0 (by decide) q2941 rfl rfl rfl twF_s0 (by omega) dX10_undo_2 (fun t_1 et_2 w_3 hT H locs hR hL => ?_)
  have hE_t_1 := TwE.put et_2
  have hv_t_1 := tput_v et_2
  refine lv_aload_n hx hb dX10_undo_5 rfl (lv_at hl 0 rfl) ?_
  refine tw_get X hR hT 12 (by decide) q2953 (v := .int (iI (((sU s).length : Int)))) (congrArg (fun z => some (Value.int (iI z))) (((hE_t_1 12 (by decide)).1).trans hS.2.1.2.1)) dX10_undo_6 ?_
  refine h_if_ne hx hb 14 dX10_undo_9 (by decide) (by omega) (fun c_u => ?_) (fun c_u => ?_)
  ·
    refine lv_aload_n hx hb dX10_undo_14 rfl (lv_at hl 0 rfl) ?_
    refine lv_dup hx hb dX10_undo_15 rfl ?_
    refine tw_get X hR hT 12 (by decide) q2953 (v := .int (iI (((sU s).length : Int)))) (congrArg (fun z => some (Value.int (iI z))) (((hE_t_1 12 (by decide)).1).trans hS.2.1.2.1)) dX10_undo_16 ?_
    refine h_iconst hx hb dX10_undo_19 ?_
    refine h_isub hx hb dX10_undo_20 ?_
    refine tw_puti X hR hL hT 12 (by decide) q2953 rfl rfl rfl twF_s12 (by omega) dX10_undo_21 (fun t_4 et_5 w_6 hT H locs hR hL => ?_)
    have hE_t_4 := TwE.put et_5
    have hv_t_4 := tput_v et_5
    refine lv_aload_n hx hb dX10_undo_24 rfl (lv_at hl 0 rfl) ?_
    refine tw_get X hR hT 8 (by decide) q2949 rfl dX10_undo_25 ?_
    refine h_sipush hx hb dX10_undo_28 (by decide) ?_
    refine lv_aload_n hx hb dX10_undo_31 rfl (lv_at hl 0 rfl) ?_
    refine tw_get X hR hT 12 (by decide) q2953 (v := .int (iI ((((sU s).length : Int)) - 1))) (congrArg (fun z => some (Value.int (iI z))) (hv_t_4)) dX10_undo_32 ?_
    refine h_imul hx hb dX10_undo_35 ?_
    refine lv_aload_n hx hb dX10_undo_36 rfl (lv_at hl 0 rfl) ?_
    refine tw_get X hR hT 3 (by decide) q2944 rfl dX10_undo_37 ?_
    refine h_iconst hx hb dX10_undo_40 ?_
    refine h_sipush hx hb dX10_undo_41 (by decide) ?_
    refine W.eq (g2 := F0 m9 44 ls [.int (iI (606)), .int (iI (0)), .ref (ad 3), .int (iI (((606 * ((sU s).length - 1) : Nat) : Int))), .ref (ad 8)]) (congrArg (fun z_ : Int => F0 m9 44 ls [.int (iI (606)), .int (iI (0)), .ref (ad 3), .int (iI (z_)), .ref (ad 8)]) (show (606 * ((((sU s).length : Int)) - 1) : Int) = ((606 * ((sU s).length - 1) : Nat) : Int) from (by omega))) ?_
    -- call SpokenMarksModel.copies
    refine h_kV (h_runS X hR (m_copies l G w_6 a ad t_4 hT.1 8 (606 * ((sU s).length - 1)) 3 0 606 (by decide) (by decide) (by show _ ≤ _; simp only [twN]; omega) (by show _ ≤ _; simp only [twN]; omega) (by first | exact Or.inl (by decide) | exact Or.inr (by omega))) pn_yX10_copies q2737 q2738 q161 q2739 ⟨by decide, by decide⟩ hl.1 (Nat.le_of_ble_eq_true rfl) dX10_undo_44 ⟨by omega, by omega⟩) hL (fun w_8 hp_9 H locs hR hL => ?_)
    obtain ⟨t_10, hT2, e1_, e2_, hc_t_10⟩ := hp_9
    have hE_t_10 : TwE [3] t_4 t_10 := fun k_ hk_ => ⟨by rw [e1_], e2_ k_ (by simpa using hk_)⟩
    have e1_t_10 := e1_
    have hT := hT.tr hT2
    clear hT2 e1_ e2_
    have hTd : RowIs (t_10.2 3) (uG (sU s) ((sU s).length - 1)) := (hS.2.1.2.2 ((sU s).length - 1) (by omega)).mv606 (fun i hi => by rw [hc_t_10]; unfold cpyF; rw [if_pos (by omega), ((hE_t_4 8 (by decide)).2).trans (hE_t_1 8 (by decide)).2]; exact congrArg (t.2 8) (by omega))
    refine lv_aload_n hx hb dX10_undo_47 rfl (lv_at hl 0 rfl) ?_
    refine lv_dup hx hb dX10_undo_48 rfl ?_
    refine tw_get X hR hT 11 (by decide) q2952 (v := .int (iI (t.1 11))) (congrArg (fun z => some (Value.int (iI z))) ((((hE_t_10 11 (by decide)).1).trans (hE_t_4 11 (by decide)).1).trans (hE_t_1 11 (by decide)).1)) dX10_undo_49 ?_
    have rg_t_11 := hTb.ri 11 (by decide) (by decide)
    refine h_iconst hx hb dX10_undo_52 ?_
    refine h_iadd hx hb dX10_undo_53 ?_
    refine tw_puti X hR hL hT 11 (by decide) q2952 rfl rfl rfl twF_s11 (by omega) dX10_undo_54 (fun t_11 et_12 w_13 hT H locs hR hL => ?_)
    have hE_t_11 := TwE.put et_12
    have hv_t_11 := tput_v et_12
    refine lv_aload_n hx hb dX10_undo_57 rfl (lv_at hl 0 rfl) ?_
    refine tw_get X hR hT 12 (by decide) q2953 (v := .int (iI ((((sU s).length : Int)) - 1))) (congrArg (fun z => some (Value.int (iI z))) ((((hE_t_11 12 (by decide)).1).trans (hE_t_10 12 (by decide)).1).trans hv_t_4)) dX10_undo_58 ?_
    exact h_ireturn hx hb hlk hret hR hL rfl ⟨(by unfold undA; rw [if_neg (fun q => by have := hUe.mp q; omega)]), ⟨t_11, hT, (TwE.tr (S2 := [0, 3, 11, 12]) (TwE.tr (S2 := [0, 3, 11, 12]) (TwE.tr (S2 := [0, 3, 11, 12]) (TwE.tr (S2 := [0, 3, 11, 12]) (TwE.rf : TwE [] t t) hE_t_1 rfl rfl) hE_t_4 rfl rfl) hE_t_10 rfl rfl) hE_t_11 rfl rfl), ⟨((((hE_t_11 0 (by decide)).1).trans (hE_t_10 0 (by decide)).1).trans (hE_t_4 0 (by decide)).1).trans hv_t_1, by unfold undA; rw [if_neg (fun q => by have := hUe.mp q; omega)]; exact ⟨by rw [(hE_t_11 3 (by decide)).2]; exact hTd, hS.2.1.pop (by omega) (by rw [(((hE_t_11 12 (by decide)).1).trans (hE_t_10 12 (by decide)).1).trans hv_t_4, hS.2.1.2.1]) (fun i => by rw [((((hE_t_11 8 (by decide)).2).trans (hE_t_10 8 (by decide)).2).trans (hE_t_4 8 (by decide)).2).trans (hE_t_1 8 (by decide)).2]), (((((hE_t_11 9 (by decide)).1).trans (hE_t_10 9 (by decide)).1).trans (hE_t_4 9 (by decide)).1).trans (hE_t_1 9 (by decide)).1).trans hS.2.2.1, (((((hE_t_11 10 (by decide)).1).trans (hE_t_10 10 (by decide)).1).trans (hE_t_4 10 (by decide)).1).trans (hE_t_1 10 (by decide)).1).trans hS.2.2.2⟩, by rw [if_neg (fun q => by have := hUe.mp q; omega)]; rw [hv_t_11]⟩⟩⟩ (by omega) (by omega) rfl rfl dX10_undo_61
  ·
    refine h_iconst hx hb dX10_undo_12 ?_
    exact h_ireturn hx hb hlk hret hR hL rfl ⟨(by unfold undA; rw [if_pos (hUe.mpr (by omega))]), ⟨t_1, hT, (TwE.tr (S2 := [0, 3, 11, 12]) (TwE.rf : TwE [] t t) hE_t_1 rfl rfl), ⟨hv_t_1, by unfold undA; rw [if_pos (hUe.mpr (by omega))]; exact (hS.mv (TwE.tr (S2 := [0]) (TwE.rf : TwE [] t t) hE_t_1 rfl rfl) (by decide) (by decide) (by decide) (by decide) (by decide)), by rw [if_pos (hUe.mpr (by omega)), (hE_t_1 11 (by decide)).1]; omega⟩⟩⟩ (by omega) (by omega) rfl rfl dX10_undo_13

set_option maxHeartbeats 4000000 in
set_option maxRecDepth 100000 in
/-- saveSnapshot -/
theorem m_saveSnapshot (l : Launch) (G : Gl) (w : Wd) (a : Nat) (ad : Nat → Nat) (t : Tw) (hT : TwAt G w a ad t)  (s : Sys) (hS : SysIs t s) : HM l yX10_saveSnapshot cX10_saveSnapshot 1 none 2 0 0 G [.ref a] w (QV G (fun w_ => ∃ t_ : Tw, TwS G w w_ a ad t_ ∧ TwE [0, 7, 13] t t_ ∧ t_.1 0 = 0 ∧ t_.1 13 = 1 ∧ RowIs (t_.2 7) (sC s))) := by
  refine HM.mk (by decide +kernel) (Nat.le_of_ble_eq_true rfl) ?_
  intro p9 e9 s9 m9 a9 b9 meth9 c9 ls X hret hlk hnm hl H hR
  have hx := X.1.1
  have hb := X.1.2.1
  have hl : lv_has ls 1 [(0, .ref a)] := hl
  have hL : LK G [] := fun q h => absurd h List.not_mem_nil
  generalize ([] : List Loc) = locs at hL ⊢
  have hTb := hT
  have hT : TwS G w w a ad t := TwS.rf hT
  refine lv_aload_n hx hb dX10_saveSnapshot_0 rfl (lv_at hl 0 rfl) ?_
  refine h_iconst hx hb dX10_saveSnapshot_1 ?_
  refine tw_puti X hR hL hT 0 (by decide) q2941 rfl rfl rfl twF_s0 (by omega) dX10_saveSnapshot_2 (fun t_1 et_2 w_3 hT H locs hR hL => ?_)
  have hE_t_1 := TwE.put et_2
  have hv_t_1 := tput_v et_2
  refine lv_aload_n hx hb dX10_saveSnapshot_5 rfl (lv_at hl 0 rfl) ?_
  refine tw_get X hR hT 3 (by decide) q2944 rfl dX10_saveSnapshot_6 ?_
  refine h_iconst hx hb dX10_saveSnapshot_9 ?_
  refine lv_aload_n hx hb dX10_saveSnapshot_10 rfl (lv_at hl 0 rfl) ?_
  refine tw_get X hR hT 7 (by decide) q2948 rfl dX10_saveSnapshot_11 ?_
  refine h_iconst hx hb dX10_saveSnapshot_14 ?_
  refine h_sipush hx hb dX10_saveSnapshot_15 (by decide) ?_
  -- call SpokenMarksModel.copies
  refine h_kV (h_runS X hR (m_copies l G w_3 a ad t_1 hT.1 3 0 7 0 606 (by decide) (by decide) (by show _ ≤ _; simp only [twN]; omega) (by show _ ≤ _; simp only [twN]; omega) (by first | exact Or.inl (by decide) | exact Or.inr (by omega))) pn_yX10_copies q2737 q2738 q161 q2739 ⟨by decide, by decide⟩ hl.1 (Nat.le_of_ble_eq_true rfl) dX10_saveSnapshot_18 ⟨by omega, by omega⟩) hL (fun w_5 hp_6 H locs hR hL => ?_)
  obtain ⟨t_7, hT2, e1_, e2_, hc_t_7⟩ := hp_6
  have hE_t_7 : TwE [7] t_1 t_7 := fun k_ hk_ => ⟨by rw [e1_], e2_ k_ (by simpa using hk_)⟩
  have e1_t_7 := e1_
  have hT := hT.tr hT2
  clear hT2 e1_ e2_
  have hTd : RowIs (t_7.2 7) (sC s) := hS.C.mv606 (fun i hi => by rw [hc_t_7]; unfold cpyF; rw [if_pos (by omega), (hE_t_1 3 (by decide)).2]; congr 1)
  refine lv_aload_n hx hb dX10_saveSnapshot_21 rfl (lv_at hl 0 rfl) ?_
  refine h_iconst hx hb dX10_saveSnapshot_22 ?_
  refine tw_puti X hR hL hT 13 (by decide) q2954 rfl (nar01 (by omega)) rfl twF_s13 (by omega) dX10_saveSnapshot_23 (fun t_8 et_9 w_10 hT H locs hR hL => ?_)
  have hE_t_8 := TwE.put et_9
  have hv_t_8 := tput_v et_9
  exact h_vreturn hx hb hlk hret hR hL ⟨t_8, hT, (TwE.tr (S2 := [0, 7, 13]) (TwE.tr (S2 := [0, 7, 13]) (TwE.tr (S2 := [0, 7, 13]) (TwE.rf : TwE [] t t) hE_t_1 rfl rfl) hE_t_7 rfl rfl) hE_t_8 rfl rfl), ⟨(((hE_t_8 0 (by decide)).1).trans (hE_t_7 0 (by decide)).1).trans hv_t_1, hv_t_8, by rw [(hE_t_8 7 (by decide)).2]; exact hTd⟩⟩ (by omega) (by omega) rfl rfl dX10_saveSnapshot_26

set_option maxHeartbeats 4000000 in
set_option maxRecDepth 100000 in
/-- restoreSnapshot -/
theorem m_restoreSnapshot (l : Launch) (G : Gl) (w : Wd) (a : Nat) (ad : Nat → Nat) (t : Tw) (hT : TwAt G w a ad t)  (s : Sys) (cS : Cat) (hS : SysIs t s) (hSv : t.1 13 = 0 ∨ t.1 13 = 1 ∧ RowIs (t.2 7) cS) : HM l yX10_restoreSnapshot cX10_restoreSnapshot 1 (some .boolean) 2 0 0 G [.ref a] w (QI G (fun z_ w_ => z_ = t.1 13 ∧ ∃ t_ : Tw, TwS G w w_ a ad t_ ∧ TwE [0, 3, 12] t t_ ∧ t_.1 0 = 0 ∧ SysIs t_ (if t.1 13 = 0 then s else (cS, [], sD s, sR s)))) := by
  refine HM.mk (by decide +kernel) (Nat.le_of_ble_eq_true rfl) ?_
  intro p9 e9 s9 m9 a9 b9 meth9 c9 ls X hret hlk hnm hl H hR
  have hx := X.1.1
  have hb := X.1.2.1
  have hl : lv_has ls 1 [(0, .ref a)] := hl
  have hL : LK G [] := fun q h => absurd h List.not_mem_nil
  generalize ([] : List Loc) = locs at hL ⊢
  have hTb := hT
  have hT : TwS G w w a ad t := TwS.rf hT
  refine lv_aload_n hx hb dX10_restoreSnapshot_0 rfl (lv_at hl 0 rfl) ?_
  refine h_iconst hx hb dX10_restoreSnapshot_1 ?_
  refine tw_puti X hR hL hT 0 (by decide) q2941 rfl rfl rfl twF_s0 (by omega) dX10_restoreSnapshot_2 (fun t_1 et_2 w_3 hT H locs hR hL => ?_)
  have hE_t_1 := TwE.put et_2
  have hv_t_1 := tput_v et_2
  refine lv_aload_n hx hb dX10_restoreSnapshot_5 rfl (lv_at hl 0 rfl) ?_
  refine tw_get X hR hT 13 (by decide) q2954 (v := .int (iI (t.1 13))) (congrArg (fun z => some (Value.int (iI z))) ((hE_t_1 13 (by decide)).1)) dX10_restoreSnapshot_6 ?_
  have rg_t_13 := hTb.ri 13 (by decide) (by decide)
  refine h_if_ne hx hb 14 dX10_restoreSnapshot_9 (by decide) (by omega) (fun c_u => ?_) (fun c_u => ?_)
  ·
    refine lv_aload_n hx hb dX10_restoreSnapshot_14 rfl (lv_at hl 0 rfl) ?_
    refine tw_get X hR hT 7 (by decide) q2948 rfl dX10_restoreSnapshot_15 ?_
    refine h_iconst hx hb dX10_restoreSnapshot_18 ?_
    refine lv_aload_n hx hb dX10_restoreSnapshot_19 rfl (lv_at hl 0 rfl) ?_
    refine tw_get X hR hT 3 (by decide) q2944 rfl dX10_restoreSnapshot_20 ?_
    refine h_iconst hx hb dX10_restoreSnapshot_23 ?_
    refine h_sipush hx hb dX10_restoreSnapshot_24 (by decide) ?_
    -- call SpokenMarksModel.copies
    refine h_kV (h_runS X hR (m_copies l G w_3 a ad t_1 hT.1 7 0 3 0 606 (by decide) (by decide) (by show _ ≤ _; simp only [twN]; omega) (by show _ ≤ _; simp only [twN]; omega) (by first | exact Or.inl (by decide) | exact Or.inr (by omega))) pn_yX10_copies q2737 q2738 q161 q2739 ⟨by decide, by decide⟩ hl.1 (Nat.le_of_ble_eq_true rfl) dX10_restoreSnapshot_27 ⟨by omega, by omega⟩) hL (fun w_5 hp_6 H locs hR hL => ?_)
    obtain ⟨t_7, hT2, e1_, e2_, hc_t_7⟩ := hp_6
    have hE_t_7 : TwE [3] t_1 t_7 := fun k_ hk_ => ⟨by rw [e1_], e2_ k_ (by simpa using hk_)⟩
    have e1_t_7 := e1_
    have hT := hT.tr hT2
    clear hT2 e1_ e2_
    have hTd : RowIs (t_7.2 3) cS := (hSv.resolve_left c_u).2.mv606 (fun i hi => by rw [hc_t_7]; unfold cpyF; rw [if_pos (by omega), (hE_t_1 7 (by decide)).2]; congr 1)
    refine lv_aload_n hx hb dX10_restoreSnapshot_30 rfl (lv_at hl 0 rfl) ?_
    refine h_iconst hx hb dX10_restoreSnapshot_31 ?_
    refine tw_puti X hR hL hT 12 (by decide) q2953 rfl rfl rfl twF_s12 (by omega) dX10_restoreSnapshot_32 (fun t_8 et_9 w_10 hT H locs hR hL => ?_)
    have hE_t_8 := TwE.put et_9
    have hv_t_8 := tput_v et_9
    refine h_iconst hx hb dX10_restoreSnapshot_35 ?_
    exact h_ireturn hx hb hlk hret hR hL (nar01 (by omega)) ⟨(hSv.resolve_left c_u).1.symm, ⟨t_8, hT, (TwE.tr (S2 := [0, 3, 12]) (TwE.tr (S2 := [0, 3, 12]) (TwE.tr (S2 := [0, 3, 12]) (TwE.rf : TwE [] t t) hE_t_1 rfl rfl) hE_t_7 rfl rfl) hE_t_8 rfl rfl), ⟨(((hE_t_8 0 (by decide)).1).trans (hE_t_7 0 (by decide)).1).trans hv_t_1, by rw [if_neg c_u]; exact ⟨by rw [(hE_t_8 3 (by decide)).2]; exact hTd, by rw [hv_t_8]; exact ⟨Nat.zero_le 8, rfl, fun k hk => absurd hk (Nat.not_lt_zero _)⟩, ((((hE_t_8 9 (by decide)).1).trans (hE_t_7 9 (by decide)).1).trans (hE_t_1 9 (by decide)).1).trans hS.2.2.1, ((((hE_t_8 10 (by decide)).1).trans (hE_t_7 10 (by decide)).1).trans (hE_t_1 10 (by decide)).1).trans hS.2.2.2⟩⟩⟩⟩ (by omega) (by omega) rfl rfl dX10_restoreSnapshot_36
  ·
    refine h_iconst hx hb dX10_restoreSnapshot_12 ?_
    exact h_ireturn hx hb hlk hret hR hL (nar01 (by omega)) ⟨c_u.symm, ⟨t_1, hT, (TwE.tr (S2 := [0, 3, 12]) (TwE.rf : TwE [] t t) hE_t_1 rfl rfl), ⟨hv_t_1, by rw [if_pos c_u]; exact (hS.mv (TwE.tr (S2 := [0]) (TwE.rf : TwE [] t t) hE_t_1 rfl rfl) (by decide) (by decide) (by decide) (by decide) (by decide))⟩⟩⟩ (by omega) (by omega) rfl rfl dX10_restoreSnapshot_13
