/-! the twin: what is asked of it, 2 -/
set_option maxRecDepth 100000
def qAcc (c : Cat) (dn rf un x : Int) : Int × Int := ans (0 ≤ x ∧ x ≤ 5) 1 (if 2 < x then cAc c (x - 3).toNat else if x = 0 then dn else if x = 1 then rf else un)
theorem okP_t {c : Cat} {id k : Int} (h1 : rkOf c id ≠ -1) (h2 : 0 ≤ k ∧ k < ((mPs (mk c (rkOf c id).toNat)).length : Int)) : okP c id k = true := by unfold okP; simp [h1, h2.1, h2.2]
theorem okP_iff {c : Cat} {id k : Int} : okP c id k = true ↔ rkOf c id ≠ -1 ∧ 0 ≤ k ∧ k < ((mPs (mk c (rkOf c id).toNat)).length : Int) := by unfold okP; simp
theorem numP_enc {x : Prt} (h : PrtW x) : numP x = if 1000000 ≤ encP x then -1 else encP x := by
  cases x with
  | inl n => have := h.2; rw [if_neg (by show ¬ 1000000 ≤ n; omega)]; rfl
  | inr L => show -1 = if 1000000 ≤ enc L then -1 else enc L; rw [if_pos (enc_r h.1.2).1]

theorem pn_yX10_letterOf : ParN yX10_letterOf 2 := by decide +kernel
theorem pn_yX10_noMark : ParN yX10_noMark 1 := by decide +kernel
theorem pn_yX10_noPart : ParN yX10_noPart 2 := by decide +kernel
theorem pn_yX10_noRule : ParN yX10_noRule 1 := by decide +kernel
theorem pn_yX10_shelfOf : ParN yX10_shelfOf 1 := by decide +kernel
theorem pn_yX10_wordsOf : ParN yX10_wordsOf 1 := by decide +kernel

set_option maxHeartbeats 4000000 in
set_option maxRecDepth 100000 in
/-- account -/
theorem m_account (l : Launch) (G : Gl) (w : Wd) (a : Nat) (ad : Nat → Nat) (t : Tw) (hT : TwAt G w a ad t) (x : Int) (c0 : Cat) (hC : RowIs (t.2 3) c0) (hx_x : R32 x) : HM l yX10_account cX10_account 2 (some .int) 4 0 0 G [.ref a, .int (iI (x))] w (QI G (fun z_ w_ => z_ = (qAcc c0 (t.1 9) (t.1 10) (t.1 11) x).2 ∧ ∃ t_ : Tw, TwS G w w_ a ad t_ ∧ TwE [0] t t_ ∧ t_.1 0 = (qAcc c0 (t.1 9) (t.1 10) (t.1 11) x).1)) := by
  refine HM.mk (by decide +kernel) (Nat.le_of_ble_eq_true rfl) ?_
  intro p9 e9 s9 m9 a9 b9 meth9 c9 ls X hret hlk hnm hl H hR
  have hx := X.1.1
  have hb := X.1.2.1
  have hl : lv_has ls 2 [(0, .ref a), (1, .int (iI (x)))] := hl
  have hL : LK G [] := fun q h => absurd h List.not_mem_nil
  generalize ([] : List Loc) = locs at hL ⊢
  have hTb := hT
  have hT : TwS G w w a ad t := TwS.rf hT
  have hn40 := hC.n40
  have hsh8 := hC.sh8
  refine lv_aload_n hx hb dX10_account_0 rfl (lv_at hl 0 rfl) ?_
  refine h_iconst hx hb dX10_account_1 ?_
  refine tw_puti X hR hL hT 0 (by decide) q2941 rfl rfl rfl twF_s0 (by omega) dX10_account_2 (fun t_1 et_2 w_3 hT H locs hR hL => ?_)
  have hE_t_1 := TwE.put et_2
  have hv_t_1 := tput_v et_2
  refine lv_aload_n hx hb dX10_account_5 rfl (lv_at hl 0 rfl) ?_
  refine lv_iload_n hx hb dX10_account_6 rfl (lv_at hl 1 rfl) ?_
  refine h_i2l hx hb dX10_account_7 (by omega) ?_
  refine h_lconst hx hb 0 dX10_account_8 rfl ?_
  refine lv_ldc2 (v := lI (5)) hx hb X.1.2.2.2.1 (X.1.2.2.2.2 _ q3088) dX10_account_9 ?_
  -- call SpokenMarksModel.in
  refine h_kIp (h_runS X hR (m_in l G w_3  x 0 5 (by omega) (by omega) (by omega)) pn_yX10_in q2730 q2731 q161 q2732 ⟨by decide, by decide⟩ hl.1 (Nat.le_of_ble_eq_true rfl) dX10_account_12 ⟨by omega, by omega⟩) hL (fun H locs hR hL => ?_)
  refine h_iconst hx hb dX10_account_15 ?_
  -- call SpokenMarksModel.fails
  refine h_kI (h_runV X hR (m_fails l G w_3 a ad t_1 hT.1 (b2i (0 ≤ x ∧ x ≤ 5)) 1 (b2i_R _) ⟨by decide, by decide⟩ hv_t_1) pn_yX10_fails (hasC.of hT.1.ob rfl) q2733 q2735 qs33 q161 q2736 ⟨by decide, by decide⟩ hl.1 (Nat.le_of_ble_eq_true rfl) dX10_account_16 ⟨by omega, by omega⟩) hL (fun z_7 w_8 hp_9 H locs hR hL => ?_)
  obtain ⟨rfl, t_10, hT2, hE_t_10, et_11⟩ := hp_9
  have hT := hT.tr hT2
  clear hT2
  refine h_if_eq hx hb 24 dX10_account_19 (by decide) (b2i_R _) (fun c_f => ?_) (fun c_f => ?_)
  ·
    have hok := b2i_n1.mp (b2i_0.mp c_f)
    have hth : t_10.1 0 = 0 := (et_11).trans (if_neg (b2i_0.mp c_f))
    refine lv_iload_n hx hb dX10_account_24 rfl (lv_at hl 1 rfl) ?_
    refine h_iconst hx hb dX10_account_25 ?_
    refine h_icmp_le hx hb 39 dX10_account_26 (by decide) (by omega) (by omega) (fun c_12 => ?_) (fun c_12 => ?_)
    ·
      refine lv_iload_n hx hb dX10_account_39 rfl (lv_at hl 1 rfl) ?_
      refine h_if_ne hx hb 50 dX10_account_40 (by decide) (by omega) (fun c_13 => ?_) (fun c_13 => ?_)
      ·
        refine lv_iload_n hx hb dX10_account_50 rfl (lv_at hl 1 rfl) ?_
        refine h_iconst hx hb dX10_account_51 ?_
        refine h_icmp_ne hx hb 62 dX10_account_52 (by decide) (by omega) (by omega) (fun c_14 => ?_) (fun c_14 => ?_)
        ·
          refine lv_aload_n hx hb dX10_account_62 rfl (lv_at hl 0 rfl) ?_
          refine tw_get X hR hT 11 (by decide) q2952 (v := .int (iI (t.1 11))) (congrArg (fun z => some (Value.int (iI z))) (((hE_t_10 11 (by decide)).1).trans (hE_t_1 11 (by decide)).1)) dX10_account_63 ?_
          have rg_t_11 := hTb.ri 11 (by decide) (by decide)
          exact h_ireturn hx hb hlk hret hR hL rfl ⟨(by unfold qAcc; rw [ans_t hok]; first | (rw [if_pos (by omega)]; done) | (rw [if_neg (by omega), if_pos (by omega)]; done) | (rw [if_neg (by omega), if_neg (by omega), if_pos (by omega)]; done) | (rw [if_neg (by omega), if_neg (by omega), if_neg (by omega), if_pos (by omega)]; done) | (rw [if_neg (by omega), if_neg (by omega), if_neg (by omega), if_neg (by omega), if_pos (by omega)]; done) | (rw [if_neg (by omega), if_neg (by omega), if_neg (by omega), if_neg (by omega), if_neg (by omega), if_pos (by omega)]; done) | (rw [if_neg (by omega), if_neg (by omega), if_neg (by omega), if_neg (by omega), if_neg (by omega), if_neg (by omega), if_pos (by omega)]; done) | (rw [if_neg (by omega), if_neg (by omega), if_neg (by omega), if_neg (by omega), if_neg (by omega), if_neg (by omega), if_neg (by omega), if_pos (by omega)]; done) | (rw [if_neg (by omega), if_neg (by omega), if_neg (by omega), if_neg (by omega), if_neg (by omega), if_neg (by omega), if_neg (by omega)]; done) | (rw [if_neg (by omega), if_neg (by omega), if_neg (by omega), if_neg (by omega), if_neg (by omega), if_neg (by omega)]; done) | (rw [if_neg (by omega), if_neg (by omega), if_neg (by omega), if_neg (by omega), if_neg (by omega)]; done) | (rw [if_neg (by omega), if_neg (by omega), if_neg (by omega), if_neg (by omega)]; done) | (rw [if_neg (by omega), if_neg (by omega), if_neg (by omega)]; done) | (rw [if_neg (by omega), if_neg (by omega)]; done) | (rw [if_neg (by omega)]; done)), ⟨t_10, hT, (TwE.tr (S2 := [0]) (TwE.tr (S2 := [0]) (TwE.rf : TwE [] t t) hE_t_1 rfl rfl) hE_t_10 rfl rfl), (by rw [hth]; unfold qAcc; rw [ans_t hok])⟩⟩ (by omega) (by omega) rfl rfl dX10_account_66
        ·
          refine lv_aload_n hx hb dX10_account_55 rfl (lv_at hl 0 rfl) ?_
          refine tw_get X hR hT 10 (by decide) q2951 (v := .int (iI (t.1 10))) (congrArg (fun z => some (Value.int (iI z))) (((hE_t_10 10 (by decide)).1).trans (hE_t_1 10 (by decide)).1)) dX10_account_56 ?_
          have rg_t_10 := hTb.ri 10 (by decide) (by decide)
          refine lv_goto (tgt := 66) hx hb dX10_account_59 (by decide) ?_
          exact h_ireturn hx hb hlk hret hR hL rfl ⟨(by unfold qAcc; rw [ans_t hok]; first | (rw [if_pos (by omega)]; done) | (rw [if_neg (by omega), if_pos (by omega)]; done) | (rw [if_neg (by omega), if_neg (by omega), if_pos (by omega)]; done) | (rw [if_neg (by omega), if_neg (by omega), if_neg (by omega), if_pos (by omega)]; done) | (rw [if_neg (by omega), if_neg (by omega), if_neg (by omega), if_neg (by omega), if_pos (by omega)]; done) | (rw [if_neg (by omega), if_neg (by omega), if_neg (by omega), if_neg (by omega), if_neg (by omega), if_pos (by omega)]; done) | (rw [if_neg (by omega), if_neg (by omega), if_neg (by omega), if_neg (by omega), if_neg (by omega), if_neg (by omega), if_pos (by omega)]; done) | (rw [if_neg (by omega), if_neg (by omega), if_neg (by omega), if_neg (by omega), if_neg (by omega), if_neg (by omega), if_neg (by omega), if_pos (by omega)]; done) | (rw [if_neg (by omega), if_neg (by omega), if_neg (by omega), if_neg (by omega), if_neg (by omega), if_neg (by omega), if_neg (by omega)]; done) | (rw [if_neg (by omega), if_neg (by omega), if_neg (by omega), if_neg (by omega), if_neg (by omega), if_neg (by omega)]; done) | (rw [if_neg (by omega), if_neg (by omega), if_neg (by omega), if_neg (by omega), if_neg (by omega)]; done) | (rw [if_neg (by omega), if_neg (by omega), if_neg (by omega), if_neg (by omega)]; done) | (rw [if_neg (by omega), if_neg (by omega), if_neg (by omega)]; done) | (rw [if_neg (by omega), if_neg (by omega)]; done) | (rw [if_neg (by omega)]; done)), ⟨t_10, hT, (TwE.tr (S2 := [0]) (TwE.tr (S2 := [0]) (TwE.rf : TwE [] t t) hE_t_1 rfl rfl) hE_t_10 rfl rfl), (by rw [hth]; unfold qAcc; rw [ans_t hok])⟩⟩ (by omega) (by omega) rfl rfl dX10_account_66
      ·
        refine lv_aload_n hx hb dX10_account_43 rfl (lv_at hl 0 rfl) ?_
        refine tw_get X hR hT 9 (by decide) q2950 (v := .int (iI (t.1 9))) (congrArg (fun z => some (Value.int (iI z))) (((hE_t_10 9 (by decide)).1).trans (hE_t_1 9 (by decide)).1)) dX10_account_44 ?_
        have rg_t_9 := hTb.ri 9 (by decide) (by decide)
        refine lv_goto (tgt := 66) hx hb dX10_account_47 (by decide) ?_
        exact h_ireturn hx hb hlk hret hR hL rfl ⟨(by unfold qAcc; rw [ans_t hok]; first | (rw [if_pos (by omega)]; done) | (rw [if_neg (by omega), if_pos (by omega)]; done) | (rw [if_neg (by omega), if_neg (by omega), if_pos (by omega)]; done) | (rw [if_neg (by omega), if_neg (by omega), if_neg (by omega), if_pos (by omega)]; done) | (rw [if_neg (by omega), if_neg (by omega), if_neg (by omega), if_neg (by omega), if_pos (by omega)]; done) | (rw [if_neg (by omega), if_neg (by omega), if_neg (by omega), if_neg (by omega), if_neg (by omega), if_pos (by omega)]; done) | (rw [if_neg (by omega), if_neg (by omega), if_neg (by omega), if_neg (by omega), if_neg (by omega), if_neg (by omega), if_pos (by omega)]; done) | (rw [if_neg (by omega), if_neg (by omega), if_neg (by omega), if_neg (by omega), if_neg (by omega), if_neg (by omega), if_neg (by omega), if_pos (by omega)]; done) | (rw [if_neg (by omega), if_neg (by omega), if_neg (by omega), if_neg (by omega), if_neg (by omega), if_neg (by omega), if_neg (by omega)]; done) | (rw [if_neg (by omega), if_neg (by omega), if_neg (by omega), if_neg (by omega), if_neg (by omega), if_neg (by omega)]; done) | (rw [if_neg (by omega), if_neg (by omega), if_neg (by omega), if_neg (by omega), if_neg (by omega)]; done) | (rw [if_neg (by omega), if_neg (by omega), if_neg (by omega), if_neg (by omega)]; done) | (rw [if_neg (by omega), if_neg (by omega), if_neg (by omega)]; done) | (rw [if_neg (by omega), if_neg (by omega)]; done) | (rw [if_neg (by omega)]; done)), ⟨t_10, hT, (TwE.tr (S2 := [0]) (TwE.tr (S2 := [0]) (TwE.rf : TwE [] t t) hE_t_1 rfl rfl) hE_t_10 rfl rfl), (by rw [hth]; unfold qAcc; rw [ans_t hok])⟩⟩ (by omega) (by omega) rfl rfl dX10_account_66
    ·
      refine lv_aload_n hx hb dX10_account_29 rfl (lv_at hl 0 rfl) ?_
      refine h_iconst hx hb dX10_account_30 ?_
      refine lv_iload_n hx hb dX10_account_31 rfl (lv_at hl 1 rfl) ?_
      refine h_iadd hx hb dX10_account_32 ?_
      refine h_iconst hx hb dX10_account_33 ?_
      refine h_isub hx hb dX10_account_34 ?_
      refine W.eq (g2 := F0 m9 35 ls [.int (iI (((5 + (x - 3).toNat : Nat) : Int))), .ref a]) (congrArg (fun z_ : Int => F0 m9 35 ls [.int (iI (z_)), .ref a]) (show ((5 + x) - 3 : Int) = ((5 + (x - 3).toNat : Nat) : Int) from (by omega))) ?_
      -- call SpokenMarksModel.head
      refine h_kIp (h_runV X hR (m_head l G w_8 a ad t_10 hT.1 (5 + (x - 3).toNat) (by omega)) pn_yX10_head (hasC.of hT.1.ob rfl) q2789 q2791 qs44 q161 q2792 ⟨by decide, by decide⟩ hl.1 (Nat.le_of_ble_eq_true rfl) dX10_account_35 ⟨by omega, by omega⟩) hL (fun H locs hR hL => ?_)
      refine W.eq (g2 := F0 m9 38 ls [.int (iI (cAc c0 (x - 3).toNat))]) (congrArg (fun z_ : Int => F0 m9 38 ls [.int (iI (z_))]) (show (hd t_10 (5 + (x - 3).toNat : Nat) : Int) = cAc c0 (x - 3).toNat from (by exact ((congrFun (((hE_t_10 3 (by decide)).2).trans (hE_t_1 3 (by decide)).2) ((5 + (x - 3).toNat))).trans (hC.ac (x - 3).toNat (by omega)))))) ?_
      exact h_ireturn hx hb hlk hret hR hL rfl ⟨(by unfold qAcc; rw [ans_t hok]; first | (rw [if_pos (by omega)]; done) | (rw [if_neg (by omega), if_pos (by omega)]; done) | (rw [if_neg (by omega), if_neg (by omega), if_pos (by omega)]; done) | (rw [if_neg (by omega), if_neg (by omega), if_neg (by omega), if_pos (by omega)]; done) | (rw [if_neg (by omega), if_neg (by omega), if_neg (by omega), if_neg (by omega), if_pos (by omega)]; done) | (rw [if_neg (by omega), if_neg (by omega), if_neg (by omega), if_neg (by omega), if_neg (by omega), if_pos (by omega)]; done) | (rw [if_neg (by omega), if_neg (by omega), if_neg (by omega), if_neg (by omega), if_neg (by omega), if_neg (by omega), if_pos (by omega)]; done) | (rw [if_neg (by omega), if_neg (by omega), if_neg (by omega), if_neg (by omega), if_neg (by omega), if_neg (by omega), if_neg (by omega), if_pos (by omega)]; done) | (rw [if_neg (by omega), if_neg (by omega), if_neg (by omega), if_neg (by omega), if_neg (by omega), if_neg (by omega), if_neg (by omega)]; done) | (rw [if_neg (by omega), if_neg (by omega), if_neg (by omega), if_neg (by omega), if_neg (by omega), if_neg (by omega)]; done) | (rw [if_neg (by omega), if_neg (by omega), if_neg (by omega), if_neg (by omega), if_neg (by omega)]; done) | (rw [if_neg (by omega), if_neg (by omega), if_neg (by omega), if_neg (by omega)]; done) | (rw [if_neg (by omega), if_neg (by omega), if_neg (by omega)]; done) | (rw [if_neg (by omega), if_neg (by omega)]; done) | (rw [if_neg (by omega)]; done)), ⟨t_10, hT, (TwE.tr (S2 := [0]) (TwE.tr (S2 := [0]) (TwE.rf : TwE [] t t) hE_t_1 rfl rfl) hE_t_10 rfl rfl), (by rw [hth]; unfold qAcc; rw [ans_t hok])⟩⟩ (by omega) (by omega) rfl rfl dX10_account_38
  ·
    have hno := b2i_0.mp (b2i_n1.mp c_f)
    have hth : t_10.1 0 = _ := (et_11).trans (if_pos (b2i_n1.mp c_f))
    refine h_iconst hx hb dX10_account_22 ?_
    exact h_ireturn hx hb hlk hret hR hL rfl ⟨(by unfold qAcc; rw [ans_f hno]), ⟨t_10, hT, (TwE.tr (S2 := [0]) (TwE.tr (S2 := [0]) (TwE.rf : TwE [] t t) hE_t_1 rfl rfl) hE_t_10 rfl rfl), (by rw [hth]; unfold qAcc; rw [ans_f hno])⟩⟩ (by omega) (by omega) rfl rfl dX10_account_23

set_option maxHeartbeats 4000000 in
set_option maxRecDepth 100000 in
/-- noPart -/
theorem m_noPart (l : Launch) (G : Gl) (w : Wd) (a : Nat) (ad : Nat → Nat) (t : Tw) (hT : TwAt G w a ad t) (x : Int) (k : Int) (c0 : Cat) (hC : RowIs (t.2 3) c0) (h1 : R32 x) (h2 : R32 k) (h0 : t.1 0 = 0) : HM l yX10_noPart cX10_noPart 3 (some .boolean) 4 0 0 G [.ref a, .int (iI (x)), .int (iI (k))] w (QI G (fun z_ w_ => z_ = b2i ¬ okP c0 x k = true ∧ ∃ t_ : Tw, TwS G w w_ a ad t_ ∧ TwE [0] t t_ ∧ t_.1 0 = if okP c0 x k = true then 0 else 1)) := by
  refine HM.mk (by decide +kernel) (Nat.le_of_ble_eq_true rfl) ?_
  intro p9 e9 s9 m9 a9 b9 meth9 c9 ls X hret hlk hnm hl H hR
  have hx := X.1.1
  have hb := X.1.2.1
  have hl : lv_has ls 3 [(0, .ref a), (1, .int (iI (x))), (2, .int (iI (k)))] := hl
  have hL : LK G [] := fun q h => absurd h List.not_mem_nil
  generalize ([] : List Loc) = locs at hL ⊢
  have hTb := hT
  have hT : TwS G w w a ad t := TwS.rf hT
  have hn40 := hC.n40
  have hsh8 := hC.sh8
  have hrr := rkOf_r c0 x
  refine lv_aload_n hx hb dX10_noPart_0 rfl (lv_at hl 0 rfl) ?_
  refine lv_iload_n hx hb dX10_noPart_1 rfl (lv_at hl 1 rfl) ?_
  -- call SpokenMarksModel.noMark
  refine h_kI (h_runV X hR (m_noMark l G w a ad t hT.1 x c0 hC h1 h0) pn_yX10_noMark (hasC.of hT.1.ob rfl) q3097 q3099 qs85 q161 q3100 ⟨by decide, by decide⟩ hl.1 (Nat.le_of_ble_eq_true rfl) dX10_noPart_2 ⟨by omega, by omega⟩) hL (fun z_1 w_2 hp_3 H locs hR hL => ?_)
  obtain ⟨rfl, t_4, hT2, hE_t_4, et_5⟩ := hp_3
  have hT := hT.tr hT2
  clear hT2
  refine h_if_ne hx hb 35 dX10_noPart_5 (by decide) (b2i_R _) (fun c_m => ?_) (fun c_m => ?_)
  ·
    have hnm := b2i_n1.mp c_m
    have hth : t_4.1 0 = 1 := (et_5).trans (if_pos hnm)
    refine h_iconst hx hb dX10_noPart_35 ?_
    refine lv_goto (tgt := 40) hx hb dX10_noPart_36 (by decide) ?_
    exact h_ireturn hx hb hlk hret hR hL (nar01 (by omega)) ⟨(b2i_t (p := ¬ okP c0 x k = true) (fun q => (okP_iff.mp q).1 hnm)).symm, ⟨t_4, hT, (TwE.tr (S2 := [0]) (TwE.rf : TwE [] t t) hE_t_4 rfl rfl), (by rw [hth, if_neg (fun q => (okP_iff.mp q).1 hnm)])⟩⟩ (by omega) (by omega) rfl rfl dX10_noPart_40
  ·
    have hnm := b2i_0.mp c_m
    have hth : t_4.1 0 = 0 := (et_5).trans (if_neg hnm)
    have hl5 := (hC.m (rkOf c0 x).toNat (by omega)).2.2.2.l5
    refine lv_aload_n hx hb dX10_noPart_8 rfl (lv_at hl 0 rfl) ?_
    refine lv_iload_n hx hb dX10_noPart_9 rfl (lv_at hl 2 rfl) ?_
    refine h_i2l hx hb dX10_noPart_10 (by omega) ?_
    refine h_lconst hx hb 0 dX10_noPart_11 rfl ?_
    refine lv_aload_n hx hb dX10_noPart_12 rfl (lv_at hl 0 rfl) ?_
    refine lv_aload_n hx hb dX10_noPart_13 rfl (lv_at hl 0 rfl) ?_
    refine lv_iload_n hx hb dX10_noPart_14 rfl (lv_at hl 1 rfl) ?_
    -- call SpokenMarksModel.rankOf
    refine h_kIp (h_runV X hR (m_rankOf l G w_2 a ad t_4 hT.1 x c0 (by rw [(hE_t_4 3 (by decide)).2]; exact hC) h1) pn_yX10_rankOf (hasC.of hT.1.ob rfl) q3101 q3103 qs86 q161 q3104 ⟨by decide, by decide⟩ hl.1 (Nat.le_of_ble_eq_true rfl) dX10_noPart_15 ⟨by omega, by omega⟩) hL (fun H locs hR hL => ?_)
    refine W.eq (g2 := F0 m9 18 ls [.int (iI (((rkOf c0 x).toNat : Int))), .ref a, .long (lI (0)), .long (lI (k)), .ref a]) (congrArg (fun z_ : Int => F0 m9 18 ls [.int (iI (z_)), .ref a, .long (lI (0)), .long (lI (k)), .ref a]) (show (rkOf c0 x : Int) = ((rkOf c0 x).toNat : Int) from (by omega))) ?_
    refine h_iconst hx hb dX10_noPart_18 ?_
    -- call SpokenMarksModel.of
    refine h_kIp (h_runV X hR (m_of l G w_2 a ad t_4 hT.1 ((rkOf c0 x).toNat) 3 (by omega) (by omega)) pn_yX10_of (hasC.of hT.1.ob rfl) q2827 q2829 qs53 q161 q2830 ⟨by decide, by decide⟩ hl.1 (Nat.le_of_ble_eq_true rfl) dX10_noPart_19 ⟨by omega, by omega⟩) hL (fun H locs hR hL => ?_)
    refine W.eq (g2 := F0 m9 22 ls [.int (iI (((mPs (mk c0 (rkOf c0 x).toNat)).length : Int))), .long (lI (0)), .long (lI (k)), .ref a]) (congrArg (fun z_ : Int => F0 m9 22 ls [.int (iI (z_)), .long (lI (0)), .long (lI (k)), .ref a]) (show (tof t_4 ((rkOf c0 x).toNat : Nat) 3 : Int) = ((mPs (mk c0 (rkOf c0 x).toNat)).length : Int) from (by exact ((congrFun ((hE_t_4 3 (by decide)).2) ((32 + 14 * (rkOf c0 x).toNat + 3))).trans ((hC.m (rkOf c0 x).toNat (by omega)).2.2.2.len))))) ?_
    refine h_iconst hx hb dX10_noPart_22 ?_
    refine h_isub hx hb dX10_noPart_23 ?_
    refine h_i2l hx hb dX10_noPart_24 (by omega) ?_
    -- call SpokenMarksModel.in
    refine h_kIp (h_runS X hR (m_in l G w_2  k 0 ((((mPs (mk c0 (rkOf c0 x).toNat)).length : Int)) - 1) (by omega) (by omega) (by omega)) pn_yX10_in q2730 q2731 q161 q2732 ⟨by decide, by decide⟩ hl.1 (Nat.le_of_ble_eq_true rfl) dX10_noPart_25 ⟨by omega, by omega⟩) hL (fun H locs hR hL => ?_)
    refine h_iconst hx hb dX10_noPart_28 ?_
    -- call SpokenMarksModel.fails
    refine h_kI (h_runV X hR (m_fails l G w_2 a ad t_4 hT.1 (b2i (0 ≤ k ∧ k ≤ ((((mPs (mk c0 (rkOf c0 x).toNat)).length : Int)) - 1))) 1 (b2i_R _) ⟨by decide, by decide⟩ hth) pn_yX10_fails (hasC.of hT.1.ob rfl) q2733 q2735 qs33 q161 q2736 ⟨by decide, by decide⟩ hl.1 (Nat.le_of_ble_eq_true rfl) dX10_noPart_29 ⟨by omega, by omega⟩) hL (fun z_15 w_16 hp_17 H locs hR hL => ?_)
    obtain ⟨rfl, t_18, hT2, hE_t_18, et_19⟩ := hp_17
    have hT := hT.tr hT2
    clear hT2
    refine h_if_eq hx hb 39 dX10_noPart_32 (by decide) (b2i_R _) (fun c_f => ?_) (fun c_f => ?_)
    ·
      have hok := b2i_n1.mp (b2i_0.mp c_f)
      have hth : t_18.1 0 = 0 := (et_19).trans (if_neg (b2i_0.mp c_f))
      refine h_iconst hx hb dX10_noPart_39 ?_
      exact h_ireturn hx hb hlk hret hR hL (nar01 (by omega)) ⟨(by rw [b2i_f (fun q => q (okP_t hnm ⟨hok.1, by have := hok.2; omega⟩))]), ⟨t_18, hT, (TwE.tr (S2 := [0]) (TwE.tr (S2 := [0]) (TwE.rf : TwE [] t t) hE_t_4 rfl rfl) hE_t_18 rfl rfl), (by rw [hth, if_pos (okP_t hnm ⟨hok.1, by have := hok.2; omega⟩)])⟩⟩ (by omega) (by omega) rfl rfl dX10_noPart_40
    ·
      have hno := b2i_0.mp (b2i_n1.mp c_f)
      have hth : t_18.1 0 = _ := (et_19).trans (if_pos (b2i_n1.mp c_f))
      refine h_iconst hx hb dX10_noPart_35 ?_
      refine lv_goto (tgt := 40) hx hb dX10_noPart_36 (by decide) ?_
      exact h_ireturn hx hb hlk hret hR hL (nar01 (by omega)) ⟨(b2i_t (p := ¬ okP c0 x k = true) (fun q => hno ⟨(okP_iff.mp q).2.1, by have := (okP_iff.mp q).2.2; omega⟩)).symm, ⟨t_18, hT, (TwE.tr (S2 := [0]) (TwE.tr (S2 := [0]) (TwE.rf : TwE [] t t) hE_t_4 rfl rfl) hE_t_18 rfl rfl), (by rw [hth, if_neg (fun q => hno ⟨(okP_iff.mp q).2.1, by have := (okP_iff.mp q).2.2; omega⟩)])⟩⟩ (by omega) (by omega) rfl rfl dX10_noPart_40

set_option maxHeartbeats 4000000 in
set_option maxRecDepth 100000 in
/-- number -/
theorem m_number (l : Launch) (G : Gl) (w : Wd) (a : Nat) (ad : Nat → Nat) (t : Tw) (hT : TwAt G w a ad t) (x : Int) (k : Int) (c0 : Cat) (hC : RowIs (t.2 3) c0) (hx_x : R32 x) (hx_k : R32 k) : HM l yX10_number cX10_number 5 (some .int) 5 0 0 G [.ref a, .int (iI (x)), .int (iI (k))] w (QI G (fun z_ w_ => z_ = (qNum c0 x k).2 ∧ ∃ t_ : Tw, TwS G w w_ a ad t_ ∧ TwE [0] t t_ ∧ t_.1 0 = (qNum c0 x k).1)) := by
  refine HM.mk (by decide +kernel) (Nat.le_of_ble_eq_true rfl) ?_
  intro p9 e9 s9 m9 a9 b9 meth9 c9 ls X hret hlk hnm hl H hR
  have hx := X.1.1
  have hb := X.1.2.1
  have hl : lv_has ls 5 [(0, .ref a), (1, .int (iI (x))), (2, .int (iI (k)))] := hl
  have hL : LK G [] := fun q h => absurd h List.not_mem_nil
  generalize ([] : List Loc) = locs at hL ⊢
  have hTb := hT
  have hT : TwS G w w a ad t := TwS.rf hT
  have hn40 := hC.n40
  have hsh8 := hC.sh8
  have hrr := rkOf_r c0 x
  refine lv_aload_n hx hb dX10_number_0 rfl (lv_at hl 0 rfl) ?_
  refine h_iconst hx hb dX10_number_1 ?_
  refine tw_puti X hR hL hT 0 (by decide) q2941 rfl rfl rfl twF_s0 (by omega) dX10_number_2 (fun t_1 et_2 w_3 hT H locs hR hL => ?_)
  have hE_t_1 := TwE.put et_2
  have hv_t_1 := tput_v et_2
  refine lv_aload_n hx hb dX10_number_5 rfl (lv_at hl 0 rfl) ?_
  refine lv_iload_n hx hb dX10_number_6 rfl (lv_at hl 1 rfl) ?_
  refine lv_iload_n hx hb dX10_number_7 rfl (lv_at hl 2 rfl) ?_
  -- call SpokenMarksModel.noPart
  refine h_kI (h_runV X hR (m_noPart l G w_3 a ad t_1 hT.1 x k c0 (by rw [(hE_t_1 3 (by decide)).2]; exact hC) hx_x hx_k hv_t_1) pn_yX10_noPart (hasC.of hT.1.ob rfl) q3117 q3119 qs89 q161 q3120 ⟨by decide, by decide⟩ hl.1 (Nat.le_of_ble_eq_true rfl) dX10_number_8 ⟨by omega, by omega⟩) hL (fun z_4 w_5 hp_6 H locs hR hL => ?_)
  obtain ⟨rfl, t_7, hT2, hE_t_7, et_8⟩ := hp_6
  have hT := hT.tr hT2
  clear hT2
  refine h_if_eq hx hb 16 dX10_number_11 (by decide) (b2i_R _) (fun c_f => ?_) (fun c_f => ?_)
  ·
    have hok := Decidable.not_not.mp (b2i_0.mp c_f)
    have hok2 := okP_iff.mp hok
    have hth : t_7.1 0 = 0 := (et_8).trans (if_pos hok)
    have hl5 := (hC.m (rkOf c0 x).toNat (by omega)).2.2.2.l5
    have hpw : PrtW (pAt c0 x k) := getW hC.s (by omega) (by omega)
    have hpr := encP_r hpw
    have hew := earP_w hC.s.2.2.2.2.1 hpw
    refine lv_aload_n hx hb dX10_number_16 rfl (lv_at hl 0 rfl) ?_
    refine lv_aload_n hx hb dX10_number_17 rfl (lv_at hl 0 rfl) ?_
    refine lv_iload_n hx hb dX10_number_18 rfl (lv_at hl 1 rfl) ?_
    -- call SpokenMarksModel.rankOf
    refine h_kIp (h_runV X hR (m_rankOf l G w_5 a ad t_7 hT.1 x c0 (by rw [((hE_t_7 3 (by decide)).2).trans (hE_t_1 3 (by decide)).2]; exact hC) hx_x) pn_yX10_rankOf (hasC.of hT.1.ob rfl) q3101 q3103 qs86 q161 q3104 ⟨by decide, by decide⟩ hl.1 (Nat.le_of_ble_eq_true rfl) dX10_number_19 ⟨by omega, by omega⟩) hL (fun H locs hR hL => ?_)
    refine W.eq (g2 := F0 m9 22 ls [.int (iI (((rkOf c0 x).toNat : Int))), .ref a]) (congrArg (fun z_ : Int => F0 m9 22 ls [.int (iI (z_)), .ref a]) (show (rkOf c0 x : Int) = ((rkOf c0 x).toNat : Int) from (by omega))) ?_
    refine lv_iload_n hx hb dX10_number_22 rfl (lv_at hl 2 rfl) ?_
    refine W.eq (g2 := F0 m9 23 ls [.int (iI (((k.toNat : Nat) : Int))), .int (iI (((rkOf c0 x).toNat : Int))), .ref a]) (congrArg (fun z_ : Int => F0 m9 23 ls [.int (iI (z_)), .int (iI (((rkOf c0 x).toNat : Int))), .ref a]) (show (k : Int) = ((k.toNat : Nat) : Int) from (by omega))) ?_
    -- call SpokenMarksModel.part
    refine h_kLp (h_runV X hR (m_part l G w_5 a ad t_7 hT.1 ((rkOf c0 x).toNat) k.toNat (by omega) (by omega)) pn_yX10_part (hasC.of hT.1.ob rfl) q2831 q2833 qs54 q161 q2834 ⟨by decide, by decide⟩ hl.1 (Nat.le_of_ble_eq_true rfl) dX10_number_23 ⟨by omega, by omega⟩) hL (fun H locs hR hL => ?_)
    refine W.eq (g2 := F0 m9 26 ls [.long (lI (encP (pAt c0 x k)))]) (congrArg (fun z_ : Int => F0 m9 26 ls [.long (lI (z_))]) (show (t_7.2 3 (32 + 14 * ((rkOf c0 x).toNat : Nat) + 4 + k.toNat) : Int) = encP (pAt c0 x k) from (by exact ((congrFun (((hE_t_7 3 (by decide)).2).trans (hE_t_1 3 (by decide)).2) ((32 + 14 * (rkOf c0 x).toNat + 4 + k.toNat))).trans ((hC.m (rkOf c0 x).toNat (by omega)).2.2.2.pt (by omega)))))) ?_
    refine lv_lstore_n (lv' := [(3, .long (lI (encP (pAt c0 x k)))), (0, .ref a), (1, .int (iI (x))), (2, .int (iI (k)))]) hx hb dX10_number_26 rfl hl (by decide) rfl (fun ls hl => ?_)
    refine lv_lload_n hx hb dX10_number_27 rfl (lv_at hl 0 rfl) ?_
    -- call SpokenMarksModel.isWordPart
    refine h_kIp (h_runS X hR (m_isWordPart l G w_5  (encP (pAt c0 x k)) (by omega)) pn_yX10_isWordPart q2839 q2840 q161 q2841 ⟨by decide, by decide⟩ hl.1 (Nat.le_of_ble_eq_true rfl) dX10_number_28 ⟨by omega, by omega⟩) hL (fun H locs hR hL => ?_)
    refine h_if_eq hx hb 38 dX10_number_31 (by decide) (b2i_R _) (fun c_w => ?_) (fun c_w => ?_)
    ·
      refine lv_lload_n hx hb dX10_number_38 rfl (lv_at hl 0 rfl) ?_
      refine h_l2i hx hb dX10_number_39 ?_
      exact h_ireturn hx hb hlk hret hR hL rfl ⟨(by unfold qNum; rw [ans_t hok]; rw [numP_enc hpw]; first | (rw [if_pos (b2i_n1.mp c_w)]; done) | (rw [if_neg (b2i_0.mp c_w)]; done)), ⟨t_7, hT, (TwE.tr (S2 := [0]) (TwE.tr (S2 := [0]) (TwE.rf : TwE [] t t) hE_t_1 rfl rfl) hE_t_7 rfl rfl), (by rw [hth]; unfold qNum; rw [ans_t hok])⟩⟩ (by omega) (by omega) rfl rfl dX10_number_40
    ·
      refine h_iconst hx hb dX10_number_34 ?_
      refine lv_goto (tgt := 40) hx hb dX10_number_35 (by decide) ?_
      exact h_ireturn hx hb hlk hret hR hL rfl ⟨(by unfold qNum; rw [ans_t hok]; rw [numP_enc hpw]; first | (rw [if_pos (b2i_n1.mp c_w)]; done) | (rw [if_neg (b2i_0.mp c_w)]; done)), ⟨t_7, hT, (TwE.tr (S2 := [0]) (TwE.tr (S2 := [0]) (TwE.rf : TwE [] t t) hE_t_1 rfl rfl) hE_t_7 rfl rfl), (by rw [hth]; unfold qNum; rw [ans_t hok])⟩⟩ (by omega) (by omega) rfl rfl dX10_number_40
  ·
    have hno := b2i_n1.mp c_f
    have hth : t_7.1 0 = 1 := (et_8).trans (if_neg hno)
    refine h_iconst hx hb dX10_number_14 ?_
    exact h_ireturn hx hb hlk hret hR hL rfl ⟨(by unfold qNum; rw [ans_f hno]), ⟨t_7, hT, (TwE.tr (S2 := [0]) (TwE.tr (S2 := [0]) (TwE.rf : TwE [] t t) hE_t_1 rfl rfl) hE_t_7 rfl rfl), (by rw [hth]; unfold qNum; rw [ans_f hno])⟩⟩ (by omega) (by omega) rfl rfl dX10_number_15

set_option maxHeartbeats 4000000 in
set_option maxRecDepth 100000 in
/-- letter -/
theorem m_letterQ (l : Launch) (G : Gl) (w : Wd) (a : Nat) (ad : Nat → Nat) (t : Tw) (hT : TwAt G w a ad t) (x : Int) (k : Int) (ee : Int) (i : Int) (c0 : Cat) (hC : RowIs (t.2 3) c0) (hx_x : R32 x) (hx_k : R32 k) (hx_ee : R32 ee) (hx_i : R32 i) : HM l yX10_letter_2 cX10_letter_2 5 (some .int) 5 0 0 G [.ref a, .int (iI (x)), .int (iI (k)), .int (iI (ee)), .int (iI (i))] w (QI G (fun z_ w_ => z_ = (qLet c0 x k ee i).2 ∧ ∃ t_ : Tw, TwS G w w_ a ad t_ ∧ TwE [0, 1, 2] t t_ ∧ t_.1 0 = (qLet c0 x k ee i).1)) := by
  refine HM.mk (by decide +kernel) (Nat.le_of_ble_eq_true rfl) ?_
  intro p9 e9 s9 m9 a9 b9 meth9 c9 ls X hret hlk hnm hl H hR
  have hx := X.1.1
  have hb := X.1.2.1
  have hl : lv_has ls 5 [(0, .ref a), (1, .int (iI (x))), (2, .int (iI (k))), (3, .int (iI (ee))), (4, .int (iI (i)))] := hl
  have hL : LK G [] := fun q h => absurd h List.not_mem_nil
  generalize ([] : List Loc) = locs at hL ⊢
  have hTb := hT
  have hT : TwS G w w a ad t := TwS.rf hT
  have hn40 := hC.n40
  have hsh8 := hC.sh8
  have hrr := rkOf_r c0 x
  refine lv_aload_n hx hb dX10_letter_2_0 rfl (lv_at hl 0 rfl) ?_
  refine h_iconst hx hb dX10_letter_2_1 ?_
  refine tw_puti X hR hL hT 0 (by decide) q2941 rfl rfl rfl twF_s0 (by omega) dX10_letter_2_2 (fun t_1 et_2 w_3 hT H locs hR hL => ?_)
  have hE_t_1 := TwE.put et_2
  have hv_t_1 := tput_v et_2
  refine lv_aload_n hx hb dX10_letter_2_5 rfl (lv_at hl 0 rfl) ?_
  refine lv_iload_n hx hb dX10_letter_2_6 rfl (lv_at hl 1 rfl) ?_
  refine lv_iload_n hx hb dX10_letter_2_7 rfl (lv_at hl 2 rfl) ?_
  -- call SpokenMarksModel.noPart
  refine h_kI (h_runV X hR (m_noPart l G w_3 a ad t_1 hT.1 x k c0 (by rw [(hE_t_1 3 (by decide)).2]; exact hC) hx_x hx_k hv_t_1) pn_yX10_noPart (hasC.of hT.1.ob rfl) q3117 q3119 qs89 q161 q3120 ⟨by decide, by decide⟩ hl.1 (Nat.le_of_ble_eq_true rfl) dX10_letter_2_8 ⟨by omega, by omega⟩) hL (fun z_4 w_5 hp_6 H locs hR hL => ?_)
  obtain ⟨rfl, t_7, hT2, hE_t_7, et_8⟩ := hp_6
  have hT := hT.tr hT2
  clear hT2
  refine h_if_eq hx hb 16 dX10_letter_2_11 (by decide) (b2i_R _) (fun c_f => ?_) (fun c_f => ?_)
  ·
    have hok := Decidable.not_not.mp (b2i_0.mp c_f)
    have hok2 := okP_iff.mp hok
    have hth : t_7.1 0 = 0 := (et_8).trans (if_pos hok)
    have hl5 := (hC.m (rkOf c0 x).toNat (by omega)).2.2.2.l5
    have hpw : PrtW (pAt c0 x k) := getW hC.s (by omega) (by omega)
    have hpr := encP_r hpw
    have hew := earP_w hC.s.2.2.2.2.1 hpw
    refine lv_aload_n hx hb dX10_letter_2_16 rfl (lv_at hl 0 rfl) ?_
    refine lv_iload_n hx hb dX10_letter_2_17 rfl (lv_at hl 3 rfl) ?_
    refine h_if_eq hx hb 34 dX10_letter_2_18 (by decide) (by omega) (fun c_i => ?_) (fun c_i => ?_)
    ·
      refine lv_aload_n hx hb dX10_letter_2_34 rfl (lv_at hl 0 rfl) ?_
      refine lv_aload_n hx hb dX10_letter_2_35 rfl (lv_at hl 0 rfl) ?_
      refine lv_iload_n hx hb dX10_letter_2_36 rfl (lv_at hl 1 rfl) ?_
      -- call SpokenMarksModel.rankOf
      refine h_kIp (h_runV X hR (m_rankOf l G w_5 a ad t_7 hT.1 x c0 (by rw [((hE_t_7 3 (by decide)).2).trans (hE_t_1 3 (by decide)).2]; exact hC) hx_x) pn_yX10_rankOf (hasC.of hT.1.ob rfl) q3101 q3103 qs86 q161 q3104 ⟨by decide, by decide⟩ hl.1 (Nat.le_of_ble_eq_true rfl) dX10_letter_2_37 ⟨by omega, by omega⟩) hL (fun H locs hR hL => ?_)
      refine W.eq (g2 := F0 m9 40 ls [.int (iI (((rkOf c0 x).toNat : Int))), .ref a, .ref a]) (congrArg (fun z_ : Int => F0 m9 40 ls [.int (iI (z_)), .ref a, .ref a]) (show (rkOf c0 x : Int) = ((rkOf c0 x).toNat : Int) from (by omega))) ?_
      refine lv_iload_n hx hb dX10_letter_2_40 rfl (lv_at hl 2 rfl) ?_
      refine W.eq (g2 := F0 m9 41 ls [.int (iI (((k.toNat : Nat) : Int))), .int (iI (((rkOf c0 x).toNat : Int))), .ref a, .ref a]) (congrArg (fun z_ : Int => F0 m9 41 ls [.int (iI (z_)), .int (iI (((rkOf c0 x).toNat : Int))), .ref a, .ref a]) (show (k : Int) = ((k.toNat : Nat) : Int) from (by omega))) ?_
      -- call SpokenMarksModel.part
      refine h_kLp (h_runV X hR (m_part l G w_5 a ad t_7 hT.1 ((rkOf c0 x).toNat) k.toNat (by omega) (by omega)) pn_yX10_part (hasC.of hT.1.ob rfl) q2831 q2833 qs54 q161 q2834 ⟨by decide, by decide⟩ hl.1 (Nat.le_of_ble_eq_true rfl) dX10_letter_2_41 ⟨by omega, by omega⟩) hL (fun H locs hR hL => ?_)
      refine W.eq (g2 := F0 m9 44 ls [.long (lI (encP (pAt c0 x k))), .ref a]) (congrArg (fun z_ : Int => F0 m9 44 ls [.long (lI (z_)), .ref a]) (show (t_7.2 3 (32 + 14 * ((rkOf c0 x).toNat : Nat) + 4 + k.toNat) : Int) = encP (pAt c0 x k) from (by exact ((congrFun (((hE_t_7 3 (by decide)).2).trans (hE_t_1 3 (by decide)).2) ((32 + 14 * (rkOf c0 x).toNat + 4 + k.toNat))).trans ((hC.m (rkOf c0 x).toNat (by omega)).2.2.2.pt (by omega)))))) ?_
      refine lv_iload hx hb dX10_letter_2_44 (lv_at hl 4 rfl) ?_
      -- call SpokenMarksModel.letterOf
      refine h_kI (h_runV X hR (m_letterOf l G w_5 a ad t_7 hT.1 i (pAt c0 x k) hpw hx_i) pn_yX10_letterOf (hasC.of hT.1.ob rfl) q3129 q3131 qs91 q161 q3132 ⟨by decide, by decide⟩ hl.1 (Nat.le_of_ble_eq_true rfl) dX10_letter_2_46 ⟨by omega, by omega⟩) hL (fun z_15 w_16 hp_17 H locs hR hL => ?_)
      obtain ⟨rfl, t_18, hT2, hE_t_18, et_19⟩ := hp_17
      have hT := hT.tr hT2
      clear hT2
      have hth : t_18.1 0 = 0 := ((hE_t_18 0 (by decide)).1).trans hth
      exact h_ireturn hx hb hlk hret hR hL rfl ⟨(by unfold qLet; rw [ans_t hok]; first | (rw [if_pos c_i]; done) | (rw [if_neg (by omega)]; done)), ⟨t_18, hT, (TwE.tr (S2 := [0, 1, 2]) (TwE.tr (S2 := [0, 1, 2]) (TwE.tr (S2 := [0, 1, 2]) (TwE.rf : TwE [] t t) hE_t_1 rfl rfl) hE_t_7 rfl rfl) hE_t_18 rfl rfl), (by rw [hth]; unfold qLet; rw [ans_t hok])⟩⟩ (by omega) (by omega) rfl rfl dX10_letter_2_49
    ·
      refine lv_aload_n hx hb dX10_letter_2_21 rfl (lv_at hl 0 rfl) ?_
      refine lv_aload_n hx hb dX10_letter_2_22 rfl (lv_at hl 0 rfl) ?_
      refine lv_iload_n hx hb dX10_letter_2_23 rfl (lv_at hl 1 rfl) ?_
      -- call SpokenMarksModel.rankOf
      refine h_kIp (h_runV X hR (m_rankOf l G w_5 a ad t_7 hT.1 x c0 (by rw [((hE_t_7 3 (by decide)).2).trans (hE_t_1 3 (by decide)).2]; exact hC) hx_x) pn_yX10_rankOf (hasC.of hT.1.ob rfl) q3101 q3103 qs86 q161 q3104 ⟨by decide, by decide⟩ hl.1 (Nat.le_of_ble_eq_true rfl) dX10_letter_2_24 ⟨by omega, by omega⟩) hL (fun H locs hR hL => ?_)
      refine W.eq (g2 := F0 m9 27 ls [.int (iI (((rkOf c0 x).toNat : Int))), .ref a, .ref a]) (congrArg (fun z_ : Int => F0 m9 27 ls [.int (iI (z_)), .ref a, .ref a]) (show (rkOf c0 x : Int) = ((rkOf c0 x).toNat : Int) from (by omega))) ?_
      refine lv_iload_n hx hb dX10_letter_2_27 rfl (lv_at hl 2 rfl) ?_
      refine W.eq (g2 := F0 m9 28 ls [.int (iI (((k.toNat : Nat) : Int))), .int (iI (((rkOf c0 x).toNat : Int))), .ref a, .ref a]) (congrArg (fun z_ : Int => F0 m9 28 ls [.int (iI (z_)), .int (iI (((rkOf c0 x).toNat : Int))), .ref a, .ref a]) (show (k : Int) = ((k.toNat : Nat) : Int) from (by omega))) ?_
      -- call SpokenMarksModel.earOf
      refine h_kLp (h_runV X hR (m_earOf l G w_5 a ad t_7 hT.1 ((rkOf c0 x).toNat) k.toNat (by omega) (by omega)) pn_yX10_earOf (hasC.of hT.1.ob rfl) q3125 q3127 qs90 q161 q3128 ⟨by decide, by decide⟩ hl.1 (Nat.le_of_ble_eq_true rfl) dX10_letter_2_28 ⟨by omega, by omega⟩) hL (fun H locs hR hL => ?_)
      refine W.eq (g2 := F0 m9 31 ls [.long (lI (encP (earP (cRl c0) (pAt c0 x k)))), .ref a]) (congrArg (fun z_ : Int => F0 m9 31 ls [.long (lI (z_)), .ref a]) (show (t_7.2 3 (32 + 14 * ((rkOf c0 x).toNat : Nat) + 9 + k.toNat) : Int) = encP (earP (cRl c0) (pAt c0 x k)) from (by exact ((congrFun (((hE_t_7 3 (by decide)).2).trans (hE_t_1 3 (by decide)).2) ((32 + 14 * (rkOf c0 x).toNat + 9 + k.toNat))).trans ((hC.m (rkOf c0 x).toNat (by omega)).2.2.2.er (by omega)))))) ?_
      refine lv_goto (tgt := 44) hx hb dX10_letter_2_31 (by decide) ?_
      refine lv_iload hx hb dX10_letter_2_44 (lv_at hl 4 rfl) ?_
      -- call SpokenMarksModel.letterOf
      refine h_kI (h_runV X hR (m_letterOf l G w_5 a ad t_7 hT.1 i (earP (cRl c0) (pAt c0 x k)) hew hx_i) pn_yX10_letterOf (hasC.of hT.1.ob rfl) q3129 q3131 qs91 q161 q3132 ⟨by decide, by decide⟩ hl.1 (Nat.le_of_ble_eq_true rfl) dX10_letter_2_46 ⟨by omega, by omega⟩) hL (fun z_26 w_27 hp_28 H locs hR hL => ?_)
      obtain ⟨rfl, t_29, hT2, hE_t_29, et_30⟩ := hp_28
      have hT := hT.tr hT2
      clear hT2
      have hth : t_29.1 0 = 0 := ((hE_t_29 0 (by decide)).1).trans hth
      exact h_ireturn hx hb hlk hret hR hL rfl ⟨(by unfold qLet; rw [ans_t hok]; first | (rw [if_pos c_i]; done) | (rw [if_neg (by omega)]; done)), ⟨t_29, hT, (TwE.tr (S2 := [0, 1, 2]) (TwE.tr (S2 := [0, 1, 2]) (TwE.tr (S2 := [0, 1, 2]) (TwE.rf : TwE [] t t) hE_t_1 rfl rfl) hE_t_7 rfl rfl) hE_t_29 rfl rfl), (by rw [hth]; unfold qLet; rw [ans_t hok])⟩⟩ (by omega) (by omega) rfl rfl dX10_letter_2_49
  ·
    have hno := b2i_n1.mp c_f
    have hth : t_7.1 0 = 1 := (et_8).trans (if_neg hno)
    refine h_iconst hx hb dX10_letter_2_14 ?_
    exact h_ireturn hx hb hlk hret hR hL rfl ⟨(by unfold qLet; rw [ans_f hno]), ⟨t_7, hT, (TwE.tr (S2 := [0, 1, 2]) (TwE.tr (S2 := [0, 1, 2]) (TwE.rf : TwE [] t t) hE_t_1 rfl rfl) hE_t_7 rfl rfl), (by rw [hth]; unfold qLet; rw [ans_f hno])⟩⟩ (by omega) (by omega) rfl rfl dX10_letter_2_15

set_option maxHeartbeats 4000000 in
set_option maxRecDepth 100000 in
/-- ruleLetter -/
theorem m_ruleLetter (l : Launch) (G : Gl) (w : Wd) (a : Nat) (ad : Nat → Nat) (t : Tw) (hT : TwAt G w a ad t) (x : Int) (ee : Int) (i : Int) (c0 : Cat) (hC : RowIs (t.2 3) c0) (hx_x : R32 x) (hx_ee : R32 ee) (hx_i : R32 i) : HM l yX10_ruleLetter cX10_ruleLetter 4 (some .int) 4 0 0 G [.ref a, .int (iI (x)), .int (iI (ee)), .int (iI (i))] w (QI G (fun z_ w_ => z_ = (qRul c0 x ee i).2 ∧ ∃ t_ : Tw, TwS G w w_ a ad t_ ∧ TwE [0, 1, 2] t t_ ∧ t_.1 0 = (qRul c0 x ee i).1)) := by
  refine HM.mk (by decide +kernel) (Nat.le_of_ble_eq_true rfl) ?_
  intro p9 e9 s9 m9 a9 b9 meth9 c9 ls X hret hlk hnm hl H hR
  have hx := X.1.1
  have hb := X.1.2.1
  have hl : lv_has ls 4 [(0, .ref a), (1, .int (iI (x))), (2, .int (iI (ee))), (3, .int (iI (i)))] := hl
  have hL : LK G [] := fun q h => absurd h List.not_mem_nil
  generalize ([] : List Loc) = locs at hL ⊢
  have hTb := hT
  have hT : TwS G w w a ad t := TwS.rf hT
  have hn40 := hC.n40
  have hsh8 := hC.sh8
  have hn8 := hC.rl.2.2.1
  refine lv_aload_n hx hb dX10_ruleLetter_0 rfl (lv_at hl 0 rfl) ?_
  refine h_iconst hx hb dX10_ruleLetter_1 ?_
  refine tw_puti X hR hL hT 0 (by decide) q2941 rfl rfl rfl twF_s0 (by omega) dX10_ruleLetter_2 (fun t_1 et_2 w_3 hT H locs hR hL => ?_)
  have hE_t_1 := TwE.put et_2
  have hv_t_1 := tput_v et_2
  refine lv_aload_n hx hb dX10_ruleLetter_5 rfl (lv_at hl 0 rfl) ?_
  refine lv_iload_n hx hb dX10_ruleLetter_6 rfl (lv_at hl 1 rfl) ?_
  -- call SpokenMarksModel.noRule
  refine h_kI (h_runV X hR (m_noRule l G w_3 a ad t_1 hT.1 x c0 (by rw [(hE_t_1 3 (by decide)).2]; exact hC) hx_x hv_t_1) pn_yX10_noRule (hasC.of hT.1.ob rfl) q3137 q3139 qs92 q161 q3140 ⟨by decide, by decide⟩ hl.1 (Nat.le_of_ble_eq_true rfl) dX10_ruleLetter_7 ⟨by omega, by omega⟩) hL (fun z_4 w_5 hp_6 H locs hR hL => ?_)
  obtain ⟨rfl, t_7, hT2, hE_t_7, et_8⟩ := hp_6
  have hT := hT.tr hT2
  clear hT2
  refine h_if_eq hx hb 17 dX10_ruleLetter_10 (by decide) (b2i_R _) (fun c_f => ?_) (fun c_f => ?_)
  ·
    have hok := Decidable.not_not.mp (b2i_0.mp c_f)
    have hth : t_7.1 0 = 0 := (et_8).trans (if_pos hok)
    refine lv_aload_n hx hb dX10_ruleLetter_17 rfl (lv_at hl 0 rfl) ?_
    refine lv_aload_n hx hb dX10_ruleLetter_18 rfl (lv_at hl 0 rfl) ?_
    refine lv_iload_n hx hb dX10_ruleLetter_19 rfl (lv_at hl 1 rfl) ?_
    refine lv_iload_n hx hb dX10_ruleLetter_20 rfl (lv_at hl 2 rfl) ?_
    refine h_if_eq hx hb 28 dX10_ruleLetter_21 (by decide) (by omega) (fun c_i => ?_) (fun c_i => ?_)
    ·
      refine h_iconst hx hb dX10_ruleLetter_28 ?_
      refine W.eq (g2 := F0 m9 29 ls [.int (iI (0)), .int (iI (((x.toNat : Nat) : Int))), .ref a, .ref a]) (congrArg (fun z_ : Int => F0 m9 29 ls [.int (iI (0)), .int (iI (z_)), .ref a, .ref a]) (show (x : Int) = ((x.toNat : Nat) : Int) from (by omega))) ?_
      -- call SpokenMarksModel.ruleWord
      refine h_kLp (h_runV X hR (m_ruleWord l G w_5 a ad t_7 hT.1 x.toNat 0 (by omega) (by omega)) pn_yX10_ruleWord (hasC.of hT.1.ob rfl) q2807 q2809 qs48 q161 q2810 ⟨by decide, by decide⟩ hl.1 (Nat.le_of_ble_eq_true rfl) dX10_ruleLetter_29 ⟨by omega, by omega⟩) hL (fun H locs hR hL => ?_)
      refine W.eq (g2 := F0 m9 32 ls [.long (lI (encP (.inr (r1 (cRl c0) x.toNat)))), .ref a]) (congrArg (fun z_ : Int => F0 m9 32 ls [.long (lI (z_)), .ref a]) (show (t_7.2 3 (16 + 2 * x.toNat + 0) : Int) = encP (.inr (r1 (cRl c0) x.toNat)) from (by exact ((congrFun (((hE_t_7 3 (by decide)).2).trans (hE_t_1 3 (by decide)).2) ((16 + 2 * x.toNat + 0))).trans ((hC.rl.2.1 x.toNat (by omega)).1))))) ?_
      have hrw := hC.rl.2.2.at (k := x.toNat) (by omega)
      refine lv_iload_n hx hb dX10_ruleLetter_32 rfl (lv_at hl 3 rfl) ?_
      -- call SpokenMarksModel.letterOf
      refine h_kI (h_runV X hR (m_letterOf l G w_5 a ad t_7 hT.1 i ((.inr (r1 (cRl c0) x.toNat))) hrw.1 hx_i) pn_yX10_letterOf (hasC.of hT.1.ob rfl) q3129 q3131 qs91 q161 q3132 ⟨by decide, by decide⟩ hl.1 (Nat.le_of_ble_eq_true rfl) dX10_ruleLetter_33 ⟨by omega, by omega⟩) hL (fun z_12 w_13 hp_14 H locs hR hL => ?_)
      obtain ⟨rfl, t_15, hT2, hE_t_15, et_16⟩ := hp_14
      have hT := hT.tr hT2
      clear hT2
      have hth : t_15.1 0 = 0 := ((hE_t_15 0 (by decide)).1).trans hth
      exact h_ireturn hx hb hlk hret hR hL rfl ⟨(by unfold qRul; rw [ans_t hok]; first | (rw [if_pos c_i]; done) | (rw [if_neg (by omega)]; done)), ⟨t_15, hT, (TwE.tr (S2 := [0, 1, 2]) (TwE.tr (S2 := [0, 1, 2]) (TwE.tr (S2 := [0, 1, 2]) (TwE.rf : TwE [] t t) hE_t_1 rfl rfl) hE_t_7 rfl rfl) hE_t_15 rfl rfl), (by rw [hth]; unfold qRul; rw [ans_t hok])⟩⟩ (by omega) (by omega) rfl rfl dX10_ruleLetter_36
    ·
      refine h_iconst hx hb dX10_ruleLetter_24 ?_
      refine lv_goto (tgt := 29) hx hb dX10_ruleLetter_25 (by decide) ?_
      refine W.eq (g2 := F0 m9 29 ls [.int (iI (1)), .int (iI (((x.toNat : Nat) : Int))), .ref a, .ref a]) (congrArg (fun z_ : Int => F0 m9 29 ls [.int (iI (1)), .int (iI (z_)), .ref a, .ref a]) (show (x : Int) = ((x.toNat : Nat) : Int) from (by omega))) ?_
      -- call SpokenMarksModel.ruleWord
      refine h_kLp (h_runV X hR (m_ruleWord l G w_5 a ad t_7 hT.1 x.toNat 1 (by omega) (by omega)) pn_yX10_ruleWord (hasC.of hT.1.ob rfl) q2807 q2809 qs48 q161 q2810 ⟨by decide, by decide⟩ hl.1 (Nat.le_of_ble_eq_true rfl) dX10_ruleLetter_29 ⟨by omega, by omega⟩) hL (fun H locs hR hL => ?_)
      refine W.eq (g2 := F0 m9 32 ls [.long (lI (encP (.inr (r2 (cRl c0) x.toNat)))), .ref a]) (congrArg (fun z_ : Int => F0 m9 32 ls [.long (lI (z_)), .ref a]) (show (t_7.2 3 (16 + 2 * x.toNat + 1) : Int) = encP (.inr (r2 (cRl c0) x.toNat)) from (by exact ((congrFun (((hE_t_7 3 (by decide)).2).trans (hE_t_1 3 (by decide)).2) ((16 + 2 * x.toNat + 1))).trans ((hC.rl.2.1 x.toNat (by omega)).2))))) ?_
      have hrw := hC.rl.2.2.at (k := x.toNat) (by omega)
      refine lv_iload_n hx hb dX10_ruleLetter_32 rfl (lv_at hl 3 rfl) ?_
      -- call SpokenMarksModel.letterOf
      refine h_kI (h_runV X hR (m_letterOf l G w_5 a ad t_7 hT.1 i ((.inr (r2 (cRl c0) x.toNat))) hrw.2 hx_i) pn_yX10_letterOf (hasC.of hT.1.ob rfl) q3129 q3131 qs91 q161 q3132 ⟨by decide, by decide⟩ hl.1 (Nat.le_of_ble_eq_true rfl) dX10_ruleLetter_33 ⟨by omega, by omega⟩) hL (fun z_20 w_21 hp_22 H locs hR hL => ?_)
      obtain ⟨rfl, t_23, hT2, hE_t_23, et_24⟩ := hp_22
      have hT := hT.tr hT2
      clear hT2
      have hth : t_23.1 0 = 0 := ((hE_t_23 0 (by decide)).1).trans hth
      exact h_ireturn hx hb hlk hret hR hL rfl ⟨(by unfold qRul; rw [ans_t hok]; first | (rw [if_pos c_i]; done) | (rw [if_neg (by omega)]; done)), ⟨t_23, hT, (TwE.tr (S2 := [0, 1, 2]) (TwE.tr (S2 := [0, 1, 2]) (TwE.tr (S2 := [0, 1, 2]) (TwE.rf : TwE [] t t) hE_t_1 rfl rfl) hE_t_7 rfl rfl) hE_t_23 rfl rfl), (by rw [hth]; unfold qRul; rw [ans_t hok])⟩⟩ (by omega) (by omega) rfl rfl dX10_ruleLetter_36
  ·
    have hno := b2i_n1.mp c_f
    have hth : t_7.1 0 = 1 := (et_8).trans (if_neg hno)
    refine h_iconst hx hb dX10_ruleLetter_13 ?_
    refine lv_goto (tgt := 36) hx hb dX10_ruleLetter_14 (by decide) ?_
    exact h_ireturn hx hb hlk hret hR hL rfl ⟨(by unfold qRul; rw [ans_f hno]), ⟨t_7, hT, (TwE.tr (S2 := [0, 1, 2]) (TwE.tr (S2 := [0, 1, 2]) (TwE.rf : TwE [] t t) hE_t_1 rfl rfl) hE_t_7 rfl rfl), (by rw [hth]; unfold qRul; rw [ans_f hno])⟩⟩ (by omega) (by omega) rfl rfl dX10_ruleLetter_36

set_option maxHeartbeats 4000000 in
set_option maxRecDepth 100000 in
/-- mark -/
theorem m_mark (l : Launch) (G : Gl) (w : Wd) (a : Nat) (ad : Nat → Nat) (t : Tw) (hT : TwAt G w a ad t) (x : Int) (y : Int) (c0 : Cat) (hC : RowIs (t.2 3) c0) (hx_x : R32 x) (hx_y : R32 y) (hW : CatW c0) : HM l yX10_mark cX10_mark 4 (some .int) 5 0 0 G [.ref a, .int (iI (x)), .int (iI (y))] w (QI G (fun z_ w_ => z_ = (qMark c0 x y).2 ∧ ∃ t_ : Tw, TwS G w w_ a ad t_ ∧ TwE [0] t t_ ∧ t_.1 0 = (qMark c0 x y).1)) := by
  refine HM.mk (by decide +kernel) (Nat.le_of_ble_eq_true rfl) ?_
  intro p9 e9 s9 m9 a9 b9 meth9 c9 ls X hret hlk hnm hl H hR
  have hx := X.1.1
  have hb := X.1.2.1
  have hl : lv_has ls 4 [(0, .ref a), (1, .int (iI (x))), (2, .int (iI (y)))] := hl
  have hL : LK G [] := fun q h => absurd h List.not_mem_nil
  generalize ([] : List Loc) = locs at hL ⊢
  have hTb := hT
  have hT : TwS G w w a ad t := TwS.rf hT
  have hn40 := hC.n40
  have hsh8 := hC.sh8
  have hrr := rkOf_r c0 x
  refine lv_aload_n hx hb dX10_mark_0 rfl (lv_at hl 0 rfl) ?_
  refine h_iconst hx hb dX10_mark_1 ?_
  refine tw_puti X hR hL hT 0 (by decide) q2941 rfl rfl rfl twF_s0 (by omega) dX10_mark_2 (fun t_1 et_2 w_3 hT H locs hR hL => ?_)
  have hE_t_1 := TwE.put et_2
  have hv_t_1 := tput_v et_2
  refine lv_aload_n hx hb dX10_mark_5 rfl (lv_at hl 0 rfl) ?_
  refine lv_iload_n hx hb dX10_mark_6 rfl (lv_at hl 1 rfl) ?_
  -- call SpokenMarksModel.noMark
  refine h_kI (h_runV X hR (m_noMark l G w_3 a ad t_1 hT.1 x c0 (by rw [(hE_t_1 3 (by decide)).2]; exact hC) hx_x hv_t_1) pn_yX10_noMark (hasC.of hT.1.ob rfl) q3097 q3099 qs85 q161 q3100 ⟨by decide, by decide⟩ hl.1 (Nat.le_of_ble_eq_true rfl) dX10_mark_7 ⟨by omega, by omega⟩) hL (fun z_4 w_5 hp_6 H locs hR hL => ?_)
  obtain ⟨rfl, t_7, hT2, hE_t_7, et_8⟩ := hp_6
  have hT := hT.tr hT2
  clear hT2
  refine h_if_ne hx hb 30 dX10_mark_10 (by decide) (b2i_R _) (fun c_f => ?_) (fun c_f => ?_)
  ·
    have hno1 := b2i_n1.mp c_f
    have hth : t_7.1 0 = 1 := (et_8).trans (if_pos hno1)
    refine h_iconst hx hb dX10_mark_30 ?_
    exact h_ireturn hx hb hlk hret hR hL rfl ⟨(by unfold qMark; rw [if_pos hno1]), ⟨t_7, hT, (TwE.tr (S2 := [0]) (TwE.tr (S2 := [0]) (TwE.rf : TwE [] t t) hE_t_1 rfl rfl) hE_t_7 rfl rfl), (by rw [hth]; unfold qMark; rw [if_pos hno1])⟩⟩ (by omega) (by omega) rfl rfl dX10_mark_31
  ·
    have hok1 := b2i_0.mp c_f
    have hth : t_7.1 0 = 0 := (et_8).trans (if_neg hok1)
    refine lv_aload_n hx hb dX10_mark_13 rfl (lv_at hl 0 rfl) ?_
    refine lv_iload_n hx hb dX10_mark_14 rfl (lv_at hl 2 rfl) ?_
    refine h_i2l hx hb dX10_mark_15 (by omega) ?_
    refine h_lconst hx hb 0 dX10_mark_16 rfl ?_
    refine lv_ldc2 (v := lI (5)) hx hb X.1.2.2.2.1 (X.1.2.2.2.2 _ q3088) dX10_mark_17 ?_
    -- call SpokenMarksModel.in
    refine h_kIp (h_runS X hR (m_in l G w_5  y 0 5 (by omega) (by omega) (by omega)) pn_yX10_in q2730 q2731 q161 q2732 ⟨by decide, by decide⟩ hl.1 (Nat.le_of_ble_eq_true rfl) dX10_mark_20 ⟨by omega, by omega⟩) hL (fun H locs hR hL => ?_)
    refine h_iconst hx hb dX10_mark_23 ?_
    -- call SpokenMarksModel.fails
    refine h_kI (h_runV X hR (m_fails l G w_5 a ad t_7 hT.1 (b2i (0 ≤ y ∧ y ≤ 5)) 2 (b2i_R _) ⟨by decide, by decide⟩ hth) pn_yX10_fails (hasC.of hT.1.ob rfl) q2733 q2735 qs33 q161 q2736 ⟨by decide, by decide⟩ hl.1 (Nat.le_of_ble_eq_true rfl) dX10_mark_24 ⟨by omega, by omega⟩) hL (fun z_12 w_13 hp_14 H locs hR hL => ?_)
    obtain ⟨rfl, t_15, hT2, hE_t_15, et_16⟩ := hp_14
    have hT := hT.tr hT2
    clear hT2
    refine h_if_eq hx hb 32 dX10_mark_27 (by decide) (b2i_R _) (fun c_f => ?_) (fun c_f => ?_)
    ·
      have hok := b2i_n1.mp (b2i_0.mp c_f)
      have hth : t_15.1 0 = 0 := (et_16).trans (if_neg (b2i_0.mp c_f))
      refine lv_aload_n hx hb dX10_mark_32 rfl (lv_at hl 0 rfl) ?_
      refine lv_iload_n hx hb dX10_mark_33 rfl (lv_at hl 1 rfl) ?_
      -- call SpokenMarksModel.rankOf
      refine h_kIp (h_runV X hR (m_rankOf l G w_13 a ad t_15 hT.1 x c0 (by rw [(((hE_t_15 3 (by decide)).2).trans (hE_t_7 3 (by decide)).2).trans (hE_t_1 3 (by decide)).2]; exact hC) hx_x) pn_yX10_rankOf (hasC.of hT.1.ob rfl) q3101 q3103 qs86 q161 q3104 ⟨by decide, by decide⟩ hl.1 (Nat.le_of_ble_eq_true rfl) dX10_mark_34 ⟨by omega, by omega⟩) hL (fun H locs hR hL => ?_)
      refine W.eq (g2 := F0 m9 37 ls [.int (iI (((rkOf c0 x).toNat : Int)))]) (congrArg (fun z_ : Int => F0 m9 37 ls [.int (iI (z_))]) (show (rkOf c0 x : Int) = ((rkOf c0 x).toNat : Int) from (by omega))) ?_
      refine lv_istore_n (lv' := [(3, .int (iI (((rkOf c0 x).toNat : Int)))), (0, .ref a), (1, .int (iI (x))), (2, .int (iI (y)))]) hx hb dX10_mark_37 rfl hl (by decide) rfl (fun ls hl => ?_)
      refine lv_iload_n hx hb dX10_mark_38 rfl (lv_at hl 3 rfl) ?_
      by_cases c_20_in : (0 : Int) ≤ y ∧ y ≤ 4
      ·
        have c_20 : y = 0 ∨ y = 1 ∨ y = 2 ∨ y = 3 ∨ y = 4 := by omega
        rcases c_20 with c_20 | c_20 | c_20 | c_20 | c_20
        ·
          refine h_tabIn hx hb 72 dX10_mark_39 hx_y (by omega) (by rw [c_20]; rfl) (by decide) ?_
          refine lv_iload_n hx hb dX10_mark_72 rfl (lv_at hl 0 rfl) ?_
          exact h_ireturn hx hb hlk hret hR hL rfl ⟨(by unfold qMark; rw [if_neg hok1, ans_t hok]; first | (rw [if_pos (by omega)]; omega) | (rw [if_pos (by omega)]; done) | (rw [if_neg (by omega), if_pos (by omega)]; done) | (rw [if_neg (by omega), if_neg (by omega), if_pos (by omega)]; done) | (rw [if_neg (by omega), if_neg (by omega), if_neg (by omega), if_pos (by omega)]; done) | (rw [if_neg (by omega), if_neg (by omega), if_neg (by omega), if_neg (by omega), if_pos (by omega)]; done) | (rw [if_neg (by omega), if_neg (by omega), if_neg (by omega), if_neg (by omega), if_neg (by omega), if_pos (by omega)]; done) | (rw [if_neg (by omega), if_neg (by omega), if_neg (by omega), if_neg (by omega), if_neg (by omega), if_neg (by omega), if_pos (by omega)]; done) | (rw [if_neg (by omega), if_neg (by omega), if_neg (by omega), if_neg (by omega), if_neg (by omega), if_neg (by omega), if_neg (by omega), if_pos (by omega)]; done) | (rw [if_neg (by omega), if_neg (by omega), if_neg (by omega), if_neg (by omega), if_neg (by omega), if_neg (by omega), if_neg (by omega)]; done) | (rw [if_neg (by omega), if_neg (by omega), if_neg (by omega), if_neg (by omega), if_neg (by omega), if_neg (by omega)]; done) | (rw [if_neg (by omega), if_neg (by omega), if_neg (by omega), if_neg (by omega), if_neg (by omega)]; done) | (rw [if_neg (by omega), if_neg (by omega), if_neg (by omega), if_neg (by omega)]; done) | (rw [if_neg (by omega), if_neg (by omega), if_neg (by omega)]; done) | (rw [if_neg (by omega), if_neg (by omega)]; done) | (rw [if_neg (by omega)]; done)), ⟨t_15, hT, (TwE.tr (S2 := [0]) (TwE.tr (S2 := [0]) (TwE.tr (S2 := [0]) (TwE.rf : TwE [] t t) hE_t_1 rfl rfl) hE_t_7 rfl rfl) hE_t_15 rfl rfl), (by rw [hth]; unfold qMark; rw [if_neg hok1, ans_t hok])⟩⟩ (by omega) (by omega) rfl rfl dX10_mark_73
        ·
          refine h_tabIn hx hb 74 dX10_mark_39 hx_y (by omega) (by rw [c_20]; rfl) (by decide) ?_
          refine lv_aload_n hx hb dX10_mark_74 rfl (lv_at hl 1 rfl) ?_
          refine lv_iload_n hx hb dX10_mark_75 rfl (lv_at hl 0 rfl) ?_
          refine h_iconst hx hb dX10_mark_76 ?_
          -- call SpokenMarksModel.of
          refine h_kIp (h_runV X hR (m_of l G w_13 a ad t_15 hT.1 ((rkOf c0 x).toNat) 2 (by omega) (by omega)) pn_yX10_of (hasC.of hT.1.ob rfl) q2827 q2829 qs53 q161 q2830 ⟨by decide, by decide⟩ hl.1 (Nat.le_of_ble_eq_true rfl) dX10_mark_77 ⟨by omega, by omega⟩) hL (fun H locs hR hL => ?_)
          refine W.eq (g2 := F0 m9 80 ls [.int (iI (mPl (mk c0 (rkOf c0 x).toNat)))]) (congrArg (fun z_ : Int => F0 m9 80 ls [.int (iI (z_))]) (show (tof t_15 ((rkOf c0 x).toNat : Nat) 2 : Int) = mPl (mk c0 (rkOf c0 x).toNat) from (by exact ((congrFun ((((hE_t_15 3 (by decide)).2).trans (hE_t_7 3 (by decide)).2).trans (hE_t_1 3 (by decide)).2) ((32 + 14 * (rkOf c0 x).toNat + 2))).trans ((hC.m (rkOf c0 x).toNat (by omega)).2.2.1))))) ?_
          exact h_ireturn hx hb hlk hret hR hL rfl ⟨(by unfold qMark; rw [if_neg hok1, ans_t hok]; first | (rw [if_pos (by omega)]; omega) | (rw [if_pos (by omega)]; done) | (rw [if_neg (by omega), if_pos (by omega)]; done) | (rw [if_neg (by omega), if_neg (by omega), if_pos (by omega)]; done) | (rw [if_neg (by omega), if_neg (by omega), if_neg (by omega), if_pos (by omega)]; done) | (rw [if_neg (by omega), if_neg (by omega), if_neg (by omega), if_neg (by omega), if_pos (by omega)]; done) | (rw [if_neg (by omega), if_neg (by omega), if_neg (by omega), if_neg (by omega), if_neg (by omega), if_pos (by omega)]; done) | (rw [if_neg (by omega), if_neg (by omega), if_neg (by omega), if_neg (by omega), if_neg (by omega), if_neg (by omega), if_pos (by omega)]; done) | (rw [if_neg (by omega), if_neg (by omega), if_neg (by omega), if_neg (by omega), if_neg (by omega), if_neg (by omega), if_neg (by omega), if_pos (by omega)]; done) | (rw [if_neg (by omega), if_neg (by omega), if_neg (by omega), if_neg (by omega), if_neg (by omega), if_neg (by omega), if_neg (by omega)]; done) | (rw [if_neg (by omega), if_neg (by omega), if_neg (by omega), if_neg (by omega), if_neg (by omega), if_neg (by omega)]; done) | (rw [if_neg (by omega), if_neg (by omega), if_neg (by omega), if_neg (by omega), if_neg (by omega)]; done) | (rw [if_neg (by omega), if_neg (by omega), if_neg (by omega), if_neg (by omega)]; done) | (rw [if_neg (by omega), if_neg (by omega), if_neg (by omega)]; done) | (rw [if_neg (by omega), if_neg (by omega)]; done) | (rw [if_neg (by omega)]; done)), ⟨t_15, hT, (TwE.tr (S2 := [0]) (TwE.tr (S2 := [0]) (TwE.tr (S2 := [0]) (TwE.rf : TwE [] t t) hE_t_1 rfl rfl) hE_t_7 rfl rfl) hE_t_15 rfl rfl), (by rw [hth]; unfold qMark; rw [if_neg hok1, ans_t hok])⟩⟩ (by omega) (by omega) rfl rfl dX10_mark_80
        ·
          refine h_tabIn hx hb 81 dX10_mark_39 hx_y (by omega) (by rw [c_20]; rfl) (by decide) ?_
          refine lv_aload_n hx hb dX10_mark_81 rfl (lv_at hl 1 rfl) ?_
          refine lv_iload_n hx hb dX10_mark_82 rfl (lv_at hl 0 rfl) ?_
          refine h_iconst hx hb dX10_mark_83 ?_
          -- call SpokenMarksModel.of
          refine h_kIp (h_runV X hR (m_of l G w_13 a ad t_15 hT.1 ((rkOf c0 x).toNat) 1 (by omega) (by omega)) pn_yX10_of (hasC.of hT.1.ob rfl) q2827 q2829 qs53 q161 q2830 ⟨by decide, by decide⟩ hl.1 (Nat.le_of_ble_eq_true rfl) dX10_mark_84 ⟨by omega, by omega⟩) hL (fun H locs hR hL => ?_)
          refine W.eq (g2 := F0 m9 87 ls [.int (iI (mWd (mk c0 (rkOf c0 x).toNat)))]) (congrArg (fun z_ : Int => F0 m9 87 ls [.int (iI (z_))]) (show (tof t_15 ((rkOf c0 x).toNat : Nat) 1 : Int) = mWd (mk c0 (rkOf c0 x).toNat) from (by exact ((congrFun ((((hE_t_15 3 (by decide)).2).trans (hE_t_7 3 (by decide)).2).trans (hE_t_1 3 (by decide)).2) ((32 + 14 * (rkOf c0 x).toNat + 1))).trans ((hC.m (rkOf c0 x).toNat (by omega)).2.1))))) ?_
          exact h_ireturn hx hb hlk hret hR hL rfl ⟨(by unfold qMark; rw [if_neg hok1, ans_t hok]; first | (rw [if_pos (by omega)]; omega) | (rw [if_pos (by omega)]; done) | (rw [if_neg (by omega), if_pos (by omega)]; done) | (rw [if_neg (by omega), if_neg (by omega), if_pos (by omega)]; done) | (rw [if_neg (by omega), if_neg (by omega), if_neg (by omega), if_pos (by omega)]; done) | (rw [if_neg (by omega), if_neg (by omega), if_neg (by omega), if_neg (by omega), if_pos (by omega)]; done) | (rw [if_neg (by omega), if_neg (by omega), if_neg (by omega), if_neg (by omega), if_neg (by omega), if_pos (by omega)]; done) | (rw [if_neg (by omega), if_neg (by omega), if_neg (by omega), if_neg (by omega), if_neg (by omega), if_neg (by omega), if_pos (by omega)]; done) | (rw [if_neg (by omega), if_neg (by omega), if_neg (by omega), if_neg (by omega), if_neg (by omega), if_neg (by omega), if_neg (by omega), if_pos (by omega)]; done) | (rw [if_neg (by omega), if_neg (by omega), if_neg (by omega), if_neg (by omega), if_neg (by omega), if_neg (by omega), if_neg (by omega)]; done) | (rw [if_neg (by omega), if_neg (by omega), if_neg (by omega), if_neg (by omega), if_neg (by omega), if_neg (by omega)]; done) | (rw [if_neg (by omega), if_neg (by omega), if_neg (by omega), if_neg (by omega), if_neg (by omega)]; done) | (rw [if_neg (by omega), if_neg (by omega), if_neg (by omega), if_neg (by omega)]; done) | (rw [if_neg (by omega), if_neg (by omega), if_neg (by omega)]; done) | (rw [if_neg (by omega), if_neg (by omega)]; done) | (rw [if_neg (by omega)]; done)), ⟨t_15, hT, (TwE.tr (S2 := [0]) (TwE.tr (S2 := [0]) (TwE.tr (S2 := [0]) (TwE.rf : TwE [] t t) hE_t_1 rfl rfl) hE_t_7 rfl rfl) hE_t_15 rfl rfl), (by rw [hth]; unfold qMark; rw [if_neg hok1, ans_t hok])⟩⟩ (by omega) (by omega) rfl rfl dX10_mark_87
        ·
          refine h_tabIn hx hb 88 dX10_mark_39 hx_y (by omega) (by rw [c_20]; rfl) (by decide) ?_
          refine lv_aload_n hx hb dX10_mark_88 rfl (lv_at hl 1 rfl) ?_
          refine lv_iload_n hx hb dX10_mark_89 rfl (lv_at hl 0 rfl) ?_
          refine h_iconst hx hb dX10_mark_90 ?_
          -- call SpokenMarksModel.of
          refine h_kIp (h_runV X hR (m_of l G w_13 a ad t_15 hT.1 ((rkOf c0 x).toNat) 3 (by omega) (by omega)) pn_yX10_of (hasC.of hT.1.ob rfl) q2827 q2829 qs53 q161 q2830 ⟨by decide, by decide⟩ hl.1 (Nat.le_of_ble_eq_true rfl) dX10_mark_91 ⟨by omega, by omega⟩) hL (fun H locs hR hL => ?_)
          refine W.eq (g2 := F0 m9 94 ls [.int (iI (((mPs (mk c0 (rkOf c0 x).toNat)).length : Int)))]) (congrArg (fun z_ : Int => F0 m9 94 ls [.int (iI (z_))]) (show (tof t_15 ((rkOf c0 x).toNat : Nat) 3 : Int) = ((mPs (mk c0 (rkOf c0 x).toNat)).length : Int) from (by exact ((congrFun ((((hE_t_15 3 (by decide)).2).trans (hE_t_7 3 (by decide)).2).trans (hE_t_1 3 (by decide)).2) ((32 + 14 * (rkOf c0 x).toNat + 3))).trans ((hC.m (rkOf c0 x).toNat (by omega)).2.2.2.len))))) ?_
          exact h_ireturn hx hb hlk hret hR hL rfl ⟨(by unfold qMark; rw [if_neg hok1, ans_t hok]; first | (rw [if_pos (by omega)]; omega) | (rw [if_pos (by omega)]; done) | (rw [if_neg (by omega), if_pos (by omega)]; done) | (rw [if_neg (by omega), if_neg (by omega), if_pos (by omega)]; done) | (rw [if_neg (by omega), if_neg (by omega), if_neg (by omega), if_pos (by omega)]; done) | (rw [if_neg (by omega), if_neg (by omega), if_neg (by omega), if_neg (by omega), if_pos (by omega)]; done) | (rw [if_neg (by omega), if_neg (by omega), if_neg (by omega), if_neg (by omega), if_neg (by omega), if_pos (by omega)]; done) | (rw [if_neg (by omega), if_neg (by omega), if_neg (by omega), if_neg (by omega), if_neg (by omega), if_neg (by omega), if_pos (by omega)]; done) | (rw [if_neg (by omega), if_neg (by omega), if_neg (by omega), if_neg (by omega), if_neg (by omega), if_neg (by omega), if_neg (by omega), if_pos (by omega)]; done) | (rw [if_neg (by omega), if_neg (by omega), if_neg (by omega), if_neg (by omega), if_neg (by omega), if_neg (by omega), if_neg (by omega)]; done) | (rw [if_neg (by omega), if_neg (by omega), if_neg (by omega), if_neg (by omega), if_neg (by omega), if_neg (by omega)]; done) | (rw [if_neg (by omega), if_neg (by omega), if_neg (by omega), if_neg (by omega), if_neg (by omega)]; done) | (rw [if_neg (by omega), if_neg (by omega), if_neg (by omega), if_neg (by omega)]; done) | (rw [if_neg (by omega), if_neg (by omega), if_neg (by omega)]; done) | (rw [if_neg (by omega), if_neg (by omega)]; done) | (rw [if_neg (by omega)]; done)), ⟨t_15, hT, (TwE.tr (S2 := [0]) (TwE.tr (S2 := [0]) (TwE.tr (S2 := [0]) (TwE.rf : TwE [] t t) hE_t_1 rfl rfl) hE_t_7 rfl rfl) hE_t_15 rfl rfl), (by rw [hth]; unfold qMark; rw [if_neg hok1, ans_t hok])⟩⟩ (by omega) (by omega) rfl rfl dX10_mark_94
        ·
          refine h_tabIn hx hb 95 dX10_mark_39 hx_y (by omega) (by rw [c_20]; rfl) (by decide) ?_
          refine lv_aload_n hx hb dX10_mark_95 rfl (lv_at hl 1 rfl) ?_
          refine lv_iload_n hx hb dX10_mark_96 rfl (lv_at hl 0 rfl) ?_
          -- call SpokenMarksModel.shelfOf
          refine h_kIp (h_runV X hR (m_shelfOf l G w_13 a ad t_15 hT.1 ((rkOf c0 x).toNat) c0 (shO c0 (mPl (mk c0 (rkOf c0 x).toNat))) (by rw [(((hE_t_15 3 (by decide)).2).trans (hE_t_7 3 (by decide)).2).trans (hE_t_1 3 (by decide)).2]; exact hC) (by omega) (shO_r hC.s _).2 ((on_shO hW (by omega) (shO_r hC.s _).1).mpr rfl) (fun j hj q => by have := (on_shO hW (k := (rkOf c0 x).toNat) (by omega) (s := j) (by have := (shO_r hC.s (mPl (mk c0 (rkOf c0 x).toNat))).1; omega)).mp q; omega)) pn_yX10_shelfOf (hasC.of hT.1.ob rfl) q3105 q3107 qs87 q161 q3108 ⟨by decide, by decide⟩ hl.1 (Nat.le_of_ble_eq_true rfl) dX10_mark_97 ⟨by omega, by omega⟩) hL (fun H locs hR hL => ?_)
          exact h_ireturn hx hb hlk hret hR hL rfl ⟨(by unfold qMark; rw [if_neg hok1, ans_t hok]; first | (rw [if_pos (by omega)]; omega) | (rw [if_pos (by omega)]; done) | (rw [if_neg (by omega), if_pos (by omega)]; done) | (rw [if_neg (by omega), if_neg (by omega), if_pos (by omega)]; done) | (rw [if_neg (by omega), if_neg (by omega), if_neg (by omega), if_pos (by omega)]; done) | (rw [if_neg (by omega), if_neg (by omega), if_neg (by omega), if_neg (by omega), if_pos (by omega)]; done) | (rw [if_neg (by omega), if_neg (by omega), if_neg (by omega), if_neg (by omega), if_neg (by omega), if_pos (by omega)]; done) | (rw [if_neg (by omega), if_neg (by omega), if_neg (by omega), if_neg (by omega), if_neg (by omega), if_neg (by omega), if_pos (by omega)]; done) | (rw [if_neg (by omega), if_neg (by omega), if_neg (by omega), if_neg (by omega), if_neg (by omega), if_neg (by omega), if_neg (by omega), if_pos (by omega)]; done) | (rw [if_neg (by omega), if_neg (by omega), if_neg (by omega), if_neg (by omega), if_neg (by omega), if_neg (by omega), if_neg (by omega)]; done) | (rw [if_neg (by omega), if_neg (by omega), if_neg (by omega), if_neg (by omega), if_neg (by omega), if_neg (by omega)]; done) | (rw [if_neg (by omega), if_neg (by omega), if_neg (by omega), if_neg (by omega), if_neg (by omega)]; done) | (rw [if_neg (by omega), if_neg (by omega), if_neg (by omega), if_neg (by omega)]; done) | (rw [if_neg (by omega), if_neg (by omega), if_neg (by omega)]; done) | (rw [if_neg (by omega), if_neg (by omega)]; done) | (rw [if_neg (by omega)]; done)), ⟨t_15, hT, (TwE.tr (S2 := [0]) (TwE.tr (S2 := [0]) (TwE.tr (S2 := [0]) (TwE.rf : TwE [] t t) hE_t_1 rfl rfl) hE_t_7 rfl rfl) hE_t_15 rfl rfl), (by rw [hth]; unfold qMark; rw [if_neg hok1, ans_t hok])⟩⟩ (by omega) (by omega) rfl rfl dX10_mark_100
      ·
        refine h_tabOut hx hb 101 dX10_mark_39 hx_y (by omega) (by decide) ?_
        refine lv_aload_n hx hb dX10_mark_101 rfl (lv_at hl 1 rfl) ?_
        refine lv_iload_n hx hb dX10_mark_102 rfl (lv_at hl 0 rfl) ?_
        -- call SpokenMarksModel.wordsOf
        refine h_kIp (h_runV X hR (m_wordsOf l G w_13 a ad t_15 hT.1 ((rkOf c0 x).toNat) c0 (by rw [(((hE_t_15 3 (by decide)).2).trans (hE_t_7 3 (by decide)).2).trans (hE_t_1 3 (by decide)).2]; exact hC) (by omega)) pn_yX10_wordsOf (hasC.of hT.1.ob rfl) q3109 q3111 qs88 q161 q3112 ⟨by decide, by decide⟩ hl.1 (Nat.le_of_ble_eq_true rfl) dX10_mark_103 ⟨by omega, by omega⟩) hL (fun H locs hR hL => ?_)
        exact h_ireturn hx hb hlk hret hR hL rfl ⟨(by unfold qMark; rw [if_neg hok1, ans_t hok]; first | (rw [if_pos (by omega)]; omega) | (rw [if_pos (by omega)]; done) | (rw [if_neg (by omega), if_pos (by omega)]; done) | (rw [if_neg (by omega), if_neg (by omega), if_pos (by omega)]; done) | (rw [if_neg (by omega), if_neg (by omega), if_neg (by omega), if_pos (by omega)]; done) | (rw [if_neg (by omega), if_neg (by omega), if_neg (by omega), if_neg (by omega), if_pos (by omega)]; done) | (rw [if_neg (by omega), if_neg (by omega), if_neg (by omega), if_neg (by omega), if_neg (by omega), if_pos (by omega)]; done) | (rw [if_neg (by omega), if_neg (by omega), if_neg (by omega), if_neg (by omega), if_neg (by omega), if_neg (by omega), if_pos (by omega)]; done) | (rw [if_neg (by omega), if_neg (by omega), if_neg (by omega), if_neg (by omega), if_neg (by omega), if_neg (by omega), if_neg (by omega), if_pos (by omega)]; done) | (rw [if_neg (by omega), if_neg (by omega), if_neg (by omega), if_neg (by omega), if_neg (by omega), if_neg (by omega), if_neg (by omega)]; done) | (rw [if_neg (by omega), if_neg (by omega), if_neg (by omega), if_neg (by omega), if_neg (by omega), if_neg (by omega)]; done) | (rw [if_neg (by omega), if_neg (by omega), if_neg (by omega), if_neg (by omega), if_neg (by omega)]; done) | (rw [if_neg (by omega), if_neg (by omega), if_neg (by omega), if_neg (by omega)]; done) | (rw [if_neg (by omega), if_neg (by omega), if_neg (by omega)]; done) | (rw [if_neg (by omega), if_neg (by omega)]; done) | (rw [if_neg (by omega)]; done)), ⟨t_15, hT, (TwE.tr (S2 := [0]) (TwE.tr (S2 := [0]) (TwE.tr (S2 := [0]) (TwE.rf : TwE [] t t) hE_t_1 rfl rfl) hE_t_7 rfl rfl) hE_t_15 rfl rfl), (by rw [hth]; unfold qMark; rw [if_neg hok1, ans_t hok])⟩⟩ (by omega) (by omega) rfl rfl dX10_mark_106
    ·
      have hno := b2i_0.mp (b2i_n1.mp c_f)
      have hth : t_15.1 0 = _ := (et_16).trans (if_pos (b2i_n1.mp c_f))
      refine h_iconst hx hb dX10_mark_30 ?_
      exact h_ireturn hx hb hlk hret hR hL rfl ⟨(by unfold qMark; rw [if_neg hok1, ans_f hno]), ⟨t_15, hT, (TwE.tr (S2 := [0]) (TwE.tr (S2 := [0]) (TwE.tr (S2 := [0]) (TwE.rf : TwE [] t t) hE_t_1 rfl rfl) hE_t_7 rfl rfl) hE_t_15 rfl rfl), (by rw [hth]; unfold qMark; rw [if_neg hok1, ans_f hno])⟩⟩ (by omega) (by omega) rfl rfl dX10_mark_31

set_option maxHeartbeats 4000000 in
set_option maxRecDepth 100000 in
/-- compare -/
theorem m_compare (l : Launch) (G : Gl) (w : Wd) (a : Nat) (ad : Nat → Nat) (t : Tw) (hT : TwAt G w a ad t) (x : Int) (y : Int) (c0 : Cat) (hC : RowIs (t.2 3) c0) (hx_x : R32 x) (hx_y : R32 y) : HM l yX10_compare cX10_compare 4 (some .int) 4 0 0 G [.ref a, .int (iI (x)), .int (iI (y))] w (QI G (fun z_ w_ => z_ = (qCmp c0 x y).2 ∧ ∃ t_ : Tw, TwS G w w_ a ad t_ ∧ TwE [0] t t_ ∧ t_.1 0 = (qCmp c0 x y).1)) := by
  refine HM.mk (by decide +kernel) (Nat.le_of_ble_eq_true rfl) ?_
  intro p9 e9 s9 m9 a9 b9 meth9 c9 ls X hret hlk hnm hl H hR
  have hx := X.1.1
  have hb := X.1.2.1
  have hl : lv_has ls 4 [(0, .ref a), (1, .int (iI (x))), (2, .int (iI (y)))] := hl
  have hL : LK G [] := fun q h => absurd h List.not_mem_nil
  generalize ([] : List Loc) = locs at hL ⊢
  have hTb := hT
  have hT : TwS G w w a ad t := TwS.rf hT
  have hn40 := hC.n40
  have hsh8 := hC.sh8
  have hrr := rkOf_r c0 x
  have hrr2 := rkOf_r c0 y
  refine lv_aload_n hx hb dX10_compare_0 rfl (lv_at hl 0 rfl) ?_
  refine h_iconst hx hb dX10_compare_1 ?_
  refine tw_puti X hR hL hT 0 (by decide) q2941 rfl rfl rfl twF_s0 (by omega) dX10_compare_2 (fun t_1 et_2 w_3 hT H locs hR hL => ?_)
  have hE_t_1 := TwE.put et_2
  have hv_t_1 := tput_v et_2
  refine lv_aload_n hx hb dX10_compare_5 rfl (lv_at hl 0 rfl) ?_
  refine lv_iload_n hx hb dX10_compare_6 rfl (lv_at hl 1 rfl) ?_
  -- call SpokenMarksModel.noMark
  refine h_kI (h_runV X hR (m_noMark l G w_3 a ad t_1 hT.1 x c0 (by rw [(hE_t_1 3 (by decide)).2]; exact hC) hx_x hv_t_1) pn_yX10_noMark (hasC.of hT.1.ob rfl) q3097 q3099 qs85 q161 q3100 ⟨by decide, by decide⟩ hl.1 (Nat.le_of_ble_eq_true rfl) dX10_compare_7 ⟨by omega, by omega⟩) hL (fun z_4 w_5 hp_6 H locs hR hL => ?_)
  obtain ⟨rfl, t_7, hT2, hE_t_7, et_8⟩ := hp_6
  have hT := hT.tr hT2
  clear hT2
  refine h_if_ne hx hb 21 dX10_compare_10 (by decide) (b2i_R _) (fun c_f => ?_) (fun c_f => ?_)
  ·
    have hno1 := b2i_n1.mp c_f
    have hth : t_7.1 0 = 1 := (et_8).trans (if_pos hno1)
    refine h_iconst hx hb dX10_compare_21 ?_
    exact h_ireturn hx hb hlk hret hR hL rfl ⟨(by unfold qCmp; rw [ans_f (fun q => q.1 hno1)]), ⟨t_7, hT, (TwE.tr (S2 := [0]) (TwE.tr (S2 := [0]) (TwE.rf : TwE [] t t) hE_t_1 rfl rfl) hE_t_7 rfl rfl), (by rw [hth]; unfold qCmp; rw [ans_f (fun q => q.1 hno1)])⟩⟩ (by omega) (by omega) rfl rfl dX10_compare_22
  ·
    have hok1 := b2i_0.mp c_f
    have hth : t_7.1 0 = 0 := (et_8).trans (if_neg hok1)
    refine lv_aload_n hx hb dX10_compare_13 rfl (lv_at hl 0 rfl) ?_
    refine lv_iload_n hx hb dX10_compare_14 rfl (lv_at hl 2 rfl) ?_
    -- call SpokenMarksModel.noMark
    refine h_kI (h_runV X hR (m_noMark l G w_5 a ad t_7 hT.1 y c0 (by rw [((hE_t_7 3 (by decide)).2).trans (hE_t_1 3 (by decide)).2]; exact hC) hx_y hth) pn_yX10_noMark (hasC.of hT.1.ob rfl) q3097 q3099 qs85 q161 q3100 ⟨by decide, by decide⟩ hl.1 (Nat.le_of_ble_eq_true rfl) dX10_compare_15 ⟨by omega, by omega⟩) hL (fun z_9 w_10 hp_11 H locs hR hL => ?_)
    obtain ⟨rfl, t_12, hT2, hE_t_12, et_13⟩ := hp_11
    have hT := hT.tr hT2
    clear hT2
    refine h_if_eq hx hb 23 dX10_compare_18 (by decide) (b2i_R _) (fun c_g => ?_) (fun c_g => ?_)
    ·
      have hok2 := b2i_0.mp c_g
      have hth : t_12.1 0 = 0 := (et_13).trans (if_neg hok2)
      refine lv_aload_n hx hb dX10_compare_23 rfl (lv_at hl 0 rfl) ?_
      refine lv_iload_n hx hb dX10_compare_24 rfl (lv_at hl 1 rfl) ?_
      -- call SpokenMarksModel.rankOf
      refine h_kIp (h_runV X hR (m_rankOf l G w_10 a ad t_12 hT.1 x c0 (by rw [(((hE_t_12 3 (by decide)).2).trans (hE_t_7 3 (by decide)).2).trans (hE_t_1 3 (by decide)).2]; exact hC) hx_x) pn_yX10_rankOf (hasC.of hT.1.ob rfl) q3101 q3103 qs86 q161 q3104 ⟨by decide, by decide⟩ hl.1 (Nat.le_of_ble_eq_true rfl) dX10_compare_25 ⟨by omega, by omega⟩) hL (fun H locs hR hL => ?_)
      refine W.eq (g2 := F0 m9 28 ls [.int (iI (((rkOf c0 x).toNat : Int)))]) (congrArg (fun z_ : Int => F0 m9 28 ls [.int (iI (z_))]) (show (rkOf c0 x : Int) = ((rkOf c0 x).toNat : Int) from (by omega))) ?_
      refine lv_aload_n hx hb dX10_compare_28 rfl (lv_at hl 0 rfl) ?_
      refine lv_iload_n hx hb dX10_compare_29 rfl (lv_at hl 2 rfl) ?_
      -- call SpokenMarksModel.rankOf
      refine h_kIp (h_runV X hR (m_rankOf l G w_10 a ad t_12 hT.1 y c0 (by rw [(((hE_t_12 3 (by decide)).2).trans (hE_t_7 3 (by decide)).2).trans (hE_t_1 3 (by decide)).2]; exact hC) hx_y) pn_yX10_rankOf (hasC.of hT.1.ob rfl) q3101 q3103 qs86 q161 q3104 ⟨by decide, by decide⟩ hl.1 (Nat.le_of_ble_eq_true rfl) dX10_compare_30 ⟨by omega, by omega⟩) hL (fun H locs hR hL => ?_)
      refine W.eq (g2 := F0 m9 33 ls [.int (iI (((rkOf c0 y).toNat : Int))), .int (iI (((rkOf c0 x).toNat : Int)))]) (congrArg (fun z_ : Int => F0 m9 33 ls [.int (iI (z_)), .int (iI (((rkOf c0 x).toNat : Int)))]) (show (rkOf c0 y : Int) = ((rkOf c0 y).toNat : Int) from (by omega))) ?_
      refine h_isub hx hb dX10_compare_33 ?_
      refine lv_istore_n (lv' := [(3, .int (iI ((((rkOf c0 x).toNat : Int)) - (((rkOf c0 y).toNat : Int))))), (0, .ref a), (1, .int (iI (x))), (2, .int (iI (y)))]) hx hb dX10_compare_34 rfl hl (by decide) rfl (fun ls hl => ?_)
      refine lv_iload_n hx hb dX10_compare_35 rfl (lv_at hl 0 rfl) ?_
      refine h_if_ge hx hb 43 dX10_compare_36 (by decide) (by omega) (fun c_20 => ?_) (fun c_20 => ?_)
      ·
        refine lv_iload_n hx hb dX10_compare_43 rfl (lv_at hl 0 rfl) ?_
        refine h_if_le hx hb 51 dX10_compare_44 (by decide) (by omega) (fun c_21 => ?_) (fun c_21 => ?_)
        ·
          refine h_iconst hx hb dX10_compare_51 ?_
          exact h_ireturn hx hb hlk hret hR hL rfl ⟨(by unfold qCmp; rw [ans_t ⟨hok1, hok2⟩]; unfold sgn; first | (rw [if_pos (by omega)]; done) | (rw [if_neg (by omega), if_pos (by omega)]; done) | (rw [if_neg (by omega), if_neg (by omega)]; done)), ⟨t_12, hT, (TwE.tr (S2 := [0]) (TwE.tr (S2 := [0]) (TwE.tr (S2 := [0]) (TwE.rf : TwE [] t t) hE_t_1 rfl rfl) hE_t_7 rfl rfl) hE_t_12 rfl rfl), (by rw [hth]; unfold qCmp; rw [ans_t ⟨hok1, hok2⟩])⟩⟩ (by omega) (by omega) rfl rfl dX10_compare_52
        ·
          refine h_iconst hx hb dX10_compare_47 ?_
          refine lv_goto (tgt := 52) hx hb dX10_compare_48 (by decide) ?_
          exact h_ireturn hx hb hlk hret hR hL rfl ⟨(by unfold qCmp; rw [ans_t ⟨hok1, hok2⟩]; unfold sgn; first | (rw [if_pos (by omega)]; done) | (rw [if_neg (by omega), if_pos (by omega)]; done) | (rw [if_neg (by omega), if_neg (by omega)]; done)), ⟨t_12, hT, (TwE.tr (S2 := [0]) (TwE.tr (S2 := [0]) (TwE.tr (S2 := [0]) (TwE.rf : TwE [] t t) hE_t_1 rfl rfl) hE_t_7 rfl rfl) hE_t_12 rfl rfl), (by rw [hth]; unfold qCmp; rw [ans_t ⟨hok1, hok2⟩])⟩⟩ (by omega) (by omega) rfl rfl dX10_compare_52
      ·
        refine h_iconst hx hb dX10_compare_39 ?_
        refine lv_goto (tgt := 52) hx hb dX10_compare_40 (by decide) ?_
        exact h_ireturn hx hb hlk hret hR hL rfl ⟨(by unfold qCmp; rw [ans_t ⟨hok1, hok2⟩]; unfold sgn; first | (rw [if_pos (by omega)]; done) | (rw [if_neg (by omega), if_pos (by omega)]; done) | (rw [if_neg (by omega), if_neg (by omega)]; done)), ⟨t_12, hT, (TwE.tr (S2 := [0]) (TwE.tr (S2 := [0]) (TwE.tr (S2 := [0]) (TwE.rf : TwE [] t t) hE_t_1 rfl rfl) hE_t_7 rfl rfl) hE_t_12 rfl rfl), (by rw [hth]; unfold qCmp; rw [ans_t ⟨hok1, hok2⟩])⟩⟩ (by omega) (by omega) rfl rfl dX10_compare_52
    ·
      have hno2 := b2i_n1.mp c_g
      have hth : t_12.1 0 = 1 := (et_13).trans (if_pos hno2)
      refine h_iconst hx hb dX10_compare_21 ?_
      exact h_ireturn hx hb hlk hret hR hL rfl ⟨(by unfold qCmp; rw [ans_f (fun q => q.2 hno2)]), ⟨t_12, hT, (TwE.tr (S2 := [0]) (TwE.tr (S2 := [0]) (TwE.tr (S2 := [0]) (TwE.rf : TwE [] t t) hE_t_1 rfl rfl) hE_t_7 rfl rfl) hE_t_12 rfl rfl), (by rw [hth]; unfold qCmp; rw [ans_f (fun q => q.2 hno2)])⟩⟩ (by omega) (by omega) rfl rfl dX10_compare_22

set_option maxHeartbeats 4000000 in
set_option maxRecDepth 100000 in
/-- differ -/
theorem m_differ (l : Launch) (G : Gl) (w : Wd) (a : Nat) (ad : Nat → Nat) (t : Tw) (hT : TwAt G w a ad t) (x : Int) (y : Int) (c0 : Cat) (hC : RowIs (t.2 3) c0) (hx_x : R32 x) (hx_y : R32 y) : HM l yX10_differ cX10_differ 3 (some .int) 4 0 0 G [.ref a, .int (iI (x)), .int (iI (y))] w (QI G (fun z_ w_ => z_ = (qDif c0 x y).2 ∧ ∃ t_ : Tw, TwS G w w_ a ad t_ ∧ TwE [0] t t_ ∧ t_.1 0 = (qDif c0 x y).1)) := by
  refine HM.mk (by decide +kernel) (Nat.le_of_ble_eq_true rfl) ?_
  intro p9 e9 s9 m9 a9 b9 meth9 c9 ls X hret hlk hnm hl H hR
  have hx := X.1.1
  have hb := X.1.2.1
  have hl : lv_has ls 3 [(0, .ref a), (1, .int (iI (x))), (2, .int (iI (y)))] := hl
  have hL : LK G [] := fun q h => absurd h List.not_mem_nil
  generalize ([] : List Loc) = locs at hL ⊢
  have hTb := hT
  have hT : TwS G w w a ad t := TwS.rf hT
  have hn40 := hC.n40
  have hsh8 := hC.sh8
  have hrr := rkOf_r c0 x
  have hrr2 := rkOf_r c0 y
  refine lv_aload_n hx hb dX10_differ_0 rfl (lv_at hl 0 rfl) ?_
  refine h_iconst hx hb dX10_differ_1 ?_
  refine tw_puti X hR hL hT 0 (by decide) q2941 rfl rfl rfl twF_s0 (by omega) dX10_differ_2 (fun t_1 et_2 w_3 hT H locs hR hL => ?_)
  have hE_t_1 := TwE.put et_2
  have hv_t_1 := tput_v et_2
  refine lv_aload_n hx hb dX10_differ_5 rfl (lv_at hl 0 rfl) ?_
  refine lv_iload_n hx hb dX10_differ_6 rfl (lv_at hl 1 rfl) ?_
  -- call SpokenMarksModel.noMark
  refine h_kI (h_runV X hR (m_noMark l G w_3 a ad t_1 hT.1 x c0 (by rw [(hE_t_1 3 (by decide)).2]; exact hC) hx_x hv_t_1) pn_yX10_noMark (hasC.of hT.1.ob rfl) q3097 q3099 qs85 q161 q3100 ⟨by decide, by decide⟩ hl.1 (Nat.le_of_ble_eq_true rfl) dX10_differ_7 ⟨by omega, by omega⟩) hL (fun z_4 w_5 hp_6 H locs hR hL => ?_)
  obtain ⟨rfl, t_7, hT2, hE_t_7, et_8⟩ := hp_6
  have hT := hT.tr hT2
  clear hT2
  refine h_if_ne hx hb 21 dX10_differ_10 (by decide) (b2i_R _) (fun c_f => ?_) (fun c_f => ?_)
  ·
    have hno1 := b2i_n1.mp c_f
    have hth : t_7.1 0 = 1 := (et_8).trans (if_pos hno1)
    refine h_iconst hx hb dX10_differ_21 ?_
    refine lv_goto (tgt := 39) hx hb dX10_differ_22 (by decide) ?_
    exact h_ireturn hx hb hlk hret hR hL rfl ⟨(by unfold qDif; rw [ans_f (fun q => q.1 hno1)]), ⟨t_7, hT, (TwE.tr (S2 := [0]) (TwE.tr (S2 := [0]) (TwE.rf : TwE [] t t) hE_t_1 rfl rfl) hE_t_7 rfl rfl), (by rw [hth]; unfold qDif; rw [ans_f (fun q => q.1 hno1)])⟩⟩ (by omega) (by omega) rfl rfl dX10_differ_39
  ·
    have hok1 := b2i_0.mp c_f
    have hth : t_7.1 0 = 0 := (et_8).trans (if_neg hok1)
    refine lv_aload_n hx hb dX10_differ_13 rfl (lv_at hl 0 rfl) ?_
    refine lv_iload_n hx hb dX10_differ_14 rfl (lv_at hl 2 rfl) ?_
    -- call SpokenMarksModel.noMark
    refine h_kI (h_runV X hR (m_noMark l G w_5 a ad t_7 hT.1 y c0 (by rw [((hE_t_7 3 (by decide)).2).trans (hE_t_1 3 (by decide)).2]; exact hC) hx_y hth) pn_yX10_noMark (hasC.of hT.1.ob rfl) q3097 q3099 qs85 q161 q3100 ⟨by decide, by decide⟩ hl.1 (Nat.le_of_ble_eq_true rfl) dX10_differ_15 ⟨by omega, by omega⟩) hL (fun z_9 w_10 hp_11 H locs hR hL => ?_)
    obtain ⟨rfl, t_12, hT2, hE_t_12, et_13⟩ := hp_11
    have hT := hT.tr hT2
    clear hT2
    refine h_if_eq hx hb 25 dX10_differ_18 (by decide) (b2i_R _) (fun c_g => ?_) (fun c_g => ?_)
    ·
      have hok2 := b2i_0.mp c_g
      have hth : t_12.1 0 = 0 := (et_13).trans (if_neg hok2)
      refine lv_aload_n hx hb dX10_differ_25 rfl (lv_at hl 0 rfl) ?_
      refine lv_aload_n hx hb dX10_differ_26 rfl (lv_at hl 0 rfl) ?_
      refine lv_iload_n hx hb dX10_differ_27 rfl (lv_at hl 1 rfl) ?_
      -- call SpokenMarksModel.rankOf
      refine h_kIp (h_runV X hR (m_rankOf l G w_10 a ad t_12 hT.1 x c0 (by rw [(((hE_t_12 3 (by decide)).2).trans (hE_t_7 3 (by decide)).2).trans (hE_t_1 3 (by decide)).2]; exact hC) hx_x) pn_yX10_rankOf (hasC.of hT.1.ob rfl) q3101 q3103 qs86 q161 q3104 ⟨by decide, by decide⟩ hl.1 (Nat.le_of_ble_eq_true rfl) dX10_differ_28 ⟨by omega, by omega⟩) hL (fun H locs hR hL => ?_)
      refine W.eq (g2 := F0 m9 31 ls [.int (iI (((rkOf c0 x).toNat : Int))), .ref a]) (congrArg (fun z_ : Int => F0 m9 31 ls [.int (iI (z_)), .ref a]) (show (rkOf c0 x : Int) = ((rkOf c0 x).toNat : Int) from (by omega))) ?_
      refine lv_aload_n hx hb dX10_differ_31 rfl (lv_at hl 0 rfl) ?_
      refine lv_iload_n hx hb dX10_differ_32 rfl (lv_at hl 2 rfl) ?_
      -- call SpokenMarksModel.rankOf
      refine h_kIp (h_runV X hR (m_rankOf l G w_10 a ad t_12 hT.1 y c0 (by rw [(((hE_t_12 3 (by decide)).2).trans (hE_t_7 3 (by decide)).2).trans (hE_t_1 3 (by decide)).2]; exact hC) hx_y) pn_yX10_rankOf (hasC.of hT.1.ob rfl) q3101 q3103 qs86 q161 q3104 ⟨by decide, by decide⟩ hl.1 (Nat.le_of_ble_eq_true rfl) dX10_differ_33 ⟨by omega, by omega⟩) hL (fun H locs hR hL => ?_)
      refine W.eq (g2 := F0 m9 36 ls [.int (iI (((rkOf c0 y).toNat : Int))), .int (iI (((rkOf c0 x).toNat : Int))), .ref a]) (congrArg (fun z_ : Int => F0 m9 36 ls [.int (iI (z_)), .int (iI (((rkOf c0 x).toNat : Int))), .ref a]) (show (rkOf c0 y : Int) = ((rkOf c0 y).toNat : Int) from (by omega))) ?_
      -- call SpokenMarksModel.differs
      refine h_kIp (h_runV X hR (m_differs l G w_10 a ad t_12 hT.1 ((rkOf c0 x).toNat) ((rkOf c0 y).toNat) (cRl c0) (mPs (mk c0 (rkOf c0 x).toNat)) (mPs (mk c0 (rkOf c0 y).toNat)) (by omega) (by omega) (by rw [(((hE_t_12 3 (by decide)).2).trans (hE_t_7 3 (by decide)).2).trans (hE_t_1 3 (by decide)).2]; exact ((hC.m _ (by omega)).2.2.2)) (by rw [(((hE_t_12 3 (by decide)).2).trans (hE_t_7 3 (by decide)).2).trans (hE_t_1 3 (by decide)).2]; exact ((hC.m _ (by omega)).2.2.2))) pn_yX10_differs (hasC.of hT.1.ob rfl) q3169 q3171 qs96 q161 q3172 ⟨by decide, by decide⟩ hl.1 (Nat.le_of_ble_eq_true rfl) dX10_differ_36 ⟨by omega, by omega⟩) hL (fun H locs hR hL => ?_)
      exact h_ireturn hx hb hlk hret hR hL rfl ⟨(by unfold qDif; rw [ans_t ⟨hok1, hok2⟩]), ⟨t_12, hT, (TwE.tr (S2 := [0]) (TwE.tr (S2 := [0]) (TwE.tr (S2 := [0]) (TwE.rf : TwE [] t t) hE_t_1 rfl rfl) hE_t_7 rfl rfl) hE_t_12 rfl rfl), (by rw [hth]; unfold qDif; rw [ans_t ⟨hok1, hok2⟩])⟩⟩ (by omega) (by omega) rfl rfl dX10_differ_39
    ·
      have hno2 := b2i_n1.mp c_g
      have hth : t_12.1 0 = 1 := (et_13).trans (if_pos hno2)
      refine h_iconst hx hb dX10_differ_21 ?_
      refine lv_goto (tgt := 39) hx hb dX10_differ_22 (by decide) ?_
      exact h_ireturn hx hb hlk hret hR hL rfl ⟨(by unfold qDif; rw [ans_f (fun q => q.2 hno2)]), ⟨t_12, hT, (TwE.tr (S2 := [0]) (TwE.tr (S2 := [0]) (TwE.tr (S2 := [0]) (TwE.rf : TwE [] t t) hE_t_1 rfl rfl) hE_t_7 rfl rfl) hE_t_12 rfl rfl), (by rw [hth]; unfold qDif; rw [ans_f (fun q => q.2 hno2)])⟩⟩ (by omega) (by omega) rfl rfl dX10_differ_39

set_option maxHeartbeats 4000000 in
set_option maxRecDepth 100000 in
/-- free -/
theorem m_free (l : Launch) (G : Gl) (w : Wd) (a : Nat) (ad : Nat → Nat) (t : Tw) (hT : TwAt G w a ad t) (x : Int) (c0 : Cat) (hC : RowIs (t.2 3) c0) (hx_x : R32 x) : HM l yX10_free cX10_free 3 (some .int) 4 0 0 G [.ref a, .int (iI (x))] w (QI G (fun z_ w_ => z_ = (qFre c0 x).2 ∧ ∃ t_ : Tw, TwS G w w_ a ad t_ ∧ TwE [0] t t_ ∧ t_.1 0 = (qFre c0 x).1)) := by
  refine HM.mk (by decide +kernel) (Nat.le_of_ble_eq_true rfl) ?_
  intro p9 e9 s9 m9 a9 b9 meth9 c9 ls X hret hlk hnm hl H hR
  have hx := X.1.1
  have hb := X.1.2.1
  have hl : lv_has ls 3 [(0, .ref a), (1, .int (iI (x)))] := hl
  have hL : LK G [] := fun q h => absurd h List.not_mem_nil
  generalize ([] : List Loc) = locs at hL ⊢
  have hTb := hT
  have hT : TwS G w w a ad t := TwS.rf hT
  have hn40 := hC.n40
  have hsh8 := hC.sh8
  have hrr := rkOf_r c0 x
  refine lv_aload_n hx hb dX10_free_0 rfl (lv_at hl 0 rfl) ?_
  refine h_iconst hx hb dX10_free_1 ?_
  refine tw_puti X hR hL hT 0 (by decide) q2941 rfl rfl rfl twF_s0 (by omega) dX10_free_2 (fun t_1 et_2 w_3 hT H locs hR hL => ?_)
  have hE_t_1 := TwE.put et_2
  have hv_t_1 := tput_v et_2
  refine lv_aload_n hx hb dX10_free_5 rfl (lv_at hl 0 rfl) ?_
  refine lv_iload_n hx hb dX10_free_6 rfl (lv_at hl 1 rfl) ?_
  -- call SpokenMarksModel.noMark
  refine h_kI (h_runV X hR (m_noMark l G w_3 a ad t_1 hT.1 x c0 (by rw [(hE_t_1 3 (by decide)).2]; exact hC) hx_x hv_t_1) pn_yX10_noMark (hasC.of hT.1.ob rfl) q3097 q3099 qs85 q161 q3100 ⟨by decide, by decide⟩ hl.1 (Nat.le_of_ble_eq_true rfl) dX10_free_7 ⟨by omega, by omega⟩) hL (fun z_4 w_5 hp_6 H locs hR hL => ?_)
  obtain ⟨rfl, t_7, hT2, hE_t_7, et_8⟩ := hp_6
  have hT := hT.tr hT2
  clear hT2
  refine h_if_eq hx hb 15 dX10_free_10 (by decide) (b2i_R _) (fun c_f => ?_) (fun c_f => ?_)
  ·
    have hok1 := b2i_0.mp c_f
    have hth : t_7.1 0 = 0 := (et_8).trans (if_neg hok1)
    refine lv_aload_n hx hb dX10_free_15 rfl (lv_at hl 0 rfl) ?_
    refine lv_iload_n hx hb dX10_free_16 rfl (lv_at hl 1 rfl) ?_
    -- call SpokenMarksModel.rankOf
    refine h_kIp (h_runV X hR (m_rankOf l G w_5 a ad t_7 hT.1 x c0 (by rw [((hE_t_7 3 (by decide)).2).trans (hE_t_1 3 (by decide)).2]; exact hC) hx_x) pn_yX10_rankOf (hasC.of hT.1.ob rfl) q3101 q3103 qs86 q161 q3104 ⟨by decide, by decide⟩ hl.1 (Nat.le_of_ble_eq_true rfl) dX10_free_17 ⟨by omega, by omega⟩) hL (fun H locs hR hL => ?_)
    refine W.eq (g2 := F0 m9 20 ls [.int (iI (((rkOf c0 x).toNat : Int)))]) (congrArg (fun z_ : Int => F0 m9 20 ls [.int (iI (z_))]) (show (rkOf c0 x : Int) = ((rkOf c0 x).toNat : Int) from (by omega))) ?_
    refine lv_istore_n (lv' := [(2, .int (iI (((rkOf c0 x).toNat : Int)))), (0, .ref a), (1, .int (iI (x)))]) hx hb dX10_free_20 rfl hl (by decide) rfl (fun ls hl => ?_)
    refine lv_aload_n hx hb dX10_free_21 rfl (lv_at hl 1 rfl) ?_
    refine lv_iload_n hx hb dX10_free_22 rfl (lv_at hl 0 rfl) ?_
    refine h_iconst hx hb dX10_free_23 ?_
    refine h_iadd hx hb dX10_free_24 ?_
    -- call SpokenMarksModel.placeBehind
    refine h_kIp (h_runV X hR (m_placeBehind l G w_5 a ad t_7 hT.1 ((rkOf c0 x).toNat + 1) c0 (by rw [((hE_t_7 3 (by decide)).2).trans (hE_t_1 3 (by decide)).2]; exact hC) (by omega)) pn_yX10_placeBehind (hasC.of hT.1.ob rfl) q2925 q2927 qs74 q161 q2928 ⟨by decide, by decide⟩ hl.1 (Nat.le_of_ble_eq_true rfl) dX10_free_25 ⟨by omega, by omega⟩) hL (fun H locs hR hL => ?_)
    refine lv_aload_n hx hb dX10_free_28 rfl (lv_at hl 1 rfl) ?_
    refine lv_iload_n hx hb dX10_free_29 rfl (lv_at hl 0 rfl) ?_
    refine h_iconst hx hb dX10_free_30 ?_
    -- call SpokenMarksModel.of
    refine h_kIp (h_runV X hR (m_of l G w_5 a ad t_7 hT.1 ((rkOf c0 x).toNat) 2 (by omega) (by omega)) pn_yX10_of (hasC.of hT.1.ob rfl) q2827 q2829 qs53 q161 q2830 ⟨by decide, by decide⟩ hl.1 (Nat.le_of_ble_eq_true rfl) dX10_free_31 ⟨by omega, by omega⟩) hL (fun H locs hR hL => ?_)
    refine W.eq (g2 := F0 m9 34 ls [.int (iI (mPl (mk c0 (rkOf c0 x).toNat))), .int (iI (plA c0 (((rkOf c0 x).toNat + 1 : Nat) : Int)))]) (congrArg (fun z_ : Int => F0 m9 34 ls [.int (iI (z_)), .int (iI (plA c0 (((rkOf c0 x).toNat + 1 : Nat) : Int)))]) (show (tof t_7 ((rkOf c0 x).toNat : Nat) 2 : Int) = mPl (mk c0 (rkOf c0 x).toNat) from (by exact ((congrFun (((hE_t_7 3 (by decide)).2).trans (hE_t_1 3 (by decide)).2) ((32 + 14 * (rkOf c0 x).toNat + 2))).trans ((hC.m (rkOf c0 x).toNat (by omega)).2.2.1))))) ?_
    refine h_isub hx hb dX10_free_34 ?_
    refine h_iconst hx hb dX10_free_35 ?_
    refine h_isub hx hb dX10_free_36 ?_
    exact h_ireturn hx hb hlk hret hR hL rfl ⟨(by unfold qFre; rw [ans_t hok1]; rw [show (((rkOf c0 x).toNat + 1 : Nat) : Int) = rkOf c0 x + 1 by omega]), ⟨t_7, hT, (TwE.tr (S2 := [0]) (TwE.tr (S2 := [0]) (TwE.rf : TwE [] t t) hE_t_1 rfl rfl) hE_t_7 rfl rfl), (by rw [hth]; unfold qFre; rw [ans_t hok1])⟩⟩ (by omega) (by omega) rfl rfl dX10_free_37
  ·
    have hno1 := b2i_n1.mp c_f
    have hth : t_7.1 0 = 1 := (et_8).trans (if_pos hno1)
    refine h_iconst hx hb dX10_free_13 ?_
    exact h_ireturn hx hb hlk hret hR hL rfl ⟨(by unfold qFre; rw [ans_f (fun q => q hno1)]), ⟨t_7, hT, (TwE.tr (S2 := [0]) (TwE.tr (S2 := [0]) (TwE.rf : TwE [] t t) hE_t_1 rfl rfl) hE_t_7 rfl rfl), (by rw [hth]; unfold qFre; rw [ans_f (fun q => q hno1)])⟩⟩ (by omega) (by omega) rfl rfl dX10_free_14
