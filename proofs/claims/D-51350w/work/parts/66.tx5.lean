/-! the twin: load -/
set_option maxRecDepth 100000
def lst (B : List Int) (n : Int) : Rd × Cat := rText (B.take n.toNat)
def lodS (s : Sys) (B : List Int) (n : Int) : Sys := if wrC (lst B n).1 = 0 then ((lst B n).2, [], sD s, sR s) else s
def lodA (B : List Int) (n : Int) : Int := if wrC (lst B n).1 = 0 then (cN (lst B n).2 : Int) else -10 - wrC (lst B n).1
theorem UnIs.nil {f : Nat → Int} : UnIs 0 f [] := ⟨Nat.zero_le _, rfl, fun k hk => absurd hk (Nat.not_lt_zero _)⟩

theorem pn_yX10_readsText : ParN yX10_readsText 0 := by decide +kernel

set_option maxHeartbeats 4000000 in
set_option maxRecDepth 100000 in
/-- load -/
theorem m_load (l : Launch) (G : Gl) (w : Wd) (a : Nat) (ad : Nat → Nat) (t : Tw) (hT : TwAt G w a ad t) (n : Int) (s : Sys) (B : List Int) (hS : SysIs t s) (hx_n : R32 n) (hB : BfAt t B) (hb15 : t.1 15 = (B.length : Int)) : HM l yX10_load cX10_load 2 (some .int) 10 0 0 G [.ref a, .int (iI (n))] w (QI G (fun z_ w_ => z_ = (if gOk B n then lodA B n else 0) ∧ ∃ t_ : Tw, TwS G w w_ a ad t_ ∧ TwE [0, 1, 2, 3, 6, 12, 13, 15, 16, 17, 18, 19, 20, 21, 22, 23, 24] t t_ ∧ t_.1 0 = (if gOk B n then 0 else 1) ∧ t_.1 22 = (if gOk B n then errP (lst B n).1 else t.1 22) ∧ t_.1 15 = (if gOk B n then 0 else t.1 15) ∧ SysIs t_ (if gOk B n then lodS s B n else s) ∧ t_.1 13 = (if gOk B n ∧ wrC (lst B n).1 = 0 then 0 else t.1 13))) := by
  refine HM.mk (by decide +kernel) (Nat.le_of_ble_eq_true rfl) ?_
  intro p9 e9 s9 m9 a9 b9 meth9 c9 ls X hret hlk hnm hl H hR
  have hx := X.1.1
  have hb := X.1.2.1
  have hl : lv_has ls 2 [(0, .ref a), (1, .int (iI (n)))] := hl
  have hL : LK G [] := fun q h => absurd h List.not_mem_nil
  generalize ([] : List Loc) = locs at hL ⊢
  have hTb := hT
  have hT : TwS G w w a ad t := TwS.rf hT
  have hB8 := hB.1.1
  refine lv_aload_n hx hb dX10_load_0 rfl (lv_at hl 0 rfl) ?_
  refine h_iconst hx hb dX10_load_1 ?_
  refine tw_puti X hR hL hT 0 (by decide) q2941 rfl rfl rfl twF_s0 (by omega) dX10_load_2 (fun t_1 et_2 w_3 hT H locs hR hL => ?_)
  have hE_t_1 := TwE.put et_2
  have hv_t_1 := tput_v et_2
  refine lv_aload_n hx hb dX10_load_5 rfl (lv_at hl 0 rfl) ?_
  refine lv_iload_n hx hb dX10_load_6 rfl (lv_at hl 1 rfl) ?_
  refine h_i2l hx hb dX10_load_7 (by omega) ?_
  refine h_lconst hx hb 0 dX10_load_8 rfl ?_
  refine lv_aload_n hx hb dX10_load_9 rfl (lv_at hl 0 rfl) ?_
  refine tw_get X hR hT 15 (by decide) q2956 (v := .int (iI ((B.length : Int)))) (congrArg (fun z => some (Value.int (iI z))) (((hE_t_1 15 (by decide)).1).trans hb15)) dX10_load_10 ?_
  refine h_i2l hx hb dX10_load_13 (by omega) ?_
  -- call SpokenMarksModel.in
  refine h_kIp (h_runS X hR (m_in l G w_3  n 0 ((B.length : Int)) (by omega) (by omega) (by omega)) pn_yX10_in q2730 q2731 q161 q2732 ⟨by decide, by decide⟩ hl.1 (Nat.le_of_ble_eq_true rfl) dX10_load_14 ⟨by omega, by omega⟩) hL (fun H locs hR hL => ?_)
  refine h_iconst hx hb dX10_load_17 ?_
  -- call SpokenMarksModel.fails
  refine h_kI (h_runV X hR (m_fails l G w_3 a ad t_1 hT.1 (b2i (0 ≤ n ∧ n ≤ ((B.length : Int)))) 1 (b2i_R _) ⟨by decide, by decide⟩ hv_t_1) pn_yX10_fails (hasC.of hT.1.ob rfl) q2733 q2735 qs33 q161 q2736 ⟨by decide, by decide⟩ hl.1 (Nat.le_of_ble_eq_true rfl) dX10_load_18 ⟨by omega, by omega⟩) hL (fun z_7 w_8 hp_9 H locs hR hL => ?_)
  obtain ⟨rfl, t_10, hT2, hE_t_10, et_11⟩ := hp_9
  have hT := hT.tr hT2
  clear hT2
  refine h_if_eq hx hb 26 dX10_load_21 (by decide) (b2i_R _) (fun c_f => ?_) (fun c_f => ?_)
  ·
    have hok := b2i_n1.mp (b2i_0.mp c_f)
    have hth : t_10.1 0 = 0 := (et_11).trans (if_neg (b2i_0.mp c_f))
    refine lv_aload_n hx hb dX10_load_26 rfl (lv_at hl 0 rfl) ?_
    refine tw_get X hR hT 3 (by decide) q2944 rfl dX10_load_27 ?_
    refine h_iconst hx hb dX10_load_30 ?_
    refine lv_aload_n hx hb dX10_load_31 rfl (lv_at hl 0 rfl) ?_
    refine tw_get X hR hT 6 (by decide) q2947 rfl dX10_load_32 ?_
    refine h_iconst hx hb dX10_load_35 ?_
    refine h_sipush hx hb dX10_load_36 (by decide) ?_
    -- call SpokenMarksModel.copies
    refine h_kV (h_runS X hR (m_copies l G w_8 a ad t_10 hT.1 3 0 6 0 606 (by decide) (by decide) (by show _ ≤ _; simp only [twN]; omega) (by show _ ≤ _; simp only [twN]; omega) (by first | exact Or.inl (by decide) | exact Or.inr (by omega))) pn_yX10_copies q2737 q2738 q161 q2739 ⟨by decide, by decide⟩ hl.1 (Nat.le_of_ble_eq_true rfl) dX10_load_39 ⟨by omega, by omega⟩) hL (fun w_13 hp_14 H locs hR hL => ?_)
    obtain ⟨t_15, hT2, e1_, e2_, hc_t_15⟩ := hp_14
    have hE_t_15 : TwE [6] t_10 t_15 := fun k_ hk_ => ⟨by rw [e1_], e2_ k_ (by simpa using hk_)⟩
    have e1_t_15 := e1_
    have hT := hT.tr hT2
    clear hT2 e1_ e2_
    have hTl : RowIs (t_15.2 6) (sC s) := hS.C.mv606 (fun i hi => by rw [hc_t_15]; unfold cpyF; rw [if_pos (by omega), ((hE_t_10 3 (by decide)).2).trans (hE_t_1 3 (by decide)).2]; congr 1)
    refine lv_aload_n hx hb dX10_load_42 rfl (lv_at hl 0 rfl) ?_
    refine lv_iload_n hx hb dX10_load_43 rfl (lv_at hl 1 rfl) ?_
    refine W.eq (g2 := F0 m9 44 ls [.int (iI (((B.take n.toNat).length : Int))), .ref a]) (congrArg (fun z_ : Int => F0 m9 44 ls [.int (iI (z_)), .ref a]) (show (n : Int) = ((B.take n.toNat).length : Int) from (by rw [List.length_take]; have := hok; omega))) ?_
    -- call SpokenMarksModel.starts
    refine h_kV (h_runV X hR (m_starts l G w_13 a ad t_15 hT.1 (B.take n.toNat) (hB.tk n.toNat ((((hE_t_15 14 (by decide)).2).trans (hE_t_10 14 (by decide)).2).trans (hE_t_1 14 (by decide)).2))) pn_yX10_starts (hasC.of hT.1.ob rfl) q2740 q2742 qs34 q161 q2743 ⟨by decide, by decide⟩ hl.1 (Nat.le_of_ble_eq_true rfl) dX10_load_44 ⟨by omega, by omega⟩) hL (fun w_17 hp_18 H locs hR hL => ?_)
    obtain ⟨t_19, hT2, hE_t_19, et_20⟩ := hp_18
    have hT := hT.tr hT2
    clear hT2
    have h15 := et_20.2
    have hR0 := et_20.1
    refine lv_aload_n hx hb dX10_load_47 rfl (lv_at hl 0 rfl) ?_
    -- call SpokenMarksModel.readsText
    refine h_kV (h_runV X hR (m_readsText l G w_17 a ad t_19 hT.1 (B.take n.toNat) hR0) pn_yX10_readsText (hasC.of hT.1.ob rfl) q2763 q2765 qs38 q161 q2766 ⟨by decide, by decide⟩ hl.1 (Nat.le_of_ble_eq_true rfl) dX10_load_48 ⟨by omega, by omega⟩) hL (fun w_22 hp_23 H locs hR hL => ?_)
    obtain ⟨t_24, hT2, hE_t_24, et_25⟩ := hp_23
    have hT := hT.tr hT2
    clear hT2
    have hRz : RdAt t_24 (B.take n.toNat) (lst B n).1 := et_25.1
    have hRc : wrC (lst B n).1 = 0 → RowIs (t_24.2 3) (lst B n).2 ∧ Ok 2200 (lst B n).2 := et_25.2
    have hw9 := hRz.wr9
    refine lv_aload_n hx hb dX10_load_51 rfl (lv_at hl 0 rfl) ?_
    refine tw_get X hR hT 21 (by decide) q2962 (v := .int (iI (wrC (lst B n).1))) (congrArg (fun z => some (Value.int (iI z))) (hRz.wr)) dX10_load_52 ?_
    refine h_if_eq hx hb 82 dX10_load_55 (by decide) (by omega) (fun c_w => ?_) (fun c_w => ?_)
    ·
      refine lv_aload_n hx hb dX10_load_82 rfl (lv_at hl 0 rfl) ?_
      refine h_iconst hx hb dX10_load_83 ?_
      refine tw_puti X hR hL hT 12 (by decide) q2953 rfl rfl rfl twF_s12 (by omega) dX10_load_84 (fun t_26 et_27 w_28 hT H locs hR hL => ?_)
      have hE_t_26 := TwE.put et_27
      have hv_t_26 := tput_v et_27
      refine lv_aload_n hx hb dX10_load_87 rfl (lv_at hl 0 rfl) ?_
      refine h_iconst hx hb dX10_load_88 ?_
      refine tw_puti X hR hL hT 13 (by decide) q2954 rfl (nar01 (by omega)) rfl twF_s13 (by omega) dX10_load_89 (fun t_29 et_30 w_31 hT H locs hR hL => ?_)
      have hE_t_29 := TwE.put et_30
      have hv_t_29 := tput_v et_30
      refine lv_aload_n hx hb dX10_load_92 rfl (lv_at hl 0 rfl) ?_
      refine h_iconst hx hb dX10_load_93 ?_
      -- call SpokenMarksModel.head
      refine h_kIp (h_runV X hR (m_head l G w_31 a ad t_29 hT.1 2 (by omega)) pn_yX10_head (hasC.of hT.1.ob rfl) q2789 q2791 qs44 q161 q2792 ⟨by decide, by decide⟩ hl.1 (Nat.le_of_ble_eq_true rfl) dX10_load_94 ⟨by omega, by omega⟩) hL (fun H locs hR hL => ?_)
      refine W.eq (g2 := F0 m9 97 ls [.int (iI ((cN (lst B n).2 : Int)))]) (congrArg (fun z_ : Int => F0 m9 97 ls [.int (iI (z_))]) (show (hd t_29 2 : Int) = (cN (lst B n).2 : Int) from (by exact (congrFun (((hE_t_29 3 (by decide)).2).trans (hE_t_26 3 (by decide)).2) 2).trans (hRc c_w).1.n))) ?_
      exact h_ireturn hx hb hlk hret hR hL rfl ⟨(by rw [if_pos hok, lodA, if_pos c_w]), ⟨t_29, hT, (TwE.tr (S2 := [0, 1, 2, 3, 6, 12, 13, 15, 16, 17, 18, 19, 20, 21, 22, 23, 24]) (TwE.tr (S2 := [0, 1, 2, 3, 6, 12, 13, 15, 16, 17, 18, 19, 20, 21, 22, 23, 24]) (TwE.tr (S2 := [0, 1, 2, 3, 6, 12, 13, 15, 16, 17, 18, 19, 20, 21, 22, 23, 24]) (TwE.tr (S2 := [0, 1, 2, 3, 6, 12, 13, 15, 16, 17, 18, 19, 20, 21, 22, 23, 24]) (TwE.tr (S2 := [0, 1, 2, 3, 6, 12, 13, 15, 16, 17, 18, 19, 20, 21, 22, 23, 24]) (TwE.tr (S2 := [0, 1, 2, 3, 6, 12, 13, 15, 16, 17, 18, 19, 20, 21, 22, 23, 24]) (TwE.tr (S2 := [0, 1, 2, 3, 6, 12, 13, 15, 16, 17, 18, 19, 20, 21, 22, 23, 24]) (TwE.rf : TwE [] t t) hE_t_1 rfl rfl) hE_t_10 rfl rfl) hE_t_15 rfl rfl) hE_t_19 rfl rfl) hE_t_24 rfl rfl) hE_t_26 rfl rfl) hE_t_29 rfl rfl), ⟨by rw [if_pos hok]; exact ((((((hE_t_29 0 (by decide)).1).trans (hE_t_26 0 (by decide)).1).trans (hE_t_24 0 (by decide)).1).trans (hE_t_19 0 (by decide)).1).trans (hE_t_15 0 (by decide)).1).trans hth, by rw [if_pos hok]; exact (((hE_t_29 22 (by decide)).1).trans (hE_t_26 22 (by decide)).1).trans hRz.er22, by rw [if_pos hok]; exact ((((hE_t_29 15 (by decide)).1).trans (hE_t_26 15 (by decide)).1).trans (hE_t_24 15 (by decide)).1).trans h15, by rw [if_pos hok, lodS, if_pos c_w]; exact ⟨by rw [((hE_t_29 3 (by decide)).2).trans (hE_t_26 3 (by decide)).2]; exact (hRc c_w).1, by rw [((hE_t_29 12 (by decide)).1).trans hv_t_26]; exact UnIs.nil, ((((((((hE_t_29 9 (by decide)).1).trans (hE_t_26 9 (by decide)).1).trans (hE_t_24 9 (by decide)).1).trans (hE_t_19 9 (by decide)).1).trans (hE_t_15 9 (by decide)).1).trans (hE_t_10 9 (by decide)).1).trans (hE_t_1 9 (by decide)).1).trans hS.2.2.1, ((((((((hE_t_29 10 (by decide)).1).trans (hE_t_26 10 (by decide)).1).trans (hE_t_24 10 (by decide)).1).trans (hE_t_19 10 (by decide)).1).trans (hE_t_15 10 (by decide)).1).trans (hE_t_10 10 (by decide)).1).trans (hE_t_1 10 (by decide)).1).trans hS.2.2.2⟩, by rw [if_pos ⟨hok, c_w⟩]; exact hv_t_29⟩⟩⟩ (by omega) (by omega) rfl rfl dX10_load_97
    ·
      refine lv_aload_n hx hb dX10_load_58 rfl (lv_at hl 0 rfl) ?_
      refine tw_get X hR hT 6 (by decide) q2947 rfl dX10_load_59 ?_
      refine h_iconst hx hb dX10_load_62 ?_
      refine lv_aload_n hx hb dX10_load_63 rfl (lv_at hl 0 rfl) ?_
      refine tw_get X hR hT 3 (by decide) q2944 rfl dX10_load_64 ?_
      refine h_iconst hx hb dX10_load_67 ?_
      refine h_sipush hx hb dX10_load_68 (by decide) ?_
      -- call SpokenMarksModel.copies
      refine h_kV (h_runS X hR (m_copies l G w_22 a ad t_24 hT.1 6 0 3 0 606 (by decide) (by decide) (by show _ ≤ _; simp only [twN]; omega) (by show _ ≤ _; simp only [twN]; omega) (by first | exact Or.inl (by decide) | exact Or.inr (by omega))) pn_yX10_copies q2737 q2738 q161 q2739 ⟨by decide, by decide⟩ hl.1 (Nat.le_of_ble_eq_true rfl) dX10_load_71 ⟨by omega, by omega⟩) hL (fun w_36 hp_37 H locs hR hL => ?_)
      obtain ⟨t_38, hT2, e1_, e2_, hc_t_38⟩ := hp_37
      have hE_t_38 : TwE [3] t_24 t_38 := fun k_ hk_ => ⟨by rw [e1_], e2_ k_ (by simpa using hk_)⟩
      have e1_t_38 := e1_
      have hT := hT.tr hT2
      clear hT2 e1_ e2_
      have hTb_ : RowIs (t_38.2 3) (sC s) := hTl.mv606 (fun i hi => by rw [hc_t_38]; unfold cpyF; rw [if_pos (by omega), ((hE_t_24 6 (by decide)).2).trans (hE_t_19 6 (by decide)).2]; congr 1)
      refine h_bipush hx hb dX10_load_74 (by decide) ?_
      refine lv_aload_n hx hb dX10_load_76 rfl (lv_at hl 0 rfl) ?_
      refine tw_get X hR hT 21 (by decide) q2962 (v := .int (iI (wrC (lst B n).1))) (congrArg (fun z => some (Value.int (iI z))) (((hE_t_38 21 (by decide)).1).trans hRz.wr)) dX10_load_77 ?_
      refine h_isub hx hb dX10_load_80 ?_
      exact h_ireturn hx hb hlk hret hR hL rfl ⟨(by rw [if_pos hok, lodA, if_neg c_w]), ⟨t_38, hT, (TwE.tr (S2 := [0, 1, 2, 3, 6, 12, 13, 15, 16, 17, 18, 19, 20, 21, 22, 23, 24]) (TwE.tr (S2 := [0, 1, 2, 3, 6, 12, 13, 15, 16, 17, 18, 19, 20, 21, 22, 23, 24]) (TwE.tr (S2 := [0, 1, 2, 3, 6, 12, 13, 15, 16, 17, 18, 19, 20, 21, 22, 23, 24]) (TwE.tr (S2 := [0, 1, 2, 3, 6, 12, 13, 15, 16, 17, 18, 19, 20, 21, 22, 23, 24]) (TwE.tr (S2 := [0, 1, 2, 3, 6, 12, 13, 15, 16, 17, 18, 19, 20, 21, 22, 23, 24]) (TwE.tr (S2 := [0, 1, 2, 3, 6, 12, 13, 15, 16, 17, 18, 19, 20, 21, 22, 23, 24]) (TwE.rf : TwE [] t t) hE_t_1 rfl rfl) hE_t_10 rfl rfl) hE_t_15 rfl rfl) hE_t_19 rfl rfl) hE_t_24 rfl rfl) hE_t_38 rfl rfl), ⟨by rw [if_pos hok]; exact (((((hE_t_38 0 (by decide)).1).trans (hE_t_24 0 (by decide)).1).trans (hE_t_19 0 (by decide)).1).trans (hE_t_15 0 (by decide)).1).trans hth, by rw [if_pos hok]; exact ((hE_t_38 22 (by decide)).1).trans hRz.er22, by rw [if_pos hok]; exact (((hE_t_38 15 (by decide)).1).trans (hE_t_24 15 (by decide)).1).trans h15, by rw [if_pos hok, lodS, if_neg c_w]; exact ⟨hTb_, by rw [((((((hE_t_38 12 (by decide)).1).trans (hE_t_24 12 (by decide)).1).trans (hE_t_19 12 (by decide)).1).trans (hE_t_15 12 (by decide)).1).trans (hE_t_10 12 (by decide)).1).trans (hE_t_1 12 (by decide)).1, ((((((hE_t_38 8 (by decide)).2).trans (hE_t_24 8 (by decide)).2).trans (hE_t_19 8 (by decide)).2).trans (hE_t_15 8 (by decide)).2).trans (hE_t_10 8 (by decide)).2).trans (hE_t_1 8 (by decide)).2]; exact hS.2.1, (((((((hE_t_38 9 (by decide)).1).trans (hE_t_24 9 (by decide)).1).trans (hE_t_19 9 (by decide)).1).trans (hE_t_15 9 (by decide)).1).trans (hE_t_10 9 (by decide)).1).trans (hE_t_1 9 (by decide)).1).trans hS.2.2.1, (((((((hE_t_38 10 (by decide)).1).trans (hE_t_24 10 (by decide)).1).trans (hE_t_19 10 (by decide)).1).trans (hE_t_15 10 (by decide)).1).trans (hE_t_10 10 (by decide)).1).trans (hE_t_1 10 (by decide)).1).trans hS.2.2.2⟩, by rw [if_neg (fun q => c_w q.2)]; exact ((((((hE_t_38 13 (by decide)).1).trans (hE_t_24 13 (by decide)).1).trans (hE_t_19 13 (by decide)).1).trans (hE_t_15 13 (by decide)).1).trans (hE_t_10 13 (by decide)).1).trans (hE_t_1 13 (by decide)).1⟩⟩⟩ (by omega) (by omega) rfl rfl dX10_load_81
  ·
    have hno := b2i_0.mp (b2i_n1.mp c_f)
    have hth : t_10.1 0 = _ := (et_11).trans (if_pos (b2i_n1.mp c_f))
    refine h_iconst hx hb dX10_load_24 ?_
    exact h_ireturn hx hb hlk hret hR hL rfl ⟨(by rw [if_neg hno]), ⟨t_10, hT, (TwE.tr (S2 := [0, 1, 2, 3, 6, 12, 13, 15, 16, 17, 18, 19, 20, 21, 22, 23, 24]) (TwE.tr (S2 := [0, 1, 2, 3, 6, 12, 13, 15, 16, 17, 18, 19, 20, 21, 22, 23, 24]) (TwE.rf : TwE [] t t) hE_t_1 rfl rfl) hE_t_10 rfl rfl), ⟨by rw [if_neg hno]; exact hth, by rw [if_neg hno]; exact ((hE_t_10 22 (by decide)).1).trans (hE_t_1 22 (by decide)).1, by rw [if_neg hno]; exact ((((hE_t_10 15 (by decide)).1).trans (hE_t_1 15 (by decide)).1).trans hb15).trans hb15.symm, by rw [if_neg hno]; exact hS.mv (TwE.tr (S2 := [0]) (TwE.tr (S2 := [0]) (TwE.rf : TwE [] t t) hE_t_1 rfl rfl) hE_t_10 rfl rfl) (by decide) (by decide) (by decide) (by decide) (by decide), by rw [if_neg (fun q => hno q.1)]; exact ((hE_t_10 13 (by decide)).1).trans (hE_t_1 13 (by decide)).1⟩⟩⟩ (by omega) (by omega) rfl rfl dX10_load_25
