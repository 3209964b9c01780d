/-! the twin: soundsLike -/
set_option maxRecDepth 100000
def rSnd (T : List Int) : Rd × List Int := (rEnd (rWord T (.inr (tok T 0))).1, (rWord T (.inr (tok T 0))).2)
def sst (B : List Int) (n : Int) : Rd × List Int := rSnd (B.take n.toNat)
def sAns (B : List Int) (n : Int) (f : List Int → Int) : Int × Int := ans (gOk B n) 1 (if wrC (sst B n).1 = 0 then f (sst B n).2 else -10 - wrC (sst B n).1)
def sErr (B : List Int) (n : Int) (old : Int) : Int := if gOk B n then errP (sst B n).1 else old
theorem sAns_0 {B : List Int} {n : Int} {f : List Int → Int} (h : ¬ gOk B n) : sAns B n f = (1, 0) := ans_f h
theorem sAns_1 {B : List Int} {n : Int} {f : List Int → Int} (h : gOk B n) (h1 : ¬ wrC (sst B n).1 = 0) : sAns B n f = (0, -10 - wrC (sst B n).1) := (ans_t h).trans (by rw [if_neg h1])
theorem sAns_2 {B : List Int} {n : Int} {f : List Int → Int} (h : gOk B n) (h1 : wrC (sst B n).1 = 0) : sAns B n f = (0, f (sst B n).2) := (ans_t h).trans (by rw [if_pos h1])
theorem rWord_ok {T : List Int} {s s1 : Sc} (hW : ScW T s) (h : (rWord T (.inr s)).1 = .inr s1) : encR (rLook T (.inr s)) = encP (.inr (rWord T (.inr s)).2) ∧ PrtW (.inr (rWord T (.inr s)).2) := by
  by_cases h0 : wrC (rLook T (.inr s)).1 = 0
  · obtain ⟨h1, h2⟩ := rLook_ok h0
    have e := rLook_3 (T := T) h1 h2
    unfold rWord
    dsimp only
    rw [e]
    exact ⟨rfl, scL_w hW h1 h2⟩
  · unfold rWord at h
    dsimp only at h
    obtain ⟨x, hx⟩ := wrC_inl h0
    rw [hx] at h; cases h
def qSnd (c : Cat) (L : List Int) : Int := sndN c (earL (spk (cRl c) L))

theorem pn_yX10_sounding : ParN yX10_sounding 1 := by decide +kernel

set_option maxHeartbeats 4000000 in
set_option maxRecDepth 100000 in
/-- soundsLike -/
theorem m_soundsLike (l : Launch) (G : Gl) (w : Wd) (a : Nat) (ad : Nat → Nat) (t : Tw) (hT : TwAt G w a ad t) (n : Int) (B : List Int) (c0 : Cat) (hx_n : R32 n) (hB : BfAt t B) (hb15 : t.1 15 = (B.length : Int)) (hC : RowIs (t.2 3) c0) : HM l yX10_soundsLike cX10_soundsLike 4 (some .int) 9 0 0 G [.ref a, .int (iI (n))] w (QI G (fun z_ w_ => z_ = (sAns B n (qSnd c0)).2 ∧ ∃ t_ : Tw, TwS G w w_ a ad t_ ∧ TwE [0, 1, 2, 15, 16, 17, 18, 19, 20, 21, 22] t t_ ∧ t_.1 0 = (sAns B n (qSnd c0)).1 ∧ t_.1 22 = sErr B n (t.1 22) ∧ t_.1 15 = (if gOk B n then 0 else t.1 15) ∧ ∀ i, t_.2 3 i = t.2 3 i)) := by
  refine HM.mk (by decide +kernel) (Nat.le_of_ble_eq_true rfl) ?_
  intro p9 e9 s9 m9 a9 b9 meth9 c9 ls X hret hlk hnm hl H hR
  have hx := X.1.1
  have hb := X.1.2.1
  have hl : lv_has ls 4 [(0, .ref a), (1, .int (iI (n)))] := hl
  have hL : LK G [] := fun q h => absurd h List.not_mem_nil
  generalize ([] : List Loc) = locs at hL ⊢
  have hTb := hT
  have hT : TwS G w w a ad t := TwS.rf hT
  have hn40 := hC.n40
  have hsh8 := hC.sh8
  have hB8 := hB.1.1
  refine lv_aload_n hx hb dX10_soundsLike_0 rfl (lv_at hl 0 rfl) ?_
  refine h_iconst hx hb dX10_soundsLike_1 ?_
  refine tw_puti X hR hL hT 0 (by decide) q2941 rfl rfl rfl twF_s0 (by omega) dX10_soundsLike_2 (fun t_1 et_2 w_3 hT H locs hR hL => ?_)
  have hE_t_1 := TwE.put et_2
  have hv_t_1 := tput_v et_2
  refine lv_aload_n hx hb dX10_soundsLike_5 rfl (lv_at hl 0 rfl) ?_
  refine lv_iload_n hx hb dX10_soundsLike_6 rfl (lv_at hl 1 rfl) ?_
  refine h_i2l hx hb dX10_soundsLike_7 (by omega) ?_
  refine h_lconst hx hb 0 dX10_soundsLike_8 rfl ?_
  refine lv_aload_n hx hb dX10_soundsLike_9 rfl (lv_at hl 0 rfl) ?_
  refine tw_get X hR hT 15 (by decide) q2956 (v := .int (iI ((B.length : Int)))) (congrArg (fun z => some (Value.int (iI z))) (((hE_t_1 15 (by decide)).1).trans hb15)) dX10_soundsLike_10 ?_
  refine h_i2l hx hb dX10_soundsLike_13 (by omega) ?_
  -- call SpokenMarksModel.in
  refine h_kIp (h_runS X hR (m_in l G w_3  n 0 ((B.length : Int)) (by omega) (by omega) (by omega)) pn_yX10_in q2730 q2731 q161 q2732 ⟨by decide, by decide⟩ hl.1 (Nat.le_of_ble_eq_true rfl) dX10_soundsLike_14 ⟨by omega, by omega⟩) hL (fun H locs hR hL => ?_)
  refine h_iconst hx hb dX10_soundsLike_17 ?_
  -- call SpokenMarksModel.fails
  refine h_kI (h_runV X hR (m_fails l G w_3 a ad t_1 hT.1 (b2i (0 ≤ n ∧ n ≤ ((B.length : Int)))) 1 (b2i_R _) ⟨by decide, by decide⟩ hv_t_1) pn_yX10_fails (hasC.of hT.1.ob rfl) q2733 q2735 qs33 q161 q2736 ⟨by decide, by decide⟩ hl.1 (Nat.le_of_ble_eq_true rfl) dX10_soundsLike_18 ⟨by omega, by omega⟩) hL (fun z_7 w_8 hp_9 H locs hR hL => ?_)
  obtain ⟨rfl, t_10, hT2, hE_t_10, et_11⟩ := hp_9
  have hT := hT.tr hT2
  clear hT2
  refine h_if_eq hx hb 26 dX10_soundsLike_21 (by decide) (b2i_R _) (fun c_f => ?_) (fun c_f => ?_)
  ·
    have hok := b2i_n1.mp (b2i_0.mp c_f)
    have hth : t_10.1 0 = 0 := (et_11).trans (if_neg (b2i_0.mp c_f))
    refine lv_aload_n hx hb dX10_soundsLike_26 rfl (lv_at hl 0 rfl) ?_
    refine lv_iload_n hx hb dX10_soundsLike_27 rfl (lv_at hl 1 rfl) ?_
    refine W.eq (g2 := F0 m9 28 ls [.int (iI (((B.take n.toNat).length : Int))), .ref a]) (congrArg (fun z_ : Int => F0 m9 28 ls [.int (iI (z_)), .ref a]) (show (n : Int) = ((B.take n.toNat).length : Int) from (by rw [List.length_take]; have := hok; omega))) ?_
    -- call SpokenMarksModel.starts
    refine h_kV (h_runV X hR (m_starts l G w_8 a ad t_10 hT.1 (B.take n.toNat) (hB.tk n.toNat (((hE_t_10 14 (by decide)).2).trans (hE_t_1 14 (by decide)).2))) pn_yX10_starts (hasC.of hT.1.ob rfl) q2740 q2742 qs34 q161 q2743 ⟨by decide, by decide⟩ hl.1 (Nat.le_of_ble_eq_true rfl) dX10_soundsLike_28 ⟨by omega, by omega⟩) hL (fun w_13 hp_14 H locs hR hL => ?_)
    obtain ⟨t_15, hT2, hE_t_15, et_16⟩ := hp_14
    have hT := hT.tr hT2
    clear hT2
    have h15 := et_16.2
    have hR0 := et_16.1
    refine lv_aload_n hx hb dX10_soundsLike_31 rfl (lv_at hl 0 rfl) ?_
    -- call SpokenMarksModel.takesWord
    refine h_kL (h_runV X hR (m_takesWord l G w_13 a ad t_15 hT.1 (B.take n.toNat) (.inr (tok (B.take n.toNat) 0)) hR0) pn_yX10_takesWord (hasC.of hT.1.ob rfl) q2811 q2813 qs49 q161 q2814 ⟨by decide, by decide⟩ hl.1 (Nat.le_of_ble_eq_true rfl) dX10_soundsLike_32 ⟨by omega, by omega⟩) hL (fun z_17 w_18 hp_19 H locs hR hL => ?_)
    obtain ⟨rfl, t_20, hT2, hE_t_20, et_21⟩ := hp_19
    have hT := hT.tr hT2
    clear hT2
    have hRq : RdAt t_20 (B.take n.toNat) (rWord (B.take n.toNat) (.inr (tok (B.take n.toNat) 0))).1 := et_21
    have her0 := encR_r hR0
    refine lv_lstore_n (lv' := [(2, .long (lI (encR (rLook (B.take n.toNat) (.inr (tok (B.take n.toNat) 0)))))), (0, .ref a), (1, .int (iI (n)))]) hx hb dX10_soundsLike_35 rfl hl (by decide) rfl (fun ls hl => ?_)
    refine lv_aload_n hx hb dX10_soundsLike_36 rfl (lv_at hl 1 rfl) ?_
    refine tw_get X hR hT 19 (by decide) q2960 (v := .int (iI (t_20.1 19))) rfl dX10_soundsLike_37 ?_
    have rg_t_20_19 := hT.1.ri 19 (by decide) (by decide)
    refine h_if_eq hx hb 48 dX10_soundsLike_40 (by decide) (by omega) (fun c_k => ?_) (fun c_k => ?_)
    ·
      have hRz : RdAt t_20 (B.take n.toNat) (sst B n).1 := by show RdAt _ _ (rEnd (rWord (B.take n.toNat) (.inr (tok (B.take n.toNat) 0))).1); rw [hRq.end0 c_k]; exact hRq
      have hw9 := hRz.wr9
      refine lv_aload_n hx hb dX10_soundsLike_48 rfl (lv_at hl 1 rfl) ?_
      refine tw_get X hR hT 21 (by decide) q2962 (v := .int (iI (wrC (sst B n).1))) (congrArg (fun z => some (Value.int (iI z))) (hRz.wr)) dX10_soundsLike_49 ?_
      refine h_if_eq hx hb 65 dX10_soundsLike_52 (by decide) (by omega) (fun c_w => ?_) (fun c_w => ?_)
      ·
        obtain ⟨s1, hs1, hs2⟩ := rEnd_ok (show wrC (rEnd (rWord (B.take n.toNat) (.inr (tok (B.take n.toNat) 0))).1) = 0 from c_w) hRq.ne0
        obtain ⟨hen, hpw⟩ := rWord_ok (tok_w (Nat.zero_le _)) hs1
        have hew := earP_w hC.s.2.2.2.2.1 hpw
        have hl : lv_has ls 4 [(2, .long (lI (encP (.inr (sst B n).2)))), (0, .ref a), (1, .int (iI (n)))] := lv_conv hl (congrArg (fun z_ : Int => ([(2, .long (lI (z_))), (0, .ref a), (1, .int (iI (n)))] : List (Nat × Value))) (show (encR (rLook (B.take n.toNat) (.inr (tok (B.take n.toNat) 0))) : Int) = encP (.inr (sst B n).2) from (by exact hen)))
        refine lv_aload_n hx hb dX10_soundsLike_65 rfl (lv_at hl 1 rfl) ?_
        refine lv_aload_n hx hb dX10_soundsLike_66 rfl (lv_at hl 1 rfl) ?_
        refine lv_lload_n hx hb dX10_soundsLike_67 rfl (lv_at hl 0 rfl) ?_
        -- call SpokenMarksModel.ear
        refine h_kL (h_runV X hR (m_ear l G w_18 a ad t_20 hT.1 (cRl c0) (.inr (sst B n).2) (by rw [((((hE_t_20 3 (by decide)).2).trans (hE_t_15 3 (by decide)).2).trans (hE_t_10 3 (by decide)).2).trans (hE_t_1 3 (by decide)).2]; exact hC.rl) hpw) pn_yX10_ear (hasC.of hT.1.ob rfl) q2835 q2837 qs55 q161 q2838 ⟨by decide, by decide⟩ hl.1 (Nat.le_of_ble_eq_true rfl) dX10_soundsLike_68 ⟨by omega, by omega⟩) hL (fun z_22 w_23 hp_24 H locs hR hL => ?_)
        obtain ⟨rfl, t_25, hT2, hE_t_25, et_26⟩ := hp_24
        have hT := hT.tr hT2
        clear hT2
        -- call SpokenMarksModel.sounding
        refine h_kIp (h_runV X hR (m_sounding l G w_23 a ad t_25 hT.1 c0 (earL (spk (cRl c0) (sst B n).2)) (by rw [(((((hE_t_25 3 (by decide)).2).trans (hE_t_20 3 (by decide)).2).trans (hE_t_15 3 (by decide)).2).trans (hE_t_10 3 (by decide)).2).trans (hE_t_1 3 (by decide)).2]; exact hC) hew.1) pn_yX10_sounding (hasC.of hT.1.ob rfl) q3189 q3191 qs97 q161 q3192 ⟨by decide, by decide⟩ hl.1 (Nat.le_of_ble_eq_true rfl) dX10_soundsLike_71 ⟨by omega, by omega⟩) hL (fun H locs hR hL => ?_)
        exact h_ireturn hx hb hlk hret hR hL rfl ⟨(by rw [sAns_2 hok c_w]; rfl), ⟨t_25, hT, (TwE.tr (S2 := [0, 1, 2, 15, 16, 17, 18, 19, 20, 21, 22]) (TwE.tr (S2 := [0, 1, 2, 15, 16, 17, 18, 19, 20, 21, 22]) (TwE.tr (S2 := [0, 1, 2, 15, 16, 17, 18, 19, 20, 21, 22]) (TwE.tr (S2 := [0, 1, 2, 15, 16, 17, 18, 19, 20, 21, 22]) (TwE.tr (S2 := [0, 1, 2, 15, 16, 17, 18, 19, 20, 21, 22]) (TwE.rf : TwE [] t t) hE_t_1 rfl rfl) hE_t_10 rfl rfl) hE_t_15 rfl rfl) hE_t_20 rfl rfl) hE_t_25 rfl rfl), ⟨by rw [sAns_2 hok c_w]; exact ((((hE_t_25 0 (by decide)).1).trans (hE_t_20 0 (by decide)).1).trans (hE_t_15 0 (by decide)).1).trans hth, by rw [sErr, if_pos hok]; exact (((hE_t_25 22 (by decide)).1).trans hRz.er22), by rw [if_pos hok]; exact (((hE_t_25 15 (by decide)).1).trans (hE_t_20 15 (by decide)).1).trans h15, (fun i => congrFun ((((((hE_t_25 3 (by decide)).2).trans (hE_t_20 3 (by decide)).2).trans (hE_t_15 3 (by decide)).2).trans (hE_t_10 3 (by decide)).2).trans (hE_t_1 3 (by decide)).2) i)⟩⟩⟩ (by omega) (by omega) rfl rfl dX10_soundsLike_74
      ·
        refine h_bipush hx hb dX10_soundsLike_55 (by decide) ?_
        refine lv_aload_n hx hb dX10_soundsLike_57 rfl (lv_at hl 1 rfl) ?_
        refine tw_get X hR hT 21 (by decide) q2962 (v := .int (iI (wrC (sst B n).1))) (congrArg (fun z => some (Value.int (iI z))) (hRz.wr)) dX10_soundsLike_58 ?_
        refine h_isub hx hb dX10_soundsLike_61 ?_
        refine lv_goto (tgt := 74) hx hb dX10_soundsLike_62 (by decide) ?_
        exact h_ireturn hx hb hlk hret hR hL rfl ⟨(by rw [sAns_1 hok c_w]), ⟨t_20, hT, (TwE.tr (S2 := [0, 1, 2, 15, 16, 17, 18, 19, 20, 21, 22]) (TwE.tr (S2 := [0, 1, 2, 15, 16, 17, 18, 19, 20, 21, 22]) (TwE.tr (S2 := [0, 1, 2, 15, 16, 17, 18, 19, 20, 21, 22]) (TwE.tr (S2 := [0, 1, 2, 15, 16, 17, 18, 19, 20, 21, 22]) (TwE.rf : TwE [] t t) hE_t_1 rfl rfl) hE_t_10 rfl rfl) hE_t_15 rfl rfl) hE_t_20 rfl rfl), ⟨by rw [sAns_1 hok c_w]; exact (((hE_t_20 0 (by decide)).1).trans (hE_t_15 0 (by decide)).1).trans hth, by rw [sErr, if_pos hok]; exact hRz.er22, by rw [if_pos hok]; exact ((hE_t_20 15 (by decide)).1).trans h15, (fun i => congrFun (((((hE_t_20 3 (by decide)).2).trans (hE_t_15 3 (by decide)).2).trans (hE_t_10 3 (by decide)).2).trans (hE_t_1 3 (by decide)).2) i)⟩⟩⟩ (by omega) (by omega) rfl rfl dX10_soundsLike_74
    ·
      refine lv_aload_n hx hb dX10_soundsLike_43 rfl (lv_at hl 1 rfl) ?_
      refine h_iconst hx hb dX10_soundsLike_44 ?_
      -- call SpokenMarksModel.errs
      refine h_kV (h_runV X hR (m_errs l G w_18 a ad t_20 hT.1 1 (B.take n.toNat) ((rWord (B.take n.toNat) (.inr (tok (B.take n.toNat) 0))).1) hRq (by omega)) pn_yX10_errs (hasC.of hT.1.ob rfl) q2772 q2774 qs40 q161 q2775 ⟨by decide, by decide⟩ hl.1 (Nat.le_of_ble_eq_true rfl) dX10_soundsLike_45 ⟨by omega, by omega⟩) hL (fun w_31 hp_32 H locs hR hL => ?_)
      obtain ⟨t_33, hT2, hE_t_33, et_34⟩ := hp_32
      have hT := hT.tr hT2
      clear hT2
      have hRz : RdAt t_33 (B.take n.toNat) (sst B n).1 := by show RdAt _ _ (rEnd (rWord (B.take n.toNat) (.inr (tok (B.take n.toNat) 0))).1); rw [← hRq.end1 c_k]; exact et_34
      have hw9 := hRz.wr9
      refine lv_aload_n hx hb dX10_soundsLike_48 rfl (lv_at hl 1 rfl) ?_
      refine tw_get X hR hT 21 (by decide) q2962 (v := .int (iI (wrC (sst B n).1))) (congrArg (fun z => some (Value.int (iI z))) (hRz.wr)) dX10_soundsLike_49 ?_
      refine h_if_eq hx hb 65 dX10_soundsLike_52 (by decide) (by omega) (fun c_w => ?_) (fun c_w => ?_)
      ·
        obtain ⟨s1, hs1, hs2⟩ := rEnd_ok (show wrC (rEnd (rWord (B.take n.toNat) (.inr (tok (B.take n.toNat) 0))).1) = 0 from c_w) hRq.ne0
        obtain ⟨hen, hpw⟩ := rWord_ok (tok_w (Nat.zero_le _)) hs1
        have hew := earP_w hC.s.2.2.2.2.1 hpw
        have hl : lv_has ls 4 [(2, .long (lI (encP (.inr (sst B n).2)))), (0, .ref a), (1, .int (iI (n)))] := lv_conv hl (congrArg (fun z_ : Int => ([(2, .long (lI (z_))), (0, .ref a), (1, .int (iI (n)))] : List (Nat × Value))) (show (encR (rLook (B.take n.toNat) (.inr (tok (B.take n.toNat) 0))) : Int) = encP (.inr (sst B n).2) from (by exact hen)))
        refine lv_aload_n hx hb dX10_soundsLike_65 rfl (lv_at hl 1 rfl) ?_
        refine lv_aload_n hx hb dX10_soundsLike_66 rfl (lv_at hl 1 rfl) ?_
        refine lv_lload_n hx hb dX10_soundsLike_67 rfl (lv_at hl 0 rfl) ?_
        -- call SpokenMarksModel.ear
        refine h_kL (h_runV X hR (m_ear l G w_31 a ad t_33 hT.1 (cRl c0) (.inr (sst B n).2) (by rw [(((((hE_t_33 3 (by decide)).2).trans (hE_t_20 3 (by decide)).2).trans (hE_t_15 3 (by decide)).2).trans (hE_t_10 3 (by decide)).2).trans (hE_t_1 3 (by decide)).2]; exact hC.rl) hpw) pn_yX10_ear (hasC.of hT.1.ob rfl) q2835 q2837 qs55 q161 q2838 ⟨by decide, by decide⟩ hl.1 (Nat.le_of_ble_eq_true rfl) dX10_soundsLike_68 ⟨by omega, by omega⟩) hL (fun z_35 w_36 hp_37 H locs hR hL => ?_)
        obtain ⟨rfl, t_38, hT2, hE_t_38, et_39⟩ := hp_37
        have hT := hT.tr hT2
        clear hT2
        -- call SpokenMarksModel.sounding
        refine h_kIp (h_runV X hR (m_sounding l G w_36 a ad t_38 hT.1 c0 (earL (spk (cRl c0) (sst B n).2)) (by rw [((((((hE_t_38 3 (by decide)).2).trans (hE_t_33 3 (by decide)).2).trans (hE_t_20 3 (by decide)).2).trans (hE_t_15 3 (by decide)).2).trans (hE_t_10 3 (by decide)).2).trans (hE_t_1 3 (by decide)).2]; exact hC) hew.1) pn_yX10_sounding (hasC.of hT.1.ob rfl) q3189 q3191 qs97 q161 q3192 ⟨by decide, by decide⟩ hl.1 (Nat.le_of_ble_eq_true rfl) dX10_soundsLike_71 ⟨by omega, by omega⟩) hL (fun H locs hR hL => ?_)
        exact h_ireturn hx hb hlk hret hR hL rfl ⟨(by rw [sAns_2 hok c_w]; rfl), ⟨t_38, hT, (TwE.tr (S2 := [0, 1, 2, 15, 16, 17, 18, 19, 20, 21, 22]) (TwE.tr (S2 := [0, 1, 2, 15, 16, 17, 18, 19, 20, 21, 22]) (TwE.tr (S2 := [0, 1, 2, 15, 16, 17, 18, 19, 20, 21, 22]) (TwE.tr (S2 := [0, 1, 2, 15, 16, 17, 18, 19, 20, 21, 22]) (TwE.tr (S2 := [0, 1, 2, 15, 16, 17, 18, 19, 20, 21, 22]) (TwE.tr (S2 := [0, 1, 2, 15, 16, 17, 18, 19, 20, 21, 22]) (TwE.rf : TwE [] t t) hE_t_1 rfl rfl) hE_t_10 rfl rfl) hE_t_15 rfl rfl) hE_t_20 rfl rfl) hE_t_33 rfl rfl) hE_t_38 rfl rfl), ⟨by rw [sAns_2 hok c_w]; exact (((((hE_t_38 0 (by decide)).1).trans (hE_t_33 0 (by decide)).1).trans (hE_t_20 0 (by decide)).1).trans (hE_t_15 0 (by decide)).1).trans hth, by rw [sErr, if_pos hok]; exact (((hE_t_38 22 (by decide)).1).trans hRz.er22), by rw [if_pos hok]; exact ((((hE_t_38 15 (by decide)).1).trans (hE_t_33 15 (by decide)).1).trans (hE_t_20 15 (by decide)).1).trans h15, (fun i => congrFun (((((((hE_t_38 3 (by decide)).2).trans (hE_t_33 3 (by decide)).2).trans (hE_t_20 3 (by decide)).2).trans (hE_t_15 3 (by decide)).2).trans (hE_t_10 3 (by decide)).2).trans (hE_t_1 3 (by decide)).2) i)⟩⟩⟩ (by omega) (by omega) rfl rfl dX10_soundsLike_74
      ·
        refine h_bipush hx hb dX10_soundsLike_55 (by decide) ?_
        refine lv_aload_n hx hb dX10_soundsLike_57 rfl (lv_at hl 1 rfl) ?_
        refine tw_get X hR hT 21 (by decide) q2962 (v := .int (iI (wrC (sst B n).1))) (congrArg (fun z => some (Value.int (iI z))) (hRz.wr)) dX10_soundsLike_58 ?_
        refine h_isub hx hb dX10_soundsLike_61 ?_
        refine lv_goto (tgt := 74) hx hb dX10_soundsLike_62 (by decide) ?_
        exact h_ireturn hx hb hlk hret hR hL rfl ⟨(by rw [sAns_1 hok c_w]), ⟨t_33, hT, (TwE.tr (S2 := [0, 1, 2, 15, 16, 17, 18, 19, 20, 21, 22]) (TwE.tr (S2 := [0, 1, 2, 15, 16, 17, 18, 19, 20, 21, 22]) (TwE.tr (S2 := [0, 1, 2, 15, 16, 17, 18, 19, 20, 21, 22]) (TwE.tr (S2 := [0, 1, 2, 15, 16, 17, 18, 19, 20, 21, 22]) (TwE.tr (S2 := [0, 1, 2, 15, 16, 17, 18, 19, 20, 21, 22]) (TwE.rf : TwE [] t t) hE_t_1 rfl rfl) hE_t_10 rfl rfl) hE_t_15 rfl rfl) hE_t_20 rfl rfl) hE_t_33 rfl rfl), ⟨by rw [sAns_1 hok c_w]; exact ((((hE_t_33 0 (by decide)).1).trans (hE_t_20 0 (by decide)).1).trans (hE_t_15 0 (by decide)).1).trans hth, by rw [sErr, if_pos hok]; exact hRz.er22, by rw [if_pos hok]; exact (((hE_t_33 15 (by decide)).1).trans (hE_t_20 15 (by decide)).1).trans h15, (fun i => congrFun ((((((hE_t_33 3 (by decide)).2).trans (hE_t_20 3 (by decide)).2).trans (hE_t_15 3 (by decide)).2).trans (hE_t_10 3 (by decide)).2).trans (hE_t_1 3 (by decide)).2) i)⟩⟩⟩ (by omega) (by omega) rfl rfl dX10_soundsLike_74
  ·
    have hno := b2i_0.mp (b2i_n1.mp c_f)
    have hth : t_10.1 0 = _ := (et_11).trans (if_pos (b2i_n1.mp c_f))
    refine h_iconst hx hb dX10_soundsLike_24 ?_
    exact h_ireturn hx hb hlk hret hR hL rfl ⟨(by rw [sAns_0 hno]), ⟨t_10, hT, (TwE.tr (S2 := [0, 1, 2, 15, 16, 17, 18, 19, 20, 21, 22]) (TwE.tr (S2 := [0, 1, 2, 15, 16, 17, 18, 19, 20, 21, 22]) (TwE.rf : TwE [] t t) hE_t_1 rfl rfl) hE_t_10 rfl rfl), ⟨by rw [sAns_0 hno]; exact hth, by rw [sErr, if_neg hno]; exact ((hE_t_10 22 (by decide)).1).trans (hE_t_1 22 (by decide)).1, by rw [if_neg hno]; exact ((((hE_t_10 15 (by decide)).1).trans (hE_t_1 15 (by decide)).1).trans hb15).trans hb15.symm, (fun i => congrFun (((hE_t_10 3 (by decide)).2).trans (hE_t_1 3 (by decide)).2) i)⟩⟩⟩ (by omega) (by omega) rfl rfl dX10_soundsLike_25
