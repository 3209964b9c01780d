/-! the twin: what would be -/
set_option maxRecDepth 100000
theorem TxW.tk {B : List Int} (h : TxW B) (n : Nat) : TxW (B.take n) := by
  refine ⟨by rw [List.length_take]; have := h.1; omega, fun k hk => ?_⟩
  rw [List.length_take] at hk
  have e : (B.take n).getD k 0 = B.getD k 0 := by rw [List.getD_eq_getElem?_getD, List.getElem?_take, if_pos (by omega), ← List.getD_eq_getElem?_getD]
  rw [e]; exact h.2 k (by omega)
theorem BfAt.tk {t t1 : Tw} {B : List Int} (h : BfAt t B) (n : Nat) (h14 : t1.2 14 = t.2 14) : BfAt t1 (B.take n) := by
  refine ⟨h.1.tk n, fun k hk => ?_⟩
  rw [List.length_take] at hk
  have e : (B.take n).getD k 0 = B.getD k 0 := by rw [List.getD_eq_getElem?_getD, List.getElem?_take, if_pos (by omega), ← List.getD_eq_getElem?_getD]
  rw [e, h14]; exact h.2 k (by omega)
theorem twinN_lt (c : Cat) (g : List Prt) : twinN c g < (cN c : Int) := by
  unfold twinN; split <;> omega
def gst (B : List Int) (n : Int) : Rd × List Prt := rGuest (B.take n.toNat)
abbrev gOk (B : List Int) (n : Int) : Prop := 0 ≤ n ∧ n ≤ (B.length : Int)
def gAns (B : List Int) (n : Int) (f : List Prt → Int) : Int × Int := ans (gOk B n) 1 (if wrC (gst B n).1 = 0 then f (gst B n).2 else -10 - wrC (gst B n).1)
def gErr (B : List Int) (n : Int) (old : Int) : Int := if gOk B n then errP (gst B n).1 else old
def qRnk (c : Cat) (p : List Prt) : Int := (rkF c p : Int)
def qPlc (c : Cat) (p : List Prt) : Int := if twinN c p = -1 then plF c (rkF c p : Int) else mPl (mk c (twinN c p).toNat)
def qMov (c : Cat) (p : List Prt) : Int := if twinN c p = -1 ∧ plA c (rkF c p : Int) - plA c ((rkF c p : Int) - 1) < 2 then mvN c (rkF c p : Int) else 0
theorem gAns_0 {B : List Int} {n : Int} {f : List Prt → Int} (h : ¬ gOk B n) : gAns B n f = (1, 0) := ans_f h
theorem gAns_1 {B : List Int} {n : Int} {f : List Prt → Int} (h : gOk B n) (h1 : ¬ wrC (gst B n).1 = 0) : gAns B n f = (0, -10 - wrC (gst B n).1) := (ans_t h).trans (by rw [if_neg h1])
theorem gAns_2 {B : List Int} {n : Int} {f : List Prt → Int} (h : gOk B n) (h1 : wrC (gst B n).1 = 0) : gAns B n f = (0, f (gst B n).2) := (ans_t h).trans (by rw [if_pos h1])

theorem pn_yX10_readsGuest : ParN yX10_readsGuest 1 := by decide +kernel

set_option maxHeartbeats 4000000 in
set_option maxRecDepth 100000 in
/-- rankIf -/
theorem m_rankIf (l : Launch) (G : Gl) (w : Wd) (a : Nat) (ad : Nat → Nat) (t : Tw) (hT : TwAt G w a ad t) (n : Int) (B : List Int) (c0 : Cat) (hx_n : R32 n) (hB : BfAt t B) (hb15 : t.1 15 = (B.length : Int)) (hC : RowIs (t.2 3) c0) : HM l yX10_rankIf cX10_rankIf 2 (some .int) 9 0 0 G [.ref a, .int (iI (n))] w (QI G (fun z_ w_ => z_ = (gAns B n (qRnk c0)).2 ∧ ∃ t_ : Tw, TwS G w w_ a ad t_ ∧ TwE [0, 1, 2, 3, 15, 16, 17, 18, 19, 20, 21, 22, 23, 24] t t_ ∧ t_.1 0 = (gAns B n (qRnk c0)).1 ∧ t_.1 22 = gErr B n (t.1 22) ∧ t_.1 15 = (if gOk B n then 0 else t.1 15) ∧ ∀ i, i < 592 → t_.2 3 i = t.2 3 i)) := by
  refine HM.mk (by decide +kernel) (Nat.le_of_ble_eq_true rfl) ?_
  intro p9 e9 s9 m9 a9 b9 meth9 c9 ls X hret hlk hnm hl H hR
  have hx := X.1.1
  have hb := X.1.2.1
  have hl : lv_has ls 2 [(0, .ref a), (1, .int (iI (n)))] := hl
  have hL : LK G [] := fun q h => absurd h List.not_mem_nil
  generalize ([] : List Loc) = locs at hL ⊢
  have hTb := hT
  have hT : TwS G w w a ad t := TwS.rf hT
  have hn40 := hC.n40
  have hsh8 := hC.sh8
  have hB8 := hB.1.1
  refine lv_aload_n hx hb dX10_rankIf_0 rfl (lv_at hl 0 rfl) ?_
  refine h_iconst hx hb dX10_rankIf_1 ?_
  refine tw_puti X hR hL hT 0 (by decide) q2941 rfl rfl rfl twF_s0 (by omega) dX10_rankIf_2 (fun t_1 et_2 w_3 hT H locs hR hL => ?_)
  have hE_t_1 := TwE.put et_2
  have hv_t_1 := tput_v et_2
  refine lv_aload_n hx hb dX10_rankIf_5 rfl (lv_at hl 0 rfl) ?_
  refine lv_iload_n hx hb dX10_rankIf_6 rfl (lv_at hl 1 rfl) ?_
  refine h_i2l hx hb dX10_rankIf_7 (by omega) ?_
  refine h_lconst hx hb 0 dX10_rankIf_8 rfl ?_
  refine lv_aload_n hx hb dX10_rankIf_9 rfl (lv_at hl 0 rfl) ?_
  refine tw_get X hR hT 15 (by decide) q2956 (v := .int (iI ((B.length : Int)))) (congrArg (fun z => some (Value.int (iI z))) (((hE_t_1 15 (by decide)).1).trans hb15)) dX10_rankIf_10 ?_
  refine h_i2l hx hb dX10_rankIf_13 (by omega) ?_
  -- call SpokenMarksModel.in
  refine h_kIp (h_runS X hR (m_in l G w_3  n 0 ((B.length : Int)) (by omega) (by omega) (by omega)) pn_yX10_in q2730 q2731 q161 q2732 ⟨by decide, by decide⟩ hl.1 (Nat.le_of_ble_eq_true rfl) dX10_rankIf_14 ⟨by omega, by omega⟩) hL (fun H locs hR hL => ?_)
  refine h_iconst hx hb dX10_rankIf_17 ?_
  -- call SpokenMarksModel.fails
  refine h_kI (h_runV X hR (m_fails l G w_3 a ad t_1 hT.1 (b2i (0 ≤ n ∧ n ≤ ((B.length : Int)))) 1 (b2i_R _) ⟨by decide, by decide⟩ hv_t_1) pn_yX10_fails (hasC.of hT.1.ob rfl) q2733 q2735 qs33 q161 q2736 ⟨by decide, by decide⟩ hl.1 (Nat.le_of_ble_eq_true rfl) dX10_rankIf_18 ⟨by omega, by omega⟩) hL (fun z_7 w_8 hp_9 H locs hR hL => ?_)
  obtain ⟨rfl, t_10, hT2, hE_t_10, et_11⟩ := hp_9
  have hT := hT.tr hT2
  clear hT2
  refine h_if_eq hx hb 26 dX10_rankIf_21 (by decide) (b2i_R _) (fun c_f => ?_) (fun c_f => ?_)
  ·
    have hok := b2i_n1.mp (b2i_0.mp c_f)
    have hth : t_10.1 0 = 0 := (et_11).trans (if_neg (b2i_0.mp c_f))
    refine lv_aload_n hx hb dX10_rankIf_26 rfl (lv_at hl 0 rfl) ?_
    refine lv_iload_n hx hb dX10_rankIf_27 rfl (lv_at hl 1 rfl) ?_
    refine W.eq (g2 := F0 m9 28 ls [.int (iI (((B.take n.toNat).length : Int))), .ref a]) (congrArg (fun z_ : Int => F0 m9 28 ls [.int (iI (z_)), .ref a]) (show (n : Int) = ((B.take n.toNat).length : Int) from (by rw [List.length_take]; have := hok; omega))) ?_
    -- call SpokenMarksModel.readsGuest
    refine h_kI (h_runV X hR (m_readsGuest l G w_8 a ad t_10 hT.1 (B.take n.toNat) c0 (hB.tk n.toNat (((hE_t_10 14 (by decide)).2).trans (hE_t_1 14 (by decide)).2)) (by rw [((hE_t_10 3 (by decide)).2).trans (hE_t_1 3 (by decide)).2]; exact hC)) pn_yX10_readsGuest (hasC.of hT.1.ob rfl) q3197 q3199 qs98 q161 q3200 ⟨by decide, by decide⟩ hl.1 (Nat.le_of_ble_eq_true rfl) dX10_rankIf_28 ⟨by omega, by omega⟩) hL (fun z_12 w_13 hp_14 H locs hR hL => ?_)
    obtain ⟨rfl, t_15, hT2, hE_t_15, et_16⟩ := hp_14
    have hT := hT.tr hT2
    clear hT2
    have hG1 : RdAt t_15 (B.take n.toNat) (gst B n).1 := et_16.1
    have hw9 := hG1.wr9
    have hr3 : ∀ i, i < 592 → t_15.2 3 i = t.2 3 i := fun i hi => (et_16.2.2.1 i hi).trans (congrFun (((hE_t_10 3 (by decide)).2).trans (hE_t_1 3 (by decide)).2) i)
    have hC2 : RowIs (t_15.2 3) c0 := hC.mv (fun i hi => hr3 i (by omega))
    have hsl : wrC (gst B n).1 = 0 → SlotP (t_15.2 3) 40 (cRl c0) (gst B n).2 ∧ PrtsW (gst B n).2 := et_16.2.2.2
    have h15_ := et_16.2.1
    refine h_if_eq hx hb 41 dX10_rankIf_31 (by decide) (b2i_R _) (fun c_g => ?_) (fun c_g => ?_)
    ·
      have hge := b2i_0.mp c_g
      refine h_bipush hx hb dX10_rankIf_41 (by decide) ?_
      refine lv_aload_n hx hb dX10_rankIf_43 rfl (lv_at hl 0 rfl) ?_
      refine tw_get X hR hT 21 (by decide) q2962 (v := .int (iI (wrC (gst B n).1))) (congrArg (fun z => some (Value.int (iI z))) (hG1.wr)) dX10_rankIf_44 ?_
      refine h_isub hx hb dX10_rankIf_47 ?_
      exact h_ireturn hx hb hlk hret hR hL rfl ⟨(by rw [gAns_1 hok hge]), ⟨t_15, hT, (TwE.tr (S2 := [0, 1, 2, 3, 15, 16, 17, 18, 19, 20, 21, 22, 23, 24]) (TwE.tr (S2 := [0, 1, 2, 3, 15, 16, 17, 18, 19, 20, 21, 22, 23, 24]) (TwE.tr (S2 := [0, 1, 2, 3, 15, 16, 17, 18, 19, 20, 21, 22, 23, 24]) (TwE.rf : TwE [] t t) hE_t_1 rfl rfl) hE_t_10 rfl rfl) hE_t_15 rfl rfl), ⟨by rw [gAns_1 hok hge]; exact ((hE_t_15 0 (by decide)).1).trans hth, by rw [gErr, if_pos hok]; exact hG1.er22, by rw [if_pos hok]; exact h15_, hr3⟩⟩⟩ (by omega) (by omega) rfl rfl dX10_rankIf_48
    ·
      have hgo := b2i_n1.mp c_g
      have hgs := (hsl hgo).1
      refine lv_aload_n hx hb dX10_rankIf_34 rfl (lv_at hl 0 rfl) ?_
      -- call SpokenMarksModel.guestRank
      refine h_kIp (h_runV X hR (m_guestRank l G w_13 a ad t_15 hT.1 c0 ((gst B n).2) hC2 hgs) pn_yX10_guestRank (hasC.of hT.1.ob rfl) q2913 q2915 qs71 q161 q2916 ⟨by decide, by decide⟩ hl.1 (Nat.le_of_ble_eq_true rfl) dX10_rankIf_35 ⟨by omega, by omega⟩) hL (fun H locs hR hL => ?_)
      refine lv_goto (tgt := 48) hx hb dX10_rankIf_38 (by decide) ?_
      exact h_ireturn hx hb hlk hret hR hL rfl ⟨(by rw [gAns_2 hok hgo]; rfl), ⟨t_15, hT, (TwE.tr (S2 := [0, 1, 2, 3, 15, 16, 17, 18, 19, 20, 21, 22, 23, 24]) (TwE.tr (S2 := [0, 1, 2, 3, 15, 16, 17, 18, 19, 20, 21, 22, 23, 24]) (TwE.tr (S2 := [0, 1, 2, 3, 15, 16, 17, 18, 19, 20, 21, 22, 23, 24]) (TwE.rf : TwE [] t t) hE_t_1 rfl rfl) hE_t_10 rfl rfl) hE_t_15 rfl rfl), ⟨by rw [gAns_2 hok hgo]; exact ((hE_t_15 0 (by decide)).1).trans hth, by rw [gErr, if_pos hok]; exact hG1.er22, by rw [if_pos hok]; exact h15_, hr3⟩⟩⟩ (by omega) (by omega) rfl rfl dX10_rankIf_48
  ·
    have hno := b2i_0.mp (b2i_n1.mp c_f)
    have hth : t_10.1 0 = _ := (et_11).trans (if_pos (b2i_n1.mp c_f))
    refine h_iconst hx hb dX10_rankIf_24 ?_
    exact h_ireturn hx hb hlk hret hR hL rfl ⟨(by rw [gAns_0 hno]), ⟨t_10, hT, (TwE.tr (S2 := [0, 1, 2, 3, 15, 16, 17, 18, 19, 20, 21, 22, 23, 24]) (TwE.tr (S2 := [0, 1, 2, 3, 15, 16, 17, 18, 19, 20, 21, 22, 23, 24]) (TwE.rf : TwE [] t t) hE_t_1 rfl rfl) hE_t_10 rfl rfl), ⟨by rw [gAns_0 hno]; exact hth, by rw [gErr, if_neg hno]; exact ((hE_t_10 22 (by decide)).1).trans (hE_t_1 22 (by decide)).1, by rw [if_neg hno]; exact ((((hE_t_10 15 (by decide)).1).trans (hE_t_1 15 (by decide)).1).trans hb15).trans hb15.symm, fun i hi => congrFun (((hE_t_10 3 (by decide)).2).trans (hE_t_1 3 (by decide)).2) i⟩⟩⟩ (by omega) (by omega) rfl rfl dX10_rankIf_25

set_option maxHeartbeats 4000000 in
set_option maxRecDepth 100000 in
/-- placeIf -/
theorem m_placeIf (l : Launch) (G : Gl) (w : Wd) (a : Nat) (ad : Nat → Nat) (t : Tw) (hT : TwAt G w a ad t) (n : Int) (B : List Int) (c0 : Cat) (hx_n : R32 n) (hB : BfAt t B) (hb15 : t.1 15 = (B.length : Int)) (hC : RowIs (t.2 3) c0) : HM l yX10_placeIf cX10_placeIf 2 (some .int) 9 0 0 G [.ref a, .int (iI (n))] w (QI G (fun z_ w_ => z_ = (gAns B n (qPlc c0)).2 ∧ ∃ t_ : Tw, TwS G w w_ a ad t_ ∧ TwE [0, 1, 2, 3, 15, 16, 17, 18, 19, 20, 21, 22, 23, 24] t t_ ∧ t_.1 0 = (gAns B n (qPlc c0)).1 ∧ t_.1 22 = gErr B n (t.1 22) ∧ t_.1 15 = (if gOk B n then 0 else t.1 15) ∧ ∀ i, i < 592 → t_.2 3 i = t.2 3 i)) := by
  refine HM.mk (by decide +kernel) (Nat.le_of_ble_eq_true rfl) ?_
  intro p9 e9 s9 m9 a9 b9 meth9 c9 ls X hret hlk hnm hl H hR
  have hx := X.1.1
  have hb := X.1.2.1
  have hl : lv_has ls 2 [(0, .ref a), (1, .int (iI (n)))] := hl
  have hL : LK G [] := fun q h => absurd h List.not_mem_nil
  generalize ([] : List Loc) = locs at hL ⊢
  have hTb := hT
  have hT : TwS G w w a ad t := TwS.rf hT
  have hn40 := hC.n40
  have hsh8 := hC.sh8
  have hB8 := hB.1.1
  refine lv_aload_n hx hb dX10_placeIf_0 rfl (lv_at hl 0 rfl) ?_
  refine h_iconst hx hb dX10_placeIf_1 ?_
  refine tw_puti X hR hL hT 0 (by decide) q2941 rfl rfl rfl twF_s0 (by omega) dX10_placeIf_2 (fun t_1 et_2 w_3 hT H locs hR hL => ?_)
  have hE_t_1 := TwE.put et_2
  have hv_t_1 := tput_v et_2
  refine lv_aload_n hx hb dX10_placeIf_5 rfl (lv_at hl 0 rfl) ?_
  refine lv_iload_n hx hb dX10_placeIf_6 rfl (lv_at hl 1 rfl) ?_
  refine h_i2l hx hb dX10_placeIf_7 (by omega) ?_
  refine h_lconst hx hb 0 dX10_placeIf_8 rfl ?_
  refine lv_aload_n hx hb dX10_placeIf_9 rfl (lv_at hl 0 rfl) ?_
  refine tw_get X hR hT 15 (by decide) q2956 (v := .int (iI ((B.length : Int)))) (congrArg (fun z => some (Value.int (iI z))) (((hE_t_1 15 (by decide)).1).trans hb15)) dX10_placeIf_10 ?_
  refine h_i2l hx hb dX10_placeIf_13 (by omega) ?_
  -- call SpokenMarksModel.in
  refine h_kIp (h_runS X hR (m_in l G w_3  n 0 ((B.length : Int)) (by omega) (by omega) (by omega)) pn_yX10_in q2730 q2731 q161 q2732 ⟨by decide, by decide⟩ hl.1 (Nat.le_of_ble_eq_true rfl) dX10_placeIf_14 ⟨by omega, by omega⟩) hL (fun H locs hR hL => ?_)
  refine h_iconst hx hb dX10_placeIf_17 ?_
  -- call SpokenMarksModel.fails
  refine h_kI (h_runV X hR (m_fails l G w_3 a ad t_1 hT.1 (b2i (0 ≤ n ∧ n ≤ ((B.length : Int)))) 1 (b2i_R _) ⟨by decide, by decide⟩ hv_t_1) pn_yX10_fails (hasC.of hT.1.ob rfl) q2733 q2735 qs33 q161 q2736 ⟨by decide, by decide⟩ hl.1 (Nat.le_of_ble_eq_true rfl) dX10_placeIf_18 ⟨by omega, by omega⟩) hL (fun z_7 w_8 hp_9 H locs hR hL => ?_)
  obtain ⟨rfl, t_10, hT2, hE_t_10, et_11⟩ := hp_9
  have hT := hT.tr hT2
  clear hT2
  refine h_if_eq hx hb 26 dX10_placeIf_21 (by decide) (b2i_R _) (fun c_f => ?_) (fun c_f => ?_)
  ·
    have hok := b2i_n1.mp (b2i_0.mp c_f)
    have hth : t_10.1 0 = 0 := (et_11).trans (if_neg (b2i_0.mp c_f))
    refine lv_aload_n hx hb dX10_placeIf_26 rfl (lv_at hl 0 rfl) ?_
    refine lv_iload_n hx hb dX10_placeIf_27 rfl (lv_at hl 1 rfl) ?_
    refine W.eq (g2 := F0 m9 28 ls [.int (iI (((B.take n.toNat).length : Int))), .ref a]) (congrArg (fun z_ : Int => F0 m9 28 ls [.int (iI (z_)), .ref a]) (show (n : Int) = ((B.take n.toNat).length : Int) from (by rw [List.length_take]; have := hok; omega))) ?_
    -- call SpokenMarksModel.readsGuest
    refine h_kI (h_runV X hR (m_readsGuest l G w_8 a ad t_10 hT.1 (B.take n.toNat) c0 (hB.tk n.toNat (((hE_t_10 14 (by decide)).2).trans (hE_t_1 14 (by decide)).2)) (by rw [((hE_t_10 3 (by decide)).2).trans (hE_t_1 3 (by decide)).2]; exact hC)) pn_yX10_readsGuest (hasC.of hT.1.ob rfl) q3197 q3199 qs98 q161 q3200 ⟨by decide, by decide⟩ hl.1 (Nat.le_of_ble_eq_true rfl) dX10_placeIf_28 ⟨by omega, by omega⟩) hL (fun z_12 w_13 hp_14 H locs hR hL => ?_)
    obtain ⟨rfl, t_15, hT2, hE_t_15, et_16⟩ := hp_14
    have hT := hT.tr hT2
    clear hT2
    have hG1 : RdAt t_15 (B.take n.toNat) (gst B n).1 := et_16.1
    have hw9 := hG1.wr9
    have hr3 : ∀ i, i < 592 → t_15.2 3 i = t.2 3 i := fun i hi => (et_16.2.2.1 i hi).trans (congrFun (((hE_t_10 3 (by decide)).2).trans (hE_t_1 3 (by decide)).2) i)
    have hC2 : RowIs (t_15.2 3) c0 := hC.mv (fun i hi => hr3 i (by omega))
    have hsl : wrC (gst B n).1 = 0 → SlotP (t_15.2 3) 40 (cRl c0) (gst B n).2 ∧ PrtsW (gst B n).2 := et_16.2.2.2
    have h15_ := et_16.2.1
    refine h_if_ne hx hb 42 dX10_placeIf_31 (by decide) (b2i_R _) (fun c_g => ?_) (fun c_g => ?_)
    ·
      have hgo := b2i_n1.mp c_g
      have hgs := (hsl hgo).1
      refine lv_aload_n hx hb dX10_placeIf_42 rfl (lv_at hl 0 rfl) ?_
      have htl := twinN_lt c0 (gst B n).2
      have htw := twinN_r c0 (gst B n).2
      have hrk := rkF_le c0 (gst B n).2
      -- call SpokenMarksModel.twin
      refine h_kIp (h_runV X hR (m_twin l G w_13 a ad t_15 hT.1 c0 ((gst B n).2) hC2 hgs) pn_yX10_twin (hasC.of hT.1.ob rfl) q2909 q2911 qs70 q161 q2912 ⟨by decide, by decide⟩ hl.1 (Nat.le_of_ble_eq_true rfl) dX10_placeIf_43 ⟨by omega, by omega⟩) hL (fun H locs hR hL => ?_)
      refine h_iconst hx hb dX10_placeIf_46 ?_
      refine h_icmp_eq hx hb 62 dX10_placeIf_47 (by decide) (by omega) (by omega) (fun c_t => ?_) (fun c_t => ?_)
      ·
        refine lv_aload_n hx hb dX10_placeIf_62 rfl (lv_at hl 0 rfl) ?_
        refine lv_aload_n hx hb dX10_placeIf_63 rfl (lv_at hl 0 rfl) ?_
        -- call SpokenMarksModel.guestRank
        refine h_kIp (h_runV X hR (m_guestRank l G w_13 a ad t_15 hT.1 c0 ((gst B n).2) hC2 hgs) pn_yX10_guestRank (hasC.of hT.1.ob rfl) q2913 q2915 qs71 q161 q2916 ⟨by decide, by decide⟩ hl.1 (Nat.le_of_ble_eq_true rfl) dX10_placeIf_64 ⟨by omega, by omega⟩) hL (fun H locs hR hL => ?_)
        -- call SpokenMarksModel.guestPlace
        refine h_kIp (h_runV X hR (m_guestPlace l G w_13 a ad t_15 hT.1 (rkF c0 (gst B n).2) c0 hC2 hrk) pn_yX10_guestPlace (hasC.of hT.1.ob rfl) q2933 q2935 qs76 q161 q2936 ⟨by decide, by decide⟩ hl.1 (Nat.le_of_ble_eq_true rfl) dX10_placeIf_67 ⟨by omega, by omega⟩) hL (fun H locs hR hL => ?_)
        exact h_ireturn hx hb hlk hret hR hL rfl ⟨(by rw [gAns_2 hok hgo]; unfold qPlc; first | (rw [if_pos c_t]; done) | (rw [if_neg c_t]; done)), ⟨t_15, hT, (TwE.tr (S2 := [0, 1, 2, 3, 15, 16, 17, 18, 19, 20, 21, 22, 23, 24]) (TwE.tr (S2 := [0, 1, 2, 3, 15, 16, 17, 18, 19, 20, 21, 22, 23, 24]) (TwE.tr (S2 := [0, 1, 2, 3, 15, 16, 17, 18, 19, 20, 21, 22, 23, 24]) (TwE.rf : TwE [] t t) hE_t_1 rfl rfl) hE_t_10 rfl rfl) hE_t_15 rfl rfl), ⟨by rw [gAns_2 hok hgo]; exact ((hE_t_15 0 (by decide)).1).trans hth, by rw [gErr, if_pos hok]; exact hG1.er22, by rw [if_pos hok]; exact h15_, hr3⟩⟩⟩ (by omega) (by omega) rfl rfl dX10_placeIf_70
      ·
        refine lv_aload_n hx hb dX10_placeIf_50 rfl (lv_at hl 0 rfl) ?_
        refine lv_aload_n hx hb dX10_placeIf_51 rfl (lv_at hl 0 rfl) ?_
        -- call SpokenMarksModel.twin
        refine h_kIp (h_runV X hR (m_twin l G w_13 a ad t_15 hT.1 c0 ((gst B n).2) hC2 hgs) pn_yX10_twin (hasC.of hT.1.ob rfl) q2909 q2911 qs70 q161 q2912 ⟨by decide, by decide⟩ hl.1 (Nat.le_of_ble_eq_true rfl) dX10_placeIf_52 ⟨by omega, by omega⟩) hL (fun H locs hR hL => ?_)
        refine h_iconst hx hb dX10_placeIf_55 ?_
        refine W.eq (g2 := F0 m9 56 ls [.int (iI (2)), .int (iI ((((twinN c0 (gst B n).2).toNat : Nat) : Int))), .ref a]) (congrArg (fun z_ : Int => F0 m9 56 ls [.int (iI (2)), .int (iI (z_)), .ref a]) (show (twinN c0 ((gst B n).2) : Int) = (((twinN c0 (gst B n).2).toNat : Nat) : Int) from (by omega))) ?_
        -- call SpokenMarksModel.of
        refine h_kIp (h_runV X hR (m_of l G w_13 a ad t_15 hT.1 ((twinN c0 (gst B n).2).toNat) 2 (by omega) (by omega)) pn_yX10_of (hasC.of hT.1.ob rfl) q2827 q2829 qs53 q161 q2830 ⟨by decide, by decide⟩ hl.1 (Nat.le_of_ble_eq_true rfl) dX10_placeIf_56 ⟨by omega, by omega⟩) hL (fun H locs hR hL => ?_)
        refine W.eq (g2 := F0 m9 59 ls [.int (iI (mPl (mk c0 (twinN c0 (gst B n).2).toNat)))]) (congrArg (fun z_ : Int => F0 m9 59 ls [.int (iI (z_))]) (show (tof t_15 ((twinN c0 (gst B n).2).toNat : Nat) 2 : Int) = mPl (mk c0 (twinN c0 (gst B n).2).toNat) from ((hC2.m _ (by omega)).2.2.1))) ?_
        refine lv_goto (tgt := 70) hx hb dX10_placeIf_59 (by decide) ?_
        exact h_ireturn hx hb hlk hret hR hL rfl ⟨(by rw [gAns_2 hok hgo]; unfold qPlc; first | (rw [if_pos c_t]; done) | (rw [if_neg c_t]; done)), ⟨t_15, hT, (TwE.tr (S2 := [0, 1, 2, 3, 15, 16, 17, 18, 19, 20, 21, 22, 23, 24]) (TwE.tr (S2 := [0, 1, 2, 3, 15, 16, 17, 18, 19, 20, 21, 22, 23, 24]) (TwE.tr (S2 := [0, 1, 2, 3, 15, 16, 17, 18, 19, 20, 21, 22, 23, 24]) (TwE.rf : TwE [] t t) hE_t_1 rfl rfl) hE_t_10 rfl rfl) hE_t_15 rfl rfl), ⟨by rw [gAns_2 hok hgo]; exact ((hE_t_15 0 (by decide)).1).trans hth, by rw [gErr, if_pos hok]; exact hG1.er22, by rw [if_pos hok]; exact h15_, hr3⟩⟩⟩ (by omega) (by omega) rfl rfl dX10_placeIf_70
    ·
      have hge := b2i_0.mp c_g
      refine h_bipush hx hb dX10_placeIf_34 (by decide) ?_
      refine lv_aload_n hx hb dX10_placeIf_36 rfl (lv_at hl 0 rfl) ?_
      refine tw_get X hR hT 21 (by decide) q2962 (v := .int (iI (wrC (gst B n).1))) (congrArg (fun z => some (Value.int (iI z))) (hG1.wr)) dX10_placeIf_37 ?_
      refine h_isub hx hb dX10_placeIf_40 ?_
      exact h_ireturn hx hb hlk hret hR hL rfl ⟨(by rw [gAns_1 hok hge]), ⟨t_15, hT, (TwE.tr (S2 := [0, 1, 2, 3, 15, 16, 17, 18, 19, 20, 21, 22, 23, 24]) (TwE.tr (S2 := [0, 1, 2, 3, 15, 16, 17, 18, 19, 20, 21, 22, 23, 24]) (TwE.tr (S2 := [0, 1, 2, 3, 15, 16, 17, 18, 19, 20, 21, 22, 23, 24]) (TwE.rf : TwE [] t t) hE_t_1 rfl rfl) hE_t_10 rfl rfl) hE_t_15 rfl rfl), ⟨by rw [gAns_1 hok hge]; exact ((hE_t_15 0 (by decide)).1).trans hth, by rw [gErr, if_pos hok]; exact hG1.er22, by rw [if_pos hok]; exact h15_, hr3⟩⟩⟩ (by omega) (by omega) rfl rfl dX10_placeIf_41
  ·
    have hno := b2i_0.mp (b2i_n1.mp c_f)
    have hth : t_10.1 0 = _ := (et_11).trans (if_pos (b2i_n1.mp c_f))
    refine h_iconst hx hb dX10_placeIf_24 ?_
    exact h_ireturn hx hb hlk hret hR hL rfl ⟨(by rw [gAns_0 hno]), ⟨t_10, hT, (TwE.tr (S2 := [0, 1, 2, 3, 15, 16, 17, 18, 19, 20, 21, 22, 23, 24]) (TwE.tr (S2 := [0, 1, 2, 3, 15, 16, 17, 18, 19, 20, 21, 22, 23, 24]) (TwE.rf : TwE [] t t) hE_t_1 rfl rfl) hE_t_10 rfl rfl), ⟨by rw [gAns_0 hno]; exact hth, by rw [gErr, if_neg hno]; exact ((hE_t_10 22 (by decide)).1).trans (hE_t_1 22 (by decide)).1, by rw [if_neg hno]; exact ((((hE_t_10 15 (by decide)).1).trans (hE_t_1 15 (by decide)).1).trans hb15).trans hb15.symm, fun i hi => congrFun (((hE_t_10 3 (by decide)).2).trans (hE_t_1 3 (by decide)).2) i⟩⟩⟩ (by omega) (by omega) rfl rfl dX10_placeIf_25

set_option maxHeartbeats 4000000 in
set_option maxRecDepth 100000 in
/-- movesIf -/
theorem m_movesIf (l : Launch) (G : Gl) (w : Wd) (a : Nat) (ad : Nat → Nat) (t : Tw) (hT : TwAt G w a ad t) (n : Int) (B : List Int) (c0 : Cat) (hx_n : R32 n) (hB : BfAt t B) (hb15 : t.1 15 = (B.length : Int)) (hC : RowIs (t.2 3) c0) : HM l yX10_movesIf cX10_movesIf 2 (some .int) 9 0 0 G [.ref a, .int (iI (n))] w (QI G (fun z_ w_ => z_ = (gAns B n (qMov c0)).2 ∧ ∃ t_ : Tw, TwS G w w_ a ad t_ ∧ TwE [0, 1, 2, 3, 15, 16, 17, 18, 19, 20, 21, 22, 23, 24] t t_ ∧ t_.1 0 = (gAns B n (qMov c0)).1 ∧ t_.1 22 = gErr B n (t.1 22) ∧ t_.1 15 = (if gOk B n then 0 else t.1 15) ∧ ∀ i, i < 592 → t_.2 3 i = t.2 3 i)) := by
  refine HM.mk (by decide +kernel) (Nat.le_of_ble_eq_true rfl) ?_
  intro p9 e9 s9 m9 a9 b9 meth9 c9 ls X hret hlk hnm hl H hR
  have hx := X.1.1
  have hb := X.1.2.1
  have hl : lv_has ls 2 [(0, .ref a), (1, .int (iI (n)))] := hl
  have hL : LK G [] := fun q h => absurd h List.not_mem_nil
  generalize ([] : List Loc) = locs at hL ⊢
  have hTb := hT
  have hT : TwS G w w a ad t := TwS.rf hT
  have hn40 := hC.n40
  have hsh8 := hC.sh8
  have hB8 := hB.1.1
  refine lv_aload_n hx hb dX10_movesIf_0 rfl (lv_at hl 0 rfl) ?_
  refine h_iconst hx hb dX10_movesIf_1 ?_
  refine tw_puti X hR hL hT 0 (by decide) q2941 rfl rfl rfl twF_s0 (by omega) dX10_movesIf_2 (fun t_1 et_2 w_3 hT H locs hR hL => ?_)
  have hE_t_1 := TwE.put et_2
  have hv_t_1 := tput_v et_2
  refine lv_aload_n hx hb dX10_movesIf_5 rfl (lv_at hl 0 rfl) ?_
  refine lv_iload_n hx hb dX10_movesIf_6 rfl (lv_at hl 1 rfl) ?_
  refine h_i2l hx hb dX10_movesIf_7 (by omega) ?_
  refine h_lconst hx hb 0 dX10_movesIf_8 rfl ?_
  refine lv_aload_n hx hb dX10_movesIf_9 rfl (lv_at hl 0 rfl) ?_
  refine tw_get X hR hT 15 (by decide) q2956 (v := .int (iI ((B.length : Int)))) (congrArg (fun z => some (Value.int (iI z))) (((hE_t_1 15 (by decide)).1).trans hb15)) dX10_movesIf_10 ?_
  refine h_i2l hx hb dX10_movesIf_13 (by omega) ?_
  -- call SpokenMarksModel.in
  refine h_kIp (h_runS X hR (m_in l G w_3  n 0 ((B.length : Int)) (by omega) (by omega) (by omega)) pn_yX10_in q2730 q2731 q161 q2732 ⟨by decide, by decide⟩ hl.1 (Nat.le_of_ble_eq_true rfl) dX10_movesIf_14 ⟨by omega, by omega⟩) hL (fun H locs hR hL => ?_)
  refine h_iconst hx hb dX10_movesIf_17 ?_
  -- call SpokenMarksModel.fails
  refine h_kI (h_runV X hR (m_fails l G w_3 a ad t_1 hT.1 (b2i (0 ≤ n ∧ n ≤ ((B.length : Int)))) 1 (b2i_R _) ⟨by decide, by decide⟩ hv_t_1) pn_yX10_fails (hasC.of hT.1.ob rfl) q2733 q2735 qs33 q161 q2736 ⟨by decide, by decide⟩ hl.1 (Nat.le_of_ble_eq_true rfl) dX10_movesIf_18 ⟨by omega, by omega⟩) hL (fun z_7 w_8 hp_9 H locs hR hL => ?_)
  obtain ⟨rfl, t_10, hT2, hE_t_10, et_11⟩ := hp_9
  have hT := hT.tr hT2
  clear hT2
  refine h_if_eq hx hb 26 dX10_movesIf_21 (by decide) (b2i_R _) (fun c_f => ?_) (fun c_f => ?_)
  ·
    have hok := b2i_n1.mp (b2i_0.mp c_f)
    have hth : t_10.1 0 = 0 := (et_11).trans (if_neg (b2i_0.mp c_f))
    refine lv_aload_n hx hb dX10_movesIf_26 rfl (lv_at hl 0 rfl) ?_
    refine lv_iload_n hx hb dX10_movesIf_27 rfl (lv_at hl 1 rfl) ?_
    refine W.eq (g2 := F0 m9 28 ls [.int (iI (((B.take n.toNat).length : Int))), .ref a]) (congrArg (fun z_ : Int => F0 m9 28 ls [.int (iI (z_)), .ref a]) (show (n : Int) = ((B.take n.toNat).length : Int) from (by rw [List.length_take]; have := hok; omega))) ?_
    -- call SpokenMarksModel.readsGuest
    refine h_kI (h_runV X hR (m_readsGuest l G w_8 a ad t_10 hT.1 (B.take n.toNat) c0 (hB.tk n.toNat (((hE_t_10 14 (by decide)).2).trans (hE_t_1 14 (by decide)).2)) (by rw [((hE_t_10 3 (by decide)).2).trans (hE_t_1 3 (by decide)).2]; exact hC)) pn_yX10_readsGuest (hasC.of hT.1.ob rfl) q3197 q3199 qs98 q161 q3200 ⟨by decide, by decide⟩ hl.1 (Nat.le_of_ble_eq_true rfl) dX10_movesIf_28 ⟨by omega, by omega⟩) hL (fun z_12 w_13 hp_14 H locs hR hL => ?_)
    obtain ⟨rfl, t_15, hT2, hE_t_15, et_16⟩ := hp_14
    have hT := hT.tr hT2
    clear hT2
    have hG1 : RdAt t_15 (B.take n.toNat) (gst B n).1 := et_16.1
    have hw9 := hG1.wr9
    have hr3 : ∀ i, i < 592 → t_15.2 3 i = t.2 3 i := fun i hi => (et_16.2.2.1 i hi).trans (congrFun (((hE_t_10 3 (by decide)).2).trans (hE_t_1 3 (by decide)).2) i)
    have hC2 : RowIs (t_15.2 3) c0 := hC.mv (fun i hi => hr3 i (by omega))
    have hsl : wrC (gst B n).1 = 0 → SlotP (t_15.2 3) 40 (cRl c0) (gst B n).2 ∧ PrtsW (gst B n).2 := et_16.2.2.2
    have h15_ := et_16.2.1
    refine h_if_ne hx hb 42 dX10_movesIf_31 (by decide) (b2i_R _) (fun c_g => ?_) (fun c_g => ?_)
    ·
      have hgo := b2i_n1.mp c_g
      have hgs := (hsl hgo).1
      refine lv_aload_n hx hb dX10_movesIf_42 rfl (lv_at hl 0 rfl) ?_
      have htl := twinN_lt c0 (gst B n).2
      have htw := twinN_r c0 (gst B n).2
      have hrk := rkF_le c0 (gst B n).2
      -- call SpokenMarksModel.twin
      refine h_kIp (h_runV X hR (m_twin l G w_13 a ad t_15 hT.1 c0 ((gst B n).2) hC2 hgs) pn_yX10_twin (hasC.of hT.1.ob rfl) q2909 q2911 qs70 q161 q2912 ⟨by decide, by decide⟩ hl.1 (Nat.le_of_ble_eq_true rfl) dX10_movesIf_43 ⟨by omega, by omega⟩) hL (fun H locs hR hL => ?_)
      refine h_iconst hx hb dX10_movesIf_46 ?_
      refine h_icmp_ne hx hb 61 dX10_movesIf_47 (by decide) (by omega) (by omega) (fun c_t => ?_) (fun c_t => ?_)
      ·
        refine h_iconst hx hb dX10_movesIf_61 ?_
        refine lv_goto (tgt := 73) hx hb dX10_movesIf_62 (by decide) ?_
        exact h_ireturn hx hb hlk hret hR hL rfl ⟨(by rw [gAns_2 hok hgo]; unfold qMov; first | (rw [if_neg (fun q => c_t q.1)]; done) | (rw [if_pos ⟨c_t, Decidable.not_not.mp (b2i_0.mp c_r)⟩]; done) | (rw [if_neg (fun q => b2i_n1.mp c_r q.2)]; done)), ⟨t_15, hT, (TwE.tr (S2 := [0, 1, 2, 3, 15, 16, 17, 18, 19, 20, 21, 22, 23, 24]) (TwE.tr (S2 := [0, 1, 2, 3, 15, 16, 17, 18, 19, 20, 21, 22, 23, 24]) (TwE.tr (S2 := [0, 1, 2, 3, 15, 16, 17, 18, 19, 20, 21, 22, 23, 24]) (TwE.rf : TwE [] t t) hE_t_1 rfl rfl) hE_t_10 rfl rfl) hE_t_15 rfl rfl), ⟨by rw [gAns_2 hok hgo]; exact ((hE_t_15 0 (by decide)).1).trans hth, by rw [gErr, if_pos hok]; exact hG1.er22, by rw [if_pos hok]; exact h15_, hr3⟩⟩⟩ (by omega) (by omega) rfl rfl dX10_movesIf_73
      ·
        refine lv_aload_n hx hb dX10_movesIf_50 rfl (lv_at hl 0 rfl) ?_
        refine lv_aload_n hx hb dX10_movesIf_51 rfl (lv_at hl 0 rfl) ?_
        -- call SpokenMarksModel.guestRank
        refine h_kIp (h_runV X hR (m_guestRank l G w_13 a ad t_15 hT.1 c0 ((gst B n).2) hC2 hgs) pn_yX10_guestRank (hasC.of hT.1.ob rfl) q2913 q2915 qs71 q161 q2916 ⟨by decide, by decide⟩ hl.1 (Nat.le_of_ble_eq_true rfl) dX10_movesIf_52 ⟨by omega, by omega⟩) hL (fun H locs hR hL => ?_)
        -- call SpokenMarksModel.isRoomAt
        refine h_kIp (h_runV X hR (m_isRoomAt l G w_13 a ad t_15 hT.1 (rkF c0 (gst B n).2) c0 hC2 hrk) pn_yX10_isRoomAt (hasC.of hT.1.ob rfl) q2921 q2923 qs73 q161 q2924 ⟨by decide, by decide⟩ hl.1 (Nat.le_of_ble_eq_true rfl) dX10_movesIf_55 ⟨by omega, by omega⟩) hL (fun H locs hR hL => ?_)
        refine h_if_eq hx hb 65 dX10_movesIf_58 (by decide) (b2i_R _) (fun c_r => ?_) (fun c_r => ?_)
        ·
          refine lv_aload_n hx hb dX10_movesIf_65 rfl (lv_at hl 0 rfl) ?_
          refine lv_aload_n hx hb dX10_movesIf_66 rfl (lv_at hl 0 rfl) ?_
          -- call SpokenMarksModel.guestRank
          refine h_kIp (h_runV X hR (m_guestRank l G w_13 a ad t_15 hT.1 c0 ((gst B n).2) hC2 hgs) pn_yX10_guestRank (hasC.of hT.1.ob rfl) q2913 q2915 qs71 q161 q2916 ⟨by decide, by decide⟩ hl.1 (Nat.le_of_ble_eq_true rfl) dX10_movesIf_67 ⟨by omega, by omega⟩) hL (fun H locs hR hL => ?_)
          -- call SpokenMarksModel.movedBy
          refine h_kIp (h_runV X hR (m_movedBy l G w_13 a ad t_15 hT.1 (rkF c0 (gst B n).2) c0 hC2 hrk) pn_yX10_movedBy (hasC.of hT.1.ob rfl) q2937 q2939 qs77 q161 q2940 ⟨by decide, by decide⟩ hl.1 (Nat.le_of_ble_eq_true rfl) dX10_movesIf_70 ⟨by omega, by omega⟩) hL (fun H locs hR hL => ?_)
          exact h_ireturn hx hb hlk hret hR hL rfl ⟨(by rw [gAns_2 hok hgo]; unfold qMov; first | (rw [if_neg (fun q => c_t q.1)]; done) | (rw [if_pos ⟨c_t, Decidable.not_not.mp (b2i_0.mp c_r)⟩]; done) | (rw [if_neg (fun q => b2i_n1.mp c_r q.2)]; done)), ⟨t_15, hT, (TwE.tr (S2 := [0, 1, 2, 3, 15, 16, 17, 18, 19, 20, 21, 22, 23, 24]) (TwE.tr (S2 := [0, 1, 2, 3, 15, 16, 17, 18, 19, 20, 21, 22, 23, 24]) (TwE.tr (S2 := [0, 1, 2, 3, 15, 16, 17, 18, 19, 20, 21, 22, 23, 24]) (TwE.rf : TwE [] t t) hE_t_1 rfl rfl) hE_t_10 rfl rfl) hE_t_15 rfl rfl), ⟨by rw [gAns_2 hok hgo]; exact ((hE_t_15 0 (by decide)).1).trans hth, by rw [gErr, if_pos hok]; exact hG1.er22, by rw [if_pos hok]; exact h15_, hr3⟩⟩⟩ (by omega) (by omega) rfl rfl dX10_movesIf_73
        ·
          refine h_iconst hx hb dX10_movesIf_61 ?_
          refine lv_goto (tgt := 73) hx hb dX10_movesIf_62 (by decide) ?_
          exact h_ireturn hx hb hlk hret hR hL rfl ⟨(by rw [gAns_2 hok hgo]; unfold qMov; first | (rw [if_neg (fun q => c_t q.1)]; done) | (rw [if_pos ⟨c_t, Decidable.not_not.mp (b2i_0.mp c_r)⟩]; done) | (rw [if_neg (fun q => b2i_n1.mp c_r q.2)]; done)), ⟨t_15, hT, (TwE.tr (S2 := [0, 1, 2, 3, 15, 16, 17, 18, 19, 20, 21, 22, 23, 24]) (TwE.tr (S2 := [0, 1, 2, 3, 15, 16, 17, 18, 19, 20, 21, 22, 23, 24]) (TwE.tr (S2 := [0, 1, 2, 3, 15, 16, 17, 18, 19, 20, 21, 22, 23, 24]) (TwE.rf : TwE [] t t) hE_t_1 rfl rfl) hE_t_10 rfl rfl) hE_t_15 rfl rfl), ⟨by rw [gAns_2 hok hgo]; exact ((hE_t_15 0 (by decide)).1).trans hth, by rw [gErr, if_pos hok]; exact hG1.er22, by rw [if_pos hok]; exact h15_, hr3⟩⟩⟩ (by omega) (by omega) rfl rfl dX10_movesIf_73
    ·
      have hge := b2i_0.mp c_g
      refine h_bipush hx hb dX10_movesIf_34 (by decide) ?_
      refine lv_aload_n hx hb dX10_movesIf_36 rfl (lv_at hl 0 rfl) ?_
      refine tw_get X hR hT 21 (by decide) q2962 (v := .int (iI (wrC (gst B n).1))) (congrArg (fun z => some (Value.int (iI z))) (hG1.wr)) dX10_movesIf_37 ?_
      refine h_isub hx hb dX10_movesIf_40 ?_
      exact h_ireturn hx hb hlk hret hR hL rfl ⟨(by rw [gAns_1 hok hge]), ⟨t_15, hT, (TwE.tr (S2 := [0, 1, 2, 3, 15, 16, 17, 18, 19, 20, 21, 22, 23, 24]) (TwE.tr (S2 := [0, 1, 2, 3, 15, 16, 17, 18, 19, 20, 21, 22, 23, 24]) (TwE.tr (S2 := [0, 1, 2, 3, 15, 16, 17, 18, 19, 20, 21, 22, 23, 24]) (TwE.rf : TwE [] t t) hE_t_1 rfl rfl) hE_t_10 rfl rfl) hE_t_15 rfl rfl), ⟨by rw [gAns_1 hok hge]; exact ((hE_t_15 0 (by decide)).1).trans hth, by rw [gErr, if_pos hok]; exact hG1.er22, by rw [if_pos hok]; exact h15_, hr3⟩⟩⟩ (by omega) (by omega) rfl rfl dX10_movesIf_41
  ·
    have hno := b2i_0.mp (b2i_n1.mp c_f)
    have hth : t_10.1 0 = _ := (et_11).trans (if_pos (b2i_n1.mp c_f))
    refine h_iconst hx hb dX10_movesIf_24 ?_
    exact h_ireturn hx hb hlk hret hR hL rfl ⟨(by rw [gAns_0 hno]), ⟨t_10, hT, (TwE.tr (S2 := [0, 1, 2, 3, 15, 16, 17, 18, 19, 20, 21, 22, 23, 24]) (TwE.tr (S2 := [0, 1, 2, 3, 15, 16, 17, 18, 19, 20, 21, 22, 23, 24]) (TwE.rf : TwE [] t t) hE_t_1 rfl rfl) hE_t_10 rfl rfl), ⟨by rw [gAns_0 hno]; exact hth, by rw [gErr, if_neg hno]; exact ((hE_t_10 22 (by decide)).1).trans (hE_t_1 22 (by decide)).1, by rw [if_neg hno]; exact ((((hE_t_10 15 (by decide)).1).trans (hE_t_1 15 (by decide)).1).trans hb15).trans hb15.symm, fun i hi => congrFun (((hE_t_10 3 (by decide)).2).trans (hE_t_1 3 (by decide)).2) i⟩⟩⟩ (by omega) (by omega) rfl rfl dX10_movesIf_25
