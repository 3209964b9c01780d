/-! the twin: why -/
set_option maxRecDepth 100000
def qWhy (c : Cat) (p : List Prt) : Int × Int :=
  if twinN c p ≠ -1 then (1, mId (mk c (twinN c p).toNat))
  else if cN c = 40 then (2, -1)
  else if plA c (rkF c p : Int) - plA c ((rkF c p : Int) - 1) < 2 then (3, (rkF c p : Int))
  else if frsN c p ≠ -1 then (4, mId (mk c (frsN c p).toNat)) else (0, -1)
def gCau (B : List Int) (n : Int) (c : Cat) (old : Int) : Int := if gOk B n then (if wrC (gst B n).1 = 0 then (qWhy c (gst B n).2).2 else -1) else old
theorem frsN_r (c : Cat) (g : List Prt) : -1 ≤ frsN c g ∧ frsN c g < (cN c : Int) := fstN_r _ _

theorem pn_yX10_because : ParN yX10_because 2 := by decide +kernel
theorem pn_yX10_firstAlike : ParN yX10_firstAlike 0 := by decide +kernel

set_option maxHeartbeats 4000000 in
set_option maxRecDepth 100000 in
/-- because -/
theorem m_because (l : Launch) (G : Gl) (w : Wd) (a : Nat) (ad : Nat → Nat) (t : Tw) (hT : TwAt G w a ad t) (rs : Int) (its : Int)  (h1 : R32 its) : HM l yX10_because cX10_because 3 (some .int) 1 0 0 G [.ref a, .int (iI (rs)), .int (iI (its))] w (QI G (fun z_ w_ => z_ = rs ∧ TwS G w w_ a ad (tput t 25 its))) := by
  refine HM.mk (by decide +kernel) (Nat.le_of_ble_eq_true rfl) ?_
  intro p9 e9 s9 m9 a9 b9 meth9 c9 ls X hret hlk hnm hl H hR
  have hx := X.1.1
  have hb := X.1.2.1
  have hl : lv_has ls 3 [(0, .ref a), (1, .int (iI (rs))), (2, .int (iI (its)))] := hl
  have hL : LK G [] := fun q h => absurd h List.not_mem_nil
  generalize ([] : List Loc) = locs at hL ⊢
  have hTb := hT
  have hT : TwS G w w a ad t := TwS.rf hT
  refine lv_aload_n hx hb dX10_because_0 rfl (lv_at hl 0 rfl) ?_
  refine lv_iload_n hx hb dX10_because_1 rfl (lv_at hl 2 rfl) ?_
  refine tw_puti X hR hL hT 25 (by decide) q2966 rfl rfl rfl twF_s25 (by omega) dX10_because_2 (fun t_1 et_2 w_3 hT H locs hR hL => ?_)
  have hE_t_1 := TwE.put et_2
  have hv_t_1 := tput_v et_2
  refine lv_iload_n hx hb dX10_because_5 rfl (lv_at hl 1 rfl) ?_
  exact h_ireturn hx hb hlk hret hR hL rfl ⟨rfl, (by rw [← et_2]; exact hT)⟩ (by omega) (by omega) rfl rfl dX10_because_6

set_option maxHeartbeats 4000000 in
set_option maxRecDepth 100000 in
/-- why -/
theorem m_why (l : Launch) (G : Gl) (w : Wd) (a : Nat) (ad : Nat → Nat) (t : Tw) (hT : TwAt G w a ad t) (n : Int) (B : List Int) (c0 : Cat) (hx_n : R32 n) (hB : BfAt t B) (hb15 : t.1 15 = (B.length : Int)) (hC : RowIs (t.2 3) c0) : HM l yX10_why cX10_why 2 (some .int) 9 0 0 G [.ref a, .int (iI (n))] w (QI G (fun z_ w_ => z_ = (gAns B n (fun p => (qWhy c0 p).1)).2 ∧ ∃ t_ : Tw, TwS G w w_ a ad t_ ∧ TwE [0, 1, 2, 3, 15, 16, 17, 18, 19, 20, 21, 22, 23, 24, 25] t t_ ∧ t_.1 0 = (gAns B n (fun p => (qWhy c0 p).1)).1 ∧ t_.1 22 = gErr B n (t.1 22) ∧ t_.1 15 = (if gOk B n then 0 else t.1 15) ∧ (∀ i, i < 592 → t_.2 3 i = t.2 3 i) ∧ t_.1 25 = gCau B n c0 (t.1 25))) := by
  refine HM.mk (by decide +kernel) (Nat.le_of_ble_eq_true rfl) ?_
  intro p9 e9 s9 m9 a9 b9 meth9 c9 ls X hret hlk hnm hl H hR
  have hx := X.1.1
  have hb := X.1.2.1
  have hl : lv_has ls 2 [(0, .ref a), (1, .int (iI (n)))] := hl
  have hL : LK G [] := fun q h => absurd h List.not_mem_nil
  generalize ([] : List Loc) = locs at hL ⊢
  have hTb := hT
  have hT : TwS G w w a ad t := TwS.rf hT
  have hn40 := hC.n40
  have hsh8 := hC.sh8
  have hB8 := hB.1.1
  refine lv_aload_n hx hb dX10_why_0 rfl (lv_at hl 0 rfl) ?_
  refine h_iconst hx hb dX10_why_1 ?_
  refine tw_puti X hR hL hT 0 (by decide) q2941 rfl rfl rfl twF_s0 (by omega) dX10_why_2 (fun t_1 et_2 w_3 hT H locs hR hL => ?_)
  have hE_t_1 := TwE.put et_2
  have hv_t_1 := tput_v et_2
  refine lv_aload_n hx hb dX10_why_5 rfl (lv_at hl 0 rfl) ?_
  refine lv_iload_n hx hb dX10_why_6 rfl (lv_at hl 1 rfl) ?_
  refine h_i2l hx hb dX10_why_7 (by omega) ?_
  refine h_lconst hx hb 0 dX10_why_8 rfl ?_
  refine lv_aload_n hx hb dX10_why_9 rfl (lv_at hl 0 rfl) ?_
  refine tw_get X hR hT 15 (by decide) q2956 (v := .int (iI ((B.length : Int)))) (congrArg (fun z => some (Value.int (iI z))) (((hE_t_1 15 (by decide)).1).trans hb15)) dX10_why_10 ?_
  refine h_i2l hx hb dX10_why_13 (by omega) ?_
  -- call SpokenMarksModel.in
  refine h_kIp (h_runS X hR (m_in l G w_3  n 0 ((B.length : Int)) (by omega) (by omega) (by omega)) pn_yX10_in q2730 q2731 q161 q2732 ⟨by decide, by decide⟩ hl.1 (Nat.le_of_ble_eq_true rfl) dX10_why_14 ⟨by omega, by omega⟩) hL (fun H locs hR hL => ?_)
  refine h_iconst hx hb dX10_why_17 ?_
  -- call SpokenMarksModel.fails
  refine h_kI (h_runV X hR (m_fails l G w_3 a ad t_1 hT.1 (b2i (0 ≤ n ∧ n ≤ ((B.length : Int)))) 1 (b2i_R _) ⟨by decide, by decide⟩ hv_t_1) pn_yX10_fails (hasC.of hT.1.ob rfl) q2733 q2735 qs33 q161 q2736 ⟨by decide, by decide⟩ hl.1 (Nat.le_of_ble_eq_true rfl) dX10_why_18 ⟨by omega, by omega⟩) hL (fun z_7 w_8 hp_9 H locs hR hL => ?_)
  obtain ⟨rfl, t_10, hT2, hE_t_10, et_11⟩ := hp_9
  have hT := hT.tr hT2
  clear hT2
  refine h_if_eq hx hb 26 dX10_why_21 (by decide) (b2i_R _) (fun c_f => ?_) (fun c_f => ?_)
  ·
    have hok := b2i_n1.mp (b2i_0.mp c_f)
    have hth : t_10.1 0 = 0 := (et_11).trans (if_neg (b2i_0.mp c_f))
    refine lv_aload_n hx hb dX10_why_26 rfl (lv_at hl 0 rfl) ?_
    refine lv_iload_n hx hb dX10_why_27 rfl (lv_at hl 1 rfl) ?_
    refine W.eq (g2 := F0 m9 28 ls [.int (iI (((B.take n.toNat).length : Int))), .ref a]) (congrArg (fun z_ : Int => F0 m9 28 ls [.int (iI (z_)), .ref a]) (show (n : Int) = ((B.take n.toNat).length : Int) from (by rw [List.length_take]; have := hok; omega))) ?_
    -- call SpokenMarksModel.readsGuest
    refine h_kI (h_runV X hR (m_readsGuest l G w_8 a ad t_10 hT.1 (B.take n.toNat) c0 (hB.tk n.toNat (((hE_t_10 14 (by decide)).2).trans (hE_t_1 14 (by decide)).2)) (by rw [((hE_t_10 3 (by decide)).2).trans (hE_t_1 3 (by decide)).2]; exact hC)) pn_yX10_readsGuest (hasC.of hT.1.ob rfl) q3197 q3199 qs98 q161 q3200 ⟨by decide, by decide⟩ hl.1 (Nat.le_of_ble_eq_true rfl) dX10_why_28 ⟨by omega, by omega⟩) hL (fun z_12 w_13 hp_14 H locs hR hL => ?_)
    obtain ⟨rfl, t_15, hT2, hE_t_15, et_16⟩ := hp_14
    have hT := hT.tr hT2
    clear hT2
    have hG1 : RdAt t_15 (B.take n.toNat) (gst B n).1 := et_16.1
    have hw9 := hG1.wr9
    have hr3 : ∀ i, i < 592 → t_15.2 3 i = t.2 3 i := fun i hi => (et_16.2.2.1 i hi).trans (congrFun (((hE_t_10 3 (by decide)).2).trans (hE_t_1 3 (by decide)).2) i)
    have hC2 : RowIs (t_15.2 3) c0 := hC.mv (fun i hi => hr3 i (by omega))
    have hsl : wrC (gst B n).1 = 0 → SlotP (t_15.2 3) 40 (cRl c0) (gst B n).2 ∧ PrtsW (gst B n).2 := et_16.2.2.2
    have h15_ := et_16.2.1
    refine h_if_ne hx hb 47 dX10_why_31 (by decide) (b2i_R _) (fun c_g => ?_) (fun c_g => ?_)
    ·
      have hgo := b2i_n1.mp c_g
      have hgs := (hsl hgo).1
      refine lv_aload_n hx hb dX10_why_47 rfl (lv_at hl 0 rfl) ?_
      have htl := twinN_lt c0 (gst B n).2
      have htw := twinN_r c0 (gst B n).2
      have hrk := rkF_le c0 (gst B n).2
      have hfr := frsN_r c0 (gst B n).2
      -- call SpokenMarksModel.twin
      refine h_kIp (h_runV X hR (m_twin l G w_13 a ad t_15 hT.1 c0 ((gst B n).2) hC2 hgs) pn_yX10_twin (hasC.of hT.1.ob rfl) q2909 q2911 qs70 q161 q2912 ⟨by decide, by decide⟩ hl.1 (Nat.le_of_ble_eq_true rfl) dX10_why_48 ⟨by omega, by omega⟩) hL (fun H locs hR hL => ?_)
      refine h_iconst hx hb dX10_why_51 ?_
      refine h_icmp_eq hx hb 70 dX10_why_52 (by decide) (by omega) (by omega) (fun c_t => ?_) (fun c_t => ?_)
      ·
        refine lv_aload_n hx hb dX10_why_70 rfl (lv_at hl 0 rfl) ?_
        refine h_iconst hx hb dX10_why_71 ?_
        -- call SpokenMarksModel.head
        refine h_kIp (h_runV X hR (m_head l G w_13 a ad t_15 hT.1 2 (by omega)) pn_yX10_head (hasC.of hT.1.ob rfl) q2789 q2791 qs44 q161 q2792 ⟨by decide, by decide⟩ hl.1 (Nat.le_of_ble_eq_true rfl) dX10_why_72 ⟨by omega, by omega⟩) hL (fun H locs hR hL => ?_)
        refine W.eq (g2 := F0 m9 75 ls [.int (iI ((cN c0 : Int)))]) (congrArg (fun z_ : Int => F0 m9 75 ls [.int (iI (z_))]) (show (hd t_15 2 : Int) = (cN c0 : Int) from (hC2.n))) ?_
        refine h_bipush hx hb dX10_why_75 (by decide) ?_
        refine h_icmp_ne hx hb 87 dX10_why_77 (by decide) (by omega) (by omega) (fun c_23 => ?_) (fun c_23 => ?_)
        ·
          refine lv_aload_n hx hb dX10_why_87 rfl (lv_at hl 0 rfl) ?_
          refine lv_aload_n hx hb dX10_why_88 rfl (lv_at hl 0 rfl) ?_
          -- call SpokenMarksModel.guestRank
          refine h_kIp (h_runV X hR (m_guestRank l G w_13 a ad t_15 hT.1 c0 ((gst B n).2) hC2 hgs) pn_yX10_guestRank (hasC.of hT.1.ob rfl) q2913 q2915 qs71 q161 q2916 ⟨by decide, by decide⟩ hl.1 (Nat.le_of_ble_eq_true rfl) dX10_why_89 ⟨by omega, by omega⟩) hL (fun H locs hR hL => ?_)
          -- call SpokenMarksModel.isRoomAt
          refine h_kIp (h_runV X hR (m_isRoomAt l G w_13 a ad t_15 hT.1 (rkF c0 (gst B n).2) c0 hC2 hrk) pn_yX10_isRoomAt (hasC.of hT.1.ob rfl) q2921 q2923 qs73 q161 q2924 ⟨by decide, by decide⟩ hl.1 (Nat.le_of_ble_eq_true rfl) dX10_why_92 ⟨by omega, by omega⟩) hL (fun H locs hR hL => ?_)
          refine h_if_ne hx hb 108 dX10_why_95 (by decide) (b2i_R _) (fun c_q => ?_) (fun c_q => ?_)
          ·
            have c_r := b2i_n1.mp c_q
            refine lv_aload_n hx hb dX10_why_108 rfl (lv_at hl 0 rfl) ?_
            -- call SpokenMarksModel.firstAlike
            refine h_kIp (h_runV X hR (m_firstAlike l G w_13 a ad t_15 hT.1 c0 ((gst B n).2) hC2 hgs) pn_yX10_firstAlike (hasC.of hT.1.ob rfl) q3217 q3219 qs100 q161 q3220 ⟨by decide, by decide⟩ hl.1 (Nat.le_of_ble_eq_true rfl) dX10_why_109 ⟨by omega, by omega⟩) hL (fun H locs hR hL => ?_)
            refine h_iconst hx hb dX10_why_112 ?_
            refine h_icmp_eq hx hb 133 dX10_why_113 (by decide) (by omega) (by omega) (fun c_a => ?_) (fun c_a => ?_)
            ·
              refine lv_aload_n hx hb dX10_why_133 rfl (lv_at hl 0 rfl) ?_
              refine h_iconst hx hb dX10_why_134 ?_
              refine h_iconst hx hb dX10_why_135 ?_
              -- call SpokenMarksModel.because
              refine h_kI (h_runV X hR (m_because l G w_13 a ad t_15 hT.1 0 (-1) ⟨by omega, by omega⟩) pn_yX10_because (hasC.of hT.1.ob rfl) q3213 q3215 qs99 q161 q3216 ⟨by decide, by decide⟩ hl.1 (Nat.le_of_ble_eq_true rfl) dX10_why_136 ⟨by omega, by omega⟩) hL (fun z_33 w_34 hp_35 H locs hR hL => ?_)
              obtain ⟨t_36, et_37⟩ : ∃ t_ : Tw, t_ = tput t_15 25 (-1) := ⟨_, rfl⟩
              obtain ⟨rfl, hT2⟩ := hp_35
              rw [← et_37] at hT2
              have hT := hT.tr hT2
              clear hT2
              have hE_t_36 : TwE [25] t_15 t_36 := by rw [et_37]; exact TwE.put rfl
              exact h_ireturn hx hb hlk hret hR hL rfl ⟨(by rw [gAns_2 hok hgo]; show _ = (qWhy c0 (gst B n).2).1; rw [qWhy, if_neg (fun q_ => q_ c_t), if_neg (by omega), if_neg c_r, if_neg (fun q_ => q_ c_a)]), ⟨t_36, hT, (TwE.tr (S2 := [0, 1, 2, 3, 15, 16, 17, 18, 19, 20, 21, 22, 23, 24, 25]) (TwE.tr (S2 := [0, 1, 2, 3, 15, 16, 17, 18, 19, 20, 21, 22, 23, 24, 25]) (TwE.tr (S2 := [0, 1, 2, 3, 15, 16, 17, 18, 19, 20, 21, 22, 23, 24, 25]) (TwE.tr (S2 := [0, 1, 2, 3, 15, 16, 17, 18, 19, 20, 21, 22, 23, 24, 25]) (TwE.rf : TwE [] t t) hE_t_1 rfl rfl) hE_t_10 rfl rfl) hE_t_15 rfl rfl) hE_t_36 rfl rfl), ⟨by rw [gAns_2 hok hgo]; exact (((hE_t_36 0 (by decide)).1).trans (hE_t_15 0 (by decide)).1).trans hth, by rw [gErr, if_pos hok]; exact (((hE_t_36 22 (by decide)).1).trans hG1.er22), by rw [if_pos hok]; exact (((hE_t_36 15 (by decide)).1).trans h15_), (fun i hi => (congrFun ((hE_t_36 3 (by decide)).2) i).trans (hr3 i hi)), by rw [gCau, if_pos hok]; rw [if_pos (show wrC (gst B n).1 = 0 from hgo), qWhy, if_neg (fun q_ => q_ c_t), if_neg (by omega), if_neg c_r, if_neg (fun q_ => q_ c_a)]; exact (tput_v et_37)⟩⟩⟩ (by omega) (by omega) rfl rfl dX10_why_139
            ·
              refine lv_aload_n hx hb dX10_why_116 rfl (lv_at hl 0 rfl) ?_
              refine h_iconst hx hb dX10_why_117 ?_
              refine lv_aload_n hx hb dX10_why_118 rfl (lv_at hl 0 rfl) ?_
              refine lv_aload_n hx hb dX10_why_119 rfl (lv_at hl 0 rfl) ?_
              -- call SpokenMarksModel.firstAlike
              refine h_kIp (h_runV X hR (m_firstAlike l G w_13 a ad t_15 hT.1 c0 ((gst B n).2) hC2 hgs) pn_yX10_firstAlike (hasC.of hT.1.ob rfl) q3217 q3219 qs100 q161 q3220 ⟨by decide, by decide⟩ hl.1 (Nat.le_of_ble_eq_true rfl) dX10_why_120 ⟨by omega, by omega⟩) hL (fun H locs hR hL => ?_)
              refine h_iconst hx hb dX10_why_123 ?_
              refine W.eq (g2 := F0 m9 124 ls [.int (iI (0)), .int (iI ((((frsN c0 (gst B n).2).toNat : Nat) : Int))), .ref a, .int (iI (4)), .ref a]) (congrArg (fun z_ : Int => F0 m9 124 ls [.int (iI (0)), .int (iI (z_)), .ref a, .int (iI (4)), .ref a]) (show (frsN c0 ((gst B n).2) : Int) = (((frsN c0 (gst B n).2).toNat : Nat) : Int) from (by omega))) ?_
              -- call SpokenMarksModel.of
              refine h_kIp (h_runV X hR (m_of l G w_13 a ad t_15 hT.1 ((frsN c0 (gst B n).2).toNat) 0 (by omega) (by omega)) pn_yX10_of (hasC.of hT.1.ob rfl) q2827 q2829 qs53 q161 q2830 ⟨by decide, by decide⟩ hl.1 (Nat.le_of_ble_eq_true rfl) dX10_why_124 ⟨by omega, by omega⟩) hL (fun H locs hR hL => ?_)
              refine W.eq (g2 := F0 m9 127 ls [.int (iI (mId (mk c0 (frsN c0 (gst B n).2).toNat))), .int (iI (4)), .ref a]) (congrArg (fun z_ : Int => F0 m9 127 ls [.int (iI (z_)), .int (iI (4)), .ref a]) (show (tof t_15 ((frsN c0 (gst B n).2).toNat : Nat) 0 : Int) = mId (mk c0 (frsN c0 (gst B n).2).toNat) from ((hC2.m _ (by omega)).1))) ?_
              have hid := mId_r hC2.s (frsN c0 (gst B n).2).toNat (by omega)
              -- call SpokenMarksModel.because
              refine h_kI (h_runV X hR (m_because l G w_13 a ad t_15 hT.1 4 (mId (mk c0 (frsN c0 (gst B n).2).toNat)) ⟨by omega, by omega⟩) pn_yX10_because (hasC.of hT.1.ob rfl) q3213 q3215 qs99 q161 q3216 ⟨by decide, by decide⟩ hl.1 (Nat.le_of_ble_eq_true rfl) dX10_why_127 ⟨by omega, by omega⟩) hL (fun z_44 w_45 hp_46 H locs hR hL => ?_)
              obtain ⟨t_47, et_48⟩ : ∃ t_ : Tw, t_ = tput t_15 25 (mId (mk c0 (frsN c0 (gst B n).2).toNat)) := ⟨_, rfl⟩
              obtain ⟨rfl, hT2⟩ := hp_46
              rw [← et_48] at hT2
              have hT := hT.tr hT2
              clear hT2
              have hE_t_47 : TwE [25] t_15 t_47 := by rw [et_48]; exact TwE.put rfl
              refine lv_goto (tgt := 139) hx hb dX10_why_130 (by decide) ?_
              exact h_ireturn hx hb hlk hret hR hL rfl ⟨(by rw [gAns_2 hok hgo]; show _ = (qWhy c0 (gst B n).2).1; rw [qWhy, if_neg (fun q_ => q_ c_t), if_neg (by omega), if_neg c_r, if_pos c_a]), ⟨t_47, hT, (TwE.tr (S2 := [0, 1, 2, 3, 15, 16, 17, 18, 19, 20, 21, 22, 23, 24, 25]) (TwE.tr (S2 := [0, 1, 2, 3, 15, 16, 17, 18, 19, 20, 21, 22, 23, 24, 25]) (TwE.tr (S2 := [0, 1, 2, 3, 15, 16, 17, 18, 19, 20, 21, 22, 23, 24, 25]) (TwE.tr (S2 := [0, 1, 2, 3, 15, 16, 17, 18, 19, 20, 21, 22, 23, 24, 25]) (TwE.rf : TwE [] t t) hE_t_1 rfl rfl) hE_t_10 rfl rfl) hE_t_15 rfl rfl) hE_t_47 rfl rfl), ⟨by rw [gAns_2 hok hgo]; exact (((hE_t_47 0 (by decide)).1).trans (hE_t_15 0 (by decide)).1).trans hth, by rw [gErr, if_pos hok]; exact (((hE_t_47 22 (by decide)).1).trans hG1.er22), by rw [if_pos hok]; exact (((hE_t_47 15 (by decide)).1).trans h15_), (fun i hi => (congrFun ((hE_t_47 3 (by decide)).2) i).trans (hr3 i hi)), by rw [gCau, if_pos hok]; rw [if_pos (show wrC (gst B n).1 = 0 from hgo), qWhy, if_neg (fun q_ => q_ c_t), if_neg (by omega), if_neg c_r, if_pos c_a]; exact (tput_v et_48)⟩⟩⟩ (by omega) (by omega) rfl rfl dX10_why_139
          ·
            have c_r := Decidable.not_not.mp (b2i_0.mp c_q)
            refine lv_aload_n hx hb dX10_why_98 rfl (lv_at hl 0 rfl) ?_
            refine h_iconst hx hb dX10_why_99 ?_
            refine lv_aload_n hx hb dX10_why_100 rfl (lv_at hl 0 rfl) ?_
            -- call SpokenMarksModel.guestRank
            refine h_kIp (h_runV X hR (m_guestRank l G w_13 a ad t_15 hT.1 c0 ((gst B n).2) hC2 hgs) pn_yX10_guestRank (hasC.of hT.1.ob rfl) q2913 q2915 qs71 q161 q2916 ⟨by decide, by decide⟩ hl.1 (Nat.le_of_ble_eq_true rfl) dX10_why_101 ⟨by omega, by omega⟩) hL (fun H locs hR hL => ?_)
            -- call SpokenMarksModel.because
            refine h_kI (h_runV X hR (m_because l G w_13 a ad t_15 hT.1 3 ((rkF c0 ((gst B n).2) : Int)) ⟨by omega, by omega⟩) pn_yX10_because (hasC.of hT.1.ob rfl) q3213 q3215 qs99 q161 q3216 ⟨by decide, by decide⟩ hl.1 (Nat.le_of_ble_eq_true rfl) dX10_why_104 ⟨by omega, by omega⟩) hL (fun z_52 w_53 hp_54 H locs hR hL => ?_)
            obtain ⟨t_55, et_56⟩ : ∃ t_ : Tw, t_ = tput t_15 25 ((rkF c0 ((gst B n).2) : Int)) := ⟨_, rfl⟩
            obtain ⟨rfl, hT2⟩ := hp_54
            rw [← et_56] at hT2
            have hT := hT.tr hT2
            clear hT2
            have hE_t_55 : TwE [25] t_15 t_55 := by rw [et_56]; exact TwE.put rfl
            exact h_ireturn hx hb hlk hret hR hL rfl ⟨(by rw [gAns_2 hok hgo]; show _ = (qWhy c0 (gst B n).2).1; rw [qWhy, if_neg (fun q_ => q_ c_t), if_neg (by omega), if_pos c_r]), ⟨t_55, hT, (TwE.tr (S2 := [0, 1, 2, 3, 15, 16, 17, 18, 19, 20, 21, 22, 23, 24, 25]) (TwE.tr (S2 := [0, 1, 2, 3, 15, 16, 17, 18, 19, 20, 21, 22, 23, 24, 25]) (TwE.tr (S2 := [0, 1, 2, 3, 15, 16, 17, 18, 19, 20, 21, 22, 23, 24, 25]) (TwE.tr (S2 := [0, 1, 2, 3, 15, 16, 17, 18, 19, 20, 21, 22, 23, 24, 25]) (TwE.rf : TwE [] t t) hE_t_1 rfl rfl) hE_t_10 rfl rfl) hE_t_15 rfl rfl) hE_t_55 rfl rfl), ⟨by rw [gAns_2 hok hgo]; exact (((hE_t_55 0 (by decide)).1).trans (hE_t_15 0 (by decide)).1).trans hth, by rw [gErr, if_pos hok]; exact (((hE_t_55 22 (by decide)).1).trans hG1.er22), by rw [if_pos hok]; exact (((hE_t_55 15 (by decide)).1).trans h15_), (fun i hi => (congrFun ((hE_t_55 3 (by decide)).2) i).trans (hr3 i hi)), by rw [gCau, if_pos hok]; rw [if_pos (show wrC (gst B n).1 = 0 from hgo), qWhy, if_neg (fun q_ => q_ c_t), if_neg (by omega), if_pos c_r]; exact (tput_v et_56)⟩⟩⟩ (by omega) (by omega) rfl rfl dX10_why_107
        ·
          refine lv_aload_n hx hb dX10_why_80 rfl (lv_at hl 0 rfl) ?_
          refine h_iconst hx hb dX10_why_81 ?_
          refine h_iconst hx hb dX10_why_82 ?_
          -- call SpokenMarksModel.because
          refine h_kI (h_runV X hR (m_because l G w_13 a ad t_15 hT.1 2 (-1) ⟨by omega, by omega⟩) pn_yX10_because (hasC.of hT.1.ob rfl) q3213 q3215 qs99 q161 q3216 ⟨by decide, by decide⟩ hl.1 (Nat.le_of_ble_eq_true rfl) dX10_why_83 ⟨by omega, by omega⟩) hL (fun z_57 w_58 hp_59 H locs hR hL => ?_)
          obtain ⟨t_60, et_61⟩ : ∃ t_ : Tw, t_ = tput t_15 25 (-1) := ⟨_, rfl⟩
          obtain ⟨rfl, hT2⟩ := hp_59
          rw [← et_61] at hT2
          have hT := hT.tr hT2
          clear hT2
          have hE_t_60 : TwE [25] t_15 t_60 := by rw [et_61]; exact TwE.put rfl
          exact h_ireturn hx hb hlk hret hR hL rfl ⟨(by rw [gAns_2 hok hgo]; show _ = (qWhy c0 (gst B n).2).1; rw [qWhy, if_neg (fun q_ => q_ c_t), if_pos (by omega)]), ⟨t_60, hT, (TwE.tr (S2 := [0, 1, 2, 3, 15, 16, 17, 18, 19, 20, 21, 22, 23, 24, 25]) (TwE.tr (S2 := [0, 1, 2, 3, 15, 16, 17, 18, 19, 20, 21, 22, 23, 24, 25]) (TwE.tr (S2 := [0, 1, 2, 3, 15, 16, 17, 18, 19, 20, 21, 22, 23, 24, 25]) (TwE.tr (S2 := [0, 1, 2, 3, 15, 16, 17, 18, 19, 20, 21, 22, 23, 24, 25]) (TwE.rf : TwE [] t t) hE_t_1 rfl rfl) hE_t_10 rfl rfl) hE_t_15 rfl rfl) hE_t_60 rfl rfl), ⟨by rw [gAns_2 hok hgo]; exact (((hE_t_60 0 (by decide)).1).trans (hE_t_15 0 (by decide)).1).trans hth, by rw [gErr, if_pos hok]; exact (((hE_t_60 22 (by decide)).1).trans hG1.er22), by rw [if_pos hok]; exact (((hE_t_60 15 (by decide)).1).trans h15_), (fun i hi => (congrFun ((hE_t_60 3 (by decide)).2) i).trans (hr3 i hi)), by rw [gCau, if_pos hok]; rw [if_pos (show wrC (gst B n).1 = 0 from hgo), qWhy, if_neg (fun q_ => q_ c_t), if_pos (by omega)]; exact (tput_v et_61)⟩⟩⟩ (by omega) (by omega) rfl rfl dX10_why_86
      ·
        refine lv_aload_n hx hb dX10_why_55 rfl (lv_at hl 0 rfl) ?_
        refine h_iconst hx hb dX10_why_56 ?_
        refine lv_aload_n hx hb dX10_why_57 rfl (lv_at hl 0 rfl) ?_
        refine lv_aload_n hx hb dX10_why_58 rfl (lv_at hl 0 rfl) ?_
        -- call SpokenMarksModel.twin
        refine h_kIp (h_runV X hR (m_twin l G w_13 a ad t_15 hT.1 c0 ((gst B n).2) hC2 hgs) pn_yX10_twin (hasC.of hT.1.ob rfl) q2909 q2911 qs70 q161 q2912 ⟨by decide, by decide⟩ hl.1 (Nat.le_of_ble_eq_true rfl) dX10_why_59 ⟨by omega, by omega⟩) hL (fun H locs hR hL => ?_)
        refine h_iconst hx hb dX10_why_62 ?_
        refine W.eq (g2 := F0 m9 63 ls [.int (iI (0)), .int (iI ((((twinN c0 (gst B n).2).toNat : Nat) : Int))), .ref a, .int (iI (1)), .ref a]) (congrArg (fun z_ : Int => F0 m9 63 ls [.int (iI (0)), .int (iI (z_)), .ref a, .int (iI (1)), .ref a]) (show (twinN c0 ((gst B n).2) : Int) = (((twinN c0 (gst B n).2).toNat : Nat) : Int) from (by omega))) ?_
        -- call SpokenMarksModel.of
        refine h_kIp (h_runV X hR (m_of l G w_13 a ad t_15 hT.1 ((twinN c0 (gst B n).2).toNat) 0 (by omega) (by omega)) pn_yX10_of (hasC.of hT.1.ob rfl) q2827 q2829 qs53 q161 q2830 ⟨by decide, by decide⟩ hl.1 (Nat.le_of_ble_eq_true rfl) dX10_why_63 ⟨by omega, by omega⟩) hL (fun H locs hR hL => ?_)
        refine W.eq (g2 := F0 m9 66 ls [.int (iI (mId (mk c0 (twinN c0 (gst B n).2).toNat))), .int (iI (1)), .ref a]) (congrArg (fun z_ : Int => F0 m9 66 ls [.int (iI (z_)), .int (iI (1)), .ref a]) (show (tof t_15 ((twinN c0 (gst B n).2).toNat : Nat) 0 : Int) = mId (mk c0 (twinN c0 (gst B n).2).toNat) from ((hC2.m _ (by omega)).1))) ?_
        have hid := mId_r hC2.s (twinN c0 (gst B n).2).toNat (by omega)
        -- call SpokenMarksModel.because
        refine h_kI (h_runV X hR (m_because l G w_13 a ad t_15 hT.1 1 (mId (mk c0 (twinN c0 (gst B n).2).toNat)) ⟨by omega, by omega⟩) pn_yX10_because (hasC.of hT.1.ob rfl) q3213 q3215 qs99 q161 q3216 ⟨by decide, by decide⟩ hl.1 (Nat.le_of_ble_eq_true rfl) dX10_why_66 ⟨by omega, by omega⟩) hL (fun z_68 w_69 hp_70 H locs hR hL => ?_)
        obtain ⟨t_71, et_72⟩ : ∃ t_ : Tw, t_ = tput t_15 25 (mId (mk c0 (twinN c0 (gst B n).2).toNat)) := ⟨_, rfl⟩
        obtain ⟨rfl, hT2⟩ := hp_70
        rw [← et_72] at hT2
        have hT := hT.tr hT2
        clear hT2
        have hE_t_71 : TwE [25] t_15 t_71 := by rw [et_72]; exact TwE.put rfl
        exact h_ireturn hx hb hlk hret hR hL rfl ⟨(by rw [gAns_2 hok hgo]; show _ = (qWhy c0 (gst B n).2).1; rw [qWhy, if_pos c_t]), ⟨t_71, hT, (TwE.tr (S2 := [0, 1, 2, 3, 15, 16, 17, 18, 19, 20, 21, 22, 23, 24, 25]) (TwE.tr (S2 := [0, 1, 2, 3, 15, 16, 17, 18, 19, 20, 21, 22, 23, 24, 25]) (TwE.tr (S2 := [0, 1, 2, 3, 15, 16, 17, 18, 19, 20, 21, 22, 23, 24, 25]) (TwE.tr (S2 := [0, 1, 2, 3, 15, 16, 17, 18, 19, 20, 21, 22, 23, 24, 25]) (TwE.rf : TwE [] t t) hE_t_1 rfl rfl) hE_t_10 rfl rfl) hE_t_15 rfl rfl) hE_t_71 rfl rfl), ⟨by rw [gAns_2 hok hgo]; exact (((hE_t_71 0 (by decide)).1).trans (hE_t_15 0 (by decide)).1).trans hth, by rw [gErr, if_pos hok]; exact (((hE_t_71 22 (by decide)).1).trans hG1.er22), by rw [if_pos hok]; exact (((hE_t_71 15 (by decide)).1).trans h15_), (fun i hi => (congrFun ((hE_t_71 3 (by decide)).2) i).trans (hr3 i hi)), by rw [gCau, if_pos hok]; rw [if_pos (show wrC (gst B n).1 = 0 from hgo), qWhy, if_pos c_t]; exact (tput_v et_72)⟩⟩⟩ (by omega) (by omega) rfl rfl dX10_why_69
    ·
      have hge := b2i_0.mp c_g
      refine lv_aload_n hx hb dX10_why_34 rfl (lv_at hl 0 rfl) ?_
      refine h_bipush hx hb dX10_why_35 (by decide) ?_
      refine lv_aload_n hx hb dX10_why_37 rfl (lv_at hl 0 rfl) ?_
      refine tw_get X hR hT 21 (by decide) q2962 (v := .int (iI (wrC (gst B n).1))) (congrArg (fun z => some (Value.int (iI z))) (hG1.wr)) dX10_why_38 ?_
      refine h_isub hx hb dX10_why_41 ?_
      refine h_iconst hx hb dX10_why_42 ?_
      -- call SpokenMarksModel.because
      refine h_kI (h_runV X hR (m_because l G w_13 a ad t_15 hT.1 ((-10) - (wrC (gst B n).1)) (-1) ⟨by omega, by omega⟩) pn_yX10_because (hasC.of hT.1.ob rfl) q3213 q3215 qs99 q161 q3216 ⟨by decide, by decide⟩ hl.1 (Nat.le_of_ble_eq_true rfl) dX10_why_43 ⟨by omega, by omega⟩) hL (fun z_73 w_74 hp_75 H locs hR hL => ?_)
      obtain ⟨t_76, et_77⟩ : ∃ t_ : Tw, t_ = tput t_15 25 (-1) := ⟨_, rfl⟩
      obtain ⟨rfl, hT2⟩ := hp_75
      rw [← et_77] at hT2
      have hT := hT.tr hT2
      clear hT2
      have hE_t_76 : TwE [25] t_15 t_76 := by rw [et_77]; exact TwE.put rfl
      exact h_ireturn hx hb hlk hret hR hL rfl ⟨(by rw [gAns_1 hok hge]), ⟨t_76, hT, (TwE.tr (S2 := [0, 1, 2, 3, 15, 16, 17, 18, 19, 20, 21, 22, 23, 24, 25]) (TwE.tr (S2 := [0, 1, 2, 3, 15, 16, 17, 18, 19, 20, 21, 22, 23, 24, 25]) (TwE.tr (S2 := [0, 1, 2, 3, 15, 16, 17, 18, 19, 20, 21, 22, 23, 24, 25]) (TwE.tr (S2 := [0, 1, 2, 3, 15, 16, 17, 18, 19, 20, 21, 22, 23, 24, 25]) (TwE.rf : TwE [] t t) hE_t_1 rfl rfl) hE_t_10 rfl rfl) hE_t_15 rfl rfl) hE_t_76 rfl rfl), ⟨by rw [gAns_1 hok hge]; exact (((hE_t_76 0 (by decide)).1).trans (hE_t_15 0 (by decide)).1).trans hth, by rw [gErr, if_pos hok]; exact (((hE_t_76 22 (by decide)).1).trans hG1.er22), by rw [if_pos hok]; exact (((hE_t_76 15 (by decide)).1).trans h15_), (fun i hi => (congrFun ((hE_t_76 3 (by decide)).2) i).trans (hr3 i hi)), by rw [gCau, if_pos hok]; rw [if_neg (show ¬ wrC (gst B n).1 = 0 from hge)]; exact (tput_v et_77)⟩⟩⟩ (by omega) (by omega) rfl rfl dX10_why_46
  ·
    have hno := b2i_0.mp (b2i_n1.mp c_f)
    have hth : t_10.1 0 = _ := (et_11).trans (if_pos (b2i_n1.mp c_f))
    refine h_iconst hx hb dX10_why_24 ?_
    exact h_ireturn hx hb hlk hret hR hL rfl ⟨(by rw [gAns_0 hno]), ⟨t_10, hT, (TwE.tr (S2 := [0, 1, 2, 3, 15, 16, 17, 18, 19, 20, 21, 22, 23, 24, 25]) (TwE.tr (S2 := [0, 1, 2, 3, 15, 16, 17, 18, 19, 20, 21, 22, 23, 24, 25]) (TwE.rf : TwE [] t t) hE_t_1 rfl rfl) hE_t_10 rfl rfl), ⟨by rw [gAns_0 hno]; exact hth, by rw [gErr, if_neg hno]; exact ((hE_t_10 22 (by decide)).1).trans (hE_t_1 22 (by decide)).1, by rw [if_neg hno]; exact ((((hE_t_10 15 (by decide)).1).trans (hE_t_1 15 (by decide)).1).trans hb15).trans hb15.symm, fun i hi => congrFun (((hE_t_10 3 (by decide)).2).trans (hE_t_1 3 (by decide)).2) i, by rw [gCau, if_neg hno]; exact ((hE_t_10 25 (by decide)).1).trans (hE_t_1 25 (by decide)).1⟩⟩⟩ (by omega) (by omega) rfl rfl dX10_why_25
