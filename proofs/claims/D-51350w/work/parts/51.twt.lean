/-! the twin: add -/
set_option maxRecDepth 100000
theorem adA_r {c : Cat} {g : List Prt} {w : Int} (h : CatS c) : -3 ≤ (adA c g w).2 ∧ (adA c g w).2 < 1000000 := by
  have hn := h.2.2.2.2.2.2
  unfold adA
  split
  · dsimp only; omega
  split
  · dsimp only; omega
  · show -3 ≤ cNx c ∧ cNx c < 1000000; omega
def aOk (B : List Int) (w n : Int) : Prop := (1 ≤ w ∧ w ≤ 20) ∧ gOk B n
def addA (s : Sys) (B : List Int) (w n : Int) : Cat × Int := if wrC (gst B n).1 = 0 then adA (sC s) (gst B n).2 w else (sC s, -10 - wrC (gst B n).1)
theorem SysIs.row {t t1 : Tw} {s : Sys} {S : List Nat} (h : SysIs t s) (hE : TwE S t t1) (h8 : 8 ∉ S) (h12 : 12 ∉ S) (h9 : 9 ∉ S) (h10 : 10 ∉ S) {c : Cat} (hc : RowIs (t1.2 3) c) : SysIs t1 (c, sU s, sD s, sR s) :=
  ⟨hc, by rw [(hE 12 h12).1, (hE 8 h8).2]; exact h.2.1, (hE 9 h9).1.trans h.2.2.1, (hE 10 h10).1.trans h.2.2.2⟩

theorem pn_yX10_adds : ParN yX10_adds 1 := by decide +kernel

set_option maxHeartbeats 4000000 in
set_option maxRecDepth 100000 in
/-- add -/
theorem m_add (l : Launch) (G : Gl) (w : Wd) (a : Nat) (ad : Nat → Nat) (t : Tw) (hT : TwAt G w a ad t) (v : Int) (n : Int) (s : Sys) (B : List Int) (hS : SysIs t s) (hx_v : R32 v) (hx_n : R32 n) (hB : BfAt t B) (hb15 : t.1 15 = (B.length : Int)) (hW : OpW s) : HM l yX10_add cX10_add 3 (some .int) 10 0 0 G [.ref a, .int (iI (v)), .int (iI (n))] w (QI G (fun z_ w_ => z_ = (if (1 ≤ v ∧ v ≤ 20) ∧ gOk B n then (addA s B v n).2 else 0) ∧ ∃ t_ : Tw, TwS G w w_ a ad t_ ∧ TwE [0, 1, 2, 3, 5, 8, 9, 10, 12, 15, 16, 17, 18, 19, 20, 21, 22, 23, 24] t t_ ∧ t_.1 0 = (if (1 ≤ v ∧ v ≤ 20) ∧ gOk B n then 0 else 1) ∧ t_.1 22 = (if (1 ≤ v ∧ v ≤ 20) ∧ gOk B n then errP (gst B n).1 else t.1 22) ∧ t_.1 15 = (if (1 ≤ v ∧ v ≤ 20) ∧ gOk B n then 0 else t.1 15) ∧ SysIs t_ (if (1 ≤ v ∧ v ≤ 20) ∧ gOk B n then opS s (addA s B v n) else s))) := by
  refine HM.mk (by decide +kernel) (Nat.le_of_ble_eq_true rfl) ?_
  intro p9 e9 s9 m9 a9 b9 meth9 c9 ls X hret hlk hnm hl H hR
  have hx := X.1.1
  have hb := X.1.2.1
  have hl : lv_has ls 3 [(0, .ref a), (1, .int (iI (v))), (2, .int (iI (n)))] := hl
  have hL : LK G [] := fun q h => absurd h List.not_mem_nil
  generalize ([] : List Loc) = locs at hL ⊢
  have hTb := hT
  have hT : TwS G w w a ad t := TwS.rf hT
  have hB8 := hB.1.1
  refine lv_aload_n hx hb dX10_add_0 rfl (lv_at hl 0 rfl) ?_
  refine h_iconst hx hb dX10_add_1 ?_
  refine tw_puti X hR hL hT 0 (by decide) q2941 rfl rfl rfl twF_s0 (by omega) dX10_add_2 (fun t_1 et_2 w_3 hT H locs hR hL => ?_)
  have hE_t_1 := TwE.put et_2
  have hv_t_1 := tput_v et_2
  refine lv_aload_n hx hb dX10_add_5 rfl (lv_at hl 0 rfl) ?_
  refine lv_iload_n hx hb dX10_add_6 rfl (lv_at hl 1 rfl) ?_
  refine h_i2l hx hb dX10_add_7 (by omega) ?_
  refine h_lconst hx hb 1 dX10_add_8 rfl ?_
  refine lv_ldc2 (v := lI (20)) hx hb X.1.2.2.2.1 (X.1.2.2.2.2 _ q3237) dX10_add_9 ?_
  -- call SpokenMarksModel.in
  refine h_kIp (h_runS X hR (m_in l G w_3  v 1 20 (by omega) (by omega) (by omega)) pn_yX10_in q2730 q2731 q161 q2732 ⟨by decide, by decide⟩ hl.1 (Nat.le_of_ble_eq_true rfl) dX10_add_12 ⟨by omega, by omega⟩) hL (fun H locs hR hL => ?_)
  refine h_if_eq hx hb 36 dX10_add_15 (by decide) (b2i_R _) (fun c_a => ?_) (fun c_a => ?_)
  ·
    have hbad : ¬ ((1 ≤ v ∧ v ≤ 20) ∧ gOk B n) := fun q_ => b2i_0.mp c_a q_.1
    refine h_iconst hx hb dX10_add_36 ?_
    refine h_iconst hx hb dX10_add_37 ?_
    -- call SpokenMarksModel.fails
    refine h_kI (h_runV X hR (m_fails l G w_3 a ad t_1 hT.1 0 1 ⟨by decide, by decide⟩ ⟨by decide, by decide⟩ hv_t_1) pn_yX10_fails (hasC.of hT.1.ob rfl) q2733 q2735 qs33 q161 q2736 ⟨by decide, by decide⟩ hl.1 (Nat.le_of_ble_eq_true rfl) dX10_add_38 ⟨by omega, by omega⟩) hL (fun z_7 w_8 hp_9 H locs hR hL => ?_)
    obtain ⟨rfl, t_10, hT2, hE_t_10, et_11⟩ := hp_9
    have hT := hT.tr hT2
    clear hT2
    refine h_if_eq hx hb 46 dX10_add_41 (by decide) (b2i_R _) (fun c_f => ?_) (fun c_f => ?_)
    ·
      exact absurd rfl (b2i_0.mp c_f)
    ·
      have hth : t_10.1 0 = 1 := (et_11).trans (if_pos rfl)
      refine h_iconst hx hb dX10_add_44 ?_
      exact h_ireturn hx hb hlk hret hR hL rfl ⟨(by rw [if_neg hbad]), ⟨t_10, hT, (TwE.tr (S2 := [0, 1, 2, 3, 5, 8, 9, 10, 12, 15, 16, 17, 18, 19, 20, 21, 22, 23, 24]) (TwE.tr (S2 := [0, 1, 2, 3, 5, 8, 9, 10, 12, 15, 16, 17, 18, 19, 20, 21, 22, 23, 24]) (TwE.rf : TwE [] t t) hE_t_1 rfl rfl) hE_t_10 rfl rfl), ⟨by rw [if_neg hbad]; exact hth, by rw [if_neg hbad]; exact ((hE_t_10 22 (by decide)).1).trans (hE_t_1 22 (by decide)).1, by rw [if_neg hbad]; exact ((((hE_t_10 15 (by decide)).1).trans (hE_t_1 15 (by decide)).1).trans hb15).trans hb15.symm, by rw [if_neg hbad]; exact hS.mv (TwE.tr (S2 := [0]) (TwE.tr (S2 := [0]) (TwE.rf : TwE [] t t) hE_t_1 rfl rfl) hE_t_10 rfl rfl) (by decide) (by decide) (by decide) (by decide) (by decide)⟩⟩⟩ (by omega) (by omega) rfl rfl dX10_add_45
  ·
    have hv := b2i_n1.mp c_a
    refine lv_iload_n hx hb dX10_add_18 rfl (lv_at hl 2 rfl) ?_
    refine h_i2l hx hb dX10_add_19 (by omega) ?_
    refine h_lconst hx hb 0 dX10_add_20 rfl ?_
    refine lv_aload_n hx hb dX10_add_21 rfl (lv_at hl 0 rfl) ?_
    refine tw_get X hR hT 15 (by decide) q2956 (v := .int (iI ((B.length : Int)))) (congrArg (fun z => some (Value.int (iI z))) (((hE_t_1 15 (by decide)).1).trans hb15)) dX10_add_22 ?_
    refine h_i2l hx hb dX10_add_25 (by omega) ?_
    -- call SpokenMarksModel.in
    refine h_kIp (h_runS X hR (m_in l G w_3  n 0 ((B.length : Int)) (by omega) (by omega) (by omega)) pn_yX10_in q2730 q2731 q161 q2732 ⟨by decide, by decide⟩ hl.1 (Nat.le_of_ble_eq_true rfl) dX10_add_26 ⟨by omega, by omega⟩) hL (fun H locs hR hL => ?_)
    refine h_if_eq hx hb 36 dX10_add_29 (by decide) (b2i_R _) (fun c_b => ?_) (fun c_b => ?_)
    ·
      have hbad : ¬ ((1 ≤ v ∧ v ≤ 20) ∧ gOk B n) := fun q_ => b2i_0.mp c_b q_.2
      refine h_iconst hx hb dX10_add_36 ?_
      refine h_iconst hx hb dX10_add_37 ?_
      -- call SpokenMarksModel.fails
      refine h_kI (h_runV X hR (m_fails l G w_3 a ad t_1 hT.1 0 1 ⟨by decide, by decide⟩ ⟨by decide, by decide⟩ hv_t_1) pn_yX10_fails (hasC.of hT.1.ob rfl) q2733 q2735 qs33 q161 q2736 ⟨by decide, by decide⟩ hl.1 (Nat.le_of_ble_eq_true rfl) dX10_add_38 ⟨by omega, by omega⟩) hL (fun z_15 w_16 hp_17 H locs hR hL => ?_)
      obtain ⟨rfl, t_18, hT2, hE_t_18, et_19⟩ := hp_17
      have hT := hT.tr hT2
      clear hT2
      refine h_if_eq hx hb 46 dX10_add_41 (by decide) (b2i_R _) (fun c_f => ?_) (fun c_f => ?_)
      ·
        exact absurd rfl (b2i_0.mp c_f)
      ·
        have hth : t_18.1 0 = 1 := (et_19).trans (if_pos rfl)
        refine h_iconst hx hb dX10_add_44 ?_
        exact h_ireturn hx hb hlk hret hR hL rfl ⟨(by rw [if_neg hbad]), ⟨t_18, hT, (TwE.tr (S2 := [0, 1, 2, 3, 5, 8, 9, 10, 12, 15, 16, 17, 18, 19, 20, 21, 22, 23, 24]) (TwE.tr (S2 := [0, 1, 2, 3, 5, 8, 9, 10, 12, 15, 16, 17, 18, 19, 20, 21, 22, 23, 24]) (TwE.rf : TwE [] t t) hE_t_1 rfl rfl) hE_t_18 rfl rfl), ⟨by rw [if_neg hbad]; exact hth, by rw [if_neg hbad]; exact ((hE_t_18 22 (by decide)).1).trans (hE_t_1 22 (by decide)).1, by rw [if_neg hbad]; exact ((((hE_t_18 15 (by decide)).1).trans (hE_t_1 15 (by decide)).1).trans hb15).trans hb15.symm, by rw [if_neg hbad]; exact hS.mv (TwE.tr (S2 := [0]) (TwE.tr (S2 := [0]) (TwE.rf : TwE [] t t) hE_t_1 rfl rfl) hE_t_18 rfl rfl) (by decide) (by decide) (by decide) (by decide) (by decide)⟩⟩⟩ (by omega) (by omega) rfl rfl dX10_add_45
    ·
      have hok : gOk B n := b2i_n1.mp c_b
      have hall : (1 ≤ v ∧ v ≤ 20) ∧ gOk B n := ⟨hv, hok⟩
      refine h_iconst hx hb dX10_add_32 ?_
      refine lv_goto (tgt := 37) hx hb dX10_add_33 (by decide) ?_
      refine h_iconst hx hb dX10_add_37 ?_
      -- call SpokenMarksModel.fails
      refine h_kI (h_runV X hR (m_fails l G w_3 a ad t_1 hT.1 1 1 ⟨by decide, by decide⟩ ⟨by decide, by decide⟩ hv_t_1) pn_yX10_fails (hasC.of hT.1.ob rfl) q2733 q2735 qs33 q161 q2736 ⟨by decide, by decide⟩ hl.1 (Nat.le_of_ble_eq_true rfl) dX10_add_38 ⟨by omega, by omega⟩) hL (fun z_20 w_21 hp_22 H locs hR hL => ?_)
      obtain ⟨rfl, t_23, hT2, hE_t_23, et_24⟩ := hp_22
      have hT := hT.tr hT2
      clear hT2
      refine h_if_eq hx hb 46 dX10_add_41 (by decide) (b2i_R _) (fun c_f => ?_) (fun c_f => ?_)
      ·
        have hth : t_23.1 0 = 0 := (et_24).trans (if_neg (by decide))
        refine lv_aload_n hx hb dX10_add_46 rfl (lv_at hl 0 rfl) ?_
        refine tw_get X hR hT 3 (by decide) q2944 rfl dX10_add_47 ?_
        refine h_iconst hx hb dX10_add_50 ?_
        refine lv_aload_n hx hb dX10_add_51 rfl (lv_at hl 0 rfl) ?_
        refine tw_get X hR hT 5 (by decide) q2946 rfl dX10_add_52 ?_
        refine h_iconst hx hb dX10_add_55 ?_
        refine h_sipush hx hb dX10_add_56 (by decide) ?_
        -- call SpokenMarksModel.copies
        refine h_kV (h_runS X hR (m_copies l G w_21 a ad t_23 hT.1 3 0 5 0 606 (by decide) (by decide) (by show _ ≤ _; simp only [twN]; omega) (by show _ ≤ _; simp only [twN]; omega) (by first | exact Or.inl (by decide) | exact Or.inr (by omega))) pn_yX10_copies q2737 q2738 q161 q2739 ⟨by decide, by decide⟩ hl.1 (Nat.le_of_ble_eq_true rfl) dX10_add_59 ⟨by omega, by omega⟩) hL (fun w_26 hp_27 H locs hR hL => ?_)
        obtain ⟨t_28, hT2, e1_, e2_, hc_t_28⟩ := hp_27
        have hE_t_28 : TwE [5] t_23 t_28 := fun k_ hk_ => ⟨by rw [e1_], e2_ k_ (by simpa using hk_)⟩
        have e1_t_28 := e1_
        have hT := hT.tr hT2
        clear hT2 e1_ e2_
        have hTd : RowIs (t_28.2 5) (sC s) := hS.C.mv606 (fun i hi => by rw [hc_t_28]; unfold cpyF; rw [if_pos (by omega), ((hE_t_23 3 (by decide)).2).trans (hE_t_1 3 (by decide)).2]; congr 1)
        refine lv_aload_n hx hb dX10_add_62 rfl (lv_at hl 0 rfl) ?_
        refine lv_aload_n hx hb dX10_add_63 rfl (lv_at hl 0 rfl) ?_
        refine lv_iload_n hx hb dX10_add_64 rfl (lv_at hl 2 rfl) ?_
        refine W.eq (g2 := F0 m9 65 ls [.int (iI (((B.take n.toNat).length : Int))), .ref a, .ref a]) (congrArg (fun z_ : Int => F0 m9 65 ls [.int (iI (z_)), .ref a, .ref a]) (show (n : Int) = ((B.take n.toNat).length : Int) from (by rw [List.length_take]; have := hok; omega))) ?_
        -- call SpokenMarksModel.readsGuest
        refine h_kI (h_runV X hR (m_readsGuest l G w_26 a ad t_28 hT.1 (B.take n.toNat) (sC s) (hB.tk n.toNat ((((hE_t_28 14 (by decide)).2).trans (hE_t_23 14 (by decide)).2).trans (hE_t_1 14 (by decide)).2)) (by rw [(((hE_t_28 3 (by decide)).2).trans (hE_t_23 3 (by decide)).2).trans (hE_t_1 3 (by decide)).2]; exact hS.C)) pn_yX10_readsGuest (hasC.of hT.1.ob rfl) q3197 q3199 qs98 q161 q3200 ⟨by decide, by decide⟩ hl.1 (Nat.le_of_ble_eq_true rfl) dX10_add_65 ⟨by omega, by omega⟩) hL (fun z_29 w_30 hp_31 H locs hR hL => ?_)
        obtain ⟨rfl, t_32, hT2, hE_t_32, et_33⟩ := hp_31
        have hT := hT.tr hT2
        clear hT2
        have hG1 : RdAt t_32 (B.take n.toNat) (gst B n).1 := et_33.1
        have hw9 := hG1.wr9
        have hr3 : ∀ i, i < 592 → t_32.2 3 i = t.2 3 i := fun i hi => (et_33.2.2.1 i hi).trans (congrFun ((((hE_t_28 3 (by decide)).2).trans (hE_t_23 3 (by decide)).2).trans (hE_t_1 3 (by decide)).2) i)
        have hC2 : RowIs (t_32.2 3) (sC s) := hS.C.mv (fun i hi => hr3 i (by have := hS.C.n40; omega))
        have hsl : wrC (gst B n).1 = 0 → SlotP (t_32.2 3) 40 (cRl (sC s)) (gst B n).2 ∧ PrtsW (gst B n).2 := et_33.2.2.2
        have h15_ := et_33.2.1
        have hTd2 : RowIs (t_32.2 5) (sC s) := by rw [(hE_t_32 5 (by decide)).2]; exact hTd
        refine h_if_eq hx hb 79 dX10_add_68 (by decide) (b2i_R _) (fun c_g => ?_) (fun c_g => ?_)
        ·
          have hge : ¬ wrC (gst B n).1 = 0 := b2i_0.mp c_g
          refine h_bipush hx hb dX10_add_79 (by decide) ?_
          refine lv_aload_n hx hb dX10_add_81 rfl (lv_at hl 0 rfl) ?_
          refine tw_get X hR hT 21 (by decide) q2962 (v := .int (iI (wrC (gst B n).1))) (congrArg (fun z => some (Value.int (iI z))) (hG1.wr)) dX10_add_82 ?_
          refine h_isub hx hb dX10_add_85 ?_
          have har := adA_r (g := (gst B n).2) (w := v) hS.C.s
          have hS2 : SysIs t_32 (sC s, sU s, sD s, sR s) := hS.row (TwE.tr (S2 := [0, 1, 2, 3, 5, 15, 16, 17, 18, 19, 20, 21, 22, 23, 24]) (TwE.tr (S2 := [0, 1, 2, 3, 5, 15, 16, 17, 18, 19, 20, 21, 22, 23, 24]) (TwE.tr (S2 := [0, 1, 2, 3, 5, 15, 16, 17, 18, 19, 20, 21, 22, 23, 24]) (TwE.tr (S2 := [0, 1, 2, 3, 5, 15, 16, 17, 18, 19, 20, 21, 22, 23, 24]) (TwE.rf : TwE [] t t) hE_t_1 rfl rfl) hE_t_23 rfl rfl) hE_t_28 rfl rfl) hE_t_32 rfl rfl) (by decide) (by decide) (by decide) (by decide) hC2
          have hTd3 := hTd2
          -- call SpokenMarksModel.ends
          refine h_kI (h_runV X hR (m_ends l G w_30 a ad t_32 hT.1 ((-10) - (wrC (gst B n).1)) ((sC s, sU s, sD s, sR s)) (sC s) hS2 hTd3 ⟨by omega, by omega⟩ hW.2.2.2.1 hW.2.2.2.2) pn_yX10_ends (hasC.of hT.1.ob rfl) q3242 q3244 qs102 q161 q3245 ⟨by decide, by decide⟩ hl.1 (Nat.le_of_ble_eq_true rfl) dX10_add_86 ⟨by omega, by omega⟩) hL (fun z_34 w_35 hp_36 H locs hR hL => ?_)
          obtain ⟨rfl, t_37, hT2, hE_t_37, et_38⟩ := hp_36
          have hT := hT.tr hT2
          clear hT2
          exact h_ireturn hx hb hlk hret hR hL rfl ⟨(by rw [if_pos hall, addA, if_neg hge]), ⟨t_37, hT, (TwE.tr (S2 := [0, 1, 2, 3, 5, 8, 9, 10, 12, 15, 16, 17, 18, 19, 20, 21, 22, 23, 24]) (TwE.tr (S2 := [0, 1, 2, 3, 5, 8, 9, 10, 12, 15, 16, 17, 18, 19, 20, 21, 22, 23, 24]) (TwE.tr (S2 := [0, 1, 2, 3, 5, 8, 9, 10, 12, 15, 16, 17, 18, 19, 20, 21, 22, 23, 24]) (TwE.tr (S2 := [0, 1, 2, 3, 5, 8, 9, 10, 12, 15, 16, 17, 18, 19, 20, 21, 22, 23, 24]) (TwE.tr (S2 := [0, 1, 2, 3, 5, 8, 9, 10, 12, 15, 16, 17, 18, 19, 20, 21, 22, 23, 24]) (TwE.rf : TwE [] t t) hE_t_1 rfl rfl) hE_t_23 rfl rfl) hE_t_28 rfl rfl) hE_t_32 rfl rfl) hE_t_37 rfl rfl), ⟨by rw [if_pos hall]; exact ((((hE_t_37 0 (by decide)).1).trans (hE_t_32 0 (by decide)).1).trans (hE_t_28 0 (by decide)).1).trans hth, by rw [if_pos hall]; exact (((hE_t_37 22 (by decide)).1).trans hG1.er22), by rw [if_pos hall]; exact (((hE_t_37 15 (by decide)).1).trans h15_), by rw [if_pos hall, addA, if_neg hge]; exact ⟨by rw [(hE_t_37 3 (by decide)).2]; exact hS2.1, et_38.1, et_38.2.1, et_38.2.2⟩⟩⟩⟩ (by omega) (by omega) rfl rfl dX10_add_89
        ·
          have hgo : wrC (gst B n).1 = 0 := b2i_n1.mp c_g
          refine lv_aload_n hx hb dX10_add_71 rfl (lv_at hl 0 rfl) ?_
          refine lv_iload_n hx hb dX10_add_72 rfl (lv_at hl 1 rfl) ?_
          -- call SpokenMarksModel.adds
          refine h_kI (h_runV X hR (m_adds l G w_30 a ad t_32 hT.1 v (sC s) ((gst B n).2) hC2 (hsl hgo).1 (hsl hgo).2 hv hW.2.1 hW.2.2.1) pn_yX10_adds (hasC.of hT.1.ob rfl) q3238 q3240 qs101 q161 q3241 ⟨by decide, by decide⟩ hl.1 (Nat.le_of_ble_eq_true rfl) dX10_add_73 ⟨by omega, by omega⟩) hL (fun z_39 w_40 hp_41 H locs hR hL => ?_)
          obtain ⟨rfl, t_42, hT2, hE_t_42, et_43⟩ := hp_41
          have hT := hT.tr hT2
          clear hT2
          have hC3 := et_43
          refine lv_goto (tgt := 86) hx hb dX10_add_76 (by decide) ?_
          have har := adA_r (g := (gst B n).2) (w := v) hS.C.s
          have hS2 : SysIs t_42 ((adA (sC s) (gst B n).2 v).1, sU s, sD s, sR s) := hS.row (TwE.tr (S2 := [0, 1, 2, 3, 5, 15, 16, 17, 18, 19, 20, 21, 22, 23, 24]) (TwE.tr (S2 := [0, 1, 2, 3, 5, 15, 16, 17, 18, 19, 20, 21, 22, 23, 24]) (TwE.tr (S2 := [0, 1, 2, 3, 5, 15, 16, 17, 18, 19, 20, 21, 22, 23, 24]) (TwE.tr (S2 := [0, 1, 2, 3, 5, 15, 16, 17, 18, 19, 20, 21, 22, 23, 24]) (TwE.tr (S2 := [0, 1, 2, 3, 5, 15, 16, 17, 18, 19, 20, 21, 22, 23, 24]) (TwE.rf : TwE [] t t) hE_t_1 rfl rfl) hE_t_23 rfl rfl) hE_t_28 rfl rfl) hE_t_32 rfl rfl) hE_t_42 rfl rfl) (by decide) (by decide) (by decide) (by decide) hC3
          have hTd3 : RowIs (t_42.2 5) (sC s) := by rw [(hE_t_42 5 (by decide)).2]; exact hTd2
          -- call SpokenMarksModel.ends
          refine h_kI (h_runV X hR (m_ends l G w_40 a ad t_42 hT.1 ((adA (sC s) ((gst B n).2) v).2) (((adA (sC s) (gst B n).2 v).1, sU s, sD s, sR s)) (sC s) hS2 hTd3 ⟨by omega, by omega⟩ hW.2.2.2.1 hW.2.2.2.2) pn_yX10_ends (hasC.of hT.1.ob rfl) q3242 q3244 qs102 q161 q3245 ⟨by decide, by decide⟩ hl.1 (Nat.le_of_ble_eq_true rfl) dX10_add_86 ⟨by omega, by omega⟩) hL (fun z_44 w_45 hp_46 H locs hR hL => ?_)
          obtain ⟨rfl, t_47, hT2, hE_t_47, et_48⟩ := hp_46
          have hT := hT.tr hT2
          clear hT2
          exact h_ireturn hx hb hlk hret hR hL rfl ⟨(by rw [if_pos hall, addA, if_pos hgo]), ⟨t_47, hT, (TwE.tr (S2 := [0, 1, 2, 3, 5, 8, 9, 10, 12, 15, 16, 17, 18, 19, 20, 21, 22, 23, 24]) (TwE.tr (S2 := [0, 1, 2, 3, 5, 8, 9, 10, 12, 15, 16, 17, 18, 19, 20, 21, 22, 23, 24]) (TwE.tr (S2 := [0, 1, 2, 3, 5, 8, 9, 10, 12, 15, 16, 17, 18, 19, 20, 21, 22, 23, 24]) (TwE.tr (S2 := [0, 1, 2, 3, 5, 8, 9, 10, 12, 15, 16, 17, 18, 19, 20, 21, 22, 23, 24]) (TwE.tr (S2 := [0, 1, 2, 3, 5, 8, 9, 10, 12, 15, 16, 17, 18, 19, 20, 21, 22, 23, 24]) (TwE.tr (S2 := [0, 1, 2, 3, 5, 8, 9, 10, 12, 15, 16, 17, 18, 19, 20, 21, 22, 23, 24]) (TwE.rf : TwE [] t t) hE_t_1 rfl rfl) hE_t_23 rfl rfl) hE_t_28 rfl rfl) hE_t_32 rfl rfl) hE_t_42 rfl rfl) hE_t_47 rfl rfl), ⟨by rw [if_pos hall]; exact (((((hE_t_47 0 (by decide)).1).trans (hE_t_42 0 (by decide)).1).trans (hE_t_32 0 (by decide)).1).trans (hE_t_28 0 (by decide)).1).trans hth, by rw [if_pos hall]; exact ((((hE_t_47 22 (by decide)).1).trans (hE_t_42 22 (by decide)).1).trans hG1.er22), by rw [if_pos hall]; exact ((((hE_t_47 15 (by decide)).1).trans (hE_t_42 15 (by decide)).1).trans h15_), by rw [if_pos hall, addA, if_pos hgo]; exact ⟨by rw [(hE_t_47 3 (by decide)).2]; exact hS2.1, et_48.1, et_48.2.1, et_48.2.2⟩⟩⟩⟩ (by omega) (by omega) rfl rfl dX10_add_89
      ·
        exact absurd (b2i_n1.mp c_f) (by decide)
