/-! the component: SpokenMarks answers -/
set_option maxRecDepth 100000
theorem isFP_l {x : Prt} (h : isFP x = true) : ∃ n, x = .inl n := by
  cases x with
  | inl n => exact ⟨n, rfl⟩
  | inr L => cases h
theorem isFP_r {x : Prt} (h : ¬ isFP x = true) : ∃ L, x = .inr L := by
  cases x with
  | inl n => exact absurd rfl h
  | inr L => exact ⟨L, rfl⟩

theorem pn_yX1_letterAt : ParN yX1_letterAt 2 := by decide +kernel
theorem pn_yX1_require : ParN yX1_require 1 := by decide +kernel
theorem pn_yX1_requirePart : ParN yX1_requirePart 2 := by decide +kernel
theorem pn_yX1_requireRule : ParN yX1_requireRule 1 := by decide +kernel
theorem pn_yX1_requireShelf : ParN yX1_requireShelf 1 := by decide +kernel
theorem pn_yX2_alike : ParN yX2_alike 0 := by decide +kernel
theorem pn_yX2_endOn : ParN yX2_endOn 2 := by decide +kernel
theorem pn_yX2_family : ParN yX2_family 1 := by decide +kernel
theorem pn_yX2_gap : ParN yX2_gap 0 := by decide +kernel
theorem pn_yX2_leastStep : ParN yX2_leastStep 0 := by decide +kernel
theorem pn_yX2_marksOn : ParN yX2_marksOn 1 := by decide +kernel
theorem pn_yX2_widths : ParN yX2_widths 0 := by decide +kernel
theorem pn_yX5_words : ParN yX5_words 0 := by decide +kernel
theorem pn_yJ17_signum : ParN yJ17_signum 1 := by decide +kernel
theorem pn_yJ1_size : ParN yJ1_size 0 := by decide +kernel

set_option maxHeartbeats 4000000 in
set_option maxRecDepth 100000 in
/-- SpokenMarks.at -/
theorem sm_at (l : Launch) (G : Gl) (w : Wd) (a lm lr hm : Nat) (c : Cat) (hC : CatAt G w a lm lr hm c) (hS : CatS c) (x bf hq fs : Nat) (nb er ca dn rf ud : Int) (sv : Value) (hX : w x = some (x + 1, oE 0 [.ref bf, .ref hq, .int (iI (nb)), .int (iI (er)), .int (iI (ca)), .int (iI (dn)), .int (iI (rf)), .int (iI (ud)), .ref a, sv, .ref fs])) (r : Int) (h1 : R32 r) : HM l yX1_at cX1_at 2 (some .int) 7 0 0 G [.ref x, .int (iI (r))] w (QI G (fun z_ w_ => z_ = qAt c r ∧ w_ = w)) := by
  refine HM.mk (by decide +kernel) (Nat.le_of_ble_eq_true rfl) ?_
  intro p9 e9 s9 m9 a9 b9 meth9 c9 ls X hret hlk hnm hl H hR
  have hx := X.1.1
  have hb := X.1.2.1
  have hl : lv_has ls 2 [(0, .ref x), (1, .int (iI (r)))] := hl
  have hL : LK G [] := fun q h => absurd h List.not_mem_nil
  generalize ([] : List Loc) = locs at hL ⊢
  have hC0 := hC
  obtain ⟨bda, aca, so, fb, fa, Lm, Lr, mp, hCt, ⟨hbd, hbx⟩, ⟨hac, hax⟩, hso, ⟨⟨mo1, hm1, hlm⟩, hmk, hnd⟩, ⟨⟨mo2, hm2, hlr⟩, hru⟩, ⟨hhm, hmp⟩, hrd, hid, hba, hll⟩ := hC
  have hCt : w a = some (a + 1, oE 2 [.int (iI (cSh c)), .int (iI (cRm c)), .ref bda, .ref lm, .ref lr, .ref hm, .ref so, .ref aca, .int (iI (cNx c))]) := hCt
  have s1 := hS.1
  have s2 := hS.2.1
  have s3 := hS.2.2.1
  have s4 := hS.2.2.2.1.1
  have hRW := hS.2.2.2.2.1
  have s5 := hRW.1
  have s6 := hS.2.2.2.2.2
  have hml : Lm.length = cN c := hmk.1
  have hrl := hru.1
  refine lv_iload_n hx hb dX1_at_0 rfl (lv_at hl 1 rfl) ?_
  refine h_iconst hx hb dX1_at_1 ?_
  refine lv_aload_n hx hb dX1_at_2 rfl (lv_at hl 0 rfl) ?_
  refine h_get X hR hX rfl in_X1 8 (by decide) q1700 rfl dX1_at_3 ?_
  refine h_getN X hR hCt rfl in_X2 3 (by decide) q602 rfl dX1_at_6 ?_
  -- call java/util/ArrayList.size
  refine h_k5Ip (h_runF (x := ⟨"java/util/List", "size", "()I"⟩) X hR (ls_size l G w (lm + 1) lm 40 mo1 Lm hlm) pn_i_java_util_List_size_0 (hlm.c) (kk_face X.2 (by decide +kernel) q1566 q1565 q1570 q1568 q664) q1739 q1569 q1567 q125 q1571 ⟨by decide, by decide⟩ hl.1 (Nat.le_of_ble_eq_true rfl) dX1_at_9 ⟨by omega, by omega⟩) hL (fun H locs hR hL => ?_)
  refine W.eq (g2 := F0 m9 14 ls [.int (iI ((cN c : Int))), .int (iI (0)), .int (iI (r))]) (congrArg (fun z_ : Int => F0 m9 14 ls [.int (iI (z_)), .int (iI (0)), .int (iI (r))]) (show ((Lm.length : Int) : Int) = (cN c : Int) from (by rw [hml]))) ?_
  refine h_iconst hx hb dX1_at_14 ?_
  refine h_isub hx hb dX1_at_15 ?_
  -- call SpokenMarks.inRange
  refine h_kIp (h_runS X hR (c_inr l G w r 0 (((cN c : Int)) - 1) (by omega) (by omega) (by omega)) pn_yX1_inRange q1740 q1741 q120 q1742 ⟨by decide, by decide⟩ hl.1 (Nat.le_of_ble_eq_true rfl) dX1_at_16 ⟨by omega, by omega⟩) hL (fun H locs hR hL => ?_)
  refine h_if_eq hx hb 44 dX1_at_19 (by decide) (b2i_R9 _) (fun c_r => ?_) (fun c_r => ?_)
  ·
    have c_k := b2i_0.mp c_r
    refine h_iconst hx hb dX1_at_44 ?_
    exact h_ireturn hx hb hlk hret hR hL rfl ⟨by unfold qAt; first | exact (if_pos ⟨c_k.1, by omega⟩).symm | exact (if_neg (fun q_ => c_k ⟨q_.1, by omega⟩)).symm, rfl⟩ (by omega) (by omega) rfl rfl dX1_at_45
  ·
    have c_k := b2i_n1.mp c_r
    have hl : lv_has ls 2 [(0, .ref x), (1, .int (iI (((r.toNat : Nat) : Int))))] := lv_conv hl (congrArg (fun z_ : Int => ([(0, .ref x), (1, .int (iI (z_)))] : List (Nat × Value))) (show (r : Int) = ((r.toNat : Nat) : Int) from (by omega)))
    refine lv_aload_n hx hb dX1_at_22 rfl (lv_at hl 0 rfl) ?_
    refine h_get X hR hX rfl in_X1 8 (by decide) q1700 rfl dX1_at_23 ?_
    refine h_getN X hR hCt rfl in_X2 3 (by decide) q602 rfl dX1_at_26 ?_
    refine lv_iload_n hx hb dX1_at_29 rfl (lv_at hl 1 rfl) ?_
    -- call java/util/ArrayList.get
    refine h_k5Rp (h_runF (x := ⟨"java/util/List", "get", "(I)Ljava/lang/Object;"⟩) X hR (ls_get l G w (lm + 1) lm 40 mo1 Lm hlm r.toNat (by rw [hml]; omega)) pn_i_java_util_List_get_1 (hlm.c) (kk_face X.2 (by decide +kernel) q1575 q1574 q1579 q1577 q664) q1744 q1578 q1576 q125 q1580 ⟨by decide, by decide⟩ hl.1 (Nat.le_of_ble_eq_true rfl) dX1_at_30 ⟨by omega, by omega⟩) hL (fun H locs hR hL => ?_)
    have hm_10 : MkAt G (cRl c) w (a + 1) (Lm.getD r.toNat 0) (mk c r.toNat) := MksAt.g hmk (show r.toNat < cN c by omega)
    have hm_10w := hS.mw (k := r.toNat) (by omega)
    have hm_10p := hS.pw (k := r.toNat) (by omega)
    have hm_10r := hm_10w.1
    have hm_10r2 := hm_10w.2.2
    obtain ⟨pl_11, hm_101, hm_102⟩ := hm_10
    refine h_castS X hR (hasC.of hm_101 rfl) q1745 dX1_at_35 ?_
    refine h_getN X hR hm_101 rfl in_X5 0 (by decide) q1538 rfl dX1_at_38 ?_
    refine lv_goto (tgt := 45) hx hb dX1_at_41 (by decide) ?_
    exact h_ireturn hx hb hlk hret hR hL rfl ⟨by unfold qAt; first | exact (if_pos ⟨c_k.1, by omega⟩).symm | exact (if_neg (fun q_ => c_k ⟨q_.1, by omega⟩)).symm, rfl⟩ (by omega) (by omega) rfl rfl dX1_at_45

set_option maxHeartbeats 4000000 in
set_option maxRecDepth 100000 in
/-- SpokenMarks.size -/
theorem sm_size (l : Launch) (G : Gl) (w : Wd) (hSt : l.stackTraces = false) (a lm lr hm : Nat) (c : Cat) (hC : CatAt G w a lm lr hm c) (hS : CatS c) (hW : CatW c) (x bf hq fs : Nat) (nb er ca dn rf ud : Int) (sv : Value) (hX : w x = some (x + 1, oE 0 [.ref bf, .ref hq, .int (iI (nb)), .int (iI (er)), .int (iI (ca)), .int (iI (dn)), .int (iI (rf)), .int (iI (ud)), .ref a, sv, .ref fs])) (what : Int) (h1 : R32 what) (hG : RegW w) : HMX l yX1_size cX1_size 2 (some .int) 10 2 12 G [.ref x, .int (iI (what))] w (QI G (fun z_ w_ => (qSize c what).1 = 0 ∧ z_ = (qSize c what).2 ∧ Up (fun _ => False) w w_)) (fun q_ E_ w_ => ((qSize c what).1 = 1 ∧ E_ = "java/lang/IllegalArgumentException") ∧ Up (fun _ => False) w w_) := by
  refine HMX.mk (by decide +kernel) (Nat.le_of_ble_eq_true rfl) ?_
  intro p9 e9 s9 m9 a9 b9 meth9 c9 ls X hret hlk hnm htab hl H hR
  have hx := X.1.1
  have hb := X.1.2.1
  have hl : lv_has ls 2 [(0, .ref x), (1, .int (iI (what)))] := hl
  have hL : LK G [] := fun q h => absurd h List.not_mem_nil
  generalize ([] : List Loc) = locs at hL ⊢
  have hU : Up (fun _ => False) w w := Up.rf hG
  have hSs := hS
  refine lv_iload_n hx hb dX1_size_0 rfl (lv_at hl 1 rfl) ?_
  by_cases c_w_in : (0 : Int) ≤ what ∧ what ≤ 7
  ·
    have c_w : what = 0 ∨ what = 1 ∨ what = 2 ∨ what = 3 ∨ what = 4 ∨ what = 5 ∨ what = 6 ∨ what = 7 := by omega
    rcases c_w with c_w | c_w | c_w | c_w | c_w | c_w | c_w | c_w
    ·
      refine h_tabIn hx hb 48 dX1_size_1 (by omega) (by omega) (by rw [c_w]; rfl) (by decide) ?_
      refine lv_aload_n hx hb dX1_size_48 rfl (lv_at hl 0 rfl) ?_
      refine h_get X hR hX rfl in_X1 8 (by decide) q1700 rfl dX1_size_49 ?_
      have hpk_1 := hC
      obtain ⟨bdao_2, acao_2, soo_2, fbo_2, fao_2, Lmo_2, Lro_2, mpo_2, hCto_2, ⟨hbdo_2, hbxo_2⟩, ⟨haco_2, haxo_2⟩, hsoo_2, ⟨⟨mo1o_2, hm1o_2, hlmo_2⟩, hmko_2, hndo_2⟩, ⟨⟨mo2o_2, hm2o_2, hlro_2⟩, hruo_2⟩, ⟨hhmo_2, hmpo_2⟩, hrdo_2, hido_2, hbao_2, hllo_2⟩ := hpk_1
      have hCto_2 : w a = some (a + 1, oE 2 [.int (iI (cSh c)), .int (iI (cRm c)), .ref bdao_2, .ref lm, .ref lr, .ref hm, .ref soo_2, .ref acao_2, .int (iI (cNx c))]) := hCto_2
      have ne_bdao_2_acao_2 : bdao_2 ≠ acao_2 := hbao_2
      have hmlo_2 : Lmo_2.length = (cMk c).length := hmko_2.1
      have hrlo_2 := hruo_2.1
      refine h_getN X hR hCto_2 rfl in_X2 0 (by decide) q591 rfl dX1_size_52 ?_
      refine lv_goto (tgt := 146) hx hb dX1_size_55 (by decide) ?_
      refine vx_ret ?_
      exact h_ireturn hx hb hlk hret hR hL rfl ⟨(congrArg (fun z_ => (qSize c z_).1) c_w).trans rfl, ((congrArg (fun z_ => (qSize c z_).2) c_w).trans rfl).symm, hU⟩ (by omega) (by omega) rfl rfl dX1_size_146
    ·
      refine h_tabIn hx hb 58 dX1_size_1 (by omega) (by omega) (by rw [c_w]; rfl) (by decide) ?_
      refine lv_aload_n hx hb dX1_size_58 rfl (lv_at hl 0 rfl) ?_
      refine h_get X hR hX rfl in_X1 8 (by decide) q1700 rfl dX1_size_59 ?_
      have hpk_3 := hC
      obtain ⟨bdao_4, acao_4, soo_4, fbo_4, fao_4, Lmo_4, Lro_4, mpo_4, hCto_4, ⟨hbdo_4, hbxo_4⟩, ⟨haco_4, haxo_4⟩, hsoo_4, ⟨⟨mo1o_4, hm1o_4, hlmo_4⟩, hmko_4, hndo_4⟩, ⟨⟨mo2o_4, hm2o_4, hlro_4⟩, hruo_4⟩, ⟨hhmo_4, hmpo_4⟩, hrdo_4, hido_4, hbao_4, hllo_4⟩ := hpk_3
      have hCto_4 : w a = some (a + 1, oE 2 [.int (iI (cSh c)), .int (iI (cRm c)), .ref bdao_4, .ref lm, .ref lr, .ref hm, .ref soo_4, .ref acao_4, .int (iI (cNx c))]) := hCto_4
      have ne_bdao_4_acao_4 : bdao_4 ≠ acao_4 := hbao_4
      have hmlo_4 : Lmo_4.length = (cMk c).length := hmko_4.1
      have hrlo_4 := hruo_4.1
      refine h_getN X hR hCto_4 rfl in_X2 1 (by decide) q593 rfl dX1_size_62 ?_
      refine lv_goto (tgt := 146) hx hb dX1_size_65 (by decide) ?_
      refine vx_ret ?_
      exact h_ireturn hx hb hlk hret hR hL rfl ⟨(congrArg (fun z_ => (qSize c z_).1) c_w).trans rfl, ((congrArg (fun z_ => (qSize c z_).2) c_w).trans rfl).symm, hU⟩ (by omega) (by omega) rfl rfl dX1_size_146
    ·
      refine h_tabIn hx hb 68 dX1_size_1 (by omega) (by omega) (by rw [c_w]; rfl) (by decide) ?_
      refine lv_aload_n hx hb dX1_size_68 rfl (lv_at hl 0 rfl) ?_
      refine h_get X hR hX rfl in_X1 8 (by decide) q1700 rfl dX1_size_69 ?_
      have hpk_5 := hC
      obtain ⟨bdao_6, acao_6, soo_6, fbo_6, fao_6, Lmo_6, Lro_6, mpo_6, hCto_6, ⟨hbdo_6, hbxo_6⟩, ⟨haco_6, haxo_6⟩, hsoo_6, ⟨⟨mo1o_6, hm1o_6, hlmo_6⟩, hmko_6, hndo_6⟩, ⟨⟨mo2o_6, hm2o_6, hlro_6⟩, hruo_6⟩, ⟨hhmo_6, hmpo_6⟩, hrdo_6, hido_6, hbao_6, hllo_6⟩ := hpk_5
      have hCto_6 : w a = some (a + 1, oE 2 [.int (iI (cSh c)), .int (iI (cRm c)), .ref bdao_6, .ref lm, .ref lr, .ref hm, .ref soo_6, .ref acao_6, .int (iI (cNx c))]) := hCto_6
      have ne_bdao_6_acao_6 : bdao_6 ≠ acao_6 := hbao_6
      have hmlo_6 : Lmo_6.length = (cMk c).length := hmko_6.1
      have hrlo_6 := hruo_6.1
      refine h_getN X hR hCto_6 rfl in_X2 3 (by decide) q602 rfl dX1_size_72 ?_
      -- call java/util/ArrayList.size
      refine h_k5Ip (h_runF (x := ⟨"java/util/List", "size", "()I"⟩) X hR (ls_size l G w (lm + 1) lm 40 mo1o_6 Lmo_6 hlmo_6) pn_i_java_util_List_size_0 (hlmo_6.c) (kk_face X.2 (by decide +kernel) q1566 q1565 q1570 q1568 q664) q1739 q1569 q1567 q125 q1571 ⟨by decide, by decide⟩ hl.1 (Nat.le_of_ble_eq_true rfl) dX1_size_75 ⟨by omega, by omega⟩) hL (fun H locs hR hL => ?_)
      refine W.eq (g2 := F0 m9 80 ls [.int (iI ((cN c : Int)))]) (congrArg (fun z_ : Int => F0 m9 80 ls [.int (iI (z_))]) (show ((Lmo_6.length : Int) : Int) = (cN c : Int) from (by rw [hmlo_6]))) ?_
      refine lv_goto (tgt := 146) hx hb dX1_size_80 (by decide) ?_
      refine vx_ret ?_
      exact h_ireturn hx hb hlk hret hR hL rfl ⟨(congrArg (fun z_ => (qSize c z_).1) c_w).trans rfl, ((congrArg (fun z_ => (qSize c z_).2) c_w).trans rfl).symm, hU⟩ (by omega) (by omega) rfl rfl dX1_size_146
    ·
      refine h_tabIn hx hb 83 dX1_size_1 (by omega) (by omega) (by rw [c_w]; rfl) (by decide) ?_
      refine lv_aload_n hx hb dX1_size_83 rfl (lv_at hl 0 rfl) ?_
      refine h_get X hR hX rfl in_X1 8 (by decide) q1700 rfl dX1_size_84 ?_
      have hpk_10 := hC
      obtain ⟨bdao_11, acao_11, soo_11, fbo_11, fao_11, Lmo_11, Lro_11, mpo_11, hCto_11, ⟨hbdo_11, hbxo_11⟩, ⟨haco_11, haxo_11⟩, hsoo_11, ⟨⟨mo1o_11, hm1o_11, hlmo_11⟩, hmko_11, hndo_11⟩, ⟨⟨mo2o_11, hm2o_11, hlro_11⟩, hruo_11⟩, ⟨hhmo_11, hmpo_11⟩, hrdo_11, hido_11, hbao_11, hllo_11⟩ := hpk_10
      have hCto_11 : w a = some (a + 1, oE 2 [.int (iI (cSh c)), .int (iI (cRm c)), .ref bdao_11, .ref lm, .ref lr, .ref hm, .ref soo_11, .ref acao_11, .int (iI (cNx c))]) := hCto_11
      have ne_bdao_11_acao_11 : bdao_11 ≠ acao_11 := hbao_11
      have hmlo_11 : Lmo_11.length = (cMk c).length := hmko_11.1
      have hrlo_11 := hruo_11.1
      refine h_getN X hR hCto_11 rfl in_X2 4 (by decide) q607 rfl dX1_size_87 ?_
      -- call java/util/ArrayList.size
      refine h_k5Ip (h_runF (x := ⟨"java/util/List", "size", "()I"⟩) X hR (ls_size l G w (lr + 1) lr 8 mo2o_11 Lro_11 hlro_11) pn_i_java_util_List_size_0 (hlro_11.c) (kk_face X.2 (by decide +kernel) q1566 q1565 q1570 q1568 q664) q1739 q1569 q1567 q125 q1571 ⟨by decide, by decide⟩ hl.1 (Nat.le_of_ble_eq_true rfl) dX1_size_90 ⟨by omega, by omega⟩) hL (fun H locs hR hL => ?_)
      refine W.eq (g2 := F0 m9 95 ls [.int (iI (((cRl c).length : Int)))]) (congrArg (fun z_ : Int => F0 m9 95 ls [.int (iI (z_))]) (show ((Lro_11.length : Int) : Int) = ((cRl c).length : Int) from (by rw [hrlo_11]))) ?_
      refine lv_goto (tgt := 146) hx hb dX1_size_95 (by decide) ?_
      refine vx_ret ?_
      exact h_ireturn hx hb hlk hret hR hL rfl ⟨(congrArg (fun z_ => (qSize c z_).1) c_w).trans rfl, ((congrArg (fun z_ => (qSize c z_).2) c_w).trans rfl).symm, hU⟩ (by omega) (by omega) rfl rfl dX1_size_146
    ·
      refine h_tabIn hx hb 98 dX1_size_1 (by omega) (by omega) (by rw [c_w]; rfl) (by decide) ?_
      refine lv_aload_n hx hb dX1_size_98 rfl (lv_at hl 0 rfl) ?_
      refine h_get X hR hX rfl in_X1 8 (by decide) q1700 rfl dX1_size_99 ?_
      have hpk_15 := hC
      obtain ⟨bdao_16, acao_16, soo_16, fbo_16, fao_16, Lmo_16, Lro_16, mpo_16, hCto_16, ⟨hbdo_16, hbxo_16⟩, ⟨haco_16, haxo_16⟩, hsoo_16, ⟨⟨mo1o_16, hm1o_16, hlmo_16⟩, hmko_16, hndo_16⟩, ⟨⟨mo2o_16, hm2o_16, hlro_16⟩, hruo_16⟩, ⟨hhmo_16, hmpo_16⟩, hrdo_16, hido_16, hbao_16, hllo_16⟩ := hpk_15
      have hCto_16 : w a = some (a + 1, oE 2 [.int (iI (cSh c)), .int (iI (cRm c)), .ref bdao_16, .ref lm, .ref lr, .ref hm, .ref soo_16, .ref acao_16, .int (iI (cNx c))]) := hCto_16
      have ne_bdao_16_acao_16 : bdao_16 ≠ acao_16 := hbao_16
      have hmlo_16 : Lmo_16.length = (cMk c).length := hmko_16.1
      have hrlo_16 := hruo_16.1
      refine h_getN X hR hCto_16 rfl in_X2 8 (by decide) q614 rfl dX1_size_102 ?_
      refine lv_goto (tgt := 146) hx hb dX1_size_105 (by decide) ?_
      refine vx_ret ?_
      exact h_ireturn hx hb hlk hret hR hL rfl ⟨(congrArg (fun z_ => (qSize c z_).1) c_w).trans rfl, ((congrArg (fun z_ => (qSize c z_).2) c_w).trans rfl).symm, hU⟩ (by omega) (by omega) rfl rfl dX1_size_146
    ·
      refine h_tabIn hx hb 108 dX1_size_1 (by omega) (by omega) (by rw [c_w]; rfl) (by decide) ?_
      refine lv_aload_n hx hb dX1_size_108 rfl (lv_at hl 0 rfl) ?_
      refine h_get X hR hX rfl in_X1 8 (by decide) q1700 rfl dX1_size_109 ?_
      -- call SpokenMarks$Catalogue.shelvesOver
      refine h_kIp (h_runV X hR (ct_ovr l G w a lm lr hm c hC hS hW) pn_yX2_shelvesOver (hC.c) q2254 q1837 q1838 q123 q1839 ⟨by decide, by decide⟩ hl.1 (Nat.le_of_ble_eq_true rfl) dX1_size_112 ⟨by omega, by omega⟩) hL (fun H locs hR hL => ?_)
      refine lv_goto (tgt := 146) hx hb dX1_size_115 (by decide) ?_
      refine vx_ret ?_
      exact h_ireturn hx hb hlk hret hR hL rfl ⟨(congrArg (fun z_ => (qSize c z_).1) c_w).trans rfl, ((congrArg (fun z_ => (qSize c z_).2) c_w).trans rfl).symm, hU⟩ (by omega) (by omega) rfl rfl dX1_size_146
    ·
      refine h_tabIn hx hb 118 dX1_size_1 (by omega) (by omega) (by rw [c_w]; rfl) (by decide) ?_
      refine lv_aload_n hx hb dX1_size_118 rfl (lv_at hl 0 rfl) ?_
      refine h_get X hR hX rfl in_X1 8 (by decide) q1700 rfl dX1_size_119 ?_
      -- call SpokenMarks$Catalogue.widths
      refine h_kI (h_runV X hR (ct_wds l G w a lm lr hm c hC hS hU.2.2.1) pn_yX2_widths (hC.c) q2255 q2256 q2257 q123 q2258 ⟨by decide, by decide⟩ hl.1 (Nat.le_of_ble_eq_true rfl) dX1_size_122 ⟨by omega, by omega⟩) hL (fun z_20 w_21 hp_22 H locs hR hL => ?_)
      obtain ⟨rfl, u_23⟩ := hp_22
      have hF_x_w_21 : w_21 x = some (x + 1, oE 0 [.ref bf, .ref hq, .int (iI (nb)), .int (iI (er)), .int (iI (ca)), .int (iI (dn)), .int (iI (rf)), .int (iI (ud)), .ref a, sv, .ref fs]) := u_23.1 _ _ _ hX (by first | exact id | exact fun q_ => absurd q_ (by first | assumption | exact Ne9.p (by assumption)) | exact fun q_ => absurd (Nat.succ.inj q_) (by first | assumption | exact Ne9.p (by assumption)) | exact fun q_ => absurd q_.symm (Nat.succ_ne_zero _) | exact fun q_ => absurd (Nat.succ.inj q_).symm (by first | assumption | exact Ne9.p (by assumption)) | (intro q_; (try dsimp only at q_); rcases q_ with q_ | q_ | q_ | q_ | q_ <;> first | exact absurd q_ (by first | assumption | exact Ne9.p (by assumption)) | exact absurd (Nat.succ.inj q_) (by first | assumption | exact Ne9.p (by assumption)) | exact absurd q_.symm (Nat.succ_ne_zero _) | exact absurd (Nat.succ.inj q_).symm (by first | assumption | exact Ne9.p (by assumption))) | (intro q_; (try dsimp only at q_); rcases q_ with q_ | q_ | q_ | q_ <;> first | exact absurd q_ (by first | assumption | exact Ne9.p (by assumption)) | exact absurd (Nat.succ.inj q_) (by first | assumption | exact Ne9.p (by assumption)) | exact absurd q_.symm (Nat.succ_ne_zero _) | exact absurd (Nat.succ.inj q_).symm (by first | assumption | exact Ne9.p (by assumption))) | (intro q_; (try dsimp only at q_); rcases q_ with q_ | q_ <;> first | exact absurd q_ (by first | assumption | exact Ne9.p (by assumption)) | exact absurd (Nat.succ.inj q_) (by first | assumption | exact Ne9.p (by assumption)) | exact absurd q_.symm (Nat.succ_ne_zero _) | exact absurd (Nat.succ.inj q_).symm (by first | assumption | exact Ne9.p (by assumption))) | (intro q_; (try dsimp only at q_); omega))
      have hP_a_w_21 := hC.mv (u_23.1) ⟨(by first | exact id | exact fun q_ => absurd q_ (by first | assumption | exact Ne9.p (by assumption)) | exact fun q_ => absurd (Nat.succ.inj q_) (by first | assumption | exact Ne9.p (by assumption)) | exact fun q_ => absurd q_.symm (Nat.succ_ne_zero _) | exact fun q_ => absurd (Nat.succ.inj q_).symm (by first | assumption | exact Ne9.p (by assumption)) | (intro q_; (try dsimp only at q_); rcases q_ with q_ | q_ | q_ | q_ | q_ <;> first | exact absurd q_ (by first | assumption | exact Ne9.p (by assumption)) | exact absurd (Nat.succ.inj q_) (by first | assumption | exact Ne9.p (by assumption)) | exact absurd q_.symm (Nat.succ_ne_zero _) | exact absurd (Nat.succ.inj q_).symm (by first | assumption | exact Ne9.p (by assumption))) | (intro q_; (try dsimp only at q_); rcases q_ with q_ | q_ | q_ | q_ <;> first | exact absurd q_ (by first | assumption | exact Ne9.p (by assumption)) | exact absurd (Nat.succ.inj q_) (by first | assumption | exact Ne9.p (by assumption)) | exact absurd q_.symm (Nat.succ_ne_zero _) | exact absurd (Nat.succ.inj q_).symm (by first | assumption | exact Ne9.p (by assumption))) | (intro q_; (try dsimp only at q_); rcases q_ with q_ | q_ <;> first | exact absurd q_ (by first | assumption | exact Ne9.p (by assumption)) | exact absurd (Nat.succ.inj q_) (by first | assumption | exact Ne9.p (by assumption)) | exact absurd q_.symm (Nat.succ_ne_zero _) | exact absurd (Nat.succ.inj q_).symm (by first | assumption | exact Ne9.p (by assumption))) | (intro q_; (try dsimp only at q_); omega)), (by first | exact id | exact fun q_ => absurd q_ (by first | assumption | exact Ne9.p (by assumption)) | exact fun q_ => absurd (Nat.succ.inj q_) (by first | assumption | exact Ne9.p (by assumption)) | exact fun q_ => absurd q_.symm (Nat.succ_ne_zero _) | exact fun q_ => absurd (Nat.succ.inj q_).symm (by first | assumption | exact Ne9.p (by assumption)) | (intro q_; (try dsimp only at q_); rcases q_ with q_ | q_ | q_ | q_ | q_ <;> first | exact absurd q_ (by first | assumption | exact Ne9.p (by assumption)) | exact absurd (Nat.succ.inj q_) (by first | assumption | exact Ne9.p (by assumption)) | exact absurd q_.symm (Nat.succ_ne_zero _) | exact absurd (Nat.succ.inj q_).symm (by first | assumption | exact Ne9.p (by assumption))) | (intro q_; (try dsimp only at q_); rcases q_ with q_ | q_ | q_ | q_ <;> first | exact absurd q_ (by first | assumption | exact Ne9.p (by assumption)) | exact absurd (Nat.succ.inj q_) (by first | assumption | exact Ne9.p (by assumption)) | exact absurd q_.symm (Nat.succ_ne_zero _) | exact absurd (Nat.succ.inj q_).symm (by first | assumption | exact Ne9.p (by assumption))) | (intro q_; (try dsimp only at q_); rcases q_ with q_ | q_ <;> first | exact absurd q_ (by first | assumption | exact Ne9.p (by assumption)) | exact absurd (Nat.succ.inj q_) (by first | assumption | exact Ne9.p (by assumption)) | exact absurd q_.symm (Nat.succ_ne_zero _) | exact absurd (Nat.succ.inj q_).symm (by first | assumption | exact Ne9.p (by assumption))) | (intro q_; (try dsimp only at q_); omega)), (by first | exact id | exact fun q_ => absurd q_ (by first | assumption | exact Ne9.p (by assumption)) | exact fun q_ => absurd (Nat.succ.inj q_) (by first | assumption | exact Ne9.p (by assumption)) | exact fun q_ => absurd q_.symm (Nat.succ_ne_zero _) | exact fun q_ => absurd (Nat.succ.inj q_).symm (by first | assumption | exact Ne9.p (by assumption)) | (intro q_; (try dsimp only at q_); rcases q_ with q_ | q_ | q_ | q_ | q_ <;> first | exact absurd q_ (by first | assumption | exact Ne9.p (by assumption)) | exact absurd (Nat.succ.inj q_) (by first | assumption | exact Ne9.p (by assumption)) | exact absurd q_.symm (Nat.succ_ne_zero _) | exact absurd (Nat.succ.inj q_).symm (by first | assumption | exact Ne9.p (by assumption))) | (intro q_; (try dsimp only at q_); rcases q_ with q_ | q_ | q_ | q_ <;> first | exact absurd q_ (by first | assumption | exact Ne9.p (by assumption)) | exact absurd (Nat.succ.inj q_) (by first | assumption | exact Ne9.p (by assumption)) | exact absurd q_.symm (Nat.succ_ne_zero _) | exact absurd (Nat.succ.inj q_).symm (by first | assumption | exact Ne9.p (by assumption))) | (intro q_; (try dsimp only at q_); rcases q_ with q_ | q_ <;> first | exact absurd q_ (by first | assumption | exact Ne9.p (by assumption)) | exact absurd (Nat.succ.inj q_) (by first | assumption | exact Ne9.p (by assumption)) | exact absurd q_.symm (Nat.succ_ne_zero _) | exact absurd (Nat.succ.inj q_).symm (by first | assumption | exact Ne9.p (by assumption))) | (intro q_; (try dsimp only at q_); omega)), (by first | exact id | exact fun q_ => absurd q_ (by first | assumption | exact Ne9.p (by assumption)) | exact fun q_ => absurd (Nat.succ.inj q_) (by first | assumption | exact Ne9.p (by assumption)) | exact fun q_ => absurd q_.symm (Nat.succ_ne_zero _) | exact fun q_ => absurd (Nat.succ.inj q_).symm (by first | assumption | exact Ne9.p (by assumption)) | (intro q_; (try dsimp only at q_); rcases q_ with q_ | q_ | q_ | q_ | q_ <;> first | exact absurd q_ (by first | assumption | exact Ne9.p (by assumption)) | exact absurd (Nat.succ.inj q_) (by first | assumption | exact Ne9.p (by assumption)) | exact absurd q_.symm (Nat.succ_ne_zero _) | exact absurd (Nat.succ.inj q_).symm (by first | assumption | exact Ne9.p (by assumption))) | (intro q_; (try dsimp only at q_); rcases q_ with q_ | q_ | q_ | q_ <;> first | exact absurd q_ (by first | assumption | exact Ne9.p (by assumption)) | exact absurd (Nat.succ.inj q_) (by first | assumption | exact Ne9.p (by assumption)) | exact absurd q_.symm (Nat.succ_ne_zero _) | exact absurd (Nat.succ.inj q_).symm (by first | assumption | exact Ne9.p (by assumption))) | (intro q_; (try dsimp only at q_); rcases q_ with q_ | q_ <;> first | exact absurd q_ (by first | assumption | exact Ne9.p (by assumption)) | exact absurd (Nat.succ.inj q_) (by first | assumption | exact Ne9.p (by assumption)) | exact absurd q_.symm (Nat.succ_ne_zero _) | exact absurd (Nat.succ.inj q_).symm (by first | assumption | exact Ne9.p (by assumption))) | (intro q_; (try dsimp only at q_); omega)), (by first | exact id | exact fun q_ => absurd q_ (by first | assumption | exact Ne9.p (by assumption)) | exact fun q_ => absurd (Nat.succ.inj q_) (by first | assumption | exact Ne9.p (by assumption)) | exact fun q_ => absurd q_.symm (Nat.succ_ne_zero _) | exact fun q_ => absurd (Nat.succ.inj q_).symm (by first | assumption | exact Ne9.p (by assumption)) | (intro q_; (try dsimp only at q_); rcases q_ with q_ | q_ | q_ | q_ | q_ <;> first | exact absurd q_ (by first | assumption | exact Ne9.p (by assumption)) | exact absurd (Nat.succ.inj q_) (by first | assumption | exact Ne9.p (by assumption)) | exact absurd q_.symm (Nat.succ_ne_zero _) | exact absurd (Nat.succ.inj q_).symm (by first | assumption | exact Ne9.p (by assumption))) | (intro q_; (try dsimp only at q_); rcases q_ with q_ | q_ | q_ | q_ <;> first | exact absurd q_ (by first | assumption | exact Ne9.p (by assumption)) | exact absurd (Nat.succ.inj q_) (by first | assumption | exact Ne9.p (by assumption)) | exact absurd q_.symm (Nat.succ_ne_zero _) | exact absurd (Nat.succ.inj q_).symm (by first | assumption | exact Ne9.p (by assumption))) | (intro q_; (try dsimp only at q_); rcases q_ with q_ | q_ <;> first | exact absurd q_ (by first | assumption | exact Ne9.p (by assumption)) | exact absurd (Nat.succ.inj q_) (by first | assumption | exact Ne9.p (by assumption)) | exact absurd q_.symm (Nat.succ_ne_zero _) | exact absurd (Nat.succ.inj q_).symm (by first | assumption | exact Ne9.p (by assumption))) | (intro q_; (try dsimp only at q_); omega))⟩
      have hU : Up (fun _ => False) w w_21 := hU.tr u_23 (fun q_ h_ => by first | exact absurd h_ id | exact Or.inl h_ | exact Or.inr (up_nw h_ (by assumption)) | exact Or.inl (Or.inl h_) | exact Or.inl (Or.inr h_) | exact Or.inl (Or.inr h_) | (rcases h_ with h_ | h_ | h_ | h_ | h_ <;> first | exact Or.inl h_ | exact Or.inr (up_nw h_ (by assumption))) | (rcases h_ with h_ | h_ | h_ | h_ <;> first | exact Or.inl h_ | exact Or.inr (up_nw h_ (by assumption))) | (rcases h_ with h_ | h_ <;> first | exact Or.inl h_ | exact Or.inr (up_nw h_ (by assumption)))) hG
      refine lv_goto (tgt := 146) hx hb dX1_size_125 (by decide) ?_
      refine vx_ret ?_
      exact h_ireturn hx hb hlk hret hR hL rfl ⟨(congrArg (fun z_ => (qSize c z_).1) c_w).trans rfl, ((congrArg (fun z_ => (qSize c z_).2) c_w).trans rfl).symm, hU⟩ (by omega) (by omega) rfl rfl dX1_size_146
    ·
      refine h_tabIn hx hb 128 dX1_size_1 (by omega) (by omega) (by rw [c_w]; rfl) (by decide) ?_
      refine lv_aload_n hx hb dX1_size_128 rfl (lv_at hl 0 rfl) ?_
      refine h_get X hR hX rfl in_X1 8 (by decide) q1700 rfl dX1_size_129 ?_
      -- call SpokenMarks$Catalogue.leastStep
      refine h_kIp (h_runV X hR (ct_lsT l G w a lm lr hm c hC hS hW) pn_yX2_leastStep (hC.c) q2259 q2260 q2261 q123 q2262 ⟨by decide, by decide⟩ hl.1 (Nat.le_of_ble_eq_true rfl) dX1_size_132 ⟨by omega, by omega⟩) hL (fun H locs hR hL => ?_)
      refine lv_goto (tgt := 146) hx hb dX1_size_135 (by decide) ?_
      refine vx_ret ?_
      exact h_ireturn hx hb hlk hret hR hL rfl ⟨(congrArg (fun z_ => (qSize c z_).1) c_w).trans rfl, ((congrArg (fun z_ => (qSize c z_).2) c_w).trans rfl).symm, hU⟩ (by omega) (by omega) rfl rfl dX1_size_146
  ·
    refine h_tabOut hx hb 138 dX1_size_1 (by omega) (by omega) (by decide) ?_
    exact h_throw0 X hR hL hSt (names := ["java/lang/RuntimeException", "java/lang/Exception"]) (by decide +kernel) (by decide +kernel) q2048 q129 xat_SpokenMarks_9 (pU := [false, false, false, false, false, false, false, true, false, false]) (pN := [false, false, false, false, false, false, false, true, false, true, false]) rfl rfl q249 q251 q126 hl.1 dX1_size_138 dX1_size_141 dX1_size_142 dX1_size_145 (fun x_ hx_ => htab x_ hx_ _) (by decide) (Nat.le_of_ble_eq_true rfl) (by omega) (by omega) hlk (fun _ => ⟨⟨(by unfold qSize ans; rw [if_neg c_w_in]; try rfl), rfl⟩, hU⟩) rfl rfl

set_option maxHeartbeats 4000000 in
set_option maxRecDepth 100000 in
/-- SpokenMarks.account -/
theorem sm_acc (l : Launch) (G : Gl) (w : Wd) (hSt : l.stackTraces = false) (a lm lr hm : Nat) (c : Cat) (hC : CatAt G w a lm lr hm c) (hS : CatS c) (hW : CatW c) (x bf hq fs : Nat) (nb er ca dn rf ud : Int) (sv : Value) (hX : w x = some (x + 1, oE 0 [.ref bf, .ref hq, .int (iI (nb)), .int (iI (er)), .int (iI (ca)), .int (iI (dn)), .int (iI (rf)), .int (iI (ud)), .ref a, sv, .ref fs])) (what : Int) (h1 : R32 what) (hG : RegW w) : HMX l yX1_account cX1_account 2 (some .int) 10 2 12 G [.ref x, .int (iI (what))] w (QI G (fun z_ w_ => (qAcc c dn rf ud what).1 = 0 ∧ z_ = (qAcc c dn rf ud what).2 ∧ Up (fun _ => False) w w_)) (fun q_ E_ w_ => ((qAcc c dn rf ud what).1 = 1 ∧ E_ = "java/lang/IllegalArgumentException") ∧ Up (fun _ => False) w w_) := by
  refine HMX.mk (by decide +kernel) (Nat.le_of_ble_eq_true rfl) ?_
  intro p9 e9 s9 m9 a9 b9 meth9 c9 ls X hret hlk hnm htab hl H hR
  have hx := X.1.1
  have hb := X.1.2.1
  have hl : lv_has ls 2 [(0, .ref x), (1, .int (iI (what)))] := hl
  have hL : LK G [] := fun q h => absurd h List.not_mem_nil
  generalize ([] : List Loc) = locs at hL ⊢
  have hU : Up (fun _ => False) w w := Up.rf hG
  have hC0 := hC
  obtain ⟨bda, aca, so, fb, fa, Lm, Lr, mp, hCt, ⟨hbd, hbx⟩, ⟨hac, hax⟩, hso, ⟨⟨mo1, hm1, hlm⟩, hmk, hnd⟩, ⟨⟨mo2, hm2, hlr⟩, hru⟩, ⟨hhm, hmp⟩, hrd, hid, hba, hll⟩ := hC
  have hCt : w a = some (a + 1, oE 2 [.int (iI (cSh c)), .int (iI (cRm c)), .ref bda, .ref lm, .ref lr, .ref hm, .ref so, .ref aca, .int (iI (cNx c))]) := hCt
  have s1 := hS.1
  have s2 := hS.2.1
  have s3 := hS.2.2.1
  have s4 := hS.2.2.2.1.1
  have hRW := hS.2.2.2.2.1
  have s5 := hRW.1
  have s6 := hS.2.2.2.2.2
  have hml : Lm.length = cN c := hmk.1
  have hrl := hru.1
  refine lv_iload_n hx hb dX1_account_0 rfl (lv_at hl 1 rfl) ?_
  refine h_iconst hx hb dX1_account_1 ?_
  refine h_iconst hx hb dX1_account_2 ?_
  -- call SpokenMarks.inRange
  refine h_kIp (h_runS X hR (c_inr l G w what 0 5 (by omega) (by omega) (by omega)) pn_yX1_inRange q1740 q1741 q120 q1742 ⟨by decide, by decide⟩ hl.1 (Nat.le_of_ble_eq_true rfl) dX1_account_3 ⟨by omega, by omega⟩) hL (fun H locs hR hL => ?_)
  -- call SpokenMarks.require
  refine h_xV (h_xrunS X hR (sm_req l G w hSt (b2i (0 ≤ what ∧ what ≤ 5)) (b2i_01 _)) pn_yX1_require q2045 q2046 q120 q2047 ⟨by decide, by decide⟩ hl.1 (Nat.le_of_ble_eq_true rfl) dX1_account_6 ⟨by omega, by omega⟩) hL (fun xq_7 E_8 ce_ w_9 hx__10 H locs hR hL hce_ hcv_ hcl_ => ?_) (fun w_5 hp_6 H locs hR hL => ?_)
  ·
    obtain ⟨hno_11, rfl, rfl⟩ := hx__10
    exact h_xout (fun x_ hx_ => htab x_ hx_ _) hlk hce_ hcv_ hcl_ hR hL ⟨⟨(by unfold qAcc ans; rw [if_neg (fun q_ => b2i_0.mp hno_11 ⟨q_.1, q_.2⟩)]; try rfl), rfl⟩, hU⟩ (by omega) (by omega) rfl rfl
  ·
    obtain ⟨c_k, rfl⟩ := hp_6
    have c_k2 := b2i_n1.mp c_k
    refine lv_iload_n hx hb dX1_account_9 rfl (lv_at hl 1 rfl) ?_
    refine h_if_ne hx hb 20 dX1_account_10 (by decide) (by omega) (fun c_0 => ?_) (fun c_0 => ?_)
    ·
      refine lv_iload_n hx hb dX1_account_20 rfl (lv_at hl 1 rfl) ?_
      refine h_iconst hx hb dX1_account_21 ?_
      refine h_icmp_ne hx hb 32 dX1_account_22 (by decide) (by omega) (by omega) (fun c_1 => ?_) (fun c_1 => ?_)
      ·
        refine lv_iload_n hx hb dX1_account_32 rfl (lv_at hl 1 rfl) ?_
        refine h_iconst hx hb dX1_account_33 ?_
        refine h_icmp_ne hx hb 44 dX1_account_34 (by decide) (by omega) (by omega) (fun c_2 => ?_) (fun c_2 => ?_)
        ·
          refine lv_aload_n hx hb dX1_account_44 rfl (lv_at hl 0 rfl) ?_
          refine h_get X hR hX rfl in_X1 8 (by decide) q1700 rfl dX1_account_45 ?_
          refine h_getN X hR hCt rfl in_X2 7 (by decide) q612 rfl dX1_account_48 ?_
          refine lv_iload_n hx hb dX1_account_51 rfl (lv_at hl 1 rfl) ?_
          refine h_iconst hx hb dX1_account_52 ?_
          refine h_isub hx hb dX1_account_53 ?_
          refine h_iald X hR hac (by omega) (by omega) dX1_account_54 ?_
          refine W.eq (g2 := F0 m9 55 ls [.int (iI (cAc c (what - 3).toNat))]) (congrArg (fun z_ : Int => F0 m9 55 ls [.int (iI (z_))]) (show (fa (what - 3).toNat : Int) = cAc c (what - 3).toNat from (by exact hax _ (by omega)))) ?_
          refine vx_ret ?_
          exact h_ireturn hx hb hlk hret hR hL rfl ⟨(by unfold qAcc ans; rw [if_pos ⟨c_k2.1, c_k2.2⟩, if_pos (by omega)]; try rfl), (by unfold qAcc ans; rw [if_pos ⟨c_k2.1, c_k2.2⟩, if_pos (by omega)]; try rfl), hU⟩ (by omega) (by omega) rfl rfl dX1_account_55
        ·
          refine lv_aload_n hx hb dX1_account_37 rfl (lv_at hl 0 rfl) ?_
          refine h_get X hR hX rfl in_X1 7 (by decide) q1699 rfl dX1_account_38 ?_
          refine lv_goto (tgt := 55) hx hb dX1_account_41 (by decide) ?_
          refine vx_ret ?_
          exact h_ireturn hx hb hlk hret hR hL rfl ⟨(by unfold qAcc ans; rw [if_pos ⟨c_k2.1, c_k2.2⟩, if_neg (by omega), if_neg (by omega), if_neg (by omega)]; try rfl), (by unfold qAcc ans; rw [if_pos ⟨c_k2.1, c_k2.2⟩, if_neg (by omega), if_neg (by omega), if_neg (by omega)]; try rfl), hU⟩ (by omega) (by omega) rfl rfl dX1_account_55
      ·
        refine lv_aload_n hx hb dX1_account_25 rfl (lv_at hl 0 rfl) ?_
        refine h_get X hR hX rfl in_X1 6 (by decide) q1698 rfl dX1_account_26 ?_
        refine lv_goto (tgt := 55) hx hb dX1_account_29 (by decide) ?_
        refine vx_ret ?_
        exact h_ireturn hx hb hlk hret hR hL rfl ⟨(by unfold qAcc ans; rw [if_pos ⟨c_k2.1, c_k2.2⟩, if_neg (by omega), if_neg (by omega), if_pos c_1]; try rfl), (by unfold qAcc ans; rw [if_pos ⟨c_k2.1, c_k2.2⟩, if_neg (by omega), if_neg (by omega), if_pos c_1]; try rfl), hU⟩ (by omega) (by omega) rfl rfl dX1_account_55
    ·
      refine lv_aload_n hx hb dX1_account_13 rfl (lv_at hl 0 rfl) ?_
      refine h_get X hR hX rfl in_X1 5 (by decide) q1697 rfl dX1_account_14 ?_
      refine lv_goto (tgt := 55) hx hb dX1_account_17 (by decide) ?_
      refine vx_ret ?_
      exact h_ireturn hx hb hlk hret hR hL rfl ⟨(by unfold qAcc ans; rw [if_pos ⟨c_k2.1, c_k2.2⟩, if_neg (by omega), if_pos c_0]; try rfl), (by unfold qAcc ans; rw [if_pos ⟨c_k2.1, c_k2.2⟩, if_neg (by omega), if_pos c_0]; try rfl), hU⟩ (by omega) (by omega) rfl rfl dX1_account_55

set_option maxHeartbeats 4000000 in
set_option maxRecDepth 100000 in
/-- SpokenMarks.mark -/
theorem sm_mark (l : Launch) (G : Gl) (w : Wd) (hSt : l.stackTraces = false) (a lm lr hm : Nat) (c : Cat) (hC : CatAt G w a lm lr hm c) (hS : CatS c) (hW : CatW c) (x bf hq fs : Nat) (nb er ca dn rf ud : Int) (sv : Value) (hX : w x = some (x + 1, oE 0 [.ref bf, .ref hq, .int (iI (nb)), .int (iI (er)), .int (iI (ca)), .int (iI (dn)), .int (iI (rf)), .int (iI (ud)), .ref a, sv, .ref fs])) (id what : Int) (h1 : R32 id) (h2 : R32 what) (hG : RegW w) : HMX l yX1_mark cX1_mark 4 (some .int) 10 2 12 G [.ref x, .int (iI (id)), .int (iI (what))] w (QI G (fun z_ w_ => (qMark c id what).1 = 0 ∧ z_ = (qMark c id what).2 ∧ Up (fun _ => False) w w_)) (fun q_ E_ w_ => ((qMark c id what).1 = 1 ∧ E_ = "java/util/NoSuchElementException" ∨ (qMark c id what).1 = 2 ∧ E_ = "java/lang/IllegalArgumentException") ∧ Up (fun _ => False) w w_) := by
  refine HMX.mk (by decide +kernel) (Nat.le_of_ble_eq_true rfl) ?_
  intro p9 e9 s9 m9 a9 b9 meth9 c9 ls X hret hlk hnm htab hl H hR
  have hx := X.1.1
  have hb := X.1.2.1
  have hl : lv_has ls 4 [(0, .ref x), (1, .int (iI (id))), (2, .int (iI (what)))] := hl
  have hL : LK G [] := fun q h => absurd h List.not_mem_nil
  generalize ([] : List Loc) = locs at hL ⊢
  have hU : Up (fun _ => False) w w := Up.rf hG
  refine lv_aload_n hx hb dX1_mark_0 rfl (lv_at hl 0 rfl) ?_
  refine lv_iload_n hx hb dX1_mark_1 rfl (lv_at hl 1 rfl) ?_
  -- call SpokenMarks.requireMark
  refine h_xR (h_xrunV X hR (sm_rqM l G w hSt a lm lr hm c hC hS x bf hq fs nb er ca dn rf ud sv hX id h1) pn_yX1_requireMark (hasC.of hX rfl) q2278 q2280 qs24 q120 q2281 ⟨by decide, by decide⟩ hl.1 (Nat.le_of_ble_eq_true rfl) dX1_mark_2 ⟨by omega, by omega⟩) hL (fun xq_3 E_4 ce_ w_5 hx__6 H locs hR hL hce_ hcv_ hcl_ => ?_) (fun mk9 w_1 hp_2 H locs hR hL => ?_)
  ·
    obtain ⟨hno_7, rfl, rfl⟩ := hx__6
    exact h_xout (fun x_ hx_ => htab x_ hx_ _) hlk hce_ hcv_ hcl_ hR hL ⟨Or.inl ⟨(by unfold qMark; rw [if_pos hno_7]; try rfl), rfl⟩, hU⟩ (by omega) (by omega) rfl rfl
  ·
    obtain ⟨c_r, hM__8, rfl⟩ := hp_2
    have hrr := rk_r c id
    have hrl : (rkOf c id).toNat < cN c := by omega
    have hmw9 := hS.mw hrl
    have hmi9 := hmw9.1
    have hmp9 := hmw9.2.2.2
    have hpw9 := hS.pw hrl
    refine lv_astore_n (lv' := [(3, .ref mk9), (0, .ref x), (1, .int (iI (id))), (2, .int (iI (what)))]) hx hb dX1_mark_5 rfl hl (by decide) rfl (fun ls hl => ?_)
    refine lv_iload_n hx hb dX1_mark_6 rfl (lv_at hl 3 rfl) ?_
    by_cases c_w_in : (0 : Int) ≤ what ∧ what ≤ 5
    ·
      have c_w : what = 0 ∨ what = 1 ∨ what = 2 ∨ what = 3 ∨ what = 4 ∨ what = 5 := by omega
      rcases c_w with c_w | c_w | c_w | c_w | c_w | c_w
      ·
        refine h_tabIn hx hb 44 dX1_mark_7 (by omega) (by omega) (by rw [c_w]; rfl) (by decide) ?_
        refine lv_aload_n hx hb dX1_mark_44 rfl (lv_at hl 1 rfl) ?_
        refine h_get X hR hX rfl in_X1 8 (by decide) q1700 rfl dX1_mark_45 ?_
        refine lv_iload_n hx hb dX1_mark_48 rfl (lv_at hl 2 rfl) ?_
        -- call SpokenMarks$Catalogue.rankOf
        refine h_kIp (h_runV X hR (ct_rkOf l G w a lm lr hm c hC hS id h1) pn_yX2_rankOf (hC.c) q2282 q1865 q1866 q123 q1867 ⟨by decide, by decide⟩ hl.1 (Nat.le_of_ble_eq_true rfl) dX1_mark_49 ⟨by omega, by omega⟩) hL (fun H locs hR hL => ?_)
        refine lv_goto (tgt := 110) hx hb dX1_mark_52 (by decide) ?_
        refine vx_ret ?_
        exact h_ireturn hx hb hlk hret hR hL rfl ⟨by rw [c_w]; unfold qMark; rw [if_neg c_r]; rfl, by rw [c_w]; unfold qMark; rw [if_neg c_r]; rfl, hU⟩ (by omega) (by omega) rfl rfl dX1_mark_110
      ·
        refine h_tabIn hx hb 55 dX1_mark_7 (by omega) (by omega) (by rw [c_w]; rfl) (by decide) ?_
        refine lv_aload_n hx hb dX1_mark_55 rfl (lv_at hl 0 rfl) ?_
        obtain ⟨pl_mo_12, mo_121, mo_122⟩ := hM__8
        refine h_getN X hR mo_121 rfl in_X5 3 (by decide) q1549 rfl dX1_mark_56 ?_
        refine lv_goto (tgt := 110) hx hb dX1_mark_59 (by decide) ?_
        refine vx_ret ?_
        exact h_ireturn hx hb hlk hret hR hL rfl ⟨by rw [c_w]; unfold qMark; rw [if_neg c_r]; rfl, by rw [c_w]; unfold qMark; rw [if_neg c_r]; rfl, hU⟩ (by omega) (by omega) rfl rfl dX1_mark_110
      ·
        refine h_tabIn hx hb 62 dX1_mark_7 (by omega) (by omega) (by rw [c_w]; rfl) (by decide) ?_
        refine lv_aload_n hx hb dX1_mark_62 rfl (lv_at hl 0 rfl) ?_
        obtain ⟨pl_mo_13, mo_131, mo_132⟩ := hM__8
        refine h_getN X hR mo_131 rfl in_X5 2 (by decide) q1546 rfl dX1_mark_63 ?_
        refine lv_goto (tgt := 110) hx hb dX1_mark_66 (by decide) ?_
        refine vx_ret ?_
        exact h_ireturn hx hb hlk hret hR hL rfl ⟨by rw [c_w]; unfold qMark; rw [if_neg c_r]; rfl, by rw [c_w]; unfold qMark; rw [if_neg c_r]; rfl, hU⟩ (by omega) (by omega) rfl rfl dX1_mark_110
      ·
        refine h_tabIn hx hb 69 dX1_mark_7 (by omega) (by omega) (by rw [c_w]; rfl) (by decide) ?_
        refine lv_aload_n hx hb dX1_mark_69 rfl (lv_at hl 0 rfl) ?_
        obtain ⟨pl_mo_14, mo_141, mo_142⟩ := hM__8
        refine h_getN X hR mo_141 rfl in_X5 1 (by decide) q1541 rfl dX1_mark_70 ?_
        obtain ⟨mo_hp_15, P_hp_15, hp_15m, hp_15P, hp_15l, hp_15x⟩ := mo_142
        -- call java/util/ArrayList.size
        refine h_k5Ip (h_runF (x := ⟨"java/util/List", "size", "()I"⟩) X hR (ls_size l G w 0 pl_mo_14 5 mo_hp_15 P_hp_15 hp_15P) pn_i_java_util_List_size_0 (hp_15P.c) (kk_face X.2 (by decide +kernel) q1566 q1565 q1570 q1568 q664) q1739 q1569 q1567 q125 q1571 ⟨by decide, by decide⟩ hl.1 (Nat.le_of_ble_eq_true rfl) dX1_mark_73 ⟨by omega, by omega⟩) hL (fun H locs hR hL => ?_)
        refine W.eq (g2 := F0 m9 78 ls [.int (iI (((mPs (mk c (rkOf c id).toNat)).length : Int)))]) (congrArg (fun z_ : Int => F0 m9 78 ls [.int (iI (z_))]) (show ((P_hp_15.length : Int) : Int) = ((mPs (mk c (rkOf c id).toNat)).length : Int) from (by rw [hp_15l]))) ?_
        refine lv_goto (tgt := 110) hx hb dX1_mark_78 (by decide) ?_
        refine vx_ret ?_
        exact h_ireturn hx hb hlk hret hR hL rfl ⟨by rw [c_w]; unfold qMark; rw [if_neg c_r]; rfl, by rw [c_w]; unfold qMark; rw [if_neg c_r]; rfl, hU⟩ (by omega) (by omega) rfl rfl dX1_mark_110
      ·
        refine h_tabIn hx hb 81 dX1_mark_7 (by omega) (by omega) (by rw [c_w]; rfl) (by decide) ?_
        refine lv_aload_n hx hb dX1_mark_81 rfl (lv_at hl 1 rfl) ?_
        refine h_get X hR hX rfl in_X1 8 (by decide) q1700 rfl dX1_mark_82 ?_
        refine lv_aload_n hx hb dX1_mark_85 rfl (lv_at hl 0 rfl) ?_
        obtain ⟨pl_mo_19, mo_191, mo_192⟩ := hM__8
        refine h_getN X hR mo_191 rfl in_X5 3 (by decide) q1549 rfl dX1_mark_86 ?_
        -- call SpokenMarks$Catalogue.shelfOf
        refine h_kIp (h_runV X hR (ct_shO l G w a lm lr hm c hC hS (mPl (mk c (rkOf c id).toNat)) (by omega) (by rw [hW.2.2.2.1]; exact hmp9.1)) pn_yX2_shelfOf (hC.c) q2288 q1849 q1850 q123 q1851 ⟨by decide, by decide⟩ hl.1 (Nat.le_of_ble_eq_true rfl) dX1_mark_89 ⟨by omega, by omega⟩) hL (fun H locs hR hL => ?_)
        refine lv_goto (tgt := 110) hx hb dX1_mark_92 (by decide) ?_
        refine vx_ret ?_
        exact h_ireturn hx hb hlk hret hR hL rfl ⟨by rw [c_w]; unfold qMark; rw [if_neg c_r]; rfl, by rw [c_w]; unfold qMark; rw [if_neg c_r]; rfl, hU⟩ (by omega) (by omega) rfl rfl dX1_mark_110
      ·
        refine h_tabIn hx hb 95 dX1_mark_7 (by omega) (by omega) (by rw [c_w]; rfl) (by decide) ?_
        refine lv_aload_n hx hb dX1_mark_95 rfl (lv_at hl 0 rfl) ?_
        -- call SpokenMarks$Mark.words
        refine h_kIp (h_runV X hR (mk_words l G w mk9 (a + 1) (cRl c) (mk c (rkOf c id).toNat) hM__8 hS.2.2.2.2.1 hpw9) pn_yX5_words (hM__8.c) q2289 q2290 q2291 q154 q2292 ⟨by decide, by decide⟩ hl.1 (Nat.le_of_ble_eq_true rfl) dX1_mark_96 ⟨by omega, by omega⟩) hL (fun H locs hR hL => ?_)
        refine lv_goto (tgt := 110) hx hb dX1_mark_99 (by decide) ?_
        refine vx_ret ?_
        exact h_ireturn hx hb hlk hret hR hL rfl ⟨by rw [c_w]; unfold qMark; rw [if_neg c_r]; rfl, by rw [c_w]; unfold qMark; rw [if_neg c_r]; rfl, hU⟩ (by omega) (by omega) rfl rfl dX1_mark_110
    ·
      refine h_tabOut hx hb 102 dX1_mark_7 (by omega) (by omega) (by decide) ?_
      exact h_throw0 X hR hL hSt (names := ["java/lang/RuntimeException", "java/lang/Exception"]) (by decide +kernel) (by decide +kernel) q2048 q129 xat_SpokenMarks_9 (pU := [false, false, false, false, false, false, false, true, false, false]) (pN := [false, false, false, false, false, false, false, true, false, true, false]) rfl rfl q249 q251 q126 hl.1 dX1_mark_102 dX1_mark_105 dX1_mark_106 dX1_mark_109 (fun x_ hx_ => htab x_ hx_ _) (by decide) (Nat.le_of_ble_eq_true rfl) (by omega) (by omega) hlk (fun _ => ⟨Or.inr ⟨by unfold qMark ans; rw [if_neg c_r, if_neg c_w_in], rfl⟩, hU⟩) rfl rfl

set_option maxHeartbeats 4000000 in
set_option maxRecDepth 100000 in
/-- SpokenMarks.number -/
theorem sm_num (l : Launch) (G : Gl) (w : Wd) (hSt : l.stackTraces = false) (a lm lr hm : Nat) (c : Cat) (hC : CatAt G w a lm lr hm c) (hS : CatS c) (hW : CatW c) (x bf hq fs : Nat) (nb er ca dn rf ud : Int) (sv : Value) (hX : w x = some (x + 1, oE 0 [.ref bf, .ref hq, .int (iI (nb)), .int (iI (er)), .int (iI (ca)), .int (iI (dn)), .int (iI (rf)), .int (iI (ud)), .ref a, sv, .ref fs])) (id k : Int) (h1 : R32 id) (h2 : R32 k) (hG : RegW w) : HMX l yX1_number cX1_number 5 (some .int) 10 2 12 G [.ref x, .int (iI (id)), .int (iI (k))] w (QI G (fun z_ w_ => (qNum c id k).1 = 0 ∧ z_ = (qNum c id k).2 ∧ Up (fun _ => False) w w_)) (fun q_ E_ w_ => ((qNum c id k).1 = 1 ∧ E_ = "java/util/NoSuchElementException") ∧ Up (fun _ => False) w w_) := by
  refine HMX.mk (by decide +kernel) (Nat.le_of_ble_eq_true rfl) ?_
  intro p9 e9 s9 m9 a9 b9 meth9 c9 ls X hret hlk hnm htab hl H hR
  have hx := X.1.1
  have hb := X.1.2.1
  have hl : lv_has ls 5 [(0, .ref x), (1, .int (iI (id))), (2, .int (iI (k)))] := hl
  have hL : LK G [] := fun q h => absurd h List.not_mem_nil
  generalize ([] : List Loc) = locs at hL ⊢
  have hU : Up (fun _ => False) w w := Up.rf hG
  refine lv_aload_n hx hb dX1_number_0 rfl (lv_at hl 0 rfl) ?_
  refine lv_iload_n hx hb dX1_number_1 rfl (lv_at hl 1 rfl) ?_
  refine lv_iload_n hx hb dX1_number_2 rfl (lv_at hl 2 rfl) ?_
  -- call SpokenMarks.requirePart
  refine h_xR (h_xrunV X hR (sm_rqP l G w hSt a lm lr hm c hC hS x bf hq fs nb er ca dn rf ud sv hX id k h1 h2) pn_yX1_requirePart (hasC.of hX rfl) q2306 q2308 qs25 q120 q2309 ⟨by decide, by decide⟩ hl.1 (Nat.le_of_ble_eq_true rfl) dX1_number_3 ⟨by omega, by omega⟩) hL (fun xq_3 E_4 ce_ w_5 hx__6 H locs hR hL hce_ hcv_ hcl_ => ?_) (fun pt9 w_1 hp_2 H locs hR hL => ?_)
  ·
    obtain ⟨hno_7, rfl, rfl⟩ := hx__6
    exact h_xout (fun x_ hx_ => htab x_ hx_ _) hlk hce_ hcv_ hcl_ hR hL ⟨⟨(by unfold qNum ans; rw [if_neg hno_7]; try rfl), rfl⟩, hU⟩ (by omega) (by omega) rfl rfl
  ·
    obtain ⟨c_p, hP__8, rfl⟩ := hp_2
    refine lv_astore (lv' := [(4, .ref pt9), (0, .ref x), (1, .int (iI (id))), (2, .int (iI (k)))]) hx hb dX1_number_6 hl (by decide) rfl (fun ls hl => ?_)
    refine lv_aload hx hb dX1_number_8 (lv_at hl 0 rfl) ?_
    refine h_instF X hR hP__8 q1657 dX1_number_10 ?_
    refine h_if_eq hx hb 29 dX1_number_13 (by decide) (b2i_R9 _) (fun c_i => ?_) (fun c_i => ?_)
    ·
      obtain ⟨L9, hL9⟩ := isFP_r (b2i_0.mp c_i)
      refine h_iconst hx hb dX1_number_29 ?_
      refine vx_ret ?_
      exact h_ireturn hx hb hlk hret hR hL rfl ⟨by unfold qNum ans; rw [if_pos c_p], by unfold qNum ans; rw [if_pos c_p]; show _ = numP (pAt c id k); rw [hL9]; rfl, hU⟩ (by omega) (by omega) rfl rfl dX1_number_30
    ·
      have c_i1 := b2i_n1.mp c_i
      obtain ⟨n9, hn9⟩ := isFP_l c_i1
      have hx_9 : w pt9 = some (0, oE 5 [.int (iI n9)]) := by have h_ := hP__8; rw [hn9] at h_; exact h_
      refine lv_aload hx hb dX1_number_16 (lv_at hl 0 rfl) ?_
      refine h_castS X hR (hasC.of hx_9 rfl) q1657 dX1_number_18 ?_
      refine lv_astore_n (lv' := [(3, .ref pt9), (4, .ref pt9), (0, .ref x), (1, .int (iI (id))), (2, .int (iI (k)))]) hx hb dX1_number_21 rfl hl (by decide) rfl (fun ls hl => ?_)
      refine lv_aload_n hx hb dX1_number_22 rfl (lv_at hl 0 rfl) ?_
      refine h_getN X hR hx_9 rfl in_X9 0 (by decide) q1665 rfl dX1_number_23 ?_
      refine lv_goto (tgt := 30) hx hb dX1_number_26 (by decide) ?_
      refine vx_ret ?_
      exact h_ireturn hx hb hlk hret hR hL rfl ⟨by unfold qNum ans; rw [if_pos c_p], by unfold qNum ans; rw [if_pos c_p]; show _ = numP (pAt c id k); rw [hn9]; rfl, hU⟩ (by omega) (by omega) rfl rfl dX1_number_30

set_option maxHeartbeats 4000000 in
set_option maxRecDepth 100000 in
/-- SpokenMarks.letter -/
theorem sm_let (l : Launch) (G : Gl) (w : Wd) (hSt : l.stackTraces = false) (a lm lr hm : Nat) (c : Cat) (hC : CatAt G w a lm lr hm c) (hS : CatS c) (hW : CatW c) (x bf hq fs : Nat) (nb er ca dn rf ud : Int) (sv : Value) (hX : w x = some (x + 1, oE 0 [.ref bf, .ref hq, .int (iI (nb)), .int (iI (er)), .int (iI (ca)), .int (iI (dn)), .int (iI (rf)), .int (iI (ud)), .ref a, sv, .ref fs])) (id k ee i : Int) (h1 : R32 id) (h2 : R32 k) (h3 : 0 ≤ ee ∧ ee ≤ 1) (h4 : R32 i) (hG : RegW w) : HMX l yX1_letter cX1_letter 7 (some .int) 10 2 12 G [.ref x, .int (iI (id)), .int (iI (k)), .int (iI (ee)), .int (iI (i))] w (QI G (fun z_ w_ => (qLet c id k ee i).1 = 0 ∧ z_ = (qLet c id k ee i).2 ∧ Up (fun _ => False) w w_)) (fun q_ E_ w_ => ((qLet c id k ee i).1 = 1 ∧ E_ = "java/util/NoSuchElementException") ∧ Up (fun _ => False) w w_) := by
  refine HMX.mk (by decide +kernel) (Nat.le_of_ble_eq_true rfl) ?_
  intro p9 e9 s9 m9 a9 b9 meth9 c9 ls X hret hlk hnm htab hl H hR
  have hx := X.1.1
  have hb := X.1.2.1
  have hl : lv_has ls 7 [(0, .ref x), (1, .int (iI (id))), (2, .int (iI (k))), (3, .int (iI (ee))), (4, .int (iI (i)))] := hl
  have hL : LK G [] := fun q h => absurd h List.not_mem_nil
  generalize ([] : List Loc) = locs at hL ⊢
  have hU : Up (fun _ => False) w w := Up.rf hG
  refine lv_aload_n hx hb dX1_letter_0 rfl (lv_at hl 0 rfl) ?_
  refine lv_iload_n hx hb dX1_letter_1 rfl (lv_at hl 1 rfl) ?_
  refine lv_iload_n hx hb dX1_letter_2 rfl (lv_at hl 2 rfl) ?_
  -- call SpokenMarks.requirePart
  refine h_xR (h_xrunV X hR (sm_rqP l G w hSt a lm lr hm c hC hS x bf hq fs nb er ca dn rf ud sv hX id k h1 h2) pn_yX1_requirePart (hasC.of hX rfl) q2306 q2308 qs25 q120 q2309 ⟨by decide, by decide⟩ hl.1 (Nat.le_of_ble_eq_true rfl) dX1_letter_3 ⟨by omega, by omega⟩) hL (fun xq_3 E_4 ce_ w_5 hx__6 H locs hR hL hce_ hcv_ hcl_ => ?_) (fun pt9 w_1 hp_2 H locs hR hL => ?_)
  ·
    obtain ⟨hno_7, rfl, rfl⟩ := hx__6
    exact h_xout (fun x_ hx_ => htab x_ hx_ _) hlk hce_ hcv_ hcl_ hR hL ⟨⟨(by unfold qLet ans; rw [if_neg hno_7]; try rfl), rfl⟩, hU⟩ (by omega) (by omega) rfl rfl
  ·
    obtain ⟨c_p, hP__8, rfl⟩ := hp_2
    refine lv_astore (lv' := [(6, .ref pt9), (0, .ref x), (1, .int (iI (id))), (2, .int (iI (k))), (3, .int (iI (ee))), (4, .int (iI (i)))]) hx hb dX1_letter_6 hl (by decide) rfl (fun ls hl => ?_)
    refine lv_aload hx hb dX1_letter_8 (lv_at hl 0 rfl) ?_
    refine h_instW X hR hP__8 q2318 dX1_letter_10 ?_
    refine h_if_eq hx hb 48 dX1_letter_13 (by decide) (b2i_R9 _) (fun c_i => ?_) (fun c_i => ?_)
    ·
      obtain ⟨n9, hn9⟩ := isWP_l (b2i_0.mp c_i)
      refine h_iconst hx hb dX1_letter_48 ?_
      refine vx_ret ?_
      exact h_ireturn hx hb hlk hret hR hL rfl ⟨by unfold qLet ans; rw [if_pos c_p], by unfold qLet ans; rw [if_pos c_p]; show _ = letP _ i; rw [hn9]; split <;> rfl, hU⟩ (by omega) (by omega) rfl rfl dX1_letter_49
    ·
      have c_i1 := b2i_n1.mp c_i
      obtain ⟨L9, hq_14⟩ := isWP_r c_i1
      have hW_11 := hP__8
      rw [hq_14] at hW_11
      obtain ⟨la_9, ea_10, hW_11, hS_12, hT_13⟩ := hW_11
      refine lv_aload hx hb dX1_letter_16 (lv_at hl 0 rfl) ?_
      refine h_castS X hR (hasC.of hW_11 rfl) q2318 dX1_letter_18 ?_
      refine lv_astore (lv' := [(5, .ref pt9), (6, .ref pt9), (0, .ref x), (1, .int (iI (id))), (2, .int (iI (k))), (3, .int (iI (ee))), (4, .int (iI (i)))]) hx hb dX1_letter_21 hl (by decide) rfl (fun ls hl => ?_)
      refine lv_iload_n hx hb dX1_letter_23 rfl (lv_at hl 5 rfl) ?_
      refine h_if_eq hx hb 35 dX1_letter_24 (by decide) (by omega) (fun c_e => ?_) (fun c_e => ?_)
      ·
        refine lv_aload hx hb dX1_letter_35 (lv_at hl 0 rfl) ?_
        refine h_getN X hR hW_11 rfl in_X6 0 (by decide) q1522 rfl dX1_letter_37 ?_
        refine lv_iload hx hb dX1_letter_40 (lv_at hl 6 rfl) ?_
        -- call SpokenMarks.letterAt
        refine h_kIp (h_runS X hR (c_let l G w la_9 L9 hS_12 i h4) pn_yX1_letterAt q2319 q2320 q120 q2321 ⟨by decide, by decide⟩ hl.1 (Nat.le_of_ble_eq_true rfl) dX1_letter_42 ⟨by omega, by omega⟩) hL (fun H locs hR hL => ?_)
        refine lv_goto (tgt := 49) hx hb dX1_letter_45 (by decide) ?_
        refine vx_ret ?_
        exact h_ireturn hx hb hlk hret hR hL rfl ⟨by unfold qLet ans; rw [if_pos c_p], by unfold qLet ans; rw [if_pos c_p]; show _ = letP _ i; rw [hq_14, if_neg (show ¬ ee ≠ 0 from fun q_ => q_ c_e)]; rfl, hU⟩ (by omega) (by omega) rfl rfl dX1_letter_49
      ·
        refine lv_aload hx hb dX1_letter_27 (lv_at hl 0 rfl) ?_
        refine h_getN X hR hW_11 rfl in_X6 1 (by decide) q1526 rfl dX1_letter_29 ?_
        refine lv_goto (tgt := 40) hx hb dX1_letter_32 (by decide) ?_
        refine lv_iload hx hb dX1_letter_40 (lv_at hl 6 rfl) ?_
        -- call SpokenMarks.letterAt
        refine h_kIp (h_runS X hR (c_let l G w ea_10 (earL (spk (cRl c) L9)) hT_13 i h4) pn_yX1_letterAt q2319 q2320 q120 q2321 ⟨by decide, by decide⟩ hl.1 (Nat.le_of_ble_eq_true rfl) dX1_letter_42 ⟨by omega, by omega⟩) hL (fun H locs hR hL => ?_)
        refine lv_goto (tgt := 49) hx hb dX1_letter_45 (by decide) ?_
        refine vx_ret ?_
        exact h_ireturn hx hb hlk hret hR hL rfl ⟨by unfold qLet ans; rw [if_pos c_p], by unfold qLet ans; rw [if_pos c_p]; show _ = letP _ i; rw [hq_14, if_pos (show ee ≠ 0 from c_e)]; rfl, hU⟩ (by omega) (by omega) rfl rfl dX1_letter_49

set_option maxHeartbeats 4000000 in
set_option maxRecDepth 100000 in
/-- SpokenMarks.ruleLetter -/
theorem sm_rlet (l : Launch) (G : Gl) (w : Wd) (hSt : l.stackTraces = false) (a lm lr hm : Nat) (c : Cat) (hC : CatAt G w a lm lr hm c) (hS : CatS c) (hW : CatW c) (x bf hq fs : Nat) (nb er ca dn rf ud : Int) (sv : Value) (hX : w x = some (x + 1, oE 0 [.ref bf, .ref hq, .int (iI (nb)), .int (iI (er)), .int (iI (ca)), .int (iI (dn)), .int (iI (rf)), .int (iI (ud)), .ref a, sv, .ref fs])) (r ee i : Int) (h1 : R32 r) (h3 : 0 ≤ ee ∧ ee ≤ 1) (h4 : R32 i) (hG : RegW w) : HMX l yX1_ruleLetter cX1_ruleLetter 5 (some .int) 10 2 12 G [.ref x, .int (iI (r)), .int (iI (ee)), .int (iI (i))] w (QI G (fun z_ w_ => (qRul c r ee i).1 = 0 ∧ z_ = (qRul c r ee i).2 ∧ Up (fun _ => False) w w_)) (fun q_ E_ w_ => ((qRul c r ee i).1 = 1 ∧ E_ = "java/util/NoSuchElementException") ∧ Up (fun _ => False) w w_) := by
  refine HMX.mk (by decide +kernel) (Nat.le_of_ble_eq_true rfl) ?_
  intro p9 e9 s9 m9 a9 b9 meth9 c9 ls X hret hlk hnm htab hl H hR
  have hx := X.1.1
  have hb := X.1.2.1
  have hl : lv_has ls 5 [(0, .ref x), (1, .int (iI (r))), (2, .int (iI (ee))), (3, .int (iI (i)))] := hl
  have hL : LK G [] := fun q h => absurd h List.not_mem_nil
  generalize ([] : List Loc) = locs at hL ⊢
  have hU : Up (fun _ => False) w w := Up.rf hG
  have hC0 := hC
  obtain ⟨bda, aca, so, fb, fa, Lm, Lr, mp, hCt, ⟨hbd, hbx⟩, ⟨hac, hax⟩, hso, ⟨⟨mo1, hm1, hlm⟩, hmk, hnd⟩, ⟨⟨mo2, hm2, hlr⟩, hru⟩, ⟨hhm, hmp⟩, hrd, hid, hba, hll⟩ := hC
  have hCt : w a = some (a + 1, oE 2 [.int (iI (cSh c)), .int (iI (cRm c)), .ref bda, .ref lm, .ref lr, .ref hm, .ref so, .ref aca, .int (iI (cNx c))]) := hCt
  have s1 := hS.1
  have s2 := hS.2.1
  have s3 := hS.2.2.1
  have s4 := hS.2.2.2.1.1
  have hRW := hS.2.2.2.2.1
  have s5 := hRW.1
  have s6 := hS.2.2.2.2.2
  have hml : Lm.length = cN c := hmk.1
  have hrl := hru.1
  refine lv_aload_n hx hb dX1_ruleLetter_0 rfl (lv_at hl 0 rfl) ?_
  refine lv_iload_n hx hb dX1_ruleLetter_1 rfl (lv_at hl 1 rfl) ?_
  -- call SpokenMarks.requireRule
  refine h_xV (h_xrunV X hR (sm_rqR l G w hSt a lm lr hm c hC0 hS x bf hq fs nb er ca dn rf ud sv hX r h1) pn_yX1_requireRule (hasC.of hX rfl) q2329 q2331 qs26 q120 q2332 ⟨by decide, by decide⟩ hl.1 (Nat.le_of_ble_eq_true rfl) dX1_ruleLetter_2 ⟨by omega, by omega⟩) hL (fun xq_4 E_5 ce_ w_6 hx__7 H locs hR hL hce_ hcv_ hcl_ => ?_) (fun w_2 hp_3 H locs hR hL => ?_)
  ·
    obtain ⟨hno_8, rfl, rfl⟩ := hx__7
    exact h_xout (fun x_ hx_ => htab x_ hx_ _) hlk hce_ hcv_ hcl_ hR hL ⟨⟨(by unfold qRul ans; rw [if_neg hno_8]; try rfl), rfl⟩, hU⟩ (by omega) (by omega) rfl rfl
  ·
    obtain ⟨c_k, rfl⟩ := hp_3
    have hl : lv_has ls 5 [(0, .ref x), (1, .int (iI (((r.toNat : Nat) : Int)))), (2, .int (iI (ee))), (3, .int (iI (i)))] := lv_conv hl (congrArg (fun z_ : Int => ([(0, .ref x), (1, .int (iI (z_))), (2, .int (iI (ee))), (3, .int (iI (i)))] : List (Nat × Value))) (show (r : Int) = ((r.toNat : Nat) : Int) from (by omega)))
    refine lv_aload_n hx hb dX1_ruleLetter_5 rfl (lv_at hl 0 rfl) ?_
    refine h_get X hR hX rfl in_X1 8 (by decide) q1700 rfl dX1_ruleLetter_6 ?_
    refine h_getN X hR hCt rfl in_X2 4 (by decide) q607 rfl dX1_ruleLetter_9 ?_
    refine lv_iload_n hx hb dX1_ruleLetter_12 rfl (lv_at hl 1 rfl) ?_
    -- call java/util/ArrayList.get
    refine h_k5Rp (h_runF (x := ⟨"java/util/List", "get", "(I)Ljava/lang/Object;"⟩) X hR (ls_get l G w (lr + 1) lr 8 mo2 Lr hlr r.toNat (by rw [hrl]; omega)) pn_i_java_util_List_get_1 (hlr.c) (kk_face X.2 (by decide +kernel) q1575 q1574 q1579 q1577 q664) q1744 q1578 q1576 q125 q1580 ⟨by decide, by decide⟩ hl.1 (Nat.le_of_ble_eq_true rfl) dX1_ruleLetter_13 ⟨by omega, by omega⟩) hL (fun H locs hR hL => ?_)
    obtain ⟨fa_hr_12, sa_hr_12, hr_121, hr_122, hr_123⟩ : RuAt G w (Lr.getD r.toNat 0) (gR (cRl c) r.toNat) := RusAt.g hru (show r.toNat < (cRl c).length by omega)
    refine h_castS X hR (hasC.of hr_121 rfl) q636 dX1_ruleLetter_18 ?_
    refine lv_astore (lv' := [(4, .ref (Lr.getD r.toNat 0)), (0, .ref x), (1, .int (iI (((r.toNat : Nat) : Int)))), (2, .int (iI (ee))), (3, .int (iI (i)))]) hx hb dX1_ruleLetter_21 hl (by decide) rfl (fun ls hl => ?_)
    refine lv_iload_n hx hb dX1_ruleLetter_23 rfl (lv_at hl 3 rfl) ?_
    refine h_if_eq hx hb 35 dX1_ruleLetter_24 (by decide) (by omega) (fun c_e => ?_) (fun c_e => ?_)
    ·
      refine lv_aload hx hb dX1_ruleLetter_35 (lv_at hl 0 rfl) ?_
      refine h_getN X hR hr_121 rfl in_X4 0 (by decide) q647 rfl dX1_ruleLetter_37 ?_
      refine lv_iload_n hx hb dX1_ruleLetter_40 rfl (lv_at hl 4 rfl) ?_
      -- call SpokenMarks.letterAt
      refine h_kIp (h_runS X hR (c_let l G w fa_hr_12 (r1 (cRl c) r.toNat) hr_122 i h4) pn_yX1_letterAt q2319 q2320 q120 q2321 ⟨by decide, by decide⟩ hl.1 (Nat.le_of_ble_eq_true rfl) dX1_ruleLetter_41 ⟨by omega, by omega⟩) hL (fun H locs hR hL => ?_)
      refine vx_ret ?_
      exact h_ireturn hx hb hlk hret hR hL rfl ⟨by unfold qRul ans; rw [if_pos c_k], by unfold qRul ans; rw [if_pos c_k, if_neg (show ¬ ee ≠ 0 from fun q_ => q_ c_e)]; rfl, hU⟩ (by omega) (by omega) rfl rfl dX1_ruleLetter_44
    ·
      refine lv_aload hx hb dX1_ruleLetter_27 (lv_at hl 0 rfl) ?_
      refine h_getN X hR hr_121 rfl in_X4 1 (by decide) q650 rfl dX1_ruleLetter_29 ?_
      refine lv_goto (tgt := 40) hx hb dX1_ruleLetter_32 (by decide) ?_
      refine lv_iload_n hx hb dX1_ruleLetter_40 rfl (lv_at hl 4 rfl) ?_
      -- call SpokenMarks.letterAt
      refine h_kIp (h_runS X hR (c_let l G w sa_hr_12 (r2 (cRl c) r.toNat) hr_123 i h4) pn_yX1_letterAt q2319 q2320 q120 q2321 ⟨by decide, by decide⟩ hl.1 (Nat.le_of_ble_eq_true rfl) dX1_ruleLetter_41 ⟨by omega, by omega⟩) hL (fun H locs hR hL => ?_)
      refine vx_ret ?_
      exact h_ireturn hx hb hlk hret hR hL rfl ⟨by unfold qRul ans; rw [if_pos c_k], by unfold qRul ans; rw [if_pos c_k, if_pos (show ee ≠ 0 from c_e)]; rfl, hU⟩ (by omega) (by omega) rfl rfl dX1_ruleLetter_44

set_option maxHeartbeats 4000000 in
set_option maxRecDepth 100000 in
/-- SpokenMarks.shelf -/
theorem sm_shelf (l : Launch) (G : Gl) (w : Wd) (hSt : l.stackTraces = false) (a lm lr hm : Nat) (c : Cat) (hC : CatAt G w a lm lr hm c) (hS : CatS c) (hW : CatW c) (x bf hq fs : Nat) (nb er ca dn rf ud : Int) (sv : Value) (hX : w x = some (x + 1, oE 0 [.ref bf, .ref hq, .int (iI (nb)), .int (iI (er)), .int (iI (ca)), .int (iI (dn)), .int (iI (rf)), .int (iI (ud)), .ref a, sv, .ref fs])) (s what : Int) (h1 : R32 s) (h2 : R32 what) (hG : RegW w) : HMX l yX1_shelf cX1_shelf 3 (some .int) 10 2 12 G [.ref x, .int (iI (s)), .int (iI (what))] w (QI G (fun z_ w_ => (qShf c s what).1 = 0 ∧ z_ = (qShf c s what).2 ∧ Up (fun _ => False) w w_)) (fun q_ E_ w_ => ((qShf c s what).1 = 1 ∧ E_ = "java/util/NoSuchElementException" ∨ (qShf c s what).1 = 2 ∧ E_ = "java/lang/IllegalArgumentException") ∧ Up (fun _ => False) w w_) := by
  refine HMX.mk (by decide +kernel) (Nat.le_of_ble_eq_true rfl) ?_
  intro p9 e9 s9 m9 a9 b9 meth9 c9 ls X hret hlk hnm htab hl H hR
  have hx := X.1.1
  have hb := X.1.2.1
  have hl : lv_has ls 3 [(0, .ref x), (1, .int (iI (s))), (2, .int (iI (what)))] := hl
  have hL : LK G [] := fun q h => absurd h List.not_mem_nil
  generalize ([] : List Loc) = locs at hL ⊢
  have hU : Up (fun _ => False) w w := Up.rf hG
  have s1 := hS.1
  refine lv_aload_n hx hb dX1_shelf_0 rfl (lv_at hl 0 rfl) ?_
  refine lv_iload_n hx hb dX1_shelf_1 rfl (lv_at hl 1 rfl) ?_
  -- call SpokenMarks.requireShelf
  refine h_xV (h_xrunV X hR (sm_rqS l G w hSt a lm lr hm c hC hS x bf hq fs nb er ca dn rf ud sv hX s h1) pn_yX1_requireShelf (hasC.of hX rfl) q2340 q2342 qs27 q120 q2343 ⟨by decide, by decide⟩ hl.1 (Nat.le_of_ble_eq_true rfl) dX1_shelf_2 ⟨by omega, by omega⟩) hL (fun xq_4 E_5 ce_ w_6 hx__7 H locs hR hL hce_ hcv_ hcl_ => ?_) (fun w_2 hp_3 H locs hR hL => ?_)
  ·
    obtain ⟨hno_8, rfl, rfl⟩ := hx__7
    exact h_xout (fun x_ hx_ => htab x_ hx_ _) hlk hce_ hcv_ hcl_ hR hL ⟨Or.inl ⟨(by unfold qShf; rw [if_neg hno_8]; try rfl), rfl⟩, hU⟩ (by omega) (by omega) rfl rfl
  ·
    obtain ⟨c_k, rfl⟩ := hp_3
    refine lv_iload_n hx hb dX1_shelf_5 rfl (lv_at hl 2 rfl) ?_
    by_cases c_w_in : (0 : Int) ≤ what ∧ what ≤ 5
    ·
      have c_w : what = 0 ∨ what = 1 ∨ what = 2 ∨ what = 3 ∨ what = 4 ∨ what = 5 := by omega
      rcases c_w with c_w | c_w | c_w | c_w | c_w | c_w
      ·
        refine h_tabIn hx hb 44 dX1_shelf_6 (by omega) (by omega) (by rw [c_w]; rfl) (by decide) ?_
        refine lv_aload_n hx hb dX1_shelf_44 rfl (lv_at hl 0 rfl) ?_
        refine h_get X hR hX rfl in_X1 8 (by decide) q1700 rfl dX1_shelf_45 ?_
        have hpk_9 := hC
        obtain ⟨bdao_10, acao_10, soo_10, fbo_10, fao_10, Lmo_10, Lro_10, mpo_10, hCto_10, ⟨hbdo_10, hbxo_10⟩, ⟨haco_10, haxo_10⟩, hsoo_10, ⟨⟨mo1o_10, hm1o_10, hlmo_10⟩, hmko_10, hndo_10⟩, ⟨⟨mo2o_10, hm2o_10, hlro_10⟩, hruo_10⟩, ⟨hhmo_10, hmpo_10⟩, hrdo_10, hido_10, hbao_10, hllo_10⟩ := hpk_9
        have hCto_10 : w a = some (a + 1, oE 2 [.int (iI (cSh c)), .int (iI (cRm c)), .ref bdao_10, .ref lm, .ref lr, .ref hm, .ref soo_10, .ref acao_10, .int (iI (cNx c))]) := hCto_10
        have ne_bdao_10_acao_10 : bdao_10 ≠ acao_10 := hbao_10
        have hmlo_10 : Lmo_10.length = (cMk c).length := hmko_10.1
        have hrlo_10 := hruo_10.1
        refine h_getN X hR hCto_10 rfl in_X2 2 (by decide) q596 rfl dX1_shelf_48 ?_
        refine lv_iload_n hx hb dX1_shelf_51 rfl (lv_at hl 1 rfl) ?_
        refine h_iald X hR hbdo_10 (by omega) (by omega) dX1_shelf_52 ?_
        refine W.eq (g2 := F0 m9 53 ls [.int (iI (bd c s.toNat))]) (congrArg (fun z_ : Int => F0 m9 53 ls [.int (iI (z_))]) (show (fbo_10 s.toNat : Int) = bd c s.toNat from (by exact hbxo_10 _ (by omega)))) ?_
        refine lv_goto (tgt := 118) hx hb dX1_shelf_53 (by decide) ?_
        refine vx_ret ?_
        exact h_ireturn hx hb hlk hret hR hL rfl ⟨by rw [c_w]; unfold qShf; rw [if_pos c_k]; rfl, by rw [c_w]; unfold qShf; rw [if_pos c_k]; rfl, hU⟩ (by omega) (by omega) rfl rfl dX1_shelf_118
      ·
        refine h_tabIn hx hb 56 dX1_shelf_6 (by omega) (by omega) (by rw [c_w]; rfl) (by decide) ?_
        refine lv_aload_n hx hb dX1_shelf_56 rfl (lv_at hl 0 rfl) ?_
        refine h_get X hR hX rfl in_X1 8 (by decide) q1700 rfl dX1_shelf_57 ?_
        refine lv_iload_n hx hb dX1_shelf_60 rfl (lv_at hl 1 rfl) ?_
        -- call SpokenMarks$Catalogue.marksOn
        refine h_kIp (h_runV X hR (ct_mkOn l G w a lm lr hm c hC hS hW s c_k) pn_yX2_marksOn (hC.c) q2344 q2345 q2346 q123 q2347 ⟨by decide, by decide⟩ hl.1 (Nat.le_of_ble_eq_true rfl) dX1_shelf_61 ⟨by omega, by omega⟩) hL (fun H locs hR hL => ?_)
        refine lv_goto (tgt := 118) hx hb dX1_shelf_64 (by decide) ?_
        refine vx_ret ?_
        exact h_ireturn hx hb hlk hret hR hL rfl ⟨by rw [c_w]; unfold qShf; rw [if_pos c_k]; rfl, by rw [c_w]; unfold qShf; rw [if_pos c_k]; rfl, hU⟩ (by omega) (by omega) rfl rfl dX1_shelf_118
      ·
        refine h_tabIn hx hb 67 dX1_shelf_6 (by omega) (by omega) (by rw [c_w]; rfl) (by decide) ?_
        refine lv_aload_n hx hb dX1_shelf_67 rfl (lv_at hl 0 rfl) ?_
        refine h_get X hR hX rfl in_X1 8 (by decide) q1700 rfl dX1_shelf_68 ?_
        refine lv_iload_n hx hb dX1_shelf_71 rfl (lv_at hl 1 rfl) ?_
        -- call SpokenMarks$Catalogue.widthOn
        refine h_kIp (h_runV X hR (ct_wdOn l G w a lm lr hm c hC hS hW s c_k) pn_yX2_widthOn (hC.c) q2348 q1845 q1846 q123 q1847 ⟨by decide, by decide⟩ hl.1 (Nat.le_of_ble_eq_true rfl) dX1_shelf_72 ⟨by omega, by omega⟩) hL (fun H locs hR hL => ?_)
        refine lv_goto (tgt := 118) hx hb dX1_shelf_75 (by decide) ?_
        refine vx_ret ?_
        exact h_ireturn hx hb hlk hret hR hL rfl ⟨by rw [c_w]; unfold qShf; rw [if_pos c_k]; rfl, by rw [c_w]; unfold qShf; rw [if_pos c_k]; rfl, hU⟩ (by omega) (by omega) rfl rfl dX1_shelf_118
      ·
        refine h_tabIn hx hb 78 dX1_shelf_6 (by omega) (by omega) (by rw [c_w]; rfl) (by decide) ?_
        refine lv_aload_n hx hb dX1_shelf_78 rfl (lv_at hl 0 rfl) ?_
        refine h_get X hR hX rfl in_X1 8 (by decide) q1700 rfl dX1_shelf_79 ?_
        refine lv_iload_n hx hb dX1_shelf_82 rfl (lv_at hl 1 rfl) ?_
        -- call SpokenMarks$Catalogue.overOn
        refine h_kIp (h_runV X hR (ct_ovOn l G w a lm lr hm c hC hS hW s c_k) pn_yX2_overOn (hC.c) q2349 q1841 q1842 q123 q1843 ⟨by decide, by decide⟩ hl.1 (Nat.le_of_ble_eq_true rfl) dX1_shelf_83 ⟨by omega, by omega⟩) hL (fun H locs hR hL => ?_)
        refine lv_goto (tgt := 118) hx hb dX1_shelf_86 (by decide) ?_
        refine vx_ret ?_
        exact h_ireturn hx hb hlk hret hR hL rfl ⟨by rw [c_w]; unfold qShf; rw [if_pos c_k]; rfl, by rw [c_w]; unfold qShf; rw [if_pos c_k]; show _ = (if cRm c < wdOn c s then wdOn c s - cRm c else 0); split <;> split <;> omega, hU⟩ (by omega) (by omega) rfl rfl dX1_shelf_118
      ·
        refine h_tabIn hx hb 89 dX1_shelf_6 (by omega) (by omega) (by rw [c_w]; rfl) (by decide) ?_
        refine lv_aload_n hx hb dX1_shelf_89 rfl (lv_at hl 0 rfl) ?_
        refine h_get X hR hX rfl in_X1 8 (by decide) q1700 rfl dX1_shelf_90 ?_
        refine lv_iload_n hx hb dX1_shelf_93 rfl (lv_at hl 1 rfl) ?_
        refine lv_iload_n hx hb dX1_shelf_94 rfl (lv_at hl 2 rfl) ?_
        refine h_iconst hx hb dX1_shelf_95 ?_
        refine h_icmp_ne hx hb 103 dX1_shelf_96 (by decide) (by omega) (by omega) (fun c_5 => ?_) (fun c_5 => ?_)
        ·
          refine h_iconst hx hb dX1_shelf_103 ?_
          -- call SpokenMarks$Catalogue.endOn
          refine h_kIp (h_runV X hR (ct_end0 l G w a lm lr hm c hC hS hW s c_k) pn_yX2_endOn (hC.c) q2350 q2351 q2352 q123 q2353 ⟨by decide, by decide⟩ hl.1 (Nat.le_of_ble_eq_true rfl) dX1_shelf_104 ⟨by omega, by omega⟩) hL (fun H locs hR hL => ?_)
          refine lv_goto (tgt := 118) hx hb dX1_shelf_107 (by decide) ?_
          refine vx_ret ?_
          exact h_ireturn hx hb hlk hret hR hL rfl ⟨by rw [c_w]; unfold qShf; rw [if_pos c_k]; rfl, by rw [c_w]; unfold qShf; rw [if_pos c_k]; rfl, hU⟩ (by omega) (by omega) rfl rfl dX1_shelf_118
        ·
          exact absurd (c_w.symm.trans c_5) (by decide)
      ·
        refine h_tabIn hx hb 89 dX1_shelf_6 (by omega) (by omega) (by rw [c_w]; rfl) (by decide) ?_
        refine lv_aload_n hx hb dX1_shelf_89 rfl (lv_at hl 0 rfl) ?_
        refine h_get X hR hX rfl in_X1 8 (by decide) q1700 rfl dX1_shelf_90 ?_
        refine lv_iload_n hx hb dX1_shelf_93 rfl (lv_at hl 1 rfl) ?_
        refine lv_iload_n hx hb dX1_shelf_94 rfl (lv_at hl 2 rfl) ?_
        refine h_iconst hx hb dX1_shelf_95 ?_
        refine h_icmp_ne hx hb 103 dX1_shelf_96 (by decide) (by omega) (by omega) (fun c_5 => ?_) (fun c_5 => ?_)
        ·
          exact absurd c_w c_5
        ·
          refine h_iconst hx hb dX1_shelf_99 ?_
          refine lv_goto (tgt := 104) hx hb dX1_shelf_100 (by decide) ?_
          -- call SpokenMarks$Catalogue.endOn
          refine h_kIp (h_runV X hR (ct_end1 l G w a lm lr hm c hC hS hW s c_k) pn_yX2_endOn (hC.c) q2350 q2351 q2352 q123 q2353 ⟨by decide, by decide⟩ hl.1 (Nat.le_of_ble_eq_true rfl) dX1_shelf_104 ⟨by omega, by omega⟩) hL (fun H locs hR hL => ?_)
          refine lv_goto (tgt := 118) hx hb dX1_shelf_107 (by decide) ?_
          refine vx_ret ?_
          exact h_ireturn hx hb hlk hret hR hL rfl ⟨by rw [c_w]; unfold qShf; rw [if_pos c_k]; rfl, by rw [c_w]; unfold qShf; rw [if_pos c_k]; rfl, hU⟩ (by omega) (by omega) rfl rfl dX1_shelf_118
    ·
      refine h_tabOut hx hb 110 dX1_shelf_6 (by omega) (by omega) (by decide) ?_
      exact h_throw0 X hR hL hSt (names := ["java/lang/RuntimeException", "java/lang/Exception"]) (by decide +kernel) (by decide +kernel) q2048 q129 xat_SpokenMarks_9 (pU := [false, false, false, false, false, false, false, true, false, false]) (pN := [false, false, false, false, false, false, false, true, false, true, false]) rfl rfl q249 q251 q126 hl.1 dX1_shelf_110 dX1_shelf_113 dX1_shelf_114 dX1_shelf_117 (fun x_ hx_ => htab x_ hx_ _) (by decide) (Nat.le_of_ble_eq_true rfl) (by omega) (by omega) hlk (fun _ => ⟨Or.inr ⟨by unfold qShf ans; rw [if_pos c_k, if_neg c_w_in], rfl⟩, hU⟩) rfl rfl

set_option maxHeartbeats 4000000 in
set_option maxRecDepth 100000 in
/-- Integer.signum -/
theorem in_sig (l : Launch) (G : Gl) (w : Wd) (y : Int) (hr : -1000 < y ∧ y < 1000) : HM l yJ17_signum cJ17_signum 1 (some .int) 1 0 0 G [.int (iI (y))] w (QI G (fun z_ w_ => z_ = sgn y ∧ w_ = w)) := by
  refine HM.mk (by decide +kernel) (Nat.le_of_ble_eq_true rfl) ?_
  intro p9 e9 s9 m9 a9 b9 meth9 c9 ls X hret hlk hnm hl H hR
  have hx := X.1.1
  have hb := X.1.2.1
  have hl : lv_has ls 1 [(0, .int (iI (y)))] := hl
  have hL : LK G [] := fun q h => absurd h List.not_mem_nil
  generalize ([] : List Loc) = locs at hL ⊢
  refine lv_iload_n hx hb dJ17_signum_0 rfl (lv_at hl 0 rfl) ?_
  refine h_bipush hx hb dJ17_signum_1 (by decide) ?_
  refine h_ishr hx hb 31 2147483648 dJ17_signum_3 (by omega) (by decide) rfl (by decide) ?_
  refine lv_iload_n hx hb dJ17_signum_4 rfl (lv_at hl 0 rfl) ?_
  refine h_ineg hx hb dJ17_signum_5 ?_
  refine h_bipush hx hb dJ17_signum_6 (by decide) ?_
  refine lv_iushr (v := iI (if 0 < y then 1 else 0)) hx hb dJ17_signum_8 (sg_1 hr) ?_
  refine lv_ior hx hb dJ17_signum_9 ?_
  refine W.eq (g2 := F0 m9 10 ls [.int (iI (sgn y))]) (by rw [sg_2 hr]) ?_
  exact h_ireturn hx hb hlk hret hR hL rfl ⟨rfl, rfl⟩ (by omega) (by omega) rfl rfl dJ17_signum_10

set_option maxHeartbeats 4000000 in
set_option maxRecDepth 100000 in
/-- SpokenMarks.compare -/
theorem sm_cmp (l : Launch) (G : Gl) (w : Wd) (hSt : l.stackTraces = false) (a lm lr hm : Nat) (c : Cat) (hC : CatAt G w a lm lr hm c) (hS : CatS c) (hW : CatW c) (x bf hq fs : Nat) (nb er ca dn rf ud : Int) (sv : Value) (hX : w x = some (x + 1, oE 0 [.ref bf, .ref hq, .int (iI (nb)), .int (iI (er)), .int (iI (ca)), .int (iI (dn)), .int (iI (rf)), .int (iI (ud)), .ref a, sv, .ref fs])) (i j : Int) (h1 : R32 i) (h2 : R32 j) (hG : RegW w) : HMX l yX1_compare cX1_compare 3 (some .int) 15 2 12 G [.ref x, .int (iI (i)), .int (iI (j))] w (QI G (fun z_ w_ => (qCmp c i j).1 = 0 ∧ z_ = (qCmp c i j).2 ∧ Up (fun _ => False) w w_)) (fun q_ E_ w_ => ((qCmp c i j).1 = 1 ∧ E_ = "java/util/NoSuchElementException") ∧ Up (fun _ => False) w w_) := by
  refine HMX.mk (by decide +kernel) (Nat.le_of_ble_eq_true rfl) ?_
  intro p9 e9 s9 m9 a9 b9 meth9 c9 ls X hret hlk hnm htab hl H hR
  have hx := X.1.1
  have hb := X.1.2.1
  have hl : lv_has ls 3 [(0, .ref x), (1, .int (iI (i))), (2, .int (iI (j)))] := hl
  have hL : LK G [] := fun q h => absurd h List.not_mem_nil
  generalize ([] : List Loc) = locs at hL ⊢
  have hU : Up (fun _ => False) w w := Up.rf hG
  have hC0 := hC
  obtain ⟨bda, aca, so, fb, fa, Lm, Lr, mp, hCt, ⟨hbd, hbx⟩, ⟨hac, hax⟩, hso, ⟨⟨mo1, hm1, hlm⟩, hmk, hnd⟩, ⟨⟨mo2, hm2, hlr⟩, hru⟩, ⟨hhm, hmp⟩, hrd, hid, hba, hll⟩ := hC
  have hCt : w a = some (a + 1, oE 2 [.int (iI (cSh c)), .int (iI (cRm c)), .ref bda, .ref lm, .ref lr, .ref hm, .ref so, .ref aca, .int (iI (cNx c))]) := hCt
  have s1 := hS.1
  have s2 := hS.2.1
  have s3 := hS.2.2.1
  have s4 := hS.2.2.2.1.1
  have hRW := hS.2.2.2.2.1
  have s5 := hRW.1
  have s6 := hS.2.2.2.2.2
  have hml : Lm.length = cN c := hmk.1
  have hrl := hru.1
  refine lv_aload_n hx hb dX1_compare_0 rfl (lv_at hl 0 rfl) ?_
  refine h_get X hR hX rfl in_X1 8 (by decide) q1700 rfl dX1_compare_1 ?_
  refine h_getN X hR hCt rfl in_X2 6 (by decide) q610 rfl dX1_compare_4 ?_
  refine lv_aload_n hx hb dX1_compare_7 rfl (lv_at hl 0 rfl) ?_
  refine lv_iload_n hx hb dX1_compare_8 rfl (lv_at hl 1 rfl) ?_
  -- call SpokenMarks.requireMark
  refine h_xR (h_xrunV X hR (sm_rqM l G w hSt a lm lr hm c hC0 hS x bf hq fs nb er ca dn rf ud sv hX i h1) pn_yX1_requireMark (hasC.of hX rfl) q2278 q2280 qs24 q120 q2281 ⟨by decide, by decide⟩ hl.1 (Nat.le_of_ble_eq_true rfl) dX1_compare_9 ⟨by omega, by omega⟩) hL (fun xq_3 E_4 ce_ w_5 hx__6 H locs hR hL hce_ hcv_ hcl_ => ?_) (fun mk1 w_1 hp_2 H locs hR hL => ?_)
  ·
    obtain ⟨hno_7, rfl, rfl⟩ := hx__6
    exact h_xout (fun x_ hx_ => htab x_ hx_ _) hlk hce_ hcv_ hcl_ hR hL ⟨⟨by unfold qCmp ans; rw [if_neg (fun q_ => q_.1 hno_7)], rfl⟩, hU⟩ (by omega) (by omega) rfl rfl
  ·
    obtain ⟨c_1, hM__8, rfl⟩ := hp_2
    have hrr1 := rk_r c i
    have hrl1 : (rkOf c i).toNat < cN c := by omega
    refine lv_aload_n hx hb dX1_compare_12 rfl (lv_at hl 0 rfl) ?_
    refine lv_iload_n hx hb dX1_compare_13 rfl (lv_at hl 2 rfl) ?_
    -- call SpokenMarks.requireMark
    refine h_xR (h_xrunV X hR (sm_rqM l G w hSt a lm lr hm c hC0 hS x bf hq fs nb er ca dn rf ud sv hX j h2) pn_yX1_requireMark (hasC.of hX rfl) q2278 q2280 qs24 q120 q2281 ⟨by decide, by decide⟩ hl.1 (Nat.le_of_ble_eq_true rfl) dX1_compare_14 ⟨by omega, by omega⟩) hL (fun xq_11 E_12 ce_ w_13 hx__14 H locs hR hL hce_ hcv_ hcl_ => ?_) (fun mk2 w_9 hp_10 H locs hR hL => ?_)
    ·
      obtain ⟨hno_15, rfl, rfl⟩ := hx__14
      exact h_xout (fun x_ hx_ => htab x_ hx_ _) hlk hce_ hcv_ hcl_ hR hL ⟨⟨by unfold qCmp ans; rw [if_neg (fun q_ => q_.2 hno_15)], rfl⟩, hU⟩ (by omega) (by omega) rfl rfl
    ·
      obtain ⟨c_2, hM__16, rfl⟩ := hp_10
      have hrr2 := rk_r c j
      have hrl2 : (rkOf c j).toNat < cN c := by omega
      -- call SpokenMarks$Spoken.compare
      refine h_k5Ip (h_runF (x := ⟨"java/util/Comparator", "compare", "(Ljava/lang/Object;Ljava/lang/Object;)I"⟩) X hR (sp_cmpO l G w so hso mk1 mk2 (a + 1) (a + 1) (cRl c) (mk c (rkOf c i).toNat) (mk c (rkOf c j).toNat) hM__8 hM__16 hRW (hS.pw hrl1) (hS.pw hrl2)) pn_i_java_util_Comparator_compare_2 (hasC.of hso rfl) (kk_face X.2 (by decide +kernel) q1592 q1591 q1597 q1595 q1593) q2362 q1596 q1594 q144 q1598 ⟨by decide, by decide⟩ hl.1 (Nat.le_of_ble_eq_true rfl) dX1_compare_17 ⟨by omega, by omega⟩) hL (fun H locs hR hL => ?_)
      have hsp := spM_enc hRW (hS.pw hrl1) (hS.pw hrl2)
      -- call java/lang/Integer.signum
      refine h_kIp (h_runS X hR (in_sig l G w (spM (cRl c) (mPs (mk c (rkOf c i).toNat)) (mPs (mk c (rkOf c j).toNat))) ⟨by omega, by omega⟩) pn_yJ17_signum q2363 q2364 q141 q2365 ⟨by decide, by decide⟩ hl.1 (Nat.le_of_ble_eq_true rfl) dX1_compare_22 ⟨by omega, by omega⟩) hL (fun H locs hR hL => ?_)
      refine vx_ret ?_
      exact h_ireturn hx hb hlk hret hR hL rfl ⟨by unfold qCmp ans; rw [if_pos ⟨c_1, c_2⟩], by unfold qCmp ans; rw [if_pos ⟨c_1, c_2⟩]; exact ((sgn_e (by rcases hsp with ⟨a_, -, b_⟩ | ⟨a_, b_⟩ | ⟨a_, -, b_⟩; exact Or.inl ⟨a_, b_⟩; exact Or.inr (Or.inl ⟨a_, b_⟩); exact Or.inr (Or.inr ⟨a_, b_⟩))).trans (cmp_rk hW hrl1 hrl2)).trans (by congr 1; omega), hU⟩ (by omega) (by omega) rfl rfl dX1_compare_25

set_option maxHeartbeats 4000000 in
set_option maxRecDepth 100000 in
/-- SpokenMarks.differ -/
theorem sm_dif (l : Launch) (G : Gl) (w : Wd) (hSt : l.stackTraces = false) (a lm lr hm : Nat) (c : Cat) (hC : CatAt G w a lm lr hm c) (hS : CatS c) (hW : CatW c) (x bf hq fs : Nat) (nb er ca dn rf ud : Int) (sv : Value) (hX : w x = some (x + 1, oE 0 [.ref bf, .ref hq, .int (iI (nb)), .int (iI (er)), .int (iI (ca)), .int (iI (dn)), .int (iI (rf)), .int (iI (ud)), .ref a, sv, .ref fs])) (i j : Int) (h1 : R32 i) (h2 : R32 j) (hG : RegW w) : HMX l yX1_differ cX1_differ 3 (some .int) 13 2 12 G [.ref x, .int (iI (i)), .int (iI (j))] w (QI G (fun z_ w_ => (qDif c i j).1 = 0 ∧ z_ = (qDif c i j).2 ∧ Up (fun _ => False) w w_)) (fun q_ E_ w_ => ((qDif c i j).1 = 1 ∧ E_ = "java/util/NoSuchElementException") ∧ Up (fun _ => False) w w_) := by
  refine HMX.mk (by decide +kernel) (Nat.le_of_ble_eq_true rfl) ?_
  intro p9 e9 s9 m9 a9 b9 meth9 c9 ls X hret hlk hnm htab hl H hR
  have hx := X.1.1
  have hb := X.1.2.1
  have hl : lv_has ls 3 [(0, .ref x), (1, .int (iI (i))), (2, .int (iI (j)))] := hl
  have hL : LK G [] := fun q h => absurd h List.not_mem_nil
  generalize ([] : List Loc) = locs at hL ⊢
  have hU : Up (fun _ => False) w w := Up.rf hG
  have hRW := hS.2.2.2.2.1
  refine lv_aload_n hx hb dX1_differ_0 rfl (lv_at hl 0 rfl) ?_
  refine lv_iload_n hx hb dX1_differ_1 rfl (lv_at hl 1 rfl) ?_
  -- call SpokenMarks.requireMark
  refine h_xR (h_xrunV X hR (sm_rqM l G w hSt a lm lr hm c hC hS x bf hq fs nb er ca dn rf ud sv hX i h1) pn_yX1_requireMark (hasC.of hX rfl) q2278 q2280 qs24 q120 q2281 ⟨by decide, by decide⟩ hl.1 (Nat.le_of_ble_eq_true rfl) dX1_differ_2 ⟨by omega, by omega⟩) hL (fun xq_3 E_4 ce_ w_5 hx__6 H locs hR hL hce_ hcv_ hcl_ => ?_) (fun mk1 w_1 hp_2 H locs hR hL => ?_)
  ·
    obtain ⟨hno_7, rfl, rfl⟩ := hx__6
    exact h_xout (fun x_ hx_ => htab x_ hx_ _) hlk hce_ hcv_ hcl_ hR hL ⟨⟨by unfold qDif ans; rw [if_neg (fun q_ => q_.1 hno_7)], rfl⟩, hU⟩ (by omega) (by omega) rfl rfl
  ·
    obtain ⟨c_1, hM__8, rfl⟩ := hp_2
    have hrr1 := rk_r c i
    have hrl1 : (rkOf c i).toNat < cN c := by omega
    refine lv_aload_n hx hb dX1_differ_5 rfl (lv_at hl 0 rfl) ?_
    refine lv_iload_n hx hb dX1_differ_6 rfl (lv_at hl 2 rfl) ?_
    -- call SpokenMarks.requireMark
    refine h_xR (h_xrunV X hR (sm_rqM l G w hSt a lm lr hm c hC hS x bf hq fs nb er ca dn rf ud sv hX j h2) pn_yX1_requireMark (hasC.of hX rfl) q2278 q2280 qs24 q120 q2281 ⟨by decide, by decide⟩ hl.1 (Nat.le_of_ble_eq_true rfl) dX1_differ_7 ⟨by omega, by omega⟩) hL (fun xq_11 E_12 ce_ w_13 hx__14 H locs hR hL hce_ hcv_ hcl_ => ?_) (fun mk2 w_9 hp_10 H locs hR hL => ?_)
    ·
      obtain ⟨hno_15, rfl, rfl⟩ := hx__14
      exact h_xout (fun x_ hx_ => htab x_ hx_ _) hlk hce_ hcv_ hcl_ hR hL ⟨⟨by unfold qDif ans; rw [if_neg (fun q_ => q_.2 hno_15)], rfl⟩, hU⟩ (by omega) (by omega) rfl rfl
    ·
      obtain ⟨c_2, hM__16, rfl⟩ := hp_10
      have hrr2 := rk_r c j
      have hrl2 : (rkOf c j).toNat < cN c := by omega
      -- call SpokenMarks$Spoken.differ
      refine h_kIp (h_runS X hR (sp_dif l G w mk1 mk2 (a + 1) (a + 1) (cRl c) (mk c (rkOf c i).toNat) (mk c (rkOf c j).toNat) hM__8 hM__16 hRW (hS.pw hrl1) (hS.pw hrl2)) pn_yX3_differ q2373 q1763 q144 q1764 ⟨by decide, by decide⟩ hl.1 (Nat.le_of_ble_eq_true rfl) dX1_differ_10 ⟨by omega, by omega⟩) hL (fun H locs hR hL => ?_)
      refine vx_ret ?_
      exact h_ireturn hx hb hlk hret hR hL rfl ⟨(by unfold qDif ans; rw [if_pos ⟨c_1, c_2⟩]; try rfl), (by unfold qDif ans; rw [if_pos ⟨c_1, c_2⟩]; try rfl), hU⟩ (by omega) (by omega) rfl rfl dX1_differ_13

set_option maxHeartbeats 4000000 in
set_option maxRecDepth 100000 in
/-- SpokenMarks.free -/
theorem sm_free (l : Launch) (G : Gl) (w : Wd) (hSt : l.stackTraces = false) (a lm lr hm : Nat) (c : Cat) (hC : CatAt G w a lm lr hm c) (hS : CatS c) (hW : CatW c) (x bf hq fs : Nat) (nb er ca dn rf ud : Int) (sv : Value) (hX : w x = some (x + 1, oE 0 [.ref bf, .ref hq, .int (iI (nb)), .int (iI (er)), .int (iI (ca)), .int (iI (dn)), .int (iI (rf)), .int (iI (ud)), .ref a, sv, .ref fs])) (i : Int) (h1 : R32 i) (hG : RegW w) : HMX l yX1_free cX1_free 3 (some .int) 10 1 6 G [.ref x, .int (iI (i))] w (QI G (fun z_ w_ => (qFre c i).1 = 0 ∧ z_ = (qFre c i).2 ∧ Up (fun _ => False) w w_)) (fun q_ E_ w_ => ((qFre c i).1 = 1 ∧ E_ = "java/util/NoSuchElementException") ∧ Up (fun _ => False) w w_) := by
  refine HMX.mk (by decide +kernel) (Nat.le_of_ble_eq_true rfl) ?_
  intro p9 e9 s9 m9 a9 b9 meth9 c9 ls X hret hlk hnm htab hl H hR
  have hx := X.1.1
  have hb := X.1.2.1
  have hl : lv_has ls 3 [(0, .ref x), (1, .int (iI (i)))] := hl
  have hL : LK G [] := fun q h => absurd h List.not_mem_nil
  generalize ([] : List Loc) = locs at hL ⊢
  have hU : Up (fun _ => False) w w := Up.rf hG
  have s4 := hS.2.2.2.1.1
  refine lv_aload_n hx hb dX1_free_0 rfl (lv_at hl 0 rfl) ?_
  refine lv_iload_n hx hb dX1_free_1 rfl (lv_at hl 1 rfl) ?_
  -- call SpokenMarks.requireMark
  refine h_xR (h_xrunV X hR (sm_rqM l G w hSt a lm lr hm c hC hS x bf hq fs nb er ca dn rf ud sv hX i h1) pn_yX1_requireMark (hasC.of hX rfl) q2278 q2280 qs24 q120 q2281 ⟨by decide, by decide⟩ hl.1 (Nat.le_of_ble_eq_true rfl) dX1_free_2 ⟨by omega, by omega⟩) hL (fun xq_3 E_4 ce_ w_5 hx__6 H locs hR hL hce_ hcv_ hcl_ => ?_) (fun mk1 w_1 hp_2 H locs hR hL => ?_)
  ·
    obtain ⟨hno_7, rfl, rfl⟩ := hx__6
    exact h_xout (fun x_ hx_ => htab x_ hx_ _) hlk hce_ hcv_ hcl_ hR hL ⟨⟨by unfold qFre ans; rw [if_neg (fun q_ => q_ hno_7)], rfl⟩, hU⟩ (by omega) (by omega) rfl rfl
  ·
    obtain ⟨c_1, hM__8, rfl⟩ := hp_2
    have hrr1 := rk_r c i
    have hrl1 : (rkOf c i).toNat < cN c := by omega
    have hmw9 := hS.mw hrl1
    have hmp9 := hmw9.2.2.2
    refine lv_astore_n (lv' := [(2, .ref mk1), (0, .ref x), (1, .int (iI (i)))]) hx hb dX1_free_5 rfl hl (by decide) rfl (fun ls hl => ?_)
    refine lv_aload_n hx hb dX1_free_6 rfl (lv_at hl 1 rfl) ?_
    refine h_get X hR hX rfl in_X1 8 (by decide) q1700 rfl dX1_free_7 ?_
    refine lv_aload_n hx hb dX1_free_10 rfl (lv_at hl 1 rfl) ?_
    refine h_get X hR hX rfl in_X1 8 (by decide) q1700 rfl dX1_free_11 ?_
    refine lv_iload_n hx hb dX1_free_14 rfl (lv_at hl 2 rfl) ?_
    -- call SpokenMarks$Catalogue.rankOf
    refine h_kIp (h_runV X hR (ct_rkOf l G w a lm lr hm c hC hS i h1) pn_yX2_rankOf (hC.c) q2282 q1865 q1866 q123 q1867 ⟨by decide, by decide⟩ hl.1 (Nat.le_of_ble_eq_true rfl) dX1_free_15 ⟨by omega, by omega⟩) hL (fun H locs hR hL => ?_)
    refine h_iconst hx hb dX1_free_18 ?_
    refine h_iadd hx hb dX1_free_19 ?_
    -- call SpokenMarks$Catalogue.placeAt
    refine h_kIp (h_runVN X hR (ct_plA l G w a lm lr hm c hC hS (rkOf c i + 1) (by omega)) pn_yX2_placeAt (hC.c) q2381 q1683 qs9 q123 q1684 ⟨by decide, by decide⟩ hl.1 (Nat.le_of_ble_eq_true rfl) dX1_free_20 ⟨by omega, by omega⟩) hL (fun H locs hR hL => ?_)
    have hpb := plA_b hS (rkOf c i + 1)
    refine lv_aload_n hx hb dX1_free_23 rfl (lv_at hl 0 rfl) ?_
    obtain ⟨pl_mo_15, mo_151, mo_152⟩ := hM__8
    refine h_getN X hR mo_151 rfl in_X5 3 (by decide) q1549 rfl dX1_free_24 ?_
    refine h_isub hx hb dX1_free_27 ?_
    refine h_iconst hx hb dX1_free_28 ?_
    refine h_isub hx hb dX1_free_29 ?_
    refine vx_ret ?_
    exact h_ireturn hx hb hlk hret hR hL rfl ⟨(by unfold qFre ans; rw [if_pos c_1]; try rfl), (by unfold qFre ans; rw [if_pos c_1]; try rfl), hU⟩ (by omega) (by omega) rfl rfl dX1_free_30

set_option maxHeartbeats 4000000 in
set_option maxRecDepth 100000 in
/-- SpokenMarks.family -/
theorem sm_fam (l : Launch) (G : Gl) (w : Wd) (hSt : l.stackTraces = false) (a lm lr hm : Nat) (c : Cat) (hC : CatAt G w a lm lr hm c) (hS : CatS c) (hW : CatW c) (x bf hq fs : Nat) (nb er ca dn rf ud : Int) (sv : Value) (hX : w x = some (x + 1, oE 0 [.ref bf, .ref hq, .int (iI (nb)), .int (iI (er)), .int (iI (ca)), .int (iI (dn)), .int (iI (rf)), .int (iI (ud)), .ref a, sv, .ref fs])) (i : Int) (h1 : R32 i) (hG : RegW w) : HMX l yX1_family cX1_family 2 (some .int) 13 1 6 G [.ref x, .int (iI (i))] w (QI G (fun z_ w_ => (qFam c i).1 = 0 ∧ z_ = (qFam c i).2 ∧ Up (fun _ => False) w w_)) (fun q_ E_ w_ => ((qFam c i).1 = 1 ∧ E_ = "java/util/NoSuchElementException") ∧ Up (fun _ => False) w w_) := by
  refine HMX.mk (by decide +kernel) (Nat.le_of_ble_eq_true rfl) ?_
  intro p9 e9 s9 m9 a9 b9 meth9 c9 ls X hret hlk hnm htab hl H hR
  have hx := X.1.1
  have hb := X.1.2.1
  have hl : lv_has ls 2 [(0, .ref x), (1, .int (iI (i)))] := hl
  have hL : LK G [] := fun q h => absurd h List.not_mem_nil
  generalize ([] : List Loc) = locs at hL ⊢
  have hU : Up (fun _ => False) w w := Up.rf hG
  refine lv_aload_n hx hb dX1_family_0 rfl (lv_at hl 0 rfl) ?_
  refine h_get X hR hX rfl in_X1 8 (by decide) q1700 rfl dX1_family_1 ?_
  refine lv_aload_n hx hb dX1_family_4 rfl (lv_at hl 0 rfl) ?_
  refine lv_iload_n hx hb dX1_family_5 rfl (lv_at hl 1 rfl) ?_
  -- call SpokenMarks.requireMark
  refine h_xR (h_xrunV X hR (sm_rqM l G w hSt a lm lr hm c hC hS x bf hq fs nb er ca dn rf ud sv hX i h1) pn_yX1_requireMark (hasC.of hX rfl) q2278 q2280 qs24 q120 q2281 ⟨by decide, by decide⟩ hl.1 (Nat.le_of_ble_eq_true rfl) dX1_family_6 ⟨by omega, by omega⟩) hL (fun xq_3 E_4 ce_ w_5 hx__6 H locs hR hL hce_ hcv_ hcl_ => ?_) (fun mk1 w_1 hp_2 H locs hR hL => ?_)
  ·
    obtain ⟨hno_7, rfl, rfl⟩ := hx__6
    exact h_xout (fun x_ hx_ => htab x_ hx_ _) hlk hce_ hcv_ hcl_ hR hL ⟨⟨by unfold qFam ans; rw [if_neg (fun q_ => q_ hno_7)], rfl⟩, hU⟩ (by omega) (by omega) rfl rfl
  ·
    obtain ⟨c_1, hM__8, rfl⟩ := hp_2
    have hrr1 := rk_r c i
    have hrl1 : (rkOf c i).toNat < cN c := by omega
    have hmw9 := hS.mw hrl1
    have hmp9 := hmw9.2.2.2
    -- call SpokenMarks$Catalogue.family
    refine h_kIp (h_runV X hR (ct_fam l G w a lm lr hm c hC hS mk1 (a + 1) (mk c (rkOf c i).toNat) hM__8 (hS.pw hrl1)) pn_yX2_family (hC.c) q2389 q2390 q2391 q123 q2392 ⟨by decide, by decide⟩ hl.1 (Nat.le_of_ble_eq_true rfl) dX1_family_9 ⟨by omega, by omega⟩) hL (fun H locs hR hL => ?_)
    refine vx_ret ?_
    exact h_ireturn hx hb hlk hret hR hL rfl ⟨(by unfold qFam ans; rw [if_pos c_1]; try rfl), (by unfold qFam ans; rw [if_pos c_1]; try rfl), hU⟩ (by omega) (by omega) rfl rfl dX1_family_12

set_option maxHeartbeats 4000000 in
set_option maxRecDepth 100000 in
/-- SpokenMarks.filled -/
theorem sm_fil (l : Launch) (G : Gl) (w : Wd) (hSt : l.stackTraces = false) (a lm lr hm : Nat) (c : Cat) (hC : CatAt G w a lm lr hm c) (hS : CatS c) (hW : CatW c) (x bf hq fs : Nat) (nb er ca dn rf ud : Int) (sv : Value) (hX : w x = some (x + 1, oE 0 [.ref bf, .ref hq, .int (iI (nb)), .int (iI (er)), .int (iI (ca)), .int (iI (dn)), .int (iI (rf)), .int (iI (ud)), .ref a, sv, .ref fs])) (s : Int) (h1 : R32 s) (hG : RegW w) : HMX l yX1_filled cX1_filled 2 (some .float) 10 1 6 G [.ref x, .int (iI (s))] w (QF G (fun z_ w_ => (0 ≤ s ∧ s < cSh c) ∧ z_ = qFil c s ∧ Up (fun _ => False) w w_)) (fun q_ E_ w_ => (¬ (0 ≤ s ∧ s < cSh c) ∧ E_ = "java/util/NoSuchElementException") ∧ Up (fun _ => False) w w_) := by
  refine HMX.mk (by decide +kernel) (Nat.le_of_ble_eq_true rfl) ?_
  intro p9 e9 s9 m9 a9 b9 meth9 c9 ls X hret hlk hnm htab hl H hR
  have hx := X.1.1
  have hb := X.1.2.1
  have hl : lv_has ls 2 [(0, .ref x), (1, .int (iI (s)))] := hl
  have hL : LK G [] := fun q h => absurd h List.not_mem_nil
  generalize ([] : List Loc) = locs at hL ⊢
  have hU : Up (fun _ => False) w w := Up.rf hG
  have hrm := hS.2.1
  refine lv_aload_n hx hb dX1_filled_0 rfl (lv_at hl 0 rfl) ?_
  refine lv_iload_n hx hb dX1_filled_1 rfl (lv_at hl 1 rfl) ?_
  -- call SpokenMarks.requireShelf
  refine h_xV (h_xrunV X hR (sm_rqS l G w hSt a lm lr hm c hC hS x bf hq fs nb er ca dn rf ud sv hX s h1) pn_yX1_requireShelf (hasC.of hX rfl) q2340 q2342 qs27 q120 q2343 ⟨by decide, by decide⟩ hl.1 (Nat.le_of_ble_eq_true rfl) dX1_filled_2 ⟨by omega, by omega⟩) hL (fun xq_4 E_5 ce_ w_6 hx__7 H locs hR hL hce_ hcv_ hcl_ => ?_) (fun w_2 hp_3 H locs hR hL => ?_)
  ·
    obtain ⟨hno_8, rfl, rfl⟩ := hx__7
    exact h_xout (fun x_ hx_ => htab x_ hx_ _) hlk hce_ hcv_ hcl_ hR hL ⟨⟨hno_8, rfl⟩, hU⟩ (by omega) (by omega) rfl rfl
  ·
    obtain ⟨c_k, rfl⟩ := hp_3
    refine lv_aload_n hx hb dX1_filled_5 rfl (lv_at hl 0 rfl) ?_
    refine h_get X hR hX rfl in_X1 8 (by decide) q1700 rfl dX1_filled_6 ?_
    refine lv_iload_n hx hb dX1_filled_9 rfl (lv_at hl 1 rfl) ?_
    -- call SpokenMarks$Catalogue.widthOn
    refine h_kIp (h_runV X hR (ct_wdOn l G w a lm lr hm c hC hS hW s c_k) pn_yX2_widthOn (hC.c) q2348 q1845 q1846 q123 q1847 ⟨by decide, by decide⟩ hl.1 (Nat.le_of_ble_eq_true rfl) dX1_filled_10 ⟨by omega, by omega⟩) hL (fun H locs hR hL => ?_)
    refine lv_i2f hx hb dX1_filled_13 ?_
    refine lv_aload_n hx hb dX1_filled_14 rfl (lv_at hl 0 rfl) ?_
    refine h_get X hR hX rfl in_X1 8 (by decide) q1700 rfl dX1_filled_15 ?_
    have hpk_12 := hC
    obtain ⟨bdao_13, acao_13, soo_13, fbo_13, fao_13, Lmo_13, Lro_13, mpo_13, hCto_13, ⟨hbdo_13, hbxo_13⟩, ⟨haco_13, haxo_13⟩, hsoo_13, ⟨⟨mo1o_13, hm1o_13, hlmo_13⟩, hmko_13, hndo_13⟩, ⟨⟨mo2o_13, hm2o_13, hlro_13⟩, hruo_13⟩, ⟨hhmo_13, hmpo_13⟩, hrdo_13, hido_13, hbao_13, hllo_13⟩ := hpk_12
    have hCto_13 : w a = some (a + 1, oE 2 [.int (iI (cSh c)), .int (iI (cRm c)), .ref bdao_13, .ref lm, .ref lr, .ref hm, .ref soo_13, .ref acao_13, .int (iI (cNx c))]) := hCto_13
    have ne_bdao_13_acao_13 : bdao_13 ≠ acao_13 := hbao_13
    have hmlo_13 : Lmo_13.length = (cMk c).length := hmko_13.1
    have hrlo_13 := hruo_13.1
    refine h_getN X hR hCto_13 rfl in_X2 1 (by decide) q593 rfl dX1_filled_18 ?_
    refine lv_i2f hx hb dX1_filled_21 ?_
    refine lv_fdiv hx hb dX1_filled_22 (by have h1_ := wdOn_b hS s; exact fdiv_nn ⟨by omega, by omega⟩ ⟨by omega, by omega⟩ (by omega)) ?_
    refine vx_ret ?_
    exact h_freturn hx hb hlk hret hR hL ⟨c_k, (if_pos c_k).symm, hU⟩ (by omega) (by omega) rfl rfl dX1_filled_23

set_option maxHeartbeats 4000000 in
set_option maxRecDepth 100000 in
/-- SpokenMarks.meanMoves -/
theorem sm_mea (l : Launch) (G : Gl) (w : Wd) (a lm lr hm : Nat) (c : Cat) (hC : CatAt G w a lm lr hm c) (hS : CatS c) (x bf hq fs : Nat) (nb er ca dn rf ud : Int) (sv : Value) (hX : w x = some (x + 1, oE 0 [.ref bf, .ref hq, .int (iI (nb)), .int (iI (er)), .int (iI (ca)), .int (iI (dn)), .int (iI (rf)), .int (iI (ud)), .ref a, sv, .ref fs])) : HM l yX1_meanMoves cX1_meanMoves 2 (some .double) 3 0 0 G [.ref x] w (QD G (fun z_ w_ => z_ = qMea c ∧ w_ = w)) := by
  refine HM.mk (by decide +kernel) (Nat.le_of_ble_eq_true rfl) ?_
  intro p9 e9 s9 m9 a9 b9 meth9 c9 ls X hret hlk hnm hl H hR
  have hx := X.1.1
  have hb := X.1.2.1
  have hl : lv_has ls 2 [(0, .ref x)] := hl
  have hL : LK G [] := fun q h => absurd h List.not_mem_nil
  generalize ([] : List Loc) = locs at hL ⊢
  have hC0 := hC
  obtain ⟨bda, aca, so, fb, fa, Lm, Lr, mp, hCt, ⟨hbd, hbx⟩, ⟨hac, hax⟩, hso, ⟨⟨mo1, hm1, hlm⟩, hmk, hnd⟩, ⟨⟨mo2, hm2, hlr⟩, hru⟩, ⟨hhm, hmp⟩, hrd, hid, hba, hll⟩ := hC
  have hCt : w a = some (a + 1, oE 2 [.int (iI (cSh c)), .int (iI (cRm c)), .ref bda, .ref lm, .ref lr, .ref hm, .ref so, .ref aca, .int (iI (cNx c))]) := hCt
  have s1 := hS.1
  have s2 := hS.2.1
  have s3 := hS.2.2.1
  have s4 := hS.2.2.2.1.1
  have hRW := hS.2.2.2.2.1
  have s5 := hRW.1
  have s6 := hS.2.2.2.2.2
  have hml : Lm.length = cN c := hmk.1
  have hrl := hru.1
  have ha0 := s6.1 0 (by omega)
  have ha2 := s6.1 2 (by omega)
  have hb0 := hax 0 (by omega)
  have hb2 := hax 2 (by omega)
  refine lv_aload_n hx hb dX1_meanMoves_0 rfl (lv_at hl 0 rfl) ?_
  refine h_get X hR hX rfl in_X1 8 (by decide) q1700 rfl dX1_meanMoves_1 ?_
  refine h_getN X hR hCt rfl in_X2 7 (by decide) q612 rfl dX1_meanMoves_4 ?_
  refine h_iconst hx hb dX1_meanMoves_7 ?_
  refine h_iald X hR hac (by omega) (by omega) dX1_meanMoves_8 ?_
  refine W.eq (g2 := F0 m9 9 ls [.int (iI (cAc c 0))]) (congrArg (fun z_ : Int => F0 m9 9 ls [.int (iI (z_))]) (show (fa (Int.toNat 0) : Int) = cAc c 0 from (by exact hb0))) ?_
  refine lv_istore_n (lv' := [(1, .int (iI (cAc c 0))), (0, .ref x)]) hx hb dX1_meanMoves_9 rfl hl (by decide) rfl (fun ls hl => ?_)
  refine lv_iload_n hx hb dX1_meanMoves_10 rfl (lv_at hl 0 rfl) ?_
  refine h_if_ne hx hb 18 dX1_meanMoves_11 (by decide) (by omega) (fun c_0 => ?_) (fun c_0 => ?_)
  ·
    refine lv_aload_n hx hb dX1_meanMoves_18 rfl (lv_at hl 1 rfl) ?_
    refine h_get X hR hX rfl in_X1 8 (by decide) q1700 rfl dX1_meanMoves_19 ?_
    refine h_getN X hR hCt rfl in_X2 7 (by decide) q612 rfl dX1_meanMoves_22 ?_
    refine h_iconst hx hb dX1_meanMoves_25 ?_
    refine h_iald X hR hac (by omega) (by omega) dX1_meanMoves_26 ?_
    refine W.eq (g2 := F0 m9 27 ls [.int (iI (cAc c 2))]) (congrArg (fun z_ : Int => F0 m9 27 ls [.int (iI (z_))]) (show (fa (Int.toNat 2) : Int) = cAc c 2 from (by exact hb2))) ?_
    refine lv_i2d hx hb dX1_meanMoves_27 ?_
    refine lv_iload_n hx hb dX1_meanMoves_28 rfl (lv_at hl 0 rfl) ?_
    refine lv_i2d hx hb dX1_meanMoves_29 ?_
    refine lv_ddiv hx hb dX1_meanMoves_30 (ddiv_nn ⟨by omega, by omega⟩ ⟨by omega, by omega⟩ c_0) ?_
    exact h_dreturn hx hb hlk hret hR hL ⟨(if_neg c_0).symm, rfl⟩ (by omega) (by omega) rfl rfl dX1_meanMoves_31
  ·
    refine lv_dconst0 hx hb dX1_meanMoves_14 ?_
    refine lv_goto (tgt := 31) hx hb dX1_meanMoves_15 (by decide) ?_
    exact h_dreturn hx hb hlk hret hR hL ⟨(if_pos c_0).symm, rfl⟩ (by omega) (by omega) rfl rfl dX1_meanMoves_31

set_option maxHeartbeats 4000000 in
set_option maxRecDepth 100000 in
/-- SpokenMarks.gap -/
theorem sm_gap (l : Launch) (G : Gl) (w : Wd) (a lm lr hm : Nat) (c : Cat) (hC : CatAt G w a lm lr hm c) (hS : CatS c) (x bf hq fs : Nat) (nb er ca dn rf ud : Int) (sv : Value) (hX : w x = some (x + 1, oE 0 [.ref bf, .ref hq, .int (iI (nb)), .int (iI (er)), .int (iI (ca)), .int (iI (dn)), .int (iI (rf)), .int (iI (ud)), .ref a, sv, .ref fs])) : HM l yX1_gap cX1_gap 1 (some .int) 15 0 0 G [.ref x] w (QI G (fun z_ w_ => z_ = gapN c ∧ w_ = w)) := by
  refine HM.mk (by decide +kernel) (Nat.le_of_ble_eq_true rfl) ?_
  intro p9 e9 s9 m9 a9 b9 meth9 c9 ls X hret hlk hnm hl H hR
  have hx := X.1.1
  have hb := X.1.2.1
  have hl : lv_has ls 1 [(0, .ref x)] := hl
  have hL : LK G [] := fun q h => absurd h List.not_mem_nil
  generalize ([] : List Loc) = locs at hL ⊢
  refine lv_aload_n hx hb dX1_gap_0 rfl (lv_at hl 0 rfl) ?_
  refine h_get X hR hX rfl in_X1 8 (by decide) q1700 rfl dX1_gap_1 ?_
  -- call SpokenMarks$Catalogue.gap
  refine h_kIp (h_runV X hR (ct_gap l G w a lm lr hm c hC hS) pn_yX2_gap (hC.c) q1750 q1751 q1752 q123 q1753 ⟨by decide, by decide⟩ hl.1 (Nat.le_of_ble_eq_true rfl) dX1_gap_4 ⟨by omega, by omega⟩) hL (fun H locs hR hL => ?_)
  exact h_ireturn hx hb hlk hret hR hL rfl ⟨rfl, rfl⟩ (by omega) (by omega) rfl rfl dX1_gap_7

set_option maxHeartbeats 4000000 in
set_option maxRecDepth 100000 in
/-- SpokenMarks.alike -/
theorem sm_alk (l : Launch) (G : Gl) (w : Wd) (a lm lr hm : Nat) (c : Cat) (hC : CatAt G w a lm lr hm c) (hS : CatS c) (x bf hq fs : Nat) (nb er ca dn rf ud : Int) (sv : Value) (hX : w x = some (x + 1, oE 0 [.ref bf, .ref hq, .int (iI (nb)), .int (iI (er)), .int (iI (ca)), .int (iI (dn)), .int (iI (rf)), .int (iI (ud)), .ref a, sv, .ref fs])) : HM l yX1_alike cX1_alike 1 (some .int) 13 0 0 G [.ref x] w (QI G (fun z_ w_ => z_ = alkN c ∧ w_ = w)) := by
  refine HM.mk (by decide +kernel) (Nat.le_of_ble_eq_true rfl) ?_
  intro p9 e9 s9 m9 a9 b9 meth9 c9 ls X hret hlk hnm hl H hR
  have hx := X.1.1
  have hb := X.1.2.1
  have hl : lv_has ls 1 [(0, .ref x)] := hl
  have hL : LK G [] := fun q h => absurd h List.not_mem_nil
  generalize ([] : List Loc) = locs at hL ⊢
  refine lv_aload_n hx hb dX1_alike_0 rfl (lv_at hl 0 rfl) ?_
  refine h_get X hR hX rfl in_X1 8 (by decide) q1700 rfl dX1_alike_1 ?_
  -- call SpokenMarks$Catalogue.alike
  refine h_kIp (h_runV X hR (ct_alk l G w a lm lr hm c hC hS) pn_yX2_alike (hC.c) q1758 q1759 q1760 q123 q1761 ⟨by decide, by decide⟩ hl.1 (Nat.le_of_ble_eq_true rfl) dX1_alike_4 ⟨by omega, by omega⟩) hL (fun H locs hR hL => ?_)
  exact h_ireturn hx hb hlk hret hR hL rfl ⟨rfl, rfl⟩ (by omega) (by omega) rfl rfl dX1_alike_7

set_option maxHeartbeats 4000000 in
set_option maxRecDepth 100000 in
/-- SpokenMarks.cause -/
theorem sm_cau (l : Launch) (G : Gl) (w : Wd) (a lm lr hm : Nat) (c : Cat) (hC : CatAt G w a lm lr hm c) (hS : CatS c) (x bf hq fs : Nat) (nb er ca dn rf ud : Int) (sv : Value) (hX : w x = some (x + 1, oE 0 [.ref bf, .ref hq, .int (iI (nb)), .int (iI (er)), .int (iI (ca)), .int (iI (dn)), .int (iI (rf)), .int (iI (ud)), .ref a, sv, .ref fs])) : HM l yX1_cause cX1_cause 1 (some .int) 1 0 0 G [.ref x] w (QI G (fun z_ w_ => z_ = ca ∧ w_ = w)) := by
  refine HM.mk (by decide +kernel) (Nat.le_of_ble_eq_true rfl) ?_
  intro p9 e9 s9 m9 a9 b9 meth9 c9 ls X hret hlk hnm hl H hR
  have hx := X.1.1
  have hb := X.1.2.1
  have hl : lv_has ls 1 [(0, .ref x)] := hl
  have hL : LK G [] := fun q h => absurd h List.not_mem_nil
  generalize ([] : List Loc) = locs at hL ⊢
  refine lv_aload_n hx hb dX1_cause_0 rfl (lv_at hl 0 rfl) ?_
  refine h_get X hR hX rfl in_X1 4 (by decide) q1696 rfl dX1_cause_1 ?_
  exact h_ireturn hx hb hlk hret hR hL rfl ⟨rfl, rfl⟩ (by omega) (by omega) rfl rfl dX1_cause_4

set_option maxHeartbeats 4000000 in
set_option maxRecDepth 100000 in
/-- SpokenMarks.errorPosition -/
theorem sm_err (l : Launch) (G : Gl) (w : Wd) (a lm lr hm : Nat) (c : Cat) (hC : CatAt G w a lm lr hm c) (hS : CatS c) (x bf hq fs : Nat) (nb er ca dn rf ud : Int) (sv : Value) (hX : w x = some (x + 1, oE 0 [.ref bf, .ref hq, .int (iI (nb)), .int (iI (er)), .int (iI (ca)), .int (iI (dn)), .int (iI (rf)), .int (iI (ud)), .ref a, sv, .ref fs])) : HM l yX1_errorPosition cX1_errorPosition 1 (some .int) 1 0 0 G [.ref x] w (QI G (fun z_ w_ => z_ = er ∧ w_ = w)) := by
  refine HM.mk (by decide +kernel) (Nat.le_of_ble_eq_true rfl) ?_
  intro p9 e9 s9 m9 a9 b9 meth9 c9 ls X hret hlk hnm hl H hR
  have hx := X.1.1
  have hb := X.1.2.1
  have hl : lv_has ls 1 [(0, .ref x)] := hl
  have hL : LK G [] := fun q h => absurd h List.not_mem_nil
  generalize ([] : List Loc) = locs at hL ⊢
  refine lv_aload_n hx hb dX1_errorPosition_0 rfl (lv_at hl 0 rfl) ?_
  refine h_get X hR hX rfl in_X1 3 (by decide) q1695 rfl dX1_errorPosition_1 ?_
  exact h_ireturn hx hb hlk hret hR hL rfl ⟨rfl, rfl⟩ (by omega) (by omega) rfl rfl dX1_errorPosition_4

set_option maxHeartbeats 4000000 in
set_option maxRecDepth 100000 in
/-- SpokenMarks.undoCount -/
theorem sm_unc (l : Launch) (G : Gl) (w : Wd) (a lm lr hm : Nat) (c : Cat) (hC : CatAt G w a lm lr hm c) (hS : CatS c) (x bf hq fs : Nat) (nb er ca dn rf ud : Int) (sv : Value) (hX : w x = some (x + 1, oE 0 [.ref bf, .ref hq, .int (iI (nb)), .int (iI (er)), .int (iI (ca)), .int (iI (dn)), .int (iI (rf)), .int (iI (ud)), .ref a, sv, .ref fs])) (hl9 : List Nat) (hD : DqAt G w (hq + 1) hq hl9) : HM l yX1_undoCount cX1_undoCount 1 (some .int) 3 0 0 G [.ref x] w (QI G (fun z_ w_ => z_ = (hl9.length : Int) ∧ w_ = w)) := by
  refine HM.mk (by decide +kernel) (Nat.le_of_ble_eq_true rfl) ?_
  intro p9 e9 s9 m9 a9 b9 meth9 c9 ls X hret hlk hnm hl H hR
  have hx := X.1.1
  have hb := X.1.2.1
  have hl : lv_has ls 1 [(0, .ref x)] := hl
  have hL : LK G [] := fun q h => absurd h List.not_mem_nil
  generalize ([] : List Loc) = locs at hL ⊢
  refine lv_aload_n hx hb dX1_undoCount_0 rfl (lv_at hl 0 rfl) ?_
  refine h_get X hR hX rfl in_X1 1 (by decide) q1693 rfl dX1_undoCount_1 ?_
  -- call java/util/ArrayDeque.size
  refine h_kIp (h_runV X hR (dq_size l G w (hq + 1) hq hl9 hD) pn_yJ1_size (hD.c) q1946 q1947 q1948 q122 q1949 ⟨by decide, by decide⟩ hl.1 (Nat.le_of_ble_eq_true rfl) dX1_undoCount_4 ⟨by omega, by omega⟩) hL (fun H locs hR hL => ?_)
  exact h_ireturn hx hb hlk hret hR hL rfl ⟨rfl, rfl⟩ (by omega) (by omega) rfl rfl dX1_undoCount_7

set_option maxHeartbeats 4000000 in
set_option maxRecDepth 100000 in
/-- SpokenMarks.formattedByte -/
theorem sm_fmb (l : Launch) (G : Gl) (w : Wd) (a lm lr hm : Nat) (c : Cat) (hC : CatAt G w a lm lr hm c) (hS : CatS c) (x bf hq fs : Nat) (nb er ca dn rf ud : Int) (sv : Value) (hX : w x = some (x + 1, oE 0 [.ref bf, .ref hq, .int (iI (nb)), .int (iI (er)), .int (iI (ca)), .int (iI (dn)), .int (iI (rf)), .int (iI (ud)), .ref a, sv, .ref fs])) (F : List Int) (hF : StrAt G w fs F) (i : Int) (h1 : R32 i) : HM l yX1_formattedByte cX1_formattedByte 2 (some .int) 7 0 0 G [.ref x, .int (iI (i))] w (QI G (fun z_ w_ => z_ = (if 0 ≤ i ∧ i < (F.length : Int) then F.getD i.toNat 0 else -1) ∧ w_ = w)) := by
  refine HM.mk (by decide +kernel) (Nat.le_of_ble_eq_true rfl) ?_
  intro p9 e9 s9 m9 a9 b9 meth9 c9 ls X hret hlk hnm hl H hR
  have hx := X.1.1
  have hb := X.1.2.1
  have hl : lv_has ls 2 [(0, .ref x), (1, .int (iI (i)))] := hl
  have hL : LK G [] := fun q h => absurd h List.not_mem_nil
  generalize ([] : List Loc) = locs at hL ⊢
  have hFl : F.length < 1000000 := by obtain ⟨_, _, _, h_, _⟩ := hF; exact h_
  refine lv_iload_n hx hb dX1_formattedByte_0 rfl (lv_at hl 1 rfl) ?_
  refine h_iconst hx hb dX1_formattedByte_1 ?_
  refine lv_aload_n hx hb dX1_formattedByte_2 rfl (lv_at hl 0 rfl) ?_
  refine h_get X hR hX rfl in_X1 10 (by decide) q1702 rfl dX1_formattedByte_3 ?_
  -- call java/lang/String.length
  refine h_kIp (h_runV X hR (s_length l G w fs F hF) pn_yJ10_length (hF.c) q1992 q373 q374 q132 q375 ⟨by decide, by decide⟩ hl.1 (Nat.le_of_ble_eq_true rfl) dX1_formattedByte_6 ⟨by omega, by omega⟩) hL (fun H locs hR hL => ?_)
  refine h_iconst hx hb dX1_formattedByte_9 ?_
  refine h_isub hx hb dX1_formattedByte_10 ?_
  -- call SpokenMarks.inRange
  refine h_kIp (h_runS X hR (c_inr l G w i 0 (((F.length : Int)) - 1) (by omega) (by omega) (by omega)) pn_yX1_inRange q1740 q1741 q120 q1742 ⟨by decide, by decide⟩ hl.1 (Nat.le_of_ble_eq_true rfl) dX1_formattedByte_11 ⟨by omega, by omega⟩) hL (fun H locs hR hL => ?_)
  refine h_if_eq hx hb 28 dX1_formattedByte_14 (by decide) (b2i_R9 _) (fun c_r => ?_) (fun c_r => ?_)
  ·
    have c_s := b2i_0.mp c_r
    refine h_iconst hx hb dX1_formattedByte_28 ?_
    exact h_ireturn hx hb hlk hret hR hL rfl ⟨by first | exact (if_pos ⟨c_s.1, by omega⟩).symm | exact (if_neg (fun q_ => c_s ⟨q_.1, by omega⟩)).symm, rfl⟩ (by omega) (by omega) rfl rfl dX1_formattedByte_29
  ·
    have c_s := b2i_n1.mp c_r
    have hl : lv_has ls 2 [(0, .ref x), (1, .int (iI (((i.toNat : Nat) : Int))))] := lv_conv hl (congrArg (fun z_ : Int => ([(0, .ref x), (1, .int (iI (z_)))] : List (Nat × Value))) (show (i : Int) = ((i.toNat : Nat) : Int) from (by omega)))
    refine lv_aload_n hx hb dX1_formattedByte_17 rfl (lv_at hl 0 rfl) ?_
    refine h_get X hR hX rfl in_X1 10 (by decide) q1702 rfl dX1_formattedByte_18 ?_
    refine lv_iload_n hx hb dX1_formattedByte_21 rfl (lv_at hl 1 rfl) ?_
    -- call java/lang/String.charAt
    refine h_kIp (h_runV X hR (s_charAt l G w fs F hF i.toNat (by omega)) pn_yJ10_charAt (hF.c) q1993 q1459 q1460 q132 q1461 ⟨by decide, by decide⟩ hl.1 (Nat.le_of_ble_eq_true rfl) dX1_formattedByte_22 ⟨by omega, by omega⟩) hL (fun H locs hR hL => ?_)
    refine lv_goto (tgt := 29) hx hb dX1_formattedByte_25 (by decide) ?_
    exact h_ireturn hx hb hlk hret hR hL rfl ⟨by first | exact (if_pos ⟨c_s.1, by omega⟩).symm | exact (if_neg (fun q_ => c_s ⟨q_.1, by omega⟩)).symm, rfl⟩ (by omega) (by omega) rfl rfl dX1_formattedByte_29
