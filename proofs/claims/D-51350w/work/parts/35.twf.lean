/-! the twin: balances -/
set_option maxRecDepth 100000
def BalP (c : Cat) (s i : Nat) (sm fs : Int) : Prop := (fs = 1 ∧ sm = 0 ∧ i = balI c s) ∨ (fs = 0 ∧ ∃ f, cN c ≤ f + i ∧ grd c f sm i = balI c (s + 1))
theorem BalP.end1 {c : Cat} {s i : Nat} {sm fs : Int} (h : BalP c s i sm fs) (hi : ¬ i < cN c) : balI c (s + 1) = i := by
  rcases h with ⟨_, _, q⟩ | ⟨_, f, _, q⟩
  · rw [balI, ← q, grdS, if_neg hi]
  · rw [← q, grd_stop (fun z => hi z.1)]
theorem BalP.end2 {c : Cat} {s i : Nat} {sm fs : Int} (h : BalP c s i sm fs) (h0 : fs = 0) (hi : ¬ sm + mWd (mk c i) ≤ cRm c) : balI c (s + 1) = i := by
  rcases h with ⟨q, _, _⟩ | ⟨_, f, _, q⟩
  · omega
  · rw [← q, grd_stop (fun z => hi z.2)]
theorem BalP.step {c : Cat} {s i : Nat} {sm fs : Int} (h : BalP c s i sm fs) (hi : i < cN c) (h1 : fs = 0 → sm + mWd (mk c i) ≤ cRm c) : BalP c s (i + 1) (sm + mWd (mk c i)) 0 := by
  refine Or.inr ⟨rfl, ?_⟩
  rcases h with ⟨_, e, q⟩ | ⟨e, f, hf, q⟩
  · refine ⟨cN c, by omega, ?_⟩
    rw [balI, ← q, grdS, if_pos hi, e, Int.zero_add]
  · obtain ⟨f2, rfl⟩ : ∃ f2, f = f2 + 1 := ⟨f - 1, by omega⟩
    refine ⟨f2, by omega, ?_⟩
    rw [← q, grd, if_pos ⟨hi, h1 e⟩]


set_option maxHeartbeats 4000000 in
set_option maxRecDepth 100000 in
/-- balances -/
theorem m_balances (l : Launch) (G : Gl) (w : Wd) (a : Nat) (ad : Nat → Nat) (t : Tw) (hT : TwAt G w a ad t)  (c0 : Cat) (hC : RowIs (t.2 3) c0) : HM l yX10_balances cX10_balances 5 (some .int) 6 0 0 G [.ref a] w (QI G (fun z_ w_ => z_ = ovr (cBal c0) ∧ ∃ t_ : Tw, TwS G w w_ a ad t_ ∧ TwE [3] t t_ ∧ RowIs (t_.2 3) (cBal c0))) := by
  refine HM.mk (by decide +kernel) (Nat.le_of_ble_eq_true rfl) ?_
  intro p9 e9 s9 m9 a9 b9 meth9 c9 ls X hret hlk hnm hl H hR
  have hx := X.1.1
  have hb := X.1.2.1
  have hl : lv_has ls 5 [(0, .ref a)] := hl
  have hL : LK G [] := fun q h => absurd h List.not_mem_nil
  generalize ([] : List Loc) = locs at hL ⊢
  have hTb := hT
  have hT : TwS G w w a ad t := TwS.rf hT
  have hn40 := hC.n40
  have hsh8 := hC.sh8
  have hrm := hC.s.2.1
  refine h_iconst hx hb dX10_balances_0 ?_
  refine lv_istore_n (lv' := [(1, .int (iI (0))), (0, .ref a)]) hx hb dX10_balances_1 rfl hl (by decide) rfl (fun ls hl => ?_)
  refine h_iconst hx hb dX10_balances_2 ?_
  refine lv_istore_n (lv' := [(2, .int (iI (0))), (1, .int (iI (0))), (0, .ref a)]) hx hb dX10_balances_3 rfl hl (by decide) rfl (fun ls hl => ?_)
  have LOOP_3 : ∀ (N_ : Nat) (s : Nat) (t_1 : Tw) (w_2 : Wd), ((s : Int) + 1 ≤ cSh c0) → (TwS G w w_2 a ad t_1) → (TwE [3] t t_1) → (∀ i, t_1.2 3 i = balF (t.2 3) c0 s i) → ((cSh c0).toNat - s) < N_ → ∀ (H : Heap) (locs : List Loc) (ls : Array Slot), Rp G w_2 H → LK G locs → lv_has ls 5 [(0, .ref a), (1, .int (iI ((balI c0 s : Int)))), (2, .int (iI ((s : Int))))] → W p9 l e9 (rmk 6 0 0) s9 m9 a9 b9 meth9 c9 H locs 0 0 (MQ b9 (QI G (fun z_ w_ => z_ = ovr (cBal c0) ∧ ∃ t_ : Tw, TwS G w w_ a ad t_ ∧ TwE [3] t t_ ∧ RowIs (t_.2 3) (cBal c0))) a9 s9 0 0 (frG G)) (F0 m9 4 ls []) := by
    intro N_
    induction N_ with
    | zero => intro _ _ _ _ _ _ _ h_; exact absurd h_ (Nat.not_lt_zero _)
    | succ N_ ih_ =>
      intro s t_1 w_2 hsh hT hE_t_1 hs hN_ H locs ls hR hL hl
      have ih_3 := ih_
      clear ih_
      refine lv_iload_n hx hb dX10_balances_4 rfl (lv_at hl 2 rfl) ?_
      refine h_iconst hx hb dX10_balances_5 ?_
      refine h_iadd hx hb dX10_balances_6 ?_
      refine lv_aload_n hx hb dX10_balances_7 rfl (lv_at hl 0 rfl) ?_
      refine h_iconst hx hb dX10_balances_8 ?_
      -- call SpokenMarksModel.head
      refine h_kIp (h_runV X hR (m_head l G w_2 a ad t_1 hT.1 0 (by omega)) pn_yX10_head (hasC.of hT.1.ob rfl) q2789 q2791 qs44 q161 q2792 ⟨by decide, by decide⟩ hl.1 (Nat.le_of_ble_eq_true rfl) dX10_balances_9 ⟨by omega, by omega⟩) hL (fun H locs hR hL => ?_)
      refine W.eq (g2 := F0 m9 12 ls [.int (iI (cSh c0)), .int (iI ((s : Int) + 1))]) (congrArg (fun z_ : Int => F0 m9 12 ls [.int (iI (z_)), .int (iI ((s : Int) + 1))]) (show (hd t_1 0 : Int) = cSh c0 from ((hs _).trans ((balF_no (by omega)).trans hC.sh)))) ?_
      refine h_icmp_ge hx hb 107 dX10_balances_12 (by decide) (by omega) (by omega) (fun c_7 => ?_) (fun c_7 => ?_)
      ·
        have hD : RowIs (t_1.2 3) (cBal c0) := hC.bal (fun i => by rw [hs i, show s = (cSh c0).toNat - 1 by omega])
        refine lv_aload_n hx hb dX10_balances_107 rfl (lv_at hl 0 rfl) ?_
        -- call SpokenMarksModel.over
        refine h_kIp (h_runV X hR (m_over l G w_2 a ad t_1 hT.1 (cBal c0) hD) pn_yX10_over (hasC.of hT.1.ob rfl) q3060 q3062 qs79 q161 q3063 ⟨by decide, by decide⟩ hl.1 (Nat.le_of_ble_eq_true rfl) dX10_balances_108 ⟨by omega, by omega⟩) hL (fun H locs hR hL => ?_)
        exact h_ireturn hx hb hlk hret hR hL rfl ⟨rfl, ⟨t_1, hT, (TwE.tr (S2 := [3]) (TwE.rf : TwE [] t t) hE_t_1 rfl rfl), hD⟩⟩ (by omega) (by omega) rfl rfl dX10_balances_111
      ·
        refine h_iconst hx hb dX10_balances_15 ?_
        refine lv_istore_n (lv' := [(3, .int (iI (0))), (0, .ref a), (1, .int (iI ((balI c0 s : Int)))), (2, .int (iI ((s : Int))))]) hx hb dX10_balances_16 rfl hl (by decide) rfl (fun ls hl => ?_)
        refine h_iconst hx hb dX10_balances_17 ?_
        refine lv_istore (lv' := [(4, .int (iI (1))), (3, .int (iI (0))), (0, .ref a), (1, .int (iI ((balI c0 s : Int)))), (2, .int (iI ((s : Int))))]) hx hb dX10_balances_18 hl (by decide) rfl (fun ls hl => ?_)
        have LOOP_11 : ∀ (N_ : Nat) (i : Nat) (sm fs : Int), (i ≤ cN c0) → (fs = 0 ∨ fs = 1) → (0 ≤ sm ∧ sm ≤ 20 * (i : Int)) → (BalP c0 s i sm fs) → (cN c0 - i) < N_ → ∀ (H : Heap) (locs : List Loc) (ls : Array Slot), Rp G w_2 H → LK G locs → lv_has ls 5 [(0, .ref a), (1, .int (iI ((i : Int)))), (2, .int (iI ((s : Int)))), (3, .int (iI (sm))), (4, .int (iI (fs)))] → W p9 l e9 (rmk 6 0 0) s9 m9 a9 b9 meth9 c9 H locs 0 0 (MQ b9 (QI G (fun z_ w_ => z_ = ovr (cBal c0) ∧ ∃ t_ : Tw, TwS G w w_ a ad t_ ∧ TwE [3] t t_ ∧ RowIs (t_.2 3) (cBal c0))) a9 s9 0 0 (frG G)) (F0 m9 20 ls []) := by
          intro N_
          induction N_ with
          | zero => intro _ _ _ _ _ _ _ h_; exact absurd h_ (Nat.not_lt_zero _)
          | succ N_ ih_ =>
            intro i sm fs hi hfs hsm hv hN_ H locs ls hR hL hl
            have ih_11 := ih_
            clear ih_
            refine lv_iload_n hx hb dX10_balances_20 rfl (lv_at hl 1 rfl) ?_
            refine lv_aload_n hx hb dX10_balances_21 rfl (lv_at hl 0 rfl) ?_
            refine h_iconst hx hb dX10_balances_22 ?_
            -- call SpokenMarksModel.head
            refine h_kIp (h_runV X hR (m_head l G w_2 a ad t_1 hT.1 2 (by omega)) pn_yX10_head (hasC.of hT.1.ob rfl) q2789 q2791 qs44 q161 q2792 ⟨by decide, by decide⟩ hl.1 (Nat.le_of_ble_eq_true rfl) dX10_balances_23 ⟨by omega, by omega⟩) hL (fun H locs hR hL => ?_)
            refine W.eq (g2 := F0 m9 26 ls [.int (iI ((cN c0 : Int))), .int (iI ((i : Int)))]) (congrArg (fun z_ : Int => F0 m9 26 ls [.int (iI (z_)), .int (iI ((i : Int)))]) (show (hd t_1 2 : Int) = (cN c0 : Int) from ((hs _).trans ((balF_no (by omega)).trans hC.n)))) ?_
            refine h_icmp_ge hx hb 68 dX10_balances_26 (by decide) (by omega) (by omega) (fun c_15 => ?_) (fun c_15 => ?_)
            ·
              have hbI : balI c0 (s + 1) = i := by first | exact hv.end1 (by omega) | exact hv.end2 (by omega) (by omega)
              refine lv_aload_n hx hb dX10_balances_68 rfl (lv_at hl 0 rfl) ?_
              refine tw_get X hR hT 3 (by decide) q2944 rfl dX10_balances_69 ?_
              refine h_bipush hx hb dX10_balances_72 (by decide) ?_
              refine lv_iload_n hx hb dX10_balances_74 rfl (lv_at hl 2 rfl) ?_
              refine h_iadd hx hb dX10_balances_75 ?_
              refine h_iconst hx hb dX10_balances_76 ?_
              refine h_iadd hx hb dX10_balances_77 ?_
              refine lv_iload_n hx hb dX10_balances_78 rfl (lv_at hl 1 rfl) ?_
              refine lv_aload_n hx hb dX10_balances_79 rfl (lv_at hl 0 rfl) ?_
              refine h_iconst hx hb dX10_balances_80 ?_
              -- call SpokenMarksModel.head
              refine h_kIp (h_runV X hR (m_head l G w_2 a ad t_1 hT.1 2 (by omega)) pn_yX10_head (hasC.of hT.1.ob rfl) q2789 q2791 qs44 q161 q2792 ⟨by decide, by decide⟩ hl.1 (Nat.le_of_ble_eq_true rfl) dX10_balances_81 ⟨by omega, by omega⟩) hL (fun H locs hR hL => ?_)
              refine W.eq (g2 := F0 m9 84 ls [.int (iI ((cN c0 : Int))), .int (iI ((i : Int))), .int (iI (8 + ((s : Int)) + 1)), .ref (ad 3)]) (congrArg (fun z_ : Int => F0 m9 84 ls [.int (iI (z_)), .int (iI ((i : Int))), .int (iI (8 + ((s : Int)) + 1)), .ref (ad 3)]) (show (hd t_1 2 : Int) = (cN c0 : Int) from ((hs _).trans ((balF_no (by omega)).trans hC.n)))) ?_
              refine h_icmp_ge hx hb 97 dX10_balances_84 (by decide) (by omega) (by omega) (fun c_19 => ?_) (fun c_19 => ?_)
              ·
                refine lv_ldc2 (v := lI (10000)) hx hb X.1.2.2.2.1 (X.1.2.2.2.2 _ q3282) dX10_balances_97 ?_
                refine tw_last X hR hL hT (k := 3) (by decide) (9 + s) (by omega) (by show _ < _; simp only [twN]; omega) (by omega) dX10_balances_100 (fun t_20 et_21 w_22 hT H locs hR hL => ?_)
                have hE_t_20 := TwE.ast et_21
                have hv_t_20 := tast_v et_21
                refine h_iinc (lv' := [(2, .int (iI ((s : Int) + 1))), (0, .ref a), (1, .int (iI ((i : Int)))), (3, .int (iI (sm))), (4, .int (iI (fs)))]) hx hb dX10_balances_101 hl (k := 2) rfl (by decide) rfl (fun ls hl => ?_)
                refine lv_goto (tgt := 4) hx hb dX10_balances_104 (by decide) ?_
                have hl : lv_has ls 5 [(2, .int (iI ((s : Int) + 1))), (0, .ref a), (1, .int (iI ((balI c0 (s + 1) : Int)))), (3, .int (iI (sm))), (4, .int (iI (fs)))] := lv_conv hl (congrArg (fun z_ : Int => ([(2, .int (iI ((s : Int) + 1))), (0, .ref a), (1, .int (iI (z_))), (3, .int (iI (sm))), (4, .int (iI (fs)))] : List (Nat × Value))) (show ((i : Int) : Int) = (balI c0 (s + 1) : Int) from (by rw [hbI])))
                exact ih_3 (s + 1) t_20 w_22 (by omega) hT (TwE.tr (S2 := [3]) (TwE.tr (S2 := [3]) (TwE.rf : TwE [] t t) hE_t_1 rfl rfl) hE_t_20 rfl rfl) (fun i_ => by rw [hv_t_20]; exact balF_s hs (by unfold balV; rw [hbI]; first | (rw [if_pos (by omega)]; done) | (rw [if_neg (by omega)]; done)) i_) (by omega) _ _ _ hR hL (lv_sub hl [1, 2, 0] rfl)
              ·
                refine lv_aload_n hx hb dX10_balances_87 rfl (lv_at hl 0 rfl) ?_
                refine lv_iload_n hx hb dX10_balances_88 rfl (lv_at hl 1 rfl) ?_
                refine h_iconst hx hb dX10_balances_89 ?_
                -- call SpokenMarksModel.of
                refine h_kIp (h_runV X hR (m_of l G w_2 a ad t_1 hT.1 i 2 (by omega) (by omega)) pn_yX10_of (hasC.of hT.1.ob rfl) q2827 q2829 qs53 q161 q2830 ⟨by decide, by decide⟩ hl.1 (Nat.le_of_ble_eq_true rfl) dX10_balances_90 ⟨by omega, by omega⟩) hL (fun H locs hR hL => ?_)
                refine W.eq (g2 := F0 m9 93 ls [.int (iI (mPl (mk c0 i))), .int (iI (8 + ((s : Int)) + 1)), .ref (ad 3)]) (congrArg (fun z_ : Int => F0 m9 93 ls [.int (iI (z_)), .int (iI (8 + ((s : Int)) + 1)), .ref (ad 3)]) (show (tof t_1 i 2 : Int) = mPl (mk c0 i) from ((hs _).trans ((balF_no (by omega)).trans (hC.m i (by omega)).2.2.1)))) ?_
                have hpr_ := mPl_r hC.s i (by omega)
                refine h_i2l hx hb dX10_balances_93 (by omega) ?_
                refine lv_goto (tgt := 100) hx hb dX10_balances_94 (by decide) ?_
                refine tw_last X hR hL hT (k := 3) (by decide) (9 + s) (by omega) (by show _ < _; simp only [twN]; omega) (by omega) dX10_balances_100 (fun t_26 et_27 w_28 hT H locs hR hL => ?_)
                have hE_t_26 := TwE.ast et_27
                have hv_t_26 := tast_v et_27
                refine h_iinc (lv' := [(2, .int (iI ((s : Int) + 1))), (0, .ref a), (1, .int (iI ((i : Int)))), (3, .int (iI (sm))), (4, .int (iI (fs)))]) hx hb dX10_balances_101 hl (k := 2) rfl (by decide) rfl (fun ls hl => ?_)
                refine lv_goto (tgt := 4) hx hb dX10_balances_104 (by decide) ?_
                have hl : lv_has ls 5 [(2, .int (iI ((s : Int) + 1))), (0, .ref a), (1, .int (iI ((balI c0 (s + 1) : Int)))), (3, .int (iI (sm))), (4, .int (iI (fs)))] := lv_conv hl (congrArg (fun z_ : Int => ([(2, .int (iI ((s : Int) + 1))), (0, .ref a), (1, .int (iI (z_))), (3, .int (iI (sm))), (4, .int (iI (fs)))] : List (Nat × Value))) (show ((i : Int) : Int) = (balI c0 (s + 1) : Int) from (by rw [hbI])))
                exact ih_3 (s + 1) t_26 w_28 (by omega) hT (TwE.tr (S2 := [3]) (TwE.tr (S2 := [3]) (TwE.rf : TwE [] t t) hE_t_1 rfl rfl) hE_t_26 rfl rfl) (fun i_ => by rw [hv_t_26]; exact balF_s hs (by unfold balV; rw [hbI]; first | (rw [if_pos (by omega)]; done) | (rw [if_neg (by omega)]; done)) i_) (by omega) _ _ _ hR hL (lv_sub hl [1, 2, 0] rfl)
            ·
              refine lv_iload hx hb dX10_balances_29 (lv_at hl 4 rfl) ?_
              refine h_if_ne hx hb 50 dX10_balances_31 (by decide) (by omega) (fun c_29 => ?_) (fun c_29 => ?_)
              ·
                refine lv_iload_n hx hb dX10_balances_50 rfl (lv_at hl 3 rfl) ?_
                refine lv_aload_n hx hb dX10_balances_51 rfl (lv_at hl 0 rfl) ?_
                refine lv_iload_n hx hb dX10_balances_52 rfl (lv_at hl 1 rfl) ?_
                refine h_iconst hx hb dX10_balances_53 ?_
                -- call SpokenMarksModel.of
                refine h_kIp (h_runV X hR (m_of l G w_2 a ad t_1 hT.1 i 1 (by omega) (by omega)) pn_yX10_of (hasC.of hT.1.ob rfl) q2827 q2829 qs53 q161 q2830 ⟨by decide, by decide⟩ hl.1 (Nat.le_of_ble_eq_true rfl) dX10_balances_54 ⟨by omega, by omega⟩) hL (fun H locs hR hL => ?_)
                refine W.eq (g2 := F0 m9 57 ls [.int (iI (mWd (mk c0 i))), .int (iI (sm))]) (congrArg (fun z_ : Int => F0 m9 57 ls [.int (iI (z_)), .int (iI (sm))]) (show (tof t_1 i 1 : Int) = mWd (mk c0 i) from ((hs _).trans ((balF_no (by omega)).trans (hC.m i (by omega)).2.1)))) ?_
                have hwr_ := mWd_r hC.s i (by omega)
                refine h_iadd hx hb dX10_balances_57 ?_
                refine lv_istore_n (lv' := [(3, .int (iI (sm + (mWd (mk c0 i))))), (0, .ref a), (1, .int (iI ((i : Int)))), (2, .int (iI ((s : Int)))), (4, .int (iI (fs)))]) hx hb dX10_balances_58 rfl hl (by decide) rfl (fun ls hl => ?_)
                refine h_iconst hx hb dX10_balances_59 ?_
                refine lv_istore (lv' := [(4, .int (iI (0))), (3, .int (iI (sm + (mWd (mk c0 i))))), (0, .ref a), (1, .int (iI ((i : Int)))), (2, .int (iI ((s : Int))))]) hx hb dX10_balances_60 hl (by decide) rfl (fun ls hl => ?_)
                refine h_iinc (lv' := [(1, .int (iI ((i : Int) + 1))), (4, .int (iI (0))), (3, .int (iI (sm + (mWd (mk c0 i))))), (0, .ref a), (2, .int (iI ((s : Int))))]) hx hb dX10_balances_62 hl (k := 3) rfl (by decide) rfl (fun ls hl => ?_)
                refine lv_goto (tgt := 20) hx hb dX10_balances_65 (by decide) ?_
                exact ih_11 (i + 1) (sm + mWd (mk c0 i)) 0 (by omega) (by omega) (by omega) (hv.step (by omega) (fun q => by omega)) (by omega) _ _ _ hR hL (lv_sub hl [3, 0, 4, 2, 1] rfl)
              ·
                refine lv_iload_n hx hb dX10_balances_34 rfl (lv_at hl 3 rfl) ?_
                refine lv_aload_n hx hb dX10_balances_35 rfl (lv_at hl 0 rfl) ?_
                refine lv_iload_n hx hb dX10_balances_36 rfl (lv_at hl 1 rfl) ?_
                refine h_iconst hx hb dX10_balances_37 ?_
                -- call SpokenMarksModel.of
                refine h_kIp (h_runV X hR (m_of l G w_2 a ad t_1 hT.1 i 1 (by omega) (by omega)) pn_yX10_of (hasC.of hT.1.ob rfl) q2827 q2829 qs53 q161 q2830 ⟨by decide, by decide⟩ hl.1 (Nat.le_of_ble_eq_true rfl) dX10_balances_38 ⟨by omega, by omega⟩) hL (fun H locs hR hL => ?_)
                refine W.eq (g2 := F0 m9 41 ls [.int (iI (mWd (mk c0 i))), .int (iI (sm))]) (congrArg (fun z_ : Int => F0 m9 41 ls [.int (iI (z_)), .int (iI (sm))]) (show (tof t_1 i 1 : Int) = mWd (mk c0 i) from ((hs _).trans ((balF_no (by omega)).trans (hC.m i (by omega)).2.1)))) ?_
                have hwr_ := mWd_r hC.s i (by omega)
                refine h_iadd hx hb dX10_balances_41 ?_
                refine lv_aload_n hx hb dX10_balances_42 rfl (lv_at hl 0 rfl) ?_
                refine h_iconst hx hb dX10_balances_43 ?_
                -- call SpokenMarksModel.head
                refine h_kIp (h_runV X hR (m_head l G w_2 a ad t_1 hT.1 1 (by omega)) pn_yX10_head (hasC.of hT.1.ob rfl) q2789 q2791 qs44 q161 q2792 ⟨by decide, by decide⟩ hl.1 (Nat.le_of_ble_eq_true rfl) dX10_balances_44 ⟨by omega, by omega⟩) hL (fun H locs hR hL => ?_)
                refine W.eq (g2 := F0 m9 47 ls [.int (iI (cRm c0)), .int (iI (sm + (mWd (mk c0 i))))]) (congrArg (fun z_ : Int => F0 m9 47 ls [.int (iI (z_)), .int (iI (sm + (mWd (mk c0 i))))]) (show (hd t_1 1 : Int) = cRm c0 from ((hs _).trans ((balF_no (by omega)).trans hC.rm)))) ?_
                refine h_icmp_gt hx hb 68 dX10_balances_47 (by decide) (by omega) (by omega) (fun c_39 => ?_) (fun c_39 => ?_)
                ·
                  have hbI : balI c0 (s + 1) = i := by first | exact hv.end1 (by omega) | exact hv.end2 (by omega) (by omega)
                  refine lv_aload_n hx hb dX10_balances_68 rfl (lv_at hl 0 rfl) ?_
                  refine tw_get X hR hT 3 (by decide) q2944 rfl dX10_balances_69 ?_
                  refine h_bipush hx hb dX10_balances_72 (by decide) ?_
                  refine lv_iload_n hx hb dX10_balances_74 rfl (lv_at hl 2 rfl) ?_
                  refine h_iadd hx hb dX10_balances_75 ?_
                  refine h_iconst hx hb dX10_balances_76 ?_
                  refine h_iadd hx hb dX10_balances_77 ?_
                  refine lv_iload_n hx hb dX10_balances_78 rfl (lv_at hl 1 rfl) ?_
                  refine lv_aload_n hx hb dX10_balances_79 rfl (lv_at hl 0 rfl) ?_
                  refine h_iconst hx hb dX10_balances_80 ?_
                  -- call SpokenMarksModel.head
                  refine h_kIp (h_runV X hR (m_head l G w_2 a ad t_1 hT.1 2 (by omega)) pn_yX10_head (hasC.of hT.1.ob rfl) q2789 q2791 qs44 q161 q2792 ⟨by decide, by decide⟩ hl.1 (Nat.le_of_ble_eq_true rfl) dX10_balances_81 ⟨by omega, by omega⟩) hL (fun H locs hR hL => ?_)
                  refine W.eq (g2 := F0 m9 84 ls [.int (iI ((cN c0 : Int))), .int (iI ((i : Int))), .int (iI (8 + ((s : Int)) + 1)), .ref (ad 3)]) (congrArg (fun z_ : Int => F0 m9 84 ls [.int (iI (z_)), .int (iI ((i : Int))), .int (iI (8 + ((s : Int)) + 1)), .ref (ad 3)]) (show (hd t_1 2 : Int) = (cN c0 : Int) from ((hs _).trans ((balF_no (by omega)).trans hC.n)))) ?_
                  refine h_icmp_ge hx hb 97 dX10_balances_84 (by decide) (by omega) (by omega) (fun c_43 => ?_) (fun c_43 => ?_)
                  ·
                    refine lv_ldc2 (v := lI (10000)) hx hb X.1.2.2.2.1 (X.1.2.2.2.2 _ q3282) dX10_balances_97 ?_
                    refine tw_last X hR hL hT (k := 3) (by decide) (9 + s) (by omega) (by show _ < _; simp only [twN]; omega) (by omega) dX10_balances_100 (fun t_44 et_45 w_46 hT H locs hR hL => ?_)
                    have hE_t_44 := TwE.ast et_45
                    have hv_t_44 := tast_v et_45
                    refine h_iinc (lv' := [(2, .int (iI ((s : Int) + 1))), (0, .ref a), (1, .int (iI ((i : Int)))), (3, .int (iI (sm))), (4, .int (iI (fs)))]) hx hb dX10_balances_101 hl (k := 2) rfl (by decide) rfl (fun ls hl => ?_)
                    refine lv_goto (tgt := 4) hx hb dX10_balances_104 (by decide) ?_
                    have hl : lv_has ls 5 [(2, .int (iI ((s : Int) + 1))), (0, .ref a), (1, .int (iI ((balI c0 (s + 1) : Int)))), (3, .int (iI (sm))), (4, .int (iI (fs)))] := lv_conv hl (congrArg (fun z_ : Int => ([(2, .int (iI ((s : Int) + 1))), (0, .ref a), (1, .int (iI (z_))), (3, .int (iI (sm))), (4, .int (iI (fs)))] : List (Nat × Value))) (show ((i : Int) : Int) = (balI c0 (s + 1) : Int) from (by rw [hbI])))
                    exact ih_3 (s + 1) t_44 w_46 (by omega) hT (TwE.tr (S2 := [3]) (TwE.tr (S2 := [3]) (TwE.rf : TwE [] t t) hE_t_1 rfl rfl) hE_t_44 rfl rfl) (fun i_ => by rw [hv_t_44]; exact balF_s hs (by unfold balV; rw [hbI]; first | (rw [if_pos (by omega)]; done) | (rw [if_neg (by omega)]; done)) i_) (by omega) _ _ _ hR hL (lv_sub hl [1, 2, 0] rfl)
                  ·
                    refine lv_aload_n hx hb dX10_balances_87 rfl (lv_at hl 0 rfl) ?_
                    refine lv_iload_n hx hb dX10_balances_88 rfl (lv_at hl 1 rfl) ?_
                    refine h_iconst hx hb dX10_balances_89 ?_
                    -- call SpokenMarksModel.of
                    refine h_kIp (h_runV X hR (m_of l G w_2 a ad t_1 hT.1 i 2 (by omega) (by omega)) pn_yX10_of (hasC.of hT.1.ob rfl) q2827 q2829 qs53 q161 q2830 ⟨by decide, by decide⟩ hl.1 (Nat.le_of_ble_eq_true rfl) dX10_balances_90 ⟨by omega, by omega⟩) hL (fun H locs hR hL => ?_)
                    refine W.eq (g2 := F0 m9 93 ls [.int (iI (mPl (mk c0 i))), .int (iI (8 + ((s : Int)) + 1)), .ref (ad 3)]) (congrArg (fun z_ : Int => F0 m9 93 ls [.int (iI (z_)), .int (iI (8 + ((s : Int)) + 1)), .ref (ad 3)]) (show (tof t_1 i 2 : Int) = mPl (mk c0 i) from ((hs _).trans ((balF_no (by omega)).trans (hC.m i (by omega)).2.2.1)))) ?_
                    have hpr_ := mPl_r hC.s i (by omega)
                    refine h_i2l hx hb dX10_balances_93 (by omega) ?_
                    refine lv_goto (tgt := 100) hx hb dX10_balances_94 (by decide) ?_
                    refine tw_last X hR hL hT (k := 3) (by decide) (9 + s) (by omega) (by show _ < _; simp only [twN]; omega) (by omega) dX10_balances_100 (fun t_50 et_51 w_52 hT H locs hR hL => ?_)
                    have hE_t_50 := TwE.ast et_51
                    have hv_t_50 := tast_v et_51
                    refine h_iinc (lv' := [(2, .int (iI ((s : Int) + 1))), (0, .ref a), (1, .int (iI ((i : Int)))), (3, .int (iI (sm))), (4, .int (iI (fs)))]) hx hb dX10_balances_101 hl (k := 2) rfl (by decide) rfl (fun ls hl => ?_)
                    refine lv_goto (tgt := 4) hx hb dX10_balances_104 (by decide) ?_
                    have hl : lv_has ls 5 [(2, .int (iI ((s : Int) + 1))), (0, .ref a), (1, .int (iI ((balI c0 (s + 1) : Int)))), (3, .int (iI (sm))), (4, .int (iI (fs)))] := lv_conv hl (congrArg (fun z_ : Int => ([(2, .int (iI ((s : Int) + 1))), (0, .ref a), (1, .int (iI (z_))), (3, .int (iI (sm))), (4, .int (iI (fs)))] : List (Nat × Value))) (show ((i : Int) : Int) = (balI c0 (s + 1) : Int) from (by rw [hbI])))
                    exact ih_3 (s + 1) t_50 w_52 (by omega) hT (TwE.tr (S2 := [3]) (TwE.tr (S2 := [3]) (TwE.rf : TwE [] t t) hE_t_1 rfl rfl) hE_t_50 rfl rfl) (fun i_ => by rw [hv_t_50]; exact balF_s hs (by unfold balV; rw [hbI]; first | (rw [if_pos (by omega)]; done) | (rw [if_neg (by omega)]; done)) i_) (by omega) _ _ _ hR hL (lv_sub hl [1, 2, 0] rfl)
                ·
                  refine lv_iload_n hx hb dX10_balances_50 rfl (lv_at hl 3 rfl) ?_
                  refine lv_aload_n hx hb dX10_balances_51 rfl (lv_at hl 0 rfl) ?_
                  refine lv_iload_n hx hb dX10_balances_52 rfl (lv_at hl 1 rfl) ?_
                  refine h_iconst hx hb dX10_balances_53 ?_
                  -- call SpokenMarksModel.of
                  refine h_kIp (h_runV X hR (m_of l G w_2 a ad t_1 hT.1 i 1 (by omega) (by omega)) pn_yX10_of (hasC.of hT.1.ob rfl) q2827 q2829 qs53 q161 q2830 ⟨by decide, by decide⟩ hl.1 (Nat.le_of_ble_eq_true rfl) dX10_balances_54 ⟨by omega, by omega⟩) hL (fun H locs hR hL => ?_)
                  refine W.eq (g2 := F0 m9 57 ls [.int (iI (mWd (mk c0 i))), .int (iI (sm))]) (congrArg (fun z_ : Int => F0 m9 57 ls [.int (iI (z_)), .int (iI (sm))]) (show (tof t_1 i 1 : Int) = mWd (mk c0 i) from ((hs _).trans ((balF_no (by omega)).trans (hC.m i (by omega)).2.1)))) ?_
                  have hwr_ := mWd_r hC.s i (by omega)
                  refine h_iadd hx hb dX10_balances_57 ?_
                  refine lv_istore_n (lv' := [(3, .int (iI (sm + (mWd (mk c0 i))))), (0, .ref a), (1, .int (iI ((i : Int)))), (2, .int (iI ((s : Int)))), (4, .int (iI (fs)))]) hx hb dX10_balances_58 rfl hl (by decide) rfl (fun ls hl => ?_)
                  refine h_iconst hx hb dX10_balances_59 ?_
                  refine lv_istore (lv' := [(4, .int (iI (0))), (3, .int (iI (sm + (mWd (mk c0 i))))), (0, .ref a), (1, .int (iI ((i : Int)))), (2, .int (iI ((s : Int))))]) hx hb dX10_balances_60 hl (by decide) rfl (fun ls hl => ?_)
                  refine h_iinc (lv' := [(1, .int (iI ((i : Int) + 1))), (4, .int (iI (0))), (3, .int (iI (sm + (mWd (mk c0 i))))), (0, .ref a), (2, .int (iI ((s : Int))))]) hx hb dX10_balances_62 hl (k := 3) rfl (by decide) rfl (fun ls hl => ?_)
                  refine lv_goto (tgt := 20) hx hb dX10_balances_65 (by decide) ?_
                  exact ih_11 (i + 1) (sm + mWd (mk c0 i)) 0 (by omega) (by omega) (by omega) (hv.step (by omega) (fun q => by omega)) (by omega) _ _ _ hR hL (lv_sub hl [3, 0, 4, 2, 1] rfl)
        exact LOOP_11 _ ((balI c0 s)) 0 1 (balI_le c0 s) (by omega) (by omega) (Or.inl ⟨rfl, rfl, rfl⟩) (Nat.lt_succ_self _) _ _ _ hR hL (lv_sub hl [2, 3, 4, 1, 0] rfl)
  exact LOOP_3 _ 0 t w (by omega) hT (TwE.rf : TwE [3] t t) (fun i => (balF_no (by omega)).symm) (Nat.lt_succ_self _) _ _ _ hR hL (lv_sub hl [2, 1, 0] rfl)
