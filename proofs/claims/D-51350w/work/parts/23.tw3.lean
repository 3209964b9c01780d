/-! the twin: rules and ears -/
set_option maxRecDepth 100000

theorem pn_yX10_head : ParN yX10_head 1 := by decide +kernel
theorem pn_yX10_heard : ParN yX10_heard 1 := by decide +kernel
theorem pn_yX10_isWordPart : ParN yX10_isWordPart 1 := by decide +kernel
theorem pn_yX10_joins : ParN yX10_joins 3 := by decide +kernel
theorem pn_yX10_ruleFor : ParN yX10_ruleFor 1 := by decide +kernel
theorem pn_yX10_ruleWord : ParN yX10_ruleWord 2 := by decide +kernel
theorem pn_yX10_spelled : ParN yX10_spelled 0 := by decide +kernel
theorem pn_yX10_spells : ParN yX10_spells 1 := by decide +kernel
theorem pn_yX10_spokenOf : ParN yX10_spokenOf 1 := by decide +kernel

set_option maxHeartbeats 4000000 in
set_option maxRecDepth 100000 in
/-- ruleFor -/
theorem m_ruleFor (l : Launch) (G : Gl) (w : Wd) (a : Nat) (ad : Nat → Nat) (t : Tw) (hT : TwAt G w a ad t)  (R : Rls) (L : List Int) (hA : RlAt (t.2 3) R) (hw : Wrd L) : HM l yX10_ruleFor cX10_ruleFor 4 (some .int) 2 0 0 G [.ref a, .long (lI (enc L))] w (QI G (fun z_ w_ => z_ = rlF R L ∧ w_ = w)) := by
  refine HM.mk (by decide +kernel) (Nat.le_of_ble_eq_true rfl) ?_
  intro p9 e9 s9 m9 a9 b9 meth9 c9 ls X hret hlk hnm hl H hR
  have hx := X.1.1
  have hb := X.1.2.1
  have hl : lv_has ls 4 [(0, .ref a), (1, .long (lI (enc L)))] := hl
  have hL : LK G [] := fun q h => absurd h List.not_mem_nil
  generalize ([] : List Loc) = locs at hL ⊢
  have hTb := hT
  have hT : TwS G w w a ad t := TwS.rf hT
  have hn8 := hA.2.2.1
  have he2 := enc_r hw.2
  refine h_iconst hx hb dX10_ruleFor_0 ?_
  refine lv_istore_n (lv' := [(3, .int (iI (0))), (0, .ref a), (1, .long (lI (enc L)))]) hx hb dX10_ruleFor_1 rfl hl (by decide) rfl (fun ls hl => ?_)
  have LOOP_1 : ∀ (N_ : Nat) (k : Nat), (k ≤ R.length) → (∀ j, j < k → ¬ r1 R j = L) → (R.length - k) < N_ → ∀ (H : Heap) (locs : List Loc) (ls : Array Slot), Rp G w H → LK G locs → lv_has ls 4 [(0, .ref a), (1, .long (lI (enc L))), (3, .int (iI ((k : Int))))] → W p9 l e9 (rmk 2 0 0) s9 m9 a9 b9 meth9 c9 H locs 0 0 (MQ b9 (QI G (fun z_ w_ => z_ = rlF R L ∧ w_ = w)) a9 s9 0 0 (frG G)) (F0 m9 2 ls []) := by
    intro N_
    induction N_ with
    | zero => intro _ _ _ h_; exact absurd h_ (Nat.not_lt_zero _)
    | succ N_ ih_ =>
      intro k hk hno hN_ H locs ls hR hL hl
      have ih_1 := ih_
      clear ih_
      refine lv_iload_n hx hb dX10_ruleFor_2 rfl (lv_at hl 2 rfl) ?_
      refine lv_aload_n hx hb dX10_ruleFor_3 rfl (lv_at hl 0 rfl) ?_
      refine h_iconst hx hb dX10_ruleFor_4 ?_
      -- call SpokenMarksModel.head
      refine h_kIp (h_runV X hR (m_head l G w a ad t hT.1 3 (by omega)) pn_yX10_head (hasC.of hT.1.ob rfl) q2789 q2791 qs44 q161 q2792 ⟨by decide, by decide⟩ hl.1 (Nat.le_of_ble_eq_true rfl) dX10_ruleFor_5 ⟨by omega, by omega⟩) hL (fun H locs hR hL => ?_)
      refine W.eq (g2 := F0 m9 8 ls [.int (iI ((R.length : Int))), .int (iI ((k : Int)))]) (congrArg (fun z_ : Int => F0 m9 8 ls [.int (iI (z_)), .int (iI ((k : Int)))]) (show (hd t 3 : Int) = (R.length : Int) from (hA.1))) ?_
      refine h_icmp_ge hx hb 30 dX10_ruleFor_8 (by decide) (by omega) (by omega) (fun c_5 => ?_) (fun c_5 => ?_)
      ·
        refine h_iconst hx hb dX10_ruleFor_30 ?_
        exact h_ireturn hx hb hlk hret hR hL rfl ⟨(fstN_no (P := fun k => r1 R k = L) (fun j hj => hno j (by omega))).symm, rfl⟩ (by omega) (by omega) rfl rfl dX10_ruleFor_31
      ·
        refine lv_aload_n hx hb dX10_ruleFor_11 rfl (lv_at hl 0 rfl) ?_
        refine lv_iload_n hx hb dX10_ruleFor_12 rfl (lv_at hl 2 rfl) ?_
        refine h_iconst hx hb dX10_ruleFor_13 ?_
        -- call SpokenMarksModel.ruleWord
        refine h_kLp (h_runV X hR (m_ruleWord l G w a ad t hT.1 k 0 (by omega) (by omega)) pn_yX10_ruleWord (hasC.of hT.1.ob rfl) q2807 q2809 qs48 q161 q2810 ⟨by decide, by decide⟩ hl.1 (Nat.le_of_ble_eq_true rfl) dX10_ruleFor_14 ⟨by omega, by omega⟩) hL (fun H locs hR hL => ?_)
        refine W.eq (g2 := F0 m9 17 ls [.long (lI (enc (r1 R k)))]) (congrArg (fun z_ : Int => F0 m9 17 ls [.long (lI (z_))]) (show (t.2 3 (16 + 2 * k + 0) : Int) = enc (r1 R k) from ((hA.2.1 k (by omega)).1))) ?_
        have hwk := (hA.2.2.at (k := k) (by omega)).1.1
        have he1 := enc_r hwk.2
        refine lv_lload_n hx hb dX10_ruleFor_17 rfl (lv_at hl 1 rfl) ?_
        refine h_lcmp hx hb dX10_ruleFor_18 (by omega) (by omega) ?_
        refine h_if_ne hx hb 24 dX10_ruleFor_19 (by decide) (by have := cmpZ_r (enc (r1 R k)) (enc L); omega) (fun c_e => ?_) (fun c_e => ?_)
        ·
          refine h_iinc (lv' := [(3, .int (iI ((k : Int) + 1))), (0, .ref a), (1, .long (lI (enc L)))]) hx hb dX10_ruleFor_24 hl (k := 2) rfl (by decide) rfl (fun ls hl => ?_)
          refine lv_goto (tgt := 2) hx hb dX10_ruleFor_27 (by decide) ?_
          exact ih_1 (k + 1) (by omega) (fun j hj => (Nat.lt_succ_iff_lt_or_eq.mp hj).elim (fun q => hno j q) (fun q e => c_e (by rw [cmpZ_0, ← e, q]))) (by omega) _ _ _ hR hL (lv_sub hl [1, 2, 0] rfl)
        ·
          refine lv_iload_n hx hb dX10_ruleFor_22 rfl (lv_at hl 2 rfl) ?_
          exact h_ireturn hx hb hlk hret hR hL rfl ⟨(fstN_eq (P := fun k => r1 R k = L) (by omega) (enc_inj hwk hw (cmpZ_0.mp c_e)) hno).symm, rfl⟩ (by omega) (by omega) rfl rfl dX10_ruleFor_23
  exact LOOP_1 _ 0 (by omega) (fun j h => absurd h (Nat.not_lt_zero _)) (Nat.lt_succ_self _) _ _ _ hR hL (lv_sub hl [1, 2, 0] rfl)

set_option maxHeartbeats 4000000 in
set_option maxRecDepth 100000 in
/-- spokenOf -/
theorem m_spokenOf (l : Launch) (G : Gl) (w : Wd) (a : Nat) (ad : Nat → Nat) (t : Tw) (hT : TwAt G w a ad t)  (R : Rls) (L : List Int) (hA : RlAt (t.2 3) R) (hw : Wrd L) : HM l yX10_spokenOf cX10_spokenOf 4 (some .long) 3 0 0 G [.ref a, .long (lI (enc L))] w (QL G (fun z_ w_ => z_ = enc (spk R L) ∧ w_ = w)) := by
  refine HM.mk (by decide +kernel) (Nat.le_of_ble_eq_true rfl) ?_
  intro p9 e9 s9 m9 a9 b9 meth9 c9 ls X hret hlk hnm hl H hR
  have hx := X.1.1
  have hb := X.1.2.1
  have hl : lv_has ls 4 [(0, .ref a), (1, .long (lI (enc L)))] := hl
  have hL : LK G [] := fun q h => absurd h List.not_mem_nil
  generalize ([] : List Loc) = locs at hL ⊢
  have hTb := hT
  have hT : TwS G w w a ad t := TwS.rf hT
  have hn8 := hA.2.2.1
  have hf : -1 ≤ rlF R L ∧ rlF R L < (R.length : Int) := fstN_r (fun k => r1 R k = L) R.length
  refine lv_aload_n hx hb dX10_spokenOf_0 rfl (lv_at hl 0 rfl) ?_
  refine lv_lload_n hx hb dX10_spokenOf_1 rfl (lv_at hl 1 rfl) ?_
  -- call SpokenMarksModel.ruleFor
  refine h_kIp (h_runV X hR (m_ruleFor l G w a ad t hT.1 R L hA hw) pn_yX10_ruleFor (hasC.of hT.1.ob rfl) q2803 q2805 qs47 q161 q2806 ⟨by decide, by decide⟩ hl.1 (Nat.le_of_ble_eq_true rfl) dX10_spokenOf_2 ⟨by omega, by omega⟩) hL (fun H locs hR hL => ?_)
  refine lv_istore_n (lv' := [(3, .int (iI (rlF R L))), (0, .ref a), (1, .long (lI (enc L)))]) hx hb dX10_spokenOf_5 rfl hl (by decide) rfl (fun ls hl => ?_)
  refine lv_iload_n hx hb dX10_spokenOf_6 rfl (lv_at hl 0 rfl) ?_
  refine h_iconst hx hb dX10_spokenOf_7 ?_
  refine h_icmp_ne hx hb 15 dX10_spokenOf_8 (by decide) (by omega) (by omega) (fun c_e => ?_) (fun c_e => ?_)
  ·
    have he5 : rlF R L = ((rlF R L).toNat : Int) := by omega
    have hl : lv_has ls 4 [(3, .int (iI (((rlF R L).toNat : Int)))), (0, .ref a), (1, .long (lI (enc L)))] := lv_conv hl (congrArg (fun z_ : Int => ([(3, .int (iI (z_))), (0, .ref a), (1, .long (lI (enc L)))] : List (Nat × Value))) (show (rlF R L : Int) = ((rlF R L).toNat : Int) from (by omega)))
    refine lv_aload_n hx hb dX10_spokenOf_15 rfl (lv_at hl 1 rfl) ?_
    refine lv_iload_n hx hb dX10_spokenOf_16 rfl (lv_at hl 0 rfl) ?_
    refine h_iconst hx hb dX10_spokenOf_17 ?_
    -- call SpokenMarksModel.ruleWord
    refine h_kLp (h_runV X hR (m_ruleWord l G w a ad t hT.1 ((rlF R L).toNat) 1 (by omega) (by omega)) pn_yX10_ruleWord (hasC.of hT.1.ob rfl) q2807 q2809 qs48 q161 q2810 ⟨by decide, by decide⟩ hl.1 (Nat.le_of_ble_eq_true rfl) dX10_spokenOf_18 ⟨by omega, by omega⟩) hL (fun H locs hR hL => ?_)
    exact h_lreturn hx hb hlk hret hR hL ⟨by unfold spk; rw [if_neg c_e]; exact (hA.2.1 _ (by omega)).2, rfl⟩ (by omega) (by omega) rfl rfl dX10_spokenOf_21
  ·
    refine lv_lload_n hx hb dX10_spokenOf_11 rfl (lv_at hl 2 rfl) ?_
    refine lv_goto (tgt := 21) hx hb dX10_spokenOf_12 (by decide) ?_
    exact h_lreturn hx hb hlk hret hR hL ⟨by unfold spk; rw [if_pos c_e], rfl⟩ (by omega) (by omega) rfl rfl dX10_spokenOf_21

set_option maxHeartbeats 4000000 in
set_option maxRecDepth 100000 in
/-- ear -/
theorem m_earF (l : Launch) (G : Gl) (w : Wd) (a : Nat) (ad : Nat → Nat) (t : Tw) (hT : TwAt G w a ad t) (v : Int)  (h1 : 0 ≤ v ∧ v < 1000000) : HM l yX10_ear cX10_ear 4 (some .long) 4 0 0 G [.ref a, .long (lI (v))] w (QL G (fun z_ w_ => z_ = v ∧ ∃ t_ : Tw, TwS G w w_ a ad t_ ∧ TwE [1, 2] t t_ ∧ True)) := by
  refine HM.mk (by decide +kernel) (Nat.le_of_ble_eq_true rfl) ?_
  intro p9 e9 s9 m9 a9 b9 meth9 c9 ls X hret hlk hnm hl H hR
  have hx := X.1.1
  have hb := X.1.2.1
  have hl : lv_has ls 4 [(0, .ref a), (1, .long (lI (v)))] := hl
  have hL : LK G [] := fun q h => absurd h List.not_mem_nil
  generalize ([] : List Loc) = locs at hL ⊢
  have hTb := hT
  have hT : TwS G w w a ad t := TwS.rf hT
  refine lv_lload_n hx hb dX10_ear_0 rfl (lv_at hl 1 rfl) ?_
  -- call SpokenMarksModel.isWordPart
  refine h_kIp (h_runS X hR (m_isWordPart l G w  v (by omega)) pn_yX10_isWordPart q2839 q2840 q161 q2841 ⟨by decide, by decide⟩ hl.1 (Nat.le_of_ble_eq_true rfl) dX10_ear_1 ⟨by omega, by omega⟩) hL (fun H locs hR hL => ?_)
  refine h_if_ne hx hb 9 dX10_ear_4 (by decide) (by have := b2i_01 (1000000 ≤ v); omega) (fun c_4 => ?_) (fun c_4 => ?_)
  ·
    exact absurd (b2i_f (show ¬ 1000000 ≤ v by omega)) c_4
  ·
    refine lv_lload_n hx hb dX10_ear_7 rfl (lv_at hl 1 rfl) ?_
    exact h_lreturn hx hb hlk hret hR hL ⟨rfl, ⟨t, hT, (TwE.rf : TwE [1, 2] t t), trivial⟩⟩ (by omega) (by omega) rfl rfl dX10_ear_8

set_option maxHeartbeats 4000000 in
set_option maxRecDepth 100000 in
/-- ear -/
theorem m_earW (l : Launch) (G : Gl) (w : Wd) (a : Nat) (ad : Nat → Nat) (t : Tw) (hT : TwAt G w a ad t)  (R : Rls) (L : List Int) (hA : RlAt (t.2 3) R) (hw : Wrd L ∧ L ≠ []) : HM l yX10_ear cX10_ear 4 (some .long) 4 0 0 G [.ref a, .long (lI (enc L))] w (QL G (fun z_ w_ => z_ = enc (earL (spk R L)) ∧ ∃ t_ : Tw, TwS G w w_ a ad t_ ∧ TwE [1, 2] t t_ ∧ True)) := by
  refine HM.mk (by decide +kernel) (Nat.le_of_ble_eq_true rfl) ?_
  intro p9 e9 s9 m9 a9 b9 meth9 c9 ls X hret hlk hnm hl H hR
  have hx := X.1.1
  have hb := X.1.2.1
  have hl : lv_has ls 4 [(0, .ref a), (1, .long (lI (enc L)))] := hl
  have hL : LK G [] := fun q h => absurd h List.not_mem_nil
  generalize ([] : List Loc) = locs at hL ⊢
  have hTb := hT
  have hT : TwS G w w a ad t := TwS.rf hT
  have he0 := enc_r hw.1.2
  have hsw := spk_w hA.2.2 hw
  refine lv_lload_n hx hb dX10_ear_0 rfl (lv_at hl 1 rfl) ?_
  -- call SpokenMarksModel.isWordPart
  refine h_kIp (h_runS X hR (m_isWordPart l G w  (enc L) (by omega)) pn_yX10_isWordPart q2839 q2840 q161 q2841 ⟨by decide, by decide⟩ hl.1 (Nat.le_of_ble_eq_true rfl) dX10_ear_1 ⟨by omega, by omega⟩) hL (fun H locs hR hL => ?_)
  refine h_if_ne hx hb 9 dX10_ear_4 (by decide) (by have := b2i_01 (1000000 ≤ enc L); omega) (fun c_4 => ?_) (fun c_4 => ?_)
  ·
    refine lv_aload_n hx hb dX10_ear_9 rfl (lv_at hl 0 rfl) ?_
    refine lv_aload_n hx hb dX10_ear_10 rfl (lv_at hl 0 rfl) ?_
    refine lv_lload_n hx hb dX10_ear_11 rfl (lv_at hl 1 rfl) ?_
    -- call SpokenMarksModel.spokenOf
    refine h_kLp (h_runV X hR (m_spokenOf l G w a ad t hT.1 R L hA hw.1) pn_yX10_spokenOf (hasC.of hT.1.ob rfl) q2842 q2844 qs56 q161 q2845 ⟨by decide, by decide⟩ hl.1 (Nat.le_of_ble_eq_true rfl) dX10_ear_12 ⟨by omega, by omega⟩) hL (fun H locs hR hL => ?_)
    -- call SpokenMarksModel.spells
    refine h_kV (h_runV X hR (m_spells l G w a ad t hT.1 (spk R L) hsw.1) pn_yX10_spells (hasC.of hT.1.ob rfl) q2846 q2848 qs57 q161 q2849 ⟨by decide, by decide⟩ hl.1 (Nat.le_of_ble_eq_true rfl) dX10_ear_15 ⟨by omega, by omega⟩) hL (fun w_9 hp_10 H locs hR hL => ?_)
    obtain ⟨t_11, hT2, hE_t_11, et_12⟩ := hp_10
    have hT := hT.tr hT2
    clear hT2
    refine lv_aload_n hx hb dX10_ear_18 rfl (lv_at hl 0 rfl) ?_
    refine h_bipush hx hb dX10_ear_19 (by decide) ?_
    refine h_bipush hx hb dX10_ear_21 (by decide) ?_
    refine h_bipush hx hb dX10_ear_23 (by decide) ?_
    -- call SpokenMarksModel.joins
    refine h_kV (h_runV X hR (m_joins l G w_9 a ad t_11 hT.1 112 104 102 (spk R L) et_12 (by decide) (by decide) (by decide)) pn_yX10_joins (hasC.of hT.1.ob rfl) q2850 q2852 qs58 q161 q2853 ⟨by decide, by decide⟩ hl.1 (Nat.le_of_ble_eq_true rfl) dX10_ear_25 ⟨by omega, by omega⟩) hL (fun w_14 hp_15 H locs hR hL => ?_)
    obtain ⟨t_16, hT2, hE_t_16, et_17⟩ := hp_15
    have hT := hT.tr hT2
    clear hT2
    refine lv_aload_n hx hb dX10_ear_28 rfl (lv_at hl 0 rfl) ?_
    refine h_bipush hx hb dX10_ear_29 (by decide) ?_
    refine h_bipush hx hb dX10_ear_31 (by decide) ?_
    refine h_bipush hx hb dX10_ear_33 (by decide) ?_
    -- call SpokenMarksModel.joins
    refine h_kV (h_runV X hR (m_joins l G w_14 a ad t_16 hT.1 99 107 107 (prs 112 104 102 (spk R L)) et_17 (by decide) (by decide) (by decide)) pn_yX10_joins (hasC.of hT.1.ob rfl) q2850 q2852 qs58 q161 q2853 ⟨by decide, by decide⟩ hl.1 (Nat.le_of_ble_eq_true rfl) dX10_ear_35 ⟨by omega, by omega⟩) hL (fun w_19 hp_20 H locs hR hL => ?_)
    obtain ⟨t_21, hT2, hE_t_21, et_22⟩ := hp_20
    have hT := hT.tr hT2
    clear hT2
    obtain ⟨M, hM⟩ : ∃ M_, M_ = prs 99 107 107 (prs 112 104 102 (spk R L)) := ⟨_, rfl⟩
    have hsM : Spt t_21 M := by rw [hM]; exact et_22
    have hMn : M ≠ [] := by rw [hM]; exact (prs_len 99 107 107 _).2 ((prs_len 112 104 102 _).2 hsw.2)
    have hM8 := hsM.2.1.1
    refine h_iconst hx hb dX10_ear_38 ?_
    refine lv_istore_n (lv' := [(3, .int (iI (0))), (0, .ref a), (1, .long (lI (enc L)))]) hx hb dX10_ear_39 rfl hl (by decide) rfl (fun ls hl => ?_)
    have LOOP_25 : ∀ (N_ : Nat) (k : Nat) (t_23 : Tw) (w_24 : Wd), (k ≤ M.length) → (TwS G w w_24 a ad t_23) → (TwE [1, 2] t t_23) → (t_23.1 2 = (M.length : Int)) → (∀ i, i < M.length → t_23.2 1 i = if i < k then dg (M.map hrd) i else dg M i) → (M.length - k) < N_ → ∀ (H : Heap) (locs : List Loc) (ls : Array Slot), Rp G w_24 H → LK G locs → lv_has ls 4 [(0, .ref a), (3, .int (iI ((k : Int))))] → W p9 l e9 (rmk 4 0 0) s9 m9 a9 b9 meth9 c9 H locs 0 0 (MQ b9 (QL G (fun z_ w_ => z_ = enc (earL (spk R L)) ∧ ∃ t_ : Tw, TwS G w w_ a ad t_ ∧ TwE [1, 2] t t_ ∧ True)) a9 s9 0 0 (frG G)) (F0 m9 40 ls []) := by
      intro N_
      induction N_ with
      | zero => intro _ _ _ _ _ _ _ _ h_; exact absurd h_ (Nat.not_lt_zero _)
      | succ N_ ih_ =>
        intro k t_23 w_24 hk hT hE_t_23 h2 hs2 hN_ H locs ls hR hL hl
        have ih_25 := ih_
        clear ih_
        refine lv_iload_n hx hb dX10_ear_40 rfl (lv_at hl 1 rfl) ?_
        refine lv_aload_n hx hb dX10_ear_41 rfl (lv_at hl 0 rfl) ?_
        refine tw_get X hR hT 2 (by decide) q2943 (v := .int (iI ((M.length : Int)))) (congrArg (fun z => some (Value.int (iI z))) (h2)) dX10_ear_42 ?_
        refine h_icmp_ge hx hb 69 dX10_ear_45 (by decide) (by omega) (by omega) (fun c_26 => ?_) (fun c_26 => ?_)
        ·
          have hsP : Spt t_23 (M.map hrd) := ⟨by rw [h2, List.length_map], wrd_map hsM.2.1, fun i hi => by rw [List.length_map] at hi; rw [hs2 i hi, if_pos (by omega)]⟩
          obtain ⟨P, hP⟩ : ∃ M_, M_ = M.map hrd := ⟨_, rfl⟩
          have hsP : Spt t_23 P := by rw [hP]; exact hsP
          have hPn : 0 < P.length := by rw [hP, List.length_map]; exact List.length_pos_iff.mpr hMn
          have hP8 := hsP.2.1.1
          refine lv_aload_n hx hb dX10_ear_69 rfl (lv_at hl 0 rfl) ?_
          refine tw_get X hR hT 2 (by decide) q2943 (v := .int (iI ((M.length : Int)))) (congrArg (fun z => some (Value.int (iI z))) (h2)) dX10_ear_70 ?_
          refine h_iconst hx hb dX10_ear_73 ?_
          refine h_isub hx hb dX10_ear_74 ?_
          refine lv_istore_n (lv' := [(3, .int (iI (((M.length : Int)) - 1))), (0, .ref a)]) hx hb dX10_ear_75 rfl hl (by decide) rfl (fun ls hl => ?_)
          have LOOP_29 : ∀ (N_ : Nat) (k : Nat) (t_27 : Tw) (w_28 : Wd), (k < P.length) → (TwS G w w_28 a ad t_27) → (TwE [1, 2] t t_27) → (Spt t_27 (silK P (k + 1))) → k < N_ → ∀ (H : Heap) (locs : List Loc) (ls : Array Slot), Rp G w_28 H → LK G locs → lv_has ls 4 [(0, .ref a), (3, .int (iI ((k : Int))))] → W p9 l e9 (rmk 4 0 0) s9 m9 a9 b9 meth9 c9 H locs 0 0 (MQ b9 (QL G (fun z_ w_ => z_ = enc (earL (spk R L)) ∧ ∃ t_ : Tw, TwS G w w_ a ad t_ ∧ TwE [1, 2] t t_ ∧ True)) a9 s9 0 0 (frG G)) (F0 m9 76 ls []) := by
            intro N_
            induction N_ with
            | zero => intro _ _ _ _ _ _ _ h_; exact absurd h_ (Nat.not_lt_zero _)
            | succ N_ ih_ =>
              intro k t_27 w_28 hk hT hE_t_27 hs3 hN_ H locs ls hR hL hl
              have ih_29 := ih_
              clear ih_
              refine lv_iload_n hx hb dX10_ear_76 rfl (lv_at hl 1 rfl) ?_
              refine h_if_le hx hb 105 dX10_ear_77 (by decide) (by omega) (fun c_30 => ?_) (fun c_30 => ?_)
              ·
                obtain ⟨S, hS⟩ : ∃ M_, M_ = sil P := ⟨_, rfl⟩
                have hsS : Spt t_27 S := by rw [hS]; exact (by rw [← silK_1, show 1 = k + 1 by omega]; exact hs3)
                have hSn0 : S ≠ [] := by rw [hS]; exact (sil_sub P).2.2 (List.length_pos_iff.mp hPn)
                have hSn := List.length_pos_iff.mpr hSn0
                have hS8 := hsS.2.1.1
                refine lv_aload_n hx hb dX10_ear_105 rfl (lv_at hl 0 rfl) ?_
                refine tw_get X hR hT 2 (by decide) q2943 (v := .int (iI (t_27.1 2))) rfl dX10_ear_106 ?_
                have rg_t_27_2 := hT.1.ri 2 (by decide) (by decide)
                refine h_iconst hx hb dX10_ear_109 ?_
                refine h_isub hx hb dX10_ear_110 ?_
                refine lv_istore_n (lv' := [(3, .int (iI ((t_27.1 2) - 1))), (0, .ref a)]) hx hb dX10_ear_111 rfl hl (by decide) rfl (fun ls hl => ?_)
                have LOOP_33 : ∀ (N_ : Nat) (k : Nat) (t_31 : Tw) (w_32 : Wd), (k < S.length) → (TwS G w w_32 a ad t_31) → (TwE [1, 2] t t_31) → (Spt t_31 (rnsK S k)) → k < N_ → ∀ (H : Heap) (locs : List Loc) (ls : Array Slot), Rp G w_32 H → LK G locs → lv_has ls 4 [(0, .ref a), (3, .int (iI ((k : Int))))] → W p9 l e9 (rmk 4 0 0) s9 m9 a9 b9 meth9 c9 H locs 0 0 (MQ b9 (QL G (fun z_ w_ => z_ = enc (earL (spk R L)) ∧ ∃ t_ : Tw, TwS G w w_ a ad t_ ∧ TwE [1, 2] t t_ ∧ True)) a9 s9 0 0 (frG G)) (F0 m9 112 ls []) := by
                  intro N_
                  induction N_ with
                  | zero => intro _ _ _ _ _ _ _ h_; exact absurd h_ (Nat.not_lt_zero _)
                  | succ N_ ih_ =>
                    intro k t_31 w_32 hk hT hE_t_31 hs4 hN_ H locs ls hR hL hl
                    have ih_33 := ih_
                    clear ih_
                    refine lv_iload_n hx hb dX10_ear_112 rfl (lv_at hl 1 rfl) ?_
                    refine h_if_le hx hb 144 dX10_ear_113 (by decide) (by omega) (fun c_34 => ?_) (fun c_34 => ?_)
                    ·
                      refine lv_aload_n hx hb dX10_ear_144 rfl (lv_at hl 0 rfl) ?_
                      -- call SpokenMarksModel.spelled
                      refine h_kLp (h_runV X hR (m_spelled l G w_32 a ad t_31 hT.1 (rns S) (by rw [← rnsK_0 hSn0, show 0 = k by omega]; exact hs4)) pn_yX10_spelled (hasC.of hT.1.ob rfl) q2797 q2799 qs46 q161 q2800 ⟨by decide, by decide⟩ hl.1 (Nat.le_of_ble_eq_true rfl) dX10_ear_145 ⟨by omega, by omega⟩) hL (fun H locs hR hL => ?_)
                      refine W.eq (g2 := F0 m9 148 ls [.long (lI (enc (earL (spk R L))))]) (congrArg (fun z_ : Int => F0 m9 148 ls [.long (lI (z_))]) (show (enc (rns S) : Int) = enc (earL (spk R L)) from (by rw [hS, hP, hM]; rfl))) ?_
                      exact h_lreturn hx hb hlk hret hR hL ⟨rfl, ⟨t_31, hT, (TwE.tr (S2 := [1, 2]) (TwE.rf : TwE [] t t) hE_t_31 rfl rfl), trivial⟩⟩ (by omega) (by omega) rfl rfl dX10_ear_148
                    ·
                      refine lv_aload_n hx hb dX10_ear_116 rfl (lv_at hl 0 rfl) ?_
                      refine tw_get X hR hT 1 (by decide) q2942 rfl dX10_ear_117 ?_
                      refine lv_iload_n hx hb dX10_ear_120 rfl (lv_at hl 1 rfl) ?_
                      refine tw_iald X hR hT (k := 1) (by decide) k (by omega) (by show _ < _; simp only [twN]; omega) (v := dg S k) ((hs4.2.2 k (rnsK_len (by omega))).trans (rnsK_pre (by omega) (Nat.le_refl k))) dX10_ear_121 (fun ra_121 => ?_)
                      refine lv_aload_n hx hb dX10_ear_122 rfl (lv_at hl 0 rfl) ?_
                      refine tw_get X hR hT 1 (by decide) q2942 rfl dX10_ear_123 ?_
                      refine lv_iload_n hx hb dX10_ear_126 rfl (lv_at hl 1 rfl) ?_
                      refine h_iconst hx hb dX10_ear_127 ?_
                      refine h_isub hx hb dX10_ear_128 ?_
                      refine tw_iald X hR hT (k := 1) (by decide) (k - 1) (by omega) (by show _ < _; simp only [twN]; omega) (v := dg S (k - 1)) ((hs4.2.2 (k - 1) (Nat.lt_of_le_of_lt (Nat.sub_le k 1) (rnsK_len (by omega)))).trans (rnsK_pre (by omega) (Nat.sub_le k 1))) dX10_ear_129 (fun ra_129 => ?_)
                      refine h_icmp_ne hx hb 138 dX10_ear_130 (by decide) (by have := dg_r hsS.2.1.2 k; omega) (by have := dg_r hsS.2.1.2 (k - 1); omega) (fun c_r => ?_) (fun c_r => ?_)
                      ·
                        refine h_iinc (lv' := [(3, .int (iI ((k : Int) + (-1)))), (0, .ref a)]) hx hb dX10_ear_138 hl (k := 1) rfl (by decide) rfl (fun ls hl => ?_)
                        refine lv_goto (tgt := 112) hx hb dX10_ear_141 (by decide) ?_
                        have hl : lv_has ls 4 [(3, .int (iI (((k - 1 : Nat) : Int)))), (0, .ref a)] := lv_conv hl (congrArg (fun z_ : Int => ([(3, .int (iI (z_))), (0, .ref a)] : List (Nat × Value))) (show ((k : Int) + (-1) : Int) = ((k - 1 : Nat) : Int) from (by omega)))
                        exact ih_33 (k - 1) t_31 w_32 (by omega) hT (TwE.tr (S2 := [1, 2]) (TwE.rf : TwE [] t t) hE_t_31 rfl rfl) (by have q := rnsK_no (L := S) (k := k - 1) (by omega) (by rw [show k - 1 + 1 = k by omega]; exact c_r); rw [show k - 1 + 1 = k by omega] at q; rw [← q]; exact hs4) (by omega) _ _ _ hR hL (lv_sub hl [1, 0] rfl)
                      ·
                        refine lv_aload_n hx hb dX10_ear_133 rfl (lv_at hl 0 rfl) ?_
                        refine lv_iload_n hx hb dX10_ear_134 rfl (lv_at hl 1 rfl) ?_
                        -- call SpokenMarksModel.goes
                        refine h_kV (h_runV X hR (m_goes l G w_32 a ad t_31 hT.1 k (rnsK S k) hs4 (rnsK_len (by omega))) pn_yX10_goes (hasC.of hT.1.ob rfl) q2857 q2859 qs59 q161 q2860 ⟨by decide, by decide⟩ hl.1 (Nat.le_of_ble_eq_true rfl) dX10_ear_135 ⟨by omega, by omega⟩) hL (fun w_39 hp_40 H locs hR hL => ?_)
                        obtain ⟨t_41, hT2, hE_t_41, et_42⟩ := hp_40
                        have hT := hT.tr hT2
                        clear hT2
                        refine h_iinc (lv' := [(3, .int (iI ((k : Int) + (-1)))), (0, .ref a)]) hx hb dX10_ear_138 hl (k := 1) rfl (by decide) rfl (fun ls hl => ?_)
                        refine lv_goto (tgt := 112) hx hb dX10_ear_141 (by decide) ?_
                        have hl : lv_has ls 4 [(3, .int (iI (((k - 1 : Nat) : Int)))), (0, .ref a)] := lv_conv hl (congrArg (fun z_ : Int => ([(3, .int (iI (z_))), (0, .ref a)] : List (Nat × Value))) (show ((k : Int) + (-1) : Int) = ((k - 1 : Nat) : Int) from (by omega)))
                        exact ih_33 (k - 1) t_41 w_39 (by omega) hT (TwE.tr (S2 := [1, 2]) (TwE.tr (S2 := [1, 2]) (TwE.rf : TwE [] t t) hE_t_31 rfl rfl) hE_t_41 rfl rfl) (by have q := rnsK_hit (L := S) (k := k - 1) (by omega) (by rw [show k - 1 + 1 = k by omega]; exact c_r); rw [show k - 1 + 1 = k by omega] at q; rw [← q]; exact et_42) (by omega) _ _ _ hR hL (lv_sub hl [1, 0] rfl)
                have hl : lv_has ls 4 [(3, .int (iI (((S.length - 1 : Nat) : Int)))), (0, .ref a)] := lv_conv hl (congrArg (fun z_ : Int => ([(3, .int (iI (z_))), (0, .ref a)] : List (Nat × Value))) (show ((t_27.1 2) - 1 : Int) = ((S.length - 1 : Nat) : Int) from (by have := hsS.1; omega)))
                exact LOOP_33 _ (S.length - 1) t_27 w_28 (by omega) hT (TwE.tr (S2 := [1, 2]) (TwE.rf : TwE [] t t) hE_t_27 rfl rfl) (by rw [rnsK_all hSn0]; exact hsS) (Nat.lt_succ_self _) _ _ _ hR hL (lv_sub hl [1, 0] rfl)
              ·
                refine lv_aload_n hx hb dX10_ear_80 rfl (lv_at hl 0 rfl) ?_
                refine tw_get X hR hT 1 (by decide) q2942 rfl dX10_ear_81 ?_
                refine lv_iload_n hx hb dX10_ear_84 rfl (lv_at hl 1 rfl) ?_
                refine tw_iald X hR hT (k := 1) (by decide) k (by omega) (by show _ < _; simp only [twN]; omega) (v := dg P k) ((hs3.2.2 k (Nat.lt_of_lt_of_le (Nat.lt_succ_self k) (silK_len (by omega)))).trans (silK_pre (by omega) (Nat.lt_succ_self k))) dX10_ear_85 (fun ra_85 => ?_)
                refine h_bipush hx hb dX10_ear_86 (by decide) ?_
                -- call SpokenMarksModel.letter
                refine h_kIp (h_runS X hR (m_letterC l G w_28  104) pn_yX10_letter q2854 q2855 q161 q2856 ⟨by decide, by decide⟩ hl.1 (Nat.le_of_ble_eq_true rfl) dX10_ear_88 ⟨by omega, by omega⟩) hL (fun H locs hR hL => ?_)
                refine h_icmp_ne hx hb 99 dX10_ear_91 (by decide) (by have := dg_r hsP.2.1.2 k; omega) (by omega) (fun c_h => ?_) (fun c_h => ?_)
                ·
                  refine h_iinc (lv' := [(3, .int (iI ((k : Int) + (-1)))), (0, .ref a)]) hx hb dX10_ear_99 hl (k := 1) rfl (by decide) rfl (fun ls hl => ?_)
                  refine lv_goto (tgt := 76) hx hb dX10_ear_102 (by decide) ?_
                  have hl : lv_has ls 4 [(3, .int (iI (((k - 1 : Nat) : Int)))), (0, .ref a)] := lv_conv hl (congrArg (fun z_ : Int => ([(3, .int (iI (z_))), (0, .ref a)] : List (Nat × Value))) (show ((k : Int) + (-1) : Int) = ((k - 1 : Nat) : Int) from (by omega)))
                  exact ih_29 (k - 1) t_27 w_28 (by omega) hT (TwE.tr (S2 := [1, 2]) (TwE.rf : TwE [] t t) hE_t_27 rfl rfl) (by rw [show k - 1 + 1 = k by omega, ← silK_no (by omega) (show dg P k ≠ 8 by omega)]; exact hs3) (by omega) _ _ _ hR hL (lv_sub hl [1, 0] rfl)
                ·
                  refine lv_aload_n hx hb dX10_ear_94 rfl (lv_at hl 0 rfl) ?_
                  refine lv_iload_n hx hb dX10_ear_95 rfl (lv_at hl 1 rfl) ?_
                  -- call SpokenMarksModel.goes
                  refine h_kV (h_runV X hR (m_goes l G w_28 a ad t_27 hT.1 k (silK P (k + 1)) hs3 (Nat.lt_of_lt_of_le (Nat.lt_succ_self k) (silK_len (by omega)))) pn_yX10_goes (hasC.of hT.1.ob rfl) q2857 q2859 qs59 q161 q2860 ⟨by decide, by decide⟩ hl.1 (Nat.le_of_ble_eq_true rfl) dX10_ear_96 ⟨by omega, by omega⟩) hL (fun w_47 hp_48 H locs hR hL => ?_)
                  obtain ⟨t_49, hT2, hE_t_49, et_50⟩ := hp_48
                  have hT := hT.tr hT2
                  clear hT2
                  refine h_iinc (lv' := [(3, .int (iI ((k : Int) + (-1)))), (0, .ref a)]) hx hb dX10_ear_99 hl (k := 1) rfl (by decide) rfl (fun ls hl => ?_)
                  refine lv_goto (tgt := 76) hx hb dX10_ear_102 (by decide) ?_
                  have hl : lv_has ls 4 [(3, .int (iI (((k - 1 : Nat) : Int)))), (0, .ref a)] := lv_conv hl (congrArg (fun z_ : Int => ([(3, .int (iI (z_))), (0, .ref a)] : List (Nat × Value))) (show ((k : Int) + (-1) : Int) = ((k - 1 : Nat) : Int) from (by omega)))
                  exact ih_29 (k - 1) t_49 w_47 (by omega) hT (TwE.tr (S2 := [1, 2]) (TwE.tr (S2 := [1, 2]) (TwE.rf : TwE [] t t) hE_t_27 rfl rfl) hE_t_49 rfl rfl) (by rw [show k - 1 + 1 = k by omega, ← silK_hit (by omega) (show dg P k = 8 by omega)]; exact et_50) (by omega) _ _ _ hR hL (lv_sub hl [1, 0] rfl)
          have hl : lv_has ls 4 [(3, .int (iI (((P.length - 1 : Nat) : Int)))), (0, .ref a)] := lv_conv hl (congrArg (fun z_ : Int => ([(3, .int (iI (z_))), (0, .ref a)] : List (Nat × Value))) (show (((M.length : Int)) - 1 : Int) = ((P.length - 1 : Nat) : Int) from (by have := hsP.1; omega)))
          exact LOOP_29 _ (P.length - 1) t_23 w_24 (by omega) hT (TwE.tr (S2 := [1, 2]) (TwE.rf : TwE [] t t) hE_t_23 rfl rfl) (by rw [show P.length - 1 + 1 = P.length by omega, silK_all]; exact hsP) (Nat.lt_succ_self _) _ _ _ hR hL (lv_sub hl [1, 0] rfl)
        ·
          refine lv_aload_n hx hb dX10_ear_48 rfl (lv_at hl 0 rfl) ?_
          refine tw_get X hR hT 1 (by decide) q2942 rfl dX10_ear_49 ?_
          refine lv_iload_n hx hb dX10_ear_52 rfl (lv_at hl 1 rfl) ?_
          refine lv_aload_n hx hb dX10_ear_53 rfl (lv_at hl 0 rfl) ?_
          refine tw_get X hR hT 1 (by decide) q2942 rfl dX10_ear_54 ?_
          refine lv_iload_n hx hb dX10_ear_57 rfl (lv_at hl 1 rfl) ?_
          refine tw_iald X hR hT (k := 1) (by decide) k (by omega) (by show _ < _; simp only [twN]; omega) (v := dg M k) ((hs2 k (by omega)).trans (if_neg (by omega))) dX10_ear_58 (fun ra_58 => ?_)
          -- call SpokenMarksModel.heard
          refine h_kIp (h_runS X hR (m_heard l G w_24  (dg M k) (by omega)) pn_yX10_heard q2861 q2862 q161 q2863 ⟨by decide, by decide⟩ hl.1 (Nat.le_of_ble_eq_true rfl) dX10_ear_59 ⟨by omega, by omega⟩) hL (fun H locs hR hL => ?_)
          refine tw_iast X hR hL hT (k := 1) (by decide) k (by omega) (by show _ < _; simp only [twN]; omega) (by have := hrd_ltr (c := dg M k + 96) (by have := dg_pos hsM.2.1.2 (j := k) (by omega); omega); omega) dX10_ear_62 (fun t_54 et_55 w_56 hT H locs hR hL => ?_)
          have hE_t_54 := TwE.ast et_55
          have hv_t_54 := tast_v et_55
          refine h_iinc (lv' := [(3, .int (iI ((k : Int) + 1))), (0, .ref a)]) hx hb dX10_ear_63 hl (k := 1) rfl (by decide) rfl (fun ls hl => ?_)
          refine lv_goto (tgt := 40) hx hb dX10_ear_66 (by decide) ?_
          exact ih_25 (k + 1) t_54 w_56 (by omega) hT (TwE.tr (S2 := [1, 2]) (TwE.tr (S2 := [1, 2]) (TwE.rf : TwE [] t t) hE_t_23 rfl rfl) hE_t_54 rfl rfl) ((hE_t_54 2 (by decide)).1.trans h2) (fun i hi => by rw [hv_t_54]; unfold zset; by_cases q : i = k; rw [if_pos q, if_pos (by omega), q, dg_map M k (by omega)]; rw [if_neg q, hs2 i hi]; by_cases q2 : i < k; rw [if_pos q2, if_pos (by omega)]; rw [if_neg q2, if_neg (by omega)]) (by omega) _ _ _ hR hL (lv_sub hl [1, 0] rfl)
    exact LOOP_25 _ 0 t_21 w_19 (by omega) hT (TwE.tr (S2 := [1, 2]) (TwE.tr (S2 := [1, 2]) (TwE.tr (S2 := [1, 2]) (TwE.rf : TwE [] t t) hE_t_11 rfl rfl) hE_t_16 rfl rfl) hE_t_21 rfl rfl) hsM.1 (fun i hi => (hsM.2.2 i hi).trans (if_neg (Nat.not_lt_zero i)).symm) (Nat.lt_succ_self _) _ _ _ hR hL (lv_sub hl [1, 0] rfl)
  ·
    exact absurd c_4 (by rw [b2i_t he0.1]; decide)
