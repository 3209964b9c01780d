/-! the twin: comes, adds, drops, widens, bounds, balances -/
set_option maxRecDepth 100000
def newM (c : Cat) (g : List Prt) (w : Int) : Mrk := (cNx c, g, w, plF c (rkF c g : Int))
def cCom (c : Cat) (g : List Prt) (w : Int) (j : Nat) : Cat := setNx (setMk c (insAt (cMk c) j (newM c g w))) (cNx c + 1)
theorem cIns_com (c : Cat) (g : List Prt) (w : Int) : cIns c g w = incAc (cCom c g w (rkF c g)) 0 1 := rfl
theorem cN_com (c : Cat) (g : List Prt) (w : Int) {j : Nat} (hj : j ≤ cN c) : cN (cCom c g w j) = cN c + 1 := insAt_len _ _ _ hj
theorem RowIs.com {f g : Nat → Int} {c : Cat} {p : List Prt} {v : Int} {j : Nat} (hj : 0 < j) (hjn : j ≤ cN c) (h : RowIs f (cCom c p v j)) (hg : ∀ i, g i = swpF f j (j - 1) i) : RowIs g (cCom c p v (j - 1)) := by
  obtain ⟨k, rfl⟩ : ∃ k, j = k + 1 := ⟨j - 1, by omega⟩
  have hn : cN (cCom c p v (k + 1)) = cN c + 1 := cN_com c p v hjn
  refine h.swp (a := k + 1) (b := k) (by omega) (by omega) hg (M := insAt (cMk c) k (newM c p v)) (hn ▸ insAt_len _ _ _ (Nat.le_of_succ_le hjn)) (fun r hr => ?_)
  exact insAt_swp (cMk c) (newM c p v) mrk0 hjn r

theorem pn_yX10_copies : ParN yX10_copies 5 := by decide +kernel
theorem pn_yX10_guestPlace : ParN yX10_guestPlace 1 := by decide +kernel
theorem pn_yX10_movedBy : ParN yX10_movedBy 1 := by decide +kernel
theorem pn_yX10_swaps : ParN yX10_swaps 2 := by decide +kernel

set_option maxHeartbeats 4000000 in
set_option maxRecDepth 100000 in
/-- comes -/
theorem m_comes (l : Launch) (G : Gl) (w : Wd) (a : Nat) (ad : Nat → Nat) (t : Tw) (hT : TwAt G w a ad t) (v : Int) (c0 : Cat) (g : List Prt) (hC : RowIs (t.2 3) c0) (hG : SlotP (t.2 3) 40 (cRl c0) g) (hgW : PrtsW g) (hn : cN c0 ≤ 39) (hv : 1 ≤ v ∧ v ≤ 20) (hac : ∀ k, k < 3 → cAc c0 k < 990000) (hnx : cNx c0 < 990000) : HM l yX10_comes cX10_comes 8 (some .int) 5 0 0 G [.ref a, .int (iI (v))] w (QI G (fun z_ w_ => z_ = cNx c0 ∧ ∃ t_ : Tw, TwS G w w_ a ad t_ ∧ TwE [3] t t_ ∧ RowIs (t_.2 3) (cAdd c0 g v))) := by
  refine HM.mk (by decide +kernel) (Nat.le_of_ble_eq_true rfl) ?_
  intro p9 e9 s9 m9 a9 b9 meth9 c9 ls X hret hlk hnm hl H hR
  have hx := X.1.1
  have hb := X.1.2.1
  have hl : lv_has ls 8 [(0, .ref a), (1, .int (iI (v)))] := hl
  have hL : LK G [] := fun q h => absurd h List.not_mem_nil
  generalize ([] : List Loc) = locs at hL ⊢
  have hTb := hT
  have hT : TwS G w w a ad t := TwS.rf hT
  have hn40 := hC.n40
  have hsh8 := hC.sh8
  have hrk := rkF_le c0 g
  have hb0 := hac 0 (by omega)
  have hb1 := hac 1 (by omega)
  have hb2 := hac 2 (by omega)
  have hb3 := hC.s.2.2.2.2.2.1 0 (by omega)
  have hb4 := hC.s.2.2.2.2.2.1 1 (by omega)
  have hb5 := hC.s.2.2.2.2.2.1 2 (by omega)
  have hnx1 := hC.s.2.2.2.2.2.2
  have hGm : ∀ {f : Nat → Int}, (∀ i, i ≠ 2 ∧ i ≠ 4 ∧ (i < 592 ∨ 592 + 3 ≤ i) → f i = t.2 3 i) → SlotP f 40 (cRl c0) g := fun {f} hf => ⟨⟨(hf _ (by omega)).trans hG.1.1, hG.1.2.1, fun k hk => (hf _ (by omega)).trans (hG.1.2.2.1 k hk), hG.1.2.2.2⟩, ⟨(hf _ (by omega)).trans hG.2.1, hG.2.2.1, fun k hk => (hf _ (by omega)).trans (hG.2.2.2.1 k hk), hG.2.2.2.2⟩⟩
  refine lv_aload_n hx hb dX10_comes_0 rfl (lv_at hl 0 rfl) ?_
  -- call SpokenMarksModel.guestRank
  refine h_kIp (h_runV X hR (m_guestRank l G w a ad t hT.1 c0 g hC hG) pn_yX10_guestRank (hasC.of hT.1.ob rfl) q2913 q2915 qs71 q161 q2916 ⟨by decide, by decide⟩ hl.1 (Nat.le_of_ble_eq_true rfl) dX10_comes_1 ⟨by omega, by omega⟩) hL (fun H locs hR hL => ?_)
  refine lv_istore_n (lv' := [(2, .int (iI ((rkF c0 g : Int)))), (0, .ref a), (1, .int (iI (v)))]) hx hb dX10_comes_4 rfl hl (by decide) rfl (fun ls hl => ?_)
  refine lv_aload_n hx hb dX10_comes_5 rfl (lv_at hl 1 rfl) ?_
  refine lv_iload_n hx hb dX10_comes_6 rfl (lv_at hl 0 rfl) ?_
  -- call SpokenMarksModel.isRoomAt
  refine h_kIp (h_runV X hR (m_isRoomAt l G w a ad t hT.1 (rkF c0 g) c0 hC hrk) pn_yX10_isRoomAt (hasC.of hT.1.ob rfl) q2921 q2923 qs73 q161 q2924 ⟨by decide, by decide⟩ hl.1 (Nat.le_of_ble_eq_true rfl) dX10_comes_7 ⟨by omega, by omega⟩) hL (fun H locs hR hL => ?_)
  have hrb := b2i_01 (¬ plA c0 (rkF c0 g : Int) - plA c0 ((rkF c0 g : Int) - 1) < 2)
  refine lv_istore_n (lv' := [(3, .int (iI (b2i ¬ plA c0 ((rkF c0 g : Nat) : Int) - plA c0 (((rkF c0 g : Nat) : Int) - 1) < 2))), (2, .int (iI ((rkF c0 g : Int)))), (0, .ref a), (1, .int (iI (v)))]) hx hb dX10_comes_10 rfl hl (by decide) rfl (fun ls hl => ?_)
  refine lv_aload_n hx hb dX10_comes_11 rfl (lv_at hl 2 rfl) ?_
  refine lv_iload_n hx hb dX10_comes_12 rfl (lv_at hl 1 rfl) ?_
  -- call SpokenMarksModel.guestPlace
  refine h_kIp (h_runV X hR (m_guestPlace l G w a ad t hT.1 (rkF c0 g) c0 hC hrk) pn_yX10_guestPlace (hasC.of hT.1.ob rfl) q2933 q2935 qs76 q161 q2936 ⟨by decide, by decide⟩ hl.1 (Nat.le_of_ble_eq_true rfl) dX10_comes_13 ⟨by omega, by omega⟩) hL (fun H locs hR hL => ?_)
  have hpf := plF_r hC.s hrk
  refine lv_istore (lv' := [(4, .int (iI (plF c0 ((rkF c0 g : Nat) : Int)))), (3, .int (iI (b2i ¬ plA c0 ((rkF c0 g : Nat) : Int) - plA c0 (((rkF c0 g : Nat) : Int) - 1) < 2))), (2, .int (iI ((rkF c0 g : Int)))), (0, .ref a), (1, .int (iI (v)))]) hx hb dX10_comes_16 hl (by decide) rfl (fun ls hl => ?_)
  refine lv_iload_n hx hb dX10_comes_18 rfl (lv_at hl 1 rfl) ?_
  refine h_if_eq hx hb 26 dX10_comes_19 (by decide) (by omega) (fun c_room => ?_) (fun c_room => ?_)
  ·
    refine lv_aload_n hx hb dX10_comes_26 rfl (lv_at hl 3 rfl) ?_
    refine lv_iload_n hx hb dX10_comes_27 rfl (lv_at hl 2 rfl) ?_
    -- call SpokenMarksModel.movedBy
    refine h_kIp (h_runV X hR (m_movedBy l G w a ad t hT.1 (rkF c0 g) c0 hC hrk) pn_yX10_movedBy (hasC.of hT.1.ob rfl) q2937 q2939 qs77 q161 q2940 ⟨by decide, by decide⟩ hl.1 (Nat.le_of_ble_eq_true rfl) dX10_comes_28 ⟨by omega, by omega⟩) hL (fun H locs hR hL => ?_)
    have hmv := mvN_r c0 (rkF c0 g : Int)
    refine lv_istore (lv' := [(5, .int (iI (mvN c0 ((rkF c0 g : Nat) : Int)))), (4, .int (iI (plF c0 ((rkF c0 g : Nat) : Int)))), (3, .int (iI (b2i ¬ plA c0 ((rkF c0 g : Nat) : Int) - plA c0 (((rkF c0 g : Nat) : Int) - 1) < 2))), (2, .int (iI ((rkF c0 g : Int)))), (0, .ref a), (1, .int (iI (v)))]) hx hb dX10_comes_31 hl (by decide) rfl (fun ls hl => ?_)
    refine lv_aload_n hx hb dX10_comes_33 rfl (lv_at hl 4 rfl) ?_
    refine tw_get X hR hT 3 (by decide) q2944 rfl dX10_comes_34 ?_
    refine h_iconst hx hb dX10_comes_37 ?_
    refine lv_dup2_11 hx hb dX10_comes_38 rfl rfl ?_
    refine tw_lald X hR hT (k := 3) (by decide) 2 (by omega) (by show _ < _; simp only [twN]; omega) (v := (cN c0 : Int)) hC.n dX10_comes_39 (fun ra_39 => ?_)
    refine h_lconst hx hb 1 dX10_comes_40 rfl ?_
    refine h_ladd hx hb dX10_comes_41 ?_
    refine tw_last X hR hL hT (k := 3) (by decide) 2 (by omega) (by show _ < _; simp only [twN]; omega) (by omega) dX10_comes_42 (fun t_13 et_14 w_15 hT H locs hR hL => ?_)
    have hE_t_13 := TwE.ast et_14
    have hv_t_13 := tast_v et_14
    have hu1 : ∀ i, i ≠ 2 → t_13.2 3 i = t.2 3 i := fun i hi => by rw [tast_v et_14]; unfold zset; rw [if_neg (by omega)]
    have hn2 : t_13.2 3 2 = (cN c0 : Int) + 1 := by rw [tast_v et_14]; unfold zset; rw [if_pos rfl]
    refine lv_aload_n hx hb dX10_comes_43 rfl (lv_at hl 4 rfl) ?_
    refine h_iconst hx hb dX10_comes_44 ?_
    -- call SpokenMarksModel.head
    refine h_kIp (h_runV X hR (m_head l G w_15 a ad t_13 hT.1 4 (by omega)) pn_yX10_head (hasC.of hT.1.ob rfl) q2789 q2791 qs44 q161 q2792 ⟨by decide, by decide⟩ hl.1 (Nat.le_of_ble_eq_true rfl) dX10_comes_45 ⟨by omega, by omega⟩) hL (fun H locs hR hL => ?_)
    refine W.eq (g2 := F0 m9 48 ls [.int (iI (cNx c0))]) (congrArg (fun z_ : Int => F0 m9 48 ls [.int (iI (z_))]) (show (hd t_13 4 : Int) = cNx c0 from ((hu1 4 (by omega)).trans hC.nx))) ?_
    refine lv_istore (lv' := [(6, .int (iI (cNx c0))), (5, .int (iI (mvN c0 ((rkF c0 g : Nat) : Int)))), (4, .int (iI (plF c0 ((rkF c0 g : Nat) : Int)))), (3, .int (iI (b2i ¬ plA c0 ((rkF c0 g : Nat) : Int) - plA c0 (((rkF c0 g : Nat) : Int) - 1) < 2))), (2, .int (iI ((rkF c0 g : Int)))), (0, .ref a), (1, .int (iI (v)))]) hx hb dX10_comes_48 hl (by decide) rfl (fun ls hl => ?_)
    refine lv_aload_n hx hb dX10_comes_50 rfl (lv_at hl 5 rfl) ?_
    refine tw_get X hR hT 3 (by decide) q2944 rfl dX10_comes_51 ?_
    refine h_iconst hx hb dX10_comes_54 ?_
    refine lv_dup2_11 hx hb dX10_comes_55 rfl rfl ?_
    refine tw_lald X hR hT (k := 3) (by decide) 4 (by omega) (by show _ < _; simp only [twN]; omega) (v := cNx c0) ((hu1 4 (by omega)).trans hC.nx) dX10_comes_56 (fun ra_56 => ?_)
    refine h_lconst hx hb 1 dX10_comes_57 rfl ?_
    refine h_ladd hx hb dX10_comes_58 ?_
    refine tw_last X hR hL hT (k := 3) (by decide) 4 (by omega) (by show _ < _; simp only [twN]; omega) (by omega) dX10_comes_59 (fun t_19 et_20 w_21 hT H locs hR hL => ?_)
    have hE_t_19 := TwE.ast et_20
    have hv_t_19 := tast_v et_20
    have hu2 : ∀ i, i ≠ 2 ∧ i ≠ 4 → t_19.2 3 i = t.2 3 i := fun i hi => by rw [tast_v et_20]; unfold zset; rw [if_neg (by omega)]; exact hu1 i (by omega)
    have hn3 : t_19.2 3 4 = cNx c0 + 1 ∧ t_19.2 3 2 = (cN c0 : Int) + 1 := ⟨by rw [tast_v et_20]; unfold zset; rw [if_pos rfl], by rw [tast_v et_20]; unfold zset; rw [if_neg (by omega)]; exact hn2⟩
    refine lv_aload_n hx hb dX10_comes_60 rfl (lv_at hl 5 rfl) ?_
    refine h_bipush hx hb dX10_comes_61 (by decide) ?_
    refine h_iconst hx hb dX10_comes_63 ?_
    refine lv_iload hx hb dX10_comes_64 (lv_at hl 0 rfl) ?_
    refine h_i2l hx hb dX10_comes_66 (by omega) ?_
    -- call SpokenMarksModel.lays
    refine h_kV (h_runV X hR (m_lays l G w_21 a ad t_19 hT.1 40 0 (cNx c0) (by omega) (by omega) (by omega)) pn_yX10_lays (hasC.of hT.1.ob rfl) q2864 q2866 qs60 q161 q2867 ⟨by decide, by decide⟩ hl.1 (Nat.le_of_ble_eq_true rfl) dX10_comes_67 ⟨by omega, by omega⟩) hL (fun w_23 hp_24 H locs hR hL => ?_)
    obtain ⟨t_25, et_26⟩ : ∃ t_ : Tw, t_ = tast t_19 3 (32 + 14 * 40 + 0) (cNx c0) := ⟨_, rfl⟩
    have hT2 := hp_24
    rw [← et_26] at hT2
    have hT := hT.tr hT2
    clear hT2
    have hE_t_25 : TwE [3] t_19 t_25 := by rw [et_26]; exact TwE.ast rfl
    have hk0 : (t_25.2 3 4 = cNx c0 + 1 ∧ t_25.2 3 2 = (cN c0 : Int) + 1) ∧ (∀ i, i ≠ 2 ∧ i ≠ 4 ∧ (i < 592 ∨ 592 + 1 ≤ i) → t_25.2 3 i = t.2 3 i) := ⟨⟨by rw [tast_v et_26]; unfold zset; rw [if_neg (by omega)]; exact hn3.1, by rw [tast_v et_26]; unfold zset; rw [if_neg (by omega)]; exact hn3.2⟩, fun i hi => by rw [tast_v et_26]; unfold zset; rw [if_neg (by omega)]; exact hu2 i (by omega)⟩
    have hc0 : t_25.2 3 (32 + 14 * 40 + 0) = cNx c0 := by rw [tast_v et_26]; unfold zset; rw [if_pos rfl]
    refine lv_aload_n hx hb dX10_comes_70 rfl (lv_at hl 5 rfl) ?_
    refine h_bipush hx hb dX10_comes_71 (by decide) ?_
    refine h_iconst hx hb dX10_comes_73 ?_
    refine lv_iload_n hx hb dX10_comes_74 rfl (lv_at hl 6 rfl) ?_
    refine h_i2l hx hb dX10_comes_75 (by omega) ?_
    -- call SpokenMarksModel.lays
    refine h_kV (h_runV X hR (m_lays l G w_23 a ad t_25 hT.1 40 1 v (by omega) (by omega) (by omega)) pn_yX10_lays (hasC.of hT.1.ob rfl) q2864 q2866 qs60 q161 q2867 ⟨by decide, by decide⟩ hl.1 (Nat.le_of_ble_eq_true rfl) dX10_comes_76 ⟨by omega, by omega⟩) hL (fun w_28 hp_29 H locs hR hL => ?_)
    obtain ⟨t_30, et_31⟩ : ∃ t_ : Tw, t_ = tast t_25 3 (32 + 14 * 40 + 1) v := ⟨_, rfl⟩
    have hT2 := hp_29
    rw [← et_31] at hT2
    have hT := hT.tr hT2
    clear hT2
    have hE_t_30 : TwE [3] t_25 t_30 := by rw [et_31]; exact TwE.ast rfl
    have hk1 : (t_30.2 3 4 = cNx c0 + 1 ∧ t_30.2 3 2 = (cN c0 : Int) + 1) ∧ (∀ i, i ≠ 2 ∧ i ≠ 4 ∧ (i < 592 ∨ 592 + 2 ≤ i) → t_30.2 3 i = t.2 3 i) := ⟨⟨by rw [tast_v et_31]; unfold zset; rw [if_neg (by omega)]; exact hk0.1.1, by rw [tast_v et_31]; unfold zset; rw [if_neg (by omega)]; exact hk0.1.2⟩, fun i hi => by rw [tast_v et_31]; unfold zset; rw [if_neg (by omega)]; exact hk0.2 i (by omega)⟩
    have hc0' : t_30.2 3 (32 + 14 * 40 + 0) = cNx c0 := by rw [tast_v et_31]; unfold zset; rw [if_neg (by omega)]; exact hc0
    have hc1 : t_30.2 3 (32 + 14 * 40 + 1) = v := by rw [tast_v et_31]; unfold zset; rw [if_pos rfl]
    refine lv_aload_n hx hb dX10_comes_79 rfl (lv_at hl 5 rfl) ?_
    refine h_bipush hx hb dX10_comes_80 (by decide) ?_
    refine h_iconst hx hb dX10_comes_82 ?_
    refine lv_iload hx hb dX10_comes_83 (lv_at hl 2 rfl) ?_
    refine h_i2l hx hb dX10_comes_85 (by omega) ?_
    -- call SpokenMarksModel.lays
    refine h_kV (h_runV X hR (m_lays l G w_28 a ad t_30 hT.1 40 2 (plF c0 (rkF c0 g : Int)) (by omega) (by omega) (by omega)) pn_yX10_lays (hasC.of hT.1.ob rfl) q2864 q2866 qs60 q161 q2867 ⟨by decide, by decide⟩ hl.1 (Nat.le_of_ble_eq_true rfl) dX10_comes_86 ⟨by omega, by omega⟩) hL (fun w_33 hp_34 H locs hR hL => ?_)
    obtain ⟨t_35, et_36⟩ : ∃ t_ : Tw, t_ = tast t_30 3 (32 + 14 * 40 + 2) (plF c0 (rkF c0 g : Int)) := ⟨_, rfl⟩
    have hT2 := hp_34
    rw [← et_36] at hT2
    have hT := hT.tr hT2
    clear hT2
    have hE_t_35 : TwE [3] t_30 t_35 := by rw [et_36]; exact TwE.ast rfl
    have hk2 : (t_35.2 3 4 = cNx c0 + 1 ∧ t_35.2 3 2 = (cN c0 : Int) + 1) ∧ (∀ i, i ≠ 2 ∧ i ≠ 4 ∧ (i < 592 ∨ 592 + 3 ≤ i) → t_35.2 3 i = t.2 3 i) := ⟨⟨by rw [tast_v et_36]; unfold zset; rw [if_neg (by omega)]; exact hk1.1.1, by rw [tast_v et_36]; unfold zset; rw [if_neg (by omega)]; exact hk1.1.2⟩, fun i hi => by rw [tast_v et_36]; unfold zset; rw [if_neg (by omega)]; exact hk1.2 i (by omega)⟩
    have hc0'' : t_35.2 3 (32 + 14 * 40 + 0) = cNx c0 := by rw [tast_v et_36]; unfold zset; rw [if_neg (by omega)]; exact hc0'
    have hc1' : t_35.2 3 (32 + 14 * 40 + 1) = v := by rw [tast_v et_36]; unfold zset; rw [if_neg (by omega)]; exact hc1
    have hc2 : t_35.2 3 (32 + 14 * 40 + 2) = plF c0 (rkF c0 g : Int) := by rw [tast_v et_36]; unfold zset; rw [if_pos rfl]
    refine lv_aload_n hx hb dX10_comes_89 rfl (lv_at hl 5 rfl) ?_
    refine h_iconst hx hb dX10_comes_90 ?_
    -- call SpokenMarksModel.head
    refine h_kIp (h_runV X hR (m_head l G w_33 a ad t_35 hT.1 2 (by omega)) pn_yX10_head (hasC.of hT.1.ob rfl) q2789 q2791 qs44 q161 q2792 ⟨by decide, by decide⟩ hl.1 (Nat.le_of_ble_eq_true rfl) dX10_comes_91 ⟨by omega, by omega⟩) hL (fun H locs hR hL => ?_)
    refine W.eq (g2 := F0 m9 94 ls [.int (iI (((cN c0 : Int) + 1)))]) (congrArg (fun z_ : Int => F0 m9 94 ls [.int (iI (z_))]) (show (hd t_35 2 : Int) = ((cN c0 : Int) + 1) from (hk2.1.2))) ?_
    refine h_iconst hx hb dX10_comes_94 ?_
    refine h_isub hx hb dX10_comes_95 ?_
    refine h_bipush hx hb dX10_comes_96 (by decide) ?_
    refine h_icmp_eq hx hb 130 dX10_comes_98 (by decide) (by omega) (by omega) (fun c_40 => ?_) (fun c_40 => ?_)
    ·
      exact absurd c_40 (by omega)
    ·
      refine lv_aload_n hx hb dX10_comes_101 rfl (lv_at hl 5 rfl) ?_
      refine tw_get X hR hT 3 (by decide) q2944 rfl dX10_comes_102 ?_
      refine h_sipush hx hb dX10_comes_105 (by decide) ?_
      refine lv_aload_n hx hb dX10_comes_108 rfl (lv_at hl 5 rfl) ?_
      refine tw_get X hR hT 3 (by decide) q2944 rfl dX10_comes_109 ?_
      refine h_bipush hx hb dX10_comes_112 (by decide) ?_
      refine h_bipush hx hb dX10_comes_114 (by decide) ?_
      refine lv_aload_n hx hb dX10_comes_116 rfl (lv_at hl 5 rfl) ?_
      refine h_iconst hx hb dX10_comes_117 ?_
      -- call SpokenMarksModel.head
      refine h_kIp (h_runV X hR (m_head l G w_33 a ad t_35 hT.1 2 (by omega)) pn_yX10_head (hasC.of hT.1.ob rfl) q2789 q2791 qs44 q161 q2792 ⟨by decide, by decide⟩ hl.1 (Nat.le_of_ble_eq_true rfl) dX10_comes_118 ⟨by omega, by omega⟩) hL (fun H locs hR hL => ?_)
      refine W.eq (g2 := F0 m9 121 ls [.int (iI (((cN c0 : Int) + 1))), .int (iI (14)), .int (iI (32)), .ref (ad 3), .int (iI (592)), .ref (ad 3)]) (congrArg (fun z_ : Int => F0 m9 121 ls [.int (iI (z_)), .int (iI (14)), .int (iI (32)), .ref (ad 3), .int (iI (592)), .ref (ad 3)]) (show (hd t_35 2 : Int) = ((cN c0 : Int) + 1) from (hk2.1.2))) ?_
      refine h_iconst hx hb dX10_comes_121 ?_
      refine h_isub hx hb dX10_comes_122 ?_
      refine h_imul hx hb dX10_comes_123 ?_
      refine h_iadd hx hb dX10_comes_124 ?_
      refine h_bipush hx hb dX10_comes_125 (by decide) ?_
      refine W.eq (g2 := F0 m9 127 ls [.int (iI (14)), .int (iI (((32 + 14 * cN c0 : Nat) : Int))), .ref (ad 3), .int (iI (592)), .ref (ad 3)]) (congrArg (fun z_ : Int => F0 m9 127 ls [.int (iI (14)), .int (iI (z_)), .ref (ad 3), .int (iI (592)), .ref (ad 3)]) (show (32 + (14 * ((((cN c0 : Int) + 1)) - 1)) : Int) = ((32 + 14 * cN c0 : Nat) : Int) from (by omega))) ?_
      -- call SpokenMarksModel.copies
      refine h_kV (h_runS X hR (m_copies l G w_33 a ad t_35 hT.1 3 592 3 (32 + 14 * cN c0) 14 (by decide) (by decide) (by show _ ≤ _; simp only [twN]; omega) (by show _ ≤ _; simp only [twN]; omega) (by first | exact Or.inl (by decide) | exact Or.inr (by omega))) pn_yX10_copies q2737 q2738 q161 q2739 ⟨by decide, by decide⟩ hl.1 (Nat.le_of_ble_eq_true rfl) dX10_comes_127 ⟨by omega, by omega⟩) hL (fun w_44 hp_45 H locs hR hL => ?_)
      obtain ⟨t_46, hT2, e1_, e2_, hc_t_46⟩ := hp_45
      have hE_t_46 : TwE [3] t_35 t_46 := fun k_ hk_ => ⟨by rw [e1_], e2_ k_ (by simpa using hk_)⟩
      have e1_t_46 := e1_
      have hT := hT.tr hT2
      clear hT2 e1_ e2_
      have hcp : ∀ i, ¬ (32 + 14 * cN c0 ≤ i ∧ i < 46 + 14 * cN c0) → t_46.2 3 i = t_35.2 3 i := fun i hi => by rw [hc_t_46]; unfold cpyF; rw [if_neg (by omega)]
      have hq : ∀ j, j < 14 → t_46.2 3 (32 + 14 * cN c0 + j) = t_35.2 3 (32 + 14 * 40 + j) := fun j hj => by rw [hc_t_46]; unfold cpyF; rw [if_pos (by omega), show 32 + 14 * cN c0 + j - (32 + 14 * cN c0) + 592 = 32 + 14 * 40 + j by omega]
      have hG3 : SlotP (t_35.2 3) 40 (cRl c0) g := hGm hk2.2
      have hc0' := hc0''
      have hD : RowIs (t_46.2 3) (cCom c0 g v (cN c0)) := hC.cm hn ⟨⟨by have := hC.s.2.2.2.2.2.2; show 1 ≤ cNx c0; omega, by show cNx c0 < _; omega⟩, hgW, hv, hpf⟩ (by omega) (fun i a b c => (hcp i (by omega)).trans (hk2.2 i (by omega))) ((hcp 2 (by omega)).trans hk2.1.2) ((hcp 4 (by omega)).trans hk2.1.1) ⟨(hq 0 (by omega)).trans hc0'', (hq 1 (by omega)).trans hc1', (hq 2 (by omega)).trans hc2, hG3.to hq⟩
      refine lv_aload_n hx hb dX10_comes_130 rfl (lv_at hl 5 rfl) ?_
      refine h_iconst hx hb dX10_comes_131 ?_
      -- call SpokenMarksModel.head
      refine h_kIp (h_runV X hR (m_head l G w_44 a ad t_46 hT.1 2 (by omega)) pn_yX10_head (hasC.of hT.1.ob rfl) q2789 q2791 qs44 q161 q2792 ⟨by decide, by decide⟩ hl.1 (Nat.le_of_ble_eq_true rfl) dX10_comes_132 ⟨by omega, by omega⟩) hL (fun H locs hR hL => ?_)
      refine W.eq (g2 := F0 m9 135 ls [.int (iI (((cN c0 : Int) + 1)))]) (congrArg (fun z_ : Int => F0 m9 135 ls [.int (iI (z_))]) (show (hd t_46 2 : Int) = ((cN c0 : Int) + 1) from ((hD.n.trans (by rw [cN_com c0 g v (by omega)]; omega))))) ?_
      refine h_iconst hx hb dX10_comes_135 ?_
      refine h_isub hx hb dX10_comes_136 ?_
      refine lv_istore (lv' := [(7, .int (iI ((((cN c0 : Int) + 1)) - 1))), (6, .int (iI (cNx c0))), (5, .int (iI (mvN c0 ((rkF c0 g : Nat) : Int)))), (4, .int (iI (plF c0 ((rkF c0 g : Nat) : Int)))), (3, .int (iI (b2i ¬ plA c0 ((rkF c0 g : Nat) : Int) - plA c0 (((rkF c0 g : Nat) : Int) - 1) < 2))), (2, .int (iI ((rkF c0 g : Int)))), (0, .ref a), (1, .int (iI (v)))]) hx hb dX10_comes_137 hl (by decide) rfl (fun ls hl => ?_)
      have LOOP_52 : ∀ (N_ : Nat) (j : Nat) (t_50 : Tw) (w_51 : Wd), (j ≤ cN c0) → (rkF c0 g ≤ j) → (TwS G w w_51 a ad t_50) → (TwE [3] t_46 t_50) → (RowIs (t_50.2 3) (cCom c0 g v j)) → j < N_ → ∀ (H : Heap) (locs : List Loc) (ls : Array Slot), Rp G w_51 H → LK G locs → lv_has ls 8 [(0, .ref a), (1, .int (iI (v))), (2, .int (iI ((rkF c0 g : Int)))), (3, .int (iI (b2i ¬ plA c0 (rkF c0 g : Int) - plA c0 ((rkF c0 g : Int) - 1) < 2))), (5, .int (iI (mvN c0 (rkF c0 g : Int)))), (6, .int (iI (cNx c0))), (7, .int (iI ((j : Int))))] → W p9 l e9 (rmk 5 0 0) s9 m9 a9 b9 meth9 c9 H locs 0 0 (MQ b9 (QI G (fun z_ w_ => z_ = cNx c0 ∧ ∃ t_ : Tw, TwS G w w_ a ad t_ ∧ TwE [3] t t_ ∧ RowIs (t_.2 3) (cAdd c0 g v))) a9 s9 0 0 (frG G)) (F0 m9 139 ls []) := by
        intro N_
        induction N_ with
        | zero => intro _ _ _ _ _ _ _ _ h_; exact absurd h_ (Nat.not_lt_zero _)
        | succ N_ ih_ =>
          intro j t_50 w_51 hj hjr hT hE_t_50 hD hN_ H locs ls hR hL hl
          have ih_52 := ih_
          clear ih_
          refine lv_iload hx hb dX10_comes_139 (lv_at hl 6 rfl) ?_
          refine lv_iload_n hx hb dX10_comes_141 rfl (lv_at hl 2 rfl) ?_
          refine h_icmp_le hx hb 161 dX10_comes_142 (by decide) (by omega) (by omega) (fun c_53 => ?_) (fun c_53 => ?_)
          ·
            have hDr : RowIs (t_50.2 3) (cCom c0 g v (rkF c0 g)) := by rw [show rkF c0 g = j by omega]; exact hD
            refine lv_aload_n hx hb dX10_comes_161 rfl (lv_at hl 0 rfl) ?_
            refine h_iconst hx hb dX10_comes_162 ?_
            refine h_iconst hx hb dX10_comes_163 ?_
            -- call SpokenMarksModel.counts
            refine h_kV (h_runV X hR (m_counts l G w_51 a ad t_50 hT.1 0 1 (by omega) (by omega) (hDr.acR (by omega))) pn_yX10_counts (hasC.of hT.1.ob rfl) q2887 q2889 qs65 q161 q2890 ⟨by decide, by decide⟩ hl.1 (Nat.le_of_ble_eq_true rfl) dX10_comes_164 ⟨by omega, by omega⟩) hL (fun w_55 hp_56 H locs hR hL => ?_)
            obtain ⟨t_57, et_58⟩ : ∃ t_ : Tw, t_ = tast t_50 3 (5 + 0) (t_50.2 3 (5 + 0) + 1) := ⟨_, rfl⟩
            have hT2 := hp_56
            rw [← et_58] at hT2
            have hT := hT.tr hT2
            clear hT2
            have hE_t_57 : TwE [3] t_50 t_57 := by rw [et_58]; exact TwE.ast rfl
            have hE := hDr.act (c := cCom c0 g v (rkF c0 g)) et_58 (by omega) ⟨by show 0 ≤ cAc c0 0 + 1; omega, by show cAc c0 0 + 1 < _; omega⟩
            have hE : RowIs (t_57.2 3) (cIns c0 g v) := hE
            refine lv_iload_n hx hb dX10_comes_167 rfl (lv_at hl 3 rfl) ?_
            refine h_if_eq hx hb 174 dX10_comes_168 (by decide) (by omega) (fun c_rm2 => ?_) (fun c_rm2 => ?_)
            ·
              have hnI : (cN (cIns c0 g v) : Int) = (cN c0 : Int) + 1 := by have := cN_com c0 g v hrk; exact congrArg Int.ofNat this
              refine h_iconst hx hb dX10_comes_174 ?_
              refine lv_istore (lv' := [(7, .int (iI (0))), (0, .ref a), (1, .int (iI (v))), (2, .int (iI ((rkF c0 g : Int)))), (3, .int (iI (b2i ¬ plA c0 (rkF c0 g : Int) - plA c0 ((rkF c0 g : Int) - 1) < 2))), (5, .int (iI (mvN c0 (rkF c0 g : Int)))), (6, .int (iI (cNx c0)))]) hx hb dX10_comes_175 hl (by decide) rfl (fun ls hl => ?_)
              have LOOP_61 : ∀ (N_ : Nat) (k : Nat) (t_59 : Tw) (w_60 : Wd), (k ≤ cN c0 + 1) → (TwS G w w_60 a ad t_59) → (TwE [3] t_57 t_59) → (∀ i, t_59.2 3 i = plcF (t_57.2 3) (cN (cIns c0 g v)) k i) → (cN c0 + 1 - k) < N_ → ∀ (H : Heap) (locs : List Loc) (ls : Array Slot), Rp G w_60 H → LK G locs → lv_has ls 8 [(0, .ref a), (5, .int (iI (mvN c0 (rkF c0 g : Int)))), (6, .int (iI (cNx c0))), (7, .int (iI ((k : Int))))] → W p9 l e9 (rmk 5 0 0) s9 m9 a9 b9 meth9 c9 H locs 0 0 (MQ b9 (QI G (fun z_ w_ => z_ = cNx c0 ∧ ∃ t_ : Tw, TwS G w w_ a ad t_ ∧ TwE [3] t t_ ∧ RowIs (t_.2 3) (cAdd c0 g v))) a9 s9 0 0 (frG G)) (F0 m9 177 ls []) := by
                intro N_
                induction N_ with
                | zero => intro _ _ _ _ _ _ _ h_; exact absurd h_ (Nat.not_lt_zero _)
                | succ N_ ih_ =>
                  intro k t_59 w_60 hk hT hE_t_59 hs hN_ H locs ls hR hL hl
                  have ih_61 := ih_
                  clear ih_
                  refine lv_iload hx hb dX10_comes_177 (lv_at hl 3 rfl) ?_
                  refine lv_aload_n hx hb dX10_comes_179 rfl (lv_at hl 0 rfl) ?_
                  refine h_iconst hx hb dX10_comes_180 ?_
                  -- call SpokenMarksModel.head
                  refine h_kIp (h_runV X hR (m_head l G w_60 a ad t_59 hT.1 2 (by omega)) pn_yX10_head (hasC.of hT.1.ob rfl) q2789 q2791 qs44 q161 q2792 ⟨by decide, by decide⟩ hl.1 (Nat.le_of_ble_eq_true rfl) dX10_comes_181 ⟨by omega, by omega⟩) hL (fun H locs hR hL => ?_)
                  refine W.eq (g2 := F0 m9 184 ls [.int (iI (((cN c0 : Int) + 1))), .int (iI ((k : Int)))]) (congrArg (fun z_ : Int => F0 m9 184 ls [.int (iI (z_)), .int (iI ((k : Int)))]) (show (hd t_59 2 : Int) = ((cN c0 : Int) + 1) from ((hs 2).trans ((plcF_no (by omega)).trans (hE.n.trans hnI))))) ?_
                  refine h_icmp_ge hx hb 211 dX10_comes_184 (by decide) (by omega) (by omega) (fun c_65 => ?_) (fun c_65 => ?_)
                  ·
                    have hF0 := hE.plc (g := t_59.2 3) (fun i => by rw [hs i, show k = cN (cIns c0 g v) by omega])
                    have ha5 : cAc (cIns c0 g v) 1 = cAc c0 1 ∧ cAc (cIns c0 g v) 2 = cAc c0 2 := ⟨rfl, rfl⟩
                    refine lv_aload_n hx hb dX10_comes_211 rfl (lv_at hl 0 rfl) ?_
                    refine h_iconst hx hb dX10_comes_212 ?_
                    refine h_iconst hx hb dX10_comes_213 ?_
                    -- call SpokenMarksModel.counts
                    refine h_kV (h_runV X hR (m_counts l G w_60 a ad t_59 hT.1 1 1 (by omega) (by omega) (hF0.acR (by omega))) pn_yX10_counts (hasC.of hT.1.ob rfl) q2887 q2889 qs65 q161 q2890 ⟨by decide, by decide⟩ hl.1 (Nat.le_of_ble_eq_true rfl) dX10_comes_214 ⟨by omega, by omega⟩) hL (fun w_67 hp_68 H locs hR hL => ?_)
                    obtain ⟨t_69, et_70⟩ : ∃ t_ : Tw, t_ = tast t_59 3 (5 + 1) (t_59.2 3 (5 + 1) + 1) := ⟨_, rfl⟩
                    have hT2 := hp_68
                    rw [← et_70] at hT2
                    have hT := hT.tr hT2
                    clear hT2
                    have hE_t_69 : TwE [3] t_59 t_69 := by rw [et_70]; exact TwE.ast rfl
                    have hF1 := hF0.act et_70 (by omega) ⟨by show 0 ≤ cAc (cIns c0 g v) 1 + 1; omega, by show cAc (cIns c0 g v) 1 + 1 < _; omega⟩
                    refine lv_aload_n hx hb dX10_comes_217 rfl (lv_at hl 0 rfl) ?_
                    refine h_iconst hx hb dX10_comes_218 ?_
                    refine lv_iload hx hb dX10_comes_219 (lv_at hl 1 rfl) ?_
                    -- call SpokenMarksModel.counts
                    refine h_kV (h_runV X hR (m_counts l G w_67 a ad t_69 hT.1 2 (mvN c0 (rkF c0 g : Int)) (by omega) (by omega) (hF1.acR (by omega))) pn_yX10_counts (hasC.of hT.1.ob rfl) q2887 q2889 qs65 q161 q2890 ⟨by decide, by decide⟩ hl.1 (Nat.le_of_ble_eq_true rfl) dX10_comes_221 ⟨by omega, by omega⟩) hL (fun w_72 hp_73 H locs hR hL => ?_)
                    obtain ⟨t_74, et_75⟩ : ∃ t_ : Tw, t_ = tast t_69 3 (5 + 2) (t_69.2 3 (5 + 2) + (mvN c0 (rkF c0 g : Int))) := ⟨_, rfl⟩
                    have hT2 := hp_73
                    rw [← et_75] at hT2
                    have hT := hT.tr hT2
                    clear hT2
                    have hE_t_74 : TwE [3] t_69 t_74 := by rw [et_75]; exact TwE.ast rfl
                    have hF2 := hF1.act et_75 (by omega) ⟨by show 0 ≤ cAc (cIns c0 g v) 2 + mvN c0 (rkF c0 g : Int); omega, by show cAc (cIns c0 g v) 2 + mvN c0 (rkF c0 g : Int) < _; omega⟩
                    refine lv_iload hx hb dX10_comes_224 (lv_at hl 2 rfl) ?_
                    exact h_ireturn hx hb hlk hret hR hL rfl ⟨rfl, ⟨t_74, hT, (TwE.tr (S2 := [3]) (TwE.tr (S2 := [3]) (TwE.tr (S2 := [3]) (TwE.tr (S2 := [3]) (TwE.tr (S2 := [3]) (TwE.tr (S2 := [3]) (TwE.tr (S2 := [3]) (TwE.tr (S2 := [3]) (TwE.tr (S2 := [3]) (TwE.tr (S2 := [3]) (TwE.tr (S2 := [3]) (TwE.rf : TwE [] t t) hE_t_13 rfl rfl) hE_t_19 rfl rfl) hE_t_25 rfl rfl) hE_t_30 rfl rfl) hE_t_35 rfl rfl) hE_t_46 rfl rfl) hE_t_50 rfl rfl) hE_t_57 rfl rfl) hE_t_59 rfl rfl) hE_t_69 rfl rfl) hE_t_74 rfl rfl), (by unfold cAdd; rw [if_pos (by have hz := c_room; exact Classical.byContradiction fun q => by rw [b2i_t q] at hz; exact absurd hz (by decide)), ← hnI]; exact hF2)⟩⟩ (by omega) (by omega) rfl rfl dX10_comes_226
                  ·
                    refine lv_aload_n hx hb dX10_comes_187 rfl (lv_at hl 0 rfl) ?_
                    refine lv_iload hx hb dX10_comes_188 (lv_at hl 3 rfl) ?_
                    refine h_iconst hx hb dX10_comes_190 ?_
                    refine lv_iload hx hb dX10_comes_191 (lv_at hl 3 rfl) ?_
                    refine lv_aload_n hx hb dX10_comes_193 rfl (lv_at hl 0 rfl) ?_
                    refine h_iconst hx hb dX10_comes_194 ?_
                    -- call SpokenMarksModel.head
                    refine h_kIp (h_runV X hR (m_head l G w_60 a ad t_59 hT.1 2 (by omega)) pn_yX10_head (hasC.of hT.1.ob rfl) q2789 q2791 qs44 q161 q2792 ⟨by decide, by decide⟩ hl.1 (Nat.le_of_ble_eq_true rfl) dX10_comes_195 ⟨by omega, by omega⟩) hL (fun H locs hR hL => ?_)
                    refine W.eq (g2 := F0 m9 198 ls [.int (iI (((cN c0 : Int) + 1))), .int (iI ((k : Int))), .int (iI (2)), .int (iI ((k : Int))), .ref a]) (congrArg (fun z_ : Int => F0 m9 198 ls [.int (iI (z_)), .int (iI ((k : Int))), .int (iI (2)), .int (iI ((k : Int))), .ref a]) (show (hd t_59 2 : Int) = ((cN c0 : Int) + 1) from ((hs 2).trans ((plcF_no (by omega)).trans (hE.n.trans hnI))))) ?_
                    -- call SpokenMarksModel.spaced
                    refine h_kIp (h_runS X hR (m_spaced l G w_60  ((k : Int)) (((cN c0 : Int) + 1)) (by omega) (by omega)) pn_yX10_spaced q2884 q2885 q161 q2886 ⟨by decide, by decide⟩ hl.1 (Nat.le_of_ble_eq_true rfl) dX10_comes_198 ⟨by omega, by omega⟩) hL (fun H locs hR hL => ?_)
                    have hsp := spc_r (k := (k : Int)) (n := (cN c0 : Int) + 1) (by omega) (by omega) (by omega)
                    refine h_i2l hx hb dX10_comes_201 (by omega) ?_
                    -- call SpokenMarksModel.lays
                    refine h_kV (h_runV X hR (m_lays l G w_60 a ad t_59 hT.1 k 2 (spc ((k : Int)) (((cN c0 : Int) + 1))) (by omega) (by omega) (by omega)) pn_yX10_lays (hasC.of hT.1.ob rfl) q2864 q2866 qs60 q161 q2867 ⟨by decide, by decide⟩ hl.1 (Nat.le_of_ble_eq_true rfl) dX10_comes_202 ⟨by omega, by omega⟩) hL (fun w_83 hp_84 H locs hR hL => ?_)
                    obtain ⟨t_85, et_86⟩ : ∃ t_ : Tw, t_ = tast t_59 3 (32 + 14 * k + 2) (spc ((k : Int)) (((cN c0 : Int) + 1))) := ⟨_, rfl⟩
                    have hT2 := hp_84
                    rw [← et_86] at hT2
                    have hT := hT.tr hT2
                    clear hT2
                    have hE_t_85 : TwE [3] t_59 t_85 := by rw [et_86]; exact TwE.ast rfl
                    refine h_iinc (lv' := [(7, .int (iI ((k : Int) + 1))), (0, .ref a), (5, .int (iI (mvN c0 (rkF c0 g : Int)))), (6, .int (iI (cNx c0)))]) hx hb dX10_comes_205 hl (k := 3) rfl (by decide) rfl (fun ls hl => ?_)
                    refine lv_goto (tgt := 177) hx hb dX10_comes_208 (by decide) ?_
                    exact ih_61 (k + 1) t_85 w_83 (by omega) hT (TwE.tr (S2 := [3]) (TwE.tr (S2 := [3]) (TwE.rf : TwE [] t_57 t_57) hE_t_59 rfl rfl) hE_t_85 rfl rfl) (fun i => by rw [tast_v et_86, show (cN c0 : Int) + 1 = (cN (cIns c0 g v) : Int) from hnI.symm]; exact plcF_s hs i) (by omega) _ _ _ hR hL (lv_sub hl [1, 2, 3, 0] rfl)
              exact LOOP_61 _ 0 t_57 w_55 (by omega) hT (TwE.rf : TwE [3] t_57 t_57) (fun i => (plcF_0 _ _ i).symm) (Nat.lt_succ_self _) _ _ _ hR hL (lv_sub hl [1, 5, 6, 0] rfl)
            ·
              exact absurd c_room c_rm2
          ·
            refine lv_aload_n hx hb dX10_comes_145 rfl (lv_at hl 0 rfl) ?_
            refine lv_iload hx hb dX10_comes_146 (lv_at hl 6 rfl) ?_
            refine lv_iload hx hb dX10_comes_148 (lv_at hl 6 rfl) ?_
            refine h_iconst hx hb dX10_comes_150 ?_
            refine h_isub hx hb dX10_comes_151 ?_
            refine W.eq (g2 := F0 m9 152 ls [.int (iI (((j - 1 : Nat) : Int))), .int (iI ((j : Int))), .ref a]) (congrArg (fun z_ : Int => F0 m9 152 ls [.int (iI (z_)), .int (iI ((j : Int))), .ref a]) (show (((j : Int)) - 1 : Int) = ((j - 1 : Nat) : Int) from (by omega))) ?_
            -- call SpokenMarksModel.swaps
            refine h_kV (h_runV X hR (m_swaps l G w_51 a ad t_50 hT.1 j (j - 1) (by omega) (by omega) (by omega)) pn_yX10_swaps (hasC.of hT.1.ob rfl) q2876 q2878 qs63 q161 q2879 ⟨by decide, by decide⟩ hl.1 (Nat.le_of_ble_eq_true rfl) dX10_comes_152 ⟨by omega, by omega⟩) hL (fun w_88 hp_89 H locs hR hL => ?_)
            obtain ⟨t_90, hT2, hE_t_90, et_91⟩ := hp_89
            have hT := hT.tr hT2
            clear hT2
            refine h_iinc (lv' := [(7, .int (iI ((j : Int) + (-1)))), (0, .ref a), (1, .int (iI (v))), (2, .int (iI ((rkF c0 g : Int)))), (3, .int (iI (b2i ¬ plA c0 (rkF c0 g : Int) - plA c0 ((rkF c0 g : Int) - 1) < 2))), (5, .int (iI (mvN c0 (rkF c0 g : Int)))), (6, .int (iI (cNx c0)))]) hx hb dX10_comes_155 hl (k := 6) rfl (by decide) rfl (fun ls hl => ?_)
            refine lv_goto (tgt := 139) hx hb dX10_comes_158 (by decide) ?_
            have hl : lv_has ls 8 [(7, .int (iI (((j - 1 : Nat) : Int)))), (0, .ref a), (1, .int (iI (v))), (2, .int (iI ((rkF c0 g : Int)))), (3, .int (iI (b2i ¬ plA c0 (rkF c0 g : Int) - plA c0 ((rkF c0 g : Int) - 1) < 2))), (5, .int (iI (mvN c0 (rkF c0 g : Int)))), (6, .int (iI (cNx c0)))] := lv_conv hl (congrArg (fun z_ : Int => ([(7, .int (iI (z_))), (0, .ref a), (1, .int (iI (v))), (2, .int (iI ((rkF c0 g : Int)))), (3, .int (iI (b2i ¬ plA c0 (rkF c0 g : Int) - plA c0 ((rkF c0 g : Int) - 1) < 2))), (5, .int (iI (mvN c0 (rkF c0 g : Int)))), (6, .int (iI (cNx c0)))] : List (Nat × Value))) (show ((j : Int) + (-1) : Int) = ((j - 1 : Nat) : Int) from (by omega)))
            exact ih_52 (j - 1) t_90 w_88 (by omega) (by omega) hT (TwE.tr (S2 := [3]) (TwE.tr (S2 := [3]) (TwE.rf : TwE [] t_46 t_46) hE_t_50 rfl rfl) hE_t_90 rfl rfl) (RowIs.com (by omega) (by omega) hD et_91) (by omega) _ _ _ hR hL (lv_sub hl [1, 2, 3, 4, 5, 6, 0] rfl)
      have hl : lv_has ls 8 [(7, .int (iI (((cN c0 : Nat) : Int)))), (6, .int (iI (cNx c0))), (5, .int (iI (mvN c0 ((rkF c0 g : Nat) : Int)))), (4, .int (iI (plF c0 ((rkF c0 g : Nat) : Int)))), (3, .int (iI (b2i ¬ plA c0 ((rkF c0 g : Nat) : Int) - plA c0 (((rkF c0 g : Nat) : Int) - 1) < 2))), (2, .int (iI ((rkF c0 g : Int)))), (0, .ref a), (1, .int (iI (v)))] := lv_conv hl (congrArg (fun z_ : Int => ([(7, .int (iI (z_))), (6, .int (iI (cNx c0))), (5, .int (iI (mvN c0 ((rkF c0 g : Nat) : Int)))), (4, .int (iI (plF c0 ((rkF c0 g : Nat) : Int)))), (3, .int (iI (b2i ¬ plA c0 ((rkF c0 g : Nat) : Int) - plA c0 (((rkF c0 g : Nat) : Int) - 1) < 2))), (2, .int (iI ((rkF c0 g : Int)))), (0, .ref a), (1, .int (iI (v)))] : List (Nat × Value))) (show ((((cN c0 : Int) + 1)) - 1 : Int) = ((cN c0 : Nat) : Int) from (by omega)))
      exact LOOP_52 _ (cN c0) t_46 w_44 (by omega) (by omega) hT (TwE.rf : TwE [3] t_46 t_46) hD (Nat.lt_succ_self _) _ _ _ hR hL (lv_sub hl [6, 7, 5, 4, 2, 1, 0] rfl)
  ·
    refine h_iconst hx hb dX10_comes_22 ?_
    refine lv_goto (tgt := 31) hx hb dX10_comes_23 (by decide) ?_
    refine lv_istore (lv' := [(5, .int (iI (0))), (4, .int (iI (plF c0 ((rkF c0 g : Nat) : Int)))), (3, .int (iI (b2i ¬ plA c0 ((rkF c0 g : Nat) : Int) - plA c0 (((rkF c0 g : Nat) : Int) - 1) < 2))), (2, .int (iI ((rkF c0 g : Int)))), (0, .ref a), (1, .int (iI (v)))]) hx hb dX10_comes_31 hl (by decide) rfl (fun ls hl => ?_)
    refine lv_aload_n hx hb dX10_comes_33 rfl (lv_at hl 4 rfl) ?_
    refine tw_get X hR hT 3 (by decide) q2944 rfl dX10_comes_34 ?_
    refine h_iconst hx hb dX10_comes_37 ?_
    refine lv_dup2_11 hx hb dX10_comes_38 rfl rfl ?_
    refine tw_lald X hR hT (k := 3) (by decide) 2 (by omega) (by show _ < _; simp only [twN]; omega) (v := (cN c0 : Int)) hC.n dX10_comes_39 (fun ra_39 => ?_)
    refine h_lconst hx hb 1 dX10_comes_40 rfl ?_
    refine h_ladd hx hb dX10_comes_41 ?_
    refine tw_last X hR hL hT (k := 3) (by decide) 2 (by omega) (by show _ < _; simp only [twN]; omega) (by omega) dX10_comes_42 (fun t_92 et_93 w_94 hT H locs hR hL => ?_)
    have hE_t_92 := TwE.ast et_93
    have hv_t_92 := tast_v et_93
    have hu1 : ∀ i, i ≠ 2 → t_92.2 3 i = t.2 3 i := fun i hi => by rw [tast_v et_93]; unfold zset; rw [if_neg (by omega)]
    have hn2 : t_92.2 3 2 = (cN c0 : Int) + 1 := by rw [tast_v et_93]; unfold zset; rw [if_pos rfl]
    refine lv_aload_n hx hb dX10_comes_43 rfl (lv_at hl 4 rfl) ?_
    refine h_iconst hx hb dX10_comes_44 ?_
    -- call SpokenMarksModel.head
    refine h_kIp (h_runV X hR (m_head l G w_94 a ad t_92 hT.1 4 (by omega)) pn_yX10_head (hasC.of hT.1.ob rfl) q2789 q2791 qs44 q161 q2792 ⟨by decide, by decide⟩ hl.1 (Nat.le_of_ble_eq_true rfl) dX10_comes_45 ⟨by omega, by omega⟩) hL (fun H locs hR hL => ?_)
    refine W.eq (g2 := F0 m9 48 ls [.int (iI (cNx c0))]) (congrArg (fun z_ : Int => F0 m9 48 ls [.int (iI (z_))]) (show (hd t_92 4 : Int) = cNx c0 from ((hu1 4 (by omega)).trans hC.nx))) ?_
    refine lv_istore (lv' := [(6, .int (iI (cNx c0))), (5, .int (iI (0))), (4, .int (iI (plF c0 ((rkF c0 g : Nat) : Int)))), (3, .int (iI (b2i ¬ plA c0 ((rkF c0 g : Nat) : Int) - plA c0 (((rkF c0 g : Nat) : Int) - 1) < 2))), (2, .int (iI ((rkF c0 g : Int)))), (0, .ref a), (1, .int (iI (v)))]) hx hb dX10_comes_48 hl (by decide) rfl (fun ls hl => ?_)
    refine lv_aload_n hx hb dX10_comes_50 rfl (lv_at hl 5 rfl) ?_
    refine tw_get X hR hT 3 (by decide) q2944 rfl dX10_comes_51 ?_
    refine h_iconst hx hb dX10_comes_54 ?_
    refine lv_dup2_11 hx hb dX10_comes_55 rfl rfl ?_
    refine tw_lald X hR hT (k := 3) (by decide) 4 (by omega) (by show _ < _; simp only [twN]; omega) (v := cNx c0) ((hu1 4 (by omega)).trans hC.nx) dX10_comes_56 (fun ra_56 => ?_)
    refine h_lconst hx hb 1 dX10_comes_57 rfl ?_
    refine h_ladd hx hb dX10_comes_58 ?_
    refine tw_last X hR hL hT (k := 3) (by decide) 4 (by omega) (by show _ < _; simp only [twN]; omega) (by omega) dX10_comes_59 (fun t_98 et_99 w_100 hT H locs hR hL => ?_)
    have hE_t_98 := TwE.ast et_99
    have hv_t_98 := tast_v et_99
    have hu2 : ∀ i, i ≠ 2 ∧ i ≠ 4 → t_98.2 3 i = t.2 3 i := fun i hi => by rw [tast_v et_99]; unfold zset; rw [if_neg (by omega)]; exact hu1 i (by omega)
    have hn3 : t_98.2 3 4 = cNx c0 + 1 ∧ t_98.2 3 2 = (cN c0 : Int) + 1 := ⟨by rw [tast_v et_99]; unfold zset; rw [if_pos rfl], by rw [tast_v et_99]; unfold zset; rw [if_neg (by omega)]; exact hn2⟩
    refine lv_aload_n hx hb dX10_comes_60 rfl (lv_at hl 5 rfl) ?_
    refine h_bipush hx hb dX10_comes_61 (by decide) ?_
    refine h_iconst hx hb dX10_comes_63 ?_
    refine lv_iload hx hb dX10_comes_64 (lv_at hl 0 rfl) ?_
    refine h_i2l hx hb dX10_comes_66 (by omega) ?_
    -- call SpokenMarksModel.lays
    refine h_kV (h_runV X hR (m_lays l G w_100 a ad t_98 hT.1 40 0 (cNx c0) (by omega) (by omega) (by omega)) pn_yX10_lays (hasC.of hT.1.ob rfl) q2864 q2866 qs60 q161 q2867 ⟨by decide, by decide⟩ hl.1 (Nat.le_of_ble_eq_true rfl) dX10_comes_67 ⟨by omega, by omega⟩) hL (fun w_102 hp_103 H locs hR hL => ?_)
    obtain ⟨t_104, et_105⟩ : ∃ t_ : Tw, t_ = tast t_98 3 (32 + 14 * 40 + 0) (cNx c0) := ⟨_, rfl⟩
    have hT2 := hp_103
    rw [← et_105] at hT2
    have hT := hT.tr hT2
    clear hT2
    have hE_t_104 : TwE [3] t_98 t_104 := by rw [et_105]; exact TwE.ast rfl
    have hk0 : (t_104.2 3 4 = cNx c0 + 1 ∧ t_104.2 3 2 = (cN c0 : Int) + 1) ∧ (∀ i, i ≠ 2 ∧ i ≠ 4 ∧ (i < 592 ∨ 592 + 1 ≤ i) → t_104.2 3 i = t.2 3 i) := ⟨⟨by rw [tast_v et_105]; unfold zset; rw [if_neg (by omega)]; exact hn3.1, by rw [tast_v et_105]; unfold zset; rw [if_neg (by omega)]; exact hn3.2⟩, fun i hi => by rw [tast_v et_105]; unfold zset; rw [if_neg (by omega)]; exact hu2 i (by omega)⟩
    have hc0 : t_104.2 3 (32 + 14 * 40 + 0) = cNx c0 := by rw [tast_v et_105]; unfold zset; rw [if_pos rfl]
    refine lv_aload_n hx hb dX10_comes_70 rfl (lv_at hl 5 rfl) ?_
    refine h_bipush hx hb dX10_comes_71 (by decide) ?_
    refine h_iconst hx hb dX10_comes_73 ?_
    refine lv_iload_n hx hb dX10_comes_74 rfl (lv_at hl 6 rfl) ?_
    refine h_i2l hx hb dX10_comes_75 (by omega) ?_
    -- call SpokenMarksModel.lays
    refine h_kV (h_runV X hR (m_lays l G w_102 a ad t_104 hT.1 40 1 v (by omega) (by omega) (by omega)) pn_yX10_lays (hasC.of hT.1.ob rfl) q2864 q2866 qs60 q161 q2867 ⟨by decide, by decide⟩ hl.1 (Nat.le_of_ble_eq_true rfl) dX10_comes_76 ⟨by omega, by omega⟩) hL (fun w_107 hp_108 H locs hR hL => ?_)
    obtain ⟨t_109, et_110⟩ : ∃ t_ : Tw, t_ = tast t_104 3 (32 + 14 * 40 + 1) v := ⟨_, rfl⟩
    have hT2 := hp_108
    rw [← et_110] at hT2
    have hT := hT.tr hT2
    clear hT2
    have hE_t_109 : TwE [3] t_104 t_109 := by rw [et_110]; exact TwE.ast rfl
    have hk1 : (t_109.2 3 4 = cNx c0 + 1 ∧ t_109.2 3 2 = (cN c0 : Int) + 1) ∧ (∀ i, i ≠ 2 ∧ i ≠ 4 ∧ (i < 592 ∨ 592 + 2 ≤ i) → t_109.2 3 i = t.2 3 i) := ⟨⟨by rw [tast_v et_110]; unfold zset; rw [if_neg (by omega)]; exact hk0.1.1, by rw [tast_v et_110]; unfold zset; rw [if_neg (by omega)]; exact hk0.1.2⟩, fun i hi => by rw [tast_v et_110]; unfold zset; rw [if_neg (by omega)]; exact hk0.2 i (by omega)⟩
    have hc0' : t_109.2 3 (32 + 14 * 40 + 0) = cNx c0 := by rw [tast_v et_110]; unfold zset; rw [if_neg (by omega)]; exact hc0
    have hc1 : t_109.2 3 (32 + 14 * 40 + 1) = v := by rw [tast_v et_110]; unfold zset; rw [if_pos rfl]
    refine lv_aload_n hx hb dX10_comes_79 rfl (lv_at hl 5 rfl) ?_
    refine h_bipush hx hb dX10_comes_80 (by decide) ?_
    refine h_iconst hx hb dX10_comes_82 ?_
    refine lv_iload hx hb dX10_comes_83 (lv_at hl 2 rfl) ?_
    refine h_i2l hx hb dX10_comes_85 (by omega) ?_
    -- call SpokenMarksModel.lays
    refine h_kV (h_runV X hR (m_lays l G w_107 a ad t_109 hT.1 40 2 (plF c0 (rkF c0 g : Int)) (by omega) (by omega) (by omega)) pn_yX10_lays (hasC.of hT.1.ob rfl) q2864 q2866 qs60 q161 q2867 ⟨by decide, by decide⟩ hl.1 (Nat.le_of_ble_eq_true rfl) dX10_comes_86 ⟨by omega, by omega⟩) hL (fun w_112 hp_113 H locs hR hL => ?_)
    obtain ⟨t_114, et_115⟩ : ∃ t_ : Tw, t_ = tast t_109 3 (32 + 14 * 40 + 2) (plF c0 (rkF c0 g : Int)) := ⟨_, rfl⟩
    have hT2 := hp_113
    rw [← et_115] at hT2
    have hT := hT.tr hT2
    clear hT2
    have hE_t_114 : TwE [3] t_109 t_114 := by rw [et_115]; exact TwE.ast rfl
    have hk2 : (t_114.2 3 4 = cNx c0 + 1 ∧ t_114.2 3 2 = (cN c0 : Int) + 1) ∧ (∀ i, i ≠ 2 ∧ i ≠ 4 ∧ (i < 592 ∨ 592 + 3 ≤ i) → t_114.2 3 i = t.2 3 i) := ⟨⟨by rw [tast_v et_115]; unfold zset; rw [if_neg (by omega)]; exact hk1.1.1, by rw [tast_v et_115]; unfold zset; rw [if_neg (by omega)]; exact hk1.1.2⟩, fun i hi => by rw [tast_v et_115]; unfold zset; rw [if_neg (by omega)]; exact hk1.2 i (by omega)⟩
    have hc0'' : t_114.2 3 (32 + 14 * 40 + 0) = cNx c0 := by rw [tast_v et_115]; unfold zset; rw [if_neg (by omega)]; exact hc0'
    have hc1' : t_114.2 3 (32 + 14 * 40 + 1) = v := by rw [tast_v et_115]; unfold zset; rw [if_neg (by omega)]; exact hc1
    have hc2 : t_114.2 3 (32 + 14 * 40 + 2) = plF c0 (rkF c0 g : Int) := by rw [tast_v et_115]; unfold zset; rw [if_pos rfl]
    refine lv_aload_n hx hb dX10_comes_89 rfl (lv_at hl 5 rfl) ?_
    refine h_iconst hx hb dX10_comes_90 ?_
    -- call SpokenMarksModel.head
    refine h_kIp (h_runV X hR (m_head l G w_112 a ad t_114 hT.1 2 (by omega)) pn_yX10_head (hasC.of hT.1.ob rfl) q2789 q2791 qs44 q161 q2792 ⟨by decide, by decide⟩ hl.1 (Nat.le_of_ble_eq_true rfl) dX10_comes_91 ⟨by omega, by omega⟩) hL (fun H locs hR hL => ?_)
    refine W.eq (g2 := F0 m9 94 ls [.int (iI (((cN c0 : Int) + 1)))]) (congrArg (fun z_ : Int => F0 m9 94 ls [.int (iI (z_))]) (show (hd t_114 2 : Int) = ((cN c0 : Int) + 1) from (hk2.1.2))) ?_
    refine h_iconst hx hb dX10_comes_94 ?_
    refine h_isub hx hb dX10_comes_95 ?_
    refine h_bipush hx hb dX10_comes_96 (by decide) ?_
    refine h_icmp_eq hx hb 130 dX10_comes_98 (by decide) (by omega) (by omega) (fun c_40 => ?_) (fun c_40 => ?_)
    ·
      exact absurd c_40 (by omega)
    ·
      refine lv_aload_n hx hb dX10_comes_101 rfl (lv_at hl 5 rfl) ?_
      refine tw_get X hR hT 3 (by decide) q2944 rfl dX10_comes_102 ?_
      refine h_sipush hx hb dX10_comes_105 (by decide) ?_
      refine lv_aload_n hx hb dX10_comes_108 rfl (lv_at hl 5 rfl) ?_
      refine tw_get X hR hT 3 (by decide) q2944 rfl dX10_comes_109 ?_
      refine h_bipush hx hb dX10_comes_112 (by decide) ?_
      refine h_bipush hx hb dX10_comes_114 (by decide) ?_
      refine lv_aload_n hx hb dX10_comes_116 rfl (lv_at hl 5 rfl) ?_
      refine h_iconst hx hb dX10_comes_117 ?_
      -- call SpokenMarksModel.head
      refine h_kIp (h_runV X hR (m_head l G w_112 a ad t_114 hT.1 2 (by omega)) pn_yX10_head (hasC.of hT.1.ob rfl) q2789 q2791 qs44 q161 q2792 ⟨by decide, by decide⟩ hl.1 (Nat.le_of_ble_eq_true rfl) dX10_comes_118 ⟨by omega, by omega⟩) hL (fun H locs hR hL => ?_)
      refine W.eq (g2 := F0 m9 121 ls [.int (iI (((cN c0 : Int) + 1))), .int (iI (14)), .int (iI (32)), .ref (ad 3), .int (iI (592)), .ref (ad 3)]) (congrArg (fun z_ : Int => F0 m9 121 ls [.int (iI (z_)), .int (iI (14)), .int (iI (32)), .ref (ad 3), .int (iI (592)), .ref (ad 3)]) (show (hd t_114 2 : Int) = ((cN c0 : Int) + 1) from (hk2.1.2))) ?_
      refine h_iconst hx hb dX10_comes_121 ?_
      refine h_isub hx hb dX10_comes_122 ?_
      refine h_imul hx hb dX10_comes_123 ?_
      refine h_iadd hx hb dX10_comes_124 ?_
      refine h_bipush hx hb dX10_comes_125 (by decide) ?_
      refine W.eq (g2 := F0 m9 127 ls [.int (iI (14)), .int (iI (((32 + 14 * cN c0 : Nat) : Int))), .ref (ad 3), .int (iI (592)), .ref (ad 3)]) (congrArg (fun z_ : Int => F0 m9 127 ls [.int (iI (14)), .int (iI (z_)), .ref (ad 3), .int (iI (592)), .ref (ad 3)]) (show (32 + (14 * ((((cN c0 : Int) + 1)) - 1)) : Int) = ((32 + 14 * cN c0 : Nat) : Int) from (by omega))) ?_
      -- call SpokenMarksModel.copies
      refine h_kV (h_runS X hR (m_copies l G w_112 a ad t_114 hT.1 3 592 3 (32 + 14 * cN c0) 14 (by decide) (by decide) (by show _ ≤ _; simp only [twN]; omega) (by show _ ≤ _; simp only [twN]; omega) (by first | exact Or.inl (by decide) | exact Or.inr (by omega))) pn_yX10_copies q2737 q2738 q161 q2739 ⟨by decide, by decide⟩ hl.1 (Nat.le_of_ble_eq_true rfl) dX10_comes_127 ⟨by omega, by omega⟩) hL (fun w_123 hp_124 H locs hR hL => ?_)
      obtain ⟨t_125, hT2, e1_, e2_, hc_t_125⟩ := hp_124
      have hE_t_125 : TwE [3] t_114 t_125 := fun k_ hk_ => ⟨by rw [e1_], e2_ k_ (by simpa using hk_)⟩
      have e1_t_125 := e1_
      have hT := hT.tr hT2
      clear hT2 e1_ e2_
      have hcp : ∀ i, ¬ (32 + 14 * cN c0 ≤ i ∧ i < 46 + 14 * cN c0) → t_125.2 3 i = t_114.2 3 i := fun i hi => by rw [hc_t_125]; unfold cpyF; rw [if_neg (by omega)]
      have hq : ∀ j, j < 14 → t_125.2 3 (32 + 14 * cN c0 + j) = t_114.2 3 (32 + 14 * 40 + j) := fun j hj => by rw [hc_t_125]; unfold cpyF; rw [if_pos (by omega), show 32 + 14 * cN c0 + j - (32 + 14 * cN c0) + 592 = 32 + 14 * 40 + j by omega]
      have hG3 : SlotP (t_114.2 3) 40 (cRl c0) g := hGm hk2.2
      have hc0' := hc0''
      have hD : RowIs (t_125.2 3) (cCom c0 g v (cN c0)) := hC.cm hn ⟨⟨by have := hC.s.2.2.2.2.2.2; show 1 ≤ cNx c0; omega, by show cNx c0 < _; omega⟩, hgW, hv, hpf⟩ (by omega) (fun i a b c => (hcp i (by omega)).trans (hk2.2 i (by omega))) ((hcp 2 (by omega)).trans hk2.1.2) ((hcp 4 (by omega)).trans hk2.1.1) ⟨(hq 0 (by omega)).trans hc0'', (hq 1 (by omega)).trans hc1', (hq 2 (by omega)).trans hc2, hG3.to hq⟩
      refine lv_aload_n hx hb dX10_comes_130 rfl (lv_at hl 5 rfl) ?_
      refine h_iconst hx hb dX10_comes_131 ?_
      -- call SpokenMarksModel.head
      refine h_kIp (h_runV X hR (m_head l G w_123 a ad t_125 hT.1 2 (by omega)) pn_yX10_head (hasC.of hT.1.ob rfl) q2789 q2791 qs44 q161 q2792 ⟨by decide, by decide⟩ hl.1 (Nat.le_of_ble_eq_true rfl) dX10_comes_132 ⟨by omega, by omega⟩) hL (fun H locs hR hL => ?_)
      refine W.eq (g2 := F0 m9 135 ls [.int (iI (((cN c0 : Int) + 1)))]) (congrArg (fun z_ : Int => F0 m9 135 ls [.int (iI (z_))]) (show (hd t_125 2 : Int) = ((cN c0 : Int) + 1) from ((hD.n.trans (by rw [cN_com c0 g v (by omega)]; omega))))) ?_
      refine h_iconst hx hb dX10_comes_135 ?_
      refine h_isub hx hb dX10_comes_136 ?_
      refine lv_istore (lv' := [(7, .int (iI ((((cN c0 : Int) + 1)) - 1))), (6, .int (iI (cNx c0))), (5, .int (iI (0))), (4, .int (iI (plF c0 ((rkF c0 g : Nat) : Int)))), (3, .int (iI (b2i ¬ plA c0 ((rkF c0 g : Nat) : Int) - plA c0 (((rkF c0 g : Nat) : Int) - 1) < 2))), (2, .int (iI ((rkF c0 g : Int)))), (0, .ref a), (1, .int (iI (v)))]) hx hb dX10_comes_137 hl (by decide) rfl (fun ls hl => ?_)
      have LOOP_131 : ∀ (N_ : Nat) (j : Nat) (t_129 : Tw) (w_130 : Wd), (j ≤ cN c0) → (rkF c0 g ≤ j) → (TwS G w w_130 a ad t_129) → (TwE [3] t_125 t_129) → (RowIs (t_129.2 3) (cCom c0 g v j)) → j < N_ → ∀ (H : Heap) (locs : List Loc) (ls : Array Slot), Rp G w_130 H → LK G locs → lv_has ls 8 [(0, .ref a), (1, .int (iI (v))), (2, .int (iI ((rkF c0 g : Int)))), (3, .int (iI (b2i ¬ plA c0 (rkF c0 g : Int) - plA c0 ((rkF c0 g : Int) - 1) < 2))), (5, .int (iI (0))), (6, .int (iI (cNx c0))), (7, .int (iI ((j : Int))))] → W p9 l e9 (rmk 5 0 0) s9 m9 a9 b9 meth9 c9 H locs 0 0 (MQ b9 (QI G (fun z_ w_ => z_ = cNx c0 ∧ ∃ t_ : Tw, TwS G w w_ a ad t_ ∧ TwE [3] t t_ ∧ RowIs (t_.2 3) (cAdd c0 g v))) a9 s9 0 0 (frG G)) (F0 m9 139 ls []) := by
        intro N_
        induction N_ with
        | zero => intro _ _ _ _ _ _ _ _ h_; exact absurd h_ (Nat.not_lt_zero _)
        | succ N_ ih_ =>
          intro j t_129 w_130 hj hjr hT hE_t_129 hD hN_ H locs ls hR hL hl
          have ih_131 := ih_
          clear ih_
          refine lv_iload hx hb dX10_comes_139 (lv_at hl 6 rfl) ?_
          refine lv_iload_n hx hb dX10_comes_141 rfl (lv_at hl 2 rfl) ?_
          refine h_icmp_le hx hb 161 dX10_comes_142 (by decide) (by omega) (by omega) (fun c_132 => ?_) (fun c_132 => ?_)
          ·
            have hDr : RowIs (t_129.2 3) (cCom c0 g v (rkF c0 g)) := by rw [show rkF c0 g = j by omega]; exact hD
            refine lv_aload_n hx hb dX10_comes_161 rfl (lv_at hl 0 rfl) ?_
            refine h_iconst hx hb dX10_comes_162 ?_
            refine h_iconst hx hb dX10_comes_163 ?_
            -- call SpokenMarksModel.counts
            refine h_kV (h_runV X hR (m_counts l G w_130 a ad t_129 hT.1 0 1 (by omega) (by omega) (hDr.acR (by omega))) pn_yX10_counts (hasC.of hT.1.ob rfl) q2887 q2889 qs65 q161 q2890 ⟨by decide, by decide⟩ hl.1 (Nat.le_of_ble_eq_true rfl) dX10_comes_164 ⟨by omega, by omega⟩) hL (fun w_134 hp_135 H locs hR hL => ?_)
            obtain ⟨t_136, et_137⟩ : ∃ t_ : Tw, t_ = tast t_129 3 (5 + 0) (t_129.2 3 (5 + 0) + 1) := ⟨_, rfl⟩
            have hT2 := hp_135
            rw [← et_137] at hT2
            have hT := hT.tr hT2
            clear hT2
            have hE_t_136 : TwE [3] t_129 t_136 := by rw [et_137]; exact TwE.ast rfl
            have hE := hDr.act (c := cCom c0 g v (rkF c0 g)) et_137 (by omega) ⟨by show 0 ≤ cAc c0 0 + 1; omega, by show cAc c0 0 + 1 < _; omega⟩
            have hE : RowIs (t_136.2 3) (cIns c0 g v) := hE
            refine lv_iload_n hx hb dX10_comes_167 rfl (lv_at hl 3 rfl) ?_
            refine h_if_eq hx hb 174 dX10_comes_168 (by decide) (by omega) (fun c_rm2 => ?_) (fun c_rm2 => ?_)
            ·
              exact absurd c_rm2 (by first | exact c_room | (intro q; exact c_room q))
            ·
              refine lv_iload hx hb dX10_comes_171 (lv_at hl 5 rfl) ?_
              exact h_ireturn hx hb hlk hret hR hL rfl ⟨rfl, ⟨t_136, hT, (TwE.tr (S2 := [3]) (TwE.tr (S2 := [3]) (TwE.tr (S2 := [3]) (TwE.tr (S2 := [3]) (TwE.tr (S2 := [3]) (TwE.tr (S2 := [3]) (TwE.tr (S2 := [3]) (TwE.tr (S2 := [3]) (TwE.rf : TwE [] t t) hE_t_92 rfl rfl) hE_t_98 rfl rfl) hE_t_104 rfl rfl) hE_t_109 rfl rfl) hE_t_114 rfl rfl) hE_t_125 rfl rfl) hE_t_129 rfl rfl) hE_t_136 rfl rfl), (by unfold cAdd; rw [if_neg (by have := b2i_01 (plA c0 (rkF c0 g : Int) - plA c0 ((rkF c0 g : Int) - 1) < 2); exact fun q => c_room (b2i_f (fun z => z q)))]; exact hE)⟩⟩ (by omega) (by omega) rfl rfl dX10_comes_173
          ·
            refine lv_aload_n hx hb dX10_comes_145 rfl (lv_at hl 0 rfl) ?_
            refine lv_iload hx hb dX10_comes_146 (lv_at hl 6 rfl) ?_
            refine lv_iload hx hb dX10_comes_148 (lv_at hl 6 rfl) ?_
            refine h_iconst hx hb dX10_comes_150 ?_
            refine h_isub hx hb dX10_comes_151 ?_
            refine W.eq (g2 := F0 m9 152 ls [.int (iI (((j - 1 : Nat) : Int))), .int (iI ((j : Int))), .ref a]) (congrArg (fun z_ : Int => F0 m9 152 ls [.int (iI (z_)), .int (iI ((j : Int))), .ref a]) (show (((j : Int)) - 1 : Int) = ((j - 1 : Nat) : Int) from (by omega))) ?_
            -- call SpokenMarksModel.swaps
            refine h_kV (h_runV X hR (m_swaps l G w_130 a ad t_129 hT.1 j (j - 1) (by omega) (by omega) (by omega)) pn_yX10_swaps (hasC.of hT.1.ob rfl) q2876 q2878 qs63 q161 q2879 ⟨by decide, by decide⟩ hl.1 (Nat.le_of_ble_eq_true rfl) dX10_comes_152 ⟨by omega, by omega⟩) hL (fun w_139 hp_140 H locs hR hL => ?_)
            obtain ⟨t_141, hT2, hE_t_141, et_142⟩ := hp_140
            have hT := hT.tr hT2
            clear hT2
            refine h_iinc (lv' := [(7, .int (iI ((j : Int) + (-1)))), (0, .ref a), (1, .int (iI (v))), (2, .int (iI ((rkF c0 g : Int)))), (3, .int (iI (b2i ¬ plA c0 (rkF c0 g : Int) - plA c0 ((rkF c0 g : Int) - 1) < 2))), (5, .int (iI (0))), (6, .int (iI (cNx c0)))]) hx hb dX10_comes_155 hl (k := 6) rfl (by decide) rfl (fun ls hl => ?_)
            refine lv_goto (tgt := 139) hx hb dX10_comes_158 (by decide) ?_
            have hl : lv_has ls 8 [(7, .int (iI (((j - 1 : Nat) : Int)))), (0, .ref a), (1, .int (iI (v))), (2, .int (iI ((rkF c0 g : Int)))), (3, .int (iI (b2i ¬ plA c0 (rkF c0 g : Int) - plA c0 ((rkF c0 g : Int) - 1) < 2))), (5, .int (iI (0))), (6, .int (iI (cNx c0)))] := lv_conv hl (congrArg (fun z_ : Int => ([(7, .int (iI (z_))), (0, .ref a), (1, .int (iI (v))), (2, .int (iI ((rkF c0 g : Int)))), (3, .int (iI (b2i ¬ plA c0 (rkF c0 g : Int) - plA c0 ((rkF c0 g : Int) - 1) < 2))), (5, .int (iI (0))), (6, .int (iI (cNx c0)))] : List (Nat × Value))) (show ((j : Int) + (-1) : Int) = ((j - 1 : Nat) : Int) from (by omega)))
            exact ih_131 (j - 1) t_141 w_139 (by omega) (by omega) hT (TwE.tr (S2 := [3]) (TwE.tr (S2 := [3]) (TwE.rf : TwE [] t_125 t_125) hE_t_129 rfl rfl) hE_t_141 rfl rfl) (RowIs.com (by omega) (by omega) hD et_142) (by omega) _ _ _ hR hL (lv_sub hl [1, 2, 3, 4, 5, 6, 0] rfl)
      have hl : lv_has ls 8 [(7, .int (iI (((cN c0 : Nat) : Int)))), (6, .int (iI (cNx c0))), (5, .int (iI (0))), (4, .int (iI (plF c0 ((rkF c0 g : Nat) : Int)))), (3, .int (iI (b2i ¬ plA c0 ((rkF c0 g : Nat) : Int) - plA c0 (((rkF c0 g : Nat) : Int) - 1) < 2))), (2, .int (iI ((rkF c0 g : Int)))), (0, .ref a), (1, .int (iI (v)))] := lv_conv hl (congrArg (fun z_ : Int => ([(7, .int (iI (z_))), (6, .int (iI (cNx c0))), (5, .int (iI (0))), (4, .int (iI (plF c0 ((rkF c0 g : Nat) : Int)))), (3, .int (iI (b2i ¬ plA c0 ((rkF c0 g : Nat) : Int) - plA c0 (((rkF c0 g : Nat) : Int) - 1) < 2))), (2, .int (iI ((rkF c0 g : Int)))), (0, .ref a), (1, .int (iI (v)))] : List (Nat × Value))) (show ((((cN c0 : Int) + 1)) - 1 : Int) = ((cN c0 : Nat) : Int) from (by omega)))
      exact LOOP_131 _ (cN c0) t_125 w_123 (by omega) (by omega) hT (TwE.rf : TwE [3] t_125 t_125) hD (Nat.lt_succ_self _) _ _ _ hR hL (lv_sub hl [6, 7, 5, 4, 2, 1, 0] rfl)
