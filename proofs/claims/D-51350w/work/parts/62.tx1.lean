/-! the twin: play -/
set_option maxRecDepth 100000
def plR (s : Sys) : List Ord_ → Int × Sys
  | [] => (0, s)
  | o :: r => if 0 ≤ (oDo (sC s) o).2 then ((plR (ordS s o) r).1 + 1, (plR (ordS s o) r).2) else (0, ordS s o)
theorem plR_go {os : List Ord_} {j : Nat} {s : Sys} (hj : j < os.length) (h : 0 ≤ (oDo (sC s) (os.getD j ord0)).2) : plR s (os.drop j) = ((plR (ordS s (os.getD j ord0)) (os.drop (j + 1))).1 + 1, (plR (ordS s (os.getD j ord0)) (os.drop (j + 1))).2) := by
  rw [List.drop_eq_getElem_cons hj]
  have e : os.getD j ord0 = os[j] := by simp [hj]
  rw [e] at h ⊢
  exact if_pos h
theorem plR_stop {os : List Ord_} {j : Nat} {s : Sys} (hj : j < os.length) (h : ¬ 0 ≤ (oDo (sC s) (os.getD j ord0)).2) : plR s (os.drop j) = (0, ordS s (os.getD j ord0)) := by
  rw [List.drop_eq_getElem_cons hj]
  have e : os.getD j ord0 = os[j] := by simp [hj]
  rw [e] at h ⊢
  exact if_neg h
theorem plR_end {os : List Ord_} {j : Nat} {s : Sys} (hj : os.length ≤ j) : plR s (os.drop j) = (0, s) := by rw [List.drop_of_length_le hj]; rfl
abbrev pst (B : List Int) (n : Int) : Rd × List Ord_ := rPlay (B.take n.toNat)
def pshS (s : Sys) : Sys := (sC s, pushU (sU s) (sC s), sD s, sR s)
def playA (s : Sys) (B : List Int) (n : Int) : Int × Sys := if wrC (pst B n).1 = 0 then plR (pshS s) (pst B n).2 else (-10 - wrC (pst B n).1, s)
theorem SysOk.push {b : Int} {s : Sys} (h : SysOk b s) : SysOk b (pshS s) := ⟨h.1, fun u hu => by
  rcases pushU_mem hu with z | z
  · exact h.2.1 u z
  · subst z; exact h.1, h.2.2⟩

theorem pn_yX10_isDoneNow : ParN yX10_isDoneNow 1 := by decide +kernel
theorem pn_yX10_readsOrder : ParN yX10_readsOrder 0 := by decide +kernel

set_option maxHeartbeats 4000000 in
set_option maxRecDepth 100000 in
/-- play -/
theorem m_play (l : Launch) (G : Gl) (w : Wd) (a : Nat) (ad : Nat → Nat) (t : Tw) (hT : TwAt G w a ad t) (n : Int) (s : Sys) (B : List Int) (bq : Int) (hS : SysIs t s) (hx_n : R32 n) (hB : BfAt t B) (hb15 : t.1 15 = (B.length : Int)) (hcr : CelR (t.2 28)) (hok0 : SysOk bq s) (hbq : bq < 900000) : HM l yX10_play cX10_play 3 (some .int) 11 0 0 G [.ref a, .int (iI (n))] w (QI G (fun z_ w_ => z_ = (if gOk B n then (playA s B n).1 else 0) ∧ ∃ t_ : Tw, TwS G w w_ a ad t_ ∧ TwE [0, 1, 2, 3, 5, 8, 9, 10, 12, 15, 16, 17, 18, 19, 20, 21, 22, 23, 24, 26, 27, 28, 29] t t_ ∧ t_.1 0 = (if gOk B n then 0 else 1) ∧ t_.1 22 = (if gOk B n then errP (pst B n).1 else t.1 22) ∧ t_.1 15 = (if gOk B n then 0 else t.1 15) ∧ SysIs t_ (if gOk B n then (playA s B n).2 else s) ∧ CelR (t_.2 28))) := by
  refine HM.mk (by decide +kernel) (Nat.le_of_ble_eq_true rfl) ?_
  intro p9 e9 s9 m9 a9 b9 meth9 c9 ls X hret hlk hnm hl H hR
  have hx := X.1.1
  have hb := X.1.2.1
  have hl : lv_has ls 3 [(0, .ref a), (1, .int (iI (n)))] := hl
  have hL : LK G [] := fun q h => absurd h List.not_mem_nil
  generalize ([] : List Loc) = locs at hL ⊢
  have hTb := hT
  have hT : TwS G w w a ad t := TwS.rf hT
  have hB8 := hB.1.1
  refine lv_aload_n hx hb dX10_play_0 rfl (lv_at hl 0 rfl) ?_
  refine h_iconst hx hb dX10_play_1 ?_
  refine tw_puti X hR hL hT 0 (by decide) q2941 rfl rfl rfl twF_s0 (by omega) dX10_play_2 (fun t_1 et_2 w_3 hT H locs hR hL => ?_)
  have hE_t_1 := TwE.put et_2
  have hv_t_1 := tput_v et_2
  refine lv_aload_n hx hb dX10_play_5 rfl (lv_at hl 0 rfl) ?_
  refine lv_iload_n hx hb dX10_play_6 rfl (lv_at hl 1 rfl) ?_
  refine h_i2l hx hb dX10_play_7 (by omega) ?_
  refine h_lconst hx hb 0 dX10_play_8 rfl ?_
  refine lv_aload_n hx hb dX10_play_9 rfl (lv_at hl 0 rfl) ?_
  refine tw_get X hR hT 15 (by decide) q2956 (v := .int (iI ((B.length : Int)))) (congrArg (fun z => some (Value.int (iI z))) (((hE_t_1 15 (by decide)).1).trans hb15)) dX10_play_10 ?_
  refine h_i2l hx hb dX10_play_13 (by omega) ?_
  -- call SpokenMarksModel.in
  refine h_kIp (h_runS X hR (m_in l G w_3  n 0 ((B.length : Int)) (by omega) (by omega) (by omega)) pn_yX10_in q2730 q2731 q161 q2732 ⟨by decide, by decide⟩ hl.1 (Nat.le_of_ble_eq_true rfl) dX10_play_14 ⟨by omega, by omega⟩) hL (fun H locs hR hL => ?_)
  refine h_iconst hx hb dX10_play_17 ?_
  -- call SpokenMarksModel.fails
  refine h_kI (h_runV X hR (m_fails l G w_3 a ad t_1 hT.1 (b2i (0 ≤ n ∧ n ≤ ((B.length : Int)))) 1 (b2i_R _) ⟨by decide, by decide⟩ hv_t_1) pn_yX10_fails (hasC.of hT.1.ob rfl) q2733 q2735 qs33 q161 q2736 ⟨by decide, by decide⟩ hl.1 (Nat.le_of_ble_eq_true rfl) dX10_play_18 ⟨by omega, by omega⟩) hL (fun z_7 w_8 hp_9 H locs hR hL => ?_)
  obtain ⟨rfl, t_10, hT2, hE_t_10, et_11⟩ := hp_9
  have hT := hT.tr hT2
  clear hT2
  refine h_if_eq hx hb 26 dX10_play_21 (by decide) (b2i_R _) (fun c_f => ?_) (fun c_f => ?_)
  ·
    have hok := b2i_n1.mp (b2i_0.mp c_f)
    have hth : t_10.1 0 = 0 := (et_11).trans (if_neg (b2i_0.mp c_f))
    refine lv_aload_n hx hb dX10_play_26 rfl (lv_at hl 0 rfl) ?_
    refine lv_iload_n hx hb dX10_play_27 rfl (lv_at hl 1 rfl) ?_
    refine W.eq (g2 := F0 m9 28 ls [.int (iI (((B.take n.toNat).length : Int))), .ref a]) (congrArg (fun z_ : Int => F0 m9 28 ls [.int (iI (z_)), .ref a]) (show (n : Int) = ((B.take n.toNat).length : Int) from (by rw [List.length_take]; have := hok; omega))) ?_
    -- call SpokenMarksModel.starts
    refine h_kV (h_runV X hR (m_starts l G w_8 a ad t_10 hT.1 (B.take n.toNat) (hB.tk n.toNat (((hE_t_10 14 (by decide)).2).trans (hE_t_1 14 (by decide)).2))) pn_yX10_starts (hasC.of hT.1.ob rfl) q2740 q2742 qs34 q161 q2743 ⟨by decide, by decide⟩ hl.1 (Nat.le_of_ble_eq_true rfl) dX10_play_28 ⟨by omega, by omega⟩) hL (fun w_13 hp_14 H locs hR hL => ?_)
    obtain ⟨t_15, hT2, hE_t_15, et_16⟩ := hp_14
    have hT := hT.tr hT2
    clear hT2
    have h15 := et_16.2
    have hR0 := et_16.1
    refine lv_aload_n hx hb dX10_play_31 rfl (lv_at hl 0 rfl) ?_
    refine h_iconst hx hb dX10_play_32 ?_
    refine tw_puti X hR hL hT 29 (by decide) q2970 rfl rfl rfl twF_s29 (by omega) dX10_play_33 (fun t_17 et_18 w_19 hT H locs hR hL => ?_)
    have hE_t_17 := TwE.put et_18
    have hv_t_17 := tput_v et_18
    have LOOP_22 : ∀ (N_ : Nat) (k : Nat) (q : Rd × List Ord_) (t_20 : Tw) (w_21 : Wd), (rAll (B.take n.toNat) k q = rPlay (B.take n.toNat)) → (∀ s_, q.1 = .inr s_ → 22 ≤ k + q.2.length) → (TwS G w w_21 a ad t_20) → (TwE [1, 2, 17, 18, 19, 20, 21, 22, 23, 24, 26, 27, 28, 29] t_17 t_20) → (RdAt t_20 (B.take n.toNat) q.1) → (CelR (t_20.2 28)) → (wrC q.1 = 0 → OrdsAt t_20 q.2) → k < N_ → ∀ (H : Heap) (locs : List Loc) (ls : Array Slot), Rp G w_21 H → LK G locs → lv_has ls 3 [(0, .ref a), (1, .int (iI (n)))] → W p9 l e9 (rmk 11 0 0) s9 m9 a9 b9 meth9 c9 H locs 0 0 (MQ b9 (QI G (fun z_ w_ => z_ = (if gOk B n then (playA s B n).1 else 0) ∧ ∃ t_ : Tw, TwS G w w_ a ad t_ ∧ TwE [0, 1, 2, 3, 5, 8, 9, 10, 12, 15, 16, 17, 18, 19, 20, 21, 22, 23, 24, 26, 27, 28, 29] t t_ ∧ t_.1 0 = (if gOk B n then 0 else 1) ∧ t_.1 22 = (if gOk B n then errP (pst B n).1 else t.1 22) ∧ t_.1 15 = (if gOk B n then 0 else t.1 15) ∧ SysIs t_ (if gOk B n then (playA s B n).2 else s) ∧ CelR (t_.2 28))) a9 s9 0 0 (frG G)) (F0 m9 36 ls []) := by
      intro N_
      induction N_ with
      | zero => intro _ _ _ _ _ _ _ _ _ _ _ h_; exact absurd h_ (Nat.not_lt_zero _)
      | succ N_ ih_ =>
        intro k q t_20 w_21 hq hn hT hE_t_20 hRq hcr1 hOq hN_ H locs ls hR hL hl
        have ih_22 := ih_
        clear ih_
        refine lv_aload_n hx hb dX10_play_36 rfl (lv_at hl 0 rfl) ?_
        refine tw_get X hR hT 21 (by decide) q2962 (v := .int (iI (t_20.1 21))) rfl dX10_play_37 ?_
        have rg_t_20_21 := hT.1.ri 21 (by decide) (by decide)
        refine W.eq (g2 := F0 m9 40 ls [.int (iI (wrC q.1))]) (congrArg (fun z_ : Int => F0 m9 40 ls [.int (iI (z_))]) (show (t_20.1 21 : Int) = wrC q.1 from (hRq.wr))) ?_
        refine h_if_ne hx hb 57 dX10_play_40 (by decide) (by have h_ := hT.1.ri 21 (by decide) (by decide); rwa [hRq.wr] at h_) (fun c_w => ?_) (fun c_w => ?_)
        ·
          have hqe : q = rPlay (B.take n.toNat) := by rw [← hq, rAll_end c_w]
          have hw0 : ¬ wrC q.1 = 0 := c_w
          subst hqe
          have hw9 := hRq.wr9
          refine lv_aload_n hx hb dX10_play_57 rfl (lv_at hl 0 rfl) ?_
          refine tw_get X hR hT 21 (by decide) q2962 (v := .int (iI (wrC (rPlay (B.take n.toNat)).1))) (congrArg (fun z => some (Value.int (iI z))) (hRq.wr)) dX10_play_58 ?_
          refine h_if_eq hx hb 72 dX10_play_61 (by decide) (by omega) (fun c_v => ?_) (fun c_v => ?_)
          ·
            exact absurd c_v hw0
          ·
            refine h_bipush hx hb dX10_play_64 (by decide) ?_
            refine lv_aload_n hx hb dX10_play_66 rfl (lv_at hl 0 rfl) ?_
            refine tw_get X hR hT 21 (by decide) q2962 (v := .int (iI (wrC (rPlay (B.take n.toNat)).1))) (congrArg (fun z => some (Value.int (iI z))) (hRq.wr)) dX10_play_67 ?_
            refine h_isub hx hb dX10_play_70 ?_
            exact h_ireturn hx hb hlk hret hR hL rfl ⟨(by rw [if_pos hok, playA, if_neg c_v]), ⟨t_20, hT, (TwE.tr (S2 := [0, 1, 2, 3, 5, 8, 9, 10, 12, 15, 16, 17, 18, 19, 20, 21, 22, 23, 24, 26, 27, 28, 29]) (TwE.tr (S2 := [0, 1, 2, 3, 5, 8, 9, 10, 12, 15, 16, 17, 18, 19, 20, 21, 22, 23, 24, 26, 27, 28, 29]) (TwE.tr (S2 := [0, 1, 2, 3, 5, 8, 9, 10, 12, 15, 16, 17, 18, 19, 20, 21, 22, 23, 24, 26, 27, 28, 29]) (TwE.tr (S2 := [0, 1, 2, 3, 5, 8, 9, 10, 12, 15, 16, 17, 18, 19, 20, 21, 22, 23, 24, 26, 27, 28, 29]) (TwE.tr (S2 := [0, 1, 2, 3, 5, 8, 9, 10, 12, 15, 16, 17, 18, 19, 20, 21, 22, 23, 24, 26, 27, 28, 29]) (TwE.rf : TwE [] t t) hE_t_1 rfl rfl) hE_t_10 rfl rfl) hE_t_15 rfl rfl) hE_t_17 rfl rfl) hE_t_20 rfl rfl), ⟨by rw [if_pos hok]; exact ((((hE_t_20 0 (by decide)).1).trans (hE_t_17 0 (by decide)).1).trans (hE_t_15 0 (by decide)).1).trans hth, by rw [if_pos hok]; exact hRq.er22, by rw [if_pos hok]; exact (((hE_t_20 15 (by decide)).1).trans (hE_t_17 15 (by decide)).1).trans h15, by rw [if_pos hok, playA, if_neg c_v]; exact hS.mv (TwE.tr (S2 := [0, 1, 2, 5, 15, 16, 17, 18, 19, 20, 21, 22, 23, 24, 26, 27, 28, 29]) (TwE.tr (S2 := [0, 1, 2, 5, 15, 16, 17, 18, 19, 20, 21, 22, 23, 24, 26, 27, 28, 29]) (TwE.tr (S2 := [0, 1, 2, 5, 15, 16, 17, 18, 19, 20, 21, 22, 23, 24, 26, 27, 28, 29]) (TwE.tr (S2 := [0, 1, 2, 5, 15, 16, 17, 18, 19, 20, 21, 22, 23, 24, 26, 27, 28, 29]) (TwE.tr (S2 := [0, 1, 2, 5, 15, 16, 17, 18, 19, 20, 21, 22, 23, 24, 26, 27, 28, 29]) (TwE.rf : TwE [] t t) hE_t_1 rfl rfl) hE_t_10 rfl rfl) hE_t_15 rfl rfl) hE_t_17 rfl rfl) hE_t_20 rfl rfl) (by decide) (by decide) (by decide) (by decide) (by decide), hcr1⟩⟩⟩ (by omega) (by omega) rfl rfl dX10_play_71
        ·
          obtain ⟨s1, hs1⟩ := hRq.ok c_w
          have hRd_s1 : RdAt t_20 (B.take n.toNat) (.inr s1) := by have h_ := hRq; rwa [hs1] at h_
          have hW_s1 := hRd_s1.2.2.2.2
          refine lv_aload_n hx hb dX10_play_43 rfl (lv_at hl 0 rfl) ?_
          refine tw_get X hR hT 19 (by decide) q2960 (v := .int (iI (t_20.1 19))) rfl dX10_play_44 ?_
          have rg_t_20_19 := hT.1.ri 19 (by decide) (by decide)
          refine W.eq (g2 := F0 m9 47 ls [.int (iI (scK s1))]) (congrArg (fun z_ : Int => F0 m9 47 ls [.int (iI (z_))]) (show (t_20.1 19 : Int) = scK s1 from (hRd_s1.2.2.2.1.2.2.1))) ?_
          have hk5 := hW_s1.2.2.1
          have hn1 := hn s1 hs1
          have ho1 := (hOq (by rw [hs1]; rfl)).2.1
          refine h_if_eq hx hb 57 dX10_play_47 (by decide) (by omega) (fun c_k => ?_) (fun c_k => ?_)
          ·
            have hqe : q = rPlay (B.take n.toNat) := by rw [← hq, rAll_no hs1 c_k]
            have hw0 : wrC q.1 = 0 := by rw [hs1]; rfl
            subst hqe
            have hw9 := hRq.wr9
            refine lv_aload_n hx hb dX10_play_57 rfl (lv_at hl 0 rfl) ?_
            refine tw_get X hR hT 21 (by decide) q2962 (v := .int (iI (wrC (rPlay (B.take n.toNat)).1))) (congrArg (fun z => some (Value.int (iI z))) (hRq.wr)) dX10_play_58 ?_
            refine h_if_eq hx hb 72 dX10_play_61 (by decide) (by omega) (fun c_v => ?_) (fun c_v => ?_)
            ·
              have hOs : OrdsAt t_20 (pst B n).2 := hOq hw0
              have ho20 := hOs.2.1
              refine lv_aload_n hx hb dX10_play_72 rfl (lv_at hl 0 rfl) ?_
              refine tw_get X hR hT 3 (by decide) q2944 rfl dX10_play_73 ?_
              refine h_iconst hx hb dX10_play_76 ?_
              refine lv_aload_n hx hb dX10_play_77 rfl (lv_at hl 0 rfl) ?_
              refine tw_get X hR hT 5 (by decide) q2946 rfl dX10_play_78 ?_
              refine h_iconst hx hb dX10_play_81 ?_
              refine h_sipush hx hb dX10_play_82 (by decide) ?_
              -- call SpokenMarksModel.copies
              refine h_kV (h_runS X hR (m_copies l G w_21 a ad t_20 hT.1 3 0 5 0 606 (by decide) (by decide) (by show _ ≤ _; simp only [twN]; omega) (by show _ ≤ _; simp only [twN]; omega) (by first | exact Or.inl (by decide) | exact Or.inr (by omega))) pn_yX10_copies q2737 q2738 q161 q2739 ⟨by decide, by decide⟩ hl.1 (Nat.le_of_ble_eq_true rfl) dX10_play_85 ⟨by omega, by omega⟩) hL (fun w_24 hp_25 H locs hR hL => ?_)
              obtain ⟨t_26, hT2, e1_, e2_, hc_t_26⟩ := hp_25
              have hE_t_26 : TwE [5] t_20 t_26 := fun k_ hk_ => ⟨by rw [e1_], e2_ k_ (by simpa using hk_)⟩
              have e1_t_26 := e1_
              have hT := hT.tr hT2
              clear hT2 e1_ e2_
              have hTd : RowIs (t_26.2 5) (sC s) := hS.C.mv606 (fun i hi => by rw [hc_t_26]; unfold cpyF; rw [if_pos (by omega), (((((hE_t_20 3 (by decide)).2).trans (hE_t_17 3 (by decide)).2).trans (hE_t_15 3 (by decide)).2).trans (hE_t_10 3 (by decide)).2).trans (hE_t_1 3 (by decide)).2]; congr 1)
              refine lv_aload_n hx hb dX10_play_88 rfl (lv_at hl 0 rfl) ?_
              -- call SpokenMarksModel.keeps
              refine h_kV (h_runV X hR (m_keeps l G w_24 a ad t_26 hT.1 (sU s) (sC s) (by rw [((((((hE_t_26 12 (by decide)).1).trans (hE_t_20 12 (by decide)).1).trans (hE_t_17 12 (by decide)).1).trans (hE_t_15 12 (by decide)).1).trans (hE_t_10 12 (by decide)).1).trans (hE_t_1 12 (by decide)).1, ((((((hE_t_26 8 (by decide)).2).trans (hE_t_20 8 (by decide)).2).trans (hE_t_17 8 (by decide)).2).trans (hE_t_15 8 (by decide)).2).trans (hE_t_10 8 (by decide)).2).trans (hE_t_1 8 (by decide)).2]; exact hS.2.1) hTd) pn_yX10_keeps (hasC.of hT.1.ob rfl) q3246 q3248 qs103 q161 q3249 ⟨by decide, by decide⟩ hl.1 (Nat.le_of_ble_eq_true rfl) dX10_play_89 ⟨by omega, by omega⟩) hL (fun w_28 hp_29 H locs hR hL => ?_)
              obtain ⟨t_30, hT2, hE_t_30, et_31⟩ := hp_29
              have hT := hT.tr hT2
              clear hT2
              have hS2 : SysIs t_30 (pshS s) := ⟨by rw [(((((((hE_t_30 3 (by decide)).2).trans (hE_t_26 3 (by decide)).2).trans (hE_t_20 3 (by decide)).2).trans (hE_t_17 3 (by decide)).2).trans (hE_t_15 3 (by decide)).2).trans (hE_t_10 3 (by decide)).2).trans (hE_t_1 3 (by decide)).2]; exact hS.C, et_31, ((((((((hE_t_30 9 (by decide)).1).trans (hE_t_26 9 (by decide)).1).trans (hE_t_20 9 (by decide)).1).trans (hE_t_17 9 (by decide)).1).trans (hE_t_15 9 (by decide)).1).trans (hE_t_10 9 (by decide)).1).trans (hE_t_1 9 (by decide)).1).trans hS.2.2.1, ((((((((hE_t_30 10 (by decide)).1).trans (hE_t_26 10 (by decide)).1).trans (hE_t_20 10 (by decide)).1).trans (hE_t_17 10 (by decide)).1).trans (hE_t_15 10 (by decide)).1).trans (hE_t_10 10 (by decide)).1).trans (hE_t_1 10 (by decide)).1).trans hS.2.2.2⟩
              refine h_iconst hx hb dX10_play_92 ?_
              refine lv_istore_n (lv' := [(2, .int (iI (0))), (0, .ref a), (1, .int (iI (n)))]) hx hb dX10_play_93 rfl hl (by decide) rfl (fun ls hl => ?_)
              have LOOP_34 : ∀ (N_ : Nat) (j : Nat) (sj : Sys) (t_32 : Tw) (w_33 : Wd), (j ≤ (pst B n).2.length) → ((plR (pshS s) (pst B n).2).1 = (plR sj ((pst B n).2.drop j)).1 + (j : Int)) → ((plR (pshS s) (pst B n).2).2 = (plR sj ((pst B n).2.drop j)).2) → (SysOk (bq + 41 * (j : Int)) sj) → (TwS G w w_33 a ad t_32) → (TwE [1, 2, 3, 9, 10] t_30 t_32) → (SysIs t_32 sj) → ((pst B n).2.length - j) < N_ → ∀ (H : Heap) (locs : List Loc) (ls : Array Slot), Rp G w_33 H → LK G locs → lv_has ls 3 [(0, .ref a), (2, .int (iI ((j : Int))))] → W p9 l e9 (rmk 11 0 0) s9 m9 a9 b9 meth9 c9 H locs 0 0 (MQ b9 (QI G (fun z_ w_ => z_ = (if gOk B n then (playA s B n).1 else 0) ∧ ∃ t_ : Tw, TwS G w w_ a ad t_ ∧ TwE [0, 1, 2, 3, 5, 8, 9, 10, 12, 15, 16, 17, 18, 19, 20, 21, 22, 23, 24, 26, 27, 28, 29] t t_ ∧ t_.1 0 = (if gOk B n then 0 else 1) ∧ t_.1 22 = (if gOk B n then errP (pst B n).1 else t.1 22) ∧ t_.1 15 = (if gOk B n then 0 else t.1 15) ∧ SysIs t_ (if gOk B n then (playA s B n).2 else s) ∧ CelR (t_.2 28))) a9 s9 0 0 (frG G)) (F0 m9 94 ls []) := by
                intro N_
                induction N_ with
                | zero => intro _ _ _ _ _ _ _ _ _ _ _ h_; exact absurd h_ (Nat.not_lt_zero _)
                | succ N_ ih_ =>
                  intro j sj t_32 w_33 hj hp1 hp2 hokj hT hE_t_32 hSj hN_ H locs ls hR hL hl
                  have ih_34 := ih_
                  clear ih_
                  refine lv_iload_n hx hb dX10_play_94 rfl (lv_at hl 1 rfl) ?_
                  refine lv_aload_n hx hb dX10_play_95 rfl (lv_at hl 0 rfl) ?_
                  refine tw_get X hR hT 29 (by decide) q2970 (v := .int (iI (((pst B n).2.length : Int)))) (congrArg (fun z => some (Value.int (iI z))) (((((hE_t_32 29 (by decide)).1).trans (hE_t_30 29 (by decide)).1).trans (hE_t_26 29 (by decide)).1).trans hOs.1)) dX10_play_96 ?_
                  refine h_icmp_ge hx hb 119 dX10_play_99 (by decide) (by omega) (by omega) (fun c_j => ?_) (fun c_j => ?_)
                  ·
                    refine lv_iload_n hx hb dX10_play_119 rfl (lv_at hl 1 rfl) ?_
                    exact h_ireturn hx hb hlk hret hR hL rfl ⟨(by rw [if_pos hok, playA, if_pos hw0, hp1, plR_end (by omega)]; show (j : Int) = 0 + (j : Int); omega), ⟨t_32, hT, (TwE.tr (S2 := [0, 1, 2, 3, 5, 8, 9, 10, 12, 15, 16, 17, 18, 19, 20, 21, 22, 23, 24, 26, 27, 28, 29]) (TwE.tr (S2 := [0, 1, 2, 3, 5, 8, 9, 10, 12, 15, 16, 17, 18, 19, 20, 21, 22, 23, 24, 26, 27, 28, 29]) (TwE.tr (S2 := [0, 1, 2, 3, 5, 8, 9, 10, 12, 15, 16, 17, 18, 19, 20, 21, 22, 23, 24, 26, 27, 28, 29]) (TwE.tr (S2 := [0, 1, 2, 3, 5, 8, 9, 10, 12, 15, 16, 17, 18, 19, 20, 21, 22, 23, 24, 26, 27, 28, 29]) (TwE.tr (S2 := [0, 1, 2, 3, 5, 8, 9, 10, 12, 15, 16, 17, 18, 19, 20, 21, 22, 23, 24, 26, 27, 28, 29]) (TwE.tr (S2 := [0, 1, 2, 3, 5, 8, 9, 10, 12, 15, 16, 17, 18, 19, 20, 21, 22, 23, 24, 26, 27, 28, 29]) (TwE.tr (S2 := [0, 1, 2, 3, 5, 8, 9, 10, 12, 15, 16, 17, 18, 19, 20, 21, 22, 23, 24, 26, 27, 28, 29]) (TwE.tr (S2 := [0, 1, 2, 3, 5, 8, 9, 10, 12, 15, 16, 17, 18, 19, 20, 21, 22, 23, 24, 26, 27, 28, 29]) (TwE.rf : TwE [] t t) hE_t_1 rfl rfl) hE_t_10 rfl rfl) hE_t_15 rfl rfl) hE_t_17 rfl rfl) hE_t_20 rfl rfl) hE_t_26 rfl rfl) hE_t_30 rfl rfl) hE_t_32 rfl rfl), ⟨by rw [if_pos hok]; exact (((((((hE_t_32 0 (by decide)).1).trans (hE_t_30 0 (by decide)).1).trans (hE_t_26 0 (by decide)).1).trans (hE_t_20 0 (by decide)).1).trans (hE_t_17 0 (by decide)).1).trans (hE_t_15 0 (by decide)).1).trans hth, by rw [if_pos hok]; exact ((((hE_t_32 22 (by decide)).1).trans (hE_t_30 22 (by decide)).1).trans (hE_t_26 22 (by decide)).1).trans hRq.er22, by rw [if_pos hok]; exact ((((((hE_t_32 15 (by decide)).1).trans (hE_t_30 15 (by decide)).1).trans (hE_t_26 15 (by decide)).1).trans (hE_t_20 15 (by decide)).1).trans (hE_t_17 15 (by decide)).1).trans h15, by rw [if_pos hok, playA, if_pos hw0, hp2, plR_end (by omega)]; exact hSj, by rw [(((hE_t_32 28 (by decide)).2).trans (hE_t_30 28 (by decide)).2).trans (hE_t_26 28 (by decide)).2]; exact hcr1⟩⟩⟩ (by omega) (by omega) rfl rfl dX10_play_120
                  ·
                    have hoj : OrdOk ((pst B n).2.getD j ord0) := hOs.2.2.2 _ (getmem (by omega))
                    have hwj := hokj.opw (by omega)
                    refine lv_aload_n hx hb dX10_play_102 rfl (lv_at hl 0 rfl) ?_
                    refine h_bipush hx hb dX10_play_103 (by decide) ?_
                    refine lv_iload_n hx hb dX10_play_105 rfl (lv_at hl 1 rfl) ?_
                    refine h_imul hx hb dX10_play_106 ?_
                    refine W.eq (g2 := F0 m9 107 ls [.int (iI (((9 * j : Nat) : Int))), .ref a]) (congrArg (fun z_ : Int => F0 m9 107 ls [.int (iI (z_)), .ref a]) (show (9 * ((j : Int)) : Int) = ((9 * j : Nat) : Int) from (by omega))) ?_
                    -- call SpokenMarksModel.isDoneNow
                    refine h_kI (h_runV X hR (m_isDoneNow l G w_33 a ad t_32 hT.1 sj j (((pst B n).2.getD j ord0)) hSj (by rw [(((hE_t_32 28 (by decide)).2).trans (hE_t_30 28 (by decide)).2).trans (hE_t_26 28 (by decide)).2]; exact hOs.2.2.1 j (by omega)) hoj (by rw [(((hE_t_32 28 (by decide)).2).trans (hE_t_30 28 (by decide)).2).trans (hE_t_26 28 (by decide)).2]; exact hcr1) (by omega) hwj.1 hwj.2.1 hwj.2.2.1 hwj.2.2.2.1 hwj.2.2.2.2) pn_yX10_isDoneNow (hasC.of hT.1.ob rfl) q3333 q3335 qs115 q161 q3336 ⟨by decide, by decide⟩ hl.1 (Nat.le_of_ble_eq_true rfl) dX10_play_107 ⟨by omega, by omega⟩) hL (fun z_35 w_36 hp_37 H locs hR hL => ?_)
                    obtain ⟨rfl, t_38, hT2, hE_t_38, et_39⟩ := hp_37
                    have hT := hT.tr hT2
                    clear hT2
                    refine h_if_eq hx hb 119 dX10_play_110 (by decide) (b2i_R _) (fun c_d => ?_) (fun c_d => ?_)
                    ·
                      have hlt := b2i_0.mp c_d
                      refine lv_iload_n hx hb dX10_play_119 rfl (lv_at hl 1 rfl) ?_
                      exact h_ireturn hx hb hlk hret hR hL rfl ⟨(by rw [if_pos hok, playA, if_pos hw0, hp1, plR_stop (by omega) hlt]; show (j : Int) = 0 + (j : Int); omega), ⟨t_38, hT, (TwE.tr (S2 := [0, 1, 2, 3, 5, 8, 9, 10, 12, 15, 16, 17, 18, 19, 20, 21, 22, 23, 24, 26, 27, 28, 29]) (TwE.tr (S2 := [0, 1, 2, 3, 5, 8, 9, 10, 12, 15, 16, 17, 18, 19, 20, 21, 22, 23, 24, 26, 27, 28, 29]) (TwE.tr (S2 := [0, 1, 2, 3, 5, 8, 9, 10, 12, 15, 16, 17, 18, 19, 20, 21, 22, 23, 24, 26, 27, 28, 29]) (TwE.tr (S2 := [0, 1, 2, 3, 5, 8, 9, 10, 12, 15, 16, 17, 18, 19, 20, 21, 22, 23, 24, 26, 27, 28, 29]) (TwE.tr (S2 := [0, 1, 2, 3, 5, 8, 9, 10, 12, 15, 16, 17, 18, 19, 20, 21, 22, 23, 24, 26, 27, 28, 29]) (TwE.tr (S2 := [0, 1, 2, 3, 5, 8, 9, 10, 12, 15, 16, 17, 18, 19, 20, 21, 22, 23, 24, 26, 27, 28, 29]) (TwE.tr (S2 := [0, 1, 2, 3, 5, 8, 9, 10, 12, 15, 16, 17, 18, 19, 20, 21, 22, 23, 24, 26, 27, 28, 29]) (TwE.tr (S2 := [0, 1, 2, 3, 5, 8, 9, 10, 12, 15, 16, 17, 18, 19, 20, 21, 22, 23, 24, 26, 27, 28, 29]) (TwE.tr (S2 := [0, 1, 2, 3, 5, 8, 9, 10, 12, 15, 16, 17, 18, 19, 20, 21, 22, 23, 24, 26, 27, 28, 29]) (TwE.rf : TwE [] t t) hE_t_1 rfl rfl) hE_t_10 rfl rfl) hE_t_15 rfl rfl) hE_t_17 rfl rfl) hE_t_20 rfl rfl) hE_t_26 rfl rfl) hE_t_30 rfl rfl) hE_t_32 rfl rfl) hE_t_38 rfl rfl), ⟨by rw [if_pos hok]; exact ((((((((hE_t_38 0 (by decide)).1).trans (hE_t_32 0 (by decide)).1).trans (hE_t_30 0 (by decide)).1).trans (hE_t_26 0 (by decide)).1).trans (hE_t_20 0 (by decide)).1).trans (hE_t_17 0 (by decide)).1).trans (hE_t_15 0 (by decide)).1).trans hth, by rw [if_pos hok]; exact (((((hE_t_38 22 (by decide)).1).trans (hE_t_32 22 (by decide)).1).trans (hE_t_30 22 (by decide)).1).trans (hE_t_26 22 (by decide)).1).trans hRq.er22, by rw [if_pos hok]; exact (((((((hE_t_38 15 (by decide)).1).trans (hE_t_32 15 (by decide)).1).trans (hE_t_30 15 (by decide)).1).trans (hE_t_26 15 (by decide)).1).trans (hE_t_20 15 (by decide)).1).trans (hE_t_17 15 (by decide)).1).trans h15, by rw [if_pos hok, playA, if_pos hw0, hp2, plR_stop (by omega) hlt]; exact et_39, by rw [((((hE_t_38 28 (by decide)).2).trans (hE_t_32 28 (by decide)).2).trans (hE_t_30 28 (by decide)).2).trans (hE_t_26 28 (by decide)).2]; exact hcr1⟩⟩⟩ (by omega) (by omega) rfl rfl dX10_play_120
                    ·
                      have hge := b2i_n1.mp c_d
                      refine h_iinc (lv' := [(2, .int (iI ((j : Int) + 1))), (0, .ref a)]) hx hb dX10_play_113 hl (k := 1) rfl (by decide) rfl (fun ls hl => ?_)
                      refine lv_goto (tgt := 94) hx hb dX10_play_116 (by decide) ?_
                      exact ih_34 (j + 1) ((ordS sj ((pst B n).2.getD j ord0))) t_38 w_36 (by omega) (by rw [hp1, plR_go (by omega) hge]; show _ + 1 + (j : Int) = _; omega) (by rw [hp2, plR_go (by omega) hge]) ((hokj.ord (by omega) hoj).mono (by omega)) hT (TwE.tr (S2 := [1, 2, 3, 9, 10]) (TwE.tr (S2 := [1, 2, 3, 9, 10]) (TwE.rf : TwE [] t_30 t_30) hE_t_32 rfl rfl) hE_t_38 rfl rfl) et_39 (by omega) _ _ _ hR hL (lv_sub hl [1, 0] rfl)
              exact LOOP_34 _ 0 ((pshS s)) t_30 w_28 (by omega) (by rw [List.drop_zero]; exact (Int.add_zero _).symm) (by rw [List.drop_zero]) (hok0.push.mono (by omega)) hT (TwE.rf : TwE [1, 2, 3, 9, 10] t_30 t_30) hS2 (Nat.lt_succ_self _) _ _ _ hR hL (lv_sub hl [1, 0] rfl)
            ·
              exact absurd hw0 c_v
          ·
            refine lv_aload_n hx hb dX10_play_50 rfl (lv_at hl 0 rfl) ?_
            -- call SpokenMarksModel.readsOrder
            refine h_kV (h_runV X hR (m_readsOrder l G w_21 a ad t_20 hT.1 ((B.take n.toNat)) s1 q.2 hRd_s1 (hOq (by rw [hs1]; rfl)) hcr1) pn_yX10_readsOrder (hasC.of hT.1.ob rfl) q3315 q3317 qs112 q161 q3318 ⟨by decide, by decide⟩ hl.1 (Nat.le_of_ble_eq_true rfl) dX10_play_51 ⟨by omega, by omega⟩) hL (fun w_41 hp_42 H locs hR hL => ?_)
            obtain ⟨t_43, hT2, hE_t_43, et_44⟩ := hp_42
            have hT := hT.tr hT2
            clear hT2
            refine lv_goto (tgt := 36) hx hb dX10_play_54 (by decide) ?_
            exact ih_22 (k - 1) ((rStep (B.take n.toNat) s1 q.2)) t_43 w_41 (by rw [← rAll_go hs1 c_k (by omega)]; exact hq) (fun s2 h2 => by have h3 := rStep_len h2; omega) hT (TwE.tr (S2 := [1, 2, 17, 18, 19, 20, 21, 22, 23, 24, 26, 27, 28, 29]) (TwE.tr (S2 := [1, 2, 17, 18, 19, 20, 21, 22, 23, 24, 26, 27, 28, 29]) (TwE.rf : TwE [] t_17 t_17) hE_t_20 rfl rfl) hE_t_43 rfl rfl) et_44.1 et_44.2.1 et_44.2.2 (by omega) _ _ _ hR hL (lv_sub hl [0, 1] rfl)
    exact LOOP_22 _ 22 ((.inr (tok (B.take n.toNat) 0), [])) t_17 w_19 rfl (fun s_ hs_ => Nat.le_refl _) hT (TwE.rf : TwE [1, 2, 17, 18, 19, 20, 21, 22, 23, 24, 26, 27, 28, 29] t_17 t_17) (hR0.mv (TwE.tr (S2 := [29]) (TwE.rf : TwE [] t_15 t_15) hE_t_17 rfl rfl) (by decide) (by decide) (by decide) (by decide) (by decide) (by decide) (by decide) (by decide)) (by rw [((((hE_t_17 28 (by decide)).2).trans (hE_t_15 28 (by decide)).2).trans (hE_t_10 28 (by decide)).2).trans (hE_t_1 28 (by decide)).2]; exact hcr) (fun _ => OrdsAt.nil hv_t_17) (Nat.lt_succ_self _) _ _ _ hR hL (lv_sub hl [0, 1] rfl)
  ·
    have hno := b2i_0.mp (b2i_n1.mp c_f)
    have hth : t_10.1 0 = _ := (et_11).trans (if_pos (b2i_n1.mp c_f))
    refine h_iconst hx hb dX10_play_24 ?_
    exact h_ireturn hx hb hlk hret hR hL rfl ⟨(by rw [if_neg hno]), ⟨t_10, hT, (TwE.tr (S2 := [0, 1, 2, 3, 5, 8, 9, 10, 12, 15, 16, 17, 18, 19, 20, 21, 22, 23, 24, 26, 27, 28, 29]) (TwE.tr (S2 := [0, 1, 2, 3, 5, 8, 9, 10, 12, 15, 16, 17, 18, 19, 20, 21, 22, 23, 24, 26, 27, 28, 29]) (TwE.rf : TwE [] t t) hE_t_1 rfl rfl) hE_t_10 rfl rfl), ⟨by rw [if_neg hno]; exact hth, by rw [if_neg hno]; exact ((hE_t_10 22 (by decide)).1).trans (hE_t_1 22 (by decide)).1, by rw [if_neg hno]; exact ((((hE_t_10 15 (by decide)).1).trans (hE_t_1 15 (by decide)).1).trans hb15).trans hb15.symm, by rw [if_neg hno]; exact hS.mv (TwE.tr (S2 := [0]) (TwE.tr (S2 := [0]) (TwE.rf : TwE [] t t) hE_t_1 rfl rfl) hE_t_10 rfl rfl) (by decide) (by decide) (by decide) (by decide) (by decide), by rw [((hE_t_10 28 (by decide)).2).trans (hE_t_1 28 (by decide)).2]; exact hcr⟩⟩⟩ (by omega) (by omega) rfl rfl dX10_play_25
