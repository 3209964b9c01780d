/-! the twin: its making -/
set_option maxRecDepth 100000
theorem nodup_inj {L : List Nat} (h : L.Nodup) : ∀ {i j : Nat}, i < L.length → j < L.length → L.getD i 0 = L.getD j 0 → i = j := by
  induction L with
  | nil => intro i j hi; exact absurd hi (Nat.not_lt_zero _)
  | cons x L ih =>
    obtain ⟨h1, h2⟩ := List.nodup_cons.mp h
    intro i j hi hj e
    cases i with
    | zero => cases j with
      | zero => rfl
      | succ j =>
        have hj2 : j < L.length := by simpa using hj
        exact absurd (show x ∈ L by rw [show x = L[j] from e.trans (by simp [hj2])]; exact List.getElem_mem hj2) h1
    | succ i => cases j with
      | zero =>
        have hi2 : i < L.length := by simpa using hi
        exact absurd (show x ∈ L by rw [show x = L[i] from e.symm.trans (by simp [hi2])]; exact List.getElem_mem hi2) h1
      | succ j =>
        have := ih h2 (i := i) (j := j) (by simpa using hi) (by simpa using hj) (by simpa using e)
        omega
def twPos (k : Nat) : Nat := match k with
  | 1 => 11
  | 3 => 10
  | 4 => 9
  | 5 => 8
  | 6 => 7
  | 7 => 6
  | 8 => 5
  | 14 => 4
  | 23 => 3
  | 28 => 2
  | 30 => 1
  | 31 => 0
  | _ => 0
theorem twPos_lt : ∀ k ∈ twIA ++ twLA, twPos k < 12 := by decide
theorem twPos_inj : ∀ i ∈ twIA ++ twLA, ∀ j ∈ twIA ++ twLA, twPos i = twPos j → i = j := by decide
/-- the twin as it is made -/
def tw00 : Tw := (fun k => if k = 22 ∨ k = 25 then -1 else 0, fun _ _ => 0)
theorem tw00_r : TwR tw00 := by
  refine ⟨fun k _ _ => ?_, fun k => ?_, fun _ _ _ => (show R32 (0 : Int) from ⟨by decide, by decide⟩), fun _ _ _ => (show R64 (0 : Int) from ⟨by decide, by decide⟩)⟩
  · show R32 (if k = 22 ∨ k = 25 then -1 else 0)
    split <;> exact ⟨by decide, by decide⟩
  · show R64 (if k = 22 ∨ k = 25 then -1 else 0)
    split <;> exact ⟨by decide, by decide⟩
def tx0 : List Int := kkTx 23
theorem tx0_w : TxW tx0 := by
  refine ⟨by decide, fun k hk => ?_⟩
  rw [show tx0.getD k 0 = tx0[k] by simp [hk]]
  exact (show ∀ x ∈ tx0, 0 ≤ x ∧ x ≤ 255 by decide) _ (List.getElem_mem hk)
theorem tx0_ok : wrC (rText tx0).1 = 0 := by decide +kernel
/-- the system as it is made -/
def sys0 : Sys := ((rText tx0).2, [], 0, 0)

theorem pn_yX10_load : ParN yX10_load 1 := by decide +kernel

set_option maxHeartbeats 4000000 in
set_option maxRecDepth 100000 in
/-- load -/
theorem m_loadI (l : Launch) (G : Gl) (w : Wd) (a : Nat) (ad : Nat → Nat) (t : Tw) (hT : TwAt G w a ad t) (n : Int) (B : List Int) (hx_n : R32 n) (hB : BfAt t B) (hb15 : t.1 15 = (B.length : Int)) (hg : gOk B n) (hlo : wrC (lst B n).1 = 0) : HM l yX10_load cX10_load 2 (some .int) 10 0 0 G [.ref a, .int (iI (n))] w (QI G (fun z_ w_ => z_ = (cN (lst B n).2 : Int) ∧ ∃ t_ : Tw, TwS G w w_ a ad t_ ∧ TwE [0, 1, 2, 3, 6, 12, 13, 15, 16, 17, 18, 19, 20, 21, 22, 23, 24] t t_ ∧ t_.1 0 = 0 ∧ t_.1 22 = errP (lst B n).1 ∧ t_.1 15 = 0 ∧ (RowIs (t_.2 3) (lst B n).2 ∧ Ok 2200 (lst B n).2) ∧ t_.1 12 = 0 ∧ t_.1 13 = 0)) := by
  refine HM.mk (by decide +kernel) (Nat.le_of_ble_eq_true rfl) ?_
  intro p9 e9 s9 m9 a9 b9 meth9 c9 ls X hret hlk hnm hl H hR
  have hx := X.1.1
  have hb := X.1.2.1
  have hl : lv_has ls 2 [(0, .ref a), (1, .int (iI (n)))] := hl
  have hL : LK G [] := fun q h => absurd h List.not_mem_nil
  generalize ([] : List Loc) = locs at hL ⊢
  have hTb := hT
  have hT : TwS G w w a ad t := TwS.rf hT
  have hB8 := hB.1.1
  refine lv_aload_n hx hb dX10_load_0 rfl (lv_at hl 0 rfl) ?_
  refine h_iconst hx hb dX10_load_1 ?_
  refine tw_puti X hR hL hT 0 (by decide) q2941 rfl rfl rfl twF_s0 (by omega) dX10_load_2 (fun t_1 et_2 w_3 hT H locs hR hL => ?_)
  have hE_t_1 := TwE.put et_2
  have hv_t_1 := tput_v et_2
  refine lv_aload_n hx hb dX10_load_5 rfl (lv_at hl 0 rfl) ?_
  refine lv_iload_n hx hb dX10_load_6 rfl (lv_at hl 1 rfl) ?_
  refine h_i2l hx hb dX10_load_7 (by omega) ?_
  refine h_lconst hx hb 0 dX10_load_8 rfl ?_
  refine lv_aload_n hx hb dX10_load_9 rfl (lv_at hl 0 rfl) ?_
  refine tw_get X hR hT 15 (by decide) q2956 (v := .int (iI ((B.length : Int)))) (congrArg (fun z => some (Value.int (iI z))) (((hE_t_1 15 (by decide)).1).trans hb15)) dX10_load_10 ?_
  refine h_i2l hx hb dX10_load_13 (by omega) ?_
  -- call SpokenMarksModel.in
  refine h_kIp (h_runS X hR (m_in l G w_3  n 0 ((B.length : Int)) (by omega) (by omega) (by omega)) pn_yX10_in q2730 q2731 q161 q2732 ⟨by decide, by decide⟩ hl.1 (Nat.le_of_ble_eq_true rfl) dX10_load_14 ⟨by omega, by omega⟩) hL (fun H locs hR hL => ?_)
  refine h_iconst hx hb dX10_load_17 ?_
  -- call SpokenMarksModel.fails
  refine h_kI (h_runV X hR (m_fails l G w_3 a ad t_1 hT.1 (b2i (0 ≤ n ∧ n ≤ ((B.length : Int)))) 1 (b2i_R _) ⟨by decide, by decide⟩ hv_t_1) pn_yX10_fails (hasC.of hT.1.ob rfl) q2733 q2735 qs33 q161 q2736 ⟨by decide, by decide⟩ hl.1 (Nat.le_of_ble_eq_true rfl) dX10_load_18 ⟨by omega, by omega⟩) hL (fun z_7 w_8 hp_9 H locs hR hL => ?_)
  obtain ⟨rfl, t_10, hT2, hE_t_10, et_11⟩ := hp_9
  have hT := hT.tr hT2
  clear hT2
  refine h_if_eq hx hb 26 dX10_load_21 (by decide) (b2i_R _) (fun c_f => ?_) (fun c_f => ?_)
  ·
    have hok := b2i_n1.mp (b2i_0.mp c_f)
    have hth : t_10.1 0 = 0 := (et_11).trans (if_neg (b2i_0.mp c_f))
    refine lv_aload_n hx hb dX10_load_26 rfl (lv_at hl 0 rfl) ?_
    refine tw_get X hR hT 3 (by decide) q2944 rfl dX10_load_27 ?_
    refine h_iconst hx hb dX10_load_30 ?_
    refine lv_aload_n hx hb dX10_load_31 rfl (lv_at hl 0 rfl) ?_
    refine tw_get X hR hT 6 (by decide) q2947 rfl dX10_load_32 ?_
    refine h_iconst hx hb dX10_load_35 ?_
    refine h_sipush hx hb dX10_load_36 (by decide) ?_
    -- call SpokenMarksModel.copies
    refine h_kV (h_runS X hR (m_copies l G w_8 a ad t_10 hT.1 3 0 6 0 606 (by decide) (by decide) (by show _ ≤ _; simp only [twN]; omega) (by show _ ≤ _; simp only [twN]; omega) (by first | exact Or.inl (by decide) | exact Or.inr (by omega))) pn_yX10_copies q2737 q2738 q161 q2739 ⟨by decide, by decide⟩ hl.1 (Nat.le_of_ble_eq_true rfl) dX10_load_39 ⟨by omega, by omega⟩) hL (fun w_13 hp_14 H locs hR hL => ?_)
    obtain ⟨t_15, hT2, e1_, e2_, hc_t_15⟩ := hp_14
    have hE_t_15 : TwE [6] t_10 t_15 := fun k_ hk_ => ⟨by rw [e1_], e2_ k_ (by simpa using hk_)⟩
    have e1_t_15 := e1_
    have hT := hT.tr hT2
    clear hT2 e1_ e2_
    refine lv_aload_n hx hb dX10_load_42 rfl (lv_at hl 0 rfl) ?_
    refine lv_iload_n hx hb dX10_load_43 rfl (lv_at hl 1 rfl) ?_
    refine W.eq (g2 := F0 m9 44 ls [.int (iI (((B.take n.toNat).length : Int))), .ref a]) (congrArg (fun z_ : Int => F0 m9 44 ls [.int (iI (z_)), .ref a]) (show (n : Int) = ((B.take n.toNat).length : Int) from (by rw [List.length_take]; have := hok; omega))) ?_
    -- call SpokenMarksModel.starts
    refine h_kV (h_runV X hR (m_starts l G w_13 a ad t_15 hT.1 (B.take n.toNat) (hB.tk n.toNat ((((hE_t_15 14 (by decide)).2).trans (hE_t_10 14 (by decide)).2).trans (hE_t_1 14 (by decide)).2))) pn_yX10_starts (hasC.of hT.1.ob rfl) q2740 q2742 qs34 q161 q2743 ⟨by decide, by decide⟩ hl.1 (Nat.le_of_ble_eq_true rfl) dX10_load_44 ⟨by omega, by omega⟩) hL (fun w_17 hp_18 H locs hR hL => ?_)
    obtain ⟨t_19, hT2, hE_t_19, et_20⟩ := hp_18
    have hT := hT.tr hT2
    clear hT2
    have h15 := et_20.2
    have hR0 := et_20.1
    refine lv_aload_n hx hb dX10_load_47 rfl (lv_at hl 0 rfl) ?_
    -- call SpokenMarksModel.readsText
    refine h_kV (h_runV X hR (m_readsText l G w_17 a ad t_19 hT.1 (B.take n.toNat) hR0) pn_yX10_readsText (hasC.of hT.1.ob rfl) q2763 q2765 qs38 q161 q2766 ⟨by decide, by decide⟩ hl.1 (Nat.le_of_ble_eq_true rfl) dX10_load_48 ⟨by omega, by omega⟩) hL (fun w_22 hp_23 H locs hR hL => ?_)
    obtain ⟨t_24, hT2, hE_t_24, et_25⟩ := hp_23
    have hT := hT.tr hT2
    clear hT2
    have hRz : RdAt t_24 (B.take n.toNat) (lst B n).1 := et_25.1
    have hRc : RowIs (t_24.2 3) (lst B n).2 ∧ Ok 2200 (lst B n).2 := et_25.2 hlo
    refine lv_aload_n hx hb dX10_load_51 rfl (lv_at hl 0 rfl) ?_
    refine tw_get X hR hT 21 (by decide) q2962 (v := .int (iI (0))) (congrArg (fun z => some (Value.int (iI z))) ((hRz.wr.trans hlo))) dX10_load_52 ?_
    refine h_if_eq hx hb 82 dX10_load_55 (by decide) (by decide) (fun _ => ?_) (fun z_ => absurd z_ (by decide))
    refine lv_aload_n hx hb dX10_load_82 rfl (lv_at hl 0 rfl) ?_
    refine h_iconst hx hb dX10_load_83 ?_
    refine tw_puti X hR hL hT 12 (by decide) q2953 rfl rfl rfl twF_s12 (by omega) dX10_load_84 (fun t_27 et_28 w_29 hT H locs hR hL => ?_)
    have hE_t_27 := TwE.put et_28
    have hv_t_27 := tput_v et_28
    refine lv_aload_n hx hb dX10_load_87 rfl (lv_at hl 0 rfl) ?_
    refine h_iconst hx hb dX10_load_88 ?_
    refine tw_puti X hR hL hT 13 (by decide) q2954 rfl (nar01 (by omega)) rfl twF_s13 (by omega) dX10_load_89 (fun t_30 et_31 w_32 hT H locs hR hL => ?_)
    have hE_t_30 := TwE.put et_31
    have hv_t_30 := tput_v et_31
    refine lv_aload_n hx hb dX10_load_92 rfl (lv_at hl 0 rfl) ?_
    refine h_iconst hx hb dX10_load_93 ?_
    -- call SpokenMarksModel.head
    refine h_kIp (h_runV X hR (m_head l G w_32 a ad t_30 hT.1 2 (by omega)) pn_yX10_head (hasC.of hT.1.ob rfl) q2789 q2791 qs44 q161 q2792 ⟨by decide, by decide⟩ hl.1 (Nat.le_of_ble_eq_true rfl) dX10_load_94 ⟨by omega, by omega⟩) hL (fun H locs hR hL => ?_)
    refine W.eq (g2 := F0 m9 97 ls [.int (iI ((cN (lst B n).2 : Int)))]) (congrArg (fun z_ : Int => F0 m9 97 ls [.int (iI (z_))]) (show (hd t_30 2 : Int) = (cN (lst B n).2 : Int) from (by exact (congrFun (((hE_t_30 3 (by decide)).2).trans (hE_t_27 3 (by decide)).2) 2).trans hRc.1.n))) ?_
    exact h_ireturn hx hb hlk hret hR hL rfl ⟨rfl, ⟨t_30, hT, (TwE.tr (S2 := [0, 1, 2, 3, 6, 12, 13, 15, 16, 17, 18, 19, 20, 21, 22, 23, 24]) (TwE.tr (S2 := [0, 1, 2, 3, 6, 12, 13, 15, 16, 17, 18, 19, 20, 21, 22, 23, 24]) (TwE.tr (S2 := [0, 1, 2, 3, 6, 12, 13, 15, 16, 17, 18, 19, 20, 21, 22, 23, 24]) (TwE.tr (S2 := [0, 1, 2, 3, 6, 12, 13, 15, 16, 17, 18, 19, 20, 21, 22, 23, 24]) (TwE.tr (S2 := [0, 1, 2, 3, 6, 12, 13, 15, 16, 17, 18, 19, 20, 21, 22, 23, 24]) (TwE.tr (S2 := [0, 1, 2, 3, 6, 12, 13, 15, 16, 17, 18, 19, 20, 21, 22, 23, 24]) (TwE.tr (S2 := [0, 1, 2, 3, 6, 12, 13, 15, 16, 17, 18, 19, 20, 21, 22, 23, 24]) (TwE.rf : TwE [] t t) hE_t_1 rfl rfl) hE_t_10 rfl rfl) hE_t_15 rfl rfl) hE_t_19 rfl rfl) hE_t_24 rfl rfl) hE_t_27 rfl rfl) hE_t_30 rfl rfl), ⟨((((((hE_t_30 0 (by decide)).1).trans (hE_t_27 0 (by decide)).1).trans (hE_t_24 0 (by decide)).1).trans (hE_t_19 0 (by decide)).1).trans (hE_t_15 0 (by decide)).1).trans hth, (((hE_t_30 22 (by decide)).1).trans (hE_t_27 22 (by decide)).1).trans hRz.er22, ((((hE_t_30 15 (by decide)).1).trans (hE_t_27 15 (by decide)).1).trans (hE_t_24 15 (by decide)).1).trans h15, by rw [((hE_t_30 3 (by decide)).2).trans (hE_t_27 3 (by decide)).2]; exact hRc, ((hE_t_30 12 (by decide)).1).trans hv_t_27, hv_t_30⟩⟩⟩ (by omega) (by omega) rfl rfl dX10_load_97
  ·
    exact absurd hg (b2i_0.mp (b2i_n1.mp c_f))

theorem tx0_t : tx0.take (((kkTx 23).length : Int)).toNat = tx0 := by
  rw [Int.toNat_natCast]; exact List.take_length
theorem tx0_lo : wrC (lst tx0 ((kkTx 23).length : Int)).1 = 0 := by unfold lst; rw [tx0_t]; exact tx0_ok
theorem tx0_l : lst tx0 ((kkTx 23).length : Int) = rText tx0 := by unfold lst; rw [tx0_t]

set_option maxHeartbeats 4000000 in
set_option maxRecDepth 100000 in
/-- the twin is made -/
theorem m_init (l : Launch) (G : Gl) (w : Wd) (a : Nat) (hob : w a = some (a + 1, oE 1 [.int (iI (0)), .null, .int (iI (0)), .null, .null, .null, .null, .null, .null, .int (iI (0)), .int (iI (0)), .int (iI (0)), .int (iI (0)), .int (iI (0)), .null, .int (iI (0)), .int (iI (0)), .int (iI (0)), .int (iI (0)), .int (iI (0)), .int (iI (0)), .int (iI (0)), .int (iI (0)), .null, .int (iI (0)), .int (iI (0)), .long (lI (0)), .long (lI (0)), .null, .int (iI (0)), .null, .null, .int (iI (0))])) : HM l yX10_init cX10_init 3 none 12 13 8997 G [.ref a] w (QV G (fun w_ => ∃ (ad : Nat → Nat) (t_ : Tw), TwS G w w_ a ad t_ ∧ SysIs t_ sys0 ∧ t_.1 0 = 0 ∧ t_.1 22 = errP (rText tx0).1 ∧ t_.1 15 = 0 ∧ t_.1 13 = 0 ∧ (t_.1 11 = 0 ∧ t_.1 25 = -1 ∧ t_.1 32 = 0) ∧ CelR (t_.2 28) ∧ BfAt t_ tx0)) := by
  refine HM.mk (by decide +kernel) (Nat.le_of_ble_eq_true rfl) ?_
  intro p9 e9 s9 m9 a9 b9 meth9 c9 ls X hret hlk hnm hl H hR
  have hx := X.1.1
  have hb := X.1.2.1
  have hl : lv_has ls 3 [(0, .ref a)] := hl
  have hL : LK G [] := fun q h => absurd h List.not_mem_nil
  generalize ([] : List Loc) = locs at hL ⊢
  have hFr : Fr (fun r => r = a + 1) w w := Fr.rf
  have hOl : Ol w w := Ol.rf
  refine lv_aload_n hx hb dX10_init_0 rfl (lv_at hl 0 rfl) ?_
  refine W.objInit hx hb X.1.2.2.2.1 (X.1.2.2.2.2 _ q2722) (X.1.2.2.2.2 _ q180) (X.1.2.2.2.2 _ q181) rfl (by rw [X.1.2.2.1]; exact hl.1) rfl dX10_init_1 (Nat.le_of_ble_eq_true rfl) (Nat.le_of_ble_eq_true rfl) ?_
  refine W.eq (g2 := F0 m9 4 ls []) rfl ?_
  refine lv_aload_n hx hb dX10_init_4 rfl (lv_at hl 0 rfl) ?_
  refine h_bipush hx hb dX10_init_5 (by decide) ?_
  refine h_newI (atype := .int) X hR 0 (fun q => a + 1) rfl (fun C h => by cases h) rfl q634 8 rfl (by omega) (by decide) (by decide) (by decide) dX10_init_7 (fun q_1 hq_1 w_1 ew_2 H hR => ?_)
  have hFr : Fr (fun r => r = a + 1) w w_1 := by rw [ew_2]; exact hFr.new hq_1 _
  have hOl : Ol w w_1 := by rw [ew_2]; exact hOl.set _ _
  have hF_q_1_w_1 : w_1 q_1 = some (a + 1, iE G 0 8 (fun _ => 0)) := by rw [ew_2]; exact wset_eq _ _ _
  have hF_a_w_1 : w_1 a = some (a + 1, oE 1 [.int (iI (0)), .null, .int (iI (0)), .null, .null, .null, .null, .null, .null, .int (iI (0)), .int (iI (0)), .int (iI (0)), .int (iI (0)), .int (iI (0)), .null, .int (iI (0)), .int (iI (0)), .int (iI (0)), .int (iI (0)), .int (iI (0)), .int (iI (0)), .int (iI (0)), .int (iI (0)), .null, .int (iI (0)), .int (iI (0)), .long (lI (0)), .long (lI (0)), .null, .int (iI (0)), .null, .null, .int (iI (0))]) := by rw [ew_2]; exact (wset_ne _ (w_neN hob hq_1)).trans hob
  have hnd : [q_1].Nodup := List.nodup_cons.mpr ⟨List.not_mem_nil, List.nodup_nil⟩
  have hall : ∀ b ∈ [q_1], ∃ x, w_1 b = some x := fun b hb_ => by
    rcases List.mem_cons.mp hb_ with q_ | q_
    · exact ⟨_, by rw [q_]; exact hF_q_1_w_1⟩
    · exact absurd q_ List.not_mem_nil
  refine h_putF X hnm hR hL hF_a_w_1 (Nat.succ_ne_zero a) rfl in_X10 tyX10_ok nmX10 1 (by decide) q2942 rfl rfl rfl rfl (Nat.le_of_ble_eq_true rfl) dX10_init_9 (fun w_3 ew_4 H locs hR hL => ?_)
  have hFr : Fr (fun r => r = a + 1) w w_3 := by rw [ew_4]; exact hFr.set hF_a_w_1 (by first | rfl | omega) _
  have hOl : Ol w w_3 := by rw [ew_4]; exact hOl.set _ _
  have hF_a_w_3 : w_3 a = some (a + 1, oE 1 [.int (iI (0)), .ref q_1, .int (iI (0)), .null, .null, .null, .null, .null, .null, .int (iI (0)), .int (iI (0)), .int (iI (0)), .int (iI (0)), .int (iI (0)), .null, .int (iI (0)), .int (iI (0)), .int (iI (0)), .int (iI (0)), .int (iI (0)), .int (iI (0)), .int (iI (0)), .int (iI (0)), .null, .int (iI (0)), .int (iI (0)), .long (lI (0)), .long (lI (0)), .null, .int (iI (0)), .null, .null, .int (iI (0))]) := by rw [ew_4]; exact wset_eq _ _ _
  have hF_q_1_w_3 : w_3 q_1 = some (a + 1, iE G 0 8 (fun _ => 0)) := by rw [ew_4]; exact (wset_ne _ (w_ne hF_q_1_w_1 hF_a_w_1 (by intro h; cases h))).trans hF_q_1_w_1
  have hall : ∀ b ∈ [q_1], ∃ x, w_3 b = some x := fun b hb_ => by obtain ⟨x_, hx_⟩ := hall b hb_; by_cases q_ : b = a; exact ⟨_, by rw [q_]; exact hF_a_w_3⟩; exact ⟨x_, by rw [ew_4]; exact (wset_ne _ q_).trans hx_⟩
  refine lv_aload_n hx hb dX10_init_12 rfl (lv_at hl 0 rfl) ?_
  refine h_sipush hx hb dX10_init_13 (by decide) ?_
  refine h_newL X hR (fun q => a + 1) q3041 606 rfl (by omega) (by decide) (by decide) dX10_init_16 (fun q_3 hq_3 w_5 ew_6 H hR => ?_)
  have hFr : Fr (fun r => r = a + 1) w w_5 := by rw [ew_6]; exact hFr.new hq_3 _
  have hOl : Ol w w_5 := by rw [ew_6]; exact hOl.set _ _
  have hF_q_3_w_5 : w_5 q_3 = some (a + 1, lE G 606 (fun _ => 0)) := by rw [ew_6]; exact wset_eq _ _ _
  have hF_a_w_5 : w_5 a = some (a + 1, oE 1 [.int (iI (0)), .ref q_1, .int (iI (0)), .null, .null, .null, .null, .null, .null, .int (iI (0)), .int (iI (0)), .int (iI (0)), .int (iI (0)), .int (iI (0)), .null, .int (iI (0)), .int (iI (0)), .int (iI (0)), .int (iI (0)), .int (iI (0)), .int (iI (0)), .int (iI (0)), .int (iI (0)), .null, .int (iI (0)), .int (iI (0)), .long (lI (0)), .long (lI (0)), .null, .int (iI (0)), .null, .null, .int (iI (0))]) := by rw [ew_6]; exact (wset_ne _ (w_neN hF_a_w_3 hq_3)).trans hF_a_w_3
  have hF_q_1_w_5 : w_5 q_1 = some (a + 1, iE G 0 8 (fun _ => 0)) := by rw [ew_6]; exact (wset_ne _ (w_neN hF_q_1_w_3 hq_3)).trans hF_q_1_w_3
  have hnm_3 : q_3 ∉ [q_1] := fun hm => by obtain ⟨x_, hx_⟩ := hall _ hm; rw [hq_3] at hx_; cases hx_
  have hnd : [q_3, q_1].Nodup := List.nodup_cons.mpr ⟨hnm_3, hnd⟩
  have hall : ∀ b ∈ [q_3, q_1], ∃ x, w_5 b = some x := fun b hb_ => by
    rcases List.mem_cons.mp hb_ with q_ | q_
    · exact ⟨_, by rw [q_]; exact hF_q_3_w_5⟩
    · obtain ⟨x_, hx_⟩ := hall b q_; exact ⟨x_, by rw [ew_6]; exact (wset_ne _ (w_neN hx_ hq_3)).trans hx_⟩
  refine h_putF X hnm hR hL hF_a_w_5 (Nat.succ_ne_zero a) rfl in_X10 tyX10_ok nmX10 3 (by decide) q2944 rfl rfl rfl rfl (Nat.le_of_ble_eq_true rfl) dX10_init_18 (fun w_7 ew_8 H locs hR hL => ?_)
  have hFr : Fr (fun r => r = a + 1) w w_7 := by rw [ew_8]; exact hFr.set hF_a_w_5 (by first | rfl | omega) _
  have hOl : Ol w w_7 := by rw [ew_8]; exact hOl.set _ _
  have hF_a_w_7 : w_7 a = some (a + 1, oE 1 [.int (iI (0)), .ref q_1, .int (iI (0)), .ref q_3, .null, .null, .null, .null, .null, .int (iI (0)), .int (iI (0)), .int (iI (0)), .int (iI (0)), .int (iI (0)), .null, .int (iI (0)), .int (iI (0)), .int (iI (0)), .int (iI (0)), .int (iI (0)), .int (iI (0)), .int (iI (0)), .int (iI (0)), .null, .int (iI (0)), .int (iI (0)), .long (lI (0)), .long (lI (0)), .null, .int (iI (0)), .null, .null, .int (iI (0))]) := by rw [ew_8]; exact wset_eq _ _ _
  have hF_q_3_w_7 : w_7 q_3 = some (a + 1, lE G 606 (fun _ => 0)) := by rw [ew_8]; exact (wset_ne _ (w_ne hF_q_3_w_5 hF_a_w_5 (by intro h; cases h))).trans hF_q_3_w_5
  have hF_q_1_w_7 : w_7 q_1 = some (a + 1, iE G 0 8 (fun _ => 0)) := by rw [ew_8]; exact (wset_ne _ (w_ne hF_q_1_w_5 hF_a_w_5 (by intro h; cases h))).trans hF_q_1_w_5
  have hall : ∀ b ∈ [q_3, q_1], ∃ x, w_7 b = some x := fun b hb_ => by obtain ⟨x_, hx_⟩ := hall b hb_; by_cases q_ : b = a; exact ⟨_, by rw [q_]; exact hF_a_w_7⟩; exact ⟨x_, by rw [ew_8]; exact (wset_ne _ q_).trans hx_⟩
  refine lv_aload_n hx hb dX10_init_21 rfl (lv_at hl 0 rfl) ?_
  refine h_sipush hx hb dX10_init_22 (by decide) ?_
  refine h_newL X hR (fun q => a + 1) q3041 606 rfl (by omega) (by decide) (by decide) dX10_init_25 (fun q_4 hq_4 w_9 ew_10 H hR => ?_)
  have hFr : Fr (fun r => r = a + 1) w w_9 := by rw [ew_10]; exact hFr.new hq_4 _
  have hOl : Ol w w_9 := by rw [ew_10]; exact hOl.set _ _
  have hF_q_4_w_9 : w_9 q_4 = some (a + 1, lE G 606 (fun _ => 0)) := by rw [ew_10]; exact wset_eq _ _ _
  have hF_a_w_9 : w_9 a = some (a + 1, oE 1 [.int (iI (0)), .ref q_1, .int (iI (0)), .ref q_3, .null, .null, .null, .null, .null, .int (iI (0)), .int (iI (0)), .int (iI (0)), .int (iI (0)), .int (iI (0)), .null, .int (iI (0)), .int (iI (0)), .int (iI (0)), .int (iI (0)), .int (iI (0)), .int (iI (0)), .int (iI (0)), .int (iI (0)), .null, .int (iI (0)), .int (iI (0)), .long (lI (0)), .long (lI (0)), .null, .int (iI (0)), .null, .null, .int (iI (0))]) := by rw [ew_10]; exact (wset_ne _ (w_neN hF_a_w_7 hq_4)).trans hF_a_w_7
  have hF_q_3_w_9 : w_9 q_3 = some (a + 1, lE G 606 (fun _ => 0)) := by rw [ew_10]; exact (wset_ne _ (w_neN hF_q_3_w_7 hq_4)).trans hF_q_3_w_7
  have hF_q_1_w_9 : w_9 q_1 = some (a + 1, iE G 0 8 (fun _ => 0)) := by rw [ew_10]; exact (wset_ne _ (w_neN hF_q_1_w_7 hq_4)).trans hF_q_1_w_7
  have hnm_4 : q_4 ∉ [q_3, q_1] := fun hm => by obtain ⟨x_, hx_⟩ := hall _ hm; rw [hq_4] at hx_; cases hx_
  have hnd : [q_4, q_3, q_1].Nodup := List.nodup_cons.mpr ⟨hnm_4, hnd⟩
  have hall : ∀ b ∈ [q_4, q_3, q_1], ∃ x, w_9 b = some x := fun b hb_ => by
    rcases List.mem_cons.mp hb_ with q_ | q_
    · exact ⟨_, by rw [q_]; exact hF_q_4_w_9⟩
    · obtain ⟨x_, hx_⟩ := hall b q_; exact ⟨x_, by rw [ew_10]; exact (wset_ne _ (w_neN hx_ hq_4)).trans hx_⟩
  refine h_putF X hnm hR hL hF_a_w_9 (Nat.succ_ne_zero a) rfl in_X10 tyX10_ok nmX10 4 (by decide) q2945 rfl rfl rfl rfl (Nat.le_of_ble_eq_true rfl) dX10_init_27 (fun w_11 ew_12 H locs hR hL => ?_)
  have hFr : Fr (fun r => r = a + 1) w w_11 := by rw [ew_12]; exact hFr.set hF_a_w_9 (by first | rfl | omega) _
  have hOl : Ol w w_11 := by rw [ew_12]; exact hOl.set _ _
  have hF_a_w_11 : w_11 a = some (a + 1, oE 1 [.int (iI (0)), .ref q_1, .int (iI (0)), .ref q_3, .ref q_4, .null, .null, .null, .null, .int (iI (0)), .int (iI (0)), .int (iI (0)), .int (iI (0)), .int (iI (0)), .null, .int (iI (0)), .int (iI (0)), .int (iI (0)), .int (iI (0)), .int (iI (0)), .int (iI (0)), .int (iI (0)), .int (iI (0)), .null, .int (iI (0)), .int (iI (0)), .long (lI (0)), .long (lI (0)), .null, .int (iI (0)), .null, .null, .int (iI (0))]) := by rw [ew_12]; exact wset_eq _ _ _
  have hF_q_4_w_11 : w_11 q_4 = some (a + 1, lE G 606 (fun _ => 0)) := by rw [ew_12]; exact (wset_ne _ (w_ne hF_q_4_w_9 hF_a_w_9 (by intro h; cases h))).trans hF_q_4_w_9
  have hF_q_3_w_11 : w_11 q_3 = some (a + 1, lE G 606 (fun _ => 0)) := by rw [ew_12]; exact (wset_ne _ (w_ne hF_q_3_w_9 hF_a_w_9 (by intro h; cases h))).trans hF_q_3_w_9
  have hF_q_1_w_11 : w_11 q_1 = some (a + 1, iE G 0 8 (fun _ => 0)) := by rw [ew_12]; exact (wset_ne _ (w_ne hF_q_1_w_9 hF_a_w_9 (by intro h; cases h))).trans hF_q_1_w_9
  have hall : ∀ b ∈ [q_4, q_3, q_1], ∃ x, w_11 b = some x := fun b hb_ => by obtain ⟨x_, hx_⟩ := hall b hb_; by_cases q_ : b = a; exact ⟨_, by rw [q_]; exact hF_a_w_11⟩; exact ⟨x_, by rw [ew_12]; exact (wset_ne _ q_).trans hx_⟩
  refine lv_aload_n hx hb dX10_init_30 rfl (lv_at hl 0 rfl) ?_
  refine h_sipush hx hb dX10_init_31 (by decide) ?_
  refine h_newL X hR (fun q => a + 1) q3041 606 rfl (by omega) (by decide) (by decide) dX10_init_34 (fun q_5 hq_5 w_13 ew_14 H hR => ?_)
  have hFr : Fr (fun r => r = a + 1) w w_13 := by rw [ew_14]; exact hFr.new hq_5 _
  have hOl : Ol w w_13 := by rw [ew_14]; exact hOl.set _ _
  have hF_q_5_w_13 : w_13 q_5 = some (a + 1, lE G 606 (fun _ => 0)) := by rw [ew_14]; exact wset_eq _ _ _
  have hF_a_w_13 : w_13 a = some (a + 1, oE 1 [.int (iI (0)), .ref q_1, .int (iI (0)), .ref q_3, .ref q_4, .null, .null, .null, .null, .int (iI (0)), .int (iI (0)), .int (iI (0)), .int (iI (0)), .int (iI (0)), .null, .int (iI (0)), .int (iI (0)), .int (iI (0)), .int (iI (0)), .int (iI (0)), .int (iI (0)), .int (iI (0)), .int (iI (0)), .null, .int (iI (0)), .int (iI (0)), .long (lI (0)), .long (lI (0)), .null, .int (iI (0)), .null, .null, .int (iI (0))]) := by rw [ew_14]; exact (wset_ne _ (w_neN hF_a_w_11 hq_5)).trans hF_a_w_11
  have hF_q_4_w_13 : w_13 q_4 = some (a + 1, lE G 606 (fun _ => 0)) := by rw [ew_14]; exact (wset_ne _ (w_neN hF_q_4_w_11 hq_5)).trans hF_q_4_w_11
  have hF_q_3_w_13 : w_13 q_3 = some (a + 1, lE G 606 (fun _ => 0)) := by rw [ew_14]; exact (wset_ne _ (w_neN hF_q_3_w_11 hq_5)).trans hF_q_3_w_11
  have hF_q_1_w_13 : w_13 q_1 = some (a + 1, iE G 0 8 (fun _ => 0)) := by rw [ew_14]; exact (wset_ne _ (w_neN hF_q_1_w_11 hq_5)).trans hF_q_1_w_11
  have hnm_5 : q_5 ∉ [q_4, q_3, q_1] := fun hm => by obtain ⟨x_, hx_⟩ := hall _ hm; rw [hq_5] at hx_; cases hx_
  have hnd : [q_5, q_4, q_3, q_1].Nodup := List.nodup_cons.mpr ⟨hnm_5, hnd⟩
  have hall : ∀ b ∈ [q_5, q_4, q_3, q_1], ∃ x, w_13 b = some x := fun b hb_ => by
    rcases List.mem_cons.mp hb_ with q_ | q_
    · exact ⟨_, by rw [q_]; exact hF_q_5_w_13⟩
    · obtain ⟨x_, hx_⟩ := hall b q_; exact ⟨x_, by rw [ew_14]; exact (wset_ne _ (w_neN hx_ hq_5)).trans hx_⟩
  refine h_putF X hnm hR hL hF_a_w_13 (Nat.succ_ne_zero a) rfl in_X10 tyX10_ok nmX10 5 (by decide) q2946 rfl rfl rfl rfl (Nat.le_of_ble_eq_true rfl) dX10_init_36 (fun w_15 ew_16 H locs hR hL => ?_)
  have hFr : Fr (fun r => r = a + 1) w w_15 := by rw [ew_16]; exact hFr.set hF_a_w_13 (by first | rfl | omega) _
  have hOl : Ol w w_15 := by rw [ew_16]; exact hOl.set _ _
  have hF_a_w_15 : w_15 a = some (a + 1, oE 1 [.int (iI (0)), .ref q_1, .int (iI (0)), .ref q_3, .ref q_4, .ref q_5, .null, .null, .null, .int (iI (0)), .int (iI (0)), .int (iI (0)), .int (iI (0)), .int (iI (0)), .null, .int (iI (0)), .int (iI (0)), .int (iI (0)), .int (iI (0)), .int (iI (0)), .int (iI (0)), .int (iI (0)), .int (iI (0)), .null, .int (iI (0)), .int (iI (0)), .long (lI (0)), .long (lI (0)), .null, .int (iI (0)), .null, .null, .int (iI (0))]) := by rw [ew_16]; exact wset_eq _ _ _
  have hF_q_5_w_15 : w_15 q_5 = some (a + 1, lE G 606 (fun _ => 0)) := by rw [ew_16]; exact (wset_ne _ (w_ne hF_q_5_w_13 hF_a_w_13 (by intro h; cases h))).trans hF_q_5_w_13
  have hF_q_4_w_15 : w_15 q_4 = some (a + 1, lE G 606 (fun _ => 0)) := by rw [ew_16]; exact (wset_ne _ (w_ne hF_q_4_w_13 hF_a_w_13 (by intro h; cases h))).trans hF_q_4_w_13
  have hF_q_3_w_15 : w_15 q_3 = some (a + 1, lE G 606 (fun _ => 0)) := by rw [ew_16]; exact (wset_ne _ (w_ne hF_q_3_w_13 hF_a_w_13 (by intro h; cases h))).trans hF_q_3_w_13
  have hF_q_1_w_15 : w_15 q_1 = some (a + 1, iE G 0 8 (fun _ => 0)) := by rw [ew_16]; exact (wset_ne _ (w_ne hF_q_1_w_13 hF_a_w_13 (by intro h; cases h))).trans hF_q_1_w_13
  have hall : ∀ b ∈ [q_5, q_4, q_3, q_1], ∃ x, w_15 b = some x := fun b hb_ => by obtain ⟨x_, hx_⟩ := hall b hb_; by_cases q_ : b = a; exact ⟨_, by rw [q_]; exact hF_a_w_15⟩; exact ⟨x_, by rw [ew_16]; exact (wset_ne _ q_).trans hx_⟩
  refine lv_aload_n hx hb dX10_init_39 rfl (lv_at hl 0 rfl) ?_
  refine h_sipush hx hb dX10_init_40 (by decide) ?_
  refine h_newL X hR (fun q => a + 1) q3041 606 rfl (by omega) (by decide) (by decide) dX10_init_43 (fun q_6 hq_6 w_17 ew_18 H hR => ?_)
  have hFr : Fr (fun r => r = a + 1) w w_17 := by rw [ew_18]; exact hFr.new hq_6 _
  have hOl : Ol w w_17 := by rw [ew_18]; exact hOl.set _ _
  have hF_q_6_w_17 : w_17 q_6 = some (a + 1, lE G 606 (fun _ => 0)) := by rw [ew_18]; exact wset_eq _ _ _
  have hF_a_w_17 : w_17 a = some (a + 1, oE 1 [.int (iI (0)), .ref q_1, .int (iI (0)), .ref q_3, .ref q_4, .ref q_5, .null, .null, .null, .int (iI (0)), .int (iI (0)), .int (iI (0)), .int (iI (0)), .int (iI (0)), .null, .int (iI (0)), .int (iI (0)), .int (iI (0)), .int (iI (0)), .int (iI (0)), .int (iI (0)), .int (iI (0)), .int (iI (0)), .null, .int (iI (0)), .int (iI (0)), .long (lI (0)), .long (lI (0)), .null, .int (iI (0)), .null, .null, .int (iI (0))]) := by rw [ew_18]; exact (wset_ne _ (w_neN hF_a_w_15 hq_6)).trans hF_a_w_15
  have hF_q_5_w_17 : w_17 q_5 = some (a + 1, lE G 606 (fun _ => 0)) := by rw [ew_18]; exact (wset_ne _ (w_neN hF_q_5_w_15 hq_6)).trans hF_q_5_w_15
  have hF_q_4_w_17 : w_17 q_4 = some (a + 1, lE G 606 (fun _ => 0)) := by rw [ew_18]; exact (wset_ne _ (w_neN hF_q_4_w_15 hq_6)).trans hF_q_4_w_15
  have hF_q_3_w_17 : w_17 q_3 = some (a + 1, lE G 606 (fun _ => 0)) := by rw [ew_18]; exact (wset_ne _ (w_neN hF_q_3_w_15 hq_6)).trans hF_q_3_w_15
  have hF_q_1_w_17 : w_17 q_1 = some (a + 1, iE G 0 8 (fun _ => 0)) := by rw [ew_18]; exact (wset_ne _ (w_neN hF_q_1_w_15 hq_6)).trans hF_q_1_w_15
  have hnm_6 : q_6 ∉ [q_5, q_4, q_3, q_1] := fun hm => by obtain ⟨x_, hx_⟩ := hall _ hm; rw [hq_6] at hx_; cases hx_
  have hnd : [q_6, q_5, q_4, q_3, q_1].Nodup := List.nodup_cons.mpr ⟨hnm_6, hnd⟩
  have hall : ∀ b ∈ [q_6, q_5, q_4, q_3, q_1], ∃ x, w_17 b = some x := fun b hb_ => by
    rcases List.mem_cons.mp hb_ with q_ | q_
    · exact ⟨_, by rw [q_]; exact hF_q_6_w_17⟩
    · obtain ⟨x_, hx_⟩ := hall b q_; exact ⟨x_, by rw [ew_18]; exact (wset_ne _ (w_neN hx_ hq_6)).trans hx_⟩
  refine h_putF X hnm hR hL hF_a_w_17 (Nat.succ_ne_zero a) rfl in_X10 tyX10_ok nmX10 6 (by decide) q2947 rfl rfl rfl rfl (Nat.le_of_ble_eq_true rfl) dX10_init_45 (fun w_19 ew_20 H locs hR hL => ?_)
  have hFr : Fr (fun r => r = a + 1) w w_19 := by rw [ew_20]; exact hFr.set hF_a_w_17 (by first | rfl | omega) _
  have hOl : Ol w w_19 := by rw [ew_20]; exact hOl.set _ _
  have hF_a_w_19 : w_19 a = some (a + 1, oE 1 [.int (iI (0)), .ref q_1, .int (iI (0)), .ref q_3, .ref q_4, .ref q_5, .ref q_6, .null, .null, .int (iI (0)), .int (iI (0)), .int (iI (0)), .int (iI (0)), .int (iI (0)), .null, .int (iI (0)), .int (iI (0)), .int (iI (0)), .int (iI (0)), .int (iI (0)), .int (iI (0)), .int (iI (0)), .int (iI (0)), .null, .int (iI (0)), .int (iI (0)), .long (lI (0)), .long (lI (0)), .null, .int (iI (0)), .null, .null, .int (iI (0))]) := by rw [ew_20]; exact wset_eq _ _ _
  have hF_q_6_w_19 : w_19 q_6 = some (a + 1, lE G 606 (fun _ => 0)) := by rw [ew_20]; exact (wset_ne _ (w_ne hF_q_6_w_17 hF_a_w_17 (by intro h; cases h))).trans hF_q_6_w_17
  have hF_q_5_w_19 : w_19 q_5 = some (a + 1, lE G 606 (fun _ => 0)) := by rw [ew_20]; exact (wset_ne _ (w_ne hF_q_5_w_17 hF_a_w_17 (by intro h; cases h))).trans hF_q_5_w_17
  have hF_q_4_w_19 : w_19 q_4 = some (a + 1, lE G 606 (fun _ => 0)) := by rw [ew_20]; exact (wset_ne _ (w_ne hF_q_4_w_17 hF_a_w_17 (by intro h; cases h))).trans hF_q_4_w_17
  have hF_q_3_w_19 : w_19 q_3 = some (a + 1, lE G 606 (fun _ => 0)) := by rw [ew_20]; exact (wset_ne _ (w_ne hF_q_3_w_17 hF_a_w_17 (by intro h; cases h))).trans hF_q_3_w_17
  have hF_q_1_w_19 : w_19 q_1 = some (a + 1, iE G 0 8 (fun _ => 0)) := by rw [ew_20]; exact (wset_ne _ (w_ne hF_q_1_w_17 hF_a_w_17 (by intro h; cases h))).trans hF_q_1_w_17
  have hall : ∀ b ∈ [q_6, q_5, q_4, q_3, q_1], ∃ x, w_19 b = some x := fun b hb_ => by obtain ⟨x_, hx_⟩ := hall b hb_; by_cases q_ : b = a; exact ⟨_, by rw [q_]; exact hF_a_w_19⟩; exact ⟨x_, by rw [ew_20]; exact (wset_ne _ q_).trans hx_⟩
  refine lv_aload_n hx hb dX10_init_48 rfl (lv_at hl 0 rfl) ?_
  refine h_sipush hx hb dX10_init_49 (by decide) ?_
  refine h_newL X hR (fun q => a + 1) q3041 606 rfl (by omega) (by decide) (by decide) dX10_init_52 (fun q_7 hq_7 w_21 ew_22 H hR => ?_)
  have hFr : Fr (fun r => r = a + 1) w w_21 := by rw [ew_22]; exact hFr.new hq_7 _
  have hOl : Ol w w_21 := by rw [ew_22]; exact hOl.set _ _
  have hF_q_7_w_21 : w_21 q_7 = some (a + 1, lE G 606 (fun _ => 0)) := by rw [ew_22]; exact wset_eq _ _ _
  have hF_a_w_21 : w_21 a = some (a + 1, oE 1 [.int (iI (0)), .ref q_1, .int (iI (0)), .ref q_3, .ref q_4, .ref q_5, .ref q_6, .null, .null, .int (iI (0)), .int (iI (0)), .int (iI (0)), .int (iI (0)), .int (iI (0)), .null, .int (iI (0)), .int (iI (0)), .int (iI (0)), .int (iI (0)), .int (iI (0)), .int (iI (0)), .int (iI (0)), .int (iI (0)), .null, .int (iI (0)), .int (iI (0)), .long (lI (0)), .long (lI (0)), .null, .int (iI (0)), .null, .null, .int (iI (0))]) := by rw [ew_22]; exact (wset_ne _ (w_neN hF_a_w_19 hq_7)).trans hF_a_w_19
  have hF_q_6_w_21 : w_21 q_6 = some (a + 1, lE G 606 (fun _ => 0)) := by rw [ew_22]; exact (wset_ne _ (w_neN hF_q_6_w_19 hq_7)).trans hF_q_6_w_19
  have hF_q_5_w_21 : w_21 q_5 = some (a + 1, lE G 606 (fun _ => 0)) := by rw [ew_22]; exact (wset_ne _ (w_neN hF_q_5_w_19 hq_7)).trans hF_q_5_w_19
  have hF_q_4_w_21 : w_21 q_4 = some (a + 1, lE G 606 (fun _ => 0)) := by rw [ew_22]; exact (wset_ne _ (w_neN hF_q_4_w_19 hq_7)).trans hF_q_4_w_19
  have hF_q_3_w_21 : w_21 q_3 = some (a + 1, lE G 606 (fun _ => 0)) := by rw [ew_22]; exact (wset_ne _ (w_neN hF_q_3_w_19 hq_7)).trans hF_q_3_w_19
  have hF_q_1_w_21 : w_21 q_1 = some (a + 1, iE G 0 8 (fun _ => 0)) := by rw [ew_22]; exact (wset_ne _ (w_neN hF_q_1_w_19 hq_7)).trans hF_q_1_w_19
  have hnm_7 : q_7 ∉ [q_6, q_5, q_4, q_3, q_1] := fun hm => by obtain ⟨x_, hx_⟩ := hall _ hm; rw [hq_7] at hx_; cases hx_
  have hnd : [q_7, q_6, q_5, q_4, q_3, q_1].Nodup := List.nodup_cons.mpr ⟨hnm_7, hnd⟩
  have hall : ∀ b ∈ [q_7, q_6, q_5, q_4, q_3, q_1], ∃ x, w_21 b = some x := fun b hb_ => by
    rcases List.mem_cons.mp hb_ with q_ | q_
    · exact ⟨_, by rw [q_]; exact hF_q_7_w_21⟩
    · obtain ⟨x_, hx_⟩ := hall b q_; exact ⟨x_, by rw [ew_22]; exact (wset_ne _ (w_neN hx_ hq_7)).trans hx_⟩
  refine h_putF X hnm hR hL hF_a_w_21 (Nat.succ_ne_zero a) rfl in_X10 tyX10_ok nmX10 7 (by decide) q2948 rfl rfl rfl rfl (Nat.le_of_ble_eq_true rfl) dX10_init_54 (fun w_23 ew_24 H locs hR hL => ?_)
  have hFr : Fr (fun r => r = a + 1) w w_23 := by rw [ew_24]; exact hFr.set hF_a_w_21 (by first | rfl | omega) _
  have hOl : Ol w w_23 := by rw [ew_24]; exact hOl.set _ _
  have hF_a_w_23 : w_23 a = some (a + 1, oE 1 [.int (iI (0)), .ref q_1, .int (iI (0)), .ref q_3, .ref q_4, .ref q_5, .ref q_6, .ref q_7, .null, .int (iI (0)), .int (iI (0)), .int (iI (0)), .int (iI (0)), .int (iI (0)), .null, .int (iI (0)), .int (iI (0)), .int (iI (0)), .int (iI (0)), .int (iI (0)), .int (iI (0)), .int (iI (0)), .int (iI (0)), .null, .int (iI (0)), .int (iI (0)), .long (lI (0)), .long (lI (0)), .null, .int (iI (0)), .null, .null, .int (iI (0))]) := by rw [ew_24]; exact wset_eq _ _ _
  have hF_q_7_w_23 : w_23 q_7 = some (a + 1, lE G 606 (fun _ => 0)) := by rw [ew_24]; exact (wset_ne _ (w_ne hF_q_7_w_21 hF_a_w_21 (by intro h; cases h))).trans hF_q_7_w_21
  have hF_q_6_w_23 : w_23 q_6 = some (a + 1, lE G 606 (fun _ => 0)) := by rw [ew_24]; exact (wset_ne _ (w_ne hF_q_6_w_21 hF_a_w_21 (by intro h; cases h))).trans hF_q_6_w_21
  have hF_q_5_w_23 : w_23 q_5 = some (a + 1, lE G 606 (fun _ => 0)) := by rw [ew_24]; exact (wset_ne _ (w_ne hF_q_5_w_21 hF_a_w_21 (by intro h; cases h))).trans hF_q_5_w_21
  have hF_q_4_w_23 : w_23 q_4 = some (a + 1, lE G 606 (fun _ => 0)) := by rw [ew_24]; exact (wset_ne _ (w_ne hF_q_4_w_21 hF_a_w_21 (by intro h; cases h))).trans hF_q_4_w_21
  have hF_q_3_w_23 : w_23 q_3 = some (a + 1, lE G 606 (fun _ => 0)) := by rw [ew_24]; exact (wset_ne _ (w_ne hF_q_3_w_21 hF_a_w_21 (by intro h; cases h))).trans hF_q_3_w_21
  have hF_q_1_w_23 : w_23 q_1 = some (a + 1, iE G 0 8 (fun _ => 0)) := by rw [ew_24]; exact (wset_ne _ (w_ne hF_q_1_w_21 hF_a_w_21 (by intro h; cases h))).trans hF_q_1_w_21
  have hall : ∀ b ∈ [q_7, q_6, q_5, q_4, q_3, q_1], ∃ x, w_23 b = some x := fun b hb_ => by obtain ⟨x_, hx_⟩ := hall b hb_; by_cases q_ : b = a; exact ⟨_, by rw [q_]; exact hF_a_w_23⟩; exact ⟨x_, by rw [ew_24]; exact (wset_ne _ q_).trans hx_⟩
  refine lv_aload_n hx hb dX10_init_57 rfl (lv_at hl 0 rfl) ?_
  refine h_sipush hx hb dX10_init_58 (by decide) ?_
  refine h_newL X hR (fun q => a + 1) q3041 4848 rfl (by omega) (by decide) (by decide) dX10_init_61 (fun q_8 hq_8 w_25 ew_26 H hR => ?_)
  have hFr : Fr (fun r => r = a + 1) w w_25 := by rw [ew_26]; exact hFr.new hq_8 _
  have hOl : Ol w w_25 := by rw [ew_26]; exact hOl.set _ _
  have hF_q_8_w_25 : w_25 q_8 = some (a + 1, lE G 4848 (fun _ => 0)) := by rw [ew_26]; exact wset_eq _ _ _
  have hF_a_w_25 : w_25 a = some (a + 1, oE 1 [.int (iI (0)), .ref q_1, .int (iI (0)), .ref q_3, .ref q_4, .ref q_5, .ref q_6, .ref q_7, .null, .int (iI (0)), .int (iI (0)), .int (iI (0)), .int (iI (0)), .int (iI (0)), .null, .int (iI (0)), .int (iI (0)), .int (iI (0)), .int (iI (0)), .int (iI (0)), .int (iI (0)), .int (iI (0)), .int (iI (0)), .null, .int (iI (0)), .int (iI (0)), .long (lI (0)), .long (lI (0)), .null, .int (iI (0)), .null, .null, .int (iI (0))]) := by rw [ew_26]; exact (wset_ne _ (w_neN hF_a_w_23 hq_8)).trans hF_a_w_23
  have hF_q_7_w_25 : w_25 q_7 = some (a + 1, lE G 606 (fun _ => 0)) := by rw [ew_26]; exact (wset_ne _ (w_neN hF_q_7_w_23 hq_8)).trans hF_q_7_w_23
  have hF_q_6_w_25 : w_25 q_6 = some (a + 1, lE G 606 (fun _ => 0)) := by rw [ew_26]; exact (wset_ne _ (w_neN hF_q_6_w_23 hq_8)).trans hF_q_6_w_23
  have hF_q_5_w_25 : w_25 q_5 = some (a + 1, lE G 606 (fun _ => 0)) := by rw [ew_26]; exact (wset_ne _ (w_neN hF_q_5_w_23 hq_8)).trans hF_q_5_w_23
  have hF_q_4_w_25 : w_25 q_4 = some (a + 1, lE G 606 (fun _ => 0)) := by rw [ew_26]; exact (wset_ne _ (w_neN hF_q_4_w_23 hq_8)).trans hF_q_4_w_23
  have hF_q_3_w_25 : w_25 q_3 = some (a + 1, lE G 606 (fun _ => 0)) := by rw [ew_26]; exact (wset_ne _ (w_neN hF_q_3_w_23 hq_8)).trans hF_q_3_w_23
  have hF_q_1_w_25 : w_25 q_1 = some (a + 1, iE G 0 8 (fun _ => 0)) := by rw [ew_26]; exact (wset_ne _ (w_neN hF_q_1_w_23 hq_8)).trans hF_q_1_w_23
  have hnm_8 : q_8 ∉ [q_7, q_6, q_5, q_4, q_3, q_1] := fun hm => by obtain ⟨x_, hx_⟩ := hall _ hm; rw [hq_8] at hx_; cases hx_
  have hnd : [q_8, q_7, q_6, q_5, q_4, q_3, q_1].Nodup := List.nodup_cons.mpr ⟨hnm_8, hnd⟩
  have hall : ∀ b ∈ [q_8, q_7, q_6, q_5, q_4, q_3, q_1], ∃ x, w_25 b = some x := fun b hb_ => by
    rcases List.mem_cons.mp hb_ with q_ | q_
    · exact ⟨_, by rw [q_]; exact hF_q_8_w_25⟩
    · obtain ⟨x_, hx_⟩ := hall b q_; exact ⟨x_, by rw [ew_26]; exact (wset_ne _ (w_neN hx_ hq_8)).trans hx_⟩
  refine h_putF X hnm hR hL hF_a_w_25 (Nat.succ_ne_zero a) rfl in_X10 tyX10_ok nmX10 8 (by decide) q2949 rfl rfl rfl rfl (Nat.le_of_ble_eq_true rfl) dX10_init_63 (fun w_27 ew_28 H locs hR hL => ?_)
  have hFr : Fr (fun r => r = a + 1) w w_27 := by rw [ew_28]; exact hFr.set hF_a_w_25 (by first | rfl | omega) _
  have hOl : Ol w w_27 := by rw [ew_28]; exact hOl.set _ _
  have hF_a_w_27 : w_27 a = some (a + 1, oE 1 [.int (iI (0)), .ref q_1, .int (iI (0)), .ref q_3, .ref q_4, .ref q_5, .ref q_6, .ref q_7, .ref q_8, .int (iI (0)), .int (iI (0)), .int (iI (0)), .int (iI (0)), .int (iI (0)), .null, .int (iI (0)), .int (iI (0)), .int (iI (0)), .int (iI (0)), .int (iI (0)), .int (iI (0)), .int (iI (0)), .int (iI (0)), .null, .int (iI (0)), .int (iI (0)), .long (lI (0)), .long (lI (0)), .null, .int (iI (0)), .null, .null, .int (iI (0))]) := by rw [ew_28]; exact wset_eq _ _ _
  have hF_q_8_w_27 : w_27 q_8 = some (a + 1, lE G 4848 (fun _ => 0)) := by rw [ew_28]; exact (wset_ne _ (w_ne hF_q_8_w_25 hF_a_w_25 (by intro h; cases h))).trans hF_q_8_w_25
  have hF_q_7_w_27 : w_27 q_7 = some (a + 1, lE G 606 (fun _ => 0)) := by rw [ew_28]; exact (wset_ne _ (w_ne hF_q_7_w_25 hF_a_w_25 (by intro h; cases h))).trans hF_q_7_w_25
  have hF_q_6_w_27 : w_27 q_6 = some (a + 1, lE G 606 (fun _ => 0)) := by rw [ew_28]; exact (wset_ne _ (w_ne hF_q_6_w_25 hF_a_w_25 (by intro h; cases h))).trans hF_q_6_w_25
  have hF_q_5_w_27 : w_27 q_5 = some (a + 1, lE G 606 (fun _ => 0)) := by rw [ew_28]; exact (wset_ne _ (w_ne hF_q_5_w_25 hF_a_w_25 (by intro h; cases h))).trans hF_q_5_w_25
  have hF_q_4_w_27 : w_27 q_4 = some (a + 1, lE G 606 (fun _ => 0)) := by rw [ew_28]; exact (wset_ne _ (w_ne hF_q_4_w_25 hF_a_w_25 (by intro h; cases h))).trans hF_q_4_w_25
  have hF_q_3_w_27 : w_27 q_3 = some (a + 1, lE G 606 (fun _ => 0)) := by rw [ew_28]; exact (wset_ne _ (w_ne hF_q_3_w_25 hF_a_w_25 (by intro h; cases h))).trans hF_q_3_w_25
  have hF_q_1_w_27 : w_27 q_1 = some (a + 1, iE G 0 8 (fun _ => 0)) := by rw [ew_28]; exact (wset_ne _ (w_ne hF_q_1_w_25 hF_a_w_25 (by intro h; cases h))).trans hF_q_1_w_25
  have hall : ∀ b ∈ [q_8, q_7, q_6, q_5, q_4, q_3, q_1], ∃ x, w_27 b = some x := fun b hb_ => by obtain ⟨x_, hx_⟩ := hall b hb_; by_cases q_ : b = a; exact ⟨_, by rw [q_]; exact hF_a_w_27⟩; exact ⟨x_, by rw [ew_28]; exact (wset_ne _ q_).trans hx_⟩
  refine lv_aload_n hx hb dX10_init_66 rfl (lv_at hl 0 rfl) ?_
  refine h_sipush hx hb dX10_init_67 (by decide) ?_
  refine h_newI (atype := .int) X hR 0 (fun q => a + 1) rfl (fun C h => by cases h) rfl q634 800 rfl (by omega) (by decide) (by decide) (by decide) dX10_init_70 (fun q_14 hq_14 w_29 ew_30 H hR => ?_)
  have hFr : Fr (fun r => r = a + 1) w w_29 := by rw [ew_30]; exact hFr.new hq_14 _
  have hOl : Ol w w_29 := by rw [ew_30]; exact hOl.set _ _
  have hF_q_14_w_29 : w_29 q_14 = some (a + 1, iE G 0 800 (fun _ => 0)) := by rw [ew_30]; exact wset_eq _ _ _
  have hF_a_w_29 : w_29 a = some (a + 1, oE 1 [.int (iI (0)), .ref q_1, .int (iI (0)), .ref q_3, .ref q_4, .ref q_5, .ref q_6, .ref q_7, .ref q_8, .int (iI (0)), .int (iI (0)), .int (iI (0)), .int (iI (0)), .int (iI (0)), .null, .int (iI (0)), .int (iI (0)), .int (iI (0)), .int (iI (0)), .int (iI (0)), .int (iI (0)), .int (iI (0)), .int (iI (0)), .null, .int (iI (0)), .int (iI (0)), .long (lI (0)), .long (lI (0)), .null, .int (iI (0)), .null, .null, .int (iI (0))]) := by rw [ew_30]; exact (wset_ne _ (w_neN hF_a_w_27 hq_14)).trans hF_a_w_27
  have hF_q_8_w_29 : w_29 q_8 = some (a + 1, lE G 4848 (fun _ => 0)) := by rw [ew_30]; exact (wset_ne _ (w_neN hF_q_8_w_27 hq_14)).trans hF_q_8_w_27
  have hF_q_7_w_29 : w_29 q_7 = some (a + 1, lE G 606 (fun _ => 0)) := by rw [ew_30]; exact (wset_ne _ (w_neN hF_q_7_w_27 hq_14)).trans hF_q_7_w_27
  have hF_q_6_w_29 : w_29 q_6 = some (a + 1, lE G 606 (fun _ => 0)) := by rw [ew_30]; exact (wset_ne _ (w_neN hF_q_6_w_27 hq_14)).trans hF_q_6_w_27
  have hF_q_5_w_29 : w_29 q_5 = some (a + 1, lE G 606 (fun _ => 0)) := by rw [ew_30]; exact (wset_ne _ (w_neN hF_q_5_w_27 hq_14)).trans hF_q_5_w_27
  have hF_q_4_w_29 : w_29 q_4 = some (a + 1, lE G 606 (fun _ => 0)) := by rw [ew_30]; exact (wset_ne _ (w_neN hF_q_4_w_27 hq_14)).trans hF_q_4_w_27
  have hF_q_3_w_29 : w_29 q_3 = some (a + 1, lE G 606 (fun _ => 0)) := by rw [ew_30]; exact (wset_ne _ (w_neN hF_q_3_w_27 hq_14)).trans hF_q_3_w_27
  have hF_q_1_w_29 : w_29 q_1 = some (a + 1, iE G 0 8 (fun _ => 0)) := by rw [ew_30]; exact (wset_ne _ (w_neN hF_q_1_w_27 hq_14)).trans hF_q_1_w_27
  have hnm_14 : q_14 ∉ [q_8, q_7, q_6, q_5, q_4, q_3, q_1] := fun hm => by obtain ⟨x_, hx_⟩ := hall _ hm; rw [hq_14] at hx_; cases hx_
  have hnd : [q_14, q_8, q_7, q_6, q_5, q_4, q_3, q_1].Nodup := List.nodup_cons.mpr ⟨hnm_14, hnd⟩
  have hall : ∀ b ∈ [q_14, q_8, q_7, q_6, q_5, q_4, q_3, q_1], ∃ x, w_29 b = some x := fun b hb_ => by
    rcases List.mem_cons.mp hb_ with q_ | q_
    · exact ⟨_, by rw [q_]; exact hF_q_14_w_29⟩
    · obtain ⟨x_, hx_⟩ := hall b q_; exact ⟨x_, by rw [ew_30]; exact (wset_ne _ (w_neN hx_ hq_14)).trans hx_⟩
  refine h_putF X hnm hR hL hF_a_w_29 (Nat.succ_ne_zero a) rfl in_X10 tyX10_ok nmX10 14 (by decide) q2955 rfl rfl rfl rfl (Nat.le_of_ble_eq_true rfl) dX10_init_72 (fun w_31 ew_32 H locs hR hL => ?_)
  have hFr : Fr (fun r => r = a + 1) w w_31 := by rw [ew_32]; exact hFr.set hF_a_w_29 (by first | rfl | omega) _
  have hOl : Ol w w_31 := by rw [ew_32]; exact hOl.set _ _
  have hF_a_w_31 : w_31 a = some (a + 1, oE 1 [.int (iI (0)), .ref q_1, .int (iI (0)), .ref q_3, .ref q_4, .ref q_5, .ref q_6, .ref q_7, .ref q_8, .int (iI (0)), .int (iI (0)), .int (iI (0)), .int (iI (0)), .int (iI (0)), .ref q_14, .int (iI (0)), .int (iI (0)), .int (iI (0)), .int (iI (0)), .int (iI (0)), .int (iI (0)), .int (iI (0)), .int (iI (0)), .null, .int (iI (0)), .int (iI (0)), .long (lI (0)), .long (lI (0)), .null, .int (iI (0)), .null, .null, .int (iI (0))]) := by rw [ew_32]; exact wset_eq _ _ _
  have hF_q_14_w_31 : w_31 q_14 = some (a + 1, iE G 0 800 (fun _ => 0)) := by rw [ew_32]; exact (wset_ne _ (w_ne hF_q_14_w_29 hF_a_w_29 (by intro h; cases h))).trans hF_q_14_w_29
  have hF_q_8_w_31 : w_31 q_8 = some (a + 1, lE G 4848 (fun _ => 0)) := by rw [ew_32]; exact (wset_ne _ (w_ne hF_q_8_w_29 hF_a_w_29 (by intro h; cases h))).trans hF_q_8_w_29
  have hF_q_7_w_31 : w_31 q_7 = some (a + 1, lE G 606 (fun _ => 0)) := by rw [ew_32]; exact (wset_ne _ (w_ne hF_q_7_w_29 hF_a_w_29 (by intro h; cases h))).trans hF_q_7_w_29
  have hF_q_6_w_31 : w_31 q_6 = some (a + 1, lE G 606 (fun _ => 0)) := by rw [ew_32]; exact (wset_ne _ (w_ne hF_q_6_w_29 hF_a_w_29 (by intro h; cases h))).trans hF_q_6_w_29
  have hF_q_5_w_31 : w_31 q_5 = some (a + 1, lE G 606 (fun _ => 0)) := by rw [ew_32]; exact (wset_ne _ (w_ne hF_q_5_w_29 hF_a_w_29 (by intro h; cases h))).trans hF_q_5_w_29
  have hF_q_4_w_31 : w_31 q_4 = some (a + 1, lE G 606 (fun _ => 0)) := by rw [ew_32]; exact (wset_ne _ (w_ne hF_q_4_w_29 hF_a_w_29 (by intro h; cases h))).trans hF_q_4_w_29
  have hF_q_3_w_31 : w_31 q_3 = some (a + 1, lE G 606 (fun _ => 0)) := by rw [ew_32]; exact (wset_ne _ (w_ne hF_q_3_w_29 hF_a_w_29 (by intro h; cases h))).trans hF_q_3_w_29
  have hF_q_1_w_31 : w_31 q_1 = some (a + 1, iE G 0 8 (fun _ => 0)) := by rw [ew_32]; exact (wset_ne _ (w_ne hF_q_1_w_29 hF_a_w_29 (by intro h; cases h))).trans hF_q_1_w_29
  have hall : ∀ b ∈ [q_14, q_8, q_7, q_6, q_5, q_4, q_3, q_1], ∃ x, w_31 b = some x := fun b hb_ => by obtain ⟨x_, hx_⟩ := hall b hb_; by_cases q_ : b = a; exact ⟨_, by rw [q_]; exact hF_a_w_31⟩; exact ⟨x_, by rw [ew_32]; exact (wset_ne _ q_).trans hx_⟩
  refine lv_aload_n hx hb dX10_init_75 rfl (lv_at hl 0 rfl) ?_
  refine h_iconst hx hb dX10_init_76 ?_
  refine h_put X hR hL hF_a_w_31 (Nat.succ_ne_zero a) rfl in_X10 tyX10_ok nmX10 22 (by decide) q2963 rfl rfl rfl (Nat.le_of_ble_eq_true rfl) dX10_init_77 (fun w_33 ew_34 H locs hR hL => ?_)
  have hFr : Fr (fun r => r = a + 1) w w_33 := by rw [ew_34]; exact hFr.set hF_a_w_31 (by first | rfl | omega) _
  have hOl : Ol w w_33 := by rw [ew_34]; exact hOl.set _ _
  have hF_a_w_33 : w_33 a = some (a + 1, oE 1 [.int (iI (0)), .ref q_1, .int (iI (0)), .ref q_3, .ref q_4, .ref q_5, .ref q_6, .ref q_7, .ref q_8, .int (iI (0)), .int (iI (0)), .int (iI (0)), .int (iI (0)), .int (iI (0)), .ref q_14, .int (iI (0)), .int (iI (0)), .int (iI (0)), .int (iI (0)), .int (iI (0)), .int (iI (0)), .int (iI (0)), .int (iI (-1)), .null, .int (iI (0)), .int (iI (0)), .long (lI (0)), .long (lI (0)), .null, .int (iI (0)), .null, .null, .int (iI (0))]) := by rw [ew_34]; exact wset_eq _ _ _
  have hF_q_14_w_33 : w_33 q_14 = some (a + 1, iE G 0 800 (fun _ => 0)) := by rw [ew_34]; exact (wset_ne _ (w_ne hF_q_14_w_31 hF_a_w_31 (by intro h; cases h))).trans hF_q_14_w_31
  have hF_q_8_w_33 : w_33 q_8 = some (a + 1, lE G 4848 (fun _ => 0)) := by rw [ew_34]; exact (wset_ne _ (w_ne hF_q_8_w_31 hF_a_w_31 (by intro h; cases h))).trans hF_q_8_w_31
  have hF_q_7_w_33 : w_33 q_7 = some (a + 1, lE G 606 (fun _ => 0)) := by rw [ew_34]; exact (wset_ne _ (w_ne hF_q_7_w_31 hF_a_w_31 (by intro h; cases h))).trans hF_q_7_w_31
  have hF_q_6_w_33 : w_33 q_6 = some (a + 1, lE G 606 (fun _ => 0)) := by rw [ew_34]; exact (wset_ne _ (w_ne hF_q_6_w_31 hF_a_w_31 (by intro h; cases h))).trans hF_q_6_w_31
  have hF_q_5_w_33 : w_33 q_5 = some (a + 1, lE G 606 (fun _ => 0)) := by rw [ew_34]; exact (wset_ne _ (w_ne hF_q_5_w_31 hF_a_w_31 (by intro h; cases h))).trans hF_q_5_w_31
  have hF_q_4_w_33 : w_33 q_4 = some (a + 1, lE G 606 (fun _ => 0)) := by rw [ew_34]; exact (wset_ne _ (w_ne hF_q_4_w_31 hF_a_w_31 (by intro h; cases h))).trans hF_q_4_w_31
  have hF_q_3_w_33 : w_33 q_3 = some (a + 1, lE G 606 (fun _ => 0)) := by rw [ew_34]; exact (wset_ne _ (w_ne hF_q_3_w_31 hF_a_w_31 (by intro h; cases h))).trans hF_q_3_w_31
  have hF_q_1_w_33 : w_33 q_1 = some (a + 1, iE G 0 8 (fun _ => 0)) := by rw [ew_34]; exact (wset_ne _ (w_ne hF_q_1_w_31 hF_a_w_31 (by intro h; cases h))).trans hF_q_1_w_31
  have hall : ∀ b ∈ [q_14, q_8, q_7, q_6, q_5, q_4, q_3, q_1], ∃ x, w_33 b = some x := fun b hb_ => by obtain ⟨x_, hx_⟩ := hall b hb_; by_cases q_ : b = a; exact ⟨_, by rw [q_]; exact hF_a_w_33⟩; exact ⟨x_, by rw [ew_34]; exact (wset_ne _ q_).trans hx_⟩
  refine lv_aload_n hx hb dX10_init_80 rfl (lv_at hl 0 rfl) ?_
  refine h_iconst hx hb dX10_init_81 ?_
  refine h_newL X hR (fun q => a + 1) q3041 5 rfl (by omega) (by decide) (by decide) dX10_init_82 (fun q_23 hq_23 w_35 ew_36 H hR => ?_)
  have hFr : Fr (fun r => r = a + 1) w w_35 := by rw [ew_36]; exact hFr.new hq_23 _
  have hOl : Ol w w_35 := by rw [ew_36]; exact hOl.set _ _
  have hF_q_23_w_35 : w_35 q_23 = some (a + 1, lE G 5 (fun _ => 0)) := by rw [ew_36]; exact wset_eq _ _ _
  have hF_a_w_35 : w_35 a = some (a + 1, oE 1 [.int (iI (0)), .ref q_1, .int (iI (0)), .ref q_3, .ref q_4, .ref q_5, .ref q_6, .ref q_7, .ref q_8, .int (iI (0)), .int (iI (0)), .int (iI (0)), .int (iI (0)), .int (iI (0)), .ref q_14, .int (iI (0)), .int (iI (0)), .int (iI (0)), .int (iI (0)), .int (iI (0)), .int (iI (0)), .int (iI (0)), .int (iI (-1)), .null, .int (iI (0)), .int (iI (0)), .long (lI (0)), .long (lI (0)), .null, .int (iI (0)), .null, .null, .int (iI (0))]) := by rw [ew_36]; exact (wset_ne _ (w_neN hF_a_w_33 hq_23)).trans hF_a_w_33
  have hF_q_14_w_35 : w_35 q_14 = some (a + 1, iE G 0 800 (fun _ => 0)) := by rw [ew_36]; exact (wset_ne _ (w_neN hF_q_14_w_33 hq_23)).trans hF_q_14_w_33
  have hF_q_8_w_35 : w_35 q_8 = some (a + 1, lE G 4848 (fun _ => 0)) := by rw [ew_36]; exact (wset_ne _ (w_neN hF_q_8_w_33 hq_23)).trans hF_q_8_w_33
  have hF_q_7_w_35 : w_35 q_7 = some (a + 1, lE G 606 (fun _ => 0)) := by rw [ew_36]; exact (wset_ne _ (w_neN hF_q_7_w_33 hq_23)).trans hF_q_7_w_33
  have hF_q_6_w_35 : w_35 q_6 = some (a + 1, lE G 606 (fun _ => 0)) := by rw [ew_36]; exact (wset_ne _ (w_neN hF_q_6_w_33 hq_23)).trans hF_q_6_w_33
  have hF_q_5_w_35 : w_35 q_5 = some (a + 1, lE G 606 (fun _ => 0)) := by rw [ew_36]; exact (wset_ne _ (w_neN hF_q_5_w_33 hq_23)).trans hF_q_5_w_33
  have hF_q_4_w_35 : w_35 q_4 = some (a + 1, lE G 606 (fun _ => 0)) := by rw [ew_36]; exact (wset_ne _ (w_neN hF_q_4_w_33 hq_23)).trans hF_q_4_w_33
  have hF_q_3_w_35 : w_35 q_3 = some (a + 1, lE G 606 (fun _ => 0)) := by rw [ew_36]; exact (wset_ne _ (w_neN hF_q_3_w_33 hq_23)).trans hF_q_3_w_33
  have hF_q_1_w_35 : w_35 q_1 = some (a + 1, iE G 0 8 (fun _ => 0)) := by rw [ew_36]; exact (wset_ne _ (w_neN hF_q_1_w_33 hq_23)).trans hF_q_1_w_33
  have hnm_23 : q_23 ∉ [q_14, q_8, q_7, q_6, q_5, q_4, q_3, q_1] := fun hm => by obtain ⟨x_, hx_⟩ := hall _ hm; rw [hq_23] at hx_; cases hx_
  have hnd : [q_23, q_14, q_8, q_7, q_6, q_5, q_4, q_3, q_1].Nodup := List.nodup_cons.mpr ⟨hnm_23, hnd⟩
  have hall : ∀ b ∈ [q_23, q_14, q_8, q_7, q_6, q_5, q_4, q_3, q_1], ∃ x, w_35 b = some x := fun b hb_ => by
    rcases List.mem_cons.mp hb_ with q_ | q_
    · exact ⟨_, by rw [q_]; exact hF_q_23_w_35⟩
    · obtain ⟨x_, hx_⟩ := hall b q_; exact ⟨x_, by rw [ew_36]; exact (wset_ne _ (w_neN hx_ hq_23)).trans hx_⟩
  refine h_putF X hnm hR hL hF_a_w_35 (Nat.succ_ne_zero a) rfl in_X10 tyX10_ok nmX10 23 (by decide) q2964 rfl rfl rfl rfl (Nat.le_of_ble_eq_true rfl) dX10_init_84 (fun w_37 ew_38 H locs hR hL => ?_)
  have hFr : Fr (fun r => r = a + 1) w w_37 := by rw [ew_38]; exact hFr.set hF_a_w_35 (by first | rfl | omega) _
  have hOl : Ol w w_37 := by rw [ew_38]; exact hOl.set _ _
  have hF_a_w_37 : w_37 a = some (a + 1, oE 1 [.int (iI (0)), .ref q_1, .int (iI (0)), .ref q_3, .ref q_4, .ref q_5, .ref q_6, .ref q_7, .ref q_8, .int (iI (0)), .int (iI (0)), .int (iI (0)), .int (iI (0)), .int (iI (0)), .ref q_14, .int (iI (0)), .int (iI (0)), .int (iI (0)), .int (iI (0)), .int (iI (0)), .int (iI (0)), .int (iI (0)), .int (iI (-1)), .ref q_23, .int (iI (0)), .int (iI (0)), .long (lI (0)), .long (lI (0)), .null, .int (iI (0)), .null, .null, .int (iI (0))]) := by rw [ew_38]; exact wset_eq _ _ _
  have hF_q_23_w_37 : w_37 q_23 = some (a + 1, lE G 5 (fun _ => 0)) := by rw [ew_38]; exact (wset_ne _ (w_ne hF_q_23_w_35 hF_a_w_35 (by intro h; cases h))).trans hF_q_23_w_35
  have hF_q_14_w_37 : w_37 q_14 = some (a + 1, iE G 0 800 (fun _ => 0)) := by rw [ew_38]; exact (wset_ne _ (w_ne hF_q_14_w_35 hF_a_w_35 (by intro h; cases h))).trans hF_q_14_w_35
  have hF_q_8_w_37 : w_37 q_8 = some (a + 1, lE G 4848 (fun _ => 0)) := by rw [ew_38]; exact (wset_ne _ (w_ne hF_q_8_w_35 hF_a_w_35 (by intro h; cases h))).trans hF_q_8_w_35
  have hF_q_7_w_37 : w_37 q_7 = some (a + 1, lE G 606 (fun _ => 0)) := by rw [ew_38]; exact (wset_ne _ (w_ne hF_q_7_w_35 hF_a_w_35 (by intro h; cases h))).trans hF_q_7_w_35
  have hF_q_6_w_37 : w_37 q_6 = some (a + 1, lE G 606 (fun _ => 0)) := by rw [ew_38]; exact (wset_ne _ (w_ne hF_q_6_w_35 hF_a_w_35 (by intro h; cases h))).trans hF_q_6_w_35
  have hF_q_5_w_37 : w_37 q_5 = some (a + 1, lE G 606 (fun _ => 0)) := by rw [ew_38]; exact (wset_ne _ (w_ne hF_q_5_w_35 hF_a_w_35 (by intro h; cases h))).trans hF_q_5_w_35
  have hF_q_4_w_37 : w_37 q_4 = some (a + 1, lE G 606 (fun _ => 0)) := by rw [ew_38]; exact (wset_ne _ (w_ne hF_q_4_w_35 hF_a_w_35 (by intro h; cases h))).trans hF_q_4_w_35
  have hF_q_3_w_37 : w_37 q_3 = some (a + 1, lE G 606 (fun _ => 0)) := by rw [ew_38]; exact (wset_ne _ (w_ne hF_q_3_w_35 hF_a_w_35 (by intro h; cases h))).trans hF_q_3_w_35
  have hF_q_1_w_37 : w_37 q_1 = some (a + 1, iE G 0 8 (fun _ => 0)) := by rw [ew_38]; exact (wset_ne _ (w_ne hF_q_1_w_35 hF_a_w_35 (by intro h; cases h))).trans hF_q_1_w_35
  have hall : ∀ b ∈ [q_23, q_14, q_8, q_7, q_6, q_5, q_4, q_3, q_1], ∃ x, w_37 b = some x := fun b hb_ => by obtain ⟨x_, hx_⟩ := hall b hb_; by_cases q_ : b = a; exact ⟨_, by rw [q_]; exact hF_a_w_37⟩; exact ⟨x_, by rw [ew_38]; exact (wset_ne _ q_).trans hx_⟩
  refine lv_aload_n hx hb dX10_init_87 rfl (lv_at hl 0 rfl) ?_
  refine h_iconst hx hb dX10_init_88 ?_
  refine h_put X hR hL hF_a_w_37 (Nat.succ_ne_zero a) rfl in_X10 tyX10_ok nmX10 25 (by decide) q2966 rfl rfl rfl (Nat.le_of_ble_eq_true rfl) dX10_init_89 (fun w_39 ew_40 H locs hR hL => ?_)
  have hFr : Fr (fun r => r = a + 1) w w_39 := by rw [ew_40]; exact hFr.set hF_a_w_37 (by first | rfl | omega) _
  have hOl : Ol w w_39 := by rw [ew_40]; exact hOl.set _ _
  have hF_a_w_39 : w_39 a = some (a + 1, oE 1 [.int (iI (0)), .ref q_1, .int (iI (0)), .ref q_3, .ref q_4, .ref q_5, .ref q_6, .ref q_7, .ref q_8, .int (iI (0)), .int (iI (0)), .int (iI (0)), .int (iI (0)), .int (iI (0)), .ref q_14, .int (iI (0)), .int (iI (0)), .int (iI (0)), .int (iI (0)), .int (iI (0)), .int (iI (0)), .int (iI (0)), .int (iI (-1)), .ref q_23, .int (iI (0)), .int (iI (-1)), .long (lI (0)), .long (lI (0)), .null, .int (iI (0)), .null, .null, .int (iI (0))]) := by rw [ew_40]; exact wset_eq _ _ _
  have hF_q_23_w_39 : w_39 q_23 = some (a + 1, lE G 5 (fun _ => 0)) := by rw [ew_40]; exact (wset_ne _ (w_ne hF_q_23_w_37 hF_a_w_37 (by intro h; cases h))).trans hF_q_23_w_37
  have hF_q_14_w_39 : w_39 q_14 = some (a + 1, iE G 0 800 (fun _ => 0)) := by rw [ew_40]; exact (wset_ne _ (w_ne hF_q_14_w_37 hF_a_w_37 (by intro h; cases h))).trans hF_q_14_w_37
  have hF_q_8_w_39 : w_39 q_8 = some (a + 1, lE G 4848 (fun _ => 0)) := by rw [ew_40]; exact (wset_ne _ (w_ne hF_q_8_w_37 hF_a_w_37 (by intro h; cases h))).trans hF_q_8_w_37
  have hF_q_7_w_39 : w_39 q_7 = some (a + 1, lE G 606 (fun _ => 0)) := by rw [ew_40]; exact (wset_ne _ (w_ne hF_q_7_w_37 hF_a_w_37 (by intro h; cases h))).trans hF_q_7_w_37
  have hF_q_6_w_39 : w_39 q_6 = some (a + 1, lE G 606 (fun _ => 0)) := by rw [ew_40]; exact (wset_ne _ (w_ne hF_q_6_w_37 hF_a_w_37 (by intro h; cases h))).trans hF_q_6_w_37
  have hF_q_5_w_39 : w_39 q_5 = some (a + 1, lE G 606 (fun _ => 0)) := by rw [ew_40]; exact (wset_ne _ (w_ne hF_q_5_w_37 hF_a_w_37 (by intro h; cases h))).trans hF_q_5_w_37
  have hF_q_4_w_39 : w_39 q_4 = some (a + 1, lE G 606 (fun _ => 0)) := by rw [ew_40]; exact (wset_ne _ (w_ne hF_q_4_w_37 hF_a_w_37 (by intro h; cases h))).trans hF_q_4_w_37
  have hF_q_3_w_39 : w_39 q_3 = some (a + 1, lE G 606 (fun _ => 0)) := by rw [ew_40]; exact (wset_ne _ (w_ne hF_q_3_w_37 hF_a_w_37 (by intro h; cases h))).trans hF_q_3_w_37
  have hF_q_1_w_39 : w_39 q_1 = some (a + 1, iE G 0 8 (fun _ => 0)) := by rw [ew_40]; exact (wset_ne _ (w_ne hF_q_1_w_37 hF_a_w_37 (by intro h; cases h))).trans hF_q_1_w_37
  have hall : ∀ b ∈ [q_23, q_14, q_8, q_7, q_6, q_5, q_4, q_3, q_1], ∃ x, w_39 b = some x := fun b hb_ => by obtain ⟨x_, hx_⟩ := hall b hb_; by_cases q_ : b = a; exact ⟨_, by rw [q_]; exact hF_a_w_39⟩; exact ⟨x_, by rw [ew_40]; exact (wset_ne _ q_).trans hx_⟩
  refine lv_aload_n hx hb dX10_init_92 rfl (lv_at hl 0 rfl) ?_
  refine h_sipush hx hb dX10_init_93 (by decide) ?_
  refine h_newL X hR (fun q => a + 1) q3041 180 rfl (by omega) (by decide) (by decide) dX10_init_96 (fun q_28 hq_28 w_41 ew_42 H hR => ?_)
  have hFr : Fr (fun r => r = a + 1) w w_41 := by rw [ew_42]; exact hFr.new hq_28 _
  have hOl : Ol w w_41 := by rw [ew_42]; exact hOl.set _ _
  have hF_q_28_w_41 : w_41 q_28 = some (a + 1, lE G 180 (fun _ => 0)) := by rw [ew_42]; exact wset_eq _ _ _
  have hF_a_w_41 : w_41 a = some (a + 1, oE 1 [.int (iI (0)), .ref q_1, .int (iI (0)), .ref q_3, .ref q_4, .ref q_5, .ref q_6, .ref q_7, .ref q_8, .int (iI (0)), .int (iI (0)), .int (iI (0)), .int (iI (0)), .int (iI (0)), .ref q_14, .int (iI (0)), .int (iI (0)), .int (iI (0)), .int (iI (0)), .int (iI (0)), .int (iI (0)), .int (iI (0)), .int (iI (-1)), .ref q_23, .int (iI (0)), .int (iI (-1)), .long (lI (0)), .long (lI (0)), .null, .int (iI (0)), .null, .null, .int (iI (0))]) := by rw [ew_42]; exact (wset_ne _ (w_neN hF_a_w_39 hq_28)).trans hF_a_w_39
  have hF_q_23_w_41 : w_41 q_23 = some (a + 1, lE G 5 (fun _ => 0)) := by rw [ew_42]; exact (wset_ne _ (w_neN hF_q_23_w_39 hq_28)).trans hF_q_23_w_39
  have hF_q_14_w_41 : w_41 q_14 = some (a + 1, iE G 0 800 (fun _ => 0)) := by rw [ew_42]; exact (wset_ne _ (w_neN hF_q_14_w_39 hq_28)).trans hF_q_14_w_39
  have hF_q_8_w_41 : w_41 q_8 = some (a + 1, lE G 4848 (fun _ => 0)) := by rw [ew_42]; exact (wset_ne _ (w_neN hF_q_8_w_39 hq_28)).trans hF_q_8_w_39
  have hF_q_7_w_41 : w_41 q_7 = some (a + 1, lE G 606 (fun _ => 0)) := by rw [ew_42]; exact (wset_ne _ (w_neN hF_q_7_w_39 hq_28)).trans hF_q_7_w_39
  have hF_q_6_w_41 : w_41 q_6 = some (a + 1, lE G 606 (fun _ => 0)) := by rw [ew_42]; exact (wset_ne _ (w_neN hF_q_6_w_39 hq_28)).trans hF_q_6_w_39
  have hF_q_5_w_41 : w_41 q_5 = some (a + 1, lE G 606 (fun _ => 0)) := by rw [ew_42]; exact (wset_ne _ (w_neN hF_q_5_w_39 hq_28)).trans hF_q_5_w_39
  have hF_q_4_w_41 : w_41 q_4 = some (a + 1, lE G 606 (fun _ => 0)) := by rw [ew_42]; exact (wset_ne _ (w_neN hF_q_4_w_39 hq_28)).trans hF_q_4_w_39
  have hF_q_3_w_41 : w_41 q_3 = some (a + 1, lE G 606 (fun _ => 0)) := by rw [ew_42]; exact (wset_ne _ (w_neN hF_q_3_w_39 hq_28)).trans hF_q_3_w_39
  have hF_q_1_w_41 : w_41 q_1 = some (a + 1, iE G 0 8 (fun _ => 0)) := by rw [ew_42]; exact (wset_ne _ (w_neN hF_q_1_w_39 hq_28)).trans hF_q_1_w_39
  have hnm_28 : q_28 ∉ [q_23, q_14, q_8, q_7, q_6, q_5, q_4, q_3, q_1] := fun hm => by obtain ⟨x_, hx_⟩ := hall _ hm; rw [hq_28] at hx_; cases hx_
  have hnd : [q_28, q_23, q_14, q_8, q_7, q_6, q_5, q_4, q_3, q_1].Nodup := List.nodup_cons.mpr ⟨hnm_28, hnd⟩
  have hall : ∀ b ∈ [q_28, q_23, q_14, q_8, q_7, q_6, q_5, q_4, q_3, q_1], ∃ x, w_41 b = some x := fun b hb_ => by
    rcases List.mem_cons.mp hb_ with q_ | q_
    · exact ⟨_, by rw [q_]; exact hF_q_28_w_41⟩
    · obtain ⟨x_, hx_⟩ := hall b q_; exact ⟨x_, by rw [ew_42]; exact (wset_ne _ (w_neN hx_ hq_28)).trans hx_⟩
  refine h_putF X hnm hR hL hF_a_w_41 (Nat.succ_ne_zero a) rfl in_X10 tyX10_ok nmX10 28 (by decide) q2969 rfl rfl rfl rfl (Nat.le_of_ble_eq_true rfl) dX10_init_98 (fun w_43 ew_44 H locs hR hL => ?_)
  have hFr : Fr (fun r => r = a + 1) w w_43 := by rw [ew_44]; exact hFr.set hF_a_w_41 (by first | rfl | omega) _
  have hOl : Ol w w_43 := by rw [ew_44]; exact hOl.set _ _
  have hF_a_w_43 : w_43 a = some (a + 1, oE 1 [.int (iI (0)), .ref q_1, .int (iI (0)), .ref q_3, .ref q_4, .ref q_5, .ref q_6, .ref q_7, .ref q_8, .int (iI (0)), .int (iI (0)), .int (iI (0)), .int (iI (0)), .int (iI (0)), .ref q_14, .int (iI (0)), .int (iI (0)), .int (iI (0)), .int (iI (0)), .int (iI (0)), .int (iI (0)), .int (iI (0)), .int (iI (-1)), .ref q_23, .int (iI (0)), .int (iI (-1)), .long (lI (0)), .long (lI (0)), .ref q_28, .int (iI (0)), .null, .null, .int (iI (0))]) := by rw [ew_44]; exact wset_eq _ _ _
  have hF_q_28_w_43 : w_43 q_28 = some (a + 1, lE G 180 (fun _ => 0)) := by rw [ew_44]; exact (wset_ne _ (w_ne hF_q_28_w_41 hF_a_w_41 (by intro h; cases h))).trans hF_q_28_w_41
  have hF_q_23_w_43 : w_43 q_23 = some (a + 1, lE G 5 (fun _ => 0)) := by rw [ew_44]; exact (wset_ne _ (w_ne hF_q_23_w_41 hF_a_w_41 (by intro h; cases h))).trans hF_q_23_w_41
  have hF_q_14_w_43 : w_43 q_14 = some (a + 1, iE G 0 800 (fun _ => 0)) := by rw [ew_44]; exact (wset_ne _ (w_ne hF_q_14_w_41 hF_a_w_41 (by intro h; cases h))).trans hF_q_14_w_41
  have hF_q_8_w_43 : w_43 q_8 = some (a + 1, lE G 4848 (fun _ => 0)) := by rw [ew_44]; exact (wset_ne _ (w_ne hF_q_8_w_41 hF_a_w_41 (by intro h; cases h))).trans hF_q_8_w_41
  have hF_q_7_w_43 : w_43 q_7 = some (a + 1, lE G 606 (fun _ => 0)) := by rw [ew_44]; exact (wset_ne _ (w_ne hF_q_7_w_41 hF_a_w_41 (by intro h; cases h))).trans hF_q_7_w_41
  have hF_q_6_w_43 : w_43 q_6 = some (a + 1, lE G 606 (fun _ => 0)) := by rw [ew_44]; exact (wset_ne _ (w_ne hF_q_6_w_41 hF_a_w_41 (by intro h; cases h))).trans hF_q_6_w_41
  have hF_q_5_w_43 : w_43 q_5 = some (a + 1, lE G 606 (fun _ => 0)) := by rw [ew_44]; exact (wset_ne _ (w_ne hF_q_5_w_41 hF_a_w_41 (by intro h; cases h))).trans hF_q_5_w_41
  have hF_q_4_w_43 : w_43 q_4 = some (a + 1, lE G 606 (fun _ => 0)) := by rw [ew_44]; exact (wset_ne _ (w_ne hF_q_4_w_41 hF_a_w_41 (by intro h; cases h))).trans hF_q_4_w_41
  have hF_q_3_w_43 : w_43 q_3 = some (a + 1, lE G 606 (fun _ => 0)) := by rw [ew_44]; exact (wset_ne _ (w_ne hF_q_3_w_41 hF_a_w_41 (by intro h; cases h))).trans hF_q_3_w_41
  have hF_q_1_w_43 : w_43 q_1 = some (a + 1, iE G 0 8 (fun _ => 0)) := by rw [ew_44]; exact (wset_ne _ (w_ne hF_q_1_w_41 hF_a_w_41 (by intro h; cases h))).trans hF_q_1_w_41
  have hall : ∀ b ∈ [q_28, q_23, q_14, q_8, q_7, q_6, q_5, q_4, q_3, q_1], ∃ x, w_43 b = some x := fun b hb_ => by obtain ⟨x_, hx_⟩ := hall b hb_; by_cases q_ : b = a; exact ⟨_, by rw [q_]; exact hF_a_w_43⟩; exact ⟨x_, by rw [ew_44]; exact (wset_ne _ q_).trans hx_⟩
  refine lv_aload_n hx hb dX10_init_101 rfl (lv_at hl 0 rfl) ?_
  refine h_bipush hx hb dX10_init_102 (by decide) ?_
  refine h_newI (atype := .int) X hR 0 (fun q => a + 1) rfl (fun C h => by cases h) rfl q634 120 rfl (by omega) (by decide) (by decide) (by decide) dX10_init_104 (fun q_30 hq_30 w_45 ew_46 H hR => ?_)
  have hFr : Fr (fun r => r = a + 1) w w_45 := by rw [ew_46]; exact hFr.new hq_30 _
  have hOl : Ol w w_45 := by rw [ew_46]; exact hOl.set _ _
  have hF_q_30_w_45 : w_45 q_30 = some (a + 1, iE G 0 120 (fun _ => 0)) := by rw [ew_46]; exact wset_eq _ _ _
  have hF_a_w_45 : w_45 a = some (a + 1, oE 1 [.int (iI (0)), .ref q_1, .int (iI (0)), .ref q_3, .ref q_4, .ref q_5, .ref q_6, .ref q_7, .ref q_8, .int (iI (0)), .int (iI (0)), .int (iI (0)), .int (iI (0)), .int (iI (0)), .ref q_14, .int (iI (0)), .int (iI (0)), .int (iI (0)), .int (iI (0)), .int (iI (0)), .int (iI (0)), .int (iI (0)), .int (iI (-1)), .ref q_23, .int (iI (0)), .int (iI (-1)), .long (lI (0)), .long (lI (0)), .ref q_28, .int (iI (0)), .null, .null, .int (iI (0))]) := by rw [ew_46]; exact (wset_ne _ (w_neN hF_a_w_43 hq_30)).trans hF_a_w_43
  have hF_q_28_w_45 : w_45 q_28 = some (a + 1, lE G 180 (fun _ => 0)) := by rw [ew_46]; exact (wset_ne _ (w_neN hF_q_28_w_43 hq_30)).trans hF_q_28_w_43
  have hF_q_23_w_45 : w_45 q_23 = some (a + 1, lE G 5 (fun _ => 0)) := by rw [ew_46]; exact (wset_ne _ (w_neN hF_q_23_w_43 hq_30)).trans hF_q_23_w_43
  have hF_q_14_w_45 : w_45 q_14 = some (a + 1, iE G 0 800 (fun _ => 0)) := by rw [ew_46]; exact (wset_ne _ (w_neN hF_q_14_w_43 hq_30)).trans hF_q_14_w_43
  have hF_q_8_w_45 : w_45 q_8 = some (a + 1, lE G 4848 (fun _ => 0)) := by rw [ew_46]; exact (wset_ne _ (w_neN hF_q_8_w_43 hq_30)).trans hF_q_8_w_43
  have hF_q_7_w_45 : w_45 q_7 = some (a + 1, lE G 606 (fun _ => 0)) := by rw [ew_46]; exact (wset_ne _ (w_neN hF_q_7_w_43 hq_30)).trans hF_q_7_w_43
  have hF_q_6_w_45 : w_45 q_6 = some (a + 1, lE G 606 (fun _ => 0)) := by rw [ew_46]; exact (wset_ne _ (w_neN hF_q_6_w_43 hq_30)).trans hF_q_6_w_43
  have hF_q_5_w_45 : w_45 q_5 = some (a + 1, lE G 606 (fun _ => 0)) := by rw [ew_46]; exact (wset_ne _ (w_neN hF_q_5_w_43 hq_30)).trans hF_q_5_w_43
  have hF_q_4_w_45 : w_45 q_4 = some (a + 1, lE G 606 (fun _ => 0)) := by rw [ew_46]; exact (wset_ne _ (w_neN hF_q_4_w_43 hq_30)).trans hF_q_4_w_43
  have hF_q_3_w_45 : w_45 q_3 = some (a + 1, lE G 606 (fun _ => 0)) := by rw [ew_46]; exact (wset_ne _ (w_neN hF_q_3_w_43 hq_30)).trans hF_q_3_w_43
  have hF_q_1_w_45 : w_45 q_1 = some (a + 1, iE G 0 8 (fun _ => 0)) := by rw [ew_46]; exact (wset_ne _ (w_neN hF_q_1_w_43 hq_30)).trans hF_q_1_w_43
  have hnm_30 : q_30 ∉ [q_28, q_23, q_14, q_8, q_7, q_6, q_5, q_4, q_3, q_1] := fun hm => by obtain ⟨x_, hx_⟩ := hall _ hm; rw [hq_30] at hx_; cases hx_
  have hnd : [q_30, q_28, q_23, q_14, q_8, q_7, q_6, q_5, q_4, q_3, q_1].Nodup := List.nodup_cons.mpr ⟨hnm_30, hnd⟩
  have hall : ∀ b ∈ [q_30, q_28, q_23, q_14, q_8, q_7, q_6, q_5, q_4, q_3, q_1], ∃ x, w_45 b = some x := fun b hb_ => by
    rcases List.mem_cons.mp hb_ with q_ | q_
    · exact ⟨_, by rw [q_]; exact hF_q_30_w_45⟩
    · obtain ⟨x_, hx_⟩ := hall b q_; exact ⟨x_, by rw [ew_46]; exact (wset_ne _ (w_neN hx_ hq_30)).trans hx_⟩
  refine h_putF X hnm hR hL hF_a_w_45 (Nat.succ_ne_zero a) rfl in_X10 tyX10_ok nmX10 30 (by decide) q2971 rfl rfl rfl rfl (Nat.le_of_ble_eq_true rfl) dX10_init_106 (fun w_47 ew_48 H locs hR hL => ?_)
  have hFr : Fr (fun r => r = a + 1) w w_47 := by rw [ew_48]; exact hFr.set hF_a_w_45 (by first | rfl | omega) _
  have hOl : Ol w w_47 := by rw [ew_48]; exact hOl.set _ _
  have hF_a_w_47 : w_47 a = some (a + 1, oE 1 [.int (iI (0)), .ref q_1, .int (iI (0)), .ref q_3, .ref q_4, .ref q_5, .ref q_6, .ref q_7, .ref q_8, .int (iI (0)), .int (iI (0)), .int (iI (0)), .int (iI (0)), .int (iI (0)), .ref q_14, .int (iI (0)), .int (iI (0)), .int (iI (0)), .int (iI (0)), .int (iI (0)), .int (iI (0)), .int (iI (0)), .int (iI (-1)), .ref q_23, .int (iI (0)), .int (iI (-1)), .long (lI (0)), .long (lI (0)), .ref q_28, .int (iI (0)), .ref q_30, .null, .int (iI (0))]) := by rw [ew_48]; exact wset_eq _ _ _
  have hF_q_30_w_47 : w_47 q_30 = some (a + 1, iE G 0 120 (fun _ => 0)) := by rw [ew_48]; exact (wset_ne _ (w_ne hF_q_30_w_45 hF_a_w_45 (by intro h; cases h))).trans hF_q_30_w_45
  have hF_q_28_w_47 : w_47 q_28 = some (a + 1, lE G 180 (fun _ => 0)) := by rw [ew_48]; exact (wset_ne _ (w_ne hF_q_28_w_45 hF_a_w_45 (by intro h; cases h))).trans hF_q_28_w_45
  have hF_q_23_w_47 : w_47 q_23 = some (a + 1, lE G 5 (fun _ => 0)) := by rw [ew_48]; exact (wset_ne _ (w_ne hF_q_23_w_45 hF_a_w_45 (by intro h; cases h))).trans hF_q_23_w_45
  have hF_q_14_w_47 : w_47 q_14 = some (a + 1, iE G 0 800 (fun _ => 0)) := by rw [ew_48]; exact (wset_ne _ (w_ne hF_q_14_w_45 hF_a_w_45 (by intro h; cases h))).trans hF_q_14_w_45
  have hF_q_8_w_47 : w_47 q_8 = some (a + 1, lE G 4848 (fun _ => 0)) := by rw [ew_48]; exact (wset_ne _ (w_ne hF_q_8_w_45 hF_a_w_45 (by intro h; cases h))).trans hF_q_8_w_45
  have hF_q_7_w_47 : w_47 q_7 = some (a + 1, lE G 606 (fun _ => 0)) := by rw [ew_48]; exact (wset_ne _ (w_ne hF_q_7_w_45 hF_a_w_45 (by intro h; cases h))).trans hF_q_7_w_45
  have hF_q_6_w_47 : w_47 q_6 = some (a + 1, lE G 606 (fun _ => 0)) := by rw [ew_48]; exact (wset_ne _ (w_ne hF_q_6_w_45 hF_a_w_45 (by intro h; cases h))).trans hF_q_6_w_45
  have hF_q_5_w_47 : w_47 q_5 = some (a + 1, lE G 606 (fun _ => 0)) := by rw [ew_48]; exact (wset_ne _ (w_ne hF_q_5_w_45 hF_a_w_45 (by intro h; cases h))).trans hF_q_5_w_45
  have hF_q_4_w_47 : w_47 q_4 = some (a + 1, lE G 606 (fun _ => 0)) := by rw [ew_48]; exact (wset_ne _ (w_ne hF_q_4_w_45 hF_a_w_45 (by intro h; cases h))).trans hF_q_4_w_45
  have hF_q_3_w_47 : w_47 q_3 = some (a + 1, lE G 606 (fun _ => 0)) := by rw [ew_48]; exact (wset_ne _ (w_ne hF_q_3_w_45 hF_a_w_45 (by intro h; cases h))).trans hF_q_3_w_45
  have hF_q_1_w_47 : w_47 q_1 = some (a + 1, iE G 0 8 (fun _ => 0)) := by rw [ew_48]; exact (wset_ne _ (w_ne hF_q_1_w_45 hF_a_w_45 (by intro h; cases h))).trans hF_q_1_w_45
  have hall : ∀ b ∈ [q_30, q_28, q_23, q_14, q_8, q_7, q_6, q_5, q_4, q_3, q_1], ∃ x, w_47 b = some x := fun b hb_ => by obtain ⟨x_, hx_⟩ := hall b hb_; by_cases q_ : b = a; exact ⟨_, by rw [q_]; exact hF_a_w_47⟩; exact ⟨x_, by rw [ew_48]; exact (wset_ne _ q_).trans hx_⟩
  refine lv_aload_n hx hb dX10_init_109 rfl (lv_at hl 0 rfl) ?_
  refine h_bipush hx hb dX10_init_110 (by decide) ?_
  refine h_newI (atype := .int) X hR 0 (fun q => a + 1) rfl (fun C h => by cases h) rfl q634 6 rfl (by omega) (by decide) (by decide) (by decide) dX10_init_112 (fun q_31 hq_31 w_49 ew_50 H hR => ?_)
  have hFr : Fr (fun r => r = a + 1) w w_49 := by rw [ew_50]; exact hFr.new hq_31 _
  have hOl : Ol w w_49 := by rw [ew_50]; exact hOl.set _ _
  have hF_q_31_w_49 : w_49 q_31 = some (a + 1, iE G 0 6 (fun _ => 0)) := by rw [ew_50]; exact wset_eq _ _ _
  have hF_a_w_49 : w_49 a = some (a + 1, oE 1 [.int (iI (0)), .ref q_1, .int (iI (0)), .ref q_3, .ref q_4, .ref q_5, .ref q_6, .ref q_7, .ref q_8, .int (iI (0)), .int (iI (0)), .int (iI (0)), .int (iI (0)), .int (iI (0)), .ref q_14, .int (iI (0)), .int (iI (0)), .int (iI (0)), .int (iI (0)), .int (iI (0)), .int (iI (0)), .int (iI (0)), .int (iI (-1)), .ref q_23, .int (iI (0)), .int (iI (-1)), .long (lI (0)), .long (lI (0)), .ref q_28, .int (iI (0)), .ref q_30, .null, .int (iI (0))]) := by rw [ew_50]; exact (wset_ne _ (w_neN hF_a_w_47 hq_31)).trans hF_a_w_47
  have hF_q_30_w_49 : w_49 q_30 = some (a + 1, iE G 0 120 (fun _ => 0)) := by rw [ew_50]; exact (wset_ne _ (w_neN hF_q_30_w_47 hq_31)).trans hF_q_30_w_47
  have hF_q_28_w_49 : w_49 q_28 = some (a + 1, lE G 180 (fun _ => 0)) := by rw [ew_50]; exact (wset_ne _ (w_neN hF_q_28_w_47 hq_31)).trans hF_q_28_w_47
  have hF_q_23_w_49 : w_49 q_23 = some (a + 1, lE G 5 (fun _ => 0)) := by rw [ew_50]; exact (wset_ne _ (w_neN hF_q_23_w_47 hq_31)).trans hF_q_23_w_47
  have hF_q_14_w_49 : w_49 q_14 = some (a + 1, iE G 0 800 (fun _ => 0)) := by rw [ew_50]; exact (wset_ne _ (w_neN hF_q_14_w_47 hq_31)).trans hF_q_14_w_47
  have hF_q_8_w_49 : w_49 q_8 = some (a + 1, lE G 4848 (fun _ => 0)) := by rw [ew_50]; exact (wset_ne _ (w_neN hF_q_8_w_47 hq_31)).trans hF_q_8_w_47
  have hF_q_7_w_49 : w_49 q_7 = some (a + 1, lE G 606 (fun _ => 0)) := by rw [ew_50]; exact (wset_ne _ (w_neN hF_q_7_w_47 hq_31)).trans hF_q_7_w_47
  have hF_q_6_w_49 : w_49 q_6 = some (a + 1, lE G 606 (fun _ => 0)) := by rw [ew_50]; exact (wset_ne _ (w_neN hF_q_6_w_47 hq_31)).trans hF_q_6_w_47
  have hF_q_5_w_49 : w_49 q_5 = some (a + 1, lE G 606 (fun _ => 0)) := by rw [ew_50]; exact (wset_ne _ (w_neN hF_q_5_w_47 hq_31)).trans hF_q_5_w_47
  have hF_q_4_w_49 : w_49 q_4 = some (a + 1, lE G 606 (fun _ => 0)) := by rw [ew_50]; exact (wset_ne _ (w_neN hF_q_4_w_47 hq_31)).trans hF_q_4_w_47
  have hF_q_3_w_49 : w_49 q_3 = some (a + 1, lE G 606 (fun _ => 0)) := by rw [ew_50]; exact (wset_ne _ (w_neN hF_q_3_w_47 hq_31)).trans hF_q_3_w_47
  have hF_q_1_w_49 : w_49 q_1 = some (a + 1, iE G 0 8 (fun _ => 0)) := by rw [ew_50]; exact (wset_ne _ (w_neN hF_q_1_w_47 hq_31)).trans hF_q_1_w_47
  have hnm_31 : q_31 ∉ [q_30, q_28, q_23, q_14, q_8, q_7, q_6, q_5, q_4, q_3, q_1] := fun hm => by obtain ⟨x_, hx_⟩ := hall _ hm; rw [hq_31] at hx_; cases hx_
  have hnd : [q_31, q_30, q_28, q_23, q_14, q_8, q_7, q_6, q_5, q_4, q_3, q_1].Nodup := List.nodup_cons.mpr ⟨hnm_31, hnd⟩
  have hall : ∀ b ∈ [q_31, q_30, q_28, q_23, q_14, q_8, q_7, q_6, q_5, q_4, q_3, q_1], ∃ x, w_49 b = some x := fun b hb_ => by
    rcases List.mem_cons.mp hb_ with q_ | q_
    · exact ⟨_, by rw [q_]; exact hF_q_31_w_49⟩
    · obtain ⟨x_, hx_⟩ := hall b q_; exact ⟨x_, by rw [ew_50]; exact (wset_ne _ (w_neN hx_ hq_31)).trans hx_⟩
  refine h_putF X hnm hR hL hF_a_w_49 (Nat.succ_ne_zero a) rfl in_X10 tyX10_ok nmX10 31 (by decide) q2972 rfl rfl rfl rfl (Nat.le_of_ble_eq_true rfl) dX10_init_114 (fun w_51 ew_52 H locs hR hL => ?_)
  have hFr : Fr (fun r => r = a + 1) w w_51 := by rw [ew_52]; exact hFr.set hF_a_w_49 (by first | rfl | omega) _
  have hOl : Ol w w_51 := by rw [ew_52]; exact hOl.set _ _
  have hF_a_w_51 : w_51 a = some (a + 1, oE 1 [.int (iI (0)), .ref q_1, .int (iI (0)), .ref q_3, .ref q_4, .ref q_5, .ref q_6, .ref q_7, .ref q_8, .int (iI (0)), .int (iI (0)), .int (iI (0)), .int (iI (0)), .int (iI (0)), .ref q_14, .int (iI (0)), .int (iI (0)), .int (iI (0)), .int (iI (0)), .int (iI (0)), .int (iI (0)), .int (iI (0)), .int (iI (-1)), .ref q_23, .int (iI (0)), .int (iI (-1)), .long (lI (0)), .long (lI (0)), .ref q_28, .int (iI (0)), .ref q_30, .ref q_31, .int (iI (0))]) := by rw [ew_52]; exact wset_eq _ _ _
  have hF_q_31_w_51 : w_51 q_31 = some (a + 1, iE G 0 6 (fun _ => 0)) := by rw [ew_52]; exact (wset_ne _ (w_ne hF_q_31_w_49 hF_a_w_49 (by intro h; cases h))).trans hF_q_31_w_49
  have hF_q_30_w_51 : w_51 q_30 = some (a + 1, iE G 0 120 (fun _ => 0)) := by rw [ew_52]; exact (wset_ne _ (w_ne hF_q_30_w_49 hF_a_w_49 (by intro h; cases h))).trans hF_q_30_w_49
  have hF_q_28_w_51 : w_51 q_28 = some (a + 1, lE G 180 (fun _ => 0)) := by rw [ew_52]; exact (wset_ne _ (w_ne hF_q_28_w_49 hF_a_w_49 (by intro h; cases h))).trans hF_q_28_w_49
  have hF_q_23_w_51 : w_51 q_23 = some (a + 1, lE G 5 (fun _ => 0)) := by rw [ew_52]; exact (wset_ne _ (w_ne hF_q_23_w_49 hF_a_w_49 (by intro h; cases h))).trans hF_q_23_w_49
  have hF_q_14_w_51 : w_51 q_14 = some (a + 1, iE G 0 800 (fun _ => 0)) := by rw [ew_52]; exact (wset_ne _ (w_ne hF_q_14_w_49 hF_a_w_49 (by intro h; cases h))).trans hF_q_14_w_49
  have hF_q_8_w_51 : w_51 q_8 = some (a + 1, lE G 4848 (fun _ => 0)) := by rw [ew_52]; exact (wset_ne _ (w_ne hF_q_8_w_49 hF_a_w_49 (by intro h; cases h))).trans hF_q_8_w_49
  have hF_q_7_w_51 : w_51 q_7 = some (a + 1, lE G 606 (fun _ => 0)) := by rw [ew_52]; exact (wset_ne _ (w_ne hF_q_7_w_49 hF_a_w_49 (by intro h; cases h))).trans hF_q_7_w_49
  have hF_q_6_w_51 : w_51 q_6 = some (a + 1, lE G 606 (fun _ => 0)) := by rw [ew_52]; exact (wset_ne _ (w_ne hF_q_6_w_49 hF_a_w_49 (by intro h; cases h))).trans hF_q_6_w_49
  have hF_q_5_w_51 : w_51 q_5 = some (a + 1, lE G 606 (fun _ => 0)) := by rw [ew_52]; exact (wset_ne _ (w_ne hF_q_5_w_49 hF_a_w_49 (by intro h; cases h))).trans hF_q_5_w_49
  have hF_q_4_w_51 : w_51 q_4 = some (a + 1, lE G 606 (fun _ => 0)) := by rw [ew_52]; exact (wset_ne _ (w_ne hF_q_4_w_49 hF_a_w_49 (by intro h; cases h))).trans hF_q_4_w_49
  have hF_q_3_w_51 : w_51 q_3 = some (a + 1, lE G 606 (fun _ => 0)) := by rw [ew_52]; exact (wset_ne _ (w_ne hF_q_3_w_49 hF_a_w_49 (by intro h; cases h))).trans hF_q_3_w_49
  have hF_q_1_w_51 : w_51 q_1 = some (a + 1, iE G 0 8 (fun _ => 0)) := by rw [ew_52]; exact (wset_ne _ (w_ne hF_q_1_w_49 hF_a_w_49 (by intro h; cases h))).trans hF_q_1_w_49
  have hall : ∀ b ∈ [q_31, q_30, q_28, q_23, q_14, q_8, q_7, q_6, q_5, q_4, q_3, q_1], ∃ x, w_51 b = some x := fun b hb_ => by obtain ⟨x_, hx_⟩ := hall b hb_; by_cases q_ : b = a; exact ⟨_, by rw [q_]; exact hF_a_w_51⟩; exact ⟨x_, by rw [ew_52]; exact (wset_ne _ q_).trans hx_⟩
  obtain ⟨ad, had⟩ : ∃ ad : Nat → Nat, ad = fun k => [q_31, q_30, q_28, q_23, q_14, q_8, q_7, q_6, q_5, q_4, q_3, q_1].getD (twPos k) 0 := ⟨_, rfl⟩
  have ad_1 : ad 1 = q_1 := by rw [had]; rfl
  have ad_3 : ad 3 = q_3 := by rw [had]; rfl
  have ad_4 : ad 4 = q_4 := by rw [had]; rfl
  have ad_5 : ad 5 = q_5 := by rw [had]; rfl
  have ad_6 : ad 6 = q_6 := by rw [had]; rfl
  have ad_7 : ad 7 = q_7 := by rw [had]; rfl
  have ad_8 : ad 8 = q_8 := by rw [had]; rfl
  have ad_14 : ad 14 = q_14 := by rw [had]; rfl
  have ad_23 : ad 23 = q_23 := by rw [had]; rfl
  have ad_28 : ad 28 = q_28 := by rw [had]; rfl
  have ad_30 : ad 30 = q_30 := by rw [had]; rfl
  have ad_31 : ad 31 = q_31 := by rw [had]; rfl
  have hT : TwS G w w_51 a ad tw00 := by
    refine ⟨⟨?_, fun k hk => ?_, fun k hk => ?_, fun i hi j hj e_ => ?_, tw00_r⟩, hFr, hOl⟩
    · refine hF_a_w_51.trans ?_
      unfold twF
      rw [ad_1, ad_3, ad_4, ad_5, ad_6, ad_7, ad_8, ad_14, ad_23, ad_28, ad_30, ad_31]
      rfl
    · rcases (show k = 1 ∨ k = 14 ∨ k = 30 ∨ k = 31 by simpa [twIA] using hk) with q_ | q_ | q_ | q_
      · rw [q_, ad_1]; exact hF_q_1_w_51
      · rw [q_, ad_14]; exact hF_q_14_w_51
      · rw [q_, ad_30]; exact hF_q_30_w_51
      · rw [q_, ad_31]; exact hF_q_31_w_51
    · rcases (show k = 3 ∨ k = 4 ∨ k = 5 ∨ k = 6 ∨ k = 7 ∨ k = 8 ∨ k = 23 ∨ k = 28 by simpa [twLA] using hk) with q_ | q_ | q_ | q_ | q_ | q_ | q_ | q_
      · rw [q_, ad_3]; exact hF_q_3_w_51
      · rw [q_, ad_4]; exact hF_q_4_w_51
      · rw [q_, ad_5]; exact hF_q_5_w_51
      · rw [q_, ad_6]; exact hF_q_6_w_51
      · rw [q_, ad_7]; exact hF_q_7_w_51
      · rw [q_, ad_8]; exact hF_q_8_w_51
      · rw [q_, ad_23]; exact hF_q_23_w_51
      · rw [q_, ad_28]; exact hF_q_28_w_51
    · rw [had] at e_; exact twPos_inj i hi j hj (nodup_inj hnd (twPos_lt i hi) (twPos_lt j hj) e_)
  clear hFr hOl hall
  obtain ⟨t, ht0⟩ : ∃ t_ : Tw, t_ = tw00 := ⟨_, rfl⟩
  rw [← ht0] at hT
  have hTb := hT.1
  refine h_ldcS X 23 rfl q2723 dX10_init_117 ?_
  have hlx : (kkTx 23).length < 800 := by decide
  refine lv_astore_n (lv' := [(1, .ref (gC G 23)), (0, .ref a)]) hx hb dX10_init_119 rfl hl (by decide) rfl (fun ls hl => ?_)
  refine h_iconst hx hb dX10_init_120 ?_
  refine lv_istore_n (lv' := [(2, .int (iI (0))), (1, .ref (gC G 23)), (0, .ref a)]) hx hb dX10_init_121 rfl hl (by decide) rfl (fun ls hl => ?_)
  have LOOP_55 : ∀ (N_ : Nat) (k : Nat) (t_53 : Tw) (w_54 : Wd), (k ≤ (kkTx 23).length) → (TwS G w w_54 a ad t_53) → (TwE [14] t t_53) → (∀ j, j < k → t_53.2 14 j = (kkTx 23).getD j 0) → ((kkTx 23).length - k) < N_ → ∀ (H : Heap) (locs : List Loc) (ls : Array Slot), Rp G w_54 H → LK G locs → lv_has ls 3 [(0, .ref a), (1, .ref (gC G 23)), (2, .int (iI ((k : Int))))] → W p9 l e9 (rmk 12 13 8997) s9 m9 a9 b9 meth9 c9 H locs 12 8997 (MQ b9 (QV G (fun w_ => ∃ (ad : Nat → Nat) (t_ : Tw), TwS G w w_ a ad t_ ∧ SysIs t_ sys0 ∧ t_.1 0 = 0 ∧ t_.1 22 = errP (rText tx0).1 ∧ t_.1 15 = 0 ∧ t_.1 13 = 0 ∧ (t_.1 11 = 0 ∧ t_.1 25 = -1 ∧ t_.1 32 = 0) ∧ CelR (t_.2 28) ∧ BfAt t_ tx0)) a9 s9 13 8997 (frG G)) (F0 m9 122 ls []) := by
    intro N_
    induction N_ with
    | zero => intro _ _ _ _ _ _ _ h_; exact absurd h_ (Nat.not_lt_zero _)
    | succ N_ ih_ =>
      intro k t_53 w_54 hk hT hE_t_53 hbf hN_ H locs ls hR hL hl
      have ih_55 := ih_
      clear ih_
      refine lv_iload_n hx hb dX10_init_122 rfl (lv_at hl 2 rfl) ?_
      refine lv_aload_n hx hb dX10_init_123 rfl (lv_at hl 1 rfl) ?_
      -- call java/lang/String.length
      refine h_kIp (h_runV X hR (s_length l G w_54 (gC G 23) (kkTx 23) (StrAt.con hR X.2 23 (by decide) (by decide) (by decide))) pn_yJ10_length ((StrAt.con hR X.2 23 (by decide) (by decide) (by decide)).c) q2724 q373 q374 q132 q375 ⟨by decide, by decide⟩ hl.1 (Nat.le_of_ble_eq_true rfl) dX10_init_124 ⟨by omega, by omega⟩) hL (fun H locs hR hL => ?_)
      refine h_icmp_ge hx hb 147 dX10_init_127 (by decide) (by omega) (by omega) (fun c_59 => ?_) (fun c_59 => ?_)
      ·
        refine lv_aload_n hx hb dX10_init_147 rfl (lv_at hl 0 rfl) ?_
        refine lv_aload_n hx hb dX10_init_148 rfl (lv_at hl 1 rfl) ?_
        -- call java/lang/String.length
        refine h_kIp (h_runV X hR (s_length l G w_54 (gC G 23) (kkTx 23) (StrAt.con hR X.2 23 (by decide) (by decide) (by decide))) pn_yJ10_length ((StrAt.con hR X.2 23 (by decide) (by decide) (by decide)).c) q2724 q373 q374 q132 q375 ⟨by decide, by decide⟩ hl.1 (Nat.le_of_ble_eq_true rfl) dX10_init_149 ⟨by omega, by omega⟩) hL (fun H locs hR hL => ?_)
        refine tw_puti X hR hL hT 15 (by decide) q2956 rfl rfl rfl twF_s15 (by omega) dX10_init_152 (fun t_63 et_64 w_65 hT H locs hR hL => ?_)
        have hE_t_63 := TwE.put et_64
        have hv_t_63 := tput_v et_64
        refine lv_aload_n hx hb dX10_init_155 rfl (lv_at hl 0 rfl) ?_
        refine lv_aload_n hx hb dX10_init_156 rfl (lv_at hl 0 rfl) ?_
        refine tw_get X hR hT 15 (by decide) q2956 (v := .int (iI (((kkTx 23).length : Int)))) (congrArg (fun z => some (Value.int (iI z))) (hv_t_63)) dX10_init_157 ?_
        -- call SpokenMarksModel.load
        refine h_kI (h_runV X hR (m_loadI l G w_65 a ad t_63 hT.1 (((kkTx 23).length : Int)) tx0 ⟨by omega, by omega⟩ ⟨tx0_w, fun j hj => (congrFun (((hE_t_63 14 (by decide)).2)) j).trans (hbf j (by have : j < (kkTx 23).length := hj; omega))⟩ (hv_t_63) ⟨by omega, Int.le_refl _⟩ tx0_lo) pn_yX10_load (hasC.of hT.1.ob rfl) q2726 q2727 q2728 q161 q2729 ⟨by decide, by decide⟩ hl.1 (Nat.le_of_ble_eq_true rfl) dX10_init_160 ⟨by omega, by omega⟩) hL (fun z_66 w_67 hp_68 H locs hR hL => ?_)
        obtain ⟨rfl, t_69, hT2, hE_t_69, et_70⟩ := hp_68
        have hT := hT.tr hT2
        clear hT2
        refine lv_istore_n (lv' := [(2, .int (iI ((cN (lst tx0 (((kkTx 23).length : Int))).2 : Int)))), (0, .ref a), (1, .ref (gC G 23))]) hx hb dX10_init_163 rfl hl (by decide) rfl (fun ls hl => ?_)
        exact h_vreturn hx hb hlk hret hR hL ⟨ad, t_69, hT, ⟨by show RowIs _ (rText tx0).2; rw [← tx0_l]; exact et_70.2.2.2.1.1, by rw [et_70.2.2.2.2.1]; exact UnIs.nil, ((((TwE.tr (S2 := [0, 1, 2, 3, 6, 12, 13, 14, 15, 16, 17, 18, 19, 20, 21, 22, 23, 24]) (TwE.tr (S2 := [0, 1, 2, 3, 6, 12, 13, 14, 15, 16, 17, 18, 19, 20, 21, 22, 23, 24]) (TwE.tr (S2 := [0, 1, 2, 3, 6, 12, 13, 14, 15, 16, 17, 18, 19, 20, 21, 22, 23, 24]) (TwE.rf : TwE [] t t) hE_t_53 rfl rfl) hE_t_63 rfl rfl) hE_t_69 rfl rfl)) 9 (by decide)).1.trans (by rw [ht0]; rfl)), ((((TwE.tr (S2 := [0, 1, 2, 3, 6, 12, 13, 14, 15, 16, 17, 18, 19, 20, 21, 22, 23, 24]) (TwE.tr (S2 := [0, 1, 2, 3, 6, 12, 13, 14, 15, 16, 17, 18, 19, 20, 21, 22, 23, 24]) (TwE.tr (S2 := [0, 1, 2, 3, 6, 12, 13, 14, 15, 16, 17, 18, 19, 20, 21, 22, 23, 24]) (TwE.rf : TwE [] t t) hE_t_53 rfl rfl) hE_t_63 rfl rfl) hE_t_69 rfl rfl)) 10 (by decide)).1.trans (by rw [ht0]; rfl))⟩, et_70.1, by rw [← tx0_l]; exact et_70.2.1, et_70.2.2.1, et_70.2.2.2.2.2, ⟨((((TwE.tr (S2 := [0, 1, 2, 3, 6, 12, 13, 14, 15, 16, 17, 18, 19, 20, 21, 22, 23, 24]) (TwE.tr (S2 := [0, 1, 2, 3, 6, 12, 13, 14, 15, 16, 17, 18, 19, 20, 21, 22, 23, 24]) (TwE.tr (S2 := [0, 1, 2, 3, 6, 12, 13, 14, 15, 16, 17, 18, 19, 20, 21, 22, 23, 24]) (TwE.rf : TwE [] t t) hE_t_53 rfl rfl) hE_t_63 rfl rfl) hE_t_69 rfl rfl)) 11 (by decide)).1.trans (by rw [ht0]; rfl)), ((((TwE.tr (S2 := [0, 1, 2, 3, 6, 12, 13, 14, 15, 16, 17, 18, 19, 20, 21, 22, 23, 24]) (TwE.tr (S2 := [0, 1, 2, 3, 6, 12, 13, 14, 15, 16, 17, 18, 19, 20, 21, 22, 23, 24]) (TwE.tr (S2 := [0, 1, 2, 3, 6, 12, 13, 14, 15, 16, 17, 18, 19, 20, 21, 22, 23, 24]) (TwE.rf : TwE [] t t) hE_t_53 rfl rfl) hE_t_63 rfl rfl) hE_t_69 rfl rfl)) 25 (by decide)).1.trans (by rw [ht0]; rfl)), ((((TwE.tr (S2 := [0, 1, 2, 3, 6, 12, 13, 14, 15, 16, 17, 18, 19, 20, 21, 22, 23, 24]) (TwE.tr (S2 := [0, 1, 2, 3, 6, 12, 13, 14, 15, 16, 17, 18, 19, 20, 21, 22, 23, 24]) (TwE.tr (S2 := [0, 1, 2, 3, 6, 12, 13, 14, 15, 16, 17, 18, 19, 20, 21, 22, 23, 24]) (TwE.rf : TwE [] t t) hE_t_53 rfl rfl) hE_t_63 rfl rfl) hE_t_69 rfl rfl)) 32 (by decide)).1.trans (by rw [ht0]; rfl))⟩, by rw [((((TwE.tr (S2 := [0, 1, 2, 3, 6, 12, 13, 14, 15, 16, 17, 18, 19, 20, 21, 22, 23, 24]) (TwE.tr (S2 := [0, 1, 2, 3, 6, 12, 13, 14, 15, 16, 17, 18, 19, 20, 21, 22, 23, 24]) (TwE.tr (S2 := [0, 1, 2, 3, 6, 12, 13, 14, 15, 16, 17, 18, 19, 20, 21, 22, 23, 24]) (TwE.rf : TwE [] t t) hE_t_53 rfl rfl) hE_t_63 rfl rfl) hE_t_69 rfl rfl)) 28 (by decide)).2.trans (by rw [ht0]))]; exact fun k => (show R32 (0 : Int) ∧ R32 (0 : Int) from ⟨⟨by decide, by decide⟩, by decide, by decide⟩), ⟨tx0_w, fun j hj => (congrFun ((((hE_t_69 14 (by decide)).2).trans (hE_t_63 14 (by decide)).2)) j).trans (hbf j (by have : j < (kkTx 23).length := hj; omega))⟩⟩ (by omega) (by omega) rfl rfl dX10_init_164
      ·
        refine lv_aload_n hx hb dX10_init_130 rfl (lv_at hl 0 rfl) ?_
        refine tw_get X hR hT 14 (by decide) q2955 rfl dX10_init_131 ?_
        refine lv_iload_n hx hb dX10_init_134 rfl (lv_at hl 2 rfl) ?_
        refine lv_aload_n hx hb dX10_init_135 rfl (lv_at hl 1 rfl) ?_
        refine lv_iload_n hx hb dX10_init_136 rfl (lv_at hl 2 rfl) ?_
        -- call java/lang/String.charAt
        refine h_kIp (h_runV X hR (s_charAt l G w_54 (gC G 23) (kkTx 23) (StrAt.con hR X.2 23 (by decide) (by decide) (by decide)) k (by omega)) pn_yJ10_charAt ((StrAt.con hR X.2 23 (by decide) (by decide) (by decide)).c) q2725 q1459 q1460 q132 q1461 ⟨by decide, by decide⟩ hl.1 (Nat.le_of_ble_eq_true rfl) dX10_init_137 ⟨by omega, by omega⟩) hL (fun H locs hR hL => ?_)
        have hcr_ := (StrAt.con hR X.2 23 (by decide) (by decide) (by decide)).at (j := k) (by omega)
        refine tw_iast X hR hL hT (k := 14) (by decide) k (by omega) (by show _ < _; simp only [twN]; omega) (by omega) dX10_init_140 (fun t_74 et_75 w_76 hT H locs hR hL => ?_)
        have hE_t_74 := TwE.ast et_75
        have hv_t_74 := tast_v et_75
        refine h_iinc (lv' := [(2, .int (iI ((k : Int) + 1))), (0, .ref a), (1, .ref (gC G 23))]) hx hb dX10_init_141 hl (k := 2) rfl (by decide) rfl (fun ls hl => ?_)
        refine lv_goto (tgt := 122) hx hb dX10_init_144 (by decide) ?_
        exact ih_55 (k + 1) t_74 w_76 (by omega) hT (TwE.tr (S2 := [14]) (TwE.tr (S2 := [14]) (TwE.rf : TwE [] t t) hE_t_53 rfl rfl) hE_t_74 rfl rfl) (fun j hj => by rw [tast_v et_75]; unfold zset; by_cases q : j = k; (rw [if_pos q, q]); (rw [if_neg q]; exact hbf j (by omega))) (by omega) _ _ _ hR hL (lv_sub hl [1, 2, 0] rfl)
  exact LOOP_55 _ 0 t w_51 (by omega) hT (TwE.rf : TwE [14] t t) (fun j hj => absurd hj (Nat.not_lt_zero _)) (Nat.lt_succ_self _) _ _ _ hR hL (lv_sub hl [2, 1, 0] rfl)
