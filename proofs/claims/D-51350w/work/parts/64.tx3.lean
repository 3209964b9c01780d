/-! the twin: a text's rules and marks are read -/
set_option maxRecDepth 100000
def rRlQ (T : List Int) (s : Sc) : Rd × List Int := rLook T (.inr (tok T (scA s)))
def rRl3 (T : List Int) (s : Sc) (c : Cat) : Rd := if wrC (rRlQ T s).1 = 0 ∧ rlF (cRl c) (rRlQ T s).2 ≠ -1 then rErr 4 (rRlQ T s).1 else (rRlQ T s).1
def rRlW (T : List Int) (s : Sc) (c : Cat) : Rd × List Int := rWord T (rMust T 4 (rNext T (rRl3 T s c)))
def rRl7 (T : List Int) (s : Sc) (c : Cat) : Rd := rMust T 3 (rRlW T s c).1
def rRule (T : List Int) (s : Sc) (c : Cat) : Rd × Cat := if (cRl c).length = 8 then (.inl (scB s, 5), c) else (rRl7 T s c, if wrC (rRl7 T s c) = 0 then (syA c (rRlQ T s).2 (rRlW T s c).2).1 else c)
theorem rErr_inl (k : Int) (e : Rd) : ∃ x, rErr k e = .inl x := by cases e <;> exact ⟨_, rfl⟩
theorem rNext_ok {T : List Int} {e : Rd} {s : Sc} (h : rNext T e = .inr s) : ∃ s1, e = .inr s1 := by
  cases e with
  | inl x => cases h
  | inr s1 => exact ⟨s1, rfl⟩
theorem rWord_e {T : List Int} {e : Rd} {s : Sc} (h : (rWord T e).1 = .inr s) : ∃ s1, e = .inr s1 := by
  cases e with
  | inl x => cases h
  | inr s1 => exact ⟨s1, rfl⟩
theorem rRl7_ok {T : List Int} {s s7 : Sc} {c : Cat} (hW : ScW T s) (h : rRl7 T s c = .inr s7) : ((encR (rRlQ T s) = enc (rRlQ T s).2 ∧ Wrd (rRlQ T s).2 ∧ (rRlQ T s).2 ≠ []) ∧ encR (rLook T (rMust T 4 (rNext T (rRl3 T s c)))) = enc (rRlW T s c).2 ∧ Wrd (rRlW T s c).2 ∧ (rRlW T s c).2 ≠ []) ∧ rlF (cRl c) (rRlQ T s).2 = -1 := by
  obtain ⟨s6, h6⟩ := rMust_ok h
  obtain ⟨s5, h5⟩ := rWord_e h6
  obtain ⟨s4, h4⟩ := rMust_ok h5
  obtain ⟨s3, h3⟩ := rNext_ok h4
  have hn : ¬ (wrC (rRlQ T s).1 = 0 ∧ rlF (cRl c) (rRlQ T s).2 ≠ -1) := fun q => by
    unfold rRl3 at h3; rw [if_pos q] at h3
    obtain ⟨x, hx⟩ := rErr_inl 4 (rRlQ T s).1
    rw [hx] at h3; cases h3
  have e3 : rRl3 T s c = (rRlQ T s).1 := if_neg hn
  rw [e3] at h3
  have hw0 : wrC (rRlQ T s).1 = 0 := by rw [h3]; rfl
  obtain ⟨k1, k2⟩ := rLook_ok (T := T) (s := tok T (scA s)) hw0
  have hq : rRlQ T s = (.inr (tok T (scA s)), scL T (tok T (scA s))) := rLook_3 k1 k2
  have hWt := tok_w (T := T) (p := scA s) hW.2.1
  refine ⟨⟨⟨by rw [hq]; rfl, by rw [hq]; exact scL_w hWt k1 k2⟩, rWord_k ?_ h6⟩, Decidable.not_not.mp (fun z => hn ⟨hw0, z⟩)⟩
  refine rMust_w (rNext_w ?_)
  rw [e3, hq]
  exact RdW.tok hW.2.1
def isEq (e : Rd) : Bool := match e with
  | .inl _ => false
  | .inr s => decide (scK s = 4)
def rMkQ (T : List Int) (s : Sc) : Rd × List Prt := rParts T (.inr (tok T (scA s)))
def rMk3 (T : List Int) (s : Sc) (c : Cat) : Rd := if isEq (rMkQ T s).1 = true ∧ twinN c (rMkQ T s).2 ≠ -1 then rErr 4 (rMkQ T s).1 else (rMkQ T s).1
def rMk5 (T : List Int) (s : Sc) (c : Cat) : Rd × Int := rNum T 1 20 (rMust T 4 (rMk3 T s c))
def rMk6 (T : List Int) (s : Sc) (c : Cat) : Rd := rMust T 3 (rMk5 T s c).1
def rMark (T : List Int) (s : Sc) (c : Cat) : Rd × Cat := if cN c = 40 then (.inl (scB s, 5), c) else (rMk6 T s c, if wrC (rMk6 T s c) = 0 then cAdd c (rMkQ T s).2 (rMk5 T s c).2 else c)
theorem isEq_1 {s : Sc} : isEq (.inr s) = true ↔ scK s = 4 := by simp [isEq]
theorem isEq_0 {x : Nat × Int} : ¬ isEq (.inl x) = true := by simp [isEq]
theorem rNum_e {T : List Int} {lo hi : Int} {e : Rd} {s : Sc} (h : (rNum T lo hi e).1 = .inr s) : ∃ s1, e = .inr s1 := by
  cases e with
  | inl x => cases h
  | inr s1 => exact ⟨s1, rfl⟩
theorem rMust_k {T : List Int} {k : Int} {e : Rd} {s : Sc} (h : rMust T k e = .inr s) : ∃ s1, e = .inr s1 ∧ scK s1 = k := by
  cases e with
  | inl x => cases h
  | inr s1 =>
    refine ⟨s1, rfl, ?_⟩
    by_cases q : scK s1 = k
    · exact q
    · have e1 : rMust T k (.inr s1) = .inl (scB s1, 1) := if_neg q
      rw [e1] at h; cases h
theorem rMk6_ok {T : List Int} {s s6 : Sc} {c : Cat} (h : rMk6 T s c = .inr s6) : (∃ s2, (rMkQ T s).1 = .inr s2) ∧ twinN c (rMkQ T s).2 = -1 := by
  obtain ⟨s5, h5⟩ := rMust_ok h
  obtain ⟨s4, h4⟩ := rNum_e h5
  obtain ⟨s3, h3, hk⟩ := rMust_k h4
  have hn : ¬ (isEq (rMkQ T s).1 = true ∧ twinN c (rMkQ T s).2 ≠ -1) := fun q => by
    unfold rMk3 at h3; rw [if_pos q] at h3
    obtain ⟨x, hx⟩ := rErr_inl 4 (rMkQ T s).1
    rw [hx] at h3; cases h3
  have e3 : rMk3 T s c = (rMkQ T s).1 := if_neg hn
  rw [e3] at h3
  exact ⟨⟨s3, h3⟩, Decidable.not_not.mp (fun z => hn ⟨by rw [h3]; exact isEq_1.mpr hk, z⟩)⟩


set_option maxHeartbeats 4000000 in
set_option maxRecDepth 100000 in
/-- readsRule -/
theorem m_readsRule (l : Launch) (G : Gl) (w : Wd) (a : Nat) (ad : Nat → Nat) (t : Tw) (hT : TwAt G w a ad t)  (T : List Int) (s : Sc) (c0 : Cat) (hRd : RdAt t T (.inr s)) (hC : RowIs (t.2 3) c0) (hpd : PD (cMk c0)) (hac : ∀ k, k < 3 → cAc c0 k < 990000) : HM l yX10_readsRule cX10_readsRule 6 none 8 0 0 G [.ref a] w (QV G (fun w_ => ∃ t_ : Tw, TwS G w w_ a ad t_ ∧ TwE [1, 2, 3, 17, 18, 19, 20, 21, 22] t t_ ∧ RdAt t_ T (rRule T s c0).1 ∧ RowIs (t_.2 3) (rRule T s c0).2)) := by
  refine HM.mk (by decide +kernel) (Nat.le_of_ble_eq_true rfl) ?_
  intro p9 e9 s9 m9 a9 b9 meth9 c9 ls X hret hlk hnm hl H hR
  have hx := X.1.1
  have hb := X.1.2.1
  have hl : lv_has ls 6 [(0, .ref a)] := hl
  have hL : LK G [] := fun q h => absurd h List.not_mem_nil
  generalize ([] : List Loc) = locs at hL ⊢
  have hTb := hT
  have hT : TwS G w w a ad t := TwS.rf hT
  have hT8 := hRd.1.2.1.1
  have hW := hRd.2.2.2.2
  have hWa := hW.1
  have hWb := hW.2.1
  have hWk := hW.2.2.1
  have hn40 := hC.n40
  have hsh8 := hC.sh8
  have hn8 := hC.rl.2.2.1
  refine lv_aload_n hx hb dX10_readsRule_0 rfl (lv_at hl 0 rfl) ?_
  refine h_iconst hx hb dX10_readsRule_1 ?_
  -- call SpokenMarksModel.head
  refine h_kIp (h_runV X hR (m_head l G w a ad t hT.1 3 (by omega)) pn_yX10_head (hasC.of hT.1.ob rfl) q2789 q2791 qs44 q161 q2792 ⟨by decide, by decide⟩ hl.1 (Nat.le_of_ble_eq_true rfl) dX10_readsRule_2 ⟨by omega, by omega⟩) hL (fun H locs hR hL => ?_)
  refine W.eq (g2 := F0 m9 5 ls [.int (iI (((cRl c0).length : Int)))]) (congrArg (fun z_ : Int => F0 m9 5 ls [.int (iI (z_))]) (show (hd t 3 : Int) = ((cRl c0).length : Int) from (by exact hC.rl.1))) ?_
  refine h_bipush hx hb dX10_readsRule_5 (by decide) ?_
  refine h_icmp_ne hx hb 15 dX10_readsRule_7 (by decide) (by omega) (by omega) (fun c_8 => ?_) (fun c_8 => ?_)
  ·
    refine lv_aload_n hx hb dX10_readsRule_15 rfl (lv_at hl 0 rfl) ?_
    refine tw_get X hR hT 21 (by decide) q2962 (v := .int (iI (0))) (congrArg (fun z => some (Value.int (iI z))) (hRd.2.1)) dX10_readsRule_16 ?_
    refine h_if_eq hx hb 23 dX10_readsRule_19 (by decide) (by omega) (fun c_w0 => ?_) (fun c_w0 => ?_)
    ·
      refine lv_aload_n hx hb dX10_readsRule_23 rfl (lv_at hl 0 rfl) ?_
      -- call SpokenMarksModel.next
      refine h_kV (h_runV X hR (m_next l G w a ad t hT.1 T (scA s) (hRd.1.mv (TwE.rf : TwE [17, 18, 19, 20, 21, 22] t t) (by decide) (by decide)) (hRd.2.2.2.1.2.1) hWb) pn_yX10_next (hasC.of hT.1.ob rfl) q2744 q2746 qs35 q161 q2747 ⟨by decide, by decide⟩ hl.1 (Nat.le_of_ble_eq_true rfl) dX10_readsRule_24 ⟨by omega, by omega⟩) hL (fun w_5 hp_6 H locs hR hL => ?_)
      obtain ⟨t_7, hT2, hE_t_7, et_8⟩ := hp_6
      have hT := hT.tr hT2
      clear hT2
      have hRn := hRd.nx (TwE.tr (S2 := [17, 18, 19, 20]) (TwE.rf : TwE [] t t) hE_t_7 rfl rfl) (by decide) (by decide) (by decide) (by decide) et_8
      refine lv_aload_n hx hb dX10_readsRule_27 rfl (lv_at hl 0 rfl) ?_
      -- call SpokenMarksModel.wordHere
      refine h_kL (h_runV X hR (m_wordHere l G w_5 a ad t_7 hT.1 T ((.inr (tok T (scA s)))) hRn) pn_yX10_wordHere (hasC.of hT.1.ob rfl) q2793 q2795 qs45 q161 q2796 ⟨by decide, by decide⟩ hl.1 (Nat.le_of_ble_eq_true rfl) dX10_readsRule_28 ⟨by omega, by omega⟩) hL (fun z_9 w_10 hp_11 H locs hR hL => ?_)
      obtain ⟨rfl, t_12, hT2, hE_t_12, et_13⟩ := hp_11
      have hT := hT.tr hT2
      clear hT2
      have hRl : RdAt t_12 T (rRlQ T s).1 := et_13
      have hwl := hRl.wr9
      have her : 0 ≤ encR (rRlQ T s) ∧ encR (rRlQ T s) < 282430536481 := encR_r2 (RdW.tok hW.2.1)
      refine lv_lstore_n (lv' := [(1, .long (lI (encR (rLook T ((.inr (tok T (scA s)))))))), (0, .ref a)]) hx hb dX10_readsRule_31 rfl hl (by decide) rfl (fun ls hl => ?_)
      refine lv_aload_n hx hb dX10_readsRule_32 rfl (lv_at hl 1 rfl) ?_
      refine tw_get X hR hT 21 (by decide) q2962 (v := .int (iI (wrC (rRlQ T s).1))) (congrArg (fun z => some (Value.int (iI z))) (hRl.wr)) dX10_readsRule_33 ?_
      refine h_if_ne hx hb 53 dX10_readsRule_36 (by decide) ⟨by omega, by omega⟩ (fun c_q => ?_) (fun c_q => ?_)
      ·
        have he3 : rRl3 T s c0 = (rRlQ T s).1 := if_neg (fun q => c_q q.1)
        have hR3 : RdAt t_12 T (rRl3 T s c0) := by rw [he3]; exact hRl
        have hw3 : ¬ wrC (rRl3 T s c0) = 0 := by rw [he3]; exact c_q
        have hx3 := hR3.wr9
        refine lv_aload_n hx hb dX10_readsRule_53 rfl (lv_at hl 1 rfl) ?_
        refine tw_get X hR hT 21 (by decide) q2962 (v := .int (iI (wrC (rRl3 T s c0)))) (congrArg (fun z => some (Value.int (iI z))) (hR3.wr)) dX10_readsRule_54 ?_
        refine h_if_ne hx hb 64 dX10_readsRule_57 (by decide) (by omega) (fun c_3 => ?_) (fun c_3 => ?_)
        ·
          have hR4 : RdAt t_12 T (rNext T (rRl3 T s c0)) := by rw [rNext_err c_3]; exact hR3
          refine lv_aload_n hx hb dX10_readsRule_64 rfl (lv_at hl 1 rfl) ?_
          refine h_iconst hx hb dX10_readsRule_65 ?_
          -- call SpokenMarksModel.must
          refine h_kV (h_runV X hR (m_must l G w_10 a ad t_12 hT.1 4 T ((rNext T (rRl3 T s c0))) hR4 ⟨by decide, by decide⟩) pn_yX10_must (hasC.of hT.1.ob rfl) q2780 q2782 qs42 q161 q2783 ⟨by decide, by decide⟩ hl.1 (Nat.le_of_ble_eq_true rfl) dX10_readsRule_66 ⟨by omega, by omega⟩) hL (fun w_15 hp_16 H locs hR hL => ?_)
          obtain ⟨t_17, hT2, hE_t_17, et_18⟩ := hp_16
          have hT := hT.tr hT2
          clear hT2
          have hR5 := et_18
          refine lv_aload_n hx hb dX10_readsRule_69 rfl (lv_at hl 1 rfl) ?_
          -- call SpokenMarksModel.takesWord
          refine h_kL (h_runV X hR (m_takesWord l G w_15 a ad t_17 hT.1 T ((rMust T 4 (rNext T (rRl3 T s c0)))) hR5) pn_yX10_takesWord (hasC.of hT.1.ob rfl) q2811 q2813 qs49 q161 q2814 ⟨by decide, by decide⟩ hl.1 (Nat.le_of_ble_eq_true rfl) dX10_readsRule_70 ⟨by omega, by omega⟩) hL (fun z_19 w_20 hp_21 H locs hR hL => ?_)
          obtain ⟨rfl, t_22, hT2, hE_t_22, et_23⟩ := hp_21
          have hT := hT.tr hT2
          clear hT2
          have hR6 := et_23
          refine lv_lstore_n (lv' := [(3, .long (lI (encR (rLook T ((rMust T 4 (rNext T (rRl3 T s c0)))))))), (1, .long (lI (encR (rLook T ((.inr (tok T (scA s)))))))), (0, .ref a)]) hx hb dX10_readsRule_73 rfl hl (by decide) rfl (fun ls hl => ?_)
          refine lv_aload_n hx hb dX10_readsRule_74 rfl (lv_at hl 2 rfl) ?_
          refine h_iconst hx hb dX10_readsRule_75 ?_
          -- call SpokenMarksModel.must
          refine h_kV (h_runV X hR (m_must l G w_20 a ad t_22 hT.1 3 T ((rRlW T s c0).1) hR6 ⟨by decide, by decide⟩) pn_yX10_must (hasC.of hT.1.ob rfl) q2780 q2782 qs42 q161 q2783 ⟨by decide, by decide⟩ hl.1 (Nat.le_of_ble_eq_true rfl) dX10_readsRule_76 ⟨by omega, by omega⟩) hL (fun w_25 hp_26 H locs hR hL => ?_)
          obtain ⟨t_27, hT2, hE_t_27, et_28⟩ := hp_26
          have hT := hT.tr hT2
          clear hT2
          have hR7 : RdAt t_27 T (rRl7 T s c0) := et_28
          have hx7 := hR7.wr9
          refine lv_aload_n hx hb dX10_readsRule_79 rfl (lv_at hl 2 rfl) ?_
          refine tw_get X hR hT 21 (by decide) q2962 (v := .int (iI (wrC (rRl7 T s c0)))) (congrArg (fun z => some (Value.int (iI z))) (hR7.wr)) dX10_readsRule_80 ?_
          refine h_if_eq hx hb 87 dX10_readsRule_83 (by decide) ⟨by omega, by omega⟩ (fun c_7 => ?_) (fun c_7 => ?_)
          ·
            obtain ⟨s7, hs7⟩ := hR7.ok c_7
            obtain ⟨⟨⟨hE1, hE2⟩, hE3, hE4⟩, -⟩ := rRl7_ok hW hs7
            refine lv_aload_n hx hb dX10_readsRule_87 rfl (lv_at hl 2 rfl) ?_
            refine lv_lload_n hx hb dX10_readsRule_88 rfl (lv_at hl 1 rfl) ?_
            refine W.eq (g2 := F0 m9 89 ls [.long (lI (enc (rRlQ T s).2)), .ref a]) (congrArg (fun z_ : Int => F0 m9 89 ls [.long (lI (z_)), .ref a]) (show (encR (rLook T ((.inr (tok T (scA s))))) : Int) = enc (rRlQ T s).2 from (by exact hE1))) ?_
            refine lv_lload_n hx hb dX10_readsRule_89 rfl (lv_at hl 0 rfl) ?_
            refine W.eq (g2 := F0 m9 90 ls [.long (lI (enc (rRlW T s c0).2)), .long (lI (enc (rRlQ T s).2)), .ref a]) (congrArg (fun z_ : Int => F0 m9 90 ls [.long (lI (z_)), .long (lI (enc (rRlQ T s).2)), .ref a]) (show (encR (rLook T ((rMust T 4 (rNext T (rRl3 T s c0))))) : Int) = enc (rRlW T s c0).2 from (by exact hE3))) ?_
            -- call SpokenMarksModel.says
            refine h_kI (h_runV X hR (m_says l G w_25 a ad t_27 hT.1 c0 ((rRlQ T s).2) ((rRlW T s c0).2) (by rw [(((((hE_t_27 3 (by decide)).2).trans (hE_t_22 3 (by decide)).2).trans (hE_t_17 3 (by decide)).2).trans (hE_t_12 3 (by decide)).2).trans (hE_t_7 3 (by decide)).2]; exact hC) hE2 hE4 hpd hac) pn_yX10_says (hasC.of hT.1.ob rfl) q2815 q2817 qs50 q161 q2818 ⟨by decide, by decide⟩ hl.1 (Nat.le_of_ble_eq_true rfl) dX10_readsRule_90 ⟨by omega, by omega⟩) hL (fun z_29 w_30 hp_31 H locs hR hL => ?_)
            obtain ⟨rfl, t_32, hT2, hE_t_32, et_33⟩ := hp_31
            have hT := hT.tr hT2
            clear hT2
            refine lv_istore (lv' := [(5, .int (iI ((syA c0 ((rRlQ T s).2) ((rRlW T s c0).2)).2))), (3, .long (lI (encR (rLook T ((rMust T 4 (rNext T (rRl3 T s c0)))))))), (1, .long (lI (encR (rLook T ((.inr (tok T (scA s)))))))), (0, .ref a)]) hx hb dX10_readsRule_93 hl (by decide) rfl (fun ls hl => ?_)
            exact h_vreturn hx hb hlk hret hR hL ⟨t_32, hT, (TwE.tr (S2 := [1, 2, 3, 17, 18, 19, 20, 21, 22]) (TwE.tr (S2 := [1, 2, 3, 17, 18, 19, 20, 21, 22]) (TwE.tr (S2 := [1, 2, 3, 17, 18, 19, 20, 21, 22]) (TwE.tr (S2 := [1, 2, 3, 17, 18, 19, 20, 21, 22]) (TwE.tr (S2 := [1, 2, 3, 17, 18, 19, 20, 21, 22]) (TwE.tr (S2 := [1, 2, 3, 17, 18, 19, 20, 21, 22]) (TwE.rf : TwE [] t t) hE_t_7 rfl rfl) hE_t_12 rfl rfl) hE_t_17 rfl rfl) hE_t_22 rfl rfl) hE_t_27 rfl rfl) hE_t_32 rfl rfl), (by rw [rRule, if_neg (by omega), if_pos c_7]; exact ⟨(hR7.mv hE_t_32 (by decide) (by decide) (by decide) (by decide) (by decide) (by decide) (by decide) (by decide)), et_33⟩)⟩ (by omega) (by omega) rfl rfl dX10_readsRule_95
          ·
            exact h_vreturn hx hb hlk hret hR hL ⟨t_27, hT, (TwE.tr (S2 := [1, 2, 3, 17, 18, 19, 20, 21, 22]) (TwE.tr (S2 := [1, 2, 3, 17, 18, 19, 20, 21, 22]) (TwE.tr (S2 := [1, 2, 3, 17, 18, 19, 20, 21, 22]) (TwE.tr (S2 := [1, 2, 3, 17, 18, 19, 20, 21, 22]) (TwE.tr (S2 := [1, 2, 3, 17, 18, 19, 20, 21, 22]) (TwE.rf : TwE [] t t) hE_t_7 rfl rfl) hE_t_12 rfl rfl) hE_t_17 rfl rfl) hE_t_22 rfl rfl) hE_t_27 rfl rfl), (by rw [rRule, if_neg (by omega), if_neg c_7]; exact ⟨hR7, by rw [(((((hE_t_27 3 (by decide)).2).trans (hE_t_22 3 (by decide)).2).trans (hE_t_17 3 (by decide)).2).trans (hE_t_12 3 (by decide)).2).trans (hE_t_7 3 (by decide)).2]; exact hC⟩)⟩ (by omega) (by omega) rfl rfl dX10_readsRule_86
        ·
          exact absurd c_3 hw3
      ·
        obtain ⟨k1_, k2_⟩ := rLook_ok (T := T) (s := tok T (scA s)) c_q
        have hq_ : rRlQ T s = (.inr (tok T (scA s)), scL T (tok T (scA s))) := rLook_3 k1_ k2_
        have hqw : Wrd (rRlQ T s).2 := by rw [hq_]; exact (scL_w (tok_w hW.2.1) k1_ k2_).1
        have hqe : encR (rRlQ T s) = enc (rRlQ T s).2 := by rw [hq_]; rfl
        refine lv_aload_n hx hb dX10_readsRule_39 rfl (lv_at hl 1 rfl) ?_
        refine lv_lload_n hx hb dX10_readsRule_40 rfl (lv_at hl 0 rfl) ?_
        refine W.eq (g2 := F0 m9 41 ls [.long (lI (enc (rRlQ T s).2)), .ref a]) (congrArg (fun z_ : Int => F0 m9 41 ls [.long (lI (z_)), .ref a]) (show (encR (rLook T ((.inr (tok T (scA s))))) : Int) = enc (rRlQ T s).2 from (by exact hqe))) ?_
        -- call SpokenMarksModel.ruleFor
        refine h_kIp (h_runV X hR (m_ruleFor l G w_10 a ad t_12 hT.1 (cRl c0) ((rRlQ T s).2) (by rw [((hE_t_12 3 (by decide)).2).trans (hE_t_7 3 (by decide)).2]; exact hC.rl) hqw) pn_yX10_ruleFor (hasC.of hT.1.ob rfl) q2803 q2805 qs47 q161 q2806 ⟨by decide, by decide⟩ hl.1 (Nat.le_of_ble_eq_true rfl) dX10_readsRule_41 ⟨by omega, by omega⟩) hL (fun H locs hR hL => ?_)
        have hrr_ : -1 ≤ rlF (cRl c0) (rRlQ T s).2 ∧ rlF (cRl c0) (rRlQ T s).2 < ((cRl c0).length : Int) := fstN_r (fun k => r1 (cRl c0) k = (rRlQ T s).2) (cRl c0).length
        refine h_iconst hx hb dX10_readsRule_44 ?_
        refine h_icmp_eq hx hb 53 dX10_readsRule_45 (by decide) (by omega) (by omega) (fun c_r => ?_) (fun c_r => ?_)
        ·
          have he3 : rRl3 T s c0 = (rRlQ T s).1 := if_neg (fun q => q.2 c_r)
          have hR3 : RdAt t_12 T (rRl3 T s c0) := by rw [he3]; exact hRl
          have hw3 : wrC (rRl3 T s c0) = 0 := by rw [he3]; exact c_q
          have hx3 := hR3.wr9
          refine lv_aload_n hx hb dX10_readsRule_53 rfl (lv_at hl 1 rfl) ?_
          refine tw_get X hR hT 21 (by decide) q2962 (v := .int (iI (wrC (rRl3 T s c0)))) (congrArg (fun z => some (Value.int (iI z))) (hR3.wr)) dX10_readsRule_54 ?_
          refine h_if_ne hx hb 64 dX10_readsRule_57 (by decide) (by omega) (fun c_3 => ?_) (fun c_3 => ?_)
          ·
            exact absurd hw3 c_3
          ·
            obtain ⟨s3, hs3⟩ := hR3.ok c_3
            have hRd_s3 : RdAt t_12 T (.inr s3) := by have h_ := hR3; rwa [hs3] at h_
            have hW_s3 := hRd_s3.2.2.2.2
            refine lv_aload_n hx hb dX10_readsRule_60 rfl (lv_at hl 1 rfl) ?_
            -- call SpokenMarksModel.next
            refine h_kV (h_runV X hR (m_next l G w_10 a ad t_12 hT.1 T (scA s3) hRd_s3.1 hRd_s3.2.2.2.1.2.1 hW_s3.2.1) pn_yX10_next (hasC.of hT.1.ob rfl) q2744 q2746 qs35 q161 q2747 ⟨by decide, by decide⟩ hl.1 (Nat.le_of_ble_eq_true rfl) dX10_readsRule_61 ⟨by omega, by omega⟩) hL (fun w_38 hp_39 H locs hR hL => ?_)
            obtain ⟨t_40, hT2, hE_t_40, et_41⟩ := hp_39
            have hT := hT.tr hT2
            clear hT2
            have hR4 : RdAt t_40 T (rNext T (rRl3 T s c0)) := by rw [hs3]; exact hRd_s3.nx hE_t_40 (by decide) (by decide) (by decide) (by decide) et_41
            refine lv_aload_n hx hb dX10_readsRule_64 rfl (lv_at hl 1 rfl) ?_
            refine h_iconst hx hb dX10_readsRule_65 ?_
            -- call SpokenMarksModel.must
            refine h_kV (h_runV X hR (m_must l G w_38 a ad t_40 hT.1 4 T ((rNext T (rRl3 T s c0))) hR4 ⟨by decide, by decide⟩) pn_yX10_must (hasC.of hT.1.ob rfl) q2780 q2782 qs42 q161 q2783 ⟨by decide, by decide⟩ hl.1 (Nat.le_of_ble_eq_true rfl) dX10_readsRule_66 ⟨by omega, by omega⟩) hL (fun w_43 hp_44 H locs hR hL => ?_)
            obtain ⟨t_45, hT2, hE_t_45, et_46⟩ := hp_44
            have hT := hT.tr hT2
            clear hT2
            have hR5 := et_46
            refine lv_aload_n hx hb dX10_readsRule_69 rfl (lv_at hl 1 rfl) ?_
            -- call SpokenMarksModel.takesWord
            refine h_kL (h_runV X hR (m_takesWord l G w_43 a ad t_45 hT.1 T ((rMust T 4 (rNext T (rRl3 T s c0)))) hR5) pn_yX10_takesWord (hasC.of hT.1.ob rfl) q2811 q2813 qs49 q161 q2814 ⟨by decide, by decide⟩ hl.1 (Nat.le_of_ble_eq_true rfl) dX10_readsRule_70 ⟨by omega, by omega⟩) hL (fun z_47 w_48 hp_49 H locs hR hL => ?_)
            obtain ⟨rfl, t_50, hT2, hE_t_50, et_51⟩ := hp_49
            have hT := hT.tr hT2
            clear hT2
            have hR6 := et_51
            refine lv_lstore_n (lv' := [(3, .long (lI (encR (rLook T ((rMust T 4 (rNext T (rRl3 T s c0)))))))), (1, .long (lI (encR (rLook T ((.inr (tok T (scA s)))))))), (0, .ref a)]) hx hb dX10_readsRule_73 rfl hl (by decide) rfl (fun ls hl => ?_)
            refine lv_aload_n hx hb dX10_readsRule_74 rfl (lv_at hl 2 rfl) ?_
            refine h_iconst hx hb dX10_readsRule_75 ?_
            -- call SpokenMarksModel.must
            refine h_kV (h_runV X hR (m_must l G w_48 a ad t_50 hT.1 3 T ((rRlW T s c0).1) hR6 ⟨by decide, by decide⟩) pn_yX10_must (hasC.of hT.1.ob rfl) q2780 q2782 qs42 q161 q2783 ⟨by decide, by decide⟩ hl.1 (Nat.le_of_ble_eq_true rfl) dX10_readsRule_76 ⟨by omega, by omega⟩) hL (fun w_53 hp_54 H locs hR hL => ?_)
            obtain ⟨t_55, hT2, hE_t_55, et_56⟩ := hp_54
            have hT := hT.tr hT2
            clear hT2
            have hR7 : RdAt t_55 T (rRl7 T s c0) := et_56
            have hx7 := hR7.wr9
            refine lv_aload_n hx hb dX10_readsRule_79 rfl (lv_at hl 2 rfl) ?_
            refine tw_get X hR hT 21 (by decide) q2962 (v := .int (iI (wrC (rRl7 T s c0)))) (congrArg (fun z => some (Value.int (iI z))) (hR7.wr)) dX10_readsRule_80 ?_
            refine h_if_eq hx hb 87 dX10_readsRule_83 (by decide) ⟨by omega, by omega⟩ (fun c_7 => ?_) (fun c_7 => ?_)
            ·
              obtain ⟨s7, hs7⟩ := hR7.ok c_7
              obtain ⟨⟨⟨hE1, hE2⟩, hE3, hE4⟩, -⟩ := rRl7_ok hW hs7
              refine lv_aload_n hx hb dX10_readsRule_87 rfl (lv_at hl 2 rfl) ?_
              refine lv_lload_n hx hb dX10_readsRule_88 rfl (lv_at hl 1 rfl) ?_
              refine W.eq (g2 := F0 m9 89 ls [.long (lI (enc (rRlQ T s).2)), .ref a]) (congrArg (fun z_ : Int => F0 m9 89 ls [.long (lI (z_)), .ref a]) (show (encR (rLook T ((.inr (tok T (scA s))))) : Int) = enc (rRlQ T s).2 from (by exact hE1))) ?_
              refine lv_lload_n hx hb dX10_readsRule_89 rfl (lv_at hl 0 rfl) ?_
              refine W.eq (g2 := F0 m9 90 ls [.long (lI (enc (rRlW T s c0).2)), .long (lI (enc (rRlQ T s).2)), .ref a]) (congrArg (fun z_ : Int => F0 m9 90 ls [.long (lI (z_)), .long (lI (enc (rRlQ T s).2)), .ref a]) (show (encR (rLook T ((rMust T 4 (rNext T (rRl3 T s c0))))) : Int) = enc (rRlW T s c0).2 from (by exact hE3))) ?_
              -- call SpokenMarksModel.says
              refine h_kI (h_runV X hR (m_says l G w_53 a ad t_55 hT.1 c0 ((rRlQ T s).2) ((rRlW T s c0).2) (by rw [((((((hE_t_55 3 (by decide)).2).trans (hE_t_50 3 (by decide)).2).trans (hE_t_45 3 (by decide)).2).trans (hE_t_40 3 (by decide)).2).trans (hE_t_12 3 (by decide)).2).trans (hE_t_7 3 (by decide)).2]; exact hC) hE2 hE4 hpd hac) pn_yX10_says (hasC.of hT.1.ob rfl) q2815 q2817 qs50 q161 q2818 ⟨by decide, by decide⟩ hl.1 (Nat.le_of_ble_eq_true rfl) dX10_readsRule_90 ⟨by omega, by omega⟩) hL (fun z_57 w_58 hp_59 H locs hR hL => ?_)
              obtain ⟨rfl, t_60, hT2, hE_t_60, et_61⟩ := hp_59
              have hT := hT.tr hT2
              clear hT2
              refine lv_istore (lv' := [(5, .int (iI ((syA c0 ((rRlQ T s).2) ((rRlW T s c0).2)).2))), (3, .long (lI (encR (rLook T ((rMust T 4 (rNext T (rRl3 T s c0)))))))), (1, .long (lI (encR (rLook T ((.inr (tok T (scA s)))))))), (0, .ref a)]) hx hb dX10_readsRule_93 hl (by decide) rfl (fun ls hl => ?_)
              exact h_vreturn hx hb hlk hret hR hL ⟨t_60, hT, (TwE.tr (S2 := [1, 2, 3, 17, 18, 19, 20, 21, 22]) (TwE.tr (S2 := [1, 2, 3, 17, 18, 19, 20, 21, 22]) (TwE.tr (S2 := [1, 2, 3, 17, 18, 19, 20, 21, 22]) (TwE.tr (S2 := [1, 2, 3, 17, 18, 19, 20, 21, 22]) (TwE.tr (S2 := [1, 2, 3, 17, 18, 19, 20, 21, 22]) (TwE.tr (S2 := [1, 2, 3, 17, 18, 19, 20, 21, 22]) (TwE.tr (S2 := [1, 2, 3, 17, 18, 19, 20, 21, 22]) (TwE.rf : TwE [] t t) hE_t_7 rfl rfl) hE_t_12 rfl rfl) hE_t_40 rfl rfl) hE_t_45 rfl rfl) hE_t_50 rfl rfl) hE_t_55 rfl rfl) hE_t_60 rfl rfl), (by rw [rRule, if_neg (by omega), if_pos c_7]; exact ⟨(hR7.mv hE_t_60 (by decide) (by decide) (by decide) (by decide) (by decide) (by decide) (by decide) (by decide)), et_61⟩)⟩ (by omega) (by omega) rfl rfl dX10_readsRule_95
            ·
              exact h_vreturn hx hb hlk hret hR hL ⟨t_55, hT, (TwE.tr (S2 := [1, 2, 3, 17, 18, 19, 20, 21, 22]) (TwE.tr (S2 := [1, 2, 3, 17, 18, 19, 20, 21, 22]) (TwE.tr (S2 := [1, 2, 3, 17, 18, 19, 20, 21, 22]) (TwE.tr (S2 := [1, 2, 3, 17, 18, 19, 20, 21, 22]) (TwE.tr (S2 := [1, 2, 3, 17, 18, 19, 20, 21, 22]) (TwE.tr (S2 := [1, 2, 3, 17, 18, 19, 20, 21, 22]) (TwE.rf : TwE [] t t) hE_t_7 rfl rfl) hE_t_12 rfl rfl) hE_t_40 rfl rfl) hE_t_45 rfl rfl) hE_t_50 rfl rfl) hE_t_55 rfl rfl), (by rw [rRule, if_neg (by omega), if_neg c_7]; exact ⟨hR7, by rw [((((((hE_t_55 3 (by decide)).2).trans (hE_t_50 3 (by decide)).2).trans (hE_t_45 3 (by decide)).2).trans (hE_t_40 3 (by decide)).2).trans (hE_t_12 3 (by decide)).2).trans (hE_t_7 3 (by decide)).2]; exact hC⟩)⟩ (by omega) (by omega) rfl rfl dX10_readsRule_86
        ·
          refine lv_aload_n hx hb dX10_readsRule_48 rfl (lv_at hl 1 rfl) ?_
          refine h_iconst hx hb dX10_readsRule_49 ?_
          -- call SpokenMarksModel.errs
          refine h_kV (h_runV X hR (m_errs l G w_10 a ad t_12 hT.1 4 T ((rRlQ T s).1) hRl (by omega)) pn_yX10_errs (hasC.of hT.1.ob rfl) q2772 q2774 qs40 q161 q2775 ⟨by decide, by decide⟩ hl.1 (Nat.le_of_ble_eq_true rfl) dX10_readsRule_50 ⟨by omega, by omega⟩) hL (fun w_63 hp_64 H locs hR hL => ?_)
          obtain ⟨t_65, hT2, hE_t_65, et_66⟩ := hp_64
          have hT := hT.tr hT2
          clear hT2
          have hRe : RdAt t_65 T (rErr 4 (rRlQ T s).1) := et_66
          have hRx : R32 (wrC (rErr 4 (rRlQ T s).1)) := by have h_ := hT.1.ri 21 (by decide) (by decide); rwa [hRe.wr] at h_
          have he3 : rRl3 T s c0 = (rErr 4 (rRlQ T s).1) := if_pos ⟨c_q, c_r⟩
          have hR3 : RdAt t_65 T (rRl3 T s c0) := by rw [he3]; exact hRe
          have hw3 : ¬ wrC (rRl3 T s c0) = 0 := by rw [he3]; exact rErr_w hRl (by decide)
          have hx3 := hR3.wr9
          refine lv_aload_n hx hb dX10_readsRule_53 rfl (lv_at hl 1 rfl) ?_
          refine tw_get X hR hT 21 (by decide) q2962 (v := .int (iI (wrC (rRl3 T s c0)))) (congrArg (fun z => some (Value.int (iI z))) (hR3.wr)) dX10_readsRule_54 ?_
          refine h_if_ne hx hb 64 dX10_readsRule_57 (by decide) (by omega) (fun c_3 => ?_) (fun c_3 => ?_)
          ·
            have hR4 : RdAt t_65 T (rNext T (rRl3 T s c0)) := by rw [rNext_err c_3]; exact hR3
            refine lv_aload_n hx hb dX10_readsRule_64 rfl (lv_at hl 1 rfl) ?_
            refine h_iconst hx hb dX10_readsRule_65 ?_
            -- call SpokenMarksModel.must
            refine h_kV (h_runV X hR (m_must l G w_63 a ad t_65 hT.1 4 T ((rNext T (rRl3 T s c0))) hR4 ⟨by decide, by decide⟩) pn_yX10_must (hasC.of hT.1.ob rfl) q2780 q2782 qs42 q161 q2783 ⟨by decide, by decide⟩ hl.1 (Nat.le_of_ble_eq_true rfl) dX10_readsRule_66 ⟨by omega, by omega⟩) hL (fun w_68 hp_69 H locs hR hL => ?_)
            obtain ⟨t_70, hT2, hE_t_70, et_71⟩ := hp_69
            have hT := hT.tr hT2
            clear hT2
            have hR5 := et_71
            refine lv_aload_n hx hb dX10_readsRule_69 rfl (lv_at hl 1 rfl) ?_
            -- call SpokenMarksModel.takesWord
            refine h_kL (h_runV X hR (m_takesWord l G w_68 a ad t_70 hT.1 T ((rMust T 4 (rNext T (rRl3 T s c0)))) hR5) pn_yX10_takesWord (hasC.of hT.1.ob rfl) q2811 q2813 qs49 q161 q2814 ⟨by decide, by decide⟩ hl.1 (Nat.le_of_ble_eq_true rfl) dX10_readsRule_70 ⟨by omega, by omega⟩) hL (fun z_72 w_73 hp_74 H locs hR hL => ?_)
            obtain ⟨rfl, t_75, hT2, hE_t_75, et_76⟩ := hp_74
            have hT := hT.tr hT2
            clear hT2
            have hR6 := et_76
            refine lv_lstore_n (lv' := [(3, .long (lI (encR (rLook T ((rMust T 4 (rNext T (rRl3 T s c0)))))))), (1, .long (lI (encR (rLook T ((.inr (tok T (scA s)))))))), (0, .ref a)]) hx hb dX10_readsRule_73 rfl hl (by decide) rfl (fun ls hl => ?_)
            refine lv_aload_n hx hb dX10_readsRule_74 rfl (lv_at hl 2 rfl) ?_
            refine h_iconst hx hb dX10_readsRule_75 ?_
            -- call SpokenMarksModel.must
            refine h_kV (h_runV X hR (m_must l G w_73 a ad t_75 hT.1 3 T ((rRlW T s c0).1) hR6 ⟨by decide, by decide⟩) pn_yX10_must (hasC.of hT.1.ob rfl) q2780 q2782 qs42 q161 q2783 ⟨by decide, by decide⟩ hl.1 (Nat.le_of_ble_eq_true rfl) dX10_readsRule_76 ⟨by omega, by omega⟩) hL (fun w_78 hp_79 H locs hR hL => ?_)
            obtain ⟨t_80, hT2, hE_t_80, et_81⟩ := hp_79
            have hT := hT.tr hT2
            clear hT2
            have hR7 : RdAt t_80 T (rRl7 T s c0) := et_81
            have hx7 := hR7.wr9
            refine lv_aload_n hx hb dX10_readsRule_79 rfl (lv_at hl 2 rfl) ?_
            refine tw_get X hR hT 21 (by decide) q2962 (v := .int (iI (wrC (rRl7 T s c0)))) (congrArg (fun z => some (Value.int (iI z))) (hR7.wr)) dX10_readsRule_80 ?_
            refine h_if_eq hx hb 87 dX10_readsRule_83 (by decide) ⟨by omega, by omega⟩ (fun c_7 => ?_) (fun c_7 => ?_)
            ·
              obtain ⟨s7, hs7⟩ := hR7.ok c_7
              obtain ⟨⟨⟨hE1, hE2⟩, hE3, hE4⟩, -⟩ := rRl7_ok hW hs7
              refine lv_aload_n hx hb dX10_readsRule_87 rfl (lv_at hl 2 rfl) ?_
              refine lv_lload_n hx hb dX10_readsRule_88 rfl (lv_at hl 1 rfl) ?_
              refine W.eq (g2 := F0 m9 89 ls [.long (lI (enc (rRlQ T s).2)), .ref a]) (congrArg (fun z_ : Int => F0 m9 89 ls [.long (lI (z_)), .ref a]) (show (encR (rLook T ((.inr (tok T (scA s))))) : Int) = enc (rRlQ T s).2 from (by exact hE1))) ?_
              refine lv_lload_n hx hb dX10_readsRule_89 rfl (lv_at hl 0 rfl) ?_
              refine W.eq (g2 := F0 m9 90 ls [.long (lI (enc (rRlW T s c0).2)), .long (lI (enc (rRlQ T s).2)), .ref a]) (congrArg (fun z_ : Int => F0 m9 90 ls [.long (lI (z_)), .long (lI (enc (rRlQ T s).2)), .ref a]) (show (encR (rLook T ((rMust T 4 (rNext T (rRl3 T s c0))))) : Int) = enc (rRlW T s c0).2 from (by exact hE3))) ?_
              -- call SpokenMarksModel.says
              refine h_kI (h_runV X hR (m_says l G w_78 a ad t_80 hT.1 c0 ((rRlQ T s).2) ((rRlW T s c0).2) (by rw [((((((hE_t_80 3 (by decide)).2).trans (hE_t_75 3 (by decide)).2).trans (hE_t_70 3 (by decide)).2).trans (hE_t_65 3 (by decide)).2).trans (hE_t_12 3 (by decide)).2).trans (hE_t_7 3 (by decide)).2]; exact hC) hE2 hE4 hpd hac) pn_yX10_says (hasC.of hT.1.ob rfl) q2815 q2817 qs50 q161 q2818 ⟨by decide, by decide⟩ hl.1 (Nat.le_of_ble_eq_true rfl) dX10_readsRule_90 ⟨by omega, by omega⟩) hL (fun z_82 w_83 hp_84 H locs hR hL => ?_)
              obtain ⟨rfl, t_85, hT2, hE_t_85, et_86⟩ := hp_84
              have hT := hT.tr hT2
              clear hT2
              refine lv_istore (lv' := [(5, .int (iI ((syA c0 ((rRlQ T s).2) ((rRlW T s c0).2)).2))), (3, .long (lI (encR (rLook T ((rMust T 4 (rNext T (rRl3 T s c0)))))))), (1, .long (lI (encR (rLook T ((.inr (tok T (scA s)))))))), (0, .ref a)]) hx hb dX10_readsRule_93 hl (by decide) rfl (fun ls hl => ?_)
              exact h_vreturn hx hb hlk hret hR hL ⟨t_85, hT, (TwE.tr (S2 := [1, 2, 3, 17, 18, 19, 20, 21, 22]) (TwE.tr (S2 := [1, 2, 3, 17, 18, 19, 20, 21, 22]) (TwE.tr (S2 := [1, 2, 3, 17, 18, 19, 20, 21, 22]) (TwE.tr (S2 := [1, 2, 3, 17, 18, 19, 20, 21, 22]) (TwE.tr (S2 := [1, 2, 3, 17, 18, 19, 20, 21, 22]) (TwE.tr (S2 := [1, 2, 3, 17, 18, 19, 20, 21, 22]) (TwE.tr (S2 := [1, 2, 3, 17, 18, 19, 20, 21, 22]) (TwE.rf : TwE [] t t) hE_t_7 rfl rfl) hE_t_12 rfl rfl) hE_t_65 rfl rfl) hE_t_70 rfl rfl) hE_t_75 rfl rfl) hE_t_80 rfl rfl) hE_t_85 rfl rfl), (by rw [rRule, if_neg (by omega), if_pos c_7]; exact ⟨(hR7.mv hE_t_85 (by decide) (by decide) (by decide) (by decide) (by decide) (by decide) (by decide) (by decide)), et_86⟩)⟩ (by omega) (by omega) rfl rfl dX10_readsRule_95
            ·
              exact h_vreturn hx hb hlk hret hR hL ⟨t_80, hT, (TwE.tr (S2 := [1, 2, 3, 17, 18, 19, 20, 21, 22]) (TwE.tr (S2 := [1, 2, 3, 17, 18, 19, 20, 21, 22]) (TwE.tr (S2 := [1, 2, 3, 17, 18, 19, 20, 21, 22]) (TwE.tr (S2 := [1, 2, 3, 17, 18, 19, 20, 21, 22]) (TwE.tr (S2 := [1, 2, 3, 17, 18, 19, 20, 21, 22]) (TwE.tr (S2 := [1, 2, 3, 17, 18, 19, 20, 21, 22]) (TwE.rf : TwE [] t t) hE_t_7 rfl rfl) hE_t_12 rfl rfl) hE_t_65 rfl rfl) hE_t_70 rfl rfl) hE_t_75 rfl rfl) hE_t_80 rfl rfl), (by rw [rRule, if_neg (by omega), if_neg c_7]; exact ⟨hR7, by rw [((((((hE_t_80 3 (by decide)).2).trans (hE_t_75 3 (by decide)).2).trans (hE_t_70 3 (by decide)).2).trans (hE_t_65 3 (by decide)).2).trans (hE_t_12 3 (by decide)).2).trans (hE_t_7 3 (by decide)).2]; exact hC⟩)⟩ (by omega) (by omega) rfl rfl dX10_readsRule_86
          ·
            exact absurd c_3 hw3
    ·
      exact absurd rfl c_w0
  ·
    refine lv_aload_n hx hb dX10_readsRule_10 rfl (lv_at hl 0 rfl) ?_
    refine h_iconst hx hb dX10_readsRule_11 ?_
    -- call SpokenMarksModel.errs
    refine h_kV (h_runV X hR (m_errs l G w a ad t hT.1 5 T ((.inr s)) hRd (by omega)) pn_yX10_errs (hasC.of hT.1.ob rfl) q2772 q2774 qs40 q161 q2775 ⟨by decide, by decide⟩ hl.1 (Nat.le_of_ble_eq_true rfl) dX10_readsRule_12 ⟨by omega, by omega⟩) hL (fun w_88 hp_89 H locs hR hL => ?_)
    obtain ⟨t_90, hT2, hE_t_90, et_91⟩ := hp_89
    have hT := hT.tr hT2
    clear hT2
    have hRe_5 : RdAt t_90 T (rErr 5 (.inr s)) := et_91
    have hRx_5 : R32 (wrC (rErr 5 (.inr s))) := by have h_ := hT.1.ri 21 (by decide) (by decide); rwa [hRe_5.wr] at h_
    refine lv_aload_n hx hb dX10_readsRule_15 rfl (lv_at hl 0 rfl) ?_
    refine tw_get X hR hT 21 (by decide) q2962 (v := .int (iI (wrC (rErr 5 (.inr s))))) (congrArg (fun z => some (Value.int (iI z))) (hRe_5.wr)) dX10_readsRule_16 ?_
    refine h_if_eq hx hb 23 dX10_readsRule_19 (by decide) (by omega) (fun c_w0 => ?_) (fun c_w0 => ?_)
    ·
      exact absurd c_w0 (rErr_w hRd (by decide))
    ·
      exact h_vreturn hx hb hlk hret hR hL ⟨t_90, hT, (TwE.tr (S2 := [1, 2, 3, 17, 18, 19, 20, 21, 22]) (TwE.rf : TwE [] t t) hE_t_90 rfl rfl), (by rw [rRule, if_pos (by omega)]; exact ⟨hRe_5, by rw [(hE_t_90 3 (by decide)).2]; exact hC⟩)⟩ (by omega) (by omega) rfl rfl dX10_readsRule_22

set_option maxHeartbeats 4000000 in
set_option maxRecDepth 100000 in
/-- readsMark -/
theorem m_readsMark (l : Launch) (G : Gl) (w : Wd) (a : Nat) (ad : Nat → Nat) (t : Tw) (hT : TwAt G w a ad t)  (T : List Int) (s : Sc) (c0 : Cat) (hRd : RdAt t T (.inr s)) (hC : RowIs (t.2 3) c0) (hac : ∀ k, k < 3 → cAc c0 k < 990000) (hnx : cNx c0 < 990000) : HM l yX10_readsMark cX10_readsMark 3 none 7 0 0 G [.ref a] w (QV G (fun w_ => ∃ t_ : Tw, TwS G w w_ a ad t_ ∧ TwE [1, 2, 3, 17, 18, 19, 20, 21, 22, 23, 24] t t_ ∧ RdAt t_ T (rMark T s c0).1 ∧ RowIs (t_.2 3) (rMark T s c0).2)) := by
  refine HM.mk (by decide +kernel) (Nat.le_of_ble_eq_true rfl) ?_
  intro p9 e9 s9 m9 a9 b9 meth9 c9 ls X hret hlk hnm hl H hR
  have hx := X.1.1
  have hb := X.1.2.1
  have hl : lv_has ls 3 [(0, .ref a)] := hl
  have hL : LK G [] := fun q h => absurd h List.not_mem_nil
  generalize ([] : List Loc) = locs at hL ⊢
  have hTb := hT
  have hT : TwS G w w a ad t := TwS.rf hT
  have hT8 := hRd.1.2.1.1
  have hW := hRd.2.2.2.2
  have hWa := hW.1
  have hWb := hW.2.1
  have hWk := hW.2.2.1
  have hn40 := hC.n40
  have hsh8 := hC.sh8
  refine lv_aload_n hx hb dX10_readsMark_0 rfl (lv_at hl 0 rfl) ?_
  refine h_iconst hx hb dX10_readsMark_1 ?_
  -- call SpokenMarksModel.head
  refine h_kIp (h_runV X hR (m_head l G w a ad t hT.1 2 (by omega)) pn_yX10_head (hasC.of hT.1.ob rfl) q2789 q2791 qs44 q161 q2792 ⟨by decide, by decide⟩ hl.1 (Nat.le_of_ble_eq_true rfl) dX10_readsMark_2 ⟨by omega, by omega⟩) hL (fun H locs hR hL => ?_)
  refine W.eq (g2 := F0 m9 5 ls [.int (iI ((cN c0 : Int)))]) (congrArg (fun z_ : Int => F0 m9 5 ls [.int (iI (z_))]) (show (hd t 2 : Int) = (cN c0 : Int) from (by exact hC.n))) ?_
  refine h_bipush hx hb dX10_readsMark_5 (by decide) ?_
  refine h_icmp_ne hx hb 15 dX10_readsMark_7 (by decide) (by omega) (by omega) (fun c_8 => ?_) (fun c_8 => ?_)
  ·
    refine lv_aload_n hx hb dX10_readsMark_15 rfl (lv_at hl 0 rfl) ?_
    refine tw_get X hR hT 21 (by decide) q2962 (v := .int (iI (0))) (congrArg (fun z => some (Value.int (iI z))) (hRd.2.1)) dX10_readsMark_16 ?_
    refine h_if_eq hx hb 23 dX10_readsMark_19 (by decide) (by omega) (fun c_w0 => ?_) (fun c_w0 => ?_)
    ·
      refine lv_aload_n hx hb dX10_readsMark_23 rfl (lv_at hl 0 rfl) ?_
      -- call SpokenMarksModel.next
      refine h_kV (h_runV X hR (m_next l G w a ad t hT.1 T (scA s) (hRd.1.mv (TwE.rf : TwE [17, 18, 19, 20, 21, 22] t t) (by decide) (by decide)) (hRd.2.2.2.1.2.1) hWb) pn_yX10_next (hasC.of hT.1.ob rfl) q2744 q2746 qs35 q161 q2747 ⟨by decide, by decide⟩ hl.1 (Nat.le_of_ble_eq_true rfl) dX10_readsMark_24 ⟨by omega, by omega⟩) hL (fun w_5 hp_6 H locs hR hL => ?_)
      obtain ⟨t_7, hT2, hE_t_7, et_8⟩ := hp_6
      have hT := hT.tr hT2
      clear hT2
      have hRn := hRd.nx (TwE.tr (S2 := [17, 18, 19, 20]) (TwE.rf : TwE [] t t) hE_t_7 rfl rfl) (by decide) (by decide) (by decide) (by decide) et_8
      refine lv_aload_n hx hb dX10_readsMark_27 rfl (lv_at hl 0 rfl) ?_
      -- call SpokenMarksModel.readsParts
      refine h_kV (h_runV X hR (m_readsParts l G w_5 a ad t_7 hT.1 T ((.inr (tok T (scA s)))) hRn) pn_yX10_readsParts (hasC.of hT.1.ob rfl) q2896 q2898 qs67 q161 q2899 ⟨by decide, by decide⟩ hl.1 (Nat.le_of_ble_eq_true rfl) dX10_readsMark_28 ⟨by omega, by omega⟩) hL (fun w_10 hp_11 H locs hR hL => ?_)
      obtain ⟨t_12, hT2, hE_t_12, et_13⟩ := hp_11
      have hT := hT.tr hT2
      clear hT2
      have hRq : RdAt t_12 T (rMkQ T s).1 := et_13.1
      have hPq : PsAt t_12 (rMkQ T s).2 := et_13.2
      have hp5 := hPq.2.1
      have hwq := hRq.wr9
      refine lv_aload_n hx hb dX10_readsMark_31 rfl (lv_at hl 0 rfl) ?_
      refine tw_get X hR hT 21 (by decide) q2962 (v := .int (iI (wrC (rMkQ T s).1))) (congrArg (fun z => some (Value.int (iI z))) (hRq.wr)) dX10_readsMark_32 ?_
      refine h_if_ne hx hb 51 dX10_readsMark_35 (by decide) ⟨by omega, by omega⟩ (fun c_q => ?_) (fun c_q => ?_)
      ·
        refine lv_aload_n hx hb dX10_readsMark_51 rfl (lv_at hl 0 rfl) ?_
        refine tw_get X hR hT 21 (by decide) q2962 (v := .int (iI (wrC (rMkQ T s).1))) (congrArg (fun z => some (Value.int (iI z))) (hRq.wr)) dX10_readsMark_52 ?_
        refine h_if_ne hx hb 79 dX10_readsMark_55 (by decide) (by omega) (fun c_q2 => ?_) (fun c_q2 => ?_)
        ·
          have hR3 : RdAt t_12 T (rMk3 T s c0) := by rw [show rMk3 T s c0 = (rMkQ T s).1 from if_neg (fun q => by obtain ⟨x, hx⟩ := wrC_inl c_q; rw [hx] at q; exact isEq_0 q.1)]; exact hRq
          refine lv_aload_n hx hb dX10_readsMark_79 rfl (lv_at hl 0 rfl) ?_
          refine h_iconst hx hb dX10_readsMark_80 ?_
          -- call SpokenMarksModel.must
          refine h_kV (h_runV X hR (m_must l G w_10 a ad t_12 hT.1 4 T ((rMk3 T s c0)) hR3 ⟨by decide, by decide⟩) pn_yX10_must (hasC.of hT.1.ob rfl) q2780 q2782 qs42 q161 q2783 ⟨by decide, by decide⟩ hl.1 (Nat.le_of_ble_eq_true rfl) dX10_readsMark_81 ⟨by omega, by omega⟩) hL (fun w_15 hp_16 H locs hR hL => ?_)
          obtain ⟨t_17, hT2, hE_t_17, et_18⟩ := hp_16
          have hT := hT.tr hT2
          clear hT2
          have hR4 := et_18
          refine lv_aload_n hx hb dX10_readsMark_84 rfl (lv_at hl 0 rfl) ?_
          refine h_iconst hx hb dX10_readsMark_85 ?_
          refine h_bipush hx hb dX10_readsMark_86 (by decide) ?_
          -- call SpokenMarksModel.number0
          refine h_kI (h_runV X hR (m_number0 l G w_15 a ad t_17 hT.1 1 20 T ((rMust T 4 (rMk3 T s c0))) hR4 (by omega) (by omega)) pn_yX10_number0 (hasC.of hT.1.ob rfl) q2776 q2778 qs41 q161 q2779 ⟨by decide, by decide⟩ hl.1 (Nat.le_of_ble_eq_true rfl) dX10_readsMark_88 ⟨by omega, by omega⟩) hL (fun z_19 w_20 hp_21 H locs hR hL => ?_)
          obtain ⟨rfl, t_22, hT2, hE_t_22, et_23⟩ := hp_21
          have hT := hT.tr hT2
          clear hT2
          have hR5 := et_23
          have hnr := rNum_r (T := T) (lo := 1) (hi := 20) (e := rMust T 4 (rMk3 T s c0)) (by decide)
          refine lv_istore_n (lv' := [(1, .int (iI ((rNum T 1 20 ((rMust T 4 (rMk3 T s c0)))).2))), (0, .ref a)]) hx hb dX10_readsMark_91 rfl hl (by decide) rfl (fun ls hl => ?_)
          refine lv_aload_n hx hb dX10_readsMark_92 rfl (lv_at hl 1 rfl) ?_
          refine h_iconst hx hb dX10_readsMark_93 ?_
          -- call SpokenMarksModel.must
          refine h_kV (h_runV X hR (m_must l G w_20 a ad t_22 hT.1 3 T ((rMk5 T s c0).1) hR5 ⟨by decide, by decide⟩) pn_yX10_must (hasC.of hT.1.ob rfl) q2780 q2782 qs42 q161 q2783 ⟨by decide, by decide⟩ hl.1 (Nat.le_of_ble_eq_true rfl) dX10_readsMark_94 ⟨by omega, by omega⟩) hL (fun w_25 hp_26 H locs hR hL => ?_)
          obtain ⟨t_27, hT2, hE_t_27, et_28⟩ := hp_26
          have hT := hT.tr hT2
          clear hT2
          have hR6 : RdAt t_27 T (rMk6 T s c0) := et_28
          have hx6 := hR6.wr9
          refine lv_aload_n hx hb dX10_readsMark_97 rfl (lv_at hl 1 rfl) ?_
          refine tw_get X hR hT 21 (by decide) q2962 (v := .int (iI (wrC (rMk6 T s c0)))) (congrArg (fun z => some (Value.int (iI z))) (hR6.wr)) dX10_readsMark_98 ?_
          refine h_if_eq hx hb 105 dX10_readsMark_101 (by decide) ⟨by omega, by omega⟩ (fun c_6 => ?_) (fun c_6 => ?_)
          ·
            exact absurd (by obtain ⟨s6, hs6⟩ := hR6.ok c_6; obtain ⟨⟨s2, hs2⟩, -⟩ := rMk6_ok hs6; rw [hs2]; rfl) c_q
          ·
            exact h_vreturn hx hb hlk hret hR hL ⟨t_27, hT, (TwE.tr (S2 := [1, 2, 3, 17, 18, 19, 20, 21, 22, 23, 24]) (TwE.tr (S2 := [1, 2, 3, 17, 18, 19, 20, 21, 22, 23, 24]) (TwE.tr (S2 := [1, 2, 3, 17, 18, 19, 20, 21, 22, 23, 24]) (TwE.tr (S2 := [1, 2, 3, 17, 18, 19, 20, 21, 22, 23, 24]) (TwE.tr (S2 := [1, 2, 3, 17, 18, 19, 20, 21, 22, 23, 24]) (TwE.rf : TwE [] t t) hE_t_7 rfl rfl) hE_t_12 rfl rfl) hE_t_17 rfl rfl) hE_t_22 rfl rfl) hE_t_27 rfl rfl), (by rw [rMark, if_neg (by omega), if_neg c_6]; exact ⟨hR6, (by rw [(((((hE_t_27 3 (by decide)).2).trans (hE_t_22 3 (by decide)).2).trans (hE_t_17 3 (by decide)).2).trans (hE_t_12 3 (by decide)).2).trans (hE_t_7 3 (by decide)).2]; exact hC)⟩)⟩ (by omega) (by omega) rfl rfl dX10_readsMark_104
        ·
          exact absurd c_q2 c_q
      ·
        obtain ⟨s2, hs2⟩ := hRq.ok c_q
        have hpw : PrtsW (rMkQ T s).2 := ⟨rParts_len hs2, hp5, hPq.2.2.2⟩
        refine lv_aload_n hx hb dX10_readsMark_38 rfl (lv_at hl 0 rfl) ?_
        refine lv_aload_n hx hb dX10_readsMark_39 rfl (lv_at hl 0 rfl) ?_
        refine tw_get X hR hT 23 (by decide) q2964 rfl dX10_readsMark_40 ?_
        refine h_iconst hx hb dX10_readsMark_43 ?_
        refine lv_aload_n hx hb dX10_readsMark_44 rfl (lv_at hl 0 rfl) ?_
        refine tw_get X hR hT 24 (by decide) q2965 (v := .int (iI (t_12.1 24))) rfl dX10_readsMark_45 ?_
        have rg_t_12_24 := hT.1.ri 24 (by decide) (by decide)
        refine W.eq (g2 := F0 m9 48 ls [.int (iI (((rMkQ T s).2.length : Int))), .int (iI (0)), .ref (ad 23), .ref a]) (congrArg (fun z_ : Int => F0 m9 48 ls [.int (iI (z_)), .int (iI (0)), .ref (ad 23), .ref a]) (show (t_12.1 24 : Int) = ((rMkQ T s).2.length : Int) from (by exact hPq.1))) ?_
        -- call SpokenMarksModel.laysGuest
        refine h_kV (h_runV X hR (m_laysGuest23 l G w_10 a ad t_12 hT.1 0 (cRl c0) ((rMkQ T s).2) (by show _ ≤ _; simp only [twN]; omega) (by rw [((hE_t_12 3 (by decide)).2).trans (hE_t_7 3 (by decide)).2]; exact hC.rl) hpw (fun j hj => by rw [Nat.zero_add]; exact hPq.2.2.1 j hj)) pn_yX10_laysGuest (hasC.of hT.1.ob rfl) q2905 q2907 qs69 q161 q2908 ⟨by decide, by decide⟩ hl.1 (Nat.le_of_ble_eq_true rfl) dX10_readsMark_48 ⟨by omega, by omega⟩) hL (fun w_30 hp_31 H locs hR hL => ?_)
        obtain ⟨t_32, hT2, hE_t_32, et_33⟩ := hp_31
        have hT := hT.tr hT2
        clear hT2
        have hG := et_33.1
        have hr3 : ∀ i, i < 592 → t_32.2 3 i = t.2 3 i := fun i hi => (et_33.2 i hi).trans (congrFun (((hE_t_12 3 (by decide)).2).trans (hE_t_7 3 (by decide)).2) i)
        have hC2 : RowIs (t_32.2 3) c0 := hC.mv (fun i hi => hr3 i (by omega))
        have hRq2 : RdAt t_32 T (rMkQ T s).1 := (hRq.mv hE_t_32 (by decide) (by decide) (by decide) (by decide) (by decide) (by decide) (by decide) (by decide))
        have hRs : RdAt t_32 T (.inr s2) := by have h_ := hRq2; rwa [hs2] at h_
        have hk2_ := hRs.2.2.2.2.2.2.1
        refine lv_aload_n hx hb dX10_readsMark_51 rfl (lv_at hl 0 rfl) ?_
        refine tw_get X hR hT 21 (by decide) q2962 (v := .int (iI (wrC (rMkQ T s).1))) (congrArg (fun z => some (Value.int (iI z))) (hRq2.wr)) dX10_readsMark_52 ?_
        refine h_if_ne hx hb 79 dX10_readsMark_55 (by decide) (by omega) (fun c_q2 => ?_) (fun c_q2 => ?_)
        ·
          exact absurd c_q c_q2
        ·
          refine lv_aload_n hx hb dX10_readsMark_58 rfl (lv_at hl 0 rfl) ?_
          refine tw_get X hR hT 19 (by decide) q2960 (v := .int (iI (scK s2))) (congrArg (fun z => some (Value.int (iI z))) (hRs.2.2.2.1.2.2.1)) dX10_readsMark_59 ?_
          refine h_iconst hx hb dX10_readsMark_62 ?_
          refine h_icmp_ne hx hb 79 dX10_readsMark_63 (by decide) (by omega) (by omega) (fun c_k => ?_) (fun c_k => ?_)
          ·
            have hR3 : RdAt t_32 T (rMk3 T s c0) := by rw [show rMk3 T s c0 = (rMkQ T s).1 from if_neg (fun q => c_k (isEq_1.mp (by rw [← hs2]; exact q.1)))]; exact hRq2
            refine lv_aload_n hx hb dX10_readsMark_79 rfl (lv_at hl 0 rfl) ?_
            refine h_iconst hx hb dX10_readsMark_80 ?_
            -- call SpokenMarksModel.must
            refine h_kV (h_runV X hR (m_must l G w_30 a ad t_32 hT.1 4 T ((rMk3 T s c0)) hR3 ⟨by decide, by decide⟩) pn_yX10_must (hasC.of hT.1.ob rfl) q2780 q2782 qs42 q161 q2783 ⟨by decide, by decide⟩ hl.1 (Nat.le_of_ble_eq_true rfl) dX10_readsMark_81 ⟨by omega, by omega⟩) hL (fun w_35 hp_36 H locs hR hL => ?_)
            obtain ⟨t_37, hT2, hE_t_37, et_38⟩ := hp_36
            have hT := hT.tr hT2
            clear hT2
            have hR4 := et_38
            refine lv_aload_n hx hb dX10_readsMark_84 rfl (lv_at hl 0 rfl) ?_
            refine h_iconst hx hb dX10_readsMark_85 ?_
            refine h_bipush hx hb dX10_readsMark_86 (by decide) ?_
            -- call SpokenMarksModel.number0
            refine h_kI (h_runV X hR (m_number0 l G w_35 a ad t_37 hT.1 1 20 T ((rMust T 4 (rMk3 T s c0))) hR4 (by omega) (by omega)) pn_yX10_number0 (hasC.of hT.1.ob rfl) q2776 q2778 qs41 q161 q2779 ⟨by decide, by decide⟩ hl.1 (Nat.le_of_ble_eq_true rfl) dX10_readsMark_88 ⟨by omega, by omega⟩) hL (fun z_39 w_40 hp_41 H locs hR hL => ?_)
            obtain ⟨rfl, t_42, hT2, hE_t_42, et_43⟩ := hp_41
            have hT := hT.tr hT2
            clear hT2
            have hR5 := et_43
            have hnr := rNum_r (T := T) (lo := 1) (hi := 20) (e := rMust T 4 (rMk3 T s c0)) (by decide)
            refine lv_istore_n (lv' := [(1, .int (iI ((rNum T 1 20 ((rMust T 4 (rMk3 T s c0)))).2))), (0, .ref a)]) hx hb dX10_readsMark_91 rfl hl (by decide) rfl (fun ls hl => ?_)
            refine lv_aload_n hx hb dX10_readsMark_92 rfl (lv_at hl 1 rfl) ?_
            refine h_iconst hx hb dX10_readsMark_93 ?_
            -- call SpokenMarksModel.must
            refine h_kV (h_runV X hR (m_must l G w_40 a ad t_42 hT.1 3 T ((rMk5 T s c0).1) hR5 ⟨by decide, by decide⟩) pn_yX10_must (hasC.of hT.1.ob rfl) q2780 q2782 qs42 q161 q2783 ⟨by decide, by decide⟩ hl.1 (Nat.le_of_ble_eq_true rfl) dX10_readsMark_94 ⟨by omega, by omega⟩) hL (fun w_45 hp_46 H locs hR hL => ?_)
            obtain ⟨t_47, hT2, hE_t_47, et_48⟩ := hp_46
            have hT := hT.tr hT2
            clear hT2
            have hR6 : RdAt t_47 T (rMk6 T s c0) := et_48
            have hx6 := hR6.wr9
            refine lv_aload_n hx hb dX10_readsMark_97 rfl (lv_at hl 1 rfl) ?_
            refine tw_get X hR hT 21 (by decide) q2962 (v := .int (iI (wrC (rMk6 T s c0)))) (congrArg (fun z => some (Value.int (iI z))) (hR6.wr)) dX10_readsMark_98 ?_
            refine h_if_eq hx hb 105 dX10_readsMark_101 (by decide) ⟨by omega, by omega⟩ (fun c_6 => ?_) (fun c_6 => ?_)
            ·
              obtain ⟨s6, hs6⟩ := hR6.ok c_6
              refine lv_aload_n hx hb dX10_readsMark_105 rfl (lv_at hl 1 rfl) ?_
              refine lv_iload_n hx hb dX10_readsMark_106 rfl (lv_at hl 0 rfl) ?_
              -- call SpokenMarksModel.comes
              refine h_kI (h_runV X hR (m_comes l G w_45 a ad t_47 hT.1 ((rNum T 1 20 ((rMust T 4 (rMk3 T s c0)))).2) c0 ((rMkQ T s).2) (by rw [(((hE_t_47 3 (by decide)).2).trans (hE_t_42 3 (by decide)).2).trans (hE_t_37 3 (by decide)).2]; exact hC2) (by rw [(((hE_t_47 3 (by decide)).2).trans (hE_t_42 3 (by decide)).2).trans (hE_t_37 3 (by decide)).2]; exact hG) hpw (by omega) hnr hac hnx) pn_yX10_comes (hasC.of hT.1.ob rfl) q2917 q2919 qs72 q161 q2920 ⟨by decide, by decide⟩ hl.1 (Nat.le_of_ble_eq_true rfl) dX10_readsMark_107 ⟨by omega, by omega⟩) hL (fun z_49 w_50 hp_51 H locs hR hL => ?_)
              obtain ⟨rfl, t_52, hT2, hE_t_52, et_53⟩ := hp_51
              have hT := hT.tr hT2
              clear hT2
              refine lv_istore_n (lv' := [(2, .int (iI (cNx c0))), (1, .int (iI ((rNum T 1 20 ((rMust T 4 (rMk3 T s c0)))).2))), (0, .ref a)]) hx hb dX10_readsMark_110 rfl hl (by decide) rfl (fun ls hl => ?_)
              exact h_vreturn hx hb hlk hret hR hL ⟨t_52, hT, (TwE.tr (S2 := [1, 2, 3, 17, 18, 19, 20, 21, 22, 23, 24]) (TwE.tr (S2 := [1, 2, 3, 17, 18, 19, 20, 21, 22, 23, 24]) (TwE.tr (S2 := [1, 2, 3, 17, 18, 19, 20, 21, 22, 23, 24]) (TwE.tr (S2 := [1, 2, 3, 17, 18, 19, 20, 21, 22, 23, 24]) (TwE.tr (S2 := [1, 2, 3, 17, 18, 19, 20, 21, 22, 23, 24]) (TwE.tr (S2 := [1, 2, 3, 17, 18, 19, 20, 21, 22, 23, 24]) (TwE.tr (S2 := [1, 2, 3, 17, 18, 19, 20, 21, 22, 23, 24]) (TwE.rf : TwE [] t t) hE_t_7 rfl rfl) hE_t_12 rfl rfl) hE_t_32 rfl rfl) hE_t_37 rfl rfl) hE_t_42 rfl rfl) hE_t_47 rfl rfl) hE_t_52 rfl rfl), (by rw [rMark, if_neg (by omega), if_pos c_6]; exact ⟨(hR6.mv hE_t_52 (by decide) (by decide) (by decide) (by decide) (by decide) (by decide) (by decide) (by decide)), et_53⟩)⟩ (by omega) (by omega) rfl rfl dX10_readsMark_111
            ·
              exact h_vreturn hx hb hlk hret hR hL ⟨t_47, hT, (TwE.tr (S2 := [1, 2, 3, 17, 18, 19, 20, 21, 22, 23, 24]) (TwE.tr (S2 := [1, 2, 3, 17, 18, 19, 20, 21, 22, 23, 24]) (TwE.tr (S2 := [1, 2, 3, 17, 18, 19, 20, 21, 22, 23, 24]) (TwE.tr (S2 := [1, 2, 3, 17, 18, 19, 20, 21, 22, 23, 24]) (TwE.tr (S2 := [1, 2, 3, 17, 18, 19, 20, 21, 22, 23, 24]) (TwE.tr (S2 := [1, 2, 3, 17, 18, 19, 20, 21, 22, 23, 24]) (TwE.rf : TwE [] t t) hE_t_7 rfl rfl) hE_t_12 rfl rfl) hE_t_32 rfl rfl) hE_t_37 rfl rfl) hE_t_42 rfl rfl) hE_t_47 rfl rfl), (by rw [rMark, if_neg (by omega), if_neg c_6]; exact ⟨hR6, (by rw [(((hE_t_47 3 (by decide)).2).trans (hE_t_42 3 (by decide)).2).trans (hE_t_37 3 (by decide)).2]; exact hC2)⟩)⟩ (by omega) (by omega) rfl rfl dX10_readsMark_104
          ·
            refine lv_aload_n hx hb dX10_readsMark_66 rfl (lv_at hl 0 rfl) ?_
            -- call SpokenMarksModel.twin
            refine h_kIp (h_runV X hR (m_twin l G w_30 a ad t_32 hT.1 c0 ((rMkQ T s).2) hC2 hG) pn_yX10_twin (hasC.of hT.1.ob rfl) q2909 q2911 qs70 q161 q2912 ⟨by decide, by decide⟩ hl.1 (Nat.le_of_ble_eq_true rfl) dX10_readsMark_67 ⟨by omega, by omega⟩) hL (fun H locs hR hL => ?_)
            have htw_ := twinN_r c0 (rMkQ T s).2
            refine h_iconst hx hb dX10_readsMark_70 ?_
            refine h_icmp_eq hx hb 79 dX10_readsMark_71 (by decide) (by omega) (by omega) (fun c_t => ?_) (fun c_t => ?_)
            ·
              have hR3 : RdAt t_32 T (rMk3 T s c0) := by rw [show rMk3 T s c0 = (rMkQ T s).1 from if_neg (fun q => q.2 c_t)]; exact hRq2
              refine lv_aload_n hx hb dX10_readsMark_79 rfl (lv_at hl 0 rfl) ?_
              refine h_iconst hx hb dX10_readsMark_80 ?_
              -- call SpokenMarksModel.must
              refine h_kV (h_runV X hR (m_must l G w_30 a ad t_32 hT.1 4 T ((rMk3 T s c0)) hR3 ⟨by decide, by decide⟩) pn_yX10_must (hasC.of hT.1.ob rfl) q2780 q2782 qs42 q161 q2783 ⟨by decide, by decide⟩ hl.1 (Nat.le_of_ble_eq_true rfl) dX10_readsMark_81 ⟨by omega, by omega⟩) hL (fun w_58 hp_59 H locs hR hL => ?_)
              obtain ⟨t_60, hT2, hE_t_60, et_61⟩ := hp_59
              have hT := hT.tr hT2
              clear hT2
              have hR4 := et_61
              refine lv_aload_n hx hb dX10_readsMark_84 rfl (lv_at hl 0 rfl) ?_
              refine h_iconst hx hb dX10_readsMark_85 ?_
              refine h_bipush hx hb dX10_readsMark_86 (by decide) ?_
              -- call SpokenMarksModel.number0
              refine h_kI (h_runV X hR (m_number0 l G w_58 a ad t_60 hT.1 1 20 T ((rMust T 4 (rMk3 T s c0))) hR4 (by omega) (by omega)) pn_yX10_number0 (hasC.of hT.1.ob rfl) q2776 q2778 qs41 q161 q2779 ⟨by decide, by decide⟩ hl.1 (Nat.le_of_ble_eq_true rfl) dX10_readsMark_88 ⟨by omega, by omega⟩) hL (fun z_62 w_63 hp_64 H locs hR hL => ?_)
              obtain ⟨rfl, t_65, hT2, hE_t_65, et_66⟩ := hp_64
              have hT := hT.tr hT2
              clear hT2
              have hR5 := et_66
              have hnr := rNum_r (T := T) (lo := 1) (hi := 20) (e := rMust T 4 (rMk3 T s c0)) (by decide)
              refine lv_istore_n (lv' := [(1, .int (iI ((rNum T 1 20 ((rMust T 4 (rMk3 T s c0)))).2))), (0, .ref a)]) hx hb dX10_readsMark_91 rfl hl (by decide) rfl (fun ls hl => ?_)
              refine lv_aload_n hx hb dX10_readsMark_92 rfl (lv_at hl 1 rfl) ?_
              refine h_iconst hx hb dX10_readsMark_93 ?_
              -- call SpokenMarksModel.must
              refine h_kV (h_runV X hR (m_must l G w_63 a ad t_65 hT.1 3 T ((rMk5 T s c0).1) hR5 ⟨by decide, by decide⟩) pn_yX10_must (hasC.of hT.1.ob rfl) q2780 q2782 qs42 q161 q2783 ⟨by decide, by decide⟩ hl.1 (Nat.le_of_ble_eq_true rfl) dX10_readsMark_94 ⟨by omega, by omega⟩) hL (fun w_68 hp_69 H locs hR hL => ?_)
              obtain ⟨t_70, hT2, hE_t_70, et_71⟩ := hp_69
              have hT := hT.tr hT2
              clear hT2
              have hR6 : RdAt t_70 T (rMk6 T s c0) := et_71
              have hx6 := hR6.wr9
              refine lv_aload_n hx hb dX10_readsMark_97 rfl (lv_at hl 1 rfl) ?_
              refine tw_get X hR hT 21 (by decide) q2962 (v := .int (iI (wrC (rMk6 T s c0)))) (congrArg (fun z => some (Value.int (iI z))) (hR6.wr)) dX10_readsMark_98 ?_
              refine h_if_eq hx hb 105 dX10_readsMark_101 (by decide) ⟨by omega, by omega⟩ (fun c_6 => ?_) (fun c_6 => ?_)
              ·
                obtain ⟨s6, hs6⟩ := hR6.ok c_6
                refine lv_aload_n hx hb dX10_readsMark_105 rfl (lv_at hl 1 rfl) ?_
                refine lv_iload_n hx hb dX10_readsMark_106 rfl (lv_at hl 0 rfl) ?_
                -- call SpokenMarksModel.comes
                refine h_kI (h_runV X hR (m_comes l G w_68 a ad t_70 hT.1 ((rNum T 1 20 ((rMust T 4 (rMk3 T s c0)))).2) c0 ((rMkQ T s).2) (by rw [(((hE_t_70 3 (by decide)).2).trans (hE_t_65 3 (by decide)).2).trans (hE_t_60 3 (by decide)).2]; exact hC2) (by rw [(((hE_t_70 3 (by decide)).2).trans (hE_t_65 3 (by decide)).2).trans (hE_t_60 3 (by decide)).2]; exact hG) hpw (by omega) hnr hac hnx) pn_yX10_comes (hasC.of hT.1.ob rfl) q2917 q2919 qs72 q161 q2920 ⟨by decide, by decide⟩ hl.1 (Nat.le_of_ble_eq_true rfl) dX10_readsMark_107 ⟨by omega, by omega⟩) hL (fun z_72 w_73 hp_74 H locs hR hL => ?_)
                obtain ⟨rfl, t_75, hT2, hE_t_75, et_76⟩ := hp_74
                have hT := hT.tr hT2
                clear hT2
                refine lv_istore_n (lv' := [(2, .int (iI (cNx c0))), (1, .int (iI ((rNum T 1 20 ((rMust T 4 (rMk3 T s c0)))).2))), (0, .ref a)]) hx hb dX10_readsMark_110 rfl hl (by decide) rfl (fun ls hl => ?_)
                exact h_vreturn hx hb hlk hret hR hL ⟨t_75, hT, (TwE.tr (S2 := [1, 2, 3, 17, 18, 19, 20, 21, 22, 23, 24]) (TwE.tr (S2 := [1, 2, 3, 17, 18, 19, 20, 21, 22, 23, 24]) (TwE.tr (S2 := [1, 2, 3, 17, 18, 19, 20, 21, 22, 23, 24]) (TwE.tr (S2 := [1, 2, 3, 17, 18, 19, 20, 21, 22, 23, 24]) (TwE.tr (S2 := [1, 2, 3, 17, 18, 19, 20, 21, 22, 23, 24]) (TwE.tr (S2 := [1, 2, 3, 17, 18, 19, 20, 21, 22, 23, 24]) (TwE.tr (S2 := [1, 2, 3, 17, 18, 19, 20, 21, 22, 23, 24]) (TwE.rf : TwE [] t t) hE_t_7 rfl rfl) hE_t_12 rfl rfl) hE_t_32 rfl rfl) hE_t_60 rfl rfl) hE_t_65 rfl rfl) hE_t_70 rfl rfl) hE_t_75 rfl rfl), (by rw [rMark, if_neg (by omega), if_pos c_6]; exact ⟨(hR6.mv hE_t_75 (by decide) (by decide) (by decide) (by decide) (by decide) (by decide) (by decide) (by decide)), et_76⟩)⟩ (by omega) (by omega) rfl rfl dX10_readsMark_111
              ·
                exact h_vreturn hx hb hlk hret hR hL ⟨t_70, hT, (TwE.tr (S2 := [1, 2, 3, 17, 18, 19, 20, 21, 22, 23, 24]) (TwE.tr (S2 := [1, 2, 3, 17, 18, 19, 20, 21, 22, 23, 24]) (TwE.tr (S2 := [1, 2, 3, 17, 18, 19, 20, 21, 22, 23, 24]) (TwE.tr (S2 := [1, 2, 3, 17, 18, 19, 20, 21, 22, 23, 24]) (TwE.tr (S2 := [1, 2, 3, 17, 18, 19, 20, 21, 22, 23, 24]) (TwE.tr (S2 := [1, 2, 3, 17, 18, 19, 20, 21, 22, 23, 24]) (TwE.rf : TwE [] t t) hE_t_7 rfl rfl) hE_t_12 rfl rfl) hE_t_32 rfl rfl) hE_t_60 rfl rfl) hE_t_65 rfl rfl) hE_t_70 rfl rfl), (by rw [rMark, if_neg (by omega), if_neg c_6]; exact ⟨hR6, (by rw [(((hE_t_70 3 (by decide)).2).trans (hE_t_65 3 (by decide)).2).trans (hE_t_60 3 (by decide)).2]; exact hC2)⟩)⟩ (by omega) (by omega) rfl rfl dX10_readsMark_104
            ·
              refine lv_aload_n hx hb dX10_readsMark_74 rfl (lv_at hl 0 rfl) ?_
              refine h_iconst hx hb dX10_readsMark_75 ?_
              -- call SpokenMarksModel.errs
              refine h_kV (h_runV X hR (m_errs l G w_30 a ad t_32 hT.1 4 T ((rMkQ T s).1) hRq2 (by omega)) pn_yX10_errs (hasC.of hT.1.ob rfl) q2772 q2774 qs40 q161 q2775 ⟨by decide, by decide⟩ hl.1 (Nat.le_of_ble_eq_true rfl) dX10_readsMark_76 ⟨by omega, by omega⟩) hL (fun w_78 hp_79 H locs hR hL => ?_)
              obtain ⟨t_80, hT2, hE_t_80, et_81⟩ := hp_79
              have hT := hT.tr hT2
              clear hT2
              have hRe : RdAt t_80 T (rErr 4 (rMkQ T s).1) := et_81
              have hR3 : RdAt t_80 T (rMk3 T s c0) := by rw [show rMk3 T s c0 = (rErr 4 (rMkQ T s).1) from if_pos ⟨by rw [hs2]; exact isEq_1.mpr c_k, c_t⟩]; exact hRe
              refine lv_aload_n hx hb dX10_readsMark_79 rfl (lv_at hl 0 rfl) ?_
              refine h_iconst hx hb dX10_readsMark_80 ?_
              -- call SpokenMarksModel.must
              refine h_kV (h_runV X hR (m_must l G w_78 a ad t_80 hT.1 4 T ((rMk3 T s c0)) hR3 ⟨by decide, by decide⟩) pn_yX10_must (hasC.of hT.1.ob rfl) q2780 q2782 qs42 q161 q2783 ⟨by decide, by decide⟩ hl.1 (Nat.le_of_ble_eq_true rfl) dX10_readsMark_81 ⟨by omega, by omega⟩) hL (fun w_83 hp_84 H locs hR hL => ?_)
              obtain ⟨t_85, hT2, hE_t_85, et_86⟩ := hp_84
              have hT := hT.tr hT2
              clear hT2
              have hR4 := et_86
              refine lv_aload_n hx hb dX10_readsMark_84 rfl (lv_at hl 0 rfl) ?_
              refine h_iconst hx hb dX10_readsMark_85 ?_
              refine h_bipush hx hb dX10_readsMark_86 (by decide) ?_
              -- call SpokenMarksModel.number0
              refine h_kI (h_runV X hR (m_number0 l G w_83 a ad t_85 hT.1 1 20 T ((rMust T 4 (rMk3 T s c0))) hR4 (by omega) (by omega)) pn_yX10_number0 (hasC.of hT.1.ob rfl) q2776 q2778 qs41 q161 q2779 ⟨by decide, by decide⟩ hl.1 (Nat.le_of_ble_eq_true rfl) dX10_readsMark_88 ⟨by omega, by omega⟩) hL (fun z_87 w_88 hp_89 H locs hR hL => ?_)
              obtain ⟨rfl, t_90, hT2, hE_t_90, et_91⟩ := hp_89
              have hT := hT.tr hT2
              clear hT2
              have hR5 := et_91
              have hnr := rNum_r (T := T) (lo := 1) (hi := 20) (e := rMust T 4 (rMk3 T s c0)) (by decide)
              refine lv_istore_n (lv' := [(1, .int (iI ((rNum T 1 20 ((rMust T 4 (rMk3 T s c0)))).2))), (0, .ref a)]) hx hb dX10_readsMark_91 rfl hl (by decide) rfl (fun ls hl => ?_)
              refine lv_aload_n hx hb dX10_readsMark_92 rfl (lv_at hl 1 rfl) ?_
              refine h_iconst hx hb dX10_readsMark_93 ?_
              -- call SpokenMarksModel.must
              refine h_kV (h_runV X hR (m_must l G w_88 a ad t_90 hT.1 3 T ((rMk5 T s c0).1) hR5 ⟨by decide, by decide⟩) pn_yX10_must (hasC.of hT.1.ob rfl) q2780 q2782 qs42 q161 q2783 ⟨by decide, by decide⟩ hl.1 (Nat.le_of_ble_eq_true rfl) dX10_readsMark_94 ⟨by omega, by omega⟩) hL (fun w_93 hp_94 H locs hR hL => ?_)
              obtain ⟨t_95, hT2, hE_t_95, et_96⟩ := hp_94
              have hT := hT.tr hT2
              clear hT2
              have hR6 : RdAt t_95 T (rMk6 T s c0) := et_96
              have hx6 := hR6.wr9
              refine lv_aload_n hx hb dX10_readsMark_97 rfl (lv_at hl 1 rfl) ?_
              refine tw_get X hR hT 21 (by decide) q2962 (v := .int (iI (wrC (rMk6 T s c0)))) (congrArg (fun z => some (Value.int (iI z))) (hR6.wr)) dX10_readsMark_98 ?_
              refine h_if_eq hx hb 105 dX10_readsMark_101 (by decide) ⟨by omega, by omega⟩ (fun c_6 => ?_) (fun c_6 => ?_)
              ·
                obtain ⟨s6, hs6⟩ := hR6.ok c_6
                refine lv_aload_n hx hb dX10_readsMark_105 rfl (lv_at hl 1 rfl) ?_
                refine lv_iload_n hx hb dX10_readsMark_106 rfl (lv_at hl 0 rfl) ?_
                -- call SpokenMarksModel.comes
                refine h_kI (h_runV X hR (m_comes l G w_93 a ad t_95 hT.1 ((rNum T 1 20 ((rMust T 4 (rMk3 T s c0)))).2) c0 ((rMkQ T s).2) (by rw [((((hE_t_95 3 (by decide)).2).trans (hE_t_90 3 (by decide)).2).trans (hE_t_85 3 (by decide)).2).trans (hE_t_80 3 (by decide)).2]; exact hC2) (by rw [((((hE_t_95 3 (by decide)).2).trans (hE_t_90 3 (by decide)).2).trans (hE_t_85 3 (by decide)).2).trans (hE_t_80 3 (by decide)).2]; exact hG) hpw (by omega) hnr hac hnx) pn_yX10_comes (hasC.of hT.1.ob rfl) q2917 q2919 qs72 q161 q2920 ⟨by decide, by decide⟩ hl.1 (Nat.le_of_ble_eq_true rfl) dX10_readsMark_107 ⟨by omega, by omega⟩) hL (fun z_97 w_98 hp_99 H locs hR hL => ?_)
                obtain ⟨rfl, t_100, hT2, hE_t_100, et_101⟩ := hp_99
                have hT := hT.tr hT2
                clear hT2
                refine lv_istore_n (lv' := [(2, .int (iI (cNx c0))), (1, .int (iI ((rNum T 1 20 ((rMust T 4 (rMk3 T s c0)))).2))), (0, .ref a)]) hx hb dX10_readsMark_110 rfl hl (by decide) rfl (fun ls hl => ?_)
                exact h_vreturn hx hb hlk hret hR hL ⟨t_100, hT, (TwE.tr (S2 := [1, 2, 3, 17, 18, 19, 20, 21, 22, 23, 24]) (TwE.tr (S2 := [1, 2, 3, 17, 18, 19, 20, 21, 22, 23, 24]) (TwE.tr (S2 := [1, 2, 3, 17, 18, 19, 20, 21, 22, 23, 24]) (TwE.tr (S2 := [1, 2, 3, 17, 18, 19, 20, 21, 22, 23, 24]) (TwE.tr (S2 := [1, 2, 3, 17, 18, 19, 20, 21, 22, 23, 24]) (TwE.tr (S2 := [1, 2, 3, 17, 18, 19, 20, 21, 22, 23, 24]) (TwE.tr (S2 := [1, 2, 3, 17, 18, 19, 20, 21, 22, 23, 24]) (TwE.tr (S2 := [1, 2, 3, 17, 18, 19, 20, 21, 22, 23, 24]) (TwE.rf : TwE [] t t) hE_t_7 rfl rfl) hE_t_12 rfl rfl) hE_t_32 rfl rfl) hE_t_80 rfl rfl) hE_t_85 rfl rfl) hE_t_90 rfl rfl) hE_t_95 rfl rfl) hE_t_100 rfl rfl), (by rw [rMark, if_neg (by omega), if_pos c_6]; exact ⟨(hR6.mv hE_t_100 (by decide) (by decide) (by decide) (by decide) (by decide) (by decide) (by decide) (by decide)), et_101⟩)⟩ (by omega) (by omega) rfl rfl dX10_readsMark_111
              ·
                exact h_vreturn hx hb hlk hret hR hL ⟨t_95, hT, (TwE.tr (S2 := [1, 2, 3, 17, 18, 19, 20, 21, 22, 23, 24]) (TwE.tr (S2 := [1, 2, 3, 17, 18, 19, 20, 21, 22, 23, 24]) (TwE.tr (S2 := [1, 2, 3, 17, 18, 19, 20, 21, 22, 23, 24]) (TwE.tr (S2 := [1, 2, 3, 17, 18, 19, 20, 21, 22, 23, 24]) (TwE.tr (S2 := [1, 2, 3, 17, 18, 19, 20, 21, 22, 23, 24]) (TwE.tr (S2 := [1, 2, 3, 17, 18, 19, 20, 21, 22, 23, 24]) (TwE.tr (S2 := [1, 2, 3, 17, 18, 19, 20, 21, 22, 23, 24]) (TwE.rf : TwE [] t t) hE_t_7 rfl rfl) hE_t_12 rfl rfl) hE_t_32 rfl rfl) hE_t_80 rfl rfl) hE_t_85 rfl rfl) hE_t_90 rfl rfl) hE_t_95 rfl rfl), (by rw [rMark, if_neg (by omega), if_neg c_6]; exact ⟨hR6, (by rw [((((hE_t_95 3 (by decide)).2).trans (hE_t_90 3 (by decide)).2).trans (hE_t_85 3 (by decide)).2).trans (hE_t_80 3 (by decide)).2]; exact hC2)⟩)⟩ (by omega) (by omega) rfl rfl dX10_readsMark_104
    ·
      exact absurd rfl c_w0
  ·
    refine lv_aload_n hx hb dX10_readsMark_10 rfl (lv_at hl 0 rfl) ?_
    refine h_iconst hx hb dX10_readsMark_11 ?_
    -- call SpokenMarksModel.errs
    refine h_kV (h_runV X hR (m_errs l G w a ad t hT.1 5 T ((.inr s)) hRd (by omega)) pn_yX10_errs (hasC.of hT.1.ob rfl) q2772 q2774 qs40 q161 q2775 ⟨by decide, by decide⟩ hl.1 (Nat.le_of_ble_eq_true rfl) dX10_readsMark_12 ⟨by omega, by omega⟩) hL (fun w_103 hp_104 H locs hR hL => ?_)
    obtain ⟨t_105, hT2, hE_t_105, et_106⟩ := hp_104
    have hT := hT.tr hT2
    clear hT2
    have hRe_5 : RdAt t_105 T (rErr 5 (.inr s)) := et_106
    have hRx_5 : R32 (wrC (rErr 5 (.inr s))) := by have h_ := hT.1.ri 21 (by decide) (by decide); rwa [hRe_5.wr] at h_
    refine lv_aload_n hx hb dX10_readsMark_15 rfl (lv_at hl 0 rfl) ?_
    refine tw_get X hR hT 21 (by decide) q2962 (v := .int (iI (wrC (rErr 5 (.inr s))))) (congrArg (fun z => some (Value.int (iI z))) (hRe_5.wr)) dX10_readsMark_16 ?_
    refine h_if_eq hx hb 23 dX10_readsMark_19 (by decide) (by omega) (fun c_w0 => ?_) (fun c_w0 => ?_)
    ·
      exact absurd c_w0 (rErr_w hRd (by decide))
    ·
      exact h_vreturn hx hb hlk hret hR hL ⟨t_105, hT, (TwE.tr (S2 := [1, 2, 3, 17, 18, 19, 20, 21, 22, 23, 24]) (TwE.rf : TwE [] t t) hE_t_105 rfl rfl), (by rw [rMark, if_pos (by omega)]; exact ⟨hRe_5, by rw [(hE_t_105 3 (by decide)).2]; exact hC⟩)⟩ (by omega) (by omega) rfl rfl dX10_readsMark_22
