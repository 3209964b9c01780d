/-! the twin: does, keeps, ends, operates; the undo stack -/
set_option maxRecDepth 100000
def doA (c : Cat) (k x y : Int) : Cat × Int :=
  if k = 2 then (if x < ((cRl c).length : Int) then unA c x.toNat else (c, -9))
  else if k = 3 then (if rkOf c x = -1 then (c, -9) else (cDrp c (rkOf c x).toNat, (cN c : Int) - 1))
  else if k = 4 then (if rkOf c x = -1 then (c, -9) else (cWid c (rkOf c x).toNat y, mWd (mk c (rkOf c x).toNat)))
  else if k = 5 then (if x < cSh c then bdA c x y else (c, -9))
  else if k = 6 then (cBal c, ovr (cBal c))
  else (cRsp c, rspN c)
def cat0 : Cat := (0, 0, [], [], [], fun _ => 0, 0)
def uG (U : List Cat) (k : Nat) : Cat := U.getD k cat0
def UnIs (n : Int) (f : Nat → Int) (U : List Cat) : Prop := U.length ≤ 8 ∧ n = (U.length : Int) ∧ ∀ k, k < U.length → RowIs (fun i => f (606 * k + i)) (uG U k)
def pushU (U : List Cat) (c : Cat) : List Cat := (if U.length = 8 then U.drop 1 else U) ++ [c]
theorem RowIs.mv606 {f g : Nat → Int} {c : Cat} (h : RowIs f c) (hfg : ∀ i, i < 606 → g i = f i) : RowIs g c := h.mv (fun i hi => hfg i (by have := h.n40; omega))
theorem UnIs.shift {n n2 : Int} {f g : Nat → Int} {U : List Cat} (h : UnIs n f U) (h8 : U.length = 8) (hn : n2 = 7) (hg : ∀ i, i < 4242 → g i = f (i + 606)) : UnIs n2 g (U.drop 1) := by
  refine ⟨by rw [List.length_drop]; omega, by rw [hn, List.length_drop, h8]; rfl, fun k hk => ?_⟩
  rw [List.length_drop] at hk
  have e : uG (U.drop 1) k = uG U (k + 1) := by unfold uG; rw [List.getD_eq_getElem?_getD, List.getElem?_drop, ← List.getD_eq_getElem?_getD, Nat.add_comm 1 k]
  rw [e]
  exact (h.2.2 (k + 1) (by omega)).mv606 (fun i hi => by show g (606 * k + i) = f (606 * (k + 1) + i); rw [hg _ (by omega)]; congr 1; omega)
theorem UnIs.push {n n2 : Int} {f g : Nat → Int} {U : List Cat} {c : Cat} (h : UnIs n f U) (h7 : U.length ≤ 7) (hn : n2 = n + 1) (hg : ∀ i, i < 606 * U.length → g i = f i) (hc : RowIs (fun i => g (606 * U.length + i)) c) : UnIs n2 g (U ++ [c]) := by
  have hl : (U ++ [c]).length = U.length + 1 := by simp
  refine ⟨by omega, by rw [hn, h.2.1, hl]; omega, fun k hk => ?_⟩
  rw [hl] at hk
  by_cases q : k = U.length
  · subst q
    have e : uG (U ++ [c]) U.length = c := by unfold uG; simp
    rw [e]; exact hc
  · have e : uG (U ++ [c]) k = uG U k := by unfold uG; rw [List.getD_eq_getElem?_getD, List.getElem?_append_left (by omega), ← List.getD_eq_getElem?_getD]
    rw [e]
    exact (h.2.2 k (by omega)).mv606 (fun i hi => hg _ (by omega))

theorem pn_yX10_balances : ParN yX10_balances 0 := by decide +kernel
theorem pn_yX10_bounds : ParN yX10_bounds 2 := by decide +kernel
theorem pn_yX10_drops : ParN yX10_drops 1 := by decide +kernel
theorem pn_yX10_unsays : ParN yX10_unsays 1 := by decide +kernel
theorem pn_yX10_widens : ParN yX10_widens 2 := by decide +kernel

set_option maxHeartbeats 4000000 in
set_option maxRecDepth 100000 in
/-- does -/
theorem m_does (l : Launch) (G : Gl) (w : Wd) (a : Nat) (ad : Nat → Nat) (t : Tw) (hT : TwAt G w a ad t) (kd : Int) (x : Int) (y : Int) (c0 : Cat) (hC : RowIs (t.2 3) c0) (hkd : 2 ≤ kd ∧ kd ≤ 7) (hxr : R32 x) (hyr : R32 y) (hx0 : kd = 2 ∨ kd = 5 → 0 ≤ x) (hy4 : kd = 4 → 1 ≤ y ∧ y ≤ 20) (hpd : PD (cMk c0)) (hac : ∀ k, k < 3 → cAc c0 k < 990000) : HM l yX10_does cX10_does 4 (some .int) 8 0 0 G [.ref a, .int (iI (kd)), .int (iI (x)), .int (iI (y))] w (QI G (fun z_ w_ => z_ = (doA c0 kd x y).2 ∧ ∃ t_ : Tw, TwS G w w_ a ad t_ ∧ TwE [1, 2, 3] t t_ ∧ RowIs (t_.2 3) (doA c0 kd x y).1)) := by
  refine HM.mk (by decide +kernel) (Nat.le_of_ble_eq_true rfl) ?_
  intro p9 e9 s9 m9 a9 b9 meth9 c9 ls X hret hlk hnm hl H hR
  have hx := X.1.1
  have hb := X.1.2.1
  have hl : lv_has ls 4 [(0, .ref a), (1, .int (iI (kd))), (2, .int (iI (x))), (3, .int (iI (y)))] := hl
  have hL : LK G [] := fun q h => absurd h List.not_mem_nil
  generalize ([] : List Loc) = locs at hL ⊢
  have hTb := hT
  have hT : TwS G w w a ad t := TwS.rf hT
  have hn40 := hC.n40
  have hsh8 := hC.sh8
  have hrr := rkOf_r c0 x
  have hn8 := hC.rl.2.2.1
  refine lv_iload_n hx hb dX10_does_0 rfl (lv_at hl 1 rfl) ?_
  by_cases c_1_in : (2 : Int) ≤ kd ∧ kd ≤ 6
  ·
    have c_1 : kd = 2 ∨ kd = 3 ∨ kd = 4 ∨ kd = 5 ∨ kd = 6 := by omega
    rcases c_1 with c_1 | c_1 | c_1 | c_1 | c_1
    ·
      refine h_tabIn hx hb 36 dX10_does_1 (by omega) (by omega) (by rw [c_1]; rfl) (by decide) ?_
      refine lv_iload_n hx hb dX10_does_36 rfl (lv_at hl 2 rfl) ?_
      refine lv_aload_n hx hb dX10_does_37 rfl (lv_at hl 0 rfl) ?_
      refine h_iconst hx hb dX10_does_38 ?_
      -- call SpokenMarksModel.head
      refine h_kIp (h_runV X hR (m_head l G w a ad t hT.1 3 (by omega)) pn_yX10_head (hasC.of hT.1.ob rfl) q2789 q2791 qs44 q161 q2792 ⟨by decide, by decide⟩ hl.1 (Nat.le_of_ble_eq_true rfl) dX10_does_39 ⟨by omega, by omega⟩) hL (fun H locs hR hL => ?_)
      refine W.eq (g2 := F0 m9 42 ls [.int (iI (((cRl c0).length : Int))), .int (iI (x))]) (congrArg (fun z_ : Int => F0 m9 42 ls [.int (iI (z_)), .int (iI (x))]) (show (hd t 3 : Int) = ((cRl c0).length : Int) from (by exact hC.rl.1))) ?_
      refine h_icmp_ge hx hb 53 dX10_does_42 (by decide) (by omega) (by omega) (fun c_5 => ?_) (fun c_5 => ?_)
      ·
        refine h_bipush hx hb dX10_does_53 (by decide) ?_
        exact h_ireturn hx hb hlk hret hR hL rfl ⟨(by unfold doA; rw [if_pos (by omega)]; rw [if_neg (by omega)]), ⟨t, hT, (TwE.rf : TwE [1, 2, 3] t t), (by unfold doA; rw [if_pos (by omega)]; rw [if_neg (by omega)]; exact hC)⟩⟩ (by omega) (by omega) rfl rfl dX10_does_55
      ·
        refine lv_aload_n hx hb dX10_does_45 rfl (lv_at hl 0 rfl) ?_
        refine lv_iload_n hx hb dX10_does_46 rfl (lv_at hl 2 rfl) ?_
        refine W.eq (g2 := F0 m9 47 ls [.int (iI (((x.toNat : Nat) : Int))), .ref a]) (congrArg (fun z_ : Int => F0 m9 47 ls [.int (iI (z_)), .ref a]) (show (x : Int) = ((x.toNat : Nat) : Int) from (by omega))) ?_
        -- call SpokenMarksModel.unsays
        refine h_kI (h_runV X hR (m_unsays l G w a ad t hT.1 x.toNat c0 hC (by omega) hpd hac) pn_yX10_unsays (hasC.of hT.1.ob rfl) q3262 q3264 qs106 q161 q3265 ⟨by decide, by decide⟩ hl.1 (Nat.le_of_ble_eq_true rfl) dX10_does_47 ⟨by omega, by omega⟩) hL (fun z_6 w_7 hp_8 H locs hR hL => ?_)
        obtain ⟨rfl, t_9, hT2, hE_t_9, et_10⟩ := hp_8
        have hT := hT.tr hT2
        clear hT2
        refine lv_goto (tgt := 55) hx hb dX10_does_50 (by decide) ?_
        exact h_ireturn hx hb hlk hret hR hL rfl ⟨(by unfold doA; rw [if_pos (by omega)]; rw [if_pos (by omega)]), ⟨t_9, hT, (TwE.tr (S2 := [1, 2, 3]) (TwE.rf : TwE [] t t) hE_t_9 rfl rfl), (by unfold doA; rw [if_pos (by omega)]; rw [if_pos (by omega)]; exact et_10)⟩⟩ (by omega) (by omega) rfl rfl dX10_does_55
    ·
      refine h_tabIn hx hb 56 dX10_does_1 (by omega) (by omega) (by rw [c_1]; rfl) (by decide) ?_
      refine lv_aload_n hx hb dX10_does_56 rfl (lv_at hl 0 rfl) ?_
      refine lv_iload_n hx hb dX10_does_57 rfl (lv_at hl 2 rfl) ?_
      -- call SpokenMarksModel.rankOf
      refine h_kIp (h_runV X hR (m_rankOf l G w a ad t hT.1 x c0 hC hxr) pn_yX10_rankOf (hasC.of hT.1.ob rfl) q3101 q3103 qs86 q161 q3104 ⟨by decide, by decide⟩ hl.1 (Nat.le_of_ble_eq_true rfl) dX10_does_58 ⟨by omega, by omega⟩) hL (fun H locs hR hL => ?_)
      refine h_iconst hx hb dX10_does_61 ?_
      refine h_icmp_eq hx hb 77 dX10_does_62 (by decide) (by omega) (by omega) (fun c_r => ?_) (fun c_r => ?_)
      ·
        refine h_bipush hx hb dX10_does_77 (by decide) ?_
        exact h_ireturn hx hb hlk hret hR hL rfl ⟨(by unfold doA; rw [if_neg (by omega)]; rw [if_pos (by omega)]; rw [if_pos c_r]), ⟨t, hT, (TwE.rf : TwE [1, 2, 3] t t), (by unfold doA; rw [if_neg (by omega)]; rw [if_pos (by omega)]; rw [if_pos c_r]; exact hC)⟩⟩ (by omega) (by omega) rfl rfl dX10_does_79
      ·
        refine lv_aload_n hx hb dX10_does_65 rfl (lv_at hl 0 rfl) ?_
        refine lv_aload_n hx hb dX10_does_66 rfl (lv_at hl 0 rfl) ?_
        refine lv_iload_n hx hb dX10_does_67 rfl (lv_at hl 2 rfl) ?_
        -- call SpokenMarksModel.rankOf
        refine h_kIp (h_runV X hR (m_rankOf l G w a ad t hT.1 x c0 hC hxr) pn_yX10_rankOf (hasC.of hT.1.ob rfl) q3101 q3103 qs86 q161 q3104 ⟨by decide, by decide⟩ hl.1 (Nat.le_of_ble_eq_true rfl) dX10_does_68 ⟨by omega, by omega⟩) hL (fun H locs hR hL => ?_)
        refine W.eq (g2 := F0 m9 71 ls [.int (iI ((((rkOf c0 x).toNat : Nat) : Int))), .ref a]) (congrArg (fun z_ : Int => F0 m9 71 ls [.int (iI (z_)), .ref a]) (show (rkOf c0 x : Int) = (((rkOf c0 x).toNat : Nat) : Int) from (by omega))) ?_
        -- call SpokenMarksModel.drops
        refine h_kI (h_runV X hR (m_drops l G w a ad t hT.1 ((rkOf c0 x).toNat) c0 hC (by omega)) pn_yX10_drops (hasC.of hT.1.ob rfl) q3266 q3268 qs107 q161 q3269 ⟨by decide, by decide⟩ hl.1 (Nat.le_of_ble_eq_true rfl) dX10_does_71 ⟨by omega, by omega⟩) hL (fun z_17 w_18 hp_19 H locs hR hL => ?_)
        obtain ⟨rfl, t_20, hT2, hE_t_20, et_21⟩ := hp_19
        have hT := hT.tr hT2
        clear hT2
        refine lv_goto (tgt := 79) hx hb dX10_does_74 (by decide) ?_
        exact h_ireturn hx hb hlk hret hR hL rfl ⟨(by unfold doA; rw [if_neg (by omega)]; rw [if_pos (by omega)]; rw [if_neg c_r]), ⟨t_20, hT, (TwE.tr (S2 := [1, 2, 3]) (TwE.rf : TwE [] t t) hE_t_20 rfl rfl), (by unfold doA; rw [if_neg (by omega)]; rw [if_pos (by omega)]; rw [if_neg c_r]; exact et_21)⟩⟩ (by omega) (by omega) rfl rfl dX10_does_79
    ·
      refine h_tabIn hx hb 80 dX10_does_1 (by omega) (by omega) (by rw [c_1]; rfl) (by decide) ?_
      refine lv_aload_n hx hb dX10_does_80 rfl (lv_at hl 0 rfl) ?_
      refine lv_iload_n hx hb dX10_does_81 rfl (lv_at hl 2 rfl) ?_
      -- call SpokenMarksModel.rankOf
      refine h_kIp (h_runV X hR (m_rankOf l G w a ad t hT.1 x c0 hC hxr) pn_yX10_rankOf (hasC.of hT.1.ob rfl) q3101 q3103 qs86 q161 q3104 ⟨by decide, by decide⟩ hl.1 (Nat.le_of_ble_eq_true rfl) dX10_does_82 ⟨by omega, by omega⟩) hL (fun H locs hR hL => ?_)
      refine h_iconst hx hb dX10_does_85 ?_
      refine h_icmp_eq hx hb 102 dX10_does_86 (by decide) (by omega) (by omega) (fun c_r => ?_) (fun c_r => ?_)
      ·
        refine h_bipush hx hb dX10_does_102 (by decide) ?_
        exact h_ireturn hx hb hlk hret hR hL rfl ⟨(by unfold doA; rw [if_neg (by omega)]; rw [if_neg (by omega)]; rw [if_pos (by omega)]; rw [if_pos c_r]), ⟨t, hT, (TwE.rf : TwE [1, 2, 3] t t), (by unfold doA; rw [if_neg (by omega)]; rw [if_neg (by omega)]; rw [if_pos (by omega)]; rw [if_pos c_r]; exact hC)⟩⟩ (by omega) (by omega) rfl rfl dX10_does_104
      ·
        refine lv_aload_n hx hb dX10_does_89 rfl (lv_at hl 0 rfl) ?_
        refine lv_aload_n hx hb dX10_does_90 rfl (lv_at hl 0 rfl) ?_
        refine lv_iload_n hx hb dX10_does_91 rfl (lv_at hl 2 rfl) ?_
        -- call SpokenMarksModel.rankOf
        refine h_kIp (h_runV X hR (m_rankOf l G w a ad t hT.1 x c0 hC hxr) pn_yX10_rankOf (hasC.of hT.1.ob rfl) q3101 q3103 qs86 q161 q3104 ⟨by decide, by decide⟩ hl.1 (Nat.le_of_ble_eq_true rfl) dX10_does_92 ⟨by omega, by omega⟩) hL (fun H locs hR hL => ?_)
        refine lv_iload_n hx hb dX10_does_95 rfl (lv_at hl 3 rfl) ?_
        refine W.eq (g2 := F0 m9 96 ls [.int (iI (y)), .int (iI ((((rkOf c0 x).toNat : Nat) : Int))), .ref a]) (congrArg (fun z_ : Int => F0 m9 96 ls [.int (iI (y)), .int (iI (z_)), .ref a]) (show (rkOf c0 x : Int) = (((rkOf c0 x).toNat : Nat) : Int) from (by omega))) ?_
        -- call SpokenMarksModel.widens
        refine h_kI (h_runV X hR (m_widens l G w a ad t hT.1 ((rkOf c0 x).toNat) y c0 hC (by omega) (hy4 (by omega))) pn_yX10_widens (hasC.of hT.1.ob rfl) q3270 q3272 qs108 q161 q3273 ⟨by decide, by decide⟩ hl.1 (Nat.le_of_ble_eq_true rfl) dX10_does_96 ⟨by omega, by omega⟩) hL (fun z_28 w_29 hp_30 H locs hR hL => ?_)
        obtain ⟨rfl, t_31, hT2, hE_t_31, et_32⟩ := hp_30
        have hT := hT.tr hT2
        clear hT2
        refine lv_goto (tgt := 104) hx hb dX10_does_99 (by decide) ?_
        exact h_ireturn hx hb hlk hret hR hL rfl ⟨(by unfold doA; rw [if_neg (by omega)]; rw [if_neg (by omega)]; rw [if_pos (by omega)]; rw [if_neg c_r]), ⟨t_31, hT, (TwE.tr (S2 := [1, 2, 3]) (TwE.rf : TwE [] t t) hE_t_31 rfl rfl), (by unfold doA; rw [if_neg (by omega)]; rw [if_neg (by omega)]; rw [if_pos (by omega)]; rw [if_neg c_r]; exact et_32)⟩⟩ (by omega) (by omega) rfl rfl dX10_does_104
    ·
      refine h_tabIn hx hb 105 dX10_does_1 (by omega) (by omega) (by rw [c_1]; rfl) (by decide) ?_
      refine lv_iload_n hx hb dX10_does_105 rfl (lv_at hl 2 rfl) ?_
      refine lv_aload_n hx hb dX10_does_106 rfl (lv_at hl 0 rfl) ?_
      refine h_iconst hx hb dX10_does_107 ?_
      -- call SpokenMarksModel.head
      refine h_kIp (h_runV X hR (m_head l G w a ad t hT.1 0 (by omega)) pn_yX10_head (hasC.of hT.1.ob rfl) q2789 q2791 qs44 q161 q2792 ⟨by decide, by decide⟩ hl.1 (Nat.le_of_ble_eq_true rfl) dX10_does_108 ⟨by omega, by omega⟩) hL (fun H locs hR hL => ?_)
      refine W.eq (g2 := F0 m9 111 ls [.int (iI (cSh c0)), .int (iI (x))]) (congrArg (fun z_ : Int => F0 m9 111 ls [.int (iI (z_)), .int (iI (x))]) (show (hd t 0 : Int) = cSh c0 from (by exact hC.sh))) ?_
      refine h_icmp_ge hx hb 123 dX10_does_111 (by decide) (by omega) (by omega) (fun c_36 => ?_) (fun c_36 => ?_)
      ·
        refine h_bipush hx hb dX10_does_123 (by decide) ?_
        exact h_ireturn hx hb hlk hret hR hL rfl ⟨(by unfold doA; rw [if_neg (by omega)]; rw [if_neg (by omega)]; rw [if_neg (by omega)]; rw [if_pos (by omega)]; rw [if_neg (by omega)]), ⟨t, hT, (TwE.rf : TwE [1, 2, 3] t t), (by unfold doA; rw [if_neg (by omega)]; rw [if_neg (by omega)]; rw [if_neg (by omega)]; rw [if_pos (by omega)]; rw [if_neg (by omega)]; exact hC)⟩⟩ (by omega) (by omega) rfl rfl dX10_does_125
      ·
        refine lv_aload_n hx hb dX10_does_114 rfl (lv_at hl 0 rfl) ?_
        refine lv_iload_n hx hb dX10_does_115 rfl (lv_at hl 2 rfl) ?_
        refine lv_iload_n hx hb dX10_does_116 rfl (lv_at hl 3 rfl) ?_
        -- call SpokenMarksModel.bounds
        refine h_kI (h_runV X hR (m_bounds l G w a ad t hT.1 x y c0 hC ⟨by omega, by omega⟩ hyr) pn_yX10_bounds (hasC.of hT.1.ob rfl) q3274 q3276 qs109 q161 q3277 ⟨by decide, by decide⟩ hl.1 (Nat.le_of_ble_eq_true rfl) dX10_does_117 ⟨by omega, by omega⟩) hL (fun z_37 w_38 hp_39 H locs hR hL => ?_)
        obtain ⟨rfl, t_40, hT2, hE_t_40, et_41⟩ := hp_39
        have hT := hT.tr hT2
        clear hT2
        refine lv_goto (tgt := 125) hx hb dX10_does_120 (by decide) ?_
        exact h_ireturn hx hb hlk hret hR hL rfl ⟨(by unfold doA; rw [if_neg (by omega)]; rw [if_neg (by omega)]; rw [if_neg (by omega)]; rw [if_pos (by omega)]; rw [if_pos (by omega)]), ⟨t_40, hT, (TwE.tr (S2 := [1, 2, 3]) (TwE.rf : TwE [] t t) hE_t_40 rfl rfl), (by unfold doA; rw [if_neg (by omega)]; rw [if_neg (by omega)]; rw [if_neg (by omega)]; rw [if_pos (by omega)]; rw [if_pos (by omega)]; exact et_41)⟩⟩ (by omega) (by omega) rfl rfl dX10_does_125
    ·
      refine h_tabIn hx hb 126 dX10_does_1 (by omega) (by omega) (by rw [c_1]; rfl) (by decide) ?_
      refine lv_aload_n hx hb dX10_does_126 rfl (lv_at hl 0 rfl) ?_
      -- call SpokenMarksModel.balances
      refine h_kI (h_runV X hR (m_balances l G w a ad t hT.1 c0 hC) pn_yX10_balances (hasC.of hT.1.ob rfl) q3278 q3280 qs110 q161 q3281 ⟨by decide, by decide⟩ hl.1 (Nat.le_of_ble_eq_true rfl) dX10_does_127 ⟨by omega, by omega⟩) hL (fun z_42 w_43 hp_44 H locs hR hL => ?_)
      obtain ⟨rfl, t_45, hT2, hE_t_45, et_46⟩ := hp_44
      have hT := hT.tr hT2
      clear hT2
      exact h_ireturn hx hb hlk hret hR hL rfl ⟨(by unfold doA; rw [if_neg (by omega)]; rw [if_neg (by omega)]; rw [if_neg (by omega)]; rw [if_neg (by omega)]; rw [if_pos (by omega)]), ⟨t_45, hT, (TwE.tr (S2 := [1, 2, 3]) (TwE.rf : TwE [] t t) hE_t_45 rfl rfl), (by unfold doA; rw [if_neg (by omega)]; rw [if_neg (by omega)]; rw [if_neg (by omega)]; rw [if_neg (by omega)]; rw [if_pos (by omega)]; exact et_46)⟩⟩ (by omega) (by omega) rfl rfl dX10_does_130
  ·
    refine h_tabOut hx hb 131 dX10_does_1 (by omega) (by omega) (by decide) ?_
    refine lv_aload_n hx hb dX10_does_131 rfl (lv_at hl 0 rfl) ?_
    -- call SpokenMarksModel.respaces
    refine h_kI (h_runV X hR (m_respaces l G w a ad t hT.1 c0 hC hac) pn_yX10_respaces (hasC.of hT.1.ob rfl) q2880 q2882 qs64 q161 q2883 ⟨by decide, by decide⟩ hl.1 (Nat.le_of_ble_eq_true rfl) dX10_does_132 ⟨by omega, by omega⟩) hL (fun z_47 w_48 hp_49 H locs hR hL => ?_)
    obtain ⟨rfl, t_50, hT2, hE_t_50, et_51⟩ := hp_49
    have hT := hT.tr hT2
    clear hT2
    exact h_ireturn hx hb hlk hret hR hL rfl ⟨(by unfold doA; rw [if_neg (by omega)]; rw [if_neg (by omega)]; rw [if_neg (by omega)]; rw [if_neg (by omega)]; rw [if_neg (by omega)]), ⟨t_50, hT, (TwE.tr (S2 := [1, 2, 3]) (TwE.rf : TwE [] t t) hE_t_50 rfl rfl), (by unfold doA; rw [if_neg (by omega)]; rw [if_neg (by omega)]; rw [if_neg (by omega)]; rw [if_neg (by omega)]; rw [if_neg (by omega)]; exact et_51)⟩⟩ (by omega) (by omega) rfl rfl dX10_does_135

set_option maxHeartbeats 4000000 in
set_option maxRecDepth 100000 in
/-- keeps -/
theorem m_keeps (l : Launch) (G : Gl) (w : Wd) (a : Nat) (ad : Nat → Nat) (t : Tw) (hT : TwAt G w a ad t)  (U : List Cat) (cT : Cat) (hU : UnIs (t.1 12) (t.2 8) U) (hD : RowIs (t.2 5) cT) : HM l yX10_keeps cX10_keeps 1 none 2 0 0 G [.ref a] w (QV G (fun w_ => ∃ t_ : Tw, TwS G w w_ a ad t_ ∧ TwE [8, 12] t t_ ∧ UnIs (t_.1 12) (t_.2 8) (pushU U cT))) := by
  refine HM.mk (by decide +kernel) (Nat.le_of_ble_eq_true rfl) ?_
  intro p9 e9 s9 m9 a9 b9 meth9 c9 ls X hret hlk hnm hl H hR
  have hx := X.1.1
  have hb := X.1.2.1
  have hl : lv_has ls 1 [(0, .ref a)] := hl
  have hL : LK G [] := fun q h => absurd h List.not_mem_nil
  generalize ([] : List Loc) = locs at hL ⊢
  have hTb := hT
  have hT : TwS G w w a ad t := TwS.rf hT
  have hU8 := hU.1
  have hUn := hU.2.1
  refine lv_aload_n hx hb dX10_keeps_0 rfl (lv_at hl 0 rfl) ?_
  refine tw_get X hR hT 12 (by decide) q2953 (v := .int (iI ((U.length : Int)))) (congrArg (fun z => some (Value.int (iI z))) (hUn)) dX10_keeps_1 ?_
  refine h_bipush hx hb dX10_keeps_4 (by decide) ?_
  refine h_icmp_ne hx hb 37 dX10_keeps_6 (by decide) (by omega) (by omega) (fun c_8 => ?_) (fun c_8 => ?_)
  ·
    refine lv_aload_n hx hb dX10_keeps_37 rfl (lv_at hl 0 rfl) ?_
    refine tw_get X hR hT 5 (by decide) q2946 rfl dX10_keeps_38 ?_
    refine h_iconst hx hb dX10_keeps_41 ?_
    refine lv_aload_n hx hb dX10_keeps_42 rfl (lv_at hl 0 rfl) ?_
    refine tw_get X hR hT 8 (by decide) q2949 rfl dX10_keeps_43 ?_
    refine h_sipush hx hb dX10_keeps_46 (by decide) ?_
    refine lv_aload_n hx hb dX10_keeps_49 rfl (lv_at hl 0 rfl) ?_
    refine tw_get X hR hT 12 (by decide) q2953 (v := .int (iI ((U.length : Int)))) (congrArg (fun z => some (Value.int (iI z))) (hUn)) dX10_keeps_50 ?_
    refine h_imul hx hb dX10_keeps_53 ?_
    refine h_sipush hx hb dX10_keeps_54 (by decide) ?_
    refine W.eq (g2 := F0 m9 57 ls [.int (iI (606)), .int (iI (((606 * U.length : Nat) : Int))), .ref (ad 8), .int (iI (0)), .ref (ad 5)]) (congrArg (fun z_ : Int => F0 m9 57 ls [.int (iI (606)), .int (iI (z_)), .ref (ad 8), .int (iI (0)), .ref (ad 5)]) (show (606 * ((U.length : Int)) : Int) = ((606 * U.length : Nat) : Int) from (by omega))) ?_
    -- call SpokenMarksModel.copies
    refine h_kV (h_runS X hR (m_copies l G w a ad t hT.1 5 0 8 (606 * U.length) 606 (by decide) (by decide) (by show _ ≤ _; simp only [twN]; omega) (by show _ ≤ _; simp only [twN]; omega) (by first | exact Or.inl (by decide) | exact Or.inr (by omega))) pn_yX10_copies q2737 q2738 q161 q2739 ⟨by decide, by decide⟩ hl.1 (Nat.le_of_ble_eq_true rfl) dX10_keeps_57 ⟨by omega, by omega⟩) hL (fun w_2 hp_3 H locs hR hL => ?_)
    obtain ⟨t_4, hT2, e1_, e2_, hc_t_4⟩ := hp_3
    have hE_t_4 : TwE [8] t t_4 := fun k_ hk_ => ⟨by rw [e1_], e2_ k_ (by simpa using hk_)⟩
    have e1_t_4 := e1_
    have hT := hT.tr hT2
    clear hT2 e1_ e2_
    have hlo : ∀ i, i < 606 * U.length → t_4.2 8 i = t.2 8 i := fun i hi => by rw [hc_t_4]; unfold cpyF; rw [if_neg (by omega)]
    have hhi : RowIs (fun i => t_4.2 8 (606 * U.length + i)) cT := hD.mv606 (fun i hi => by show t_4.2 8 _ = _; rw [hc_t_4]; unfold cpyF; rw [if_pos (by omega), show 606 * U.length + i - 606 * U.length + 0 = i by omega])
    refine lv_aload_n hx hb dX10_keeps_60 rfl (lv_at hl 0 rfl) ?_
    refine lv_dup hx hb dX10_keeps_61 rfl ?_
    refine tw_get X hR hT 12 (by decide) q2953 (v := .int (iI ((U.length : Int)))) (congrArg (fun z => some (Value.int (iI z))) (((hE_t_4 12 (by decide)).1).trans hUn)) dX10_keeps_62 ?_
    refine h_iconst hx hb dX10_keeps_65 ?_
    refine h_iadd hx hb dX10_keeps_66 ?_
    refine tw_puti X hR hL hT 12 (by decide) q2953 rfl rfl rfl twF_s12 (by omega) dX10_keeps_67 (fun t_5 et_6 w_7 hT H locs hR hL => ?_)
    have hE_t_5 := TwE.put et_6
    have hv_t_5 := tput_v et_6
    exact h_vreturn hx hb hlk hret hR hL ⟨t_5, hT, (TwE.tr (S2 := [8, 12]) (TwE.tr (S2 := [8, 12]) (TwE.rf : TwE [] t t) hE_t_4 rfl rfl) hE_t_5 rfl rfl), (by unfold pushU; rw [if_neg (by omega)]; exact hU.push (by omega) (by rw [hv_t_5]; omega) (fun i hi => by rw [(hE_t_5 8 (by decide)).2]; exact hlo i hi) (by rw [(hE_t_5 8 (by decide)).2]; exact hhi))⟩ (by omega) (by omega) rfl rfl dX10_keeps_70
  ·
    refine lv_aload_n hx hb dX10_keeps_9 rfl (lv_at hl 0 rfl) ?_
    refine tw_get X hR hT 8 (by decide) q2949 rfl dX10_keeps_10 ?_
    refine h_sipush hx hb dX10_keeps_13 (by decide) ?_
    refine lv_aload_n hx hb dX10_keeps_16 rfl (lv_at hl 0 rfl) ?_
    refine tw_get X hR hT 8 (by decide) q2949 rfl dX10_keeps_17 ?_
    refine h_iconst hx hb dX10_keeps_20 ?_
    refine h_sipush hx hb dX10_keeps_21 (by decide) ?_
    -- call SpokenMarksModel.copies
    refine h_kV (h_runS X hR (m_copies l G w a ad t hT.1 8 606 8 0 4242 (by decide) (by decide) (by show _ ≤ _; simp only [twN]; omega) (by show _ ≤ _; simp only [twN]; omega) (by first | exact Or.inl (by decide) | exact Or.inr (by omega))) pn_yX10_copies q2737 q2738 q161 q2739 ⟨by decide, by decide⟩ hl.1 (Nat.le_of_ble_eq_true rfl) dX10_keeps_24 ⟨by omega, by omega⟩) hL (fun w_9 hp_10 H locs hR hL => ?_)
    obtain ⟨t_11, hT2, e1_, e2_, hc_t_11⟩ := hp_10
    have hE_t_11 : TwE [8] t t_11 := fun k_ hk_ => ⟨by rw [e1_], e2_ k_ (by simpa using hk_)⟩
    have e1_t_11 := e1_
    have hT := hT.tr hT2
    clear hT2 e1_ e2_
    have hsf : ∀ i, i < 4242 → t_11.2 8 i = t.2 8 (i + 606) := fun i hi => by rw [hc_t_11]; unfold cpyF; rw [if_pos (by omega)]; congr 1
    refine lv_aload_n hx hb dX10_keeps_27 rfl (lv_at hl 0 rfl) ?_
    refine lv_dup hx hb dX10_keeps_28 rfl ?_
    refine tw_get X hR hT 12 (by decide) q2953 (v := .int (iI ((U.length : Int)))) (congrArg (fun z => some (Value.int (iI z))) (((hE_t_11 12 (by decide)).1).trans hUn)) dX10_keeps_29 ?_
    refine h_iconst hx hb dX10_keeps_32 ?_
    refine h_isub hx hb dX10_keeps_33 ?_
    refine tw_puti X hR hL hT 12 (by decide) q2953 rfl rfl rfl twF_s12 (by omega) dX10_keeps_34 (fun t_12 et_13 w_14 hT H locs hR hL => ?_)
    have hE_t_12 := TwE.put et_13
    have hv_t_12 := tput_v et_13
    have hU2 : UnIs (t_12.1 12) (t_12.2 8) (U.drop 1) := hU.shift (by omega) (by rw [hv_t_12]; omega) (fun i hi => by rw [(hE_t_12 8 (by decide)).2]; exact hsf i hi)
    refine lv_aload_n hx hb dX10_keeps_37 rfl (lv_at hl 0 rfl) ?_
    refine tw_get X hR hT 5 (by decide) q2946 rfl dX10_keeps_38 ?_
    refine h_iconst hx hb dX10_keeps_41 ?_
    refine lv_aload_n hx hb dX10_keeps_42 rfl (lv_at hl 0 rfl) ?_
    refine tw_get X hR hT 8 (by decide) q2949 rfl dX10_keeps_43 ?_
    refine h_sipush hx hb dX10_keeps_46 (by decide) ?_
    refine lv_aload_n hx hb dX10_keeps_49 rfl (lv_at hl 0 rfl) ?_
    refine tw_get X hR hT 12 (by decide) q2953 (v := .int (iI (((U.length : Int)) - 1))) (congrArg (fun z => some (Value.int (iI z))) (hv_t_12)) dX10_keeps_50 ?_
    refine h_imul hx hb dX10_keeps_53 ?_
    refine h_sipush hx hb dX10_keeps_54 (by decide) ?_
    refine W.eq (g2 := F0 m9 57 ls [.int (iI (606)), .int (iI (((606 * 7 : Nat) : Int))), .ref (ad 8), .int (iI (0)), .ref (ad 5)]) (congrArg (fun z_ : Int => F0 m9 57 ls [.int (iI (606)), .int (iI (z_)), .ref (ad 8), .int (iI (0)), .ref (ad 5)]) (show (606 * (((U.length : Int)) - 1) : Int) = ((606 * 7 : Nat) : Int) from (by omega))) ?_
    -- call SpokenMarksModel.copies
    refine h_kV (h_runS X hR (m_copies l G w_14 a ad t_12 hT.1 5 0 8 (606 * 7) 606 (by decide) (by decide) (by show _ ≤ _; simp only [twN]; omega) (by show _ ≤ _; simp only [twN]; omega) (by first | exact Or.inl (by decide) | exact Or.inr (by omega))) pn_yX10_copies q2737 q2738 q161 q2739 ⟨by decide, by decide⟩ hl.1 (Nat.le_of_ble_eq_true rfl) dX10_keeps_57 ⟨by omega, by omega⟩) hL (fun w_16 hp_17 H locs hR hL => ?_)
    obtain ⟨t_18, hT2, e1_, e2_, hc_t_18⟩ := hp_17
    have hE_t_18 : TwE [8] t_12 t_18 := fun k_ hk_ => ⟨by rw [e1_], e2_ k_ (by simpa using hk_)⟩
    have e1_t_18 := e1_
    have hT := hT.tr hT2
    clear hT2 e1_ e2_
    have hlo : ∀ i, i < 606 * 7 → t_18.2 8 i = t_12.2 8 i := fun i hi => by rw [hc_t_18]; unfold cpyF; rw [if_neg (by omega)]
    have hhi : RowIs (fun i => t_18.2 8 (606 * 7 + i)) cT := hD.mv606 (fun i hi => by show t_18.2 8 _ = _; rw [hc_t_18]; unfold cpyF; rw [if_pos (by omega), show 606 * 7 + i - 606 * 7 + 0 = i by omega]; exact congrFun (((hE_t_12 5 (by decide)).2).trans (hE_t_11 5 (by decide)).2) i)
    refine lv_aload_n hx hb dX10_keeps_60 rfl (lv_at hl 0 rfl) ?_
    refine lv_dup hx hb dX10_keeps_61 rfl ?_
    refine tw_get X hR hT 12 (by decide) q2953 (v := .int (iI (((U.length : Int)) - 1))) (congrArg (fun z => some (Value.int (iI z))) (((hE_t_18 12 (by decide)).1).trans hv_t_12)) dX10_keeps_62 ?_
    refine h_iconst hx hb dX10_keeps_65 ?_
    refine h_iadd hx hb dX10_keeps_66 ?_
    refine tw_puti X hR hL hT 12 (by decide) q2953 rfl rfl rfl twF_s12 (by omega) dX10_keeps_67 (fun t_19 et_20 w_21 hT H locs hR hL => ?_)
    have hE_t_19 := TwE.put et_20
    have hv_t_19 := tput_v et_20
    exact h_vreturn hx hb hlk hret hR hL ⟨t_19, hT, (TwE.tr (S2 := [8, 12]) (TwE.tr (S2 := [8, 12]) (TwE.tr (S2 := [8, 12]) (TwE.tr (S2 := [8, 12]) (TwE.rf : TwE [] t t) hE_t_11 rfl rfl) hE_t_12 rfl rfl) hE_t_18 rfl rfl) hE_t_19 rfl rfl), (by unfold pushU; rw [if_pos (by omega)]; exact hU2.push (by rw [List.length_drop]; omega) (by rw [hv_t_19]; rw [hU2.2.1, List.length_drop]; omega) (fun i hi => by rw [(hE_t_19 8 (by decide)).2]; exact hlo i (by rw [List.length_drop] at hi; omega)) (by rw [(hE_t_19 8 (by decide)).2, show (U.drop 1).length = 7 by rw [List.length_drop]; omega]; exact hhi))⟩ (by omega) (by omega) rfl rfl dX10_keeps_70
