/-! the twin: what is asked of it -/
set_option maxRecDepth 100000
theorem b2i_R (p : Prop) [Decidable p] : R32 (b2i p) := by have := b2i_01 p; exact ⟨by omega, by omega⟩
theorem b2i_R6 (p : Prop) [Decidable p] : R64 (b2i p) := by have := b2i_01 p; exact ⟨by omega, by omega⟩

theorem pn_yX10_allWidths : ParN yX10_allWidths 0 := by decide +kernel
theorem pn_yX10_closest : ParN yX10_closest 0 := by decide +kernel
theorem pn_yX10_fails : ParN yX10_fails 2 := by decide +kernel
theorem pn_yX10_in : ParN yX10_in 3 := by decide +kernel
theorem pn_yX10_over : ParN yX10_over 0 := by decide +kernel
theorem pn_yX10_rankOf : ParN yX10_rankOf 1 := by decide +kernel

theorem m_ear (l : Launch) (G : Gl) (w : Wd) (a : Nat) (ad : Nat → Nat) (t : Tw) (hT : TwAt G w a ad t) (R : Rls) (x : Prt) (hA : RlAt (t.2 3) R) (hx : PrtW x) : HM l yX10_ear cX10_ear 4 (some .long) 4 0 0 G [.ref a, .long (lI (encP x))] w (QL G (fun z_ w_ => z_ = encP (earP R x) ∧ ∃ t_ : Tw, TwS G w w_ a ad t_ ∧ TwE [1, 2] t t_ ∧ True)) := by
  cases x with
  | inl n => exact m_earF l G w a ad t hT n ⟨hx.1, by have := hx.2; omega⟩
  | inr L => exact m_earW l G w a ad t hT R L hA hx

set_option maxHeartbeats 4000000 in
set_option maxRecDepth 100000 in
/-- letterOf -/
theorem m_letterOfF (l : Launch) (G : Gl) (w : Wd) (a : Nat) (ad : Nat → Nat) (t : Tw) (hT : TwAt G w a ad t) (v : Int) (i : Int)  (h1 : 0 ≤ v ∧ v < 1000000) (h2 : R32 i) : HM l yX10_letterOf cX10_letterOf 4 (some .int) 2 0 0 G [.ref a, .long (lI (v)), .int (iI (i))] w (QI G (fun z_ w_ => z_ = -1 ∧ ∃ t_ : Tw, TwS G w w_ a ad t_ ∧ TwE [1, 2] t t_ ∧ True)) := by
  refine HM.mk (by decide +kernel) (Nat.le_of_ble_eq_true rfl) ?_
  intro p9 e9 s9 m9 a9 b9 meth9 c9 ls X hret hlk hnm hl H hR
  have hx := X.1.1
  have hb := X.1.2.1
  have hl : lv_has ls 4 [(0, .ref a), (1, .long (lI (v))), (3, .int (iI (i)))] := hl
  have hL : LK G [] := fun q h => absurd h List.not_mem_nil
  generalize ([] : List Loc) = locs at hL ⊢
  have hTb := hT
  have hT : TwS G w w a ad t := TwS.rf hT
  refine lv_lload_n hx hb dX10_letterOf_0 rfl (lv_at hl 1 rfl) ?_
  -- call SpokenMarksModel.isWordPart
  refine h_kIp (h_runS X hR (m_isWordPart l G w  v (by omega)) pn_yX10_isWordPart q2839 q2840 q161 q2841 ⟨by decide, by decide⟩ hl.1 (Nat.le_of_ble_eq_true rfl) dX10_letterOf_1 ⟨by omega, by omega⟩) hL (fun H locs hR hL => ?_)
  refine h_if_ne hx hb 9 dX10_letterOf_4 (by decide) (b2i_R _) (fun c_4 => ?_) (fun c_4 => ?_)
  ·
    exact absurd (b2i_f (show ¬ 1000000 ≤ v by omega)) c_4
  ·
    refine h_iconst hx hb dX10_letterOf_7 ?_
    exact h_ireturn hx hb hlk hret hR hL rfl ⟨rfl, ⟨t, hT, (TwE.rf : TwE [1, 2] t t), trivial⟩⟩ (by omega) (by omega) rfl rfl dX10_letterOf_8

set_option maxHeartbeats 4000000 in
set_option maxRecDepth 100000 in
/-- letterOf -/
theorem m_letterOfW (l : Launch) (G : Gl) (w : Wd) (a : Nat) (ad : Nat → Nat) (t : Tw) (hT : TwAt G w a ad t) (i : Int) (L : List Int) (hw : Wrd L) (h2 : R32 i) : HM l yX10_letterOf cX10_letterOf 4 (some .int) 2 0 0 G [.ref a, .long (lI (enc L)), .int (iI (i))] w (QI G (fun z_ w_ => z_ = letP (.inr L) i ∧ ∃ t_ : Tw, TwS G w w_ a ad t_ ∧ TwE [1, 2] t t_ ∧ True)) := by
  refine HM.mk (by decide +kernel) (Nat.le_of_ble_eq_true rfl) ?_
  intro p9 e9 s9 m9 a9 b9 meth9 c9 ls X hret hlk hnm hl H hR
  have hx := X.1.1
  have hb := X.1.2.1
  have hl : lv_has ls 4 [(0, .ref a), (1, .long (lI (enc L))), (3, .int (iI (i)))] := hl
  have hL : LK G [] := fun q h => absurd h List.not_mem_nil
  generalize ([] : List Loc) = locs at hL ⊢
  have hTb := hT
  have hT : TwS G w w a ad t := TwS.rf hT
  have he0 := enc_r hw.2
  have hw1 := hw.1
  refine lv_lload_n hx hb dX10_letterOf_0 rfl (lv_at hl 1 rfl) ?_
  -- call SpokenMarksModel.isWordPart
  refine h_kIp (h_runS X hR (m_isWordPart l G w  (enc L) (by omega)) pn_yX10_isWordPart q2839 q2840 q161 q2841 ⟨by decide, by decide⟩ hl.1 (Nat.le_of_ble_eq_true rfl) dX10_letterOf_1 ⟨by omega, by omega⟩) hL (fun H locs hR hL => ?_)
  refine h_if_ne hx hb 9 dX10_letterOf_4 (by decide) (b2i_R _) (fun c_4 => ?_) (fun c_4 => ?_)
  ·
    refine lv_aload_n hx hb dX10_letterOf_9 rfl (lv_at hl 0 rfl) ?_
    refine lv_lload_n hx hb dX10_letterOf_10 rfl (lv_at hl 1 rfl) ?_
    -- call SpokenMarksModel.spells
    refine h_kV (h_runV X hR (m_spells l G w a ad t hT.1 L hw) pn_yX10_spells (hasC.of hT.1.ob rfl) q2846 q2848 qs57 q161 q2849 ⟨by decide, by decide⟩ hl.1 (Nat.le_of_ble_eq_true rfl) dX10_letterOf_11 ⟨by omega, by omega⟩) hL (fun w_6 hp_7 H locs hR hL => ?_)
    obtain ⟨t_8, hT2, hE_t_8, et_9⟩ := hp_7
    have hT := hT.tr hT2
    clear hT2
    have hs := et_9
    refine lv_iload_n hx hb dX10_letterOf_14 rfl (lv_at hl 2 rfl) ?_
    refine h_i2l hx hb dX10_letterOf_15 (by omega) ?_
    refine h_lconst hx hb 0 dX10_letterOf_16 rfl ?_
    refine lv_aload_n hx hb dX10_letterOf_17 rfl (lv_at hl 0 rfl) ?_
    refine tw_get X hR hT 2 (by decide) q2943 (v := .int (iI ((L.length : Int)))) (congrArg (fun z => some (Value.int (iI z))) (hs.1)) dX10_letterOf_18 ?_
    refine h_iconst hx hb dX10_letterOf_21 ?_
    refine h_isub hx hb dX10_letterOf_22 ?_
    refine h_i2l hx hb dX10_letterOf_23 (by omega) ?_
    -- call SpokenMarksModel.in
    refine h_kIp (h_runS X hR (m_in l G w_6  i 0 (((L.length : Int)) - 1) (by omega) (by omega) (by omega)) pn_yX10_in q2730 q2731 q161 q2732 ⟨by decide, by decide⟩ hl.1 (Nat.le_of_ble_eq_true rfl) dX10_letterOf_24 ⟨by omega, by omega⟩) hL (fun H locs hR hL => ?_)
    refine h_if_eq hx hb 42 dX10_letterOf_27 (by decide) (b2i_R _) (fun c_i => ?_) (fun c_i => ?_)
    ·
      refine h_iconst hx hb dX10_letterOf_42 ?_
      exact h_ireturn hx hb hlk hret hR hL rfl ⟨(by show _ = (if 0 ≤ i ∧ i < (L.length : Int) then L.getD i.toNat 0 else -1); first | (rw [if_neg (fun q => b2i_0.mp c_i ⟨q.1, by omega⟩)]; done) | (have hii := b2i_n1.mp c_i; rw [if_pos ⟨hii.1, by omega⟩, dg_lt (by omega)]; simp [show i.toNat < L.length by omega]; omega)), ⟨t_8, hT, (TwE.tr (S2 := [1, 2]) (TwE.rf : TwE [] t t) hE_t_8 rfl rfl), trivial⟩⟩ (by omega) (by omega) rfl rfl dX10_letterOf_43
    ·
      refine h_bipush hx hb dX10_letterOf_30 (by decide) ?_
      refine lv_aload_n hx hb dX10_letterOf_32 rfl (lv_at hl 0 rfl) ?_
      refine tw_get X hR hT 1 (by decide) q2942 rfl dX10_letterOf_33 ?_
      refine lv_iload_n hx hb dX10_letterOf_36 rfl (lv_at hl 2 rfl) ?_
      have hii := b2i_n1.mp c_i
      refine tw_iald X hR hT (k := 1) (by decide) i.toNat (by omega) (by show _ < _; simp only [twN]; omega) (v := dg L i.toNat) (hs.2.2 _ (by omega)) dX10_letterOf_37 (fun ra_37 => ?_)
      refine h_iadd hx hb dX10_letterOf_38 ?_
      refine lv_goto (tgt := 43) hx hb dX10_letterOf_39 (by decide) ?_
      exact h_ireturn hx hb hlk hret hR hL rfl ⟨(by show _ = (if 0 ≤ i ∧ i < (L.length : Int) then L.getD i.toNat 0 else -1); first | (rw [if_neg (fun q => b2i_0.mp c_i ⟨q.1, by omega⟩)]; done) | (have hii := b2i_n1.mp c_i; rw [if_pos ⟨hii.1, by omega⟩, dg_lt (by omega)]; simp [show i.toNat < L.length by omega]; omega)), ⟨t_8, hT, (TwE.tr (S2 := [1, 2]) (TwE.rf : TwE [] t t) hE_t_8 rfl rfl), trivial⟩⟩ (by omega) (by omega) rfl rfl dX10_letterOf_43
  ·
    exact absurd c_4 (by rw [b2i_t he0.1]; decide)

theorem m_letterOf (l : Launch) (G : Gl) (w : Wd) (a : Nat) (ad : Nat → Nat) (t : Tw) (hT : TwAt G w a ad t) (i : Int) (x : Prt) (hx : PrtW x) (h2 : R32 i) : HM l yX10_letterOf cX10_letterOf 4 (some .int) 2 0 0 G [.ref a, .long (lI (encP x)), .int (iI i)] w (QI G (fun z_ w_ => z_ = letP x i ∧ ∃ t_ : Tw, TwS G w w_ a ad t_ ∧ TwE [1, 2] t t_ ∧ True)) := by
  cases x with
  | inl n => exact m_letterOfF l G w a ad t hT n i ⟨hx.1, by have := hx.2; omega⟩ h2
  | inr L => exact m_letterOfW l G w a ad t hT i L hx.1 h2

set_option maxHeartbeats 4000000 in
set_option maxRecDepth 100000 in
/-- fails -/
theorem m_fails (l : Launch) (G : Gl) (w : Wd) (a : Nat) (ad : Nat → Nat) (t : Tw) (hT : TwAt G w a ad t) (g : Int) (ch : Int)  (h1 : R32 g) (h2 : 1 ≤ ch ∧ ch ≤ 2) (h0 : t.1 0 = 0) : HM l yX10_fails cX10_fails 3 (some .boolean) 1 0 0 G [.ref a, .int (iI (g)), .int (iI (ch))] w (QI G (fun z_ w_ => z_ = b2i (g = 0) ∧ ∃ t_ : Tw, TwS G w w_ a ad t_ ∧ TwE [0] t t_ ∧ t_.1 0 = if g = 0 then ch else 0)) := by
  refine HM.mk (by decide +kernel) (Nat.le_of_ble_eq_true rfl) ?_
  intro p9 e9 s9 m9 a9 b9 meth9 c9 ls X hret hlk hnm hl H hR
  have hx := X.1.1
  have hb := X.1.2.1
  have hl : lv_has ls 3 [(0, .ref a), (1, .int (iI (g))), (2, .int (iI (ch)))] := hl
  have hL : LK G [] := fun q h => absurd h List.not_mem_nil
  generalize ([] : List Loc) = locs at hL ⊢
  have hTb := hT
  have hT : TwS G w w a ad t := TwS.rf hT
  refine lv_iload_n hx hb dX10_fails_0 rfl (lv_at hl 1 rfl) ?_
  refine h_if_ne hx hb 16 dX10_fails_1 (by decide) (by omega) (fun c_1 => ?_) (fun c_1 => ?_)
  ·
    refine lv_aload_n hx hb dX10_fails_16 rfl (lv_at hl 0 rfl) ?_
    refine tw_get X hR hT 0 (by decide) q2941 (v := .int (iI (0))) (congrArg (fun z => some (Value.int (iI z))) (h0)) dX10_fails_17 ?_
    refine h_if_eq hx hb 27 dX10_fails_20 (by decide) (by decide) (fun _ => ?_) (fun z_ => absurd z_ (by decide))
    refine h_iconst hx hb dX10_fails_27 ?_
    exact h_ireturn hx hb hlk hret hR hL (nar01 (by omega)) ⟨(by first | (rw [b2i_t (by omega)]; done) | (rw [b2i_f (by omega)]; done)), ⟨t, hT, (TwE.rf : TwE [0] t t), (by rw [h0]; first | (rw [if_pos (by omega)]; done) | (rw [if_neg (by omega)]; done))⟩⟩ (by omega) (by omega) rfl rfl dX10_fails_28
  ·
    refine lv_aload_n hx hb dX10_fails_4 rfl (lv_at hl 0 rfl) ?_
    refine tw_get X hR hT 0 (by decide) q2941 (v := .int (iI (0))) (congrArg (fun z => some (Value.int (iI z))) (h0)) dX10_fails_5 ?_
    refine h_if_ne hx hb 16 dX10_fails_8 (by decide) (by decide) (fun z_ => absurd z_ (by decide)) (fun _ => ?_)
    refine lv_aload_n hx hb dX10_fails_11 rfl (lv_at hl 0 rfl) ?_
    refine lv_iload_n hx hb dX10_fails_12 rfl (lv_at hl 2 rfl) ?_
    refine tw_puti X hR hL hT 0 (by decide) q2941 rfl rfl rfl twF_s0 (by omega) dX10_fails_13 (fun t_4 et_5 w_6 hT H locs hR hL => ?_)
    have hE_t_4 := TwE.put et_5
    have hv_t_4 := tput_v et_5
    refine lv_aload_n hx hb dX10_fails_16 rfl (lv_at hl 0 rfl) ?_
    refine tw_get X hR hT 0 (by decide) q2941 (v := .int (iI (ch))) (congrArg (fun z => some (Value.int (iI z))) (hv_t_4)) dX10_fails_17 ?_
    refine h_if_eq hx hb 27 dX10_fails_20 (by decide) (by omega) (fun c_7 => ?_) (fun c_7 => ?_)
    ·
      refine h_iconst hx hb dX10_fails_27 ?_
      exact h_ireturn hx hb hlk hret hR hL (nar01 (by omega)) ⟨(by first | (rw [b2i_t (by omega)]; done) | (rw [b2i_f (by omega)]; done)), ⟨t_4, hT, (TwE.tr (S2 := [0]) (TwE.rf : TwE [] t t) hE_t_4 rfl rfl), (by rw [hv_t_4]; first | (rw [if_pos (by omega)]; done) | (rw [if_neg (by omega)]; done))⟩⟩ (by omega) (by omega) rfl rfl dX10_fails_28
    ·
      refine h_iconst hx hb dX10_fails_23 ?_
      refine lv_goto (tgt := 28) hx hb dX10_fails_24 (by decide) ?_
      exact h_ireturn hx hb hlk hret hR hL (nar01 (by omega)) ⟨(by first | (rw [b2i_t (by omega)]; done) | (rw [b2i_f (by omega)]; done)), ⟨t_4, hT, (TwE.tr (S2 := [0]) (TwE.rf : TwE [] t t) hE_t_4 rfl rfl), (by rw [hv_t_4]; first | (rw [if_pos (by omega)]; done) | (rw [if_neg (by omega)]; done))⟩⟩ (by omega) (by omega) rfl rfl dX10_fails_28

set_option maxHeartbeats 4000000 in
set_option maxRecDepth 100000 in
/-- noMark -/
theorem m_noMark (l : Launch) (G : Gl) (w : Wd) (a : Nat) (ad : Nat → Nat) (t : Tw) (hT : TwAt G w a ad t) (x : Int) (c0 : Cat) (hC : RowIs (t.2 3) c0) (h1 : R32 x) (h0 : t.1 0 = 0) : HM l yX10_noMark cX10_noMark 2 (some .boolean) 3 0 0 G [.ref a, .int (iI (x))] w (QI G (fun z_ w_ => z_ = b2i (rkOf c0 x = -1) ∧ ∃ t_ : Tw, TwS G w w_ a ad t_ ∧ TwE [0] t t_ ∧ t_.1 0 = if rkOf c0 x = -1 then 1 else 0)) := by
  refine HM.mk (by decide +kernel) (Nat.le_of_ble_eq_true rfl) ?_
  intro p9 e9 s9 m9 a9 b9 meth9 c9 ls X hret hlk hnm hl H hR
  have hx := X.1.1
  have hb := X.1.2.1
  have hl : lv_has ls 2 [(0, .ref a), (1, .int (iI (x)))] := hl
  have hL : LK G [] := fun q h => absurd h List.not_mem_nil
  generalize ([] : List Loc) = locs at hL ⊢
  have hTb := hT
  have hT : TwS G w w a ad t := TwS.rf hT
  have hn40 := hC.n40
  have hsh8 := hC.sh8
  have hrr := rkOf_r c0 x
  refine lv_aload_n hx hb dX10_noMark_0 rfl (lv_at hl 0 rfl) ?_
  refine lv_aload_n hx hb dX10_noMark_1 rfl (lv_at hl 0 rfl) ?_
  refine lv_iload_n hx hb dX10_noMark_2 rfl (lv_at hl 1 rfl) ?_
  -- call SpokenMarksModel.rankOf
  refine h_kIp (h_runV X hR (m_rankOf l G w a ad t hT.1 x c0 hC h1) pn_yX10_rankOf (hasC.of hT.1.ob rfl) q3101 q3103 qs86 q161 q3104 ⟨by decide, by decide⟩ hl.1 (Nat.le_of_ble_eq_true rfl) dX10_noMark_3 ⟨by omega, by omega⟩) hL (fun H locs hR hL => ?_)
  refine h_iconst hx hb dX10_noMark_6 ?_
  refine h_icmp_eq hx hb 14 dX10_noMark_7 (by decide) (by omega) (by omega) (fun c_e => ?_) (fun c_e => ?_)
  ·
    refine h_iconst hx hb dX10_noMark_14 ?_
    refine h_iconst hx hb dX10_noMark_15 ?_
    -- call SpokenMarksModel.fails
    refine h_kI (h_runV X hR (m_fails l G w a ad t hT.1 0 1 ⟨by decide, by decide⟩ ⟨by decide, by decide⟩ h0) pn_yX10_fails (hasC.of hT.1.ob rfl) q2733 q2735 qs33 q161 q2736 ⟨by decide, by decide⟩ hl.1 (Nat.le_of_ble_eq_true rfl) dX10_noMark_16 ⟨by omega, by omega⟩) hL (fun z_4 w_5 hp_6 H locs hR hL => ?_)
    obtain ⟨rfl, t_7, hT2, hE_t_7, et_8⟩ := hp_6
    have hT := hT.tr hT2
    clear hT2
    exact h_ireturn hx hb hlk hret hR hL (nar01 (b2i_or _)) ⟨(by first | (rw [b2i_t c_e]; rfl) | (rw [b2i_f c_e]; rfl)), ⟨t_7, hT, (TwE.tr (S2 := [0]) (TwE.rf : TwE [] t t) hE_t_7 rfl rfl), (by rw [et_8]; first | (rw [if_pos c_e]; rfl) | (rw [if_neg c_e]; rfl))⟩⟩ (by omega) (by omega) rfl rfl dX10_noMark_19
  ·
    refine h_iconst hx hb dX10_noMark_10 ?_
    refine lv_goto (tgt := 15) hx hb dX10_noMark_11 (by decide) ?_
    refine h_iconst hx hb dX10_noMark_15 ?_
    -- call SpokenMarksModel.fails
    refine h_kI (h_runV X hR (m_fails l G w a ad t hT.1 1 1 ⟨by decide, by decide⟩ ⟨by decide, by decide⟩ h0) pn_yX10_fails (hasC.of hT.1.ob rfl) q2733 q2735 qs33 q161 q2736 ⟨by decide, by decide⟩ hl.1 (Nat.le_of_ble_eq_true rfl) dX10_noMark_16 ⟨by omega, by omega⟩) hL (fun z_9 w_10 hp_11 H locs hR hL => ?_)
    obtain ⟨rfl, t_12, hT2, hE_t_12, et_13⟩ := hp_11
    have hT := hT.tr hT2
    clear hT2
    exact h_ireturn hx hb hlk hret hR hL (nar01 (b2i_or _)) ⟨(by first | (rw [b2i_t c_e]; rfl) | (rw [b2i_f c_e]; rfl)), ⟨t_12, hT, (TwE.tr (S2 := [0]) (TwE.rf : TwE [] t t) hE_t_12 rfl rfl), (by rw [et_13]; first | (rw [if_pos c_e]; rfl) | (rw [if_neg c_e]; rfl))⟩⟩ (by omega) (by omega) rfl rfl dX10_noMark_19

set_option maxHeartbeats 4000000 in
set_option maxRecDepth 100000 in
/-- noShelf -/
theorem m_noShelf (l : Launch) (G : Gl) (w : Wd) (a : Nat) (ad : Nat → Nat) (t : Tw) (hT : TwAt G w a ad t) (x : Int) (c0 : Cat) (hC : RowIs (t.2 3) c0) (h1 : R32 x) (h0 : t.1 0 = 0) : HM l yX10_noShelf cX10_noShelf 2 (some .boolean) 3 0 0 G [.ref a, .int (iI (x))] w (QI G (fun z_ w_ => z_ = b2i ¬ (0 ≤ x ∧ x < cSh c0) ∧ ∃ t_ : Tw, TwS G w w_ a ad t_ ∧ TwE [0] t t_ ∧ t_.1 0 = if 0 ≤ x ∧ x < cSh c0 then 0 else 1)) := by
  refine HM.mk (by decide +kernel) (Nat.le_of_ble_eq_true rfl) ?_
  intro p9 e9 s9 m9 a9 b9 meth9 c9 ls X hret hlk hnm hl H hR
  have hx := X.1.1
  have hb := X.1.2.1
  have hl : lv_has ls 2 [(0, .ref a), (1, .int (iI (x)))] := hl
  have hL : LK G [] := fun q h => absurd h List.not_mem_nil
  generalize ([] : List Loc) = locs at hL ⊢
  have hTb := hT
  have hT : TwS G w w a ad t := TwS.rf hT
  have hn40 := hC.n40
  have hsh8 := hC.sh8
  have hn8 := hC.rl.2.2.1
  refine lv_aload_n hx hb dX10_noShelf_0 rfl (lv_at hl 0 rfl) ?_
  refine lv_iload_n hx hb dX10_noShelf_1 rfl (lv_at hl 1 rfl) ?_
  refine h_i2l hx hb dX10_noShelf_2 (by omega) ?_
  refine h_lconst hx hb 0 dX10_noShelf_3 rfl ?_
  refine lv_aload_n hx hb dX10_noShelf_4 rfl (lv_at hl 0 rfl) ?_
  refine h_iconst hx hb dX10_noShelf_5 ?_
  -- call SpokenMarksModel.head
  refine h_kIp (h_runV X hR (m_head l G w a ad t hT.1 0 (by omega)) pn_yX10_head (hasC.of hT.1.ob rfl) q2789 q2791 qs44 q161 q2792 ⟨by decide, by decide⟩ hl.1 (Nat.le_of_ble_eq_true rfl) dX10_noShelf_6 ⟨by omega, by omega⟩) hL (fun H locs hR hL => ?_)
  refine W.eq (g2 := F0 m9 9 ls [.int (iI (cSh c0)), .long (lI (0)), .long (lI (x)), .ref a]) (congrArg (fun z_ : Int => F0 m9 9 ls [.int (iI (z_)), .long (lI (0)), .long (lI (x)), .ref a]) (show (hd t 0 : Int) = cSh c0 from (by exact hC.sh))) ?_
  refine h_iconst hx hb dX10_noShelf_9 ?_
  refine h_isub hx hb dX10_noShelf_10 ?_
  refine h_i2l hx hb dX10_noShelf_11 (by omega) ?_
  -- call SpokenMarksModel.in
  refine h_kIp (h_runS X hR (m_in l G w  x 0 ((cSh c0) - 1) (by omega) (by omega) (by omega)) pn_yX10_in q2730 q2731 q161 q2732 ⟨by decide, by decide⟩ hl.1 (Nat.le_of_ble_eq_true rfl) dX10_noShelf_12 ⟨by omega, by omega⟩) hL (fun H locs hR hL => ?_)
  refine h_iconst hx hb dX10_noShelf_15 ?_
  -- call SpokenMarksModel.fails
  refine h_kI (h_runV X hR (m_fails l G w a ad t hT.1 (b2i (0 ≤ x ∧ x ≤ ((cSh c0) - 1))) 1 (b2i_R _) ⟨by decide, by decide⟩ h0) pn_yX10_fails (hasC.of hT.1.ob rfl) q2733 q2735 qs33 q161 q2736 ⟨by decide, by decide⟩ hl.1 (Nat.le_of_ble_eq_true rfl) dX10_noShelf_16 ⟨by omega, by omega⟩) hL (fun z_7 w_8 hp_9 H locs hR hL => ?_)
  obtain ⟨rfl, t_10, hT2, hE_t_10, et_11⟩ := hp_9
  have hT := hT.tr hT2
  clear hT2
  exact h_ireturn hx hb hlk hret hR hL (nar01 (b2i_or _)) ⟨(b2i_congr (by rw [b2i_0]; constructor <;> intro q z <;> exact q ⟨by omega, by omega⟩)), ⟨t_10, hT, (TwE.tr (S2 := [0]) (TwE.rf : TwE [] t t) hE_t_10 rfl rfl), (by rw [et_11]; by_cases q_ : 0 ≤ x ∧ x < cSh c0; rw [if_pos q_, if_neg (by rw [b2i_t ⟨q_.1, by omega⟩]; decide)]; rw [if_neg q_, if_pos (b2i_f (fun z => q_ ⟨z.1, by omega⟩))])⟩⟩ (by omega) (by omega) rfl rfl dX10_noShelf_19

set_option maxHeartbeats 4000000 in
set_option maxRecDepth 100000 in
/-- noRule -/
theorem m_noRule (l : Launch) (G : Gl) (w : Wd) (a : Nat) (ad : Nat → Nat) (t : Tw) (hT : TwAt G w a ad t) (x : Int) (c0 : Cat) (hC : RowIs (t.2 3) c0) (h1 : R32 x) (h0 : t.1 0 = 0) : HM l yX10_noRule cX10_noRule 2 (some .boolean) 3 0 0 G [.ref a, .int (iI (x))] w (QI G (fun z_ w_ => z_ = b2i ¬ (0 ≤ x ∧ x < ((cRl c0).length : Int)) ∧ ∃ t_ : Tw, TwS G w w_ a ad t_ ∧ TwE [0] t t_ ∧ t_.1 0 = if 0 ≤ x ∧ x < ((cRl c0).length : Int) then 0 else 1)) := by
  refine HM.mk (by decide +kernel) (Nat.le_of_ble_eq_true rfl) ?_
  intro p9 e9 s9 m9 a9 b9 meth9 c9 ls X hret hlk hnm hl H hR
  have hx := X.1.1
  have hb := X.1.2.1
  have hl : lv_has ls 2 [(0, .ref a), (1, .int (iI (x)))] := hl
  have hL : LK G [] := fun q h => absurd h List.not_mem_nil
  generalize ([] : List Loc) = locs at hL ⊢
  have hTb := hT
  have hT : TwS G w w a ad t := TwS.rf hT
  have hn40 := hC.n40
  have hsh8 := hC.sh8
  have hn8 := hC.rl.2.2.1
  refine lv_aload_n hx hb dX10_noRule_0 rfl (lv_at hl 0 rfl) ?_
  refine lv_iload_n hx hb dX10_noRule_1 rfl (lv_at hl 1 rfl) ?_
  refine h_i2l hx hb dX10_noRule_2 (by omega) ?_
  refine h_lconst hx hb 0 dX10_noRule_3 rfl ?_
  refine lv_aload_n hx hb dX10_noRule_4 rfl (lv_at hl 0 rfl) ?_
  refine h_iconst hx hb dX10_noRule_5 ?_
  -- call SpokenMarksModel.head
  refine h_kIp (h_runV X hR (m_head l G w a ad t hT.1 3 (by omega)) pn_yX10_head (hasC.of hT.1.ob rfl) q2789 q2791 qs44 q161 q2792 ⟨by decide, by decide⟩ hl.1 (Nat.le_of_ble_eq_true rfl) dX10_noRule_6 ⟨by omega, by omega⟩) hL (fun H locs hR hL => ?_)
  refine W.eq (g2 := F0 m9 9 ls [.int (iI (((cRl c0).length : Int))), .long (lI (0)), .long (lI (x)), .ref a]) (congrArg (fun z_ : Int => F0 m9 9 ls [.int (iI (z_)), .long (lI (0)), .long (lI (x)), .ref a]) (show (hd t 3 : Int) = ((cRl c0).length : Int) from (by exact hC.rl.1))) ?_
  refine h_iconst hx hb dX10_noRule_9 ?_
  refine h_isub hx hb dX10_noRule_10 ?_
  refine h_i2l hx hb dX10_noRule_11 (by omega) ?_
  -- call SpokenMarksModel.in
  refine h_kIp (h_runS X hR (m_in l G w  x 0 ((((cRl c0).length : Int)) - 1) (by omega) (by omega) (by omega)) pn_yX10_in q2730 q2731 q161 q2732 ⟨by decide, by decide⟩ hl.1 (Nat.le_of_ble_eq_true rfl) dX10_noRule_12 ⟨by omega, by omega⟩) hL (fun H locs hR hL => ?_)
  refine h_iconst hx hb dX10_noRule_15 ?_
  -- call SpokenMarksModel.fails
  refine h_kI (h_runV X hR (m_fails l G w a ad t hT.1 (b2i (0 ≤ x ∧ x ≤ ((((cRl c0).length : Int)) - 1))) 1 (b2i_R _) ⟨by decide, by decide⟩ h0) pn_yX10_fails (hasC.of hT.1.ob rfl) q2733 q2735 qs33 q161 q2736 ⟨by decide, by decide⟩ hl.1 (Nat.le_of_ble_eq_true rfl) dX10_noRule_16 ⟨by omega, by omega⟩) hL (fun z_7 w_8 hp_9 H locs hR hL => ?_)
  obtain ⟨rfl, t_10, hT2, hE_t_10, et_11⟩ := hp_9
  have hT := hT.tr hT2
  clear hT2
  exact h_ireturn hx hb hlk hret hR hL (nar01 (b2i_or _)) ⟨(b2i_congr (by rw [b2i_0]; constructor <;> intro q z <;> exact q ⟨by omega, by omega⟩)), ⟨t_10, hT, (TwE.tr (S2 := [0]) (TwE.rf : TwE [] t t) hE_t_10 rfl rfl), (by rw [et_11]; by_cases q_ : 0 ≤ x ∧ x < ((cRl c0).length : Int); rw [if_pos q_, if_neg (by rw [b2i_t ⟨q_.1, by omega⟩]; decide)]; rw [if_neg q_, if_pos (b2i_f (fun z => q_ ⟨z.1, by omega⟩))])⟩⟩ (by omega) (by omega) rfl rfl dX10_noRule_19

set_option maxHeartbeats 4000000 in
set_option maxRecDepth 100000 in
/-- size -/
theorem m_size (l : Launch) (G : Gl) (w : Wd) (a : Nat) (ad : Nat → Nat) (t : Tw) (hT : TwAt G w a ad t) (x : Int) (c0 : Cat) (hC : RowIs (t.2 3) c0) (hx_x : R32 x) : HM l yX10_size cX10_size 2 (some .int) 6 0 0 G [.ref a, .int (iI (x))] w (QI G (fun z_ w_ => z_ = (qSize c0 x).2 ∧ ∃ t_ : Tw, TwS G w w_ a ad t_ ∧ TwE [0] t t_ ∧ t_.1 0 = (qSize c0 x).1)) := by
  refine HM.mk (by decide +kernel) (Nat.le_of_ble_eq_true rfl) ?_
  intro p9 e9 s9 m9 a9 b9 meth9 c9 ls X hret hlk hnm hl H hR
  have hx := X.1.1
  have hb := X.1.2.1
  have hl : lv_has ls 2 [(0, .ref a), (1, .int (iI (x)))] := hl
  have hL : LK G [] := fun q h => absurd h List.not_mem_nil
  generalize ([] : List Loc) = locs at hL ⊢
  have hTb := hT
  have hT : TwS G w w a ad t := TwS.rf hT
  have hn40 := hC.n40
  have hsh8 := hC.sh8
  refine lv_aload_n hx hb dX10_size_0 rfl (lv_at hl 0 rfl) ?_
  refine h_iconst hx hb dX10_size_1 ?_
  refine tw_puti X hR hL hT 0 (by decide) q2941 rfl rfl rfl twF_s0 (by omega) dX10_size_2 (fun t_1 et_2 w_3 hT H locs hR hL => ?_)
  have hE_t_1 := TwE.put et_2
  have hv_t_1 := tput_v et_2
  refine lv_aload_n hx hb dX10_size_5 rfl (lv_at hl 0 rfl) ?_
  refine lv_iload_n hx hb dX10_size_6 rfl (lv_at hl 1 rfl) ?_
  refine h_i2l hx hb dX10_size_7 (by omega) ?_
  refine h_lconst hx hb 0 dX10_size_8 rfl ?_
  refine lv_ldc2 (v := lI (7)) hx hb X.1.2.2.2.1 (X.1.2.2.2.2 _ q3059) dX10_size_9 ?_
  -- call SpokenMarksModel.in
  refine h_kIp (h_runS X hR (m_in l G w_3  x 0 7 (by omega) (by omega) (by omega)) pn_yX10_in q2730 q2731 q161 q2732 ⟨by decide, by decide⟩ hl.1 (Nat.le_of_ble_eq_true rfl) dX10_size_12 ⟨by omega, by omega⟩) hL (fun H locs hR hL => ?_)
  refine h_iconst hx hb dX10_size_15 ?_
  -- call SpokenMarksModel.fails
  refine h_kI (h_runV X hR (m_fails l G w_3 a ad t_1 hT.1 (b2i (0 ≤ x ∧ x ≤ 7)) 1 (b2i_R _) ⟨by decide, by decide⟩ hv_t_1) pn_yX10_fails (hasC.of hT.1.ob rfl) q2733 q2735 qs33 q161 q2736 ⟨by decide, by decide⟩ hl.1 (Nat.le_of_ble_eq_true rfl) dX10_size_16 ⟨by omega, by omega⟩) hL (fun z_7 w_8 hp_9 H locs hR hL => ?_)
  obtain ⟨rfl, t_10, hT2, hE_t_10, et_11⟩ := hp_9
  have hT := hT.tr hT2
  clear hT2
  refine h_if_eq hx hb 24 dX10_size_19 (by decide) (b2i_R _) (fun c_f => ?_) (fun c_f => ?_)
  ·
    have hok := b2i_n1.mp (b2i_0.mp c_f)
    have hth : t_10.1 0 = 0 := (et_11).trans (if_neg (b2i_0.mp c_f))
    refine lv_iload_n hx hb dX10_size_24 rfl (lv_at hl 1 rfl) ?_
    by_cases c_s_in : (5 : Int) ≤ x ∧ x ≤ 7
    ·
      have c_s : x = 5 ∨ x = 6 ∨ x = 7 := by omega
      rcases c_s with c_s | c_s | c_s
      ·
        refine h_tabIn hx hb 52 dX10_size_25 hx_x (by omega) (by rw [c_s]; rfl) (by decide) ?_
        refine lv_aload_n hx hb dX10_size_52 rfl (lv_at hl 0 rfl) ?_
        -- call SpokenMarksModel.over
        refine h_kIp (h_runV X hR (m_over l G w_8 a ad t_10 hT.1 c0 (by rw [((hE_t_10 3 (by decide)).2).trans (hE_t_1 3 (by decide)).2]; exact hC)) pn_yX10_over (hasC.of hT.1.ob rfl) q3060 q3062 qs79 q161 q3063 ⟨by decide, by decide⟩ hl.1 (Nat.le_of_ble_eq_true rfl) dX10_size_53 ⟨by omega, by omega⟩) hL (fun H locs hR hL => ?_)
        exact h_ireturn hx hb hlk hret hR hL rfl ⟨(by unfold qSize; rw [ans_t hok]; first | (rw [if_pos (by omega)]; done) | (rw [if_neg (by omega), if_pos (by omega)]; done) | (rw [if_neg (by omega), if_neg (by omega), if_pos (by omega)]; done) | (rw [if_neg (by omega), if_neg (by omega), if_neg (by omega), if_pos (by omega)]; done) | (rw [if_neg (by omega), if_neg (by omega), if_neg (by omega), if_neg (by omega), if_pos (by omega)]; done) | (rw [if_neg (by omega), if_neg (by omega), if_neg (by omega), if_neg (by omega), if_neg (by omega), if_pos (by omega)]; done) | (rw [if_neg (by omega), if_neg (by omega), if_neg (by omega), if_neg (by omega), if_neg (by omega), if_neg (by omega), if_pos (by omega)]; done) | (rw [if_neg (by omega), if_neg (by omega), if_neg (by omega), if_neg (by omega), if_neg (by omega), if_neg (by omega), if_neg (by omega), if_pos (by omega)]; done) | (rw [if_neg (by omega), if_neg (by omega), if_neg (by omega), if_neg (by omega), if_neg (by omega), if_neg (by omega), if_neg (by omega)]; done) | (rw [if_neg (by omega), if_neg (by omega), if_neg (by omega), if_neg (by omega), if_neg (by omega), if_neg (by omega)]; done) | (rw [if_neg (by omega), if_neg (by omega), if_neg (by omega), if_neg (by omega), if_neg (by omega)]; done) | (rw [if_neg (by omega), if_neg (by omega), if_neg (by omega), if_neg (by omega)]; done) | (rw [if_neg (by omega), if_neg (by omega), if_neg (by omega)]; done) | (rw [if_neg (by omega), if_neg (by omega)]; done) | (rw [if_neg (by omega)]; done)), ⟨t_10, hT, (TwE.tr (S2 := [0]) (TwE.tr (S2 := [0]) (TwE.rf : TwE [] t t) hE_t_1 rfl rfl) hE_t_10 rfl rfl), (by rw [hth]; unfold qSize; rw [ans_t hok])⟩⟩ (by omega) (by omega) rfl rfl dX10_size_56
      ·
        refine h_tabIn hx hb 57 dX10_size_25 hx_x (by omega) (by rw [c_s]; rfl) (by decide) ?_
        refine lv_aload_n hx hb dX10_size_57 rfl (lv_at hl 0 rfl) ?_
        -- call SpokenMarksModel.allWidths
        refine h_kIp (h_runV X hR (m_allWidths l G w_8 a ad t_10 hT.1 c0 (by rw [((hE_t_10 3 (by decide)).2).trans (hE_t_1 3 (by decide)).2]; exact hC)) pn_yX10_allWidths (hasC.of hT.1.ob rfl) q3076 q3078 qs83 q161 q3079 ⟨by decide, by decide⟩ hl.1 (Nat.le_of_ble_eq_true rfl) dX10_size_58 ⟨by omega, by omega⟩) hL (fun H locs hR hL => ?_)
        exact h_ireturn hx hb hlk hret hR hL rfl ⟨(by unfold qSize; rw [ans_t hok]; first | (rw [if_pos (by omega)]; done) | (rw [if_neg (by omega), if_pos (by omega)]; done) | (rw [if_neg (by omega), if_neg (by omega), if_pos (by omega)]; done) | (rw [if_neg (by omega), if_neg (by omega), if_neg (by omega), if_pos (by omega)]; done) | (rw [if_neg (by omega), if_neg (by omega), if_neg (by omega), if_neg (by omega), if_pos (by omega)]; done) | (rw [if_neg (by omega), if_neg (by omega), if_neg (by omega), if_neg (by omega), if_neg (by omega), if_pos (by omega)]; done) | (rw [if_neg (by omega), if_neg (by omega), if_neg (by omega), if_neg (by omega), if_neg (by omega), if_neg (by omega), if_pos (by omega)]; done) | (rw [if_neg (by omega), if_neg (by omega), if_neg (by omega), if_neg (by omega), if_neg (by omega), if_neg (by omega), if_neg (by omega), if_pos (by omega)]; done) | (rw [if_neg (by omega), if_neg (by omega), if_neg (by omega), if_neg (by omega), if_neg (by omega), if_neg (by omega), if_neg (by omega)]; done) | (rw [if_neg (by omega), if_neg (by omega), if_neg (by omega), if_neg (by omega), if_neg (by omega), if_neg (by omega)]; done) | (rw [if_neg (by omega), if_neg (by omega), if_neg (by omega), if_neg (by omega), if_neg (by omega)]; done) | (rw [if_neg (by omega), if_neg (by omega), if_neg (by omega), if_neg (by omega)]; done) | (rw [if_neg (by omega), if_neg (by omega), if_neg (by omega)]; done) | (rw [if_neg (by omega), if_neg (by omega)]; done) | (rw [if_neg (by omega)]; done)), ⟨t_10, hT, (TwE.tr (S2 := [0]) (TwE.tr (S2 := [0]) (TwE.rf : TwE [] t t) hE_t_1 rfl rfl) hE_t_10 rfl rfl), (by rw [hth]; unfold qSize; rw [ans_t hok])⟩⟩ (by omega) (by omega) rfl rfl dX10_size_61
      ·
        refine h_tabIn hx hb 62 dX10_size_25 hx_x (by omega) (by rw [c_s]; rfl) (by decide) ?_
        refine lv_aload_n hx hb dX10_size_62 rfl (lv_at hl 0 rfl) ?_
        -- call SpokenMarksModel.closest
        refine h_kIp (h_runV X hR (m_closest l G w_8 a ad t_10 hT.1 c0 (by rw [((hE_t_10 3 (by decide)).2).trans (hE_t_1 3 (by decide)).2]; exact hC)) pn_yX10_closest (hasC.of hT.1.ob rfl) q3080 q3082 qs84 q161 q3083 ⟨by decide, by decide⟩ hl.1 (Nat.le_of_ble_eq_true rfl) dX10_size_63 ⟨by omega, by omega⟩) hL (fun H locs hR hL => ?_)
        exact h_ireturn hx hb hlk hret hR hL rfl ⟨(by unfold qSize; rw [ans_t hok]; first | (rw [if_pos (by omega)]; done) | (rw [if_neg (by omega), if_pos (by omega)]; done) | (rw [if_neg (by omega), if_neg (by omega), if_pos (by omega)]; done) | (rw [if_neg (by omega), if_neg (by omega), if_neg (by omega), if_pos (by omega)]; done) | (rw [if_neg (by omega), if_neg (by omega), if_neg (by omega), if_neg (by omega), if_pos (by omega)]; done) | (rw [if_neg (by omega), if_neg (by omega), if_neg (by omega), if_neg (by omega), if_neg (by omega), if_pos (by omega)]; done) | (rw [if_neg (by omega), if_neg (by omega), if_neg (by omega), if_neg (by omega), if_neg (by omega), if_neg (by omega), if_pos (by omega)]; done) | (rw [if_neg (by omega), if_neg (by omega), if_neg (by omega), if_neg (by omega), if_neg (by omega), if_neg (by omega), if_neg (by omega), if_pos (by omega)]; done) | (rw [if_neg (by omega), if_neg (by omega), if_neg (by omega), if_neg (by omega), if_neg (by omega), if_neg (by omega), if_neg (by omega)]; done) | (rw [if_neg (by omega), if_neg (by omega), if_neg (by omega), if_neg (by omega), if_neg (by omega), if_neg (by omega)]; done) | (rw [if_neg (by omega), if_neg (by omega), if_neg (by omega), if_neg (by omega), if_neg (by omega)]; done) | (rw [if_neg (by omega), if_neg (by omega), if_neg (by omega), if_neg (by omega)]; done) | (rw [if_neg (by omega), if_neg (by omega), if_neg (by omega)]; done) | (rw [if_neg (by omega), if_neg (by omega)]; done) | (rw [if_neg (by omega)]; done)), ⟨t_10, hT, (TwE.tr (S2 := [0]) (TwE.tr (S2 := [0]) (TwE.rf : TwE [] t t) hE_t_1 rfl rfl) hE_t_10 rfl rfl), (by rw [hth]; unfold qSize; rw [ans_t hok])⟩⟩ (by omega) (by omega) rfl rfl dX10_size_66
    ·
      refine h_tabOut hx hb 67 dX10_size_25 hx_x (by omega) (by decide) ?_
      refine lv_aload_n hx hb dX10_size_67 rfl (lv_at hl 0 rfl) ?_
      refine lv_iload_n hx hb dX10_size_68 rfl (lv_at hl 1 rfl) ?_
      refine W.eq (g2 := F0 m9 69 ls [.int (iI (((x.toNat : Nat) : Int))), .ref a]) (congrArg (fun z_ : Int => F0 m9 69 ls [.int (iI (z_)), .ref a]) (show (x : Int) = ((x.toNat : Nat) : Int) from (by omega))) ?_
      -- call SpokenMarksModel.head
      refine h_kIp (h_runV X hR (m_head l G w_8 a ad t_10 hT.1 x.toNat (by omega)) pn_yX10_head (hasC.of hT.1.ob rfl) q2789 q2791 qs44 q161 q2792 ⟨by decide, by decide⟩ hl.1 (Nat.le_of_ble_eq_true rfl) dX10_size_69 ⟨by omega, by omega⟩) hL (fun H locs hR hL => ?_)
      exact h_ireturn hx hb hlk hret hR hL rfl ⟨(by unfold qSize; rw [ans_t hok]; rcases (show x = 0 ∨ x = 1 ∨ x = 2 ∨ x = 3 ∨ x = 4 by omega) with q | q | q | q | q <;> subst q; exact ((congrFun (((hE_t_10 3 (by decide)).2).trans (hE_t_1 3 (by decide)).2) 0).trans hC.sh); exact ((congrFun (((hE_t_10 3 (by decide)).2).trans (hE_t_1 3 (by decide)).2) 1).trans hC.rm); exact ((congrFun (((hE_t_10 3 (by decide)).2).trans (hE_t_1 3 (by decide)).2) 2).trans hC.n); exact ((congrFun (((hE_t_10 3 (by decide)).2).trans (hE_t_1 3 (by decide)).2) 3).trans hC.rl.1); exact ((congrFun (((hE_t_10 3 (by decide)).2).trans (hE_t_1 3 (by decide)).2) 4).trans hC.nx)), ⟨t_10, hT, (TwE.tr (S2 := [0]) (TwE.tr (S2 := [0]) (TwE.rf : TwE [] t t) hE_t_1 rfl rfl) hE_t_10 rfl rfl), (by rw [hth]; unfold qSize; rw [ans_t hok])⟩⟩ (by omega) (by omega) rfl rfl dX10_size_72
  ·
    have hno := b2i_0.mp (b2i_n1.mp c_f)
    have hth : t_10.1 0 = _ := (et_11).trans (if_pos (b2i_n1.mp c_f))
    refine h_iconst hx hb dX10_size_22 ?_
    exact h_ireturn hx hb hlk hret hR hL rfl ⟨(by unfold qSize; rw [ans_f hno]), ⟨t_10, hT, (TwE.tr (S2 := [0]) (TwE.tr (S2 := [0]) (TwE.rf : TwE [] t t) hE_t_1 rfl rfl) hE_t_10 rfl rfl), (by rw [hth]; unfold qSize; rw [ans_f hno])⟩⟩ (by omega) (by omega) rfl rfl dX10_size_23

set_option maxHeartbeats 4000000 in
set_option maxRecDepth 100000 in
/-- at -/
theorem m_at (l : Launch) (G : Gl) (w : Wd) (a : Nat) (ad : Nat → Nat) (t : Tw) (hT : TwAt G w a ad t) (x : Int) (c0 : Cat) (hC : RowIs (t.2 3) c0) (hx_x : R32 x) : HM l yX10_at cX10_at 2 (some .int) 2 0 0 G [.ref a, .int (iI (x))] w (QI G (fun z_ w_ => z_ = qAt c0 x ∧ ∃ t_ : Tw, TwS G w w_ a ad t_ ∧ TwE [0] t t_ ∧ True)) := by
  refine HM.mk (by decide +kernel) (Nat.le_of_ble_eq_true rfl) ?_
  intro p9 e9 s9 m9 a9 b9 meth9 c9 ls X hret hlk hnm hl H hR
  have hx := X.1.1
  have hb := X.1.2.1
  have hl : lv_has ls 2 [(0, .ref a), (1, .int (iI (x)))] := hl
  have hL : LK G [] := fun q h => absurd h List.not_mem_nil
  generalize ([] : List Loc) = locs at hL ⊢
  have hTb := hT
  have hT : TwS G w w a ad t := TwS.rf hT
  have hn40 := hC.n40
  have hsh8 := hC.sh8
  refine lv_aload_n hx hb dX10_at_0 rfl (lv_at hl 0 rfl) ?_
  refine h_iconst hx hb dX10_at_1 ?_
  refine tw_puti X hR hL hT 0 (by decide) q2941 rfl rfl rfl twF_s0 (by omega) dX10_at_2 (fun t_1 et_2 w_3 hT H locs hR hL => ?_)
  have hE_t_1 := TwE.put et_2
  have hv_t_1 := tput_v et_2
  refine lv_iload_n hx hb dX10_at_5 rfl (lv_at hl 1 rfl) ?_
  refine h_i2l hx hb dX10_at_6 (by omega) ?_
  refine h_lconst hx hb 0 dX10_at_7 rfl ?_
  refine lv_aload_n hx hb dX10_at_8 rfl (lv_at hl 0 rfl) ?_
  refine h_iconst hx hb dX10_at_9 ?_
  -- call SpokenMarksModel.head
  refine h_kIp (h_runV X hR (m_head l G w_3 a ad t_1 hT.1 2 (by omega)) pn_yX10_head (hasC.of hT.1.ob rfl) q2789 q2791 qs44 q161 q2792 ⟨by decide, by decide⟩ hl.1 (Nat.le_of_ble_eq_true rfl) dX10_at_10 ⟨by omega, by omega⟩) hL (fun H locs hR hL => ?_)
  refine W.eq (g2 := F0 m9 13 ls [.int (iI ((cN c0 : Int))), .long (lI (0)), .long (lI (x))]) (congrArg (fun z_ : Int => F0 m9 13 ls [.int (iI (z_)), .long (lI (0)), .long (lI (x))]) (show (hd t_1 2 : Int) = (cN c0 : Int) from (by exact ((congrFun ((hE_t_1 3 (by decide)).2) 2).trans hC.n)))) ?_
  refine h_iconst hx hb dX10_at_13 ?_
  refine h_isub hx hb dX10_at_14 ?_
  refine h_i2l hx hb dX10_at_15 (by omega) ?_
  -- call SpokenMarksModel.in
  refine h_kIp (h_runS X hR (m_in l G w_3  x 0 (((cN c0 : Int)) - 1) (by omega) (by omega) (by omega)) pn_yX10_in q2730 q2731 q161 q2732 ⟨by decide, by decide⟩ hl.1 (Nat.le_of_ble_eq_true rfl) dX10_at_16 ⟨by omega, by omega⟩) hL (fun H locs hR hL => ?_)
  refine h_if_eq hx hb 31 dX10_at_19 (by decide) (b2i_R _) (fun c_f => ?_) (fun c_f => ?_)
  ·
    refine h_iconst hx hb dX10_at_31 ?_
    exact h_ireturn hx hb hlk hret hR hL rfl ⟨(by unfold qAt; first | (rw [if_pos ⟨by omega, by omega⟩]; done) | (rw [if_pos ⟨(b2i_n1.mp c_f).1, by have := (b2i_n1.mp c_f).2; omega⟩]; done) | (rw [if_neg (fun q => b2i_0.mp c_f ⟨q.1, by omega⟩)]; done)), ⟨t_1, hT, (TwE.tr (S2 := [0]) (TwE.rf : TwE [] t t) hE_t_1 rfl rfl), trivial⟩⟩ (by omega) (by omega) rfl rfl dX10_at_32
  ·
    refine lv_aload_n hx hb dX10_at_22 rfl (lv_at hl 0 rfl) ?_
    refine lv_iload_n hx hb dX10_at_23 rfl (lv_at hl 1 rfl) ?_
    refine h_iconst hx hb dX10_at_24 ?_
    have hok := b2i_n1.mp c_f
    refine W.eq (g2 := F0 m9 25 ls [.int (iI (0)), .int (iI (((x.toNat : Nat) : Int))), .ref a]) (congrArg (fun z_ : Int => F0 m9 25 ls [.int (iI (0)), .int (iI (z_)), .ref a]) (show (x : Int) = ((x.toNat : Nat) : Int) from (by omega))) ?_
    -- call SpokenMarksModel.of
    refine h_kIp (h_runV X hR (m_of l G w_3 a ad t_1 hT.1 x.toNat 0 (by omega) (by omega)) pn_yX10_of (hasC.of hT.1.ob rfl) q2827 q2829 qs53 q161 q2830 ⟨by decide, by decide⟩ hl.1 (Nat.le_of_ble_eq_true rfl) dX10_at_25 ⟨by omega, by omega⟩) hL (fun H locs hR hL => ?_)
    refine W.eq (g2 := F0 m9 28 ls [.int (iI (mId (mk c0 x.toNat)))]) (congrArg (fun z_ : Int => F0 m9 28 ls [.int (iI (z_))]) (show (tof t_1 x.toNat 0 : Int) = mId (mk c0 x.toNat) from (by exact ((congrFun ((hE_t_1 3 (by decide)).2) ((32 + 14 * x.toNat + 0))).trans ((hC.m x.toNat (by omega)).1))))) ?_
    refine lv_goto (tgt := 32) hx hb dX10_at_28 (by decide) ?_
    exact h_ireturn hx hb hlk hret hR hL rfl ⟨(by unfold qAt; first | (rw [if_pos ⟨by omega, by omega⟩]; done) | (rw [if_pos ⟨(b2i_n1.mp c_f).1, by have := (b2i_n1.mp c_f).2; omega⟩]; done) | (rw [if_neg (fun q => b2i_0.mp c_f ⟨q.1, by omega⟩)]; done)), ⟨t_1, hT, (TwE.tr (S2 := [0]) (TwE.rf : TwE [] t t) hE_t_1 rfl rfl), trivial⟩⟩ (by omega) (by omega) rfl rfl dX10_at_32
