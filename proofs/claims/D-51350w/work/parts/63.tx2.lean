/-! the twin: a mark is written -/
set_option maxRecDepth 100000
def LineAt (t : Tw) (XL : List Int) : Prop := t.1 32 = (XL.length : Int) ∧ XL.length ≤ 120 ∧ ∀ j, j < XL.length → t.2 30 j = XL.getD j 0
def dgF : Nat → Int → List Int
  | 0, n => [48 + n % 10]
  | k + 1, n => if n < 10 then [48 + n % 10] else dgF k (n / 10) ++ [48 + n % 10]
/-- a number's figures -/
def dgs (n : Int) : List Int := dgF 5 n
def prtT (x : Prt) : List Int := match x with
  | .inl n => dgs n
  | .inr L => L
theorem dgF_len : ∀ (k : Nat) (n : Int), (dgF k n).length ≤ k + 1
  | 0, n => by simp [dgF]
  | k + 1, n => by
    unfold dgF; split
    · simp
    · have := dgF_len k (n / 10); rw [List.length_append, List.length_singleton]; omega
theorem prtT_len {x : Prt} (h : PrtW x) : (prtT x).length ≤ 8 := by
  cases x with
  | inl n => have := dgF_len 5 n; show (dgF 5 n).length ≤ 8; omega
  | inr L => exact h.1.1
/-- a part, and its ear where it differs -/
def fmT1 (R : Rls) (x : Prt) : List Int := prtT x ++ (if encP (earP R x) = encP x then [] else 47 :: prtT (earP R x))
def fmN (R : Rls) (ps : List Prt) : Nat → List Int
  | 0 => []
  | k + 1 => fmN R ps k ++ ((if 0 < k then [32] else []) ++ fmT1 R (ps.getD k prt0))
def fmM (R : Rls) (ps : List Prt) : List Int := fmN R ps ps.length
theorem fmT1_len {R : Rls} {x : Prt} (hR : RlW R) (h : PrtW x) : (fmT1 R x).length ≤ 17 := by
  have h1 := prtT_len h
  have h2 := prtT_len (earP_w hR h)
  unfold fmT1
  rw [List.length_append]
  split
  · simp; omega
  · rw [List.length_cons]; omega
theorem fmN_len {R : Rls} {ps : List Prt} (hR : RlW R) (h : ∀ x ∈ ps, PrtW x) : ∀ k, k ≤ ps.length → (fmN R ps k).length ≤ 18 * k
  | 0, _ => by simp [fmN]
  | k + 1, hk => by
    have h1 := fmN_len hR h k (by omega)
    have h2 := fmT1_len hR (h (ps.getD k prt0) (getmem (by omega)))
    unfold fmN
    rw [List.length_append, List.length_append]
    split
    · rw [List.length_singleton]; omega
    · rw [List.length_nil]; omega
theorem LineAt.mv {t t1 : Tw} {XL : List Int} {S : List Nat} (h : LineAt t XL) (hE : TwE S t t1) (h1 : 32 ∉ S) (h2 : 30 ∉ S) : LineAt t1 XL := by
  unfold LineAt; rw [(hE 32 h1).1, (hE 30 h2).2]; exact h
theorem LineAt.nil {t : Tw} (h : t.1 32 = 0) : LineAt t [] := ⟨h, Nat.zero_le _, fun k hk => absurd hk (Nat.not_lt_zero _)⟩
theorem LineAt.put {t t1 : Tw} {XL : List Int} {x : Int} (h : LineAt t XL) (h0 : XL.length < 120) (h1 : t1.1 32 = (XL.length : Int) + 1) (h2 : t1.2 30 = zset (t.2 30) XL.length x) : LineAt t1 (XL ++ [x]) := by
  refine ⟨by rw [h1, List.length_append, List.length_singleton]; omega, by rw [List.length_append, List.length_singleton]; omega, fun j hj => ?_⟩
  rw [List.length_append, List.length_singleton] at hj
  rw [h2]; unfold zset
  by_cases q : j = XL.length
  · rw [if_pos q, q]; simp
  · rw [if_neg q, List.getD_eq_getElem?_getD, List.getElem?_append_left (by omega), ← List.getD_eq_getElem?_getD]; exact h.2.2 j (by omega)
theorem take_s {L : List Int} {k : Nat} (hk : k < L.length) : L.take (k + 1) = L.take k ++ [L.getD k 0] := by
  rw [List.take_succ, List.getElem?_eq_getElem hk]; simp [hk]

theorem pn_yX10_writes : ParN yX10_writes 1 := by decide +kernel
theorem pn_yX10_writesPart : ParN yX10_writesPart 1 := by decide +kernel

set_option maxHeartbeats 4000000 in
set_option maxRecDepth 100000 in
/-- writes -/
theorem m_writes (l : Launch) (G : Gl) (w : Wd) (a : Nat) (ad : Nat → Nat) (t : Tw) (hT : TwAt G w a ad t) (v : Int) (XL : List Int) (hX : LineAt t XL) (h0 : XL.length < 120) (hv : R32 v) : HM l yX10_writes cX10_writes 2 none 1 0 0 G [.ref a, .int (iI (v))] w (QV G (fun w_ => ∃ t_ : Tw, TwS G w w_ a ad t_ ∧ TwE [30, 32] t t_ ∧ LineAt t_ (XL ++ [v]))) := by
  refine HM.mk (by decide +kernel) (Nat.le_of_ble_eq_true rfl) ?_
  intro p9 e9 s9 m9 a9 b9 meth9 c9 ls X hret hlk hnm hl H hR
  have hx := X.1.1
  have hb := X.1.2.1
  have hl : lv_has ls 2 [(0, .ref a), (1, .int (iI (v)))] := hl
  have hL : LK G [] := fun q h => absurd h List.not_mem_nil
  generalize ([] : List Loc) = locs at hL ⊢
  have hTb := hT
  have hT : TwS G w w a ad t := TwS.rf hT
  refine lv_aload_n hx hb dX10_writes_0 rfl (lv_at hl 0 rfl) ?_
  refine tw_get X hR hT 30 (by decide) q2971 rfl dX10_writes_1 ?_
  refine lv_aload_n hx hb dX10_writes_4 rfl (lv_at hl 0 rfl) ?_
  refine tw_get X hR hT 32 (by decide) q2973 (v := .int (iI ((XL.length : Int)))) (congrArg (fun z => some (Value.int (iI z))) (hX.1)) dX10_writes_5 ?_
  refine lv_iload_n hx hb dX10_writes_8 rfl (lv_at hl 1 rfl) ?_
  refine tw_iast X hR hL hT (k := 30) (by decide) XL.length (by omega) (by show _ < _; simp only [twN]; omega) hv dX10_writes_9 (fun t_1 et_2 w_3 hT H locs hR hL => ?_)
  have hE_t_1 := TwE.ast et_2
  have hv_t_1 := tast_v et_2
  refine lv_aload_n hx hb dX10_writes_10 rfl (lv_at hl 0 rfl) ?_
  refine lv_dup hx hb dX10_writes_11 rfl ?_
  refine tw_get X hR hT 32 (by decide) q2973 (v := .int (iI ((XL.length : Int)))) (congrArg (fun z => some (Value.int (iI z))) (((hE_t_1 32 (by decide)).1).trans hX.1)) dX10_writes_12 ?_
  refine h_iconst hx hb dX10_writes_15 ?_
  refine h_iadd hx hb dX10_writes_16 ?_
  refine tw_puti X hR hL hT 32 (by decide) q2973 rfl rfl rfl twF_s32 (by omega) dX10_writes_17 (fun t_4 et_5 w_6 hT H locs hR hL => ?_)
  have hE_t_4 := TwE.put et_5
  have hv_t_4 := tput_v et_5
  exact h_vreturn hx hb hlk hret hR hL ⟨t_4, hT, (TwE.tr (S2 := [30, 32]) (TwE.tr (S2 := [30, 32]) (TwE.rf : TwE [] t t) hE_t_1 rfl rfl) hE_t_4 rfl rfl), (hX.put h0 (hv_t_4) (by rw [(hE_t_4 30 (by decide)).2, hv_t_1]))⟩ (by omega) (by omega) rfl rfl dX10_writes_20

set_option maxHeartbeats 4000000 in
set_option maxRecDepth 100000 in
/-- writesPart -/
theorem m_writesPartW (l : Launch) (G : Gl) (w : Wd) (a : Nat) (ad : Nat → Nat) (t : Tw) (hT : TwAt G w a ad t)  (L : List Int) (XL : List Int) (hw : Wrd L) (hX : LineAt t XL) (h0 : XL.length + 8 ≤ 120) : HM l yX10_writesPart cX10_writesPart 6 none 2 0 0 G [.ref a, .long (lI (enc L))] w (QV G (fun w_ => ∃ t_ : Tw, TwS G w w_ a ad t_ ∧ TwE [1, 2, 30, 31, 32] t t_ ∧ LineAt t_ (XL ++ L))) := by
  refine HM.mk (by decide +kernel) (Nat.le_of_ble_eq_true rfl) ?_
  intro p9 e9 s9 m9 a9 b9 meth9 c9 ls X hret hlk hnm hl H hR
  have hx := X.1.1
  have hb := X.1.2.1
  have hl : lv_has ls 6 [(0, .ref a), (1, .long (lI (enc L)))] := hl
  have hL : LK G [] := fun q h => absurd h List.not_mem_nil
  generalize ([] : List Loc) = locs at hL ⊢
  have hTb := hT
  have hT : TwS G w w a ad t := TwS.rf hT
  have he0 := enc_r hw.2
  have hw1 := hw.1
  refine lv_lload_n hx hb dX10_writesPart_0 rfl (lv_at hl 1 rfl) ?_
  -- call SpokenMarksModel.isWordPart
  refine h_kIp (h_runS X hR (m_isWordPart l G w  (enc L) (by omega)) pn_yX10_isWordPart q2839 q2840 q161 q2841 ⟨by decide, by decide⟩ hl.1 (Nat.le_of_ble_eq_true rfl) dX10_writesPart_1 ⟨by omega, by omega⟩) hL (fun H locs hR hL => ?_)
  refine h_if_eq hx hb 42 dX10_writesPart_4 (by decide) (b2i_R _) (fun c_4 => ?_) (fun c_4 => ?_)
  ·
    exact absurd c_4 (by rw [b2i_t he0.1]; decide)
  ·
    refine lv_aload_n hx hb dX10_writesPart_7 rfl (lv_at hl 0 rfl) ?_
    refine lv_lload_n hx hb dX10_writesPart_8 rfl (lv_at hl 1 rfl) ?_
    -- call SpokenMarksModel.spells
    refine h_kV (h_runV X hR (m_spells l G w a ad t hT.1 L hw) pn_yX10_spells (hasC.of hT.1.ob rfl) q2846 q2848 qs57 q161 q2849 ⟨by decide, by decide⟩ hl.1 (Nat.le_of_ble_eq_true rfl) dX10_writesPart_9 ⟨by omega, by omega⟩) hL (fun w_6 hp_7 H locs hR hL => ?_)
    obtain ⟨t_8, hT2, hE_t_8, et_9⟩ := hp_7
    have hT := hT.tr hT2
    clear hT2
    have hs := et_9
    refine h_iconst hx hb dX10_writesPart_12 ?_
    refine lv_istore_n (lv' := [(3, .int (iI (0))), (0, .ref a), (1, .long (lI (enc L)))]) hx hb dX10_writesPart_13 rfl hl (by decide) rfl (fun ls hl => ?_)
    have LOOP_12 : ∀ (N_ : Nat) (k : Nat) (t_10 : Tw) (w_11 : Wd), (k ≤ L.length) → (TwS G w w_11 a ad t_10) → (TwE [30, 32] t_8 t_10) → (LineAt t_10 (XL ++ L.take k)) → (L.length - k) < N_ → ∀ (H : Heap) (locs : List Loc) (ls : Array Slot), Rp G w_11 H → LK G locs → lv_has ls 6 [(0, .ref a), (3, .int (iI ((k : Int))))] → W p9 l e9 (rmk 2 0 0) s9 m9 a9 b9 meth9 c9 H locs 0 0 (MQ b9 (QV G (fun w_ => ∃ t_ : Tw, TwS G w w_ a ad t_ ∧ TwE [1, 2, 30, 31, 32] t t_ ∧ LineAt t_ (XL ++ L))) a9 s9 0 0 (frG G)) (F0 m9 14 ls []) := by
      intro N_
      induction N_ with
      | zero => intro _ _ _ _ _ _ _ h_; exact absurd h_ (Nat.not_lt_zero _)
      | succ N_ ih_ =>
        intro k t_10 w_11 hk hT hE_t_10 hXk hN_ H locs ls hR hL hl
        have ih_12 := ih_
        clear ih_
        refine lv_iload_n hx hb dX10_writesPart_14 rfl (lv_at hl 1 rfl) ?_
        refine lv_aload_n hx hb dX10_writesPart_15 rfl (lv_at hl 0 rfl) ?_
        refine tw_get X hR hT 2 (by decide) q2943 (v := .int (iI ((L.length : Int)))) (congrArg (fun z => some (Value.int (iI z))) (((hE_t_10 2 (by decide)).1).trans hs.1)) dX10_writesPart_16 ?_
        refine h_icmp_ge hx hb 41 dX10_writesPart_19 (by decide) (by omega) (by omega) (fun c_13 => ?_) (fun c_13 => ?_)
        ·
          exact h_vreturn hx hb hlk hret hR hL ⟨t_10, hT, (TwE.tr (S2 := [1, 2, 30, 31, 32]) (TwE.tr (S2 := [1, 2, 30, 31, 32]) (TwE.rf : TwE [] t t) hE_t_8 rfl rfl) hE_t_10 rfl rfl), (by have h_ := hXk; rw [show k = L.length by omega, List.take_length] at h_; exact h_)⟩ (by omega) (by omega) rfl rfl dX10_writesPart_41
        ·
          refine lv_aload_n hx hb dX10_writesPart_22 rfl (lv_at hl 0 rfl) ?_
          refine h_bipush hx hb dX10_writesPart_23 (by decide) ?_
          refine lv_aload_n hx hb dX10_writesPart_25 rfl (lv_at hl 0 rfl) ?_
          refine tw_get X hR hT 1 (by decide) q2942 rfl dX10_writesPart_26 ?_
          refine lv_iload_n hx hb dX10_writesPart_29 rfl (lv_at hl 1 rfl) ?_
          refine tw_iald X hR hT (k := 1) (by decide) k (by omega) (by show _ < _; simp only [twN]; omega) (v := dg L k) ((congrFun ((hE_t_10 1 (by decide)).2) k).trans (hs.2.2 k (by omega))) dX10_writesPart_30 (fun ra_30 => ?_)
          refine h_iadd hx hb dX10_writesPart_31 ?_
          refine W.eq (g2 := F0 m9 32 ls [.int (iI (L.getD k 0)), .ref a]) (congrArg (fun z_ : Int => F0 m9 32 ls [.int (iI (z_)), .ref a]) (show (96 + (dg L k) : Int) = L.getD k 0 from (by rw [dg_lt (by omega)]; simp [show k < L.length by omega]; omega))) ?_
          have hkr : 97 ≤ L.getD k 0 ∧ L.getD k 0 ≤ 122 := by rw [show L.getD k 0 = L[k] by simp [show k < L.length by omega]]; exact hw.2 _ (List.getElem_mem _)
          -- call SpokenMarksModel.writes
          refine h_kV (h_runV X hR (m_writes l G w_11 a ad t_10 hT.1 (L.getD k 0) (XL ++ L.take k) hXk (by rw [List.length_append, List.length_take]; omega) ⟨by omega, by omega⟩) pn_yX10_writes (hasC.of hT.1.ob rfl) q3345 q3347 qs117 q161 q3348 ⟨by decide, by decide⟩ hl.1 (Nat.le_of_ble_eq_true rfl) dX10_writesPart_32 ⟨by omega, by omega⟩) hL (fun w_15 hp_16 H locs hR hL => ?_)
          obtain ⟨t_17, hT2, hE_t_17, et_18⟩ := hp_16
          have hT := hT.tr hT2
          clear hT2
          refine h_iinc (lv' := [(3, .int (iI ((k : Int) + 1))), (0, .ref a)]) hx hb dX10_writesPart_35 hl (k := 1) rfl (by decide) rfl (fun ls hl => ?_)
          refine lv_goto (tgt := 14) hx hb dX10_writesPart_38 (by decide) ?_
          exact ih_12 (k + 1) t_17 w_15 (by omega) hT (TwE.tr (S2 := [30, 32]) (TwE.tr (S2 := [30, 32]) (TwE.rf : TwE [] t_8 t_8) hE_t_10 rfl rfl) hE_t_17 rfl rfl) (by rw [take_s (by omega), ← List.append_assoc]; exact et_18) (by omega) _ _ _ hR hL (lv_sub hl [1, 0] rfl)
    exact LOOP_12 _ 0 t_8 w_6 (by omega) hT (TwE.rf : TwE [30, 32] t_8 t_8) (by rw [List.take_zero, List.append_nil]; exact hX.mv (TwE.tr (S2 := [1, 2]) (TwE.rf : TwE [] t t) hE_t_8 rfl rfl) (by decide) (by decide)) (Nat.lt_succ_self _) _ _ _ hR hL (lv_sub hl [1, 0] rfl)

set_option maxHeartbeats 4000000 in
set_option maxRecDepth 100000 in
/-- writesPart -/
theorem m_writesPartF (l : Launch) (G : Gl) (w : Wd) (a : Nat) (ad : Nat → Nat) (t : Tw) (hT : TwAt G w a ad t) (n : Int) (XL : List Int) (hn : 0 ≤ n ∧ n ≤ 99999) (hX : LineAt t XL) (h0 : XL.length + 8 ≤ 120) : HM l yX10_writesPart cX10_writesPart 6 none 2 0 0 G [.ref a, .long (lI (n))] w (QV G (fun w_ => ∃ t_ : Tw, TwS G w w_ a ad t_ ∧ TwE [1, 2, 30, 31, 32] t t_ ∧ LineAt t_ (XL ++ dgs n))) := by
  refine HM.mk (by decide +kernel) (Nat.le_of_ble_eq_true rfl) ?_
  intro p9 e9 s9 m9 a9 b9 meth9 c9 ls X hret hlk hnm hl H hR
  have hx := X.1.1
  have hb := X.1.2.1
  have hl : lv_has ls 6 [(0, .ref a), (1, .long (lI (n)))] := hl
  have hL : LK G [] := fun q h => absurd h List.not_mem_nil
  generalize ([] : List Loc) = locs at hL ⊢
  have hTb := hT
  have hT : TwS G w w a ad t := TwS.rf hT
  refine lv_lload_n hx hb dX10_writesPart_0 rfl (lv_at hl 1 rfl) ?_
  -- call SpokenMarksModel.isWordPart
  refine h_kIp (h_runS X hR (m_isWordPart l G w  n (by omega)) pn_yX10_isWordPart q2839 q2840 q161 q2841 ⟨by decide, by decide⟩ hl.1 (Nat.le_of_ble_eq_true rfl) dX10_writesPart_1 ⟨by omega, by omega⟩) hL (fun H locs hR hL => ?_)
  refine h_if_eq hx hb 42 dX10_writesPart_4 (by decide) (b2i_R _) (fun c_4 => ?_) (fun c_4 => ?_)
  ·
    refine lv_lload_n hx hb dX10_writesPart_42 rfl (lv_at hl 1 rfl) ?_
    refine h_l2i hx hb dX10_writesPart_43 ?_
    refine lv_istore_n (lv' := [(3, .int (iI (n))), (0, .ref a), (1, .long (lI (n)))]) hx hb dX10_writesPart_44 rfl hl (by decide) rfl (fun ls hl => ?_)
    refine h_iconst hx hb dX10_writesPart_45 ?_
    refine lv_istore (lv' := [(4, .int (iI (0))), (3, .int (iI (n))), (0, .ref a), (1, .long (lI (n)))]) hx hb dX10_writesPart_46 hl (by decide) rfl (fun ls hl => ?_)
    refine lv_aload_n hx hb dX10_writesPart_48 rfl (lv_at hl 2 rfl) ?_
    refine tw_get X hR hT 31 (by decide) q2972 rfl dX10_writesPart_49 ?_
    refine lv_iload hx hb dX10_writesPart_52 (lv_at hl 0 rfl) ?_
    refine lv_iload_n hx hb dX10_writesPart_54 rfl (lv_at hl 1 rfl) ?_
    refine h_bipush hx hb dX10_writesPart_55 (by decide) ?_
    refine h_irem hx hb dX10_writesPart_57 (by omega) ?_
    refine tw_iast X hR hL hT (k := 31) (by decide) 0 (by omega) (by show _ < _; simp only [twN]; omega) (by omega) dX10_writesPart_58 (fun t_5 et_6 w_7 hT H locs hR hL => ?_)
    have hE_t_5 := TwE.ast et_6
    have hv_t_5 := tast_v et_6
    have f_0_0 : t_5.2 31 0 = n % 10 := by rw [hv_t_5]; unfold zset; rw [if_pos rfl]
    refine lv_iload_n hx hb dX10_writesPart_59 rfl (lv_at hl 1 rfl) ?_
    refine h_bipush hx hb dX10_writesPart_60 (by decide) ?_
    refine h_idiv hx hb dX10_writesPart_62 (by omega) ?_
    refine lv_istore_n (lv' := [(3, .int (iI (n / 10))), (4, .int (iI (0))), (0, .ref a), (1, .long (lI (n)))]) hx hb dX10_writesPart_63 rfl hl (by decide) rfl (fun ls hl => ?_)
    refine h_iinc (lv' := [(4, .int (iI (0 + 1))), (3, .int (iI (n / 10))), (0, .ref a), (1, .long (lI (n)))]) hx hb dX10_writesPart_64 hl (k := 1) rfl (by decide) rfl (fun ls hl => ?_)
    have hl : lv_has ls 6 [(4, .int (iI (1))), (3, .int (iI (n / 10))), (0, .ref a), (1, .long (lI (n)))] := lv_conv hl (congrArg (fun z_ : Int => ([(4, .int (iI (z_))), (3, .int (iI (n / 10))), (0, .ref a), (1, .long (lI (n)))] : List (Nat × Value))) (show (0 + 1 : Int) = 1 from (by omega)))
    refine lv_iload_n hx hb dX10_writesPart_67 rfl (lv_at hl 1 rfl) ?_
    refine h_if_gt hx hb 48 dX10_writesPart_68 (by decide) (by omega) (fun c_g1 => ?_) (fun c_g1 => ?_)
    ·
      refine lv_aload_n hx hb dX10_writesPart_48 rfl (lv_at hl 2 rfl) ?_
      refine tw_get X hR hT 31 (by decide) q2972 rfl dX10_writesPart_49 ?_
      refine lv_iload hx hb dX10_writesPart_52 (lv_at hl 0 rfl) ?_
      refine lv_iload_n hx hb dX10_writesPart_54 rfl (lv_at hl 1 rfl) ?_
      refine h_bipush hx hb dX10_writesPart_55 (by decide) ?_
      refine h_irem hx hb dX10_writesPart_57 (by omega) ?_
      refine tw_iast X hR hL hT (k := 31) (by decide) 1 (by omega) (by show _ < _; simp only [twN]; omega) (by omega) dX10_writesPart_58 (fun t_8 et_9 w_10 hT H locs hR hL => ?_)
      have hE_t_8 := TwE.ast et_9
      have hv_t_8 := tast_v et_9
      have f_1_0 : t_8.2 31 0 = n % 10 := by rw [hv_t_8]; unfold zset; rw [if_neg (by omega)]; exact f_0_0
      have f_1_1 : t_8.2 31 1 = (n / 10) % 10 := by rw [hv_t_8]; unfold zset; rw [if_pos rfl]
      refine lv_iload_n hx hb dX10_writesPart_59 rfl (lv_at hl 1 rfl) ?_
      refine h_bipush hx hb dX10_writesPart_60 (by decide) ?_
      refine h_idiv hx hb dX10_writesPart_62 (by omega) ?_
      refine lv_istore_n (lv' := [(3, .int (iI ((n / 10) / 10))), (4, .int (iI (1))), (0, .ref a), (1, .long (lI (n)))]) hx hb dX10_writesPart_63 rfl hl (by decide) rfl (fun ls hl => ?_)
      refine h_iinc (lv' := [(4, .int (iI (1 + 1))), (3, .int (iI ((n / 10) / 10))), (0, .ref a), (1, .long (lI (n)))]) hx hb dX10_writesPart_64 hl (k := 1) rfl (by decide) rfl (fun ls hl => ?_)
      have hl : lv_has ls 6 [(4, .int (iI (2))), (3, .int (iI ((n / 10) / 10))), (0, .ref a), (1, .long (lI (n)))] := lv_conv hl (congrArg (fun z_ : Int => ([(4, .int (iI (z_))), (3, .int (iI ((n / 10) / 10))), (0, .ref a), (1, .long (lI (n)))] : List (Nat × Value))) (show (1 + 1 : Int) = 2 from (by omega)))
      refine lv_iload_n hx hb dX10_writesPart_67 rfl (lv_at hl 1 rfl) ?_
      refine h_if_gt hx hb 48 dX10_writesPart_68 (by decide) (by omega) (fun c_g2 => ?_) (fun c_g2 => ?_)
      ·
        refine lv_aload_n hx hb dX10_writesPart_48 rfl (lv_at hl 2 rfl) ?_
        refine tw_get X hR hT 31 (by decide) q2972 rfl dX10_writesPart_49 ?_
        refine lv_iload hx hb dX10_writesPart_52 (lv_at hl 0 rfl) ?_
        refine lv_iload_n hx hb dX10_writesPart_54 rfl (lv_at hl 1 rfl) ?_
        refine h_bipush hx hb dX10_writesPart_55 (by decide) ?_
        refine h_irem hx hb dX10_writesPart_57 (by omega) ?_
        refine tw_iast X hR hL hT (k := 31) (by decide) 2 (by omega) (by show _ < _; simp only [twN]; omega) (by omega) dX10_writesPart_58 (fun t_11 et_12 w_13 hT H locs hR hL => ?_)
        have hE_t_11 := TwE.ast et_12
        have hv_t_11 := tast_v et_12
        have f_2_0 : t_11.2 31 0 = n % 10 := by rw [hv_t_11]; unfold zset; rw [if_neg (by omega)]; exact f_1_0
        have f_2_1 : t_11.2 31 1 = (n / 10) % 10 := by rw [hv_t_11]; unfold zset; rw [if_neg (by omega)]; exact f_1_1
        have f_2_2 : t_11.2 31 2 = (n / 10 / 10) % 10 := by rw [hv_t_11]; unfold zset; rw [if_pos rfl]
        refine lv_iload_n hx hb dX10_writesPart_59 rfl (lv_at hl 1 rfl) ?_
        refine h_bipush hx hb dX10_writesPart_60 (by decide) ?_
        refine h_idiv hx hb dX10_writesPart_62 (by omega) ?_
        refine lv_istore_n (lv' := [(3, .int (iI (((n / 10) / 10) / 10))), (4, .int (iI (2))), (0, .ref a), (1, .long (lI (n)))]) hx hb dX10_writesPart_63 rfl hl (by decide) rfl (fun ls hl => ?_)
        refine h_iinc (lv' := [(4, .int (iI (2 + 1))), (3, .int (iI (((n / 10) / 10) / 10))), (0, .ref a), (1, .long (lI (n)))]) hx hb dX10_writesPart_64 hl (k := 1) rfl (by decide) rfl (fun ls hl => ?_)
        have hl : lv_has ls 6 [(4, .int (iI (3))), (3, .int (iI (((n / 10) / 10) / 10))), (0, .ref a), (1, .long (lI (n)))] := lv_conv hl (congrArg (fun z_ : Int => ([(4, .int (iI (z_))), (3, .int (iI (((n / 10) / 10) / 10))), (0, .ref a), (1, .long (lI (n)))] : List (Nat × Value))) (show (2 + 1 : Int) = 3 from (by omega)))
        refine lv_iload_n hx hb dX10_writesPart_67 rfl (lv_at hl 1 rfl) ?_
        refine h_if_gt hx hb 48 dX10_writesPart_68 (by decide) (by omega) (fun c_g3 => ?_) (fun c_g3 => ?_)
        ·
          refine lv_aload_n hx hb dX10_writesPart_48 rfl (lv_at hl 2 rfl) ?_
          refine tw_get X hR hT 31 (by decide) q2972 rfl dX10_writesPart_49 ?_
          refine lv_iload hx hb dX10_writesPart_52 (lv_at hl 0 rfl) ?_
          refine lv_iload_n hx hb dX10_writesPart_54 rfl (lv_at hl 1 rfl) ?_
          refine h_bipush hx hb dX10_writesPart_55 (by decide) ?_
          refine h_irem hx hb dX10_writesPart_57 (by omega) ?_
          refine tw_iast X hR hL hT (k := 31) (by decide) 3 (by omega) (by show _ < _; simp only [twN]; omega) (by omega) dX10_writesPart_58 (fun t_14 et_15 w_16 hT H locs hR hL => ?_)
          have hE_t_14 := TwE.ast et_15
          have hv_t_14 := tast_v et_15
          have f_3_0 : t_14.2 31 0 = n % 10 := by rw [hv_t_14]; unfold zset; rw [if_neg (by omega)]; exact f_2_0
          have f_3_1 : t_14.2 31 1 = (n / 10) % 10 := by rw [hv_t_14]; unfold zset; rw [if_neg (by omega)]; exact f_2_1
          have f_3_2 : t_14.2 31 2 = (n / 10 / 10) % 10 := by rw [hv_t_14]; unfold zset; rw [if_neg (by omega)]; exact f_2_2
          have f_3_3 : t_14.2 31 3 = (n / 10 / 10 / 10) % 10 := by rw [hv_t_14]; unfold zset; rw [if_pos rfl]
          refine lv_iload_n hx hb dX10_writesPart_59 rfl (lv_at hl 1 rfl) ?_
          refine h_bipush hx hb dX10_writesPart_60 (by decide) ?_
          refine h_idiv hx hb dX10_writesPart_62 (by omega) ?_
          refine lv_istore_n (lv' := [(3, .int (iI ((((n / 10) / 10) / 10) / 10))), (4, .int (iI (3))), (0, .ref a), (1, .long (lI (n)))]) hx hb dX10_writesPart_63 rfl hl (by decide) rfl (fun ls hl => ?_)
          refine h_iinc (lv' := [(4, .int (iI (3 + 1))), (3, .int (iI ((((n / 10) / 10) / 10) / 10))), (0, .ref a), (1, .long (lI (n)))]) hx hb dX10_writesPart_64 hl (k := 1) rfl (by decide) rfl (fun ls hl => ?_)
          have hl : lv_has ls 6 [(4, .int (iI (4))), (3, .int (iI ((((n / 10) / 10) / 10) / 10))), (0, .ref a), (1, .long (lI (n)))] := lv_conv hl (congrArg (fun z_ : Int => ([(4, .int (iI (z_))), (3, .int (iI ((((n / 10) / 10) / 10) / 10))), (0, .ref a), (1, .long (lI (n)))] : List (Nat × Value))) (show (3 + 1 : Int) = 4 from (by omega)))
          refine lv_iload_n hx hb dX10_writesPart_67 rfl (lv_at hl 1 rfl) ?_
          refine h_if_gt hx hb 48 dX10_writesPart_68 (by decide) (by omega) (fun c_g4 => ?_) (fun c_g4 => ?_)
          ·
            refine lv_aload_n hx hb dX10_writesPart_48 rfl (lv_at hl 2 rfl) ?_
            refine tw_get X hR hT 31 (by decide) q2972 rfl dX10_writesPart_49 ?_
            refine lv_iload hx hb dX10_writesPart_52 (lv_at hl 0 rfl) ?_
            refine lv_iload_n hx hb dX10_writesPart_54 rfl (lv_at hl 1 rfl) ?_
            refine h_bipush hx hb dX10_writesPart_55 (by decide) ?_
            refine h_irem hx hb dX10_writesPart_57 (by omega) ?_
            refine tw_iast X hR hL hT (k := 31) (by decide) 4 (by omega) (by show _ < _; simp only [twN]; omega) (by omega) dX10_writesPart_58 (fun t_17 et_18 w_19 hT H locs hR hL => ?_)
            have hE_t_17 := TwE.ast et_18
            have hv_t_17 := tast_v et_18
            have f_4_0 : t_17.2 31 0 = n % 10 := by rw [hv_t_17]; unfold zset; rw [if_neg (by omega)]; exact f_3_0
            have f_4_1 : t_17.2 31 1 = (n / 10) % 10 := by rw [hv_t_17]; unfold zset; rw [if_neg (by omega)]; exact f_3_1
            have f_4_2 : t_17.2 31 2 = (n / 10 / 10) % 10 := by rw [hv_t_17]; unfold zset; rw [if_neg (by omega)]; exact f_3_2
            have f_4_3 : t_17.2 31 3 = (n / 10 / 10 / 10) % 10 := by rw [hv_t_17]; unfold zset; rw [if_neg (by omega)]; exact f_3_3
            have f_4_4 : t_17.2 31 4 = (n / 10 / 10 / 10 / 10) % 10 := by rw [hv_t_17]; unfold zset; rw [if_pos rfl]
            refine lv_iload_n hx hb dX10_writesPart_59 rfl (lv_at hl 1 rfl) ?_
            refine h_bipush hx hb dX10_writesPart_60 (by decide) ?_
            refine h_idiv hx hb dX10_writesPart_62 (by omega) ?_
            refine lv_istore_n (lv' := [(3, .int (iI (((((n / 10) / 10) / 10) / 10) / 10))), (4, .int (iI (4))), (0, .ref a), (1, .long (lI (n)))]) hx hb dX10_writesPart_63 rfl hl (by decide) rfl (fun ls hl => ?_)
            refine h_iinc (lv' := [(4, .int (iI (4 + 1))), (3, .int (iI (((((n / 10) / 10) / 10) / 10) / 10))), (0, .ref a), (1, .long (lI (n)))]) hx hb dX10_writesPart_64 hl (k := 1) rfl (by decide) rfl (fun ls hl => ?_)
            have hl : lv_has ls 6 [(4, .int (iI (5))), (3, .int (iI (((((n / 10) / 10) / 10) / 10) / 10))), (0, .ref a), (1, .long (lI (n)))] := lv_conv hl (congrArg (fun z_ : Int => ([(4, .int (iI (z_))), (3, .int (iI (((((n / 10) / 10) / 10) / 10) / 10))), (0, .ref a), (1, .long (lI (n)))] : List (Nat × Value))) (show (4 + 1 : Int) = 5 from (by omega)))
            refine lv_iload_n hx hb dX10_writesPart_67 rfl (lv_at hl 1 rfl) ?_
            refine h_if_gt hx hb 48 dX10_writesPart_68 (by decide) (by omega) (fun c_g5 => ?_) (fun c_g5 => ?_)
            ·
              exact absurd c_g5 (by omega)
            ·
              refine lv_iload hx hb dX10_writesPart_71 (lv_at hl 0 rfl) ?_
              refine h_iconst hx hb dX10_writesPart_73 ?_
              refine h_isub hx hb dX10_writesPart_74 ?_
              refine lv_istore (lv' := [(5, .int (iI (5 - 1))), (4, .int (iI (5))), (3, .int (iI (((((n / 10) / 10) / 10) / 10) / 10))), (0, .ref a), (1, .long (lI (n)))]) hx hb dX10_writesPart_75 hl (by decide) rfl (fun ls hl => ?_)
              have hl : lv_has ls 6 [(5, .int (iI (4))), (4, .int (iI (5))), (3, .int (iI (((((n / 10) / 10) / 10) / 10) / 10))), (0, .ref a), (1, .long (lI (n)))] := lv_conv hl (congrArg (fun z_ : Int => ([(5, .int (iI (z_))), (4, .int (iI (5))), (3, .int (iI (((((n / 10) / 10) / 10) / 10) / 10))), (0, .ref a), (1, .long (lI (n)))] : List (Nat × Value))) (show (5 - 1 : Int) = 4 from (by omega)))
              refine lv_iload hx hb dX10_writesPart_77 (lv_at hl 0 rfl) ?_
              refine h_if_lt hx hb 102 dX10_writesPart_79 (by decide) (by decide) (fun z_ => absurd z_ (by decide)) (fun _ => ?_)
              refine lv_aload_n hx hb dX10_writesPart_82 rfl (lv_at hl 3 rfl) ?_
              refine h_bipush hx hb dX10_writesPart_83 (by decide) ?_
              refine lv_aload_n hx hb dX10_writesPart_85 rfl (lv_at hl 3 rfl) ?_
              refine tw_get X hR hT 31 (by decide) q2972 rfl dX10_writesPart_86 ?_
              refine lv_iload hx hb dX10_writesPart_89 (lv_at hl 0 rfl) ?_
              refine tw_iald X hR hT (k := 31) (by decide) 4 (by omega) (by show _ < _; simp only [twN]; omega) (v := (n / 10 / 10 / 10 / 10) % 10) (f_4_4) dX10_writesPart_91 (fun ra_91 => ?_)
              refine h_iadd hx hb dX10_writesPart_92 ?_
              -- call SpokenMarksModel.writes
              refine h_kV (h_runV X hR (m_writes l G w_19 a ad t_17 hT.1 ((48 + (n / 10 / 10 / 10 / 10) % 10)) XL (hX.mv (TwE.tr (S2 := [31]) (TwE.tr (S2 := [31]) (TwE.tr (S2 := [31]) (TwE.tr (S2 := [31]) (TwE.tr (S2 := [31]) (TwE.rf : TwE [] t t) hE_t_5 rfl rfl) hE_t_8 rfl rfl) hE_t_11 rfl rfl) hE_t_14 rfl rfl) hE_t_17 rfl rfl) (by decide) (by decide)) (by omega) ⟨by omega, by omega⟩) pn_yX10_writes (hasC.of hT.1.ob rfl) q3345 q3347 qs117 q161 q3348 ⟨by decide, by decide⟩ hl.1 (Nat.le_of_ble_eq_true rfl) dX10_writesPart_93 ⟨by omega, by omega⟩) hL (fun w_22 hp_23 H locs hR hL => ?_)
              obtain ⟨t_24, hT2, hE_t_24, et_25⟩ := hp_23
              have hT := hT.tr hT2
              clear hT2
              have hL_4 : LineAt t_24 (XL ++ [48 + (n / 10 / 10 / 10 / 10) % 10]) := et_25
              refine h_iinc (lv' := [(5, .int (iI (4 + (-1)))), (4, .int (iI (5))), (3, .int (iI (((((n / 10) / 10) / 10) / 10) / 10))), (0, .ref a), (1, .long (lI (n)))]) hx hb dX10_writesPart_96 hl (k := 0) rfl (by decide) rfl (fun ls hl => ?_)
              have hl : lv_has ls 6 [(5, .int (iI (3))), (4, .int (iI (5))), (3, .int (iI (((((n / 10) / 10) / 10) / 10) / 10))), (0, .ref a), (1, .long (lI (n)))] := lv_conv hl (congrArg (fun z_ : Int => ([(5, .int (iI (z_))), (4, .int (iI (5))), (3, .int (iI (((((n / 10) / 10) / 10) / 10) / 10))), (0, .ref a), (1, .long (lI (n)))] : List (Nat × Value))) (show (4 + (-1) : Int) = 3 from (by omega)))
              refine lv_goto (tgt := 77) hx hb dX10_writesPart_99 (by decide) ?_
              refine lv_iload hx hb dX10_writesPart_77 (lv_at hl 0 rfl) ?_
              refine h_if_lt hx hb 102 dX10_writesPart_79 (by decide) (by decide) (fun z_ => absurd z_ (by decide)) (fun _ => ?_)
              refine lv_aload_n hx hb dX10_writesPart_82 rfl (lv_at hl 3 rfl) ?_
              refine h_bipush hx hb dX10_writesPart_83 (by decide) ?_
              refine lv_aload_n hx hb dX10_writesPart_85 rfl (lv_at hl 3 rfl) ?_
              refine tw_get X hR hT 31 (by decide) q2972 rfl dX10_writesPart_86 ?_
              refine lv_iload hx hb dX10_writesPart_89 (lv_at hl 0 rfl) ?_
              refine tw_iald X hR hT (k := 31) (by decide) 3 (by omega) (by show _ < _; simp only [twN]; omega) (v := (n / 10 / 10 / 10) % 10) ((congrFun ((hE_t_24 31 (by decide)).2) 3).trans f_4_3) dX10_writesPart_91 (fun ra_91 => ?_)
              refine h_iadd hx hb dX10_writesPart_92 ?_
              -- call SpokenMarksModel.writes
              refine h_kV (h_runV X hR (m_writes l G w_22 a ad t_24 hT.1 ((48 + (n / 10 / 10 / 10) % 10)) ((XL ++ [48 + (n / 10 / 10 / 10 / 10) % 10])) hL_4 (by simp only [List.length_append, List.length_singleton]; omega) ⟨by omega, by omega⟩) pn_yX10_writes (hasC.of hT.1.ob rfl) q3345 q3347 qs117 q161 q3348 ⟨by decide, by decide⟩ hl.1 (Nat.le_of_ble_eq_true rfl) dX10_writesPart_93 ⟨by omega, by omega⟩) hL (fun w_28 hp_29 H locs hR hL => ?_)
              obtain ⟨t_30, hT2, hE_t_30, et_31⟩ := hp_29
              have hT := hT.tr hT2
              clear hT2
              have hL_3 : LineAt t_30 ((XL ++ [48 + (n / 10 / 10 / 10 / 10) % 10]) ++ [48 + (n / 10 / 10 / 10) % 10]) := et_31
              refine h_iinc (lv' := [(5, .int (iI (3 + (-1)))), (4, .int (iI (5))), (3, .int (iI (((((n / 10) / 10) / 10) / 10) / 10))), (0, .ref a), (1, .long (lI (n)))]) hx hb dX10_writesPart_96 hl (k := 0) rfl (by decide) rfl (fun ls hl => ?_)
              have hl : lv_has ls 6 [(5, .int (iI (2))), (4, .int (iI (5))), (3, .int (iI (((((n / 10) / 10) / 10) / 10) / 10))), (0, .ref a), (1, .long (lI (n)))] := lv_conv hl (congrArg (fun z_ : Int => ([(5, .int (iI (z_))), (4, .int (iI (5))), (3, .int (iI (((((n / 10) / 10) / 10) / 10) / 10))), (0, .ref a), (1, .long (lI (n)))] : List (Nat × Value))) (show (3 + (-1) : Int) = 2 from (by omega)))
              refine lv_goto (tgt := 77) hx hb dX10_writesPart_99 (by decide) ?_
              refine lv_iload hx hb dX10_writesPart_77 (lv_at hl 0 rfl) ?_
              refine h_if_lt hx hb 102 dX10_writesPart_79 (by decide) (by decide) (fun z_ => absurd z_ (by decide)) (fun _ => ?_)
              refine lv_aload_n hx hb dX10_writesPart_82 rfl (lv_at hl 3 rfl) ?_
              refine h_bipush hx hb dX10_writesPart_83 (by decide) ?_
              refine lv_aload_n hx hb dX10_writesPart_85 rfl (lv_at hl 3 rfl) ?_
              refine tw_get X hR hT 31 (by decide) q2972 rfl dX10_writesPart_86 ?_
              refine lv_iload hx hb dX10_writesPart_89 (lv_at hl 0 rfl) ?_
              refine tw_iald X hR hT (k := 31) (by decide) 2 (by omega) (by show _ < _; simp only [twN]; omega) (v := (n / 10 / 10) % 10) ((congrFun (((hE_t_30 31 (by decide)).2).trans (hE_t_24 31 (by decide)).2) 2).trans f_4_2) dX10_writesPart_91 (fun ra_91 => ?_)
              refine h_iadd hx hb dX10_writesPart_92 ?_
              -- call SpokenMarksModel.writes
              refine h_kV (h_runV X hR (m_writes l G w_28 a ad t_30 hT.1 ((48 + (n / 10 / 10) % 10)) (((XL ++ [48 + (n / 10 / 10 / 10 / 10) % 10]) ++ [48 + (n / 10 / 10 / 10) % 10])) hL_3 (by simp only [List.length_append, List.length_singleton]; omega) ⟨by omega, by omega⟩) pn_yX10_writes (hasC.of hT.1.ob rfl) q3345 q3347 qs117 q161 q3348 ⟨by decide, by decide⟩ hl.1 (Nat.le_of_ble_eq_true rfl) dX10_writesPart_93 ⟨by omega, by omega⟩) hL (fun w_34 hp_35 H locs hR hL => ?_)
              obtain ⟨t_36, hT2, hE_t_36, et_37⟩ := hp_35
              have hT := hT.tr hT2
              clear hT2
              have hL_2 : LineAt t_36 (((XL ++ [48 + (n / 10 / 10 / 10 / 10) % 10]) ++ [48 + (n / 10 / 10 / 10) % 10]) ++ [48 + (n / 10 / 10) % 10]) := et_37
              refine h_iinc (lv' := [(5, .int (iI (2 + (-1)))), (4, .int (iI (5))), (3, .int (iI (((((n / 10) / 10) / 10) / 10) / 10))), (0, .ref a), (1, .long (lI (n)))]) hx hb dX10_writesPart_96 hl (k := 0) rfl (by decide) rfl (fun ls hl => ?_)
              have hl : lv_has ls 6 [(5, .int (iI (1))), (4, .int (iI (5))), (3, .int (iI (((((n / 10) / 10) / 10) / 10) / 10))), (0, .ref a), (1, .long (lI (n)))] := lv_conv hl (congrArg (fun z_ : Int => ([(5, .int (iI (z_))), (4, .int (iI (5))), (3, .int (iI (((((n / 10) / 10) / 10) / 10) / 10))), (0, .ref a), (1, .long (lI (n)))] : List (Nat × Value))) (show (2 + (-1) : Int) = 1 from (by omega)))
              refine lv_goto (tgt := 77) hx hb dX10_writesPart_99 (by decide) ?_
              refine lv_iload hx hb dX10_writesPart_77 (lv_at hl 0 rfl) ?_
              refine h_if_lt hx hb 102 dX10_writesPart_79 (by decide) (by decide) (fun z_ => absurd z_ (by decide)) (fun _ => ?_)
              refine lv_aload_n hx hb dX10_writesPart_82 rfl (lv_at hl 3 rfl) ?_
              refine h_bipush hx hb dX10_writesPart_83 (by decide) ?_
              refine lv_aload_n hx hb dX10_writesPart_85 rfl (lv_at hl 3 rfl) ?_
              refine tw_get X hR hT 31 (by decide) q2972 rfl dX10_writesPart_86 ?_
              refine lv_iload hx hb dX10_writesPart_89 (lv_at hl 0 rfl) ?_
              refine tw_iald X hR hT (k := 31) (by decide) 1 (by omega) (by show _ < _; simp only [twN]; omega) (v := (n / 10) % 10) ((congrFun ((((hE_t_36 31 (by decide)).2).trans (hE_t_30 31 (by decide)).2).trans (hE_t_24 31 (by decide)).2) 1).trans f_4_1) dX10_writesPart_91 (fun ra_91 => ?_)
              refine h_iadd hx hb dX10_writesPart_92 ?_
              -- call SpokenMarksModel.writes
              refine h_kV (h_runV X hR (m_writes l G w_34 a ad t_36 hT.1 ((48 + (n / 10) % 10)) ((((XL ++ [48 + (n / 10 / 10 / 10 / 10) % 10]) ++ [48 + (n / 10 / 10 / 10) % 10]) ++ [48 + (n / 10 / 10) % 10])) hL_2 (by simp only [List.length_append, List.length_singleton]; omega) ⟨by omega, by omega⟩) pn_yX10_writes (hasC.of hT.1.ob rfl) q3345 q3347 qs117 q161 q3348 ⟨by decide, by decide⟩ hl.1 (Nat.le_of_ble_eq_true rfl) dX10_writesPart_93 ⟨by omega, by omega⟩) hL (fun w_40 hp_41 H locs hR hL => ?_)
              obtain ⟨t_42, hT2, hE_t_42, et_43⟩ := hp_41
              have hT := hT.tr hT2
              clear hT2
              have hL_1 : LineAt t_42 ((((XL ++ [48 + (n / 10 / 10 / 10 / 10) % 10]) ++ [48 + (n / 10 / 10 / 10) % 10]) ++ [48 + (n / 10 / 10) % 10]) ++ [48 + (n / 10) % 10]) := et_43
              refine h_iinc (lv' := [(5, .int (iI (1 + (-1)))), (4, .int (iI (5))), (3, .int (iI (((((n / 10) / 10) / 10) / 10) / 10))), (0, .ref a), (1, .long (lI (n)))]) hx hb dX10_writesPart_96 hl (k := 0) rfl (by decide) rfl (fun ls hl => ?_)
              have hl : lv_has ls 6 [(5, .int (iI (0))), (4, .int (iI (5))), (3, .int (iI (((((n / 10) / 10) / 10) / 10) / 10))), (0, .ref a), (1, .long (lI (n)))] := lv_conv hl (congrArg (fun z_ : Int => ([(5, .int (iI (z_))), (4, .int (iI (5))), (3, .int (iI (((((n / 10) / 10) / 10) / 10) / 10))), (0, .ref a), (1, .long (lI (n)))] : List (Nat × Value))) (show (1 + (-1) : Int) = 0 from (by omega)))
              refine lv_goto (tgt := 77) hx hb dX10_writesPart_99 (by decide) ?_
              refine lv_iload hx hb dX10_writesPart_77 (lv_at hl 0 rfl) ?_
              refine h_if_lt hx hb 102 dX10_writesPart_79 (by decide) (by decide) (fun z_ => absurd z_ (by decide)) (fun _ => ?_)
              refine lv_aload_n hx hb dX10_writesPart_82 rfl (lv_at hl 3 rfl) ?_
              refine h_bipush hx hb dX10_writesPart_83 (by decide) ?_
              refine lv_aload_n hx hb dX10_writesPart_85 rfl (lv_at hl 3 rfl) ?_
              refine tw_get X hR hT 31 (by decide) q2972 rfl dX10_writesPart_86 ?_
              refine lv_iload hx hb dX10_writesPart_89 (lv_at hl 0 rfl) ?_
              refine tw_iald X hR hT (k := 31) (by decide) 0 (by omega) (by show _ < _; simp only [twN]; omega) (v := n % 10) ((congrFun (((((hE_t_42 31 (by decide)).2).trans (hE_t_36 31 (by decide)).2).trans (hE_t_30 31 (by decide)).2).trans (hE_t_24 31 (by decide)).2) 0).trans f_4_0) dX10_writesPart_91 (fun ra_91 => ?_)
              refine h_iadd hx hb dX10_writesPart_92 ?_
              -- call SpokenMarksModel.writes
              refine h_kV (h_runV X hR (m_writes l G w_40 a ad t_42 hT.1 ((48 + n % 10)) (((((XL ++ [48 + (n / 10 / 10 / 10 / 10) % 10]) ++ [48 + (n / 10 / 10 / 10) % 10]) ++ [48 + (n / 10 / 10) % 10]) ++ [48 + (n / 10) % 10])) hL_1 (by simp only [List.length_append, List.length_singleton]; omega) ⟨by omega, by omega⟩) pn_yX10_writes (hasC.of hT.1.ob rfl) q3345 q3347 qs117 q161 q3348 ⟨by decide, by decide⟩ hl.1 (Nat.le_of_ble_eq_true rfl) dX10_writesPart_93 ⟨by omega, by omega⟩) hL (fun w_46 hp_47 H locs hR hL => ?_)
              obtain ⟨t_48, hT2, hE_t_48, et_49⟩ := hp_47
              have hT := hT.tr hT2
              clear hT2
              have hL_0 : LineAt t_48 (((((XL ++ [48 + (n / 10 / 10 / 10 / 10) % 10]) ++ [48 + (n / 10 / 10 / 10) % 10]) ++ [48 + (n / 10 / 10) % 10]) ++ [48 + (n / 10) % 10]) ++ [48 + n % 10]) := et_49
              refine h_iinc (lv' := [(5, .int (iI (0 + (-1)))), (4, .int (iI (5))), (3, .int (iI (((((n / 10) / 10) / 10) / 10) / 10))), (0, .ref a), (1, .long (lI (n)))]) hx hb dX10_writesPart_96 hl (k := 0) rfl (by decide) rfl (fun ls hl => ?_)
              have hl : lv_has ls 6 [(5, .int (iI (-1))), (4, .int (iI (5))), (3, .int (iI (((((n / 10) / 10) / 10) / 10) / 10))), (0, .ref a), (1, .long (lI (n)))] := lv_conv hl (congrArg (fun z_ : Int => ([(5, .int (iI (z_))), (4, .int (iI (5))), (3, .int (iI (((((n / 10) / 10) / 10) / 10) / 10))), (0, .ref a), (1, .long (lI (n)))] : List (Nat × Value))) (show (0 + (-1) : Int) = -1 from (by omega)))
              refine lv_goto (tgt := 77) hx hb dX10_writesPart_99 (by decide) ?_
              refine lv_iload hx hb dX10_writesPart_77 (lv_at hl 0 rfl) ?_
              refine h_if_lt hx hb 102 dX10_writesPart_79 (by decide) (by decide) (fun _ => ?_) (fun z_ => absurd z_ (by decide))
              exact h_vreturn hx hb hlk hret hR hL ⟨t_48, hT, (TwE.tr (S2 := [1, 2, 30, 31, 32]) (TwE.tr (S2 := [1, 2, 30, 31, 32]) (TwE.tr (S2 := [1, 2, 30, 31, 32]) (TwE.tr (S2 := [1, 2, 30, 31, 32]) (TwE.tr (S2 := [1, 2, 30, 31, 32]) (TwE.tr (S2 := [1, 2, 30, 31, 32]) (TwE.tr (S2 := [1, 2, 30, 31, 32]) (TwE.tr (S2 := [1, 2, 30, 31, 32]) (TwE.tr (S2 := [1, 2, 30, 31, 32]) (TwE.tr (S2 := [1, 2, 30, 31, 32]) (TwE.rf : TwE [] t t) hE_t_5 rfl rfl) hE_t_8 rfl rfl) hE_t_11 rfl rfl) hE_t_14 rfl rfl) hE_t_17 rfl rfl) hE_t_24 rfl rfl) hE_t_30 rfl rfl) hE_t_36 rfl rfl) hE_t_42 rfl rfl) hE_t_48 rfl rfl), (by show LineAt _ (XL ++ dgF 5 n); simp only [dgF]; rw [if_neg (by omega), if_neg (by omega), if_neg (by omega), if_neg (by omega), if_pos (by omega)]; first | exact hL_0 | (have h_ := hL_0; simp only [List.append_assoc] at h_ ⊢; exact h_))⟩ (by omega) (by omega) rfl rfl dX10_writesPart_102
          ·
            refine lv_iload hx hb dX10_writesPart_71 (lv_at hl 0 rfl) ?_
            refine h_iconst hx hb dX10_writesPart_73 ?_
            refine h_isub hx hb dX10_writesPart_74 ?_
            refine lv_istore (lv' := [(5, .int (iI (4 - 1))), (4, .int (iI (4))), (3, .int (iI ((((n / 10) / 10) / 10) / 10))), (0, .ref a), (1, .long (lI (n)))]) hx hb dX10_writesPart_75 hl (by decide) rfl (fun ls hl => ?_)
            have hl : lv_has ls 6 [(5, .int (iI (3))), (4, .int (iI (4))), (3, .int (iI ((((n / 10) / 10) / 10) / 10))), (0, .ref a), (1, .long (lI (n)))] := lv_conv hl (congrArg (fun z_ : Int => ([(5, .int (iI (z_))), (4, .int (iI (4))), (3, .int (iI ((((n / 10) / 10) / 10) / 10))), (0, .ref a), (1, .long (lI (n)))] : List (Nat × Value))) (show (4 - 1 : Int) = 3 from (by omega)))
            refine lv_iload hx hb dX10_writesPart_77 (lv_at hl 0 rfl) ?_
            refine h_if_lt hx hb 102 dX10_writesPart_79 (by decide) (by decide) (fun z_ => absurd z_ (by decide)) (fun _ => ?_)
            refine lv_aload_n hx hb dX10_writesPart_82 rfl (lv_at hl 3 rfl) ?_
            refine h_bipush hx hb dX10_writesPart_83 (by decide) ?_
            refine lv_aload_n hx hb dX10_writesPart_85 rfl (lv_at hl 3 rfl) ?_
            refine tw_get X hR hT 31 (by decide) q2972 rfl dX10_writesPart_86 ?_
            refine lv_iload hx hb dX10_writesPart_89 (lv_at hl 0 rfl) ?_
            refine tw_iald X hR hT (k := 31) (by decide) 3 (by omega) (by show _ < _; simp only [twN]; omega) (v := (n / 10 / 10 / 10) % 10) (f_3_3) dX10_writesPart_91 (fun ra_91 => ?_)
            refine h_iadd hx hb dX10_writesPart_92 ?_
            -- call SpokenMarksModel.writes
            refine h_kV (h_runV X hR (m_writes l G w_16 a ad t_14 hT.1 ((48 + (n / 10 / 10 / 10) % 10)) XL (hX.mv (TwE.tr (S2 := [31]) (TwE.tr (S2 := [31]) (TwE.tr (S2 := [31]) (TwE.tr (S2 := [31]) (TwE.rf : TwE [] t t) hE_t_5 rfl rfl) hE_t_8 rfl rfl) hE_t_11 rfl rfl) hE_t_14 rfl rfl) (by decide) (by decide)) (by omega) ⟨by omega, by omega⟩) pn_yX10_writes (hasC.of hT.1.ob rfl) q3345 q3347 qs117 q161 q3348 ⟨by decide, by decide⟩ hl.1 (Nat.le_of_ble_eq_true rfl) dX10_writesPart_93 ⟨by omega, by omega⟩) hL (fun w_53 hp_54 H locs hR hL => ?_)
            obtain ⟨t_55, hT2, hE_t_55, et_56⟩ := hp_54
            have hT := hT.tr hT2
            clear hT2
            have hL_3 : LineAt t_55 (XL ++ [48 + (n / 10 / 10 / 10) % 10]) := et_56
            refine h_iinc (lv' := [(5, .int (iI (3 + (-1)))), (4, .int (iI (4))), (3, .int (iI ((((n / 10) / 10) / 10) / 10))), (0, .ref a), (1, .long (lI (n)))]) hx hb dX10_writesPart_96 hl (k := 0) rfl (by decide) rfl (fun ls hl => ?_)
            have hl : lv_has ls 6 [(5, .int (iI (2))), (4, .int (iI (4))), (3, .int (iI ((((n / 10) / 10) / 10) / 10))), (0, .ref a), (1, .long (lI (n)))] := lv_conv hl (congrArg (fun z_ : Int => ([(5, .int (iI (z_))), (4, .int (iI (4))), (3, .int (iI ((((n / 10) / 10) / 10) / 10))), (0, .ref a), (1, .long (lI (n)))] : List (Nat × Value))) (show (3 + (-1) : Int) = 2 from (by omega)))
            refine lv_goto (tgt := 77) hx hb dX10_writesPart_99 (by decide) ?_
            refine lv_iload hx hb dX10_writesPart_77 (lv_at hl 0 rfl) ?_
            refine h_if_lt hx hb 102 dX10_writesPart_79 (by decide) (by decide) (fun z_ => absurd z_ (by decide)) (fun _ => ?_)
            refine lv_aload_n hx hb dX10_writesPart_82 rfl (lv_at hl 3 rfl) ?_
            refine h_bipush hx hb dX10_writesPart_83 (by decide) ?_
            refine lv_aload_n hx hb dX10_writesPart_85 rfl (lv_at hl 3 rfl) ?_
            refine tw_get X hR hT 31 (by decide) q2972 rfl dX10_writesPart_86 ?_
            refine lv_iload hx hb dX10_writesPart_89 (lv_at hl 0 rfl) ?_
            refine tw_iald X hR hT (k := 31) (by decide) 2 (by omega) (by show _ < _; simp only [twN]; omega) (v := (n / 10 / 10) % 10) ((congrFun ((hE_t_55 31 (by decide)).2) 2).trans f_3_2) dX10_writesPart_91 (fun ra_91 => ?_)
            refine h_iadd hx hb dX10_writesPart_92 ?_
            -- call SpokenMarksModel.writes
            refine h_kV (h_runV X hR (m_writes l G w_53 a ad t_55 hT.1 ((48 + (n / 10 / 10) % 10)) ((XL ++ [48 + (n / 10 / 10 / 10) % 10])) hL_3 (by simp only [List.length_append, List.length_singleton]; omega) ⟨by omega, by omega⟩) pn_yX10_writes (hasC.of hT.1.ob rfl) q3345 q3347 qs117 q161 q3348 ⟨by decide, by decide⟩ hl.1 (Nat.le_of_ble_eq_true rfl) dX10_writesPart_93 ⟨by omega, by omega⟩) hL (fun w_59 hp_60 H locs hR hL => ?_)
            obtain ⟨t_61, hT2, hE_t_61, et_62⟩ := hp_60
            have hT := hT.tr hT2
            clear hT2
            have hL_2 : LineAt t_61 ((XL ++ [48 + (n / 10 / 10 / 10) % 10]) ++ [48 + (n / 10 / 10) % 10]) := et_62
            refine h_iinc (lv' := [(5, .int (iI (2 + (-1)))), (4, .int (iI (4))), (3, .int (iI ((((n / 10) / 10) / 10) / 10))), (0, .ref a), (1, .long (lI (n)))]) hx hb dX10_writesPart_96 hl (k := 0) rfl (by decide) rfl (fun ls hl => ?_)
            have hl : lv_has ls 6 [(5, .int (iI (1))), (4, .int (iI (4))), (3, .int (iI ((((n / 10) / 10) / 10) / 10))), (0, .ref a), (1, .long (lI (n)))] := lv_conv hl (congrArg (fun z_ : Int => ([(5, .int (iI (z_))), (4, .int (iI (4))), (3, .int (iI ((((n / 10) / 10) / 10) / 10))), (0, .ref a), (1, .long (lI (n)))] : List (Nat × Value))) (show (2 + (-1) : Int) = 1 from (by omega)))
            refine lv_goto (tgt := 77) hx hb dX10_writesPart_99 (by decide) ?_
            refine lv_iload hx hb dX10_writesPart_77 (lv_at hl 0 rfl) ?_
            refine h_if_lt hx hb 102 dX10_writesPart_79 (by decide) (by decide) (fun z_ => absurd z_ (by decide)) (fun _ => ?_)
            refine lv_aload_n hx hb dX10_writesPart_82 rfl (lv_at hl 3 rfl) ?_
            refine h_bipush hx hb dX10_writesPart_83 (by decide) ?_
            refine lv_aload_n hx hb dX10_writesPart_85 rfl (lv_at hl 3 rfl) ?_
            refine tw_get X hR hT 31 (by decide) q2972 rfl dX10_writesPart_86 ?_
            refine lv_iload hx hb dX10_writesPart_89 (lv_at hl 0 rfl) ?_
            refine tw_iald X hR hT (k := 31) (by decide) 1 (by omega) (by show _ < _; simp only [twN]; omega) (v := (n / 10) % 10) ((congrFun (((hE_t_61 31 (by decide)).2).trans (hE_t_55 31 (by decide)).2) 1).trans f_3_1) dX10_writesPart_91 (fun ra_91 => ?_)
            refine h_iadd hx hb dX10_writesPart_92 ?_
            -- call SpokenMarksModel.writes
            refine h_kV (h_runV X hR (m_writes l G w_59 a ad t_61 hT.1 ((48 + (n / 10) % 10)) (((XL ++ [48 + (n / 10 / 10 / 10) % 10]) ++ [48 + (n / 10 / 10) % 10])) hL_2 (by simp only [List.length_append, List.length_singleton]; omega) ⟨by omega, by omega⟩) pn_yX10_writes (hasC.of hT.1.ob rfl) q3345 q3347 qs117 q161 q3348 ⟨by decide, by decide⟩ hl.1 (Nat.le_of_ble_eq_true rfl) dX10_writesPart_93 ⟨by omega, by omega⟩) hL (fun w_65 hp_66 H locs hR hL => ?_)
            obtain ⟨t_67, hT2, hE_t_67, et_68⟩ := hp_66
            have hT := hT.tr hT2
            clear hT2
            have hL_1 : LineAt t_67 (((XL ++ [48 + (n / 10 / 10 / 10) % 10]) ++ [48 + (n / 10 / 10) % 10]) ++ [48 + (n / 10) % 10]) := et_68
            refine h_iinc (lv' := [(5, .int (iI (1 + (-1)))), (4, .int (iI (4))), (3, .int (iI ((((n / 10) / 10) / 10) / 10))), (0, .ref a), (1, .long (lI (n)))]) hx hb dX10_writesPart_96 hl (k := 0) rfl (by decide) rfl (fun ls hl => ?_)
            have hl : lv_has ls 6 [(5, .int (iI (0))), (4, .int (iI (4))), (3, .int (iI ((((n / 10) / 10) / 10) / 10))), (0, .ref a), (1, .long (lI (n)))] := lv_conv hl (congrArg (fun z_ : Int => ([(5, .int (iI (z_))), (4, .int (iI (4))), (3, .int (iI ((((n / 10) / 10) / 10) / 10))), (0, .ref a), (1, .long (lI (n)))] : List (Nat × Value))) (show (1 + (-1) : Int) = 0 from (by omega)))
            refine lv_goto (tgt := 77) hx hb dX10_writesPart_99 (by decide) ?_
            refine lv_iload hx hb dX10_writesPart_77 (lv_at hl 0 rfl) ?_
            refine h_if_lt hx hb 102 dX10_writesPart_79 (by decide) (by decide) (fun z_ => absurd z_ (by decide)) (fun _ => ?_)
            refine lv_aload_n hx hb dX10_writesPart_82 rfl (lv_at hl 3 rfl) ?_
            refine h_bipush hx hb dX10_writesPart_83 (by decide) ?_
            refine lv_aload_n hx hb dX10_writesPart_85 rfl (lv_at hl 3 rfl) ?_
            refine tw_get X hR hT 31 (by decide) q2972 rfl dX10_writesPart_86 ?_
            refine lv_iload hx hb dX10_writesPart_89 (lv_at hl 0 rfl) ?_
            refine tw_iald X hR hT (k := 31) (by decide) 0 (by omega) (by show _ < _; simp only [twN]; omega) (v := n % 10) ((congrFun ((((hE_t_67 31 (by decide)).2).trans (hE_t_61 31 (by decide)).2).trans (hE_t_55 31 (by decide)).2) 0).trans f_3_0) dX10_writesPart_91 (fun ra_91 => ?_)
            refine h_iadd hx hb dX10_writesPart_92 ?_
            -- call SpokenMarksModel.writes
            refine h_kV (h_runV X hR (m_writes l G w_65 a ad t_67 hT.1 ((48 + n % 10)) ((((XL ++ [48 + (n / 10 / 10 / 10) % 10]) ++ [48 + (n / 10 / 10) % 10]) ++ [48 + (n / 10) % 10])) hL_1 (by simp only [List.length_append, List.length_singleton]; omega) ⟨by omega, by omega⟩) pn_yX10_writes (hasC.of hT.1.ob rfl) q3345 q3347 qs117 q161 q3348 ⟨by decide, by decide⟩ hl.1 (Nat.le_of_ble_eq_true rfl) dX10_writesPart_93 ⟨by omega, by omega⟩) hL (fun w_71 hp_72 H locs hR hL => ?_)
            obtain ⟨t_73, hT2, hE_t_73, et_74⟩ := hp_72
            have hT := hT.tr hT2
            clear hT2
            have hL_0 : LineAt t_73 ((((XL ++ [48 + (n / 10 / 10 / 10) % 10]) ++ [48 + (n / 10 / 10) % 10]) ++ [48 + (n / 10) % 10]) ++ [48 + n % 10]) := et_74
            refine h_iinc (lv' := [(5, .int (iI (0 + (-1)))), (4, .int (iI (4))), (3, .int (iI ((((n / 10) / 10) / 10) / 10))), (0, .ref a), (1, .long (lI (n)))]) hx hb dX10_writesPart_96 hl (k := 0) rfl (by decide) rfl (fun ls hl => ?_)
            have hl : lv_has ls 6 [(5, .int (iI (-1))), (4, .int (iI (4))), (3, .int (iI ((((n / 10) / 10) / 10) / 10))), (0, .ref a), (1, .long (lI (n)))] := lv_conv hl (congrArg (fun z_ : Int => ([(5, .int (iI (z_))), (4, .int (iI (4))), (3, .int (iI ((((n / 10) / 10) / 10) / 10))), (0, .ref a), (1, .long (lI (n)))] : List (Nat × Value))) (show (0 + (-1) : Int) = -1 from (by omega)))
            refine lv_goto (tgt := 77) hx hb dX10_writesPart_99 (by decide) ?_
            refine lv_iload hx hb dX10_writesPart_77 (lv_at hl 0 rfl) ?_
            refine h_if_lt hx hb 102 dX10_writesPart_79 (by decide) (by decide) (fun _ => ?_) (fun z_ => absurd z_ (by decide))
            exact h_vreturn hx hb hlk hret hR hL ⟨t_73, hT, (TwE.tr (S2 := [1, 2, 30, 31, 32]) (TwE.tr (S2 := [1, 2, 30, 31, 32]) (TwE.tr (S2 := [1, 2, 30, 31, 32]) (TwE.tr (S2 := [1, 2, 30, 31, 32]) (TwE.tr (S2 := [1, 2, 30, 31, 32]) (TwE.tr (S2 := [1, 2, 30, 31, 32]) (TwE.tr (S2 := [1, 2, 30, 31, 32]) (TwE.tr (S2 := [1, 2, 30, 31, 32]) (TwE.rf : TwE [] t t) hE_t_5 rfl rfl) hE_t_8 rfl rfl) hE_t_11 rfl rfl) hE_t_14 rfl rfl) hE_t_55 rfl rfl) hE_t_61 rfl rfl) hE_t_67 rfl rfl) hE_t_73 rfl rfl), (by show LineAt _ (XL ++ dgF 5 n); simp only [dgF]; rw [if_neg (by omega), if_neg (by omega), if_neg (by omega), if_pos (by omega)]; first | exact hL_0 | (have h_ := hL_0; simp only [List.append_assoc] at h_ ⊢; exact h_))⟩ (by omega) (by omega) rfl rfl dX10_writesPart_102
        ·
          refine lv_iload hx hb dX10_writesPart_71 (lv_at hl 0 rfl) ?_
          refine h_iconst hx hb dX10_writesPart_73 ?_
          refine h_isub hx hb dX10_writesPart_74 ?_
          refine lv_istore (lv' := [(5, .int (iI (3 - 1))), (4, .int (iI (3))), (3, .int (iI (((n / 10) / 10) / 10))), (0, .ref a), (1, .long (lI (n)))]) hx hb dX10_writesPart_75 hl (by decide) rfl (fun ls hl => ?_)
          have hl : lv_has ls 6 [(5, .int (iI (2))), (4, .int (iI (3))), (3, .int (iI (((n / 10) / 10) / 10))), (0, .ref a), (1, .long (lI (n)))] := lv_conv hl (congrArg (fun z_ : Int => ([(5, .int (iI (z_))), (4, .int (iI (3))), (3, .int (iI (((n / 10) / 10) / 10))), (0, .ref a), (1, .long (lI (n)))] : List (Nat × Value))) (show (3 - 1 : Int) = 2 from (by omega)))
          refine lv_iload hx hb dX10_writesPart_77 (lv_at hl 0 rfl) ?_
          refine h_if_lt hx hb 102 dX10_writesPart_79 (by decide) (by decide) (fun z_ => absurd z_ (by decide)) (fun _ => ?_)
          refine lv_aload_n hx hb dX10_writesPart_82 rfl (lv_at hl 3 rfl) ?_
          refine h_bipush hx hb dX10_writesPart_83 (by decide) ?_
          refine lv_aload_n hx hb dX10_writesPart_85 rfl (lv_at hl 3 rfl) ?_
          refine tw_get X hR hT 31 (by decide) q2972 rfl dX10_writesPart_86 ?_
          refine lv_iload hx hb dX10_writesPart_89 (lv_at hl 0 rfl) ?_
          refine tw_iald X hR hT (k := 31) (by decide) 2 (by omega) (by show _ < _; simp only [twN]; omega) (v := (n / 10 / 10) % 10) (f_2_2) dX10_writesPart_91 (fun ra_91 => ?_)
          refine h_iadd hx hb dX10_writesPart_92 ?_
          -- call SpokenMarksModel.writes
          refine h_kV (h_runV X hR (m_writes l G w_13 a ad t_11 hT.1 ((48 + (n / 10 / 10) % 10)) XL (hX.mv (TwE.tr (S2 := [31]) (TwE.tr (S2 := [31]) (TwE.tr (S2 := [31]) (TwE.rf : TwE [] t t) hE_t_5 rfl rfl) hE_t_8 rfl rfl) hE_t_11 rfl rfl) (by decide) (by decide)) (by omega) ⟨by omega, by omega⟩) pn_yX10_writes (hasC.of hT.1.ob rfl) q3345 q3347 qs117 q161 q3348 ⟨by decide, by decide⟩ hl.1 (Nat.le_of_ble_eq_true rfl) dX10_writesPart_93 ⟨by omega, by omega⟩) hL (fun w_78 hp_79 H locs hR hL => ?_)
          obtain ⟨t_80, hT2, hE_t_80, et_81⟩ := hp_79
          have hT := hT.tr hT2
          clear hT2
          have hL_2 : LineAt t_80 (XL ++ [48 + (n / 10 / 10) % 10]) := et_81
          refine h_iinc (lv' := [(5, .int (iI (2 + (-1)))), (4, .int (iI (3))), (3, .int (iI (((n / 10) / 10) / 10))), (0, .ref a), (1, .long (lI (n)))]) hx hb dX10_writesPart_96 hl (k := 0) rfl (by decide) rfl (fun ls hl => ?_)
          have hl : lv_has ls 6 [(5, .int (iI (1))), (4, .int (iI (3))), (3, .int (iI (((n / 10) / 10) / 10))), (0, .ref a), (1, .long (lI (n)))] := lv_conv hl (congrArg (fun z_ : Int => ([(5, .int (iI (z_))), (4, .int (iI (3))), (3, .int (iI (((n / 10) / 10) / 10))), (0, .ref a), (1, .long (lI (n)))] : List (Nat × Value))) (show (2 + (-1) : Int) = 1 from (by omega)))
          refine lv_goto (tgt := 77) hx hb dX10_writesPart_99 (by decide) ?_
          refine lv_iload hx hb dX10_writesPart_77 (lv_at hl 0 rfl) ?_
          refine h_if_lt hx hb 102 dX10_writesPart_79 (by decide) (by decide) (fun z_ => absurd z_ (by decide)) (fun _ => ?_)
          refine lv_aload_n hx hb dX10_writesPart_82 rfl (lv_at hl 3 rfl) ?_
          refine h_bipush hx hb dX10_writesPart_83 (by decide) ?_
          refine lv_aload_n hx hb dX10_writesPart_85 rfl (lv_at hl 3 rfl) ?_
          refine tw_get X hR hT 31 (by decide) q2972 rfl dX10_writesPart_86 ?_
          refine lv_iload hx hb dX10_writesPart_89 (lv_at hl 0 rfl) ?_
          refine tw_iald X hR hT (k := 31) (by decide) 1 (by omega) (by show _ < _; simp only [twN]; omega) (v := (n / 10) % 10) ((congrFun ((hE_t_80 31 (by decide)).2) 1).trans f_2_1) dX10_writesPart_91 (fun ra_91 => ?_)
          refine h_iadd hx hb dX10_writesPart_92 ?_
          -- call SpokenMarksModel.writes
          refine h_kV (h_runV X hR (m_writes l G w_78 a ad t_80 hT.1 ((48 + (n / 10) % 10)) ((XL ++ [48 + (n / 10 / 10) % 10])) hL_2 (by simp only [List.length_append, List.length_singleton]; omega) ⟨by omega, by omega⟩) pn_yX10_writes (hasC.of hT.1.ob rfl) q3345 q3347 qs117 q161 q3348 ⟨by decide, by decide⟩ hl.1 (Nat.le_of_ble_eq_true rfl) dX10_writesPart_93 ⟨by omega, by omega⟩) hL (fun w_84 hp_85 H locs hR hL => ?_)
          obtain ⟨t_86, hT2, hE_t_86, et_87⟩ := hp_85
          have hT := hT.tr hT2
          clear hT2
          have hL_1 : LineAt t_86 ((XL ++ [48 + (n / 10 / 10) % 10]) ++ [48 + (n / 10) % 10]) := et_87
          refine h_iinc (lv' := [(5, .int (iI (1 + (-1)))), (4, .int (iI (3))), (3, .int (iI (((n / 10) / 10) / 10))), (0, .ref a), (1, .long (lI (n)))]) hx hb dX10_writesPart_96 hl (k := 0) rfl (by decide) rfl (fun ls hl => ?_)
          have hl : lv_has ls 6 [(5, .int (iI (0))), (4, .int (iI (3))), (3, .int (iI (((n / 10) / 10) / 10))), (0, .ref a), (1, .long (lI (n)))] := lv_conv hl (congrArg (fun z_ : Int => ([(5, .int (iI (z_))), (4, .int (iI (3))), (3, .int (iI (((n / 10) / 10) / 10))), (0, .ref a), (1, .long (lI (n)))] : List (Nat × Value))) (show (1 + (-1) : Int) = 0 from (by omega)))
          refine lv_goto (tgt := 77) hx hb dX10_writesPart_99 (by decide) ?_
          refine lv_iload hx hb dX10_writesPart_77 (lv_at hl 0 rfl) ?_
          refine h_if_lt hx hb 102 dX10_writesPart_79 (by decide) (by decide) (fun z_ => absurd z_ (by decide)) (fun _ => ?_)
          refine lv_aload_n hx hb dX10_writesPart_82 rfl (lv_at hl 3 rfl) ?_
          refine h_bipush hx hb dX10_writesPart_83 (by decide) ?_
          refine lv_aload_n hx hb dX10_writesPart_85 rfl (lv_at hl 3 rfl) ?_
          refine tw_get X hR hT 31 (by decide) q2972 rfl dX10_writesPart_86 ?_
          refine lv_iload hx hb dX10_writesPart_89 (lv_at hl 0 rfl) ?_
          refine tw_iald X hR hT (k := 31) (by decide) 0 (by omega) (by show _ < _; simp only [twN]; omega) (v := n % 10) ((congrFun (((hE_t_86 31 (by decide)).2).trans (hE_t_80 31 (by decide)).2) 0).trans f_2_0) dX10_writesPart_91 (fun ra_91 => ?_)
          refine h_iadd hx hb dX10_writesPart_92 ?_
          -- call SpokenMarksModel.writes
          refine h_kV (h_runV X hR (m_writes l G w_84 a ad t_86 hT.1 ((48 + n % 10)) (((XL ++ [48 + (n / 10 / 10) % 10]) ++ [48 + (n / 10) % 10])) hL_1 (by simp only [List.length_append, List.length_singleton]; omega) ⟨by omega, by omega⟩) pn_yX10_writes (hasC.of hT.1.ob rfl) q3345 q3347 qs117 q161 q3348 ⟨by decide, by decide⟩ hl.1 (Nat.le_of_ble_eq_true rfl) dX10_writesPart_93 ⟨by omega, by omega⟩) hL (fun w_90 hp_91 H locs hR hL => ?_)
          obtain ⟨t_92, hT2, hE_t_92, et_93⟩ := hp_91
          have hT := hT.tr hT2
          clear hT2
          have hL_0 : LineAt t_92 (((XL ++ [48 + (n / 10 / 10) % 10]) ++ [48 + (n / 10) % 10]) ++ [48 + n % 10]) := et_93
          refine h_iinc (lv' := [(5, .int (iI (0 + (-1)))), (4, .int (iI (3))), (3, .int (iI (((n / 10) / 10) / 10))), (0, .ref a), (1, .long (lI (n)))]) hx hb dX10_writesPart_96 hl (k := 0) rfl (by decide) rfl (fun ls hl => ?_)
          have hl : lv_has ls 6 [(5, .int (iI (-1))), (4, .int (iI (3))), (3, .int (iI (((n / 10) / 10) / 10))), (0, .ref a), (1, .long (lI (n)))] := lv_conv hl (congrArg (fun z_ : Int => ([(5, .int (iI (z_))), (4, .int (iI (3))), (3, .int (iI (((n / 10) / 10) / 10))), (0, .ref a), (1, .long (lI (n)))] : List (Nat × Value))) (show (0 + (-1) : Int) = -1 from (by omega)))
          refine lv_goto (tgt := 77) hx hb dX10_writesPart_99 (by decide) ?_
          refine lv_iload hx hb dX10_writesPart_77 (lv_at hl 0 rfl) ?_
          refine h_if_lt hx hb 102 dX10_writesPart_79 (by decide) (by decide) (fun _ => ?_) (fun z_ => absurd z_ (by decide))
          exact h_vreturn hx hb hlk hret hR hL ⟨t_92, hT, (TwE.tr (S2 := [1, 2, 30, 31, 32]) (TwE.tr (S2 := [1, 2, 30, 31, 32]) (TwE.tr (S2 := [1, 2, 30, 31, 32]) (TwE.tr (S2 := [1, 2, 30, 31, 32]) (TwE.tr (S2 := [1, 2, 30, 31, 32]) (TwE.tr (S2 := [1, 2, 30, 31, 32]) (TwE.rf : TwE [] t t) hE_t_5 rfl rfl) hE_t_8 rfl rfl) hE_t_11 rfl rfl) hE_t_80 rfl rfl) hE_t_86 rfl rfl) hE_t_92 rfl rfl), (by show LineAt _ (XL ++ dgF 5 n); simp only [dgF]; rw [if_neg (by omega), if_neg (by omega), if_pos (by omega)]; first | exact hL_0 | (have h_ := hL_0; simp only [List.append_assoc] at h_ ⊢; exact h_))⟩ (by omega) (by omega) rfl rfl dX10_writesPart_102
      ·
        refine lv_iload hx hb dX10_writesPart_71 (lv_at hl 0 rfl) ?_
        refine h_iconst hx hb dX10_writesPart_73 ?_
        refine h_isub hx hb dX10_writesPart_74 ?_
        refine lv_istore (lv' := [(5, .int (iI (2 - 1))), (4, .int (iI (2))), (3, .int (iI ((n / 10) / 10))), (0, .ref a), (1, .long (lI (n)))]) hx hb dX10_writesPart_75 hl (by decide) rfl (fun ls hl => ?_)
        have hl : lv_has ls 6 [(5, .int (iI (1))), (4, .int (iI (2))), (3, .int (iI ((n / 10) / 10))), (0, .ref a), (1, .long (lI (n)))] := lv_conv hl (congrArg (fun z_ : Int => ([(5, .int (iI (z_))), (4, .int (iI (2))), (3, .int (iI ((n / 10) / 10))), (0, .ref a), (1, .long (lI (n)))] : List (Nat × Value))) (show (2 - 1 : Int) = 1 from (by omega)))
        refine lv_iload hx hb dX10_writesPart_77 (lv_at hl 0 rfl) ?_
        refine h_if_lt hx hb 102 dX10_writesPart_79 (by decide) (by decide) (fun z_ => absurd z_ (by decide)) (fun _ => ?_)
        refine lv_aload_n hx hb dX10_writesPart_82 rfl (lv_at hl 3 rfl) ?_
        refine h_bipush hx hb dX10_writesPart_83 (by decide) ?_
        refine lv_aload_n hx hb dX10_writesPart_85 rfl (lv_at hl 3 rfl) ?_
        refine tw_get X hR hT 31 (by decide) q2972 rfl dX10_writesPart_86 ?_
        refine lv_iload hx hb dX10_writesPart_89 (lv_at hl 0 rfl) ?_
        refine tw_iald X hR hT (k := 31) (by decide) 1 (by omega) (by show _ < _; simp only [twN]; omega) (v := (n / 10) % 10) (f_1_1) dX10_writesPart_91 (fun ra_91 => ?_)
        refine h_iadd hx hb dX10_writesPart_92 ?_
        -- call SpokenMarksModel.writes
        refine h_kV (h_runV X hR (m_writes l G w_10 a ad t_8 hT.1 ((48 + (n / 10) % 10)) XL (hX.mv (TwE.tr (S2 := [31]) (TwE.tr (S2 := [31]) (TwE.rf : TwE [] t t) hE_t_5 rfl rfl) hE_t_8 rfl rfl) (by decide) (by decide)) (by omega) ⟨by omega, by omega⟩) pn_yX10_writes (hasC.of hT.1.ob rfl) q3345 q3347 qs117 q161 q3348 ⟨by decide, by decide⟩ hl.1 (Nat.le_of_ble_eq_true rfl) dX10_writesPart_93 ⟨by omega, by omega⟩) hL (fun w_97 hp_98 H locs hR hL => ?_)
        obtain ⟨t_99, hT2, hE_t_99, et_100⟩ := hp_98
        have hT := hT.tr hT2
        clear hT2
        have hL_1 : LineAt t_99 (XL ++ [48 + (n / 10) % 10]) := et_100
        refine h_iinc (lv' := [(5, .int (iI (1 + (-1)))), (4, .int (iI (2))), (3, .int (iI ((n / 10) / 10))), (0, .ref a), (1, .long (lI (n)))]) hx hb dX10_writesPart_96 hl (k := 0) rfl (by decide) rfl (fun ls hl => ?_)
        have hl : lv_has ls 6 [(5, .int (iI (0))), (4, .int (iI (2))), (3, .int (iI ((n / 10) / 10))), (0, .ref a), (1, .long (lI (n)))] := lv_conv hl (congrArg (fun z_ : Int => ([(5, .int (iI (z_))), (4, .int (iI (2))), (3, .int (iI ((n / 10) / 10))), (0, .ref a), (1, .long (lI (n)))] : List (Nat × Value))) (show (1 + (-1) : Int) = 0 from (by omega)))
        refine lv_goto (tgt := 77) hx hb dX10_writesPart_99 (by decide) ?_
        refine lv_iload hx hb dX10_writesPart_77 (lv_at hl 0 rfl) ?_
        refine h_if_lt hx hb 102 dX10_writesPart_79 (by decide) (by decide) (fun z_ => absurd z_ (by decide)) (fun _ => ?_)
        refine lv_aload_n hx hb dX10_writesPart_82 rfl (lv_at hl 3 rfl) ?_
        refine h_bipush hx hb dX10_writesPart_83 (by decide) ?_
        refine lv_aload_n hx hb dX10_writesPart_85 rfl (lv_at hl 3 rfl) ?_
        refine tw_get X hR hT 31 (by decide) q2972 rfl dX10_writesPart_86 ?_
        refine lv_iload hx hb dX10_writesPart_89 (lv_at hl 0 rfl) ?_
        refine tw_iald X hR hT (k := 31) (by decide) 0 (by omega) (by show _ < _; simp only [twN]; omega) (v := n % 10) ((congrFun ((hE_t_99 31 (by decide)).2) 0).trans f_1_0) dX10_writesPart_91 (fun ra_91 => ?_)
        refine h_iadd hx hb dX10_writesPart_92 ?_
        -- call SpokenMarksModel.writes
        refine h_kV (h_runV X hR (m_writes l G w_97 a ad t_99 hT.1 ((48 + n % 10)) ((XL ++ [48 + (n / 10) % 10])) hL_1 (by simp only [List.length_append, List.length_singleton]; omega) ⟨by omega, by omega⟩) pn_yX10_writes (hasC.of hT.1.ob rfl) q3345 q3347 qs117 q161 q3348 ⟨by decide, by decide⟩ hl.1 (Nat.le_of_ble_eq_true rfl) dX10_writesPart_93 ⟨by omega, by omega⟩) hL (fun w_103 hp_104 H locs hR hL => ?_)
        obtain ⟨t_105, hT2, hE_t_105, et_106⟩ := hp_104
        have hT := hT.tr hT2
        clear hT2
        have hL_0 : LineAt t_105 ((XL ++ [48 + (n / 10) % 10]) ++ [48 + n % 10]) := et_106
        refine h_iinc (lv' := [(5, .int (iI (0 + (-1)))), (4, .int (iI (2))), (3, .int (iI ((n / 10) / 10))), (0, .ref a), (1, .long (lI (n)))]) hx hb dX10_writesPart_96 hl (k := 0) rfl (by decide) rfl (fun ls hl => ?_)
        have hl : lv_has ls 6 [(5, .int (iI (-1))), (4, .int (iI (2))), (3, .int (iI ((n / 10) / 10))), (0, .ref a), (1, .long (lI (n)))] := lv_conv hl (congrArg (fun z_ : Int => ([(5, .int (iI (z_))), (4, .int (iI (2))), (3, .int (iI ((n / 10) / 10))), (0, .ref a), (1, .long (lI (n)))] : List (Nat × Value))) (show (0 + (-1) : Int) = -1 from (by omega)))
        refine lv_goto (tgt := 77) hx hb dX10_writesPart_99 (by decide) ?_
        refine lv_iload hx hb dX10_writesPart_77 (lv_at hl 0 rfl) ?_
        refine h_if_lt hx hb 102 dX10_writesPart_79 (by decide) (by decide) (fun _ => ?_) (fun z_ => absurd z_ (by decide))
        exact h_vreturn hx hb hlk hret hR hL ⟨t_105, hT, (TwE.tr (S2 := [1, 2, 30, 31, 32]) (TwE.tr (S2 := [1, 2, 30, 31, 32]) (TwE.tr (S2 := [1, 2, 30, 31, 32]) (TwE.tr (S2 := [1, 2, 30, 31, 32]) (TwE.rf : TwE [] t t) hE_t_5 rfl rfl) hE_t_8 rfl rfl) hE_t_99 rfl rfl) hE_t_105 rfl rfl), (by show LineAt _ (XL ++ dgF 5 n); simp only [dgF]; rw [if_neg (by omega), if_pos (by omega)]; first | exact hL_0 | (have h_ := hL_0; simp only [List.append_assoc] at h_ ⊢; exact h_))⟩ (by omega) (by omega) rfl rfl dX10_writesPart_102
    ·
      refine lv_iload hx hb dX10_writesPart_71 (lv_at hl 0 rfl) ?_
      refine h_iconst hx hb dX10_writesPart_73 ?_
      refine h_isub hx hb dX10_writesPart_74 ?_
      refine lv_istore (lv' := [(5, .int (iI (1 - 1))), (4, .int (iI (1))), (3, .int (iI (n / 10))), (0, .ref a), (1, .long (lI (n)))]) hx hb dX10_writesPart_75 hl (by decide) rfl (fun ls hl => ?_)
      have hl : lv_has ls 6 [(5, .int (iI (0))), (4, .int (iI (1))), (3, .int (iI (n / 10))), (0, .ref a), (1, .long (lI (n)))] := lv_conv hl (congrArg (fun z_ : Int => ([(5, .int (iI (z_))), (4, .int (iI (1))), (3, .int (iI (n / 10))), (0, .ref a), (1, .long (lI (n)))] : List (Nat × Value))) (show (1 - 1 : Int) = 0 from (by omega)))
      refine lv_iload hx hb dX10_writesPart_77 (lv_at hl 0 rfl) ?_
      refine h_if_lt hx hb 102 dX10_writesPart_79 (by decide) (by decide) (fun z_ => absurd z_ (by decide)) (fun _ => ?_)
      refine lv_aload_n hx hb dX10_writesPart_82 rfl (lv_at hl 3 rfl) ?_
      refine h_bipush hx hb dX10_writesPart_83 (by decide) ?_
      refine lv_aload_n hx hb dX10_writesPart_85 rfl (lv_at hl 3 rfl) ?_
      refine tw_get X hR hT 31 (by decide) q2972 rfl dX10_writesPart_86 ?_
      refine lv_iload hx hb dX10_writesPart_89 (lv_at hl 0 rfl) ?_
      refine tw_iald X hR hT (k := 31) (by decide) 0 (by omega) (by show _ < _; simp only [twN]; omega) (v := n % 10) (f_0_0) dX10_writesPart_91 (fun ra_91 => ?_)
      refine h_iadd hx hb dX10_writesPart_92 ?_
      -- call SpokenMarksModel.writes
      refine h_kV (h_runV X hR (m_writes l G w_7 a ad t_5 hT.1 ((48 + n % 10)) XL (hX.mv (TwE.tr (S2 := [31]) (TwE.rf : TwE [] t t) hE_t_5 rfl rfl) (by decide) (by decide)) (by omega) ⟨by omega, by omega⟩) pn_yX10_writes (hasC.of hT.1.ob rfl) q3345 q3347 qs117 q161 q3348 ⟨by decide, by decide⟩ hl.1 (Nat.le_of_ble_eq_true rfl) dX10_writesPart_93 ⟨by omega, by omega⟩) hL (fun w_110 hp_111 H locs hR hL => ?_)
      obtain ⟨t_112, hT2, hE_t_112, et_113⟩ := hp_111
      have hT := hT.tr hT2
      clear hT2
      have hL_0 : LineAt t_112 (XL ++ [48 + n % 10]) := et_113
      refine h_iinc (lv' := [(5, .int (iI (0 + (-1)))), (4, .int (iI (1))), (3, .int (iI (n / 10))), (0, .ref a), (1, .long (lI (n)))]) hx hb dX10_writesPart_96 hl (k := 0) rfl (by decide) rfl (fun ls hl => ?_)
      have hl : lv_has ls 6 [(5, .int (iI (-1))), (4, .int (iI (1))), (3, .int (iI (n / 10))), (0, .ref a), (1, .long (lI (n)))] := lv_conv hl (congrArg (fun z_ : Int => ([(5, .int (iI (z_))), (4, .int (iI (1))), (3, .int (iI (n / 10))), (0, .ref a), (1, .long (lI (n)))] : List (Nat × Value))) (show (0 + (-1) : Int) = -1 from (by omega)))
      refine lv_goto (tgt := 77) hx hb dX10_writesPart_99 (by decide) ?_
      refine lv_iload hx hb dX10_writesPart_77 (lv_at hl 0 rfl) ?_
      refine h_if_lt hx hb 102 dX10_writesPart_79 (by decide) (by decide) (fun _ => ?_) (fun z_ => absurd z_ (by decide))
      exact h_vreturn hx hb hlk hret hR hL ⟨t_112, hT, (TwE.tr (S2 := [1, 2, 30, 31, 32]) (TwE.tr (S2 := [1, 2, 30, 31, 32]) (TwE.rf : TwE [] t t) hE_t_5 rfl rfl) hE_t_112 rfl rfl), (by show LineAt _ (XL ++ dgF 5 n); simp only [dgF]; rw [if_pos (by omega)]; first | exact hL_0 | (have h_ := hL_0; simp only [List.append_assoc] at h_ ⊢; exact h_))⟩ (by omega) (by omega) rfl rfl dX10_writesPart_102
  ·
    exact absurd (b2i_f (show ¬ 1000000 ≤ n by omega)) c_4

theorem m_writesPart (l : Launch) (G : Gl) (w : Wd) (a : Nat) (ad : Nat → Nat) (t : Tw) (hT : TwAt G w a ad t) (x : Prt) (XL : List Int) (hx : PrtW x) (hX : LineAt t XL) (h0 : XL.length + 8 ≤ 120) : HM l yX10_writesPart cX10_writesPart 6 none 2 0 0 G [.ref a, .long (lI (encP x))] w (QV G (fun w_ => ∃ t_ : Tw, TwS G w w_ a ad t_ ∧ TwE [1, 2, 30, 31, 32] t t_ ∧ LineAt t_ (XL ++ prtT x))) := by
  cases x with
  | inl n => exact m_writesPartF l G w a ad t hT n XL hx hX h0
  | inr L => exact m_writesPartW l G w a ad t hT L XL hx.1 hX h0

set_option maxHeartbeats 4000000 in
set_option maxRecDepth 100000 in
/-- format -/
theorem m_format (l : Launch) (G : Gl) (w : Wd) (a : Nat) (ad : Nat → Nat) (t : Tw) (hT : TwAt G w a ad t) (x : Int) (c0 : Cat) (XL : List Int) (hC : RowIs (t.2 3) c0) (hx_x : R32 x) (hX : LineAt t XL) : HM l yX10_format cX10_format 4 (some .int) 4 0 0 G [.ref a, .int (iI (x))] w (QI G (fun z_ w_ => z_ = (if rkOf c0 x = -1 then 0 else ((fmM (cRl c0) (mPs (mk c0 (rkOf c0 x).toNat))).length : Int)) ∧ ∃ t_ : Tw, TwS G w w_ a ad t_ ∧ TwE [0, 1, 2, 30, 31, 32] t t_ ∧ t_.1 0 = (if rkOf c0 x = -1 then 1 else 0) ∧ LineAt t_ (if rkOf c0 x = -1 then XL else fmM (cRl c0) (mPs (mk c0 (rkOf c0 x).toNat))))) := by
  refine HM.mk (by decide +kernel) (Nat.le_of_ble_eq_true rfl) ?_
  intro p9 e9 s9 m9 a9 b9 meth9 c9 ls X hret hlk hnm hl H hR
  have hx := X.1.1
  have hb := X.1.2.1
  have hl : lv_has ls 4 [(0, .ref a), (1, .int (iI (x)))] := hl
  have hL : LK G [] := fun q h => absurd h List.not_mem_nil
  generalize ([] : List Loc) = locs at hL ⊢
  have hTb := hT
  have hT : TwS G w w a ad t := TwS.rf hT
  have hn40 := hC.n40
  have hsh8 := hC.sh8
  have hrr := rkOf_r c0 x
  refine lv_aload_n hx hb dX10_format_0 rfl (lv_at hl 0 rfl) ?_
  refine h_iconst hx hb dX10_format_1 ?_
  refine tw_puti X hR hL hT 0 (by decide) q2941 rfl rfl rfl twF_s0 (by omega) dX10_format_2 (fun t_1 et_2 w_3 hT H locs hR hL => ?_)
  have hE_t_1 := TwE.put et_2
  have hv_t_1 := tput_v et_2
  refine lv_aload_n hx hb dX10_format_5 rfl (lv_at hl 0 rfl) ?_
  refine lv_iload_n hx hb dX10_format_6 rfl (lv_at hl 1 rfl) ?_
  -- call SpokenMarksModel.noMark
  refine h_kI (h_runV X hR (m_noMark l G w_3 a ad t_1 hT.1 x c0 (by rw [(hE_t_1 3 (by decide)).2]; exact hC) hx_x hv_t_1) pn_yX10_noMark (hasC.of hT.1.ob rfl) q3097 q3099 qs85 q161 q3100 ⟨by decide, by decide⟩ hl.1 (Nat.le_of_ble_eq_true rfl) dX10_format_7 ⟨by omega, by omega⟩) hL (fun z_4 w_5 hp_6 H locs hR hL => ?_)
  obtain ⟨rfl, t_7, hT2, hE_t_7, et_8⟩ := hp_6
  have hT := hT.tr hT2
  clear hT2
  refine h_if_eq hx hb 15 dX10_format_10 (by decide) (b2i_R _) (fun c_g => ?_) (fun c_g => ?_)
  ·
    have hok1 := b2i_0.mp c_g
    have hth : t_7.1 0 = 0 := (et_8).trans (if_neg hok1)
    refine lv_aload_n hx hb dX10_format_15 rfl (lv_at hl 0 rfl) ?_
    refine lv_iload_n hx hb dX10_format_16 rfl (lv_at hl 1 rfl) ?_
    -- call SpokenMarksModel.rankOf
    refine h_kIp (h_runV X hR (m_rankOf l G w_5 a ad t_7 hT.1 x c0 (by rw [((hE_t_7 3 (by decide)).2).trans (hE_t_1 3 (by decide)).2]; exact hC) hx_x) pn_yX10_rankOf (hasC.of hT.1.ob rfl) q3101 q3103 qs86 q161 q3104 ⟨by decide, by decide⟩ hl.1 (Nat.le_of_ble_eq_true rfl) dX10_format_17 ⟨by omega, by omega⟩) hL (fun H locs hR hL => ?_)
    refine lv_istore_n (lv' := [(2, .int (iI (rkOf c0 x))), (0, .ref a), (1, .int (iI (x)))]) hx hb dX10_format_20 rfl hl (by decide) rfl (fun ls hl => ?_)
    refine lv_aload_n hx hb dX10_format_21 rfl (lv_at hl 1 rfl) ?_
    refine h_iconst hx hb dX10_format_22 ?_
    refine tw_puti X hR hL hT 32 (by decide) q2973 rfl rfl rfl twF_s32 (by omega) dX10_format_23 (fun t_12 et_13 w_14 hT H locs hR hL => ?_)
    have hE_t_12 := TwE.put et_13
    have hv_t_12 := tput_v et_13
    refine h_iconst hx hb dX10_format_26 ?_
    refine lv_istore_n (lv' := [(3, .int (iI (0))), (2, .int (iI (rkOf c0 x))), (0, .ref a), (1, .int (iI (x)))]) hx hb dX10_format_27 rfl hl (by decide) rfl (fun ls hl => ?_)
    have LOOP_17 : ∀ (N_ : Nat) (k : Nat) (t_15 : Tw) (w_16 : Wd), (k ≤ (mPs (mk c0 (rkOf c0 x).toNat)).length) → (TwS G w w_16 a ad t_15) → (TwE [1, 2, 30, 31, 32] t_12 t_15) → (LineAt t_15 (fmN (cRl c0) (mPs (mk c0 (rkOf c0 x).toNat)) k)) → ((mPs (mk c0 (rkOf c0 x).toNat)).length - k) < N_ → ∀ (H : Heap) (locs : List Loc) (ls : Array Slot), Rp G w_16 H → LK G locs → lv_has ls 4 [(0, .ref a), (1, .int (iI (x))), (2, .int (iI (((rkOf c0 x).toNat : Int)))), (3, .int (iI ((k : Int))))] → W p9 l e9 (rmk 4 0 0) s9 m9 a9 b9 meth9 c9 H locs 0 0 (MQ b9 (QI G (fun z_ w_ => z_ = (if rkOf c0 x = -1 then 0 else ((fmM (cRl c0) (mPs (mk c0 (rkOf c0 x).toNat))).length : Int)) ∧ ∃ t_ : Tw, TwS G w w_ a ad t_ ∧ TwE [0, 1, 2, 30, 31, 32] t t_ ∧ t_.1 0 = (if rkOf c0 x = -1 then 1 else 0) ∧ LineAt t_ (if rkOf c0 x = -1 then XL else fmM (cRl c0) (mPs (mk c0 (rkOf c0 x).toNat))))) a9 s9 0 0 (frG G)) (F0 m9 28 ls []) := by
      intro N_
      induction N_ with
      | zero => intro _ _ _ _ _ _ _ h_; exact absurd h_ (Nat.not_lt_zero _)
      | succ N_ ih_ =>
        intro k t_15 w_16 hk hT hE_t_15 hXk hN_ H locs ls hR hL hl
        have ih_17 := ih_
        clear ih_
        refine lv_iload_n hx hb dX10_format_28 rfl (lv_at hl 3 rfl) ?_
        refine lv_aload_n hx hb dX10_format_29 rfl (lv_at hl 0 rfl) ?_
        refine lv_iload_n hx hb dX10_format_30 rfl (lv_at hl 2 rfl) ?_
        refine h_iconst hx hb dX10_format_31 ?_
        -- call SpokenMarksModel.of
        refine h_kIp (h_runV X hR (m_of l G w_16 a ad t_15 hT.1 ((rkOf c0 x).toNat) 3 (by omega) (by omega)) pn_yX10_of (hasC.of hT.1.ob rfl) q2827 q2829 qs53 q161 q2830 ⟨by decide, by decide⟩ hl.1 (Nat.le_of_ble_eq_true rfl) dX10_format_32 ⟨by omega, by omega⟩) hL (fun H locs hR hL => ?_)
        refine W.eq (g2 := F0 m9 35 ls [.int (iI (((mPs (mk c0 (rkOf c0 x).toNat)).length : Int))), .int (iI ((k : Int)))]) (congrArg (fun z_ : Int => F0 m9 35 ls [.int (iI (z_)), .int (iI ((k : Int)))]) (show (tof t_15 ((rkOf c0 x).toNat : Nat) 3 : Int) = ((mPs (mk c0 (rkOf c0 x).toNat)).length : Int) from (by exact ((congrFun (((((hE_t_15 3 (by decide)).2).trans (hE_t_12 3 (by decide)).2).trans (hE_t_7 3 (by decide)).2).trans (hE_t_1 3 (by decide)).2) ((32 + 14 * (rkOf c0 x).toNat + 3))).trans ((hC.m (rkOf c0 x).toNat (by omega)).2.2.2.len))))) ?_
        have hp5 := (hC.m (rkOf c0 x).toNat (by omega)).2.2.2.l5
        refine h_icmp_ge hx hb 99 dX10_format_35 (by decide) (by omega) (by omega) (fun c_21 => ?_) (fun c_21 => ?_)
        ·
          refine lv_aload_n hx hb dX10_format_99 rfl (lv_at hl 0 rfl) ?_
          refine tw_get X hR hT 32 (by decide) q2973 (v := .int (iI (t_15.1 32))) rfl dX10_format_100 ?_
          have rg_t_15_32 := hT.1.ri 32 (by decide) (by decide)
          exact h_ireturn hx hb hlk hret hR hL rfl ⟨(by rw [if_neg hok1]; unfold fmM; have h_ := hXk.1; rw [show k = (mPs (mk c0 (rkOf c0 x).toNat)).length by omega] at h_; exact h_), ⟨t_15, hT, (TwE.tr (S2 := [0, 1, 2, 30, 31, 32]) (TwE.tr (S2 := [0, 1, 2, 30, 31, 32]) (TwE.tr (S2 := [0, 1, 2, 30, 31, 32]) (TwE.tr (S2 := [0, 1, 2, 30, 31, 32]) (TwE.rf : TwE [] t t) hE_t_1 rfl rfl) hE_t_7 rfl rfl) hE_t_12 rfl rfl) hE_t_15 rfl rfl), ⟨by rw [if_neg hok1]; exact (((hE_t_15 0 (by decide)).1).trans (hE_t_12 0 (by decide)).1).trans hth, by rw [if_neg hok1]; unfold fmM; have h_ := hXk; rw [show k = (mPs (mk c0 (rkOf c0 x).toNat)).length by omega] at h_; exact h_⟩⟩⟩ (by omega) (by omega) rfl rfl dX10_format_103
        ·
          have hxk : PrtW ((mPs (mk c0 (rkOf c0 x).toNat)).getD k prt0) := getW hC.s (by omega) (by omega)
          have hxe := earP_w hC.s.2.2.2.2.1 hxk
          have hfl := fmN_len (k := k) hC.s.2.2.2.2.1 (fun y hy => (hC.mw (rkOf c0 x).toNat (by omega)).2.1.2.2 y hy) (by omega)
          have hr1 := encP_r hxk
          have hr2 := encP_r hxe
          refine lv_iload_n hx hb dX10_format_38 rfl (lv_at hl 3 rfl) ?_
          refine h_if_le hx hb 48 dX10_format_39 (by decide) (by omega) (fun c_0 => ?_) (fun c_0 => ?_)
          ·
            refine lv_aload_n hx hb dX10_format_48 rfl (lv_at hl 0 rfl) ?_
            refine lv_aload_n hx hb dX10_format_49 rfl (lv_at hl 0 rfl) ?_
            refine lv_iload_n hx hb dX10_format_50 rfl (lv_at hl 2 rfl) ?_
            refine lv_iload_n hx hb dX10_format_51 rfl (lv_at hl 3 rfl) ?_
            -- call SpokenMarksModel.part
            refine h_kLp (h_runV X hR (m_part l G w_16 a ad t_15 hT.1 ((rkOf c0 x).toNat) k (by omega) (by omega)) pn_yX10_part (hasC.of hT.1.ob rfl) q2831 q2833 qs54 q161 q2834 ⟨by decide, by decide⟩ hl.1 (Nat.le_of_ble_eq_true rfl) dX10_format_52 ⟨by omega, by omega⟩) hL (fun H locs hR hL => ?_)
            refine W.eq (g2 := F0 m9 55 ls [.long (lI (encP ((mPs (mk c0 (rkOf c0 x).toNat)).getD k prt0))), .ref a]) (congrArg (fun z_ : Int => F0 m9 55 ls [.long (lI (z_)), .ref a]) (show (t_15.2 3 (32 + 14 * ((rkOf c0 x).toNat : Nat) + 4 + k) : Int) = encP ((mPs (mk c0 (rkOf c0 x).toNat)).getD k prt0) from (by exact ((congrFun (((((hE_t_15 3 (by decide)).2).trans (hE_t_12 3 (by decide)).2).trans (hE_t_7 3 (by decide)).2).trans (hE_t_1 3 (by decide)).2) ((32 + 14 * (rkOf c0 x).toNat + 4 + k))).trans (((hC.m (rkOf c0 x).toNat (by omega)).2.2.2.pt (by omega))))))) ?_
            -- call SpokenMarksModel.writesPart
            refine h_kV (h_runV X hR (m_writesPart l G w_16 a ad t_15 hT.1 (((mPs (mk c0 (rkOf c0 x).toNat)).getD k prt0)) ((fmN (cRl c0) (mPs (mk c0 (rkOf c0 x).toNat)) k)) hxk hXk (by (try simp only [List.length_append, List.length_singleton]); have q1 := prtT_len hxk; omega)) pn_yX10_writesPart (hasC.of hT.1.ob rfl) q3349 q3351 qs118 q161 q3352 ⟨by decide, by decide⟩ hl.1 (Nat.le_of_ble_eq_true rfl) dX10_format_55 ⟨by omega, by omega⟩) hL (fun w_26 hp_27 H locs hR hL => ?_)
            obtain ⟨t_28, hT2, hE_t_28, et_29⟩ := hp_27
            have hT := hT.tr hT2
            clear hT2
            have hXc : LineAt t_28 ((fmN (cRl c0) (mPs (mk c0 (rkOf c0 x).toNat)) k) ++ prtT ((mPs (mk c0 (rkOf c0 x).toNat)).getD k prt0)) := et_29
            refine lv_aload_n hx hb dX10_format_58 rfl (lv_at hl 0 rfl) ?_
            refine lv_iload_n hx hb dX10_format_59 rfl (lv_at hl 2 rfl) ?_
            refine lv_iload_n hx hb dX10_format_60 rfl (lv_at hl 3 rfl) ?_
            -- call SpokenMarksModel.earOf
            refine h_kLp (h_runV X hR (m_earOf l G w_26 a ad t_28 hT.1 ((rkOf c0 x).toNat) k (by omega) (by omega)) pn_yX10_earOf (hasC.of hT.1.ob rfl) q3125 q3127 qs90 q161 q3128 ⟨by decide, by decide⟩ hl.1 (Nat.le_of_ble_eq_true rfl) dX10_format_61 ⟨by omega, by omega⟩) hL (fun H locs hR hL => ?_)
            refine W.eq (g2 := F0 m9 64 ls [.long (lI (encP (earP (cRl c0) ((mPs (mk c0 (rkOf c0 x).toNat)).getD k prt0))))]) (congrArg (fun z_ : Int => F0 m9 64 ls [.long (lI (z_))]) (show (t_28.2 3 (32 + 14 * ((rkOf c0 x).toNat : Nat) + 9 + k) : Int) = encP (earP (cRl c0) ((mPs (mk c0 (rkOf c0 x).toNat)).getD k prt0)) from (by exact ((congrFun ((((((hE_t_28 3 (by decide)).2).trans (hE_t_15 3 (by decide)).2).trans (hE_t_12 3 (by decide)).2).trans (hE_t_7 3 (by decide)).2).trans (hE_t_1 3 (by decide)).2) ((32 + 14 * (rkOf c0 x).toNat + 9 + k))).trans (((hC.m (rkOf c0 x).toNat (by omega)).2.2.2.er (by omega))))))) ?_
            refine lv_aload_n hx hb dX10_format_64 rfl (lv_at hl 0 rfl) ?_
            refine lv_iload_n hx hb dX10_format_65 rfl (lv_at hl 2 rfl) ?_
            refine lv_iload_n hx hb dX10_format_66 rfl (lv_at hl 3 rfl) ?_
            -- call SpokenMarksModel.part
            refine h_kLp (h_runV X hR (m_part l G w_26 a ad t_28 hT.1 ((rkOf c0 x).toNat) k (by omega) (by omega)) pn_yX10_part (hasC.of hT.1.ob rfl) q2831 q2833 qs54 q161 q2834 ⟨by decide, by decide⟩ hl.1 (Nat.le_of_ble_eq_true rfl) dX10_format_67 ⟨by omega, by omega⟩) hL (fun H locs hR hL => ?_)
            refine W.eq (g2 := F0 m9 70 ls [.long (lI (encP ((mPs (mk c0 (rkOf c0 x).toNat)).getD k prt0))), .long (lI (encP (earP (cRl c0) ((mPs (mk c0 (rkOf c0 x).toNat)).getD k prt0))))]) (congrArg (fun z_ : Int => F0 m9 70 ls [.long (lI (z_)), .long (lI (encP (earP (cRl c0) ((mPs (mk c0 (rkOf c0 x).toNat)).getD k prt0))))]) (show (t_28.2 3 (32 + 14 * ((rkOf c0 x).toNat : Nat) + 4 + k) : Int) = encP ((mPs (mk c0 (rkOf c0 x).toNat)).getD k prt0) from (by exact ((congrFun ((((((hE_t_28 3 (by decide)).2).trans (hE_t_15 3 (by decide)).2).trans (hE_t_12 3 (by decide)).2).trans (hE_t_7 3 (by decide)).2).trans (hE_t_1 3 (by decide)).2) ((32 + 14 * (rkOf c0 x).toNat + 4 + k))).trans (((hC.m (rkOf c0 x).toNat (by omega)).2.2.2.pt (by omega))))))) ?_
            refine h_lcmp hx hb dX10_format_70 (by omega) (by omega) ?_
            refine h_if_ne hx hb 77 dX10_format_71 (by decide) (by have := cmpZ_r (encP (earP (cRl c0) ((mPs (mk c0 (rkOf c0 x).toNat)).getD k prt0))) (encP ((mPs (mk c0 (rkOf c0 x).toNat)).getD k prt0)); exact ⟨by omega, by omega⟩) (fun c_q => ?_) (fun c_q => ?_)
            ·
              have c_s : ¬ encP (earP (cRl c0) ((mPs (mk c0 (rkOf c0 x).toNat)).getD k prt0)) = encP ((mPs (mk c0 (rkOf c0 x).toNat)).getD k prt0) := fun q => c_q (cmpZ_0.mpr q)
              refine lv_aload_n hx hb dX10_format_77 rfl (lv_at hl 0 rfl) ?_
              refine h_bipush hx hb dX10_format_78 (by decide) ?_
              -- call SpokenMarksModel.writes
              refine h_kV (h_runV X hR (m_writes l G w_26 a ad t_28 hT.1 47 (((fmN (cRl c0) (mPs (mk c0 (rkOf c0 x).toNat)) k) ++ prtT ((mPs (mk c0 (rkOf c0 x).toNat)).getD k prt0))) hXc (by (try simp only [List.length_append, List.length_singleton]); have q1 := prtT_len hxk; omega) (by omega)) pn_yX10_writes (hasC.of hT.1.ob rfl) q3345 q3347 qs117 q161 q3348 ⟨by decide, by decide⟩ hl.1 (Nat.le_of_ble_eq_true rfl) dX10_format_80 ⟨by omega, by omega⟩) hL (fun w_37 hp_38 H locs hR hL => ?_)
              obtain ⟨t_39, hT2, hE_t_39, et_40⟩ := hp_38
              have hT := hT.tr hT2
              clear hT2
              have hXd : LineAt t_39 (((fmN (cRl c0) (mPs (mk c0 (rkOf c0 x).toNat)) k) ++ prtT ((mPs (mk c0 (rkOf c0 x).toNat)).getD k prt0)) ++ [47]) := et_40
              refine lv_aload_n hx hb dX10_format_83 rfl (lv_at hl 0 rfl) ?_
              refine lv_aload_n hx hb dX10_format_84 rfl (lv_at hl 0 rfl) ?_
              refine lv_iload_n hx hb dX10_format_85 rfl (lv_at hl 2 rfl) ?_
              refine lv_iload_n hx hb dX10_format_86 rfl (lv_at hl 3 rfl) ?_
              -- call SpokenMarksModel.earOf
              refine h_kLp (h_runV X hR (m_earOf l G w_37 a ad t_39 hT.1 ((rkOf c0 x).toNat) k (by omega) (by omega)) pn_yX10_earOf (hasC.of hT.1.ob rfl) q3125 q3127 qs90 q161 q3128 ⟨by decide, by decide⟩ hl.1 (Nat.le_of_ble_eq_true rfl) dX10_format_87 ⟨by omega, by omega⟩) hL (fun H locs hR hL => ?_)
              refine W.eq (g2 := F0 m9 90 ls [.long (lI (encP (earP (cRl c0) ((mPs (mk c0 (rkOf c0 x).toNat)).getD k prt0)))), .ref a]) (congrArg (fun z_ : Int => F0 m9 90 ls [.long (lI (z_)), .ref a]) (show (t_39.2 3 (32 + 14 * ((rkOf c0 x).toNat : Nat) + 9 + k) : Int) = encP (earP (cRl c0) ((mPs (mk c0 (rkOf c0 x).toNat)).getD k prt0)) from (by exact ((congrFun (((((((hE_t_39 3 (by decide)).2).trans (hE_t_28 3 (by decide)).2).trans (hE_t_15 3 (by decide)).2).trans (hE_t_12 3 (by decide)).2).trans (hE_t_7 3 (by decide)).2).trans (hE_t_1 3 (by decide)).2) ((32 + 14 * (rkOf c0 x).toNat + 9 + k))).trans (((hC.m (rkOf c0 x).toNat (by omega)).2.2.2.er (by omega))))))) ?_
              -- call SpokenMarksModel.writesPart
              refine h_kV (h_runV X hR (m_writesPart l G w_37 a ad t_39 hT.1 ((earP (cRl c0) ((mPs (mk c0 (rkOf c0 x).toNat)).getD k prt0))) ((((fmN (cRl c0) (mPs (mk c0 (rkOf c0 x).toNat)) k) ++ prtT ((mPs (mk c0 (rkOf c0 x).toNat)).getD k prt0)) ++ [47])) hxe hXd (by (try simp only [List.length_append, List.length_singleton]); have q1 := prtT_len hxk; omega)) pn_yX10_writesPart (hasC.of hT.1.ob rfl) q3349 q3351 qs118 q161 q3352 ⟨by decide, by decide⟩ hl.1 (Nat.le_of_ble_eq_true rfl) dX10_format_90 ⟨by omega, by omega⟩) hL (fun w_45 hp_46 H locs hR hL => ?_)
              obtain ⟨t_47, hT2, hE_t_47, et_48⟩ := hp_46
              have hT := hT.tr hT2
              clear hT2
              have hXe : LineAt t_47 ((((fmN (cRl c0) (mPs (mk c0 (rkOf c0 x).toNat)) k) ++ prtT ((mPs (mk c0 (rkOf c0 x).toNat)).getD k prt0)) ++ [47]) ++ prtT (earP (cRl c0) ((mPs (mk c0 (rkOf c0 x).toNat)).getD k prt0))) := et_48
              refine h_iinc (lv' := [(3, .int (iI ((k : Int) + 1))), (0, .ref a), (1, .int (iI (x))), (2, .int (iI (((rkOf c0 x).toNat : Int))))]) hx hb dX10_format_93 hl (k := 3) rfl (by decide) rfl (fun ls hl => ?_)
              refine lv_goto (tgt := 28) hx hb dX10_format_96 (by decide) ?_
              exact ih_17 (k + 1) t_47 w_45 (by omega) hT (TwE.tr (S2 := [1, 2, 30, 31, 32]) (TwE.tr (S2 := [1, 2, 30, 31, 32]) (TwE.tr (S2 := [1, 2, 30, 31, 32]) (TwE.tr (S2 := [1, 2, 30, 31, 32]) (TwE.rf : TwE [] t_12 t_12) hE_t_15 rfl rfl) hE_t_28 rfl rfl) hE_t_39 rfl rfl) hE_t_47 rfl rfl) (by unfold fmN fmT1; rw [if_neg (by omega), if_neg c_s]; have h_ := hXe; simp only [List.append_assoc, List.nil_append, List.append_nil, List.cons_append] at h_ ⊢; exact h_) (by omega) _ _ _ hR hL (lv_sub hl [1, 2, 3, 0] rfl)
            ·
              have c_s := cmpZ_0.mp c_q
              refine lv_goto (tgt := 93) hx hb dX10_format_74 (by decide) ?_
              refine h_iinc (lv' := [(3, .int (iI ((k : Int) + 1))), (0, .ref a), (1, .int (iI (x))), (2, .int (iI (((rkOf c0 x).toNat : Int))))]) hx hb dX10_format_93 hl (k := 3) rfl (by decide) rfl (fun ls hl => ?_)
              refine lv_goto (tgt := 28) hx hb dX10_format_96 (by decide) ?_
              exact ih_17 (k + 1) t_28 w_26 (by omega) hT (TwE.tr (S2 := [1, 2, 30, 31, 32]) (TwE.tr (S2 := [1, 2, 30, 31, 32]) (TwE.rf : TwE [] t_12 t_12) hE_t_15 rfl rfl) hE_t_28 rfl rfl) (by unfold fmN fmT1; rw [if_neg (by omega), if_pos c_s]; have h_ := hXc; simp only [List.append_assoc, List.nil_append, List.append_nil, List.cons_append] at h_ ⊢; exact h_) (by omega) _ _ _ hR hL (lv_sub hl [1, 2, 3, 0] rfl)
          ·
            refine lv_aload_n hx hb dX10_format_42 rfl (lv_at hl 0 rfl) ?_
            refine h_bipush hx hb dX10_format_43 (by decide) ?_
            -- call SpokenMarksModel.writes
            refine h_kV (h_runV X hR (m_writes l G w_16 a ad t_15 hT.1 32 ((fmN (cRl c0) (mPs (mk c0 (rkOf c0 x).toNat)) k)) hXk (by omega) (by omega)) pn_yX10_writes (hasC.of hT.1.ob rfl) q3345 q3347 qs117 q161 q3348 ⟨by decide, by decide⟩ hl.1 (Nat.le_of_ble_eq_true rfl) dX10_format_45 ⟨by omega, by omega⟩) hL (fun w_50 hp_51 H locs hR hL => ?_)
            obtain ⟨t_52, hT2, hE_t_52, et_53⟩ := hp_51
            have hT := hT.tr hT2
            clear hT2
            have hXb : LineAt t_52 ((fmN (cRl c0) (mPs (mk c0 (rkOf c0 x).toNat)) k) ++ [32]) := et_53
            refine lv_aload_n hx hb dX10_format_48 rfl (lv_at hl 0 rfl) ?_
            refine lv_aload_n hx hb dX10_format_49 rfl (lv_at hl 0 rfl) ?_
            refine lv_iload_n hx hb dX10_format_50 rfl (lv_at hl 2 rfl) ?_
            refine lv_iload_n hx hb dX10_format_51 rfl (lv_at hl 3 rfl) ?_
            -- call SpokenMarksModel.part
            refine h_kLp (h_runV X hR (m_part l G w_50 a ad t_52 hT.1 ((rkOf c0 x).toNat) k (by omega) (by omega)) pn_yX10_part (hasC.of hT.1.ob rfl) q2831 q2833 qs54 q161 q2834 ⟨by decide, by decide⟩ hl.1 (Nat.le_of_ble_eq_true rfl) dX10_format_52 ⟨by omega, by omega⟩) hL (fun H locs hR hL => ?_)
            refine W.eq (g2 := F0 m9 55 ls [.long (lI (encP ((mPs (mk c0 (rkOf c0 x).toNat)).getD k prt0))), .ref a]) (congrArg (fun z_ : Int => F0 m9 55 ls [.long (lI (z_)), .ref a]) (show (t_52.2 3 (32 + 14 * ((rkOf c0 x).toNat : Nat) + 4 + k) : Int) = encP ((mPs (mk c0 (rkOf c0 x).toNat)).getD k prt0) from (by exact ((congrFun ((((((hE_t_52 3 (by decide)).2).trans (hE_t_15 3 (by decide)).2).trans (hE_t_12 3 (by decide)).2).trans (hE_t_7 3 (by decide)).2).trans (hE_t_1 3 (by decide)).2) ((32 + 14 * (rkOf c0 x).toNat + 4 + k))).trans (((hC.m (rkOf c0 x).toNat (by omega)).2.2.2.pt (by omega))))))) ?_
            -- call SpokenMarksModel.writesPart
            refine h_kV (h_runV X hR (m_writesPart l G w_50 a ad t_52 hT.1 (((mPs (mk c0 (rkOf c0 x).toNat)).getD k prt0)) (((fmN (cRl c0) (mPs (mk c0 (rkOf c0 x).toNat)) k) ++ [32])) hxk hXb (by (try simp only [List.length_append, List.length_singleton]); have q1 := prtT_len hxk; omega)) pn_yX10_writesPart (hasC.of hT.1.ob rfl) q3349 q3351 qs118 q161 q3352 ⟨by decide, by decide⟩ hl.1 (Nat.le_of_ble_eq_true rfl) dX10_format_55 ⟨by omega, by omega⟩) hL (fun w_58 hp_59 H locs hR hL => ?_)
            obtain ⟨t_60, hT2, hE_t_60, et_61⟩ := hp_59
            have hT := hT.tr hT2
            clear hT2
            have hXc : LineAt t_60 (((fmN (cRl c0) (mPs (mk c0 (rkOf c0 x).toNat)) k) ++ [32]) ++ prtT ((mPs (mk c0 (rkOf c0 x).toNat)).getD k prt0)) := et_61
            refine lv_aload_n hx hb dX10_format_58 rfl (lv_at hl 0 rfl) ?_
            refine lv_iload_n hx hb dX10_format_59 rfl (lv_at hl 2 rfl) ?_
            refine lv_iload_n hx hb dX10_format_60 rfl (lv_at hl 3 rfl) ?_
            -- call SpokenMarksModel.earOf
            refine h_kLp (h_runV X hR (m_earOf l G w_58 a ad t_60 hT.1 ((rkOf c0 x).toNat) k (by omega) (by omega)) pn_yX10_earOf (hasC.of hT.1.ob rfl) q3125 q3127 qs90 q161 q3128 ⟨by decide, by decide⟩ hl.1 (Nat.le_of_ble_eq_true rfl) dX10_format_61 ⟨by omega, by omega⟩) hL (fun H locs hR hL => ?_)
            refine W.eq (g2 := F0 m9 64 ls [.long (lI (encP (earP (cRl c0) ((mPs (mk c0 (rkOf c0 x).toNat)).getD k prt0))))]) (congrArg (fun z_ : Int => F0 m9 64 ls [.long (lI (z_))]) (show (t_60.2 3 (32 + 14 * ((rkOf c0 x).toNat : Nat) + 9 + k) : Int) = encP (earP (cRl c0) ((mPs (mk c0 (rkOf c0 x).toNat)).getD k prt0)) from (by exact ((congrFun (((((((hE_t_60 3 (by decide)).2).trans (hE_t_52 3 (by decide)).2).trans (hE_t_15 3 (by decide)).2).trans (hE_t_12 3 (by decide)).2).trans (hE_t_7 3 (by decide)).2).trans (hE_t_1 3 (by decide)).2) ((32 + 14 * (rkOf c0 x).toNat + 9 + k))).trans (((hC.m (rkOf c0 x).toNat (by omega)).2.2.2.er (by omega))))))) ?_
            refine lv_aload_n hx hb dX10_format_64 rfl (lv_at hl 0 rfl) ?_
            refine lv_iload_n hx hb dX10_format_65 rfl (lv_at hl 2 rfl) ?_
            refine lv_iload_n hx hb dX10_format_66 rfl (lv_at hl 3 rfl) ?_
            -- call SpokenMarksModel.part
            refine h_kLp (h_runV X hR (m_part l G w_58 a ad t_60 hT.1 ((rkOf c0 x).toNat) k (by omega) (by omega)) pn_yX10_part (hasC.of hT.1.ob rfl) q2831 q2833 qs54 q161 q2834 ⟨by decide, by decide⟩ hl.1 (Nat.le_of_ble_eq_true rfl) dX10_format_67 ⟨by omega, by omega⟩) hL (fun H locs hR hL => ?_)
            refine W.eq (g2 := F0 m9 70 ls [.long (lI (encP ((mPs (mk c0 (rkOf c0 x).toNat)).getD k prt0))), .long (lI (encP (earP (cRl c0) ((mPs (mk c0 (rkOf c0 x).toNat)).getD k prt0))))]) (congrArg (fun z_ : Int => F0 m9 70 ls [.long (lI (z_)), .long (lI (encP (earP (cRl c0) ((mPs (mk c0 (rkOf c0 x).toNat)).getD k prt0))))]) (show (t_60.2 3 (32 + 14 * ((rkOf c0 x).toNat : Nat) + 4 + k) : Int) = encP ((mPs (mk c0 (rkOf c0 x).toNat)).getD k prt0) from (by exact ((congrFun (((((((hE_t_60 3 (by decide)).2).trans (hE_t_52 3 (by decide)).2).trans (hE_t_15 3 (by decide)).2).trans (hE_t_12 3 (by decide)).2).trans (hE_t_7 3 (by decide)).2).trans (hE_t_1 3 (by decide)).2) ((32 + 14 * (rkOf c0 x).toNat + 4 + k))).trans (((hC.m (rkOf c0 x).toNat (by omega)).2.2.2.pt (by omega))))))) ?_
            refine h_lcmp hx hb dX10_format_70 (by omega) (by omega) ?_
            refine h_if_ne hx hb 77 dX10_format_71 (by decide) (by have := cmpZ_r (encP (earP (cRl c0) ((mPs (mk c0 (rkOf c0 x).toNat)).getD k prt0))) (encP ((mPs (mk c0 (rkOf c0 x).toNat)).getD k prt0)); exact ⟨by omega, by omega⟩) (fun c_q => ?_) (fun c_q => ?_)
            ·
              have c_s : ¬ encP (earP (cRl c0) ((mPs (mk c0 (rkOf c0 x).toNat)).getD k prt0)) = encP ((mPs (mk c0 (rkOf c0 x).toNat)).getD k prt0) := fun q => c_q (cmpZ_0.mpr q)
              refine lv_aload_n hx hb dX10_format_77 rfl (lv_at hl 0 rfl) ?_
              refine h_bipush hx hb dX10_format_78 (by decide) ?_
              -- call SpokenMarksModel.writes
              refine h_kV (h_runV X hR (m_writes l G w_58 a ad t_60 hT.1 47 ((((fmN (cRl c0) (mPs (mk c0 (rkOf c0 x).toNat)) k) ++ [32]) ++ prtT ((mPs (mk c0 (rkOf c0 x).toNat)).getD k prt0))) hXc (by (try simp only [List.length_append, List.length_singleton]); have q1 := prtT_len hxk; omega) (by omega)) pn_yX10_writes (hasC.of hT.1.ob rfl) q3345 q3347 qs117 q161 q3348 ⟨by decide, by decide⟩ hl.1 (Nat.le_of_ble_eq_true rfl) dX10_format_80 ⟨by omega, by omega⟩) hL (fun w_69 hp_70 H locs hR hL => ?_)
              obtain ⟨t_71, hT2, hE_t_71, et_72⟩ := hp_70
              have hT := hT.tr hT2
              clear hT2
              have hXd : LineAt t_71 ((((fmN (cRl c0) (mPs (mk c0 (rkOf c0 x).toNat)) k) ++ [32]) ++ prtT ((mPs (mk c0 (rkOf c0 x).toNat)).getD k prt0)) ++ [47]) := et_72
              refine lv_aload_n hx hb dX10_format_83 rfl (lv_at hl 0 rfl) ?_
              refine lv_aload_n hx hb dX10_format_84 rfl (lv_at hl 0 rfl) ?_
              refine lv_iload_n hx hb dX10_format_85 rfl (lv_at hl 2 rfl) ?_
              refine lv_iload_n hx hb dX10_format_86 rfl (lv_at hl 3 rfl) ?_
              -- call SpokenMarksModel.earOf
              refine h_kLp (h_runV X hR (m_earOf l G w_69 a ad t_71 hT.1 ((rkOf c0 x).toNat) k (by omega) (by omega)) pn_yX10_earOf (hasC.of hT.1.ob rfl) q3125 q3127 qs90 q161 q3128 ⟨by decide, by decide⟩ hl.1 (Nat.le_of_ble_eq_true rfl) dX10_format_87 ⟨by omega, by omega⟩) hL (fun H locs hR hL => ?_)
              refine W.eq (g2 := F0 m9 90 ls [.long (lI (encP (earP (cRl c0) ((mPs (mk c0 (rkOf c0 x).toNat)).getD k prt0)))), .ref a]) (congrArg (fun z_ : Int => F0 m9 90 ls [.long (lI (z_)), .ref a]) (show (t_71.2 3 (32 + 14 * ((rkOf c0 x).toNat : Nat) + 9 + k) : Int) = encP (earP (cRl c0) ((mPs (mk c0 (rkOf c0 x).toNat)).getD k prt0)) from (by exact ((congrFun ((((((((hE_t_71 3 (by decide)).2).trans (hE_t_60 3 (by decide)).2).trans (hE_t_52 3 (by decide)).2).trans (hE_t_15 3 (by decide)).2).trans (hE_t_12 3 (by decide)).2).trans (hE_t_7 3 (by decide)).2).trans (hE_t_1 3 (by decide)).2) ((32 + 14 * (rkOf c0 x).toNat + 9 + k))).trans (((hC.m (rkOf c0 x).toNat (by omega)).2.2.2.er (by omega))))))) ?_
              -- call SpokenMarksModel.writesPart
              refine h_kV (h_runV X hR (m_writesPart l G w_69 a ad t_71 hT.1 ((earP (cRl c0) ((mPs (mk c0 (rkOf c0 x).toNat)).getD k prt0))) (((((fmN (cRl c0) (mPs (mk c0 (rkOf c0 x).toNat)) k) ++ [32]) ++ prtT ((mPs (mk c0 (rkOf c0 x).toNat)).getD k prt0)) ++ [47])) hxe hXd (by (try simp only [List.length_append, List.length_singleton]); have q1 := prtT_len hxk; omega)) pn_yX10_writesPart (hasC.of hT.1.ob rfl) q3349 q3351 qs118 q161 q3352 ⟨by decide, by decide⟩ hl.1 (Nat.le_of_ble_eq_true rfl) dX10_format_90 ⟨by omega, by omega⟩) hL (fun w_77 hp_78 H locs hR hL => ?_)
              obtain ⟨t_79, hT2, hE_t_79, et_80⟩ := hp_78
              have hT := hT.tr hT2
              clear hT2
              have hXe : LineAt t_79 (((((fmN (cRl c0) (mPs (mk c0 (rkOf c0 x).toNat)) k) ++ [32]) ++ prtT ((mPs (mk c0 (rkOf c0 x).toNat)).getD k prt0)) ++ [47]) ++ prtT (earP (cRl c0) ((mPs (mk c0 (rkOf c0 x).toNat)).getD k prt0))) := et_80
              refine h_iinc (lv' := [(3, .int (iI ((k : Int) + 1))), (0, .ref a), (1, .int (iI (x))), (2, .int (iI (((rkOf c0 x).toNat : Int))))]) hx hb dX10_format_93 hl (k := 3) rfl (by decide) rfl (fun ls hl => ?_)
              refine lv_goto (tgt := 28) hx hb dX10_format_96 (by decide) ?_
              exact ih_17 (k + 1) t_79 w_77 (by omega) hT (TwE.tr (S2 := [1, 2, 30, 31, 32]) (TwE.tr (S2 := [1, 2, 30, 31, 32]) (TwE.tr (S2 := [1, 2, 30, 31, 32]) (TwE.tr (S2 := [1, 2, 30, 31, 32]) (TwE.tr (S2 := [1, 2, 30, 31, 32]) (TwE.rf : TwE [] t_12 t_12) hE_t_15 rfl rfl) hE_t_52 rfl rfl) hE_t_60 rfl rfl) hE_t_71 rfl rfl) hE_t_79 rfl rfl) (by unfold fmN fmT1; rw [if_pos (by omega), if_neg c_s]; have h_ := hXe; simp only [List.append_assoc, List.nil_append, List.append_nil, List.cons_append] at h_ ⊢; exact h_) (by omega) _ _ _ hR hL (lv_sub hl [1, 2, 3, 0] rfl)
            ·
              have c_s := cmpZ_0.mp c_q
              refine lv_goto (tgt := 93) hx hb dX10_format_74 (by decide) ?_
              refine h_iinc (lv' := [(3, .int (iI ((k : Int) + 1))), (0, .ref a), (1, .int (iI (x))), (2, .int (iI (((rkOf c0 x).toNat : Int))))]) hx hb dX10_format_93 hl (k := 3) rfl (by decide) rfl (fun ls hl => ?_)
              refine lv_goto (tgt := 28) hx hb dX10_format_96 (by decide) ?_
              exact ih_17 (k + 1) t_60 w_58 (by omega) hT (TwE.tr (S2 := [1, 2, 30, 31, 32]) (TwE.tr (S2 := [1, 2, 30, 31, 32]) (TwE.tr (S2 := [1, 2, 30, 31, 32]) (TwE.rf : TwE [] t_12 t_12) hE_t_15 rfl rfl) hE_t_52 rfl rfl) hE_t_60 rfl rfl) (by unfold fmN fmT1; rw [if_pos (by omega), if_pos c_s]; have h_ := hXc; simp only [List.append_assoc, List.nil_append, List.append_nil, List.cons_append] at h_ ⊢; exact h_) (by omega) _ _ _ hR hL (lv_sub hl [1, 2, 3, 0] rfl)
    have hl : lv_has ls 4 [(3, .int (iI (0))), (2, .int (iI (((rkOf c0 x).toNat : Int)))), (0, .ref a), (1, .int (iI (x)))] := lv_conv hl (congrArg (fun z_ : Int => ([(3, .int (iI (0))), (2, .int (iI (z_))), (0, .ref a), (1, .int (iI (x)))] : List (Nat × Value))) (show (rkOf c0 x : Int) = ((rkOf c0 x).toNat : Int) from (by omega)))
    exact LOOP_17 _ 0 t_12 w_14 (by omega) hT (TwE.rf : TwE [1, 2, 30, 31, 32] t_12 t_12) (LineAt.nil hv_t_12) (Nat.lt_succ_self _) _ _ _ hR hL (lv_sub hl [2, 3, 1, 0] rfl)
  ·
    have hno1 := b2i_n1.mp c_g
    have hth : t_7.1 0 = 1 := (et_8).trans (if_pos hno1)
    refine h_iconst hx hb dX10_format_13 ?_
    exact h_ireturn hx hb hlk hret hR hL rfl ⟨(by rw [if_pos hno1]), ⟨t_7, hT, (TwE.tr (S2 := [0, 1, 2, 30, 31, 32]) (TwE.tr (S2 := [0, 1, 2, 30, 31, 32]) (TwE.rf : TwE [] t t) hE_t_1 rfl rfl) hE_t_7 rfl rfl), ⟨by rw [hth, if_pos hno1], by rw [if_pos hno1]; exact hX.mv (TwE.tr (S2 := [0]) (TwE.tr (S2 := [0]) (TwE.rf : TwE [] t t) hE_t_1 rfl rfl) hE_t_7 rfl rfl) (by decide) (by decide)⟩⟩⟩ (by omega) (by omega) rfl rfl dX10_format_14

set_option maxHeartbeats 4000000 in
set_option maxRecDepth 100000 in
/-- formattedByte -/
theorem m_formattedByte (l : Launch) (G : Gl) (w : Wd) (a : Nat) (ad : Nat → Nat) (t : Tw) (hT : TwAt G w a ad t) (x : Int) (XL : List Int) (hx_x : R32 x) (hX : LineAt t XL) : HM l yX10_formattedByte cX10_formattedByte 2 (some .int) 2 0 0 G [.ref a, .int (iI (x))] w (QI G (fun z_ w_ => z_ = (if 0 ≤ x ∧ x < (XL.length : Int) then XL.getD x.toNat 0 else -1) ∧ ∃ t_ : Tw, TwS G w w_ a ad t_ ∧ TwE [0] t t_ ∧ t_.1 0 = 0)) := by
  refine HM.mk (by decide +kernel) (Nat.le_of_ble_eq_true rfl) ?_
  intro p9 e9 s9 m9 a9 b9 meth9 c9 ls X hret hlk hnm hl H hR
  have hx := X.1.1
  have hb := X.1.2.1
  have hl : lv_has ls 2 [(0, .ref a), (1, .int (iI (x)))] := hl
  have hL : LK G [] := fun q h => absurd h List.not_mem_nil
  generalize ([] : List Loc) = locs at hL ⊢
  have hTb := hT
  have hT : TwS G w w a ad t := TwS.rf hT
  have hX1 := hX.2.1
  refine lv_aload_n hx hb dX10_formattedByte_0 rfl (lv_at hl 0 rfl) ?_
  refine h_iconst hx hb dX10_formattedByte_1 ?_
  refine tw_puti X hR hL hT 0 (by decide) q2941 rfl rfl rfl twF_s0 (by omega) dX10_formattedByte_2 (fun t_1 et_2 w_3 hT H locs hR hL => ?_)
  have hE_t_1 := TwE.put et_2
  have hv_t_1 := tput_v et_2
  refine lv_iload_n hx hb dX10_formattedByte_5 rfl (lv_at hl 1 rfl) ?_
  refine h_i2l hx hb dX10_formattedByte_6 (by omega) ?_
  refine h_lconst hx hb 0 dX10_formattedByte_7 rfl ?_
  refine lv_aload_n hx hb dX10_formattedByte_8 rfl (lv_at hl 0 rfl) ?_
  refine tw_get X hR hT 32 (by decide) q2973 (v := .int (iI ((XL.length : Int)))) (congrArg (fun z => some (Value.int (iI z))) (((hE_t_1 32 (by decide)).1).trans hX.1)) dX10_formattedByte_9 ?_
  refine h_iconst hx hb dX10_formattedByte_12 ?_
  refine h_isub hx hb dX10_formattedByte_13 ?_
  refine h_i2l hx hb dX10_formattedByte_14 (by omega) ?_
  -- call SpokenMarksModel.in
  refine h_kIp (h_runS X hR (m_in l G w_3  x 0 (((XL.length : Int)) - 1) (by omega) (by omega) (by omega)) pn_yX10_in q2730 q2731 q161 q2732 ⟨by decide, by decide⟩ hl.1 (Nat.le_of_ble_eq_true rfl) dX10_formattedByte_15 ⟨by omega, by omega⟩) hL (fun H locs hR hL => ?_)
  refine h_if_eq hx hb 30 dX10_formattedByte_18 (by decide) (b2i_R _) (fun c_f => ?_) (fun c_f => ?_)
  ·
    refine h_iconst hx hb dX10_formattedByte_30 ?_
    exact h_ireturn hx hb hlk hret hR hL rfl ⟨(by first | (rw [if_pos ⟨hii.1, by omega⟩]; done) | (rw [if_neg (fun q => b2i_0.mp c_f ⟨q.1, by omega⟩)]; done)), ⟨t_1, hT, (TwE.tr (S2 := [0]) (TwE.rf : TwE [] t t) hE_t_1 rfl rfl), hv_t_1⟩⟩ (by omega) (by omega) rfl rfl dX10_formattedByte_31
  ·
    refine lv_aload_n hx hb dX10_formattedByte_21 rfl (lv_at hl 0 rfl) ?_
    refine tw_get X hR hT 30 (by decide) q2971 rfl dX10_formattedByte_22 ?_
    refine lv_iload_n hx hb dX10_formattedByte_25 rfl (lv_at hl 1 rfl) ?_
    have hii := b2i_n1.mp c_f
    refine tw_iald X hR hT (k := 30) (by decide) x.toNat (by omega) (by show _ < _; simp only [twN]; omega) (v := XL.getD x.toNat 0) ((congrFun ((hE_t_1 30 (by decide)).2) x.toNat).trans (hX.2.2 _ (by omega))) dX10_formattedByte_26 (fun ra_26 => ?_)
    refine lv_goto (tgt := 31) hx hb dX10_formattedByte_27 (by decide) ?_
    exact h_ireturn hx hb hlk hret hR hL rfl ⟨(by first | (rw [if_pos ⟨hii.1, by omega⟩]; done) | (rw [if_neg (fun q => b2i_0.mp c_f ⟨q.1, by omega⟩)]; done)), ⟨t_1, hT, (TwE.tr (S2 := [0]) (TwE.rf : TwE [] t t) hE_t_1 rfl rfl), hv_t_1⟩⟩ (by omega) (by omega) rfl rfl dX10_formattedByte_31
