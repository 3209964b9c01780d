/-! the twin: the scanner -/
set_option maxRecDepth 100000
def TxAt (t : Tw) (T : List Int) : Prop := t.1 16 = (T.length : Int) ∧ TxW T ∧ ∀ k, k < T.length → t.2 14 k = T.getD k 0
theorem TxAt.bt {t : Tw} {T : List Int} (h : TxAt t T) {k : Nat} (hk : k < T.length) : t.2 14 k = bat T k := by unfold bat; rw [if_pos hk]; exact h.2.2 k hk
theorem TxAt.mv {t t1 : Tw} {T : List Int} {S : List Nat} (h : TxAt t T) (hE : TwE S t t1) (h1 : 16 ∉ S) (h2 : 14 ∉ S) : TxAt t1 T := by
  unfold TxAt; rw [(hE 16 h1).1, (hE 14 h2).2]; exact h
def ScAt (t : Tw) (s : Sc) : Prop := t.1 18 = (scB s : Int) ∧ t.1 17 = (scA s : Int) ∧ t.1 19 = scK s ∧ (scK s = 2 → 0 ≤ t.1 20 ∧ min 1000000 (t.1 20) = scV s)
def RdAt (t : Tw) (T : List Int) (e : Rd) : Prop := TxAt t T ∧ match e with
  | .inl x => t.1 21 = x.2 ∧ t.1 22 = (x.1 : Int) ∧ x.2 ≠ 0 ∧ (0 ≤ t.1 17 ∧ t.1 17 ≤ 801) ∧ 0 ≤ t.1 18 ∧ t.1 18 ≤ 801 ∧ 1 ≤ x.2 ∧ x.2 ≤ 9
  | .inr s => t.1 21 = 0 ∧ t.1 22 = -1 ∧ ScAt t s ∧ ScW T s
theorem tok_0 {T : List Int} {p k : Nat} (hs : skp T p = k) (h : T.length ≤ k) : tok T p = (k, k, 0, 0) := by unfold tok; rw [hs, if_pos h]
theorem tok_1 {T : List Int} {p k : Nat} (hs : skp T p = k) (h : k < T.length) (h1 : 97 ≤ bat T k ∧ bat T k ≤ 122) : tok T p = (k, ltE T k, 1, 0) := by unfold tok; rw [hs, if_neg (by omega), if_pos h1]
theorem tok_2 {T : List Int} {p k : Nat} (hs : skp T p = k) (h : k < T.length) (h1 : ¬ (97 ≤ bat T k ∧ bat T k ≤ 122)) (h2 : 48 ≤ bat T k ∧ bat T k ≤ 57) : tok T p = (k, fgE T k, 2, nmV T k) := by unfold tok; rw [hs, if_neg (by omega), if_neg h1, if_pos h2]
theorem tok_3 {T : List Int} {p k : Nat} (hs : skp T p = k) (h : k < T.length) (h1 : ¬ (97 ≤ bat T k ∧ bat T k ≤ 122)) (h2 : ¬ (48 ≤ bat T k ∧ bat T k ≤ 57)) {v : Int} (hv : (if bat T k = 59 then (3 : Int) else if bat T k = 61 then 4 else 5) = v) : tok T p = (k, k + 1, v, 0) := by unfold tok; rw [hs, if_neg (by omega), if_neg h1, if_neg h2, hv]
theorem ScAt.of {t : Tw} {b a : Nat} {k v : Int} (h1 : t.1 18 = (b : Int)) (h2 : t.1 17 = (a : Int)) (h3 : t.1 19 = k) (h4 : k ≠ 2) : ScAt t (b, a, k, v) := ⟨h1, h2, h3, fun q => absurd q h4⟩

theorem pn_yX10_byteAt : ParN yX10_byteAt 1 := by decide +kernel
theorem pn_yX10_isFigure : ParN yX10_isFigure 1 := by decide +kernel
theorem pn_yX10_isLetter : ParN yX10_isLetter 1 := by decide +kernel
theorem pn_yX10_readsNumber : ParN yX10_readsNumber 0 := by decide +kernel

set_option maxHeartbeats 4000000 in
set_option maxRecDepth 100000 in
/-- byteAt -/
theorem m_byteAt (l : Launch) (G : Gl) (w : Wd) (a : Nat) (ad : Nat → Nat) (t : Tw) (hT : TwAt G w a ad t) (k : Nat) (T : List Int) (hTx : TxAt t T) (hk : k ≤ 1000) : HM l yX10_byteAt cX10_byteAt 2 (some .int) 1 0 0 G [.ref a, .int (iI ((k : Int)))] w (QI G (fun z_ w_ => z_ = bat T k ∧ w_ = w)) := by
  refine HM.mk (by decide +kernel) (Nat.le_of_ble_eq_true rfl) ?_
  intro p9 e9 s9 m9 a9 b9 meth9 c9 ls X hret hlk hnm hl H hR
  have hx := X.1.1
  have hb := X.1.2.1
  have hl : lv_has ls 2 [(0, .ref a), (1, .int (iI ((k : Int))))] := hl
  have hL : LK G [] := fun q h => absurd h List.not_mem_nil
  generalize ([] : List Loc) = locs at hL ⊢
  have hTb := hT
  have hT : TwS G w w a ad t := TwS.rf hT
  have hT8 := hTx.2.1.1
  refine lv_iload_n hx hb dX10_byteAt_0 rfl (lv_at hl 1 rfl) ?_
  refine lv_aload_n hx hb dX10_byteAt_1 rfl (lv_at hl 0 rfl) ?_
  refine tw_get X hR hT 16 (by decide) q2957 (v := .int (iI ((T.length : Int)))) (congrArg (fun z => some (Value.int (iI z))) (hTx.1)) dX10_byteAt_2 ?_
  refine h_icmp_ge hx hb 17 dX10_byteAt_5 (by decide) (by omega) (by omega) (fun c_1 => ?_) (fun c_1 => ?_)
  ·
    refine h_iconst hx hb dX10_byteAt_17 ?_
    exact h_ireturn hx hb hlk hret hR hL rfl ⟨by first | rfl | exact (bat_ge (by omega)).symm, rfl⟩ (by omega) (by omega) rfl rfl dX10_byteAt_18
  ·
    refine lv_aload_n hx hb dX10_byteAt_8 rfl (lv_at hl 0 rfl) ?_
    refine tw_get X hR hT 14 (by decide) q2955 rfl dX10_byteAt_9 ?_
    refine lv_iload_n hx hb dX10_byteAt_12 rfl (lv_at hl 1 rfl) ?_
    refine tw_iald X hR hT (k := 14) (by decide) k (by omega) (by show _ < _; simp only [twN]; omega) (v := bat T k) ((hTx.bt (by omega))) dX10_byteAt_13 (fun ra_13 => ?_)
    have hbr := bat_r hTx.2.1 k
    refine lv_goto (tgt := 18) hx hb dX10_byteAt_14 (by decide) ?_
    exact h_ireturn hx hb hlk hret hR hL rfl ⟨by first | rfl | exact (bat_ge (by omega)).symm, rfl⟩ (by omega) (by omega) rfl rfl dX10_byteAt_18

set_option maxHeartbeats 4000000 in
set_option maxRecDepth 100000 in
/-- isLetter -/
theorem m_isLetter (l : Launch) (G : Gl) (w : Wd) (v : Int)  (h1 : R32 v) : HM l yX10_isLetter cX10_isLetter 1 (some .boolean) 1 0 0 G [.int (iI (v))] w (QI G (fun z_ w_ => z_ = b2i (97 ≤ v ∧ v ≤ 122) ∧ w_ = w)) := by
  refine HM.mk (by decide +kernel) (Nat.le_of_ble_eq_true rfl) ?_
  intro p9 e9 s9 m9 a9 b9 meth9 c9 ls X hret hlk hnm hl H hR
  have hx := X.1.1
  have hb := X.1.2.1
  have hl : lv_has ls 1 [(0, .int (iI (v)))] := hl
  have hL : LK G [] := fun q h => absurd h List.not_mem_nil
  generalize ([] : List Loc) = locs at hL ⊢
  refine lv_iload_n hx hb dX10_isLetter_0 rfl (lv_at hl 0 rfl) ?_
  refine h_bipush hx hb dX10_isLetter_1 (by decide) ?_
  refine h_icmp_lt hx hb 16 dX10_isLetter_3 (by decide) (by omega) (by omega) (fun c_1 => ?_) (fun c_1 => ?_)
  ·
    refine h_iconst hx hb dX10_isLetter_16 ?_
    exact h_ireturn hx hb hlk hret hR hL (nar01 (by omega)) ⟨by first | exact (b2i_t ⟨by omega, by omega⟩).symm | exact (b2i_f (fun q => by omega)).symm, rfl⟩ (by omega) (by omega) rfl rfl dX10_isLetter_17
  ·
    refine lv_iload_n hx hb dX10_isLetter_6 rfl (lv_at hl 0 rfl) ?_
    refine h_bipush hx hb dX10_isLetter_7 (by decide) ?_
    refine h_icmp_gt hx hb 16 dX10_isLetter_9 (by decide) (by omega) (by omega) (fun c_2 => ?_) (fun c_2 => ?_)
    ·
      refine h_iconst hx hb dX10_isLetter_16 ?_
      exact h_ireturn hx hb hlk hret hR hL (nar01 (by omega)) ⟨by first | exact (b2i_t ⟨by omega, by omega⟩).symm | exact (b2i_f (fun q => by omega)).symm, rfl⟩ (by omega) (by omega) rfl rfl dX10_isLetter_17
    ·
      refine h_iconst hx hb dX10_isLetter_12 ?_
      refine lv_goto (tgt := 17) hx hb dX10_isLetter_13 (by decide) ?_
      exact h_ireturn hx hb hlk hret hR hL (nar01 (by omega)) ⟨by first | exact (b2i_t ⟨by omega, by omega⟩).symm | exact (b2i_f (fun q => by omega)).symm, rfl⟩ (by omega) (by omega) rfl rfl dX10_isLetter_17

set_option maxHeartbeats 4000000 in
set_option maxRecDepth 100000 in
/-- isFigure -/
theorem m_isFigure (l : Launch) (G : Gl) (w : Wd) (v : Int)  (h1 : R32 v) : HM l yX10_isFigure cX10_isFigure 1 (some .boolean) 1 0 0 G [.int (iI (v))] w (QI G (fun z_ w_ => z_ = b2i (48 ≤ v ∧ v ≤ 57) ∧ w_ = w)) := by
  refine HM.mk (by decide +kernel) (Nat.le_of_ble_eq_true rfl) ?_
  intro p9 e9 s9 m9 a9 b9 meth9 c9 ls X hret hlk hnm hl H hR
  have hx := X.1.1
  have hb := X.1.2.1
  have hl : lv_has ls 1 [(0, .int (iI (v)))] := hl
  have hL : LK G [] := fun q h => absurd h List.not_mem_nil
  generalize ([] : List Loc) = locs at hL ⊢
  refine lv_iload_n hx hb dX10_isFigure_0 rfl (lv_at hl 0 rfl) ?_
  refine h_bipush hx hb dX10_isFigure_1 (by decide) ?_
  refine h_icmp_lt hx hb 16 dX10_isFigure_3 (by decide) (by omega) (by omega) (fun c_1 => ?_) (fun c_1 => ?_)
  ·
    refine h_iconst hx hb dX10_isFigure_16 ?_
    exact h_ireturn hx hb hlk hret hR hL (nar01 (by omega)) ⟨by first | exact (b2i_t ⟨by omega, by omega⟩).symm | exact (b2i_f (fun q => by omega)).symm, rfl⟩ (by omega) (by omega) rfl rfl dX10_isFigure_17
  ·
    refine lv_iload_n hx hb dX10_isFigure_6 rfl (lv_at hl 0 rfl) ?_
    refine h_bipush hx hb dX10_isFigure_7 (by decide) ?_
    refine h_icmp_gt hx hb 16 dX10_isFigure_9 (by decide) (by omega) (by omega) (fun c_2 => ?_) (fun c_2 => ?_)
    ·
      refine h_iconst hx hb dX10_isFigure_16 ?_
      exact h_ireturn hx hb hlk hret hR hL (nar01 (by omega)) ⟨by first | exact (b2i_t ⟨by omega, by omega⟩).symm | exact (b2i_f (fun q => by omega)).symm, rfl⟩ (by omega) (by omega) rfl rfl dX10_isFigure_17
    ·
      refine h_iconst hx hb dX10_isFigure_12 ?_
      refine lv_goto (tgt := 17) hx hb dX10_isFigure_13 (by decide) ?_
      exact h_ireturn hx hb hlk hret hR hL (nar01 (by omega)) ⟨by first | exact (b2i_t ⟨by omega, by omega⟩).symm | exact (b2i_f (fun q => by omega)).symm, rfl⟩ (by omega) (by omega) rfl rfl dX10_isFigure_17

set_option maxHeartbeats 4000000 in
set_option maxRecDepth 100000 in
/-- readsNumber -/
theorem m_readsNumber (l : Launch) (G : Gl) (w : Wd) (a : Nat) (ad : Nat → Nat) (t : Tw) (hT : TwAt G w a ad t)  (T : List Int) (b : Nat) (hTx : TxAt t T) (hat : t.1 17 = (b : Int)) (hb_ : b ≤ T.length) : HM l yX10_readsNumber cX10_readsNumber 1 none 2 0 0 G [.ref a] w (QV G (fun w_ => ∃ t_ : Tw, TwS G w w_ a ad t_ ∧ TwE [17, 19, 20] t t_ ∧ t_.1 17 = (fgE T b : Int) ∧ t_.1 19 = 2 ∧ 0 ≤ t_.1 20 ∧ min 1000000 (t_.1 20) = nmV T b)) := by
  refine HM.mk (by decide +kernel) (Nat.le_of_ble_eq_true rfl) ?_
  intro p9 e9 s9 m9 a9 b9 meth9 c9 ls X hret hlk hnm hl H hR
  have hx := X.1.1
  have hb := X.1.2.1
  have hl : lv_has ls 1 [(0, .ref a)] := hl
  have hL : LK G [] := fun q h => absurd h List.not_mem_nil
  generalize ([] : List Loc) = locs at hL ⊢
  have hTb := hT
  have hT : TwS G w w a ad t := TwS.rf hT
  have hT8 := hTx.2.1.1
  refine lv_aload_n hx hb dX10_readsNumber_0 rfl (lv_at hl 0 rfl) ?_
  refine h_iconst hx hb dX10_readsNumber_1 ?_
  refine tw_puti X hR hL hT 20 (by decide) q2961 rfl rfl rfl twF_s20 (by omega) dX10_readsNumber_2 (fun t_1 et_2 w_3 hT H locs hR hL => ?_)
  have hE_t_1 := TwE.put et_2
  have hv_t_1 := tput_v et_2
  have LOOP_6 : ∀ (N_ : Nat) (j : Nat) (v : Int) (t_4 : Tw) (w_5 : Wd), (b + j ≤ T.length) → (fgE T b = fgE T (b + j)) → (0 ≤ v ∧ v ≤ 99999999) → (min 1000000 v = nmF T b j) → (TwS G w w_5 a ad t_4) → (TwE [17, 19, 20] t t_4) → (t_4.1 17 = ((b + j : Nat) : Int)) → (t_4.1 20 = v) → (T.length - j) < N_ → ∀ (H : Heap) (locs : List Loc) (ls : Array Slot), Rp G w_5 H → LK G locs → lv_has ls 1 [(0, .ref a)] → W p9 l e9 (rmk 2 0 0) s9 m9 a9 b9 meth9 c9 H locs 0 0 (MQ b9 (QV G (fun w_ => ∃ t_ : Tw, TwS G w w_ a ad t_ ∧ TwE [17, 19, 20] t t_ ∧ t_.1 17 = (fgE T b : Int) ∧ t_.1 19 = 2 ∧ 0 ≤ t_.1 20 ∧ min 1000000 (t_.1 20) = nmV T b)) a9 s9 0 0 (frG G)) (F0 m9 5 ls []) := by
    intro N_
    induction N_ with
    | zero => intro _ _ _ _ _ _ _ _ _ _ _ _ h_; exact absurd h_ (Nat.not_lt_zero _)
    | succ N_ ih_ =>
      intro j v t_4 w_5 hjl hj1 hv0 hv1 hT hE_t_4 hat1 hval hN_ H locs ls hR hL hl
      have ih_6 := ih_
      clear ih_
      refine lv_aload_n hx hb dX10_readsNumber_5 rfl (lv_at hl 0 rfl) ?_
      refine lv_aload_n hx hb dX10_readsNumber_6 rfl (lv_at hl 0 rfl) ?_
      refine tw_get X hR hT 17 (by decide) q2958 (v := .int (iI (((b + j : Nat) : Int)))) (congrArg (fun z => some (Value.int (iI z))) (hat1)) dX10_readsNumber_7 ?_
      -- call SpokenMarksModel.byteAt
      refine h_kIp (h_runV X hR (m_byteAt l G w_5 a ad t_4 hT.1 (b + j) T (hTx.mv (TwE.tr (S2 := [17, 18, 19, 20, 21, 22]) (TwE.rf : TwE [] t t) hE_t_4 rfl rfl) (by decide) (by decide)) (by omega)) pn_yX10_byteAt (hasC.of hT.1.ob rfl) q2748 q2750 qs36 q161 q2751 ⟨by decide, by decide⟩ hl.1 (Nat.le_of_ble_eq_true rfl) dX10_readsNumber_10 ⟨by omega, by omega⟩) hL (fun H locs hR hL => ?_)
      have hbr := bat_r hTx.2.1 (b + j)
      -- call SpokenMarksModel.isFigure
      refine h_kIp (h_runS X hR (m_isFigure l G w_5  (bat T (b + j : Nat)) (by omega)) pn_yX10_isFigure q2755 q2756 q161 q2757 ⟨by decide, by decide⟩ hl.1 (Nat.le_of_ble_eq_true rfl) dX10_readsNumber_13 ⟨by omega, by omega⟩) hL (fun H locs hR hL => ?_)
      refine h_if_eq hx hb 72 dX10_readsNumber_16 (by decide) (by have := b2i_01 (48 ≤ bat T (b + j) ∧ bat T (b + j) ≤ 57); omega) (fun c_f => ?_) (fun c_f => ?_)
      ·
        have hfn := fgE_no (b2i_0.mp c_f)
        refine lv_aload_n hx hb dX10_readsNumber_72 rfl (lv_at hl 0 rfl) ?_
        refine h_iconst hx hb dX10_readsNumber_73 ?_
        refine tw_puti X hR hL hT 19 (by decide) q2960 rfl rfl rfl twF_s19 (by omega) dX10_readsNumber_74 (fun t_13 et_14 w_15 hT H locs hR hL => ?_)
        have hE_t_13 := TwE.put et_14
        have hv_t_13 := tput_v et_14
        exact h_vreturn hx hb hlk hret hR hL ⟨t_13, hT, (TwE.tr (S2 := [17, 19, 20]) (TwE.tr (S2 := [17, 19, 20]) (TwE.rf : TwE [] t t) hE_t_4 rfl rfl) hE_t_13 rfl rfl), ⟨by rw [((hE_t_13 17 (by decide)).1).trans hat1, hj1, hfn], hv_t_13, by rw [((hE_t_13 20 (by decide)).1).trans hval]; exact hv0.1, by rw [((hE_t_13 20 (by decide)).1).trans hval, hv1]; unfold nmV; rw [hj1, hfn, show b + j - b = j by omega]⟩⟩ (by omega) (by omega) rfl rfl dX10_readsNumber_77
      ·
        have hfg := b2i_n1.mp c_f
        have hgo := fgE_go hfg
        refine lv_aload_n hx hb dX10_readsNumber_19 rfl (lv_at hl 0 rfl) ?_
        refine lv_aload_n hx hb dX10_readsNumber_20 rfl (lv_at hl 0 rfl) ?_
        refine tw_get X hR hT 20 (by decide) q2961 (v := .int (iI (v))) (congrArg (fun z => some (Value.int (iI z))) (hval)) dX10_readsNumber_21 ?_
        refine lv_ldc (v := iI (9999999)) hx hb X.1.2.2.2.1 (X.1.2.2.2.2 _ q2762) dX10_readsNumber_24 ?_
        refine h_icmp_le hx hb 36 dX10_readsNumber_26 (by decide) (by omega) (by omega) (fun c_16 => ?_) (fun c_16 => ?_)
        ·
          refine h_bipush hx hb dX10_readsNumber_36 (by decide) ?_
          refine lv_aload_n hx hb dX10_readsNumber_38 rfl (lv_at hl 0 rfl) ?_
          refine tw_get X hR hT 20 (by decide) q2961 (v := .int (iI (v))) (congrArg (fun z => some (Value.int (iI z))) (hval)) dX10_readsNumber_39 ?_
          refine h_imul hx hb dX10_readsNumber_42 ?_
          refine lv_aload_n hx hb dX10_readsNumber_43 rfl (lv_at hl 0 rfl) ?_
          refine tw_get X hR hT 14 (by decide) q2955 rfl dX10_readsNumber_44 ?_
          refine lv_aload_n hx hb dX10_readsNumber_47 rfl (lv_at hl 0 rfl) ?_
          refine tw_get X hR hT 17 (by decide) q2958 (v := .int (iI (((b + j : Nat) : Int)))) (congrArg (fun z => some (Value.int (iI z))) (hat1)) dX10_readsNumber_48 ?_
          refine tw_iald X hR hT (k := 14) (by decide) (b + j) (by omega) (by show _ < _; simp only [twN]; omega) (v := bat T (b + j)) ((congrFun ((hE_t_4 14 (by decide)).2) (b + j)).trans (hTx.bt (by omega))) dX10_readsNumber_51 (fun ra_51 => ?_)
          have hbr := bat_r hTx.2.1 (b + j)
          refine h_iadd hx hb dX10_readsNumber_52 ?_
          refine h_bipush hx hb dX10_readsNumber_53 (by decide) ?_
          refine h_isub hx hb dX10_readsNumber_55 ?_
          refine tw_puti X hR hL hT 20 (by decide) q2961 rfl rfl rfl twF_s20 (by omega) dX10_readsNumber_56 (fun t_17 et_18 w_19 hT H locs hR hL => ?_)
          have hE_t_17 := TwE.put et_18
          have hv_t_17 := tput_v et_18
          refine lv_aload_n hx hb dX10_readsNumber_59 rfl (lv_at hl 0 rfl) ?_
          refine lv_dup hx hb dX10_readsNumber_60 rfl ?_
          refine tw_get X hR hT 17 (by decide) q2958 (v := .int (iI (((b + j : Nat) : Int)))) (congrArg (fun z => some (Value.int (iI z))) (((hE_t_17 17 (by decide)).1).trans hat1)) dX10_readsNumber_61 ?_
          refine h_iconst hx hb dX10_readsNumber_64 ?_
          refine h_iadd hx hb dX10_readsNumber_65 ?_
          refine tw_puti X hR hL hT 17 (by decide) q2958 rfl rfl rfl twF_s17 (by omega) dX10_readsNumber_66 (fun t_20 et_21 w_22 hT H locs hR hL => ?_)
          have hE_t_20 := TwE.put et_21
          have hv_t_20 := tput_v et_21
          refine lv_goto (tgt := 5) hx hb dX10_readsNumber_69 (by decide) ?_
          exact ih_6 (j + 1) ((10 * v + (bat T (b + j))) - 48) t_20 w_22 (by omega) (by rw [hj1, hgo.1, Nat.add_assoc]) (by omega) (by show _ = min 1000000 (10 * nmF T b j + bat T (b + j) - 48); omega) hT (TwE.tr (S2 := [17, 19, 20]) (TwE.tr (S2 := [17, 19, 20]) (TwE.tr (S2 := [17, 19, 20]) (TwE.rf : TwE [] t t) hE_t_4 rfl rfl) hE_t_17 rfl rfl) hE_t_20 rfl rfl) ((hv_t_20).trans (by omega)) (((hE_t_20 20 (by decide)).1).trans hv_t_17) (by omega) _ _ _ hR hL (lv_sub hl [0] rfl)
        ·
          refine lv_aload_n hx hb dX10_readsNumber_29 rfl (lv_at hl 0 rfl) ?_
          refine tw_get X hR hT 20 (by decide) q2961 (v := .int (iI (v))) (congrArg (fun z => some (Value.int (iI z))) (hval)) dX10_readsNumber_30 ?_
          refine lv_goto (tgt := 56) hx hb dX10_readsNumber_33 (by decide) ?_
          refine tw_puti X hR hL hT 20 (by decide) q2961 rfl rfl rfl twF_s20 (by omega) dX10_readsNumber_56 (fun t_23 et_24 w_25 hT H locs hR hL => ?_)
          have hE_t_23 := TwE.put et_24
          have hv_t_23 := tput_v et_24
          refine lv_aload_n hx hb dX10_readsNumber_59 rfl (lv_at hl 0 rfl) ?_
          refine lv_dup hx hb dX10_readsNumber_60 rfl ?_
          refine tw_get X hR hT 17 (by decide) q2958 (v := .int (iI (((b + j : Nat) : Int)))) (congrArg (fun z => some (Value.int (iI z))) (((hE_t_23 17 (by decide)).1).trans hat1)) dX10_readsNumber_61 ?_
          refine h_iconst hx hb dX10_readsNumber_64 ?_
          refine h_iadd hx hb dX10_readsNumber_65 ?_
          refine tw_puti X hR hL hT 17 (by decide) q2958 rfl rfl rfl twF_s17 (by omega) dX10_readsNumber_66 (fun t_26 et_27 w_28 hT H locs hR hL => ?_)
          have hE_t_26 := TwE.put et_27
          have hv_t_26 := tput_v et_27
          refine lv_goto (tgt := 5) hx hb dX10_readsNumber_69 (by decide) ?_
          exact ih_6 (j + 1) v t_26 w_28 (by omega) (by rw [hj1, hgo.1, Nat.add_assoc]) (by omega) (by show _ = min 1000000 (10 * nmF T b j + bat T (b + j) - 48); omega) hT (TwE.tr (S2 := [17, 19, 20]) (TwE.tr (S2 := [17, 19, 20]) (TwE.tr (S2 := [17, 19, 20]) (TwE.rf : TwE [] t t) hE_t_4 rfl rfl) hE_t_23 rfl rfl) hE_t_26 rfl rfl) ((hv_t_26).trans (by omega)) (((hE_t_26 20 (by decide)).1).trans hv_t_23) (by omega) _ _ _ hR hL (lv_sub hl [0] rfl)
  exact LOOP_6 _ 0 0 t_1 w_3 (by omega) rfl (by omega) rfl hT (TwE.tr (S2 := [17, 19, 20]) (TwE.rf : TwE [] t t) hE_t_1 rfl rfl) (((hE_t_1 17 (by decide)).1).trans hat) hv_t_1 (Nat.lt_succ_self _) _ _ _ hR hL (lv_sub hl [0] rfl)

set_option maxHeartbeats 4000000 in
set_option maxRecDepth 100000 in
/-- next -/
theorem m_next (l : Launch) (G : Gl) (w : Wd) (a : Nat) (ad : Nat → Nat) (t : Tw) (hT : TwAt G w a ad t)  (T : List Int) (p : Nat) (hTx : TxAt t T) (hat : t.1 17 = (p : Int)) (hp : p ≤ T.length) : HM l yX10_next cX10_next 1 none 3 0 0 G [.ref a] w (QV G (fun w_ => ∃ t_ : Tw, TwS G w w_ a ad t_ ∧ TwE [17, 18, 19, 20] t t_ ∧ ScAt t_ (tok T p))) := by
  refine HM.mk (by decide +kernel) (Nat.le_of_ble_eq_true rfl) ?_
  intro p9 e9 s9 m9 a9 b9 meth9 c9 ls X hret hlk hnm hl H hR
  have hx := X.1.1
  have hb := X.1.2.1
  have hl : lv_has ls 1 [(0, .ref a)] := hl
  have hL : LK G [] := fun q h => absurd h List.not_mem_nil
  generalize ([] : List Loc) = locs at hL ⊢
  have hTb := hT
  have hT : TwS G w w a ad t := TwS.rf hT
  have hT8 := hTx.2.1.1
  have LOOP_3 : ∀ (N_ : Nat) (k : Nat) (t_1 : Tw) (w_2 : Wd), (k ≤ T.length) → (skp T p = skp T k) → (TwS G w w_2 a ad t_1) → (TwE [17] t t_1) → (t_1.1 17 = (k : Int)) → (T.length - k) < N_ → ∀ (H : Heap) (locs : List Loc) (ls : Array Slot), Rp G w_2 H → LK G locs → lv_has ls 1 [(0, .ref a)] → W p9 l e9 (rmk 3 0 0) s9 m9 a9 b9 meth9 c9 H locs 0 0 (MQ b9 (QV G (fun w_ => ∃ t_ : Tw, TwS G w w_ a ad t_ ∧ TwE [17, 18, 19, 20] t t_ ∧ ScAt t_ (tok T p))) a9 s9 0 0 (frG G)) (F0 m9 0 ls []) := by
    intro N_
    induction N_ with
    | zero => intro _ _ _ _ _ _ _ _ h_; exact absurd h_ (Nat.not_lt_zero _)
    | succ N_ ih_ =>
      intro k t_1 w_2 hkl hk1 hT hE_t_1 hat1 hN_ H locs ls hR hL hl
      have ih_3 := ih_
      clear ih_
      refine lv_aload_n hx hb dX10_next_0 rfl (lv_at hl 0 rfl) ?_
      refine lv_aload_n hx hb dX10_next_1 rfl (lv_at hl 0 rfl) ?_
      refine tw_get X hR hT 17 (by decide) q2958 (v := .int (iI ((k : Int)))) (congrArg (fun z => some (Value.int (iI z))) (hat1)) dX10_next_2 ?_
      -- call SpokenMarksModel.byteAt
      refine h_kIp (h_runV X hR (m_byteAt l G w_2 a ad t_1 hT.1 k T (hTx.mv (TwE.tr (S2 := [17, 18, 19, 20, 21, 22]) (TwE.rf : TwE [] t t) hE_t_1 rfl rfl) (by decide) (by decide)) (by omega)) pn_yX10_byteAt (hasC.of hT.1.ob rfl) q2748 q2750 qs36 q161 q2751 ⟨by decide, by decide⟩ hl.1 (Nat.le_of_ble_eq_true rfl) dX10_next_5 ⟨by omega, by omega⟩) hL (fun H locs hR hL => ?_)
      have hbr := bat_r hTx.2.1 k
      refine h_bipush hx hb dX10_next_8 (by decide) ?_
      refine h_icmp_eq hx hb 26 dX10_next_10 (by decide) (by omega) (by omega) (fun c_7 => ?_) (fun c_7 => ?_)
      ·
        have hgo := skp_go (T := T) (k := k) (by omega)
        refine lv_aload_n hx hb dX10_next_26 rfl (lv_at hl 0 rfl) ?_
        refine lv_dup hx hb dX10_next_27 rfl ?_
        refine tw_get X hR hT 17 (by decide) q2958 (v := .int (iI ((k : Int)))) (congrArg (fun z => some (Value.int (iI z))) (hat1)) dX10_next_28 ?_
        refine h_iconst hx hb dX10_next_31 ?_
        refine h_iadd hx hb dX10_next_32 ?_
        refine tw_puti X hR hL hT 17 (by decide) q2958 rfl rfl rfl twF_s17 (by omega) dX10_next_33 (fun t_8 et_9 w_10 hT H locs hR hL => ?_)
        have hE_t_8 := TwE.put et_9
        have hv_t_8 := tput_v et_9
        refine lv_goto (tgt := 0) hx hb dX10_next_36 (by decide) ?_
        exact ih_3 (k + 1) t_8 w_10 (by omega) (hk1.trans hgo.1) hT (TwE.tr (S2 := [17]) (TwE.tr (S2 := [17]) (TwE.rf : TwE [] t t) hE_t_1 rfl rfl) hE_t_8 rfl rfl) ((hv_t_8).trans (by omega)) (by omega) _ _ _ hR hL (lv_sub hl [0] rfl)
      ·
        refine lv_aload_n hx hb dX10_next_13 rfl (lv_at hl 0 rfl) ?_
        refine lv_aload_n hx hb dX10_next_14 rfl (lv_at hl 0 rfl) ?_
        refine tw_get X hR hT 17 (by decide) q2958 (v := .int (iI ((k : Int)))) (congrArg (fun z => some (Value.int (iI z))) (hat1)) dX10_next_15 ?_
        -- call SpokenMarksModel.byteAt
        refine h_kIp (h_runV X hR (m_byteAt l G w_2 a ad t_1 hT.1 k T (hTx.mv (TwE.tr (S2 := [17, 18, 19, 20, 21, 22]) (TwE.rf : TwE [] t t) hE_t_1 rfl rfl) (by decide) (by decide)) (by omega)) pn_yX10_byteAt (hasC.of hT.1.ob rfl) q2748 q2750 qs36 q161 q2751 ⟨by decide, by decide⟩ hl.1 (Nat.le_of_ble_eq_true rfl) dX10_next_18 ⟨by omega, by omega⟩) hL (fun H locs hR hL => ?_)
        have hbr := bat_r hTx.2.1 k
        refine h_bipush hx hb dX10_next_21 (by decide) ?_
        refine h_icmp_ne hx hb 39 dX10_next_23 (by decide) (by omega) (by omega) (fun c_14 => ?_) (fun c_14 => ?_)
        ·
          have hsk : skp T p = k := hk1.trans (skp_no (by omega))
          refine lv_aload_n hx hb dX10_next_39 rfl (lv_at hl 0 rfl) ?_
          refine lv_aload_n hx hb dX10_next_40 rfl (lv_at hl 0 rfl) ?_
          refine tw_get X hR hT 17 (by decide) q2958 (v := .int (iI ((k : Int)))) (congrArg (fun z => some (Value.int (iI z))) (hat1)) dX10_next_41 ?_
          refine tw_puti X hR hL hT 18 (by decide) q2959 rfl rfl rfl twF_s18 (by omega) dX10_next_44 (fun t_15 et_16 w_17 hT H locs hR hL => ?_)
          have hE_t_15 := TwE.put et_16
          have hv_t_15 := tput_v et_16
          refine lv_aload_n hx hb dX10_next_47 rfl (lv_at hl 0 rfl) ?_
          refine tw_get X hR hT 17 (by decide) q2958 (v := .int (iI ((k : Int)))) (congrArg (fun z => some (Value.int (iI z))) (((hE_t_15 17 (by decide)).1).trans hat1)) dX10_next_48 ?_
          refine lv_aload_n hx hb dX10_next_51 rfl (lv_at hl 0 rfl) ?_
          refine tw_get X hR hT 16 (by decide) q2957 (v := .int (iI ((T.length : Int)))) (congrArg (fun z => some (Value.int (iI z))) ((((hE_t_15 16 (by decide)).1).trans (hE_t_1 16 (by decide)).1).trans hTx.1)) dX10_next_52 ?_
          refine h_icmp_lt hx hb 66 dX10_next_55 (by decide) (by omega) (by omega) (fun c_18 => ?_) (fun c_18 => ?_)
          ·
            refine lv_aload_n hx hb dX10_next_66 rfl (lv_at hl 0 rfl) ?_
            refine tw_get X hR hT 14 (by decide) q2955 rfl dX10_next_67 ?_
            refine lv_aload_n hx hb dX10_next_70 rfl (lv_at hl 0 rfl) ?_
            refine tw_get X hR hT 17 (by decide) q2958 (v := .int (iI ((k : Int)))) (congrArg (fun z => some (Value.int (iI z))) (((hE_t_15 17 (by decide)).1).trans hat1)) dX10_next_71 ?_
            refine tw_iald X hR hT (k := 14) (by decide) k (by omega) (by show _ < _; simp only [twN]; omega) (v := bat T k) ((congrFun (((hE_t_15 14 (by decide)).2).trans (hE_t_1 14 (by decide)).2) k).trans (hTx.bt (by omega))) dX10_next_74 (fun ra_74 => ?_)
            have hbr := bat_r hTx.2.1 k
            -- call SpokenMarksModel.isLetter
            refine h_kIp (h_runS X hR (m_isLetter l G w_17  (bat T k) (by omega)) pn_yX10_isLetter q2752 q2753 q161 q2754 ⟨by decide, by decide⟩ hl.1 (Nat.le_of_ble_eq_true rfl) dX10_next_75 ⟨by omega, by omega⟩) hL (fun H locs hR hL => ?_)
            refine h_if_eq hx hb 116 dX10_next_78 (by decide) (by have := b2i_01 (97 ≤ bat T k ∧ bat T k ≤ 122); omega) (fun c_l => ?_) (fun c_l => ?_)
            ·
              have hl1 := b2i_0.mp c_l
              refine lv_aload_n hx hb dX10_next_116 rfl (lv_at hl 0 rfl) ?_
              refine tw_get X hR hT 14 (by decide) q2955 rfl dX10_next_117 ?_
              refine lv_aload_n hx hb dX10_next_120 rfl (lv_at hl 0 rfl) ?_
              refine tw_get X hR hT 17 (by decide) q2958 (v := .int (iI ((k : Int)))) (congrArg (fun z => some (Value.int (iI z))) (((hE_t_15 17 (by decide)).1).trans hat1)) dX10_next_121 ?_
              refine tw_iald X hR hT (k := 14) (by decide) k (by omega) (by show _ < _; simp only [twN]; omega) (v := bat T k) ((congrFun (((hE_t_15 14 (by decide)).2).trans (hE_t_1 14 (by decide)).2) k).trans (hTx.bt (by omega))) dX10_next_124 (fun ra_124 => ?_)
              have hbr := bat_r hTx.2.1 k
              -- call SpokenMarksModel.isFigure
              refine h_kIp (h_runS X hR (m_isFigure l G w_17  (bat T k) (by omega)) pn_yX10_isFigure q2755 q2756 q161 q2757 ⟨by decide, by decide⟩ hl.1 (Nat.le_of_ble_eq_true rfl) dX10_next_125 ⟨by omega, by omega⟩) hL (fun H locs hR hL => ?_)
              refine h_if_eq hx hb 138 dX10_next_128 (by decide) (by have := b2i_01 (48 ≤ bat T k ∧ bat T k ≤ 57); omega) (fun c_f => ?_) (fun c_f => ?_)
              ·
                have hf1 := b2i_0.mp c_f
                refine lv_aload_n hx hb dX10_next_138 rfl (lv_at hl 0 rfl) ?_
                refine lv_aload_n hx hb dX10_next_139 rfl (lv_at hl 0 rfl) ?_
                refine tw_get X hR hT 14 (by decide) q2955 rfl dX10_next_140 ?_
                refine lv_aload_n hx hb dX10_next_143 rfl (lv_at hl 0 rfl) ?_
                refine tw_get X hR hT 17 (by decide) q2958 (v := .int (iI ((k : Int)))) (congrArg (fun z => some (Value.int (iI z))) (((hE_t_15 17 (by decide)).1).trans hat1)) dX10_next_144 ?_
                refine tw_iald X hR hT (k := 14) (by decide) k (by omega) (by show _ < _; simp only [twN]; omega) (v := bat T k) ((congrFun (((hE_t_15 14 (by decide)).2).trans (hE_t_1 14 (by decide)).2) k).trans (hTx.bt (by omega))) dX10_next_147 (fun ra_147 => ?_)
                have hbr := bat_r hTx.2.1 k
                refine h_bipush hx hb dX10_next_148 (by decide) ?_
                refine h_icmp_ne hx hb 157 dX10_next_150 (by decide) (by omega) (by omega) (fun c_25 => ?_) (fun c_25 => ?_)
                ·
                  refine lv_aload_n hx hb dX10_next_157 rfl (lv_at hl 0 rfl) ?_
                  refine tw_get X hR hT 14 (by decide) q2955 rfl dX10_next_158 ?_
                  refine lv_aload_n hx hb dX10_next_161 rfl (lv_at hl 0 rfl) ?_
                  refine tw_get X hR hT 17 (by decide) q2958 (v := .int (iI ((k : Int)))) (congrArg (fun z => some (Value.int (iI z))) (((hE_t_15 17 (by decide)).1).trans hat1)) dX10_next_162 ?_
                  refine tw_iald X hR hT (k := 14) (by decide) k (by omega) (by show _ < _; simp only [twN]; omega) (v := bat T k) ((congrFun (((hE_t_15 14 (by decide)).2).trans (hE_t_1 14 (by decide)).2) k).trans (hTx.bt (by omega))) dX10_next_165 (fun ra_165 => ?_)
                  have hbr := bat_r hTx.2.1 k
                  refine h_bipush hx hb dX10_next_166 (by decide) ?_
                  refine h_icmp_ne hx hb 175 dX10_next_168 (by decide) (by omega) (by omega) (fun c_26 => ?_) (fun c_26 => ?_)
                  ·
                    refine h_iconst hx hb dX10_next_175 ?_
                    have hvk : (if bat T k = 59 then (3 : Int) else if bat T k = 61 then 4 else 5) = 5 := by first | exact if_pos (by omega) | (rw [if_neg (by omega)]; first | exact if_pos (by omega) | exact if_neg (by omega))
                    refine tw_puti X hR hL hT 19 (by decide) q2960 rfl rfl rfl twF_s19 (by omega) dX10_next_176 (fun t_27 et_28 w_29 hT H locs hR hL => ?_)
                    have hE_t_27 := TwE.put et_28
                    have hv_t_27 := tput_v et_28
                    refine lv_aload_n hx hb dX10_next_179 rfl (lv_at hl 0 rfl) ?_
                    refine lv_dup hx hb dX10_next_180 rfl ?_
                    refine tw_get X hR hT 17 (by decide) q2958 (v := .int (iI ((k : Int)))) (congrArg (fun z => some (Value.int (iI z))) ((((hE_t_27 17 (by decide)).1).trans (hE_t_15 17 (by decide)).1).trans hat1)) dX10_next_181 ?_
                    refine h_iconst hx hb dX10_next_184 ?_
                    refine h_iadd hx hb dX10_next_185 ?_
                    refine tw_puti X hR hL hT 17 (by decide) q2958 rfl rfl rfl twF_s17 (by omega) dX10_next_186 (fun t_30 et_31 w_32 hT H locs hR hL => ?_)
                    have hE_t_30 := TwE.put et_31
                    have hv_t_30 := tput_v et_31
                    exact h_vreturn hx hb hlk hret hR hL ⟨t_30, hT, (TwE.tr (S2 := [17, 18, 19, 20]) (TwE.tr (S2 := [17, 18, 19, 20]) (TwE.tr (S2 := [17, 18, 19, 20]) (TwE.tr (S2 := [17, 18, 19, 20]) (TwE.rf : TwE [] t t) hE_t_1 rfl rfl) hE_t_15 rfl rfl) hE_t_27 rfl rfl) hE_t_30 rfl rfl), (by rw [tok_3 hsk (by omega) hl1 hf1 hvk]; exact .of ((((hE_t_30 18 (by decide)).1).trans (hE_t_27 18 (by decide)).1).trans hv_t_15) ((hv_t_30).trans (by omega)) (((hE_t_30 19 (by decide)).1).trans hv_t_27) (by omega))⟩ (by omega) (by omega) rfl rfl dX10_next_189
                  ·
                    refine h_iconst hx hb dX10_next_171 ?_
                    refine lv_goto (tgt := 176) hx hb dX10_next_172 (by decide) ?_
                    have hvk : (if bat T k = 59 then (3 : Int) else if bat T k = 61 then 4 else 5) = 4 := by first | exact if_pos (by omega) | (rw [if_neg (by omega)]; first | exact if_pos (by omega) | exact if_neg (by omega))
                    refine tw_puti X hR hL hT 19 (by decide) q2960 rfl rfl rfl twF_s19 (by omega) dX10_next_176 (fun t_33 et_34 w_35 hT H locs hR hL => ?_)
                    have hE_t_33 := TwE.put et_34
                    have hv_t_33 := tput_v et_34
                    refine lv_aload_n hx hb dX10_next_179 rfl (lv_at hl 0 rfl) ?_
                    refine lv_dup hx hb dX10_next_180 rfl ?_
                    refine tw_get X hR hT 17 (by decide) q2958 (v := .int (iI ((k : Int)))) (congrArg (fun z => some (Value.int (iI z))) ((((hE_t_33 17 (by decide)).1).trans (hE_t_15 17 (by decide)).1).trans hat1)) dX10_next_181 ?_
                    refine h_iconst hx hb dX10_next_184 ?_
                    refine h_iadd hx hb dX10_next_185 ?_
                    refine tw_puti X hR hL hT 17 (by decide) q2958 rfl rfl rfl twF_s17 (by omega) dX10_next_186 (fun t_36 et_37 w_38 hT H locs hR hL => ?_)
                    have hE_t_36 := TwE.put et_37
                    have hv_t_36 := tput_v et_37
                    exact h_vreturn hx hb hlk hret hR hL ⟨t_36, hT, (TwE.tr (S2 := [17, 18, 19, 20]) (TwE.tr (S2 := [17, 18, 19, 20]) (TwE.tr (S2 := [17, 18, 19, 20]) (TwE.tr (S2 := [17, 18, 19, 20]) (TwE.rf : TwE [] t t) hE_t_1 rfl rfl) hE_t_15 rfl rfl) hE_t_33 rfl rfl) hE_t_36 rfl rfl), (by rw [tok_3 hsk (by omega) hl1 hf1 hvk]; exact .of ((((hE_t_36 18 (by decide)).1).trans (hE_t_33 18 (by decide)).1).trans hv_t_15) ((hv_t_36).trans (by omega)) (((hE_t_36 19 (by decide)).1).trans hv_t_33) (by omega))⟩ (by omega) (by omega) rfl rfl dX10_next_189
                ·
                  refine h_iconst hx hb dX10_next_153 ?_
                  refine lv_goto (tgt := 176) hx hb dX10_next_154 (by decide) ?_
                  have hvk : (if bat T k = 59 then (3 : Int) else if bat T k = 61 then 4 else 5) = 3 := by first | exact if_pos (by omega) | (rw [if_neg (by omega)]; first | exact if_pos (by omega) | exact if_neg (by omega))
                  refine tw_puti X hR hL hT 19 (by decide) q2960 rfl rfl rfl twF_s19 (by omega) dX10_next_176 (fun t_39 et_40 w_41 hT H locs hR hL => ?_)
                  have hE_t_39 := TwE.put et_40
                  have hv_t_39 := tput_v et_40
                  refine lv_aload_n hx hb dX10_next_179 rfl (lv_at hl 0 rfl) ?_
                  refine lv_dup hx hb dX10_next_180 rfl ?_
                  refine tw_get X hR hT 17 (by decide) q2958 (v := .int (iI ((k : Int)))) (congrArg (fun z => some (Value.int (iI z))) ((((hE_t_39 17 (by decide)).1).trans (hE_t_15 17 (by decide)).1).trans hat1)) dX10_next_181 ?_
                  refine h_iconst hx hb dX10_next_184 ?_
                  refine h_iadd hx hb dX10_next_185 ?_
                  refine tw_puti X hR hL hT 17 (by decide) q2958 rfl rfl rfl twF_s17 (by omega) dX10_next_186 (fun t_42 et_43 w_44 hT H locs hR hL => ?_)
                  have hE_t_42 := TwE.put et_43
                  have hv_t_42 := tput_v et_43
                  exact h_vreturn hx hb hlk hret hR hL ⟨t_42, hT, (TwE.tr (S2 := [17, 18, 19, 20]) (TwE.tr (S2 := [17, 18, 19, 20]) (TwE.tr (S2 := [17, 18, 19, 20]) (TwE.tr (S2 := [17, 18, 19, 20]) (TwE.rf : TwE [] t t) hE_t_1 rfl rfl) hE_t_15 rfl rfl) hE_t_39 rfl rfl) hE_t_42 rfl rfl), (by rw [tok_3 hsk (by omega) hl1 hf1 hvk]; exact .of ((((hE_t_42 18 (by decide)).1).trans (hE_t_39 18 (by decide)).1).trans hv_t_15) ((hv_t_42).trans (by omega)) (((hE_t_42 19 (by decide)).1).trans hv_t_39) (by omega))⟩ (by omega) (by omega) rfl rfl dX10_next_189
              ·
                have hf1 := b2i_n1.mp c_f
                refine lv_aload_n hx hb dX10_next_131 rfl (lv_at hl 0 rfl) ?_
                -- call SpokenMarksModel.readsNumber
                refine h_kV (h_runV X hR (m_readsNumber l G w_17 a ad t_15 hT.1 T k (hTx.mv (TwE.tr (S2 := [17, 18, 19, 20, 21, 22]) (TwE.tr (S2 := [17, 18, 19, 20, 21, 22]) (TwE.rf : TwE [] t t) hE_t_1 rfl rfl) hE_t_15 rfl rfl) (by decide) (by decide)) (((hE_t_15 17 (by decide)).1).trans hat1) (by omega)) pn_yX10_readsNumber (hasC.of hT.1.ob rfl) q2758 q2760 qs37 q161 q2761 ⟨by decide, by decide⟩ hl.1 (Nat.le_of_ble_eq_true rfl) dX10_next_132 ⟨by omega, by omega⟩) hL (fun w_46 hp_47 H locs hR hL => ?_)
                obtain ⟨t_48, hT2, hE_t_48, et_49⟩ := hp_47
                have hT := hT.tr hT2
                clear hT2
                refine lv_goto (tgt := 189) hx hb dX10_next_135 (by decide) ?_
                exact h_vreturn hx hb hlk hret hR hL ⟨t_48, hT, (TwE.tr (S2 := [17, 18, 19, 20]) (TwE.tr (S2 := [17, 18, 19, 20]) (TwE.tr (S2 := [17, 18, 19, 20]) (TwE.rf : TwE [] t t) hE_t_1 rfl rfl) hE_t_15 rfl rfl) hE_t_48 rfl rfl), (by rw [tok_2 hsk (by omega) hl1 hf1]; exact ⟨((hE_t_48 18 (by decide)).1).trans hv_t_15, et_49.1, et_49.2.1, fun _ => et_49.2.2⟩)⟩ (by omega) (by omega) rfl rfl dX10_next_189
            ·
              have hl1 := b2i_n1.mp c_l
              have LOOP_52 : ∀ (N_ : Nat) (j : Nat) (t_50 : Tw) (w_51 : Wd), (j ≤ T.length) → (ltE T k = ltE T j) → (TwS G w w_51 a ad t_50) → (TwE [17] t_15 t_50) → (t_50.1 17 = (j : Int)) → (T.length - j) < N_ → ∀ (H : Heap) (locs : List Loc) (ls : Array Slot), Rp G w_51 H → LK G locs → lv_has ls 1 [(0, .ref a)] → W p9 l e9 (rmk 3 0 0) s9 m9 a9 b9 meth9 c9 H locs 0 0 (MQ b9 (QV G (fun w_ => ∃ t_ : Tw, TwS G w w_ a ad t_ ∧ TwE [17, 18, 19, 20] t t_ ∧ ScAt t_ (tok T p))) a9 s9 0 0 (frG G)) (F0 m9 81 ls []) := by
                intro N_
                induction N_ with
                | zero => intro _ _ _ _ _ _ _ _ h_; exact absurd h_ (Nat.not_lt_zero _)
                | succ N_ ih_ =>
                  intro j t_50 w_51 hjl hj1 hT hE_t_50 hat2 hN_ H locs ls hR hL hl
                  have ih_52 := ih_
                  clear ih_
                  refine lv_aload_n hx hb dX10_next_81 rfl (lv_at hl 0 rfl) ?_
                  refine lv_aload_n hx hb dX10_next_82 rfl (lv_at hl 0 rfl) ?_
                  refine tw_get X hR hT 17 (by decide) q2958 (v := .int (iI ((j : Int)))) (congrArg (fun z => some (Value.int (iI z))) (hat2)) dX10_next_83 ?_
                  -- call SpokenMarksModel.byteAt
                  refine h_kIp (h_runV X hR (m_byteAt l G w_51 a ad t_50 hT.1 j T (hTx.mv (TwE.tr (S2 := [17, 18, 19, 20, 21, 22]) (TwE.tr (S2 := [17, 18, 19, 20, 21, 22]) (TwE.tr (S2 := [17, 18, 19, 20, 21, 22]) (TwE.rf : TwE [] t t) hE_t_1 rfl rfl) hE_t_15 rfl rfl) hE_t_50 rfl rfl) (by decide) (by decide)) (by omega)) pn_yX10_byteAt (hasC.of hT.1.ob rfl) q2748 q2750 qs36 q161 q2751 ⟨by decide, by decide⟩ hl.1 (Nat.le_of_ble_eq_true rfl) dX10_next_86 ⟨by omega, by omega⟩) hL (fun H locs hR hL => ?_)
                  have hbr := bat_r hTx.2.1 j
                  -- call SpokenMarksModel.isLetter
                  refine h_kIp (h_runS X hR (m_isLetter l G w_51  (bat T j) (by omega)) pn_yX10_isLetter q2752 q2753 q161 q2754 ⟨by decide, by decide⟩ hl.1 (Nat.le_of_ble_eq_true rfl) dX10_next_89 ⟨by omega, by omega⟩) hL (fun H locs hR hL => ?_)
                  refine h_if_eq hx hb 108 dX10_next_92 (by decide) (by have := b2i_01 (97 ≤ bat T j ∧ bat T j ≤ 122); omega) (fun c_m => ?_) (fun c_m => ?_)
                  ·
                    have hln := ltE_no (b2i_0.mp c_m)
                    refine lv_aload_n hx hb dX10_next_108 rfl (lv_at hl 0 rfl) ?_
                    refine h_iconst hx hb dX10_next_109 ?_
                    refine tw_puti X hR hL hT 19 (by decide) q2960 rfl rfl rfl twF_s19 (by omega) dX10_next_110 (fun t_59 et_60 w_61 hT H locs hR hL => ?_)
                    have hE_t_59 := TwE.put et_60
                    have hv_t_59 := tput_v et_60
                    refine lv_goto (tgt := 189) hx hb dX10_next_113 (by decide) ?_
                    exact h_vreturn hx hb hlk hret hR hL ⟨t_59, hT, (TwE.tr (S2 := [17, 18, 19, 20]) (TwE.tr (S2 := [17, 18, 19, 20]) (TwE.tr (S2 := [17, 18, 19, 20]) (TwE.tr (S2 := [17, 18, 19, 20]) (TwE.rf : TwE [] t t) hE_t_1 rfl rfl) hE_t_15 rfl rfl) hE_t_50 rfl rfl) hE_t_59 rfl rfl), (by rw [tok_1 hsk (by omega) hl1]; exact .of ((((hE_t_59 18 (by decide)).1).trans (hE_t_50 18 (by decide)).1).trans hv_t_15) ((((hE_t_59 17 (by decide)).1).trans hat2).trans (by rw [hj1, hln])) (hv_t_59) (by decide))⟩ (by omega) (by omega) rfl rfl dX10_next_189
                  ·
                    have hlg := ltE_go (b2i_n1.mp c_m)
                    refine lv_aload_n hx hb dX10_next_95 rfl (lv_at hl 0 rfl) ?_
                    refine lv_dup hx hb dX10_next_96 rfl ?_
                    refine tw_get X hR hT 17 (by decide) q2958 (v := .int (iI ((j : Int)))) (congrArg (fun z => some (Value.int (iI z))) (hat2)) dX10_next_97 ?_
                    refine h_iconst hx hb dX10_next_100 ?_
                    refine h_iadd hx hb dX10_next_101 ?_
                    refine tw_puti X hR hL hT 17 (by decide) q2958 rfl rfl rfl twF_s17 (by omega) dX10_next_102 (fun t_62 et_63 w_64 hT H locs hR hL => ?_)
                    have hE_t_62 := TwE.put et_63
                    have hv_t_62 := tput_v et_63
                    refine lv_goto (tgt := 81) hx hb dX10_next_105 (by decide) ?_
                    exact ih_52 (j + 1) t_62 w_64 (by omega) (hj1.trans hlg.1) hT (TwE.tr (S2 := [17]) (TwE.tr (S2 := [17]) (TwE.rf : TwE [] t_15 t_15) hE_t_50 rfl rfl) hE_t_62 rfl rfl) ((hv_t_62).trans (by omega)) (by omega) _ _ _ hR hL (lv_sub hl [0] rfl)
              exact LOOP_52 _ k t_15 w_17 (by omega) rfl hT (TwE.rf : TwE [17] t_15 t_15) (((hE_t_15 17 (by decide)).1).trans hat1) (Nat.lt_succ_self _) _ _ _ hR hL (lv_sub hl [0] rfl)
          ·
            refine lv_aload_n hx hb dX10_next_58 rfl (lv_at hl 0 rfl) ?_
            refine h_iconst hx hb dX10_next_59 ?_
            refine tw_puti X hR hL hT 19 (by decide) q2960 rfl rfl rfl twF_s19 (by omega) dX10_next_60 (fun t_65 et_66 w_67 hT H locs hR hL => ?_)
            have hE_t_65 := TwE.put et_66
            have hv_t_65 := tput_v et_66
            refine lv_goto (tgt := 189) hx hb dX10_next_63 (by decide) ?_
            exact h_vreturn hx hb hlk hret hR hL ⟨t_65, hT, (TwE.tr (S2 := [17, 18, 19, 20]) (TwE.tr (S2 := [17, 18, 19, 20]) (TwE.tr (S2 := [17, 18, 19, 20]) (TwE.rf : TwE [] t t) hE_t_1 rfl rfl) hE_t_15 rfl rfl) hE_t_65 rfl rfl), (by rw [tok_0 hsk (by omega)]; exact .of (((hE_t_65 18 (by decide)).1).trans hv_t_15) ((((hE_t_65 17 (by decide)).1).trans (hE_t_15 17 (by decide)).1).trans hat1) (hv_t_65) (by decide))⟩ (by omega) (by omega) rfl rfl dX10_next_189
        ·
          have hgo := skp_go (T := T) (k := k) (by omega)
          refine lv_aload_n hx hb dX10_next_26 rfl (lv_at hl 0 rfl) ?_
          refine lv_dup hx hb dX10_next_27 rfl ?_
          refine tw_get X hR hT 17 (by decide) q2958 (v := .int (iI ((k : Int)))) (congrArg (fun z => some (Value.int (iI z))) (hat1)) dX10_next_28 ?_
          refine h_iconst hx hb dX10_next_31 ?_
          refine h_iadd hx hb dX10_next_32 ?_
          refine tw_puti X hR hL hT 17 (by decide) q2958 rfl rfl rfl twF_s17 (by omega) dX10_next_33 (fun t_68 et_69 w_70 hT H locs hR hL => ?_)
          have hE_t_68 := TwE.put et_69
          have hv_t_68 := tput_v et_69
          refine lv_goto (tgt := 0) hx hb dX10_next_36 (by decide) ?_
          exact ih_3 (k + 1) t_68 w_70 (by omega) (hk1.trans hgo.1) hT (TwE.tr (S2 := [17]) (TwE.tr (S2 := [17]) (TwE.rf : TwE [] t t) hE_t_1 rfl rfl) hE_t_68 rfl rfl) ((hv_t_68).trans (by omega)) (by omega) _ _ _ hR hL (lv_sub hl [0] rfl)
  exact LOOP_3 _ p t w hp rfl hT (TwE.rf : TwE [17] t t) hat (Nat.lt_succ_self _) _ _ _ hR hL (lv_sub hl [0] rfl)
