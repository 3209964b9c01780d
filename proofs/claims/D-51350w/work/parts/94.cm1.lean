/-! the component: small helpers, parts -/
set_option maxRecDepth 100000

theorem pn_yX1_inRange : ParN yX1_inRange 3 := by decide +kernel
theorem pn_yJ17_compare : ParN yJ17_compare 2 := by decide +kernel
theorem pn_yJ10_compareTo_2 : ParN yJ10_compareTo_2 1 := by decide +kernel

set_option maxHeartbeats 4000000 in
set_option maxRecDepth 100000 in
/-- SpokenMarks.inRange -/
theorem c_inr (l : Launch) (G : Gl) (w : Wd) (v lo hi : Int) (h1 : R32 v) (h2 : R32 lo) (h3 : R32 hi) : HM l yX1_inRange cX1_inRange 3 (some .boolean) 1 0 0 G [.int (iI (v)), .int (iI (lo)), .int (iI (hi))] w (QI G (fun z_ w_ => z_ = b2i (lo ≤ v ∧ v ≤ hi) ∧ w_ = w)) := by
  refine HM.mk (by decide +kernel) (Nat.le_of_ble_eq_true rfl) ?_
  intro p9 e9 s9 m9 a9 b9 meth9 c9 ls X hret hlk hnm hl H hR
  have hx := X.1.1
  have hb := X.1.2.1
  have hl : lv_has ls 3 [(0, .int (iI (v))), (1, .int (iI (lo))), (2, .int (iI (hi)))] := hl
  have hL : LK G [] := fun q h => absurd h List.not_mem_nil
  generalize ([] : List Loc) = locs at hL ⊢
  refine lv_iload_n hx hb dX1_inRange_0 rfl (lv_at hl 1 rfl) ?_
  refine lv_iload_n hx hb dX1_inRange_1 rfl (lv_at hl 0 rfl) ?_
  refine h_icmp_gt hx hb 14 dX1_inRange_2 (by decide) (by omega) (by omega) (fun c_a => ?_) (fun c_a => ?_)
  ·
    refine h_iconst hx hb dX1_inRange_14 ?_
    exact h_ireturn hx hb hlk hret hR hL (nar01 (by omega)) ⟨by first | exact (b2i_t (by omega)).symm | exact (b2i_f (by omega)).symm, rfl⟩ (by omega) (by omega) rfl rfl dX1_inRange_15
  ·
    refine lv_iload_n hx hb dX1_inRange_5 rfl (lv_at hl 0 rfl) ?_
    refine lv_iload_n hx hb dX1_inRange_6 rfl (lv_at hl 2 rfl) ?_
    refine h_icmp_gt hx hb 14 dX1_inRange_7 (by decide) (by omega) (by omega) (fun c_b => ?_) (fun c_b => ?_)
    ·
      refine h_iconst hx hb dX1_inRange_14 ?_
      exact h_ireturn hx hb hlk hret hR hL (nar01 (by omega)) ⟨by first | exact (b2i_t (by omega)).symm | exact (b2i_f (by omega)).symm, rfl⟩ (by omega) (by omega) rfl rfl dX1_inRange_15
    ·
      refine h_iconst hx hb dX1_inRange_10 ?_
      refine lv_goto (tgt := 15) hx hb dX1_inRange_11 (by decide) ?_
      exact h_ireturn hx hb hlk hret hR hL (nar01 (by omega)) ⟨by first | exact (b2i_t (by omega)).symm | exact (b2i_f (by omega)).symm, rfl⟩ (by omega) (by omega) rfl rfl dX1_inRange_15

set_option maxHeartbeats 4000000 in
set_option maxRecDepth 100000 in
/-- SpokenMarks.bit -/
theorem c_bit (l : Launch) (G : Gl) (w : Wd) (x : Int) (h1 : 0 ≤ x ∧ x ≤ 1) : HM l yX1_bit cX1_bit 1 (some .int) 1 0 0 G [.int (iI (x))] w (QI G (fun z_ w_ => z_ = x ∧ w_ = w)) := by
  refine HM.mk (by decide +kernel) (Nat.le_of_ble_eq_true rfl) ?_
  intro p9 e9 s9 m9 a9 b9 meth9 c9 ls X hret hlk hnm hl H hR
  have hx := X.1.1
  have hb := X.1.2.1
  have hl : lv_has ls 1 [(0, .int (iI (x)))] := hl
  have hL : LK G [] := fun q h => absurd h List.not_mem_nil
  generalize ([] : List Loc) = locs at hL ⊢
  refine lv_iload_n hx hb dX1_bit_0 rfl (lv_at hl 0 rfl) ?_
  refine h_if_eq hx hb 8 dX1_bit_1 (by decide) (by omega) (fun c_a => ?_) (fun c_a => ?_)
  ·
    refine h_iconst hx hb dX1_bit_8 ?_
    exact h_ireturn hx hb hlk hret hR hL rfl ⟨by omega, rfl⟩ (by omega) (by omega) rfl rfl dX1_bit_9
  ·
    refine h_iconst hx hb dX1_bit_4 ?_
    refine lv_goto (tgt := 9) hx hb dX1_bit_5 (by decide) ?_
    exact h_ireturn hx hb hlk hret hR hL rfl ⟨by omega, rfl⟩ (by omega) (by omega) rfl rfl dX1_bit_9

set_option maxHeartbeats 4000000 in
set_option maxRecDepth 100000 in
/-- Integer.compare -/
theorem in_cmp (l : Launch) (G : Gl) (w : Wd) (x y : Int) (h1 : R32 x) (h2 : R32 y) : HM l yJ17_compare cJ17_compare 2 (some .int) 1 0 0 G [.int (iI (x)), .int (iI (y))] w (QI G (fun z_ w_ => z_ = cmpZ x y ∧ w_ = w)) := by
  refine HM.mk (by decide +kernel) (Nat.le_of_ble_eq_true rfl) ?_
  intro p9 e9 s9 m9 a9 b9 meth9 c9 ls X hret hlk hnm hl H hR
  have hx := X.1.1
  have hb := X.1.2.1
  have hl : lv_has ls 2 [(0, .int (iI (x))), (1, .int (iI (y)))] := hl
  have hL : LK G [] := fun q h => absurd h List.not_mem_nil
  generalize ([] : List Loc) = locs at hL ⊢
  refine lv_iload_n hx hb dJ17_compare_0 rfl (lv_at hl 0 rfl) ?_
  refine lv_iload_n hx hb dJ17_compare_1 rfl (lv_at hl 1 rfl) ?_
  refine h_icmp_ge hx hb 9 dJ17_compare_2 (by decide) (by omega) (by omega) (fun c_a => ?_) (fun c_a => ?_)
  ·
    refine lv_iload_n hx hb dJ17_compare_9 rfl (lv_at hl 0 rfl) ?_
    refine lv_iload_n hx hb dJ17_compare_10 rfl (lv_at hl 1 rfl) ?_
    refine h_icmp_ne hx hb 18 dJ17_compare_11 (by decide) (by omega) (by omega) (fun c_b => ?_) (fun c_b => ?_)
    ·
      refine h_iconst hx hb dJ17_compare_18 ?_
      exact h_ireturn hx hb hlk hret hR hL rfl ⟨by unfold cmpZ; (repeat' split) <;> omega, rfl⟩ (by omega) (by omega) rfl rfl dJ17_compare_19
    ·
      refine h_iconst hx hb dJ17_compare_14 ?_
      refine lv_goto (tgt := 19) hx hb dJ17_compare_15 (by decide) ?_
      exact h_ireturn hx hb hlk hret hR hL rfl ⟨by unfold cmpZ; (repeat' split) <;> omega, rfl⟩ (by omega) (by omega) rfl rfl dJ17_compare_19
  ·
    refine h_iconst hx hb dJ17_compare_5 ?_
    refine lv_goto (tgt := 19) hx hb dJ17_compare_6 (by decide) ?_
    exact h_ireturn hx hb hlk hret hR hL rfl ⟨by unfold cmpZ; (repeat' split) <;> omega, rfl⟩ (by omega) (by omega) rfl rfl dJ17_compare_19

set_option maxHeartbeats 4000000 in
set_option maxRecDepth 100000 in
/-- SpokenMarks.letterAt -/
theorem c_let (l : Launch) (G : Gl) (w : Wd) (a : Nat) (L : List Int) (hS : StrAt G w a L) (i : Int) (h1 : R32 i) : HM l yX1_letterAt cX1_letterAt 2 (some .int) 5 0 0 G [.ref a, .int (iI (i))] w (QI G (fun z_ w_ => z_ = (if 0 ≤ i ∧ i < (L.length : Int) then L.getD i.toNat 0 else -1) ∧ w_ = w)) := by
  refine HM.mk (by decide +kernel) (Nat.le_of_ble_eq_true rfl) ?_
  intro p9 e9 s9 m9 a9 b9 meth9 c9 ls X hret hlk hnm hl H hR
  have hx := X.1.1
  have hb := X.1.2.1
  have hl : lv_has ls 2 [(0, .ref a), (1, .int (iI (i)))] := hl
  have hL : LK G [] := fun q h => absurd h List.not_mem_nil
  generalize ([] : List Loc) = locs at hL ⊢
  have hLl : L.length < 1000000 := by obtain ⟨_, _, _, h_, _⟩ := hS; exact h_
  refine lv_iload_n hx hb dX1_letterAt_0 rfl (lv_at hl 1 rfl) ?_
  refine h_iconst hx hb dX1_letterAt_1 ?_
  refine lv_aload_n hx hb dX1_letterAt_2 rfl (lv_at hl 0 rfl) ?_
  -- call java/lang/String.length
  refine h_kIp (h_runV X hR (s_length l G w a L hS) pn_yJ10_length (hS.c) q1992 q373 q374 q132 q375 ⟨by decide, by decide⟩ hl.1 (Nat.le_of_ble_eq_true rfl) dX1_letterAt_3 ⟨by omega, by omega⟩) hL (fun H locs hR hL => ?_)
  refine h_iconst hx hb dX1_letterAt_6 ?_
  refine h_isub hx hb dX1_letterAt_7 ?_
  -- call SpokenMarks.inRange
  refine h_kIp (h_runS X hR (c_inr l G w i 0 (((L.length : Int)) - 1) (by omega) (by omega) (by omega)) pn_yX1_inRange q1740 q1741 q120 q1742 ⟨by decide, by decide⟩ hl.1 (Nat.le_of_ble_eq_true rfl) dX1_letterAt_8 ⟨by omega, by omega⟩) hL (fun H locs hR hL => ?_)
  refine h_if_eq hx hb 22 dX1_letterAt_11 (by decide) (by have := b2i_01 (0 ≤ i ∧ i ≤ (L.length : Int) - 1); omega) (fun c_r => ?_) (fun c_r => ?_)
  ·
    have c_s := b2i_0.mp c_r
    refine h_iconst hx hb dX1_letterAt_22 ?_
    exact h_ireturn hx hb hlk hret hR hL rfl ⟨by first | exact (if_pos (by omega)).symm | exact (if_neg (by omega)).symm, rfl⟩ (by omega) (by omega) rfl rfl dX1_letterAt_23
  ·
    have c_s := b2i_n1.mp c_r
    refine lv_aload_n hx hb dX1_letterAt_14 rfl (lv_at hl 0 rfl) ?_
    refine lv_iload_n hx hb dX1_letterAt_15 rfl (lv_at hl 1 rfl) ?_
    refine W.eq (g2 := F0 m9 16 ls [.int (iI (((i.toNat : Nat) : Int))), .ref a]) (congrArg (fun z_ : Int => F0 m9 16 ls [.int (iI (z_)), .ref a]) (show (i : Int) = ((i.toNat : Nat) : Int) from (by omega))) ?_
    -- call java/lang/String.charAt
    refine h_kIp (h_runV X hR (s_charAt l G w a L hS i.toNat (by omega)) pn_yJ10_charAt (hS.c) q1993 q1459 q1460 q132 q1461 ⟨by decide, by decide⟩ hl.1 (Nat.le_of_ble_eq_true rfl) dX1_letterAt_16 ⟨by omega, by omega⟩) hL (fun H locs hR hL => ?_)
    refine lv_goto (tgt := 23) hx hb dX1_letterAt_19 (by decide) ?_
    exact h_ireturn hx hb hlk hret hR hL rfl ⟨by first | exact (if_pos (by omega)).symm | exact (if_neg (by omega)).symm, rfl⟩ (by omega) (by omega) rfl rfl dX1_letterAt_23

set_option maxHeartbeats 4000000 in
set_option maxRecDepth 100000 in
/-- SpokenMarks$Figure.<init> -/
theorem fg_init (l : Launch) (G : Gl) (w : Wd) (r : Nat) (hr : r ≠ 0) (q : Nat) (n : Int) (hA : w q = some (r, oE 5 [.int (iI (0))])) (hG : RegW w) : HM l yX9_init cX9_init 2 none 1 0 0 G [.ref q, .int (iI (n))] w (QV G (fun w_ => w_ q = some (r, oE 5 [.int (iI (n))]) ∧ Up (fun q_ => q_ = r) w w_)) := by
  refine HM.mk (by decide +kernel) (Nat.le_of_ble_eq_true rfl) ?_
  intro p9 e9 s9 m9 a9 b9 meth9 c9 ls X hret hlk hnm hl H hR
  have hx := X.1.1
  have hb := X.1.2.1
  have hl : lv_has ls 2 [(0, .ref q), (1, .int (iI (n)))] := hl
  have hL : LK G [] := fun q h => absurd h List.not_mem_nil
  generalize ([] : List Loc) = locs at hL ⊢
  have hU : Up (fun q_ => q_ = r) w w := Up.rf hG
  refine lv_aload_n hx hb dX9_init_0 rfl (lv_at hl 0 rfl) ?_
  refine W.objInit hx hb X.1.2.2.2.1 (X.1.2.2.2.2 _ q1662) (X.1.2.2.2.2 _ q180) (X.1.2.2.2.2 _ q181) rfl (by rw [X.1.2.2.1]; exact hl.1) rfl dX9_init_1 (Nat.le_of_ble_eq_true rfl) (Nat.le_of_ble_eq_true rfl) ?_
  refine W.eq (g2 := F0 m9 4 ls []) rfl ?_
  refine lv_aload_n hx hb dX9_init_4 rfl (lv_at hl 0 rfl) ?_
  refine lv_iload_n hx hb dX9_init_5 rfl (lv_at hl 1 rfl) ?_
  refine h_putF X hnm hR hL hA hr rfl in_X9 tyX9_ok nmX9 0 (by decide) q1663 rfl rfl rfl rfl (Nat.le_of_ble_eq_true rfl) dX9_init_6 (fun w_1 ew_2 H locs hR hL => ?_)
  have hU : Up (fun q_ => q_ = r) w w_1 := by rw [ew_2]; exact hU.set hA (by first | exact Or.inl rfl | exact Or.inl (by omega) | exact Or.inr ⟨Nat.succ_ne_zero _, by rw [Nat.add_sub_cancel]; assumption⟩ | exact Or.inr ⟨by omega, by assumption⟩) hG _
  have hF_q_w_1 : w_1 q = some (r, oE 5 [.int (iI (n))]) := by rw [ew_2]; exact wset_eq _ _ _
  exact h_vreturn hx hb hlk hret hR hL ⟨hF_q_w_1, hU⟩ (by omega) (by omega) rfl rfl dX9_init_9

set_option maxHeartbeats 4000000 in
set_option maxRecDepth 100000 in
/-- SpokenMarks$Word.<init> -/
theorem wd_init (l : Launch) (G : Gl) (w : Wd) (r : Nat) (hr : r ≠ 0) (q : Nat) (la ea : Nat) (hA : w q = some (r, oE 4 [.null, .null])) (hG : RegW w) : HM l yX6_init cX6_init 3 none 1 0 0 G [.ref q, .ref la, .ref ea] w (QV G (fun w_ => w_ q = some (r, oE 4 [.ref la, .ref ea]) ∧ Up (fun q_ => q_ = r) w w_)) := by
  refine HM.mk (by decide +kernel) (Nat.le_of_ble_eq_true rfl) ?_
  intro p9 e9 s9 m9 a9 b9 meth9 c9 ls X hret hlk hnm hl H hR
  have hx := X.1.1
  have hb := X.1.2.1
  have hl : lv_has ls 3 [(0, .ref q), (1, .ref la), (2, .ref ea)] := hl
  have hL : LK G [] := fun q h => absurd h List.not_mem_nil
  generalize ([] : List Loc) = locs at hL ⊢
  have hU : Up (fun q_ => q_ = r) w w := Up.rf hG
  refine lv_aload_n hx hb dX6_init_0 rfl (lv_at hl 0 rfl) ?_
  refine W.objInit hx hb X.1.2.2.2.1 (X.1.2.2.2.2 _ q1518) (X.1.2.2.2.2 _ q180) (X.1.2.2.2.2 _ q181) rfl (by rw [X.1.2.2.1]; exact hl.1) rfl dX6_init_1 (Nat.le_of_ble_eq_true rfl) (Nat.le_of_ble_eq_true rfl) ?_
  refine W.eq (g2 := F0 m9 4 ls []) rfl ?_
  refine lv_aload_n hx hb dX6_init_4 rfl (lv_at hl 0 rfl) ?_
  refine lv_aload_n hx hb dX6_init_5 rfl (lv_at hl 1 rfl) ?_
  refine h_putF X hnm hR hL hA hr rfl in_X6 tyX6_ok nmX6 0 (by decide) q1519 rfl rfl rfl rfl (Nat.le_of_ble_eq_true rfl) dX6_init_6 (fun w_1 ew_2 H locs hR hL => ?_)
  have hU : Up (fun q_ => q_ = r) w w_1 := by rw [ew_2]; exact hU.set hA (by first | exact Or.inl rfl | exact Or.inl (by omega) | exact Or.inr ⟨Nat.succ_ne_zero _, by rw [Nat.add_sub_cancel]; assumption⟩ | exact Or.inr ⟨by omega, by assumption⟩) hG _
  have hF_q_w_1 : w_1 q = some (r, oE 4 [.ref la, .null]) := by rw [ew_2]; exact wset_eq _ _ _
  refine lv_aload_n hx hb dX6_init_9 rfl (lv_at hl 0 rfl) ?_
  refine lv_aload_n hx hb dX6_init_10 rfl (lv_at hl 2 rfl) ?_
  refine h_putF X hnm hR hL hF_q_w_1 hr rfl in_X6 tyX6_ok nmX6 1 (by decide) q1523 rfl rfl rfl rfl (Nat.le_of_ble_eq_true rfl) dX6_init_11 (fun w_3 ew_4 H locs hR hL => ?_)
  have hU : Up (fun q_ => q_ = r) w w_3 := by rw [ew_4]; exact hU.set hF_q_w_1 (by first | exact Or.inl rfl | exact Or.inl (by omega) | exact Or.inr ⟨Nat.succ_ne_zero _, by rw [Nat.add_sub_cancel]; assumption⟩ | exact Or.inr ⟨by omega, by assumption⟩) hG _
  have hF_q_w_3 : w_3 q = some (r, oE 4 [.ref la, .ref ea]) := by rw [ew_4]; exact wset_eq _ _ _
  exact h_vreturn hx hb hlk hret hR hL ⟨hF_q_w_3, hU⟩ (by omega) (by omega) rfl rfl dX6_init_14

set_option maxHeartbeats 4000000 in
set_option maxRecDepth 100000 in
/-- SpokenMarks$Rule.<init> -/
theorem ru_init (l : Launch) (G : Gl) (w : Wd) (r : Nat) (hr : r ≠ 0) (q : Nat) (fa sa : Nat) (hA : w q = some (r, oE 6 [.null, .null])) (hG : RegW w) : HM l yX4_init cX4_init 3 none 1 0 0 G [.ref q, .ref fa, .ref sa] w (QV G (fun w_ => w_ q = some (r, oE 6 [.ref fa, .ref sa]) ∧ Up (fun q_ => q_ = r) w w_)) := by
  refine HM.mk (by decide +kernel) (Nat.le_of_ble_eq_true rfl) ?_
  intro p9 e9 s9 m9 a9 b9 meth9 c9 ls X hret hlk hnm hl H hR
  have hx := X.1.1
  have hb := X.1.2.1
  have hl : lv_has ls 3 [(0, .ref q), (1, .ref fa), (2, .ref sa)] := hl
  have hL : LK G [] := fun q h => absurd h List.not_mem_nil
  generalize ([] : List Loc) = locs at hL ⊢
  have hU : Up (fun q_ => q_ = r) w w := Up.rf hG
  refine lv_aload_n hx hb dX4_init_0 rfl (lv_at hl 0 rfl) ?_
  refine W.objInit hx hb X.1.2.2.2.1 (X.1.2.2.2.2 _ q643) (X.1.2.2.2.2 _ q180) (X.1.2.2.2.2 _ q181) rfl (by rw [X.1.2.2.1]; exact hl.1) rfl dX4_init_1 (Nat.le_of_ble_eq_true rfl) (Nat.le_of_ble_eq_true rfl) ?_
  refine W.eq (g2 := F0 m9 4 ls []) rfl ?_
  refine lv_aload_n hx hb dX4_init_4 rfl (lv_at hl 0 rfl) ?_
  refine lv_aload_n hx hb dX4_init_5 rfl (lv_at hl 1 rfl) ?_
  refine h_putF X hnm hR hL hA hr rfl in_X4 tyX4_ok nmX4 0 (by decide) q644 rfl rfl rfl rfl (Nat.le_of_ble_eq_true rfl) dX4_init_6 (fun w_1 ew_2 H locs hR hL => ?_)
  have hU : Up (fun q_ => q_ = r) w w_1 := by rw [ew_2]; exact hU.set hA (by first | exact Or.inl rfl | exact Or.inl (by omega) | exact Or.inr ⟨Nat.succ_ne_zero _, by rw [Nat.add_sub_cancel]; assumption⟩ | exact Or.inr ⟨by omega, by assumption⟩) hG _
  have hF_q_w_1 : w_1 q = some (r, oE 6 [.ref fa, .null]) := by rw [ew_2]; exact wset_eq _ _ _
  refine lv_aload_n hx hb dX4_init_9 rfl (lv_at hl 0 rfl) ?_
  refine lv_aload_n hx hb dX4_init_10 rfl (lv_at hl 2 rfl) ?_
  refine h_putF X hnm hR hL hF_q_w_1 hr rfl in_X4 tyX4_ok nmX4 1 (by decide) q648 rfl rfl rfl rfl (Nat.le_of_ble_eq_true rfl) dX4_init_11 (fun w_3 ew_4 H locs hR hL => ?_)
  have hU : Up (fun q_ => q_ = r) w w_3 := by rw [ew_4]; exact hU.set hF_q_w_1 (by first | exact Or.inl rfl | exact Or.inl (by omega) | exact Or.inr ⟨Nat.succ_ne_zero _, by rw [Nat.add_sub_cancel]; assumption⟩ | exact Or.inr ⟨by omega, by assumption⟩) hG _
  have hF_q_w_3 : w_3 q = some (r, oE 6 [.ref fa, .ref sa]) := by rw [ew_4]; exact wset_eq _ _ _
  exact h_vreturn hx hb hlk hret hR hL ⟨hF_q_w_3, hU⟩ (by omega) (by omega) rfl rfl dX4_init_14

set_option maxHeartbeats 4000000 in
set_option maxRecDepth 100000 in
/-- SpokenMarks$Mark.<init> -/
theorem mk_init (l : Launch) (G : Gl) (w : Wd) (r : Nat) (hr : r ≠ 0) (q : Nat) (id : Int) (pl : Nat) (wd plc : Int) (hA : w q = some (r, oE 3 [.int (iI (0)), .null, .int (iI (0)), .int (iI (0))])) (hG : RegW w) : HM l yX5_init cX5_init 5 none 1 0 0 G [.ref q, .int (iI (id)), .ref pl, .int (iI (wd)), .int (iI (plc))] w (QV G (fun w_ => w_ q = some (r, oE 3 [.int (iI (id)), .ref pl, .int (iI (wd)), .int (iI (plc))]) ∧ Up (fun q_ => q_ = r) w w_)) := by
  refine HM.mk (by decide +kernel) (Nat.le_of_ble_eq_true rfl) ?_
  intro p9 e9 s9 m9 a9 b9 meth9 c9 ls X hret hlk hnm hl H hR
  have hx := X.1.1
  have hb := X.1.2.1
  have hl : lv_has ls 5 [(0, .ref q), (1, .int (iI (id))), (2, .ref pl), (3, .int (iI (wd))), (4, .int (iI (plc)))] := hl
  have hL : LK G [] := fun q h => absurd h List.not_mem_nil
  generalize ([] : List Loc) = locs at hL ⊢
  have hU : Up (fun q_ => q_ = r) w w := Up.rf hG
  refine lv_aload_n hx hb dX5_init_0 rfl (lv_at hl 0 rfl) ?_
  refine W.objInit hx hb X.1.2.2.2.1 (X.1.2.2.2.2 _ q1535) (X.1.2.2.2.2 _ q180) (X.1.2.2.2.2 _ q181) rfl (by rw [X.1.2.2.1]; exact hl.1) rfl dX5_init_1 (Nat.le_of_ble_eq_true rfl) (Nat.le_of_ble_eq_true rfl) ?_
  refine W.eq (g2 := F0 m9 4 ls []) rfl ?_
  refine lv_aload_n hx hb dX5_init_4 rfl (lv_at hl 0 rfl) ?_
  refine lv_iload_n hx hb dX5_init_5 rfl (lv_at hl 1 rfl) ?_
  refine h_putF X hnm hR hL hA hr rfl in_X5 tyX5_ok nmX5 0 (by decide) q1536 rfl rfl rfl rfl (Nat.le_of_ble_eq_true rfl) dX5_init_6 (fun w_1 ew_2 H locs hR hL => ?_)
  have hU : Up (fun q_ => q_ = r) w w_1 := by rw [ew_2]; exact hU.set hA (by first | exact Or.inl rfl | exact Or.inl (by omega) | exact Or.inr ⟨Nat.succ_ne_zero _, by rw [Nat.add_sub_cancel]; assumption⟩ | exact Or.inr ⟨by omega, by assumption⟩) hG _
  have hF_q_w_1 : w_1 q = some (r, oE 3 [.int (iI (id)), .null, .int (iI (0)), .int (iI (0))]) := by rw [ew_2]; exact wset_eq _ _ _
  refine lv_aload_n hx hb dX5_init_9 rfl (lv_at hl 0 rfl) ?_
  refine lv_aload_n hx hb dX5_init_10 rfl (lv_at hl 2 rfl) ?_
  refine h_putF X hnm hR hL hF_q_w_1 hr rfl in_X5 tyX5_ok nmX5 1 (by decide) q1539 rfl rfl rfl rfl (Nat.le_of_ble_eq_true rfl) dX5_init_11 (fun w_3 ew_4 H locs hR hL => ?_)
  have hU : Up (fun q_ => q_ = r) w w_3 := by rw [ew_4]; exact hU.set hF_q_w_1 (by first | exact Or.inl rfl | exact Or.inl (by omega) | exact Or.inr ⟨Nat.succ_ne_zero _, by rw [Nat.add_sub_cancel]; assumption⟩ | exact Or.inr ⟨by omega, by assumption⟩) hG _
  have hF_q_w_3 : w_3 q = some (r, oE 3 [.int (iI (id)), .ref pl, .int (iI (0)), .int (iI (0))]) := by rw [ew_4]; exact wset_eq _ _ _
  refine lv_aload_n hx hb dX5_init_14 rfl (lv_at hl 0 rfl) ?_
  refine lv_iload_n hx hb dX5_init_15 rfl (lv_at hl 3 rfl) ?_
  refine h_put X hR hL hF_q_w_3 hr rfl in_X5 tyX5_ok nmX5 2 (by decide) q1543 rfl rfl rfl (Nat.le_of_ble_eq_true rfl) dX5_init_16 (fun w_5 ew_6 H locs hR hL => ?_)
  have hU : Up (fun q_ => q_ = r) w w_5 := by rw [ew_6]; exact hU.set hF_q_w_3 (by first | exact Or.inl rfl | exact Or.inl (by omega) | exact Or.inr ⟨Nat.succ_ne_zero _, by rw [Nat.add_sub_cancel]; assumption⟩ | exact Or.inr ⟨by omega, by assumption⟩) hG _
  have hF_q_w_5 : w_5 q = some (r, oE 3 [.int (iI (id)), .ref pl, .int (iI (wd)), .int (iI (0))]) := by rw [ew_6]; exact wset_eq _ _ _
  refine lv_aload_n hx hb dX5_init_19 rfl (lv_at hl 0 rfl) ?_
  refine lv_iload hx hb dX5_init_20 (lv_at hl 4 rfl) ?_
  refine h_put X hR hL hF_q_w_5 hr rfl in_X5 tyX5_ok nmX5 3 (by decide) q1547 rfl rfl rfl (Nat.le_of_ble_eq_true rfl) dX5_init_22 (fun w_7 ew_8 H locs hR hL => ?_)
  have hU : Up (fun q_ => q_ = r) w w_7 := by rw [ew_8]; exact hU.set hF_q_w_5 (by first | exact Or.inl rfl | exact Or.inl (by omega) | exact Or.inr ⟨Nat.succ_ne_zero _, by rw [Nat.add_sub_cancel]; assumption⟩ | exact Or.inr ⟨by omega, by assumption⟩) hG _
  have hF_q_w_7 : w_7 q = some (r, oE 3 [.int (iI (id)), .ref pl, .int (iI (wd)), .int (iI (plc))]) := by rw [ew_8]; exact wset_eq _ _ _
  exact h_vreturn hx hb hlk hret hR hL ⟨hF_q_w_7, hU⟩ (by omega) (by omega) rfl rfl dX5_init_25

set_option maxHeartbeats 4000000 in
set_option maxRecDepth 100000 in
/-- SpokenMarks$Part.compare -/
theorem pc_ff (l : Launch) (G : Gl) (w : Wd) (a : Nat) (n : Int) (hA : w a = some (0, oE 5 [.int (iI n)])) (b : Nat) (m : Int) (hB : w b = some (0, oE 5 [.int (iI m)])) (e : Int) (h1 : R32 n) (h2 : R32 m) : HM l yX8_compare cX8_compare 5 (some .int) 9 0 0 G [.ref a, .ref b, .int (iI (e))] w (QI G (fun z_ w_ => z_ = cmpZ n m ∧ w_ = w)) := by
  refine HM.mk (by decide +kernel) (Nat.le_of_ble_eq_true rfl) ?_
  intro p9 e9 s9 m9 a9 b9 meth9 c9 ls X hret hlk hnm hl H hR
  have hx := X.1.1
  have hb := X.1.2.1
  have hl : lv_has ls 5 [(0, .ref a), (1, .ref b), (2, .int (iI (e)))] := hl
  have hL : LK G [] := fun q h => absurd h List.not_mem_nil
  generalize ([] : List Loc) = locs at hL ⊢
  refine lv_aload_n hx hb dX8_compare_0 rfl (lv_at hl 0 rfl) ?_
  refine h_instS X hR (hasC.of hA rfl) q1616 dX8_compare_1 ?_
  refine h_if_eq hx hb 42 dX8_compare_4 (by decide) (by decide) (fun z_ => absurd z_ (by decide)) (fun _ => ?_)
  refine lv_aload_n hx hb dX8_compare_7 rfl (lv_at hl 0 rfl) ?_
  refine h_castS X hR (hasC.of hA rfl) q1616 dX8_compare_8 ?_
  refine lv_astore_n (lv' := [(3, .ref a), (0, .ref a), (1, .ref b), (2, .int (iI (e)))]) hx hb dX8_compare_11 rfl hl (by decide) rfl (fun ls hl => ?_)
  refine lv_aload_n hx hb dX8_compare_12 rfl (lv_at hl 2 rfl) ?_
  refine h_instS X hR (hasC.of hB rfl) q1616 dX8_compare_13 ?_
  refine h_if_eq hx hb 40 dX8_compare_16 (by decide) (by decide) (fun z_ => absurd z_ (by decide)) (fun _ => ?_)
  refine lv_aload_n hx hb dX8_compare_19 rfl (lv_at hl 2 rfl) ?_
  refine h_castS X hR (hasC.of hB rfl) q1616 dX8_compare_20 ?_
  refine lv_astore (lv' := [(4, .ref b), (3, .ref a), (0, .ref a), (1, .ref b), (2, .int (iI (e)))]) hx hb dX8_compare_23 hl (by decide) rfl (fun ls hl => ?_)
  refine lv_aload_n hx hb dX8_compare_25 rfl (lv_at hl 1 rfl) ?_
  refine h_getN X hR hA rfl in_X9 0 (by decide) q1664 rfl dX8_compare_26 ?_
  refine lv_aload hx hb dX8_compare_29 (lv_at hl 0 rfl) ?_
  refine h_getN X hR hB rfl in_X9 0 (by decide) q1664 rfl dX8_compare_31 ?_
  -- call java/lang/Integer.compare
  refine h_kIp (h_runS X hR (in_cmp l G w n m (by omega) (by omega)) pn_yJ17_compare q1617 q1618 q141 q1619 ⟨by decide, by decide⟩ hl.1 (Nat.le_of_ble_eq_true rfl) dX8_compare_34 ⟨by omega, by omega⟩) hL (fun H locs hR hL => ?_)
  refine lv_goto (tgt := 41) hx hb dX8_compare_37 (by decide) ?_
  exact h_ireturn hx hb hlk hret hR hL rfl ⟨rfl, rfl⟩ (by omega) (by omega) rfl rfl dX8_compare_41

set_option maxHeartbeats 4000000 in
set_option maxRecDepth 100000 in
/-- SpokenMarks$Part.compare -/
theorem pc_fw (l : Launch) (G : Gl) (w : Wd) (a : Nat) (n : Int) (hA : w a = some (0, oE 5 [.int (iI n)])) (b lb eb : Nat) (hB : w b = some (0, oE 4 [.ref lb, .ref eb])) (e : Int) : HM l yX8_compare cX8_compare 5 (some .int) 9 0 0 G [.ref a, .ref b, .int (iI (e))] w (QI G (fun z_ w_ => z_ = (-1) ∧ w_ = w)) := by
  refine HM.mk (by decide +kernel) (Nat.le_of_ble_eq_true rfl) ?_
  intro p9 e9 s9 m9 a9 b9 meth9 c9 ls X hret hlk hnm hl H hR
  have hx := X.1.1
  have hb := X.1.2.1
  have hl : lv_has ls 5 [(0, .ref a), (1, .ref b), (2, .int (iI (e)))] := hl
  have hL : LK G [] := fun q h => absurd h List.not_mem_nil
  generalize ([] : List Loc) = locs at hL ⊢
  refine lv_aload_n hx hb dX8_compare_0 rfl (lv_at hl 0 rfl) ?_
  refine h_instS X hR (hasC.of hA rfl) q1616 dX8_compare_1 ?_
  refine h_if_eq hx hb 42 dX8_compare_4 (by decide) (by decide) (fun z_ => absurd z_ (by decide)) (fun _ => ?_)
  refine lv_aload_n hx hb dX8_compare_7 rfl (lv_at hl 0 rfl) ?_
  refine h_castS X hR (hasC.of hA rfl) q1616 dX8_compare_8 ?_
  refine lv_astore_n (lv' := [(3, .ref a), (0, .ref a), (1, .ref b), (2, .int (iI (e)))]) hx hb dX8_compare_11 rfl hl (by decide) rfl (fun ls hl => ?_)
  refine lv_aload_n hx hb dX8_compare_12 rfl (lv_at hl 2 rfl) ?_
  refine h_instNo X hR (hasC.of hB rfl) [false, true, false, false, false, false, true, false, true, true, false] rfl q1616 dX8_compare_13 ?_
  refine h_if_eq hx hb 40 dX8_compare_16 (by decide) (by decide) (fun _ => ?_) (fun z_ => absurd z_ (by decide))
  refine h_iconst hx hb dX8_compare_40 ?_
  exact h_ireturn hx hb hlk hret hR hL rfl ⟨rfl, rfl⟩ (by omega) (by omega) rfl rfl dX8_compare_41

set_option maxHeartbeats 4000000 in
set_option maxRecDepth 100000 in
/-- SpokenMarks$Part.compare -/
theorem pc_wf (l : Launch) (G : Gl) (w : Wd) (a la ea : Nat) (hA : w a = some (0, oE 4 [.ref la, .ref ea])) (b : Nat) (m : Int) (hB : w b = some (0, oE 5 [.int (iI m)])) (e : Int) : HM l yX8_compare cX8_compare 5 (some .int) 9 0 0 G [.ref a, .ref b, .int (iI (e))] w (QI G (fun z_ w_ => z_ = 1 ∧ w_ = w)) := by
  refine HM.mk (by decide +kernel) (Nat.le_of_ble_eq_true rfl) ?_
  intro p9 e9 s9 m9 a9 b9 meth9 c9 ls X hret hlk hnm hl H hR
  have hx := X.1.1
  have hb := X.1.2.1
  have hl : lv_has ls 5 [(0, .ref a), (1, .ref b), (2, .int (iI (e)))] := hl
  have hL : LK G [] := fun q h => absurd h List.not_mem_nil
  generalize ([] : List Loc) = locs at hL ⊢
  refine lv_aload_n hx hb dX8_compare_0 rfl (lv_at hl 0 rfl) ?_
  refine h_instNo X hR (hasC.of hA rfl) [false, true, false, false, false, false, true, false, true, true, false] rfl q1616 dX8_compare_1 ?_
  refine h_if_eq hx hb 42 dX8_compare_4 (by decide) (by decide) (fun _ => ?_) (fun z_ => absurd z_ (by decide))
  refine lv_aload_n hx hb dX8_compare_42 rfl (lv_at hl 1 rfl) ?_
  refine h_instNo X hR (hasC.of hB rfl) [false, false, true, true, true, true, false, true, true, true, true] rfl q1620 dX8_compare_43 ?_
  refine h_if_eq hx hb 92 dX8_compare_46 (by decide) (by decide) (fun _ => ?_) (fun z_ => absurd z_ (by decide))
  refine h_iconst hx hb dX8_compare_92 ?_
  exact h_ireturn hx hb hlk hret hR hL rfl ⟨rfl, rfl⟩ (by omega) (by omega) rfl rfl dX8_compare_93

set_option maxHeartbeats 4000000 in
set_option maxRecDepth 100000 in
/-- SpokenMarks$Part.compare -/
theorem pc_w1 (l : Launch) (G : Gl) (w : Wd) (a la ea : Nat) (hA : w a = some (0, oE 4 [.ref la, .ref ea])) (b lb eb : Nat) (hB : w b = some (0, oE 4 [.ref lb, .ref eb])) (L M : List Int) (hS : StrAt G w ea L) (hT : StrAt G w eb M) (h8 : L.length ≤ 8 ∧ M.length ≤ 8) : HM l yX8_compare cX8_compare 5 (some .int) 9 0 0 G [.ref a, .ref b, .int (iI (1))] w (QI G (fun z_ w_ => z_ = cmpS L M ∧ w_ = w)) := by
  refine HM.mk (by decide +kernel) (Nat.le_of_ble_eq_true rfl) ?_
  intro p9 e9 s9 m9 a9 b9 meth9 c9 ls X hret hlk hnm hl H hR
  have hx := X.1.1
  have hb := X.1.2.1
  have hl : lv_has ls 5 [(0, .ref a), (1, .ref b), (2, .int (iI (1)))] := hl
  have hL : LK G [] := fun q h => absurd h List.not_mem_nil
  generalize ([] : List Loc) = locs at hL ⊢
  refine lv_aload_n hx hb dX8_compare_0 rfl (lv_at hl 0 rfl) ?_
  refine h_instNo X hR (hasC.of hA rfl) [false, true, false, false, false, false, true, false, true, true, false] rfl q1616 dX8_compare_1 ?_
  refine h_if_eq hx hb 42 dX8_compare_4 (by decide) (by decide) (fun _ => ?_) (fun z_ => absurd z_ (by decide))
  refine lv_aload_n hx hb dX8_compare_42 rfl (lv_at hl 1 rfl) ?_
  refine h_instS X hR (hasC.of hB rfl) q1620 dX8_compare_43 ?_
  refine h_if_eq hx hb 92 dX8_compare_46 (by decide) (by decide) (fun z_ => absurd z_ (by decide)) (fun _ => ?_)
  refine lv_aload_n hx hb dX8_compare_49 rfl (lv_at hl 1 rfl) ?_
  refine h_castS X hR (hasC.of hB rfl) q1620 dX8_compare_50 ?_
  refine lv_astore_n (lv' := [(3, .ref b), (0, .ref a), (1, .ref b), (2, .int (iI (1)))]) hx hb dX8_compare_53 rfl hl (by decide) rfl (fun ls hl => ?_)
  refine lv_aload_n hx hb dX8_compare_54 rfl (lv_at hl 1 rfl) ?_
  refine h_castS X hR (hasC.of hA rfl) q1620 dX8_compare_55 ?_
  refine lv_astore (lv' := [(4, .ref a), (3, .ref b), (0, .ref a), (1, .ref b), (2, .int (iI (1)))]) hx hb dX8_compare_58 hl (by decide) rfl (fun ls hl => ?_)
  refine lv_iload_n hx hb dX8_compare_60 rfl (lv_at hl 4 rfl) ?_
  refine h_if_eq hx hb 79 dX8_compare_61 (by decide) (by decide) (fun z_ => absurd z_ (by decide)) (fun _ => ?_)
  refine lv_aload hx hb dX8_compare_64 (lv_at hl 0 rfl) ?_
  refine h_getN X hR hA rfl in_X6 1 (by decide) q1524 rfl dX8_compare_66 ?_
  refine lv_aload_n hx hb dX8_compare_69 rfl (lv_at hl 1 rfl) ?_
  refine h_getN X hR hB rfl in_X6 1 (by decide) q1524 rfl dX8_compare_70 ?_
  -- call java/lang/String.compareTo
  refine h_kIp (h_runV X hR (s_cmp l G w ea eb L M hS hT (by omega) (by omega)) pn_yJ10_compareTo_2 (hS.c) q1621 q965 q966 q132 q967 ⟨by decide, by decide⟩ hl.1 (Nat.le_of_ble_eq_true rfl) dX8_compare_73 ⟨by omega, by omega⟩) hL (fun H locs hR hL => ?_)
  refine lv_goto (tgt := 91) hx hb dX8_compare_76 (by decide) ?_
  exact h_ireturn hx hb hlk hret hR hL rfl ⟨rfl, rfl⟩ (by omega) (by omega) rfl rfl dX8_compare_91

set_option maxHeartbeats 4000000 in
set_option maxRecDepth 100000 in
/-- SpokenMarks$Part.compare -/
theorem pc_w0 (l : Launch) (G : Gl) (w : Wd) (a la ea : Nat) (hA : w a = some (0, oE 4 [.ref la, .ref ea])) (b lb eb : Nat) (hB : w b = some (0, oE 4 [.ref lb, .ref eb])) (L M : List Int) (hS : StrAt G w la L) (hT : StrAt G w lb M) (h8 : L.length ≤ 8 ∧ M.length ≤ 8) : HM l yX8_compare cX8_compare 5 (some .int) 9 0 0 G [.ref a, .ref b, .int (iI (0))] w (QI G (fun z_ w_ => z_ = cmpS L M ∧ w_ = w)) := by
  refine HM.mk (by decide +kernel) (Nat.le_of_ble_eq_true rfl) ?_
  intro p9 e9 s9 m9 a9 b9 meth9 c9 ls X hret hlk hnm hl H hR
  have hx := X.1.1
  have hb := X.1.2.1
  have hl : lv_has ls 5 [(0, .ref a), (1, .ref b), (2, .int (iI (0)))] := hl
  have hL : LK G [] := fun q h => absurd h List.not_mem_nil
  generalize ([] : List Loc) = locs at hL ⊢
  refine lv_aload_n hx hb dX8_compare_0 rfl (lv_at hl 0 rfl) ?_
  refine h_instNo X hR (hasC.of hA rfl) [false, true, false, false, false, false, true, false, true, true, false] rfl q1616 dX8_compare_1 ?_
  refine h_if_eq hx hb 42 dX8_compare_4 (by decide) (by decide) (fun _ => ?_) (fun z_ => absurd z_ (by decide))
  refine lv_aload_n hx hb dX8_compare_42 rfl (lv_at hl 1 rfl) ?_
  refine h_instS X hR (hasC.of hB rfl) q1620 dX8_compare_43 ?_
  refine h_if_eq hx hb 92 dX8_compare_46 (by decide) (by decide) (fun z_ => absurd z_ (by decide)) (fun _ => ?_)
  refine lv_aload_n hx hb dX8_compare_49 rfl (lv_at hl 1 rfl) ?_
  refine h_castS X hR (hasC.of hB rfl) q1620 dX8_compare_50 ?_
  refine lv_astore_n (lv' := [(3, .ref b), (0, .ref a), (1, .ref b), (2, .int (iI (0)))]) hx hb dX8_compare_53 rfl hl (by decide) rfl (fun ls hl => ?_)
  refine lv_aload_n hx hb dX8_compare_54 rfl (lv_at hl 1 rfl) ?_
  refine h_castS X hR (hasC.of hA rfl) q1620 dX8_compare_55 ?_
  refine lv_astore (lv' := [(4, .ref a), (3, .ref b), (0, .ref a), (1, .ref b), (2, .int (iI (0)))]) hx hb dX8_compare_58 hl (by decide) rfl (fun ls hl => ?_)
  refine lv_iload_n hx hb dX8_compare_60 rfl (lv_at hl 4 rfl) ?_
  refine h_if_eq hx hb 79 dX8_compare_61 (by decide) (by decide) (fun _ => ?_) (fun z_ => absurd z_ (by decide))
  refine lv_aload hx hb dX8_compare_79 (lv_at hl 0 rfl) ?_
  refine h_getN X hR hA rfl in_X6 0 (by decide) q1520 rfl dX8_compare_81 ?_
  refine lv_aload_n hx hb dX8_compare_84 rfl (lv_at hl 1 rfl) ?_
  refine h_getN X hR hB rfl in_X6 0 (by decide) q1520 rfl dX8_compare_85 ?_
  -- call java/lang/String.compareTo
  refine h_kIp (h_runV X hR (s_cmp l G w la lb L M hS hT (by omega) (by omega)) pn_yJ10_compareTo_2 (hS.c) q1621 q965 q966 q132 q967 ⟨by decide, by decide⟩ hl.1 (Nat.le_of_ble_eq_true rfl) dX8_compare_88 ⟨by omega, by omega⟩) hL (fun H locs hR hL => ?_)
  exact h_ireturn hx hb hlk hret hR hL rfl ⟨rfl, rfl⟩ (by omega) (by omega) rfl rfl dX8_compare_91

/-- Part.compare -/
theorem pt_cmp1 (l : Launch) (G : Gl) (w : Wd) (a b : Nat) (R : Rls) (x y : Prt) (hA : PtAt G R w a x) (hB : PtAt G R w b y) (hR : RlW R) (hx : PrtW x) (hy : PrtW y) : HM l yX8_compare cX8_compare 5 (some .int) 9 0 0 G [.ref a, .ref b, .int (iI 1)] w (QI G (fun z_ w_ => z_ = pcmp (earP R x) (earP R y) ∧ w_ = w)) := by
  cases x with
  | inl n =>
    have h1 : R32 n := ⟨by have := hx.1; omega, by have := hx.2; omega⟩
    cases y with
    | inl k =>
      have h2 : R32 k := ⟨by have := hy.1; omega, by have := hy.2; omega⟩
      exact pc_ff l G w a n hA b k hB 1 h1 h2
    | inr M =>
      obtain ⟨lb, eb, g1, -⟩ := hB
      exact pc_fw l G w a n hA b lb eb g1 1
  | inr L =>
    obtain ⟨la, ea, f1, f2, f3⟩ := hA
    cases y with
    | inl k => exact pc_wf l G w a la ea f1 b k hB 1
    | inr M =>
      obtain ⟨lb, eb, g1, g2, g3⟩ := hB
      exact pc_w1 l G w a la ea f1 b lb eb g1 _ _ f3 g3 ⟨(wrd_ear (spk_w hR hx).1).1, (wrd_ear (spk_w hR hy).1).1⟩

/-- Part.compare -/
theorem pt_cmp0 (l : Launch) (G : Gl) (w : Wd) (a b : Nat) (R : Rls) (x y : Prt) (hA : PtAt G R w a x) (hB : PtAt G R w b y) (hR : RlW R) (hx : PrtW x) (hy : PrtW y) : HM l yX8_compare cX8_compare 5 (some .int) 9 0 0 G [.ref a, .ref b, .int (iI 0)] w (QI G (fun z_ w_ => z_ = pcmp x y ∧ w_ = w)) := by
  cases x with
  | inl n =>
    have h1 : R32 n := ⟨by have := hx.1; omega, by have := hx.2; omega⟩
    cases y with
    | inl k =>
      have h2 : R32 k := ⟨by have := hy.1; omega, by have := hy.2; omega⟩
      exact pc_ff l G w a n hA b k hB 0 h1 h2
    | inr M =>
      obtain ⟨lb, eb, g1, -⟩ := hB
      exact pc_fw l G w a n hA b lb eb g1 0
  | inr L =>
    obtain ⟨la, ea, f1, f2, f3⟩ := hA
    cases y with
    | inl k => exact pc_wf l G w a la ea f1 b k hB 0
    | inr M =>
      obtain ⟨lb, eb, g1, g2, g3⟩ := hB
      exact pc_w0 l G w a la ea f1 b lb eb g1 L M f2 g2 ⟨hx.1.1, hy.1.1⟩
