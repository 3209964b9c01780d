/-! JDK: ArrayDeque of at most fifteen -/
set_option maxRecDepth 100000
def DqAt (G : Gl) (w : Wd) (r a : Nat) (L : List Nat) : Prop := ∃ (arr : Nat) (f : Nat → Option Nat) (h t : Nat), w a = some (r, oE 23 [.ref arr, .int (iI (h : Int)), .int (iI (t : Int))]) ∧ w arr = some (r, rE G 4 17 f) ∧ h < 17 ∧ t < 17 ∧ L.length ≤ 15 ∧ (t = h + L.length ∨ t + 17 = h + L.length) ∧ ∀ i, i < L.length → f (if h + i < 17 then h + i else h + i - 17) = some (L.getD i 0)
theorem DqAt.mv {G : Gl} {w w1 : Wd} {r a : Nat} {L : List Nat} {S : Nat → Prop} (h : DqAt G w r a L) (hF : Fr S w w1) (h0 : ¬ S r) : DqAt G w1 r a L := by
  obtain ⟨arr, f, hh, t, h1, h2, h3⟩ := h
  exact ⟨arr, f, hh, t, hF _ _ _ h1 h0, hF _ _ _ h2 h0, h3⟩
theorem DqAt.sm {G : Gl} {w : Wd} {r a : Nat} {L : List Nat} (h : DqAt G w r a L) : ∃ x, w a = some x := by
  obtain ⟨arr, f, hh, t, h1, -⟩ := h
  exact ⟨_, h1⟩
theorem DqAt.c {G : Gl} {w : Wd} {r a : Nat} {L : List Nat} (h : DqAt G w r a L) : hasC w a "java/util/ArrayDeque" := by
  obtain ⟨arr, f, hh, t, h1, -⟩ := h
  exact hasC.of h1 rfl
theorem DqAt.le {G : Gl} {w : Wd} {r a : Nat} {L : List Nat} (h : DqAt G w r a L) : L.length ≤ 15 := by
  obtain ⟨arr, f, hh, t, h1, h2, h3, h4, h5, -⟩ := h
  exact h5
theorem app_atn (L : List Nat) (v i : Nat) (hi : i < L.length + 1) : (L ++ [v]).getD i 0 = if i = L.length then v else L.getD i 0 := app_at L v i (by rw [List.length_append, List.length_singleton]; exact hi)
theorem drop1_at (L : List Nat) (i : Nat) : (L.drop 1).getD i 0 = L.getD (i + 1) 0 := by
  rw [List.getD_eq_getElem?_getD, List.getElem?_drop, ← List.getD_eq_getElem?_getD, Nat.add_comm]
theorem take_at (L : List Nat) (n i : Nat) (h : i < n) : (L.take n).getD i 0 = L.getD i 0 := by
  rw [List.getD_eq_getElem?_getD, List.getElem?_take_of_lt h, ← List.getD_eq_getElem?_getD]

theorem pn_yJ1_circularClear : ParN yJ1_circularClear 3 := by decide +kernel
theorem pn_yJ1_dec : ParN yJ1_dec 2 := by decide +kernel
theorem pn_yJ1_elementAt : ParN yJ1_elementAt 2 := by decide +kernel
theorem pn_yJ1_inc : ParN yJ1_inc 2 := by decide +kernel
theorem pn_yJ1_pollFirst : ParN yJ1_pollFirst 0 := by decide +kernel
theorem pn_yJ1_pollLast : ParN yJ1_pollLast 0 := by decide +kernel
theorem pn_yJ1_sub : ParN yJ1_sub 3 := by decide +kernel

set_option maxHeartbeats 4000000 in
set_option maxRecDepth 100000 in
/-- ArrayDeque.sub -/
theorem dq_sub (l : Launch) (G : Gl) (w : Wd) (i j m : Int) (h1 : 0 ≤ i ∧ i < 100) (h2 : 0 ≤ j ∧ j < 100) (h3 : 0 ≤ m ∧ m < 100) : HM l yJ1_sub cJ1_sub 3 (some .int) 1 0 0 G [.int (iI (i)), .int (iI (j)), .int (iI (m))] w (QI G (fun z_ w_ => z_ = (if i - j < 0 then i - j + m else i - j) ∧ w_ = w)) := by
  refine HM.mk (by decide +kernel) (Nat.le_of_ble_eq_true rfl) ?_
  intro p9 e9 s9 m9 a9 b9 meth9 c9 ls X hret hlk hnm hl H hR
  have hx := X.1.1
  have hb := X.1.2.1
  have hl : lv_has ls 3 [(0, .int (iI (i))), (1, .int (iI (j))), (2, .int (iI (m)))] := hl
  have hL : LK G [] := fun q h => absurd h List.not_mem_nil
  generalize ([] : List Loc) = locs at hL ⊢
  refine lv_iload_n hx hb dJ1_sub_0 rfl (lv_at hl 0 rfl) ?_
  refine lv_iload_n hx hb dJ1_sub_1 rfl (lv_at hl 1 rfl) ?_
  refine h_isub hx hb dJ1_sub_2 ?_
  refine lv_dup hx hb dJ1_sub_3 rfl ?_
  refine lv_istore_n (lv' := [(0, .int (iI (i - j))), (1, .int (iI (j))), (2, .int (iI (m)))]) hx hb dJ1_sub_4 rfl hl (by decide) rfl (fun ls hl => ?_)
  refine h_if_ge hx hb 12 dJ1_sub_5 (by decide) (by omega) (fun c_s => ?_) (fun c_s => ?_)
  ·
    refine lv_iload_n hx hb dJ1_sub_12 rfl (lv_at hl 0 rfl) ?_
    exact h_ireturn hx hb hlk hret hR hL rfl ⟨by split <;> omega, rfl⟩ (by omega) (by omega) rfl rfl dJ1_sub_13
  ·
    refine lv_iload_n hx hb dJ1_sub_8 rfl (lv_at hl 0 rfl) ?_
    refine lv_iload_n hx hb dJ1_sub_9 rfl (lv_at hl 2 rfl) ?_
    refine h_iadd hx hb dJ1_sub_10 ?_
    refine lv_istore_n (lv' := [(0, .int (iI (i - j + m))), (1, .int (iI (j))), (2, .int (iI (m)))]) hx hb dJ1_sub_11 rfl hl (by decide) rfl (fun ls hl => ?_)
    refine lv_iload_n hx hb dJ1_sub_12 rfl (lv_at hl 0 rfl) ?_
    exact h_ireturn hx hb hlk hret hR hL rfl ⟨by split <;> omega, rfl⟩ (by omega) (by omega) rfl rfl dJ1_sub_13

set_option maxHeartbeats 4000000 in
set_option maxRecDepth 100000 in
/-- ArrayDeque.inc -/
theorem dq_inc (l : Launch) (G : Gl) (w : Wd) (i m : Int) (h1 : 0 ≤ i ∧ i < 100) (h3 : 0 ≤ m ∧ m < 100) : HM l yJ1_inc cJ1_inc 2 (some .int) 1 0 0 G [.int (iI (i)), .int (iI (m))] w (QI G (fun z_ w_ => z_ = (if i + 1 < m then i + 1 else 0) ∧ w_ = w)) := by
  refine HM.mk (by decide +kernel) (Nat.le_of_ble_eq_true rfl) ?_
  intro p9 e9 s9 m9 a9 b9 meth9 c9 ls X hret hlk hnm hl H hR
  have hx := X.1.1
  have hb := X.1.2.1
  have hl : lv_has ls 2 [(0, .int (iI (i))), (1, .int (iI (m)))] := hl
  have hL : LK G [] := fun q h => absurd h List.not_mem_nil
  generalize ([] : List Loc) = locs at hL ⊢
  refine h_iinc (lv' := [(0, .int (iI (i + 1))), (1, .int (iI (m)))]) hx hb dJ1_inc_0 hl (k := 0) rfl (by decide) rfl (fun ls hl => ?_)
  refine lv_iload_n hx hb dJ1_inc_3 rfl (lv_at hl 0 rfl) ?_
  refine lv_iload_n hx hb dJ1_inc_4 rfl (lv_at hl 1 rfl) ?_
  refine h_icmp_lt hx hb 10 dJ1_inc_5 (by decide) (by omega) (by omega) (fun c_s => ?_) (fun c_s => ?_)
  ·
    refine lv_iload_n hx hb dJ1_inc_10 rfl (lv_at hl 0 rfl) ?_
    exact h_ireturn hx hb hlk hret hR hL rfl ⟨by split <;> omega, rfl⟩ (by omega) (by omega) rfl rfl dJ1_inc_11
  ·
    refine h_iconst hx hb dJ1_inc_8 ?_
    refine lv_istore_n (lv' := [(0, .int (iI (0))), (1, .int (iI (m)))]) hx hb dJ1_inc_9 rfl hl (by decide) rfl (fun ls hl => ?_)
    refine lv_iload_n hx hb dJ1_inc_10 rfl (lv_at hl 0 rfl) ?_
    exact h_ireturn hx hb hlk hret hR hL rfl ⟨by split <;> omega, rfl⟩ (by omega) (by omega) rfl rfl dJ1_inc_11

set_option maxHeartbeats 4000000 in
set_option maxRecDepth 100000 in
/-- ArrayDeque.dec -/
theorem dq_dec (l : Launch) (G : Gl) (w : Wd) (i m : Int) (h1 : 0 ≤ i ∧ i < 100) (h3 : 0 ≤ m ∧ m < 100) : HM l yJ1_dec cJ1_dec 2 (some .int) 1 0 0 G [.int (iI (i)), .int (iI (m))] w (QI G (fun z_ w_ => z_ = (if i - 1 < 0 then m - 1 else i - 1) ∧ w_ = w)) := by
  refine HM.mk (by decide +kernel) (Nat.le_of_ble_eq_true rfl) ?_
  intro p9 e9 s9 m9 a9 b9 meth9 c9 ls X hret hlk hnm hl H hR
  have hx := X.1.1
  have hb := X.1.2.1
  have hl : lv_has ls 2 [(0, .int (iI (i))), (1, .int (iI (m)))] := hl
  have hL : LK G [] := fun q h => absurd h List.not_mem_nil
  generalize ([] : List Loc) = locs at hL ⊢
  refine h_iinc (lv' := [(0, .int (iI (i + (-1)))), (1, .int (iI (m)))]) hx hb dJ1_dec_0 hl (k := 0) rfl (by decide) rfl (fun ls hl => ?_)
  refine lv_iload_n hx hb dJ1_dec_3 rfl (lv_at hl 0 rfl) ?_
  refine h_if_ge hx hb 11 dJ1_dec_4 (by decide) (by omega) (fun c_s => ?_) (fun c_s => ?_)
  ·
    refine lv_iload_n hx hb dJ1_dec_11 rfl (lv_at hl 0 rfl) ?_
    exact h_ireturn hx hb hlk hret hR hL rfl ⟨by split <;> omega, rfl⟩ (by omega) (by omega) rfl rfl dJ1_dec_12
  ·
    refine lv_iload_n hx hb dJ1_dec_7 rfl (lv_at hl 1 rfl) ?_
    refine h_iconst hx hb dJ1_dec_8 ?_
    refine h_isub hx hb dJ1_dec_9 ?_
    refine lv_istore_n (lv' := [(0, .int (iI (m - 1))), (1, .int (iI (m)))]) hx hb dJ1_dec_10 rfl hl (by decide) rfl (fun ls hl => ?_)
    refine lv_iload_n hx hb dJ1_dec_11 rfl (lv_at hl 0 rfl) ?_
    exact h_ireturn hx hb hlk hret hR hL rfl ⟨by split <;> omega, rfl⟩ (by omega) (by omega) rfl rfl dJ1_dec_12

set_option maxHeartbeats 4000000 in
set_option maxRecDepth 100000 in
/-- ArrayDeque.size -/
theorem dq_size (l : Launch) (G : Gl) (w : Wd) (r a : Nat) (L : List Nat) (hA : DqAt G w r a L) : HM l yJ1_size cJ1_size 1 (some .int) 2 0 0 G [.ref a] w (QI G (fun z_ w_ => z_ = (L.length : Int) ∧ w_ = w)) := by
  refine HM.mk (by decide +kernel) (Nat.le_of_ble_eq_true rfl) ?_
  intro p9 e9 s9 m9 a9 b9 meth9 c9 ls X hret hlk hnm hl H hR
  have hx := X.1.1
  have hb := X.1.2.1
  have hl : lv_has ls 1 [(0, .ref a)] := hl
  have hL : LK G [] := fun q h => absurd h List.not_mem_nil
  generalize ([] : List Loc) = locs at hL ⊢
  have hA0 := hA
  obtain ⟨arr, f, h, t, hA1, hA2, hA3, hA4, hA5, hA6, hA7⟩ := hA
  refine lv_aload_n hx hb dJ1_size_0 rfl (lv_at hl 0 rfl) ?_
  refine h_get X hR hA1 rfl in_J1 2 (by decide) q195 rfl dJ1_size_1 ?_
  refine lv_aload_n hx hb dJ1_size_4 rfl (lv_at hl 0 rfl) ?_
  refine h_get X hR hA1 rfl in_J1 1 (by decide) q194 rfl dJ1_size_5 ?_
  refine lv_aload_n hx hb dJ1_size_8 rfl (lv_at hl 0 rfl) ?_
  refine h_get X hR hA1 rfl in_J1 0 (by decide) q193 rfl dJ1_size_9 ?_
  refine h_alenR X hR hA2 rfl dJ1_size_12 ?_
  refine W.eq (g2 := F0 m9 13 ls [.int (iI (17)), .int (iI ((h : Int))), .int (iI ((t : Int)))]) (congrArg (fun z_ : Int => F0 m9 13 ls [.int (iI (z_)), .int (iI ((h : Int))), .int (iI ((t : Int)))]) (show (((17 : Nat) : Int) : Int) = 17 from (by rfl))) ?_
  -- call java/util/ArrayDeque.sub
  refine h_kIp (h_runS X hR (dq_sub l G w ((t : Int)) ((h : Int)) 17 (by omega) (by omega) (by omega)) pn_yJ1_sub q1950 q1951 q122 q1952 ⟨by decide, by decide⟩ hl.1 (Nat.le_of_ble_eq_true rfl) dJ1_size_13 ⟨by omega, by omega⟩) hL (fun H locs hR hL => ?_)
  exact h_ireturn hx hb hlk hret hR hL rfl ⟨by split <;> omega, rfl⟩ (by omega) (by omega) rfl rfl dJ1_size_16

set_option maxHeartbeats 4000000 in
set_option maxRecDepth 100000 in
/-- ArrayDeque.isEmpty -/
theorem dq_emp (l : Launch) (G : Gl) (w : Wd) (r a : Nat) (L : List Nat) (hA : DqAt G w r a L) : HM l yJ1_isEmpty cJ1_isEmpty 1 (some .boolean) 1 0 0 G [.ref a] w (QI G (fun z_ w_ => z_ = b2i (L.length = 0) ∧ w_ = w)) := by
  refine HM.mk (by decide +kernel) (Nat.le_of_ble_eq_true rfl) ?_
  intro p9 e9 s9 m9 a9 b9 meth9 c9 ls X hret hlk hnm hl H hR
  have hx := X.1.1
  have hb := X.1.2.1
  have hl : lv_has ls 1 [(0, .ref a)] := hl
  have hL : LK G [] := fun q h => absurd h List.not_mem_nil
  generalize ([] : List Loc) = locs at hL ⊢
  have hA0 := hA
  obtain ⟨arr, f, h, t, hA1, hA2, hA3, hA4, hA5, hA6, hA7⟩ := hA
  refine lv_aload_n hx hb dJ1_isEmpty_0 rfl (lv_at hl 0 rfl) ?_
  refine h_get X hR hA1 rfl in_J1 1 (by decide) q194 rfl dJ1_isEmpty_1 ?_
  refine lv_aload_n hx hb dJ1_isEmpty_4 rfl (lv_at hl 0 rfl) ?_
  refine h_get X hR hA1 rfl in_J1 2 (by decide) q195 rfl dJ1_isEmpty_5 ?_
  refine h_icmp_ne hx hb 15 dJ1_isEmpty_8 (by decide) (by omega) (by omega) (fun c_e => ?_) (fun c_e => ?_)
  ·
    refine h_iconst hx hb dJ1_isEmpty_15 ?_
    exact h_ireturn hx hb hlk hret hR hL (nar01 (by omega)) ⟨by first | exact (b2i_t (by omega)).symm | exact (b2i_f (by omega)).symm, rfl⟩ (by omega) (by omega) rfl rfl dJ1_isEmpty_16
  ·
    refine h_iconst hx hb dJ1_isEmpty_11 ?_
    refine lv_goto (tgt := 16) hx hb dJ1_isEmpty_12 (by decide) ?_
    exact h_ireturn hx hb hlk hret hR hL (nar01 (by omega)) ⟨by first | exact (b2i_t (by omega)).symm | exact (b2i_f (by omega)).symm, rfl⟩ (by omega) (by omega) rfl rfl dJ1_isEmpty_16

set_option maxHeartbeats 4000000 in
set_option maxRecDepth 100000 in
/-- ArrayDeque.<init> -/
theorem dq_init (l : Launch) (G : Gl) (w : Wd) (r a : Nat) (hG : RegW w) (hr : r ≠ 0) (hA : w a = some (r, oE 23 [.null, .int (iI 0), .int (iI 0)])) : HM l yJ1_init cJ1_init 1 none 2 1 17 G [.ref a] w (QV G (fun w_ => DqAt G w_ r a [] ∧ Up (fun q_ => q_ = r) w w_)) := by
  refine HM.mk (by decide +kernel) (Nat.le_of_ble_eq_true rfl) ?_
  intro p9 e9 s9 m9 a9 b9 meth9 c9 ls X hret hlk hnm hl H hR
  have hx := X.1.1
  have hb := X.1.2.1
  have hl : lv_has ls 1 [(0, .ref a)] := hl
  have hL : LK G [] := fun q h => absurd h List.not_mem_nil
  generalize ([] : List Loc) = locs at hL ⊢
  have hU : Up (fun q_ => q_ = r) w w := Up.rf hG
  refine lv_aload_n hx hb dJ1_init_0 rfl (lv_at hl 0 rfl) ?_
  -- call java/util/AbstractCollection.<init>
  refine h_kVp (h_runI X hR (jac_init l G w a) pn_yJ0_init rfl q187 q188 q121 q189 ⟨by decide, by decide⟩ hl.1 (Nat.le_of_ble_eq_true rfl) dJ1_init_1 ⟨by omega, by omega⟩) hL (fun H locs hR hL => ?_)
  refine lv_aload_n hx hb dJ1_init_4 rfl (lv_at hl 0 rfl) ?_
  refine h_bipush hx hb dJ1_init_5 (by decide) ?_
  refine h_anew X hR 4 (fun _ => r) rfl q191 q192 17 rfl (by omega) (by omega) (by omega) dJ1_init_7 (fun arr harr w_4 ew_5 H hR => ?_)
  have hn_arr : w arr = none := hU.2.1 _ harr
  have hU : Up (fun q_ => q_ = r) w w_4 := by rw [ew_5]; exact hU.new harr (Or.inr (Or.inr (hU.2.2.1.ofs hA hr)))
  have hF_arr_w_4 : w_4 arr = some (r, rE G 4 17 (fun _ => none)) := by rw [ew_5]; exact wset_eq _ _ _
  have ne_a_arr : a ≠ arr := w_neN hA harr
  have hF_a_w_4 : w_4 a = some (r, oE 23 [.null, .int (iI (0)), .int (iI (0))]) := by rw [ew_5]; exact (wset_ne _ (w_neN hA harr)).trans hA
  refine h_put X hR hL hF_a_w_4 hr rfl in_J1 tyJ1_ok nmJ1 0 (by decide) q193 rfl rfl rfl (Nat.le_of_ble_eq_true rfl) dJ1_init_10 (fun w_6 ew_7 H locs hR hL => ?_)
  have hU : Up (fun q_ => q_ = r) w w_6 := by rw [ew_7]; exact hU.set hF_a_w_4 (by first | exact Or.inl rfl | exact Or.inl (by omega) | exact Or.inr ⟨Nat.succ_ne_zero _, by rw [Nat.add_sub_cancel]; assumption⟩ | exact Or.inr ⟨by omega, by assumption⟩) hG _
  have hF_a_w_6 : w_6 a = some (r, oE 23 [.ref arr, .int (iI (0)), .int (iI (0))]) := by rw [ew_7]; exact wset_eq _ _ _
  have hF_arr_w_6 : w_6 arr = some (r, rE G 4 17 (fun _ => none)) := by rw [ew_7]; exact (wset_ne _ (by first | exact ne_arr_a | exact Ne.symm ne_a_arr | exact w_neR hF_arr_w_4 hF_a_w_4 (by omega) | exact w_ne hF_arr_w_4 hF_a_w_4 (by intro h; cases h))).trans hF_arr_w_4
  exact h_vreturn hx hb hlk hret hR hL ⟨⟨arr, _, 0, 0, hF_a_w_6, hF_arr_w_6, by decide, by decide, Nat.zero_le _, Or.inl rfl, fun i hi => absurd hi (Nat.not_lt_zero _)⟩, hU⟩ (by omega) (by omega) rfl rfl dJ1_init_13

set_option maxHeartbeats 4000000 in
set_option maxRecDepth 100000 in
/-- ArrayDeque.addLast -/
theorem dq_add (l : Launch) (G : Gl) (w : Wd) (r a : Nat) (L : List Nat) (hA : DqAt G w r a L) (hG : RegW w) (hr : r ≠ 0) (v : Nat) (C : String) (hca : Cond.castable C "java/lang/Object" ∈ lw_tbl) (hv : hasC w v C) (hl8 : L.length < 15) : HM l yJ1_addLast cJ1_addLast 3 none 2 0 0 G [.ref a, .ref v] w (QV G (fun w_ => DqAt G w_ r a (L ++ [v]) ∧ Up (fun q_ => q_ = r) w w_)) := by
  refine HM.mk (by decide +kernel) (Nat.le_of_ble_eq_true rfl) ?_
  intro p9 e9 s9 m9 a9 b9 meth9 c9 ls X hret hlk hnm hl H hR
  have hx := X.1.1
  have hb := X.1.2.1
  have hl : lv_has ls 3 [(0, .ref a), (1, .ref v)] := hl
  have hL : LK G [] := fun q h => absurd h List.not_mem_nil
  generalize ([] : List Loc) = locs at hL ⊢
  have hU : Up (fun q_ => q_ = r) w w := Up.rf hG
  have hA0 := hA
  obtain ⟨arr, f, h, t, hA1, hA2, hA3, hA4, hA5, hA6, hA7⟩ := hA
  refine lv_aload_n hx hb dJ1_addLast_0 rfl (lv_at hl 1 rfl) ?_
  refine lv_ifnonnull (tgt := 12) hx hb dJ1_addLast_1 (by decide) ?_
  refine lv_aload_n hx hb dJ1_addLast_12 rfl (lv_at hl 0 rfl) ?_
  refine h_get X hR hA1 rfl in_J1 0 (by decide) q193 rfl dJ1_addLast_13 ?_
  refine lv_astore_n (lv' := [(2, .ref arr), (0, .ref a), (1, .ref v)]) hx hb dJ1_addLast_16 rfl hl (by decide) rfl (fun ls hl => ?_)
  refine lv_aload_n hx hb dJ1_addLast_17 rfl (lv_at hl 0 rfl) ?_
  refine lv_aload_n hx hb dJ1_addLast_18 rfl (lv_at hl 1 rfl) ?_
  refine h_get X hR hA1 rfl in_J1 2 (by decide) q195 rfl dJ1_addLast_19 ?_
  refine lv_aload_n hx hb dJ1_addLast_22 rfl (lv_at hl 2 rfl) ?_
  refine h_aast X hR hL hA2 hr rfl hv (Or.inl hca) (by omega) (by omega) dJ1_addLast_23 (fun w_1 ew_2 H locs hR hL => ?_)
  have hU : Up (fun q_ => q_ = r) w w_1 := by rw [ew_2]; exact hU.set hA2 (by first | exact Or.inl rfl | exact Or.inl (by omega) | exact Or.inr ⟨Nat.succ_ne_zero _, by rw [Nat.add_sub_cancel]; assumption⟩ | exact Or.inr ⟨by omega, by assumption⟩) hG _
  have hF_arr_w_1 : w_1 arr = some (r, rE G 4 17 (zset f ((t : Int)).toNat (some v))) := by rw [ew_2]; exact wset_eq _ _ _
  have hF_a_w_1 : w_1 a = some (r, oE 23 [.ref arr, .int (iI ((h : Int))), .int (iI ((t : Int)))]) := by rw [ew_2]; exact (wset_ne _ (by first | exact ne_a_arr | exact Ne.symm ne_arr_a | exact w_neR hA1 hA2 (by omega) | exact w_ne hA1 hA2 (by intro h; cases h))).trans hA1
  refine lv_aload_n hx hb dJ1_addLast_24 rfl (lv_at hl 1 rfl) ?_
  refine h_get X hR hF_a_w_1 rfl in_J1 1 (by decide) q194 rfl dJ1_addLast_25 ?_
  refine lv_aload_n hx hb dJ1_addLast_28 rfl (lv_at hl 1 rfl) ?_
  refine lv_aload_n hx hb dJ1_addLast_29 rfl (lv_at hl 1 rfl) ?_
  refine h_get X hR hF_a_w_1 rfl in_J1 2 (by decide) q195 rfl dJ1_addLast_30 ?_
  refine lv_aload_n hx hb dJ1_addLast_33 rfl (lv_at hl 0 rfl) ?_
  refine h_alenR X hR hF_arr_w_1 rfl dJ1_addLast_34 ?_
  refine W.eq (g2 := F0 m9 35 ls [.int (iI (17)), .int (iI ((t : Int))), .ref a, .int (iI ((h : Int)))]) (congrArg (fun z_ : Int => F0 m9 35 ls [.int (iI (z_)), .int (iI ((t : Int))), .ref a, .int (iI ((h : Int)))]) (show (((17 : Nat) : Int) : Int) = 17 from (by rfl))) ?_
  -- call java/util/ArrayDeque.inc
  refine h_kIp (h_runS X hR (dq_inc l G w_1 ((t : Int)) 17 (by omega) (by omega)) pn_yJ1_inc q1964 q1965 q122 q1966 ⟨by decide, by decide⟩ hl.1 (Nat.le_of_ble_eq_true rfl) dJ1_addLast_35 ⟨by omega, by omega⟩) hL (fun H locs hR hL => ?_)
  refine lv_dup_x1 hx hb dJ1_addLast_38 rfl rfl ?_
  refine h_put X hR hL hF_a_w_1 hr rfl in_J1 tyJ1_ok nmJ1 2 (by decide) q195 rfl rfl rfl (Nat.le_of_ble_eq_true rfl) dJ1_addLast_39 (fun w_6 ew_7 H locs hR hL => ?_)
  have hU : Up (fun q_ => q_ = r) w w_6 := by rw [ew_7]; exact hU.set hF_a_w_1 (by first | exact Or.inl rfl | exact Or.inl (by omega) | exact Or.inr ⟨Nat.succ_ne_zero _, by rw [Nat.add_sub_cancel]; assumption⟩ | exact Or.inr ⟨by omega, by assumption⟩) hG _
  have hF_a_w_6 : w_6 a = some (r, oE 23 [.ref arr, .int (iI ((h : Int))), .int (iI (if (t : Int) + 1 < 17 then (t : Int) + 1 else 0))]) := by rw [ew_7]; exact wset_eq _ _ _
  have hF_arr_w_6 : w_6 arr = some (r, rE G 4 17 (zset f ((t : Int)).toNat (some v))) := by rw [ew_7]; exact (wset_ne _ (by first | exact ne_arr_a | exact Ne.symm ne_a_arr | exact w_neR hF_arr_w_1 hF_a_w_1 (by omega) | exact w_ne hF_arr_w_1 hF_a_w_1 (by intro h; cases h))).trans hF_arr_w_1
  refine h_icmp_ne hx hb 50 dJ1_addLast_42 (by decide) ⟨by omega, by omega⟩ ⟨by split <;> omega, by split <;> omega⟩ (fun c_g => ?_) (fun c_g => ?_)
  ·
    have hD9 : DqAt G w_6 r a (L ++ [v]) := ⟨arr, _, h, (if t + 1 < 17 then t + 1 else 0), by rw [show ((if t + 1 < 17 then t + 1 else 0 : Nat) : Int) = (if (t : Int) + 1 < 17 then (t : Int) + 1 else 0) by split <;> split <;> omega]; exact hF_a_w_6, hF_arr_w_6, hA3, by split <;> omega, by rw [List.length_append, List.length_singleton]; omega, by rw [List.length_append, List.length_singleton]; split <;> omega, fun i hi => (by rw [List.length_append, List.length_singleton] at hi; rw [app_atn L v i hi]; unfold zset; rw [Int.toNat_natCast]; by_cases q : i = L.length; (rw [if_pos q, if_pos (by split <;> omega)]); (rw [if_neg q, if_neg (by split <;> omega)]; exact hA7 i (by omega)))⟩
    exact h_vreturn hx hb hlk hret hR hL ⟨hD9, hU⟩ (by omega) (by omega) rfl rfl dJ1_addLast_50
  ·
    exact absurd c_g (by split <;> omega)

set_option maxHeartbeats 4000000 in
set_option maxRecDepth 100000 in
/-- ArrayDeque.elementAt -/
theorem dq_el (l : Launch) (G : Gl) (w : Wd) (ra arr v : Nat) (f : Nat → Option Nat) (i : Nat) (h2 : w arr = some (ra, rE G 4 17 f)) (hi : i < 17) (hf : f i = some v) : HM l yJ1_elementAt cJ1_elementAt 2 (some (.object "java/lang/Object")) 1 0 0 G [.ref arr, .int (iI ((i : Int)))] w (QR G (fun z_ w_ => z_ = v ∧ w_ = w)) := by
  refine HM.mk (by decide +kernel) (Nat.le_of_ble_eq_true rfl) ?_
  intro p9 e9 s9 m9 a9 b9 meth9 c9 ls X hret hlk hnm hl H hR
  have hx := X.1.1
  have hb := X.1.2.1
  have hl : lv_has ls 2 [(0, .ref arr), (1, .int (iI ((i : Int))))] := hl
  have hL : LK G [] := fun q h => absurd h List.not_mem_nil
  generalize ([] : List Loc) = locs at hL ⊢
  refine lv_aload_n hx hb dJ1_elementAt_0 rfl (lv_at hl 0 rfl) ?_
  refine lv_iload_n hx hb dJ1_elementAt_1 rfl (lv_at hl 1 rfl) ?_
  refine h_aald X hR h2 rfl (by omega) (by omega) dJ1_elementAt_2 ?_
  refine W.eq (g2 := F0 m9 3 ls [.ref v]) (by rw [show f ((i : Int)).toNat = some v by rw [Int.toNat_natCast]; exact hf]; rfl) ?_
  exact h_areturn hx hb hlk hret (by first | exact Or.inl ⟨_, rfl⟩ | exact Or.inr ⟨_, rfl⟩) hR hL ⟨rfl, rfl⟩ (by omega) (by omega) rfl rfl dJ1_elementAt_3

set_option maxHeartbeats 4000000 in
set_option maxRecDepth 100000 in
/-- ArrayDeque.pollFirst -/
theorem dq_pf (l : Launch) (G : Gl) (w : Wd) (r a : Nat) (L : List Nat) (hA : DqAt G w r a L) (hG : RegW w) (hr : r ≠ 0) (hl0 : 0 < L.length) : HM l yJ1_pollFirst cJ1_pollFirst 4 (some (.object "java/lang/Object")) 2 0 0 G [.ref a] w (QR G (fun z_ w_ => z_ = L.getD 0 0 ∧ DqAt G w_ r a (L.drop 1) ∧ Up (fun q_ => q_ = r) w w_)) := by
  refine HM.mk (by decide +kernel) (Nat.le_of_ble_eq_true rfl) ?_
  intro p9 e9 s9 m9 a9 b9 meth9 c9 ls X hret hlk hnm hl H hR
  have hx := X.1.1
  have hb := X.1.2.1
  have hl : lv_has ls 4 [(0, .ref a)] := hl
  have hL : LK G [] := fun q h => absurd h List.not_mem_nil
  generalize ([] : List Loc) = locs at hL ⊢
  have hU : Up (fun q_ => q_ = r) w w := Up.rf hG
  have hA0 := hA
  obtain ⟨arr, f, h, t, hA1, hA2, hA3, hA4, hA5, hA6, hA7⟩ := hA
  refine lv_aload_n hx hb dJ1_pollFirst_0 rfl (lv_at hl 0 rfl) ?_
  refine h_get X hR hA1 rfl in_J1 0 (by decide) q193 rfl dJ1_pollFirst_1 ?_
  refine lv_dup hx hb dJ1_pollFirst_4 rfl ?_
  refine lv_astore_n (lv' := [(1, .ref arr), (0, .ref a)]) hx hb dJ1_pollFirst_5 rfl hl (by decide) rfl (fun ls hl => ?_)
  refine lv_aload_n hx hb dJ1_pollFirst_6 rfl (lv_at hl 1 rfl) ?_
  refine h_get X hR hA1 rfl in_J1 1 (by decide) q194 rfl dJ1_pollFirst_7 ?_
  refine lv_dup hx hb dJ1_pollFirst_10 rfl ?_
  refine lv_istore_n (lv' := [(2, .int (iI ((h : Int)))), (1, .ref arr), (0, .ref a)]) hx hb dJ1_pollFirst_11 rfl hl (by decide) rfl (fun ls hl => ?_)
  -- call java/util/ArrayDeque.elementAt
  refine h_kRp (h_runS X hR (dq_el l G w r arr (L.getD 0 0) f h hA2 (by omega) (by have h_ := hA7 0 hl0; rw [Nat.add_zero, if_pos hA3] at h_; exact h_)) pn_yJ1_elementAt q1961 q1962 q122 q1963 ⟨by decide, by decide⟩ hl.1 (Nat.le_of_ble_eq_true rfl) dJ1_pollFirst_12 ⟨by omega, by omega⟩) hL (fun H locs hR hL => ?_)
  refine lv_astore_n (lv' := [(3, .ref (L.getD 0 0)), (2, .int (iI ((h : Int)))), (1, .ref arr), (0, .ref a)]) hx hb dJ1_pollFirst_15 rfl hl (by decide) rfl (fun ls hl => ?_)
  refine lv_aload_n hx hb dJ1_pollFirst_16 rfl (lv_at hl 0 rfl) ?_
  refine lv_ifnull hx hb dJ1_pollFirst_17 ?_
  refine lv_aload_n hx hb dJ1_pollFirst_20 rfl (lv_at hl 2 rfl) ?_
  refine lv_iload_n hx hb dJ1_pollFirst_21 rfl (lv_at hl 1 rfl) ?_
  refine lv_null hx hb dJ1_pollFirst_22 ?_
  refine h_aastN X hR hL hA2 hr rfl (by omega) (by omega) dJ1_pollFirst_23 (fun w_4 ew_5 H locs hR hL => ?_)
  have hU : Up (fun q_ => q_ = r) w w_4 := by rw [ew_5]; exact hU.set hA2 (by first | exact Or.inl rfl | exact Or.inl (by omega) | exact Or.inr ⟨Nat.succ_ne_zero _, by rw [Nat.add_sub_cancel]; assumption⟩ | exact Or.inr ⟨by omega, by assumption⟩) hG _
  have hF_arr_w_4 : w_4 arr = some (r, rE G 4 17 (zset f ((h : Int)).toNat none)) := by rw [ew_5]; exact wset_eq _ _ _
  have hF_a_w_4 : w_4 a = some (r, oE 23 [.ref arr, .int (iI ((h : Int))), .int (iI ((t : Int)))]) := by rw [ew_5]; exact (wset_ne _ (by first | exact ne_a_arr | exact Ne.symm ne_arr_a | exact w_neR hA1 hA2 (by omega) | exact w_ne hA1 hA2 (by intro h; cases h))).trans hA1
  refine lv_aload_n hx hb dJ1_pollFirst_24 rfl (lv_at hl 3 rfl) ?_
  refine lv_iload_n hx hb dJ1_pollFirst_25 rfl (lv_at hl 1 rfl) ?_
  refine lv_aload_n hx hb dJ1_pollFirst_26 rfl (lv_at hl 2 rfl) ?_
  refine h_alenR X hR hF_arr_w_4 rfl dJ1_pollFirst_27 ?_
  refine W.eq (g2 := F0 m9 28 ls [.int (iI (17)), .int (iI ((h : Int))), .ref a]) (congrArg (fun z_ : Int => F0 m9 28 ls [.int (iI (z_)), .int (iI ((h : Int))), .ref a]) (show (((17 : Nat) : Int) : Int) = 17 from (by rfl))) ?_
  -- call java/util/ArrayDeque.inc
  refine h_kIp (h_runS X hR (dq_inc l G w_4 ((h : Int)) 17 (by omega) (by omega)) pn_yJ1_inc q1964 q1965 q122 q1966 ⟨by decide, by decide⟩ hl.1 (Nat.le_of_ble_eq_true rfl) dJ1_pollFirst_28 ⟨by omega, by omega⟩) hL (fun H locs hR hL => ?_)
  refine h_put X hR hL hF_a_w_4 hr rfl in_J1 tyJ1_ok nmJ1 1 (by decide) q194 rfl rfl rfl (Nat.le_of_ble_eq_true rfl) dJ1_pollFirst_31 (fun w_9 ew_10 H locs hR hL => ?_)
  have hU : Up (fun q_ => q_ = r) w w_9 := by rw [ew_10]; exact hU.set hF_a_w_4 (by first | exact Or.inl rfl | exact Or.inl (by omega) | exact Or.inr ⟨Nat.succ_ne_zero _, by rw [Nat.add_sub_cancel]; assumption⟩ | exact Or.inr ⟨by omega, by assumption⟩) hG _
  have hF_a_w_9 : w_9 a = some (r, oE 23 [.ref arr, .int (iI (if (h : Int) + 1 < 17 then (h : Int) + 1 else 0)), .int (iI ((t : Int)))]) := by rw [ew_10]; exact wset_eq _ _ _
  have hF_arr_w_9 : w_9 arr = some (r, rE G 4 17 (zset f ((h : Int)).toNat none)) := by rw [ew_10]; exact (wset_ne _ (by first | exact ne_arr_a | exact Ne.symm ne_a_arr | exact w_neR hF_arr_w_4 hF_a_w_4 (by omega) | exact w_ne hF_arr_w_4 hF_a_w_4 (by intro h; cases h))).trans hF_arr_w_4
  refine lv_aload_n hx hb dJ1_pollFirst_34 rfl (lv_at hl 0 rfl) ?_
  have hD9 : DqAt G w_9 r a (L.drop 1) := ⟨arr, _, (if h + 1 < 17 then h + 1 else 0), t, by rw [show ((if h + 1 < 17 then h + 1 else 0 : Nat) : Int) = (if (h : Int) + 1 < 17 then (h : Int) + 1 else 0) by split <;> split <;> omega]; exact hF_a_w_9, hF_arr_w_9, by split <;> omega, hA4, by rw [List.length_drop]; omega, by rw [List.length_drop]; split <;> omega, fun i hi => (by rw [List.length_drop] at hi; rw [drop1_at]; unfold zset; rw [Int.toNat_natCast, if_neg (by split <;> split <;> omega)]; have h_ := hA7 (i + 1) (by omega); rw [← h_]; congr 1; split <;> split <;> split <;> omega)⟩
  exact h_areturn hx hb hlk hret (by first | exact Or.inl ⟨_, rfl⟩ | exact Or.inr ⟨_, rfl⟩) hR hL ⟨rfl, hD9, hU⟩ (by omega) (by omega) rfl rfl dJ1_pollFirst_35

set_option maxHeartbeats 4000000 in
set_option maxRecDepth 100000 in
/-- ArrayDeque.removeFirst -/
theorem dq_rf (l : Launch) (G : Gl) (w : Wd) (r a : Nat) (L : List Nat) (hA : DqAt G w r a L) (hG : RegW w) (hr : r ≠ 0) (hl0 : 0 < L.length) : HM l yJ1_removeFirst cJ1_removeFirst 2 (some (.object "java/lang/Object")) 3 0 0 G [.ref a] w (QR G (fun z_ w_ => z_ = L.getD 0 0 ∧ DqAt G w_ r a (L.drop 1) ∧ Up (fun q_ => q_ = r) w w_)) := by
  refine HM.mk (by decide +kernel) (Nat.le_of_ble_eq_true rfl) ?_
  intro p9 e9 s9 m9 a9 b9 meth9 c9 ls X hret hlk hnm hl H hR
  have hx := X.1.1
  have hb := X.1.2.1
  have hl : lv_has ls 2 [(0, .ref a)] := hl
  have hL : LK G [] := fun q h => absurd h List.not_mem_nil
  generalize ([] : List Loc) = locs at hL ⊢
  have hU : Up (fun q_ => q_ = r) w w := Up.rf hG
  refine lv_aload_n hx hb dJ1_removeFirst_0 rfl (lv_at hl 0 rfl) ?_
  -- call java/util/ArrayDeque.pollFirst
  refine h_kR (h_runV X hR (dq_pf l G w r a L hA hU.2.2.1 hr hl0) pn_yJ1_pollFirst (hA.c) q1957 q1958 q1959 q122 q1960 ⟨by decide, by decide⟩ hl.1 (Nat.le_of_ble_eq_true rfl) dJ1_removeFirst_1 ⟨by omega, by omega⟩) hL (fun z_1 w_2 hp_3 H locs hR hL => ?_)
  obtain ⟨rfl, hD__5, u_4⟩ := hp_3
  have hU : Up (fun q_ => q_ = r) w w_2 := hU.tr u_4 (fun q_ h_ => by first | exact absurd h_ id | exact Or.inl h_ | ((try dsimp only at h_); first | exact Or.inl (by omega) | exact Or.inr ⟨by omega, by subst h_; rw [Nat.add_sub_cancel]; assumption⟩)) hG
  refine lv_astore_n (lv' := [(1, .ref (L.getD 0 0)), (0, .ref a)]) hx hb dJ1_removeFirst_4 rfl hl (by decide) rfl (fun ls hl => ?_)
  refine lv_aload_n hx hb dJ1_removeFirst_5 rfl (lv_at hl 0 rfl) ?_
  refine lv_ifnonnull (tgt := 17) hx hb dJ1_removeFirst_6 (by decide) ?_
  refine lv_aload_n hx hb dJ1_removeFirst_17 rfl (lv_at hl 0 rfl) ?_
  exact h_areturn hx hb hlk hret (by first | exact Or.inl ⟨_, rfl⟩ | exact Or.inr ⟨_, rfl⟩) hR hL ⟨rfl, hD__5, hU⟩ (by omega) (by omega) rfl rfl dJ1_removeFirst_18

set_option maxHeartbeats 4000000 in
set_option maxRecDepth 100000 in
/-- ArrayDeque.pollLast -/
theorem dq_pl (l : Launch) (G : Gl) (w : Wd) (r a : Nat) (L : List Nat) (hA : DqAt G w r a L) (hG : RegW w) (hr : r ≠ 0) (hl0 : 0 < L.length) : HM l yJ1_pollLast cJ1_pollLast 4 (some (.object "java/lang/Object")) 2 0 0 G [.ref a] w (QR G (fun z_ w_ => z_ = L.getD (L.length - 1) 0 ∧ DqAt G w_ r a (L.take (L.length - 1)) ∧ Up (fun q_ => q_ = r) w w_)) := by
  refine HM.mk (by decide +kernel) (Nat.le_of_ble_eq_true rfl) ?_
  intro p9 e9 s9 m9 a9 b9 meth9 c9 ls X hret hlk hnm hl H hR
  have hx := X.1.1
  have hb := X.1.2.1
  have hl : lv_has ls 4 [(0, .ref a)] := hl
  have hL : LK G [] := fun q h => absurd h List.not_mem_nil
  generalize ([] : List Loc) = locs at hL ⊢
  have hU : Up (fun q_ => q_ = r) w w := Up.rf hG
  have hA0 := hA
  obtain ⟨arr, f, h, t, hA1, hA2, hA3, hA4, hA5, hA6, hA7⟩ := hA
  obtain ⟨t1, ht1⟩ : ∃ t1 : Nat, t1 = if t = 0 then 16 else t - 1 := ⟨_, rfl⟩
  have ht2 : t1 < 17 ∧ (t1 + 1 = t ∨ (t = 0 ∧ t1 = 16)) := by rw [ht1]; split <;> omega
  refine lv_aload_n hx hb dJ1_pollLast_0 rfl (lv_at hl 0 rfl) ?_
  refine h_get X hR hA1 rfl in_J1 0 (by decide) q193 rfl dJ1_pollLast_1 ?_
  refine lv_dup hx hb dJ1_pollLast_4 rfl ?_
  refine lv_astore_n (lv' := [(1, .ref arr), (0, .ref a)]) hx hb dJ1_pollLast_5 rfl hl (by decide) rfl (fun ls hl => ?_)
  refine lv_aload_n hx hb dJ1_pollLast_6 rfl (lv_at hl 1 rfl) ?_
  refine h_get X hR hA1 rfl in_J1 2 (by decide) q195 rfl dJ1_pollLast_7 ?_
  refine lv_aload_n hx hb dJ1_pollLast_10 rfl (lv_at hl 0 rfl) ?_
  refine h_alenR X hR hA2 rfl dJ1_pollLast_11 ?_
  refine W.eq (g2 := F0 m9 12 ls [.int (iI (17)), .int (iI ((t : Int))), .ref arr]) (congrArg (fun z_ : Int => F0 m9 12 ls [.int (iI (z_)), .int (iI ((t : Int))), .ref arr]) (show (((17 : Nat) : Int) : Int) = 17 from (by rfl))) ?_
  -- call java/util/ArrayDeque.dec
  refine h_kIp (h_runS X hR (dq_dec l G w ((t : Int)) 17 (by omega) (by omega)) pn_yJ1_dec q2014 q2015 q122 q2016 ⟨by decide, by decide⟩ hl.1 (Nat.le_of_ble_eq_true rfl) dJ1_pollLast_12 ⟨by omega, by omega⟩) hL (fun H locs hR hL => ?_)
  refine W.eq (g2 := F0 m9 15 ls [.int (iI ((t1 : Int))), .ref arr]) (congrArg (fun z_ : Int => F0 m9 15 ls [.int (iI (z_)), .ref arr]) (show (if (t : Int) - 1 < 0 then 17 - 1 else (t : Int) - 1 : Int) = (t1 : Int) from (by split <;> omega))) ?_
  refine lv_dup hx hb dJ1_pollLast_15 rfl ?_
  refine lv_istore_n (lv' := [(2, .int (iI ((t1 : Int)))), (1, .ref arr), (0, .ref a)]) hx hb dJ1_pollLast_16 rfl hl (by decide) rfl (fun ls hl => ?_)
  -- call java/util/ArrayDeque.elementAt
  refine h_kRp (h_runS X hR (dq_el l G w r arr (L.getD (L.length - 1) 0) f t1 hA2 (by omega) (by have h_ := hA7 (L.length - 1) (by omega); rw [← h_]; congr 1; split <;> omega)) pn_yJ1_elementAt q1961 q1962 q122 q1963 ⟨by decide, by decide⟩ hl.1 (Nat.le_of_ble_eq_true rfl) dJ1_pollLast_17 ⟨by omega, by omega⟩) hL (fun H locs hR hL => ?_)
  refine lv_astore_n (lv' := [(3, .ref (L.getD (L.length - 1) 0)), (2, .int (iI ((t1 : Int)))), (1, .ref arr), (0, .ref a)]) hx hb dJ1_pollLast_20 rfl hl (by decide) rfl (fun ls hl => ?_)
  refine lv_aload_n hx hb dJ1_pollLast_21 rfl (lv_at hl 0 rfl) ?_
  refine lv_ifnull hx hb dJ1_pollLast_22 ?_
  refine lv_aload_n hx hb dJ1_pollLast_25 rfl (lv_at hl 2 rfl) ?_
  refine lv_aload_n hx hb dJ1_pollLast_26 rfl (lv_at hl 3 rfl) ?_
  refine lv_iload_n hx hb dJ1_pollLast_27 rfl (lv_at hl 1 rfl) ?_
  refine lv_dup_x1 hx hb dJ1_pollLast_28 rfl rfl ?_
  refine h_put X hR hL hA1 hr rfl in_J1 tyJ1_ok nmJ1 2 (by decide) q195 rfl rfl rfl (Nat.le_of_ble_eq_true rfl) dJ1_pollLast_29 (fun w_7 ew_8 H locs hR hL => ?_)
  have hU : Up (fun q_ => q_ = r) w w_7 := by rw [ew_8]; exact hU.set hA1 (by first | exact Or.inl rfl | exact Or.inl (by omega) | exact Or.inr ⟨Nat.succ_ne_zero _, by rw [Nat.add_sub_cancel]; assumption⟩ | exact Or.inr ⟨by omega, by assumption⟩) hG _
  have hF_a_w_7 : w_7 a = some (r, oE 23 [.ref arr, .int (iI ((h : Int))), .int (iI ((t1 : Int)))]) := by rw [ew_8]; exact wset_eq _ _ _
  have hF_arr_w_7 : w_7 arr = some (r, rE G 4 17 f) := by rw [ew_8]; exact (wset_ne _ (by first | exact ne_arr_a | exact Ne.symm ne_a_arr | exact w_neR hA2 hA1 (by omega) | exact w_ne hA2 hA1 (by intro h; cases h))).trans hA2
  refine lv_null hx hb dJ1_pollLast_32 ?_
  refine h_aastN X hR hL hF_arr_w_7 hr rfl (by omega) (by omega) dJ1_pollLast_33 (fun w_9 ew_10 H locs hR hL => ?_)
  have hU : Up (fun q_ => q_ = r) w w_9 := by rw [ew_10]; exact hU.set hF_arr_w_7 (by first | exact Or.inl rfl | exact Or.inl (by omega) | exact Or.inr ⟨Nat.succ_ne_zero _, by rw [Nat.add_sub_cancel]; assumption⟩ | exact Or.inr ⟨by omega, by assumption⟩) hG _
  have hF_arr_w_9 : w_9 arr = some (r, rE G 4 17 (zset f ((t1 : Int)).toNat none)) := by rw [ew_10]; exact wset_eq _ _ _
  have hF_a_w_9 : w_9 a = some (r, oE 23 [.ref arr, .int (iI ((h : Int))), .int (iI ((t1 : Int)))]) := by rw [ew_10]; exact (wset_ne _ (by first | exact ne_a_arr | exact Ne.symm ne_arr_a | exact w_neR hF_a_w_7 hF_arr_w_7 (by omega) | exact w_ne hF_a_w_7 hF_arr_w_7 (by intro h; cases h))).trans hF_a_w_7
  refine lv_aload_n hx hb dJ1_pollLast_34 rfl (lv_at hl 0 rfl) ?_
  have hD9 : DqAt G w_9 r a (L.take (L.length - 1)) := ⟨arr, _, h, t1, hF_a_w_9, hF_arr_w_9, hA3, by omega, by rw [List.length_take]; omega, by rw [List.length_take]; omega, fun i hi => (by rw [List.length_take] at hi; rw [take_at _ _ _ (by omega)]; unfold zset; rw [Int.toNat_natCast, if_neg (by split <;> omega)]; exact hA7 i (by omega))⟩
  exact h_areturn hx hb hlk hret (by first | exact Or.inl ⟨_, rfl⟩ | exact Or.inr ⟨_, rfl⟩) hR hL ⟨rfl, hD9, hU⟩ (by omega) (by omega) rfl rfl dJ1_pollLast_35

set_option maxHeartbeats 4000000 in
set_option maxRecDepth 100000 in
/-- ArrayDeque.removeLast -/
theorem dq_rl (l : Launch) (G : Gl) (w : Wd) (r a : Nat) (L : List Nat) (hA : DqAt G w r a L) (hG : RegW w) (hr : r ≠ 0) (hl0 : 0 < L.length) : HM l yJ1_removeLast cJ1_removeLast 2 (some (.object "java/lang/Object")) 3 0 0 G [.ref a] w (QR G (fun z_ w_ => z_ = L.getD (L.length - 1) 0 ∧ DqAt G w_ r a (L.take (L.length - 1)) ∧ Up (fun q_ => q_ = r) w w_)) := by
  refine HM.mk (by decide +kernel) (Nat.le_of_ble_eq_true rfl) ?_
  intro p9 e9 s9 m9 a9 b9 meth9 c9 ls X hret hlk hnm hl H hR
  have hx := X.1.1
  have hb := X.1.2.1
  have hl : lv_has ls 2 [(0, .ref a)] := hl
  have hL : LK G [] := fun q h => absurd h List.not_mem_nil
  generalize ([] : List Loc) = locs at hL ⊢
  have hU : Up (fun q_ => q_ = r) w w := Up.rf hG
  refine lv_aload_n hx hb dJ1_removeLast_0 rfl (lv_at hl 0 rfl) ?_
  -- call java/util/ArrayDeque.pollLast
  refine h_kR (h_runV X hR (dq_pl l G w r a L hA hU.2.2.1 hr hl0) pn_yJ1_pollLast (hA.c) q2010 q2011 q2012 q122 q2013 ⟨by decide, by decide⟩ hl.1 (Nat.le_of_ble_eq_true rfl) dJ1_removeLast_1 ⟨by omega, by omega⟩) hL (fun z_1 w_2 hp_3 H locs hR hL => ?_)
  obtain ⟨rfl, hD__5, u_4⟩ := hp_3
  have hU : Up (fun q_ => q_ = r) w w_2 := hU.tr u_4 (fun q_ h_ => by first | exact absurd h_ id | exact Or.inl h_ | ((try dsimp only at h_); first | exact Or.inl (by omega) | exact Or.inr ⟨by omega, by subst h_; rw [Nat.add_sub_cancel]; assumption⟩)) hG
  refine lv_astore_n (lv' := [(1, .ref (L.getD (L.length - 1) 0)), (0, .ref a)]) hx hb dJ1_removeLast_4 rfl hl (by decide) rfl (fun ls hl => ?_)
  refine lv_aload_n hx hb dJ1_removeLast_5 rfl (lv_at hl 0 rfl) ?_
  refine lv_ifnonnull (tgt := 17) hx hb dJ1_removeLast_6 (by decide) ?_
  refine lv_aload_n hx hb dJ1_removeLast_17 rfl (lv_at hl 0 rfl) ?_
  exact h_areturn hx hb hlk hret (by first | exact Or.inl ⟨_, rfl⟩ | exact Or.inr ⟨_, rfl⟩) hR hL ⟨rfl, hD__5, hU⟩ (by omega) (by omega) rfl rfl dJ1_removeLast_18

set_option maxHeartbeats 4000000 in
set_option maxRecDepth 100000 in
/-- ArrayDeque.circularClear -/
theorem dq_cc (l : Launch) (G : Gl) (w : Wd) (ra arr : Nat) (f : Nat → Option Nat) (h t : Nat) (h2 : w arr = some (ra, rE G 4 17 f)) (hra : ra ≠ 0) (hh : h < 17) (ht : t < 17) : HM l yJ1_circularClear cJ1_circularClear 4 none 1 0 0 G [.ref arr, .int (iI ((h : Int))), .int (iI ((t : Int)))] w (QV G (fun w_ => ∃ f2, w_ = wset w arr (ra, rE G 4 17 f2))) := by
  refine HM.mk (by decide +kernel) (Nat.le_of_ble_eq_true rfl) ?_
  intro p9 e9 s9 m9 a9 b9 meth9 c9 ls X hret hlk hnm hl H hR
  have hx := X.1.1
  have hb := X.1.2.1
  have hl : lv_has ls 4 [(0, .ref arr), (1, .int (iI ((h : Int)))), (2, .int (iI ((t : Int))))] := hl
  have hL : LK G [] := fun q h => absurd h List.not_mem_nil
  generalize ([] : List Loc) = locs at hL ⊢
  refine lv_iload_n hx hb dJ1_circularClear_0 rfl (lv_at hl 1 rfl) ?_
  refine lv_iload_n hx hb dJ1_circularClear_1 rfl (lv_at hl 2 rfl) ?_
  refine h_icmp_gt hx hb 9 dJ1_circularClear_2 (by decide) (by omega) (by omega) (fun c_1 => ?_) (fun c_1 => ?_)
  ·
    refine lv_aload_n hx hb dJ1_circularClear_9 rfl (lv_at hl 0 rfl) ?_
    refine h_alenR X hR h2 rfl dJ1_circularClear_10 ?_
    refine W.eq (g2 := F0 m9 11 ls [.int (iI (17))]) (congrArg (fun z_ : Int => F0 m9 11 ls [.int (iI (z_))]) (show (((17 : Nat) : Int) : Int) = 17 from (by rfl))) ?_
    refine lv_istore_n (lv' := [(3, .int (iI (17))), (0, .ref arr), (1, .int (iI ((h : Int)))), (2, .int (iI ((t : Int))))]) hx hb dJ1_circularClear_11 rfl hl (by decide) rfl (fun ls hl => ?_)
    have LOOP_2 : ∀ (N_ : Nat) (c i to : Nat) (f2 : Nat → Option Nat)(w7 : Wd) , ((c = 0 ∧ to = t) ∨ (c = 1 ∧ to = 17)) → (i ≤ 17) → (w7 = wset w arr (ra, rE G 4 17 f2)) → (c * 20 + (17 - i)) < N_ → ∀ (H : Heap) (locs : List Loc) (ls : Array Slot), Rp G w7 H → LK G locs → lv_has ls 4 [(0, .ref arr), (1, .int (iI ((i : Int)))), (2, .int (iI ((t : Int)))), (3, .int (iI ((to : Int))))] → W p9 l e9 (rmk 1 0 0) s9 m9 a9 b9 meth9 c9 H locs 0 0 (MQ b9 (QV G (fun w_ => ∃ f2, w_ = wset w arr (ra, rE G 4 17 f2))) a9 s9 0 0 (frG G)) (F0 m9 12 ls []) := by
      intro N_
      induction N_ with
      | zero => intro _ _ _ _ _ _ _ _ h_; exact absurd h_ (Nat.not_lt_zero _)
      | succ N_ ih_ =>
        intro c i to f2 w7 hc hi hW hN_ H locs ls hR hL hl
        have ih_2 := ih_
        clear ih_
        have hW7 : w7 arr = some (ra, rE G 4 17 f2) := by rw [hW]; exact wset_eq _ _ _
        refine lv_iload_n hx hb dJ1_circularClear_12 rfl (lv_at hl 1 rfl) ?_
        refine lv_iload_n hx hb dJ1_circularClear_13 rfl (lv_at hl 3 rfl) ?_
        refine h_icmp_ge hx hb 27 dJ1_circularClear_14 (by decide) (by omega) (by omega) (fun c_3 => ?_) (fun c_3 => ?_)
        ·
          refine lv_iload_n hx hb dJ1_circularClear_27 rfl (lv_at hl 3 rfl) ?_
          refine lv_iload_n hx hb dJ1_circularClear_28 rfl (lv_at hl 2 rfl) ?_
          refine h_icmp_ne hx hb 35 dJ1_circularClear_29 (by decide) (by omega) (by omega) (fun c_d => ?_) (fun c_d => ?_)
          ·
            refine h_iconst hx hb dJ1_circularClear_35 ?_
            refine lv_istore_n (lv' := [(1, .int (iI (0))), (0, .ref arr), (2, .int (iI ((t : Int)))), (3, .int (iI ((to : Int))))]) hx hb dJ1_circularClear_36 rfl hl (by decide) rfl (fun ls hl => ?_)
            refine lv_iload_n hx hb dJ1_circularClear_37 rfl (lv_at hl 2 rfl) ?_
            refine lv_istore_n (lv' := [(3, .int (iI ((t : Int)))), (1, .int (iI (0))), (0, .ref arr), (2, .int (iI ((t : Int))))]) hx hb dJ1_circularClear_38 rfl hl (by decide) rfl (fun ls hl => ?_)
            refine lv_goto (tgt := 12) hx hb dJ1_circularClear_39 (by decide) ?_
            exact ih_2 0 0 t f2 w7 (Or.inl ⟨rfl, rfl⟩) (Nat.zero_le _) hW (by omega) _ _ _ hR hL (lv_sub hl [2, 1, 3, 0] rfl)
          ·
            refine lv_goto (tgt := 42) hx hb dJ1_circularClear_32 (by decide) ?_
            exact h_vreturn hx hb hlk hret hR hL ⟨_, hW⟩ (by omega) (by omega) rfl rfl dJ1_circularClear_42
        ·
          refine lv_aload_n hx hb dJ1_circularClear_17 rfl (lv_at hl 0 rfl) ?_
          refine lv_iload_n hx hb dJ1_circularClear_18 rfl (lv_at hl 1 rfl) ?_
          refine lv_null hx hb dJ1_circularClear_19 ?_
          refine h_aastN X hR hL hW7 hra rfl (by omega) (by omega) dJ1_circularClear_20 (fun w_4 ew_5 H locs hR hL => ?_)
          have hF_arr_w_4 : w_4 arr = some (ra, rE G 4 17 (zset f2 ((i : Int)).toNat none)) := by rw [ew_5]; exact wset_eq _ _ _
          refine h_iinc (lv' := [(1, .int (iI ((i : Int) + 1))), (0, .ref arr), (2, .int (iI ((t : Int)))), (3, .int (iI ((to : Int))))]) hx hb dJ1_circularClear_21 hl (k := 1) rfl (by decide) rfl (fun ls hl => ?_)
          refine lv_goto (tgt := 12) hx hb dJ1_circularClear_24 (by decide) ?_
          exact ih_2 c (i + 1) to (zset f2 ((i : Int)).toNat none) w_4 hc (by omega) (by rw [ew_5, hW, wset_ww]) (by omega) _ _ _ hR hL (lv_sub hl [1, 0, 2, 3] rfl)
    exact LOOP_2 _ 1 h 17 f w (by omega) (by omega) (wset_self h2).symm (Nat.lt_succ_self _) _ _ _ hR hL (lv_sub hl [1, 2, 3, 0] rfl)
  ·
    refine lv_iload_n hx hb dJ1_circularClear_5 rfl (lv_at hl 2 rfl) ?_
    refine lv_goto (tgt := 11) hx hb dJ1_circularClear_6 (by decide) ?_
    refine lv_istore_n (lv' := [(3, .int (iI ((t : Int)))), (0, .ref arr), (1, .int (iI ((h : Int)))), (2, .int (iI ((t : Int))))]) hx hb dJ1_circularClear_11 rfl hl (by decide) rfl (fun ls hl => ?_)
    have LOOP_6 : ∀ (N_ : Nat) (c i to : Nat) (f2 : Nat → Option Nat)(w7 : Wd) , ((c = 0 ∧ to = t) ∨ (c = 1 ∧ to = 17)) → (i ≤ 17) → (w7 = wset w arr (ra, rE G 4 17 f2)) → (c * 20 + (17 - i)) < N_ → ∀ (H : Heap) (locs : List Loc) (ls : Array Slot), Rp G w7 H → LK G locs → lv_has ls 4 [(0, .ref arr), (1, .int (iI ((i : Int)))), (2, .int (iI ((t : Int)))), (3, .int (iI ((to : Int))))] → W p9 l e9 (rmk 1 0 0) s9 m9 a9 b9 meth9 c9 H locs 0 0 (MQ b9 (QV G (fun w_ => ∃ f2, w_ = wset w arr (ra, rE G 4 17 f2))) a9 s9 0 0 (frG G)) (F0 m9 12 ls []) := by
      intro N_
      induction N_ with
      | zero => intro _ _ _ _ _ _ _ _ h_; exact absurd h_ (Nat.not_lt_zero _)
      | succ N_ ih_ =>
        intro c i to f2 w7 hc hi hW hN_ H locs ls hR hL hl
        have ih_6 := ih_
        clear ih_
        have hW7 : w7 arr = some (ra, rE G 4 17 f2) := by rw [hW]; exact wset_eq _ _ _
        refine lv_iload_n hx hb dJ1_circularClear_12 rfl (lv_at hl 1 rfl) ?_
        refine lv_iload_n hx hb dJ1_circularClear_13 rfl (lv_at hl 3 rfl) ?_
        refine h_icmp_ge hx hb 27 dJ1_circularClear_14 (by decide) (by omega) (by omega) (fun c_7 => ?_) (fun c_7 => ?_)
        ·
          refine lv_iload_n hx hb dJ1_circularClear_27 rfl (lv_at hl 3 rfl) ?_
          refine lv_iload_n hx hb dJ1_circularClear_28 rfl (lv_at hl 2 rfl) ?_
          refine h_icmp_ne hx hb 35 dJ1_circularClear_29 (by decide) (by omega) (by omega) (fun c_d => ?_) (fun c_d => ?_)
          ·
            refine h_iconst hx hb dJ1_circularClear_35 ?_
            refine lv_istore_n (lv' := [(1, .int (iI (0))), (0, .ref arr), (2, .int (iI ((t : Int)))), (3, .int (iI ((to : Int))))]) hx hb dJ1_circularClear_36 rfl hl (by decide) rfl (fun ls hl => ?_)
            refine lv_iload_n hx hb dJ1_circularClear_37 rfl (lv_at hl 2 rfl) ?_
            refine lv_istore_n (lv' := [(3, .int (iI ((t : Int)))), (1, .int (iI (0))), (0, .ref arr), (2, .int (iI ((t : Int))))]) hx hb dJ1_circularClear_38 rfl hl (by decide) rfl (fun ls hl => ?_)
            refine lv_goto (tgt := 12) hx hb dJ1_circularClear_39 (by decide) ?_
            exact ih_6 0 0 t f2 w7 (Or.inl ⟨rfl, rfl⟩) (Nat.zero_le _) hW (by omega) _ _ _ hR hL (lv_sub hl [2, 1, 3, 0] rfl)
          ·
            refine lv_goto (tgt := 42) hx hb dJ1_circularClear_32 (by decide) ?_
            exact h_vreturn hx hb hlk hret hR hL ⟨_, hW⟩ (by omega) (by omega) rfl rfl dJ1_circularClear_42
        ·
          refine lv_aload_n hx hb dJ1_circularClear_17 rfl (lv_at hl 0 rfl) ?_
          refine lv_iload_n hx hb dJ1_circularClear_18 rfl (lv_at hl 1 rfl) ?_
          refine lv_null hx hb dJ1_circularClear_19 ?_
          refine h_aastN X hR hL hW7 hra rfl (by omega) (by omega) dJ1_circularClear_20 (fun w_8 ew_9 H locs hR hL => ?_)
          have hF_arr_w_8 : w_8 arr = some (ra, rE G 4 17 (zset f2 ((i : Int)).toNat none)) := by rw [ew_9]; exact wset_eq _ _ _
          refine h_iinc (lv' := [(1, .int (iI ((i : Int) + 1))), (0, .ref arr), (2, .int (iI ((t : Int)))), (3, .int (iI ((to : Int))))]) hx hb dJ1_circularClear_21 hl (k := 1) rfl (by decide) rfl (fun ls hl => ?_)
          refine lv_goto (tgt := 12) hx hb dJ1_circularClear_24 (by decide) ?_
          exact ih_6 c (i + 1) to (zset f2 ((i : Int)).toNat none) w_8 hc (by omega) (by rw [ew_9, hW, wset_ww]) (by omega) _ _ _ hR hL (lv_sub hl [1, 0, 2, 3] rfl)
    exact LOOP_6 _ 0 h t f w (by omega) (by omega) (wset_self h2).symm (Nat.lt_succ_self _) _ _ _ hR hL (lv_sub hl [1, 2, 3, 0] rfl)

set_option maxHeartbeats 4000000 in
set_option maxRecDepth 100000 in
/-- ArrayDeque.clear -/
theorem dq_clear (l : Launch) (G : Gl) (w : Wd) (r a : Nat) (L : List Nat) (hA : DqAt G w r a L) (hG : RegW w) (hr : r ≠ 0) : HM l yJ1_clear cJ1_clear 1 none 2 0 0 G [.ref a] w (QV G (fun w_ => DqAt G w_ r a [] ∧ Up (fun q_ => q_ = r) w w_)) := by
  refine HM.mk (by decide +kernel) (Nat.le_of_ble_eq_true rfl) ?_
  intro p9 e9 s9 m9 a9 b9 meth9 c9 ls X hret hlk hnm hl H hR
  have hx := X.1.1
  have hb := X.1.2.1
  have hl : lv_has ls 1 [(0, .ref a)] := hl
  have hL : LK G [] := fun q h => absurd h List.not_mem_nil
  generalize ([] : List Loc) = locs at hL ⊢
  have hU : Up (fun q_ => q_ = r) w w := Up.rf hG
  have hA0 := hA
  obtain ⟨arr, f, h, t, hA1, hA2, hA3, hA4, hA5, hA6, hA7⟩ := hA
  refine lv_aload_n hx hb dJ1_clear_0 rfl (lv_at hl 0 rfl) ?_
  refine h_get X hR hA1 rfl in_J1 0 (by decide) q193 rfl dJ1_clear_1 ?_
  refine lv_aload_n hx hb dJ1_clear_4 rfl (lv_at hl 0 rfl) ?_
  refine h_get X hR hA1 rfl in_J1 1 (by decide) q194 rfl dJ1_clear_5 ?_
  refine lv_aload_n hx hb dJ1_clear_8 rfl (lv_at hl 0 rfl) ?_
  refine h_get X hR hA1 rfl in_J1 2 (by decide) q195 rfl dJ1_clear_9 ?_
  -- call java/util/ArrayDeque.circularClear
  refine h_kV (h_runS X hR (dq_cc l G w r arr f h t hA2 hr hA3 hA4) pn_yJ1_circularClear q2029 q2030 q122 q2031 ⟨by decide, by decide⟩ hl.1 (Nat.le_of_ble_eq_true rfl) dJ1_clear_12 ⟨by omega, by omega⟩) hL (fun w_2 hp_3 H locs hR hL => ?_)
  obtain ⟨f_4, hq_5⟩ := hp_3
  have hU : Up (fun q_ => q_ = r) w w_2 := by rw [hq_5]; exact hU.set hA2 (by first | exact Or.inl rfl | exact Or.inl (by omega) | exact Or.inr ⟨Nat.succ_ne_zero _, by rw [Nat.add_sub_cancel]; assumption⟩ | exact Or.inr ⟨by omega, by assumption⟩) hG _
  have hF_arr_w_2 : w_2 arr = some (r, rE G 4 17 f_4) := by rw [hq_5]; exact wset_eq _ _ _
  have hF_a_w_2 : w_2 a = some (r, oE 23 [.ref arr, .int (iI ((h : Int))), .int (iI ((t : Int)))]) := by rw [hq_5]; exact (wset_ne _ (by first | exact ne_a_arr | exact Ne.symm ne_arr_a | exact w_neR hA1 hA2 (by omega) | exact w_ne hA1 hA2 (by intro h; cases h))).trans hA1
  refine lv_aload_n hx hb dJ1_clear_15 rfl (lv_at hl 0 rfl) ?_
  refine lv_aload_n hx hb dJ1_clear_16 rfl (lv_at hl 0 rfl) ?_
  refine h_iconst hx hb dJ1_clear_17 ?_
  refine lv_dup_x1 hx hb dJ1_clear_18 rfl rfl ?_
  refine h_put X hR hL hF_a_w_2 hr rfl in_J1 tyJ1_ok nmJ1 2 (by decide) q195 rfl rfl rfl (Nat.le_of_ble_eq_true rfl) dJ1_clear_19 (fun w_6 ew_7 H locs hR hL => ?_)
  have hU : Up (fun q_ => q_ = r) w w_6 := by rw [ew_7]; exact hU.set hF_a_w_2 (by first | exact Or.inl rfl | exact Or.inl (by omega) | exact Or.inr ⟨Nat.succ_ne_zero _, by rw [Nat.add_sub_cancel]; assumption⟩ | exact Or.inr ⟨by omega, by assumption⟩) hG _
  have hF_a_w_6 : w_6 a = some (r, oE 23 [.ref arr, .int (iI ((h : Int))), .int (iI (0))]) := by rw [ew_7]; exact wset_eq _ _ _
  have hF_arr_w_6 : w_6 arr = some (r, rE G 4 17 f_4) := by rw [ew_7]; exact (wset_ne _ (by first | exact ne_arr_a | exact Ne.symm ne_a_arr | exact w_neR hF_arr_w_2 hF_a_w_2 (by omega) | exact w_ne hF_arr_w_2 hF_a_w_2 (by intro h; cases h))).trans hF_arr_w_2
  refine h_put X hR hL hF_a_w_6 hr rfl in_J1 tyJ1_ok nmJ1 1 (by decide) q194 rfl rfl rfl (Nat.le_of_ble_eq_true rfl) dJ1_clear_22 (fun w_8 ew_9 H locs hR hL => ?_)
  have hU : Up (fun q_ => q_ = r) w w_8 := by rw [ew_9]; exact hU.set hF_a_w_6 (by first | exact Or.inl rfl | exact Or.inl (by omega) | exact Or.inr ⟨Nat.succ_ne_zero _, by rw [Nat.add_sub_cancel]; assumption⟩ | exact Or.inr ⟨by omega, by assumption⟩) hG _
  have hF_a_w_8 : w_8 a = some (r, oE 23 [.ref arr, .int (iI (0)), .int (iI (0))]) := by rw [ew_9]; exact wset_eq _ _ _
  have hF_arr_w_8 : w_8 arr = some (r, rE G 4 17 f_4) := by rw [ew_9]; exact (wset_ne _ (by first | exact ne_arr_a | exact Ne.symm ne_a_arr | exact w_neR hF_arr_w_6 hF_a_w_6 (by omega) | exact w_ne hF_arr_w_6 hF_a_w_6 (by intro h; cases h))).trans hF_arr_w_6
  exact h_vreturn hx hb hlk hret hR hL ⟨⟨arr, _, 0, 0, hF_a_w_8, hF_arr_w_8, by decide, by decide, Nat.zero_le _, Or.inl rfl, fun i hi => absurd hi (Nat.not_lt_zero _)⟩, hU⟩ (by omega) (by omega) rfl rfl dJ1_clear_25
