/-! JDK: ArrayList cleared; its iterator -/
set_option maxRecDepth 100000

theorem pn_yJ25_init : ParN yJ25_init 1 := by decide +kernel
theorem pn_yJ25_checkForComodification : ParN yJ25_checkForComodification 0 := by decide +kernel

set_option maxHeartbeats 4000000 in
set_option maxRecDepth 100000 in
/-- ArrayList.clear -/
theorem ls_clear (l : Launch) (G : Gl) (w : Wd) (r a cap : Nat) (mo : Int) (L : List Nat) (hA : LsAt G w r a cap mo L) (hG : RegW w) (hr : r ≠ 0) : HM l yJ3_clear cJ3_clear 4 none 1 0 0 G [.ref a] w (QV G (fun w_ => LsAt G w_ r a cap (mo + 1) [] ∧ Up (fun q_ => q_ = r) w w_)) := by
  refine HM.mk (by decide +kernel) (Nat.le_of_ble_eq_true rfl) ?_
  intro p9 e9 s9 m9 a9 b9 meth9 c9 ls X hret hlk hnm hl H hR
  have hx := X.1.1
  have hb := X.1.2.1
  have hl : lv_has ls 4 [(0, .ref a)] := hl
  have hL : LK G [] := fun q h => absurd h List.not_mem_nil
  generalize ([] : List Loc) = locs at hL ⊢
  have hU : Up (fun q_ => q_ = r) w w := Up.rf hG
  have hA0 := hA
  obtain ⟨arr, f, hA1, hA2, hA3, hA4, hA5⟩ := hA
  refine lv_aload_n hx hb dJ3_clear_0 rfl (lv_at hl 0 rfl) ?_
  refine lv_dup hx hb dJ3_clear_1 rfl ?_
  refine h_getS X hR hA1 rfl in_J3 0 (by decide) q542 q541 rfl dJ3_clear_2 ?_
  refine h_iconst hx hb dJ3_clear_5 ?_
  refine h_iadd hx hb dJ3_clear_6 ?_
  refine h_putS X hR hL hA1 hr rfl in_J3 tyJ3_ok nmJ3 0 (by decide) q542 q541 rfl rfl rfl (Nat.le_of_ble_eq_true rfl) dJ3_clear_7 (fun w_1 ew_2 H locs hR hL => ?_)
  have hU : Up (fun q_ => q_ = r) w w_1 := by rw [ew_2]; exact hU.set hA1 (by first | exact Or.inl rfl | exact Or.inl (by omega) | exact Or.inr ⟨Nat.succ_ne_zero _, by rw [Nat.add_sub_cancel]; assumption⟩ | exact Or.inr ⟨by omega, by assumption⟩) hG _
  have hF_a_w_1 : w_1 a = some (r, oE 21 [.int (iI (mo + 1)), .ref arr, .int (iI ((L.length : Int)))]) := by rw [ew_2]; exact wset_eq _ _ _
  have hF_arr_w_1 : w_1 arr = some (r, rE G 4 cap f) := by rw [ew_2]; exact (wset_ne _ (by first | exact ne_arr_a | exact Ne.symm ne_a_arr | exact w_neR hA2 hA1 (by omega) | exact w_ne hA2 hA1 (by intro h; cases h))).trans hA2
  refine lv_aload_n hx hb dJ3_clear_10 rfl (lv_at hl 0 rfl) ?_
  refine h_get X hR hF_a_w_1 rfl in_J3 1 (by decide) q535 rfl dJ3_clear_11 ?_
  refine lv_astore_n (lv' := [(1, .ref arr), (0, .ref a)]) hx hb dJ3_clear_14 rfl hl (by decide) rfl (fun ls hl => ?_)
  refine lv_aload_n hx hb dJ3_clear_15 rfl (lv_at hl 1 rfl) ?_
  refine h_get X hR hF_a_w_1 rfl in_J3 2 (by decide) q538 rfl dJ3_clear_16 ?_
  refine lv_istore_n (lv' := [(2, .int (iI ((L.length : Int)))), (1, .ref arr), (0, .ref a)]) hx hb dJ3_clear_19 rfl hl (by decide) rfl (fun ls hl => ?_)
  refine lv_aload_n hx hb dJ3_clear_20 rfl (lv_at hl 2 rfl) ?_
  refine h_iconst hx hb dJ3_clear_21 ?_
  refine lv_dup_x1 hx hb dJ3_clear_22 rfl rfl ?_
  refine h_put X hR hL hF_a_w_1 hr rfl in_J3 tyJ3_ok nmJ3 2 (by decide) q538 rfl rfl rfl (Nat.le_of_ble_eq_true rfl) dJ3_clear_23 (fun w_3 ew_4 H locs hR hL => ?_)
  have hU : Up (fun q_ => q_ = r) w w_3 := by rw [ew_4]; exact hU.set hF_a_w_1 (by first | exact Or.inl rfl | exact Or.inl (by omega) | exact Or.inr ⟨Nat.succ_ne_zero _, by rw [Nat.add_sub_cancel]; assumption⟩ | exact Or.inr ⟨by omega, by assumption⟩) hG _
  have hF_a_w_3 : w_3 a = some (r, oE 21 [.int (iI (mo + 1)), .ref arr, .int (iI (0))]) := by rw [ew_4]; exact wset_eq _ _ _
  have hF_arr_w_3 : w_3 arr = some (r, rE G 4 cap f) := by rw [ew_4]; exact (wset_ne _ (by first | exact ne_arr_a | exact Ne.symm ne_a_arr | exact w_neR hF_arr_w_1 hF_a_w_1 (by omega) | exact w_ne hF_arr_w_1 hF_a_w_1 (by intro h; cases h))).trans hF_arr_w_1
  refine lv_istore_n (lv' := [(3, .int (iI (0))), (2, .int (iI ((L.length : Int)))), (1, .ref arr), (0, .ref a)]) hx hb dJ3_clear_26 rfl hl (by decide) rfl (fun ls hl => ?_)
  have LOOP_6 : ∀ (N_ : Nat) (k : Nat) (f2 : Nat → Option Nat)(w_5 : Wd) , (k ≤ L.length) → (w_5 a = some (r, oE 21 [.int (iI (mo + 1)), .ref arr, .int (iI (0))])) → (w_5 arr = some (r, rE G 4 cap f2)) → (Up (fun q_ => q_ = r) w w_5) → (L.length - k) < N_ → ∀ (H : Heap) (locs : List Loc) (ls : Array Slot), Rp G w_5 H → LK G locs → lv_has ls 4 [(0, .ref a), (1, .ref arr), (2, .int (iI ((L.length : Int)))), (3, .int (iI ((k : Int))))] → W p9 l e9 (rmk 1 0 0) s9 m9 a9 b9 meth9 c9 H locs 0 0 (MQ b9 (QV G (fun w_ => LsAt G w_ r a cap (mo + 1) [] ∧ Up (fun q_ => q_ = r) w w_)) a9 s9 0 0 (frG G)) (F0 m9 27 ls []) := by
    intro N_
    induction N_ with
    | zero => intro _ _ _ _ _ _ _ h_; exact absurd h_ (Nat.not_lt_zero _)
    | succ N_ ih_ =>
      intro k f2 w_5 hk hI_a_w_5 hI_arr_w_5 hU hN_ H locs ls hR hL hl
      have ih_6 := ih_
      clear ih_
      refine lv_iload_n hx hb dJ3_clear_27 rfl (lv_at hl 3 rfl) ?_
      refine lv_iload_n hx hb dJ3_clear_28 rfl (lv_at hl 2 rfl) ?_
      refine h_icmp_ge hx hb 42 dJ3_clear_29 (by decide) (by omega) (by omega) (fun c_7 => ?_) (fun c_7 => ?_)
      ·
        exact h_vreturn hx hb hlk hret hR hL ⟨⟨arr, _, hI_a_w_5, hI_arr_w_5, Nat.zero_le _, hA4, fun i hi => absurd hi (Nat.not_lt_zero _)⟩, hU⟩ (by omega) (by omega) rfl rfl dJ3_clear_42
      ·
        refine lv_aload_n hx hb dJ3_clear_32 rfl (lv_at hl 1 rfl) ?_
        refine lv_iload_n hx hb dJ3_clear_33 rfl (lv_at hl 3 rfl) ?_
        refine lv_null hx hb dJ3_clear_34 ?_
        refine h_aastN X hR hL hI_arr_w_5 hr rfl (by omega) (by omega) dJ3_clear_35 (fun w_8 ew_9 H locs hR hL => ?_)
        have hU : Up (fun q_ => q_ = r) w w_8 := by rw [ew_9]; exact hU.set hI_arr_w_5 (by first | exact Or.inl rfl | exact Or.inl (by omega) | exact Or.inr ⟨Nat.succ_ne_zero _, by rw [Nat.add_sub_cancel]; assumption⟩ | exact Or.inr ⟨by omega, by assumption⟩) hG _
        have hF_arr_w_8 : w_8 arr = some (r, rE G 4 cap (zset f2 ((k : Int)).toNat none)) := by rw [ew_9]; exact wset_eq _ _ _
        have hF_a_w_8 : w_8 a = some (r, oE 21 [.int (iI (mo + 1)), .ref arr, .int (iI (0))]) := by rw [ew_9]; exact (wset_ne _ (by first | exact ne_a_arr | exact Ne.symm ne_arr_a | exact w_neR hI_a_w_5 hI_arr_w_5 (by omega) | exact w_ne hI_a_w_5 hI_arr_w_5 (by intro h; cases h))).trans hI_a_w_5
        refine h_iinc (lv' := [(3, .int (iI ((k : Int) + 1))), (0, .ref a), (1, .ref arr), (2, .int (iI ((L.length : Int))))]) hx hb dJ3_clear_36 hl (k := 3) rfl (by decide) rfl (fun ls hl => ?_)
        refine lv_goto (tgt := 27) hx hb dJ3_clear_39 (by decide) ?_
        exact ih_6 (k + 1) (zset f2 ((k : Int)).toNat none) w_8 (by omega) hF_a_w_8 hF_arr_w_8 hU (by omega) _ _ _ hR hL (lv_sub hl [1, 2, 3, 0] rfl)
  exact LOOP_6 _ 0 f w_3 (by omega) hF_a_w_3 hF_arr_w_3 hU (Nat.lt_succ_self _) _ _ _ hR hL (lv_sub hl [3, 2, 1, 0] rfl)

set_option maxHeartbeats 4000000 in
set_option maxRecDepth 100000 in
/-- ArrayList$Itr.<init> -/
theorem it_init (l : Launch) (G : Gl) (w : Wd) (r a : Nat) (mo : Int) (L : List Nat) (hZ : LzAt G w r a mo L) (it : Nat) (hG : RegW w) (hI : w it = some (it + 1, oE 22 [.int (iI 0), .int (iI 0), .int (iI 0), .null])) : HM l yJ25_init cJ25_init 2 none 1 0 0 G [.ref it, .ref a] w (QV G (fun w_ => w_ it = some (it + 1, oE 22 [.int (iI 0), .int (iI (-1)), .int (iI mo), .ref a]) ∧ Up (fun q_ => q_ = it + 1) w w_)) := by
  refine HM.mk (by decide +kernel) (Nat.le_of_ble_eq_true rfl) ?_
  intro p9 e9 s9 m9 a9 b9 meth9 c9 ls X hret hlk hnm hl H hR
  have hx := X.1.1
  have hb := X.1.2.1
  have hl : lv_has ls 2 [(0, .ref it), (1, .ref a)] := hl
  have hL : LK G [] := fun q h => absurd h List.not_mem_nil
  generalize ([] : List Loc) = locs at hL ⊢
  have hU : Up (fun q_ => q_ = it + 1) w w := Up.rf hG
  have hZ0 := hZ
  obtain ⟨⟨arr, hA1⟩, hlen, hZ1⟩ := hZ
  refine lv_aload_n hx hb dJ25_init_0 rfl (lv_at hl 0 rfl) ?_
  refine lv_aload_n hx hb dJ25_init_1 rfl (lv_at hl 1 rfl) ?_
  refine h_putF X hnm hR hL hI (by omega) rfl in_J25 tyJ25_ok nmJ25 3 (by decide) q1331 rfl rfl rfl rfl (Nat.le_of_ble_eq_true rfl) dJ25_init_2 (fun w_1 ew_2 H locs hR hL => ?_)
  have hU : Up (fun q_ => q_ = it + 1) w w_1 := by rw [ew_2]; exact hU.set hI (by first | exact Or.inl rfl | exact Or.inl (by omega) | exact Or.inr ⟨Nat.succ_ne_zero _, by rw [Nat.add_sub_cancel]; assumption⟩ | exact Or.inr ⟨by omega, by assumption⟩) hG _
  have hF_it_w_1 : w_1 it = some (it + 1, oE 22 [.int (iI (0)), .int (iI (0)), .int (iI (0)), .ref a]) := by rw [ew_2]; exact wset_eq _ _ _
  have hF_a_w_1 : w_1 a = some (r, oE 21 [.int (iI (mo)), .ref arr, .int (iI ((L.length : Int)))]) := by rw [ew_2]; exact (wset_ne _ (by first | exact ne_a_it | exact Ne.symm ne_it_a | exact w_neR hA1 hI (by omega) | exact w_ne hA1 hI (by intro h; cases h))).trans hA1
  refine lv_aload_n hx hb dJ25_init_5 rfl (lv_at hl 0 rfl) ?_
  refine W.objInit hx hb X.1.2.2.2.1 (X.1.2.2.2.2 _ q1327) (X.1.2.2.2.2 _ q180) (X.1.2.2.2.2 _ q181) rfl (by rw [X.1.2.2.1]; exact hl.1) rfl dJ25_init_6 (Nat.le_of_ble_eq_true rfl) (Nat.le_of_ble_eq_true rfl) ?_
  refine W.eq (g2 := F0 m9 9 ls []) rfl ?_
  refine lv_aload_n hx hb dJ25_init_9 rfl (lv_at hl 0 rfl) ?_
  refine h_iconst hx hb dJ25_init_10 ?_
  refine h_put X hR hL hF_it_w_1 (by omega) rfl in_J25 tyJ25_ok nmJ25 1 (by decide) q1329 rfl rfl rfl (Nat.le_of_ble_eq_true rfl) dJ25_init_11 (fun w_3 ew_4 H locs hR hL => ?_)
  have hU : Up (fun q_ => q_ = it + 1) w w_3 := by rw [ew_4]; exact hU.set hF_it_w_1 (by first | exact Or.inl rfl | exact Or.inl (by omega) | exact Or.inr ⟨Nat.succ_ne_zero _, by rw [Nat.add_sub_cancel]; assumption⟩ | exact Or.inr ⟨by omega, by assumption⟩) hG _
  have hF_it_w_3 : w_3 it = some (it + 1, oE 22 [.int (iI (0)), .int (iI (-1)), .int (iI (0)), .ref a]) := by rw [ew_4]; exact wset_eq _ _ _
  have hF_a_w_3 : w_3 a = some (r, oE 21 [.int (iI (mo)), .ref arr, .int (iI ((L.length : Int)))]) := by rw [ew_4]; exact (wset_ne _ (by first | exact ne_a_it | exact Ne.symm ne_it_a | exact w_neR hF_a_w_1 hF_it_w_1 (by omega) | exact w_ne hF_a_w_1 hF_it_w_1 (by intro h; cases h))).trans hF_a_w_1
  refine lv_aload_n hx hb dJ25_init_14 rfl (lv_at hl 0 rfl) ?_
  refine lv_aload_n hx hb dJ25_init_15 rfl (lv_at hl 0 rfl) ?_
  refine h_get X hR hF_it_w_3 rfl in_J25 3 (by decide) q1331 rfl dJ25_init_16 ?_
  refine h_getS X hR hF_a_w_3 rfl in_J3 0 (by decide) q540 q541 rfl dJ25_init_19 ?_
  refine h_put X hR hL hF_it_w_3 (by omega) rfl in_J25 tyJ25_ok nmJ25 2 (by decide) q1330 rfl rfl rfl (Nat.le_of_ble_eq_true rfl) dJ25_init_22 (fun w_5 ew_6 H locs hR hL => ?_)
  have hU : Up (fun q_ => q_ = it + 1) w w_5 := by rw [ew_6]; exact hU.set hF_it_w_3 (by first | exact Or.inl rfl | exact Or.inl (by omega) | exact Or.inr ⟨Nat.succ_ne_zero _, by rw [Nat.add_sub_cancel]; assumption⟩ | exact Or.inr ⟨by omega, by assumption⟩) hG _
  have hF_it_w_5 : w_5 it = some (it + 1, oE 22 [.int (iI (0)), .int (iI (-1)), .int (iI (mo)), .ref a]) := by rw [ew_6]; exact wset_eq _ _ _
  have hF_a_w_5 : w_5 a = some (r, oE 21 [.int (iI (mo)), .ref arr, .int (iI ((L.length : Int)))]) := by rw [ew_6]; exact (wset_ne _ (by first | exact ne_a_it | exact Ne.symm ne_it_a | exact w_neR hF_a_w_3 hF_it_w_3 (by omega) | exact w_ne hF_a_w_3 hF_it_w_3 (by intro h; cases h))).trans hF_a_w_3
  exact h_vreturn hx hb hlk hret hR hL ⟨hF_it_w_5, hU⟩ (by omega) (by omega) rfl rfl dJ25_init_25

set_option maxHeartbeats 4000000 in
set_option maxRecDepth 100000 in
/-- ArrayList.iterator -/
theorem ls_iter (l : Launch) (G : Gl) (w : Wd) (r a : Nat) (mo : Int) (L : List Nat) (hZ : LzAt G w r a mo L) (hG : RegW w) : HM l yJ3_iterator cJ3_iterator 1 (some (.object "java/util/Iterator")) 2 1 4 G [.ref a] w (QR G (fun z_ w_ => w z_ = none ∧ w_ z_ = some (z_ + 1, oE 22 [.int (iI 0), .int (iI (-1)), .int (iI mo), .ref a]) ∧ Up (fun _ => False) w w_)) := by
  refine HM.mk (by decide +kernel) (Nat.le_of_ble_eq_true rfl) ?_
  intro p9 e9 s9 m9 a9 b9 meth9 c9 ls X hret hlk hnm hl H hR
  have hx := X.1.1
  have hb := X.1.2.1
  have hl : lv_has ls 1 [(0, .ref a)] := hl
  have hL : LK G [] := fun q h => absurd h List.not_mem_nil
  generalize ([] : List Loc) = locs at hL ⊢
  have hU : Up (fun _ => False) w w := Up.rf hG
  refine h_new X hR (ci := 22) (fun q => q + 1) rfl in_J25 tyJ25_ok q1322 q1323 q152 [.int (iI (0)), .int (iI (0)), .int (iI (0)), .null] (by intro j hj; rcases (show j = 0 ∨ j = 1 ∨ j = 2 ∨ j = 3 by omega) with rfl | rfl | rfl | rfl <;> rfl) (by omega) (by omega) dJ3_iterator_0 (fun it hit w_1 ew_2 H hR => ?_)
  have hn_it : w it = none := hU.2.1 _ hit
  have hU : Up (fun _ => False) w w_1 := by rw [ew_2]; exact hU.new hit (by first | exact Or.inr (Or.inl rfl) | exact Or.inl rfl | exact Or.inr (Or.inr (by assumption)))
  have hF_it_w_1 : w_1 it = some (it + 1, oE 22 [.int (iI (0)), .int (iI (0)), .int (iI (0)), .null]) := by rw [ew_2]; exact wset_eq _ _ _
  have ne_a_it : a ≠ it := sm_ne hZ.sm hit
  have hP_a_w_1 := hZ.mv (w1 := w_1) (S := fun _ => False) (by rw [ew_2]; exact Fr.add hit _) id
  refine lv_dup hx hb dJ3_iterator_3 rfl ?_
  refine lv_aload_n hx hb dJ3_iterator_4 rfl (lv_at hl 0 rfl) ?_
  -- call java/util/ArrayList$Itr.<init>
  refine h_kV (h_runI X hR (it_init l G w_1 r a mo L hP_a_w_1 it hU.2.2.1 hF_it_w_1) pn_yJ25_init rfl q1324 q1325 q152 q1326 ⟨by decide, by decide⟩ hl.1 (Nat.le_of_ble_eq_true rfl) dJ3_iterator_5 ⟨by omega, by omega⟩) hL (fun w_4 hp_5 H locs hR hL => ?_)
  obtain ⟨hI__7, u_6⟩ := hp_5
  have hU : Up (fun _ => False) w w_4 := hU.tr u_6 (fun q_ h_ => by first | exact absurd h_ id | exact Or.inl h_ | ((try dsimp only at h_); first | exact Or.inl (by omega) | exact Or.inr ⟨by omega, by subst h_; rw [Nat.add_sub_cancel]; assumption⟩)) hG
  exact h_areturn hx hb hlk hret (by first | exact Or.inl ⟨_, rfl⟩ | exact Or.inr ⟨_, rfl⟩) hR hL ⟨hn_it, hI__7, hU⟩ (by omega) (by omega) rfl rfl dJ3_iterator_8

set_option maxHeartbeats 4000000 in
set_option maxRecDepth 100000 in
/-- ArrayList$Itr.hasNext -/
theorem it_has (l : Launch) (G : Gl) (w : Wd) (r a : Nat) (mo : Int) (L : List Nat) (hZ : LzAt G w r a mo L) (it i : Nat) (la : Int) (hI : w it = some (it + 1, oE 22 [.int (iI (i : Int)), .int (iI la), .int (iI mo), .ref a])) (hi : i ≤ L.length) : HM l yJ25_hasNext cJ25_hasNext 1 (some .boolean) 1 0 0 G [.ref it] w (QI G (fun z_ w_ => z_ = b2i (i < L.length) ∧ w_ = w)) := by
  refine HM.mk (by decide +kernel) (Nat.le_of_ble_eq_true rfl) ?_
  intro p9 e9 s9 m9 a9 b9 meth9 c9 ls X hret hlk hnm hl H hR
  have hx := X.1.1
  have hb := X.1.2.1
  have hl : lv_has ls 1 [(0, .ref it)] := hl
  have hL : LK G [] := fun q h => absurd h List.not_mem_nil
  generalize ([] : List Loc) = locs at hL ⊢
  have hZ0 := hZ
  obtain ⟨⟨arr, hA1⟩, hlen, hZ1⟩ := hZ
  refine lv_aload_n hx hb dJ25_hasNext_0 rfl (lv_at hl 0 rfl) ?_
  refine h_get X hR hI rfl in_J25 0 (by decide) q1328 rfl dJ25_hasNext_1 ?_
  refine lv_aload_n hx hb dJ25_hasNext_4 rfl (lv_at hl 0 rfl) ?_
  refine h_get X hR hI rfl in_J25 3 (by decide) q1331 rfl dJ25_hasNext_5 ?_
  refine h_getN X hR hA1 rfl in_J3 2 (by decide) q537 rfl dJ25_hasNext_8 ?_
  refine h_icmp_eq hx hb 18 dJ25_hasNext_11 (by decide) (by omega) (by omega) (fun c_e => ?_) (fun c_e => ?_)
  ·
    refine h_iconst hx hb dJ25_hasNext_18 ?_
    exact h_ireturn hx hb hlk hret hR hL (nar01 (by omega)) ⟨by first | exact (b2i_t (by omega)).symm | exact (b2i_f (by omega)).symm, rfl⟩ (by omega) (by omega) rfl rfl dJ25_hasNext_19
  ·
    refine h_iconst hx hb dJ25_hasNext_14 ?_
    refine lv_goto (tgt := 19) hx hb dJ25_hasNext_15 (by decide) ?_
    exact h_ireturn hx hb hlk hret hR hL (nar01 (by omega)) ⟨by first | exact (b2i_t (by omega)).symm | exact (b2i_f (by omega)).symm, rfl⟩ (by omega) (by omega) rfl rfl dJ25_hasNext_19

set_option maxHeartbeats 4000000 in
set_option maxRecDepth 100000 in
/-- ArrayList$Itr.checkForComodification -/
theorem it_cfc (l : Launch) (G : Gl) (w : Wd) (r a : Nat) (mo : Int) (L : List Nat) (hZ : LzAt G w r a mo L) (it i : Nat) (la : Int) (hI : w it = some (it + 1, oE 22 [.int (iI (i : Int)), .int (iI la), .int (iI mo), .ref a])) (hm : R32 mo) : HM l yJ25_checkForComodification cJ25_checkForComodification 1 none 1 0 0 G [.ref it] w (QV G (fun w_ => w_ = w)) := by
  refine HM.mk (by decide +kernel) (Nat.le_of_ble_eq_true rfl) ?_
  intro p9 e9 s9 m9 a9 b9 meth9 c9 ls X hret hlk hnm hl H hR
  have hx := X.1.1
  have hb := X.1.2.1
  have hl : lv_has ls 1 [(0, .ref it)] := hl
  have hL : LK G [] := fun q h => absurd h List.not_mem_nil
  generalize ([] : List Loc) = locs at hL ⊢
  have hZ0 := hZ
  obtain ⟨⟨arr, hA1⟩, hlen, hZ1⟩ := hZ
  refine lv_aload_n hx hb dJ25_checkForComodification_0 rfl (lv_at hl 0 rfl) ?_
  refine h_get X hR hI rfl in_J25 3 (by decide) q1331 rfl dJ25_checkForComodification_1 ?_
  refine h_getS X hR hA1 rfl in_J3 0 (by decide) q540 q541 rfl dJ25_checkForComodification_4 ?_
  refine lv_aload_n hx hb dJ25_checkForComodification_7 rfl (lv_at hl 0 rfl) ?_
  refine h_get X hR hI rfl in_J25 2 (by decide) q1330 rfl dJ25_checkForComodification_8 ?_
  refine h_icmp_eq hx hb 22 dJ25_checkForComodification_11 (by decide) hm hm (fun c_e => ?_) (fun c_e => ?_)
  ·
    exact h_vreturn hx hb hlk hret hR hL (by rfl) (by omega) (by omega) rfl rfl dJ25_checkForComodification_22
  ·
    exact absurd rfl c_e

set_option maxHeartbeats 4000000 in
set_option maxRecDepth 100000 in
/-- ArrayList$Itr.next -/
theorem it_next (l : Launch) (G : Gl) (w : Wd) (r a : Nat) (mo : Int) (L : List Nat) (hZ : LzAt G w r a mo L) (it i : Nat) (la : Int) (hI : w it = some (it + 1, oE 22 [.int (iI (i : Int)), .int (iI la), .int (iI mo), .ref a])) (hG : RegW w) (hi : i < L.length) (hm : R32 mo) (hri : r ≠ it + 1) : HM l yJ25_next cJ25_next 3 (some (.object "java/lang/Object")) 2 0 0 G [.ref it] w (QR G (fun z_ w_ => z_ = L.getD i 0 ∧ w_ it = some (it + 1, oE 22 [.int (iI ((i : Int) + 1)), .int (iI (i : Int)), .int (iI mo), .ref a]) ∧ Up (fun q_ => q_ = it + 1) w w_)) := by
  refine HM.mk (by decide +kernel) (Nat.le_of_ble_eq_true rfl) ?_
  intro p9 e9 s9 m9 a9 b9 meth9 c9 ls X hret hlk hnm hl H hR
  have hx := X.1.1
  have hb := X.1.2.1
  have hl : lv_has ls 3 [(0, .ref it)] := hl
  have hL : LK G [] := fun q h => absurd h List.not_mem_nil
  generalize ([] : List Loc) = locs at hL ⊢
  have hU : Up (fun q_ => q_ = it + 1) w w := Up.rf hG
  have hZ0 := hZ
  obtain ⟨⟨arr, hA1⟩, hlen, hZ1⟩ := hZ
  refine lv_aload_n hx hb dJ25_next_0 rfl (lv_at hl 0 rfl) ?_
  -- call java/util/ArrayList$Itr.checkForComodification
  refine h_kVp (h_runV X hR (it_cfc l G w r a mo L hZ0 it i la hI hm) pn_yJ25_checkForComodification (hasC.of hI rfl) q1360 q1361 q1362 q152 q1363 ⟨by decide, by decide⟩ hl.1 (Nat.le_of_ble_eq_true rfl) dJ25_next_1 ⟨by omega, by omega⟩) hL (fun H locs hR hL => ?_)
  obtain ⟨cap, arr2, f, hB1, hB2, hB3, hB4, hB5⟩ := hZ1 (List.ne_nil_of_length_pos (by omega))
  obtain rfl : arr2 = arr := by have e_ := hB1.symm.trans hA1; cases e_; rfl
  refine lv_aload_n hx hb dJ25_next_4 rfl (lv_at hl 0 rfl) ?_
  refine h_get X hR hI rfl in_J25 0 (by decide) q1328 rfl dJ25_next_5 ?_
  refine lv_istore_n (lv' := [(1, .int (iI ((i : Int)))), (0, .ref it)]) hx hb dJ25_next_8 rfl hl (by decide) rfl (fun ls hl => ?_)
  refine lv_iload_n hx hb dJ25_next_9 rfl (lv_at hl 0 rfl) ?_
  refine lv_aload_n hx hb dJ25_next_10 rfl (lv_at hl 1 rfl) ?_
  refine h_get X hR hI rfl in_J25 3 (by decide) q1331 rfl dJ25_next_11 ?_
  refine h_getN X hR hA1 rfl in_J3 2 (by decide) q537 rfl dJ25_next_14 ?_
  refine h_icmp_lt hx hb 28 dJ25_next_17 (by decide) (by omega) (by omega) (fun c_l => ?_) (fun c_l => ?_)
  ·
    refine lv_aload_n hx hb dJ25_next_28 rfl (lv_at hl 1 rfl) ?_
    refine h_get X hR hI rfl in_J25 3 (by decide) q1331 rfl dJ25_next_29 ?_
    refine h_get X hR hA1 rfl in_J3 1 (by decide) q536 rfl dJ25_next_32 ?_
    refine lv_astore_n (lv' := [(2, .ref arr2), (1, .int (iI ((i : Int)))), (0, .ref it)]) hx hb dJ25_next_35 rfl hl (by decide) rfl (fun ls hl => ?_)
    refine lv_iload_n hx hb dJ25_next_36 rfl (lv_at hl 1 rfl) ?_
    refine lv_aload_n hx hb dJ25_next_37 rfl (lv_at hl 0 rfl) ?_
    refine h_alenR X hR hB2 rfl dJ25_next_38 ?_
    refine h_icmp_lt hx hb 50 dJ25_next_39 (by decide) (by omega) (by omega) (fun c_c => ?_) (fun c_c => ?_)
    ·
      refine lv_aload_n hx hb dJ25_next_50 rfl (lv_at hl 2 rfl) ?_
      refine lv_iload_n hx hb dJ25_next_51 rfl (lv_at hl 1 rfl) ?_
      refine h_iconst hx hb dJ25_next_52 ?_
      refine h_iadd hx hb dJ25_next_53 ?_
      refine h_put X hR hL hI (by omega) rfl in_J25 tyJ25_ok nmJ25 0 (by decide) q1328 rfl rfl rfl (Nat.le_of_ble_eq_true rfl) dJ25_next_54 (fun w_4 ew_5 H locs hR hL => ?_)
      have hU : Up (fun q_ => q_ = it + 1) w w_4 := by rw [ew_5]; exact hU.set hI (by first | exact Or.inl rfl | exact Or.inl (by omega) | exact Or.inr ⟨Nat.succ_ne_zero _, by rw [Nat.add_sub_cancel]; assumption⟩ | exact Or.inr ⟨by omega, by assumption⟩) hG _
      have hF_it_w_4 : w_4 it = some (it + 1, oE 22 [.int (iI ((i : Int) + 1)), .int (iI (la)), .int (iI (mo)), .ref a]) := by rw [ew_5]; exact wset_eq _ _ _
      have hF_a_w_4 : w_4 a = some (r, oE 21 [.int (iI (mo)), .ref arr2, .int (iI ((L.length : Int)))]) := by rw [ew_5]; exact (wset_ne _ (by first | exact ne_a_it | exact Ne.symm ne_it_a | exact w_neR hA1 hI (by omega) | exact w_ne hA1 hI (by intro h; cases h))).trans hA1
      have hF_arr2_w_4 : w_4 arr2 = some (r, rE G 4 cap f) := by rw [ew_5]; exact (wset_ne _ (by first | exact ne_arr2_it | exact Ne.symm ne_it_arr2 | exact w_neR hB2 hI (by omega) | exact w_ne hB2 hI (by intro h; cases h))).trans hB2
      refine lv_aload_n hx hb dJ25_next_57 rfl (lv_at hl 0 rfl) ?_
      refine lv_aload_n hx hb dJ25_next_58 rfl (lv_at hl 2 rfl) ?_
      refine lv_iload_n hx hb dJ25_next_59 rfl (lv_at hl 1 rfl) ?_
      refine lv_dup_x1 hx hb dJ25_next_60 rfl rfl ?_
      refine h_put X hR hL hF_it_w_4 (by omega) rfl in_J25 tyJ25_ok nmJ25 1 (by decide) q1329 rfl rfl rfl (Nat.le_of_ble_eq_true rfl) dJ25_next_61 (fun w_6 ew_7 H locs hR hL => ?_)
      have hU : Up (fun q_ => q_ = it + 1) w w_6 := by rw [ew_7]; exact hU.set hF_it_w_4 (by first | exact Or.inl rfl | exact Or.inl (by omega) | exact Or.inr ⟨Nat.succ_ne_zero _, by rw [Nat.add_sub_cancel]; assumption⟩ | exact Or.inr ⟨by omega, by assumption⟩) hG _
      have hF_it_w_6 : w_6 it = some (it + 1, oE 22 [.int (iI ((i : Int) + 1)), .int (iI ((i : Int))), .int (iI (mo)), .ref a]) := by rw [ew_7]; exact wset_eq _ _ _
      have hF_a_w_6 : w_6 a = some (r, oE 21 [.int (iI (mo)), .ref arr2, .int (iI ((L.length : Int)))]) := by rw [ew_7]; exact (wset_ne _ (by first | exact ne_a_it | exact Ne.symm ne_it_a | exact w_neR hF_a_w_4 hF_it_w_4 (by omega) | exact w_ne hF_a_w_4 hF_it_w_4 (by intro h; cases h))).trans hF_a_w_4
      have hF_arr2_w_6 : w_6 arr2 = some (r, rE G 4 cap f) := by rw [ew_7]; exact (wset_ne _ (by first | exact ne_arr2_it | exact Ne.symm ne_it_arr2 | exact w_neR hF_arr2_w_4 hF_it_w_4 (by omega) | exact w_ne hF_arr2_w_4 hF_it_w_4 (by intro h; cases h))).trans hF_arr2_w_4
      refine h_aald X hR hF_arr2_w_6 rfl (by omega) (by omega) dJ25_next_64 ?_
      refine W.eq (g2 := F0 m9 65 ls [.ref (L.getD i 0)]) (by rw [show f ((i : Int)).toNat = some (L.getD i 0) by rw [Int.toNat_natCast]; exact hB5 i hi]; rfl) ?_
      exact h_areturn hx hb hlk hret (by first | exact Or.inl ⟨_, rfl⟩ | exact Or.inr ⟨_, rfl⟩) hR hL ⟨rfl, hF_it_w_6, hU⟩ (by omega) (by omega) rfl rfl dJ25_next_65
    ·
      exact absurd c_c (by omega)
  ·
    exact absurd c_l (by omega)
