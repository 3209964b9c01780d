/-! JDK: ArrayList -/
set_option maxRecDepth 100000
/-- an ArrayList in region r: capacity, modCount, what it holds -/
def LsAt (G : Gl) (w : Wd) (r a cap : Nat) (mo : Int) (L : List Nat) : Prop := ∃ (arr : Nat) (f : Nat → Option Nat), w a = some (r, oE 21 [.int (iI mo), .ref arr, .int (iI (L.length : Int))]) ∧ w arr = some (r, rE G 4 cap f) ∧ L.length ≤ cap ∧ cap < 1000000 ∧ ∀ i, i < L.length → f i = some (L.getD i 0)
theorem LsAt.mv {G : Gl} {w w1 : Wd} {r a cap : Nat} {mo : Int} {L : List Nat} {S : Nat → Prop} (h : LsAt G w r a cap mo L) (hF : Fr S w w1) (h0 : ¬ S r) : LsAt G w1 r a cap mo L := by
  obtain ⟨arr, f, h1, h2, h3⟩ := h
  exact ⟨arr, f, hF _ _ _ h1 h0, hF _ _ _ h2 h0, h3⟩
theorem LsAt.c {G : Gl} {w : Wd} {r a cap : Nat} {mo : Int} {L : List Nat} (h : LsAt G w r a cap mo L) : hasC w a "java/util/ArrayList" := by
  obtain ⟨arr, f, h1, -⟩ := h
  exact hasC.of h1 rfl
theorem LsAt.le {G : Gl} {w : Wd} {r a cap : Nat} {mo : Int} {L : List Nat} (h : LsAt G w r a cap mo L) : L.length ≤ cap ∧ cap < 1000000 := by
  obtain ⟨arr, f, h1, h2, h3, h4, -⟩ := h
  exact ⟨h3, h4⟩
theorem app_at (L : List Nat) (v i : Nat) (hi : i < (L ++ [v]).length) : (L ++ [v]).getD i 0 = if i = L.length then v else L.getD i 0 := by
  rw [List.length_append, List.length_singleton] at hi
  by_cases q : i = L.length
  · rw [if_pos q, q]; simp
  · rw [if_neg q, List.getD_eq_getElem?_getD, List.getElem?_append_left (by omega), ← List.getD_eq_getElem?_getD]

theorem pn_yJ3_add_2 : ParN yJ3_add_2 3 := by decide +kernel
theorem pn_yJ3_elementData : ParN yJ3_elementData 1 := by decide +kernel
theorem pn_yJ3_fastRemove : ParN yJ3_fastRemove 2 := by decide +kernel
theorem pn_yJ3_rangeCheckForAdd : ParN yJ3_rangeCheckForAdd 1 := by decide +kernel
theorem pn_yJ28_checkIndex : ParN yJ28_checkIndex 2 := by decide +kernel

set_option maxHeartbeats 4000000 in
set_option maxRecDepth 100000 in
/-- ArrayList.size -/
theorem ls_size (l : Launch) (G : Gl) (w : Wd) (r a cap : Nat) (mo : Int) (L : List Nat) (hA : LsAt G w r a cap mo L) : HM l yJ3_size cJ3_size 1 (some .int) 1 0 0 G [.ref a] w (QI G (fun z_ w_ => z_ = (L.length : Int) ∧ w_ = w)) := by
  refine HM.mk (by decide +kernel) (Nat.le_of_ble_eq_true rfl) ?_
  intro p9 e9 s9 m9 a9 b9 meth9 c9 ls X hret hlk hnm hl H hR
  have hx := X.1.1
  have hb := X.1.2.1
  have hl : lv_has ls 1 [(0, .ref a)] := hl
  have hL : LK G [] := fun q h => absurd h List.not_mem_nil
  generalize ([] : List Loc) = locs at hL ⊢
  have hA0 := hA
  obtain ⟨arr, f, hA1, hA2, hA3, hA4, hA5⟩ := hA
  refine lv_aload_n hx hb dJ3_size_0 rfl (lv_at hl 0 rfl) ?_
  refine h_get X hR hA1 rfl in_J3 2 (by decide) q538 rfl dJ3_size_1 ?_
  exact h_ireturn hx hb hlk hret hR hL rfl ⟨rfl, rfl⟩ (by omega) (by omega) rfl rfl dJ3_size_4

set_option maxHeartbeats 4000000 in
set_option maxRecDepth 100000 in
/-- Objects.checkIndex -/
theorem o_check (l : Launch) (G : Gl) (w : Wd) (i n : Int) (h0 : 0 ≤ i ∧ i < n) (h1 : R32 n) : HM l yJ28_checkIndex cJ28_checkIndex 2 (some .int) 2 0 0 G [.int (iI (i)), .int (iI (n))] w (QI G (fun z_ w_ => z_ = i ∧ w_ = w)) := by
  refine HM.mk (by decide +kernel) (Nat.le_of_ble_eq_true rfl) ?_
  intro p9 e9 s9 m9 a9 b9 meth9 c9 ls X hret hlk hnm hl H hR
  have hx := X.1.1
  have hb := X.1.2.1
  have hl : lv_has ls 2 [(0, .int (iI (i))), (1, .int (iI (n)))] := hl
  have hL : LK G [] := fun q h => absurd h List.not_mem_nil
  generalize ([] : List Loc) = locs at hL ⊢
  refine lv_iload_n hx hb dJ28_checkIndex_0 rfl (lv_at hl 0 rfl) ?_
  refine lv_iload_n hx hb dJ28_checkIndex_1 rfl (lv_at hl 1 rfl) ?_
  refine lv_null hx hb dJ28_checkIndex_2 ?_
  -- call jdk/internal/util/Preconditions.checkIndex
  refine h_kIp (h_runS X hR (s_pcheck l G w i n none h0 h1) pn_yJ15_checkIndex q1584 q1469 q138 q1470 ⟨by decide, by decide⟩ hl.1 (Nat.le_of_ble_eq_true rfl) dJ28_checkIndex_3 ⟨by omega, by omega⟩) hL (fun H locs hR hL => ?_)
  exact h_ireturn hx hb hlk hret hR hL rfl ⟨rfl, rfl⟩ (by omega) (by omega) rfl rfl dJ28_checkIndex_6

set_option maxHeartbeats 4000000 in
set_option maxRecDepth 100000 in
/-- ArrayList.elementData -/
theorem ls_ed (l : Launch) (G : Gl) (w : Wd) (r a cap : Nat) (mo : Int) (L : List Nat) (hA : LsAt G w r a cap mo L) (i : Nat) (hi : i < L.length) : HM l yJ3_elementData cJ3_elementData 2 (some (.object "java/lang/Object")) 1 0 0 G [.ref a, .int (iI ((i : Int)))] w (QR G (fun z_ w_ => z_ = L.getD i 0 ∧ w_ = w)) := by
  refine HM.mk (by decide +kernel) (Nat.le_of_ble_eq_true rfl) ?_
  intro p9 e9 s9 m9 a9 b9 meth9 c9 ls X hret hlk hnm hl H hR
  have hx := X.1.1
  have hb := X.1.2.1
  have hl : lv_has ls 2 [(0, .ref a), (1, .int (iI ((i : Int))))] := hl
  have hL : LK G [] := fun q h => absurd h List.not_mem_nil
  generalize ([] : List Loc) = locs at hL ⊢
  have hA0 := hA
  obtain ⟨arr, f, hA1, hA2, hA3, hA4, hA5⟩ := hA
  refine lv_aload_n hx hb dJ3_elementData_0 rfl (lv_at hl 0 rfl) ?_
  refine h_get X hR hA1 rfl in_J3 1 (by decide) q535 rfl dJ3_elementData_1 ?_
  refine lv_iload_n hx hb dJ3_elementData_4 rfl (lv_at hl 1 rfl) ?_
  refine h_aald X hR hA2 rfl (by omega) (by omega) dJ3_elementData_5 ?_
  refine W.eq (g2 := F0 m9 6 ls [.ref (L.getD i 0)]) (by rw [show f ((i : Int)).toNat = some (L.getD i 0) by rw [Int.toNat_natCast]; exact hA5 i hi]; rfl) ?_
  exact h_areturn hx hb hlk hret (by first | exact Or.inl ⟨_, rfl⟩ | exact Or.inr ⟨_, rfl⟩) hR hL ⟨rfl, rfl⟩ (by omega) (by omega) rfl rfl dJ3_elementData_6

set_option maxHeartbeats 4000000 in
set_option maxRecDepth 100000 in
/-- ArrayList.get -/
theorem ls_get (l : Launch) (G : Gl) (w : Wd) (r a cap : Nat) (mo : Int) (L : List Nat) (hA : LsAt G w r a cap mo L) (i : Nat) (hi : i < L.length) : HM l yJ3_get cJ3_get 2 (some (.object "java/lang/Object")) 3 0 0 G [.ref a, .int (iI ((i : Int)))] w (QR G (fun z_ w_ => z_ = L.getD i 0 ∧ w_ = w)) := by
  refine HM.mk (by decide +kernel) (Nat.le_of_ble_eq_true rfl) ?_
  intro p9 e9 s9 m9 a9 b9 meth9 c9 ls X hret hlk hnm hl H hR
  have hx := X.1.1
  have hb := X.1.2.1
  have hl : lv_has ls 2 [(0, .ref a), (1, .int (iI ((i : Int))))] := hl
  have hL : LK G [] := fun q h => absurd h List.not_mem_nil
  generalize ([] : List Loc) = locs at hL ⊢
  have hA0 := hA
  obtain ⟨arr, f, hA1, hA2, hA3, hA4, hA5⟩ := hA
  refine lv_iload_n hx hb dJ3_get_0 rfl (lv_at hl 1 rfl) ?_
  refine lv_aload_n hx hb dJ3_get_1 rfl (lv_at hl 0 rfl) ?_
  refine h_get X hR hA1 rfl in_J3 2 (by decide) q538 rfl dJ3_get_2 ?_
  -- call java/util/Objects.checkIndex
  refine h_kIp (h_runS X hR (o_check l G w ((i : Int)) ((L.length : Int)) ⟨by omega, by omega⟩ (by omega)) pn_yJ28_checkIndex q1581 q1582 q158 q1583 ⟨by decide, by decide⟩ hl.1 (Nat.le_of_ble_eq_true rfl) dJ3_get_5 ⟨by omega, by omega⟩) hL (fun H locs hR hL => ?_)
  refine lv_pop hx hb dJ3_get_8 rfl ?_
  refine lv_aload_n hx hb dJ3_get_9 rfl (lv_at hl 0 rfl) ?_
  refine lv_iload_n hx hb dJ3_get_10 rfl (lv_at hl 1 rfl) ?_
  -- call java/util/ArrayList.elementData
  refine h_kRp (h_runV X hR (ls_ed l G w r a cap mo L hA0 i hi) pn_yJ3_elementData (hA0.c) q1585 q1586 q1587 q125 q1588 ⟨by decide, by decide⟩ hl.1 (Nat.le_of_ble_eq_true rfl) dJ3_get_11 ⟨by omega, by omega⟩) hL (fun H locs hR hL => ?_)
  exact h_areturn hx hb hlk hret (by first | exact Or.inl ⟨_, rfl⟩ | exact Or.inr ⟨_, rfl⟩) hR hL ⟨rfl, rfl⟩ (by omega) (by omega) rfl rfl dJ3_get_14

set_option maxHeartbeats 4000000 in
set_option maxRecDepth 100000 in
/-- ArrayList.add -/
theorem ls_add2 (l : Launch) (G : Gl) (w : Wd) (r a cap : Nat) (mo : Int) (L : List Nat) (arr : Nat) (f : Nat → Option Nat) (hA1 : w a = some (r, oE 21 [.int (iI mo), .ref arr, .int (iI (L.length : Int))])) (hA2 : w arr = some (r, rE G 4 cap f)) (hA4 : cap < 1000000) (hA5 : ∀ i, i < L.length → f i = some (L.getD i 0)) (hG : RegW w) (hr : r ≠ 0) (v : Nat) (C : String) (hv : hasC w v C) (hca : Cond.castable C "java/lang/Object" ∈ lw_tbl) (hc : L.length < cap) : HM l yJ3_add_2 cJ3_add_2 4 none 1 0 0 G [.ref a, .ref v, .ref arr, .int (iI ((L.length : Int)))] w (QV G (fun w_ => LsAt G w_ r a cap mo (L ++ [v]) ∧ Up (fun q_ => q_ = r) w w_)) := by
  refine HM.mk (by decide +kernel) (Nat.le_of_ble_eq_true rfl) ?_
  intro p9 e9 s9 m9 a9 b9 meth9 c9 ls X hret hlk hnm hl H hR
  have hx := X.1.1
  have hb := X.1.2.1
  have hl : lv_has ls 4 [(0, .ref a), (1, .ref v), (2, .ref arr), (3, .int (iI ((L.length : Int))))] := hl
  have hL : LK G [] := fun q h => absurd h List.not_mem_nil
  generalize ([] : List Loc) = locs at hL ⊢
  have hU : Up (fun q_ => q_ = r) w w := Up.rf hG
  refine lv_iload_n hx hb dJ3_add_2_0 rfl (lv_at hl 3 rfl) ?_
  refine lv_aload_n hx hb dJ3_add_2_1 rfl (lv_at hl 2 rfl) ?_
  refine h_alenR X hR hA2 rfl dJ3_add_2_2 ?_
  refine h_icmp_ne hx hb 11 dJ3_add_2_3 (by decide) (by omega) (by omega) (fun c_g => ?_) (fun c_g => ?_)
  ·
    refine lv_aload_n hx hb dJ3_add_2_11 rfl (lv_at hl 2 rfl) ?_
    refine lv_iload_n hx hb dJ3_add_2_12 rfl (lv_at hl 3 rfl) ?_
    refine lv_aload_n hx hb dJ3_add_2_13 rfl (lv_at hl 1 rfl) ?_
    refine h_aast X hR hL hA2 hr rfl hv (Or.inl hca) (by omega) (by omega) dJ3_add_2_14 (fun w_1 ew_2 H locs hR hL => ?_)
    have hU : Up (fun q_ => q_ = r) w w_1 := by rw [ew_2]; exact hU.set hA2 (by first | exact Or.inl rfl | exact Or.inl (by omega) | exact Or.inr ⟨Nat.succ_ne_zero _, by rw [Nat.add_sub_cancel]; assumption⟩ | exact Or.inr ⟨by omega, by assumption⟩) hG _
    have hF_arr_w_1 : w_1 arr = some (r, rE G 4 cap (zset f ((L.length : Int)).toNat (some v))) := by rw [ew_2]; exact wset_eq _ _ _
    have hF_a_w_1 : w_1 a = some (r, oE 21 [.int (iI (mo)), .ref arr, .int (iI ((L.length : Int)))]) := by rw [ew_2]; exact (wset_ne _ (by first | exact ne_a_arr | exact Ne.symm ne_arr_a | exact w_neR hA1 hA2 (by omega) | exact w_ne hA1 hA2 (by intro h; cases h))).trans hA1
    refine lv_aload_n hx hb dJ3_add_2_15 rfl (lv_at hl 0 rfl) ?_
    refine lv_iload_n hx hb dJ3_add_2_16 rfl (lv_at hl 3 rfl) ?_
    refine h_iconst hx hb dJ3_add_2_17 ?_
    refine h_iadd hx hb dJ3_add_2_18 ?_
    refine h_put X hR hL hF_a_w_1 hr rfl in_J3 tyJ3_ok nmJ3 2 (by decide) q538 rfl rfl rfl (Nat.le_of_ble_eq_true rfl) dJ3_add_2_19 (fun w_3 ew_4 H locs hR hL => ?_)
    have hU : Up (fun q_ => q_ = r) w w_3 := by rw [ew_4]; exact hU.set hF_a_w_1 (by first | exact Or.inl rfl | exact Or.inl (by omega) | exact Or.inr ⟨Nat.succ_ne_zero _, by rw [Nat.add_sub_cancel]; assumption⟩ | exact Or.inr ⟨by omega, by assumption⟩) hG _
    have hF_a_w_3 : w_3 a = some (r, oE 21 [.int (iI (mo)), .ref arr, .int (iI ((L.length : Int) + 1))]) := by rw [ew_4]; exact wset_eq _ _ _
    have hF_arr_w_3 : w_3 arr = some (r, rE G 4 cap (zset f ((L.length : Int)).toNat (some v))) := by rw [ew_4]; exact (wset_ne _ (by first | exact ne_arr_a | exact Ne.symm ne_a_arr | exact w_neR hF_arr_w_1 hF_a_w_1 (by omega) | exact w_ne hF_arr_w_1 hF_a_w_1 (by intro h; cases h))).trans hF_arr_w_1
    have hlen : ((L ++ [v]).length : Int) = (L.length : Int) + 1 := by rw [List.length_append, List.length_singleton]; omega
    have hLs : LsAt G w_3 r a cap (mo) (L ++ [v]) := ⟨arr, _, by rw [hlen]; exact hF_a_w_3, hF_arr_w_3, by rw [List.length_append, List.length_singleton]; omega, hA4, fun i hi => by rw [app_at L v i hi]; unfold zset; rw [Int.toNat_natCast]; split; (next q_ => rfl); (next q_ => exact hA5 i (by rw [List.length_append, List.length_singleton] at hi; omega))⟩
    exact h_vreturn hx hb hlk hret hR hL ⟨hLs, hU⟩ (by omega) (by omega) rfl rfl dJ3_add_2_22
  ·
    exact absurd c_g (by omega)

set_option maxHeartbeats 4000000 in
set_option maxRecDepth 100000 in
/-- ArrayList.add -/
theorem ls_add (l : Launch) (G : Gl) (w : Wd) (r a cap : Nat) (mo : Int) (L : List Nat) (hA : LsAt G w r a cap mo L) (hG : RegW w) (hr : r ≠ 0) (v : Nat) (C : String) (hvk : ∀ w1 : Wd, Up (fun q_ => q_ = r) w w1 → hasC w1 v C) (hca : Cond.castable C "java/lang/Object" ∈ lw_tbl) (hc : L.length < cap) : HM l yJ3_add cJ3_add 2 (some .boolean) 2 0 0 G [.ref a, .ref v] w (QI G (fun z_ w_ => z_ = 1 ∧ LsAt G w_ r a cap (mo + 1) (L ++ [v]) ∧ Up (fun q_ => q_ = r) w w_)) := by
  refine HM.mk (by decide +kernel) (Nat.le_of_ble_eq_true rfl) ?_
  intro p9 e9 s9 m9 a9 b9 meth9 c9 ls X hret hlk hnm hl H hR
  have hx := X.1.1
  have hb := X.1.2.1
  have hl : lv_has ls 2 [(0, .ref a), (1, .ref v)] := hl
  have hL : LK G [] := fun q h => absurd h List.not_mem_nil
  generalize ([] : List Loc) = locs at hL ⊢
  have hU : Up (fun q_ => q_ = r) w w := Up.rf hG
  have hA0 := hA
  obtain ⟨arr, f, hA1, hA2, hA3, hA4, hA5⟩ := hA
  refine lv_aload_n hx hb dJ3_add_0 rfl (lv_at hl 0 rfl) ?_
  refine lv_dup hx hb dJ3_add_1 rfl ?_
  refine h_getS X hR hA1 rfl in_J3 0 (by decide) q542 q541 rfl dJ3_add_2 ?_
  refine h_iconst hx hb dJ3_add_5 ?_
  refine h_iadd hx hb dJ3_add_6 ?_
  refine h_putS X hR hL hA1 hr rfl in_J3 tyJ3_ok nmJ3 0 (by decide) q542 q541 rfl rfl rfl (Nat.le_of_ble_eq_true rfl) dJ3_add_7 (fun w_1 ew_2 H locs hR hL => ?_)
  have hU : Up (fun q_ => q_ = r) w w_1 := by rw [ew_2]; exact hU.set hA1 (by first | exact Or.inl rfl | exact Or.inl (by omega) | exact Or.inr ⟨Nat.succ_ne_zero _, by rw [Nat.add_sub_cancel]; assumption⟩ | exact Or.inr ⟨by omega, by assumption⟩) hG _
  have hF_a_w_1 : w_1 a = some (r, oE 21 [.int (iI (mo + 1)), .ref arr, .int (iI ((L.length : Int)))]) := by rw [ew_2]; exact wset_eq _ _ _
  have hF_arr_w_1 : w_1 arr = some (r, rE G 4 cap f) := by rw [ew_2]; exact (wset_ne _ (by first | exact ne_arr_a | exact Ne.symm ne_a_arr | exact w_neR hA2 hA1 (by omega) | exact w_ne hA2 hA1 (by intro h; cases h))).trans hA2
  refine lv_aload_n hx hb dJ3_add_10 rfl (lv_at hl 0 rfl) ?_
  refine lv_aload_n hx hb dJ3_add_11 rfl (lv_at hl 1 rfl) ?_
  refine lv_aload_n hx hb dJ3_add_12 rfl (lv_at hl 0 rfl) ?_
  refine h_get X hR hF_a_w_1 rfl in_J3 1 (by decide) q535 rfl dJ3_add_13 ?_
  refine lv_aload_n hx hb dJ3_add_16 rfl (lv_at hl 0 rfl) ?_
  refine h_get X hR hF_a_w_1 rfl in_J3 2 (by decide) q538 rfl dJ3_add_17 ?_
  -- call java/util/ArrayList.add
  refine h_kV (h_runV X hR (ls_add2 l G w_1 r a cap (mo + 1) L arr f hF_a_w_1 hF_arr_w_1 hA4 hA5 hU.2.2.1 hr v C (hvk _ hU) hca hc) pn_yJ3_add_2 ((hasC.of hF_a_w_1 rfl)) q670 q672 qs1 q125 q673 ⟨by decide, by decide⟩ hl.1 (Nat.le_of_ble_eq_true rfl) dJ3_add_20 ⟨by omega, by omega⟩) hL (fun w_4 hp_5 H locs hR hL => ?_)
  obtain ⟨hL__7, u_6⟩ := hp_5
  have hU : Up (fun q_ => q_ = r) w w_4 := hU.tr u_6 (fun q_ h_ => by first | exact absurd h_ id | exact Or.inl h_ | ((try dsimp only at h_); first | exact Or.inl (by omega) | exact Or.inr ⟨by omega, by subst h_; rw [Nat.add_sub_cancel]; assumption⟩)) hG
  refine h_iconst hx hb dJ3_add_23 ?_
  exact h_ireturn hx hb hlk hret hR hL (nar01 (by omega)) ⟨rfl, hL__7, hU⟩ (by omega) (by omega) rfl rfl dJ3_add_24

theorem ins_cp {L : List Nat} {f : Nat → Option Nat} {i v : Nat} (hi : i ≤ L.length) (hf : ∀ j, j < L.length → f j = some (L.getD j 0)) (j : Nat) (hj : j < (insAt L i v).length) : zset (cpA f f i (i + 1) (L.length - i)) i (some v) j = some ((insAt L i v).getD j 0) := by
  rw [insAt_len L i v hi] at hj
  rw [insAt_at L i v 0 hi]
  unfold zset cpA
  by_cases q : j < i
  · rw [if_neg (by omega), if_neg (by omega), if_pos q]; exact hf j (by omega)
  · by_cases q2 : j = i
    · rw [if_pos q2, if_neg q, if_pos q2]
    · rw [if_neg q2, if_pos (by omega), if_neg q, if_neg q2, show i + (j - (i + 1)) = j - 1 by omega]; exact hf (j - 1) (by omega)
theorem rem_cp {L : List Nat} {f : Nat → Option Nat} {i : Nat} (hi : i < L.length) (hf : ∀ j, j < L.length → f j = some (L.getD j 0)) (j : Nat) (hj : j < (remAt L i).length) : zset (cpA f f (i + 1) i (L.length - 1 - i)) (L.length - 1) none j = some ((remAt L i).getD j 0) := by
  rw [remAt_len L i hi] at hj
  rw [remAt_at L i 0 hi]
  unfold zset cpA
  rw [if_neg (by omega)]
  by_cases q : j < i
  · rw [if_neg (by omega), if_pos q]; exact hf j (by omega)
  · rw [if_pos (by omega), if_neg q, show i + 1 + (j - i) = j + 1 by omega]; exact hf (j + 1) (by omega)
theorem rem_cp0 {L : List Nat} {f : Nat → Option Nat} {i : Nat} (hi : i < L.length) (hl : L.length - 1 ≤ i) (hf : ∀ j, j < L.length → f j = some (L.getD j 0)) (j : Nat) (hj : j < (remAt L i).length) : zset f (L.length - 1) none j = some ((remAt L i).getD j 0) := by
  rw [remAt_len L i hi] at hj
  rw [remAt_at L i 0 hi]
  unfold zset
  rw [if_neg (by omega), if_pos (by omega)]; exact hf j (by omega)
/-- what the list holds is castable to an object -/
def LsE (w : Wd) (L : List Nat) : Prop := ∀ y ∈ L, ∃ C, hasC w y C ∧ Cond.castable C "java/lang/Object" ∈ lw_tbl

set_option maxHeartbeats 4000000 in
set_option maxRecDepth 100000 in
/-- ArrayList.rangeCheckForAdd -/
theorem ls_rc (l : Launch) (G : Gl) (w : Wd) (r a cap : Nat) (mo : Int) (L : List Nat) (hA : LsAt G w r a cap mo L) (i : Nat) (hi : i ≤ L.length) : HM l yJ3_rangeCheckForAdd cJ3_rangeCheckForAdd 2 none 1 0 0 G [.ref a, .int (iI ((i : Int)))] w (QV G (fun w_ => w_ = w)) := by
  refine HM.mk (by decide +kernel) (Nat.le_of_ble_eq_true rfl) ?_
  intro p9 e9 s9 m9 a9 b9 meth9 c9 ls X hret hlk hnm hl H hR
  have hx := X.1.1
  have hb := X.1.2.1
  have hl : lv_has ls 2 [(0, .ref a), (1, .int (iI ((i : Int))))] := hl
  have hL : LK G [] := fun q h => absurd h List.not_mem_nil
  generalize ([] : List Loc) = locs at hL ⊢
  have hA0 := hA
  obtain ⟨arr, f, hA1, hA2, hA3, hA4, hA5⟩ := hA
  refine lv_iload_n hx hb dJ3_rangeCheckForAdd_0 rfl (lv_at hl 1 rfl) ?_
  refine lv_aload_n hx hb dJ3_rangeCheckForAdd_1 rfl (lv_at hl 0 rfl) ?_
  refine h_get X hR hA1 rfl in_J3 2 (by decide) q538 rfl dJ3_rangeCheckForAdd_2 ?_
  refine h_icmp_gt hx hb 12 dJ3_rangeCheckForAdd_5 (by decide) (by omega) (by omega) (fun c_1 => ?_) (fun c_1 => ?_)
  ·
    exact absurd hi (by omega)
  ·
    refine lv_iload_n hx hb dJ3_rangeCheckForAdd_8 rfl (lv_at hl 1 rfl) ?_
    refine h_if_ge hx hb 25 dJ3_rangeCheckForAdd_9 (by decide) (by omega) (fun c_2 => ?_) (fun c_2 => ?_)
    ·
      exact h_vreturn hx hb hlk hret hR hL (by rfl) (by omega) (by omega) rfl rfl dJ3_rangeCheckForAdd_25
    ·
      exact absurd (Int.natCast_nonneg i) (by omega)

set_option maxHeartbeats 4000000 in
set_option maxRecDepth 100000 in
/-- ArrayList.add -/
theorem ls_addAt (l : Launch) (G : Gl) (w : Wd) (r a cap : Nat) (mo : Int) (L : List Nat) (hA : LsAt G w r a cap mo L) (i : Nat) (hi : i ≤ L.length) (hG : RegW w) (hr : r ≠ 0) (v : Nat) (C : String) (hca : Cond.castable C "java/lang/Object" ∈ lw_tbl) (hc : L.length < cap) (hvk : ∀ w1 : Wd, Up (fun q_ => q_ = r) w w1 → hasC w1 v C) (hvE : ∀ w1 : Wd, Up (fun q_ => q_ = r) w w1 → LsE w1 L) : HM l yJ3_add_3 cJ3_add_3 5 none 2 0 0 G [.ref a, .int (iI ((i : Int))), .ref v] w (QV G (fun w_ => LsAt G w_ r a cap (mo + 1) (insAt L i v) ∧ Up (fun q_ => q_ = r) w w_)) := by
  refine HM.mk (by decide +kernel) (Nat.le_of_ble_eq_true rfl) ?_
  intro p9 e9 s9 m9 a9 b9 meth9 c9 ls X hret hlk hnm hl H hR
  have hx := X.1.1
  have hb := X.1.2.1
  have hl : lv_has ls 5 [(0, .ref a), (1, .int (iI ((i : Int)))), (2, .ref v)] := hl
  have hL : LK G [] := fun q h => absurd h List.not_mem_nil
  generalize ([] : List Loc) = locs at hL ⊢
  have hU : Up (fun q_ => q_ = r) w w := Up.rf hG
  have hA0 := hA
  obtain ⟨arr, f, hA1, hA2, hA3, hA4, hA5⟩ := hA
  refine lv_aload_n hx hb dJ3_add_3_0 rfl (lv_at hl 0 rfl) ?_
  refine lv_iload_n hx hb dJ3_add_3_1 rfl (lv_at hl 1 rfl) ?_
  -- call java/util/ArrayList.rangeCheckForAdd
  refine h_kVp (h_runV X hR (ls_rc l G w r a cap mo L hA0 i hi) pn_yJ3_rangeCheckForAdd (hA0.c) q1631 q1633 qs7 q125 q1634 ⟨by decide, by decide⟩ hl.1 (Nat.le_of_ble_eq_true rfl) dJ3_add_3_2 ⟨by omega, by omega⟩) hL (fun H locs hR hL => ?_)
  refine lv_aload_n hx hb dJ3_add_3_5 rfl (lv_at hl 0 rfl) ?_
  refine lv_dup hx hb dJ3_add_3_6 rfl ?_
  refine h_getS X hR hA1 rfl in_J3 0 (by decide) q542 q541 rfl dJ3_add_3_7 ?_
  refine h_iconst hx hb dJ3_add_3_10 ?_
  refine h_iadd hx hb dJ3_add_3_11 ?_
  refine h_putS X hR hL hA1 hr rfl in_J3 tyJ3_ok nmJ3 0 (by decide) q542 q541 rfl rfl rfl (Nat.le_of_ble_eq_true rfl) dJ3_add_3_12 (fun w_4 ew_5 H locs hR hL => ?_)
  have hU : Up (fun q_ => q_ = r) w w_4 := by rw [ew_5]; exact hU.set hA1 (by first | exact Or.inl rfl | exact Or.inl (by omega) | exact Or.inr ⟨Nat.succ_ne_zero _, by rw [Nat.add_sub_cancel]; assumption⟩ | exact Or.inr ⟨by omega, by assumption⟩) hG _
  have hF_a_w_4 : w_4 a = some (r, oE 21 [.int (iI (mo + 1)), .ref arr, .int (iI ((L.length : Int)))]) := by rw [ew_5]; exact wset_eq _ _ _
  have hF_arr_w_4 : w_4 arr = some (r, rE G 4 cap f) := by rw [ew_5]; exact (wset_ne _ (by first | exact ne_arr_a | exact Ne.symm ne_a_arr | exact w_neR hA2 hA1 (by omega) | exact w_ne hA2 hA1 (by intro h; cases h))).trans hA2
  refine lv_aload_n hx hb dJ3_add_3_15 rfl (lv_at hl 0 rfl) ?_
  refine h_get X hR hF_a_w_4 rfl in_J3 2 (by decide) q538 rfl dJ3_add_3_16 ?_
  refine lv_dup hx hb dJ3_add_3_19 rfl ?_
  refine lv_istore_n (lv' := [(3, .int (iI ((L.length : Int)))), (0, .ref a), (1, .int (iI ((i : Int)))), (2, .ref v)]) hx hb dJ3_add_3_20 rfl hl (by decide) rfl (fun ls hl => ?_)
  refine lv_aload_n hx hb dJ3_add_3_21 rfl (lv_at hl 1 rfl) ?_
  refine h_get X hR hF_a_w_4 rfl in_J3 1 (by decide) q535 rfl dJ3_add_3_22 ?_
  refine lv_dup hx hb dJ3_add_3_25 rfl ?_
  refine lv_astore (lv' := [(4, .ref arr), (3, .int (iI ((L.length : Int)))), (0, .ref a), (1, .int (iI ((i : Int)))), (2, .ref v)]) hx hb dJ3_add_3_26 hl (by decide) rfl (fun ls hl => ?_)
  refine h_alenR X hR hF_arr_w_4 rfl dJ3_add_3_28 ?_
  refine h_icmp_ne hx hb 38 dJ3_add_3_29 (by decide) (by omega) (by omega) (fun c_g => ?_) (fun c_g => ?_)
  ·
    refine lv_aload hx hb dJ3_add_3_38 (lv_at hl 0 rfl) ?_
    refine lv_iload_n hx hb dJ3_add_3_40 rfl (lv_at hl 3 rfl) ?_
    refine lv_aload hx hb dJ3_add_3_41 (lv_at hl 0 rfl) ?_
    refine lv_iload_n hx hb dJ3_add_3_43 rfl (lv_at hl 3 rfl) ?_
    refine h_iconst hx hb dJ3_add_3_44 ?_
    refine h_iadd hx hb dJ3_add_3_45 ?_
    refine lv_iload_n hx hb dJ3_add_3_46 rfl (lv_at hl 1 rfl) ?_
    refine lv_iload_n hx hb dJ3_add_3_47 rfl (lv_at hl 3 rfl) ?_
    refine h_isub hx hb dJ3_add_3_48 ?_
    refine h_copyR (C := "") X hR hL hl.1 hF_arr_w_4 hF_arr_w_4 hr rfl rfl q1635 (by intro x_ h_; simp only [acW, List.mem_cons, List.not_mem_nil, or_false] at h_; rcases h_ with h_ | h_ | h_ <;> subst h_; exact q340; exact q339; exact q137) ⟨by omega, by omega, by omega⟩ (by omega) (by omega) ⟨by omega, by omega⟩ (fun j_ hj_ y_ hy_ => by have h1_ := hA5 (i + j_) (by omega); have e0_ : ((i : Int) : Int).toNat = i := (by omega); rw [e0_] at hy_; have e2_ := Option.some.inj (h1_.symm.trans hy_); rw [← e2_]; obtain ⟨C_, c1_, c2_⟩ := hvE _ hU _ (getmem (d := 0) (show i + j_ < L.length by omega)); exact ⟨C_, c1_, Or.inl c2_⟩) ⟨by decide, Nat.le_of_ble_eq_true rfl⟩ dJ3_add_3_49 (fun w_6 ew_7 H locs hR hL => ?_)
    have hU : Up (fun q_ => q_ = r) w w_6 := by rw [ew_7]; exact hU.set hF_arr_w_4 (by first | exact Or.inl rfl | exact Or.inl (by omega) | exact Or.inr ⟨Nat.succ_ne_zero _, by rw [Nat.add_sub_cancel]; assumption⟩ | exact Or.inr ⟨by omega, by assumption⟩) hG _
    have hF_arr_w_6 : w_6 arr = some (r, rE G 4 cap (cpA f f (Int.toNat ((i : Int))) (Int.toNat ((i : Int) + 1)) (Int.toNat (((L.length : Int)) - ((i : Int)))))) := by rw [ew_7]; exact wset_eq _ _ _
    have hF_a_w_6 : w_6 a = some (r, oE 21 [.int (iI (mo + 1)), .ref arr, .int (iI ((L.length : Int)))]) := by rw [ew_7]; exact (wset_ne _ (by first | exact ne_a_arr | exact Ne.symm ne_arr_a | exact w_neR hF_a_w_4 hF_arr_w_4 (by omega) | exact w_ne hF_a_w_4 hF_arr_w_4 (by intro h; cases h))).trans hF_a_w_4
    refine lv_aload hx hb dJ3_add_3_52 (lv_at hl 0 rfl) ?_
    refine lv_iload_n hx hb dJ3_add_3_54 rfl (lv_at hl 3 rfl) ?_
    refine lv_aload_n hx hb dJ3_add_3_55 rfl (lv_at hl 4 rfl) ?_
    refine h_aast X hR hL hF_arr_w_6 hr rfl (hvk _ hU) (Or.inl hca) (by omega) (by omega) dJ3_add_3_56 (fun w_8 ew_9 H locs hR hL => ?_)
    have hU : Up (fun q_ => q_ = r) w w_8 := by rw [ew_9]; exact hU.set hF_arr_w_6 (by first | exact Or.inl rfl | exact Or.inl (by omega) | exact Or.inr ⟨Nat.succ_ne_zero _, by rw [Nat.add_sub_cancel]; assumption⟩ | exact Or.inr ⟨by omega, by assumption⟩) hG _
    have hF_arr_w_8 : w_8 arr = some (r, rE G 4 cap (zset (cpA f f (Int.toNat ((i : Int))) (Int.toNat ((i : Int) + 1)) (Int.toNat (((L.length : Int)) - ((i : Int))))) ((i : Int)).toNat (some v))) := by rw [ew_9]; exact wset_eq _ _ _
    have hF_a_w_8 : w_8 a = some (r, oE 21 [.int (iI (mo + 1)), .ref arr, .int (iI ((L.length : Int)))]) := by rw [ew_9]; exact (wset_ne _ (by first | exact ne_a_arr | exact Ne.symm ne_arr_a | exact w_neR hF_a_w_6 hF_arr_w_6 (by omega) | exact w_ne hF_a_w_6 hF_arr_w_6 (by intro h; cases h))).trans hF_a_w_6
    refine lv_aload_n hx hb dJ3_add_3_57 rfl (lv_at hl 2 rfl) ?_
    refine lv_iload_n hx hb dJ3_add_3_58 rfl (lv_at hl 1 rfl) ?_
    refine h_iconst hx hb dJ3_add_3_59 ?_
    refine h_iadd hx hb dJ3_add_3_60 ?_
    refine h_put X hR hL hF_a_w_8 hr rfl in_J3 tyJ3_ok nmJ3 2 (by decide) q538 rfl rfl rfl (Nat.le_of_ble_eq_true rfl) dJ3_add_3_61 (fun w_10 ew_11 H locs hR hL => ?_)
    have hU : Up (fun q_ => q_ = r) w w_10 := by rw [ew_11]; exact hU.set hF_a_w_8 (by first | exact Or.inl rfl | exact Or.inl (by omega) | exact Or.inr ⟨Nat.succ_ne_zero _, by rw [Nat.add_sub_cancel]; assumption⟩ | exact Or.inr ⟨by omega, by assumption⟩) hG _
    have hF_a_w_10 : w_10 a = some (r, oE 21 [.int (iI (mo + 1)), .ref arr, .int (iI ((L.length : Int) + 1))]) := by rw [ew_11]; exact wset_eq _ _ _
    have hF_arr_w_10 : w_10 arr = some (r, rE G 4 cap (zset (cpA f f (Int.toNat ((i : Int))) (Int.toNat ((i : Int) + 1)) (Int.toNat (((L.length : Int)) - ((i : Int))))) ((i : Int)).toNat (some v))) := by rw [ew_11]; exact (wset_ne _ (by first | exact ne_arr_a | exact Ne.symm ne_a_arr | exact w_neR hF_arr_w_8 hF_a_w_8 (by omega) | exact w_ne hF_arr_w_8 hF_a_w_8 (by intro h; cases h))).trans hF_arr_w_8
    have hlen : ((insAt L i v).length : Int) = (L.length : Int) + 1 := by rw [insAt_len L i v hi]; omega
    have hLs : LsAt G w_10 r a cap (mo + 1) (insAt L i v) := ⟨arr, _, by rw [hlen]; exact hF_a_w_10, hF_arr_w_10, by rw [insAt_len L i v hi]; omega, hA4, fun j hj => by have h_ := ins_cp hi hA5 j hj; simpa using h_⟩
    exact h_vreturn hx hb hlk hret hR hL ⟨hLs, hU⟩ (by omega) (by omega) rfl rfl dJ3_add_3_64
  ·
    exact absurd c_g (by omega)

set_option maxHeartbeats 4000000 in
set_option maxRecDepth 100000 in
/-- ArrayList.fastRemove -/
theorem ls_fr (l : Launch) (G : Gl) (w : Wd) (r a cap : Nat) (mo : Int) (L : List Nat) (arr : Nat) (f : Nat → Option Nat) (hA1 : w a = some (r, oE 21 [.int (iI mo), .ref arr, .int (iI (L.length : Int))])) (hA2 : w arr = some (r, rE G 4 cap f)) (hA3 : L.length ≤ cap) (hA4 : cap < 1000000) (hA5 : ∀ i, i < L.length → f i = some (L.getD i 0)) (i : Nat) (hi : i < L.length) (hG : RegW w) (hr : r ≠ 0) (hvE : ∀ w1 : Wd, Up (fun q_ => q_ = r) w w1 → LsE w1 L) : HM l yJ3_fastRemove cJ3_fastRemove 4 none 1 0 0 G [.ref a, .ref arr, .int (iI ((i : Int)))] w (QV G (fun w_ => LsAt G w_ r a cap (mo + 1) (remAt L i) ∧ Up (fun q_ => q_ = r) w w_)) := by
  refine HM.mk (by decide +kernel) (Nat.le_of_ble_eq_true rfl) ?_
  intro p9 e9 s9 m9 a9 b9 meth9 c9 ls X hret hlk hnm hl H hR
  have hx := X.1.1
  have hb := X.1.2.1
  have hl : lv_has ls 4 [(0, .ref a), (1, .ref arr), (2, .int (iI ((i : Int))))] := hl
  have hL : LK G [] := fun q h => absurd h List.not_mem_nil
  generalize ([] : List Loc) = locs at hL ⊢
  have hU : Up (fun q_ => q_ = r) w w := Up.rf hG
  refine lv_aload_n hx hb dJ3_fastRemove_0 rfl (lv_at hl 0 rfl) ?_
  refine lv_dup hx hb dJ3_fastRemove_1 rfl ?_
  refine h_getS X hR hA1 rfl in_J3 0 (by decide) q542 q541 rfl dJ3_fastRemove_2 ?_
  refine h_iconst hx hb dJ3_fastRemove_5 ?_
  refine h_iadd hx hb dJ3_fastRemove_6 ?_
  refine h_putS X hR hL hA1 hr rfl in_J3 tyJ3_ok nmJ3 0 (by decide) q542 q541 rfl rfl rfl (Nat.le_of_ble_eq_true rfl) dJ3_fastRemove_7 (fun w_1 ew_2 H locs hR hL => ?_)
  have hU : Up (fun q_ => q_ = r) w w_1 := by rw [ew_2]; exact hU.set hA1 (by first | exact Or.inl rfl | exact Or.inl (by omega) | exact Or.inr ⟨Nat.succ_ne_zero _, by rw [Nat.add_sub_cancel]; assumption⟩ | exact Or.inr ⟨by omega, by assumption⟩) hG _
  have hF_a_w_1 : w_1 a = some (r, oE 21 [.int (iI (mo + 1)), .ref arr, .int (iI ((L.length : Int)))]) := by rw [ew_2]; exact wset_eq _ _ _
  have hF_arr_w_1 : w_1 arr = some (r, rE G 4 cap f) := by rw [ew_2]; exact (wset_ne _ (by first | exact ne_arr_a | exact Ne.symm ne_a_arr | exact w_neR hA2 hA1 (by omega) | exact w_ne hA2 hA1 (by intro h; cases h))).trans hA2
  refine lv_aload_n hx hb dJ3_fastRemove_10 rfl (lv_at hl 0 rfl) ?_
  refine h_get X hR hF_a_w_1 rfl in_J3 2 (by decide) q538 rfl dJ3_fastRemove_11 ?_
  refine h_iconst hx hb dJ3_fastRemove_14 ?_
  refine h_isub hx hb dJ3_fastRemove_15 ?_
  refine lv_dup hx hb dJ3_fastRemove_16 rfl ?_
  refine lv_istore_n (lv' := [(3, .int (iI (((L.length : Int)) - 1))), (0, .ref a), (1, .ref arr), (2, .int (iI ((i : Int))))]) hx hb dJ3_fastRemove_17 rfl hl (by decide) rfl (fun ls hl => ?_)
  refine lv_iload_n hx hb dJ3_fastRemove_18 rfl (lv_at hl 3 rfl) ?_
  refine h_icmp_le hx hb 34 dJ3_fastRemove_19 (by decide) (by omega) (by omega) (fun c_m => ?_) (fun c_m => ?_)
  ·
    refine lv_aload_n hx hb dJ3_fastRemove_34 rfl (lv_at hl 2 rfl) ?_
    refine lv_aload_n hx hb dJ3_fastRemove_35 rfl (lv_at hl 1 rfl) ?_
    refine lv_iload_n hx hb dJ3_fastRemove_36 rfl (lv_at hl 0 rfl) ?_
    refine lv_dup_x1 hx hb dJ3_fastRemove_37 rfl rfl ?_
    refine h_put X hR hL hF_a_w_1 hr rfl in_J3 tyJ3_ok nmJ3 2 (by decide) q538 rfl rfl rfl (Nat.le_of_ble_eq_true rfl) dJ3_fastRemove_38 (fun w_3 ew_4 H locs hR hL => ?_)
    have hU : Up (fun q_ => q_ = r) w w_3 := by rw [ew_4]; exact hU.set hF_a_w_1 (by first | exact Or.inl rfl | exact Or.inl (by omega) | exact Or.inr ⟨Nat.succ_ne_zero _, by rw [Nat.add_sub_cancel]; assumption⟩ | exact Or.inr ⟨by omega, by assumption⟩) hG _
    have hF_a_w_3 : w_3 a = some (r, oE 21 [.int (iI (mo + 1)), .ref arr, .int (iI (((L.length : Int)) - 1))]) := by rw [ew_4]; exact wset_eq _ _ _
    have hF_arr_w_3 : w_3 arr = some (r, rE G 4 cap f) := by rw [ew_4]; exact (wset_ne _ (by first | exact ne_arr_a | exact Ne.symm ne_a_arr | exact w_neR hF_arr_w_1 hF_a_w_1 (by omega) | exact w_ne hF_arr_w_1 hF_a_w_1 (by intro h; cases h))).trans hF_arr_w_1
    refine lv_null hx hb dJ3_fastRemove_41 ?_
    refine h_aastN X hR hL hF_arr_w_3 hr rfl (by omega) (by omega) dJ3_fastRemove_42 (fun w_5 ew_6 H locs hR hL => ?_)
    have hU : Up (fun q_ => q_ = r) w w_5 := by rw [ew_6]; exact hU.set hF_arr_w_3 (by first | exact Or.inl rfl | exact Or.inl (by omega) | exact Or.inr ⟨Nat.succ_ne_zero _, by rw [Nat.add_sub_cancel]; assumption⟩ | exact Or.inr ⟨by omega, by assumption⟩) hG _
    have hF_arr_w_5 : w_5 arr = some (r, rE G 4 cap (zset f (((L.length : Int)) - 1).toNat none)) := by rw [ew_6]; exact wset_eq _ _ _
    have hF_a_w_5 : w_5 a = some (r, oE 21 [.int (iI (mo + 1)), .ref arr, .int (iI (((L.length : Int)) - 1))]) := by rw [ew_6]; exact (wset_ne _ (by first | exact ne_a_arr | exact Ne.symm ne_arr_a | exact w_neR hF_a_w_3 hF_arr_w_3 (by omega) | exact w_ne hF_a_w_3 hF_arr_w_3 (by intro h; cases h))).trans hF_a_w_3
    have hlen : ((remAt L i).length : Int) = (L.length : Int) - 1 := by rw [remAt_len L i hi]; omega
    have hLs : LsAt G w_5 r a cap (mo + 1) (remAt L i) := ⟨arr, _, by rw [hlen]; exact hF_a_w_5, hF_arr_w_5, by rw [remAt_len L i hi]; omega, hA4, fun j hj => by have h_ := rem_cp0 hi (by omega) hA5 j hj; have e1_ : ((L.length : Int) - 1).toNat = L.length - 1 := (by omega); have e2_ : ((L.length : Int) - 1 - (i : Int)).toNat = L.length - 1 - i := (by omega); have e3_ : ((i : Int) + 1).toNat = i + 1 := (by omega); (try rw [e3_]); (try rw [e2_]); rw [e1_]; (try rw [Int.toNat_natCast]); exact h_⟩
    exact h_vreturn hx hb hlk hret hR hL ⟨hLs, hU⟩ (by omega) (by omega) rfl rfl dJ3_fastRemove_43
  ·
    refine lv_aload_n hx hb dJ3_fastRemove_22 rfl (lv_at hl 2 rfl) ?_
    refine lv_iload_n hx hb dJ3_fastRemove_23 rfl (lv_at hl 3 rfl) ?_
    refine h_iconst hx hb dJ3_fastRemove_24 ?_
    refine h_iadd hx hb dJ3_fastRemove_25 ?_
    refine lv_aload_n hx hb dJ3_fastRemove_26 rfl (lv_at hl 2 rfl) ?_
    refine lv_iload_n hx hb dJ3_fastRemove_27 rfl (lv_at hl 3 rfl) ?_
    refine lv_iload_n hx hb dJ3_fastRemove_28 rfl (lv_at hl 0 rfl) ?_
    refine lv_iload_n hx hb dJ3_fastRemove_29 rfl (lv_at hl 3 rfl) ?_
    refine h_isub hx hb dJ3_fastRemove_30 ?_
    refine h_copyR (C := "") X hR hL hl.1 hF_arr_w_1 hF_arr_w_1 hr rfl rfl q1635 (by intro x_ h_; simp only [acW, List.mem_cons, List.not_mem_nil, or_false] at h_; rcases h_ with h_ | h_ | h_ <;> subst h_; exact q340; exact q339; exact q137) ⟨by omega, by omega, by omega⟩ (by omega) (by omega) ⟨by omega, by omega⟩ (fun j_ hj_ y_ hy_ => by have h1_ := hA5 (i + 1 + j_) (by omega); have e0_ : ((i : Int) + 1 : Int).toNat = i + 1 := (by omega); rw [e0_] at hy_; have e2_ := Option.some.inj (h1_.symm.trans hy_); rw [← e2_]; obtain ⟨C_, c1_, c2_⟩ := hvE _ hU _ (getmem (d := 0) (show i + 1 + j_ < L.length by omega)); exact ⟨C_, c1_, Or.inl c2_⟩) ⟨by decide, Nat.le_of_ble_eq_true rfl⟩ dJ3_fastRemove_31 (fun w_7 ew_8 H locs hR hL => ?_)
    have hU : Up (fun q_ => q_ = r) w w_7 := by rw [ew_8]; exact hU.set hF_arr_w_1 (by first | exact Or.inl rfl | exact Or.inl (by omega) | exact Or.inr ⟨Nat.succ_ne_zero _, by rw [Nat.add_sub_cancel]; assumption⟩ | exact Or.inr ⟨by omega, by assumption⟩) hG _
    have hF_arr_w_7 : w_7 arr = some (r, rE G 4 cap (cpA f f (Int.toNat ((i : Int) + 1)) (Int.toNat ((i : Int))) (Int.toNat ((((L.length : Int)) - 1) - ((i : Int)))))) := by rw [ew_8]; exact wset_eq _ _ _
    have hF_a_w_7 : w_7 a = some (r, oE 21 [.int (iI (mo + 1)), .ref arr, .int (iI ((L.length : Int)))]) := by rw [ew_8]; exact (wset_ne _ (by first | exact ne_a_arr | exact Ne.symm ne_arr_a | exact w_neR hF_a_w_1 hF_arr_w_1 (by omega) | exact w_ne hF_a_w_1 hF_arr_w_1 (by intro h; cases h))).trans hF_a_w_1
    refine lv_aload_n hx hb dJ3_fastRemove_34 rfl (lv_at hl 2 rfl) ?_
    refine lv_aload_n hx hb dJ3_fastRemove_35 rfl (lv_at hl 1 rfl) ?_
    refine lv_iload_n hx hb dJ3_fastRemove_36 rfl (lv_at hl 0 rfl) ?_
    refine lv_dup_x1 hx hb dJ3_fastRemove_37 rfl rfl ?_
    refine h_put X hR hL hF_a_w_7 hr rfl in_J3 tyJ3_ok nmJ3 2 (by decide) q538 rfl rfl rfl (Nat.le_of_ble_eq_true rfl) dJ3_fastRemove_38 (fun w_9 ew_10 H locs hR hL => ?_)
    have hU : Up (fun q_ => q_ = r) w w_9 := by rw [ew_10]; exact hU.set hF_a_w_7 (by first | exact Or.inl rfl | exact Or.inl (by omega) | exact Or.inr ⟨Nat.succ_ne_zero _, by rw [Nat.add_sub_cancel]; assumption⟩ | exact Or.inr ⟨by omega, by assumption⟩) hG _
    have hF_a_w_9 : w_9 a = some (r, oE 21 [.int (iI (mo + 1)), .ref arr, .int (iI (((L.length : Int)) - 1))]) := by rw [ew_10]; exact wset_eq _ _ _
    have hF_arr_w_9 : w_9 arr = some (r, rE G 4 cap (cpA f f (Int.toNat ((i : Int) + 1)) (Int.toNat ((i : Int))) (Int.toNat ((((L.length : Int)) - 1) - ((i : Int)))))) := by rw [ew_10]; exact (wset_ne _ (by first | exact ne_arr_a | exact Ne.symm ne_a_arr | exact w_neR hF_arr_w_7 hF_a_w_7 (by omega) | exact w_ne hF_arr_w_7 hF_a_w_7 (by intro h; cases h))).trans hF_arr_w_7
    refine lv_null hx hb dJ3_fastRemove_41 ?_
    refine h_aastN X hR hL hF_arr_w_9 hr rfl (by omega) (by omega) dJ3_fastRemove_42 (fun w_11 ew_12 H locs hR hL => ?_)
    have hU : Up (fun q_ => q_ = r) w w_11 := by rw [ew_12]; exact hU.set hF_arr_w_9 (by first | exact Or.inl rfl | exact Or.inl (by omega) | exact Or.inr ⟨Nat.succ_ne_zero _, by rw [Nat.add_sub_cancel]; assumption⟩ | exact Or.inr ⟨by omega, by assumption⟩) hG _
    have hF_arr_w_11 : w_11 arr = some (r, rE G 4 cap (zset (cpA f f (Int.toNat ((i : Int) + 1)) (Int.toNat ((i : Int))) (Int.toNat ((((L.length : Int)) - 1) - ((i : Int))))) (((L.length : Int)) - 1).toNat none)) := by rw [ew_12]; exact wset_eq _ _ _
    have hF_a_w_11 : w_11 a = some (r, oE 21 [.int (iI (mo + 1)), .ref arr, .int (iI (((L.length : Int)) - 1))]) := by rw [ew_12]; exact (wset_ne _ (by first | exact ne_a_arr | exact Ne.symm ne_arr_a | exact w_neR hF_a_w_9 hF_arr_w_9 (by omega) | exact w_ne hF_a_w_9 hF_arr_w_9 (by intro h; cases h))).trans hF_a_w_9
    have hlen : ((remAt L i).length : Int) = (L.length : Int) - 1 := by rw [remAt_len L i hi]; omega
    have hLs : LsAt G w_11 r a cap (mo + 1) (remAt L i) := ⟨arr, _, by rw [hlen]; exact hF_a_w_11, hF_arr_w_11, by rw [remAt_len L i hi]; omega, hA4, fun j hj => by have h_ := rem_cp hi hA5 j hj; have e1_ : ((L.length : Int) - 1).toNat = L.length - 1 := (by omega); have e2_ : ((L.length : Int) - 1 - (i : Int)).toNat = L.length - 1 - i := (by omega); have e3_ : ((i : Int) + 1).toNat = i + 1 := (by omega); (try rw [e3_]); (try rw [e2_]); rw [e1_]; (try rw [Int.toNat_natCast]); exact h_⟩
    exact h_vreturn hx hb hlk hret hR hL ⟨hLs, hU⟩ (by omega) (by omega) rfl rfl dJ3_fastRemove_43

set_option maxHeartbeats 4000000 in
set_option maxRecDepth 100000 in
/-- ArrayList.remove -/
theorem ls_remove (l : Launch) (G : Gl) (w : Wd) (r a cap : Nat) (mo : Int) (L : List Nat) (hA : LsAt G w r a cap mo L) (i : Nat) (hi : i < L.length) (hG : RegW w) (hr : r ≠ 0) (hvE : ∀ w1 : Wd, Up (fun q_ => q_ = r) w w1 → LsE w1 L) : HM l yJ3_remove cJ3_remove 4 (some (.object "java/lang/Object")) 3 0 0 G [.ref a, .int (iI ((i : Int)))] w (QR G (fun z_ w_ => z_ = L.getD i 0 ∧ LsAt G w_ r a cap (mo + 1) (remAt L i) ∧ Up (fun q_ => q_ = r) w w_)) := by
  refine HM.mk (by decide +kernel) (Nat.le_of_ble_eq_true rfl) ?_
  intro p9 e9 s9 m9 a9 b9 meth9 c9 ls X hret hlk hnm hl H hR
  have hx := X.1.1
  have hb := X.1.2.1
  have hl : lv_has ls 4 [(0, .ref a), (1, .int (iI ((i : Int))))] := hl
  have hL : LK G [] := fun q h => absurd h List.not_mem_nil
  generalize ([] : List Loc) = locs at hL ⊢
  have hU : Up (fun q_ => q_ = r) w w := Up.rf hG
  have hA0 := hA
  obtain ⟨arr, f, hA1, hA2, hA3, hA4, hA5⟩ := hA
  refine lv_iload_n hx hb dJ3_remove_0 rfl (lv_at hl 1 rfl) ?_
  refine lv_aload_n hx hb dJ3_remove_1 rfl (lv_at hl 0 rfl) ?_
  refine h_get X hR hA1 rfl in_J3 2 (by decide) q538 rfl dJ3_remove_2 ?_
  -- call java/util/Objects.checkIndex
  refine h_kIp (h_runS X hR (o_check l G w ((i : Int)) ((L.length : Int)) ⟨by omega, by omega⟩ (by omega)) pn_yJ28_checkIndex q1581 q1582 q158 q1583 ⟨by decide, by decide⟩ hl.1 (Nat.le_of_ble_eq_true rfl) dJ3_remove_5 ⟨by omega, by omega⟩) hL (fun H locs hR hL => ?_)
  refine lv_pop hx hb dJ3_remove_8 rfl ?_
  refine lv_aload_n hx hb dJ3_remove_9 rfl (lv_at hl 0 rfl) ?_
  refine h_get X hR hA1 rfl in_J3 1 (by decide) q535 rfl dJ3_remove_10 ?_
  refine lv_astore_n (lv' := [(2, .ref arr), (0, .ref a), (1, .int (iI ((i : Int))))]) hx hb dJ3_remove_13 rfl hl (by decide) rfl (fun ls hl => ?_)
  refine lv_aload_n hx hb dJ3_remove_14 rfl (lv_at hl 0 rfl) ?_
  refine lv_iload_n hx hb dJ3_remove_15 rfl (lv_at hl 2 rfl) ?_
  refine h_aald X hR hA2 rfl (by omega) (by omega) dJ3_remove_16 ?_
  refine W.eq (g2 := F0 m9 17 ls [.ref (L.getD i 0)]) (by rw [show f ((i : Int)).toNat = some (L.getD i 0) by rw [Int.toNat_natCast]; exact hA5 i hi]; rfl) ?_
  refine lv_astore_n (lv' := [(3, .ref (L.getD i 0)), (2, .ref arr), (0, .ref a), (1, .int (iI ((i : Int))))]) hx hb dJ3_remove_17 rfl hl (by decide) rfl (fun ls hl => ?_)
  refine lv_aload_n hx hb dJ3_remove_18 rfl (lv_at hl 2 rfl) ?_
  refine lv_aload_n hx hb dJ3_remove_19 rfl (lv_at hl 1 rfl) ?_
  refine lv_iload_n hx hb dJ3_remove_20 rfl (lv_at hl 3 rfl) ?_
  -- call java/util/ArrayList.fastRemove
  refine h_kV (h_runV X hR (ls_fr l G w r a cap mo L arr f hA1 hA2 hA3 hA4 hA5 i hi hG hr hvE) pn_yJ3_fastRemove ((hasC.of hA1 rfl)) q1877 q1879 qs11 q125 q1880 ⟨by decide, by decide⟩ hl.1 (Nat.le_of_ble_eq_true rfl) dJ3_remove_21 ⟨by omega, by omega⟩) hL (fun w_5 hp_6 H locs hR hL => ?_)
  obtain ⟨hL__8, u_7⟩ := hp_6
  have hU : Up (fun q_ => q_ = r) w w_5 := hU.tr u_7 (fun q_ h_ => by first | exact absurd h_ id | exact Or.inl h_ | ((try dsimp only at h_); first | exact Or.inl (by omega) | exact Or.inr ⟨by omega, by subst h_; rw [Nat.add_sub_cancel]; assumption⟩)) hG
  refine lv_aload_n hx hb dJ3_remove_24 rfl (lv_at hl 0 rfl) ?_
  exact h_areturn hx hb hlk hret (by first | exact Or.inl ⟨_, rfl⟩ | exact Or.inr ⟨_, rfl⟩) hR hL ⟨rfl, hL__8, hU⟩ (by omega) (by omega) rfl rfl dJ3_remove_25
