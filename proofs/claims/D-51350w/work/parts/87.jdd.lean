/-! JDK: HashMap: put -/
set_option maxRecDepth 100000
theorem hash_ne {L M : List Int} (h : ¬ hsp L = hsp M) : L ≠ M := fun q => h (by rw [q])

theorem pn_yJ19_afterNodeInsertion : ParN yJ19_afterNodeInsertion 1 := by decide +kernel
theorem pn_yJ19_newNode : ParN yJ19_newNode 4 := by decide +kernel
theorem pn_yJ19_resize : ParN yJ19_resize 0 := by decide +kernel
theorem pn_yJ20_init : ParN yJ20_init 4 := by decide +kernel

set_option maxHeartbeats 4000000 in
set_option maxRecDepth 100000 in
/-- HashMap$Node.<init> -/
theorem nd_init (l : Launch) (G : Gl) (w : Wd) (q k v : Nat) (z : Int) (hq : w q = some (q + 1, oE 25 [.int (iI 0), .null, .null, .null])) (hG : RegW w) : HM l yJ20_init cJ20_init 5 none 1 0 0 G [.ref q, .int (iI (z)), .ref k, .ref v, .null] w (QV G (fun w_ => w_ q = some (q + 1, oE 25 [.int (iI z), .ref k, .ref v, .null]) ∧ Up (fun q_ => q_ = q + 1) w w_)) := by
  refine HM.mk (by decide +kernel) (Nat.le_of_ble_eq_true rfl) ?_
  intro p9 e9 s9 m9 a9 b9 meth9 c9 ls X hret hlk hnm hl H hR
  have hx := X.1.1
  have hb := X.1.2.1
  have hl : lv_has ls 5 [(0, .ref q), (1, .int (iI (z))), (2, .ref k), (3, .ref v), (4, .null)] := hl
  have hL : LK G [] := fun q h => absurd h List.not_mem_nil
  generalize ([] : List Loc) = locs at hL ⊢
  have hU : Up (fun q_ => q_ = q + 1) w w := Up.rf hG
  refine lv_aload_n hx hb dJ20_init_0 rfl (lv_at hl 0 rfl) ?_
  refine W.objInit hx hb X.1.2.2.2.1 (X.1.2.2.2.2 _ q876) (X.1.2.2.2.2 _ q180) (X.1.2.2.2.2 _ q181) rfl (by rw [X.1.2.2.1]; exact hl.1) rfl dJ20_init_1 (Nat.le_of_ble_eq_true rfl) (Nat.le_of_ble_eq_true rfl) ?_
  refine W.eq (g2 := F0 m9 4 ls []) rfl ?_
  refine lv_aload_n hx hb dJ20_init_4 rfl (lv_at hl 0 rfl) ?_
  refine lv_iload_n hx hb dJ20_init_5 rfl (lv_at hl 1 rfl) ?_
  refine h_putF X hnm hR hL hq (by omega) rfl in_J20 tyJ20_ok nmJ20 0 (by decide) q877 rfl rfl rfl rfl (Nat.le_of_ble_eq_true rfl) dJ20_init_6 (fun w_1 ew_2 H locs hR hL => ?_)
  have hU : Up (fun q_ => q_ = q + 1) w w_1 := by rw [ew_2]; exact hU.set hq (by first | exact Or.inl rfl | exact Or.inl (by omega) | exact Or.inr ⟨Nat.succ_ne_zero _, by rw [Nat.add_sub_cancel]; assumption⟩ | exact Or.inr ⟨by omega, by assumption⟩) hG _
  have hF_q_w_1 : w_1 q = some (q + 1, oE 25 [.int (iI (z)), .null, .null, .null]) := by rw [ew_2]; exact wset_eq _ _ _
  refine lv_aload_n hx hb dJ20_init_9 rfl (lv_at hl 0 rfl) ?_
  refine lv_aload_n hx hb dJ20_init_10 rfl (lv_at hl 2 rfl) ?_
  refine h_putF X hnm hR hL hF_q_w_1 (by omega) rfl in_J20 tyJ20_ok nmJ20 1 (by decide) q881 rfl rfl rfl rfl (Nat.le_of_ble_eq_true rfl) dJ20_init_11 (fun w_3 ew_4 H locs hR hL => ?_)
  have hU : Up (fun q_ => q_ = q + 1) w w_3 := by rw [ew_4]; exact hU.set hF_q_w_1 (by first | exact Or.inl rfl | exact Or.inl (by omega) | exact Or.inr ⟨Nat.succ_ne_zero _, by rw [Nat.add_sub_cancel]; assumption⟩ | exact Or.inr ⟨by omega, by assumption⟩) hG _
  have hF_q_w_3 : w_3 q = some (q + 1, oE 25 [.int (iI (z)), .ref k, .null, .null]) := by rw [ew_4]; exact wset_eq _ _ _
  refine lv_aload_n hx hb dJ20_init_14 rfl (lv_at hl 0 rfl) ?_
  refine lv_aload_n hx hb dJ20_init_15 rfl (lv_at hl 3 rfl) ?_
  refine h_put X hR hL hF_q_w_3 (by omega) rfl in_J20 tyJ20_ok nmJ20 2 (by decide) q885 rfl rfl rfl (Nat.le_of_ble_eq_true rfl) dJ20_init_16 (fun w_5 ew_6 H locs hR hL => ?_)
  have hU : Up (fun q_ => q_ = q + 1) w w_5 := by rw [ew_6]; exact hU.set hF_q_w_3 (by first | exact Or.inl rfl | exact Or.inl (by omega) | exact Or.inr ⟨Nat.succ_ne_zero _, by rw [Nat.add_sub_cancel]; assumption⟩ | exact Or.inr ⟨by omega, by assumption⟩) hG _
  have hF_q_w_5 : w_5 q = some (q + 1, oE 25 [.int (iI (z)), .ref k, .ref v, .null]) := by rw [ew_6]; exact wset_eq _ _ _
  refine lv_aload_n hx hb dJ20_init_19 rfl (lv_at hl 0 rfl) ?_
  refine lv_aloadN hx hb dJ20_init_20 (lv_at hl 4 rfl) ?_
  refine h_put X hR hL hF_q_w_5 (by omega) rfl in_J20 tyJ20_ok nmJ20 3 (by decide) q887 rfl rfl rfl (Nat.le_of_ble_eq_true rfl) dJ20_init_22 (fun w_7 ew_8 H locs hR hL => ?_)
  have hU : Up (fun q_ => q_ = q + 1) w w_7 := by rw [ew_8]; exact hU.set hF_q_w_5 (by first | exact Or.inl rfl | exact Or.inl (by omega) | exact Or.inr ⟨Nat.succ_ne_zero _, by rw [Nat.add_sub_cancel]; assumption⟩ | exact Or.inr ⟨by omega, by assumption⟩) hG _
  have hF_q_w_7 : w_7 q = some (q + 1, oE 25 [.int (iI (z)), .ref k, .ref v, .null]) := by rw [ew_8]; exact wset_eq _ _ _
  exact h_vreturn hx hb hlk hret hR hL ⟨hF_q_w_7, hU⟩ (by omega) (by omega) rfl rfl dJ20_init_25

set_option maxHeartbeats 4000000 in
set_option maxRecDepth 100000 in
/-- HashMap.newNode -/
theorem hm_nn (l : Launch) (G : Gl) (w : Wd) (a k v : Nat) (z : Int) (hG : RegW w) : HM l yJ19_newNode cJ19_newNode 5 (some (.object "java/util/HashMap$Node")) 2 1 4 G [.ref a, .int (iI (z)), .ref k, .ref v, .null] w (QR G (fun z_ w_ => w z_ = none ∧ w_ z_ = some (z_ + 1, oE 25 [.int (iI z), .ref k, .ref v, .null]) ∧ Up (fun _ => False) w w_)) := by
  refine HM.mk (by decide +kernel) (Nat.le_of_ble_eq_true rfl) ?_
  intro p9 e9 s9 m9 a9 b9 meth9 c9 ls X hret hlk hnm hl H hR
  have hx := X.1.1
  have hb := X.1.2.1
  have hl : lv_has ls 5 [(0, .ref a), (1, .int (iI (z))), (2, .ref k), (3, .ref v), (4, .null)] := hl
  have hL : LK G [] := fun q h => absurd h List.not_mem_nil
  generalize ([] : List Loc) = locs at hL ⊢
  have hU : Up (fun _ => False) w w := Up.rf hG
  refine h_new X hR (ci := 25) (fun q => q + 1) rfl in_J20 tyJ20_ok q856 q872 q146 [.int (iI (0)), .null, .null, .null] (by intro j hj; rcases (show j = 0 ∨ j = 1 ∨ j = 2 ∨ j = 3 by omega) with rfl | rfl | rfl | rfl <;> rfl) (by omega) (by omega) dJ19_newNode_0 (fun q hq w_1 ew_2 H hR => ?_)
  have hn_q : w q = none := hU.2.1 _ hq
  have hU : Up (fun _ => False) w w_1 := by rw [ew_2]; exact hU.new hq (by first | exact Or.inr (Or.inl rfl) | exact Or.inl rfl | exact Or.inr (Or.inr (by assumption)))
  have hF_q_w_1 : w_1 q = some (q + 1, oE 25 [.int (iI (0)), .null, .null, .null]) := by rw [ew_2]; exact wset_eq _ _ _
  refine lv_dup hx hb dJ19_newNode_3 rfl ?_
  refine lv_iload_n hx hb dJ19_newNode_4 rfl (lv_at hl 1 rfl) ?_
  refine lv_aload_n hx hb dJ19_newNode_5 rfl (lv_at hl 2 rfl) ?_
  refine lv_aload_n hx hb dJ19_newNode_6 rfl (lv_at hl 3 rfl) ?_
  refine lv_aloadN hx hb dJ19_newNode_7 (lv_at hl 4 rfl) ?_
  -- call java/util/HashMap$Node.<init>
  refine h_kV (h_runI X hR (nd_init l G w_1 q k v z hF_q_w_1 hU.2.2.1) pn_yJ20_init rfl q873 q874 q146 q875 ⟨by decide, by decide⟩ hl.1 (Nat.le_of_ble_eq_true rfl) dJ19_newNode_9 ⟨by omega, by omega⟩) hL (fun w_4 hp_5 H locs hR hL => ?_)
  obtain ⟨hn__7, u_6⟩ := hp_5
  have hU : Up (fun _ => False) w w_4 := hU.tr u_6 (fun q_ h_ => by first | exact absurd h_ id | exact Or.inl h_ | ((try dsimp only at h_); first | exact Or.inl (by omega) | exact Or.inr ⟨by omega, by subst h_; rw [Nat.add_sub_cancel]; assumption⟩)) hG
  exact h_areturn hx hb hlk hret (by first | exact Or.inl ⟨_, rfl⟩ | exact Or.inr ⟨_, rfl⟩) hR hL ⟨hn_q, hn__7, hU⟩ (by omega) (by omega) rfl rfl dJ19_newNode_12

set_option maxHeartbeats 4000000 in
set_option maxRecDepth 100000 in
/-- HashMap.afterNodeAccess -/
theorem hm_ana (l : Launch) (G : Gl) (w : Wd) (a b : Nat) : HM l yJ19_afterNodeAccess cJ19_afterNodeAccess 2 none 1 0 0 G [.ref a, .ref b] w (QV G (fun w_ => w_ = w)) := by
  refine HM.mk (by decide +kernel) (Nat.le_of_ble_eq_true rfl) ?_
  intro p9 e9 s9 m9 a9 b9 meth9 c9 ls X hret hlk hnm hl H hR
  have hx := X.1.1
  have hb := X.1.2.1
  have hl : lv_has ls 2 [(0, .ref a), (1, .ref b)] := hl
  have hL : LK G [] := fun q h => absurd h List.not_mem_nil
  generalize ([] : List Loc) = locs at hL ⊢
  exact h_vreturn hx hb hlk hret hR hL (by rfl) (by omega) (by omega) rfl rfl dJ19_afterNodeAccess_0

set_option maxHeartbeats 4000000 in
set_option maxRecDepth 100000 in
/-- HashMap.afterNodeRemoval -/
theorem hm_anr (l : Launch) (G : Gl) (w : Wd) (a b : Nat) : HM l yJ19_afterNodeRemoval cJ19_afterNodeRemoval 2 none 1 0 0 G [.ref a, .ref b] w (QV G (fun w_ => w_ = w)) := by
  refine HM.mk (by decide +kernel) (Nat.le_of_ble_eq_true rfl) ?_
  intro p9 e9 s9 m9 a9 b9 meth9 c9 ls X hret hlk hnm hl H hR
  have hx := X.1.1
  have hb := X.1.2.1
  have hl : lv_has ls 2 [(0, .ref a), (1, .ref b)] := hl
  have hL : LK G [] := fun q h => absurd h List.not_mem_nil
  generalize ([] : List Loc) = locs at hL ⊢
  exact h_vreturn hx hb hlk hret hR hL (by rfl) (by omega) (by omega) rfl rfl dJ19_afterNodeRemoval_0

set_option maxHeartbeats 4000000 in
set_option maxRecDepth 100000 in
/-- HashMap.afterNodeInsertion -/
theorem hm_ani (l : Launch) (G : Gl) (w : Wd) (a : Nat) (z : Int) : HM l yJ19_afterNodeInsertion cJ19_afterNodeInsertion 2 none 1 0 0 G [.ref a, .int (iI (z))] w (QV G (fun w_ => w_ = w)) := by
  refine HM.mk (by decide +kernel) (Nat.le_of_ble_eq_true rfl) ?_
  intro p9 e9 s9 m9 a9 b9 meth9 c9 ls X hret hlk hnm hl H hR
  have hx := X.1.1
  have hb := X.1.2.1
  have hl : lv_has ls 2 [(0, .ref a), (1, .int (iI (z)))] := hl
  have hL : LK G [] := fun q h => absurd h List.not_mem_nil
  generalize ([] : List Loc) = locs at hL ⊢
  exact h_vreturn hx hb hlk hret hR hL (by rfl) (by omega) (by omega) rfl rfl dJ19_afterNodeInsertion_0

set_option maxHeartbeats 4000000 in
set_option maxRecDepth 100000 in
/-- HashMap.resize -/
theorem hm_rz (l : Launch) (G : Gl) (w : Wd) (r a : Nat) (mo : Int) (lf : UInt32) (hA : w a = some (r, hmE .null 0 mo 0 lf)) (hG : RegW w) (hr : r ≠ 0) : HM l yJ19_resize cJ19_resize 14 (some (.array (.object "java/util/HashMap$Node"))) 1 1 16 G [.ref a] w (QR G (fun z_ w_ => w z_ = none ∧ w_ a = some (r, hmE (.ref z_) 0 mo 12 lf) ∧ w_ z_ = some (r, rE G 5 16 (fun _ => none)) ∧ Up (fun q_ => q_ = r) w w_)) := by
  refine HM.mk (by decide +kernel) (Nat.le_of_ble_eq_true rfl) ?_
  intro p9 e9 s9 m9 a9 b9 meth9 c9 ls X hret hlk hnm hl H hR
  have hx := X.1.1
  have hb := X.1.2.1
  have hl : lv_has ls 14 [(0, .ref a)] := hl
  have hL : LK G [] := fun q h => absurd h List.not_mem_nil
  generalize ([] : List Loc) = locs at hL ⊢
  have hU : Up (fun q_ => q_ = r) w w := Up.rf hG
  refine lv_aload_n hx hb dJ19_resize_0 rfl (lv_at hl 0 rfl) ?_
  refine h_get X hR hA rfl in_J19 2 (by decide) q560 rfl dJ19_resize_1 ?_
  refine lv_astore_nN (lv' := [(1, .null), (0, .ref a)]) hx hb dJ19_resize_4 rfl hl (by decide) rfl (fun ls hl => ?_)
  refine lv_aload_nN hx hb dJ19_resize_5 rfl (lv_at hl 0 rfl) ?_
  refine lv_ifnonnullN hx hb dJ19_resize_6 ?_
  refine h_iconst hx hb dJ19_resize_9 ?_
  refine lv_goto (tgt := 15) hx hb dJ19_resize_10 (by decide) ?_
  refine lv_istore_n (lv' := [(2, .int (iI (0))), (1, .null), (0, .ref a)]) hx hb dJ19_resize_15 rfl hl (by decide) rfl (fun ls hl => ?_)
  refine lv_aload_n hx hb dJ19_resize_16 rfl (lv_at hl 2 rfl) ?_
  refine h_get X hR hA rfl in_J19 6 (by decide) q563 rfl dJ19_resize_17 ?_
  refine lv_istore_n (lv' := [(3, .int (iI (0))), (2, .int (iI (0))), (1, .null), (0, .ref a)]) hx hb dJ19_resize_20 rfl hl (by decide) rfl (fun ls hl => ?_)
  refine h_iconst hx hb dJ19_resize_21 ?_
  refine lv_istore (lv' := [(5, .int (iI (0))), (3, .int (iI (0))), (2, .int (iI (0))), (1, .null), (0, .ref a)]) hx hb dJ19_resize_22 hl (by decide) rfl (fun ls hl => ?_)
  refine lv_iload_n hx hb dJ19_resize_24 rfl (lv_at hl 2 rfl) ?_
  refine h_if_le hx hb 67 dJ19_resize_25 (by decide) (by decide) (fun _ => ?_) (fun z_ => absurd z_ (by decide))
  refine lv_iload_n hx hb dJ19_resize_67 rfl (lv_at hl 1 rfl) ?_
  refine h_if_le hx hb 77 dJ19_resize_68 (by decide) (by decide) (fun _ => ?_) (fun z_ => absurd z_ (by decide))
  refine h_bipush hx hb dJ19_resize_77 (by decide) ?_
  refine lv_istore (lv' := [(4, .int (iI (16))), (5, .int (iI (0))), (3, .int (iI (0))), (2, .int (iI (0))), (1, .null), (0, .ref a)]) hx hb dJ19_resize_79 hl (by decide) rfl (fun ls hl => ?_)
  refine h_bipush hx hb dJ19_resize_81 (by decide) ?_
  refine lv_istore (lv' := [(5, .int (iI (12))), (4, .int (iI (16))), (3, .int (iI (0))), (2, .int (iI (0))), (1, .null), (0, .ref a)]) hx hb dJ19_resize_83 hl (by decide) rfl (fun ls hl => ?_)
  refine lv_iload hx hb dJ19_resize_85 (lv_at hl 0 rfl) ?_
  refine h_if_ne hx hb 125 dJ19_resize_87 (by decide) (by decide) (fun _ => ?_) (fun z_ => absurd z_ (by decide))
  refine lv_aload_n hx hb dJ19_resize_125 rfl (lv_at hl 5 rfl) ?_
  refine lv_iload hx hb dJ19_resize_126 (lv_at hl 0 rfl) ?_
  refine h_put X hR hL hA hr rfl in_J19 tyJ19_ok nmJ19 6 (by decide) q563 rfl rfl rfl (Nat.le_of_ble_eq_true rfl) dJ19_resize_128 (fun w_4 ew_5 H locs hR hL => ?_)
  have hU : Up (fun q_ => q_ = r) w w_4 := by rw [ew_5]; exact hU.set hA (by first | exact Or.inl rfl | exact Or.inl (by omega) | exact Or.inr ⟨Nat.succ_ne_zero _, by rw [Nat.add_sub_cancel]; assumption⟩ | exact Or.inr ⟨by omega, by assumption⟩) hG _
  have hF_a_w_4 : w_4 a = some (r, oE 24 [.null, .null, .null, .null, .int (iI (0)), .int (iI (mo)), .int (iI (12)), .float lf]) := by rw [ew_5]; exact wset_eq _ _ _
  refine lv_iload hx hb dJ19_resize_131 (lv_at hl 1 rfl) ?_
  refine h_anew X hR 5 (fun _ => r) rfl q856 q857 16 rfl (by omega) (by omega) (by omega) dJ19_resize_133 (fun q hq w_6 ew_7 H hR => ?_)
  have hn_q : w q = none := hU.2.1 _ hq
  have hU : Up (fun q_ => q_ = r) w w_6 := by rw [ew_7]; exact hU.new hq (Or.inr (Or.inr (hU.2.2.1.ofs hF_a_w_4 hr)))
  have hF_q_w_6 : w_6 q = some (r, rE G 5 16 (fun _ => none)) := by rw [ew_7]; exact wset_eq _ _ _
  have ne_a_q : a ≠ q := w_neN hF_a_w_4 hq
  have hF_a_w_6 : w_6 a = some (r, oE 24 [.null, .null, .null, .null, .int (iI (0)), .int (iI (mo)), .int (iI (12)), .float lf]) := by rw [ew_7]; exact (wset_ne _ (w_neN hF_a_w_4 hq)).trans hF_a_w_4
  refine lv_astore (lv' := [(6, .ref q), (5, .int (iI (12))), (4, .int (iI (16))), (3, .int (iI (0))), (2, .int (iI (0))), (1, .null), (0, .ref a)]) hx hb dJ19_resize_136 hl (by decide) rfl (fun ls hl => ?_)
  refine lv_aload_n hx hb dJ19_resize_138 rfl (lv_at hl 6 rfl) ?_
  refine lv_aload hx hb dJ19_resize_139 (lv_at hl 0 rfl) ?_
  refine h_put X hR hL hF_a_w_6 hr rfl in_J19 tyJ19_ok nmJ19 2 (by decide) q560 rfl rfl rfl (Nat.le_of_ble_eq_true rfl) dJ19_resize_141 (fun w_8 ew_9 H locs hR hL => ?_)
  have hU : Up (fun q_ => q_ = r) w w_8 := by rw [ew_9]; exact hU.set hF_a_w_6 (by first | exact Or.inl rfl | exact Or.inl (by omega) | exact Or.inr ⟨Nat.succ_ne_zero _, by rw [Nat.add_sub_cancel]; assumption⟩ | exact Or.inr ⟨by omega, by assumption⟩) hG _
  have hF_a_w_8 : w_8 a = some (r, oE 24 [.null, .null, .ref q, .null, .int (iI (0)), .int (iI (mo)), .int (iI (12)), .float lf]) := by rw [ew_9]; exact wset_eq _ _ _
  have hF_q_w_8 : w_8 q = some (r, rE G 5 16 (fun _ => none)) := by rw [ew_9]; exact (wset_ne _ (by first | exact ne_q_a | exact Ne.symm ne_a_q | exact w_neR hF_q_w_6 hF_a_w_6 (by omega) | exact w_ne hF_q_w_6 hF_a_w_6 (by intro h; cases h))).trans hF_q_w_6
  refine lv_aload_nN hx hb dJ19_resize_144 rfl (lv_at hl 5 rfl) ?_
  refine lv_ifnullN (tgt := 353) hx hb dJ19_resize_145 (by decide) ?_
  refine lv_aload hx hb dJ19_resize_353 (lv_at hl 0 rfl) ?_
  exact h_areturn hx hb hlk hret (by first | exact Or.inl ⟨_, rfl⟩ | exact Or.inr ⟨_, rfl⟩) hR hL ⟨hn_q, hF_a_w_8, hF_q_w_8, hU⟩ (by omega) (by omega) rfl rfl dJ19_resize_355

set_option maxHeartbeats 4000000 in
set_option maxRecDepth 100000 in
/-- HashMap.putVal -/
theorem hm_pv0 (l : Launch) (G : Gl) (w : Wd) (r a : Nat) (mo : Int) (lf : UInt32) (hA : w a = some (r, hmE .null 0 mo 0 lf)) (hG : RegW w) (hr : r ≠ 0) (k v : Nat) (L : List Int) (hS : StrAt G w k L) (hv : ∃ x, w v = some x) : HM l yJ19_putVal cJ19_putVal 13 (some (.object "java/lang/Object")) 3 2 20 G [.ref a, .int (iI (hsp L)), .ref k, .ref v, .int (iI (0)), .int (iI (1))] w (QN G (fun z_ w_ => z_ = none ∧ HmAt G w_ r a 1 (fun M => if M = L then some v else none) ∧ Up (fun q_ => q_ = r) w w_)) := by
  refine HM.mk (by decide +kernel) (Nat.le_of_ble_eq_true rfl) ?_
  intro p9 e9 s9 m9 a9 b9 meth9 c9 ls X hret hlk hnm hl H hR
  have hx := X.1.1
  have hb := X.1.2.1
  have hl : lv_has ls 13 [(0, .ref a), (1, .int (iI (hsp L))), (2, .ref k), (3, .ref v), (4, .int (iI (0))), (5, .int (iI (1)))] := hl
  have hL : LK G [] := fun q h => absurd h List.not_mem_nil
  generalize ([] : List Loc) = locs at hL ⊢
  have hU : Up (fun q_ => q_ = r) w w := Up.rf hG
  have hbr := bix_r L
  have hspr := hsp_r L
  refine lv_aload_n hx hb dJ19_putVal_0 rfl (lv_at hl 0 rfl) ?_
  refine h_get X hR hA rfl in_J19 2 (by decide) q560 rfl dJ19_putVal_1 ?_
  refine lv_dup hx hb dJ19_putVal_4 rfl ?_
  refine lv_astoreN (lv' := [(6, .null), (0, .ref a), (1, .int (iI (hsp L))), (2, .ref k), (3, .ref v), (4, .int (iI (0))), (5, .int (iI (1)))]) hx hb dJ19_putVal_5 hl (by decide) rfl (fun ls hl => ?_)
  refine lv_ifnullN (tgt := 19) hx hb dJ19_putVal_7 (by decide) ?_
  refine lv_aload_n hx hb dJ19_putVal_19 rfl (lv_at hl 1 rfl) ?_
  -- call java/util/HashMap.resize
  refine h_kR (h_runV X hR (hm_rz l G w r a mo lf hA hU.2.2.1 hr) pn_yJ19_resize (hasC.of hA rfl) q849 q850 q851 q143 q852 ⟨by decide, by decide⟩ hl.1 (Nat.le_of_ble_eq_true rfl) dJ19_putVal_20 ⟨by omega, by omega⟩) hL (fun arr w_1 hp_2 H locs hR hL => ?_)
  obtain ⟨hz_4, hA__5, hq__6, u_3⟩ := hp_2
  have ne_a_arr : a ≠ arr := w_neN hA hz_4
  have ne_k_arr : k ≠ arr := sm_ne hS.sm hz_4
  have hn_arr : w arr = none := hU.2.1 _ hz_4
  have hP_k_w_1 := hS.mv (u_3.1) (by first | exact id | (intro q_; (try dsimp only at q_); omega))
  have hU : Up (fun q_ => q_ = r) w w_1 := hU.tr u_3 (fun q_ h_ => by first | exact absurd h_ id | exact Or.inl h_ | ((try dsimp only at h_); first | exact Or.inl (by omega) | exact Or.inr ⟨by omega, by subst h_; rw [Nat.add_sub_cancel]; assumption⟩)) hG
  refine lv_dup hx hb dJ19_putVal_23 rfl ?_
  refine lv_astore (lv' := [(6, .ref arr), (0, .ref a), (1, .int (iI (hsp L))), (2, .ref k), (3, .ref v), (4, .int (iI (0))), (5, .int (iI (1)))]) hx hb dJ19_putVal_24 hl (by decide) rfl (fun ls hl => ?_)
  refine h_alenR X hR hq__6 rfl dJ19_putVal_26 ?_
  refine W.eq (g2 := F0 m9 27 ls [.int (iI (16))]) (congrArg (fun z_ : Int => F0 m9 27 ls [.int (iI (z_))]) (show (((16 : Nat) : Int) : Int) = 16 from (by rfl))) ?_
  refine lv_istore (lv' := [(8, .int (iI (16))), (6, .ref arr), (0, .ref a), (1, .int (iI (hsp L))), (2, .ref k), (3, .ref v), (4, .int (iI (0))), (5, .int (iI (1)))]) hx hb dJ19_putVal_27 hl (by decide) rfl (fun ls hl => ?_)
  refine lv_aload hx hb dJ19_putVal_29 (lv_at hl 1 rfl) ?_
  refine lv_iload hx hb dJ19_putVal_31 (lv_at hl 0 rfl) ?_
  refine h_iconst hx hb dJ19_putVal_33 ?_
  refine h_isub hx hb dJ19_putVal_34 ?_
  refine W.eq (g2 := F0 m9 35 ls [.int (iI (15)), .ref arr]) (congrArg (fun z_ : Int => F0 m9 35 ls [.int (iI (z_)), .ref arr]) (show (16 - 1 : Int) = 15 from (by decide))) ?_
  refine lv_iload_n hx hb dJ19_putVal_35 rfl (lv_at hl 3 rfl) ?_
  refine lv_iand hx hb dJ19_putVal_36 ?_
  refine W.eq (g2 := F0 m9 37 ls [.int (iI ((bix L : Int))), .ref arr]) (by rw [iI_15and, hbr.2]) ?_
  refine lv_dup hx hb dJ19_putVal_37 rfl ?_
  refine lv_istore (lv' := [(9, .int (iI ((bix L : Int)))), (8, .int (iI (16))), (6, .ref arr), (0, .ref a), (1, .int (iI (hsp L))), (2, .ref k), (3, .ref v), (4, .int (iI (0))), (5, .int (iI (1)))]) hx hb dJ19_putVal_38 hl (by decide) rfl (fun ls hl => ?_)
  refine h_aald X hR hq__6 rfl (by omega) (by omega) dJ19_putVal_40 ?_
  refine W.eq (g2 := F0 m9 41 ls [.null]) (by rfl) ?_
  refine lv_dup hx hb dJ19_putVal_41 rfl ?_
  refine lv_astoreN (lv' := [(7, .null), (9, .int (iI ((bix L : Int)))), (8, .int (iI (16))), (6, .ref arr), (0, .ref a), (1, .int (iI (hsp L))), (2, .ref k), (3, .ref v), (4, .int (iI (0))), (5, .int (iI (1)))]) hx hb dJ19_putVal_42 hl (by decide) rfl (fun ls hl => ?_)
  refine lv_ifnonnullN hx hb dJ19_putVal_44 ?_
  refine lv_aload hx hb dJ19_putVal_47 (lv_at hl 3 rfl) ?_
  refine lv_iload hx hb dJ19_putVal_49 (lv_at hl 1 rfl) ?_
  refine lv_aload_n hx hb dJ19_putVal_51 rfl (lv_at hl 4 rfl) ?_
  refine lv_iload_n hx hb dJ19_putVal_52 rfl (lv_at hl 5 rfl) ?_
  refine lv_aload_n hx hb dJ19_putVal_53 rfl (lv_at hl 6 rfl) ?_
  refine lv_aload_n hx hb dJ19_putVal_54 rfl (lv_at hl 7 rfl) ?_
  refine lv_null hx hb dJ19_putVal_55 ?_
  -- call java/util/HashMap.newNode
  refine h_kR (h_runV X hR (hm_nn l G w_1 a k v (hsp L) hU.2.2.1) pn_yJ19_newNode (hasC.of hA__5 rfl) q1150 q1151 q1152 q143 q1153 ⟨by decide, by decide⟩ hl.1 (Nat.le_of_ble_eq_true rfl) dJ19_putVal_56 ⟨by omega, by omega⟩) hL (fun q w_7 hp_8 H locs hR hL => ?_)
  obtain ⟨hz_10, hf_11, u_9⟩ := hp_8
  have ne_k_q : k ≠ q := sm_ne hP_k_w_1.sm hz_10
  have ne_a_q : a ≠ q := w_neN hA__5 hz_10
  have ne_arr_q : arr ≠ q := w_neN hq__6 hz_10
  have hn_q : w q = none := hU.2.1 _ hz_10
  have hP_k_w_7 := hP_k_w_1.mv (u_9.1) (by first | exact id | (intro q_; (try dsimp only at q_); omega))
  have hF_a_w_7 : w_7 a = some (r, oE 24 [.null, .null, .ref arr, .null, .int (iI (0)), .int (iI (mo)), .int (iI (12)), .float lf]) := u_9.1 _ _ _ hA__5 (by first | exact id | (intro q_; (try dsimp only at q_); omega))
  have hF_arr_w_7 : w_7 arr = some (r, rE G 5 16 (fun _ => none)) := u_9.1 _ _ _ hq__6 (by first | exact id | (intro q_; (try dsimp only at q_); omega))
  have hU : Up (fun q_ => q_ = r) w w_7 := hU.tr u_9 (fun q_ h_ => by first | exact absurd h_ id | exact Or.inl h_ | ((try dsimp only at h_); first | exact Or.inl (by omega) | exact Or.inr ⟨by omega, by subst h_; rw [Nat.add_sub_cancel]; assumption⟩)) hG
  have hR := hR.retag (r) hf_11 (Nat.succ_ne_zero _)
  obtain ⟨w_12, ew_13⟩ : ∃ w_ : Wd, w_ = wset w_7 q (r, oE 25 [.int (iI (hsp L)), .ref k, .ref v, .null]) := ⟨_, rfl⟩
  rw [← ew_13] at hR
  have hU : Up (fun q_ => q_ = r) w w_12 := by rw [ew_13]; exact hU.tag hf_11 hn_q (Or.inr (hU.2.2.1.ofs hF_a_w_7 hr))
  have hF_q_w_12 : w_12 q = some (r, oE 25 [.int (iI (hsp L)), .ref k, .ref v, .null]) := by rw [ew_13]; exact wset_eq _ _ _
  have hP_k_w_12 := hP_k_w_7.mv (w1 := w_12) (S := fun q_ => q_ = q + 1) (by rw [ew_13]; exact Fr.one hf_11 _) (by first | exact id | (intro q_; (try dsimp only at q_); omega))
  have hF_a_w_12 : w_12 a = some (r, oE 24 [.null, .null, .ref arr, .null, .int (iI (0)), .int (iI (mo)), .int (iI (12)), .float lf]) := by rw [ew_13]; exact (wset_ne _ (by first | exact ne_a_q | exact Ne.symm ne_q_a | exact w_neR hF_a_w_7 hf_11 (by omega) | exact w_ne hF_a_w_7 hf_11 (by intro h; cases h))).trans hF_a_w_7
  have hF_arr_w_12 : w_12 arr = some (r, rE G 5 16 (fun _ => none)) := by rw [ew_13]; exact (wset_ne _ (by first | exact ne_arr_q | exact Ne.symm ne_q_arr | exact w_neR hF_arr_w_7 hf_11 (by omega) | exact w_ne hF_arr_w_7 hf_11 (by intro h; cases h))).trans hF_arr_w_7
  refine h_aast X hR hL hF_arr_w_12 hr rfl (hasC.of hF_q_w_12 rfl) (Or.inr rfl) (by omega) (by omega) dJ19_putVal_59 (fun w_14 ew_15 H locs hR hL => ?_)
  have hU : Up (fun q_ => q_ = r) w w_14 := by rw [ew_15]; exact hU.set hF_arr_w_12 (by first | exact Or.inl rfl | exact Or.inl (by omega) | exact Or.inr ⟨Nat.succ_ne_zero _, by rw [Nat.add_sub_cancel]; assumption⟩ | exact Or.inr ⟨by omega, by assumption⟩) hG _
  have hF_arr_w_14 : w_14 arr = some (r, rE G 5 16 (zset (fun _ => none) ((bix L : Int)).toNat (some q))) := by rw [ew_15]; exact wset_eq _ _ _
  have hF_q_w_14 : w_14 q = some (r, oE 25 [.int (iI (hsp L)), .ref k, .ref v, .null]) := by rw [ew_15]; exact (wset_ne _ (by first | exact ne_q_arr | exact Ne.symm ne_arr_q | exact w_neR hF_q_w_12 hF_arr_w_12 (by omega) | exact w_ne hF_q_w_12 hF_arr_w_12 (by intro h; cases h))).trans hF_q_w_12
  have hP_k_w_14 := hP_k_w_12.mv (w1 := w_14) (S := fun q_ => q_ = r) (by rw [ew_15]; exact Fr.one hF_arr_w_12 _) (by first | exact id | (intro q_; (try dsimp only at q_); omega))
  have hF_a_w_14 : w_14 a = some (r, oE 24 [.null, .null, .ref arr, .null, .int (iI (0)), .int (iI (mo)), .int (iI (12)), .float lf]) := by rw [ew_15]; exact (wset_ne _ (by first | exact ne_a_arr | exact Ne.symm ne_arr_a | exact w_neR hF_a_w_12 hF_arr_w_12 (by omega) | exact w_ne hF_a_w_12 hF_arr_w_12 (by intro h; cases h))).trans hF_a_w_12
  refine lv_goto (tgt := 259) hx hb dJ19_putVal_60 (by decide) ?_
  refine lv_aload_n hx hb dJ19_putVal_259 rfl (lv_at hl 4 rfl) ?_
  refine lv_dup hx hb dJ19_putVal_260 rfl ?_
  refine h_get X hR hF_a_w_14 rfl in_J19 5 (by decide) q562 rfl dJ19_putVal_261 ?_
  refine h_iconst hx hb dJ19_putVal_264 ?_
  refine h_iadd hx hb dJ19_putVal_265 ?_
  refine h_put X hR hL hF_a_w_14 hr rfl in_J19 tyJ19_ok nmJ19 5 (by decide) q562 rfl rfl rfl (Nat.le_of_ble_eq_true rfl) dJ19_putVal_266 (fun w_16 ew_17 H locs hR hL => ?_)
  have hU : Up (fun q_ => q_ = r) w w_16 := by rw [ew_17]; exact hU.set hF_a_w_14 (by first | exact Or.inl rfl | exact Or.inl (by omega) | exact Or.inr ⟨Nat.succ_ne_zero _, by rw [Nat.add_sub_cancel]; assumption⟩ | exact Or.inr ⟨by omega, by assumption⟩) hG _
  have hF_a_w_16 : w_16 a = some (r, oE 24 [.null, .null, .ref arr, .null, .int (iI (0)), .int (iI (mo + 1)), .int (iI (12)), .float lf]) := by rw [ew_17]; exact wset_eq _ _ _
  have hF_arr_w_16 : w_16 arr = some (r, rE G 5 16 (zset (fun _ => none) ((bix L : Int)).toNat (some q))) := by rw [ew_17]; exact (wset_ne _ (by first | exact ne_arr_a | exact Ne.symm ne_a_arr | exact w_neR hF_arr_w_14 hF_a_w_14 (by omega) | exact w_ne hF_arr_w_14 hF_a_w_14 (by intro h; cases h))).trans hF_arr_w_14
  have hF_q_w_16 : w_16 q = some (r, oE 25 [.int (iI (hsp L)), .ref k, .ref v, .null]) := by rw [ew_17]; exact (wset_ne _ (by first | exact ne_q_a | exact Ne.symm ne_a_q | exact w_neR hF_q_w_14 hF_a_w_14 (by omega) | exact w_ne hF_q_w_14 hF_a_w_14 (by intro h; cases h))).trans hF_q_w_14
  have hP_k_w_16 := hP_k_w_14.mv (w1 := w_16) (S := fun q_ => q_ = r) (by rw [ew_17]; exact Fr.one hF_a_w_14 _) (by first | exact id | (intro q_; (try dsimp only at q_); omega))
  refine lv_aload_n hx hb dJ19_putVal_269 rfl (lv_at hl 4 rfl) ?_
  refine lv_dup hx hb dJ19_putVal_270 rfl ?_
  refine h_get X hR hF_a_w_16 rfl in_J19 4 (by decide) q561 rfl dJ19_putVal_271 ?_
  refine h_iconst hx hb dJ19_putVal_274 ?_
  refine h_iadd hx hb dJ19_putVal_275 ?_
  refine W.eq (g2 := F0 m9 276 ls [.int (iI (1)), .ref a]) (congrArg (fun z_ : Int => F0 m9 276 ls [.int (iI (z_)), .ref a]) (show (0 + 1 : Int) = 1 from (by decide))) ?_
  refine lv_dup_x1 hx hb dJ19_putVal_276 rfl rfl ?_
  refine h_put X hR hL hF_a_w_16 hr rfl in_J19 tyJ19_ok nmJ19 4 (by decide) q561 rfl rfl rfl (Nat.le_of_ble_eq_true rfl) dJ19_putVal_277 (fun w_18 ew_19 H locs hR hL => ?_)
  have hU : Up (fun q_ => q_ = r) w w_18 := by rw [ew_19]; exact hU.set hF_a_w_16 (by first | exact Or.inl rfl | exact Or.inl (by omega) | exact Or.inr ⟨Nat.succ_ne_zero _, by rw [Nat.add_sub_cancel]; assumption⟩ | exact Or.inr ⟨by omega, by assumption⟩) hG _
  have hF_a_w_18 : w_18 a = some (r, oE 24 [.null, .null, .ref arr, .null, .int (iI (1)), .int (iI (mo + 1)), .int (iI (12)), .float lf]) := by rw [ew_19]; exact wset_eq _ _ _
  have hF_arr_w_18 : w_18 arr = some (r, rE G 5 16 (zset (fun _ => none) ((bix L : Int)).toNat (some q))) := by rw [ew_19]; exact (wset_ne _ (by first | exact ne_arr_a | exact Ne.symm ne_a_arr | exact w_neR hF_arr_w_16 hF_a_w_16 (by omega) | exact w_ne hF_arr_w_16 hF_a_w_16 (by intro h; cases h))).trans hF_arr_w_16
  have hF_q_w_18 : w_18 q = some (r, oE 25 [.int (iI (hsp L)), .ref k, .ref v, .null]) := by rw [ew_19]; exact (wset_ne _ (by first | exact ne_q_a | exact Ne.symm ne_a_q | exact w_neR hF_q_w_16 hF_a_w_16 (by omega) | exact w_ne hF_q_w_16 hF_a_w_16 (by intro h; cases h))).trans hF_q_w_16
  have hP_k_w_18 := hP_k_w_16.mv (w1 := w_18) (S := fun q_ => q_ = r) (by rw [ew_19]; exact Fr.one hF_a_w_16 _) (by first | exact id | (intro q_; (try dsimp only at q_); omega))
  refine lv_aload_n hx hb dJ19_putVal_280 rfl (lv_at hl 4 rfl) ?_
  refine h_get X hR hF_a_w_18 rfl in_J19 6 (by decide) q563 rfl dJ19_putVal_281 ?_
  refine h_icmp_le hx hb 292 dJ19_putVal_284 (by decide) (by decide) (by decide) (fun _ => ?_) (fun z_ => absurd z_ (by decide))
  refine lv_aload_n hx hb dJ19_putVal_292 rfl (lv_at hl 4 rfl) ?_
  refine lv_iload hx hb dJ19_putVal_293 (lv_at hl 9 rfl) ?_
  -- call java/util/HashMap.afterNodeInsertion
  refine h_kVp (h_runV X hR (hm_ani l G w_18 a 1) pn_yJ19_afterNodeInsertion (hasC.of hF_a_w_18 rfl) q1258 q1259 q1260 q143 q1261 ⟨by decide, by decide⟩ hl.1 (Nat.le_of_ble_eq_true rfl) dJ19_putVal_295 ⟨by omega, by omega⟩) hL (fun H locs hR hL => ?_)
  refine lv_null hx hb dJ19_putVal_298 ?_
  have hT9 : HmT G w_18 r arr (insB (fun _ => []) (q, k, v, L)) := HmT.ins1 (w := w_18) (hd := fun _ => none) (fun b hb => ⟨rfl, fun e_ he_ => absurd he_ List.not_mem_nil, List.nodup_nil⟩) rfl (by have h_ := hF_arr_w_18; rw [Int.toNat_natCast] at h_; exact h_) hF_q_w_18 hP_k_w_18 (fun _ _ h_ => h_) (fun b hb e_ he_ => absurd he_ List.not_mem_nil)
  have hM9 : HmAt G w_18 r a 1 (fun M => if M = L then some v else none) := ⟨_, _, Or.inr ⟨_, _, hF_a_w_18, hT9, insB_t, fun M => by rw [insB_f (Bk := fun _ => []) (e := (q, k, v, L)) (fun e_ he_ => absurd he_ List.not_mem_nil) M]; rfl⟩⟩
  exact h_nreturn hx hb hlk hret (by first | exact Or.inl ⟨_, rfl⟩ | exact Or.inr ⟨_, rfl⟩) hR hL none rfl ⟨rfl, hM9, hU⟩ (by omega) (by omega) rfl rfl dJ19_putVal_299

set_option maxHeartbeats 4000000 in
set_option maxRecDepth 100000 in
/-- HashMap.putVal -/
theorem hm_pvT (l : Launch) (G : Gl) (w : Wd) (r a arr n : Nat) (mo : Int) (lf : UInt32) (Bk : Nat → List En) (hA : w a = some (r, hmE (.ref arr) (n : Int) mo 12 lf)) (hT : HmT G w r arr Bk) (htot : tot Bk 16 = n) (hn7 : n ≤ 7) (hG : RegW w) (hr : r ≠ 0) (k v : Nat) (L : List Int) (hS : StrAt G w k L) (hv : ∃ x, w v = some x) (hno : fndC (Bk (bix L)) L = none) : HM l yJ19_putVal cJ19_putVal 13 (some (.object "java/lang/Object")) 3 2 20 G [.ref a, .int (iI (hsp L)), .ref k, .ref v, .int (iI (0)), .int (iI (1))] w (QN G (fun z_ w_ => z_ = none ∧ HmAt G w_ r a (n + 1) (fun M => if M = L then some v else fndB Bk M) ∧ Up (fun q_ => q_ = r) w w_)) := by
  refine HM.mk (by decide +kernel) (Nat.le_of_ble_eq_true rfl) ?_
  intro p9 e9 s9 m9 a9 b9 meth9 c9 ls X hret hlk hnm hl H hR
  have hx := X.1.1
  have hb := X.1.2.1
  have hl : lv_has ls 13 [(0, .ref a), (1, .int (iI (hsp L))), (2, .ref k), (3, .ref v), (4, .int (iI (0))), (5, .int (iI (1)))] := hl
  have hL : LK G [] := fun q h => absurd h List.not_mem_nil
  generalize ([] : List Loc) = locs at hL ⊢
  have hU : Up (fun q_ => q_ = r) w w := Up.rf hG
  obtain ⟨hd, hT1, hT2⟩ := hT
  obtain ⟨hsg, hbx, hnd⟩ := hT2 (bix L) (bix_r L).1
  have hsg0 := hsg
  have hbr := bix_r L
  have hspr := hsp_r L
  have htl := tot_le (Bk := Bk) (bix_r L).1
  have hnoc := fndC_none hno
  refine lv_aload_n hx hb dJ19_putVal_0 rfl (lv_at hl 0 rfl) ?_
  refine h_get X hR hA rfl in_J19 2 (by decide) q560 rfl dJ19_putVal_1 ?_
  refine lv_dup hx hb dJ19_putVal_4 rfl ?_
  refine lv_astore (lv' := [(6, .ref arr), (0, .ref a), (1, .int (iI (hsp L))), (2, .ref k), (3, .ref v), (4, .int (iI (0))), (5, .int (iI (1)))]) hx hb dJ19_putVal_5 hl (by decide) rfl (fun ls hl => ?_)
  refine lv_ifnull hx hb dJ19_putVal_7 ?_
  refine lv_aload hx hb dJ19_putVal_10 (lv_at hl 0 rfl) ?_
  refine h_alenR X hR hT1 rfl dJ19_putVal_12 ?_
  refine W.eq (g2 := F0 m9 13 ls [.int (iI (16))]) (congrArg (fun z_ : Int => F0 m9 13 ls [.int (iI (z_))]) (show (((16 : Nat) : Int) : Int) = 16 from (by rfl))) ?_
  refine lv_dup hx hb dJ19_putVal_13 rfl ?_
  refine lv_istore (lv' := [(8, .int (iI (16))), (6, .ref arr), (0, .ref a), (1, .int (iI (hsp L))), (2, .ref k), (3, .ref v), (4, .int (iI (0))), (5, .int (iI (1)))]) hx hb dJ19_putVal_14 hl (by decide) rfl (fun ls hl => ?_)
  refine h_if_ne hx hb 29 dJ19_putVal_16 (by decide) (by decide) (fun _ => ?_) (fun z_ => absurd z_ (by decide))
  refine lv_aload hx hb dJ19_putVal_29 (lv_at hl 1 rfl) ?_
  refine lv_iload hx hb dJ19_putVal_31 (lv_at hl 0 rfl) ?_
  refine h_iconst hx hb dJ19_putVal_33 ?_
  refine h_isub hx hb dJ19_putVal_34 ?_
  refine W.eq (g2 := F0 m9 35 ls [.int (iI (15)), .ref arr]) (congrArg (fun z_ : Int => F0 m9 35 ls [.int (iI (z_)), .ref arr]) (show (16 - 1 : Int) = 15 from (by decide))) ?_
  refine lv_iload_n hx hb dJ19_putVal_35 rfl (lv_at hl 3 rfl) ?_
  refine lv_iand hx hb dJ19_putVal_36 ?_
  refine W.eq (g2 := F0 m9 37 ls [.int (iI ((bix L : Int))), .ref arr]) (by rw [iI_15and, hbr.2]) ?_
  refine lv_dup hx hb dJ19_putVal_37 rfl ?_
  refine lv_istore (lv' := [(9, .int (iI ((bix L : Int)))), (8, .int (iI (16))), (6, .ref arr), (0, .ref a), (1, .int (iI (hsp L))), (2, .ref k), (3, .ref v), (4, .int (iI (0))), (5, .int (iI (1)))]) hx hb dJ19_putVal_38 hl (by decide) rfl (fun ls hl => ?_)
  obtain ⟨B0, hBk⟩ : ∃ B0, Bk (bix L) = B0 := ⟨_, rfl⟩
  rcases B0 with _ | ⟨en, B⟩
  ·
    rw [hBk] at hsg
    have hd_none : hd (bix L : Int).toNat = none := by rw [Int.toNat_natCast]; exact hsg
    have hK0 : ∀ (x_ : Nat) (y_ : Nat × Ent), x_ ≠ a ∧ x_ ≠ arr → w x_ = some y_ → w x_ = some y_ := fun x_ y_ hx_ h_ => h_
    refine h_aald X hR hT1 rfl (by omega) (by omega) dJ19_putVal_40 ?_
    refine W.eq (g2 := F0 m9 41 ls [.null]) (by rw [hd_none]; rfl) ?_
    refine lv_dup hx hb dJ19_putVal_41 rfl ?_
    refine lv_astoreN (lv' := [(7, .null), (9, .int (iI ((bix L : Int)))), (8, .int (iI (16))), (6, .ref arr), (0, .ref a), (1, .int (iI (hsp L))), (2, .ref k), (3, .ref v), (4, .int (iI (0))), (5, .int (iI (1)))]) hx hb dJ19_putVal_42 hl (by decide) rfl (fun ls hl => ?_)
    refine lv_ifnonnullN hx hb dJ19_putVal_44 ?_
    refine lv_aload hx hb dJ19_putVal_47 (lv_at hl 3 rfl) ?_
    refine lv_iload hx hb dJ19_putVal_49 (lv_at hl 1 rfl) ?_
    refine lv_aload_n hx hb dJ19_putVal_51 rfl (lv_at hl 4 rfl) ?_
    refine lv_iload_n hx hb dJ19_putVal_52 rfl (lv_at hl 5 rfl) ?_
    refine lv_aload_n hx hb dJ19_putVal_53 rfl (lv_at hl 6 rfl) ?_
    refine lv_aload_n hx hb dJ19_putVal_54 rfl (lv_at hl 7 rfl) ?_
    refine lv_null hx hb dJ19_putVal_55 ?_
    -- call java/util/HashMap.newNode
    refine h_kR (h_runV X hR (hm_nn l G w a k v (hsp L) hU.2.2.1) pn_yJ19_newNode (hasC.of hA rfl) q1150 q1151 q1152 q143 q1153 ⟨by decide, by decide⟩ hl.1 (Nat.le_of_ble_eq_true rfl) dJ19_putVal_56 ⟨by omega, by omega⟩) hL (fun q w_2 hp_3 H locs hR hL => ?_)
    obtain ⟨hz_5, hf_6, u_4⟩ := hp_3
    have ne_a_q : a ≠ q := w_neN hA hz_5
    have ne_arr_q : arr ≠ q := w_neN hT1 hz_5
    have ne_k_q : k ≠ q := sm_ne hS.sm hz_5
    have hn_q : w q = none := hU.2.1 _ hz_5
    have hF_a_w_2 : w_2 a = some (r, oE 24 [.null, .null, .ref arr, .null, .int (iI ((n : Int))), .int (iI (mo)), .int (iI (12)), .float lf]) := u_4.1 _ _ _ hA (by first | exact id | (intro q_; (try dsimp only at q_); omega))
    have hF_arr_w_2 : w_2 arr = some (r, rE G 5 16 hd) := u_4.1 _ _ _ hT1 (by first | exact id | (intro q_; (try dsimp only at q_); omega))
    have hP_k_w_2 := hS.mv (u_4.1) (by first | exact id | (intro q_; (try dsimp only at q_); omega))
    have hK_7 : ∀ (x_ : Nat) (y_ : Nat × Ent), x_ ≠ a ∧ x_ ≠ arr → w x_ = some y_ → w_2 x_ = some y_ := fun x_ y_ hx_ h_ => (u_4.1) _ _ _ (hK0 x_ y_ hx_ h_) id
    have hU : Up (fun q_ => q_ = r) w w_2 := hU.tr u_4 (fun q_ h_ => by first | exact absurd h_ id | exact Or.inl h_ | ((try dsimp only at h_); first | exact Or.inl (by omega) | exact Or.inr ⟨by omega, by subst h_; rw [Nat.add_sub_cancel]; assumption⟩)) hG
    have hR := hR.retag (r) hf_6 (Nat.succ_ne_zero _)
    obtain ⟨w_8, ew_9⟩ : ∃ w_ : Wd, w_ = wset w_2 q (r, oE 25 [.int (iI (hsp L)), .ref k, .ref v, .null]) := ⟨_, rfl⟩
    rw [← ew_9] at hR
    have hU : Up (fun q_ => q_ = r) w w_8 := by rw [ew_9]; exact hU.tag hf_6 hn_q (Or.inr (hU.2.2.1.ofs hF_a_w_2 hr))
    have hF_q_w_8 : w_8 q = some (r, oE 25 [.int (iI (hsp L)), .ref k, .ref v, .null]) := by rw [ew_9]; exact wset_eq _ _ _
    have hF_a_w_8 : w_8 a = some (r, oE 24 [.null, .null, .ref arr, .null, .int (iI ((n : Int))), .int (iI (mo)), .int (iI (12)), .float lf]) := by rw [ew_9]; exact (wset_ne _ (by first | exact ne_a_q | exact Ne.symm ne_q_a | exact w_neR hF_a_w_2 hf_6 (by omega) | exact w_ne hF_a_w_2 hf_6 (by intro h; cases h))).trans hF_a_w_2
    have hF_arr_w_8 : w_8 arr = some (r, rE G 5 16 hd) := by rw [ew_9]; exact (wset_ne _ (by first | exact ne_arr_q | exact Ne.symm ne_q_arr | exact w_neR hF_arr_w_2 hf_6 (by omega) | exact w_ne hF_arr_w_2 hf_6 (by intro h; cases h))).trans hF_arr_w_2
    have hP_k_w_8 := hP_k_w_2.mv (w1 := w_8) (S := fun q_ => q_ = q + 1) (by rw [ew_9]; exact Fr.one hf_6 _) (by first | exact id | (intro q_; (try dsimp only at q_); omega))
    have hK_10 : ∀ (x_ : Nat) (y_ : Nat × Ent), x_ ≠ a ∧ x_ ≠ arr → w x_ = some y_ → w_8 x_ = some y_ := fun x_ y_ hx_ h_ => by rw [ew_9]; exact (wset_ne _ (w_neN h_ hn_q)).trans (hK_7 x_ y_ hx_ h_)
    refine h_aast X hR hL hF_arr_w_8 hr rfl (hasC.of hF_q_w_8 rfl) (Or.inr rfl) (by omega) (by omega) dJ19_putVal_59 (fun w_11 ew_12 H locs hR hL => ?_)
    have hU : Up (fun q_ => q_ = r) w w_11 := by rw [ew_12]; exact hU.set hF_arr_w_8 (by first | exact Or.inl rfl | exact Or.inl (by omega) | exact Or.inr ⟨Nat.succ_ne_zero _, by rw [Nat.add_sub_cancel]; assumption⟩ | exact Or.inr ⟨by omega, by assumption⟩) hG _
    have hF_arr_w_11 : w_11 arr = some (r, rE G 5 16 (zset hd ((bix L : Int)).toNat (some q))) := by rw [ew_12]; exact wset_eq _ _ _
    have hF_q_w_11 : w_11 q = some (r, oE 25 [.int (iI (hsp L)), .ref k, .ref v, .null]) := by rw [ew_12]; exact (wset_ne _ (by first | exact ne_q_arr | exact Ne.symm ne_arr_q | exact w_neR hF_q_w_8 hF_arr_w_8 (by omega) | exact w_ne hF_q_w_8 hF_arr_w_8 (by intro h; cases h))).trans hF_q_w_8
    have hF_a_w_11 : w_11 a = some (r, oE 24 [.null, .null, .ref arr, .null, .int (iI ((n : Int))), .int (iI (mo)), .int (iI (12)), .float lf]) := by rw [ew_12]; exact (wset_ne _ (by first | exact ne_a_arr | exact Ne.symm ne_arr_a | exact w_neR hF_a_w_8 hF_arr_w_8 (by omega) | exact w_ne hF_a_w_8 hF_arr_w_8 (by intro h; cases h))).trans hF_a_w_8
    have hP_k_w_11 := hP_k_w_8.mv (w1 := w_11) (S := fun q_ => q_ = r) (by rw [ew_12]; exact Fr.one hF_arr_w_8 _) (by first | exact id | (intro q_; (try dsimp only at q_); omega))
    have hK_13 : ∀ (x_ : Nat) (y_ : Nat × Ent), x_ ≠ a ∧ x_ ≠ arr → w x_ = some y_ → w_11 x_ = some y_ := fun x_ y_ hx_ h_ => by rw [ew_12]; exact (wset_ne _ hx_.2).trans (hK_10 x_ y_ hx_ h_)
    refine lv_goto (tgt := 259) hx hb dJ19_putVal_60 (by decide) ?_
    refine lv_aload_n hx hb dJ19_putVal_259 rfl (lv_at hl 4 rfl) ?_
    refine lv_dup hx hb dJ19_putVal_260 rfl ?_
    refine h_get X hR hF_a_w_11 rfl in_J19 5 (by decide) q562 rfl dJ19_putVal_261 ?_
    refine h_iconst hx hb dJ19_putVal_264 ?_
    refine h_iadd hx hb dJ19_putVal_265 ?_
    refine h_put X hR hL hF_a_w_11 hr rfl in_J19 tyJ19_ok nmJ19 5 (by decide) q562 rfl rfl rfl (Nat.le_of_ble_eq_true rfl) dJ19_putVal_266 (fun w_14 ew_15 H locs hR hL => ?_)
    have hU : Up (fun q_ => q_ = r) w w_14 := by rw [ew_15]; exact hU.set hF_a_w_11 (by first | exact Or.inl rfl | exact Or.inl (by omega) | exact Or.inr ⟨Nat.succ_ne_zero _, by rw [Nat.add_sub_cancel]; assumption⟩ | exact Or.inr ⟨by omega, by assumption⟩) hG _
    have hF_a_w_14 : w_14 a = some (r, oE 24 [.null, .null, .ref arr, .null, .int (iI ((n : Int))), .int (iI (mo + 1)), .int (iI (12)), .float lf]) := by rw [ew_15]; exact wset_eq _ _ _
    have hF_arr_w_14 : w_14 arr = some (r, rE G 5 16 (zset hd ((bix L : Int)).toNat (some q))) := by rw [ew_15]; exact (wset_ne _ (by first | exact ne_arr_a | exact Ne.symm ne_a_arr | exact w_neR hF_arr_w_11 hF_a_w_11 (by omega) | exact w_ne hF_arr_w_11 hF_a_w_11 (by intro h; cases h))).trans hF_arr_w_11
    have hF_q_w_14 : w_14 q = some (r, oE 25 [.int (iI (hsp L)), .ref k, .ref v, .null]) := by rw [ew_15]; exact (wset_ne _ (by first | exact ne_q_a | exact Ne.symm ne_a_q | exact w_neR hF_q_w_11 hF_a_w_11 (by omega) | exact w_ne hF_q_w_11 hF_a_w_11 (by intro h; cases h))).trans hF_q_w_11
    have hP_k_w_14 := hP_k_w_11.mv (w1 := w_14) (S := fun q_ => q_ = r) (by rw [ew_15]; exact Fr.one hF_a_w_11 _) (by first | exact id | (intro q_; (try dsimp only at q_); omega))
    have hK_16 : ∀ (x_ : Nat) (y_ : Nat × Ent), x_ ≠ a ∧ x_ ≠ arr → w x_ = some y_ → w_14 x_ = some y_ := fun x_ y_ hx_ h_ => by rw [ew_15]; exact (wset_ne _ hx_.1).trans (hK_13 x_ y_ hx_ h_)
    refine lv_aload_n hx hb dJ19_putVal_269 rfl (lv_at hl 4 rfl) ?_
    refine lv_dup hx hb dJ19_putVal_270 rfl ?_
    refine h_get X hR hF_a_w_14 rfl in_J19 4 (by decide) q561 rfl dJ19_putVal_271 ?_
    refine h_iconst hx hb dJ19_putVal_274 ?_
    refine h_iadd hx hb dJ19_putVal_275 ?_
    refine lv_dup_x1 hx hb dJ19_putVal_276 rfl rfl ?_
    refine h_put X hR hL hF_a_w_14 hr rfl in_J19 tyJ19_ok nmJ19 4 (by decide) q561 rfl rfl rfl (Nat.le_of_ble_eq_true rfl) dJ19_putVal_277 (fun w_17 ew_18 H locs hR hL => ?_)
    have hU : Up (fun q_ => q_ = r) w w_17 := by rw [ew_18]; exact hU.set hF_a_w_14 (by first | exact Or.inl rfl | exact Or.inl (by omega) | exact Or.inr ⟨Nat.succ_ne_zero _, by rw [Nat.add_sub_cancel]; assumption⟩ | exact Or.inr ⟨by omega, by assumption⟩) hG _
    have hF_a_w_17 : w_17 a = some (r, oE 24 [.null, .null, .ref arr, .null, .int (iI ((n : Int) + 1)), .int (iI (mo + 1)), .int (iI (12)), .float lf]) := by rw [ew_18]; exact wset_eq _ _ _
    have hF_arr_w_17 : w_17 arr = some (r, rE G 5 16 (zset hd ((bix L : Int)).toNat (some q))) := by rw [ew_18]; exact (wset_ne _ (by first | exact ne_arr_a | exact Ne.symm ne_a_arr | exact w_neR hF_arr_w_14 hF_a_w_14 (by omega) | exact w_ne hF_arr_w_14 hF_a_w_14 (by intro h; cases h))).trans hF_arr_w_14
    have hF_q_w_17 : w_17 q = some (r, oE 25 [.int (iI (hsp L)), .ref k, .ref v, .null]) := by rw [ew_18]; exact (wset_ne _ (by first | exact ne_q_a | exact Ne.symm ne_a_q | exact w_neR hF_q_w_14 hF_a_w_14 (by omega) | exact w_ne hF_q_w_14 hF_a_w_14 (by intro h; cases h))).trans hF_q_w_14
    have hP_k_w_17 := hP_k_w_14.mv (w1 := w_17) (S := fun q_ => q_ = r) (by rw [ew_18]; exact Fr.one hF_a_w_14 _) (by first | exact id | (intro q_; (try dsimp only at q_); omega))
    have hK_19 : ∀ (x_ : Nat) (y_ : Nat × Ent), x_ ≠ a ∧ x_ ≠ arr → w x_ = some y_ → w_17 x_ = some y_ := fun x_ y_ hx_ h_ => by rw [ew_18]; exact (wset_ne _ hx_.1).trans (hK_16 x_ y_ hx_ h_)
    refine lv_aload_n hx hb dJ19_putVal_280 rfl (lv_at hl 4 rfl) ?_
    refine h_get X hR hF_a_w_17 rfl in_J19 6 (by decide) q563 rfl dJ19_putVal_281 ?_
    refine h_icmp_le hx hb 292 dJ19_putVal_284 (by decide) (by omega) (by omega) (fun c_t => ?_) (fun c_t => ?_)
    ·
      refine lv_aload_n hx hb dJ19_putVal_292 rfl (lv_at hl 4 rfl) ?_
      refine lv_iload hx hb dJ19_putVal_293 (lv_at hl 9 rfl) ?_
      -- call java/util/HashMap.afterNodeInsertion
      refine h_kVp (h_runV X hR (hm_ani l G w_17 a 1) pn_yJ19_afterNodeInsertion (hasC.of hF_a_w_17 rfl) q1258 q1259 q1260 q143 q1261 ⟨by decide, by decide⟩ hl.1 (Nat.le_of_ble_eq_true rfl) dJ19_putVal_295 ⟨by omega, by omega⟩) hL (fun H locs hR hL => ?_)
      refine lv_null hx hb dJ19_putVal_298 ?_
      have hkp : ∀ b, b < 16 → ∀ e_ ∈ Bk b, w_17 (eQ e_) = w (eQ e_) := fun b hb e_ he_ => by obtain ⟨nx_, h1_, -⟩ := (hT2 b hb).1.at e_ he_; rw [h1_]; exact hK_19 _ _ ⟨(fun z_ => by rw [z_, hA] at h1_; simp [nodE] at h1_), (fun z_ => by rw [z_, hT1] at h1_; simp [nodE, rE] at h1_)⟩ h1_
      have hT9 : HmT G w_17 r arr (insB Bk (q, k, v, L)) := HmT.ins1 hT2 hBk (by have h_ := hF_arr_w_17; rw [Int.toNat_natCast] at h_; exact h_) hF_q_w_17 hP_k_w_17 (fun a_ L_ h_ => h_.mv hU.1 (by intro q_; (try dsimp only at q_); omega)) hkp
      have hM9 : HmAt G w_17 r a (n + 1) (fun M => if M = L then some v else fndB Bk M) := ⟨_, _, Or.inr ⟨_, _, hF_a_w_17, hT9, by rw [insB_t, htot], fun M => by rw [insB_f (e := (q, k, v, L)) hnoc M]⟩⟩
      exact h_nreturn hx hb hlk hret (by first | exact Or.inl ⟨_, rfl⟩ | exact Or.inr ⟨_, rfl⟩) hR hL none rfl ⟨rfl, hM9, hU⟩ (by omega) (by omega) rfl rfl dJ19_putVal_299
    ·
      exact absurd c_t (by omega)
  ·
    rw [hBk] at hsg
    obtain ⟨hd_s, nx, hNo, hKe, hsg2⟩ := hsg
    have hd_some : hd (bix L : Int).toNat = some (eQ en) := by rw [Int.toNat_natCast]; exact hd_s
    have hsr_en := hsp_r (eL en)
    have c_ne : eL en ≠ L := hnoc en (by show en ∈ Bk (bix L); rw [hBk]; exact List.mem_cons_self)
    refine h_aald X hR hT1 rfl (by omega) (by omega) dJ19_putVal_40 ?_
    refine W.eq (g2 := F0 m9 41 ls [.ref ((eQ en))]) (by rw [hd_some]; rfl) ?_
    refine lv_dup hx hb dJ19_putVal_41 rfl ?_
    refine lv_astore (lv' := [(7, .ref ((eQ en))), (9, .int (iI ((bix L : Int)))), (8, .int (iI (16))), (6, .ref arr), (0, .ref a), (1, .int (iI (hsp L))), (2, .ref k), (3, .ref v), (4, .int (iI (0))), (5, .int (iI (1)))]) hx hb dJ19_putVal_42 hl (by decide) rfl (fun ls hl => ?_)
    refine lv_ifnonnull (tgt := 63) hx hb dJ19_putVal_44 (by decide) ?_
    refine lv_aload hx hb dJ19_putVal_63 (lv_at hl 0 rfl) ?_
    refine h_get X hR hNo rfl in_J20 0 (by decide) q880 rfl dJ19_putVal_65 ?_
    refine lv_iload_n hx hb dJ19_putVal_68 rfl (lv_at hl 5 rfl) ?_
    refine h_icmp_ne hx hb 104 dJ19_putVal_69 (by decide) (by omega) (by omega) (fun c_h => ?_) (fun c_h => ?_)
    ·
      refine lv_aload hx hb dJ19_putVal_104 (lv_at hl 0 rfl) ?_
      refine h_instNo X hR (hasC.of hNo rfl) [false, false, true, false, true, true, false, false, false, false] rfl q858 dJ19_putVal_106 ?_
      refine h_if_eq hx hb 131 dJ19_putVal_109 (by decide) (by decide) (fun _ => ?_) (fun z_ => absurd z_ (by decide))
      refine h_iconst hx hb dJ19_putVal_131 ?_
      refine lv_istore (lv' := [(12, .int (iI (0))), (7, .ref ((eQ en))), (9, .int (iI ((bix L : Int)))), (8, .int (iI (16))), (6, .ref arr), (0, .ref a), (1, .int (iI (hsp L))), (2, .ref k), (3, .ref v), (4, .int (iI (0))), (5, .int (iI (1)))]) hx hb dJ19_putVal_132 hl (by decide) rfl (fun ls hl => ?_)
      have LOOP_24 : ∀ (N_ : Nat) (p : En) (B1 B2 : List En), (Bk (bix L) = B1 ++ p :: B2) → (Seg G w r (some (eQ p)) (p :: B2) none) → B2.length < N_ → ∀ (H : Heap) (locs : List Loc) (ls : Array Slot), Rp G w H → LK G locs → lv_has ls 13 [(0, .ref a), (1, .int (iI (hsp L))), (2, .ref k), (3, .ref v), (4, .int (iI (0))), (5, .int (iI (1))), (6, .ref arr), (7, .ref ((eQ p))), (8, .int (iI (16))), (9, .int (iI ((bix L : Int)))), (12, .int (iI ((B1.length : Int))))] → W p9 l e9 (rmk 3 2 20) s9 m9 a9 b9 meth9 c9 H locs 0 0 (MQ b9 (QN G (fun z_ w_ => z_ = none ∧ HmAt G w_ r a (n + 1) (fun M => if M = L then some v else fndB Bk M) ∧ Up (fun q_ => q_ = r) w w_)) a9 s9 2 20 (frG G)) (F0 m9 134 ls []) := by
        intro N_
        induction N_ with
        | zero => intro _ _ _ _ _ h_; exact absurd h_ (Nat.not_lt_zero _)
        | succ N_ ih_ =>
          intro p B1 B2 hBp0 hsp0 hN_ H locs ls hR hL hl
          have ih_24 := ih_
          clear ih_
          obtain ⟨-, nxp, hNop, hKep, hsgp⟩ := hsp0
          have hsr_p := hsp_r (eL p)
          have hBl := congrArg List.length hBp0
          rw [List.length_append, List.length_cons] at hBl
          refine lv_aload hx hb dJ19_putVal_134 (lv_at hl 7 rfl) ?_
          refine h_get X hR hNop rfl in_J20 3 (by decide) q891 rfl dJ19_putVal_136 ?_
          rcases B2 with _ | ⟨e5, B5⟩
          ·
            obtain rfl : nxp = none := hsgp
            refine W.eq (g2 := F0 m9 139 ls [.null]) (rfl) ?_
            have hBp : Bk (bix L) = B1 ++ [p] := hBp0
            have hK0 : ∀ (x_ : Nat) (y_ : Nat × Ent), x_ ≠ a ∧ x_ ≠ ((eQ p)) → w x_ = some y_ → w x_ = some y_ := fun x_ y_ hx_ h_ => h_
            refine lv_dup hx hb dJ19_putVal_139 rfl ?_
            refine lv_astoreN (lv' := [(10, .null), (0, .ref a), (1, .int (iI (hsp L))), (2, .ref k), (3, .ref v), (4, .int (iI (0))), (5, .int (iI (1))), (6, .ref arr), (7, .ref ((eQ p))), (8, .int (iI (16))), (9, .int (iI ((bix L : Int)))), (12, .int (iI ((B1.length : Int))))]) hx hb dJ19_putVal_140 hl (by decide) rfl (fun ls hl => ?_)
            refine lv_ifnonnullN hx hb dJ19_putVal_142 ?_
            refine lv_aload hx hb dJ19_putVal_145 (lv_at hl 8 rfl) ?_
            refine lv_aload_n hx hb dJ19_putVal_147 rfl (lv_at hl 1 rfl) ?_
            refine lv_iload_n hx hb dJ19_putVal_148 rfl (lv_at hl 2 rfl) ?_
            refine lv_aload_n hx hb dJ19_putVal_149 rfl (lv_at hl 3 rfl) ?_
            refine lv_aload_n hx hb dJ19_putVal_150 rfl (lv_at hl 4 rfl) ?_
            refine lv_null hx hb dJ19_putVal_151 ?_
            -- call java/util/HashMap.newNode
            refine h_kR (h_runV X hR (hm_nn l G w a k v (hsp L) hU.2.2.1) pn_yJ19_newNode (hasC.of hA rfl) q1150 q1151 q1152 q143 q1153 ⟨by decide, by decide⟩ hl.1 (Nat.le_of_ble_eq_true rfl) dJ19_putVal_152 ⟨by omega, by omega⟩) hL (fun q w_25 hp_26 H locs hR hL => ?_)
            obtain ⟨hz_28, hf_29, u_27⟩ := hp_26
            have ne_a_q : a ≠ q := w_neN hA hz_28
            have ne_arr_q : arr ≠ q := w_neN hT1 hz_28
            have ne_k_q : k ≠ q := sm_ne hS.sm hz_28
            have ne__eQ_p__q : ((eQ p)) ≠ q := w_neN hNop hz_28
            have ne__eK_p__q : ((eK p)) ≠ q := sm_ne hKep.sm hz_28
            have hn_q : w q = none := hU.2.1 _ hz_28
            have hF_a_w_25 : w_25 a = some (r, oE 24 [.null, .null, .ref arr, .null, .int (iI ((n : Int))), .int (iI (mo)), .int (iI (12)), .float lf]) := u_27.1 _ _ _ hA (by first | exact id | (intro q_; (try dsimp only at q_); omega))
            have hF_arr_w_25 : w_25 arr = some (r, rE G 5 16 hd) := u_27.1 _ _ _ hT1 (by first | exact id | (intro q_; (try dsimp only at q_); omega))
            have hP_k_w_25 := hS.mv (u_27.1) (by first | exact id | (intro q_; (try dsimp only at q_); omega))
            have hF__eQ_p__w_25 : w_25 ((eQ p)) = some (r, oE 25 [.int (iI (hsp (eL p))), .ref ((eK p)), .ref ((eV p)), .null]) := u_27.1 _ _ _ hNop (by first | exact id | (intro q_; (try dsimp only at q_); omega))
            have hP__eK_p__w_25 := hKep.mv (u_27.1) (by first | exact id | (intro q_; (try dsimp only at q_); omega))
            have hK_30 : ∀ (x_ : Nat) (y_ : Nat × Ent), x_ ≠ a ∧ x_ ≠ ((eQ p)) → w x_ = some y_ → w_25 x_ = some y_ := fun x_ y_ hx_ h_ => (u_27.1) _ _ _ (hK0 x_ y_ hx_ h_) id
            have hU : Up (fun q_ => q_ = r) w w_25 := hU.tr u_27 (fun q_ h_ => by first | exact absurd h_ id | exact Or.inl h_ | ((try dsimp only at h_); first | exact Or.inl (by omega) | exact Or.inr ⟨by omega, by subst h_; rw [Nat.add_sub_cancel]; assumption⟩)) hG
            have hR := hR.retag (r) hf_29 (Nat.succ_ne_zero _)
            obtain ⟨w_31, ew_32⟩ : ∃ w_ : Wd, w_ = wset w_25 q (r, oE 25 [.int (iI (hsp L)), .ref k, .ref v, .null]) := ⟨_, rfl⟩
            rw [← ew_32] at hR
            have hU : Up (fun q_ => q_ = r) w w_31 := by rw [ew_32]; exact hU.tag hf_29 hn_q (Or.inr (hU.2.2.1.ofs hF_a_w_25 hr))
            have hF_q_w_31 : w_31 q = some (r, oE 25 [.int (iI (hsp L)), .ref k, .ref v, .null]) := by rw [ew_32]; exact wset_eq _ _ _
            have hF_a_w_31 : w_31 a = some (r, oE 24 [.null, .null, .ref arr, .null, .int (iI ((n : Int))), .int (iI (mo)), .int (iI (12)), .float lf]) := by rw [ew_32]; exact (wset_ne _ (by first | exact ne_a_q | exact Ne.symm ne_q_a | exact w_neR hF_a_w_25 hf_29 (by omega) | exact w_ne hF_a_w_25 hf_29 (by intro h; cases h))).trans hF_a_w_25
            have hF_arr_w_31 : w_31 arr = some (r, rE G 5 16 hd) := by rw [ew_32]; exact (wset_ne _ (by first | exact ne_arr_q | exact Ne.symm ne_q_arr | exact w_neR hF_arr_w_25 hf_29 (by omega) | exact w_ne hF_arr_w_25 hf_29 (by intro h; cases h))).trans hF_arr_w_25
            have hP_k_w_31 := hP_k_w_25.mv (w1 := w_31) (S := fun q_ => q_ = q + 1) (by rw [ew_32]; exact Fr.one hf_29 _) (by first | exact id | (intro q_; (try dsimp only at q_); omega))
            have hF__eQ_p__w_31 : w_31 ((eQ p)) = some (r, oE 25 [.int (iI (hsp (eL p))), .ref ((eK p)), .ref ((eV p)), .null]) := by rw [ew_32]; exact (wset_ne _ (by first | exact ne__eQ_p__q | exact Ne.symm ne_q__eQ_p_ | exact w_neR hF__eQ_p__w_25 hf_29 (by omega) | exact w_ne hF__eQ_p__w_25 hf_29 (by intro h; cases h))).trans hF__eQ_p__w_25
            have hP__eK_p__w_31 := hP__eK_p__w_25.mv (w1 := w_31) (S := fun q_ => q_ = q + 1) (by rw [ew_32]; exact Fr.one hf_29 _) (by first | exact id | (intro q_; (try dsimp only at q_); omega))
            have hK_33 : ∀ (x_ : Nat) (y_ : Nat × Ent), x_ ≠ a ∧ x_ ≠ ((eQ p)) → w x_ = some y_ → w_31 x_ = some y_ := fun x_ y_ hx_ h_ => by rw [ew_32]; exact (wset_ne _ (w_neN h_ hn_q)).trans (hK_30 x_ y_ hx_ h_)
            refine h_put X hR hL hF__eQ_p__w_31 hr rfl in_J20 tyJ20_ok nmJ20 3 (by decide) q891 rfl rfl rfl (Nat.le_of_ble_eq_true rfl) dJ19_putVal_155 (fun w_34 ew_35 H locs hR hL => ?_)
            have hU : Up (fun q_ => q_ = r) w w_34 := by rw [ew_35]; exact hU.set hF__eQ_p__w_31 (by first | exact Or.inl rfl | exact Or.inl (by omega) | exact Or.inr ⟨Nat.succ_ne_zero _, by rw [Nat.add_sub_cancel]; assumption⟩ | exact Or.inr ⟨by omega, by assumption⟩) hG _
            have hF__eQ_p__w_34 : w_34 ((eQ p)) = some (r, oE 25 [.int (iI (hsp (eL p))), .ref ((eK p)), .ref ((eV p)), .ref q]) := by rw [ew_35]; exact wset_eq _ _ _
            have hF_q_w_34 : w_34 q = some (r, oE 25 [.int (iI (hsp L)), .ref k, .ref v, .null]) := by rw [ew_35]; exact (wset_ne _ (by first | exact ne_q__eQ_p_ | exact Ne.symm ne__eQ_p__q | exact w_neR hF_q_w_31 hF__eQ_p__w_31 (by omega) | exact w_ne hF_q_w_31 hF__eQ_p__w_31 (by intro h; cases h))).trans hF_q_w_31
            have hF_a_w_34 : w_34 a = some (r, oE 24 [.null, .null, .ref arr, .null, .int (iI ((n : Int))), .int (iI (mo)), .int (iI (12)), .float lf]) := by rw [ew_35]; exact (wset_ne _ (by first | exact ne_a__eQ_p_ | exact Ne.symm ne__eQ_p__a | exact w_neR hF_a_w_31 hF__eQ_p__w_31 (by omega) | exact w_ne hF_a_w_31 hF__eQ_p__w_31 (by intro h; cases h))).trans hF_a_w_31
            have hF_arr_w_34 : w_34 arr = some (r, rE G 5 16 hd) := by rw [ew_35]; exact (wset_ne _ (by first | exact ne_arr__eQ_p_ | exact Ne.symm ne__eQ_p__arr | exact w_neR hF_arr_w_31 hF__eQ_p__w_31 (by omega) | exact w_ne hF_arr_w_31 hF__eQ_p__w_31 (by intro h; cases h))).trans hF_arr_w_31
            have hP_k_w_34 := hP_k_w_31.mv (w1 := w_34) (S := fun q_ => q_ = r) (by rw [ew_35]; exact Fr.one hF__eQ_p__w_31 _) (by first | exact id | (intro q_; (try dsimp only at q_); omega))
            have hP__eK_p__w_34 := hP__eK_p__w_31.mv (w1 := w_34) (S := fun q_ => q_ = r) (by rw [ew_35]; exact Fr.one hF__eQ_p__w_31 _) (by first | exact id | (intro q_; (try dsimp only at q_); omega))
            have hK_36 : ∀ (x_ : Nat) (y_ : Nat × Ent), x_ ≠ a ∧ x_ ≠ ((eQ p)) → w x_ = some y_ → w_34 x_ = some y_ := fun x_ y_ hx_ h_ => by rw [ew_35]; exact (wset_ne _ hx_.2).trans (hK_33 x_ y_ hx_ h_)
            refine lv_iload hx hb dJ19_putVal_158 (lv_at hl 11 rfl) ?_
            refine h_bipush hx hb dJ19_putVal_160 (by decide) ?_
            refine h_icmp_lt hx hb 222 dJ19_putVal_162 (by decide) (by omega) (by omega) (fun c_b => ?_) (fun c_b => ?_)
            ·
              refine lv_aloadN hx hb dJ19_putVal_222 (lv_at hl 0 rfl) ?_
              refine lv_ifnullN (tgt := 259) hx hb dJ19_putVal_224 (by decide) ?_
              refine lv_aload_n hx hb dJ19_putVal_259 rfl (lv_at hl 1 rfl) ?_
              refine lv_dup hx hb dJ19_putVal_260 rfl ?_
              refine h_get X hR hF_a_w_34 rfl in_J19 5 (by decide) q562 rfl dJ19_putVal_261 ?_
              refine h_iconst hx hb dJ19_putVal_264 ?_
              refine h_iadd hx hb dJ19_putVal_265 ?_
              refine h_put X hR hL hF_a_w_34 hr rfl in_J19 tyJ19_ok nmJ19 5 (by decide) q562 rfl rfl rfl (Nat.le_of_ble_eq_true rfl) dJ19_putVal_266 (fun w_37 ew_38 H locs hR hL => ?_)
              have hU : Up (fun q_ => q_ = r) w w_37 := by rw [ew_38]; exact hU.set hF_a_w_34 (by first | exact Or.inl rfl | exact Or.inl (by omega) | exact Or.inr ⟨Nat.succ_ne_zero _, by rw [Nat.add_sub_cancel]; assumption⟩ | exact Or.inr ⟨by omega, by assumption⟩) hG _
              have hF_a_w_37 : w_37 a = some (r, oE 24 [.null, .null, .ref arr, .null, .int (iI ((n : Int))), .int (iI (mo + 1)), .int (iI (12)), .float lf]) := by rw [ew_38]; exact wset_eq _ _ _
              have hF__eQ_p__w_37 : w_37 ((eQ p)) = some (r, oE 25 [.int (iI (hsp (eL p))), .ref ((eK p)), .ref ((eV p)), .ref q]) := by rw [ew_38]; exact (wset_ne _ (by first | exact ne__eQ_p__a | exact Ne.symm ne_a__eQ_p_ | exact w_neR hF__eQ_p__w_34 hF_a_w_34 (by omega) | exact w_ne hF__eQ_p__w_34 hF_a_w_34 (by intro h; cases h))).trans hF__eQ_p__w_34
              have hF_q_w_37 : w_37 q = some (r, oE 25 [.int (iI (hsp L)), .ref k, .ref v, .null]) := by rw [ew_38]; exact (wset_ne _ (by first | exact ne_q_a | exact Ne.symm ne_a_q | exact w_neR hF_q_w_34 hF_a_w_34 (by omega) | exact w_ne hF_q_w_34 hF_a_w_34 (by intro h; cases h))).trans hF_q_w_34
              have hF_arr_w_37 : w_37 arr = some (r, rE G 5 16 hd) := by rw [ew_38]; exact (wset_ne _ (by first | exact ne_arr_a | exact Ne.symm ne_a_arr | exact w_neR hF_arr_w_34 hF_a_w_34 (by omega) | exact w_ne hF_arr_w_34 hF_a_w_34 (by intro h; cases h))).trans hF_arr_w_34
              have hP_k_w_37 := hP_k_w_34.mv (w1 := w_37) (S := fun q_ => q_ = r) (by rw [ew_38]; exact Fr.one hF_a_w_34 _) (by first | exact id | (intro q_; (try dsimp only at q_); omega))
              have hP__eK_p__w_37 := hP__eK_p__w_34.mv (w1 := w_37) (S := fun q_ => q_ = r) (by rw [ew_38]; exact Fr.one hF_a_w_34 _) (by first | exact id | (intro q_; (try dsimp only at q_); omega))
              have hK_39 : ∀ (x_ : Nat) (y_ : Nat × Ent), x_ ≠ a ∧ x_ ≠ ((eQ p)) → w x_ = some y_ → w_37 x_ = some y_ := fun x_ y_ hx_ h_ => by rw [ew_38]; exact (wset_ne _ hx_.1).trans (hK_36 x_ y_ hx_ h_)
              refine lv_aload_n hx hb dJ19_putVal_269 rfl (lv_at hl 1 rfl) ?_
              refine lv_dup hx hb dJ19_putVal_270 rfl ?_
              refine h_get X hR hF_a_w_37 rfl in_J19 4 (by decide) q561 rfl dJ19_putVal_271 ?_
              refine h_iconst hx hb dJ19_putVal_274 ?_
              refine h_iadd hx hb dJ19_putVal_275 ?_
              refine lv_dup_x1 hx hb dJ19_putVal_276 rfl rfl ?_
              refine h_put X hR hL hF_a_w_37 hr rfl in_J19 tyJ19_ok nmJ19 4 (by decide) q561 rfl rfl rfl (Nat.le_of_ble_eq_true rfl) dJ19_putVal_277 (fun w_40 ew_41 H locs hR hL => ?_)
              have hU : Up (fun q_ => q_ = r) w w_40 := by rw [ew_41]; exact hU.set hF_a_w_37 (by first | exact Or.inl rfl | exact Or.inl (by omega) | exact Or.inr ⟨Nat.succ_ne_zero _, by rw [Nat.add_sub_cancel]; assumption⟩ | exact Or.inr ⟨by omega, by assumption⟩) hG _
              have hF_a_w_40 : w_40 a = some (r, oE 24 [.null, .null, .ref arr, .null, .int (iI ((n : Int) + 1)), .int (iI (mo + 1)), .int (iI (12)), .float lf]) := by rw [ew_41]; exact wset_eq _ _ _
              have hF__eQ_p__w_40 : w_40 ((eQ p)) = some (r, oE 25 [.int (iI (hsp (eL p))), .ref ((eK p)), .ref ((eV p)), .ref q]) := by rw [ew_41]; exact (wset_ne _ (by first | exact ne__eQ_p__a | exact Ne.symm ne_a__eQ_p_ | exact w_neR hF__eQ_p__w_37 hF_a_w_37 (by omega) | exact w_ne hF__eQ_p__w_37 hF_a_w_37 (by intro h; cases h))).trans hF__eQ_p__w_37
              have hF_q_w_40 : w_40 q = some (r, oE 25 [.int (iI (hsp L)), .ref k, .ref v, .null]) := by rw [ew_41]; exact (wset_ne _ (by first | exact ne_q_a | exact Ne.symm ne_a_q | exact w_neR hF_q_w_37 hF_a_w_37 (by omega) | exact w_ne hF_q_w_37 hF_a_w_37 (by intro h; cases h))).trans hF_q_w_37
              have hF_arr_w_40 : w_40 arr = some (r, rE G 5 16 hd) := by rw [ew_41]; exact (wset_ne _ (by first | exact ne_arr_a | exact Ne.symm ne_a_arr | exact w_neR hF_arr_w_37 hF_a_w_37 (by omega) | exact w_ne hF_arr_w_37 hF_a_w_37 (by intro h; cases h))).trans hF_arr_w_37
              have hP_k_w_40 := hP_k_w_37.mv (w1 := w_40) (S := fun q_ => q_ = r) (by rw [ew_41]; exact Fr.one hF_a_w_37 _) (by first | exact id | (intro q_; (try dsimp only at q_); omega))
              have hP__eK_p__w_40 := hP__eK_p__w_37.mv (w1 := w_40) (S := fun q_ => q_ = r) (by rw [ew_41]; exact Fr.one hF_a_w_37 _) (by first | exact id | (intro q_; (try dsimp only at q_); omega))
              have hK_42 : ∀ (x_ : Nat) (y_ : Nat × Ent), x_ ≠ a ∧ x_ ≠ ((eQ p)) → w x_ = some y_ → w_40 x_ = some y_ := fun x_ y_ hx_ h_ => by rw [ew_41]; exact (wset_ne _ hx_.1).trans (hK_39 x_ y_ hx_ h_)
              refine lv_aload_n hx hb dJ19_putVal_280 rfl (lv_at hl 1 rfl) ?_
              refine h_get X hR hF_a_w_40 rfl in_J19 6 (by decide) q563 rfl dJ19_putVal_281 ?_
              refine h_icmp_le hx hb 292 dJ19_putVal_284 (by decide) (by omega) (by omega) (fun c_t => ?_) (fun c_t => ?_)
              ·
                refine lv_aload_n hx hb dJ19_putVal_292 rfl (lv_at hl 1 rfl) ?_
                refine lv_iload hx hb dJ19_putVal_293 (lv_at hl 6 rfl) ?_
                -- call java/util/HashMap.afterNodeInsertion
                refine h_kVp (h_runV X hR (hm_ani l G w_40 a 1) pn_yJ19_afterNodeInsertion (hasC.of hF_a_w_40 rfl) q1258 q1259 q1260 q143 q1261 ⟨by decide, by decide⟩ hl.1 (Nat.le_of_ble_eq_true rfl) dJ19_putVal_295 ⟨by omega, by omega⟩) hL (fun H locs hR hL => ?_)
                refine lv_null hx hb dJ19_putVal_298 ?_
                have hkp : ∀ b, b < 16 → ∀ e_ ∈ Bk b, eQ e_ ≠ eQ p → w_40 (eQ e_) = w (eQ e_) := fun b hb e_ he_ hp_ => by obtain ⟨nx_, h1_, -⟩ := (hT2 b hb).1.at e_ he_; rw [h1_]; exact hK_42 _ _ ⟨(fun z_ => by rw [z_, hA] at h1_; simp [nodE] at h1_), hp_⟩ h1_
                have hT9 : HmT G w_40 r arr (insB Bk (q, k, v, L)) := HmT.ins2 hT2 hBp hnoc hF_arr_w_40 hF__eQ_p__w_40 hF_q_w_40 hP_k_w_40 (fun a_ L_ h_ => h_.mv hU.1 (by intro q_; (try dsimp only at q_); omega)) hkp
                have hM9 : HmAt G w_40 r a (n + 1) (fun M => if M = L then some v else fndB Bk M) := ⟨_, _, Or.inr ⟨_, _, hF_a_w_40, hT9, by rw [insB_t, htot], fun M => by rw [insB_f (e := (q, k, v, L)) hnoc M]⟩⟩
                exact h_nreturn hx hb hlk hret (by first | exact Or.inl ⟨_, rfl⟩ | exact Or.inr ⟨_, rfl⟩) hR hL none rfl ⟨rfl, hM9, hU⟩ (by omega) (by omega) rfl rfl dJ19_putVal_299
              ·
                exact absurd c_t (by omega)
            ·
              exact absurd c_b (by omega)
          ·
            obtain ⟨hnx, nx5, hNo5, hKe5, hsg5⟩ := hsgp
            subst hnx
            have hsr_e5 := hsp_r (eL e5)
            have c_ne5 : eL e5 ≠ L := hnoc e5 (by show e5 ∈ Bk (bix L); rw [hBp0]; exact List.mem_append_right _ (List.mem_cons_of_mem _ List.mem_cons_self))
            refine W.eq (g2 := F0 m9 139 ls [.ref ((eQ e5))]) (rfl) ?_
            refine lv_dup hx hb dJ19_putVal_139 rfl ?_
            refine lv_astore (lv' := [(10, .ref ((eQ e5))), (0, .ref a), (1, .int (iI (hsp L))), (2, .ref k), (3, .ref v), (4, .int (iI (0))), (5, .int (iI (1))), (6, .ref arr), (7, .ref ((eQ p))), (8, .int (iI (16))), (9, .int (iI ((bix L : Int)))), (12, .int (iI ((B1.length : Int))))]) hx hb dJ19_putVal_140 hl (by decide) rfl (fun ls hl => ?_)
            refine lv_ifnonnull (tgt := 175) hx hb dJ19_putVal_142 (by decide) ?_
            refine lv_aload hx hb dJ19_putVal_175 (lv_at hl 0 rfl) ?_
            refine h_get X hR hNo5 rfl in_J20 0 (by decide) q880 rfl dJ19_putVal_177 ?_
            refine lv_iload_n hx hb dJ19_putVal_180 rfl (lv_at hl 2 rfl) ?_
            refine h_icmp_ne hx hb 212 dJ19_putVal_181 (by decide) (by omega) (by omega) (fun c_h5 => ?_) (fun c_h5 => ?_)
            ·
              refine lv_aload hx hb dJ19_putVal_212 (lv_at hl 0 rfl) ?_
              refine lv_astore (lv' := [(7, .ref ((eQ e5))), (10, .ref ((eQ e5))), (0, .ref a), (1, .int (iI (hsp L))), (2, .ref k), (3, .ref v), (4, .int (iI (0))), (5, .int (iI (1))), (6, .ref arr), (8, .int (iI (16))), (9, .int (iI ((bix L : Int)))), (12, .int (iI ((B1.length : Int))))]) hx hb dJ19_putVal_214 hl (by decide) rfl (fun ls hl => ?_)
              refine h_iinc (lv' := [(12, .int (iI ((B1.length : Int) + 1))), (7, .ref ((eQ e5))), (10, .ref ((eQ e5))), (0, .ref a), (1, .int (iI (hsp L))), (2, .ref k), (3, .ref v), (4, .int (iI (0))), (5, .int (iI (1))), (6, .ref arr), (8, .int (iI (16))), (9, .int (iI ((bix L : Int))))]) hx hb dJ19_putVal_216 hl (k := 11) rfl (by decide) rfl (fun ls hl => ?_)
              refine lv_goto (tgt := 134) hx hb dJ19_putVal_219 (by decide) ?_
              have hl : lv_has ls 13 [(12, .int (iI (((B1 ++ [p]).length : Int)))), (7, .ref ((eQ e5))), (10, .ref ((eQ e5))), (0, .ref a), (1, .int (iI (hsp L))), (2, .ref k), (3, .ref v), (4, .int (iI (0))), (5, .int (iI (1))), (6, .ref arr), (8, .int (iI (16))), (9, .int (iI ((bix L : Int))))] := lv_conv hl (congrArg (fun z_ : Int => ([(12, .int (iI (z_))), (7, .ref ((eQ e5))), (10, .ref ((eQ e5))), (0, .ref a), (1, .int (iI (hsp L))), (2, .ref k), (3, .ref v), (4, .int (iI (0))), (5, .int (iI (1))), (6, .ref arr), (8, .int (iI (16))), (9, .int (iI ((bix L : Int))))] : List (Nat × Value))) (show ((B1.length : Int) + 1 : Int) = ((B1 ++ [p]).length : Int) from (by rw [List.length_append, List.length_singleton]; omega)))
              exact ih_24 e5 (B1 ++ [p]) B5 (by rw [hBp0, List.append_assoc]; rfl) ⟨rfl, nx5, hNo5, hKe5, hsg5⟩ (by simp only [List.length_cons] at hN_; omega) _ _ _ hR hL (lv_sub hl [3, 4, 5, 6, 7, 8, 9, 1, 10, 11, 0] rfl)
            ·
              refine lv_aload hx hb dJ19_putVal_184 (lv_at hl 0 rfl) ?_
              refine h_get X hR hNo5 rfl in_J20 1 (by decide) q884 rfl dJ19_putVal_186 ?_
              refine lv_dup hx hb dJ19_putVal_189 rfl ?_
              refine lv_astore (lv' := [(11, .ref ((eK e5))), (10, .ref ((eQ e5))), (0, .ref a), (1, .int (iI (hsp L))), (2, .ref k), (3, .ref v), (4, .int (iI (0))), (5, .int (iI (1))), (6, .ref arr), (7, .ref ((eQ p))), (8, .int (iI (16))), (9, .int (iI ((bix L : Int)))), (12, .int (iI ((B1.length : Int))))]) hx hb dJ19_putVal_190 hl (by decide) rfl (fun ls hl => ?_)
              refine lv_aload_n hx hb dJ19_putVal_192 rfl (lv_at hl 4 rfl) ?_
              refine lv_acmp_eq (rx := (some ((eK e5)))) (ry := (some k)) (tgt := 222) hx hb dJ19_putVal_193 (by decide) (fun c_r5 => ?_) (fun c_r5 => ?_)
              ·
                exact absurd (by have q_ := Option.some.inj c_r5; rw [q_] at hKe5; exact hKe5.eqv hS) c_ne5
              ·
                refine lv_aload_n hx hb dJ19_putVal_196 rfl (lv_at hl 4 rfl) ?_
                refine lv_ifnull hx hb dJ19_putVal_197 ?_
                refine lv_aload_n hx hb dJ19_putVal_200 rfl (lv_at hl 4 rfl) ?_
                refine lv_aload hx hb dJ19_putVal_201 (lv_at hl 0 rfl) ?_
                -- call java/lang/String.equals
                refine h_kIp (h_runU (x := ⟨"java/lang/Object", "equals", "(Ljava/lang/Object;)Z"⟩) (owner := "java/lang/Object") X hR (s_eq l G w k ((eK e5)) L (eL e5) hS hKe5) (by decide) pn_yJ29_equals (hS.c) q1155 q1157 (h_declC X q1156 q1194) (X.1.2.2.2.2 _ q1185) q1186 q132 q1187 ⟨by decide, by decide⟩ hl.1 (Nat.le_of_ble_eq_true rfl) dJ19_putVal_203 ⟨by omega, by omega⟩) hL (fun H locs hR hL => ?_)
                refine W.eq (g2 := F0 m9 206 ls [.int (iI (0))]) (congrArg (fun z_ : Int => F0 m9 206 ls [.int (iI (z_))]) (show (b2i (L = eL e5) : Int) = 0 from (by rw [b2i_f (fun q_ => c_ne5 q_.symm)]))) ?_
                refine h_if_eq hx hb 212 dJ19_putVal_206 (by decide) (by decide) (fun _ => ?_) (fun z_ => absurd z_ (by decide))
                refine lv_aload hx hb dJ19_putVal_212 (lv_at hl 1 rfl) ?_
                refine lv_astore (lv' := [(7, .ref ((eQ e5))), (11, .ref ((eK e5))), (10, .ref ((eQ e5))), (0, .ref a), (1, .int (iI (hsp L))), (2, .ref k), (3, .ref v), (4, .int (iI (0))), (5, .int (iI (1))), (6, .ref arr), (8, .int (iI (16))), (9, .int (iI ((bix L : Int)))), (12, .int (iI ((B1.length : Int))))]) hx hb dJ19_putVal_214 hl (by decide) rfl (fun ls hl => ?_)
                refine h_iinc (lv' := [(12, .int (iI ((B1.length : Int) + 1))), (7, .ref ((eQ e5))), (11, .ref ((eK e5))), (10, .ref ((eQ e5))), (0, .ref a), (1, .int (iI (hsp L))), (2, .ref k), (3, .ref v), (4, .int (iI (0))), (5, .int (iI (1))), (6, .ref arr), (8, .int (iI (16))), (9, .int (iI ((bix L : Int))))]) hx hb dJ19_putVal_216 hl (k := 12) rfl (by decide) rfl (fun ls hl => ?_)
                refine lv_goto (tgt := 134) hx hb dJ19_putVal_219 (by decide) ?_
                have hl : lv_has ls 13 [(12, .int (iI (((B1 ++ [p]).length : Int)))), (7, .ref ((eQ e5))), (11, .ref ((eK e5))), (10, .ref ((eQ e5))), (0, .ref a), (1, .int (iI (hsp L))), (2, .ref k), (3, .ref v), (4, .int (iI (0))), (5, .int (iI (1))), (6, .ref arr), (8, .int (iI (16))), (9, .int (iI ((bix L : Int))))] := lv_conv hl (congrArg (fun z_ : Int => ([(12, .int (iI (z_))), (7, .ref ((eQ e5))), (11, .ref ((eK e5))), (10, .ref ((eQ e5))), (0, .ref a), (1, .int (iI (hsp L))), (2, .ref k), (3, .ref v), (4, .int (iI (0))), (5, .int (iI (1))), (6, .ref arr), (8, .int (iI (16))), (9, .int (iI ((bix L : Int))))] : List (Nat × Value))) (show ((B1.length : Int) + 1 : Int) = ((B1 ++ [p]).length : Int) from (by rw [List.length_append, List.length_singleton]; omega)))
                exact ih_24 e5 (B1 ++ [p]) B5 (by rw [hBp0, List.append_assoc]; rfl) ⟨rfl, nx5, hNo5, hKe5, hsg5⟩ (by simp only [List.length_cons] at hN_; omega) _ _ _ hR hL (lv_sub hl [4, 5, 6, 7, 8, 9, 10, 1, 11, 12, 0] rfl)
      exact LOOP_24 _ en ([]) B hBk ⟨rfl, nx, hNo, hKe, hsg2⟩ (Nat.lt_succ_self _) _ _ _ hR hL (lv_sub hl [5, 6, 7, 8, 9, 10, 4, 1, 3, 2, 0] rfl)
    ·
      refine lv_aload hx hb dJ19_putVal_72 (lv_at hl 0 rfl) ?_
      refine h_get X hR hNo rfl in_J20 1 (by decide) q884 rfl dJ19_putVal_74 ?_
      refine lv_dup hx hb dJ19_putVal_77 rfl ?_
      refine lv_astore (lv' := [(11, .ref ((eK en))), (7, .ref ((eQ en))), (9, .int (iI ((bix L : Int)))), (8, .int (iI (16))), (6, .ref arr), (0, .ref a), (1, .int (iI (hsp L))), (2, .ref k), (3, .ref v), (4, .int (iI (0))), (5, .int (iI (1)))]) hx hb dJ19_putVal_78 hl (by decide) rfl (fun ls hl => ?_)
      refine lv_aload_n hx hb dJ19_putVal_80 rfl (lv_at hl 7 rfl) ?_
      refine lv_acmp_eq (rx := (some ((eK en)))) (ry := (some k)) (tgt := 97) hx hb dJ19_putVal_81 (by decide) (fun c_r => ?_) (fun c_r => ?_)
      ·
        exact absurd (by have q_ := Option.some.inj c_r; rw [q_] at hKe; exact hKe.eqv hS) c_ne
      ·
        refine lv_aload_n hx hb dJ19_putVal_84 rfl (lv_at hl 7 rfl) ?_
        refine lv_ifnull hx hb dJ19_putVal_85 ?_
        refine lv_aload_n hx hb dJ19_putVal_88 rfl (lv_at hl 7 rfl) ?_
        refine lv_aload hx hb dJ19_putVal_89 (lv_at hl 0 rfl) ?_
        -- call java/lang/String.equals
        refine h_kIp (h_runU (x := ⟨"java/lang/Object", "equals", "(Ljava/lang/Object;)Z"⟩) (owner := "java/lang/Object") X hR (s_eq l G w k ((eK en)) L (eL en) hS hKe) (by decide) pn_yJ29_equals (hS.c) q1155 q1157 (h_declC X q1156 q1194) (X.1.2.2.2.2 _ q1185) q1186 q132 q1187 ⟨by decide, by decide⟩ hl.1 (Nat.le_of_ble_eq_true rfl) dJ19_putVal_91 ⟨by omega, by omega⟩) hL (fun H locs hR hL => ?_)
        refine W.eq (g2 := F0 m9 94 ls [.int (iI (0))]) (congrArg (fun z_ : Int => F0 m9 94 ls [.int (iI (z_))]) (show (b2i (L = eL en) : Int) = 0 from (by rw [b2i_f (fun q_ => c_ne q_.symm)]))) ?_
        refine h_if_eq hx hb 104 dJ19_putVal_94 (by decide) (by decide) (fun _ => ?_) (fun z_ => absurd z_ (by decide))
        refine lv_aload hx hb dJ19_putVal_104 (lv_at hl 1 rfl) ?_
        refine h_instNo X hR (hasC.of hNo rfl) [false, false, true, false, true, true, false, false, false, false] rfl q858 dJ19_putVal_106 ?_
        refine h_if_eq hx hb 131 dJ19_putVal_109 (by decide) (by decide) (fun _ => ?_) (fun z_ => absurd z_ (by decide))
        refine h_iconst hx hb dJ19_putVal_131 ?_
        refine lv_istore (lv' := [(12, .int (iI (0))), (11, .ref ((eK en))), (7, .ref ((eQ en))), (9, .int (iI ((bix L : Int)))), (8, .int (iI (16))), (6, .ref arr), (0, .ref a), (1, .int (iI (hsp L))), (2, .ref k), (3, .ref v), (4, .int (iI (0))), (5, .int (iI (1)))]) hx hb dJ19_putVal_132 hl (by decide) rfl (fun ls hl => ?_)
        have LOOP_55 : ∀ (N_ : Nat) (p : En) (B1 B2 : List En), (Bk (bix L) = B1 ++ p :: B2) → (Seg G w r (some (eQ p)) (p :: B2) none) → B2.length < N_ → ∀ (H : Heap) (locs : List Loc) (ls : Array Slot), Rp G w H → LK G locs → lv_has ls 13 [(0, .ref a), (1, .int (iI (hsp L))), (2, .ref k), (3, .ref v), (4, .int (iI (0))), (5, .int (iI (1))), (6, .ref arr), (7, .ref ((eQ p))), (8, .int (iI (16))), (9, .int (iI ((bix L : Int)))), (12, .int (iI ((B1.length : Int))))] → W p9 l e9 (rmk 3 2 20) s9 m9 a9 b9 meth9 c9 H locs 0 0 (MQ b9 (QN G (fun z_ w_ => z_ = none ∧ HmAt G w_ r a (n + 1) (fun M => if M = L then some v else fndB Bk M) ∧ Up (fun q_ => q_ = r) w w_)) a9 s9 2 20 (frG G)) (F0 m9 134 ls []) := by
          intro N_
          induction N_ with
          | zero => intro _ _ _ _ _ h_; exact absurd h_ (Nat.not_lt_zero _)
          | succ N_ ih_ =>
            intro p B1 B2 hBp0 hsp0 hN_ H locs ls hR hL hl
            have ih_55 := ih_
            clear ih_
            obtain ⟨-, nxp, hNop, hKep, hsgp⟩ := hsp0
            have hsr_p := hsp_r (eL p)
            have hBl := congrArg List.length hBp0
            rw [List.length_append, List.length_cons] at hBl
            refine lv_aload hx hb dJ19_putVal_134 (lv_at hl 7 rfl) ?_
            refine h_get X hR hNop rfl in_J20 3 (by decide) q891 rfl dJ19_putVal_136 ?_
            rcases B2 with _ | ⟨e5, B5⟩
            ·
              obtain rfl : nxp = none := hsgp
              refine W.eq (g2 := F0 m9 139 ls [.null]) (rfl) ?_
              have hBp : Bk (bix L) = B1 ++ [p] := hBp0
              have hK0 : ∀ (x_ : Nat) (y_ : Nat × Ent), x_ ≠ a ∧ x_ ≠ ((eQ p)) → w x_ = some y_ → w x_ = some y_ := fun x_ y_ hx_ h_ => h_
              refine lv_dup hx hb dJ19_putVal_139 rfl ?_
              refine lv_astoreN (lv' := [(10, .null), (0, .ref a), (1, .int (iI (hsp L))), (2, .ref k), (3, .ref v), (4, .int (iI (0))), (5, .int (iI (1))), (6, .ref arr), (7, .ref ((eQ p))), (8, .int (iI (16))), (9, .int (iI ((bix L : Int)))), (12, .int (iI ((B1.length : Int))))]) hx hb dJ19_putVal_140 hl (by decide) rfl (fun ls hl => ?_)
              refine lv_ifnonnullN hx hb dJ19_putVal_142 ?_
              refine lv_aload hx hb dJ19_putVal_145 (lv_at hl 8 rfl) ?_
              refine lv_aload_n hx hb dJ19_putVal_147 rfl (lv_at hl 1 rfl) ?_
              refine lv_iload_n hx hb dJ19_putVal_148 rfl (lv_at hl 2 rfl) ?_
              refine lv_aload_n hx hb dJ19_putVal_149 rfl (lv_at hl 3 rfl) ?_
              refine lv_aload_n hx hb dJ19_putVal_150 rfl (lv_at hl 4 rfl) ?_
              refine lv_null hx hb dJ19_putVal_151 ?_
              -- call java/util/HashMap.newNode
              refine h_kR (h_runV X hR (hm_nn l G w a k v (hsp L) hU.2.2.1) pn_yJ19_newNode (hasC.of hA rfl) q1150 q1151 q1152 q143 q1153 ⟨by decide, by decide⟩ hl.1 (Nat.le_of_ble_eq_true rfl) dJ19_putVal_152 ⟨by omega, by omega⟩) hL (fun q w_56 hp_57 H locs hR hL => ?_)
              obtain ⟨hz_59, hf_60, u_58⟩ := hp_57
              have ne_a_q : a ≠ q := w_neN hA hz_59
              have ne_arr_q : arr ≠ q := w_neN hT1 hz_59
              have ne_k_q : k ≠ q := sm_ne hS.sm hz_59
              have ne__eQ_p__q : ((eQ p)) ≠ q := w_neN hNop hz_59
              have ne__eK_p__q : ((eK p)) ≠ q := sm_ne hKep.sm hz_59
              have hn_q : w q = none := hU.2.1 _ hz_59
              have hF_a_w_56 : w_56 a = some (r, oE 24 [.null, .null, .ref arr, .null, .int (iI ((n : Int))), .int (iI (mo)), .int (iI (12)), .float lf]) := u_58.1 _ _ _ hA (by first | exact id | (intro q_; (try dsimp only at q_); omega))
              have hF_arr_w_56 : w_56 arr = some (r, rE G 5 16 hd) := u_58.1 _ _ _ hT1 (by first | exact id | (intro q_; (try dsimp only at q_); omega))
              have hP_k_w_56 := hS.mv (u_58.1) (by first | exact id | (intro q_; (try dsimp only at q_); omega))
              have hF__eQ_p__w_56 : w_56 ((eQ p)) = some (r, oE 25 [.int (iI (hsp (eL p))), .ref ((eK p)), .ref ((eV p)), .null]) := u_58.1 _ _ _ hNop (by first | exact id | (intro q_; (try dsimp only at q_); omega))
              have hP__eK_p__w_56 := hKep.mv (u_58.1) (by first | exact id | (intro q_; (try dsimp only at q_); omega))
              have hK_61 : ∀ (x_ : Nat) (y_ : Nat × Ent), x_ ≠ a ∧ x_ ≠ ((eQ p)) → w x_ = some y_ → w_56 x_ = some y_ := fun x_ y_ hx_ h_ => (u_58.1) _ _ _ (hK0 x_ y_ hx_ h_) id
              have hU : Up (fun q_ => q_ = r) w w_56 := hU.tr u_58 (fun q_ h_ => by first | exact absurd h_ id | exact Or.inl h_ | ((try dsimp only at h_); first | exact Or.inl (by omega) | exact Or.inr ⟨by omega, by subst h_; rw [Nat.add_sub_cancel]; assumption⟩)) hG
              have hR := hR.retag (r) hf_60 (Nat.succ_ne_zero _)
              obtain ⟨w_62, ew_63⟩ : ∃ w_ : Wd, w_ = wset w_56 q (r, oE 25 [.int (iI (hsp L)), .ref k, .ref v, .null]) := ⟨_, rfl⟩
              rw [← ew_63] at hR
              have hU : Up (fun q_ => q_ = r) w w_62 := by rw [ew_63]; exact hU.tag hf_60 hn_q (Or.inr (hU.2.2.1.ofs hF_a_w_56 hr))
              have hF_q_w_62 : w_62 q = some (r, oE 25 [.int (iI (hsp L)), .ref k, .ref v, .null]) := by rw [ew_63]; exact wset_eq _ _ _
              have hF_a_w_62 : w_62 a = some (r, oE 24 [.null, .null, .ref arr, .null, .int (iI ((n : Int))), .int (iI (mo)), .int (iI (12)), .float lf]) := by rw [ew_63]; exact (wset_ne _ (by first | exact ne_a_q | exact Ne.symm ne_q_a | exact w_neR hF_a_w_56 hf_60 (by omega) | exact w_ne hF_a_w_56 hf_60 (by intro h; cases h))).trans hF_a_w_56
              have hF_arr_w_62 : w_62 arr = some (r, rE G 5 16 hd) := by rw [ew_63]; exact (wset_ne _ (by first | exact ne_arr_q | exact Ne.symm ne_q_arr | exact w_neR hF_arr_w_56 hf_60 (by omega) | exact w_ne hF_arr_w_56 hf_60 (by intro h; cases h))).trans hF_arr_w_56
              have hP_k_w_62 := hP_k_w_56.mv (w1 := w_62) (S := fun q_ => q_ = q + 1) (by rw [ew_63]; exact Fr.one hf_60 _) (by first | exact id | (intro q_; (try dsimp only at q_); omega))
              have hF__eQ_p__w_62 : w_62 ((eQ p)) = some (r, oE 25 [.int (iI (hsp (eL p))), .ref ((eK p)), .ref ((eV p)), .null]) := by rw [ew_63]; exact (wset_ne _ (by first | exact ne__eQ_p__q | exact Ne.symm ne_q__eQ_p_ | exact w_neR hF__eQ_p__w_56 hf_60 (by omega) | exact w_ne hF__eQ_p__w_56 hf_60 (by intro h; cases h))).trans hF__eQ_p__w_56
              have hP__eK_p__w_62 := hP__eK_p__w_56.mv (w1 := w_62) (S := fun q_ => q_ = q + 1) (by rw [ew_63]; exact Fr.one hf_60 _) (by first | exact id | (intro q_; (try dsimp only at q_); omega))
              have hK_64 : ∀ (x_ : Nat) (y_ : Nat × Ent), x_ ≠ a ∧ x_ ≠ ((eQ p)) → w x_ = some y_ → w_62 x_ = some y_ := fun x_ y_ hx_ h_ => by rw [ew_63]; exact (wset_ne _ (w_neN h_ hn_q)).trans (hK_61 x_ y_ hx_ h_)
              refine h_put X hR hL hF__eQ_p__w_62 hr rfl in_J20 tyJ20_ok nmJ20 3 (by decide) q891 rfl rfl rfl (Nat.le_of_ble_eq_true rfl) dJ19_putVal_155 (fun w_65 ew_66 H locs hR hL => ?_)
              have hU : Up (fun q_ => q_ = r) w w_65 := by rw [ew_66]; exact hU.set hF__eQ_p__w_62 (by first | exact Or.inl rfl | exact Or.inl (by omega) | exact Or.inr ⟨Nat.succ_ne_zero _, by rw [Nat.add_sub_cancel]; assumption⟩ | exact Or.inr ⟨by omega, by assumption⟩) hG _
              have hF__eQ_p__w_65 : w_65 ((eQ p)) = some (r, oE 25 [.int (iI (hsp (eL p))), .ref ((eK p)), .ref ((eV p)), .ref q]) := by rw [ew_66]; exact wset_eq _ _ _
              have hF_q_w_65 : w_65 q = some (r, oE 25 [.int (iI (hsp L)), .ref k, .ref v, .null]) := by rw [ew_66]; exact (wset_ne _ (by first | exact ne_q__eQ_p_ | exact Ne.symm ne__eQ_p__q | exact w_neR hF_q_w_62 hF__eQ_p__w_62 (by omega) | exact w_ne hF_q_w_62 hF__eQ_p__w_62 (by intro h; cases h))).trans hF_q_w_62
              have hF_a_w_65 : w_65 a = some (r, oE 24 [.null, .null, .ref arr, .null, .int (iI ((n : Int))), .int (iI (mo)), .int (iI (12)), .float lf]) := by rw [ew_66]; exact (wset_ne _ (by first | exact ne_a__eQ_p_ | exact Ne.symm ne__eQ_p__a | exact w_neR hF_a_w_62 hF__eQ_p__w_62 (by omega) | exact w_ne hF_a_w_62 hF__eQ_p__w_62 (by intro h; cases h))).trans hF_a_w_62
              have hF_arr_w_65 : w_65 arr = some (r, rE G 5 16 hd) := by rw [ew_66]; exact (wset_ne _ (by first | exact ne_arr__eQ_p_ | exact Ne.symm ne__eQ_p__arr | exact w_neR hF_arr_w_62 hF__eQ_p__w_62 (by omega) | exact w_ne hF_arr_w_62 hF__eQ_p__w_62 (by intro h; cases h))).trans hF_arr_w_62
              have hP_k_w_65 := hP_k_w_62.mv (w1 := w_65) (S := fun q_ => q_ = r) (by rw [ew_66]; exact Fr.one hF__eQ_p__w_62 _) (by first | exact id | (intro q_; (try dsimp only at q_); omega))
              have hP__eK_p__w_65 := hP__eK_p__w_62.mv (w1 := w_65) (S := fun q_ => q_ = r) (by rw [ew_66]; exact Fr.one hF__eQ_p__w_62 _) (by first | exact id | (intro q_; (try dsimp only at q_); omega))
              have hK_67 : ∀ (x_ : Nat) (y_ : Nat × Ent), x_ ≠ a ∧ x_ ≠ ((eQ p)) → w x_ = some y_ → w_65 x_ = some y_ := fun x_ y_ hx_ h_ => by rw [ew_66]; exact (wset_ne _ hx_.2).trans (hK_64 x_ y_ hx_ h_)
              refine lv_iload hx hb dJ19_putVal_158 (lv_at hl 11 rfl) ?_
              refine h_bipush hx hb dJ19_putVal_160 (by decide) ?_
              refine h_icmp_lt hx hb 222 dJ19_putVal_162 (by decide) (by omega) (by omega) (fun c_b => ?_) (fun c_b => ?_)
              ·
                refine lv_aloadN hx hb dJ19_putVal_222 (lv_at hl 0 rfl) ?_
                refine lv_ifnullN (tgt := 259) hx hb dJ19_putVal_224 (by decide) ?_
                refine lv_aload_n hx hb dJ19_putVal_259 rfl (lv_at hl 1 rfl) ?_
                refine lv_dup hx hb dJ19_putVal_260 rfl ?_
                refine h_get X hR hF_a_w_65 rfl in_J19 5 (by decide) q562 rfl dJ19_putVal_261 ?_
                refine h_iconst hx hb dJ19_putVal_264 ?_
                refine h_iadd hx hb dJ19_putVal_265 ?_
                refine h_put X hR hL hF_a_w_65 hr rfl in_J19 tyJ19_ok nmJ19 5 (by decide) q562 rfl rfl rfl (Nat.le_of_ble_eq_true rfl) dJ19_putVal_266 (fun w_68 ew_69 H locs hR hL => ?_)
                have hU : Up (fun q_ => q_ = r) w w_68 := by rw [ew_69]; exact hU.set hF_a_w_65 (by first | exact Or.inl rfl | exact Or.inl (by omega) | exact Or.inr ⟨Nat.succ_ne_zero _, by rw [Nat.add_sub_cancel]; assumption⟩ | exact Or.inr ⟨by omega, by assumption⟩) hG _
                have hF_a_w_68 : w_68 a = some (r, oE 24 [.null, .null, .ref arr, .null, .int (iI ((n : Int))), .int (iI (mo + 1)), .int (iI (12)), .float lf]) := by rw [ew_69]; exact wset_eq _ _ _
                have hF__eQ_p__w_68 : w_68 ((eQ p)) = some (r, oE 25 [.int (iI (hsp (eL p))), .ref ((eK p)), .ref ((eV p)), .ref q]) := by rw [ew_69]; exact (wset_ne _ (by first | exact ne__eQ_p__a | exact Ne.symm ne_a__eQ_p_ | exact w_neR hF__eQ_p__w_65 hF_a_w_65 (by omega) | exact w_ne hF__eQ_p__w_65 hF_a_w_65 (by intro h; cases h))).trans hF__eQ_p__w_65
                have hF_q_w_68 : w_68 q = some (r, oE 25 [.int (iI (hsp L)), .ref k, .ref v, .null]) := by rw [ew_69]; exact (wset_ne _ (by first | exact ne_q_a | exact Ne.symm ne_a_q | exact w_neR hF_q_w_65 hF_a_w_65 (by omega) | exact w_ne hF_q_w_65 hF_a_w_65 (by intro h; cases h))).trans hF_q_w_65
                have hF_arr_w_68 : w_68 arr = some (r, rE G 5 16 hd) := by rw [ew_69]; exact (wset_ne _ (by first | exact ne_arr_a | exact Ne.symm ne_a_arr | exact w_neR hF_arr_w_65 hF_a_w_65 (by omega) | exact w_ne hF_arr_w_65 hF_a_w_65 (by intro h; cases h))).trans hF_arr_w_65
                have hP_k_w_68 := hP_k_w_65.mv (w1 := w_68) (S := fun q_ => q_ = r) (by rw [ew_69]; exact Fr.one hF_a_w_65 _) (by first | exact id | (intro q_; (try dsimp only at q_); omega))
                have hP__eK_p__w_68 := hP__eK_p__w_65.mv (w1 := w_68) (S := fun q_ => q_ = r) (by rw [ew_69]; exact Fr.one hF_a_w_65 _) (by first | exact id | (intro q_; (try dsimp only at q_); omega))
                have hK_70 : ∀ (x_ : Nat) (y_ : Nat × Ent), x_ ≠ a ∧ x_ ≠ ((eQ p)) → w x_ = some y_ → w_68 x_ = some y_ := fun x_ y_ hx_ h_ => by rw [ew_69]; exact (wset_ne _ hx_.1).trans (hK_67 x_ y_ hx_ h_)
                refine lv_aload_n hx hb dJ19_putVal_269 rfl (lv_at hl 1 rfl) ?_
                refine lv_dup hx hb dJ19_putVal_270 rfl ?_
                refine h_get X hR hF_a_w_68 rfl in_J19 4 (by decide) q561 rfl dJ19_putVal_271 ?_
                refine h_iconst hx hb dJ19_putVal_274 ?_
                refine h_iadd hx hb dJ19_putVal_275 ?_
                refine lv_dup_x1 hx hb dJ19_putVal_276 rfl rfl ?_
                refine h_put X hR hL hF_a_w_68 hr rfl in_J19 tyJ19_ok nmJ19 4 (by decide) q561 rfl rfl rfl (Nat.le_of_ble_eq_true rfl) dJ19_putVal_277 (fun w_71 ew_72 H locs hR hL => ?_)
                have hU : Up (fun q_ => q_ = r) w w_71 := by rw [ew_72]; exact hU.set hF_a_w_68 (by first | exact Or.inl rfl | exact Or.inl (by omega) | exact Or.inr ⟨Nat.succ_ne_zero _, by rw [Nat.add_sub_cancel]; assumption⟩ | exact Or.inr ⟨by omega, by assumption⟩) hG _
                have hF_a_w_71 : w_71 a = some (r, oE 24 [.null, .null, .ref arr, .null, .int (iI ((n : Int) + 1)), .int (iI (mo + 1)), .int (iI (12)), .float lf]) := by rw [ew_72]; exact wset_eq _ _ _
                have hF__eQ_p__w_71 : w_71 ((eQ p)) = some (r, oE 25 [.int (iI (hsp (eL p))), .ref ((eK p)), .ref ((eV p)), .ref q]) := by rw [ew_72]; exact (wset_ne _ (by first | exact ne__eQ_p__a | exact Ne.symm ne_a__eQ_p_ | exact w_neR hF__eQ_p__w_68 hF_a_w_68 (by omega) | exact w_ne hF__eQ_p__w_68 hF_a_w_68 (by intro h; cases h))).trans hF__eQ_p__w_68
                have hF_q_w_71 : w_71 q = some (r, oE 25 [.int (iI (hsp L)), .ref k, .ref v, .null]) := by rw [ew_72]; exact (wset_ne _ (by first | exact ne_q_a | exact Ne.symm ne_a_q | exact w_neR hF_q_w_68 hF_a_w_68 (by omega) | exact w_ne hF_q_w_68 hF_a_w_68 (by intro h; cases h))).trans hF_q_w_68
                have hF_arr_w_71 : w_71 arr = some (r, rE G 5 16 hd) := by rw [ew_72]; exact (wset_ne _ (by first | exact ne_arr_a | exact Ne.symm ne_a_arr | exact w_neR hF_arr_w_68 hF_a_w_68 (by omega) | exact w_ne hF_arr_w_68 hF_a_w_68 (by intro h; cases h))).trans hF_arr_w_68
                have hP_k_w_71 := hP_k_w_68.mv (w1 := w_71) (S := fun q_ => q_ = r) (by rw [ew_72]; exact Fr.one hF_a_w_68 _) (by first | exact id | (intro q_; (try dsimp only at q_); omega))
                have hP__eK_p__w_71 := hP__eK_p__w_68.mv (w1 := w_71) (S := fun q_ => q_ = r) (by rw [ew_72]; exact Fr.one hF_a_w_68 _) (by first | exact id | (intro q_; (try dsimp only at q_); omega))
                have hK_73 : ∀ (x_ : Nat) (y_ : Nat × Ent), x_ ≠ a ∧ x_ ≠ ((eQ p)) → w x_ = some y_ → w_71 x_ = some y_ := fun x_ y_ hx_ h_ => by rw [ew_72]; exact (wset_ne _ hx_.1).trans (hK_70 x_ y_ hx_ h_)
                refine lv_aload_n hx hb dJ19_putVal_280 rfl (lv_at hl 1 rfl) ?_
                refine h_get X hR hF_a_w_71 rfl in_J19 6 (by decide) q563 rfl dJ19_putVal_281 ?_
                refine h_icmp_le hx hb 292 dJ19_putVal_284 (by decide) (by omega) (by omega) (fun c_t => ?_) (fun c_t => ?_)
                ·
                  refine lv_aload_n hx hb dJ19_putVal_292 rfl (lv_at hl 1 rfl) ?_
                  refine lv_iload hx hb dJ19_putVal_293 (lv_at hl 6 rfl) ?_
                  -- call java/util/HashMap.afterNodeInsertion
                  refine h_kVp (h_runV X hR (hm_ani l G w_71 a 1) pn_yJ19_afterNodeInsertion (hasC.of hF_a_w_71 rfl) q1258 q1259 q1260 q143 q1261 ⟨by decide, by decide⟩ hl.1 (Nat.le_of_ble_eq_true rfl) dJ19_putVal_295 ⟨by omega, by omega⟩) hL (fun H locs hR hL => ?_)
                  refine lv_null hx hb dJ19_putVal_298 ?_
                  have hkp : ∀ b, b < 16 → ∀ e_ ∈ Bk b, eQ e_ ≠ eQ p → w_71 (eQ e_) = w (eQ e_) := fun b hb e_ he_ hp_ => by obtain ⟨nx_, h1_, -⟩ := (hT2 b hb).1.at e_ he_; rw [h1_]; exact hK_73 _ _ ⟨(fun z_ => by rw [z_, hA] at h1_; simp [nodE] at h1_), hp_⟩ h1_
                  have hT9 : HmT G w_71 r arr (insB Bk (q, k, v, L)) := HmT.ins2 hT2 hBp hnoc hF_arr_w_71 hF__eQ_p__w_71 hF_q_w_71 hP_k_w_71 (fun a_ L_ h_ => h_.mv hU.1 (by intro q_; (try dsimp only at q_); omega)) hkp
                  have hM9 : HmAt G w_71 r a (n + 1) (fun M => if M = L then some v else fndB Bk M) := ⟨_, _, Or.inr ⟨_, _, hF_a_w_71, hT9, by rw [insB_t, htot], fun M => by rw [insB_f (e := (q, k, v, L)) hnoc M]⟩⟩
                  exact h_nreturn hx hb hlk hret (by first | exact Or.inl ⟨_, rfl⟩ | exact Or.inr ⟨_, rfl⟩) hR hL none rfl ⟨rfl, hM9, hU⟩ (by omega) (by omega) rfl rfl dJ19_putVal_299
                ·
                  exact absurd c_t (by omega)
              ·
                exact absurd c_b (by omega)
            ·
              obtain ⟨hnx, nx5, hNo5, hKe5, hsg5⟩ := hsgp
              subst hnx
              have hsr_e5 := hsp_r (eL e5)
              have c_ne5 : eL e5 ≠ L := hnoc e5 (by show e5 ∈ Bk (bix L); rw [hBp0]; exact List.mem_append_right _ (List.mem_cons_of_mem _ List.mem_cons_self))
              refine W.eq (g2 := F0 m9 139 ls [.ref ((eQ e5))]) (rfl) ?_
              refine lv_dup hx hb dJ19_putVal_139 rfl ?_
              refine lv_astore (lv' := [(10, .ref ((eQ e5))), (0, .ref a), (1, .int (iI (hsp L))), (2, .ref k), (3, .ref v), (4, .int (iI (0))), (5, .int (iI (1))), (6, .ref arr), (7, .ref ((eQ p))), (8, .int (iI (16))), (9, .int (iI ((bix L : Int)))), (12, .int (iI ((B1.length : Int))))]) hx hb dJ19_putVal_140 hl (by decide) rfl (fun ls hl => ?_)
              refine lv_ifnonnull (tgt := 175) hx hb dJ19_putVal_142 (by decide) ?_
              refine lv_aload hx hb dJ19_putVal_175 (lv_at hl 0 rfl) ?_
              refine h_get X hR hNo5 rfl in_J20 0 (by decide) q880 rfl dJ19_putVal_177 ?_
              refine lv_iload_n hx hb dJ19_putVal_180 rfl (lv_at hl 2 rfl) ?_
              refine h_icmp_ne hx hb 212 dJ19_putVal_181 (by decide) (by omega) (by omega) (fun c_h5 => ?_) (fun c_h5 => ?_)
              ·
                refine lv_aload hx hb dJ19_putVal_212 (lv_at hl 0 rfl) ?_
                refine lv_astore (lv' := [(7, .ref ((eQ e5))), (10, .ref ((eQ e5))), (0, .ref a), (1, .int (iI (hsp L))), (2, .ref k), (3, .ref v), (4, .int (iI (0))), (5, .int (iI (1))), (6, .ref arr), (8, .int (iI (16))), (9, .int (iI ((bix L : Int)))), (12, .int (iI ((B1.length : Int))))]) hx hb dJ19_putVal_214 hl (by decide) rfl (fun ls hl => ?_)
                refine h_iinc (lv' := [(12, .int (iI ((B1.length : Int) + 1))), (7, .ref ((eQ e5))), (10, .ref ((eQ e5))), (0, .ref a), (1, .int (iI (hsp L))), (2, .ref k), (3, .ref v), (4, .int (iI (0))), (5, .int (iI (1))), (6, .ref arr), (8, .int (iI (16))), (9, .int (iI ((bix L : Int))))]) hx hb dJ19_putVal_216 hl (k := 11) rfl (by decide) rfl (fun ls hl => ?_)
                refine lv_goto (tgt := 134) hx hb dJ19_putVal_219 (by decide) ?_
                have hl : lv_has ls 13 [(12, .int (iI (((B1 ++ [p]).length : Int)))), (7, .ref ((eQ e5))), (10, .ref ((eQ e5))), (0, .ref a), (1, .int (iI (hsp L))), (2, .ref k), (3, .ref v), (4, .int (iI (0))), (5, .int (iI (1))), (6, .ref arr), (8, .int (iI (16))), (9, .int (iI ((bix L : Int))))] := lv_conv hl (congrArg (fun z_ : Int => ([(12, .int (iI (z_))), (7, .ref ((eQ e5))), (10, .ref ((eQ e5))), (0, .ref a), (1, .int (iI (hsp L))), (2, .ref k), (3, .ref v), (4, .int (iI (0))), (5, .int (iI (1))), (6, .ref arr), (8, .int (iI (16))), (9, .int (iI ((bix L : Int))))] : List (Nat × Value))) (show ((B1.length : Int) + 1 : Int) = ((B1 ++ [p]).length : Int) from (by rw [List.length_append, List.length_singleton]; omega)))
                exact ih_55 e5 (B1 ++ [p]) B5 (by rw [hBp0, List.append_assoc]; rfl) ⟨rfl, nx5, hNo5, hKe5, hsg5⟩ (by simp only [List.length_cons] at hN_; omega) _ _ _ hR hL (lv_sub hl [3, 4, 5, 6, 7, 8, 9, 1, 10, 11, 0] rfl)
              ·
                refine lv_aload hx hb dJ19_putVal_184 (lv_at hl 0 rfl) ?_
                refine h_get X hR hNo5 rfl in_J20 1 (by decide) q884 rfl dJ19_putVal_186 ?_
                refine lv_dup hx hb dJ19_putVal_189 rfl ?_
                refine lv_astore (lv' := [(11, .ref ((eK e5))), (10, .ref ((eQ e5))), (0, .ref a), (1, .int (iI (hsp L))), (2, .ref k), (3, .ref v), (4, .int (iI (0))), (5, .int (iI (1))), (6, .ref arr), (7, .ref ((eQ p))), (8, .int (iI (16))), (9, .int (iI ((bix L : Int)))), (12, .int (iI ((B1.length : Int))))]) hx hb dJ19_putVal_190 hl (by decide) rfl (fun ls hl => ?_)
                refine lv_aload_n hx hb dJ19_putVal_192 rfl (lv_at hl 4 rfl) ?_
                refine lv_acmp_eq (rx := (some ((eK e5)))) (ry := (some k)) (tgt := 222) hx hb dJ19_putVal_193 (by decide) (fun c_r5 => ?_) (fun c_r5 => ?_)
                ·
                  exact absurd (by have q_ := Option.some.inj c_r5; rw [q_] at hKe5; exact hKe5.eqv hS) c_ne5
                ·
                  refine lv_aload_n hx hb dJ19_putVal_196 rfl (lv_at hl 4 rfl) ?_
                  refine lv_ifnull hx hb dJ19_putVal_197 ?_
                  refine lv_aload_n hx hb dJ19_putVal_200 rfl (lv_at hl 4 rfl) ?_
                  refine lv_aload hx hb dJ19_putVal_201 (lv_at hl 0 rfl) ?_
                  -- call java/lang/String.equals
                  refine h_kIp (h_runU (x := ⟨"java/lang/Object", "equals", "(Ljava/lang/Object;)Z"⟩) (owner := "java/lang/Object") X hR (s_eq l G w k ((eK e5)) L (eL e5) hS hKe5) (by decide) pn_yJ29_equals (hS.c) q1155 q1157 (h_declC X q1156 q1194) (X.1.2.2.2.2 _ q1185) q1186 q132 q1187 ⟨by decide, by decide⟩ hl.1 (Nat.le_of_ble_eq_true rfl) dJ19_putVal_203 ⟨by omega, by omega⟩) hL (fun H locs hR hL => ?_)
                  refine W.eq (g2 := F0 m9 206 ls [.int (iI (0))]) (congrArg (fun z_ : Int => F0 m9 206 ls [.int (iI (z_))]) (show (b2i (L = eL e5) : Int) = 0 from (by rw [b2i_f (fun q_ => c_ne5 q_.symm)]))) ?_
                  refine h_if_eq hx hb 212 dJ19_putVal_206 (by decide) (by decide) (fun _ => ?_) (fun z_ => absurd z_ (by decide))
                  refine lv_aload hx hb dJ19_putVal_212 (lv_at hl 1 rfl) ?_
                  refine lv_astore (lv' := [(7, .ref ((eQ e5))), (11, .ref ((eK e5))), (10, .ref ((eQ e5))), (0, .ref a), (1, .int (iI (hsp L))), (2, .ref k), (3, .ref v), (4, .int (iI (0))), (5, .int (iI (1))), (6, .ref arr), (8, .int (iI (16))), (9, .int (iI ((bix L : Int)))), (12, .int (iI ((B1.length : Int))))]) hx hb dJ19_putVal_214 hl (by decide) rfl (fun ls hl => ?_)
                  refine h_iinc (lv' := [(12, .int (iI ((B1.length : Int) + 1))), (7, .ref ((eQ e5))), (11, .ref ((eK e5))), (10, .ref ((eQ e5))), (0, .ref a), (1, .int (iI (hsp L))), (2, .ref k), (3, .ref v), (4, .int (iI (0))), (5, .int (iI (1))), (6, .ref arr), (8, .int (iI (16))), (9, .int (iI ((bix L : Int))))]) hx hb dJ19_putVal_216 hl (k := 12) rfl (by decide) rfl (fun ls hl => ?_)
                  refine lv_goto (tgt := 134) hx hb dJ19_putVal_219 (by decide) ?_
                  have hl : lv_has ls 13 [(12, .int (iI (((B1 ++ [p]).length : Int)))), (7, .ref ((eQ e5))), (11, .ref ((eK e5))), (10, .ref ((eQ e5))), (0, .ref a), (1, .int (iI (hsp L))), (2, .ref k), (3, .ref v), (4, .int (iI (0))), (5, .int (iI (1))), (6, .ref arr), (8, .int (iI (16))), (9, .int (iI ((bix L : Int))))] := lv_conv hl (congrArg (fun z_ : Int => ([(12, .int (iI (z_))), (7, .ref ((eQ e5))), (11, .ref ((eK e5))), (10, .ref ((eQ e5))), (0, .ref a), (1, .int (iI (hsp L))), (2, .ref k), (3, .ref v), (4, .int (iI (0))), (5, .int (iI (1))), (6, .ref arr), (8, .int (iI (16))), (9, .int (iI ((bix L : Int))))] : List (Nat × Value))) (show ((B1.length : Int) + 1 : Int) = ((B1 ++ [p]).length : Int) from (by rw [List.length_append, List.length_singleton]; omega)))
                  exact ih_55 e5 (B1 ++ [p]) B5 (by rw [hBp0, List.append_assoc]; rfl) ⟨rfl, nx5, hNo5, hKe5, hsg5⟩ (by simp only [List.length_cons] at hN_; omega) _ _ _ hR hL (lv_sub hl [4, 5, 6, 7, 8, 9, 10, 1, 11, 12, 0] rfl)
        exact LOOP_55 _ en ([]) B hBk ⟨rfl, nx, hNo, hKe, hsg2⟩ (Nat.lt_succ_self _) _ _ _ hR hL (lv_sub hl [6, 7, 8, 9, 10, 11, 5, 2, 4, 3, 0] rfl)
