/-! JDK: ArrayList made, cleared; its iterator; Arrays.copyOf -/
set_option maxRecDepth 100000
theorem sm_ne {w : Wd} {a z : Nat} (h : ∃ x, w a = some x) (hn : w z = none) : a ≠ z := by
  obtain ⟨x, hx⟩ := h
  intro e; subst e; rw [hn] at hx; cases hx
theorem LsAt.sm {G : Gl} {w : Wd} {r a cap : Nat} {mo : Int} {L : List Nat} (h : LsAt G w r a cap mo L) : ∃ x, w a = some x := by
  obtain ⟨arr, f, h1, -⟩ := h
  exact ⟨_, h1⟩
theorem StrAt.sm {G : Gl} {w : Wd} {a : Nat} {L : List Int} (h : StrAt G w a L) : ∃ x, w a = some x := by
  obtain ⟨va, h1, -⟩ := h
  exact ⟨_, h1⟩
/-- a list that is only read: it may be empty over the empty array -/
def LzAt (G : Gl) (w : Wd) (r a : Nat) (mo : Int) (L : List Nat) : Prop := (∃ arr : Nat, w a = some (r, oE 21 [.int (iI mo), .ref arr, .int (iI (L.length : Int))])) ∧ L.length < 1000000 ∧ (L ≠ [] → ∃ cap, LsAt G w r a cap mo L)
theorem LsAt.z {G : Gl} {w : Wd} {r a cap : Nat} {mo : Int} {L : List Nat} (h : LsAt G w r a cap mo L) : LzAt G w r a mo L := by
  obtain ⟨arr, f, h1, h2, h3, h4, h5⟩ := h
  exact ⟨⟨arr, h1⟩, by omega, fun _ => ⟨cap, arr, f, h1, h2, h3, h4, h5⟩⟩
theorem LzAt.mv {G : Gl} {w w1 : Wd} {r a : Nat} {mo : Int} {L : List Nat} {S : Nat → Prop} (h : LzAt G w r a mo L) (hF : Fr S w w1) (h0 : ¬ S r) : LzAt G w1 r a mo L := by
  obtain ⟨⟨arr, h1⟩, h2, h3⟩ := h
  exact ⟨⟨arr, hF _ _ _ h1 h0⟩, h2, fun q => by obtain ⟨cap, h4⟩ := h3 q; exact ⟨cap, h4.mv hF h0⟩⟩
theorem LzAt.sm {G : Gl} {w : Wd} {r a : Nat} {mo : Int} {L : List Nat} (h : LzAt G w r a mo L) : ∃ x, w a = some x := by
  obtain ⟨⟨arr, h1⟩, -⟩ := h
  exact ⟨_, h1⟩
theorem LzAt.c {G : Gl} {w : Wd} {r a : Nat} {mo : Int} {L : List Nat} (h : LzAt G w r a mo L) : hasC w a "java/util/ArrayList" := by
  obtain ⟨⟨arr, h1⟩, -⟩ := h
  exact hasC.of h1 rfl
theorem hasC.mvN {w w1 : Wd} {a : Nat} {C : String} (h : hasC w a C) (hF : Fr (fun _ => False) w w1) : hasC w1 a C := by
  obtain ⟨r, e, h1, h2⟩ := h
  exact ⟨r, e, hF _ _ _ h1 id, h2⟩
theorem LsE.mvN {w w1 : Wd} {L : List Nat} (h : LsE w L) (hF : Fr (fun _ => False) w w1) : LsE w1 L := fun y hy => by
  obtain ⟨C, h1, h2⟩ := h y hy
  exact ⟨C, h1.mvN hF, h2⟩

theorem pn_yJ0_init : ParN yJ0_init 0 := by decide +kernel
theorem pn_yJ2_init : ParN yJ2_init 0 := by decide +kernel
theorem pn_yJ3_toArray : ParN yJ3_toArray 0 := by decide +kernel
theorem pn_yJ14_copyOf_2 : ParN yJ14_copyOf_2 2 := by decide +kernel
theorem pn_yJ14_copyOf_3 : ParN yJ14_copyOf_3 3 := by decide +kernel
theorem pn_i_java_util_Collection_toArray_0 : ParN ⟨"java/util/Collection", "toArray", "()[Ljava/lang/Object;"⟩ 0 := by decide +kernel

set_option maxHeartbeats 4000000 in
set_option maxRecDepth 100000 in
/-- AbstractCollection.<init> -/
theorem jac_init (l : Launch) (G : Gl) (w : Wd) (a : Nat) : HM l yJ0_init cJ0_init 1 none 1 0 0 G [.ref a] w (QV G (fun w_ => w_ = w)) := by
  refine HM.mk (by decide +kernel) (Nat.le_of_ble_eq_true rfl) ?_
  intro p9 e9 s9 m9 a9 b9 meth9 c9 ls X hret hlk hnm hl H hR
  have hx := X.1.1
  have hb := X.1.2.1
  have hl : lv_has ls 1 [(0, .ref a)] := hl
  have hL : LK G [] := fun q h => absurd h List.not_mem_nil
  generalize ([] : List Loc) = locs at hL ⊢
  refine lv_aload_n hx hb dJ0_init_0 rfl (lv_at hl 0 rfl) ?_
  refine W.objInit hx hb X.1.2.2.2.1 (X.1.2.2.2.2 _ q190) (X.1.2.2.2.2 _ q180) (X.1.2.2.2.2 _ q181) rfl (by rw [X.1.2.2.1]; exact hl.1) rfl dJ0_init_1 (Nat.le_of_ble_eq_true rfl) (Nat.le_of_ble_eq_true rfl) ?_
  refine W.eq (g2 := F0 m9 4 ls []) rfl ?_
  exact h_vreturn hx hb hlk hret hR hL (by rfl) (by omega) (by omega) rfl rfl dJ0_init_4

set_option maxHeartbeats 4000000 in
set_option maxRecDepth 100000 in
/-- AbstractList.<init> -/
theorem jal_init (l : Launch) (G : Gl) (w : Wd) (r a : Nat) (hr : r ≠ 0) (hA : w a = some (r, oE 21 [.int (iI 0), .null, .int (iI 0)])) : HM l yJ2_init cJ2_init 1 none 2 0 0 G [.ref a] w (QV G (fun w_ => w_ = w)) := by
  refine HM.mk (by decide +kernel) (Nat.le_of_ble_eq_true rfl) ?_
  intro p9 e9 s9 m9 a9 b9 meth9 c9 ls X hret hlk hnm hl H hR
  have hx := X.1.1
  have hb := X.1.2.1
  have hl : lv_has ls 1 [(0, .ref a)] := hl
  have hL : LK G [] := fun q h => absurd h List.not_mem_nil
  generalize ([] : List Loc) = locs at hL ⊢
  refine lv_aload_n hx hb dJ2_init_0 rfl (lv_at hl 0 rfl) ?_
  -- call java/util/AbstractCollection.<init>
  refine h_kVp (h_runI X hR (jac_init l G w a) pn_yJ0_init rfl q218 q188 q121 q189 ⟨by decide, by decide⟩ hl.1 (Nat.le_of_ble_eq_true rfl) dJ2_init_1 ⟨by omega, by omega⟩) hL (fun H locs hR hL => ?_)
  refine lv_aload_n hx hb dJ2_init_4 rfl (lv_at hl 0 rfl) ?_
  refine h_iconst hx hb dJ2_init_5 ?_
  refine h_put X hR hL hA hr rfl in_J3 tyJ3_ok nmJ3 0 (by decide) q539 rfl rfl rfl (Nat.le_of_ble_eq_true rfl) dJ2_init_6 (fun w_4 ew_5 H locs hR hL => ?_)
  have hF_a_w_4 : w_4 a = some (r, oE 21 [.int (iI (0)), .null, .int (iI (0))]) := by rw [ew_5]; exact wset_eq _ _ _
  exact h_vreturn hx hb hlk hret hR hL (by rw [ew_5]; exact wset_self hA) (by omega) (by omega) rfl rfl dJ2_init_9

set_option maxHeartbeats 4000000 in
set_option maxRecDepth 100000 in
/-- Arrays.copyOf -/
theorem ar_copy3 (l : Launch) (G : Gl) (w : Wd) (ra arr cap n : Nat) (f : Nat → Option Nat) (h2 : w arr = some (ra, rE G 4 cap f)) (hn : n ≤ cap) (hcap : cap < 1000000) (hE : ∀ i y, i < n → f i = some y → ∃ C, hasC w y C ∧ Cond.castable C "java/lang/Object" ∈ lw_tbl) (hG : RegW w) (mi : Nat) (hmi : va_Mi "[Ljava/lang/Object;" mi (gS G)) : HM l yJ14_copyOf_3 cJ14_copyOf_3 4 (some (.array (.object "java/lang/Object"))) 3 1 n G [.ref arr, .int (iI ((n : Int))), .ref mi] w (QR G (fun z_ w_ => w z_ = none ∧ w_ z_ = some (z_ + 1, rE G 4 n (cpA f (fun _ => none) 0 0 n)) ∧ Up (fun _ => False) w w_)) := by
  refine HM.mk (by decide +kernel) (Nat.le_of_ble_eq_true rfl) ?_
  intro p9 e9 s9 m9 a9 b9 meth9 c9 ls X hret hlk hnm hl H hR
  have hx := X.1.1
  have hb := X.1.2.1
  have hl : lv_has ls 4 [(0, .ref arr), (1, .int (iI ((n : Int)))), (2, .ref mi)] := hl
  have hL : LK G [] := fun q h => absurd h List.not_mem_nil
  generalize ([] : List Loc) = locs at hL ⊢
  have hU : Up (fun _ => False) w w := Up.rf hG
  refine lv_aload_n hx hb dJ14_copyOf_3_0 rfl (lv_at hl 2 rfl) ?_
  refine h_ldcM X hmi q731 dJ14_copyOf_3_1 ?_
  refine lv_acmp_ne (rx := (some mi)) (ry := (some mi)) (tgt := 13) hx hb dJ14_copyOf_3_3 (by decide) (fun z_ => absurd rfl z_) (fun _ => ?_)
  refine lv_iload_n hx hb dJ14_copyOf_3_6 rfl (lv_at hl 1 rfl) ?_
  refine h_anew X hR 4 (fun q => q + 1) rfl q732 q192 n rfl (by omega) (by omega) (by omega) dJ14_copyOf_3_7 (fun q hq w_2 ew_3 H hR => ?_)
  have hn_q : w q = none := hU.2.1 _ hq
  have hU : Up (fun _ => False) w w_2 := by rw [ew_3]; exact hU.new hq (by first | exact Or.inr (Or.inl rfl) | exact Or.inl rfl | exact Or.inr (Or.inr (by assumption)))
  have hF_q_w_2 : w_2 q = some (q + 1, rE G 4 n (fun _ => none)) := by rw [ew_3]; exact wset_eq _ _ _
  have ne_arr_q : arr ≠ q := w_neN h2 hq
  have hF_arr_w_2 : w_2 arr = some (ra, rE G 4 cap f) := by rw [ew_3]; exact (wset_ne _ (w_neN h2 hq)).trans h2
  refine lv_goto (tgt := 24) hx hb dJ14_copyOf_3_10 (by decide) ?_
  refine lv_astore_n (lv' := [(3, .ref q), (0, .ref arr), (1, .int (iI ((n : Int)))), (2, .ref mi)]) hx hb dJ14_copyOf_3_24 rfl hl (by decide) rfl (fun ls hl => ?_)
  refine lv_aload_n hx hb dJ14_copyOf_3_25 rfl (lv_at hl 1 rfl) ?_
  refine h_iconst hx hb dJ14_copyOf_3_26 ?_
  refine lv_aload_n hx hb dJ14_copyOf_3_27 rfl (lv_at hl 0 rfl) ?_
  refine h_iconst hx hb dJ14_copyOf_3_28 ?_
  refine lv_aload_n hx hb dJ14_copyOf_3_29 rfl (lv_at hl 1 rfl) ?_
  refine h_alenR X hR hF_arr_w_2 rfl dJ14_copyOf_3_30 ?_
  refine lv_iload_n hx hb dJ14_copyOf_3_31 rfl (lv_at hl 2 rfl) ?_
  refine h_mmin X hl.1 ⟨by omega, by omega⟩ ⟨by omega, by omega⟩ q335 q336 q135 q337 ⟨by decide, Nat.le_of_ble_eq_true rfl⟩ (by omega) (by omega) dJ14_copyOf_3_32 ?_
  refine W.eq (g2 := F0 m9 35 ls [.int (iI ((n : Int))), .int (iI (0)), .ref q, .int (iI (0)), .ref arr]) (congrArg (fun z_ : Int => F0 m9 35 ls [.int (iI (z_)), .int (iI (0)), .ref q, .int (iI (0)), .ref arr]) (show (if ((cap : Nat) : Int) ≤ (n : Int) then ((cap : Nat) : Int) else (n : Int) : Int) = (n : Int) from (by split <;> omega))) ?_
  refine h_copyR (C := "") X hR hL hl.1 hF_arr_w_2 hF_q_w_2 (by omega) rfl rfl q338 (by intro x_ h_; simp only [acW, List.mem_cons, List.not_mem_nil, or_false] at h_; rcases h_ with h_ | h_ | h_ <;> subst h_; exact q340; exact q339; exact q137) ⟨by omega, by omega, by omega⟩ (by omega) (by omega) ⟨by omega, by omega⟩ (fun j_ hj_ y_ hy_ => by rw [show ((0 : Int)).toNat + j_ = j_ by omega] at hy_; obtain ⟨C_, c1_, c2_⟩ := hE j_ y_ (by omega) hy_; exact ⟨C_, c1_.mvN hU.1, Or.inl c2_⟩) ⟨by decide, Nat.le_of_ble_eq_true rfl⟩ dJ14_copyOf_3_35 (fun w_4 ew_5 H locs hR hL => ?_)
  have hU : Up (fun _ => False) w w_4 := by rw [ew_5]; exact hU.set hF_q_w_2 (by first | exact Or.inl rfl | exact Or.inl (by omega) | exact Or.inr ⟨Nat.succ_ne_zero _, by rw [Nat.add_sub_cancel]; assumption⟩ | exact Or.inr ⟨by omega, by assumption⟩) hG _
  have hF_q_w_4 : w_4 q = some (q + 1, rE G 4 n (cpA f (fun _ => none) 0 0 n)) := by rw [ew_5]; exact wset_eq _ _ _
  have hF_arr_w_4 : w_4 arr = some (ra, rE G 4 cap f) := by rw [ew_5]; exact (wset_ne _ (by first | exact ne_arr_q | exact Ne.symm ne_q_arr | exact w_neR hF_arr_w_2 hF_q_w_2 (by omega) | exact w_ne hF_arr_w_2 hF_q_w_2 (by intro h; cases h))).trans hF_arr_w_2
  refine lv_aload_n hx hb dJ14_copyOf_3_38 rfl (lv_at hl 0 rfl) ?_
  exact h_areturn hx hb hlk hret (by first | exact Or.inl ⟨_, rfl⟩ | exact Or.inr ⟨_, rfl⟩) hR hL ⟨hn_q, hF_q_w_4, hU⟩ (by omega) (by omega) rfl rfl dJ14_copyOf_3_39

set_option maxHeartbeats 4000000 in
set_option maxRecDepth 100000 in
/-- Arrays.copyOf -/
theorem ar_copy2 (l : Launch) (G : Gl) (w : Wd) (ra arr cap n : Nat) (f : Nat → Option Nat) (h2 : w arr = some (ra, rE G 4 cap f)) (hn : n ≤ cap) (hcap : cap < 1000000) (hE : ∀ i y, i < n → f i = some y → ∃ C, hasC w y C ∧ Cond.castable C "java/lang/Object" ∈ lw_tbl) (hG : RegW w) : HM l yJ14_copyOf_2 cJ14_copyOf_2 2 (some (.array (.object "java/lang/Object"))) 4 1 n G [.ref arr, .int (iI ((n : Int)))] w (QR G (fun z_ w_ => w z_ = none ∧ w_ z_ = some (z_ + 1, rE G 4 n (cpA f (fun _ => none) 0 0 n)) ∧ Up (fun _ => False) w w_)) := by
  refine HM.mk (by decide +kernel) (Nat.le_of_ble_eq_true rfl) ?_
  intro p9 e9 s9 m9 a9 b9 meth9 c9 ls X hret hlk hnm hl H hR
  have hx := X.1.1
  have hb := X.1.2.1
  have hl : lv_has ls 2 [(0, .ref arr), (1, .int (iI ((n : Int))))] := hl
  have hL : LK G [] := fun q h => absurd h List.not_mem_nil
  generalize ([] : List Loc) = locs at hL ⊢
  have hU : Up (fun _ => False) w w := Up.rf hG
  obtain ⟨mi, hmi⟩ := kk_M X.2 (C := "[Ljava/lang/Object;") [false, true, true, false, true, false, true, false, true, true, false] rfl
  refine lv_aload_n hx hb dJ14_copyOf_2_0 rfl (lv_at hl 0 rfl) ?_
  refine lv_iload_n hx hb dJ14_copyOf_2_1 rfl (lv_at hl 1 rfl) ?_
  refine lv_aload_n hx hb dJ14_copyOf_2_2 rfl (lv_at hl 0 rfl) ?_
  refine h_getCA X hR hl.1 h2 rfl (nm := "[Ljava/lang/Object;") (by decide) hmi q688 q1297 q3476 q689 q727 ⟨by decide, Nat.le_of_ble_eq_true rfl⟩ dJ14_copyOf_2_3 ?_
  -- call java/util/Arrays.copyOf
  refine h_kR (h_runS X hR (ar_copy3 l G w ra arr cap n f h2 hn hcap hE hU.2.2.1 mi hmi) pn_yJ14_copyOf_3 q728 q729 q136 q730 ⟨by decide, by decide⟩ hl.1 (Nat.le_of_ble_eq_true rfl) dJ14_copyOf_2_6 ⟨by omega, by omega⟩) hL (fun q w_1 hp_2 H locs hR hL => ?_)
  obtain ⟨hz_4, hf_5, u_3⟩ := hp_2
  have ne_arr_q : arr ≠ q := w_neN h2 hz_4
  have hn_q : w q = none := hU.2.1 _ hz_4
  have hF_arr_w_1 : w_1 arr = some (ra, rE G 4 cap f) := u_3.1 _ _ _ h2 (by first | exact id | (intro q_; (try dsimp only at q_); omega))
  have hU : Up (fun _ => False) w w_1 := hU.tr u_3 (fun q_ h_ => by first | exact absurd h_ id | exact Or.inl h_ | ((try dsimp only at h_); first | exact Or.inl (by omega) | exact Or.inr ⟨by omega, by subst h_; rw [Nat.add_sub_cancel]; assumption⟩)) hG
  exact h_areturn hx hb hlk hret (by first | exact Or.inl ⟨_, rfl⟩ | exact Or.inr ⟨_, rfl⟩) hR hL ⟨hn_q, hf_5, hU⟩ (by omega) (by omega) rfl rfl dJ14_copyOf_2_9

theorem cp0_at {f : Nat → Option Nat} {n i : Nat} (hi : i < n) : cpA f (fun _ => none) 0 0 n i = f i := by
  unfold cpA
  rw [if_pos (by omega), Nat.zero_add, Nat.sub_zero]

set_option maxHeartbeats 4000000 in
set_option maxRecDepth 100000 in
/-- ArrayList.toArray -/
theorem ls_toA (l : Launch) (G : Gl) (w : Wd) (r a cap : Nat) (mo : Int) (L : List Nat) (hA : LsAt G w r a cap mo L) (hE : LsE w L) (hG : RegW w) : HM l yJ3_toArray cJ3_toArray 1 (some (.array (.object "java/lang/Object"))) 5 1 L.length G [.ref a] w (QR G (fun z_ w_ => w z_ = none ∧ (∃ g : Nat → Option Nat, w_ z_ = some (z_ + 1, rE G 4 L.length g) ∧ ∀ i, i < L.length → g i = some (L.getD i 0)) ∧ Up (fun _ => False) w w_)) := by
  refine HM.mk (by decide +kernel) (Nat.le_of_ble_eq_true rfl) ?_
  intro p9 e9 s9 m9 a9 b9 meth9 c9 ls X hret hlk hnm hl H hR
  have hx := X.1.1
  have hb := X.1.2.1
  have hl : lv_has ls 1 [(0, .ref a)] := hl
  have hL : LK G [] := fun q h => absurd h List.not_mem_nil
  generalize ([] : List Loc) = locs at hL ⊢
  have hU : Up (fun _ => False) w w := Up.rf hG
  have hA0 := hA
  obtain ⟨arr, f, hA1, hA2, hA3, hA4, hA5⟩ := hA
  refine lv_aload_n hx hb dJ3_toArray_0 rfl (lv_at hl 0 rfl) ?_
  refine h_get X hR hA1 rfl in_J3 1 (by decide) q535 rfl dJ3_toArray_1 ?_
  refine lv_aload_n hx hb dJ3_toArray_4 rfl (lv_at hl 0 rfl) ?_
  refine h_get X hR hA1 rfl in_J3 2 (by decide) q538 rfl dJ3_toArray_5 ?_
  -- call java/util/Arrays.copyOf
  refine h_kR (h_runS X hR (ar_copy2 l G w r arr cap L.length f hA2 hA3 hA4 (fun i_ y_ hi_ hy_ => by rw [hA5 i_ hi_] at hy_; rw [← Option.some.inj hy_]; exact hE _ (getmem (d := 0) hi_)) hU.2.2.1) pn_yJ14_copyOf_2 q685 q686 q136 q687 ⟨by decide, by decide⟩ hl.1 (Nat.le_of_ble_eq_true rfl) dJ3_toArray_8 ⟨by omega, by omega⟩) hL (fun q w_1 hp_2 H locs hR hL => ?_)
  obtain ⟨hz_4, hf_5, u_3⟩ := hp_2
  have ne_a_q : a ≠ q := w_neN hA1 hz_4
  have ne_arr_q : arr ≠ q := w_neN hA2 hz_4
  have hn_q : w q = none := hU.2.1 _ hz_4
  have hF_a_w_1 : w_1 a = some (r, oE 21 [.int (iI (mo)), .ref arr, .int (iI ((L.length : Int)))]) := u_3.1 _ _ _ hA1 (by first | exact id | (intro q_; (try dsimp only at q_); omega))
  have hF_arr_w_1 : w_1 arr = some (r, rE G 4 cap f) := u_3.1 _ _ _ hA2 (by first | exact id | (intro q_; (try dsimp only at q_); omega))
  have hU : Up (fun _ => False) w w_1 := hU.tr u_3 (fun q_ h_ => by first | exact absurd h_ id | exact Or.inl h_ | ((try dsimp only at h_); first | exact Or.inl (by omega) | exact Or.inr ⟨by omega, by subst h_; rw [Nat.add_sub_cancel]; assumption⟩)) hG
  exact h_areturn hx hb hlk hret (by first | exact Or.inl ⟨_, rfl⟩ | exact Or.inr ⟨_, rfl⟩) hR hL ⟨hn_q, ⟨_, hf_5, fun i_ hi_ => (cp0_at hi_).trans (hA5 i_ hi_)⟩, hU⟩ (by omega) (by omega) rfl rfl dJ3_toArray_11

set_option maxHeartbeats 4000000 in
set_option maxRecDepth 100000 in
/-- ArrayList.<init> -/
theorem ls_init (l : Launch) (G : Gl) (w : Wd) (r a n : Nat) (hG : RegW w) (hr : r ≠ 0) (hA : w a = some (r, oE 21 [.int (iI 0), .null, .int (iI 0)])) (h1 : 1 ≤ n) (h2 : n < 1000000) : HM l yJ3_init cJ3_init 2 none 3 1 n G [.ref a, .int (iI ((n : Int)))] w (QV G (fun w_ => LsAt G w_ r a n 0 [] ∧ Up (fun q_ => q_ = r) w w_)) := by
  refine HM.mk (by decide +kernel) (Nat.le_of_ble_eq_true rfl) ?_
  intro p9 e9 s9 m9 a9 b9 meth9 c9 ls X hret hlk hnm hl H hR
  have hx := X.1.1
  have hb := X.1.2.1
  have hl : lv_has ls 2 [(0, .ref a), (1, .int (iI ((n : Int))))] := hl
  have hL : LK G [] := fun q h => absurd h List.not_mem_nil
  generalize ([] : List Loc) = locs at hL ⊢
  have hU : Up (fun q_ => q_ = r) w w := Up.rf hG
  refine lv_aload_n hx hb dJ3_init_0 rfl (lv_at hl 0 rfl) ?_
  -- call java/util/AbstractList.<init>
  refine h_kVp (h_runI X hR (jal_init l G w r a hr hA) pn_yJ2_init rfl q215 q216 q124 q217 ⟨by decide, by decide⟩ hl.1 (Nat.le_of_ble_eq_true rfl) dJ3_init_1 ⟨by omega, by omega⟩) hL (fun H locs hR hL => ?_)
  refine lv_iload_n hx hb dJ3_init_4 rfl (lv_at hl 1 rfl) ?_
  refine h_if_le hx hb 19 dJ3_init_5 (by decide) (by omega) (fun c_n => ?_) (fun c_n => ?_)
  ·
    exact absurd c_n (by omega)
  ·
    refine lv_aload_n hx hb dJ3_init_8 rfl (lv_at hl 0 rfl) ?_
    refine lv_iload_n hx hb dJ3_init_9 rfl (lv_at hl 1 rfl) ?_
    refine h_anew X hR 4 (fun _ => r) rfl q219 q192 n rfl (by omega) (by omega) (by omega) dJ3_init_10 (fun arr harr w_4 ew_5 H hR => ?_)
    have hn_arr : w arr = none := hU.2.1 _ harr
    have hU : Up (fun q_ => q_ = r) w w_4 := by rw [ew_5]; exact hU.new harr (Or.inr (Or.inr (hU.2.2.1.ofs hA hr)))
    have hF_arr_w_4 : w_4 arr = some (r, rE G 4 n (fun _ => none)) := by rw [ew_5]; exact wset_eq _ _ _
    have ne_a_arr : a ≠ arr := w_neN hA harr
    have hF_a_w_4 : w_4 a = some (r, oE 21 [.int (iI (0)), .null, .int (iI (0))]) := by rw [ew_5]; exact (wset_ne _ (w_neN hA harr)).trans hA
    refine h_put X hR hL hF_a_w_4 hr rfl in_J3 tyJ3_ok nmJ3 1 (by decide) q535 rfl rfl rfl (Nat.le_of_ble_eq_true rfl) dJ3_init_13 (fun w_6 ew_7 H locs hR hL => ?_)
    have hU : Up (fun q_ => q_ = r) w w_6 := by rw [ew_7]; exact hU.set hF_a_w_4 (by first | exact Or.inl rfl | exact Or.inl (by omega) | exact Or.inr ⟨Nat.succ_ne_zero _, by rw [Nat.add_sub_cancel]; assumption⟩ | exact Or.inr ⟨by omega, by assumption⟩) hG _
    have hF_a_w_6 : w_6 a = some (r, oE 21 [.int (iI (0)), .ref arr, .int (iI (0))]) := by rw [ew_7]; exact wset_eq _ _ _
    have hF_arr_w_6 : w_6 arr = some (r, rE G 4 n (fun _ => none)) := by rw [ew_7]; exact (wset_ne _ (by first | exact ne_arr_a | exact Ne.symm ne_a_arr | exact w_neR hF_arr_w_4 hF_a_w_4 (by omega) | exact w_ne hF_arr_w_4 hF_a_w_4 (by intro h; cases h))).trans hF_arr_w_4
    refine lv_goto (tgt := 60) hx hb dJ3_init_16 (by decide) ?_
    exact h_vreturn hx hb hlk hret hR hL ⟨⟨arr, _, hF_a_w_6, hF_arr_w_6, Nat.zero_le _, h2, fun i hi => absurd hi (Nat.not_lt_zero _)⟩, hU⟩ (by omega) (by omega) rfl rfl dJ3_init_60

set_option maxHeartbeats 4000000 in
set_option maxRecDepth 100000 in
/-- ArrayList.<init> -/
theorem ls_initC (l : Launch) (G : Gl) (w : Wd) (r a : Nat) (hG : RegW w) (hr : r ≠ 0) (hA : w a = some (r, oE 21 [.int (iI 0), .null, .int (iI 0)])) (b capb : Nat) (mob : Int) (L : List Nat) (hB : LsAt G w (b + 1) b capb mob L) (hrb : b + 1 ≠ r) (hE : LsE w L) : HM l yJ3_init_2 cJ3_init_2 3 none 6 1 L.length G [.ref a, .ref b] w (QV G (fun w_ => LzAt G w_ r a 0 L ∧ Up (fun q_ => q_ = r) w w_)) := by
  refine HM.mk (by decide +kernel) (Nat.le_of_ble_eq_true rfl) ?_
  intro p9 e9 s9 m9 a9 b9 meth9 c9 ls X hret hlk hnm hl H hR
  have hx := X.1.1
  have hb := X.1.2.1
  have hl : lv_has ls 3 [(0, .ref a), (1, .ref b)] := hl
  have hL : LK G [] := fun q h => absurd h List.not_mem_nil
  generalize ([] : List Loc) = locs at hL ⊢
  have hU : Up (fun q_ => q_ = r) w w := Up.rf hG
  have hB0 := hB.le
  obtain ⟨mi, hmi⟩ := kk_M X.2 (C := "java/util/ArrayList") [false, true, true, false, true, false, true, true, true, false, true] rfl
  refine lv_aload_n hx hb dJ3_init_2_0 rfl (lv_at hl 0 rfl) ?_
  -- call java/util/AbstractList.<init>
  refine h_kVp (h_runI X hR (jal_init l G w r a hr hA) pn_yJ2_init rfl q215 q216 q124 q217 ⟨by decide, by decide⟩ hl.1 (Nat.le_of_ble_eq_true rfl) dJ3_init_2_1 ⟨by omega, by omega⟩) hL (fun H locs hR hL => ?_)
  refine lv_aload_n hx hb dJ3_init_2_4 rfl (lv_at hl 1 rfl) ?_
  -- call java/util/ArrayList.toArray
  refine h_k5R (h_runF (x := ⟨"java/util/Collection", "toArray", "()[Ljava/lang/Object;"⟩) X hR (ls_toA l G w (b + 1) b capb mob L hB hE hU.2.2.1) pn_i_java_util_Collection_toArray_0 (hB.c) (kk_face X.2 (by decide +kernel) q1272 q1271 q1292 q1290 q1288) q1270 q1291 q1289 q125 q1293 ⟨by decide, by decide⟩ hl.1 (Nat.le_of_ble_eq_true rfl) dJ3_init_2_5 ⟨by omega, by omega⟩) hL (fun arr w_4 hp_5 H locs hR hL => ?_)
  obtain ⟨hz_7, ⟨g_9, hf_8, hg_10⟩, u_6⟩ := hp_5
  have ne_a_arr : a ≠ arr := w_neN hA hz_7
  have ne_b_arr : b ≠ arr := sm_ne hB.sm hz_7
  have hn_arr : w arr = none := hU.2.1 _ hz_7
  have hF_a_w_4 : w_4 a = some (r, oE 21 [.int (iI (0)), .null, .int (iI (0))]) := u_6.1 _ _ _ hA (by first | exact id | (intro q_; (try dsimp only at q_); omega))
  have hP_b_w_4 := hB.mv (u_6.1) (by first | exact id | (intro q_; (try dsimp only at q_); omega))
  have hU : Up (fun q_ => q_ = r) w w_4 := hU.tr u_6 (fun q_ h_ => by first | exact absurd h_ id | exact Or.inl h_ | ((try dsimp only at h_); first | exact Or.inl (by omega) | exact Or.inr ⟨by omega, by subst h_; rw [Nat.add_sub_cancel]; assumption⟩)) hG
  refine lv_astore_n (lv' := [(2, .ref arr), (0, .ref a), (1, .ref b)]) hx hb dJ3_init_2_10 rfl hl (by decide) rfl (fun ls hl => ?_)
  refine lv_aload_n hx hb dJ3_init_2_11 rfl (lv_at hl 1 rfl) ?_
  refine lv_aload_n hx hb dJ3_init_2_12 rfl (lv_at hl 0 rfl) ?_
  refine h_alenR X hR hf_8 rfl dJ3_init_2_13 ?_
  refine lv_dup_x1 hx hb dJ3_init_2_14 rfl rfl ?_
  refine h_put X hR hL hF_a_w_4 hr rfl in_J3 tyJ3_ok nmJ3 2 (by decide) q538 rfl rfl rfl (Nat.le_of_ble_eq_true rfl) dJ3_init_2_15 (fun w_11 ew_12 H locs hR hL => ?_)
  have hU : Up (fun q_ => q_ = r) w w_11 := by rw [ew_12]; exact hU.set hF_a_w_4 (by first | exact Or.inl rfl | exact Or.inl (by omega) | exact Or.inr ⟨Nat.succ_ne_zero _, by rw [Nat.add_sub_cancel]; assumption⟩ | exact Or.inr ⟨by omega, by assumption⟩) hG _
  have hF_a_w_11 : w_11 a = some (r, oE 21 [.int (iI (0)), .null, .int (iI (((L.length : Nat) : Int)))]) := by rw [ew_12]; exact wset_eq _ _ _
  have hP_b_w_11 := hP_b_w_4.mv (w1 := w_11) (S := fun q_ => q_ = r) (by rw [ew_12]; exact Fr.one hF_a_w_4 _) (by first | exact id | (intro q_; (try dsimp only at q_); omega))
  have hF_arr_w_11 : w_11 arr = some (arr + 1, rE G 4 L.length g_9) := by rw [ew_12]; exact (wset_ne _ (by first | exact ne_arr_a | exact Ne.symm ne_a_arr | exact w_neR hf_8 hF_a_w_4 (by omega) | exact w_ne hf_8 hF_a_w_4 (by intro h; cases h))).trans hf_8
  refine h_if_eq hx hb 57 dJ3_init_2_18 (by decide) (by omega) (fun c_0 => ?_) (fun c_0 => ?_)
  ·
    refine lv_aload_n hx hb dJ3_init_2_57 rfl (lv_at hl 1 rfl) ?_
    refine h_getsR X hR 72 (by decide) q221 q125 q220 dJ3_init_2_58 ?_
    refine h_put X hR hL hF_a_w_11 hr rfl in_J3 tyJ3_ok nmJ3 1 (by decide) q535 rfl rfl rfl (Nat.le_of_ble_eq_true rfl) dJ3_init_2_61 (fun w_13 ew_14 H locs hR hL => ?_)
    have hU : Up (fun q_ => q_ = r) w w_13 := by rw [ew_14]; exact hU.set hF_a_w_11 (by first | exact Or.inl rfl | exact Or.inl (by omega) | exact Or.inr ⟨Nat.succ_ne_zero _, by rw [Nat.add_sub_cancel]; assumption⟩ | exact Or.inr ⟨by omega, by assumption⟩) hG _
    have hF_a_w_13 : w_13 a = some (r, oE 21 [.int (iI (0)), .ref (gC G 72), .int (iI (((L.length : Nat) : Int)))]) := by rw [ew_14]; exact wset_eq _ _ _
    have hP_b_w_13 := hP_b_w_11.mv (w1 := w_13) (S := fun q_ => q_ = r) (by rw [ew_14]; exact Fr.one hF_a_w_11 _) (by first | exact id | (intro q_; (try dsimp only at q_); omega))
    have hF_arr_w_13 : w_13 arr = some (arr + 1, rE G 4 L.length g_9) := by rw [ew_14]; exact (wset_ne _ (by first | exact ne_arr_a | exact Ne.symm ne_a_arr | exact w_neR hF_arr_w_11 hF_a_w_11 (by omega) | exact w_ne hF_arr_w_11 hF_a_w_11 (by intro h; cases h))).trans hF_arr_w_11
    exact h_vreturn hx hb hlk hret hR hL ⟨⟨⟨_, hF_a_w_13⟩, by have := hB.le; omega, fun q_ => absurd (List.length_eq_zero_iff.mp (by omega)) q_⟩, hU⟩ (by omega) (by omega) rfl rfl dJ3_init_2_64
  ·
    refine lv_aload_n hx hb dJ3_init_2_21 rfl (lv_at hl 2 rfl) ?_
    refine h_getCF (xi := ⟨"java/util/Collection", "getClass", "()Ljava/lang/Class;"⟩) X hR hl.1 hP_b_w_11.c hmi (by decide) (by decide) rfl rfl q1295 q1297 q1296 q720 q689 q1299 q1300 q1288 q727 ⟨by decide, Nat.le_of_ble_eq_true rfl⟩ dJ3_init_2_22 ?_
    refine h_ldcM X hmi q1301 dJ3_init_2_27 ?_
    refine lv_acmp_ne (rx := (some mi)) (ry := (some mi)) (tgt := 40) hx hb dJ3_init_2_29 (by decide) (fun z_ => absurd rfl z_) (fun _ => ?_)
    refine lv_aload_n hx hb dJ3_init_2_32 rfl (lv_at hl 1 rfl) ?_
    refine lv_aload_n hx hb dJ3_init_2_33 rfl (lv_at hl 0 rfl) ?_
    refine h_put X hR hL hF_a_w_11 hr rfl in_J3 tyJ3_ok nmJ3 1 (by decide) q535 rfl rfl rfl (Nat.le_of_ble_eq_true rfl) dJ3_init_2_34 (fun w_16 ew_17 H locs hR hL => ?_)
    have hU : Up (fun q_ => q_ = r) w w_16 := by rw [ew_17]; exact hU.set hF_a_w_11 (by first | exact Or.inl rfl | exact Or.inl (by omega) | exact Or.inr ⟨Nat.succ_ne_zero _, by rw [Nat.add_sub_cancel]; assumption⟩ | exact Or.inr ⟨by omega, by assumption⟩) hG _
    have hF_a_w_16 : w_16 a = some (r, oE 21 [.int (iI (0)), .ref arr, .int (iI (((L.length : Nat) : Int)))]) := by rw [ew_17]; exact wset_eq _ _ _
    have hP_b_w_16 := hP_b_w_11.mv (w1 := w_16) (S := fun q_ => q_ = r) (by rw [ew_17]; exact Fr.one hF_a_w_11 _) (by first | exact id | (intro q_; (try dsimp only at q_); omega))
    have hF_arr_w_16 : w_16 arr = some (arr + 1, rE G 4 L.length g_9) := by rw [ew_17]; exact (wset_ne _ (by first | exact ne_arr_a | exact Ne.symm ne_a_arr | exact w_neR hF_arr_w_11 hF_a_w_11 (by omega) | exact w_ne hF_arr_w_11 hF_a_w_11 (by intro h; cases h))).trans hF_arr_w_11
    have hR := hR.retag (r) hF_arr_w_16 (Nat.succ_ne_zero _)
    obtain ⟨w_18, ew_19⟩ : ∃ w_ : Wd, w_ = wset w_16 arr (r, rE G 4 L.length g_9) := ⟨_, rfl⟩
    rw [← ew_19] at hR
    have hU : Up (fun q_ => q_ = r) w w_18 := by rw [ew_19]; exact hU.tag hF_arr_w_16 hn_arr (Or.inr (hU.2.2.1.ofs hF_a_w_16 hr))
    have hF_arr_w_18 : w_18 arr = some (r, rE G 4 L.length g_9) := by rw [ew_19]; exact wset_eq _ _ _
    have hF_a_w_18 : w_18 a = some (r, oE 21 [.int (iI (0)), .ref arr, .int (iI (((L.length : Nat) : Int)))]) := by rw [ew_19]; exact (wset_ne _ (by first | exact ne_a_arr | exact Ne.symm ne_arr_a | exact w_neR hF_a_w_16 hF_arr_w_16 (by omega) | exact w_ne hF_a_w_16 hF_arr_w_16 (by intro h; cases h))).trans hF_a_w_16
    have hP_b_w_18 := hP_b_w_16.mv (w1 := w_18) (S := fun q_ => q_ = arr + 1) (by rw [ew_19]; exact Fr.one hF_arr_w_16 _) (by first | exact id | (intro q_; (try dsimp only at q_); omega))
    refine lv_goto (tgt := 64) hx hb dJ3_init_2_37 (by decide) ?_
    have hLs : LsAt G w_18 r a L.length 0 L := ⟨arr, _, hF_a_w_18, hF_arr_w_18, Nat.le_refl _, by have := hB.le; omega, hg_10⟩
    exact h_vreturn hx hb hlk hret hR hL ⟨hLs.z, hU⟩ (by omega) (by omega) rfl rfl dJ3_init_2_64
