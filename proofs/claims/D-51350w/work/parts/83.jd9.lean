/-! JDK: StringBuilder.toString; numbers written -/
set_option maxRecDepth 100000
/-- a String that is its maker's own yet -/
def StrN (G : Gl) (w : Wd) (s : Nat) (C : List Int) : Prop := ∃ va : Nat, w s = some (s + 1, sE va (iI (sH C))) ∧ w va = some (0, iE G 1 C.length (fun j => C.getD j 0)) ∧ C.length < 1000000 ∧ ∀ x ∈ C, 0 ≤ x ∧ x < 128
theorem StrN.mv {G : Gl} {w w1 : Wd} {s : Nat} {C : List Int} {S : Nat → Prop} (h : StrN G w s C) (hF : Fr S w w1) (h0 : ¬ S 0) (h1 : ¬ S (s + 1)) : StrN G w1 s C := by
  obtain ⟨va, h2, h3, h4⟩ := h
  exact ⟨va, hF _ _ _ h2 h1, hF _ _ _ h3 h0, h4⟩
theorem fit_B {G : Gl} {n : Nat} {f : Nat → Int} (h : ∀ i, i < n → -128 ≤ f i ∧ f i < 128) : ∀ (i : Nat) (v : Value), (vp_cell (gA G 1) (n, .inl (fun j => iI (f j)))).slots[i]? = some v → fits .byte v = true := by
  intro i v hv
  have hsz : (vp_cell (gA G 1) (n, .inl (fun j => iI (f j)))).slots.size = n := arrV_size _ _ _
  have hi : i < n := by
    have := (Array.getElem?_eq_some_iff.mp hv).1
    omega
  have h1 : (arrV (gA G 1) n (fun j => .int (iI (f j)))).slots[i]? = some v := hv
  rw [arrV_read _ _ hi] at h1
  cases h1
  have := h i hi
  show (decide (iI (-128) ≤ iI (f i)) && decide (iI (f i) ≤ iI 127)) = true
  rw [Bool.and_eq_true, decide_eq_true_iff, decide_eq_true_iff, iI_le ⟨by decide, by decide⟩ ⟨by omega, by omega⟩, iI_le ⟨by omega, by omega⟩ ⟨by decide, by decide⟩]
  omega
theorem entB {G : Gl} {a n m : Nat} {f g : Nat → Int} {H : Heap} (h : entO G a (iE G 1 n f) H) (hn : n = m) (hfg : ∀ i, i < n → f i = g i) : entO G a (iE G 1 m g) H := by
  subst hn
  have h0 : H[a]? = some (vp_cell (gA G 1) (n, .inl (fun j => iI (f j)))) := h
  show H[a]? = some (vp_cell (gA G 1) (n, .inl (fun j => iI (g j))))
  rw [h0]
  congr 1
  show arrV (gA G 1) n (fun j => .int (iI (f j))) = arrV (gA G 1) n (fun j => .int (iI (g j)))
  have e : ∀ i, i < n → (fun j => Value.int (iI (f j))) i = (fun j => Value.int (iI (g j))) i := fun i hi => by show Value.int (iI (f i)) = _; rw [hfg i hi]
  have es : (arrV (gA G 1) n (fun j => .int (iI (f j)))).slots = (arrV (gA G 1) n (fun j => .int (iI (g j)))).slots := by
    apply Array.ext_getElem?
    intro i
    by_cases hi : i < n
    · rw [arrV_read _ _ hi, arrV_read _ _ hi]; exact congrArg some (e i hi)
    · rw [Array.getElem?_eq_none (by rw [arrV_size]; omega), Array.getElem?_eq_none (by rw [arrV_size]; omega)]
  have hcell : ∀ (h1 h2 : Nat → Value), (arrV (gA G 1) n h1).slots = (arrV (gA G 1) n h2).slots → arrV (gA G 1) n h1 = arrV (gA G 1) n h2 := fun h1 h2 q => by
    unfold arrV at q ⊢
    simp only at q
    rw [q]
  exact hcell _ _ es

theorem pn_yJ8_getValue : ParN yJ8_getValue 0 := by decide +kernel
theorem pn_yJ10_init_2 : ParN yJ10_init_2 2 := by decide +kernel
theorem pn_yJ10_init : ParN yJ10_init 1 := by decide +kernel
theorem pn_yJ9_length : ParN yJ9_length 0 := by decide +kernel
theorem pn_yJ14_checkLength : ParN yJ14_checkLength 2 := by decide +kernel
theorem pn_yJ14_copyOfRange : ParN yJ14_copyOfRange 3 := by decide +kernel
theorem pn_yJ14_copyOfRangeByte : ParN yJ14_copyOfRangeByte 3 := by decide +kernel

set_option maxHeartbeats 4000000 in
set_option maxRecDepth 100000 in
/-- Arrays.checkLength -/
theorem ar_cl (l : Launch) (G : Gl) (w : Wd) (x y : Int) (hxy : x ≤ y) (h1 : R32 x) (h2 : R32 y) : HM l yJ14_checkLength cJ14_checkLength 2 none 1 0 0 G [.int (iI (x)), .int (iI (y))] w (QV G (fun w_ => w_ = w)) := by
  refine HM.mk (by decide +kernel) (Nat.le_of_ble_eq_true rfl) ?_
  intro p9 e9 s9 m9 a9 b9 meth9 c9 ls X hret hlk hnm hl H hR
  have hx := X.1.1
  have hb := X.1.2.1
  have hl : lv_has ls 2 [(0, .int (iI (x))), (1, .int (iI (y)))] := hl
  have hL : LK G [] := fun q h => absurd h List.not_mem_nil
  generalize ([] : List Loc) = locs at hL ⊢
  refine lv_iload_n hx hb dJ14_checkLength_0 rfl (lv_at hl 1 rfl) ?_
  refine lv_iload_n hx hb dJ14_checkLength_1 rfl (lv_at hl 0 rfl) ?_
  refine h_icmp_ge hx hb 37 dJ14_checkLength_2 (by decide) h2 h1 (fun c_l => ?_) (fun c_l => ?_)
  ·
    exact h_vreturn hx hb hlk hret hR hL (by rfl) (by omega) (by omega) rfl rfl dJ14_checkLength_37
  ·
    exact absurd hxy c_l

set_option maxHeartbeats 4000000 in
set_option maxRecDepth 100000 in
/-- Arrays.copyOfRangeByte -/
theorem ar_crb (l : Launch) (G : Gl) (w : Wd) (ra arr cap n : Nat) (f : Nat → Int) (h2 : w arr = some (ra, iE G 1 cap f)) (hn : n ≤ cap) (hc : cap < 100000) (hf : ∀ i, i < cap → -128 ≤ f i ∧ f i < 128) (hG : RegW w) : HM l yJ14_copyOfRangeByte cJ14_copyOfRangeByte 5 (some (.array .byte)) 2 1 n G [.ref arr, .int (iI (0)), .int (iI ((n : Int)))] w (QR G (fun z_ w_ => w z_ = none ∧ (∃ g : Nat → Int, w_ z_ = some (z_ + 1, iE G 1 n g) ∧ ∀ i, i < n → g i = f i) ∧ Up (fun _ => False) w w_)) := by
  refine HM.mk (by decide +kernel) (Nat.le_of_ble_eq_true rfl) ?_
  intro p9 e9 s9 m9 a9 b9 meth9 c9 ls X hret hlk hnm hl H hR
  have hx := X.1.1
  have hb := X.1.2.1
  have hl : lv_has ls 5 [(0, .ref arr), (1, .int (iI (0))), (2, .int (iI ((n : Int))))] := hl
  have hL : LK G [] := fun q h => absurd h List.not_mem_nil
  generalize ([] : List Loc) = locs at hL ⊢
  have hU : Up (fun _ => False) w w := Up.rf hG
  refine lv_iload_n hx hb dJ14_copyOfRangeByte_0 rfl (lv_at hl 1 rfl) ?_
  refine lv_iload_n hx hb dJ14_copyOfRangeByte_1 rfl (lv_at hl 2 rfl) ?_
  -- call java/util/Arrays.checkLength
  refine h_kVp (h_runS X hR (ar_cl l G w 0 ((n : Int)) (by omega) (by omega) (by omega)) pn_yJ14_checkLength q473 q474 q136 q475 ⟨by decide, by decide⟩ hl.1 (Nat.le_of_ble_eq_true rfl) dJ14_copyOfRangeByte_2 ⟨by omega, by omega⟩) hL (fun H locs hR hL => ?_)
  refine lv_iload_n hx hb dJ14_copyOfRangeByte_5 rfl (lv_at hl 2 rfl) ?_
  refine lv_iload_n hx hb dJ14_copyOfRangeByte_6 rfl (lv_at hl 1 rfl) ?_
  refine h_isub hx hb dJ14_copyOfRangeByte_7 ?_
  refine W.eq (g2 := F0 m9 8 ls [.int (iI ((n : Int)))]) (congrArg (fun z_ : Int => F0 m9 8 ls [.int (iI (z_))]) (show (((n : Int)) - 0 : Int) = (n : Int) from (by omega))) ?_
  refine lv_istore_n (lv' := [(3, .int (iI ((n : Int)))), (0, .ref arr), (1, .int (iI (0))), (2, .int (iI ((n : Int))))]) hx hb dJ14_copyOfRangeByte_8 rfl hl (by decide) rfl (fun ls hl => ?_)
  refine lv_iload_n hx hb dJ14_copyOfRangeByte_9 rfl (lv_at hl 0 rfl) ?_
  refine h_newI (atype := .byte) X hR 1 (fun q => q + 1) rfl (fun C h => by cases h) rfl q203 n rfl (by omega) (by omega) (by omega) (by decide) dJ14_copyOfRangeByte_10 (fun q hq w_4 ew_5 H hR => ?_)
  have hn_q : w q = none := hU.2.1 _ hq
  have hU : Up (fun _ => False) w w_4 := by rw [ew_5]; exact hU.new hq (by first | exact Or.inr (Or.inl rfl) | exact Or.inl rfl | exact Or.inr (Or.inr (by assumption)))
  have hF_q_w_4 : w_4 q = some (q + 1, iE G 1 n (fun _ => 0)) := by rw [ew_5]; exact wset_eq _ _ _
  have ne_arr_q : arr ≠ q := w_neN h2 hq
  have hF_arr_w_4 : w_4 arr = some (ra, iE G 1 cap f) := by rw [ew_5]; exact (wset_ne _ (w_neN h2 hq)).trans h2
  refine lv_astore (lv' := [(4, .ref q), (3, .int (iI ((n : Int)))), (0, .ref arr), (1, .int (iI (0))), (2, .int (iI ((n : Int))))]) hx hb dJ14_copyOfRangeByte_12 hl (by decide) rfl (fun ls hl => ?_)
  refine lv_aload_n hx hb dJ14_copyOfRangeByte_14 rfl (lv_at hl 2 rfl) ?_
  refine lv_iload_n hx hb dJ14_copyOfRangeByte_15 rfl (lv_at hl 3 rfl) ?_
  refine lv_aload hx hb dJ14_copyOfRangeByte_16 (lv_at hl 0 rfl) ?_
  refine h_iconst hx hb dJ14_copyOfRangeByte_18 ?_
  refine lv_aload_n hx hb dJ14_copyOfRangeByte_19 rfl (lv_at hl 2 rfl) ?_
  refine h_alenI X hR hF_arr_w_4 rfl dJ14_copyOfRangeByte_20 ?_
  refine lv_iload_n hx hb dJ14_copyOfRangeByte_21 rfl (lv_at hl 3 rfl) ?_
  refine h_isub hx hb dJ14_copyOfRangeByte_22 ?_
  refine W.eq (g2 := F0 m9 23 ls [.int (iI ((cap : Int))), .int (iI (0)), .ref q, .int (iI (0)), .ref arr]) (congrArg (fun z_ : Int => F0 m9 23 ls [.int (iI (z_)), .int (iI (0)), .ref q, .int (iI (0)), .ref arr]) (show ((((cap : Nat) : Int)) - 0 : Int) = (cap : Int) from (by omega))) ?_
  refine lv_iload_n hx hb dJ14_copyOfRangeByte_23 rfl (lv_at hl 1 rfl) ?_
  refine h_mmin X hl.1 ⟨by omega, by omega⟩ ⟨by omega, by omega⟩ q335 q336 q135 q337 ⟨by decide, Nat.le_of_ble_eq_true rfl⟩ (by omega) (by omega) dJ14_copyOfRangeByte_24 ?_
  refine W.eq (g2 := F0 m9 27 ls [.int (iI ((n : Int))), .int (iI (0)), .ref q, .int (iI (0)), .ref arr]) (congrArg (fun z_ : Int => F0 m9 27 ls [.int (iI (z_)), .int (iI (0)), .ref q, .int (iI (0)), .ref arr]) (show (if (cap : Int) ≤ (n : Int) then (cap : Int) else (n : Int) : Int) = (n : Int) from (by split <;> omega))) ?_
  refine h_copyB X hR hL hl.1 hF_arr_w_4 hF_q_w_4 (by omega) q338 (by intro x_ h_; simp only [acW, List.mem_cons, List.not_mem_nil, or_false] at h_; rcases h_ with h_ | h_ | h_ <;> subst h_; exact q340; exact q339; exact q137) ⟨by omega, by omega, by omega⟩ (by omega) (by omega) ⟨by omega, by omega⟩ (fun j_ hj_ => by rw [show ((0 : Int)).toNat + j_ = j_ by omega]; exact hf j_ (by omega)) ⟨by decide, Nat.le_of_ble_eq_true rfl⟩ dJ14_copyOfRangeByte_27 (fun w_6 ew_7 H locs hR hL => ?_)
  have hU : Up (fun _ => False) w w_6 := by rw [ew_7]; exact hU.set hF_q_w_4 (by first | exact Or.inl rfl | exact Or.inl (by omega) | exact Or.inr ⟨Nat.succ_ne_zero _, by rw [Nat.add_sub_cancel]; assumption⟩ | exact Or.inr ⟨by omega, by assumption⟩) hG _
  have hF_q_w_6 : w_6 q = some (q + 1, iE G 1 n (cpA f (fun _ => 0) 0 0 n)) := by rw [ew_7]; exact wset_eq _ _ _
  have hF_arr_w_6 : w_6 arr = some (ra, iE G 1 cap f) := by rw [ew_7]; exact (wset_ne _ (by first | exact ne_arr_q | exact Ne.symm ne_q_arr | exact w_neR hF_arr_w_4 hF_q_w_4 (by omega) | exact w_ne hF_arr_w_4 hF_q_w_4 (by intro h; cases h))).trans hF_arr_w_4
  refine lv_aload hx hb dJ14_copyOfRangeByte_30 (lv_at hl 0 rfl) ?_
  exact h_areturn hx hb hlk hret (by first | exact Or.inl ⟨_, rfl⟩ | exact Or.inr ⟨_, rfl⟩) hR hL ⟨hn_q, ⟨_, hF_q_w_6, fun i_ hi_ => cpB_at hi_⟩, hU⟩ (by omega) (by omega) rfl rfl dJ14_copyOfRangeByte_32

set_option maxHeartbeats 4000000 in
set_option maxRecDepth 100000 in
/-- Arrays.copyOfRange -/
theorem ar_cr (l : Launch) (G : Gl) (w : Wd) (ra arr cap n : Nat) (f : Nat → Int) (h2 : w arr = some (ra, iE G 1 cap f)) (hn : n ≤ cap) (hc : cap < 100000) (hf : ∀ i, i < cap → -128 ≤ f i ∧ f i < 128) (hG : RegW w) : HM l yJ14_copyOfRange cJ14_copyOfRange 3 (some (.array .byte)) 3 1 n G [.ref arr, .int (iI (0)), .int (iI ((n : Int)))] w (QR G (fun z_ w_ => w z_ = none ∧ (∃ g : Nat → Int, w_ z_ = some (z_ + 1, iE G 1 n g) ∧ ∀ i, i < n → g i = f i) ∧ Up (fun _ => False) w w_)) := by
  refine HM.mk (by decide +kernel) (Nat.le_of_ble_eq_true rfl) ?_
  intro p9 e9 s9 m9 a9 b9 meth9 c9 ls X hret hlk hnm hl H hR
  have hx := X.1.1
  have hb := X.1.2.1
  have hl : lv_has ls 3 [(0, .ref arr), (1, .int (iI (0))), (2, .int (iI ((n : Int))))] := hl
  have hL : LK G [] := fun q h => absurd h List.not_mem_nil
  generalize ([] : List Loc) = locs at hL ⊢
  have hU : Up (fun _ => False) w w := Up.rf hG
  refine lv_iload_n hx hb dJ14_copyOfRange_0 rfl (lv_at hl 1 rfl) ?_
  refine h_if_ne hx hb 10 dJ14_copyOfRange_1 (by decide) (by decide) (fun z_ => absurd z_ (by decide)) (fun _ => ?_)
  refine lv_iload_n hx hb dJ14_copyOfRange_4 rfl (lv_at hl 2 rfl) ?_
  refine lv_aload_n hx hb dJ14_copyOfRange_5 rfl (lv_at hl 0 rfl) ?_
  refine h_alenI X hR h2 rfl dJ14_copyOfRange_6 ?_
  refine h_icmp_eq hx hb 17 dJ14_copyOfRange_7 (by decide) (by omega) (by omega) (fun c_e => ?_) (fun c_e => ?_)
  ·
    refine lv_aload_n hx hb dJ14_copyOfRange_17 rfl (lv_at hl 0 rfl) ?_
    refine h_clone X hR hl.1 (fun q => q + 1) h2 rfl (arr_nmI X.2 (k := 1) (ty := .byte) rfl (fun C h => by cases h) (nm := "[B") (by decide)) (fit_B hf) q328 q329 q330 q331 q332 q333 ⟨by decide, Nat.le_of_ble_eq_true rfl⟩ (by omega) (by omega) dJ14_copyOfRange_18 (fun q hq w_2 ew_3 H hR => ?_)
    have hn_q : w q = none := hU.2.1 _ hq
    have hU : Up (fun _ => False) w w_2 := by rw [ew_3]; exact hU.new hq (by first | exact Or.inr (Or.inl rfl) | exact Or.inl rfl | exact Or.inr (Or.inr (by assumption)))
    have hF_q_w_2 : w_2 q = some (q + 1, iE G 1 cap f) := by rw [ew_3]; exact wset_eq _ _ _
    have ne_arr_q : arr ≠ q := w_neN h2 hq
    have hF_arr_w_2 : w_2 arr = some (ra, iE G 1 cap f) := by rw [ew_3]; exact (wset_ne _ (w_neN h2 hq)).trans h2
    refine h_castA X hR hF_q_w_2 (arr_nmI X.2 (k := 1) (ty := .byte) rfl (fun C h => by cases h) (nm := "[B") (by decide)) q334 dJ14_copyOfRange_21 ?_
    exact h_areturn hx hb hlk hret (by first | exact Or.inl ⟨_, rfl⟩ | exact Or.inr ⟨_, rfl⟩) hR hL ⟨hn_q, ⟨f, by have e_ : n = cap := (by omega); rw [e_]; exact hF_q_w_2, fun i_ hi_ => rfl⟩, hU⟩ (by omega) (by omega) rfl rfl dJ14_copyOfRange_24
  ·
    refine lv_aload_n hx hb dJ14_copyOfRange_10 rfl (lv_at hl 0 rfl) ?_
    refine lv_iload_n hx hb dJ14_copyOfRange_11 rfl (lv_at hl 1 rfl) ?_
    refine lv_iload_n hx hb dJ14_copyOfRange_12 rfl (lv_at hl 2 rfl) ?_
    -- call java/util/Arrays.copyOfRangeByte
    refine h_kR (h_runS X hR (ar_crb l G w ra arr cap n f h2 (by omega) (by omega) hf hU.2.2.1) pn_yJ14_copyOfRangeByte q470 q471 q136 q472 ⟨by decide, by decide⟩ hl.1 (Nat.le_of_ble_eq_true rfl) dJ14_copyOfRange_13 ⟨by omega, by omega⟩) hL (fun q w_4 hp_5 H locs hR hL => ?_)
    obtain ⟨hz_7, ⟨g_9, hf_8, hg_10⟩, u_6⟩ := hp_5
    have ne_arr_q : arr ≠ q := w_neN h2 hz_7
    have hn_q : w q = none := hU.2.1 _ hz_7
    have hF_arr_w_4 : w_4 arr = some (ra, iE G 1 cap f) := u_6.1 _ _ _ h2 (by first | exact id | (intro q_; (try dsimp only at q_); omega))
    have hU : Up (fun _ => False) w w_4 := hU.tr u_6 (fun q_ h_ => by first | exact absurd h_ id | exact Or.inl h_ | ((try dsimp only at h_); first | exact Or.inl (by omega) | exact Or.inr ⟨by omega, by subst h_; rw [Nat.add_sub_cancel]; assumption⟩)) hG
    exact h_areturn hx hb hlk hret (by first | exact Or.inl ⟨_, rfl⟩ | exact Or.inr ⟨_, rfl⟩) hR hL ⟨hn_q, ⟨_, hf_8, hg_10⟩, hU⟩ (by omega) (by omega) rfl rfl dJ14_copyOfRange_16

set_option maxHeartbeats 4000000 in
set_option maxRecDepth 100000 in
/-- String.<init> -/
theorem s_init2 (l : Launch) (G : Gl) (w : Wd) (s : Nat) (hA : w s = some (s + 1, oE 19 [.null, .int (iI 0), .int (iI 0), .int (iI 0)])) (r b cap : Nat) (C : List Int) (hB : SbAt G w r b cap C) (hr : r ≠ s + 1) (hG : RegW w) : HM l yJ10_init_2 cJ10_init_2 5 none 4 1 C.length G [.ref s, .ref b, .null] w (QV G (fun w_ => StrN G w_ s C ∧ Up (fun q_ => q_ = s + 1) w w_)) := by
  refine HM.mk (by decide +kernel) (Nat.le_of_ble_eq_true rfl) ?_
  intro p9 e9 s9 m9 a9 b9 meth9 c9 ls X hret hlk hnm hl H hR
  have hx := X.1.1
  have hb := X.1.2.1
  have hl : lv_has ls 5 [(0, .ref s), (1, .ref b), (2, .null)] := hl
  have hL : LK G [] := fun q h => absurd h List.not_mem_nil
  generalize ([] : List Loc) = locs at hL ⊢
  have hU : Up (fun q_ => q_ = s + 1) w w := Up.rf hG
  obtain ⟨arr, f, hB1, hB2, hA3, hA4, hA5, hA6, hf⟩ := hB
  refine lv_aload_n hx hb dJ10_init_2_0 rfl (lv_at hl 0 rfl) ?_
  refine W.objInit hx hb X.1.2.2.2.1 (X.1.2.2.2.2 _ q452) (X.1.2.2.2.2 _ q180) (X.1.2.2.2.2 _ q181) rfl (by rw [X.1.2.2.1]; exact hl.1) rfl dJ10_init_2_1 (Nat.le_of_ble_eq_true rfl) (Nat.le_of_ble_eq_true rfl) ?_
  refine W.eq (g2 := F0 m9 4 ls []) rfl ?_
  refine lv_aload_n hx hb dJ10_init_2_4 rfl (lv_at hl 1 rfl) ?_
  -- call java/lang/AbstractStringBuilder.getValue
  refine h_kRp (h_runU (x := ⟨"java/lang/AbstractStringBuilder", "getValue", "()[B"⟩) (owner := "java/lang/AbstractStringBuilder") X hR (sb_val l G w r b arr cap f C.length hB1 hB2 (by omega)) (by decide) pn_yJ8_getValue (hasC.of hB1 rfl) q453 q455 (h_declC X q454 q457) (X.1.2.2.2.2 _ q456) q454 q130 q457 ⟨by decide, by decide⟩ hl.1 (Nat.le_of_ble_eq_true rfl) dJ10_init_2_5 ⟨by omega, by omega⟩) hL (fun H locs hR hL => ?_)
  refine lv_astore_n (lv' := [(3, .ref arr), (0, .ref s), (1, .ref b), (2, .null)]) hx hb dJ10_init_2_8 rfl hl (by decide) rfl (fun ls hl => ?_)
  refine lv_aload_n hx hb dJ10_init_2_9 rfl (lv_at hl 2 rfl) ?_
  -- call java/lang/StringBuilder.length
  refine h_kIp (h_runU (x := ⟨"java/lang/AbstractStringBuilder", "length", "()I"⟩) (owner := "java/lang/AbstractStringBuilder") X hR (sb_len l G w r b arr cap f C.length hB1 hB2 (by omega)) (by decide) pn_yJ8_length (hasC.of hB1 rfl) q458 q460 (h_declC X q459 q465) (X.1.2.2.2.2 _ q461) q462 q131 q463 ⟨by decide, by decide⟩ hl.1 (Nat.le_of_ble_eq_true rfl) dJ10_init_2_10 ⟨by omega, by omega⟩) hL (fun H locs hR hL => ?_)
  refine lv_istore (lv' := [(4, .int (iI ((C.length : Int)))), (3, .ref arr), (0, .ref s), (1, .ref b), (2, .null)]) hx hb dJ10_init_2_13 hl (by decide) rfl (fun ls hl => ?_)
  refine lv_aload_n hx hb dJ10_init_2_15 rfl (lv_at hl 3 rfl) ?_
  -- call java/lang/AbstractStringBuilder.isLatin1
  refine h_kIp (h_runU (x := ⟨"java/lang/AbstractStringBuilder", "isLatin1", "()Z"⟩) (owner := "java/lang/AbstractStringBuilder") X hR (sb_isL l G w r b arr cap f C.length hB1 hB2 (by omega)) (by decide) pn_yJ8_isLatin1 (hasC.of hB1 rfl) q466 q343 (h_declC X q342 q345) (X.1.2.2.2.2 _ q344) q342 q130 q345 ⟨by decide, by decide⟩ hl.1 (Nat.le_of_ble_eq_true rfl) dJ10_init_2_16 ⟨by omega, by omega⟩) hL (fun H locs hR hL => ?_)
  refine h_if_eq hx hb 41 dJ10_init_2_19 (by decide) (by decide) (fun z_ => absurd z_ (by decide)) (fun _ => ?_)
  refine lv_aload_n hx hb dJ10_init_2_22 rfl (lv_at hl 2 rfl) ?_
  refine h_iconst hx hb dJ10_init_2_23 ?_
  refine h_putF X hnm hR hL hA (Nat.succ_ne_zero _) rfl in_J10 tyJ10_ok nmJ10 1 (by decide) q522 rfl rfl rfl rfl (Nat.le_of_ble_eq_true rfl) dJ10_init_2_24 (fun w_11 ew_12 H locs hR hL => ?_)
  have hU : Up (fun q_ => q_ = s + 1) w w_11 := by rw [ew_12]; exact hU.set hA (by first | exact Or.inl rfl | exact Or.inl (by omega) | exact Or.inr ⟨Nat.succ_ne_zero _, by rw [Nat.add_sub_cancel]; assumption⟩ | exact Or.inr ⟨by omega, by assumption⟩) hG _
  have hF_s_w_11 : w_11 s = some (s + 1, oE 19 [.null, .int (iI (0)), .int (iI (0)), .int (iI (0))]) := by rw [ew_12]; exact wset_eq _ _ _
  have hF_b_w_11 : w_11 b = some (r, oE 20 [.ref arr, .int (iI (0)), .int (iI (0)), .int (iI ((C.length : Int)))]) := by rw [ew_12]; exact (wset_ne _ (by first | exact ne_b_s | exact Ne.symm ne_s_b | exact w_neR hB1 hA (by omega) | exact w_ne hB1 hA (by intro h; cases h))).trans hB1
  have hF_arr_w_11 : w_11 arr = some (r, iE G 1 cap f) := by rw [ew_12]; exact (wset_ne _ (by first | exact ne_arr_s | exact Ne.symm ne_s_arr | exact w_neR hB2 hA (by omega) | exact w_ne hB2 hA (by intro h; cases h))).trans hB2
  refine lv_aload_n hx hb dJ10_init_2_27 rfl (lv_at hl 2 rfl) ?_
  refine lv_aload_n hx hb dJ10_init_2_28 rfl (lv_at hl 1 rfl) ?_
  refine h_iconst hx hb dJ10_init_2_29 ?_
  refine lv_iload hx hb dJ10_init_2_30 (lv_at hl 0 rfl) ?_
  -- call java/util/Arrays.copyOfRange
  refine h_kR (h_runS X hR (ar_cr l G w_11 r arr cap C.length f hF_arr_w_11 (by omega) (by omega) hf hU.2.2.1) pn_yJ14_copyOfRange q467 q468 q136 q469 ⟨by decide, by decide⟩ hl.1 (Nat.le_of_ble_eq_true rfl) dJ10_init_2_32 ⟨by omega, by omega⟩) hL (fun q w_13 hp_14 H locs hR hL => ?_)
  obtain ⟨hz_16, ⟨g_18, hf_17, hg_19⟩, u_15⟩ := hp_14
  have ne_s_q : s ≠ q := w_neN hF_s_w_11 hz_16
  have ne_b_q : b ≠ q := w_neN hF_b_w_11 hz_16
  have ne_arr_q : arr ≠ q := w_neN hF_arr_w_11 hz_16
  have hn_q : w q = none := hU.2.1 _ hz_16
  have hF_s_w_13 : w_13 s = some (s + 1, oE 19 [.null, .int (iI (0)), .int (iI (0)), .int (iI (0))]) := u_15.1 _ _ _ hF_s_w_11 (by first | exact id | (intro q_; (try dsimp only at q_); omega))
  have hF_b_w_13 : w_13 b = some (r, oE 20 [.ref arr, .int (iI (0)), .int (iI (0)), .int (iI ((C.length : Int)))]) := u_15.1 _ _ _ hF_b_w_11 (by first | exact id | (intro q_; (try dsimp only at q_); omega))
  have hF_arr_w_13 : w_13 arr = some (r, iE G 1 cap f) := u_15.1 _ _ _ hF_arr_w_11 (by first | exact id | (intro q_; (try dsimp only at q_); omega))
  have hU : Up (fun q_ => q_ = s + 1) w w_13 := hU.tr u_15 (fun q_ h_ => by first | exact absurd h_ id | exact Or.inl h_ | ((try dsimp only at h_); first | exact Or.inl (by omega) | exact Or.inr ⟨by omega, by subst h_; rw [Nat.add_sub_cancel]; assumption⟩)) hG
  refine h_putF X hnm hR hL hF_s_w_13 (Nat.succ_ne_zero _) rfl in_J10 tyJ10_ok nmJ10 0 (by decide) q521 rfl rfl rfl rfl (Nat.le_of_ble_eq_true rfl) dJ10_init_2_35 (fun w_20 ew_21 H locs hR hL => ?_)
  have hU : Up (fun q_ => q_ = s + 1) w w_20 := by rw [ew_21]; exact hU.set hF_s_w_13 (by first | exact Or.inl rfl | exact Or.inl (by omega) | exact Or.inr ⟨Nat.succ_ne_zero _, by rw [Nat.add_sub_cancel]; assumption⟩ | exact Or.inr ⟨by omega, by assumption⟩) hG _
  have hF_s_w_20 : w_20 s = some (s + 1, oE 19 [.ref q, .int (iI (0)), .int (iI (0)), .int (iI (0))]) := by rw [ew_21]; exact wset_eq _ _ _
  have hF_b_w_20 : w_20 b = some (r, oE 20 [.ref arr, .int (iI (0)), .int (iI (0)), .int (iI ((C.length : Int)))]) := by rw [ew_21]; exact (wset_ne _ (by first | exact ne_b_s | exact Ne.symm ne_s_b | exact w_neR hF_b_w_13 hF_s_w_13 (by omega) | exact w_ne hF_b_w_13 hF_s_w_13 (by intro h; cases h))).trans hF_b_w_13
  have hF_arr_w_20 : w_20 arr = some (r, iE G 1 cap f) := by rw [ew_21]; exact (wset_ne _ (by first | exact ne_arr_s | exact Ne.symm ne_s_arr | exact w_neR hF_arr_w_13 hF_s_w_13 (by omega) | exact w_ne hF_arr_w_13 hF_s_w_13 (by intro h; cases h))).trans hF_arr_w_13
  have hF_q_w_20 : w_20 q = some (q + 1, iE G 1 C.length g_18) := by rw [ew_21]; exact (wset_ne _ (by first | exact ne_q_s | exact Ne.symm ne_s_q | exact w_neR hf_17 hF_s_w_13 (by omega) | exact w_ne hf_17 hF_s_w_13 (by intro h; cases h))).trans hf_17
  refine lv_goto (tgt := 97) hx hb dJ10_init_2_38 (by decide) ?_
  have hR := hR.ghost (r1 := 0) (e1 := iE G 1 C.length (fun j => C.getD j 0)) hF_q_w_20 (Nat.succ_ne_zero _) (entB (hR.ex hF_q_w_20 (Nat.succ_ne_zero _)) rfl (fun i_ hi_ => (hg_19 i_ hi_).trans (hA5 i_ hi_)))
  obtain ⟨w_22, ew_23⟩ : ∃ w_ : Wd, w_ = wset w_20 q (0, iE G 1 C.length (fun j => C.getD j 0)) := ⟨_, rfl⟩
  rw [← ew_23] at hR
  have hU : Up (fun q_ => q_ = s + 1) w w_22 := by rw [ew_23]; exact hU.gh hF_q_w_20 hn_q (Or.inl rfl)
  have hF_q_w_22 : w_22 q = some (0, iE G 1 C.length (fun j => C.getD j 0)) := by rw [ew_23]; exact wset_eq _ _ _
  have hF_s_w_22 : w_22 s = some (s + 1, oE 19 [.ref q, .int (iI (0)), .int (iI (0)), .int (iI (0))]) := by rw [ew_23]; exact (wset_ne _ (by first | exact ne_s_q | exact Ne.symm ne_q_s | exact w_neR hF_s_w_20 hF_q_w_20 (by omega) | exact w_ne hF_s_w_20 hF_q_w_20 (by intro h; cases h))).trans hF_s_w_20
  have hR := hR.ghost (r1 := s + 1) (e1 := sE q (iI (sH C))) hF_s_w_22 (Nat.succ_ne_zero _) (entStr hR hF_s_w_22 (Nat.succ_ne_zero _) _)
  obtain ⟨w_24, ew_25⟩ : ∃ w_ : Wd, w_ = wset w_22 s (s + 1, sE q (iI (sH C))) := ⟨_, rfl⟩
  rw [← ew_25] at hR
  have hU : Up (fun q_ => q_ = s + 1) w w_24 := by rw [ew_25]; exact hU.set hF_s_w_22 (Or.inl rfl) hG _
  have hF_s_w_24 : w_24 s = some (s + 1, sE q (iI (sH C))) := by rw [ew_25]; exact wset_eq _ _ _
  have hF_q_w_24 : w_24 q = some (0, iE G 1 C.length (fun j => C.getD j 0)) := by rw [ew_25]; exact (wset_ne _ (by first | exact ne_q_s | exact Ne.symm ne_s_q | exact w_neR hF_q_w_22 hF_s_w_22 (by omega) | exact w_ne hF_q_w_22 hF_s_w_22 (by intro h; cases h))).trans hF_q_w_22
  exact h_vreturn hx hb hlk hret hR hL ⟨⟨q, hF_s_w_24, hF_q_w_24, by omega, hA6⟩, hU⟩ (by omega) (by omega) rfl rfl dJ10_init_2_97

set_option maxHeartbeats 4000000 in
set_option maxRecDepth 100000 in
/-- String.<init> -/
theorem s_init1 (l : Launch) (G : Gl) (w : Wd) (s : Nat) (hA : w s = some (s + 1, oE 19 [.null, .int (iI 0), .int (iI 0), .int (iI 0)])) (r b cap : Nat) (C : List Int) (hB : SbAt G w r b cap C) (hr : r ≠ s + 1) (hG : RegW w) : HM l yJ10_init cJ10_init 2 none 5 1 C.length G [.ref s, .ref b] w (QV G (fun w_ => StrN G w_ s C ∧ Up (fun q_ => q_ = s + 1) w w_)) := by
  refine HM.mk (by decide +kernel) (Nat.le_of_ble_eq_true rfl) ?_
  intro p9 e9 s9 m9 a9 b9 meth9 c9 ls X hret hlk hnm hl H hR
  have hx := X.1.1
  have hb := X.1.2.1
  have hl : lv_has ls 2 [(0, .ref s), (1, .ref b)] := hl
  have hL : LK G [] := fun q h => absurd h List.not_mem_nil
  generalize ([] : List Loc) = locs at hL ⊢
  have hU : Up (fun q_ => q_ = s + 1) w w := Up.rf hG
  refine lv_aload_n hx hb dJ10_init_0 rfl (lv_at hl 0 rfl) ?_
  refine lv_aload_n hx hb dJ10_init_1 rfl (lv_at hl 1 rfl) ?_
  refine lv_null hx hb dJ10_init_2 ?_
  -- call java/lang/String.<init>
  refine h_kV (h_runI X hR (s_init2 l G w s hA r b cap C hB (by omega) hU.2.2.1) pn_yJ10_init_2 rfl q449 q450 q132 q451 ⟨by decide, by decide⟩ hl.1 (Nat.le_of_ble_eq_true rfl) dJ10_init_3 ⟨by omega, by omega⟩) hL (fun w_2 hp_3 H locs hR hL => ?_)
  obtain ⟨hS__5, u_4⟩ := hp_3
  have hP_b_w_2 := hB.mv (u_4.1) (by first | exact id | (intro q_; (try dsimp only at q_); omega))
  have hU : Up (fun q_ => q_ = s + 1) w w_2 := hU.tr u_4 (fun q_ h_ => by first | exact absurd h_ id | exact Or.inl h_ | ((try dsimp only at h_); first | exact Or.inl (by omega) | exact Or.inr ⟨by omega, by subst h_; rw [Nat.add_sub_cancel]; assumption⟩)) hG
  exact h_vreturn hx hb hlk hret hR hL ⟨hS__5, hU⟩ (by omega) (by omega) rfl rfl dJ10_init_6

set_option maxHeartbeats 4000000 in
set_option maxRecDepth 100000 in
/-- StringBuilder.toString -/
theorem sbb_str (l : Launch) (G : Gl) (w : Wd) (b cap : Nat) (C : List Int) (hB : SbAt G w (b + 1) b cap C) (hG : RegW w) : HM l yJ9_toString cJ9_toString 1 (some (.object "java/lang/String")) 6 2 ((4 + C.length)) G [.ref b] w (QR G (fun z_ w_ => w z_ = none ∧ StrAt G w_ z_ C ∧ Up (fun _ => False) w w_)) := by
  refine HM.mk (by decide +kernel) (Nat.le_of_ble_eq_true rfl) ?_
  intro p9 e9 s9 m9 a9 b9 meth9 c9 ls X hret hlk hnm hl H hR
  have hx := X.1.1
  have hb := X.1.2.1
  have hl : lv_has ls 1 [(0, .ref b)] := hl
  have hL : LK G [] := fun q h => absurd h List.not_mem_nil
  generalize ([] : List Loc) = locs at hL ⊢
  have hU : Up (fun _ => False) w w := Up.rf hG
  refine h_new X hR (ci := 19) (fun q => q + 1) rfl in_J10 tyJ10_ok q444 q445 q132 [.null, .int (iI (0)), .int (iI (0)), .int (iI (0))] (by intro j hj; rcases (show j = 0 ∨ j = 1 ∨ j = 2 ∨ j = 3 by omega) with rfl | rfl | rfl | rfl <;> rfl) (by omega) (by omega) dJ9_toString_0 (fun s hs w_1 ew_2 H hR => ?_)
  have hn_s : w s = none := hU.2.1 _ hs
  have hU : Up (fun _ => False) w w_1 := by rw [ew_2]; exact hU.new hs (by first | exact Or.inr (Or.inl rfl) | exact Or.inl rfl | exact Or.inr (Or.inr (by assumption)))
  have hF_s_w_1 : w_1 s = some (s + 1, oE 19 [.null, .int (iI (0)), .int (iI (0)), .int (iI (0))]) := by rw [ew_2]; exact wset_eq _ _ _
  have ne_b_s : b ≠ s := sm_ne hB.sm hs
  have hP_b_w_1 := hB.mv (w1 := w_1) (S := fun _ => False) (by rw [ew_2]; exact Fr.add hs _) id
  refine lv_dup hx hb dJ9_toString_3 rfl ?_
  refine lv_aload_n hx hb dJ9_toString_4 rfl (lv_at hl 0 rfl) ?_
  -- call java/lang/String.<init>
  refine h_kV (h_runI X hR (s_init1 l G w_1 s hF_s_w_1 (b + 1) b cap C hP_b_w_1 (by omega) hU.2.2.1) pn_yJ10_init rfl q446 q447 q132 q448 ⟨by decide, by decide⟩ hl.1 (Nat.le_of_ble_eq_true rfl) dJ9_toString_5 ⟨by omega, by omega⟩) hL (fun w_4 hp_5 H locs hR hL => ?_)
  obtain ⟨hS__7, u_6⟩ := hp_5
  have hP_b_w_4 := hP_b_w_1.mv (u_6.1) (by first | exact id | (intro q_; (try dsimp only at q_); omega))
  have hU : Up (fun _ => False) w w_4 := hU.tr u_6 (fun q_ h_ => by first | exact absurd h_ id | exact Or.inl h_ | ((try dsimp only at h_); first | exact Or.inl (by omega) | exact Or.inr ⟨by omega, by subst h_; rw [Nat.add_sub_cancel]; assumption⟩)) hG
  obtain ⟨va, hv1, hv2, hv4⟩ := hS__7
  have hR := hR.retag (0) hv1 (Nat.succ_ne_zero _)
  obtain ⟨w_8, ew_9⟩ : ∃ w_ : Wd, w_ = wset w_4 s (0, sE va (iI (sH C))) := ⟨_, rfl⟩
  rw [← ew_9] at hR
  have hU : Up (fun _ => False) w w_8 := by rw [ew_9]; exact hU.tag hv1 hn_s (Or.inl rfl)
  have hF_s_w_8 : w_8 s = some (0, sE va (iI (sH C))) := by rw [ew_9]; exact wset_eq _ _ _
  have hF_va_w_8 : w_8 va = some (0, iE G 1 C.length (fun j => C.getD j 0)) := by rw [ew_9]; exact (wset_ne _ (by first | exact ne_va_s | exact Ne.symm ne_s_va | exact w_neR hv2 hv1 (by omega) | exact w_ne hv2 hv1 (by intro h; cases h))).trans hv2
  exact h_areturn hx hb hlk hret (by first | exact Or.inl ⟨_, rfl⟩ | exact Or.inr ⟨_, rfl⟩) hR hL ⟨hn_s, ⟨va, hF_s_w_8, hF_va_w_8, hv4⟩, hU⟩ (by omega) (by omega) rfl rfl dJ9_toString_8
