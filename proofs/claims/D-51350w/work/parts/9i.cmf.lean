/-! the component: text exceptions; tokens -/
set_option maxRecDepth 100000
abbrev txE (p c : Int) : Ent := oE 11 [.null, .null, .null, .null, .null, .int (iI 0), .int (iI p), .int (iI c)]
/-- a text exception thrown: what it says, and what else was changed -/
def TxE (S : Nat → Prop) (w : Wd) (p : Nat) (c : Int) : Nat → String → Wd → Prop := fun q E w1 => E = "SpokenMarks$TextException" ∧ w q = none ∧ w1 q = some (q + 1, txE (p : Int) c) ∧ Up S w w1
theorem b8_b {x : Int} (h : 0 ≤ x ∧ x ≤ 255) : (x ≤ 127 → b8 x = x) ∧ (128 ≤ x → b8 x < 0) := by unfold b8; omega
/-- the bytes of a text, in the buffer -/
def BufAt (G : Gl) (w : Wd) (bf rb : Nat) (T : List Int) : Prop := ∃ fb : Nat → Int, w bf = some (rb, iE G 1 800 fb) ∧ TxW T ∧ ∀ k, k < T.length → fb k = b8 (T.getD k 0)
theorem BufAt.mv {G : Gl} {w w1 : Wd} {bf rb : Nat} {T : List Int} {S : Nat → Prop} (h : BufAt G w bf rb T) (hF : Fr S w w1) (h0 : ¬ S rb) : BufAt G w1 bf rb T := by
  obtain ⟨fb, h1, h2⟩ := h
  exact ⟨fb, hF _ _ _ h1 h0, h2⟩
theorem BufAt.sm {G : Gl} {w : Wd} {bf rb : Nat} {T : List Int} (h : BufAt G w bf rb T) : ∃ y, w bf = some y := by
  obtain ⟨fb, h1, h2⟩ := h
  exact ⟨_, h1⟩
theorem BufAt.nr {G : Gl} {w : Wd} {bf rb a : Nat} {T : List Int} (h : BufAt G w bf rb T) (hG : RegW w) (hn : w a = none) : rb ≠ a + 1 := fun q => by
  obtain ⟨fb, h1, -⟩ := h
  have := hG bf rb _ h1 (by omega)
  rw [q, Nat.add_sub_cancel] at this
  exact this hn
/-- the letters from b to k, 9 at most -/
def lw (T : List Int) (b k : Nat) : List Int := ((List.range (k - b)).map (fun j => bat T (b + j))).take 9
def scW (T : List Int) (s : Sc) : List Int := if scK s = 1 then lw T (scB s) (scA s) else []
theorem lw_len (T : List Int) (b k : Nat) : (lw T b k).length = min 9 (k - b) := by unfold lw; rw [List.length_take, List.length_map, List.length_range]
theorem lw_0 (T : List Int) (b : Nat) : lw T b b = [] := by unfold lw; rw [Nat.sub_self]; rfl
theorem lw_y {T : List Int} {b k : Nat} (hb : b ≤ k) (h : (lw T b k).length ≤ 8) : lw T b (k + 1) = lw T b k ++ [bat T k] := by
  rw [lw_len] at h
  unfold lw
  rw [show k + 1 - b = (k - b) + 1 by omega, List.range_succ, List.map_append, List.take_of_length_le (by rw [List.length_append, List.length_map, List.length_map, List.length_range, List.length_singleton]; omega), List.take_of_length_le (by rw [List.length_map, List.length_range]; omega)]
  simp only [List.map_cons, List.map_nil]
  rw [show b + (k - b) = k by omega]
theorem lw_n {T : List Int} {b k : Nat} (hb : b ≤ k) (h : ¬ (lw T b k).length ≤ 8) : lw T b (k + 1) = lw T b k := by
  rw [lw_len] at h
  unfold lw
  rw [show k + 1 - b = (k - b) + 1 by omega, List.range_succ, List.map_append, List.take_append_of_le_length (by rw [List.length_map, List.length_range]; omega)]
theorem nmF_s {T : List Int} {b k : Nat} (hb : b ≤ k) : nmF T b (k + 1 - b) = min 1000000 (10 * nmF T b (k - b) + bat T k - 48) := by
  rw [show k + 1 - b = (k - b) + 1 by omega]
  show min 1000000 (10 * nmF T b (k - b) + bat T (b + (k - b)) - 48) = _
  rw [show b + (k - b) = k by omega]
theorem nmF_0 (T : List Int) (b : Nat) : nmF T b (b - b) = 0 := by rw [Nat.sub_self]; rfl
/-- a scanner at a token -/
def TkAt (G : Gl) (w : Wd) (ci : Nat) (ex : List Value) (q bf : Nat) (T : List Int) (s : Sc) : Prop := ∃ (va : Int) (wa : Nat), w q = some (q + 1, oE ci (.ref bf :: .int (iI (T.length : Int)) :: .int (iI (scB s : Int)) :: .int (iI (scA s : Int)) :: .int (iI va) :: .int (iI (scK s)) :: .ref wa :: ex)) ∧ StrAt G w wa (scW T s) ∧ R32 va ∧ (scK s = 2 → va = scV s)
theorem TkAt.mv {G : Gl} {w w1 : Wd} {ci : Nat} {ex : List Value} {q bf : Nat} {T : List Int} {s : Sc} {S : Nat → Prop} (h : TkAt G w ci ex q bf T s) (hF : Fr S w w1) (h0 : ¬ S (q + 1) ∧ ¬ S 0) : TkAt G w1 ci ex q bf T s := by
  obtain ⟨va, wa, h1, h2, h3⟩ := h
  exact ⟨va, wa, hF _ _ _ h1 h0.1, h2.mv hF h0.2, h3⟩
theorem TkAt.sm {G : Gl} {w : Wd} {ci : Nat} {ex : List Value} {q bf : Nat} {T : List Int} {s : Sc} (h : TkAt G w ci ex q bf T s) : ∃ y, w q = some y := by
  obtain ⟨va, wa, h1, -⟩ := h
  exact ⟨_, h1⟩
theorem TkAt.c {G : Gl} {w : Wd} {ci : Nat} {ex : List Value} {q bf : Nat} {T : List Int} {s : Sc} (h : TkAt G w ci ex q bf T s) {C : String} (hc : entC (oE ci []) = some C) : hasC w q C := by
  obtain ⟨va, wa, h1, -⟩ := h
  exact hasC.of h1 hc
theorem sb_lenS (l : Launch) (G : Gl) (w : Wd) (r a cap : Nat) (C : List Int) (hA : SbAt G w r a cap C) : HM l yJ9_length cJ9_length 1 (some .int) 2 0 0 G [.ref a] w (QI G (fun z_ w_ => z_ = (C.length : Int) ∧ w_ = w)) := by
  obtain ⟨arr, f, h1, h2, h3, h4, h5⟩ := hA
  exact sb_len l G w r a arr cap f C.length h1 h2 h4

theorem pn_yX11_digits : ParN yX11_digits 0 := by decide +kernel
theorem pn_yX11_isBetween : ParN yX11_isBetween 3 := by decide +kernel
theorem pn_yX11_letters : ParN yX11_letters 0 := by decide +kernel
theorem pn_yJ5_init_3 : ParN yJ5_init_3 4 := by decide +kernel
theorem pn_yJ9_init : ParN yJ9_init 0 := by decide +kernel
theorem pn_yJ4_init_3 : ParN yJ4_init_3 4 := by decide +kernel

set_option maxHeartbeats 4000000 in
set_option maxRecDepth 100000 in
/-- Throwable.<init> -/
theorem th_init (l : Launch) (G : Gl) (w : Wd) (q : Nat) (hA : w q = some (q + 1, oE 11 [.null, .null, .null, .null, .null, .int (iI (0)), .int (iI (0)), .int (iI (0))])) (hG : RegW w) : HM l yJ4_init_3 cJ4_init_3 5 none 1 0 0 G [.ref q, .null, .null, .int (iI (0)), .int (iI (0))] w (QV G (fun w_ => w_ q = some (q + 1, oE 11 [.null, .null, .null, .null, .null, .int (iI (0)), .int (iI (0)), .int (iI (0))]) ∧ Up (fun q_ => q_ = q + 1) w w_)) := by
  refine HM.mk (by decide +kernel) (Nat.le_of_ble_eq_true rfl) ?_
  intro p9 e9 s9 m9 a9 b9 meth9 c9 ls X hret hlk hnm hl H hR
  have hx := X.1.1
  have hb := X.1.2.1
  have hl : lv_has ls 5 [(0, .ref q), (1, .null), (2, .null), (3, .int (iI (0))), (4, .int (iI (0)))] := hl
  have hL : LK G [] := fun q h => absurd h List.not_mem_nil
  generalize ([] : List Loc) = locs at hL ⊢
  have hU : Up (fun q_ => q_ = q + 1) w w := Up.rf hG
  refine lv_aload_n hx hb dJ4_init_3_0 rfl (lv_at hl 0 rfl) ?_
  refine W.objInit hx hb X.1.2.2.2.1 (X.1.2.2.2.2 _ q247) (X.1.2.2.2.2 _ q180) (X.1.2.2.2.2 _ q181) rfl (by rw [X.1.2.2.1]; exact hl.1) rfl dJ4_init_3_1 (Nat.le_of_ble_eq_true rfl) (Nat.le_of_ble_eq_true rfl) ?_
  refine W.eq (g2 := F0 m9 4 ls []) rfl ?_
  refine lv_aload_n hx hb dJ4_init_3_4 rfl (lv_at hl 0 rfl) ?_
  refine lv_aload_n hx hb dJ4_init_3_5 rfl (lv_at hl 0 rfl) ?_
  refine h_put X hR hL hA (Nat.succ_ne_zero _) rfl in_X13 tyX13_ok nmX13 0 (by decide) q497 rfl rfl rfl (Nat.le_of_ble_eq_true rfl) dJ4_init_3_6 (fun w_1 ew_2 H locs hR hL => ?_)
  have hU : Up (fun q_ => q_ = q + 1) w w_1 := by rw [ew_2]; exact hU.set hA (by first | exact Or.inl rfl | exact Or.inl (Or.inl rfl) | exact Or.inl (Or.inr rfl) | exact Or.inl (Or.inr (Or.inl rfl)) | exact Or.inl (Or.inr (Or.inr rfl)) | exact Or.inr ⟨Nat.succ_ne_zero _, by rw [Nat.add_sub_cancel]; assumption⟩ | exact Or.inr ⟨by omega, by assumption⟩) hG _
  have hF_q_w_1 : w_1 q = some (q + 1, oE 11 [.ref q, .null, .null, .null, .null, .int (iI (0)), .int (iI (0)), .int (iI (0))]) := by rw [ew_2]; exact wset_eq _ _ _
  refine lv_aload_n hx hb dJ4_init_3_9 rfl (lv_at hl 0 rfl) ?_
  refine h_getsQ X hR [false, false, false, false, false, false, false, true, false, false] rfl q249 q126 q248 dJ4_init_3_10 (fun o_3 => ?_)
  refine h_put X hR hL hF_q_w_1 (Nat.succ_ne_zero _) rfl in_X13 tyX13_ok nmX13 1 (by decide) q498 rfl (by cases o_3 <;> rfl) (by cases o_3 <;> rfl) (Nat.le_of_ble_eq_true rfl) dJ4_init_3_13 (fun w_4 ew_5 H locs hR hL => ?_)
  have hU : Up (fun q_ => q_ = q + 1) w w_4 := by rw [ew_5]; exact hU.set hF_q_w_1 (by first | exact Or.inl rfl | exact Or.inl (Or.inl rfl) | exact Or.inl (Or.inr rfl) | exact Or.inl (Or.inr (Or.inl rfl)) | exact Or.inl (Or.inr (Or.inr rfl)) | exact Or.inr ⟨Nat.succ_ne_zero _, by rw [Nat.add_sub_cancel]; assumption⟩ | exact Or.inr ⟨by omega, by assumption⟩) hG _
  have hF_q_w_4 : w_4 q = some (q + 1, oE 11 [.ref q, va_rf o_3, .null, .null, .null, .int (iI (0)), .int (iI (0)), .int (iI (0))]) := by rw [ew_5]; exact wset_eq _ _ _
  refine lv_aload_n hx hb dJ4_init_3_16 rfl (lv_at hl 0 rfl) ?_
  refine h_getsQ X hR [false, false, false, false, false, false, false, true, false, true, false] rfl q251 q126 q250 dJ4_init_3_17 (fun o_6 => ?_)
  refine h_put X hR hL hF_q_w_4 (Nat.succ_ne_zero _) rfl in_X13 tyX13_ok nmX13 2 (by decide) q499 rfl (by cases o_6 <;> rfl) (by cases o_6 <;> rfl) (Nat.le_of_ble_eq_true rfl) dJ4_init_3_20 (fun w_7 ew_8 H locs hR hL => ?_)
  have hU : Up (fun q_ => q_ = q + 1) w w_7 := by rw [ew_8]; exact hU.set hF_q_w_4 (by first | exact Or.inl rfl | exact Or.inl (Or.inl rfl) | exact Or.inl (Or.inr rfl) | exact Or.inl (Or.inr (Or.inl rfl)) | exact Or.inl (Or.inr (Or.inr rfl)) | exact Or.inr ⟨Nat.succ_ne_zero _, by rw [Nat.add_sub_cancel]; assumption⟩ | exact Or.inr ⟨by omega, by assumption⟩) hG _
  have hF_q_w_7 : w_7 q = some (q + 1, oE 11 [.ref q, va_rf o_3, va_rf o_6, .null, .null, .int (iI (0)), .int (iI (0)), .int (iI (0))]) := by rw [ew_8]; exact wset_eq _ _ _
  refine lv_iload hx hb dJ4_init_3_23 (lv_at hl 4 rfl) ?_
  refine h_if_eq hx hb 36 dJ4_init_3_25 (by decide) (by decide) (fun _ => ?_) (fun z_ => absurd z_ (by decide))
  refine lv_aload_n hx hb dJ4_init_3_36 rfl (lv_at hl 0 rfl) ?_
  refine lv_null hx hb dJ4_init_3_37 ?_
  refine h_put X hR hL hF_q_w_7 (Nat.succ_ne_zero _) rfl in_X13 tyX13_ok nmX13 1 (by decide) q498 rfl rfl rfl (Nat.le_of_ble_eq_true rfl) dJ4_init_3_38 (fun w_10 ew_11 H locs hR hL => ?_)
  have hU : Up (fun q_ => q_ = q + 1) w w_10 := by rw [ew_11]; exact hU.set hF_q_w_7 (by first | exact Or.inl rfl | exact Or.inl (Or.inl rfl) | exact Or.inl (Or.inr rfl) | exact Or.inl (Or.inr (Or.inl rfl)) | exact Or.inl (Or.inr (Or.inr rfl)) | exact Or.inr ⟨Nat.succ_ne_zero _, by rw [Nat.add_sub_cancel]; assumption⟩ | exact Or.inr ⟨by omega, by assumption⟩) hG _
  have hF_q_w_10 : w_10 q = some (q + 1, oE 11 [.ref q, .null, va_rf o_6, .null, .null, .int (iI (0)), .int (iI (0)), .int (iI (0))]) := by rw [ew_11]; exact wset_eq _ _ _
  refine lv_aload_n hx hb dJ4_init_3_41 rfl (lv_at hl 0 rfl) ?_
  refine lv_aload_nN hx hb dJ4_init_3_42 rfl (lv_at hl 1 rfl) ?_
  refine h_put X hR hL hF_q_w_10 (Nat.succ_ne_zero _) rfl in_X13 tyX13_ok nmX13 3 (by decide) q496 rfl rfl rfl (Nat.le_of_ble_eq_true rfl) dJ4_init_3_43 (fun w_12 ew_13 H locs hR hL => ?_)
  have hU : Up (fun q_ => q_ = q + 1) w w_12 := by rw [ew_13]; exact hU.set hF_q_w_10 (by first | exact Or.inl rfl | exact Or.inl (Or.inl rfl) | exact Or.inl (Or.inr rfl) | exact Or.inl (Or.inr (Or.inl rfl)) | exact Or.inl (Or.inr (Or.inr rfl)) | exact Or.inr ⟨Nat.succ_ne_zero _, by rw [Nat.add_sub_cancel]; assumption⟩ | exact Or.inr ⟨by omega, by assumption⟩) hG _
  have hF_q_w_12 : w_12 q = some (q + 1, oE 11 [.ref q, .null, va_rf o_6, .null, .null, .int (iI (0)), .int (iI (0)), .int (iI (0))]) := by rw [ew_13]; exact wset_eq _ _ _
  refine lv_aload_n hx hb dJ4_init_3_46 rfl (lv_at hl 0 rfl) ?_
  refine lv_aload_nN hx hb dJ4_init_3_47 rfl (lv_at hl 2 rfl) ?_
  refine h_put X hR hL hF_q_w_12 (Nat.succ_ne_zero _) rfl in_X13 tyX13_ok nmX13 0 (by decide) q497 rfl rfl rfl (Nat.le_of_ble_eq_true rfl) dJ4_init_3_48 (fun w_14 ew_15 H locs hR hL => ?_)
  have hU : Up (fun q_ => q_ = q + 1) w w_14 := by rw [ew_15]; exact hU.set hF_q_w_12 (by first | exact Or.inl rfl | exact Or.inl (Or.inl rfl) | exact Or.inl (Or.inr rfl) | exact Or.inl (Or.inr (Or.inl rfl)) | exact Or.inl (Or.inr (Or.inr rfl)) | exact Or.inr ⟨Nat.succ_ne_zero _, by rw [Nat.add_sub_cancel]; assumption⟩ | exact Or.inr ⟨by omega, by assumption⟩) hG _
  have hF_q_w_14 : w_14 q = some (q + 1, oE 11 [.null, .null, va_rf o_6, .null, .null, .int (iI (0)), .int (iI (0)), .int (iI (0))]) := by rw [ew_15]; exact wset_eq _ _ _
  refine lv_iload_n hx hb dJ4_init_3_51 rfl (lv_at hl 3 rfl) ?_
  refine h_if_ne hx hb 60 dJ4_init_3_52 (by decide) (by decide) (fun z_ => absurd z_ (by decide)) (fun _ => ?_)
  refine lv_aload_n hx hb dJ4_init_3_55 rfl (lv_at hl 0 rfl) ?_
  refine lv_null hx hb dJ4_init_3_56 ?_
  refine h_put X hR hL hF_q_w_14 (Nat.succ_ne_zero _) rfl in_X13 tyX13_ok nmX13 2 (by decide) q499 rfl rfl rfl (Nat.le_of_ble_eq_true rfl) dJ4_init_3_57 (fun w_17 ew_18 H locs hR hL => ?_)
  have hU : Up (fun q_ => q_ = q + 1) w w_17 := by rw [ew_18]; exact hU.set hF_q_w_14 (by first | exact Or.inl rfl | exact Or.inl (Or.inl rfl) | exact Or.inl (Or.inr rfl) | exact Or.inl (Or.inr (Or.inl rfl)) | exact Or.inl (Or.inr (Or.inr rfl)) | exact Or.inr ⟨Nat.succ_ne_zero _, by rw [Nat.add_sub_cancel]; assumption⟩ | exact Or.inr ⟨by omega, by assumption⟩) hG _
  have hF_q_w_17 : w_17 q = some (q + 1, oE 11 [.null, .null, .null, .null, .null, .int (iI (0)), .int (iI (0)), .int (iI (0))]) := by rw [ew_18]; exact wset_eq _ _ _
  exact h_vreturn hx hb hlk hret hR hL ⟨hF_q_w_17, hU⟩ (by omega) (by omega) rfl rfl dJ4_init_3_60

set_option maxHeartbeats 4000000 in
set_option maxRecDepth 100000 in
/-- Exception.<init> -/
theorem xc_init (l : Launch) (G : Gl) (w : Wd) (q : Nat) (hA : w q = some (q + 1, oE 11 [.null, .null, .null, .null, .null, .int (iI (0)), .int (iI (0)), .int (iI (0))])) (hG : RegW w) : HM l yJ5_init_3 cJ5_init_3 5 none 2 0 0 G [.ref q, .null, .null, .int (iI (0)), .int (iI (0))] w (QV G (fun w_ => w_ q = some (q + 1, oE 11 [.null, .null, .null, .null, .null, .int (iI (0)), .int (iI (0)), .int (iI (0))]) ∧ Up (fun q_ => q_ = q + 1) w w_)) := by
  refine HM.mk (by decide +kernel) (Nat.le_of_ble_eq_true rfl) ?_
  intro p9 e9 s9 m9 a9 b9 meth9 c9 ls X hret hlk hnm hl H hR
  have hx := X.1.1
  have hb := X.1.2.1
  have hl : lv_has ls 5 [(0, .ref q), (1, .null), (2, .null), (3, .int (iI (0))), (4, .int (iI (0)))] := hl
  have hL : LK G [] := fun q h => absurd h List.not_mem_nil
  generalize ([] : List Loc) = locs at hL ⊢
  have hU : Up (fun q_ => q_ = q + 1) w w := Up.rf hG
  refine lv_aload_n hx hb dJ5_init_3_0 rfl (lv_at hl 0 rfl) ?_
  refine lv_aload_nN hx hb dJ5_init_3_1 rfl (lv_at hl 1 rfl) ?_
  refine lv_aload_nN hx hb dJ5_init_3_2 rfl (lv_at hl 2 rfl) ?_
  refine lv_iload_n hx hb dJ5_init_3_3 rfl (lv_at hl 3 rfl) ?_
  refine lv_iload hx hb dJ5_init_3_4 (lv_at hl 4 rfl) ?_
  -- call java/lang/Throwable.<init>
  refine h_kV (h_runI X hR (th_init l G w q hA hU.2.2.1) pn_yJ4_init_3 rfl q2147 q2148 q126 q2149 ⟨by decide, by decide⟩ hl.1 (Nat.le_of_ble_eq_true rfl) dJ5_init_3_6 ⟨by omega, by omega⟩) hL (fun w_2 hp_3 H locs hR hL => ?_)
  obtain ⟨hO__5, u_4⟩ := hp_3
  have hU : Up (fun q_ => q_ = q + 1) w w_2 := hU.tr u_4 (fun q_ h_ => by first | exact absurd h_ id | exact Or.inl h_ | exact Or.inr (up_nw h_ (by assumption)) | exact Or.inl (Or.inl h_) | exact Or.inl (Or.inr h_) | exact Or.inl (Or.inr (Or.inl h_)) | exact Or.inl (Or.inr (Or.inr h_)) | exact Or.inl (Or.inr (Or.inr (Or.inl h_))) | exact Or.inl (Or.inr (Or.inr (Or.inr h_))) | exact Or.inl (h_.elim Or.inl (fun h_ => Or.inr (Or.inl h_))) | ((try dsimp only at h_); first | exact Or.inl (by omega) | exact Or.inr ⟨by omega, by subst h_; rw [Nat.add_sub_cancel]; assumption⟩)) hG
  exact h_vreturn hx hb hlk hret hR hL ⟨hO__5, hU⟩ (by omega) (by omega) rfl rfl dJ5_init_3_9

set_option maxHeartbeats 4000000 in
set_option maxRecDepth 100000 in
/-- SpokenMarks$TextException.<init> -/
theorem tx_init (l : Launch) (G : Gl) (w : Wd) (q : Nat) (p c : Int) (hA : w q = some (q + 1, oE 11 [.null, .null, .null, .null, .null, .int (iI (0)), .int (iI (0)), .int (iI (0))])) (hG : RegW w) : HM l yX13_init cX13_init 3 none 3 0 0 G [.ref q, .int (iI (p)), .int (iI (c))] w (QV G (fun w_ => w_ q = some (q + 1, txE p c) ∧ Up (fun q_ => q_ = q + 1) w w_)) := by
  refine HM.mk (by decide +kernel) (Nat.le_of_ble_eq_true rfl) ?_
  intro p9 e9 s9 m9 a9 b9 meth9 c9 ls X hret hlk hnm hl H hR
  have hx := X.1.1
  have hb := X.1.2.1
  have hl : lv_has ls 3 [(0, .ref q), (1, .int (iI (p))), (2, .int (iI (c)))] := hl
  have hL : LK G [] := fun q h => absurd h List.not_mem_nil
  generalize ([] : List Loc) = locs at hL ⊢
  have hU : Up (fun q_ => q_ = q + 1) w w := Up.rf hG
  refine lv_aload_n hx hb dX13_init_0 rfl (lv_at hl 0 rfl) ?_
  refine lv_null hx hb dX13_init_1 ?_
  refine lv_null hx hb dX13_init_2 ?_
  refine h_iconst hx hb dX13_init_3 ?_
  refine h_iconst hx hb dX13_init_4 ?_
  -- call java/lang/Exception.<init>
  refine h_kV (h_runI X hR (xc_init l G w q hA hU.2.2.1) pn_yJ5_init_3 rfl q2144 q2145 q127 q2146 ⟨by decide, by decide⟩ hl.1 (Nat.le_of_ble_eq_true rfl) dX13_init_5 ⟨by omega, by omega⟩) hL (fun w_2 hp_3 H locs hR hL => ?_)
  obtain ⟨hO__5, u_4⟩ := hp_3
  have hU : Up (fun q_ => q_ = q + 1) w w_2 := hU.tr u_4 (fun q_ h_ => by first | exact absurd h_ id | exact Or.inl h_ | exact Or.inr (up_nw h_ (by assumption)) | exact Or.inl (Or.inl h_) | exact Or.inl (Or.inr h_) | exact Or.inl (Or.inr (Or.inl h_)) | exact Or.inl (Or.inr (Or.inr h_)) | exact Or.inl (Or.inr (Or.inr (Or.inl h_))) | exact Or.inl (Or.inr (Or.inr (Or.inr h_))) | exact Or.inl (h_.elim Or.inl (fun h_ => Or.inr (Or.inl h_))) | ((try dsimp only at h_); first | exact Or.inl (by omega) | exact Or.inr ⟨by omega, by subst h_; rw [Nat.add_sub_cancel]; assumption⟩)) hG
  refine lv_aload_n hx hb dX13_init_8 rfl (lv_at hl 0 rfl) ?_
  refine lv_iload_n hx hb dX13_init_9 rfl (lv_at hl 1 rfl) ?_
  refine h_putF X hnm hR hL hO__5 (Nat.succ_ne_zero _) rfl in_X13 tyX13_ok nmX13 6 (by decide) q2150 rfl rfl rfl rfl (Nat.le_of_ble_eq_true rfl) dX13_init_10 (fun w_6 ew_7 H locs hR hL => ?_)
  have hU : Up (fun q_ => q_ = q + 1) w w_6 := by rw [ew_7]; exact hU.set hO__5 (by first | exact Or.inl rfl | exact Or.inl (Or.inl rfl) | exact Or.inl (Or.inr rfl) | exact Or.inl (Or.inr (Or.inl rfl)) | exact Or.inl (Or.inr (Or.inr rfl)) | exact Or.inr ⟨Nat.succ_ne_zero _, by rw [Nat.add_sub_cancel]; assumption⟩ | exact Or.inr ⟨by omega, by assumption⟩) hG _
  have hF_q_w_6 : w_6 q = some (q + 1, oE 11 [.null, .null, .null, .null, .null, .int (iI (0)), .int (iI (p)), .int (iI (0))]) := by rw [ew_7]; exact wset_eq _ _ _
  refine lv_aload_n hx hb dX13_init_13 rfl (lv_at hl 0 rfl) ?_
  refine lv_iload_n hx hb dX13_init_14 rfl (lv_at hl 2 rfl) ?_
  refine h_putF X hnm hR hL hF_q_w_6 (Nat.succ_ne_zero _) rfl in_X13 tyX13_ok nmX13 7 (by decide) q2152 rfl rfl rfl rfl (Nat.le_of_ble_eq_true rfl) dX13_init_15 (fun w_8 ew_9 H locs hR hL => ?_)
  have hU : Up (fun q_ => q_ = q + 1) w w_8 := by rw [ew_9]; exact hU.set hF_q_w_6 (by first | exact Or.inl rfl | exact Or.inl (Or.inl rfl) | exact Or.inl (Or.inr rfl) | exact Or.inl (Or.inr (Or.inl rfl)) | exact Or.inl (Or.inr (Or.inr rfl)) | exact Or.inr ⟨Nat.succ_ne_zero _, by rw [Nat.add_sub_cancel]; assumption⟩ | exact Or.inr ⟨by omega, by assumption⟩) hG _
  have hF_q_w_8 : w_8 q = some (q + 1, oE 11 [.null, .null, .null, .null, .null, .int (iI (0)), .int (iI (p)), .int (iI (c))]) := by rw [ew_9]; exact wset_eq _ _ _
  exact h_vreturn hx hb hlk hret hR hL ⟨hF_q_w_8, hU⟩ (by omega) (by omega) rfl rfl dX13_init_18

set_option maxHeartbeats 4000000 in
set_option maxRecDepth 100000 in
/-- SpokenMarks$Scanner.isBetween -/
theorem sc_isB (l : Launch) (G : Gl) (w : Wd) (q : Nat) (bf rb : Nat) (T : List Int) (z1 z2 va z3 : Int) (wv : Value) (hA : w q = some (q + 1, oE 8 [.ref bf, .int (iI ((T.length : Int))), .int (iI (z1)), .int (iI (z2)), .int (iI (va)), .int (iI (z3)), wv])) (hB : BufAt G w bf rb T) (i : Nat) (lo hi : Int) (hlh : 1 ≤ lo ∧ lo ≤ 127 ∧ 1 ≤ hi ∧ hi ≤ 127) (hi9 : i < 100000) : HM l yX11_isBetween cX11_isBetween 4 (some .boolean) 1 0 0 G [.ref q, .int (iI ((i : Int))), .int (iI (lo)), .int (iI (hi))] w (QI G (fun z_ w_ => z_ = b2i (lo ≤ bat T i ∧ bat T i ≤ hi) ∧ w_ = w)) := by
  refine HM.mk (by decide +kernel) (Nat.le_of_ble_eq_true rfl) ?_
  intro p9 e9 s9 m9 a9 b9 meth9 c9 ls X hret hlk hnm hl H hR
  have hx := X.1.1
  have hb := X.1.2.1
  have hl : lv_has ls 4 [(0, .ref q), (1, .int (iI ((i : Int)))), (2, .int (iI (lo))), (3, .int (iI (hi)))] := hl
  have hL : LK G [] := fun q h => absurd h List.not_mem_nil
  generalize ([] : List Loc) = locs at hL ⊢
  have hB0 := hB
  obtain ⟨fb, hB1, hTW, hfb⟩ := hB
  have hTl := hTW.1
  refine lv_iload_n hx hb dX11_isBetween_0 rfl (lv_at hl 1 rfl) ?_
  refine lv_aload_n hx hb dX11_isBetween_1 rfl (lv_at hl 0 rfl) ?_
  refine h_get X hR hA rfl in_X11 1 (by decide) q2091 rfl dX11_isBetween_2 ?_
  refine h_icmp_ge hx hb 32 dX11_isBetween_5 (by decide) (by omega) (by omega) (fun c_e => ?_) (fun c_e => ?_)
  ·
    have hbt : bat T i = -1 := bat_ge (by omega)
    refine h_iconst hx hb dX11_isBetween_32 ?_
    exact h_ireturn hx hb hlk hret hR hL (nar01 (by omega)) ⟨by first | exact (b2i_t (by omega)).symm | exact (b2i_f (by omega)).symm, rfl⟩ (by omega) (by omega) rfl rfl dX11_isBetween_33
  ·
    have hil : i < T.length := by omega
    have hf := hfb i hil
    have hx2 := hTW.2 i hil
    have hbt : bat T i = T.getD i 0 := if_pos hil
    have hb8 := b8_b hx2
    have hbr := b8_r (T.getD i 0)
    refine lv_aload_n hx hb dX11_isBetween_8 rfl (lv_at hl 0 rfl) ?_
    refine h_get X hR hA rfl in_X11 0 (by decide) q2090 rfl dX11_isBetween_9 ?_
    refine lv_iload_n hx hb dX11_isBetween_12 rfl (lv_at hl 1 rfl) ?_
    refine h_bald X hR hB1 (by omega) (by omega) dX11_isBetween_13 ?_
    refine W.eq (g2 := F0 m9 14 ls [.int (iI (fb i))]) (congrArg (fun z_ : Int => F0 m9 14 ls [.int (iI (z_))]) (show (fb ((i : Int)).toNat : Int) = fb i from (by rw [Int.toNat_natCast]))) ?_
    refine lv_iload_n hx hb dX11_isBetween_14 rfl (lv_at hl 2 rfl) ?_
    refine h_icmp_lt hx hb 32 dX11_isBetween_15 (by decide) (by omega) (by omega) (fun c_a => ?_) (fun c_a => ?_)
    ·
      refine h_iconst hx hb dX11_isBetween_32 ?_
      exact h_ireturn hx hb hlk hret hR hL (nar01 (by omega)) ⟨by first | exact (b2i_t (by omega)).symm | exact (b2i_f (by omega)).symm, rfl⟩ (by omega) (by omega) rfl rfl dX11_isBetween_33
    ·
      refine lv_aload_n hx hb dX11_isBetween_18 rfl (lv_at hl 0 rfl) ?_
      refine h_get X hR hA rfl in_X11 0 (by decide) q2090 rfl dX11_isBetween_19 ?_
      refine lv_iload_n hx hb dX11_isBetween_22 rfl (lv_at hl 1 rfl) ?_
      refine h_bald X hR hB1 (by omega) (by omega) dX11_isBetween_23 ?_
      refine W.eq (g2 := F0 m9 24 ls [.int (iI (fb i))]) (congrArg (fun z_ : Int => F0 m9 24 ls [.int (iI (z_))]) (show (fb ((i : Int)).toNat : Int) = fb i from (by rw [Int.toNat_natCast]))) ?_
      refine lv_iload_n hx hb dX11_isBetween_24 rfl (lv_at hl 3 rfl) ?_
      refine h_icmp_gt hx hb 32 dX11_isBetween_25 (by decide) (by omega) (by omega) (fun c_b => ?_) (fun c_b => ?_)
      ·
        refine h_iconst hx hb dX11_isBetween_32 ?_
        exact h_ireturn hx hb hlk hret hR hL (nar01 (by omega)) ⟨by first | exact (b2i_t (by omega)).symm | exact (b2i_f (by omega)).symm, rfl⟩ (by omega) (by omega) rfl rfl dX11_isBetween_33
      ·
        refine h_iconst hx hb dX11_isBetween_28 ?_
        refine lv_goto (tgt := 33) hx hb dX11_isBetween_29 (by decide) ?_
        exact h_ireturn hx hb hlk hret hR hL (nar01 (by omega)) ⟨by first | exact (b2i_t (by omega)).symm | exact (b2i_f (by omega)).symm, rfl⟩ (by omega) (by omega) rfl rfl dX11_isBetween_33

set_option maxHeartbeats 4000000 in
set_option maxRecDepth 100000 in
/-- SpokenMarks$Scanner.isBetween -/
theorem sc_isBr (l : Launch) (G : Gl) (w : Wd) (q : Nat) (bf rb : Nat) (T : List Int) (z1 z2 va z3 : Int) (wv : Value) (hA : w q = some (q + 1, oE 9 [.ref bf, .int (iI ((T.length : Int))), .int (iI (z1)), .int (iI (z2)), .int (iI (va)), .int (iI (z3)), wv])) (hB : BufAt G w bf rb T) (i : Nat) (lo hi : Int) (hlh : 1 ≤ lo ∧ lo ≤ 127 ∧ 1 ≤ hi ∧ hi ≤ 127) (hi9 : i < 100000) : HM l yX11_isBetween cX11_isBetween 4 (some .boolean) 1 0 0 G [.ref q, .int (iI ((i : Int))), .int (iI (lo)), .int (iI (hi))] w (QI G (fun z_ w_ => z_ = b2i (lo ≤ bat T i ∧ bat T i ≤ hi) ∧ w_ = w)) := by
  refine HM.mk (by decide +kernel) (Nat.le_of_ble_eq_true rfl) ?_
  intro p9 e9 s9 m9 a9 b9 meth9 c9 ls X hret hlk hnm hl H hR
  have hx := X.1.1
  have hb := X.1.2.1
  have hl : lv_has ls 4 [(0, .ref q), (1, .int (iI ((i : Int)))), (2, .int (iI (lo))), (3, .int (iI (hi)))] := hl
  have hL : LK G [] := fun q h => absurd h List.not_mem_nil
  generalize ([] : List Loc) = locs at hL ⊢
  have hB0 := hB
  obtain ⟨fb, hB1, hTW, hfb⟩ := hB
  have hTl := hTW.1
  refine lv_iload_n hx hb dX11_isBetween_0 rfl (lv_at hl 1 rfl) ?_
  refine lv_aload_n hx hb dX11_isBetween_1 rfl (lv_at hl 0 rfl) ?_
  refine h_get X hR hA rfl in_X12 1 (by decide) q2091 rfl dX11_isBetween_2 ?_
  refine h_icmp_ge hx hb 32 dX11_isBetween_5 (by decide) (by omega) (by omega) (fun c_e => ?_) (fun c_e => ?_)
  ·
    have hbt : bat T i = -1 := bat_ge (by omega)
    refine h_iconst hx hb dX11_isBetween_32 ?_
    exact h_ireturn hx hb hlk hret hR hL (nar01 (by omega)) ⟨by first | exact (b2i_t (by omega)).symm | exact (b2i_f (by omega)).symm, rfl⟩ (by omega) (by omega) rfl rfl dX11_isBetween_33
  ·
    have hil : i < T.length := by omega
    have hf := hfb i hil
    have hx2 := hTW.2 i hil
    have hbt : bat T i = T.getD i 0 := if_pos hil
    have hb8 := b8_b hx2
    have hbr := b8_r (T.getD i 0)
    refine lv_aload_n hx hb dX11_isBetween_8 rfl (lv_at hl 0 rfl) ?_
    refine h_get X hR hA rfl in_X12 0 (by decide) q2090 rfl dX11_isBetween_9 ?_
    refine lv_iload_n hx hb dX11_isBetween_12 rfl (lv_at hl 1 rfl) ?_
    refine h_bald X hR hB1 (by omega) (by omega) dX11_isBetween_13 ?_
    refine W.eq (g2 := F0 m9 14 ls [.int (iI (fb i))]) (congrArg (fun z_ : Int => F0 m9 14 ls [.int (iI (z_))]) (show (fb ((i : Int)).toNat : Int) = fb i from (by rw [Int.toNat_natCast]))) ?_
    refine lv_iload_n hx hb dX11_isBetween_14 rfl (lv_at hl 2 rfl) ?_
    refine h_icmp_lt hx hb 32 dX11_isBetween_15 (by decide) (by omega) (by omega) (fun c_a => ?_) (fun c_a => ?_)
    ·
      refine h_iconst hx hb dX11_isBetween_32 ?_
      exact h_ireturn hx hb hlk hret hR hL (nar01 (by omega)) ⟨by first | exact (b2i_t (by omega)).symm | exact (b2i_f (by omega)).symm, rfl⟩ (by omega) (by omega) rfl rfl dX11_isBetween_33
    ·
      refine lv_aload_n hx hb dX11_isBetween_18 rfl (lv_at hl 0 rfl) ?_
      refine h_get X hR hA rfl in_X12 0 (by decide) q2090 rfl dX11_isBetween_19 ?_
      refine lv_iload_n hx hb dX11_isBetween_22 rfl (lv_at hl 1 rfl) ?_
      refine h_bald X hR hB1 (by omega) (by omega) dX11_isBetween_23 ?_
      refine W.eq (g2 := F0 m9 24 ls [.int (iI (fb i))]) (congrArg (fun z_ : Int => F0 m9 24 ls [.int (iI (z_))]) (show (fb ((i : Int)).toNat : Int) = fb i from (by rw [Int.toNat_natCast]))) ?_
      refine lv_iload_n hx hb dX11_isBetween_24 rfl (lv_at hl 3 rfl) ?_
      refine h_icmp_gt hx hb 32 dX11_isBetween_25 (by decide) (by omega) (by omega) (fun c_b => ?_) (fun c_b => ?_)
      ·
        refine h_iconst hx hb dX11_isBetween_32 ?_
        exact h_ireturn hx hb hlk hret hR hL (nar01 (by omega)) ⟨by first | exact (b2i_t (by omega)).symm | exact (b2i_f (by omega)).symm, rfl⟩ (by omega) (by omega) rfl rfl dX11_isBetween_33
      ·
        refine h_iconst hx hb dX11_isBetween_28 ?_
        refine lv_goto (tgt := 33) hx hb dX11_isBetween_29 (by decide) ?_
        exact h_ireturn hx hb hlk hret hR hL (nar01 (by omega)) ⟨by first | exact (b2i_t (by omega)).symm | exact (b2i_f (by omega)).symm, rfl⟩ (by omega) (by omega) rfl rfl dX11_isBetween_33

set_option maxHeartbeats 4000000 in
set_option maxRecDepth 100000 in
/-- SpokenMarks$Scanner.isBetween -/
theorem sc_isBs (l : Launch) (G : Gl) (w : Wd) (q : Nat) (ol ca : Value) (bf rb : Nat) (T : List Int) (z1 z2 va z3 : Int) (wv : Value) (hA : w q = some (q + 1, oE 10 [.ref bf, .int (iI ((T.length : Int))), .int (iI (z1)), .int (iI (z2)), .int (iI (va)), .int (iI (z3)), wv, ol, ca])) (hB : BufAt G w bf rb T) (i : Nat) (lo hi : Int) (hlh : 1 ≤ lo ∧ lo ≤ 127 ∧ 1 ≤ hi ∧ hi ≤ 127) (hi9 : i < 100000) : HM l yX11_isBetween cX11_isBetween 4 (some .boolean) 1 0 0 G [.ref q, .int (iI ((i : Int))), .int (iI (lo)), .int (iI (hi))] w (QI G (fun z_ w_ => z_ = b2i (lo ≤ bat T i ∧ bat T i ≤ hi) ∧ w_ = w)) := by
  refine HM.mk (by decide +kernel) (Nat.le_of_ble_eq_true rfl) ?_
  intro p9 e9 s9 m9 a9 b9 meth9 c9 ls X hret hlk hnm hl H hR
  have hx := X.1.1
  have hb := X.1.2.1
  have hl : lv_has ls 4 [(0, .ref q), (1, .int (iI ((i : Int)))), (2, .int (iI (lo))), (3, .int (iI (hi)))] := hl
  have hL : LK G [] := fun q h => absurd h List.not_mem_nil
  generalize ([] : List Loc) = locs at hL ⊢
  have hB0 := hB
  obtain ⟨fb, hB1, hTW, hfb⟩ := hB
  have hTl := hTW.1
  refine lv_iload_n hx hb dX11_isBetween_0 rfl (lv_at hl 1 rfl) ?_
  refine lv_aload_n hx hb dX11_isBetween_1 rfl (lv_at hl 0 rfl) ?_
  refine h_get X hR hA rfl in_X22 1 (by decide) q2091 rfl dX11_isBetween_2 ?_
  refine h_icmp_ge hx hb 32 dX11_isBetween_5 (by decide) (by omega) (by omega) (fun c_e => ?_) (fun c_e => ?_)
  ·
    have hbt : bat T i = -1 := bat_ge (by omega)
    refine h_iconst hx hb dX11_isBetween_32 ?_
    exact h_ireturn hx hb hlk hret hR hL (nar01 (by omega)) ⟨by first | exact (b2i_t (by omega)).symm | exact (b2i_f (by omega)).symm, rfl⟩ (by omega) (by omega) rfl rfl dX11_isBetween_33
  ·
    have hil : i < T.length := by omega
    have hf := hfb i hil
    have hx2 := hTW.2 i hil
    have hbt : bat T i = T.getD i 0 := if_pos hil
    have hb8 := b8_b hx2
    have hbr := b8_r (T.getD i 0)
    refine lv_aload_n hx hb dX11_isBetween_8 rfl (lv_at hl 0 rfl) ?_
    refine h_get X hR hA rfl in_X22 0 (by decide) q2090 rfl dX11_isBetween_9 ?_
    refine lv_iload_n hx hb dX11_isBetween_12 rfl (lv_at hl 1 rfl) ?_
    refine h_bald X hR hB1 (by omega) (by omega) dX11_isBetween_13 ?_
    refine W.eq (g2 := F0 m9 14 ls [.int (iI (fb i))]) (congrArg (fun z_ : Int => F0 m9 14 ls [.int (iI (z_))]) (show (fb ((i : Int)).toNat : Int) = fb i from (by rw [Int.toNat_natCast]))) ?_
    refine lv_iload_n hx hb dX11_isBetween_14 rfl (lv_at hl 2 rfl) ?_
    refine h_icmp_lt hx hb 32 dX11_isBetween_15 (by decide) (by omega) (by omega) (fun c_a => ?_) (fun c_a => ?_)
    ·
      refine h_iconst hx hb dX11_isBetween_32 ?_
      exact h_ireturn hx hb hlk hret hR hL (nar01 (by omega)) ⟨by first | exact (b2i_t (by omega)).symm | exact (b2i_f (by omega)).symm, rfl⟩ (by omega) (by omega) rfl rfl dX11_isBetween_33
    ·
      refine lv_aload_n hx hb dX11_isBetween_18 rfl (lv_at hl 0 rfl) ?_
      refine h_get X hR hA rfl in_X22 0 (by decide) q2090 rfl dX11_isBetween_19 ?_
      refine lv_iload_n hx hb dX11_isBetween_22 rfl (lv_at hl 1 rfl) ?_
      refine h_bald X hR hB1 (by omega) (by omega) dX11_isBetween_23 ?_
      refine W.eq (g2 := F0 m9 24 ls [.int (iI (fb i))]) (congrArg (fun z_ : Int => F0 m9 24 ls [.int (iI (z_))]) (show (fb ((i : Int)).toNat : Int) = fb i from (by rw [Int.toNat_natCast]))) ?_
      refine lv_iload_n hx hb dX11_isBetween_24 rfl (lv_at hl 3 rfl) ?_
      refine h_icmp_gt hx hb 32 dX11_isBetween_25 (by decide) (by omega) (by omega) (fun c_b => ?_) (fun c_b => ?_)
      ·
        refine h_iconst hx hb dX11_isBetween_32 ?_
        exact h_ireturn hx hb hlk hret hR hL (nar01 (by omega)) ⟨by first | exact (b2i_t (by omega)).symm | exact (b2i_f (by omega)).symm, rfl⟩ (by omega) (by omega) rfl rfl dX11_isBetween_33
      ·
        refine h_iconst hx hb dX11_isBetween_28 ?_
        refine lv_goto (tgt := 33) hx hb dX11_isBetween_29 (by decide) ?_
        exact h_ireturn hx hb hlk hret hR hL (nar01 (by omega)) ⟨by first | exact (b2i_t (by omega)).symm | exact (b2i_f (by omega)).symm, rfl⟩ (by omega) (by omega) rfl rfl dX11_isBetween_33

set_option maxHeartbeats 4000000 in
set_option maxRecDepth 100000 in
/-- SpokenMarks$Scanner.letters -/
theorem sc_let (l : Launch) (G : Gl) (w : Wd) (q : Nat) (bf rb : Nat) (T : List Int) (z1 va z3 : Int) (wv : Value) (b0 : Nat) (hA : w q = some (q + 1, oE 8 [.ref bf, .int (iI ((T.length : Int))), .int (iI (z1)), .int (iI ((b0 : Int))), .int (iI (va)), .int (iI (z3)), wv])) (hB : BufAt G w bf rb T) (hb0 : b0 ≤ T.length) (hqb : rb ≠ q + 1) (hG : RegW w) : HM l yX11_letters cX11_letters 2 (some (.object "java/lang/String")) 8 4 33 G [.ref q] w (QR G (fun z_ w_ => StrAt G w_ z_ (lw T b0 (ltE T b0)) ∧ w_ q = some (q + 1, oE 8 [.ref bf, .int (iI ((T.length : Int))), .int (iI (z1)), .int (iI (((ltE T b0 : Nat) : Int))), .int (iI (va)), .int (iI (z3)), wv]) ∧ Up (fun q_ => q_ = q + 1) w w_)) := by
  refine HM.mk (by decide +kernel) (Nat.le_of_ble_eq_true rfl) ?_
  intro p9 e9 s9 m9 a9 b9 meth9 c9 ls X hret hlk hnm hl H hR
  have hx := X.1.1
  have hb := X.1.2.1
  have hl : lv_has ls 2 [(0, .ref q)] := hl
  have hL : LK G [] := fun q h => absurd h List.not_mem_nil
  generalize ([] : List Loc) = locs at hL ⊢
  have hU : Up (fun q_ => q_ = q + 1) w w := Up.rf hG
  have hB0 := hB
  obtain ⟨fb, hB1, hTW, hfb⟩ := hB
  have hTl := hTW.1
  refine h_new X hR (ci := 20) (fun q => q + 1) rfl in_J9 tyJ9_ok q2079 q264 q131 [.null, .int (iI (0)), .int (iI (0)), .int (iI (0))] (by intro j hj; rcases (show j = 0 ∨ j = 1 ∨ j = 2 ∨ j = 3 by omega) with rfl | rfl | rfl | rfl <;> rfl) (by omega) (by omega) dX11_letters_0 (fun sb hsb w_1 ew_2 H hR => ?_)
  have hn_sb : w sb = none := hU.2.1 _ hsb
  have hU : Up (fun q_ => q_ = q + 1) w w_1 := by rw [ew_2]; exact hU.new hsb (by first | exact Or.inr (Or.inl rfl) | exact Or.inl rfl | exact Or.inr (Or.inr (by assumption)))
  have hF_sb_w_1 : w_1 sb = some (sb + 1, oE 20 [.null, .int (iI (0)), .int (iI (0)), .int (iI (0))]) := by rw [ew_2]; exact wset_eq _ _ _
  have ne_q_sb : Ne9 q sb := w_neN hA hsb
  have hF_q_w_1 : w_1 q = some (q + 1, oE 8 [.ref bf, .int (iI ((T.length : Int))), .int (iI (z1)), .int (iI ((b0 : Int))), .int (iI (va)), .int (iI (z3)), wv]) := by rw [ew_2]; exact (wset_ne _ (w_neN hA hsb)).trans hA
  have ne_bf_sb : Ne9 bf sb := w_neN hB1 hsb
  have hF_bf_w_1 : w_1 bf = some (rb, iE G 1 800 fb) := by rw [ew_2]; exact (wset_ne _ (w_neN hB1 hsb)).trans hB1
  have hsb9 : Ne9 rb (sb + 1) := hB0.nr hG hn_sb
  refine lv_dup hx hb dX11_letters_3 rfl ?_
  -- call java/lang/StringBuilder.<init>
  refine h_kV (h_runI X hR (sbb_init0 l G w_1 (sb + 1) sb hU.2.2.1 (by omega) hF_sb_w_1) pn_yJ9_init rfl q2080 q266 q131 q267 ⟨by decide, by decide⟩ hl.1 (Nat.le_of_ble_eq_true rfl) dX11_letters_4 ⟨by omega, by omega⟩) hL (fun w_4 hp_5 H locs hR hL => ?_)
  obtain ⟨hB__7, u_6⟩ := hp_5
  have hF_q_w_4 : w_4 q = some (q + 1, oE 8 [.ref bf, .int (iI ((T.length : Int))), .int (iI (z1)), .int (iI ((b0 : Int))), .int (iI (va)), .int (iI (z3)), wv]) := u_6.1 _ _ _ hF_q_w_1 (by first | exact id | exact fun q_ => absurd q_ (by first | assumption | exact Ne9.p (by assumption)) | exact fun q_ => absurd (Nat.succ.inj q_) (by first | assumption | exact Ne9.p (by assumption)) | exact fun q_ => absurd q_.symm (Nat.succ_ne_zero _) | exact fun q_ => absurd (Nat.succ.inj q_).symm (by first | assumption | exact Ne9.p (by assumption)) | (intro q_; (try dsimp only at q_); rcases q_ with q_ | q_ | q_ | q_ | q_ <;> first | exact absurd q_ (by first | assumption | exact Ne9.p (by assumption)) | exact absurd (Nat.succ.inj q_) (by first | assumption | exact Ne9.p (by assumption)) | exact absurd q_.symm (Nat.succ_ne_zero _) | exact absurd (Nat.succ.inj q_).symm (by first | assumption | exact Ne9.p (by assumption))) | (intro q_; (try dsimp only at q_); rcases q_ with q_ | q_ | q_ | q_ <;> first | exact absurd q_ (by first | assumption | exact Ne9.p (by assumption)) | exact absurd (Nat.succ.inj q_) (by first | assumption | exact Ne9.p (by assumption)) | exact absurd q_.symm (Nat.succ_ne_zero _) | exact absurd (Nat.succ.inj q_).symm (by first | assumption | exact Ne9.p (by assumption))) | (intro q_; (try dsimp only at q_); rcases q_ with q_ | q_ <;> first | exact absurd q_ (by first | assumption | exact Ne9.p (by assumption)) | exact absurd (Nat.succ.inj q_) (by first | assumption | exact Ne9.p (by assumption)) | exact absurd q_.symm (Nat.succ_ne_zero _) | exact absurd (Nat.succ.inj q_).symm (by first | assumption | exact Ne9.p (by assumption))) | (intro q_; (try dsimp only at q_); omega))
  have hF_bf_w_4 : w_4 bf = some (rb, iE G 1 800 fb) := u_6.1 _ _ _ hF_bf_w_1 (by first | exact id | exact fun q_ => absurd q_ (by first | assumption | exact Ne9.p (by assumption)) | exact fun q_ => absurd (Nat.succ.inj q_) (by first | assumption | exact Ne9.p (by assumption)) | exact fun q_ => absurd q_.symm (Nat.succ_ne_zero _) | exact fun q_ => absurd (Nat.succ.inj q_).symm (by first | assumption | exact Ne9.p (by assumption)) | (intro q_; (try dsimp only at q_); rcases q_ with q_ | q_ | q_ | q_ | q_ <;> first | exact absurd q_ (by first | assumption | exact Ne9.p (by assumption)) | exact absurd (Nat.succ.inj q_) (by first | assumption | exact Ne9.p (by assumption)) | exact absurd q_.symm (Nat.succ_ne_zero _) | exact absurd (Nat.succ.inj q_).symm (by first | assumption | exact Ne9.p (by assumption))) | (intro q_; (try dsimp only at q_); rcases q_ with q_ | q_ | q_ | q_ <;> first | exact absurd q_ (by first | assumption | exact Ne9.p (by assumption)) | exact absurd (Nat.succ.inj q_) (by first | assumption | exact Ne9.p (by assumption)) | exact absurd q_.symm (Nat.succ_ne_zero _) | exact absurd (Nat.succ.inj q_).symm (by first | assumption | exact Ne9.p (by assumption))) | (intro q_; (try dsimp only at q_); rcases q_ with q_ | q_ <;> first | exact absurd q_ (by first | assumption | exact Ne9.p (by assumption)) | exact absurd (Nat.succ.inj q_) (by first | assumption | exact Ne9.p (by assumption)) | exact absurd q_.symm (Nat.succ_ne_zero _) | exact absurd (Nat.succ.inj q_).symm (by first | assumption | exact Ne9.p (by assumption))) | (intro q_; (try dsimp only at q_); omega))
  have hU : Up (fun q_ => q_ = q + 1) w w_4 := hU.tr u_6 (fun q_ h_ => by first | exact absurd h_ id | exact Or.inl h_ | exact Or.inr (up_nw h_ (by assumption)) | exact Or.inl (Or.inl h_) | exact Or.inl (Or.inr h_) | exact Or.inl (Or.inr (Or.inl h_)) | exact Or.inl (Or.inr (Or.inr h_)) | exact Or.inl (Or.inr (Or.inr (Or.inl h_))) | exact Or.inl (Or.inr (Or.inr (Or.inr h_))) | exact Or.inl (h_.elim Or.inl (fun h_ => Or.inr (Or.inl h_))) | ((try dsimp only at h_); first | exact Or.inl (by omega) | exact Or.inr ⟨by omega, by subst h_; rw [Nat.add_sub_cancel]; assumption⟩)) hG
  refine lv_astore_n (lv' := [(1, .ref sb), (0, .ref q)]) hx hb dX11_letters_7 rfl hl (by decide) rfl (fun ls hl => ?_)
  have LOOP_9 : ∀ (N_ : Nat) (k : Nat) (C : List Int)(w_8 : Wd) , (b0 ≤ k ∧ k ≤ T.length) → (ltE T k = ltE T b0) → (C = lw T b0 k) → (w_8 bf = some (rb, iE G 1 800 fb)) → (w_8 q = some (q + 1, oE 8 [.ref bf, .int (iI ((T.length : Int))), .int (iI (z1)), .int (iI (((k : Nat) : Int))), .int (iI (va)), .int (iI (z3)), wv])) → (SbAt G w_8 (sb + 1) sb 16 C) → (Up (fun q_ => q_ = q + 1) w w_8) → (T.length - k) < N_ → ∀ (H : Heap) (locs : List Loc) (ls : Array Slot), Rp G w_8 H → LK G locs → lv_has ls 2 [(0, .ref q), (1, .ref sb)] → W p9 l e9 (rmk 8 4 33) s9 m9 a9 b9 meth9 c9 H locs 2 20 (MQ b9 (QR G (fun z_ w_ => StrAt G w_ z_ (lw T b0 (ltE T b0)) ∧ w_ q = some (q + 1, oE 8 [.ref bf, .int (iI ((T.length : Int))), .int (iI (z1)), .int (iI (((ltE T b0 : Nat) : Int))), .int (iI (va)), .int (iI (z3)), wv]) ∧ Up (fun q_ => q_ = q + 1) w w_)) a9 s9 4 33 (frG G)) (F0 m9 8 ls []) := by
    intro N_
    induction N_ with
    | zero => intro _ _ _ _ _ _ _ _ _ _ h_; exact absurd h_ (Nat.not_lt_zero _)
    | succ N_ ih_ =>
      intro k C w_8 hk hlt hC hI_bf_w_8 hI_q_w_8 hI_sb_w_8 hU hN_ H locs ls hR hL hl
      have ih_9 := ih_
      clear ih_
      have hCl := congrArg List.length hC
      rw [lw_len] at hCl
      refine lv_aload_n hx hb dX11_letters_8 rfl (lv_at hl 0 rfl) ?_
      refine lv_aload_n hx hb dX11_letters_9 rfl (lv_at hl 0 rfl) ?_
      refine h_get X hR hI_q_w_8 rfl in_X11 3 (by decide) q2093 rfl dX11_letters_10 ?_
      refine h_bipush hx hb dX11_letters_13 (by decide) ?_
      refine h_bipush hx hb dX11_letters_15 (by decide) ?_
      -- call SpokenMarks$Scanner.isBetween
      refine h_kIp (h_runV X hR (sc_isB l G w_8 q bf rb T z1 (((k : Nat) : Int)) va z3 wv hI_q_w_8 ⟨fb, hI_bf_w_8, hTW, hfb⟩ ((k)) 97 122 (by decide) (by omega)) pn_yX11_isBetween (hasC.of hI_q_w_8 rfl) q2070 q2072 qs17 q162 q2074 ⟨by decide, by decide⟩ hl.1 (Nat.le_of_ble_eq_true rfl) dX11_letters_17 ⟨by omega, by omega⟩) hL (fun H locs hR hL => ?_)
      refine h_if_eq hx hb 60 dX11_letters_20 (by decide) (by have := b2i_01 (97 ≤ bat T k ∧ bat T k ≤ 122); omega) (fun c_l => ?_) (fun c_l => ?_)
      ·
        have c_n := b2i_0.mp c_l
        have hke : ltE T b0 = k := hlt.symm.trans (ltE_no c_n)
        refine lv_aload_n hx hb dX11_letters_60 rfl (lv_at hl 1 rfl) ?_
        -- call java/lang/StringBuilder.toString
        refine h_kR (h_runV X hR (sbb_str l G w_8 sb 16 C hI_sb_w_8 hU.2.2.1) pn_yJ9_toString (hI_sb_w_8.c) q2083 q441 q442 q131 q443 ⟨by decide, by decide⟩ hl.1 (Nat.le_of_ble_eq_true rfl) dX11_letters_61 ⟨by omega, by omega⟩) hL (fun z_13 w_14 hp_15 H locs hR hL => ?_)
        obtain ⟨hz_17, hS__18, u_16⟩ := hp_15
        have ne_bf_z_13 : Ne9 bf z_13 := w_neN hI_bf_w_8 hz_17
        have ne_q_z_13 : Ne9 q z_13 := w_neN hI_q_w_8 hz_17
        have ne_sb_z_13 : Ne9 sb z_13 := sm_ne hI_sb_w_8.sm hz_17
        have hn_z_13 : w z_13 = none := hU.2.1 _ hz_17
        have hF_bf_w_14 : w_14 bf = some (rb, iE G 1 800 fb) := u_16.1 _ _ _ hI_bf_w_8 (by first | exact id | exact fun q_ => absurd q_ (by first | assumption | exact Ne9.p (by assumption)) | exact fun q_ => absurd (Nat.succ.inj q_) (by first | assumption | exact Ne9.p (by assumption)) | exact fun q_ => absurd q_.symm (Nat.succ_ne_zero _) | exact fun q_ => absurd (Nat.succ.inj q_).symm (by first | assumption | exact Ne9.p (by assumption)) | (intro q_; (try dsimp only at q_); rcases q_ with q_ | q_ | q_ | q_ | q_ <;> first | exact absurd q_ (by first | assumption | exact Ne9.p (by assumption)) | exact absurd (Nat.succ.inj q_) (by first | assumption | exact Ne9.p (by assumption)) | exact absurd q_.symm (Nat.succ_ne_zero _) | exact absurd (Nat.succ.inj q_).symm (by first | assumption | exact Ne9.p (by assumption))) | (intro q_; (try dsimp only at q_); rcases q_ with q_ | q_ | q_ | q_ <;> first | exact absurd q_ (by first | assumption | exact Ne9.p (by assumption)) | exact absurd (Nat.succ.inj q_) (by first | assumption | exact Ne9.p (by assumption)) | exact absurd q_.symm (Nat.succ_ne_zero _) | exact absurd (Nat.succ.inj q_).symm (by first | assumption | exact Ne9.p (by assumption))) | (intro q_; (try dsimp only at q_); rcases q_ with q_ | q_ <;> first | exact absurd q_ (by first | assumption | exact Ne9.p (by assumption)) | exact absurd (Nat.succ.inj q_) (by first | assumption | exact Ne9.p (by assumption)) | exact absurd q_.symm (Nat.succ_ne_zero _) | exact absurd (Nat.succ.inj q_).symm (by first | assumption | exact Ne9.p (by assumption))) | (intro q_; (try dsimp only at q_); omega))
        have hF_q_w_14 : w_14 q = some (q + 1, oE 8 [.ref bf, .int (iI ((T.length : Int))), .int (iI (z1)), .int (iI (((k : Nat) : Int))), .int (iI (va)), .int (iI (z3)), wv]) := u_16.1 _ _ _ hI_q_w_8 (by first | exact id | exact fun q_ => absurd q_ (by first | assumption | exact Ne9.p (by assumption)) | exact fun q_ => absurd (Nat.succ.inj q_) (by first | assumption | exact Ne9.p (by assumption)) | exact fun q_ => absurd q_.symm (Nat.succ_ne_zero _) | exact fun q_ => absurd (Nat.succ.inj q_).symm (by first | assumption | exact Ne9.p (by assumption)) | (intro q_; (try dsimp only at q_); rcases q_ with q_ | q_ | q_ | q_ | q_ <;> first | exact absurd q_ (by first | assumption | exact Ne9.p (by assumption)) | exact absurd (Nat.succ.inj q_) (by first | assumption | exact Ne9.p (by assumption)) | exact absurd q_.symm (Nat.succ_ne_zero _) | exact absurd (Nat.succ.inj q_).symm (by first | assumption | exact Ne9.p (by assumption))) | (intro q_; (try dsimp only at q_); rcases q_ with q_ | q_ | q_ | q_ <;> first | exact absurd q_ (by first | assumption | exact Ne9.p (by assumption)) | exact absurd (Nat.succ.inj q_) (by first | assumption | exact Ne9.p (by assumption)) | exact absurd q_.symm (Nat.succ_ne_zero _) | exact absurd (Nat.succ.inj q_).symm (by first | assumption | exact Ne9.p (by assumption))) | (intro q_; (try dsimp only at q_); rcases q_ with q_ | q_ <;> first | exact absurd q_ (by first | assumption | exact Ne9.p (by assumption)) | exact absurd (Nat.succ.inj q_) (by first | assumption | exact Ne9.p (by assumption)) | exact absurd q_.symm (Nat.succ_ne_zero _) | exact absurd (Nat.succ.inj q_).symm (by first | assumption | exact Ne9.p (by assumption))) | (intro q_; (try dsimp only at q_); omega))
        have hP_sb_w_14 := hI_sb_w_8.mv (u_16.1) (by first | exact id | exact fun q_ => absurd q_ (by first | assumption | exact Ne9.p (by assumption)) | exact fun q_ => absurd (Nat.succ.inj q_) (by first | assumption | exact Ne9.p (by assumption)) | exact fun q_ => absurd q_.symm (Nat.succ_ne_zero _) | exact fun q_ => absurd (Nat.succ.inj q_).symm (by first | assumption | exact Ne9.p (by assumption)) | (intro q_; (try dsimp only at q_); rcases q_ with q_ | q_ | q_ | q_ | q_ <;> first | exact absurd q_ (by first | assumption | exact Ne9.p (by assumption)) | exact absurd (Nat.succ.inj q_) (by first | assumption | exact Ne9.p (by assumption)) | exact absurd q_.symm (Nat.succ_ne_zero _) | exact absurd (Nat.succ.inj q_).symm (by first | assumption | exact Ne9.p (by assumption))) | (intro q_; (try dsimp only at q_); rcases q_ with q_ | q_ | q_ | q_ <;> first | exact absurd q_ (by first | assumption | exact Ne9.p (by assumption)) | exact absurd (Nat.succ.inj q_) (by first | assumption | exact Ne9.p (by assumption)) | exact absurd q_.symm (Nat.succ_ne_zero _) | exact absurd (Nat.succ.inj q_).symm (by first | assumption | exact Ne9.p (by assumption))) | (intro q_; (try dsimp only at q_); rcases q_ with q_ | q_ <;> first | exact absurd q_ (by first | assumption | exact Ne9.p (by assumption)) | exact absurd (Nat.succ.inj q_) (by first | assumption | exact Ne9.p (by assumption)) | exact absurd q_.symm (Nat.succ_ne_zero _) | exact absurd (Nat.succ.inj q_).symm (by first | assumption | exact Ne9.p (by assumption))) | (intro q_; (try dsimp only at q_); omega))
        have hU : Up (fun q_ => q_ = q + 1) w w_14 := hU.tr u_16 (fun q_ h_ => by first | exact absurd h_ id | exact Or.inl h_ | exact Or.inr (up_nw h_ (by assumption)) | exact Or.inl (Or.inl h_) | exact Or.inl (Or.inr h_) | exact Or.inl (Or.inr (Or.inl h_)) | exact Or.inl (Or.inr (Or.inr h_)) | exact Or.inl (Or.inr (Or.inr (Or.inl h_))) | exact Or.inl (Or.inr (Or.inr (Or.inr h_))) | exact Or.inl (h_.elim Or.inl (fun h_ => Or.inr (Or.inl h_))) | ((try dsimp only at h_); first | exact Or.inl (by omega) | exact Or.inr ⟨by omega, by subst h_; rw [Nat.add_sub_cancel]; assumption⟩)) hG
        exact h_areturn hx hb hlk hret (by first | exact Or.inl ⟨_, rfl⟩ | exact Or.inr ⟨_, rfl⟩) hR hL ⟨by rw [hke, ← hC]; exact hS__18, by rw [hke]; exact hF_q_w_14, hU⟩ (by omega) (by omega) rfl rfl dX11_letters_64
      ·
        have c_y := b2i_n1.mp c_l
        have c_go := ltE_go c_y
        have hil : k < T.length := c_go.2
        have hf := hfb k hil
        have hx2 := hTW.2 k hil
        have hbt : bat T k = T.getD k 0 := if_pos hil
        have hb8 := b8_b hx2
        refine lv_aload_n hx hb dX11_letters_23 rfl (lv_at hl 1 rfl) ?_
        -- call java/lang/StringBuilder.length
        refine h_kIp (h_runV X hR (sb_lenS l G w_8 (sb + 1) sb 16 C hI_sb_w_8) pn_yJ9_length (hI_sb_w_8.c) q2081 q462 q3388 q131 q463 ⟨by decide, by decide⟩ hl.1 (Nat.le_of_ble_eq_true rfl) dX11_letters_24 ⟨by omega, by omega⟩) hL (fun H locs hR hL => ?_)
        refine h_bipush hx hb dX11_letters_27 (by decide) ?_
        refine h_icmp_gt hx hb 47 dX11_letters_29 (by decide) (by omega) (by omega) (fun c_8 => ?_) (fun c_8 => ?_)
        ·
          refine lv_aload_n hx hb dX11_letters_47 rfl (lv_at hl 0 rfl) ?_
          refine lv_dup hx hb dX11_letters_48 rfl ?_
          refine h_get X hR hI_q_w_8 rfl in_X11 3 (by decide) q2093 rfl dX11_letters_49 ?_
          refine h_iconst hx hb dX11_letters_52 ?_
          refine h_iadd hx hb dX11_letters_53 ?_
          refine h_put X hR hL hI_q_w_8 (Nat.succ_ne_zero _) rfl in_X11 tyX11_ok nmX11 3 (by decide) q2093 rfl rfl rfl (Nat.le_of_ble_eq_true rfl) dX11_letters_54 (fun w_22 ew_23 H locs hR hL => ?_)
          have hU : Up (fun q_ => q_ = q + 1) w w_22 := by rw [ew_23]; exact hU.set hI_q_w_8 (by first | exact Or.inl rfl | exact Or.inl (Or.inl rfl) | exact Or.inl (Or.inr rfl) | exact Or.inl (Or.inr (Or.inl rfl)) | exact Or.inl (Or.inr (Or.inr rfl)) | exact Or.inr ⟨Nat.succ_ne_zero _, by rw [Nat.add_sub_cancel]; assumption⟩ | exact Or.inr ⟨by omega, by assumption⟩) hG _
          have hF_q_w_22 : w_22 q = some (q + 1, oE 8 [.ref bf, .int (iI ((T.length : Int))), .int (iI (z1)), .int (iI (((k : Nat) : Int) + 1)), .int (iI (va)), .int (iI (z3)), wv]) := by rw [ew_23]; exact wset_eq _ _ _
          have hF_bf_w_22 : w_22 bf = some (rb, iE G 1 800 fb) := by rw [ew_23]; exact (wset_ne _ (by first | exact Ne9.p ne_bf_q | exact Ne.symm (Ne9.p ne_q_bf) | exact ne_bf_q | exact Ne.symm ne_q_bf | exact w_ne hI_bf_w_8 hI_q_w_8 (by intro h; cases h) | exact w_neR hI_bf_w_8 hI_q_w_8 (by first | exact fun q_ => absurd (Nat.succ.inj q_) (by first | assumption | exact Ne9.p (by assumption)) | exact fun q_ => absurd (Nat.succ.inj q_).symm (by first | assumption | exact Ne9.p (by assumption)) | exact Nat.succ_ne_zero _ | exact (Nat.succ_ne_zero _).symm | omega))).trans hI_bf_w_8
          have hP_sb_w_22 := hI_sb_w_8.mv (w1 := w_22) (S := fun q_ => q_ = q + 1) (by rw [ew_23]; exact Fr.one hI_q_w_8 _) (by first | exact id | exact fun q_ => absurd q_ (by first | assumption | exact Ne9.p (by assumption)) | exact fun q_ => absurd (Nat.succ.inj q_) (by first | assumption | exact Ne9.p (by assumption)) | exact fun q_ => absurd q_.symm (Nat.succ_ne_zero _) | exact fun q_ => absurd (Nat.succ.inj q_).symm (by first | assumption | exact Ne9.p (by assumption)) | (intro q_; (try dsimp only at q_); rcases q_ with q_ | q_ | q_ | q_ | q_ <;> first | exact absurd q_ (by first | assumption | exact Ne9.p (by assumption)) | exact absurd (Nat.succ.inj q_) (by first | assumption | exact Ne9.p (by assumption)) | exact absurd q_.symm (Nat.succ_ne_zero _) | exact absurd (Nat.succ.inj q_).symm (by first | assumption | exact Ne9.p (by assumption))) | (intro q_; (try dsimp only at q_); rcases q_ with q_ | q_ | q_ | q_ <;> first | exact absurd q_ (by first | assumption | exact Ne9.p (by assumption)) | exact absurd (Nat.succ.inj q_) (by first | assumption | exact Ne9.p (by assumption)) | exact absurd q_.symm (Nat.succ_ne_zero _) | exact absurd (Nat.succ.inj q_).symm (by first | assumption | exact Ne9.p (by assumption))) | (intro q_; (try dsimp only at q_); rcases q_ with q_ | q_ <;> first | exact absurd q_ (by first | assumption | exact Ne9.p (by assumption)) | exact absurd (Nat.succ.inj q_) (by first | assumption | exact Ne9.p (by assumption)) | exact absurd q_.symm (Nat.succ_ne_zero _) | exact absurd (Nat.succ.inj q_).symm (by first | assumption | exact Ne9.p (by assumption))) | (intro q_; (try dsimp only at q_); omega))
          refine lv_goto (tgt := 8) hx hb dX11_letters_57 (by decide) ?_
          exact ih_9 (k + 1) C w_22 (by omega) (by rw [← hlt]; exact c_go.1.symm) (by rw [hC]; exact (lw_n hk.1 (by rw [← hC]; omega)).symm) hF_bf_w_22 hF_q_w_22 hP_sb_w_22 hU (by omega) _ _ _ hR hL (lv_sub hl [0, 1] rfl)
        ·
          refine lv_aload_n hx hb dX11_letters_32 rfl (lv_at hl 1 rfl) ?_
          refine lv_aload_n hx hb dX11_letters_33 rfl (lv_at hl 0 rfl) ?_
          refine h_get X hR hI_q_w_8 rfl in_X11 0 (by decide) q2090 rfl dX11_letters_34 ?_
          refine lv_aload_n hx hb dX11_letters_37 rfl (lv_at hl 0 rfl) ?_
          refine h_get X hR hI_q_w_8 rfl in_X11 3 (by decide) q2093 rfl dX11_letters_38 ?_
          refine h_bald X hR hI_bf_w_8 (by omega) (by omega) dX11_letters_41 ?_
          refine W.eq (g2 := F0 m9 42 ls [.int (iI (bat T k)), .ref sb]) (congrArg (fun z_ : Int => F0 m9 42 ls [.int (iI (z_)), .ref sb]) (show (fb (((k : Nat) : Int)).toNat : Int) = bat T k from (by rw [Int.toNat_natCast]; omega))) ?_
          refine h_i2c hx hb dX11_letters_42 (by omega) ?_
          -- call java/lang/StringBuilder.append
          refine h_kR (h_runV X hR (sbb_c0 l G w_8 (sb + 1) sb 16 C hI_sb_w_8 hU.2.2.1 (Nat.succ_ne_zero _) (bat T k) (by omega) (by omega)) pn_yJ9_append_3 (hI_sb_w_8.c) q2082 q1479 q1480 q131 q1481 ⟨by decide, by decide⟩ hl.1 (Nat.le_of_ble_eq_true rfl) dX11_letters_43 ⟨by omega, by omega⟩) hL (fun z_25 w_26 hp_27 H locs hR hL => ?_)
          obtain ⟨hzq_30, hB__29, u_28⟩ := hp_27
          have hzq_30 := hzq_30.symm
          subst hzq_30
          have hF_bf_w_26 : w_26 bf = some (rb, iE G 1 800 fb) := u_28.1 _ _ _ hI_bf_w_8 (by first | exact id | exact fun q_ => absurd q_ (by first | assumption | exact Ne9.p (by assumption)) | exact fun q_ => absurd (Nat.succ.inj q_) (by first | assumption | exact Ne9.p (by assumption)) | exact fun q_ => absurd q_.symm (Nat.succ_ne_zero _) | exact fun q_ => absurd (Nat.succ.inj q_).symm (by first | assumption | exact Ne9.p (by assumption)) | (intro q_; (try dsimp only at q_); rcases q_ with q_ | q_ | q_ | q_ | q_ <;> first | exact absurd q_ (by first | assumption | exact Ne9.p (by assumption)) | exact absurd (Nat.succ.inj q_) (by first | assumption | exact Ne9.p (by assumption)) | exact absurd q_.symm (Nat.succ_ne_zero _) | exact absurd (Nat.succ.inj q_).symm (by first | assumption | exact Ne9.p (by assumption))) | (intro q_; (try dsimp only at q_); rcases q_ with q_ | q_ | q_ | q_ <;> first | exact absurd q_ (by first | assumption | exact Ne9.p (by assumption)) | exact absurd (Nat.succ.inj q_) (by first | assumption | exact Ne9.p (by assumption)) | exact absurd q_.symm (Nat.succ_ne_zero _) | exact absurd (Nat.succ.inj q_).symm (by first | assumption | exact Ne9.p (by assumption))) | (intro q_; (try dsimp only at q_); rcases q_ with q_ | q_ <;> first | exact absurd q_ (by first | assumption | exact Ne9.p (by assumption)) | exact absurd (Nat.succ.inj q_) (by first | assumption | exact Ne9.p (by assumption)) | exact absurd q_.symm (Nat.succ_ne_zero _) | exact absurd (Nat.succ.inj q_).symm (by first | assumption | exact Ne9.p (by assumption))) | (intro q_; (try dsimp only at q_); omega))
          have hF_q_w_26 : w_26 q = some (q + 1, oE 8 [.ref bf, .int (iI ((T.length : Int))), .int (iI (z1)), .int (iI (((k : Nat) : Int))), .int (iI (va)), .int (iI (z3)), wv]) := u_28.1 _ _ _ hI_q_w_8 (by first | exact id | exact fun q_ => absurd q_ (by first | assumption | exact Ne9.p (by assumption)) | exact fun q_ => absurd (Nat.succ.inj q_) (by first | assumption | exact Ne9.p (by assumption)) | exact fun q_ => absurd q_.symm (Nat.succ_ne_zero _) | exact fun q_ => absurd (Nat.succ.inj q_).symm (by first | assumption | exact Ne9.p (by assumption)) | (intro q_; (try dsimp only at q_); rcases q_ with q_ | q_ | q_ | q_ | q_ <;> first | exact absurd q_ (by first | assumption | exact Ne9.p (by assumption)) | exact absurd (Nat.succ.inj q_) (by first | assumption | exact Ne9.p (by assumption)) | exact absurd q_.symm (Nat.succ_ne_zero _) | exact absurd (Nat.succ.inj q_).symm (by first | assumption | exact Ne9.p (by assumption))) | (intro q_; (try dsimp only at q_); rcases q_ with q_ | q_ | q_ | q_ <;> first | exact absurd q_ (by first | assumption | exact Ne9.p (by assumption)) | exact absurd (Nat.succ.inj q_) (by first | assumption | exact Ne9.p (by assumption)) | exact absurd q_.symm (Nat.succ_ne_zero _) | exact absurd (Nat.succ.inj q_).symm (by first | assumption | exact Ne9.p (by assumption))) | (intro q_; (try dsimp only at q_); rcases q_ with q_ | q_ <;> first | exact absurd q_ (by first | assumption | exact Ne9.p (by assumption)) | exact absurd (Nat.succ.inj q_) (by first | assumption | exact Ne9.p (by assumption)) | exact absurd q_.symm (Nat.succ_ne_zero _) | exact absurd (Nat.succ.inj q_).symm (by first | assumption | exact Ne9.p (by assumption))) | (intro q_; (try dsimp only at q_); omega))
          have hU : Up (fun q_ => q_ = q + 1) w w_26 := hU.tr u_28 (fun q_ h_ => by first | exact absurd h_ id | exact Or.inl h_ | exact Or.inr (up_nw h_ (by assumption)) | exact Or.inl (Or.inl h_) | exact Or.inl (Or.inr h_) | exact Or.inl (Or.inr (Or.inl h_)) | exact Or.inl (Or.inr (Or.inr h_)) | exact Or.inl (Or.inr (Or.inr (Or.inl h_))) | exact Or.inl (Or.inr (Or.inr (Or.inr h_))) | exact Or.inl (h_.elim Or.inl (fun h_ => Or.inr (Or.inl h_))) | ((try dsimp only at h_); first | exact Or.inl (by omega) | exact Or.inr ⟨by omega, by subst h_; rw [Nat.add_sub_cancel]; assumption⟩)) hG
          refine lv_pop hx hb dX11_letters_46 rfl ?_
          refine lv_aload_n hx hb dX11_letters_47 rfl (lv_at hl 0 rfl) ?_
          refine lv_dup hx hb dX11_letters_48 rfl ?_
          refine h_get X hR hF_q_w_26 rfl in_X11 3 (by decide) q2093 rfl dX11_letters_49 ?_
          refine h_iconst hx hb dX11_letters_52 ?_
          refine h_iadd hx hb dX11_letters_53 ?_
          refine h_put X hR hL hF_q_w_26 (Nat.succ_ne_zero _) rfl in_X11 tyX11_ok nmX11 3 (by decide) q2093 rfl rfl rfl (Nat.le_of_ble_eq_true rfl) dX11_letters_54 (fun w_31 ew_32 H locs hR hL => ?_)
          have hU : Up (fun q_ => q_ = q + 1) w w_31 := by rw [ew_32]; exact hU.set hF_q_w_26 (by first | exact Or.inl rfl | exact Or.inl (Or.inl rfl) | exact Or.inl (Or.inr rfl) | exact Or.inl (Or.inr (Or.inl rfl)) | exact Or.inl (Or.inr (Or.inr rfl)) | exact Or.inr ⟨Nat.succ_ne_zero _, by rw [Nat.add_sub_cancel]; assumption⟩ | exact Or.inr ⟨by omega, by assumption⟩) hG _
          have hF_q_w_31 : w_31 q = some (q + 1, oE 8 [.ref bf, .int (iI ((T.length : Int))), .int (iI (z1)), .int (iI (((k : Nat) : Int) + 1)), .int (iI (va)), .int (iI (z3)), wv]) := by rw [ew_32]; exact wset_eq _ _ _
          have hF_bf_w_31 : w_31 bf = some (rb, iE G 1 800 fb) := by rw [ew_32]; exact (wset_ne _ (by first | exact Ne9.p ne_bf_q | exact Ne.symm (Ne9.p ne_q_bf) | exact ne_bf_q | exact Ne.symm ne_q_bf | exact w_ne hF_bf_w_26 hF_q_w_26 (by intro h; cases h) | exact w_neR hF_bf_w_26 hF_q_w_26 (by first | exact fun q_ => absurd (Nat.succ.inj q_) (by first | assumption | exact Ne9.p (by assumption)) | exact fun q_ => absurd (Nat.succ.inj q_).symm (by first | assumption | exact Ne9.p (by assumption)) | exact Nat.succ_ne_zero _ | exact (Nat.succ_ne_zero _).symm | omega))).trans hF_bf_w_26
          have hP_sb_w_31 := hB__29.mv (w1 := w_31) (S := fun q_ => q_ = q + 1) (by rw [ew_32]; exact Fr.one hF_q_w_26 _) (by first | exact id | exact fun q_ => absurd q_ (by first | assumption | exact Ne9.p (by assumption)) | exact fun q_ => absurd (Nat.succ.inj q_) (by first | assumption | exact Ne9.p (by assumption)) | exact fun q_ => absurd q_.symm (Nat.succ_ne_zero _) | exact fun q_ => absurd (Nat.succ.inj q_).symm (by first | assumption | exact Ne9.p (by assumption)) | (intro q_; (try dsimp only at q_); rcases q_ with q_ | q_ | q_ | q_ | q_ <;> first | exact absurd q_ (by first | assumption | exact Ne9.p (by assumption)) | exact absurd (Nat.succ.inj q_) (by first | assumption | exact Ne9.p (by assumption)) | exact absurd q_.symm (Nat.succ_ne_zero _) | exact absurd (Nat.succ.inj q_).symm (by first | assumption | exact Ne9.p (by assumption))) | (intro q_; (try dsimp only at q_); rcases q_ with q_ | q_ | q_ | q_ <;> first | exact absurd q_ (by first | assumption | exact Ne9.p (by assumption)) | exact absurd (Nat.succ.inj q_) (by first | assumption | exact Ne9.p (by assumption)) | exact absurd q_.symm (Nat.succ_ne_zero _) | exact absurd (Nat.succ.inj q_).symm (by first | assumption | exact Ne9.p (by assumption))) | (intro q_; (try dsimp only at q_); rcases q_ with q_ | q_ <;> first | exact absurd q_ (by first | assumption | exact Ne9.p (by assumption)) | exact absurd (Nat.succ.inj q_) (by first | assumption | exact Ne9.p (by assumption)) | exact absurd q_.symm (Nat.succ_ne_zero _) | exact absurd (Nat.succ.inj q_).symm (by first | assumption | exact Ne9.p (by assumption))) | (intro q_; (try dsimp only at q_); omega))
          refine lv_goto (tgt := 8) hx hb dX11_letters_57 (by decide) ?_
          exact ih_9 (k + 1) (C ++ [bat T k]) w_31 (by omega) (by rw [← hlt]; exact c_go.1.symm) (by rw [hC]; exact (lw_y hk.1 (by rw [← hC]; omega)).symm) hF_bf_w_31 hF_q_w_31 hP_sb_w_31 hU (by omega) _ _ _ hR hL (lv_sub hl [0, 1] rfl)
  exact LOOP_9 _ b0 ([]) w_4 ⟨Nat.le_refl _, hb0⟩ rfl (lw_0 T b0).symm hF_bf_w_4 hF_q_w_4 hB__7 hU (Nat.lt_succ_self _) _ _ _ hR hL (lv_sub hl [1, 0] rfl)

set_option maxHeartbeats 4000000 in
set_option maxRecDepth 100000 in
/-- SpokenMarks$Scanner.letters -/
theorem sc_letr (l : Launch) (G : Gl) (w : Wd) (q : Nat) (bf rb : Nat) (T : List Int) (z1 va z3 : Int) (wv : Value) (b0 : Nat) (hA : w q = some (q + 1, oE 9 [.ref bf, .int (iI ((T.length : Int))), .int (iI (z1)), .int (iI ((b0 : Int))), .int (iI (va)), .int (iI (z3)), wv])) (hB : BufAt G w bf rb T) (hb0 : b0 ≤ T.length) (hqb : rb ≠ q + 1) (hG : RegW w) : HM l yX11_letters cX11_letters 2 (some (.object "java/lang/String")) 8 4 33 G [.ref q] w (QR G (fun z_ w_ => StrAt G w_ z_ (lw T b0 (ltE T b0)) ∧ w_ q = some (q + 1, oE 9 [.ref bf, .int (iI ((T.length : Int))), .int (iI (z1)), .int (iI (((ltE T b0 : Nat) : Int))), .int (iI (va)), .int (iI (z3)), wv]) ∧ Up (fun q_ => q_ = q + 1) w w_)) := by
  refine HM.mk (by decide +kernel) (Nat.le_of_ble_eq_true rfl) ?_
  intro p9 e9 s9 m9 a9 b9 meth9 c9 ls X hret hlk hnm hl H hR
  have hx := X.1.1
  have hb := X.1.2.1
  have hl : lv_has ls 2 [(0, .ref q)] := hl
  have hL : LK G [] := fun q h => absurd h List.not_mem_nil
  generalize ([] : List Loc) = locs at hL ⊢
  have hU : Up (fun q_ => q_ = q + 1) w w := Up.rf hG
  have hB0 := hB
  obtain ⟨fb, hB1, hTW, hfb⟩ := hB
  have hTl := hTW.1
  refine h_new X hR (ci := 20) (fun q => q + 1) rfl in_J9 tyJ9_ok q2079 q264 q131 [.null, .int (iI (0)), .int (iI (0)), .int (iI (0))] (by intro j hj; rcases (show j = 0 ∨ j = 1 ∨ j = 2 ∨ j = 3 by omega) with rfl | rfl | rfl | rfl <;> rfl) (by omega) (by omega) dX11_letters_0 (fun sb hsb w_1 ew_2 H hR => ?_)
  have hn_sb : w sb = none := hU.2.1 _ hsb
  have hU : Up (fun q_ => q_ = q + 1) w w_1 := by rw [ew_2]; exact hU.new hsb (by first | exact Or.inr (Or.inl rfl) | exact Or.inl rfl | exact Or.inr (Or.inr (by assumption)))
  have hF_sb_w_1 : w_1 sb = some (sb + 1, oE 20 [.null, .int (iI (0)), .int (iI (0)), .int (iI (0))]) := by rw [ew_2]; exact wset_eq _ _ _
  have ne_q_sb : Ne9 q sb := w_neN hA hsb
  have hF_q_w_1 : w_1 q = some (q + 1, oE 9 [.ref bf, .int (iI ((T.length : Int))), .int (iI (z1)), .int (iI ((b0 : Int))), .int (iI (va)), .int (iI (z3)), wv]) := by rw [ew_2]; exact (wset_ne _ (w_neN hA hsb)).trans hA
  have ne_bf_sb : Ne9 bf sb := w_neN hB1 hsb
  have hF_bf_w_1 : w_1 bf = some (rb, iE G 1 800 fb) := by rw [ew_2]; exact (wset_ne _ (w_neN hB1 hsb)).trans hB1
  have hsb9 : Ne9 rb (sb + 1) := hB0.nr hG hn_sb
  refine lv_dup hx hb dX11_letters_3 rfl ?_
  -- call java/lang/StringBuilder.<init>
  refine h_kV (h_runI X hR (sbb_init0 l G w_1 (sb + 1) sb hU.2.2.1 (by omega) hF_sb_w_1) pn_yJ9_init rfl q2080 q266 q131 q267 ⟨by decide, by decide⟩ hl.1 (Nat.le_of_ble_eq_true rfl) dX11_letters_4 ⟨by omega, by omega⟩) hL (fun w_4 hp_5 H locs hR hL => ?_)
  obtain ⟨hB__7, u_6⟩ := hp_5
  have hF_q_w_4 : w_4 q = some (q + 1, oE 9 [.ref bf, .int (iI ((T.length : Int))), .int (iI (z1)), .int (iI ((b0 : Int))), .int (iI (va)), .int (iI (z3)), wv]) := u_6.1 _ _ _ hF_q_w_1 (by first | exact id | exact fun q_ => absurd q_ (by first | assumption | exact Ne9.p (by assumption)) | exact fun q_ => absurd (Nat.succ.inj q_) (by first | assumption | exact Ne9.p (by assumption)) | exact fun q_ => absurd q_.symm (Nat.succ_ne_zero _) | exact fun q_ => absurd (Nat.succ.inj q_).symm (by first | assumption | exact Ne9.p (by assumption)) | (intro q_; (try dsimp only at q_); rcases q_ with q_ | q_ | q_ | q_ | q_ <;> first | exact absurd q_ (by first | assumption | exact Ne9.p (by assumption)) | exact absurd (Nat.succ.inj q_) (by first | assumption | exact Ne9.p (by assumption)) | exact absurd q_.symm (Nat.succ_ne_zero _) | exact absurd (Nat.succ.inj q_).symm (by first | assumption | exact Ne9.p (by assumption))) | (intro q_; (try dsimp only at q_); rcases q_ with q_ | q_ | q_ | q_ <;> first | exact absurd q_ (by first | assumption | exact Ne9.p (by assumption)) | exact absurd (Nat.succ.inj q_) (by first | assumption | exact Ne9.p (by assumption)) | exact absurd q_.symm (Nat.succ_ne_zero _) | exact absurd (Nat.succ.inj q_).symm (by first | assumption | exact Ne9.p (by assumption))) | (intro q_; (try dsimp only at q_); rcases q_ with q_ | q_ <;> first | exact absurd q_ (by first | assumption | exact Ne9.p (by assumption)) | exact absurd (Nat.succ.inj q_) (by first | assumption | exact Ne9.p (by assumption)) | exact absurd q_.symm (Nat.succ_ne_zero _) | exact absurd (Nat.succ.inj q_).symm (by first | assumption | exact Ne9.p (by assumption))) | (intro q_; (try dsimp only at q_); omega))
  have hF_bf_w_4 : w_4 bf = some (rb, iE G 1 800 fb) := u_6.1 _ _ _ hF_bf_w_1 (by first | exact id | exact fun q_ => absurd q_ (by first | assumption | exact Ne9.p (by assumption)) | exact fun q_ => absurd (Nat.succ.inj q_) (by first | assumption | exact Ne9.p (by assumption)) | exact fun q_ => absurd q_.symm (Nat.succ_ne_zero _) | exact fun q_ => absurd (Nat.succ.inj q_).symm (by first | assumption | exact Ne9.p (by assumption)) | (intro q_; (try dsimp only at q_); rcases q_ with q_ | q_ | q_ | q_ | q_ <;> first | exact absurd q_ (by first | assumption | exact Ne9.p (by assumption)) | exact absurd (Nat.succ.inj q_) (by first | assumption | exact Ne9.p (by assumption)) | exact absurd q_.symm (Nat.succ_ne_zero _) | exact absurd (Nat.succ.inj q_).symm (by first | assumption | exact Ne9.p (by assumption))) | (intro q_; (try dsimp only at q_); rcases q_ with q_ | q_ | q_ | q_ <;> first | exact absurd q_ (by first | assumption | exact Ne9.p (by assumption)) | exact absurd (Nat.succ.inj q_) (by first | assumption | exact Ne9.p (by assumption)) | exact absurd q_.symm (Nat.succ_ne_zero _) | exact absurd (Nat.succ.inj q_).symm (by first | assumption | exact Ne9.p (by assumption))) | (intro q_; (try dsimp only at q_); rcases q_ with q_ | q_ <;> first | exact absurd q_ (by first | assumption | exact Ne9.p (by assumption)) | exact absurd (Nat.succ.inj q_) (by first | assumption | exact Ne9.p (by assumption)) | exact absurd q_.symm (Nat.succ_ne_zero _) | exact absurd (Nat.succ.inj q_).symm (by first | assumption | exact Ne9.p (by assumption))) | (intro q_; (try dsimp only at q_); omega))
  have hU : Up (fun q_ => q_ = q + 1) w w_4 := hU.tr u_6 (fun q_ h_ => by first | exact absurd h_ id | exact Or.inl h_ | exact Or.inr (up_nw h_ (by assumption)) | exact Or.inl (Or.inl h_) | exact Or.inl (Or.inr h_) | exact Or.inl (Or.inr (Or.inl h_)) | exact Or.inl (Or.inr (Or.inr h_)) | exact Or.inl (Or.inr (Or.inr (Or.inl h_))) | exact Or.inl (Or.inr (Or.inr (Or.inr h_))) | exact Or.inl (h_.elim Or.inl (fun h_ => Or.inr (Or.inl h_))) | ((try dsimp only at h_); first | exact Or.inl (by omega) | exact Or.inr ⟨by omega, by subst h_; rw [Nat.add_sub_cancel]; assumption⟩)) hG
  refine lv_astore_n (lv' := [(1, .ref sb), (0, .ref q)]) hx hb dX11_letters_7 rfl hl (by decide) rfl (fun ls hl => ?_)
  have LOOP_9 : ∀ (N_ : Nat) (k : Nat) (C : List Int)(w_8 : Wd) , (b0 ≤ k ∧ k ≤ T.length) → (ltE T k = ltE T b0) → (C = lw T b0 k) → (w_8 bf = some (rb, iE G 1 800 fb)) → (w_8 q = some (q + 1, oE 9 [.ref bf, .int (iI ((T.length : Int))), .int (iI (z1)), .int (iI (((k : Nat) : Int))), .int (iI (va)), .int (iI (z3)), wv])) → (SbAt G w_8 (sb + 1) sb 16 C) → (Up (fun q_ => q_ = q + 1) w w_8) → (T.length - k) < N_ → ∀ (H : Heap) (locs : List Loc) (ls : Array Slot), Rp G w_8 H → LK G locs → lv_has ls 2 [(0, .ref q), (1, .ref sb)] → W p9 l e9 (rmk 8 4 33) s9 m9 a9 b9 meth9 c9 H locs 2 20 (MQ b9 (QR G (fun z_ w_ => StrAt G w_ z_ (lw T b0 (ltE T b0)) ∧ w_ q = some (q + 1, oE 9 [.ref bf, .int (iI ((T.length : Int))), .int (iI (z1)), .int (iI (((ltE T b0 : Nat) : Int))), .int (iI (va)), .int (iI (z3)), wv]) ∧ Up (fun q_ => q_ = q + 1) w w_)) a9 s9 4 33 (frG G)) (F0 m9 8 ls []) := by
    intro N_
    induction N_ with
    | zero => intro _ _ _ _ _ _ _ _ _ _ h_; exact absurd h_ (Nat.not_lt_zero _)
    | succ N_ ih_ =>
      intro k C w_8 hk hlt hC hI_bf_w_8 hI_q_w_8 hI_sb_w_8 hU hN_ H locs ls hR hL hl
      have ih_9 := ih_
      clear ih_
      have hCl := congrArg List.length hC
      rw [lw_len] at hCl
      refine lv_aload_n hx hb dX11_letters_8 rfl (lv_at hl 0 rfl) ?_
      refine lv_aload_n hx hb dX11_letters_9 rfl (lv_at hl 0 rfl) ?_
      refine h_get X hR hI_q_w_8 rfl in_X12 3 (by decide) q2093 rfl dX11_letters_10 ?_
      refine h_bipush hx hb dX11_letters_13 (by decide) ?_
      refine h_bipush hx hb dX11_letters_15 (by decide) ?_
      -- call SpokenMarks$Scanner.isBetween
      refine h_kIp (h_runU (x := ⟨"SpokenMarks$Scanner", "isBetween", "(III)Z"⟩) (owner := "SpokenMarks$Scanner") X hR (sc_isBr l G w_8 q bf rb T z1 (((k : Nat) : Int)) va z3 wv hI_q_w_8 ⟨fb, hI_bf_w_8, hTW, hfb⟩ ((k)) 97 122 (by decide) (by omega)) (by decide) pn_yX11_isBetween (hasC.of hI_q_w_8 rfl) q2070 q3386 (h_declC X q2072 q2074) (h_selP X hR qs17 q2071 (by decide) (hasC.of hI_q_w_8 rfl)) q2072 q162 q2074 ⟨by decide, by decide⟩ hl.1 (Nat.le_of_ble_eq_true rfl) dX11_letters_17 ⟨by omega, by omega⟩) hL (fun H locs hR hL => ?_)
      refine h_if_eq hx hb 60 dX11_letters_20 (by decide) (by have := b2i_01 (97 ≤ bat T k ∧ bat T k ≤ 122); omega) (fun c_l => ?_) (fun c_l => ?_)
      ·
        have c_n := b2i_0.mp c_l
        have hke : ltE T b0 = k := hlt.symm.trans (ltE_no c_n)
        refine lv_aload_n hx hb dX11_letters_60 rfl (lv_at hl 1 rfl) ?_
        -- call java/lang/StringBuilder.toString
        refine h_kR (h_runV X hR (sbb_str l G w_8 sb 16 C hI_sb_w_8 hU.2.2.1) pn_yJ9_toString (hI_sb_w_8.c) q2083 q441 q442 q131 q443 ⟨by decide, by decide⟩ hl.1 (Nat.le_of_ble_eq_true rfl) dX11_letters_61 ⟨by omega, by omega⟩) hL (fun z_13 w_14 hp_15 H locs hR hL => ?_)
        obtain ⟨hz_17, hS__18, u_16⟩ := hp_15
        have ne_bf_z_13 : Ne9 bf z_13 := w_neN hI_bf_w_8 hz_17
        have ne_q_z_13 : Ne9 q z_13 := w_neN hI_q_w_8 hz_17
        have ne_sb_z_13 : Ne9 sb z_13 := sm_ne hI_sb_w_8.sm hz_17
        have hn_z_13 : w z_13 = none := hU.2.1 _ hz_17
        have hF_bf_w_14 : w_14 bf = some (rb, iE G 1 800 fb) := u_16.1 _ _ _ hI_bf_w_8 (by first | exact id | exact fun q_ => absurd q_ (by first | assumption | exact Ne9.p (by assumption)) | exact fun q_ => absurd (Nat.succ.inj q_) (by first | assumption | exact Ne9.p (by assumption)) | exact fun q_ => absurd q_.symm (Nat.succ_ne_zero _) | exact fun q_ => absurd (Nat.succ.inj q_).symm (by first | assumption | exact Ne9.p (by assumption)) | (intro q_; (try dsimp only at q_); rcases q_ with q_ | q_ | q_ | q_ | q_ <;> first | exact absurd q_ (by first | assumption | exact Ne9.p (by assumption)) | exact absurd (Nat.succ.inj q_) (by first | assumption | exact Ne9.p (by assumption)) | exact absurd q_.symm (Nat.succ_ne_zero _) | exact absurd (Nat.succ.inj q_).symm (by first | assumption | exact Ne9.p (by assumption))) | (intro q_; (try dsimp only at q_); rcases q_ with q_ | q_ | q_ | q_ <;> first | exact absurd q_ (by first | assumption | exact Ne9.p (by assumption)) | exact absurd (Nat.succ.inj q_) (by first | assumption | exact Ne9.p (by assumption)) | exact absurd q_.symm (Nat.succ_ne_zero _) | exact absurd (Nat.succ.inj q_).symm (by first | assumption | exact Ne9.p (by assumption))) | (intro q_; (try dsimp only at q_); rcases q_ with q_ | q_ <;> first | exact absurd q_ (by first | assumption | exact Ne9.p (by assumption)) | exact absurd (Nat.succ.inj q_) (by first | assumption | exact Ne9.p (by assumption)) | exact absurd q_.symm (Nat.succ_ne_zero _) | exact absurd (Nat.succ.inj q_).symm (by first | assumption | exact Ne9.p (by assumption))) | (intro q_; (try dsimp only at q_); omega))
        have hF_q_w_14 : w_14 q = some (q + 1, oE 9 [.ref bf, .int (iI ((T.length : Int))), .int (iI (z1)), .int (iI (((k : Nat) : Int))), .int (iI (va)), .int (iI (z3)), wv]) := u_16.1 _ _ _ hI_q_w_8 (by first | exact id | exact fun q_ => absurd q_ (by first | assumption | exact Ne9.p (by assumption)) | exact fun q_ => absurd (Nat.succ.inj q_) (by first | assumption | exact Ne9.p (by assumption)) | exact fun q_ => absurd q_.symm (Nat.succ_ne_zero _) | exact fun q_ => absurd (Nat.succ.inj q_).symm (by first | assumption | exact Ne9.p (by assumption)) | (intro q_; (try dsimp only at q_); rcases q_ with q_ | q_ | q_ | q_ | q_ <;> first | exact absurd q_ (by first | assumption | exact Ne9.p (by assumption)) | exact absurd (Nat.succ.inj q_) (by first | assumption | exact Ne9.p (by assumption)) | exact absurd q_.symm (Nat.succ_ne_zero _) | exact absurd (Nat.succ.inj q_).symm (by first | assumption | exact Ne9.p (by assumption))) | (intro q_; (try dsimp only at q_); rcases q_ with q_ | q_ | q_ | q_ <;> first | exact absurd q_ (by first | assumption | exact Ne9.p (by assumption)) | exact absurd (Nat.succ.inj q_) (by first | assumption | exact Ne9.p (by assumption)) | exact absurd q_.symm (Nat.succ_ne_zero _) | exact absurd (Nat.succ.inj q_).symm (by first | assumption | exact Ne9.p (by assumption))) | (intro q_; (try dsimp only at q_); rcases q_ with q_ | q_ <;> first | exact absurd q_ (by first | assumption | exact Ne9.p (by assumption)) | exact absurd (Nat.succ.inj q_) (by first | assumption | exact Ne9.p (by assumption)) | exact absurd q_.symm (Nat.succ_ne_zero _) | exact absurd (Nat.succ.inj q_).symm (by first | assumption | exact Ne9.p (by assumption))) | (intro q_; (try dsimp only at q_); omega))
        have hP_sb_w_14 := hI_sb_w_8.mv (u_16.1) (by first | exact id | exact fun q_ => absurd q_ (by first | assumption | exact Ne9.p (by assumption)) | exact fun q_ => absurd (Nat.succ.inj q_) (by first | assumption | exact Ne9.p (by assumption)) | exact fun q_ => absurd q_.symm (Nat.succ_ne_zero _) | exact fun q_ => absurd (Nat.succ.inj q_).symm (by first | assumption | exact Ne9.p (by assumption)) | (intro q_; (try dsimp only at q_); rcases q_ with q_ | q_ | q_ | q_ | q_ <;> first | exact absurd q_ (by first | assumption | exact Ne9.p (by assumption)) | exact absurd (Nat.succ.inj q_) (by first | assumption | exact Ne9.p (by assumption)) | exact absurd q_.symm (Nat.succ_ne_zero _) | exact absurd (Nat.succ.inj q_).symm (by first | assumption | exact Ne9.p (by assumption))) | (intro q_; (try dsimp only at q_); rcases q_ with q_ | q_ | q_ | q_ <;> first | exact absurd q_ (by first | assumption | exact Ne9.p (by assumption)) | exact absurd (Nat.succ.inj q_) (by first | assumption | exact Ne9.p (by assumption)) | exact absurd q_.symm (Nat.succ_ne_zero _) | exact absurd (Nat.succ.inj q_).symm (by first | assumption | exact Ne9.p (by assumption))) | (intro q_; (try dsimp only at q_); rcases q_ with q_ | q_ <;> first | exact absurd q_ (by first | assumption | exact Ne9.p (by assumption)) | exact absurd (Nat.succ.inj q_) (by first | assumption | exact Ne9.p (by assumption)) | exact absurd q_.symm (Nat.succ_ne_zero _) | exact absurd (Nat.succ.inj q_).symm (by first | assumption | exact Ne9.p (by assumption))) | (intro q_; (try dsimp only at q_); omega))
        have hU : Up (fun q_ => q_ = q + 1) w w_14 := hU.tr u_16 (fun q_ h_ => by first | exact absurd h_ id | exact Or.inl h_ | exact Or.inr (up_nw h_ (by assumption)) | exact Or.inl (Or.inl h_) | exact Or.inl (Or.inr h_) | exact Or.inl (Or.inr (Or.inl h_)) | exact Or.inl (Or.inr (Or.inr h_)) | exact Or.inl (Or.inr (Or.inr (Or.inl h_))) | exact Or.inl (Or.inr (Or.inr (Or.inr h_))) | exact Or.inl (h_.elim Or.inl (fun h_ => Or.inr (Or.inl h_))) | ((try dsimp only at h_); first | exact Or.inl (by omega) | exact Or.inr ⟨by omega, by subst h_; rw [Nat.add_sub_cancel]; assumption⟩)) hG
        exact h_areturn hx hb hlk hret (by first | exact Or.inl ⟨_, rfl⟩ | exact Or.inr ⟨_, rfl⟩) hR hL ⟨by rw [hke, ← hC]; exact hS__18, by rw [hke]; exact hF_q_w_14, hU⟩ (by omega) (by omega) rfl rfl dX11_letters_64
      ·
        have c_y := b2i_n1.mp c_l
        have c_go := ltE_go c_y
        have hil : k < T.length := c_go.2
        have hf := hfb k hil
        have hx2 := hTW.2 k hil
        have hbt : bat T k = T.getD k 0 := if_pos hil
        have hb8 := b8_b hx2
        refine lv_aload_n hx hb dX11_letters_23 rfl (lv_at hl 1 rfl) ?_
        -- call java/lang/StringBuilder.length
        refine h_kIp (h_runV X hR (sb_lenS l G w_8 (sb + 1) sb 16 C hI_sb_w_8) pn_yJ9_length (hI_sb_w_8.c) q2081 q462 q3388 q131 q463 ⟨by decide, by decide⟩ hl.1 (Nat.le_of_ble_eq_true rfl) dX11_letters_24 ⟨by omega, by omega⟩) hL (fun H locs hR hL => ?_)
        refine h_bipush hx hb dX11_letters_27 (by decide) ?_
        refine h_icmp_gt hx hb 47 dX11_letters_29 (by decide) (by omega) (by omega) (fun c_8 => ?_) (fun c_8 => ?_)
        ·
          refine lv_aload_n hx hb dX11_letters_47 rfl (lv_at hl 0 rfl) ?_
          refine lv_dup hx hb dX11_letters_48 rfl ?_
          refine h_get X hR hI_q_w_8 rfl in_X12 3 (by decide) q2093 rfl dX11_letters_49 ?_
          refine h_iconst hx hb dX11_letters_52 ?_
          refine h_iadd hx hb dX11_letters_53 ?_
          refine h_put X hR hL hI_q_w_8 (Nat.succ_ne_zero _) rfl in_X12 tyX12_ok nmX12 3 (by decide) q2093 rfl rfl rfl (Nat.le_of_ble_eq_true rfl) dX11_letters_54 (fun w_22 ew_23 H locs hR hL => ?_)
          have hU : Up (fun q_ => q_ = q + 1) w w_22 := by rw [ew_23]; exact hU.set hI_q_w_8 (by first | exact Or.inl rfl | exact Or.inl (Or.inl rfl) | exact Or.inl (Or.inr rfl) | exact Or.inl (Or.inr (Or.inl rfl)) | exact Or.inl (Or.inr (Or.inr rfl)) | exact Or.inr ⟨Nat.succ_ne_zero _, by rw [Nat.add_sub_cancel]; assumption⟩ | exact Or.inr ⟨by omega, by assumption⟩) hG _
          have hF_q_w_22 : w_22 q = some (q + 1, oE 9 [.ref bf, .int (iI ((T.length : Int))), .int (iI (z1)), .int (iI (((k : Nat) : Int) + 1)), .int (iI (va)), .int (iI (z3)), wv]) := by rw [ew_23]; exact wset_eq _ _ _
          have hF_bf_w_22 : w_22 bf = some (rb, iE G 1 800 fb) := by rw [ew_23]; exact (wset_ne _ (by first | exact Ne9.p ne_bf_q | exact Ne.symm (Ne9.p ne_q_bf) | exact ne_bf_q | exact Ne.symm ne_q_bf | exact w_ne hI_bf_w_8 hI_q_w_8 (by intro h; cases h) | exact w_neR hI_bf_w_8 hI_q_w_8 (by first | exact fun q_ => absurd (Nat.succ.inj q_) (by first | assumption | exact Ne9.p (by assumption)) | exact fun q_ => absurd (Nat.succ.inj q_).symm (by first | assumption | exact Ne9.p (by assumption)) | exact Nat.succ_ne_zero _ | exact (Nat.succ_ne_zero _).symm | omega))).trans hI_bf_w_8
          have hP_sb_w_22 := hI_sb_w_8.mv (w1 := w_22) (S := fun q_ => q_ = q + 1) (by rw [ew_23]; exact Fr.one hI_q_w_8 _) (by first | exact id | exact fun q_ => absurd q_ (by first | assumption | exact Ne9.p (by assumption)) | exact fun q_ => absurd (Nat.succ.inj q_) (by first | assumption | exact Ne9.p (by assumption)) | exact fun q_ => absurd q_.symm (Nat.succ_ne_zero _) | exact fun q_ => absurd (Nat.succ.inj q_).symm (by first | assumption | exact Ne9.p (by assumption)) | (intro q_; (try dsimp only at q_); rcases q_ with q_ | q_ | q_ | q_ | q_ <;> first | exact absurd q_ (by first | assumption | exact Ne9.p (by assumption)) | exact absurd (Nat.succ.inj q_) (by first | assumption | exact Ne9.p (by assumption)) | exact absurd q_.symm (Nat.succ_ne_zero _) | exact absurd (Nat.succ.inj q_).symm (by first | assumption | exact Ne9.p (by assumption))) | (intro q_; (try dsimp only at q_); rcases q_ with q_ | q_ | q_ | q_ <;> first | exact absurd q_ (by first | assumption | exact Ne9.p (by assumption)) | exact absurd (Nat.succ.inj q_) (by first | assumption | exact Ne9.p (by assumption)) | exact absurd q_.symm (Nat.succ_ne_zero _) | exact absurd (Nat.succ.inj q_).symm (by first | assumption | exact Ne9.p (by assumption))) | (intro q_; (try dsimp only at q_); rcases q_ with q_ | q_ <;> first | exact absurd q_ (by first | assumption | exact Ne9.p (by assumption)) | exact absurd (Nat.succ.inj q_) (by first | assumption | exact Ne9.p (by assumption)) | exact absurd q_.symm (Nat.succ_ne_zero _) | exact absurd (Nat.succ.inj q_).symm (by first | assumption | exact Ne9.p (by assumption))) | (intro q_; (try dsimp only at q_); omega))
          refine lv_goto (tgt := 8) hx hb dX11_letters_57 (by decide) ?_
          exact ih_9 (k + 1) C w_22 (by omega) (by rw [← hlt]; exact c_go.1.symm) (by rw [hC]; exact (lw_n hk.1 (by rw [← hC]; omega)).symm) hF_bf_w_22 hF_q_w_22 hP_sb_w_22 hU (by omega) _ _ _ hR hL (lv_sub hl [0, 1] rfl)
        ·
          refine lv_aload_n hx hb dX11_letters_32 rfl (lv_at hl 1 rfl) ?_
          refine lv_aload_n hx hb dX11_letters_33 rfl (lv_at hl 0 rfl) ?_
          refine h_get X hR hI_q_w_8 rfl in_X12 0 (by decide) q2090 rfl dX11_letters_34 ?_
          refine lv_aload_n hx hb dX11_letters_37 rfl (lv_at hl 0 rfl) ?_
          refine h_get X hR hI_q_w_8 rfl in_X12 3 (by decide) q2093 rfl dX11_letters_38 ?_
          refine h_bald X hR hI_bf_w_8 (by omega) (by omega) dX11_letters_41 ?_
          refine W.eq (g2 := F0 m9 42 ls [.int (iI (bat T k)), .ref sb]) (congrArg (fun z_ : Int => F0 m9 42 ls [.int (iI (z_)), .ref sb]) (show (fb (((k : Nat) : Int)).toNat : Int) = bat T k from (by rw [Int.toNat_natCast]; omega))) ?_
          refine h_i2c hx hb dX11_letters_42 (by omega) ?_
          -- call java/lang/StringBuilder.append
          refine h_kR (h_runV X hR (sbb_c0 l G w_8 (sb + 1) sb 16 C hI_sb_w_8 hU.2.2.1 (Nat.succ_ne_zero _) (bat T k) (by omega) (by omega)) pn_yJ9_append_3 (hI_sb_w_8.c) q2082 q1479 q1480 q131 q1481 ⟨by decide, by decide⟩ hl.1 (Nat.le_of_ble_eq_true rfl) dX11_letters_43 ⟨by omega, by omega⟩) hL (fun z_25 w_26 hp_27 H locs hR hL => ?_)
          obtain ⟨hzq_30, hB__29, u_28⟩ := hp_27
          have hzq_30 := hzq_30.symm
          subst hzq_30
          have hF_bf_w_26 : w_26 bf = some (rb, iE G 1 800 fb) := u_28.1 _ _ _ hI_bf_w_8 (by first | exact id | exact fun q_ => absurd q_ (by first | assumption | exact Ne9.p (by assumption)) | exact fun q_ => absurd (Nat.succ.inj q_) (by first | assumption | exact Ne9.p (by assumption)) | exact fun q_ => absurd q_.symm (Nat.succ_ne_zero _) | exact fun q_ => absurd (Nat.succ.inj q_).symm (by first | assumption | exact Ne9.p (by assumption)) | (intro q_; (try dsimp only at q_); rcases q_ with q_ | q_ | q_ | q_ | q_ <;> first | exact absurd q_ (by first | assumption | exact Ne9.p (by assumption)) | exact absurd (Nat.succ.inj q_) (by first | assumption | exact Ne9.p (by assumption)) | exact absurd q_.symm (Nat.succ_ne_zero _) | exact absurd (Nat.succ.inj q_).symm (by first | assumption | exact Ne9.p (by assumption))) | (intro q_; (try dsimp only at q_); rcases q_ with q_ | q_ | q_ | q_ <;> first | exact absurd q_ (by first | assumption | exact Ne9.p (by assumption)) | exact absurd (Nat.succ.inj q_) (by first | assumption | exact Ne9.p (by assumption)) | exact absurd q_.symm (Nat.succ_ne_zero _) | exact absurd (Nat.succ.inj q_).symm (by first | assumption | exact Ne9.p (by assumption))) | (intro q_; (try dsimp only at q_); rcases q_ with q_ | q_ <;> first | exact absurd q_ (by first | assumption | exact Ne9.p (by assumption)) | exact absurd (Nat.succ.inj q_) (by first | assumption | exact Ne9.p (by assumption)) | exact absurd q_.symm (Nat.succ_ne_zero _) | exact absurd (Nat.succ.inj q_).symm (by first | assumption | exact Ne9.p (by assumption))) | (intro q_; (try dsimp only at q_); omega))
          have hF_q_w_26 : w_26 q = some (q + 1, oE 9 [.ref bf, .int (iI ((T.length : Int))), .int (iI (z1)), .int (iI (((k : Nat) : Int))), .int (iI (va)), .int (iI (z3)), wv]) := u_28.1 _ _ _ hI_q_w_8 (by first | exact id | exact fun q_ => absurd q_ (by first | assumption | exact Ne9.p (by assumption)) | exact fun q_ => absurd (Nat.succ.inj q_) (by first | assumption | exact Ne9.p (by assumption)) | exact fun q_ => absurd q_.symm (Nat.succ_ne_zero _) | exact fun q_ => absurd (Nat.succ.inj q_).symm (by first | assumption | exact Ne9.p (by assumption)) | (intro q_; (try dsimp only at q_); rcases q_ with q_ | q_ | q_ | q_ | q_ <;> first | exact absurd q_ (by first | assumption | exact Ne9.p (by assumption)) | exact absurd (Nat.succ.inj q_) (by first | assumption | exact Ne9.p (by assumption)) | exact absurd q_.symm (Nat.succ_ne_zero _) | exact absurd (Nat.succ.inj q_).symm (by first | assumption | exact Ne9.p (by assumption))) | (intro q_; (try dsimp only at q_); rcases q_ with q_ | q_ | q_ | q_ <;> first | exact absurd q_ (by first | assumption | exact Ne9.p (by assumption)) | exact absurd (Nat.succ.inj q_) (by first | assumption | exact Ne9.p (by assumption)) | exact absurd q_.symm (Nat.succ_ne_zero _) | exact absurd (Nat.succ.inj q_).symm (by first | assumption | exact Ne9.p (by assumption))) | (intro q_; (try dsimp only at q_); rcases q_ with q_ | q_ <;> first | exact absurd q_ (by first | assumption | exact Ne9.p (by assumption)) | exact absurd (Nat.succ.inj q_) (by first | assumption | exact Ne9.p (by assumption)) | exact absurd q_.symm (Nat.succ_ne_zero _) | exact absurd (Nat.succ.inj q_).symm (by first | assumption | exact Ne9.p (by assumption))) | (intro q_; (try dsimp only at q_); omega))
          have hU : Up (fun q_ => q_ = q + 1) w w_26 := hU.tr u_28 (fun q_ h_ => by first | exact absurd h_ id | exact Or.inl h_ | exact Or.inr (up_nw h_ (by assumption)) | exact Or.inl (Or.inl h_) | exact Or.inl (Or.inr h_) | exact Or.inl (Or.inr (Or.inl h_)) | exact Or.inl (Or.inr (Or.inr h_)) | exact Or.inl (Or.inr (Or.inr (Or.inl h_))) | exact Or.inl (Or.inr (Or.inr (Or.inr h_))) | exact Or.inl (h_.elim Or.inl (fun h_ => Or.inr (Or.inl h_))) | ((try dsimp only at h_); first | exact Or.inl (by omega) | exact Or.inr ⟨by omega, by subst h_; rw [Nat.add_sub_cancel]; assumption⟩)) hG
          refine lv_pop hx hb dX11_letters_46 rfl ?_
          refine lv_aload_n hx hb dX11_letters_47 rfl (lv_at hl 0 rfl) ?_
          refine lv_dup hx hb dX11_letters_48 rfl ?_
          refine h_get X hR hF_q_w_26 rfl in_X12 3 (by decide) q2093 rfl dX11_letters_49 ?_
          refine h_iconst hx hb dX11_letters_52 ?_
          refine h_iadd hx hb dX11_letters_53 ?_
          refine h_put X hR hL hF_q_w_26 (Nat.succ_ne_zero _) rfl in_X12 tyX12_ok nmX12 3 (by decide) q2093 rfl rfl rfl (Nat.le_of_ble_eq_true rfl) dX11_letters_54 (fun w_31 ew_32 H locs hR hL => ?_)
          have hU : Up (fun q_ => q_ = q + 1) w w_31 := by rw [ew_32]; exact hU.set hF_q_w_26 (by first | exact Or.inl rfl | exact Or.inl (Or.inl rfl) | exact Or.inl (Or.inr rfl) | exact Or.inl (Or.inr (Or.inl rfl)) | exact Or.inl (Or.inr (Or.inr rfl)) | exact Or.inr ⟨Nat.succ_ne_zero _, by rw [Nat.add_sub_cancel]; assumption⟩ | exact Or.inr ⟨by omega, by assumption⟩) hG _
          have hF_q_w_31 : w_31 q = some (q + 1, oE 9 [.ref bf, .int (iI ((T.length : Int))), .int (iI (z1)), .int (iI (((k : Nat) : Int) + 1)), .int (iI (va)), .int (iI (z3)), wv]) := by rw [ew_32]; exact wset_eq _ _ _
          have hF_bf_w_31 : w_31 bf = some (rb, iE G 1 800 fb) := by rw [ew_32]; exact (wset_ne _ (by first | exact Ne9.p ne_bf_q | exact Ne.symm (Ne9.p ne_q_bf) | exact ne_bf_q | exact Ne.symm ne_q_bf | exact w_ne hF_bf_w_26 hF_q_w_26 (by intro h; cases h) | exact w_neR hF_bf_w_26 hF_q_w_26 (by first | exact fun q_ => absurd (Nat.succ.inj q_) (by first | assumption | exact Ne9.p (by assumption)) | exact fun q_ => absurd (Nat.succ.inj q_).symm (by first | assumption | exact Ne9.p (by assumption)) | exact Nat.succ_ne_zero _ | exact (Nat.succ_ne_zero _).symm | omega))).trans hF_bf_w_26
          have hP_sb_w_31 := hB__29.mv (w1 := w_31) (S := fun q_ => q_ = q + 1) (by rw [ew_32]; exact Fr.one hF_q_w_26 _) (by first | exact id | exact fun q_ => absurd q_ (by first | assumption | exact Ne9.p (by assumption)) | exact fun q_ => absurd (Nat.succ.inj q_) (by first | assumption | exact Ne9.p (by assumption)) | exact fun q_ => absurd q_.symm (Nat.succ_ne_zero _) | exact fun q_ => absurd (Nat.succ.inj q_).symm (by first | assumption | exact Ne9.p (by assumption)) | (intro q_; (try dsimp only at q_); rcases q_ with q_ | q_ | q_ | q_ | q_ <;> first | exact absurd q_ (by first | assumption | exact Ne9.p (by assumption)) | exact absurd (Nat.succ.inj q_) (by first | assumption | exact Ne9.p (by assumption)) | exact absurd q_.symm (Nat.succ_ne_zero _) | exact absurd (Nat.succ.inj q_).symm (by first | assumption | exact Ne9.p (by assumption))) | (intro q_; (try dsimp only at q_); rcases q_ with q_ | q_ | q_ | q_ <;> first | exact absurd q_ (by first | assumption | exact Ne9.p (by assumption)) | exact absurd (Nat.succ.inj q_) (by first | assumption | exact Ne9.p (by assumption)) | exact absurd q_.symm (Nat.succ_ne_zero _) | exact absurd (Nat.succ.inj q_).symm (by first | assumption | exact Ne9.p (by assumption))) | (intro q_; (try dsimp only at q_); rcases q_ with q_ | q_ <;> first | exact absurd q_ (by first | assumption | exact Ne9.p (by assumption)) | exact absurd (Nat.succ.inj q_) (by first | assumption | exact Ne9.p (by assumption)) | exact absurd q_.symm (Nat.succ_ne_zero _) | exact absurd (Nat.succ.inj q_).symm (by first | assumption | exact Ne9.p (by assumption))) | (intro q_; (try dsimp only at q_); omega))
          refine lv_goto (tgt := 8) hx hb dX11_letters_57 (by decide) ?_
          exact ih_9 (k + 1) (C ++ [bat T k]) w_31 (by omega) (by rw [← hlt]; exact c_go.1.symm) (by rw [hC]; exact (lw_y hk.1 (by rw [← hC]; omega)).symm) hF_bf_w_31 hF_q_w_31 hP_sb_w_31 hU (by omega) _ _ _ hR hL (lv_sub hl [0, 1] rfl)
  exact LOOP_9 _ b0 ([]) w_4 ⟨Nat.le_refl _, hb0⟩ rfl (lw_0 T b0).symm hF_bf_w_4 hF_q_w_4 hB__7 hU (Nat.lt_succ_self _) _ _ _ hR hL (lv_sub hl [1, 0] rfl)

set_option maxHeartbeats 4000000 in
set_option maxRecDepth 100000 in
/-- SpokenMarks$Scanner.letters -/
theorem sc_lets (l : Launch) (G : Gl) (w : Wd) (q : Nat) (ol ca : Value) (bf rb : Nat) (T : List Int) (z1 va z3 : Int) (wv : Value) (b0 : Nat) (hA : w q = some (q + 1, oE 10 [.ref bf, .int (iI ((T.length : Int))), .int (iI (z1)), .int (iI ((b0 : Int))), .int (iI (va)), .int (iI (z3)), wv, ol, ca])) (hB : BufAt G w bf rb T) (hb0 : b0 ≤ T.length) (hqb : rb ≠ q + 1) (hG : RegW w) : HM l yX11_letters cX11_letters 2 (some (.object "java/lang/String")) 8 4 33 G [.ref q] w (QR G (fun z_ w_ => StrAt G w_ z_ (lw T b0 (ltE T b0)) ∧ w_ q = some (q + 1, oE 10 [.ref bf, .int (iI ((T.length : Int))), .int (iI (z1)), .int (iI (((ltE T b0 : Nat) : Int))), .int (iI (va)), .int (iI (z3)), wv, ol, ca]) ∧ Up (fun q_ => q_ = q + 1) w w_)) := by
  refine HM.mk (by decide +kernel) (Nat.le_of_ble_eq_true rfl) ?_
  intro p9 e9 s9 m9 a9 b9 meth9 c9 ls X hret hlk hnm hl H hR
  have hx := X.1.1
  have hb := X.1.2.1
  have hl : lv_has ls 2 [(0, .ref q)] := hl
  have hL : LK G [] := fun q h => absurd h List.not_mem_nil
  generalize ([] : List Loc) = locs at hL ⊢
  have hU : Up (fun q_ => q_ = q + 1) w w := Up.rf hG
  have hB0 := hB
  obtain ⟨fb, hB1, hTW, hfb⟩ := hB
  have hTl := hTW.1
  refine h_new X hR (ci := 20) (fun q => q + 1) rfl in_J9 tyJ9_ok q2079 q264 q131 [.null, .int (iI (0)), .int (iI (0)), .int (iI (0))] (by intro j hj; rcases (show j = 0 ∨ j = 1 ∨ j = 2 ∨ j = 3 by omega) with rfl | rfl | rfl | rfl <;> rfl) (by omega) (by omega) dX11_letters_0 (fun sb hsb w_1 ew_2 H hR => ?_)
  have hn_sb : w sb = none := hU.2.1 _ hsb
  have hU : Up (fun q_ => q_ = q + 1) w w_1 := by rw [ew_2]; exact hU.new hsb (by first | exact Or.inr (Or.inl rfl) | exact Or.inl rfl | exact Or.inr (Or.inr (by assumption)))
  have hF_sb_w_1 : w_1 sb = some (sb + 1, oE 20 [.null, .int (iI (0)), .int (iI (0)), .int (iI (0))]) := by rw [ew_2]; exact wset_eq _ _ _
  have ne_q_sb : Ne9 q sb := w_neN hA hsb
  have hF_q_w_1 : w_1 q = some (q + 1, oE 10 [.ref bf, .int (iI ((T.length : Int))), .int (iI (z1)), .int (iI ((b0 : Int))), .int (iI (va)), .int (iI (z3)), wv, ol, ca]) := by rw [ew_2]; exact (wset_ne _ (w_neN hA hsb)).trans hA
  have ne_bf_sb : Ne9 bf sb := w_neN hB1 hsb
  have hF_bf_w_1 : w_1 bf = some (rb, iE G 1 800 fb) := by rw [ew_2]; exact (wset_ne _ (w_neN hB1 hsb)).trans hB1
  have hsb9 : Ne9 rb (sb + 1) := hB0.nr hG hn_sb
  refine lv_dup hx hb dX11_letters_3 rfl ?_
  -- call java/lang/StringBuilder.<init>
  refine h_kV (h_runI X hR (sbb_init0 l G w_1 (sb + 1) sb hU.2.2.1 (by omega) hF_sb_w_1) pn_yJ9_init rfl q2080 q266 q131 q267 ⟨by decide, by decide⟩ hl.1 (Nat.le_of_ble_eq_true rfl) dX11_letters_4 ⟨by omega, by omega⟩) hL (fun w_4 hp_5 H locs hR hL => ?_)
  obtain ⟨hB__7, u_6⟩ := hp_5
  have hF_q_w_4 : w_4 q = some (q + 1, oE 10 [.ref bf, .int (iI ((T.length : Int))), .int (iI (z1)), .int (iI ((b0 : Int))), .int (iI (va)), .int (iI (z3)), wv, ol, ca]) := u_6.1 _ _ _ hF_q_w_1 (by first | exact id | exact fun q_ => absurd q_ (by first | assumption | exact Ne9.p (by assumption)) | exact fun q_ => absurd (Nat.succ.inj q_) (by first | assumption | exact Ne9.p (by assumption)) | exact fun q_ => absurd q_.symm (Nat.succ_ne_zero _) | exact fun q_ => absurd (Nat.succ.inj q_).symm (by first | assumption | exact Ne9.p (by assumption)) | (intro q_; (try dsimp only at q_); rcases q_ with q_ | q_ | q_ | q_ | q_ <;> first | exact absurd q_ (by first | assumption | exact Ne9.p (by assumption)) | exact absurd (Nat.succ.inj q_) (by first | assumption | exact Ne9.p (by assumption)) | exact absurd q_.symm (Nat.succ_ne_zero _) | exact absurd (Nat.succ.inj q_).symm (by first | assumption | exact Ne9.p (by assumption))) | (intro q_; (try dsimp only at q_); rcases q_ with q_ | q_ | q_ | q_ <;> first | exact absurd q_ (by first | assumption | exact Ne9.p (by assumption)) | exact absurd (Nat.succ.inj q_) (by first | assumption | exact Ne9.p (by assumption)) | exact absurd q_.symm (Nat.succ_ne_zero _) | exact absurd (Nat.succ.inj q_).symm (by first | assumption | exact Ne9.p (by assumption))) | (intro q_; (try dsimp only at q_); rcases q_ with q_ | q_ <;> first | exact absurd q_ (by first | assumption | exact Ne9.p (by assumption)) | exact absurd (Nat.succ.inj q_) (by first | assumption | exact Ne9.p (by assumption)) | exact absurd q_.symm (Nat.succ_ne_zero _) | exact absurd (Nat.succ.inj q_).symm (by first | assumption | exact Ne9.p (by assumption))) | (intro q_; (try dsimp only at q_); omega))
  have hF_bf_w_4 : w_4 bf = some (rb, iE G 1 800 fb) := u_6.1 _ _ _ hF_bf_w_1 (by first | exact id | exact fun q_ => absurd q_ (by first | assumption | exact Ne9.p (by assumption)) | exact fun q_ => absurd (Nat.succ.inj q_) (by first | assumption | exact Ne9.p (by assumption)) | exact fun q_ => absurd q_.symm (Nat.succ_ne_zero _) | exact fun q_ => absurd (Nat.succ.inj q_).symm (by first | assumption | exact Ne9.p (by assumption)) | (intro q_; (try dsimp only at q_); rcases q_ with q_ | q_ | q_ | q_ | q_ <;> first | exact absurd q_ (by first | assumption | exact Ne9.p (by assumption)) | exact absurd (Nat.succ.inj q_) (by first | assumption | exact Ne9.p (by assumption)) | exact absurd q_.symm (Nat.succ_ne_zero _) | exact absurd (Nat.succ.inj q_).symm (by first | assumption | exact Ne9.p (by assumption))) | (intro q_; (try dsimp only at q_); rcases q_ with q_ | q_ | q_ | q_ <;> first | exact absurd q_ (by first | assumption | exact Ne9.p (by assumption)) | exact absurd (Nat.succ.inj q_) (by first | assumption | exact Ne9.p (by assumption)) | exact absurd q_.symm (Nat.succ_ne_zero _) | exact absurd (Nat.succ.inj q_).symm (by first | assumption | exact Ne9.p (by assumption))) | (intro q_; (try dsimp only at q_); rcases q_ with q_ | q_ <;> first | exact absurd q_ (by first | assumption | exact Ne9.p (by assumption)) | exact absurd (Nat.succ.inj q_) (by first | assumption | exact Ne9.p (by assumption)) | exact absurd q_.symm (Nat.succ_ne_zero _) | exact absurd (Nat.succ.inj q_).symm (by first | assumption | exact Ne9.p (by assumption))) | (intro q_; (try dsimp only at q_); omega))
  have hU : Up (fun q_ => q_ = q + 1) w w_4 := hU.tr u_6 (fun q_ h_ => by first | exact absurd h_ id | exact Or.inl h_ | exact Or.inr (up_nw h_ (by assumption)) | exact Or.inl (Or.inl h_) | exact Or.inl (Or.inr h_) | exact Or.inl (Or.inr (Or.inl h_)) | exact Or.inl (Or.inr (Or.inr h_)) | exact Or.inl (Or.inr (Or.inr (Or.inl h_))) | exact Or.inl (Or.inr (Or.inr (Or.inr h_))) | exact Or.inl (h_.elim Or.inl (fun h_ => Or.inr (Or.inl h_))) | ((try dsimp only at h_); first | exact Or.inl (by omega) | exact Or.inr ⟨by omega, by subst h_; rw [Nat.add_sub_cancel]; assumption⟩)) hG
  refine lv_astore_n (lv' := [(1, .ref sb), (0, .ref q)]) hx hb dX11_letters_7 rfl hl (by decide) rfl (fun ls hl => ?_)
  have LOOP_9 : ∀ (N_ : Nat) (k : Nat) (C : List Int)(w_8 : Wd) , (b0 ≤ k ∧ k ≤ T.length) → (ltE T k = ltE T b0) → (C = lw T b0 k) → (w_8 bf = some (rb, iE G 1 800 fb)) → (w_8 q = some (q + 1, oE 10 [.ref bf, .int (iI ((T.length : Int))), .int (iI (z1)), .int (iI (((k : Nat) : Int))), .int (iI (va)), .int (iI (z3)), wv, ol, ca])) → (SbAt G w_8 (sb + 1) sb 16 C) → (Up (fun q_ => q_ = q + 1) w w_8) → (T.length - k) < N_ → ∀ (H : Heap) (locs : List Loc) (ls : Array Slot), Rp G w_8 H → LK G locs → lv_has ls 2 [(0, .ref q), (1, .ref sb)] → W p9 l e9 (rmk 8 4 33) s9 m9 a9 b9 meth9 c9 H locs 2 20 (MQ b9 (QR G (fun z_ w_ => StrAt G w_ z_ (lw T b0 (ltE T b0)) ∧ w_ q = some (q + 1, oE 10 [.ref bf, .int (iI ((T.length : Int))), .int (iI (z1)), .int (iI (((ltE T b0 : Nat) : Int))), .int (iI (va)), .int (iI (z3)), wv, ol, ca]) ∧ Up (fun q_ => q_ = q + 1) w w_)) a9 s9 4 33 (frG G)) (F0 m9 8 ls []) := by
    intro N_
    induction N_ with
    | zero => intro _ _ _ _ _ _ _ _ _ _ h_; exact absurd h_ (Nat.not_lt_zero _)
    | succ N_ ih_ =>
      intro k C w_8 hk hlt hC hI_bf_w_8 hI_q_w_8 hI_sb_w_8 hU hN_ H locs ls hR hL hl
      have ih_9 := ih_
      clear ih_
      have hCl := congrArg List.length hC
      rw [lw_len] at hCl
      refine lv_aload_n hx hb dX11_letters_8 rfl (lv_at hl 0 rfl) ?_
      refine lv_aload_n hx hb dX11_letters_9 rfl (lv_at hl 0 rfl) ?_
      refine h_get X hR hI_q_w_8 rfl in_X22 3 (by decide) q2093 rfl dX11_letters_10 ?_
      refine h_bipush hx hb dX11_letters_13 (by decide) ?_
      refine h_bipush hx hb dX11_letters_15 (by decide) ?_
      -- call SpokenMarks$Scanner.isBetween
      refine h_kIp (h_runU (x := ⟨"SpokenMarks$Scanner", "isBetween", "(III)Z"⟩) (owner := "SpokenMarks$Scanner") X hR (sc_isBs l G w_8 q ol ca bf rb T z1 (((k : Nat) : Int)) va z3 wv hI_q_w_8 ⟨fb, hI_bf_w_8, hTW, hfb⟩ ((k)) 97 122 (by decide) (by omega)) (by decide) pn_yX11_isBetween (hasC.of hI_q_w_8 rfl) q2070 q3386 (h_declC X q2072 q2074) (h_selP X hR qs17 q2071 (by decide) (hasC.of hI_q_w_8 rfl)) q2072 q162 q2074 ⟨by decide, by decide⟩ hl.1 (Nat.le_of_ble_eq_true rfl) dX11_letters_17 ⟨by omega, by omega⟩) hL (fun H locs hR hL => ?_)
      refine h_if_eq hx hb 60 dX11_letters_20 (by decide) (by have := b2i_01 (97 ≤ bat T k ∧ bat T k ≤ 122); omega) (fun c_l => ?_) (fun c_l => ?_)
      ·
        have c_n := b2i_0.mp c_l
        have hke : ltE T b0 = k := hlt.symm.trans (ltE_no c_n)
        refine lv_aload_n hx hb dX11_letters_60 rfl (lv_at hl 1 rfl) ?_
        -- call java/lang/StringBuilder.toString
        refine h_kR (h_runV X hR (sbb_str l G w_8 sb 16 C hI_sb_w_8 hU.2.2.1) pn_yJ9_toString (hI_sb_w_8.c) q2083 q441 q442 q131 q443 ⟨by decide, by decide⟩ hl.1 (Nat.le_of_ble_eq_true rfl) dX11_letters_61 ⟨by omega, by omega⟩) hL (fun z_13 w_14 hp_15 H locs hR hL => ?_)
        obtain ⟨hz_17, hS__18, u_16⟩ := hp_15
        have ne_bf_z_13 : Ne9 bf z_13 := w_neN hI_bf_w_8 hz_17
        have ne_q_z_13 : Ne9 q z_13 := w_neN hI_q_w_8 hz_17
        have ne_sb_z_13 : Ne9 sb z_13 := sm_ne hI_sb_w_8.sm hz_17
        have hn_z_13 : w z_13 = none := hU.2.1 _ hz_17
        have hF_bf_w_14 : w_14 bf = some (rb, iE G 1 800 fb) := u_16.1 _ _ _ hI_bf_w_8 (by first | exact id | exact fun q_ => absurd q_ (by first | assumption | exact Ne9.p (by assumption)) | exact fun q_ => absurd (Nat.succ.inj q_) (by first | assumption | exact Ne9.p (by assumption)) | exact fun q_ => absurd q_.symm (Nat.succ_ne_zero _) | exact fun q_ => absurd (Nat.succ.inj q_).symm (by first | assumption | exact Ne9.p (by assumption)) | (intro q_; (try dsimp only at q_); rcases q_ with q_ | q_ | q_ | q_ | q_ <;> first | exact absurd q_ (by first | assumption | exact Ne9.p (by assumption)) | exact absurd (Nat.succ.inj q_) (by first | assumption | exact Ne9.p (by assumption)) | exact absurd q_.symm (Nat.succ_ne_zero _) | exact absurd (Nat.succ.inj q_).symm (by first | assumption | exact Ne9.p (by assumption))) | (intro q_; (try dsimp only at q_); rcases q_ with q_ | q_ | q_ | q_ <;> first | exact absurd q_ (by first | assumption | exact Ne9.p (by assumption)) | exact absurd (Nat.succ.inj q_) (by first | assumption | exact Ne9.p (by assumption)) | exact absurd q_.symm (Nat.succ_ne_zero _) | exact absurd (Nat.succ.inj q_).symm (by first | assumption | exact Ne9.p (by assumption))) | (intro q_; (try dsimp only at q_); rcases q_ with q_ | q_ <;> first | exact absurd q_ (by first | assumption | exact Ne9.p (by assumption)) | exact absurd (Nat.succ.inj q_) (by first | assumption | exact Ne9.p (by assumption)) | exact absurd q_.symm (Nat.succ_ne_zero _) | exact absurd (Nat.succ.inj q_).symm (by first | assumption | exact Ne9.p (by assumption))) | (intro q_; (try dsimp only at q_); omega))
        have hF_q_w_14 : w_14 q = some (q + 1, oE 10 [.ref bf, .int (iI ((T.length : Int))), .int (iI (z1)), .int (iI (((k : Nat) : Int))), .int (iI (va)), .int (iI (z3)), wv, ol, ca]) := u_16.1 _ _ _ hI_q_w_8 (by first | exact id | exact fun q_ => absurd q_ (by first | assumption | exact Ne9.p (by assumption)) | exact fun q_ => absurd (Nat.succ.inj q_) (by first | assumption | exact Ne9.p (by assumption)) | exact fun q_ => absurd q_.symm (Nat.succ_ne_zero _) | exact fun q_ => absurd (Nat.succ.inj q_).symm (by first | assumption | exact Ne9.p (by assumption)) | (intro q_; (try dsimp only at q_); rcases q_ with q_ | q_ | q_ | q_ | q_ <;> first | exact absurd q_ (by first | assumption | exact Ne9.p (by assumption)) | exact absurd (Nat.succ.inj q_) (by first | assumption | exact Ne9.p (by assumption)) | exact absurd q_.symm (Nat.succ_ne_zero _) | exact absurd (Nat.succ.inj q_).symm (by first | assumption | exact Ne9.p (by assumption))) | (intro q_; (try dsimp only at q_); rcases q_ with q_ | q_ | q_ | q_ <;> first | exact absurd q_ (by first | assumption | exact Ne9.p (by assumption)) | exact absurd (Nat.succ.inj q_) (by first | assumption | exact Ne9.p (by assumption)) | exact absurd q_.symm (Nat.succ_ne_zero _) | exact absurd (Nat.succ.inj q_).symm (by first | assumption | exact Ne9.p (by assumption))) | (intro q_; (try dsimp only at q_); rcases q_ with q_ | q_ <;> first | exact absurd q_ (by first | assumption | exact Ne9.p (by assumption)) | exact absurd (Nat.succ.inj q_) (by first | assumption | exact Ne9.p (by assumption)) | exact absurd q_.symm (Nat.succ_ne_zero _) | exact absurd (Nat.succ.inj q_).symm (by first | assumption | exact Ne9.p (by assumption))) | (intro q_; (try dsimp only at q_); omega))
        have hP_sb_w_14 := hI_sb_w_8.mv (u_16.1) (by first | exact id | exact fun q_ => absurd q_ (by first | assumption | exact Ne9.p (by assumption)) | exact fun q_ => absurd (Nat.succ.inj q_) (by first | assumption | exact Ne9.p (by assumption)) | exact fun q_ => absurd q_.symm (Nat.succ_ne_zero _) | exact fun q_ => absurd (Nat.succ.inj q_).symm (by first | assumption | exact Ne9.p (by assumption)) | (intro q_; (try dsimp only at q_); rcases q_ with q_ | q_ | q_ | q_ | q_ <;> first | exact absurd q_ (by first | assumption | exact Ne9.p (by assumption)) | exact absurd (Nat.succ.inj q_) (by first | assumption | exact Ne9.p (by assumption)) | exact absurd q_.symm (Nat.succ_ne_zero _) | exact absurd (Nat.succ.inj q_).symm (by first | assumption | exact Ne9.p (by assumption))) | (intro q_; (try dsimp only at q_); rcases q_ with q_ | q_ | q_ | q_ <;> first | exact absurd q_ (by first | assumption | exact Ne9.p (by assumption)) | exact absurd (Nat.succ.inj q_) (by first | assumption | exact Ne9.p (by assumption)) | exact absurd q_.symm (Nat.succ_ne_zero _) | exact absurd (Nat.succ.inj q_).symm (by first | assumption | exact Ne9.p (by assumption))) | (intro q_; (try dsimp only at q_); rcases q_ with q_ | q_ <;> first | exact absurd q_ (by first | assumption | exact Ne9.p (by assumption)) | exact absurd (Nat.succ.inj q_) (by first | assumption | exact Ne9.p (by assumption)) | exact absurd q_.symm (Nat.succ_ne_zero _) | exact absurd (Nat.succ.inj q_).symm (by first | assumption | exact Ne9.p (by assumption))) | (intro q_; (try dsimp only at q_); omega))
        have hU : Up (fun q_ => q_ = q + 1) w w_14 := hU.tr u_16 (fun q_ h_ => by first | exact absurd h_ id | exact Or.inl h_ | exact Or.inr (up_nw h_ (by assumption)) | exact Or.inl (Or.inl h_) | exact Or.inl (Or.inr h_) | exact Or.inl (Or.inr (Or.inl h_)) | exact Or.inl (Or.inr (Or.inr h_)) | exact Or.inl (Or.inr (Or.inr (Or.inl h_))) | exact Or.inl (Or.inr (Or.inr (Or.inr h_))) | exact Or.inl (h_.elim Or.inl (fun h_ => Or.inr (Or.inl h_))) | ((try dsimp only at h_); first | exact Or.inl (by omega) | exact Or.inr ⟨by omega, by subst h_; rw [Nat.add_sub_cancel]; assumption⟩)) hG
        exact h_areturn hx hb hlk hret (by first | exact Or.inl ⟨_, rfl⟩ | exact Or.inr ⟨_, rfl⟩) hR hL ⟨by rw [hke, ← hC]; exact hS__18, by rw [hke]; exact hF_q_w_14, hU⟩ (by omega) (by omega) rfl rfl dX11_letters_64
      ·
        have c_y := b2i_n1.mp c_l
        have c_go := ltE_go c_y
        have hil : k < T.length := c_go.2
        have hf := hfb k hil
        have hx2 := hTW.2 k hil
        have hbt : bat T k = T.getD k 0 := if_pos hil
        have hb8 := b8_b hx2
        refine lv_aload_n hx hb dX11_letters_23 rfl (lv_at hl 1 rfl) ?_
        -- call java/lang/StringBuilder.length
        refine h_kIp (h_runV X hR (sb_lenS l G w_8 (sb + 1) sb 16 C hI_sb_w_8) pn_yJ9_length (hI_sb_w_8.c) q2081 q462 q3388 q131 q463 ⟨by decide, by decide⟩ hl.1 (Nat.le_of_ble_eq_true rfl) dX11_letters_24 ⟨by omega, by omega⟩) hL (fun H locs hR hL => ?_)
        refine h_bipush hx hb dX11_letters_27 (by decide) ?_
        refine h_icmp_gt hx hb 47 dX11_letters_29 (by decide) (by omega) (by omega) (fun c_8 => ?_) (fun c_8 => ?_)
        ·
          refine lv_aload_n hx hb dX11_letters_47 rfl (lv_at hl 0 rfl) ?_
          refine lv_dup hx hb dX11_letters_48 rfl ?_
          refine h_get X hR hI_q_w_8 rfl in_X22 3 (by decide) q2093 rfl dX11_letters_49 ?_
          refine h_iconst hx hb dX11_letters_52 ?_
          refine h_iadd hx hb dX11_letters_53 ?_
          refine h_put X hR hL hI_q_w_8 (Nat.succ_ne_zero _) rfl in_X22 tyX22_ok nmX22 3 (by decide) q2093 rfl rfl rfl (Nat.le_of_ble_eq_true rfl) dX11_letters_54 (fun w_22 ew_23 H locs hR hL => ?_)
          have hU : Up (fun q_ => q_ = q + 1) w w_22 := by rw [ew_23]; exact hU.set hI_q_w_8 (by first | exact Or.inl rfl | exact Or.inl (Or.inl rfl) | exact Or.inl (Or.inr rfl) | exact Or.inl (Or.inr (Or.inl rfl)) | exact Or.inl (Or.inr (Or.inr rfl)) | exact Or.inr ⟨Nat.succ_ne_zero _, by rw [Nat.add_sub_cancel]; assumption⟩ | exact Or.inr ⟨by omega, by assumption⟩) hG _
          have hF_q_w_22 : w_22 q = some (q + 1, oE 10 [.ref bf, .int (iI ((T.length : Int))), .int (iI (z1)), .int (iI (((k : Nat) : Int) + 1)), .int (iI (va)), .int (iI (z3)), wv, ol, ca]) := by rw [ew_23]; exact wset_eq _ _ _
          have hF_bf_w_22 : w_22 bf = some (rb, iE G 1 800 fb) := by rw [ew_23]; exact (wset_ne _ (by first | exact Ne9.p ne_bf_q | exact Ne.symm (Ne9.p ne_q_bf) | exact ne_bf_q | exact Ne.symm ne_q_bf | exact w_ne hI_bf_w_8 hI_q_w_8 (by intro h; cases h) | exact w_neR hI_bf_w_8 hI_q_w_8 (by first | exact fun q_ => absurd (Nat.succ.inj q_) (by first | assumption | exact Ne9.p (by assumption)) | exact fun q_ => absurd (Nat.succ.inj q_).symm (by first | assumption | exact Ne9.p (by assumption)) | exact Nat.succ_ne_zero _ | exact (Nat.succ_ne_zero _).symm | omega))).trans hI_bf_w_8
          have hP_sb_w_22 := hI_sb_w_8.mv (w1 := w_22) (S := fun q_ => q_ = q + 1) (by rw [ew_23]; exact Fr.one hI_q_w_8 _) (by first | exact id | exact fun q_ => absurd q_ (by first | assumption | exact Ne9.p (by assumption)) | exact fun q_ => absurd (Nat.succ.inj q_) (by first | assumption | exact Ne9.p (by assumption)) | exact fun q_ => absurd q_.symm (Nat.succ_ne_zero _) | exact fun q_ => absurd (Nat.succ.inj q_).symm (by first | assumption | exact Ne9.p (by assumption)) | (intro q_; (try dsimp only at q_); rcases q_ with q_ | q_ | q_ | q_ | q_ <;> first | exact absurd q_ (by first | assumption | exact Ne9.p (by assumption)) | exact absurd (Nat.succ.inj q_) (by first | assumption | exact Ne9.p (by assumption)) | exact absurd q_.symm (Nat.succ_ne_zero _) | exact absurd (Nat.succ.inj q_).symm (by first | assumption | exact Ne9.p (by assumption))) | (intro q_; (try dsimp only at q_); rcases q_ with q_ | q_ | q_ | q_ <;> first | exact absurd q_ (by first | assumption | exact Ne9.p (by assumption)) | exact absurd (Nat.succ.inj q_) (by first | assumption | exact Ne9.p (by assumption)) | exact absurd q_.symm (Nat.succ_ne_zero _) | exact absurd (Nat.succ.inj q_).symm (by first | assumption | exact Ne9.p (by assumption))) | (intro q_; (try dsimp only at q_); rcases q_ with q_ | q_ <;> first | exact absurd q_ (by first | assumption | exact Ne9.p (by assumption)) | exact absurd (Nat.succ.inj q_) (by first | assumption | exact Ne9.p (by assumption)) | exact absurd q_.symm (Nat.succ_ne_zero _) | exact absurd (Nat.succ.inj q_).symm (by first | assumption | exact Ne9.p (by assumption))) | (intro q_; (try dsimp only at q_); omega))
          refine lv_goto (tgt := 8) hx hb dX11_letters_57 (by decide) ?_
          exact ih_9 (k + 1) C w_22 (by omega) (by rw [← hlt]; exact c_go.1.symm) (by rw [hC]; exact (lw_n hk.1 (by rw [← hC]; omega)).symm) hF_bf_w_22 hF_q_w_22 hP_sb_w_22 hU (by omega) _ _ _ hR hL (lv_sub hl [0, 1] rfl)
        ·
          refine lv_aload_n hx hb dX11_letters_32 rfl (lv_at hl 1 rfl) ?_
          refine lv_aload_n hx hb dX11_letters_33 rfl (lv_at hl 0 rfl) ?_
          refine h_get X hR hI_q_w_8 rfl in_X22 0 (by decide) q2090 rfl dX11_letters_34 ?_
          refine lv_aload_n hx hb dX11_letters_37 rfl (lv_at hl 0 rfl) ?_
          refine h_get X hR hI_q_w_8 rfl in_X22 3 (by decide) q2093 rfl dX11_letters_38 ?_
          refine h_bald X hR hI_bf_w_8 (by omega) (by omega) dX11_letters_41 ?_
          refine W.eq (g2 := F0 m9 42 ls [.int (iI (bat T k)), .ref sb]) (congrArg (fun z_ : Int => F0 m9 42 ls [.int (iI (z_)), .ref sb]) (show (fb (((k : Nat) : Int)).toNat : Int) = bat T k from (by rw [Int.toNat_natCast]; omega))) ?_
          refine h_i2c hx hb dX11_letters_42 (by omega) ?_
          -- call java/lang/StringBuilder.append
          refine h_kR (h_runV X hR (sbb_c0 l G w_8 (sb + 1) sb 16 C hI_sb_w_8 hU.2.2.1 (Nat.succ_ne_zero _) (bat T k) (by omega) (by omega)) pn_yJ9_append_3 (hI_sb_w_8.c) q2082 q1479 q1480 q131 q1481 ⟨by decide, by decide⟩ hl.1 (Nat.le_of_ble_eq_true rfl) dX11_letters_43 ⟨by omega, by omega⟩) hL (fun z_25 w_26 hp_27 H locs hR hL => ?_)
          obtain ⟨hzq_30, hB__29, u_28⟩ := hp_27
          have hzq_30 := hzq_30.symm
          subst hzq_30
          have hF_bf_w_26 : w_26 bf = some (rb, iE G 1 800 fb) := u_28.1 _ _ _ hI_bf_w_8 (by first | exact id | exact fun q_ => absurd q_ (by first | assumption | exact Ne9.p (by assumption)) | exact fun q_ => absurd (Nat.succ.inj q_) (by first | assumption | exact Ne9.p (by assumption)) | exact fun q_ => absurd q_.symm (Nat.succ_ne_zero _) | exact fun q_ => absurd (Nat.succ.inj q_).symm (by first | assumption | exact Ne9.p (by assumption)) | (intro q_; (try dsimp only at q_); rcases q_ with q_ | q_ | q_ | q_ | q_ <;> first | exact absurd q_ (by first | assumption | exact Ne9.p (by assumption)) | exact absurd (Nat.succ.inj q_) (by first | assumption | exact Ne9.p (by assumption)) | exact absurd q_.symm (Nat.succ_ne_zero _) | exact absurd (Nat.succ.inj q_).symm (by first | assumption | exact Ne9.p (by assumption))) | (intro q_; (try dsimp only at q_); rcases q_ with q_ | q_ | q_ | q_ <;> first | exact absurd q_ (by first | assumption | exact Ne9.p (by assumption)) | exact absurd (Nat.succ.inj q_) (by first | assumption | exact Ne9.p (by assumption)) | exact absurd q_.symm (Nat.succ_ne_zero _) | exact absurd (Nat.succ.inj q_).symm (by first | assumption | exact Ne9.p (by assumption))) | (intro q_; (try dsimp only at q_); rcases q_ with q_ | q_ <;> first | exact absurd q_ (by first | assumption | exact Ne9.p (by assumption)) | exact absurd (Nat.succ.inj q_) (by first | assumption | exact Ne9.p (by assumption)) | exact absurd q_.symm (Nat.succ_ne_zero _) | exact absurd (Nat.succ.inj q_).symm (by first | assumption | exact Ne9.p (by assumption))) | (intro q_; (try dsimp only at q_); omega))
          have hF_q_w_26 : w_26 q = some (q + 1, oE 10 [.ref bf, .int (iI ((T.length : Int))), .int (iI (z1)), .int (iI (((k : Nat) : Int))), .int (iI (va)), .int (iI (z3)), wv, ol, ca]) := u_28.1 _ _ _ hI_q_w_8 (by first | exact id | exact fun q_ => absurd q_ (by first | assumption | exact Ne9.p (by assumption)) | exact fun q_ => absurd (Nat.succ.inj q_) (by first | assumption | exact Ne9.p (by assumption)) | exact fun q_ => absurd q_.symm (Nat.succ_ne_zero _) | exact fun q_ => absurd (Nat.succ.inj q_).symm (by first | assumption | exact Ne9.p (by assumption)) | (intro q_; (try dsimp only at q_); rcases q_ with q_ | q_ | q_ | q_ | q_ <;> first | exact absurd q_ (by first | assumption | exact Ne9.p (by assumption)) | exact absurd (Nat.succ.inj q_) (by first | assumption | exact Ne9.p (by assumption)) | exact absurd q_.symm (Nat.succ_ne_zero _) | exact absurd (Nat.succ.inj q_).symm (by first | assumption | exact Ne9.p (by assumption))) | (intro q_; (try dsimp only at q_); rcases q_ with q_ | q_ | q_ | q_ <;> first | exact absurd q_ (by first | assumption | exact Ne9.p (by assumption)) | exact absurd (Nat.succ.inj q_) (by first | assumption | exact Ne9.p (by assumption)) | exact absurd q_.symm (Nat.succ_ne_zero _) | exact absurd (Nat.succ.inj q_).symm (by first | assumption | exact Ne9.p (by assumption))) | (intro q_; (try dsimp only at q_); rcases q_ with q_ | q_ <;> first | exact absurd q_ (by first | assumption | exact Ne9.p (by assumption)) | exact absurd (Nat.succ.inj q_) (by first | assumption | exact Ne9.p (by assumption)) | exact absurd q_.symm (Nat.succ_ne_zero _) | exact absurd (Nat.succ.inj q_).symm (by first | assumption | exact Ne9.p (by assumption))) | (intro q_; (try dsimp only at q_); omega))
          have hU : Up (fun q_ => q_ = q + 1) w w_26 := hU.tr u_28 (fun q_ h_ => by first | exact absurd h_ id | exact Or.inl h_ | exact Or.inr (up_nw h_ (by assumption)) | exact Or.inl (Or.inl h_) | exact Or.inl (Or.inr h_) | exact Or.inl (Or.inr (Or.inl h_)) | exact Or.inl (Or.inr (Or.inr h_)) | exact Or.inl (Or.inr (Or.inr (Or.inl h_))) | exact Or.inl (Or.inr (Or.inr (Or.inr h_))) | exact Or.inl (h_.elim Or.inl (fun h_ => Or.inr (Or.inl h_))) | ((try dsimp only at h_); first | exact Or.inl (by omega) | exact Or.inr ⟨by omega, by subst h_; rw [Nat.add_sub_cancel]; assumption⟩)) hG
          refine lv_pop hx hb dX11_letters_46 rfl ?_
          refine lv_aload_n hx hb dX11_letters_47 rfl (lv_at hl 0 rfl) ?_
          refine lv_dup hx hb dX11_letters_48 rfl ?_
          refine h_get X hR hF_q_w_26 rfl in_X22 3 (by decide) q2093 rfl dX11_letters_49 ?_
          refine h_iconst hx hb dX11_letters_52 ?_
          refine h_iadd hx hb dX11_letters_53 ?_
          refine h_put X hR hL hF_q_w_26 (Nat.succ_ne_zero _) rfl in_X22 tyX22_ok nmX22 3 (by decide) q2093 rfl rfl rfl (Nat.le_of_ble_eq_true rfl) dX11_letters_54 (fun w_31 ew_32 H locs hR hL => ?_)
          have hU : Up (fun q_ => q_ = q + 1) w w_31 := by rw [ew_32]; exact hU.set hF_q_w_26 (by first | exact Or.inl rfl | exact Or.inl (Or.inl rfl) | exact Or.inl (Or.inr rfl) | exact Or.inl (Or.inr (Or.inl rfl)) | exact Or.inl (Or.inr (Or.inr rfl)) | exact Or.inr ⟨Nat.succ_ne_zero _, by rw [Nat.add_sub_cancel]; assumption⟩ | exact Or.inr ⟨by omega, by assumption⟩) hG _
          have hF_q_w_31 : w_31 q = some (q + 1, oE 10 [.ref bf, .int (iI ((T.length : Int))), .int (iI (z1)), .int (iI (((k : Nat) : Int) + 1)), .int (iI (va)), .int (iI (z3)), wv, ol, ca]) := by rw [ew_32]; exact wset_eq _ _ _
          have hF_bf_w_31 : w_31 bf = some (rb, iE G 1 800 fb) := by rw [ew_32]; exact (wset_ne _ (by first | exact Ne9.p ne_bf_q | exact Ne.symm (Ne9.p ne_q_bf) | exact ne_bf_q | exact Ne.symm ne_q_bf | exact w_ne hF_bf_w_26 hF_q_w_26 (by intro h; cases h) | exact w_neR hF_bf_w_26 hF_q_w_26 (by first | exact fun q_ => absurd (Nat.succ.inj q_) (by first | assumption | exact Ne9.p (by assumption)) | exact fun q_ => absurd (Nat.succ.inj q_).symm (by first | assumption | exact Ne9.p (by assumption)) | exact Nat.succ_ne_zero _ | exact (Nat.succ_ne_zero _).symm | omega))).trans hF_bf_w_26
          have hP_sb_w_31 := hB__29.mv (w1 := w_31) (S := fun q_ => q_ = q + 1) (by rw [ew_32]; exact Fr.one hF_q_w_26 _) (by first | exact id | exact fun q_ => absurd q_ (by first | assumption | exact Ne9.p (by assumption)) | exact fun q_ => absurd (Nat.succ.inj q_) (by first | assumption | exact Ne9.p (by assumption)) | exact fun q_ => absurd q_.symm (Nat.succ_ne_zero _) | exact fun q_ => absurd (Nat.succ.inj q_).symm (by first | assumption | exact Ne9.p (by assumption)) | (intro q_; (try dsimp only at q_); rcases q_ with q_ | q_ | q_ | q_ | q_ <;> first | exact absurd q_ (by first | assumption | exact Ne9.p (by assumption)) | exact absurd (Nat.succ.inj q_) (by first | assumption | exact Ne9.p (by assumption)) | exact absurd q_.symm (Nat.succ_ne_zero _) | exact absurd (Nat.succ.inj q_).symm (by first | assumption | exact Ne9.p (by assumption))) | (intro q_; (try dsimp only at q_); rcases q_ with q_ | q_ | q_ | q_ <;> first | exact absurd q_ (by first | assumption | exact Ne9.p (by assumption)) | exact absurd (Nat.succ.inj q_) (by first | assumption | exact Ne9.p (by assumption)) | exact absurd q_.symm (Nat.succ_ne_zero _) | exact absurd (Nat.succ.inj q_).symm (by first | assumption | exact Ne9.p (by assumption))) | (intro q_; (try dsimp only at q_); rcases q_ with q_ | q_ <;> first | exact absurd q_ (by first | assumption | exact Ne9.p (by assumption)) | exact absurd (Nat.succ.inj q_) (by first | assumption | exact Ne9.p (by assumption)) | exact absurd q_.symm (Nat.succ_ne_zero _) | exact absurd (Nat.succ.inj q_).symm (by first | assumption | exact Ne9.p (by assumption))) | (intro q_; (try dsimp only at q_); omega))
          refine lv_goto (tgt := 8) hx hb dX11_letters_57 (by decide) ?_
          exact ih_9 (k + 1) (C ++ [bat T k]) w_31 (by omega) (by rw [← hlt]; exact c_go.1.symm) (by rw [hC]; exact (lw_y hk.1 (by rw [← hC]; omega)).symm) hF_bf_w_31 hF_q_w_31 hP_sb_w_31 hU (by omega) _ _ _ hR hL (lv_sub hl [0, 1] rfl)
  exact LOOP_9 _ b0 ([]) w_4 ⟨Nat.le_refl _, hb0⟩ rfl (lw_0 T b0).symm hF_bf_w_4 hF_q_w_4 hB__7 hU (Nat.lt_succ_self _) _ _ _ hR hL (lv_sub hl [1, 0] rfl)

set_option maxHeartbeats 4000000 in
set_option maxRecDepth 100000 in
/-- SpokenMarks$Scanner.digits -/
theorem sc_dig (l : Launch) (G : Gl) (w : Wd) (q : Nat) (bf rb : Nat) (T : List Int) (z1 va z3 : Int) (wv : Value) (b0 : Nat) (hA : w q = some (q + 1, oE 8 [.ref bf, .int (iI ((T.length : Int))), .int (iI (z1)), .int (iI ((b0 : Int))), .int (iI (va)), .int (iI (z3)), wv])) (hB : BufAt G w bf rb T) (hb0 : b0 ≤ T.length) (hqb : rb ≠ q + 1) (hG : RegW w) : HM l yX11_digits cX11_digits 2 (some .int) 2 0 0 G [.ref q] w (QI G (fun z_ w_ => (z_ = nmV T b0 ∧ 0 ≤ z_ ∧ z_ ≤ 1000000) ∧ w_ q = some (q + 1, oE 8 [.ref bf, .int (iI ((T.length : Int))), .int (iI (z1)), .int (iI (((fgE T b0 : Nat) : Int))), .int (iI (va)), .int (iI (z3)), wv]) ∧ Up (fun q_ => q_ = q + 1) w w_)) := by
  refine HM.mk (by decide +kernel) (Nat.le_of_ble_eq_true rfl) ?_
  intro p9 e9 s9 m9 a9 b9 meth9 c9 ls X hret hlk hnm hl H hR
  have hx := X.1.1
  have hb := X.1.2.1
  have hl : lv_has ls 2 [(0, .ref q)] := hl
  have hL : LK G [] := fun q h => absurd h List.not_mem_nil
  generalize ([] : List Loc) = locs at hL ⊢
  have hU : Up (fun q_ => q_ = q + 1) w w := Up.rf hG
  have hB0 := hB
  obtain ⟨fb, hB1, hTW, hfb⟩ := hB
  have hTl := hTW.1
  refine h_iconst hx hb dX11_digits_0 ?_
  refine lv_istore_n (lv' := [(1, .int (iI (0))), (0, .ref q)]) hx hb dX11_digits_1 rfl hl (by decide) rfl (fun ls hl => ?_)
  have LOOP_2 : ∀ (N_ : Nat) (k : Nat)(w_1 : Wd) , (b0 ≤ k ∧ k ≤ T.length) → (fgE T k = fgE T b0) → (0 ≤ nmF T b0 (k - b0) ∧ nmF T b0 (k - b0) ≤ 1000000) → (w_1 bf = some (rb, iE G 1 800 fb)) → (w_1 q = some (q + 1, oE 8 [.ref bf, .int (iI ((T.length : Int))), .int (iI (z1)), .int (iI (((k : Nat) : Int))), .int (iI (va)), .int (iI (z3)), wv])) → (Up (fun q_ => q_ = q + 1) w w_1) → (T.length - k) < N_ → ∀ (H : Heap) (locs : List Loc) (ls : Array Slot), Rp G w_1 H → LK G locs → lv_has ls 2 [(0, .ref q), (1, .int (iI (nmF T b0 (k - b0))))] → W p9 l e9 (rmk 2 0 0) s9 m9 a9 b9 meth9 c9 H locs 0 0 (MQ b9 (QI G (fun z_ w_ => (z_ = nmV T b0 ∧ 0 ≤ z_ ∧ z_ ≤ 1000000) ∧ w_ q = some (q + 1, oE 8 [.ref bf, .int (iI ((T.length : Int))), .int (iI (z1)), .int (iI (((fgE T b0 : Nat) : Int))), .int (iI (va)), .int (iI (z3)), wv]) ∧ Up (fun q_ => q_ = q + 1) w w_)) a9 s9 0 0 (frG G)) (F0 m9 2 ls []) := by
    intro N_
    induction N_ with
    | zero => intro _ _ _ _ _ _ _ _ h_; exact absurd h_ (Nat.not_lt_zero _)
    | succ N_ ih_ =>
      intro k w_1 hk hlt hnr hI_bf_w_1 hI_q_w_1 hU hN_ H locs ls hR hL hl
      have ih_2 := ih_
      clear ih_
      refine lv_aload_n hx hb dX11_digits_2 rfl (lv_at hl 0 rfl) ?_
      refine lv_aload_n hx hb dX11_digits_3 rfl (lv_at hl 0 rfl) ?_
      refine h_get X hR hI_q_w_1 rfl in_X11 3 (by decide) q2093 rfl dX11_digits_4 ?_
      refine h_bipush hx hb dX11_digits_7 (by decide) ?_
      refine h_bipush hx hb dX11_digits_9 (by decide) ?_
      -- call SpokenMarks$Scanner.isBetween
      refine h_kIp (h_runV X hR (sc_isB l G w_1 q bf rb T z1 (((k : Nat) : Int)) va z3 wv hI_q_w_1 ⟨fb, hI_bf_w_1, hTW, hfb⟩ ((k)) 48 57 (by decide) (by omega)) pn_yX11_isBetween (hasC.of hI_q_w_1 rfl) q2070 q2072 qs17 q162 q2074 ⟨by decide, by decide⟩ hl.1 (Nat.le_of_ble_eq_true rfl) dX11_digits_11 ⟨by omega, by omega⟩) hL (fun H locs hR hL => ?_)
      refine h_if_eq hx hb 53 dX11_digits_14 (by decide) (by have := b2i_01 (48 ≤ bat T k ∧ bat T k ≤ 57); omega) (fun c_l => ?_) (fun c_l => ?_)
      ·
        have c_n := b2i_0.mp c_l
        have hke : fgE T b0 = k := hlt.symm.trans (fgE_no c_n)
        refine lv_iload_n hx hb dX11_digits_53 rfl (lv_at hl 1 rfl) ?_
        exact h_ireturn hx hb hlk hret hR hL rfl ⟨⟨by unfold nmV; rw [hke], hnr⟩, by rw [hke]; exact hI_q_w_1, hU⟩ (by omega) (by omega) rfl rfl dX11_digits_54
      ·
        have c_y := b2i_n1.mp c_l
        have c_go := fgE_go c_y
        have hil : k < T.length := c_go.2
        have hf := hfb k hil
        have hx2 := hTW.2 k hil
        have hbt : bat T k = T.getD k 0 := if_pos hil
        have hb8 := b8_b hx2
        refine lv_ldc (v := iI (1000000)) hx hb X.1.2.2.2.1 (X.1.2.2.2.2 _ q2088) dX11_digits_17 ?_
        refine h_bipush hx hb dX11_digits_19 (by decide) ?_
        refine lv_iload_n hx hb dX11_digits_21 rfl (lv_at hl 1 rfl) ?_
        refine h_imul hx hb dX11_digits_22 ?_
        refine lv_aload_n hx hb dX11_digits_23 rfl (lv_at hl 0 rfl) ?_
        refine h_get X hR hI_q_w_1 rfl in_X11 0 (by decide) q2090 rfl dX11_digits_24 ?_
        refine lv_aload_n hx hb dX11_digits_27 rfl (lv_at hl 0 rfl) ?_
        refine h_get X hR hI_q_w_1 rfl in_X11 3 (by decide) q2093 rfl dX11_digits_28 ?_
        refine h_bald X hR hI_bf_w_1 (by omega) (by omega) dX11_digits_31 ?_
        refine W.eq (g2 := F0 m9 32 ls [.int (iI (bat T k)), .int (iI (10 * (nmF T b0 (k - b0)))), .int (iI (1000000))]) (congrArg (fun z_ : Int => F0 m9 32 ls [.int (iI (z_)), .int (iI (10 * (nmF T b0 (k - b0)))), .int (iI (1000000))]) (show (fb (((k : Nat) : Int)).toNat : Int) = bat T k from (by rw [Int.toNat_natCast]; omega))) ?_
        refine h_iadd hx hb dX11_digits_32 ?_
        refine h_bipush hx hb dX11_digits_33 (by decide) ?_
        refine h_isub hx hb dX11_digits_35 ?_
        refine h_mmin X hl.1 ⟨by omega, by omega⟩ ⟨by omega, by omega⟩ q2089 q336 q135 q337 ⟨by decide, Nat.le_of_ble_eq_true rfl⟩ (by omega) (by omega) dX11_digits_36 ?_
        refine W.eq (g2 := F0 m9 39 ls [.int (iI (nmF T b0 (k + 1 - b0)))]) (congrArg (fun z_ : Int => F0 m9 39 ls [.int (iI (z_))]) (show (if 1000000 ≤ (10 * (nmF T b0 (k - b0)) + (bat T k)) - 48 then 1000000 else (10 * (nmF T b0 (k - b0)) + (bat T k)) - 48 : Int) = nmF T b0 (k + 1 - b0) from (by rw [nmF_s hk.1]; split <;> omega))) ?_
        refine lv_istore_n (lv' := [(1, .int (iI (nmF T b0 (k + 1 - b0)))), (0, .ref q)]) hx hb dX11_digits_39 rfl hl (by decide) rfl (fun ls hl => ?_)
        refine lv_aload_n hx hb dX11_digits_40 rfl (lv_at hl 1 rfl) ?_
        refine lv_dup hx hb dX11_digits_41 rfl ?_
        refine h_get X hR hI_q_w_1 rfl in_X11 3 (by decide) q2093 rfl dX11_digits_42 ?_
        refine h_iconst hx hb dX11_digits_45 ?_
        refine h_iadd hx hb dX11_digits_46 ?_
        refine h_put X hR hL hI_q_w_1 (Nat.succ_ne_zero _) rfl in_X11 tyX11_ok nmX11 3 (by decide) q2093 rfl rfl rfl (Nat.le_of_ble_eq_true rfl) dX11_digits_47 (fun w_6 ew_7 H locs hR hL => ?_)
        have hU : Up (fun q_ => q_ = q + 1) w w_6 := by rw [ew_7]; exact hU.set hI_q_w_1 (by first | exact Or.inl rfl | exact Or.inl (Or.inl rfl) | exact Or.inl (Or.inr rfl) | exact Or.inl (Or.inr (Or.inl rfl)) | exact Or.inl (Or.inr (Or.inr rfl)) | exact Or.inr ⟨Nat.succ_ne_zero _, by rw [Nat.add_sub_cancel]; assumption⟩ | exact Or.inr ⟨by omega, by assumption⟩) hG _
        have hF_q_w_6 : w_6 q = some (q + 1, oE 8 [.ref bf, .int (iI ((T.length : Int))), .int (iI (z1)), .int (iI (((k : Nat) : Int) + 1)), .int (iI (va)), .int (iI (z3)), wv]) := by rw [ew_7]; exact wset_eq _ _ _
        have hF_bf_w_6 : w_6 bf = some (rb, iE G 1 800 fb) := by rw [ew_7]; exact (wset_ne _ (by first | exact Ne9.p ne_bf_q | exact Ne.symm (Ne9.p ne_q_bf) | exact ne_bf_q | exact Ne.symm ne_q_bf | exact w_ne hI_bf_w_1 hI_q_w_1 (by intro h; cases h) | exact w_neR hI_bf_w_1 hI_q_w_1 (by first | exact fun q_ => absurd (Nat.succ.inj q_) (by first | assumption | exact Ne9.p (by assumption)) | exact fun q_ => absurd (Nat.succ.inj q_).symm (by first | assumption | exact Ne9.p (by assumption)) | exact Nat.succ_ne_zero _ | exact (Nat.succ_ne_zero _).symm | omega))).trans hI_bf_w_1
        refine lv_goto (tgt := 2) hx hb dX11_digits_50 (by decide) ?_
        exact ih_2 (k + 1) w_6 (by omega) (by rw [← hlt]; exact c_go.1.symm) (by rw [nmF_s hk.1]; omega) hF_bf_w_6 hF_q_w_6 hU (by omega) _ _ _ hR hL (lv_sub hl [1, 0] rfl)
  have hl : lv_has ls 2 [(1, .int (iI (nmF T b0 (b0 - b0)))), (0, .ref q)] := lv_conv hl (congrArg (fun z_ : Int => ([(1, .int (iI (z_))), (0, .ref q)] : List (Nat × Value))) (show (0 : Int) = nmF T b0 (b0 - b0) from (by rw [nmF_0])))
  exact LOOP_2 _ b0 w ⟨Nat.le_refl _, hb0⟩ rfl (by rw [nmF_0]; decide) hB1 hA hU (Nat.lt_succ_self _) _ _ _ hR hL (lv_sub hl [1, 0] rfl)

set_option maxHeartbeats 4000000 in
set_option maxRecDepth 100000 in
/-- SpokenMarks$Scanner.digits -/
theorem sc_digr (l : Launch) (G : Gl) (w : Wd) (q : Nat) (bf rb : Nat) (T : List Int) (z1 va z3 : Int) (wv : Value) (b0 : Nat) (hA : w q = some (q + 1, oE 9 [.ref bf, .int (iI ((T.length : Int))), .int (iI (z1)), .int (iI ((b0 : Int))), .int (iI (va)), .int (iI (z3)), wv])) (hB : BufAt G w bf rb T) (hb0 : b0 ≤ T.length) (hqb : rb ≠ q + 1) (hG : RegW w) : HM l yX11_digits cX11_digits 2 (some .int) 2 0 0 G [.ref q] w (QI G (fun z_ w_ => (z_ = nmV T b0 ∧ 0 ≤ z_ ∧ z_ ≤ 1000000) ∧ w_ q = some (q + 1, oE 9 [.ref bf, .int (iI ((T.length : Int))), .int (iI (z1)), .int (iI (((fgE T b0 : Nat) : Int))), .int (iI (va)), .int (iI (z3)), wv]) ∧ Up (fun q_ => q_ = q + 1) w w_)) := by
  refine HM.mk (by decide +kernel) (Nat.le_of_ble_eq_true rfl) ?_
  intro p9 e9 s9 m9 a9 b9 meth9 c9 ls X hret hlk hnm hl H hR
  have hx := X.1.1
  have hb := X.1.2.1
  have hl : lv_has ls 2 [(0, .ref q)] := hl
  have hL : LK G [] := fun q h => absurd h List.not_mem_nil
  generalize ([] : List Loc) = locs at hL ⊢
  have hU : Up (fun q_ => q_ = q + 1) w w := Up.rf hG
  have hB0 := hB
  obtain ⟨fb, hB1, hTW, hfb⟩ := hB
  have hTl := hTW.1
  refine h_iconst hx hb dX11_digits_0 ?_
  refine lv_istore_n (lv' := [(1, .int (iI (0))), (0, .ref q)]) hx hb dX11_digits_1 rfl hl (by decide) rfl (fun ls hl => ?_)
  have LOOP_2 : ∀ (N_ : Nat) (k : Nat)(w_1 : Wd) , (b0 ≤ k ∧ k ≤ T.length) → (fgE T k = fgE T b0) → (0 ≤ nmF T b0 (k - b0) ∧ nmF T b0 (k - b0) ≤ 1000000) → (w_1 bf = some (rb, iE G 1 800 fb)) → (w_1 q = some (q + 1, oE 9 [.ref bf, .int (iI ((T.length : Int))), .int (iI (z1)), .int (iI (((k : Nat) : Int))), .int (iI (va)), .int (iI (z3)), wv])) → (Up (fun q_ => q_ = q + 1) w w_1) → (T.length - k) < N_ → ∀ (H : Heap) (locs : List Loc) (ls : Array Slot), Rp G w_1 H → LK G locs → lv_has ls 2 [(0, .ref q), (1, .int (iI (nmF T b0 (k - b0))))] → W p9 l e9 (rmk 2 0 0) s9 m9 a9 b9 meth9 c9 H locs 0 0 (MQ b9 (QI G (fun z_ w_ => (z_ = nmV T b0 ∧ 0 ≤ z_ ∧ z_ ≤ 1000000) ∧ w_ q = some (q + 1, oE 9 [.ref bf, .int (iI ((T.length : Int))), .int (iI (z1)), .int (iI (((fgE T b0 : Nat) : Int))), .int (iI (va)), .int (iI (z3)), wv]) ∧ Up (fun q_ => q_ = q + 1) w w_)) a9 s9 0 0 (frG G)) (F0 m9 2 ls []) := by
    intro N_
    induction N_ with
    | zero => intro _ _ _ _ _ _ _ _ h_; exact absurd h_ (Nat.not_lt_zero _)
    | succ N_ ih_ =>
      intro k w_1 hk hlt hnr hI_bf_w_1 hI_q_w_1 hU hN_ H locs ls hR hL hl
      have ih_2 := ih_
      clear ih_
      refine lv_aload_n hx hb dX11_digits_2 rfl (lv_at hl 0 rfl) ?_
      refine lv_aload_n hx hb dX11_digits_3 rfl (lv_at hl 0 rfl) ?_
      refine h_get X hR hI_q_w_1 rfl in_X12 3 (by decide) q2093 rfl dX11_digits_4 ?_
      refine h_bipush hx hb dX11_digits_7 (by decide) ?_
      refine h_bipush hx hb dX11_digits_9 (by decide) ?_
      -- call SpokenMarks$Scanner.isBetween
      refine h_kIp (h_runU (x := ⟨"SpokenMarks$Scanner", "isBetween", "(III)Z"⟩) (owner := "SpokenMarks$Scanner") X hR (sc_isBr l G w_1 q bf rb T z1 (((k : Nat) : Int)) va z3 wv hI_q_w_1 ⟨fb, hI_bf_w_1, hTW, hfb⟩ ((k)) 48 57 (by decide) (by omega)) (by decide) pn_yX11_isBetween (hasC.of hI_q_w_1 rfl) q2070 q3386 (h_declC X q2072 q2074) (h_selP X hR qs17 q2071 (by decide) (hasC.of hI_q_w_1 rfl)) q2072 q162 q2074 ⟨by decide, by decide⟩ hl.1 (Nat.le_of_ble_eq_true rfl) dX11_digits_11 ⟨by omega, by omega⟩) hL (fun H locs hR hL => ?_)
      refine h_if_eq hx hb 53 dX11_digits_14 (by decide) (by have := b2i_01 (48 ≤ bat T k ∧ bat T k ≤ 57); omega) (fun c_l => ?_) (fun c_l => ?_)
      ·
        have c_n := b2i_0.mp c_l
        have hke : fgE T b0 = k := hlt.symm.trans (fgE_no c_n)
        refine lv_iload_n hx hb dX11_digits_53 rfl (lv_at hl 1 rfl) ?_
        exact h_ireturn hx hb hlk hret hR hL rfl ⟨⟨by unfold nmV; rw [hke], hnr⟩, by rw [hke]; exact hI_q_w_1, hU⟩ (by omega) (by omega) rfl rfl dX11_digits_54
      ·
        have c_y := b2i_n1.mp c_l
        have c_go := fgE_go c_y
        have hil : k < T.length := c_go.2
        have hf := hfb k hil
        have hx2 := hTW.2 k hil
        have hbt : bat T k = T.getD k 0 := if_pos hil
        have hb8 := b8_b hx2
        refine lv_ldc (v := iI (1000000)) hx hb X.1.2.2.2.1 (X.1.2.2.2.2 _ q2088) dX11_digits_17 ?_
        refine h_bipush hx hb dX11_digits_19 (by decide) ?_
        refine lv_iload_n hx hb dX11_digits_21 rfl (lv_at hl 1 rfl) ?_
        refine h_imul hx hb dX11_digits_22 ?_
        refine lv_aload_n hx hb dX11_digits_23 rfl (lv_at hl 0 rfl) ?_
        refine h_get X hR hI_q_w_1 rfl in_X12 0 (by decide) q2090 rfl dX11_digits_24 ?_
        refine lv_aload_n hx hb dX11_digits_27 rfl (lv_at hl 0 rfl) ?_
        refine h_get X hR hI_q_w_1 rfl in_X12 3 (by decide) q2093 rfl dX11_digits_28 ?_
        refine h_bald X hR hI_bf_w_1 (by omega) (by omega) dX11_digits_31 ?_
        refine W.eq (g2 := F0 m9 32 ls [.int (iI (bat T k)), .int (iI (10 * (nmF T b0 (k - b0)))), .int (iI (1000000))]) (congrArg (fun z_ : Int => F0 m9 32 ls [.int (iI (z_)), .int (iI (10 * (nmF T b0 (k - b0)))), .int (iI (1000000))]) (show (fb (((k : Nat) : Int)).toNat : Int) = bat T k from (by rw [Int.toNat_natCast]; omega))) ?_
        refine h_iadd hx hb dX11_digits_32 ?_
        refine h_bipush hx hb dX11_digits_33 (by decide) ?_
        refine h_isub hx hb dX11_digits_35 ?_
        refine h_mmin X hl.1 ⟨by omega, by omega⟩ ⟨by omega, by omega⟩ q2089 q336 q135 q337 ⟨by decide, Nat.le_of_ble_eq_true rfl⟩ (by omega) (by omega) dX11_digits_36 ?_
        refine W.eq (g2 := F0 m9 39 ls [.int (iI (nmF T b0 (k + 1 - b0)))]) (congrArg (fun z_ : Int => F0 m9 39 ls [.int (iI (z_))]) (show (if 1000000 ≤ (10 * (nmF T b0 (k - b0)) + (bat T k)) - 48 then 1000000 else (10 * (nmF T b0 (k - b0)) + (bat T k)) - 48 : Int) = nmF T b0 (k + 1 - b0) from (by rw [nmF_s hk.1]; split <;> omega))) ?_
        refine lv_istore_n (lv' := [(1, .int (iI (nmF T b0 (k + 1 - b0)))), (0, .ref q)]) hx hb dX11_digits_39 rfl hl (by decide) rfl (fun ls hl => ?_)
        refine lv_aload_n hx hb dX11_digits_40 rfl (lv_at hl 1 rfl) ?_
        refine lv_dup hx hb dX11_digits_41 rfl ?_
        refine h_get X hR hI_q_w_1 rfl in_X12 3 (by decide) q2093 rfl dX11_digits_42 ?_
        refine h_iconst hx hb dX11_digits_45 ?_
        refine h_iadd hx hb dX11_digits_46 ?_
        refine h_put X hR hL hI_q_w_1 (Nat.succ_ne_zero _) rfl in_X12 tyX12_ok nmX12 3 (by decide) q2093 rfl rfl rfl (Nat.le_of_ble_eq_true rfl) dX11_digits_47 (fun w_6 ew_7 H locs hR hL => ?_)
        have hU : Up (fun q_ => q_ = q + 1) w w_6 := by rw [ew_7]; exact hU.set hI_q_w_1 (by first | exact Or.inl rfl | exact Or.inl (Or.inl rfl) | exact Or.inl (Or.inr rfl) | exact Or.inl (Or.inr (Or.inl rfl)) | exact Or.inl (Or.inr (Or.inr rfl)) | exact Or.inr ⟨Nat.succ_ne_zero _, by rw [Nat.add_sub_cancel]; assumption⟩ | exact Or.inr ⟨by omega, by assumption⟩) hG _
        have hF_q_w_6 : w_6 q = some (q + 1, oE 9 [.ref bf, .int (iI ((T.length : Int))), .int (iI (z1)), .int (iI (((k : Nat) : Int) + 1)), .int (iI (va)), .int (iI (z3)), wv]) := by rw [ew_7]; exact wset_eq _ _ _
        have hF_bf_w_6 : w_6 bf = some (rb, iE G 1 800 fb) := by rw [ew_7]; exact (wset_ne _ (by first | exact Ne9.p ne_bf_q | exact Ne.symm (Ne9.p ne_q_bf) | exact ne_bf_q | exact Ne.symm ne_q_bf | exact w_ne hI_bf_w_1 hI_q_w_1 (by intro h; cases h) | exact w_neR hI_bf_w_1 hI_q_w_1 (by first | exact fun q_ => absurd (Nat.succ.inj q_) (by first | assumption | exact Ne9.p (by assumption)) | exact fun q_ => absurd (Nat.succ.inj q_).symm (by first | assumption | exact Ne9.p (by assumption)) | exact Nat.succ_ne_zero _ | exact (Nat.succ_ne_zero _).symm | omega))).trans hI_bf_w_1
        refine lv_goto (tgt := 2) hx hb dX11_digits_50 (by decide) ?_
        exact ih_2 (k + 1) w_6 (by omega) (by rw [← hlt]; exact c_go.1.symm) (by rw [nmF_s hk.1]; omega) hF_bf_w_6 hF_q_w_6 hU (by omega) _ _ _ hR hL (lv_sub hl [1, 0] rfl)
  have hl : lv_has ls 2 [(1, .int (iI (nmF T b0 (b0 - b0)))), (0, .ref q)] := lv_conv hl (congrArg (fun z_ : Int => ([(1, .int (iI (z_))), (0, .ref q)] : List (Nat × Value))) (show (0 : Int) = nmF T b0 (b0 - b0) from (by rw [nmF_0])))
  exact LOOP_2 _ b0 w ⟨Nat.le_refl _, hb0⟩ rfl (by rw [nmF_0]; decide) hB1 hA hU (Nat.lt_succ_self _) _ _ _ hR hL (lv_sub hl [1, 0] rfl)

set_option maxHeartbeats 4000000 in
set_option maxRecDepth 100000 in
/-- SpokenMarks$Scanner.digits -/
theorem sc_digs (l : Launch) (G : Gl) (w : Wd) (q : Nat) (ol ca : Value) (bf rb : Nat) (T : List Int) (z1 va z3 : Int) (wv : Value) (b0 : Nat) (hA : w q = some (q + 1, oE 10 [.ref bf, .int (iI ((T.length : Int))), .int (iI (z1)), .int (iI ((b0 : Int))), .int (iI (va)), .int (iI (z3)), wv, ol, ca])) (hB : BufAt G w bf rb T) (hb0 : b0 ≤ T.length) (hqb : rb ≠ q + 1) (hG : RegW w) : HM l yX11_digits cX11_digits 2 (some .int) 2 0 0 G [.ref q] w (QI G (fun z_ w_ => (z_ = nmV T b0 ∧ 0 ≤ z_ ∧ z_ ≤ 1000000) ∧ w_ q = some (q + 1, oE 10 [.ref bf, .int (iI ((T.length : Int))), .int (iI (z1)), .int (iI (((fgE T b0 : Nat) : Int))), .int (iI (va)), .int (iI (z3)), wv, ol, ca]) ∧ Up (fun q_ => q_ = q + 1) w w_)) := by
  refine HM.mk (by decide +kernel) (Nat.le_of_ble_eq_true rfl) ?_
  intro p9 e9 s9 m9 a9 b9 meth9 c9 ls X hret hlk hnm hl H hR
  have hx := X.1.1
  have hb := X.1.2.1
  have hl : lv_has ls 2 [(0, .ref q)] := hl
  have hL : LK G [] := fun q h => absurd h List.not_mem_nil
  generalize ([] : List Loc) = locs at hL ⊢
  have hU : Up (fun q_ => q_ = q + 1) w w := Up.rf hG
  have hB0 := hB
  obtain ⟨fb, hB1, hTW, hfb⟩ := hB
  have hTl := hTW.1
  refine h_iconst hx hb dX11_digits_0 ?_
  refine lv_istore_n (lv' := [(1, .int (iI (0))), (0, .ref q)]) hx hb dX11_digits_1 rfl hl (by decide) rfl (fun ls hl => ?_)
  have LOOP_2 : ∀ (N_ : Nat) (k : Nat)(w_1 : Wd) , (b0 ≤ k ∧ k ≤ T.length) → (fgE T k = fgE T b0) → (0 ≤ nmF T b0 (k - b0) ∧ nmF T b0 (k - b0) ≤ 1000000) → (w_1 bf = some (rb, iE G 1 800 fb)) → (w_1 q = some (q + 1, oE 10 [.ref bf, .int (iI ((T.length : Int))), .int (iI (z1)), .int (iI (((k : Nat) : Int))), .int (iI (va)), .int (iI (z3)), wv, ol, ca])) → (Up (fun q_ => q_ = q + 1) w w_1) → (T.length - k) < N_ → ∀ (H : Heap) (locs : List Loc) (ls : Array Slot), Rp G w_1 H → LK G locs → lv_has ls 2 [(0, .ref q), (1, .int (iI (nmF T b0 (k - b0))))] → W p9 l e9 (rmk 2 0 0) s9 m9 a9 b9 meth9 c9 H locs 0 0 (MQ b9 (QI G (fun z_ w_ => (z_ = nmV T b0 ∧ 0 ≤ z_ ∧ z_ ≤ 1000000) ∧ w_ q = some (q + 1, oE 10 [.ref bf, .int (iI ((T.length : Int))), .int (iI (z1)), .int (iI (((fgE T b0 : Nat) : Int))), .int (iI (va)), .int (iI (z3)), wv, ol, ca]) ∧ Up (fun q_ => q_ = q + 1) w w_)) a9 s9 0 0 (frG G)) (F0 m9 2 ls []) := by
    intro N_
    induction N_ with
    | zero => intro _ _ _ _ _ _ _ _ h_; exact absurd h_ (Nat.not_lt_zero _)
    | succ N_ ih_ =>
      intro k w_1 hk hlt hnr hI_bf_w_1 hI_q_w_1 hU hN_ H locs ls hR hL hl
      have ih_2 := ih_
      clear ih_
      refine lv_aload_n hx hb dX11_digits_2 rfl (lv_at hl 0 rfl) ?_
      refine lv_aload_n hx hb dX11_digits_3 rfl (lv_at hl 0 rfl) ?_
      refine h_get X hR hI_q_w_1 rfl in_X22 3 (by decide) q2093 rfl dX11_digits_4 ?_
      refine h_bipush hx hb dX11_digits_7 (by decide) ?_
      refine h_bipush hx hb dX11_digits_9 (by decide) ?_
      -- call SpokenMarks$Scanner.isBetween
      refine h_kIp (h_runU (x := ⟨"SpokenMarks$Scanner", "isBetween", "(III)Z"⟩) (owner := "SpokenMarks$Scanner") X hR (sc_isBs l G w_1 q ol ca bf rb T z1 (((k : Nat) : Int)) va z3 wv hI_q_w_1 ⟨fb, hI_bf_w_1, hTW, hfb⟩ ((k)) 48 57 (by decide) (by omega)) (by decide) pn_yX11_isBetween (hasC.of hI_q_w_1 rfl) q2070 q3386 (h_declC X q2072 q2074) (h_selP X hR qs17 q2071 (by decide) (hasC.of hI_q_w_1 rfl)) q2072 q162 q2074 ⟨by decide, by decide⟩ hl.1 (Nat.le_of_ble_eq_true rfl) dX11_digits_11 ⟨by omega, by omega⟩) hL (fun H locs hR hL => ?_)
      refine h_if_eq hx hb 53 dX11_digits_14 (by decide) (by have := b2i_01 (48 ≤ bat T k ∧ bat T k ≤ 57); omega) (fun c_l => ?_) (fun c_l => ?_)
      ·
        have c_n := b2i_0.mp c_l
        have hke : fgE T b0 = k := hlt.symm.trans (fgE_no c_n)
        refine lv_iload_n hx hb dX11_digits_53 rfl (lv_at hl 1 rfl) ?_
        exact h_ireturn hx hb hlk hret hR hL rfl ⟨⟨by unfold nmV; rw [hke], hnr⟩, by rw [hke]; exact hI_q_w_1, hU⟩ (by omega) (by omega) rfl rfl dX11_digits_54
      ·
        have c_y := b2i_n1.mp c_l
        have c_go := fgE_go c_y
        have hil : k < T.length := c_go.2
        have hf := hfb k hil
        have hx2 := hTW.2 k hil
        have hbt : bat T k = T.getD k 0 := if_pos hil
        have hb8 := b8_b hx2
        refine lv_ldc (v := iI (1000000)) hx hb X.1.2.2.2.1 (X.1.2.2.2.2 _ q2088) dX11_digits_17 ?_
        refine h_bipush hx hb dX11_digits_19 (by decide) ?_
        refine lv_iload_n hx hb dX11_digits_21 rfl (lv_at hl 1 rfl) ?_
        refine h_imul hx hb dX11_digits_22 ?_
        refine lv_aload_n hx hb dX11_digits_23 rfl (lv_at hl 0 rfl) ?_
        refine h_get X hR hI_q_w_1 rfl in_X22 0 (by decide) q2090 rfl dX11_digits_24 ?_
        refine lv_aload_n hx hb dX11_digits_27 rfl (lv_at hl 0 rfl) ?_
        refine h_get X hR hI_q_w_1 rfl in_X22 3 (by decide) q2093 rfl dX11_digits_28 ?_
        refine h_bald X hR hI_bf_w_1 (by omega) (by omega) dX11_digits_31 ?_
        refine W.eq (g2 := F0 m9 32 ls [.int (iI (bat T k)), .int (iI (10 * (nmF T b0 (k - b0)))), .int (iI (1000000))]) (congrArg (fun z_ : Int => F0 m9 32 ls [.int (iI (z_)), .int (iI (10 * (nmF T b0 (k - b0)))), .int (iI (1000000))]) (show (fb (((k : Nat) : Int)).toNat : Int) = bat T k from (by rw [Int.toNat_natCast]; omega))) ?_
        refine h_iadd hx hb dX11_digits_32 ?_
        refine h_bipush hx hb dX11_digits_33 (by decide) ?_
        refine h_isub hx hb dX11_digits_35 ?_
        refine h_mmin X hl.1 ⟨by omega, by omega⟩ ⟨by omega, by omega⟩ q2089 q336 q135 q337 ⟨by decide, Nat.le_of_ble_eq_true rfl⟩ (by omega) (by omega) dX11_digits_36 ?_
        refine W.eq (g2 := F0 m9 39 ls [.int (iI (nmF T b0 (k + 1 - b0)))]) (congrArg (fun z_ : Int => F0 m9 39 ls [.int (iI (z_))]) (show (if 1000000 ≤ (10 * (nmF T b0 (k - b0)) + (bat T k)) - 48 then 1000000 else (10 * (nmF T b0 (k - b0)) + (bat T k)) - 48 : Int) = nmF T b0 (k + 1 - b0) from (by rw [nmF_s hk.1]; split <;> omega))) ?_
        refine lv_istore_n (lv' := [(1, .int (iI (nmF T b0 (k + 1 - b0)))), (0, .ref q)]) hx hb dX11_digits_39 rfl hl (by decide) rfl (fun ls hl => ?_)
        refine lv_aload_n hx hb dX11_digits_40 rfl (lv_at hl 1 rfl) ?_
        refine lv_dup hx hb dX11_digits_41 rfl ?_
        refine h_get X hR hI_q_w_1 rfl in_X22 3 (by decide) q2093 rfl dX11_digits_42 ?_
        refine h_iconst hx hb dX11_digits_45 ?_
        refine h_iadd hx hb dX11_digits_46 ?_
        refine h_put X hR hL hI_q_w_1 (Nat.succ_ne_zero _) rfl in_X22 tyX22_ok nmX22 3 (by decide) q2093 rfl rfl rfl (Nat.le_of_ble_eq_true rfl) dX11_digits_47 (fun w_6 ew_7 H locs hR hL => ?_)
        have hU : Up (fun q_ => q_ = q + 1) w w_6 := by rw [ew_7]; exact hU.set hI_q_w_1 (by first | exact Or.inl rfl | exact Or.inl (Or.inl rfl) | exact Or.inl (Or.inr rfl) | exact Or.inl (Or.inr (Or.inl rfl)) | exact Or.inl (Or.inr (Or.inr rfl)) | exact Or.inr ⟨Nat.succ_ne_zero _, by rw [Nat.add_sub_cancel]; assumption⟩ | exact Or.inr ⟨by omega, by assumption⟩) hG _
        have hF_q_w_6 : w_6 q = some (q + 1, oE 10 [.ref bf, .int (iI ((T.length : Int))), .int (iI (z1)), .int (iI (((k : Nat) : Int) + 1)), .int (iI (va)), .int (iI (z3)), wv, ol, ca]) := by rw [ew_7]; exact wset_eq _ _ _
        have hF_bf_w_6 : w_6 bf = some (rb, iE G 1 800 fb) := by rw [ew_7]; exact (wset_ne _ (by first | exact Ne9.p ne_bf_q | exact Ne.symm (Ne9.p ne_q_bf) | exact ne_bf_q | exact Ne.symm ne_q_bf | exact w_ne hI_bf_w_1 hI_q_w_1 (by intro h; cases h) | exact w_neR hI_bf_w_1 hI_q_w_1 (by first | exact fun q_ => absurd (Nat.succ.inj q_) (by first | assumption | exact Ne9.p (by assumption)) | exact fun q_ => absurd (Nat.succ.inj q_).symm (by first | assumption | exact Ne9.p (by assumption)) | exact Nat.succ_ne_zero _ | exact (Nat.succ_ne_zero _).symm | omega))).trans hI_bf_w_1
        refine lv_goto (tgt := 2) hx hb dX11_digits_50 (by decide) ?_
        exact ih_2 (k + 1) w_6 (by omega) (by rw [← hlt]; exact c_go.1.symm) (by rw [nmF_s hk.1]; omega) hF_bf_w_6 hF_q_w_6 hU (by omega) _ _ _ hR hL (lv_sub hl [1, 0] rfl)
  have hl : lv_has ls 2 [(1, .int (iI (nmF T b0 (b0 - b0)))), (0, .ref q)] := lv_conv hl (congrArg (fun z_ : Int => ([(1, .int (iI (z_))), (0, .ref q)] : List (Nat × Value))) (show (0 : Int) = nmF T b0 (b0 - b0) from (by rw [nmF_0])))
  exact LOOP_2 _ b0 w ⟨Nat.le_refl _, hb0⟩ rfl (by rw [nmF_0]; decide) hB1 hA hU (Nat.lt_succ_self _) _ _ _ hR hL (lv_sub hl [1, 0] rfl)

set_option maxHeartbeats 4000000 in
set_option maxRecDepth 100000 in
/-- SpokenMarks$Scanner.advance -/
theorem sc_adv (l : Launch) (G : Gl) (w : Wd) (q : Nat) (bf rb : Nat) (T : List Int) (z1 va z3 : Int) (wv : Value) (p : Nat) (hA : w q = some (q + 1, oE 8 [.ref bf, .int (iI ((T.length : Int))), .int (iI (z1)), .int (iI ((p : Int))), .int (iI (va)), .int (iI (z3)), wv])) (hB : BufAt G w bf rb T) (hva : R32 va) (hp : p ≤ T.length) (hqb : rb ≠ q + 1) (hG : RegW w) : HM l yX11_advance cX11_advance 1 none 9 4 33 G [.ref q] w (QV G (fun w_ => TkAt G w_ 8 [] q bf T (tok T p) ∧ Up (fun q_ => q_ = q + 1) w w_)) := by
  refine HM.mk (by decide +kernel) (Nat.le_of_ble_eq_true rfl) ?_
  intro p9 e9 s9 m9 a9 b9 meth9 c9 ls X hret hlk hnm hl H hR
  have hx := X.1.1
  have hb := X.1.2.1
  have hl : lv_has ls 1 [(0, .ref q)] := hl
  have hL : LK G [] := fun q h => absurd h List.not_mem_nil
  generalize ([] : List Loc) = locs at hL ⊢
  have hU : Up (fun q_ => q_ = q + 1) w w := Up.rf hG
  have hB0 := hB
  obtain ⟨fb, hB1, hTW, hfb⟩ := hB
  have hTl := hTW.1
  refine lv_aload_n hx hb dX11_advance_0 rfl (lv_at hl 0 rfl) ?_
  refine lv_aload_n hx hb dX11_advance_1 rfl (lv_at hl 0 rfl) ?_
  refine h_get X hR hA rfl in_X11 3 (by decide) q2093 rfl dX11_advance_2 ?_
  refine h_put X hR hL hA (Nat.succ_ne_zero _) rfl in_X11 tyX11_ok nmX11 2 (by decide) q2092 rfl rfl rfl (Nat.le_of_ble_eq_true rfl) dX11_advance_5 (fun w_1 ew_2 H locs hR hL => ?_)
  have hU : Up (fun q_ => q_ = q + 1) w w_1 := by rw [ew_2]; exact hU.set hA (by first | exact Or.inl rfl | exact Or.inl (Or.inl rfl) | exact Or.inl (Or.inr rfl) | exact Or.inl (Or.inr (Or.inl rfl)) | exact Or.inl (Or.inr (Or.inr rfl)) | exact Or.inr ⟨Nat.succ_ne_zero _, by rw [Nat.add_sub_cancel]; assumption⟩ | exact Or.inr ⟨by omega, by assumption⟩) hG _
  have hF_q_w_1 : w_1 q = some (q + 1, oE 8 [.ref bf, .int (iI ((T.length : Int))), .int (iI ((p : Int))), .int (iI ((p : Int))), .int (iI (va)), .int (iI (z3)), wv]) := by rw [ew_2]; exact wset_eq _ _ _
  have hF_bf_w_1 : w_1 bf = some (rb, iE G 1 800 fb) := by rw [ew_2]; exact (wset_ne _ (by first | exact Ne9.p ne_bf_q | exact Ne.symm (Ne9.p ne_q_bf) | exact ne_bf_q | exact Ne.symm ne_q_bf | exact w_ne hB1 hA (by intro h; cases h) | exact w_neR hB1 hA (by first | exact fun q_ => absurd (Nat.succ.inj q_) (by first | assumption | exact Ne9.p (by assumption)) | exact fun q_ => absurd (Nat.succ.inj q_).symm (by first | assumption | exact Ne9.p (by assumption)) | exact Nat.succ_ne_zero _ | exact (Nat.succ_ne_zero _).symm | omega))).trans hB1
  have LOOP_4 : ∀ (N_ : Nat) (k : Nat)(w_3 : Wd) , (p ≤ k ∧ k ≤ T.length) → (skp T k = skp T p) → (w_3 bf = some (rb, iE G 1 800 fb)) → (w_3 q = some (q + 1, oE 8 [.ref bf, .int (iI ((T.length : Int))), .int (iI (((k : Nat) : Int))), .int (iI ((p : Int))), .int (iI (va)), .int (iI (z3)), wv])) → (Up (fun q_ => q_ = q + 1) w w_3) → (T.length - k) < N_ → ∀ (H : Heap) (locs : List Loc) (ls : Array Slot), Rp G w_3 H → LK G locs → lv_has ls 1 [(0, .ref q)] → W p9 l e9 (rmk 9 4 33) s9 m9 a9 b9 meth9 c9 H locs 0 0 (MQ b9 (QV G (fun w_ => TkAt G w_ 8 [] q bf T (tok T p) ∧ Up (fun q_ => q_ = q + 1) w w_)) a9 s9 4 33 (frG G)) (F0 m9 8 ls []) := by
    intro N_
    induction N_ with
    | zero => intro _ _ _ _ _ _ _ h_; exact absurd h_ (Nat.not_lt_zero _)
    | succ N_ ih_ =>
      intro k w_3 hk hsk hI_bf_w_3 hI_q_w_3 hU hN_ H locs ls hR hL hl
      have ih_4 := ih_
      clear ih_
      refine lv_aload_n hx hb dX11_advance_8 rfl (lv_at hl 0 rfl) ?_
      refine lv_aload_n hx hb dX11_advance_9 rfl (lv_at hl 0 rfl) ?_
      refine h_get X hR hI_q_w_3 rfl in_X11 2 (by decide) q2092 rfl dX11_advance_10 ?_
      refine h_bipush hx hb dX11_advance_13 (by decide) ?_
      refine h_bipush hx hb dX11_advance_15 (by decide) ?_
      -- call SpokenMarks$Scanner.isBetween
      refine h_kIp (h_runV X hR (sc_isB l G w_3 q bf rb T (((k : Nat) : Int)) ((p : Int)) va z3 wv hI_q_w_3 ⟨fb, hI_bf_w_3, hTW, hfb⟩ ((k)) 32 32 (by decide) (by omega)) pn_yX11_isBetween (hasC.of hI_q_w_3 rfl) q2070 q2072 qs17 q162 q2074 ⟨by decide, by decide⟩ hl.1 (Nat.le_of_ble_eq_true rfl) dX11_advance_17 ⟨by omega, by omega⟩) hL (fun H locs hR hL => ?_)
      refine h_if_ne hx hb 38 dX11_advance_20 (by decide) (by have := b2i_01 (32 ≤ bat T k ∧ bat T k ≤ 32); omega) (fun c_s => ?_) (fun c_s => ?_)
      ·
        have c_s1 := b2i_n1.mp c_s
        have c_go := skp_go (T := T) (k := k) (by omega)
        refine lv_aload_n hx hb dX11_advance_38 rfl (lv_at hl 0 rfl) ?_
        refine lv_dup hx hb dX11_advance_39 rfl ?_
        refine h_get X hR hI_q_w_3 rfl in_X11 2 (by decide) q2092 rfl dX11_advance_40 ?_
        refine h_iconst hx hb dX11_advance_43 ?_
        refine h_iadd hx hb dX11_advance_44 ?_
        refine h_put X hR hL hI_q_w_3 (Nat.succ_ne_zero _) rfl in_X11 tyX11_ok nmX11 2 (by decide) q2092 rfl rfl rfl (Nat.le_of_ble_eq_true rfl) dX11_advance_45 (fun w_8 ew_9 H locs hR hL => ?_)
        have hU : Up (fun q_ => q_ = q + 1) w w_8 := by rw [ew_9]; exact hU.set hI_q_w_3 (by first | exact Or.inl rfl | exact Or.inl (Or.inl rfl) | exact Or.inl (Or.inr rfl) | exact Or.inl (Or.inr (Or.inl rfl)) | exact Or.inl (Or.inr (Or.inr rfl)) | exact Or.inr ⟨Nat.succ_ne_zero _, by rw [Nat.add_sub_cancel]; assumption⟩ | exact Or.inr ⟨by omega, by assumption⟩) hG _
        have hF_q_w_8 : w_8 q = some (q + 1, oE 8 [.ref bf, .int (iI ((T.length : Int))), .int (iI (((k : Nat) : Int) + 1)), .int (iI ((p : Int))), .int (iI (va)), .int (iI (z3)), wv]) := by rw [ew_9]; exact wset_eq _ _ _
        have hF_bf_w_8 : w_8 bf = some (rb, iE G 1 800 fb) := by rw [ew_9]; exact (wset_ne _ (by first | exact Ne9.p ne_bf_q | exact Ne.symm (Ne9.p ne_q_bf) | exact ne_bf_q | exact Ne.symm ne_q_bf | exact w_ne hI_bf_w_3 hI_q_w_3 (by intro h; cases h) | exact w_neR hI_bf_w_3 hI_q_w_3 (by first | exact fun q_ => absurd (Nat.succ.inj q_) (by first | assumption | exact Ne9.p (by assumption)) | exact fun q_ => absurd (Nat.succ.inj q_).symm (by first | assumption | exact Ne9.p (by assumption)) | exact Nat.succ_ne_zero _ | exact (Nat.succ_ne_zero _).symm | omega))).trans hI_bf_w_3
        refine lv_goto (tgt := 8) hx hb dX11_advance_48 (by decide) ?_
        exact ih_4 (k + 1) w_8 (by have := c_go.2; omega) (by rw [← hsk]; exact c_go.1.symm) hF_bf_w_8 hF_q_w_8 hU (by omega) _ _ _ hR hL (lv_sub hl [0] rfl)
      ·
        have c_s0 := b2i_0.mp c_s
        refine lv_aload_n hx hb dX11_advance_23 rfl (lv_at hl 0 rfl) ?_
        refine lv_aload_n hx hb dX11_advance_24 rfl (lv_at hl 0 rfl) ?_
        refine h_get X hR hI_q_w_3 rfl in_X11 2 (by decide) q2092 rfl dX11_advance_25 ?_
        refine h_bipush hx hb dX11_advance_28 (by decide) ?_
        refine h_bipush hx hb dX11_advance_30 (by decide) ?_
        -- call SpokenMarks$Scanner.isBetween
        refine h_kIp (h_runV X hR (sc_isB l G w_3 q bf rb T (((k : Nat) : Int)) ((p : Int)) va z3 wv hI_q_w_3 ⟨fb, hI_bf_w_3, hTW, hfb⟩ ((k)) 10 10 (by decide) (by omega)) pn_yX11_isBetween (hasC.of hI_q_w_3 rfl) q2070 q2072 qs17 q162 q2074 ⟨by decide, by decide⟩ hl.1 (Nat.le_of_ble_eq_true rfl) dX11_advance_32 ⟨by omega, by omega⟩) hL (fun H locs hR hL => ?_)
        refine h_if_eq hx hb 51 dX11_advance_35 (by decide) (by have := b2i_01 (10 ≤ bat T k ∧ bat T k ≤ 10); omega) (fun c_t => ?_) (fun c_t => ?_)
        ·
          have c_t0 := b2i_0.mp c_t
          have hsp : skp T p = k := hsk.symm.trans (skp_no (by omega))
          refine lv_aload_n hx hb dX11_advance_51 rfl (lv_at hl 0 rfl) ?_
          refine lv_aload_n hx hb dX11_advance_52 rfl (lv_at hl 0 rfl) ?_
          refine h_get X hR hI_q_w_3 rfl in_X11 2 (by decide) q2092 rfl dX11_advance_53 ?_
          refine h_put X hR hL hI_q_w_3 (Nat.succ_ne_zero _) rfl in_X11 tyX11_ok nmX11 3 (by decide) q2093 rfl rfl rfl (Nat.le_of_ble_eq_true rfl) dX11_advance_56 (fun w_14 ew_15 H locs hR hL => ?_)
          have hU : Up (fun q_ => q_ = q + 1) w w_14 := by rw [ew_15]; exact hU.set hI_q_w_3 (by first | exact Or.inl rfl | exact Or.inl (Or.inl rfl) | exact Or.inl (Or.inr rfl) | exact Or.inl (Or.inr (Or.inl rfl)) | exact Or.inl (Or.inr (Or.inr rfl)) | exact Or.inr ⟨Nat.succ_ne_zero _, by rw [Nat.add_sub_cancel]; assumption⟩ | exact Or.inr ⟨by omega, by assumption⟩) hG _
          have hF_q_w_14 : w_14 q = some (q + 1, oE 8 [.ref bf, .int (iI ((T.length : Int))), .int (iI (((k : Nat) : Int))), .int (iI (((k : Nat) : Int))), .int (iI (va)), .int (iI (z3)), wv]) := by rw [ew_15]; exact wset_eq _ _ _
          have hF_bf_w_14 : w_14 bf = some (rb, iE G 1 800 fb) := by rw [ew_15]; exact (wset_ne _ (by first | exact Ne9.p ne_bf_q | exact Ne.symm (Ne9.p ne_q_bf) | exact ne_bf_q | exact Ne.symm ne_q_bf | exact w_ne hI_bf_w_3 hI_q_w_3 (by intro h; cases h) | exact w_neR hI_bf_w_3 hI_q_w_3 (by first | exact fun q_ => absurd (Nat.succ.inj q_) (by first | assumption | exact Ne9.p (by assumption)) | exact fun q_ => absurd (Nat.succ.inj q_).symm (by first | assumption | exact Ne9.p (by assumption)) | exact Nat.succ_ne_zero _ | exact (Nat.succ_ne_zero _).symm | omega))).trans hI_bf_w_3
          refine lv_aload_n hx hb dX11_advance_59 rfl (lv_at hl 0 rfl) ?_
          refine h_ldcS X 12 rfl q2062 dX11_advance_60 ?_
          have hcn_16 : StrAt G w_14 (gC G 12) [] := StrAt.con hR X.2 12 (by decide) (by decide) (by decide +kernel)
          refine h_put X hR hL hF_q_w_14 (Nat.succ_ne_zero _) rfl in_X11 tyX11_ok nmX11 6 (by decide) q2100 rfl rfl rfl (Nat.le_of_ble_eq_true rfl) dX11_advance_62 (fun w_17 ew_18 H locs hR hL => ?_)
          have hU : Up (fun q_ => q_ = q + 1) w w_17 := by rw [ew_18]; exact hU.set hF_q_w_14 (by first | exact Or.inl rfl | exact Or.inl (Or.inl rfl) | exact Or.inl (Or.inr rfl) | exact Or.inl (Or.inr (Or.inl rfl)) | exact Or.inl (Or.inr (Or.inr rfl)) | exact Or.inr ⟨Nat.succ_ne_zero _, by rw [Nat.add_sub_cancel]; assumption⟩ | exact Or.inr ⟨by omega, by assumption⟩) hG _
          have hF_q_w_17 : w_17 q = some (q + 1, oE 8 [.ref bf, .int (iI ((T.length : Int))), .int (iI (((k : Nat) : Int))), .int (iI (((k : Nat) : Int))), .int (iI (va)), .int (iI (z3)), .ref (gC G 12)]) := by rw [ew_18]; exact wset_eq _ _ _
          have hF_bf_w_17 : w_17 bf = some (rb, iE G 1 800 fb) := by rw [ew_18]; exact (wset_ne _ (by first | exact Ne9.p ne_bf_q | exact Ne.symm (Ne9.p ne_q_bf) | exact ne_bf_q | exact Ne.symm ne_q_bf | exact w_ne hF_bf_w_14 hF_q_w_14 (by intro h; cases h) | exact w_neR hF_bf_w_14 hF_q_w_14 (by first | exact fun q_ => absurd (Nat.succ.inj q_) (by first | assumption | exact Ne9.p (by assumption)) | exact fun q_ => absurd (Nat.succ.inj q_).symm (by first | assumption | exact Ne9.p (by assumption)) | exact Nat.succ_ne_zero _ | exact (Nat.succ_ne_zero _).symm | omega))).trans hF_bf_w_14
          have hP_gC_G_12_w_17 := hcn_16.mv (w1 := w_17) (S := fun q_ => q_ = q + 1) (by rw [ew_18]; exact Fr.one hF_q_w_14 _) (by first | exact id | exact fun q_ => absurd q_ (by first | assumption | exact Ne9.p (by assumption)) | exact fun q_ => absurd (Nat.succ.inj q_) (by first | assumption | exact Ne9.p (by assumption)) | exact fun q_ => absurd q_.symm (Nat.succ_ne_zero _) | exact fun q_ => absurd (Nat.succ.inj q_).symm (by first | assumption | exact Ne9.p (by assumption)) | (intro q_; (try dsimp only at q_); rcases q_ with q_ | q_ | q_ | q_ | q_ <;> first | exact absurd q_ (by first | assumption | exact Ne9.p (by assumption)) | exact absurd (Nat.succ.inj q_) (by first | assumption | exact Ne9.p (by assumption)) | exact absurd q_.symm (Nat.succ_ne_zero _) | exact absurd (Nat.succ.inj q_).symm (by first | assumption | exact Ne9.p (by assumption))) | (intro q_; (try dsimp only at q_); rcases q_ with q_ | q_ | q_ | q_ <;> first | exact absurd q_ (by first | assumption | exact Ne9.p (by assumption)) | exact absurd (Nat.succ.inj q_) (by first | assumption | exact Ne9.p (by assumption)) | exact absurd q_.symm (Nat.succ_ne_zero _) | exact absurd (Nat.succ.inj q_).symm (by first | assumption | exact Ne9.p (by assumption))) | (intro q_; (try dsimp only at q_); rcases q_ with q_ | q_ <;> first | exact absurd q_ (by first | assumption | exact Ne9.p (by assumption)) | exact absurd (Nat.succ.inj q_) (by first | assumption | exact Ne9.p (by assumption)) | exact absurd q_.symm (Nat.succ_ne_zero _) | exact absurd (Nat.succ.inj q_).symm (by first | assumption | exact Ne9.p (by assumption))) | (intro q_; (try dsimp only at q_); omega))
          refine lv_aload_n hx hb dX11_advance_65 rfl (lv_at hl 0 rfl) ?_
          refine h_get X hR hF_q_w_17 rfl in_X11 2 (by decide) q2092 rfl dX11_advance_66 ?_
          refine lv_aload_n hx hb dX11_advance_69 rfl (lv_at hl 0 rfl) ?_
          refine h_get X hR hF_q_w_17 rfl in_X11 1 (by decide) q2091 rfl dX11_advance_70 ?_
          refine h_icmp_ne hx hb 84 dX11_advance_73 (by decide) (by omega) (by omega) (fun c_e => ?_) (fun c_e => ?_)
          ·
            refine lv_aload_n hx hb dX11_advance_84 rfl (lv_at hl 0 rfl) ?_
            refine lv_aload_n hx hb dX11_advance_85 rfl (lv_at hl 0 rfl) ?_
            refine h_get X hR hF_q_w_17 rfl in_X11 2 (by decide) q2092 rfl dX11_advance_86 ?_
            refine h_bipush hx hb dX11_advance_89 (by decide) ?_
            refine h_bipush hx hb dX11_advance_91 (by decide) ?_
            -- call SpokenMarks$Scanner.isBetween
            refine h_kIp (h_runV X hR (sc_isB l G w_17 q bf rb T (((k : Nat) : Int)) (((k : Nat) : Int)) va z3 (.ref (gC G 12)) hF_q_w_17 ⟨fb, hF_bf_w_17, hTW, hfb⟩ ((k)) 97 122 (by decide) (by omega)) pn_yX11_isBetween (hasC.of hF_q_w_17 rfl) q2070 q2072 qs17 q162 q2074 ⟨by decide, by decide⟩ hl.1 (Nat.le_of_ble_eq_true rfl) dX11_advance_93 ⟨by omega, by omega⟩) hL (fun H locs hR hL => ?_)
            refine h_if_eq hx hb 115 dX11_advance_96 (by decide) (by have := b2i_01 (97 ≤ bat T k ∧ bat T k ≤ 122); omega) (fun c_l => ?_) (fun c_l => ?_)
            ·
              have c_nl := b2i_0.mp c_l
              refine lv_aload_n hx hb dX11_advance_115 rfl (lv_at hl 0 rfl) ?_
              refine lv_aload_n hx hb dX11_advance_116 rfl (lv_at hl 0 rfl) ?_
              refine h_get X hR hF_q_w_17 rfl in_X11 2 (by decide) q2092 rfl dX11_advance_117 ?_
              refine h_bipush hx hb dX11_advance_120 (by decide) ?_
              refine h_bipush hx hb dX11_advance_122 (by decide) ?_
              -- call SpokenMarks$Scanner.isBetween
              refine h_kIp (h_runV X hR (sc_isB l G w_17 q bf rb T (((k : Nat) : Int)) (((k : Nat) : Int)) va z3 (.ref (gC G 12)) hF_q_w_17 ⟨fb, hF_bf_w_17, hTW, hfb⟩ ((k)) 48 57 (by decide) (by omega)) pn_yX11_isBetween (hasC.of hF_q_w_17 rfl) q2070 q2072 qs17 q162 q2074 ⟨by decide, by decide⟩ hl.1 (Nat.le_of_ble_eq_true rfl) dX11_advance_124 ⟨by omega, by omega⟩) hL (fun H locs hR hL => ?_)
              refine h_if_eq hx hb 146 dX11_advance_127 (by decide) (by have := b2i_01 (48 ≤ bat T k ∧ bat T k ≤ 57); omega) (fun c_f => ?_) (fun c_f => ?_)
              ·
                have c_nf := b2i_0.mp c_f
                have hil : k < T.length := (by omega)
                have hf := hfb k hil
                have hx2 := hTW.2 k hil
                have hbt : bat T k = T.getD k 0 := if_pos hil
                have hb8 := b8_b hx2
                have hb8r := b8_r (T.getD k 0)
                refine lv_aload_n hx hb dX11_advance_146 rfl (lv_at hl 0 rfl) ?_
                refine lv_dup hx hb dX11_advance_147 rfl ?_
                refine h_get X hR hF_q_w_17 rfl in_X11 3 (by decide) q2093 rfl dX11_advance_148 ?_
                refine h_iconst hx hb dX11_advance_151 ?_
                refine h_iadd hx hb dX11_advance_152 ?_
                refine h_put X hR hL hF_q_w_17 (Nat.succ_ne_zero _) rfl in_X11 tyX11_ok nmX11 3 (by decide) q2093 rfl rfl rfl (Nat.le_of_ble_eq_true rfl) dX11_advance_153 (fun w_25 ew_26 H locs hR hL => ?_)
                have hU : Up (fun q_ => q_ = q + 1) w w_25 := by rw [ew_26]; exact hU.set hF_q_w_17 (by first | exact Or.inl rfl | exact Or.inl (Or.inl rfl) | exact Or.inl (Or.inr rfl) | exact Or.inl (Or.inr (Or.inl rfl)) | exact Or.inl (Or.inr (Or.inr rfl)) | exact Or.inr ⟨Nat.succ_ne_zero _, by rw [Nat.add_sub_cancel]; assumption⟩ | exact Or.inr ⟨by omega, by assumption⟩) hG _
                have hF_q_w_25 : w_25 q = some (q + 1, oE 8 [.ref bf, .int (iI ((T.length : Int))), .int (iI (((k : Nat) : Int))), .int (iI (((k : Nat) : Int) + 1)), .int (iI (va)), .int (iI (z3)), .ref (gC G 12)]) := by rw [ew_26]; exact wset_eq _ _ _
                have hF_bf_w_25 : w_25 bf = some (rb, iE G 1 800 fb) := by rw [ew_26]; exact (wset_ne _ (by first | exact Ne9.p ne_bf_q | exact Ne.symm (Ne9.p ne_q_bf) | exact ne_bf_q | exact Ne.symm ne_q_bf | exact w_ne hF_bf_w_17 hF_q_w_17 (by intro h; cases h) | exact w_neR hF_bf_w_17 hF_q_w_17 (by first | exact fun q_ => absurd (Nat.succ.inj q_) (by first | assumption | exact Ne9.p (by assumption)) | exact fun q_ => absurd (Nat.succ.inj q_).symm (by first | assumption | exact Ne9.p (by assumption)) | exact Nat.succ_ne_zero _ | exact (Nat.succ_ne_zero _).symm | omega))).trans hF_bf_w_17
                have hP_gC_G_12_w_25 := hP_gC_G_12_w_17.mv (w1 := w_25) (S := fun q_ => q_ = q + 1) (by rw [ew_26]; exact Fr.one hF_q_w_17 _) (by first | exact id | exact fun q_ => absurd q_ (by first | assumption | exact Ne9.p (by assumption)) | exact fun q_ => absurd (Nat.succ.inj q_) (by first | assumption | exact Ne9.p (by assumption)) | exact fun q_ => absurd q_.symm (Nat.succ_ne_zero _) | exact fun q_ => absurd (Nat.succ.inj q_).symm (by first | assumption | exact Ne9.p (by assumption)) | (intro q_; (try dsimp only at q_); rcases q_ with q_ | q_ | q_ | q_ | q_ <;> first | exact absurd q_ (by first | assumption | exact Ne9.p (by assumption)) | exact absurd (Nat.succ.inj q_) (by first | assumption | exact Ne9.p (by assumption)) | exact absurd q_.symm (Nat.succ_ne_zero _) | exact absurd (Nat.succ.inj q_).symm (by first | assumption | exact Ne9.p (by assumption))) | (intro q_; (try dsimp only at q_); rcases q_ with q_ | q_ | q_ | q_ <;> first | exact absurd q_ (by first | assumption | exact Ne9.p (by assumption)) | exact absurd (Nat.succ.inj q_) (by first | assumption | exact Ne9.p (by assumption)) | exact absurd q_.symm (Nat.succ_ne_zero _) | exact absurd (Nat.succ.inj q_).symm (by first | assumption | exact Ne9.p (by assumption))) | (intro q_; (try dsimp only at q_); rcases q_ with q_ | q_ <;> first | exact absurd q_ (by first | assumption | exact Ne9.p (by assumption)) | exact absurd (Nat.succ.inj q_) (by first | assumption | exact Ne9.p (by assumption)) | exact absurd q_.symm (Nat.succ_ne_zero _) | exact absurd (Nat.succ.inj q_).symm (by first | assumption | exact Ne9.p (by assumption))) | (intro q_; (try dsimp only at q_); omega))
                refine lv_aload_n hx hb dX11_advance_156 rfl (lv_at hl 0 rfl) ?_
                refine lv_aload_n hx hb dX11_advance_157 rfl (lv_at hl 0 rfl) ?_
                refine h_get X hR hF_q_w_25 rfl in_X11 0 (by decide) q2090 rfl dX11_advance_158 ?_
                refine lv_aload_n hx hb dX11_advance_161 rfl (lv_at hl 0 rfl) ?_
                refine h_get X hR hF_q_w_25 rfl in_X11 2 (by decide) q2092 rfl dX11_advance_162 ?_
                refine h_bald X hR hF_bf_w_25 (by omega) (by omega) dX11_advance_165 ?_
                refine W.eq (g2 := F0 m9 166 ls [.int (iI (fb k)), .ref q]) (congrArg (fun z_ : Int => F0 m9 166 ls [.int (iI (z_)), .ref q]) (show (fb (((k : Nat) : Int)).toNat : Int) = fb k from (by rw [Int.toNat_natCast]))) ?_
                refine h_bipush hx hb dX11_advance_166 (by decide) ?_
                refine h_icmp_ne hx hb 175 dX11_advance_168 (by decide) (by omega) (by omega) (fun c_59a => ?_) (fun c_59a => ?_)
                ·
                  have c_59 : ¬ bat T k = 59 := by omega
                  refine lv_aload_n hx hb dX11_advance_175 rfl (lv_at hl 0 rfl) ?_
                  refine h_get X hR hF_q_w_25 rfl in_X11 0 (by decide) q2090 rfl dX11_advance_176 ?_
                  refine lv_aload_n hx hb dX11_advance_179 rfl (lv_at hl 0 rfl) ?_
                  refine h_get X hR hF_q_w_25 rfl in_X11 2 (by decide) q2092 rfl dX11_advance_180 ?_
                  refine h_bald X hR hF_bf_w_25 (by omega) (by omega) dX11_advance_183 ?_
                  refine W.eq (g2 := F0 m9 184 ls [.int (iI (fb k)), .ref q]) (congrArg (fun z_ : Int => F0 m9 184 ls [.int (iI (z_)), .ref q]) (show (fb (((k : Nat) : Int)).toNat : Int) = fb k from (by rw [Int.toNat_natCast]))) ?_
                  refine h_bipush hx hb dX11_advance_184 (by decide) ?_
                  refine h_icmp_ne hx hb 193 dX11_advance_186 (by decide) (by omega) (by omega) (fun c_61a => ?_) (fun c_61a => ?_)
                  ·
                    have c_61 : ¬ bat T k = 61 := by omega
                    refine h_iconst hx hb dX11_advance_193 ?_
                    refine h_put X hR hL hF_q_w_25 (Nat.succ_ne_zero _) rfl in_X11 tyX11_ok nmX11 5 (by decide) q2099 rfl rfl rfl (Nat.le_of_ble_eq_true rfl) dX11_advance_194 (fun w_27 ew_28 H locs hR hL => ?_)
                    have hU : Up (fun q_ => q_ = q + 1) w w_27 := by rw [ew_28]; exact hU.set hF_q_w_25 (by first | exact Or.inl rfl | exact Or.inl (Or.inl rfl) | exact Or.inl (Or.inr rfl) | exact Or.inl (Or.inr (Or.inl rfl)) | exact Or.inl (Or.inr (Or.inr rfl)) | exact Or.inr ⟨Nat.succ_ne_zero _, by rw [Nat.add_sub_cancel]; assumption⟩ | exact Or.inr ⟨by omega, by assumption⟩) hG _
                    have hF_q_w_27 : w_27 q = some (q + 1, oE 8 [.ref bf, .int (iI ((T.length : Int))), .int (iI (((k : Nat) : Int))), .int (iI (((k : Nat) : Int) + 1)), .int (iI (va)), .int (iI (5)), .ref (gC G 12)]) := by rw [ew_28]; exact wset_eq _ _ _
                    have hF_bf_w_27 : w_27 bf = some (rb, iE G 1 800 fb) := by rw [ew_28]; exact (wset_ne _ (by first | exact Ne9.p ne_bf_q | exact Ne.symm (Ne9.p ne_q_bf) | exact ne_bf_q | exact Ne.symm ne_q_bf | exact w_ne hF_bf_w_25 hF_q_w_25 (by intro h; cases h) | exact w_neR hF_bf_w_25 hF_q_w_25 (by first | exact fun q_ => absurd (Nat.succ.inj q_) (by first | assumption | exact Ne9.p (by assumption)) | exact fun q_ => absurd (Nat.succ.inj q_).symm (by first | assumption | exact Ne9.p (by assumption)) | exact Nat.succ_ne_zero _ | exact (Nat.succ_ne_zero _).symm | omega))).trans hF_bf_w_25
                    have hP_gC_G_12_w_27 := hP_gC_G_12_w_25.mv (w1 := w_27) (S := fun q_ => q_ = q + 1) (by rw [ew_28]; exact Fr.one hF_q_w_25 _) (by first | exact id | exact fun q_ => absurd q_ (by first | assumption | exact Ne9.p (by assumption)) | exact fun q_ => absurd (Nat.succ.inj q_) (by first | assumption | exact Ne9.p (by assumption)) | exact fun q_ => absurd q_.symm (Nat.succ_ne_zero _) | exact fun q_ => absurd (Nat.succ.inj q_).symm (by first | assumption | exact Ne9.p (by assumption)) | (intro q_; (try dsimp only at q_); rcases q_ with q_ | q_ | q_ | q_ | q_ <;> first | exact absurd q_ (by first | assumption | exact Ne9.p (by assumption)) | exact absurd (Nat.succ.inj q_) (by first | assumption | exact Ne9.p (by assumption)) | exact absurd q_.symm (Nat.succ_ne_zero _) | exact absurd (Nat.succ.inj q_).symm (by first | assumption | exact Ne9.p (by assumption))) | (intro q_; (try dsimp only at q_); rcases q_ with q_ | q_ | q_ | q_ <;> first | exact absurd q_ (by first | assumption | exact Ne9.p (by assumption)) | exact absurd (Nat.succ.inj q_) (by first | assumption | exact Ne9.p (by assumption)) | exact absurd q_.symm (Nat.succ_ne_zero _) | exact absurd (Nat.succ.inj q_).symm (by first | assumption | exact Ne9.p (by assumption))) | (intro q_; (try dsimp only at q_); rcases q_ with q_ | q_ <;> first | exact absurd q_ (by first | assumption | exact Ne9.p (by assumption)) | exact absurd (Nat.succ.inj q_) (by first | assumption | exact Ne9.p (by assumption)) | exact absurd q_.symm (Nat.succ_ne_zero _) | exact absurd (Nat.succ.inj q_).symm (by first | assumption | exact Ne9.p (by assumption))) | (intro q_; (try dsimp only at q_); omega))
                    have htk : tok T p = (k, k + 1, 5, 0) := by unfold tok; rw [hsp, if_neg (by omega), if_neg c_nl, if_neg c_nf, if_neg c_59, if_neg c_61]
                    exact h_vreturn hx hb hlk hret hR hL ⟨by rw [htk]; exact ⟨va, gC G 12, hF_q_w_27, by show StrAt G w_27 (gC G 12) (if (5 : Int) = 1 then _ else []); rw [if_neg (by decide)]; exact hP_gC_G_12_w_27, hva, fun q_ => absurd (show (5 : Int) = 2 from q_) (by decide)⟩, hU⟩ (by omega) (by omega) rfl rfl dX11_advance_197
                  ·
                    have c_61 : bat T k = 61 := by omega
                    refine h_iconst hx hb dX11_advance_189 ?_
                    refine lv_goto (tgt := 194) hx hb dX11_advance_190 (by decide) ?_
                    refine h_put X hR hL hF_q_w_25 (Nat.succ_ne_zero _) rfl in_X11 tyX11_ok nmX11 5 (by decide) q2099 rfl rfl rfl (Nat.le_of_ble_eq_true rfl) dX11_advance_194 (fun w_29 ew_30 H locs hR hL => ?_)
                    have hU : Up (fun q_ => q_ = q + 1) w w_29 := by rw [ew_30]; exact hU.set hF_q_w_25 (by first | exact Or.inl rfl | exact Or.inl (Or.inl rfl) | exact Or.inl (Or.inr rfl) | exact Or.inl (Or.inr (Or.inl rfl)) | exact Or.inl (Or.inr (Or.inr rfl)) | exact Or.inr ⟨Nat.succ_ne_zero _, by rw [Nat.add_sub_cancel]; assumption⟩ | exact Or.inr ⟨by omega, by assumption⟩) hG _
                    have hF_q_w_29 : w_29 q = some (q + 1, oE 8 [.ref bf, .int (iI ((T.length : Int))), .int (iI (((k : Nat) : Int))), .int (iI (((k : Nat) : Int) + 1)), .int (iI (va)), .int (iI (4)), .ref (gC G 12)]) := by rw [ew_30]; exact wset_eq _ _ _
                    have hF_bf_w_29 : w_29 bf = some (rb, iE G 1 800 fb) := by rw [ew_30]; exact (wset_ne _ (by first | exact Ne9.p ne_bf_q | exact Ne.symm (Ne9.p ne_q_bf) | exact ne_bf_q | exact Ne.symm ne_q_bf | exact w_ne hF_bf_w_25 hF_q_w_25 (by intro h; cases h) | exact w_neR hF_bf_w_25 hF_q_w_25 (by first | exact fun q_ => absurd (Nat.succ.inj q_) (by first | assumption | exact Ne9.p (by assumption)) | exact fun q_ => absurd (Nat.succ.inj q_).symm (by first | assumption | exact Ne9.p (by assumption)) | exact Nat.succ_ne_zero _ | exact (Nat.succ_ne_zero _).symm | omega))).trans hF_bf_w_25
                    have hP_gC_G_12_w_29 := hP_gC_G_12_w_25.mv (w1 := w_29) (S := fun q_ => q_ = q + 1) (by rw [ew_30]; exact Fr.one hF_q_w_25 _) (by first | exact id | exact fun q_ => absurd q_ (by first | assumption | exact Ne9.p (by assumption)) | exact fun q_ => absurd (Nat.succ.inj q_) (by first | assumption | exact Ne9.p (by assumption)) | exact fun q_ => absurd q_.symm (Nat.succ_ne_zero _) | exact fun q_ => absurd (Nat.succ.inj q_).symm (by first | assumption | exact Ne9.p (by assumption)) | (intro q_; (try dsimp only at q_); rcases q_ with q_ | q_ | q_ | q_ | q_ <;> first | exact absurd q_ (by first | assumption | exact Ne9.p (by assumption)) | exact absurd (Nat.succ.inj q_) (by first | assumption | exact Ne9.p (by assumption)) | exact absurd q_.symm (Nat.succ_ne_zero _) | exact absurd (Nat.succ.inj q_).symm (by first | assumption | exact Ne9.p (by assumption))) | (intro q_; (try dsimp only at q_); rcases q_ with q_ | q_ | q_ | q_ <;> first | exact absurd q_ (by first | assumption | exact Ne9.p (by assumption)) | exact absurd (Nat.succ.inj q_) (by first | assumption | exact Ne9.p (by assumption)) | exact absurd q_.symm (Nat.succ_ne_zero _) | exact absurd (Nat.succ.inj q_).symm (by first | assumption | exact Ne9.p (by assumption))) | (intro q_; (try dsimp only at q_); rcases q_ with q_ | q_ <;> first | exact absurd q_ (by first | assumption | exact Ne9.p (by assumption)) | exact absurd (Nat.succ.inj q_) (by first | assumption | exact Ne9.p (by assumption)) | exact absurd q_.symm (Nat.succ_ne_zero _) | exact absurd (Nat.succ.inj q_).symm (by first | assumption | exact Ne9.p (by assumption))) | (intro q_; (try dsimp only at q_); omega))
                    have htk : tok T p = (k, k + 1, 4, 0) := by unfold tok; rw [hsp, if_neg (by omega), if_neg c_nl, if_neg c_nf, if_neg c_59, if_pos c_61]
                    exact h_vreturn hx hb hlk hret hR hL ⟨by rw [htk]; exact ⟨va, gC G 12, hF_q_w_29, by show StrAt G w_29 (gC G 12) (if (4 : Int) = 1 then _ else []); rw [if_neg (by decide)]; exact hP_gC_G_12_w_29, hva, fun q_ => absurd (show (4 : Int) = 2 from q_) (by decide)⟩, hU⟩ (by omega) (by omega) rfl rfl dX11_advance_197
                ·
                  have c_59 : bat T k = 59 := by omega
                  refine h_iconst hx hb dX11_advance_171 ?_
                  refine lv_goto (tgt := 194) hx hb dX11_advance_172 (by decide) ?_
                  refine h_put X hR hL hF_q_w_25 (Nat.succ_ne_zero _) rfl in_X11 tyX11_ok nmX11 5 (by decide) q2099 rfl rfl rfl (Nat.le_of_ble_eq_true rfl) dX11_advance_194 (fun w_31 ew_32 H locs hR hL => ?_)
                  have hU : Up (fun q_ => q_ = q + 1) w w_31 := by rw [ew_32]; exact hU.set hF_q_w_25 (by first | exact Or.inl rfl | exact Or.inl (Or.inl rfl) | exact Or.inl (Or.inr rfl) | exact Or.inl (Or.inr (Or.inl rfl)) | exact Or.inl (Or.inr (Or.inr rfl)) | exact Or.inr ⟨Nat.succ_ne_zero _, by rw [Nat.add_sub_cancel]; assumption⟩ | exact Or.inr ⟨by omega, by assumption⟩) hG _
                  have hF_q_w_31 : w_31 q = some (q + 1, oE 8 [.ref bf, .int (iI ((T.length : Int))), .int (iI (((k : Nat) : Int))), .int (iI (((k : Nat) : Int) + 1)), .int (iI (va)), .int (iI (3)), .ref (gC G 12)]) := by rw [ew_32]; exact wset_eq _ _ _
                  have hF_bf_w_31 : w_31 bf = some (rb, iE G 1 800 fb) := by rw [ew_32]; exact (wset_ne _ (by first | exact Ne9.p ne_bf_q | exact Ne.symm (Ne9.p ne_q_bf) | exact ne_bf_q | exact Ne.symm ne_q_bf | exact w_ne hF_bf_w_25 hF_q_w_25 (by intro h; cases h) | exact w_neR hF_bf_w_25 hF_q_w_25 (by first | exact fun q_ => absurd (Nat.succ.inj q_) (by first | assumption | exact Ne9.p (by assumption)) | exact fun q_ => absurd (Nat.succ.inj q_).symm (by first | assumption | exact Ne9.p (by assumption)) | exact Nat.succ_ne_zero _ | exact (Nat.succ_ne_zero _).symm | omega))).trans hF_bf_w_25
                  have hP_gC_G_12_w_31 := hP_gC_G_12_w_25.mv (w1 := w_31) (S := fun q_ => q_ = q + 1) (by rw [ew_32]; exact Fr.one hF_q_w_25 _) (by first | exact id | exact fun q_ => absurd q_ (by first | assumption | exact Ne9.p (by assumption)) | exact fun q_ => absurd (Nat.succ.inj q_) (by first | assumption | exact Ne9.p (by assumption)) | exact fun q_ => absurd q_.symm (Nat.succ_ne_zero _) | exact fun q_ => absurd (Nat.succ.inj q_).symm (by first | assumption | exact Ne9.p (by assumption)) | (intro q_; (try dsimp only at q_); rcases q_ with q_ | q_ | q_ | q_ | q_ <;> first | exact absurd q_ (by first | assumption | exact Ne9.p (by assumption)) | exact absurd (Nat.succ.inj q_) (by first | assumption | exact Ne9.p (by assumption)) | exact absurd q_.symm (Nat.succ_ne_zero _) | exact absurd (Nat.succ.inj q_).symm (by first | assumption | exact Ne9.p (by assumption))) | (intro q_; (try dsimp only at q_); rcases q_ with q_ | q_ | q_ | q_ <;> first | exact absurd q_ (by first | assumption | exact Ne9.p (by assumption)) | exact absurd (Nat.succ.inj q_) (by first | assumption | exact Ne9.p (by assumption)) | exact absurd q_.symm (Nat.succ_ne_zero _) | exact absurd (Nat.succ.inj q_).symm (by first | assumption | exact Ne9.p (by assumption))) | (intro q_; (try dsimp only at q_); rcases q_ with q_ | q_ <;> first | exact absurd q_ (by first | assumption | exact Ne9.p (by assumption)) | exact absurd (Nat.succ.inj q_) (by first | assumption | exact Ne9.p (by assumption)) | exact absurd q_.symm (Nat.succ_ne_zero _) | exact absurd (Nat.succ.inj q_).symm (by first | assumption | exact Ne9.p (by assumption))) | (intro q_; (try dsimp only at q_); omega))
                  have htk : tok T p = (k, k + 1, 3, 0) := by unfold tok; rw [hsp, if_neg (by omega), if_neg c_nl, if_neg c_nf, if_pos c_59]
                  exact h_vreturn hx hb hlk hret hR hL ⟨by rw [htk]; exact ⟨va, gC G 12, hF_q_w_31, by show StrAt G w_31 (gC G 12) (if (3 : Int) = 1 then _ else []); rw [if_neg (by decide)]; exact hP_gC_G_12_w_31, hva, fun q_ => absurd (show (3 : Int) = 2 from q_) (by decide)⟩, hU⟩ (by omega) (by omega) rfl rfl dX11_advance_197
              ·
                have c_y2 := b2i_n1.mp c_f
                refine lv_aload_n hx hb dX11_advance_130 rfl (lv_at hl 0 rfl) ?_
                refine h_iconst hx hb dX11_advance_131 ?_
                refine h_put X hR hL hF_q_w_17 (Nat.succ_ne_zero _) rfl in_X11 tyX11_ok nmX11 5 (by decide) q2099 rfl rfl rfl (Nat.le_of_ble_eq_true rfl) dX11_advance_132 (fun w_33 ew_34 H locs hR hL => ?_)
                have hU : Up (fun q_ => q_ = q + 1) w w_33 := by rw [ew_34]; exact hU.set hF_q_w_17 (by first | exact Or.inl rfl | exact Or.inl (Or.inl rfl) | exact Or.inl (Or.inr rfl) | exact Or.inl (Or.inr (Or.inl rfl)) | exact Or.inl (Or.inr (Or.inr rfl)) | exact Or.inr ⟨Nat.succ_ne_zero _, by rw [Nat.add_sub_cancel]; assumption⟩ | exact Or.inr ⟨by omega, by assumption⟩) hG _
                have hF_q_w_33 : w_33 q = some (q + 1, oE 8 [.ref bf, .int (iI ((T.length : Int))), .int (iI (((k : Nat) : Int))), .int (iI (((k : Nat) : Int))), .int (iI (va)), .int (iI (2)), .ref (gC G 12)]) := by rw [ew_34]; exact wset_eq _ _ _
                have hF_bf_w_33 : w_33 bf = some (rb, iE G 1 800 fb) := by rw [ew_34]; exact (wset_ne _ (by first | exact Ne9.p ne_bf_q | exact Ne.symm (Ne9.p ne_q_bf) | exact ne_bf_q | exact Ne.symm ne_q_bf | exact w_ne hF_bf_w_17 hF_q_w_17 (by intro h; cases h) | exact w_neR hF_bf_w_17 hF_q_w_17 (by first | exact fun q_ => absurd (Nat.succ.inj q_) (by first | assumption | exact Ne9.p (by assumption)) | exact fun q_ => absurd (Nat.succ.inj q_).symm (by first | assumption | exact Ne9.p (by assumption)) | exact Nat.succ_ne_zero _ | exact (Nat.succ_ne_zero _).symm | omega))).trans hF_bf_w_17
                have hP_gC_G_12_w_33 := hP_gC_G_12_w_17.mv (w1 := w_33) (S := fun q_ => q_ = q + 1) (by rw [ew_34]; exact Fr.one hF_q_w_17 _) (by first | exact id | exact fun q_ => absurd q_ (by first | assumption | exact Ne9.p (by assumption)) | exact fun q_ => absurd (Nat.succ.inj q_) (by first | assumption | exact Ne9.p (by assumption)) | exact fun q_ => absurd q_.symm (Nat.succ_ne_zero _) | exact fun q_ => absurd (Nat.succ.inj q_).symm (by first | assumption | exact Ne9.p (by assumption)) | (intro q_; (try dsimp only at q_); rcases q_ with q_ | q_ | q_ | q_ | q_ <;> first | exact absurd q_ (by first | assumption | exact Ne9.p (by assumption)) | exact absurd (Nat.succ.inj q_) (by first | assumption | exact Ne9.p (by assumption)) | exact absurd q_.symm (Nat.succ_ne_zero _) | exact absurd (Nat.succ.inj q_).symm (by first | assumption | exact Ne9.p (by assumption))) | (intro q_; (try dsimp only at q_); rcases q_ with q_ | q_ | q_ | q_ <;> first | exact absurd q_ (by first | assumption | exact Ne9.p (by assumption)) | exact absurd (Nat.succ.inj q_) (by first | assumption | exact Ne9.p (by assumption)) | exact absurd q_.symm (Nat.succ_ne_zero _) | exact absurd (Nat.succ.inj q_).symm (by first | assumption | exact Ne9.p (by assumption))) | (intro q_; (try dsimp only at q_); rcases q_ with q_ | q_ <;> first | exact absurd q_ (by first | assumption | exact Ne9.p (by assumption)) | exact absurd (Nat.succ.inj q_) (by first | assumption | exact Ne9.p (by assumption)) | exact absurd q_.symm (Nat.succ_ne_zero _) | exact absurd (Nat.succ.inj q_).symm (by first | assumption | exact Ne9.p (by assumption))) | (intro q_; (try dsimp only at q_); omega))
                refine lv_aload_n hx hb dX11_advance_135 rfl (lv_at hl 0 rfl) ?_
                refine lv_aload_n hx hb dX11_advance_136 rfl (lv_at hl 0 rfl) ?_
                -- call SpokenMarks$Scanner.digits
                refine h_kI (h_runV X hR (sc_dig l G w_33 q bf rb T (((k : Nat) : Int)) va 2 (.ref (gC G 12)) ((k)) hF_q_w_33 ⟨fb, hF_bf_w_33, hTW, hfb⟩ hk.2 hqb hU.2.2.1) pn_yX11_digits (hasC.of hF_q_w_33 rfl) q2084 q2086 qs19 q162 q2087 ⟨by decide, by decide⟩ hl.1 (Nat.le_of_ble_eq_true rfl) dX11_advance_137 ⟨by omega, by omega⟩) hL (fun z_35 w_36 hp_37 H locs hR hL => ?_)
                obtain ⟨⟨rfl, hzr_40⟩, hO__38, u_39⟩ := hp_37
                have hF_bf_w_36 : w_36 bf = some (rb, iE G 1 800 fb) := u_39.1 _ _ _ hF_bf_w_33 (by first | exact id | exact fun q_ => absurd q_ (by first | assumption | exact Ne9.p (by assumption)) | exact fun q_ => absurd (Nat.succ.inj q_) (by first | assumption | exact Ne9.p (by assumption)) | exact fun q_ => absurd q_.symm (Nat.succ_ne_zero _) | exact fun q_ => absurd (Nat.succ.inj q_).symm (by first | assumption | exact Ne9.p (by assumption)) | (intro q_; (try dsimp only at q_); rcases q_ with q_ | q_ | q_ | q_ | q_ <;> first | exact absurd q_ (by first | assumption | exact Ne9.p (by assumption)) | exact absurd (Nat.succ.inj q_) (by first | assumption | exact Ne9.p (by assumption)) | exact absurd q_.symm (Nat.succ_ne_zero _) | exact absurd (Nat.succ.inj q_).symm (by first | assumption | exact Ne9.p (by assumption))) | (intro q_; (try dsimp only at q_); rcases q_ with q_ | q_ | q_ | q_ <;> first | exact absurd q_ (by first | assumption | exact Ne9.p (by assumption)) | exact absurd (Nat.succ.inj q_) (by first | assumption | exact Ne9.p (by assumption)) | exact absurd q_.symm (Nat.succ_ne_zero _) | exact absurd (Nat.succ.inj q_).symm (by first | assumption | exact Ne9.p (by assumption))) | (intro q_; (try dsimp only at q_); rcases q_ with q_ | q_ <;> first | exact absurd q_ (by first | assumption | exact Ne9.p (by assumption)) | exact absurd (Nat.succ.inj q_) (by first | assumption | exact Ne9.p (by assumption)) | exact absurd q_.symm (Nat.succ_ne_zero _) | exact absurd (Nat.succ.inj q_).symm (by first | assumption | exact Ne9.p (by assumption))) | (intro q_; (try dsimp only at q_); omega))
                have hP_gC_G_12_w_36 := hP_gC_G_12_w_33.mv (u_39.1) (by first | exact id | exact fun q_ => absurd q_ (by first | assumption | exact Ne9.p (by assumption)) | exact fun q_ => absurd (Nat.succ.inj q_) (by first | assumption | exact Ne9.p (by assumption)) | exact fun q_ => absurd q_.symm (Nat.succ_ne_zero _) | exact fun q_ => absurd (Nat.succ.inj q_).symm (by first | assumption | exact Ne9.p (by assumption)) | (intro q_; (try dsimp only at q_); rcases q_ with q_ | q_ | q_ | q_ | q_ <;> first | exact absurd q_ (by first | assumption | exact Ne9.p (by assumption)) | exact absurd (Nat.succ.inj q_) (by first | assumption | exact Ne9.p (by assumption)) | exact absurd q_.symm (Nat.succ_ne_zero _) | exact absurd (Nat.succ.inj q_).symm (by first | assumption | exact Ne9.p (by assumption))) | (intro q_; (try dsimp only at q_); rcases q_ with q_ | q_ | q_ | q_ <;> first | exact absurd q_ (by first | assumption | exact Ne9.p (by assumption)) | exact absurd (Nat.succ.inj q_) (by first | assumption | exact Ne9.p (by assumption)) | exact absurd q_.symm (Nat.succ_ne_zero _) | exact absurd (Nat.succ.inj q_).symm (by first | assumption | exact Ne9.p (by assumption))) | (intro q_; (try dsimp only at q_); rcases q_ with q_ | q_ <;> first | exact absurd q_ (by first | assumption | exact Ne9.p (by assumption)) | exact absurd (Nat.succ.inj q_) (by first | assumption | exact Ne9.p (by assumption)) | exact absurd q_.symm (Nat.succ_ne_zero _) | exact absurd (Nat.succ.inj q_).symm (by first | assumption | exact Ne9.p (by assumption))) | (intro q_; (try dsimp only at q_); omega))
                have hU : Up (fun q_ => q_ = q + 1) w w_36 := hU.tr u_39 (fun q_ h_ => by first | exact absurd h_ id | exact Or.inl h_ | exact Or.inr (up_nw h_ (by assumption)) | exact Or.inl (Or.inl h_) | exact Or.inl (Or.inr h_) | exact Or.inl (Or.inr (Or.inl h_)) | exact Or.inl (Or.inr (Or.inr h_)) | exact Or.inl (Or.inr (Or.inr (Or.inl h_))) | exact Or.inl (Or.inr (Or.inr (Or.inr h_))) | exact Or.inl (h_.elim Or.inl (fun h_ => Or.inr (Or.inl h_))) | ((try dsimp only at h_); first | exact Or.inl (by omega) | exact Or.inr ⟨by omega, by subst h_; rw [Nat.add_sub_cancel]; assumption⟩)) hG
                refine h_put X hR hL hO__38 (Nat.succ_ne_zero _) rfl in_X11 tyX11_ok nmX11 4 (by decide) q2094 rfl rfl rfl (Nat.le_of_ble_eq_true rfl) dX11_advance_140 (fun w_41 ew_42 H locs hR hL => ?_)
                have hU : Up (fun q_ => q_ = q + 1) w w_41 := by rw [ew_42]; exact hU.set hO__38 (by first | exact Or.inl rfl | exact Or.inl (Or.inl rfl) | exact Or.inl (Or.inr rfl) | exact Or.inl (Or.inr (Or.inl rfl)) | exact Or.inl (Or.inr (Or.inr rfl)) | exact Or.inr ⟨Nat.succ_ne_zero _, by rw [Nat.add_sub_cancel]; assumption⟩ | exact Or.inr ⟨by omega, by assumption⟩) hG _
                have hF_q_w_41 : w_41 q = some (q + 1, oE 8 [.ref bf, .int (iI ((T.length : Int))), .int (iI (((k : Nat) : Int))), .int (iI (((fgE T ((k)) : Nat) : Int))), .int (iI (nmV T ((k)))), .int (iI (2)), .ref (gC G 12)]) := by rw [ew_42]; exact wset_eq _ _ _
                have hF_bf_w_41 : w_41 bf = some (rb, iE G 1 800 fb) := by rw [ew_42]; exact (wset_ne _ (by first | exact Ne9.p ne_bf_q | exact Ne.symm (Ne9.p ne_q_bf) | exact ne_bf_q | exact Ne.symm ne_q_bf | exact w_ne hF_bf_w_36 hO__38 (by intro h; cases h) | exact w_neR hF_bf_w_36 hO__38 (by first | exact fun q_ => absurd (Nat.succ.inj q_) (by first | assumption | exact Ne9.p (by assumption)) | exact fun q_ => absurd (Nat.succ.inj q_).symm (by first | assumption | exact Ne9.p (by assumption)) | exact Nat.succ_ne_zero _ | exact (Nat.succ_ne_zero _).symm | omega))).trans hF_bf_w_36
                have hP_gC_G_12_w_41 := hP_gC_G_12_w_36.mv (w1 := w_41) (S := fun q_ => q_ = q + 1) (by rw [ew_42]; exact Fr.one hO__38 _) (by first | exact id | exact fun q_ => absurd q_ (by first | assumption | exact Ne9.p (by assumption)) | exact fun q_ => absurd (Nat.succ.inj q_) (by first | assumption | exact Ne9.p (by assumption)) | exact fun q_ => absurd q_.symm (Nat.succ_ne_zero _) | exact fun q_ => absurd (Nat.succ.inj q_).symm (by first | assumption | exact Ne9.p (by assumption)) | (intro q_; (try dsimp only at q_); rcases q_ with q_ | q_ | q_ | q_ | q_ <;> first | exact absurd q_ (by first | assumption | exact Ne9.p (by assumption)) | exact absurd (Nat.succ.inj q_) (by first | assumption | exact Ne9.p (by assumption)) | exact absurd q_.symm (Nat.succ_ne_zero _) | exact absurd (Nat.succ.inj q_).symm (by first | assumption | exact Ne9.p (by assumption))) | (intro q_; (try dsimp only at q_); rcases q_ with q_ | q_ | q_ | q_ <;> first | exact absurd q_ (by first | assumption | exact Ne9.p (by assumption)) | exact absurd (Nat.succ.inj q_) (by first | assumption | exact Ne9.p (by assumption)) | exact absurd q_.symm (Nat.succ_ne_zero _) | exact absurd (Nat.succ.inj q_).symm (by first | assumption | exact Ne9.p (by assumption))) | (intro q_; (try dsimp only at q_); rcases q_ with q_ | q_ <;> first | exact absurd q_ (by first | assumption | exact Ne9.p (by assumption)) | exact absurd (Nat.succ.inj q_) (by first | assumption | exact Ne9.p (by assumption)) | exact absurd q_.symm (Nat.succ_ne_zero _) | exact absurd (Nat.succ.inj q_).symm (by first | assumption | exact Ne9.p (by assumption))) | (intro q_; (try dsimp only at q_); omega))
                refine lv_goto (tgt := 197) hx hb dX11_advance_143 (by decide) ?_
                have htk : tok T p = (k, fgE T k, 2, nmV T k) := by unfold tok; rw [hsp, if_neg (by omega), if_neg c_nl, if_pos c_y2]
                exact h_vreturn hx hb hlk hret hR hL ⟨by rw [htk]; exact ⟨nmV T ((k)), gC G 12, hF_q_w_41, by show StrAt G w_41 (gC G 12) (if (2 : Int) = 1 then _ else []); rw [if_neg (by decide)]; exact hP_gC_G_12_w_41, ⟨by omega, by omega⟩, fun _ => rfl⟩, hU⟩ (by omega) (by omega) rfl rfl dX11_advance_197
            ·
              have c_y := b2i_n1.mp c_l
              refine lv_aload_n hx hb dX11_advance_99 rfl (lv_at hl 0 rfl) ?_
              refine h_iconst hx hb dX11_advance_100 ?_
              refine h_put X hR hL hF_q_w_17 (Nat.succ_ne_zero _) rfl in_X11 tyX11_ok nmX11 5 (by decide) q2099 rfl rfl rfl (Nat.le_of_ble_eq_true rfl) dX11_advance_101 (fun w_43 ew_44 H locs hR hL => ?_)
              have hU : Up (fun q_ => q_ = q + 1) w w_43 := by rw [ew_44]; exact hU.set hF_q_w_17 (by first | exact Or.inl rfl | exact Or.inl (Or.inl rfl) | exact Or.inl (Or.inr rfl) | exact Or.inl (Or.inr (Or.inl rfl)) | exact Or.inl (Or.inr (Or.inr rfl)) | exact Or.inr ⟨Nat.succ_ne_zero _, by rw [Nat.add_sub_cancel]; assumption⟩ | exact Or.inr ⟨by omega, by assumption⟩) hG _
              have hF_q_w_43 : w_43 q = some (q + 1, oE 8 [.ref bf, .int (iI ((T.length : Int))), .int (iI (((k : Nat) : Int))), .int (iI (((k : Nat) : Int))), .int (iI (va)), .int (iI (1)), .ref (gC G 12)]) := by rw [ew_44]; exact wset_eq _ _ _
              have hF_bf_w_43 : w_43 bf = some (rb, iE G 1 800 fb) := by rw [ew_44]; exact (wset_ne _ (by first | exact Ne9.p ne_bf_q | exact Ne.symm (Ne9.p ne_q_bf) | exact ne_bf_q | exact Ne.symm ne_q_bf | exact w_ne hF_bf_w_17 hF_q_w_17 (by intro h; cases h) | exact w_neR hF_bf_w_17 hF_q_w_17 (by first | exact fun q_ => absurd (Nat.succ.inj q_) (by first | assumption | exact Ne9.p (by assumption)) | exact fun q_ => absurd (Nat.succ.inj q_).symm (by first | assumption | exact Ne9.p (by assumption)) | exact Nat.succ_ne_zero _ | exact (Nat.succ_ne_zero _).symm | omega))).trans hF_bf_w_17
              have hP_gC_G_12_w_43 := hP_gC_G_12_w_17.mv (w1 := w_43) (S := fun q_ => q_ = q + 1) (by rw [ew_44]; exact Fr.one hF_q_w_17 _) (by first | exact id | exact fun q_ => absurd q_ (by first | assumption | exact Ne9.p (by assumption)) | exact fun q_ => absurd (Nat.succ.inj q_) (by first | assumption | exact Ne9.p (by assumption)) | exact fun q_ => absurd q_.symm (Nat.succ_ne_zero _) | exact fun q_ => absurd (Nat.succ.inj q_).symm (by first | assumption | exact Ne9.p (by assumption)) | (intro q_; (try dsimp only at q_); rcases q_ with q_ | q_ | q_ | q_ | q_ <;> first | exact absurd q_ (by first | assumption | exact Ne9.p (by assumption)) | exact absurd (Nat.succ.inj q_) (by first | assumption | exact Ne9.p (by assumption)) | exact absurd q_.symm (Nat.succ_ne_zero _) | exact absurd (Nat.succ.inj q_).symm (by first | assumption | exact Ne9.p (by assumption))) | (intro q_; (try dsimp only at q_); rcases q_ with q_ | q_ | q_ | q_ <;> first | exact absurd q_ (by first | assumption | exact Ne9.p (by assumption)) | exact absurd (Nat.succ.inj q_) (by first | assumption | exact Ne9.p (by assumption)) | exact absurd q_.symm (Nat.succ_ne_zero _) | exact absurd (Nat.succ.inj q_).symm (by first | assumption | exact Ne9.p (by assumption))) | (intro q_; (try dsimp only at q_); rcases q_ with q_ | q_ <;> first | exact absurd q_ (by first | assumption | exact Ne9.p (by assumption)) | exact absurd (Nat.succ.inj q_) (by first | assumption | exact Ne9.p (by assumption)) | exact absurd q_.symm (Nat.succ_ne_zero _) | exact absurd (Nat.succ.inj q_).symm (by first | assumption | exact Ne9.p (by assumption))) | (intro q_; (try dsimp only at q_); omega))
              refine lv_aload_n hx hb dX11_advance_104 rfl (lv_at hl 0 rfl) ?_
              refine lv_aload_n hx hb dX11_advance_105 rfl (lv_at hl 0 rfl) ?_
              -- call SpokenMarks$Scanner.letters
              refine h_kR (h_runV X hR (sc_let l G w_43 q bf rb T (((k : Nat) : Int)) va 1 (.ref (gC G 12)) ((k)) hF_q_w_43 ⟨fb, hF_bf_w_43, hTW, hfb⟩ hk.2 hqb hU.2.2.1) pn_yX11_letters (hasC.of hF_q_w_43 rfl) q2075 q2077 qs18 q162 q2078 ⟨by decide, by decide⟩ hl.1 (Nat.le_of_ble_eq_true rfl) dX11_advance_106 ⟨by omega, by omega⟩) hL (fun z_45 w_46 hp_47 H locs hR hL => ?_)
              obtain ⟨hS__48, hO__49, u_50⟩ := hp_47
              have hF_bf_w_46 : w_46 bf = some (rb, iE G 1 800 fb) := u_50.1 _ _ _ hF_bf_w_43 (by first | exact id | exact fun q_ => absurd q_ (by first | assumption | exact Ne9.p (by assumption)) | exact fun q_ => absurd (Nat.succ.inj q_) (by first | assumption | exact Ne9.p (by assumption)) | exact fun q_ => absurd q_.symm (Nat.succ_ne_zero _) | exact fun q_ => absurd (Nat.succ.inj q_).symm (by first | assumption | exact Ne9.p (by assumption)) | (intro q_; (try dsimp only at q_); rcases q_ with q_ | q_ | q_ | q_ | q_ <;> first | exact absurd q_ (by first | assumption | exact Ne9.p (by assumption)) | exact absurd (Nat.succ.inj q_) (by first | assumption | exact Ne9.p (by assumption)) | exact absurd q_.symm (Nat.succ_ne_zero _) | exact absurd (Nat.succ.inj q_).symm (by first | assumption | exact Ne9.p (by assumption))) | (intro q_; (try dsimp only at q_); rcases q_ with q_ | q_ | q_ | q_ <;> first | exact absurd q_ (by first | assumption | exact Ne9.p (by assumption)) | exact absurd (Nat.succ.inj q_) (by first | assumption | exact Ne9.p (by assumption)) | exact absurd q_.symm (Nat.succ_ne_zero _) | exact absurd (Nat.succ.inj q_).symm (by first | assumption | exact Ne9.p (by assumption))) | (intro q_; (try dsimp only at q_); rcases q_ with q_ | q_ <;> first | exact absurd q_ (by first | assumption | exact Ne9.p (by assumption)) | exact absurd (Nat.succ.inj q_) (by first | assumption | exact Ne9.p (by assumption)) | exact absurd q_.symm (Nat.succ_ne_zero _) | exact absurd (Nat.succ.inj q_).symm (by first | assumption | exact Ne9.p (by assumption))) | (intro q_; (try dsimp only at q_); omega))
              have hP_gC_G_12_w_46 := hP_gC_G_12_w_43.mv (u_50.1) (by first | exact id | exact fun q_ => absurd q_ (by first | assumption | exact Ne9.p (by assumption)) | exact fun q_ => absurd (Nat.succ.inj q_) (by first | assumption | exact Ne9.p (by assumption)) | exact fun q_ => absurd q_.symm (Nat.succ_ne_zero _) | exact fun q_ => absurd (Nat.succ.inj q_).symm (by first | assumption | exact Ne9.p (by assumption)) | (intro q_; (try dsimp only at q_); rcases q_ with q_ | q_ | q_ | q_ | q_ <;> first | exact absurd q_ (by first | assumption | exact Ne9.p (by assumption)) | exact absurd (Nat.succ.inj q_) (by first | assumption | exact Ne9.p (by assumption)) | exact absurd q_.symm (Nat.succ_ne_zero _) | exact absurd (Nat.succ.inj q_).symm (by first | assumption | exact Ne9.p (by assumption))) | (intro q_; (try dsimp only at q_); rcases q_ with q_ | q_ | q_ | q_ <;> first | exact absurd q_ (by first | assumption | exact Ne9.p (by assumption)) | exact absurd (Nat.succ.inj q_) (by first | assumption | exact Ne9.p (by assumption)) | exact absurd q_.symm (Nat.succ_ne_zero _) | exact absurd (Nat.succ.inj q_).symm (by first | assumption | exact Ne9.p (by assumption))) | (intro q_; (try dsimp only at q_); rcases q_ with q_ | q_ <;> first | exact absurd q_ (by first | assumption | exact Ne9.p (by assumption)) | exact absurd (Nat.succ.inj q_) (by first | assumption | exact Ne9.p (by assumption)) | exact absurd q_.symm (Nat.succ_ne_zero _) | exact absurd (Nat.succ.inj q_).symm (by first | assumption | exact Ne9.p (by assumption))) | (intro q_; (try dsimp only at q_); omega))
              have hU : Up (fun q_ => q_ = q + 1) w w_46 := hU.tr u_50 (fun q_ h_ => by first | exact absurd h_ id | exact Or.inl h_ | exact Or.inr (up_nw h_ (by assumption)) | exact Or.inl (Or.inl h_) | exact Or.inl (Or.inr h_) | exact Or.inl (Or.inr (Or.inl h_)) | exact Or.inl (Or.inr (Or.inr h_)) | exact Or.inl (Or.inr (Or.inr (Or.inl h_))) | exact Or.inl (Or.inr (Or.inr (Or.inr h_))) | exact Or.inl (h_.elim Or.inl (fun h_ => Or.inr (Or.inl h_))) | ((try dsimp only at h_); first | exact Or.inl (by omega) | exact Or.inr ⟨by omega, by subst h_; rw [Nat.add_sub_cancel]; assumption⟩)) hG
              refine h_put X hR hL hO__49 (Nat.succ_ne_zero _) rfl in_X11 tyX11_ok nmX11 6 (by decide) q2100 rfl rfl rfl (Nat.le_of_ble_eq_true rfl) dX11_advance_109 (fun w_51 ew_52 H locs hR hL => ?_)
              have hU : Up (fun q_ => q_ = q + 1) w w_51 := by rw [ew_52]; exact hU.set hO__49 (by first | exact Or.inl rfl | exact Or.inl (Or.inl rfl) | exact Or.inl (Or.inr rfl) | exact Or.inl (Or.inr (Or.inl rfl)) | exact Or.inl (Or.inr (Or.inr rfl)) | exact Or.inr ⟨Nat.succ_ne_zero _, by rw [Nat.add_sub_cancel]; assumption⟩ | exact Or.inr ⟨by omega, by assumption⟩) hG _
              have hF_q_w_51 : w_51 q = some (q + 1, oE 8 [.ref bf, .int (iI ((T.length : Int))), .int (iI (((k : Nat) : Int))), .int (iI (((ltE T ((k)) : Nat) : Int))), .int (iI (va)), .int (iI (1)), .ref z_45]) := by rw [ew_52]; exact wset_eq _ _ _
              have hF_bf_w_51 : w_51 bf = some (rb, iE G 1 800 fb) := by rw [ew_52]; exact (wset_ne _ (by first | exact Ne9.p ne_bf_q | exact Ne.symm (Ne9.p ne_q_bf) | exact ne_bf_q | exact Ne.symm ne_q_bf | exact w_ne hF_bf_w_46 hO__49 (by intro h; cases h) | exact w_neR hF_bf_w_46 hO__49 (by first | exact fun q_ => absurd (Nat.succ.inj q_) (by first | assumption | exact Ne9.p (by assumption)) | exact fun q_ => absurd (Nat.succ.inj q_).symm (by first | assumption | exact Ne9.p (by assumption)) | exact Nat.succ_ne_zero _ | exact (Nat.succ_ne_zero _).symm | omega))).trans hF_bf_w_46
              have hP_gC_G_12_w_51 := hP_gC_G_12_w_46.mv (w1 := w_51) (S := fun q_ => q_ = q + 1) (by rw [ew_52]; exact Fr.one hO__49 _) (by first | exact id | exact fun q_ => absurd q_ (by first | assumption | exact Ne9.p (by assumption)) | exact fun q_ => absurd (Nat.succ.inj q_) (by first | assumption | exact Ne9.p (by assumption)) | exact fun q_ => absurd q_.symm (Nat.succ_ne_zero _) | exact fun q_ => absurd (Nat.succ.inj q_).symm (by first | assumption | exact Ne9.p (by assumption)) | (intro q_; (try dsimp only at q_); rcases q_ with q_ | q_ | q_ | q_ | q_ <;> first | exact absurd q_ (by first | assumption | exact Ne9.p (by assumption)) | exact absurd (Nat.succ.inj q_) (by first | assumption | exact Ne9.p (by assumption)) | exact absurd q_.symm (Nat.succ_ne_zero _) | exact absurd (Nat.succ.inj q_).symm (by first | assumption | exact Ne9.p (by assumption))) | (intro q_; (try dsimp only at q_); rcases q_ with q_ | q_ | q_ | q_ <;> first | exact absurd q_ (by first | assumption | exact Ne9.p (by assumption)) | exact absurd (Nat.succ.inj q_) (by first | assumption | exact Ne9.p (by assumption)) | exact absurd q_.symm (Nat.succ_ne_zero _) | exact absurd (Nat.succ.inj q_).symm (by first | assumption | exact Ne9.p (by assumption))) | (intro q_; (try dsimp only at q_); rcases q_ with q_ | q_ <;> first | exact absurd q_ (by first | assumption | exact Ne9.p (by assumption)) | exact absurd (Nat.succ.inj q_) (by first | assumption | exact Ne9.p (by assumption)) | exact absurd q_.symm (Nat.succ_ne_zero _) | exact absurd (Nat.succ.inj q_).symm (by first | assumption | exact Ne9.p (by assumption))) | (intro q_; (try dsimp only at q_); omega))
              have hP_z_45_w_51 := hS__48.mv (w1 := w_51) (S := fun q_ => q_ = q + 1) (by rw [ew_52]; exact Fr.one hO__49 _) (by first | exact id | exact fun q_ => absurd q_ (by first | assumption | exact Ne9.p (by assumption)) | exact fun q_ => absurd (Nat.succ.inj q_) (by first | assumption | exact Ne9.p (by assumption)) | exact fun q_ => absurd q_.symm (Nat.succ_ne_zero _) | exact fun q_ => absurd (Nat.succ.inj q_).symm (by first | assumption | exact Ne9.p (by assumption)) | (intro q_; (try dsimp only at q_); rcases q_ with q_ | q_ | q_ | q_ | q_ <;> first | exact absurd q_ (by first | assumption | exact Ne9.p (by assumption)) | exact absurd (Nat.succ.inj q_) (by first | assumption | exact Ne9.p (by assumption)) | exact absurd q_.symm (Nat.succ_ne_zero _) | exact absurd (Nat.succ.inj q_).symm (by first | assumption | exact Ne9.p (by assumption))) | (intro q_; (try dsimp only at q_); rcases q_ with q_ | q_ | q_ | q_ <;> first | exact absurd q_ (by first | assumption | exact Ne9.p (by assumption)) | exact absurd (Nat.succ.inj q_) (by first | assumption | exact Ne9.p (by assumption)) | exact absurd q_.symm (Nat.succ_ne_zero _) | exact absurd (Nat.succ.inj q_).symm (by first | assumption | exact Ne9.p (by assumption))) | (intro q_; (try dsimp only at q_); rcases q_ with q_ | q_ <;> first | exact absurd q_ (by first | assumption | exact Ne9.p (by assumption)) | exact absurd (Nat.succ.inj q_) (by first | assumption | exact Ne9.p (by assumption)) | exact absurd q_.symm (Nat.succ_ne_zero _) | exact absurd (Nat.succ.inj q_).symm (by first | assumption | exact Ne9.p (by assumption))) | (intro q_; (try dsimp only at q_); omega))
              refine lv_goto (tgt := 197) hx hb dX11_advance_112 (by decide) ?_
              have htk : tok T p = (k, ltE T k, 1, 0) := by unfold tok; rw [hsp, if_neg (by omega), if_pos c_y]
              exact h_vreturn hx hb hlk hret hR hL ⟨by rw [htk]; exact ⟨va, z_45, hF_q_w_51, by show StrAt G w_51 z_45 (if (1 : Int) = 1 then lw T k (ltE T k) else []); rw [if_pos rfl]; exact hP_z_45_w_51, hva, fun q_ => absurd (show (1 : Int) = 2 from q_) (by decide)⟩, hU⟩ (by omega) (by omega) rfl rfl dX11_advance_197
          ·
            refine lv_aload_n hx hb dX11_advance_76 rfl (lv_at hl 0 rfl) ?_
            refine h_iconst hx hb dX11_advance_77 ?_
            refine h_put X hR hL hF_q_w_17 (Nat.succ_ne_zero _) rfl in_X11 tyX11_ok nmX11 5 (by decide) q2099 rfl rfl rfl (Nat.le_of_ble_eq_true rfl) dX11_advance_78 (fun w_53 ew_54 H locs hR hL => ?_)
            have hU : Up (fun q_ => q_ = q + 1) w w_53 := by rw [ew_54]; exact hU.set hF_q_w_17 (by first | exact Or.inl rfl | exact Or.inl (Or.inl rfl) | exact Or.inl (Or.inr rfl) | exact Or.inl (Or.inr (Or.inl rfl)) | exact Or.inl (Or.inr (Or.inr rfl)) | exact Or.inr ⟨Nat.succ_ne_zero _, by rw [Nat.add_sub_cancel]; assumption⟩ | exact Or.inr ⟨by omega, by assumption⟩) hG _
            have hF_q_w_53 : w_53 q = some (q + 1, oE 8 [.ref bf, .int (iI ((T.length : Int))), .int (iI (((k : Nat) : Int))), .int (iI (((k : Nat) : Int))), .int (iI (va)), .int (iI (0)), .ref (gC G 12)]) := by rw [ew_54]; exact wset_eq _ _ _
            have hF_bf_w_53 : w_53 bf = some (rb, iE G 1 800 fb) := by rw [ew_54]; exact (wset_ne _ (by first | exact Ne9.p ne_bf_q | exact Ne.symm (Ne9.p ne_q_bf) | exact ne_bf_q | exact Ne.symm ne_q_bf | exact w_ne hF_bf_w_17 hF_q_w_17 (by intro h; cases h) | exact w_neR hF_bf_w_17 hF_q_w_17 (by first | exact fun q_ => absurd (Nat.succ.inj q_) (by first | assumption | exact Ne9.p (by assumption)) | exact fun q_ => absurd (Nat.succ.inj q_).symm (by first | assumption | exact Ne9.p (by assumption)) | exact Nat.succ_ne_zero _ | exact (Nat.succ_ne_zero _).symm | omega))).trans hF_bf_w_17
            have hP_gC_G_12_w_53 := hP_gC_G_12_w_17.mv (w1 := w_53) (S := fun q_ => q_ = q + 1) (by rw [ew_54]; exact Fr.one hF_q_w_17 _) (by first | exact id | exact fun q_ => absurd q_ (by first | assumption | exact Ne9.p (by assumption)) | exact fun q_ => absurd (Nat.succ.inj q_) (by first | assumption | exact Ne9.p (by assumption)) | exact fun q_ => absurd q_.symm (Nat.succ_ne_zero _) | exact fun q_ => absurd (Nat.succ.inj q_).symm (by first | assumption | exact Ne9.p (by assumption)) | (intro q_; (try dsimp only at q_); rcases q_ with q_ | q_ | q_ | q_ | q_ <;> first | exact absurd q_ (by first | assumption | exact Ne9.p (by assumption)) | exact absurd (Nat.succ.inj q_) (by first | assumption | exact Ne9.p (by assumption)) | exact absurd q_.symm (Nat.succ_ne_zero _) | exact absurd (Nat.succ.inj q_).symm (by first | assumption | exact Ne9.p (by assumption))) | (intro q_; (try dsimp only at q_); rcases q_ with q_ | q_ | q_ | q_ <;> first | exact absurd q_ (by first | assumption | exact Ne9.p (by assumption)) | exact absurd (Nat.succ.inj q_) (by first | assumption | exact Ne9.p (by assumption)) | exact absurd q_.symm (Nat.succ_ne_zero _) | exact absurd (Nat.succ.inj q_).symm (by first | assumption | exact Ne9.p (by assumption))) | (intro q_; (try dsimp only at q_); rcases q_ with q_ | q_ <;> first | exact absurd q_ (by first | assumption | exact Ne9.p (by assumption)) | exact absurd (Nat.succ.inj q_) (by first | assumption | exact Ne9.p (by assumption)) | exact absurd q_.symm (Nat.succ_ne_zero _) | exact absurd (Nat.succ.inj q_).symm (by first | assumption | exact Ne9.p (by assumption))) | (intro q_; (try dsimp only at q_); omega))
            refine lv_goto (tgt := 197) hx hb dX11_advance_81 (by decide) ?_
            have htk : tok T p = (k, k, 0, 0) := by unfold tok; rw [hsp, if_pos (by omega)]
            exact h_vreturn hx hb hlk hret hR hL ⟨by rw [htk]; exact ⟨va, gC G 12, hF_q_w_53, by show StrAt G w_53 (gC G 12) (if (0 : Int) = 1 then _ else []); rw [if_neg (by decide)]; exact hP_gC_G_12_w_53, hva, fun q_ => absurd (show (0 : Int) = 2 from q_) (by decide)⟩, hU⟩ (by omega) (by omega) rfl rfl dX11_advance_197
        ·
          have c_t1 := b2i_n1.mp c_t
          have c_go := skp_go (T := T) (k := k) (by omega)
          refine lv_aload_n hx hb dX11_advance_38 rfl (lv_at hl 0 rfl) ?_
          refine lv_dup hx hb dX11_advance_39 rfl ?_
          refine h_get X hR hI_q_w_3 rfl in_X11 2 (by decide) q2092 rfl dX11_advance_40 ?_
          refine h_iconst hx hb dX11_advance_43 ?_
          refine h_iadd hx hb dX11_advance_44 ?_
          refine h_put X hR hL hI_q_w_3 (Nat.succ_ne_zero _) rfl in_X11 tyX11_ok nmX11 2 (by decide) q2092 rfl rfl rfl (Nat.le_of_ble_eq_true rfl) dX11_advance_45 (fun w_55 ew_56 H locs hR hL => ?_)
          have hU : Up (fun q_ => q_ = q + 1) w w_55 := by rw [ew_56]; exact hU.set hI_q_w_3 (by first | exact Or.inl rfl | exact Or.inl (Or.inl rfl) | exact Or.inl (Or.inr rfl) | exact Or.inl (Or.inr (Or.inl rfl)) | exact Or.inl (Or.inr (Or.inr rfl)) | exact Or.inr ⟨Nat.succ_ne_zero _, by rw [Nat.add_sub_cancel]; assumption⟩ | exact Or.inr ⟨by omega, by assumption⟩) hG _
          have hF_q_w_55 : w_55 q = some (q + 1, oE 8 [.ref bf, .int (iI ((T.length : Int))), .int (iI (((k : Nat) : Int) + 1)), .int (iI ((p : Int))), .int (iI (va)), .int (iI (z3)), wv]) := by rw [ew_56]; exact wset_eq _ _ _
          have hF_bf_w_55 : w_55 bf = some (rb, iE G 1 800 fb) := by rw [ew_56]; exact (wset_ne _ (by first | exact Ne9.p ne_bf_q | exact Ne.symm (Ne9.p ne_q_bf) | exact ne_bf_q | exact Ne.symm ne_q_bf | exact w_ne hI_bf_w_3 hI_q_w_3 (by intro h; cases h) | exact w_neR hI_bf_w_3 hI_q_w_3 (by first | exact fun q_ => absurd (Nat.succ.inj q_) (by first | assumption | exact Ne9.p (by assumption)) | exact fun q_ => absurd (Nat.succ.inj q_).symm (by first | assumption | exact Ne9.p (by assumption)) | exact Nat.succ_ne_zero _ | exact (Nat.succ_ne_zero _).symm | omega))).trans hI_bf_w_3
          refine lv_goto (tgt := 8) hx hb dX11_advance_48 (by decide) ?_
          exact ih_4 (k + 1) w_55 (by have := c_go.2; omega) (by rw [← hsk]; exact c_go.1.symm) hF_bf_w_55 hF_q_w_55 hU (by omega) _ _ _ hR hL (lv_sub hl [0] rfl)
  exact LOOP_4 _ p w_1 ⟨Nat.le_refl _, hp⟩ rfl hF_bf_w_1 hF_q_w_1 hU (Nat.lt_succ_self _) _ _ _ hR hL (lv_sub hl [0] rfl)

theorem sc_advT (l : Launch) (G : Gl) (w : Wd) (q : Nat) (bf rb : Nat) (T : List Int) (s : Sc) (hK : TkAt G w 8 [] q bf T s) (hB : BufAt G w bf rb T) (hp : scA s ≤ T.length) (hqb : rb ≠ q + 1) (hG : RegW w) : HM l yX11_advance cX11_advance 1 none 9 4 33 G [.ref q] w (QV G (fun w_ => TkAt G w_ 8 [] q bf T (tok T (scA s)) ∧ Up (fun q_ => q_ = q + 1) w w_)) := by
  obtain ⟨va, wa, h1, -, h3, -⟩ := hK
  exact sc_adv l G w q bf rb T _ va _ _ (scA s) h1 hB h3 hp hqb hG

set_option maxHeartbeats 4000000 in
set_option maxRecDepth 100000 in
/-- SpokenMarks$Scanner.advance -/
theorem sc_advr (l : Launch) (G : Gl) (w : Wd) (q : Nat) (bf rb : Nat) (T : List Int) (z1 va z3 : Int) (wv : Value) (p : Nat) (hA : w q = some (q + 1, oE 9 [.ref bf, .int (iI ((T.length : Int))), .int (iI (z1)), .int (iI ((p : Int))), .int (iI (va)), .int (iI (z3)), wv])) (hB : BufAt G w bf rb T) (hva : R32 va) (hp : p ≤ T.length) (hqb : rb ≠ q + 1) (hG : RegW w) : HM l yX11_advance cX11_advance 1 none 9 4 33 G [.ref q] w (QV G (fun w_ => TkAt G w_ 9 [] q bf T (tok T p) ∧ Up (fun q_ => q_ = q + 1) w w_)) := by
  refine HM.mk (by decide +kernel) (Nat.le_of_ble_eq_true rfl) ?_
  intro p9 e9 s9 m9 a9 b9 meth9 c9 ls X hret hlk hnm hl H hR
  have hx := X.1.1
  have hb := X.1.2.1
  have hl : lv_has ls 1 [(0, .ref q)] := hl
  have hL : LK G [] := fun q h => absurd h List.not_mem_nil
  generalize ([] : List Loc) = locs at hL ⊢
  have hU : Up (fun q_ => q_ = q + 1) w w := Up.rf hG
  have hB0 := hB
  obtain ⟨fb, hB1, hTW, hfb⟩ := hB
  have hTl := hTW.1
  refine lv_aload_n hx hb dX11_advance_0 rfl (lv_at hl 0 rfl) ?_
  refine lv_aload_n hx hb dX11_advance_1 rfl (lv_at hl 0 rfl) ?_
  refine h_get X hR hA rfl in_X12 3 (by decide) q2093 rfl dX11_advance_2 ?_
  refine h_put X hR hL hA (Nat.succ_ne_zero _) rfl in_X12 tyX12_ok nmX12 2 (by decide) q2092 rfl rfl rfl (Nat.le_of_ble_eq_true rfl) dX11_advance_5 (fun w_1 ew_2 H locs hR hL => ?_)
  have hU : Up (fun q_ => q_ = q + 1) w w_1 := by rw [ew_2]; exact hU.set hA (by first | exact Or.inl rfl | exact Or.inl (Or.inl rfl) | exact Or.inl (Or.inr rfl) | exact Or.inl (Or.inr (Or.inl rfl)) | exact Or.inl (Or.inr (Or.inr rfl)) | exact Or.inr ⟨Nat.succ_ne_zero _, by rw [Nat.add_sub_cancel]; assumption⟩ | exact Or.inr ⟨by omega, by assumption⟩) hG _
  have hF_q_w_1 : w_1 q = some (q + 1, oE 9 [.ref bf, .int (iI ((T.length : Int))), .int (iI ((p : Int))), .int (iI ((p : Int))), .int (iI (va)), .int (iI (z3)), wv]) := by rw [ew_2]; exact wset_eq _ _ _
  have hF_bf_w_1 : w_1 bf = some (rb, iE G 1 800 fb) := by rw [ew_2]; exact (wset_ne _ (by first | exact Ne9.p ne_bf_q | exact Ne.symm (Ne9.p ne_q_bf) | exact ne_bf_q | exact Ne.symm ne_q_bf | exact w_ne hB1 hA (by intro h; cases h) | exact w_neR hB1 hA (by first | exact fun q_ => absurd (Nat.succ.inj q_) (by first | assumption | exact Ne9.p (by assumption)) | exact fun q_ => absurd (Nat.succ.inj q_).symm (by first | assumption | exact Ne9.p (by assumption)) | exact Nat.succ_ne_zero _ | exact (Nat.succ_ne_zero _).symm | omega))).trans hB1
  have LOOP_4 : ∀ (N_ : Nat) (k : Nat)(w_3 : Wd) , (p ≤ k ∧ k ≤ T.length) → (skp T k = skp T p) → (w_3 bf = some (rb, iE G 1 800 fb)) → (w_3 q = some (q + 1, oE 9 [.ref bf, .int (iI ((T.length : Int))), .int (iI (((k : Nat) : Int))), .int (iI ((p : Int))), .int (iI (va)), .int (iI (z3)), wv])) → (Up (fun q_ => q_ = q + 1) w w_3) → (T.length - k) < N_ → ∀ (H : Heap) (locs : List Loc) (ls : Array Slot), Rp G w_3 H → LK G locs → lv_has ls 1 [(0, .ref q)] → W p9 l e9 (rmk 9 4 33) s9 m9 a9 b9 meth9 c9 H locs 0 0 (MQ b9 (QV G (fun w_ => TkAt G w_ 9 [] q bf T (tok T p) ∧ Up (fun q_ => q_ = q + 1) w w_)) a9 s9 4 33 (frG G)) (F0 m9 8 ls []) := by
    intro N_
    induction N_ with
    | zero => intro _ _ _ _ _ _ _ h_; exact absurd h_ (Nat.not_lt_zero _)
    | succ N_ ih_ =>
      intro k w_3 hk hsk hI_bf_w_3 hI_q_w_3 hU hN_ H locs ls hR hL hl
      have ih_4 := ih_
      clear ih_
      refine lv_aload_n hx hb dX11_advance_8 rfl (lv_at hl 0 rfl) ?_
      refine lv_aload_n hx hb dX11_advance_9 rfl (lv_at hl 0 rfl) ?_
      refine h_get X hR hI_q_w_3 rfl in_X12 2 (by decide) q2092 rfl dX11_advance_10 ?_
      refine h_bipush hx hb dX11_advance_13 (by decide) ?_
      refine h_bipush hx hb dX11_advance_15 (by decide) ?_
      -- call SpokenMarks$Scanner.isBetween
      refine h_kIp (h_runU (x := ⟨"SpokenMarks$Scanner", "isBetween", "(III)Z"⟩) (owner := "SpokenMarks$Scanner") X hR (sc_isBr l G w_3 q bf rb T (((k : Nat) : Int)) ((p : Int)) va z3 wv hI_q_w_3 ⟨fb, hI_bf_w_3, hTW, hfb⟩ ((k)) 32 32 (by decide) (by omega)) (by decide) pn_yX11_isBetween (hasC.of hI_q_w_3 rfl) q2070 q3386 (h_declC X q2072 q2074) (h_selP X hR qs17 q2071 (by decide) (hasC.of hI_q_w_3 rfl)) q2072 q162 q2074 ⟨by decide, by decide⟩ hl.1 (Nat.le_of_ble_eq_true rfl) dX11_advance_17 ⟨by omega, by omega⟩) hL (fun H locs hR hL => ?_)
      refine h_if_ne hx hb 38 dX11_advance_20 (by decide) (by have := b2i_01 (32 ≤ bat T k ∧ bat T k ≤ 32); omega) (fun c_s => ?_) (fun c_s => ?_)
      ·
        have c_s1 := b2i_n1.mp c_s
        have c_go := skp_go (T := T) (k := k) (by omega)
        refine lv_aload_n hx hb dX11_advance_38 rfl (lv_at hl 0 rfl) ?_
        refine lv_dup hx hb dX11_advance_39 rfl ?_
        refine h_get X hR hI_q_w_3 rfl in_X12 2 (by decide) q2092 rfl dX11_advance_40 ?_
        refine h_iconst hx hb dX11_advance_43 ?_
        refine h_iadd hx hb dX11_advance_44 ?_
        refine h_put X hR hL hI_q_w_3 (Nat.succ_ne_zero _) rfl in_X12 tyX12_ok nmX12 2 (by decide) q2092 rfl rfl rfl (Nat.le_of_ble_eq_true rfl) dX11_advance_45 (fun w_8 ew_9 H locs hR hL => ?_)
        have hU : Up (fun q_ => q_ = q + 1) w w_8 := by rw [ew_9]; exact hU.set hI_q_w_3 (by first | exact Or.inl rfl | exact Or.inl (Or.inl rfl) | exact Or.inl (Or.inr rfl) | exact Or.inl (Or.inr (Or.inl rfl)) | exact Or.inl (Or.inr (Or.inr rfl)) | exact Or.inr ⟨Nat.succ_ne_zero _, by rw [Nat.add_sub_cancel]; assumption⟩ | exact Or.inr ⟨by omega, by assumption⟩) hG _
        have hF_q_w_8 : w_8 q = some (q + 1, oE 9 [.ref bf, .int (iI ((T.length : Int))), .int (iI (((k : Nat) : Int) + 1)), .int (iI ((p : Int))), .int (iI (va)), .int (iI (z3)), wv]) := by rw [ew_9]; exact wset_eq _ _ _
        have hF_bf_w_8 : w_8 bf = some (rb, iE G 1 800 fb) := by rw [ew_9]; exact (wset_ne _ (by first | exact Ne9.p ne_bf_q | exact Ne.symm (Ne9.p ne_q_bf) | exact ne_bf_q | exact Ne.symm ne_q_bf | exact w_ne hI_bf_w_3 hI_q_w_3 (by intro h; cases h) | exact w_neR hI_bf_w_3 hI_q_w_3 (by first | exact fun q_ => absurd (Nat.succ.inj q_) (by first | assumption | exact Ne9.p (by assumption)) | exact fun q_ => absurd (Nat.succ.inj q_).symm (by first | assumption | exact Ne9.p (by assumption)) | exact Nat.succ_ne_zero _ | exact (Nat.succ_ne_zero _).symm | omega))).trans hI_bf_w_3
        refine lv_goto (tgt := 8) hx hb dX11_advance_48 (by decide) ?_
        exact ih_4 (k + 1) w_8 (by have := c_go.2; omega) (by rw [← hsk]; exact c_go.1.symm) hF_bf_w_8 hF_q_w_8 hU (by omega) _ _ _ hR hL (lv_sub hl [0] rfl)
      ·
        have c_s0 := b2i_0.mp c_s
        refine lv_aload_n hx hb dX11_advance_23 rfl (lv_at hl 0 rfl) ?_
        refine lv_aload_n hx hb dX11_advance_24 rfl (lv_at hl 0 rfl) ?_
        refine h_get X hR hI_q_w_3 rfl in_X12 2 (by decide) q2092 rfl dX11_advance_25 ?_
        refine h_bipush hx hb dX11_advance_28 (by decide) ?_
        refine h_bipush hx hb dX11_advance_30 (by decide) ?_
        -- call SpokenMarks$Scanner.isBetween
        refine h_kIp (h_runU (x := ⟨"SpokenMarks$Scanner", "isBetween", "(III)Z"⟩) (owner := "SpokenMarks$Scanner") X hR (sc_isBr l G w_3 q bf rb T (((k : Nat) : Int)) ((p : Int)) va z3 wv hI_q_w_3 ⟨fb, hI_bf_w_3, hTW, hfb⟩ ((k)) 10 10 (by decide) (by omega)) (by decide) pn_yX11_isBetween (hasC.of hI_q_w_3 rfl) q2070 q3386 (h_declC X q2072 q2074) (h_selP X hR qs17 q2071 (by decide) (hasC.of hI_q_w_3 rfl)) q2072 q162 q2074 ⟨by decide, by decide⟩ hl.1 (Nat.le_of_ble_eq_true rfl) dX11_advance_32 ⟨by omega, by omega⟩) hL (fun H locs hR hL => ?_)
        refine h_if_eq hx hb 51 dX11_advance_35 (by decide) (by have := b2i_01 (10 ≤ bat T k ∧ bat T k ≤ 10); omega) (fun c_t => ?_) (fun c_t => ?_)
        ·
          have c_t0 := b2i_0.mp c_t
          have hsp : skp T p = k := hsk.symm.trans (skp_no (by omega))
          refine lv_aload_n hx hb dX11_advance_51 rfl (lv_at hl 0 rfl) ?_
          refine lv_aload_n hx hb dX11_advance_52 rfl (lv_at hl 0 rfl) ?_
          refine h_get X hR hI_q_w_3 rfl in_X12 2 (by decide) q2092 rfl dX11_advance_53 ?_
          refine h_put X hR hL hI_q_w_3 (Nat.succ_ne_zero _) rfl in_X12 tyX12_ok nmX12 3 (by decide) q2093 rfl rfl rfl (Nat.le_of_ble_eq_true rfl) dX11_advance_56 (fun w_14 ew_15 H locs hR hL => ?_)
          have hU : Up (fun q_ => q_ = q + 1) w w_14 := by rw [ew_15]; exact hU.set hI_q_w_3 (by first | exact Or.inl rfl | exact Or.inl (Or.inl rfl) | exact Or.inl (Or.inr rfl) | exact Or.inl (Or.inr (Or.inl rfl)) | exact Or.inl (Or.inr (Or.inr rfl)) | exact Or.inr ⟨Nat.succ_ne_zero _, by rw [Nat.add_sub_cancel]; assumption⟩ | exact Or.inr ⟨by omega, by assumption⟩) hG _
          have hF_q_w_14 : w_14 q = some (q + 1, oE 9 [.ref bf, .int (iI ((T.length : Int))), .int (iI (((k : Nat) : Int))), .int (iI (((k : Nat) : Int))), .int (iI (va)), .int (iI (z3)), wv]) := by rw [ew_15]; exact wset_eq _ _ _
          have hF_bf_w_14 : w_14 bf = some (rb, iE G 1 800 fb) := by rw [ew_15]; exact (wset_ne _ (by first | exact Ne9.p ne_bf_q | exact Ne.symm (Ne9.p ne_q_bf) | exact ne_bf_q | exact Ne.symm ne_q_bf | exact w_ne hI_bf_w_3 hI_q_w_3 (by intro h; cases h) | exact w_neR hI_bf_w_3 hI_q_w_3 (by first | exact fun q_ => absurd (Nat.succ.inj q_) (by first | assumption | exact Ne9.p (by assumption)) | exact fun q_ => absurd (Nat.succ.inj q_).symm (by first | assumption | exact Ne9.p (by assumption)) | exact Nat.succ_ne_zero _ | exact (Nat.succ_ne_zero _).symm | omega))).trans hI_bf_w_3
          refine lv_aload_n hx hb dX11_advance_59 rfl (lv_at hl 0 rfl) ?_
          refine h_ldcS X 12 rfl q2062 dX11_advance_60 ?_
          have hcn_16 : StrAt G w_14 (gC G 12) [] := StrAt.con hR X.2 12 (by decide) (by decide) (by decide +kernel)
          refine h_put X hR hL hF_q_w_14 (Nat.succ_ne_zero _) rfl in_X12 tyX12_ok nmX12 6 (by decide) q2100 rfl rfl rfl (Nat.le_of_ble_eq_true rfl) dX11_advance_62 (fun w_17 ew_18 H locs hR hL => ?_)
          have hU : Up (fun q_ => q_ = q + 1) w w_17 := by rw [ew_18]; exact hU.set hF_q_w_14 (by first | exact Or.inl rfl | exact Or.inl (Or.inl rfl) | exact Or.inl (Or.inr rfl) | exact Or.inl (Or.inr (Or.inl rfl)) | exact Or.inl (Or.inr (Or.inr rfl)) | exact Or.inr ⟨Nat.succ_ne_zero _, by rw [Nat.add_sub_cancel]; assumption⟩ | exact Or.inr ⟨by omega, by assumption⟩) hG _
          have hF_q_w_17 : w_17 q = some (q + 1, oE 9 [.ref bf, .int (iI ((T.length : Int))), .int (iI (((k : Nat) : Int))), .int (iI (((k : Nat) : Int))), .int (iI (va)), .int (iI (z3)), .ref (gC G 12)]) := by rw [ew_18]; exact wset_eq _ _ _
          have hF_bf_w_17 : w_17 bf = some (rb, iE G 1 800 fb) := by rw [ew_18]; exact (wset_ne _ (by first | exact Ne9.p ne_bf_q | exact Ne.symm (Ne9.p ne_q_bf) | exact ne_bf_q | exact Ne.symm ne_q_bf | exact w_ne hF_bf_w_14 hF_q_w_14 (by intro h; cases h) | exact w_neR hF_bf_w_14 hF_q_w_14 (by first | exact fun q_ => absurd (Nat.succ.inj q_) (by first | assumption | exact Ne9.p (by assumption)) | exact fun q_ => absurd (Nat.succ.inj q_).symm (by first | assumption | exact Ne9.p (by assumption)) | exact Nat.succ_ne_zero _ | exact (Nat.succ_ne_zero _).symm | omega))).trans hF_bf_w_14
          have hP_gC_G_12_w_17 := hcn_16.mv (w1 := w_17) (S := fun q_ => q_ = q + 1) (by rw [ew_18]; exact Fr.one hF_q_w_14 _) (by first | exact id | exact fun q_ => absurd q_ (by first | assumption | exact Ne9.p (by assumption)) | exact fun q_ => absurd (Nat.succ.inj q_) (by first | assumption | exact Ne9.p (by assumption)) | exact fun q_ => absurd q_.symm (Nat.succ_ne_zero _) | exact fun q_ => absurd (Nat.succ.inj q_).symm (by first | assumption | exact Ne9.p (by assumption)) | (intro q_; (try dsimp only at q_); rcases q_ with q_ | q_ | q_ | q_ | q_ <;> first | exact absurd q_ (by first | assumption | exact Ne9.p (by assumption)) | exact absurd (Nat.succ.inj q_) (by first | assumption | exact Ne9.p (by assumption)) | exact absurd q_.symm (Nat.succ_ne_zero _) | exact absurd (Nat.succ.inj q_).symm (by first | assumption | exact Ne9.p (by assumption))) | (intro q_; (try dsimp only at q_); rcases q_ with q_ | q_ | q_ | q_ <;> first | exact absurd q_ (by first | assumption | exact Ne9.p (by assumption)) | exact absurd (Nat.succ.inj q_) (by first | assumption | exact Ne9.p (by assumption)) | exact absurd q_.symm (Nat.succ_ne_zero _) | exact absurd (Nat.succ.inj q_).symm (by first | assumption | exact Ne9.p (by assumption))) | (intro q_; (try dsimp only at q_); rcases q_ with q_ | q_ <;> first | exact absurd q_ (by first | assumption | exact Ne9.p (by assumption)) | exact absurd (Nat.succ.inj q_) (by first | assumption | exact Ne9.p (by assumption)) | exact absurd q_.symm (Nat.succ_ne_zero _) | exact absurd (Nat.succ.inj q_).symm (by first | assumption | exact Ne9.p (by assumption))) | (intro q_; (try dsimp only at q_); omega))
          refine lv_aload_n hx hb dX11_advance_65 rfl (lv_at hl 0 rfl) ?_
          refine h_get X hR hF_q_w_17 rfl in_X12 2 (by decide) q2092 rfl dX11_advance_66 ?_
          refine lv_aload_n hx hb dX11_advance_69 rfl (lv_at hl 0 rfl) ?_
          refine h_get X hR hF_q_w_17 rfl in_X12 1 (by decide) q2091 rfl dX11_advance_70 ?_
          refine h_icmp_ne hx hb 84 dX11_advance_73 (by decide) (by omega) (by omega) (fun c_e => ?_) (fun c_e => ?_)
          ·
            refine lv_aload_n hx hb dX11_advance_84 rfl (lv_at hl 0 rfl) ?_
            refine lv_aload_n hx hb dX11_advance_85 rfl (lv_at hl 0 rfl) ?_
            refine h_get X hR hF_q_w_17 rfl in_X12 2 (by decide) q2092 rfl dX11_advance_86 ?_
            refine h_bipush hx hb dX11_advance_89 (by decide) ?_
            refine h_bipush hx hb dX11_advance_91 (by decide) ?_
            -- call SpokenMarks$Scanner.isBetween
            refine h_kIp (h_runU (x := ⟨"SpokenMarks$Scanner", "isBetween", "(III)Z"⟩) (owner := "SpokenMarks$Scanner") X hR (sc_isBr l G w_17 q bf rb T (((k : Nat) : Int)) (((k : Nat) : Int)) va z3 (.ref (gC G 12)) hF_q_w_17 ⟨fb, hF_bf_w_17, hTW, hfb⟩ ((k)) 97 122 (by decide) (by omega)) (by decide) pn_yX11_isBetween (hasC.of hF_q_w_17 rfl) q2070 q3386 (h_declC X q2072 q2074) (h_selP X hR qs17 q2071 (by decide) (hasC.of hF_q_w_17 rfl)) q2072 q162 q2074 ⟨by decide, by decide⟩ hl.1 (Nat.le_of_ble_eq_true rfl) dX11_advance_93 ⟨by omega, by omega⟩) hL (fun H locs hR hL => ?_)
            refine h_if_eq hx hb 115 dX11_advance_96 (by decide) (by have := b2i_01 (97 ≤ bat T k ∧ bat T k ≤ 122); omega) (fun c_l => ?_) (fun c_l => ?_)
            ·
              have c_nl := b2i_0.mp c_l
              refine lv_aload_n hx hb dX11_advance_115 rfl (lv_at hl 0 rfl) ?_
              refine lv_aload_n hx hb dX11_advance_116 rfl (lv_at hl 0 rfl) ?_
              refine h_get X hR hF_q_w_17 rfl in_X12 2 (by decide) q2092 rfl dX11_advance_117 ?_
              refine h_bipush hx hb dX11_advance_120 (by decide) ?_
              refine h_bipush hx hb dX11_advance_122 (by decide) ?_
              -- call SpokenMarks$Scanner.isBetween
              refine h_kIp (h_runU (x := ⟨"SpokenMarks$Scanner", "isBetween", "(III)Z"⟩) (owner := "SpokenMarks$Scanner") X hR (sc_isBr l G w_17 q bf rb T (((k : Nat) : Int)) (((k : Nat) : Int)) va z3 (.ref (gC G 12)) hF_q_w_17 ⟨fb, hF_bf_w_17, hTW, hfb⟩ ((k)) 48 57 (by decide) (by omega)) (by decide) pn_yX11_isBetween (hasC.of hF_q_w_17 rfl) q2070 q3386 (h_declC X q2072 q2074) (h_selP X hR qs17 q2071 (by decide) (hasC.of hF_q_w_17 rfl)) q2072 q162 q2074 ⟨by decide, by decide⟩ hl.1 (Nat.le_of_ble_eq_true rfl) dX11_advance_124 ⟨by omega, by omega⟩) hL (fun H locs hR hL => ?_)
              refine h_if_eq hx hb 146 dX11_advance_127 (by decide) (by have := b2i_01 (48 ≤ bat T k ∧ bat T k ≤ 57); omega) (fun c_f => ?_) (fun c_f => ?_)
              ·
                have c_nf := b2i_0.mp c_f
                have hil : k < T.length := (by omega)
                have hf := hfb k hil
                have hx2 := hTW.2 k hil
                have hbt : bat T k = T.getD k 0 := if_pos hil
                have hb8 := b8_b hx2
                have hb8r := b8_r (T.getD k 0)
                refine lv_aload_n hx hb dX11_advance_146 rfl (lv_at hl 0 rfl) ?_
                refine lv_dup hx hb dX11_advance_147 rfl ?_
                refine h_get X hR hF_q_w_17 rfl in_X12 3 (by decide) q2093 rfl dX11_advance_148 ?_
                refine h_iconst hx hb dX11_advance_151 ?_
                refine h_iadd hx hb dX11_advance_152 ?_
                refine h_put X hR hL hF_q_w_17 (Nat.succ_ne_zero _) rfl in_X12 tyX12_ok nmX12 3 (by decide) q2093 rfl rfl rfl (Nat.le_of_ble_eq_true rfl) dX11_advance_153 (fun w_25 ew_26 H locs hR hL => ?_)
                have hU : Up (fun q_ => q_ = q + 1) w w_25 := by rw [ew_26]; exact hU.set hF_q_w_17 (by first | exact Or.inl rfl | exact Or.inl (Or.inl rfl) | exact Or.inl (Or.inr rfl) | exact Or.inl (Or.inr (Or.inl rfl)) | exact Or.inl (Or.inr (Or.inr rfl)) | exact Or.inr ⟨Nat.succ_ne_zero _, by rw [Nat.add_sub_cancel]; assumption⟩ | exact Or.inr ⟨by omega, by assumption⟩) hG _
                have hF_q_w_25 : w_25 q = some (q + 1, oE 9 [.ref bf, .int (iI ((T.length : Int))), .int (iI (((k : Nat) : Int))), .int (iI (((k : Nat) : Int) + 1)), .int (iI (va)), .int (iI (z3)), .ref (gC G 12)]) := by rw [ew_26]; exact wset_eq _ _ _
                have hF_bf_w_25 : w_25 bf = some (rb, iE G 1 800 fb) := by rw [ew_26]; exact (wset_ne _ (by first | exact Ne9.p ne_bf_q | exact Ne.symm (Ne9.p ne_q_bf) | exact ne_bf_q | exact Ne.symm ne_q_bf | exact w_ne hF_bf_w_17 hF_q_w_17 (by intro h; cases h) | exact w_neR hF_bf_w_17 hF_q_w_17 (by first | exact fun q_ => absurd (Nat.succ.inj q_) (by first | assumption | exact Ne9.p (by assumption)) | exact fun q_ => absurd (Nat.succ.inj q_).symm (by first | assumption | exact Ne9.p (by assumption)) | exact Nat.succ_ne_zero _ | exact (Nat.succ_ne_zero _).symm | omega))).trans hF_bf_w_17
                have hP_gC_G_12_w_25 := hP_gC_G_12_w_17.mv (w1 := w_25) (S := fun q_ => q_ = q + 1) (by rw [ew_26]; exact Fr.one hF_q_w_17 _) (by first | exact id | exact fun q_ => absurd q_ (by first | assumption | exact Ne9.p (by assumption)) | exact fun q_ => absurd (Nat.succ.inj q_) (by first | assumption | exact Ne9.p (by assumption)) | exact fun q_ => absurd q_.symm (Nat.succ_ne_zero _) | exact fun q_ => absurd (Nat.succ.inj q_).symm (by first | assumption | exact Ne9.p (by assumption)) | (intro q_; (try dsimp only at q_); rcases q_ with q_ | q_ | q_ | q_ | q_ <;> first | exact absurd q_ (by first | assumption | exact Ne9.p (by assumption)) | exact absurd (Nat.succ.inj q_) (by first | assumption | exact Ne9.p (by assumption)) | exact absurd q_.symm (Nat.succ_ne_zero _) | exact absurd (Nat.succ.inj q_).symm (by first | assumption | exact Ne9.p (by assumption))) | (intro q_; (try dsimp only at q_); rcases q_ with q_ | q_ | q_ | q_ <;> first | exact absurd q_ (by first | assumption | exact Ne9.p (by assumption)) | exact absurd (Nat.succ.inj q_) (by first | assumption | exact Ne9.p (by assumption)) | exact absurd q_.symm (Nat.succ_ne_zero _) | exact absurd (Nat.succ.inj q_).symm (by first | assumption | exact Ne9.p (by assumption))) | (intro q_; (try dsimp only at q_); rcases q_ with q_ | q_ <;> first | exact absurd q_ (by first | assumption | exact Ne9.p (by assumption)) | exact absurd (Nat.succ.inj q_) (by first | assumption | exact Ne9.p (by assumption)) | exact absurd q_.symm (Nat.succ_ne_zero _) | exact absurd (Nat.succ.inj q_).symm (by first | assumption | exact Ne9.p (by assumption))) | (intro q_; (try dsimp only at q_); omega))
                refine lv_aload_n hx hb dX11_advance_156 rfl (lv_at hl 0 rfl) ?_
                refine lv_aload_n hx hb dX11_advance_157 rfl (lv_at hl 0 rfl) ?_
                refine h_get X hR hF_q_w_25 rfl in_X12 0 (by decide) q2090 rfl dX11_advance_158 ?_
                refine lv_aload_n hx hb dX11_advance_161 rfl (lv_at hl 0 rfl) ?_
                refine h_get X hR hF_q_w_25 rfl in_X12 2 (by decide) q2092 rfl dX11_advance_162 ?_
                refine h_bald X hR hF_bf_w_25 (by omega) (by omega) dX11_advance_165 ?_
                refine W.eq (g2 := F0 m9 166 ls [.int (iI (fb k)), .ref q]) (congrArg (fun z_ : Int => F0 m9 166 ls [.int (iI (z_)), .ref q]) (show (fb (((k : Nat) : Int)).toNat : Int) = fb k from (by rw [Int.toNat_natCast]))) ?_
                refine h_bipush hx hb dX11_advance_166 (by decide) ?_
                refine h_icmp_ne hx hb 175 dX11_advance_168 (by decide) (by omega) (by omega) (fun c_59a => ?_) (fun c_59a => ?_)
                ·
                  have c_59 : ¬ bat T k = 59 := by omega
                  refine lv_aload_n hx hb dX11_advance_175 rfl (lv_at hl 0 rfl) ?_
                  refine h_get X hR hF_q_w_25 rfl in_X12 0 (by decide) q2090 rfl dX11_advance_176 ?_
                  refine lv_aload_n hx hb dX11_advance_179 rfl (lv_at hl 0 rfl) ?_
                  refine h_get X hR hF_q_w_25 rfl in_X12 2 (by decide) q2092 rfl dX11_advance_180 ?_
                  refine h_bald X hR hF_bf_w_25 (by omega) (by omega) dX11_advance_183 ?_
                  refine W.eq (g2 := F0 m9 184 ls [.int (iI (fb k)), .ref q]) (congrArg (fun z_ : Int => F0 m9 184 ls [.int (iI (z_)), .ref q]) (show (fb (((k : Nat) : Int)).toNat : Int) = fb k from (by rw [Int.toNat_natCast]))) ?_
                  refine h_bipush hx hb dX11_advance_184 (by decide) ?_
                  refine h_icmp_ne hx hb 193 dX11_advance_186 (by decide) (by omega) (by omega) (fun c_61a => ?_) (fun c_61a => ?_)
                  ·
                    have c_61 : ¬ bat T k = 61 := by omega
                    refine h_iconst hx hb dX11_advance_193 ?_
                    refine h_put X hR hL hF_q_w_25 (Nat.succ_ne_zero _) rfl in_X12 tyX12_ok nmX12 5 (by decide) q2099 rfl rfl rfl (Nat.le_of_ble_eq_true rfl) dX11_advance_194 (fun w_27 ew_28 H locs hR hL => ?_)
                    have hU : Up (fun q_ => q_ = q + 1) w w_27 := by rw [ew_28]; exact hU.set hF_q_w_25 (by first | exact Or.inl rfl | exact Or.inl (Or.inl rfl) | exact Or.inl (Or.inr rfl) | exact Or.inl (Or.inr (Or.inl rfl)) | exact Or.inl (Or.inr (Or.inr rfl)) | exact Or.inr ⟨Nat.succ_ne_zero _, by rw [Nat.add_sub_cancel]; assumption⟩ | exact Or.inr ⟨by omega, by assumption⟩) hG _
                    have hF_q_w_27 : w_27 q = some (q + 1, oE 9 [.ref bf, .int (iI ((T.length : Int))), .int (iI (((k : Nat) : Int))), .int (iI (((k : Nat) : Int) + 1)), .int (iI (va)), .int (iI (5)), .ref (gC G 12)]) := by rw [ew_28]; exact wset_eq _ _ _
                    have hF_bf_w_27 : w_27 bf = some (rb, iE G 1 800 fb) := by rw [ew_28]; exact (wset_ne _ (by first | exact Ne9.p ne_bf_q | exact Ne.symm (Ne9.p ne_q_bf) | exact ne_bf_q | exact Ne.symm ne_q_bf | exact w_ne hF_bf_w_25 hF_q_w_25 (by intro h; cases h) | exact w_neR hF_bf_w_25 hF_q_w_25 (by first | exact fun q_ => absurd (Nat.succ.inj q_) (by first | assumption | exact Ne9.p (by assumption)) | exact fun q_ => absurd (Nat.succ.inj q_).symm (by first | assumption | exact Ne9.p (by assumption)) | exact Nat.succ_ne_zero _ | exact (Nat.succ_ne_zero _).symm | omega))).trans hF_bf_w_25
                    have hP_gC_G_12_w_27 := hP_gC_G_12_w_25.mv (w1 := w_27) (S := fun q_ => q_ = q + 1) (by rw [ew_28]; exact Fr.one hF_q_w_25 _) (by first | exact id | exact fun q_ => absurd q_ (by first | assumption | exact Ne9.p (by assumption)) | exact fun q_ => absurd (Nat.succ.inj q_) (by first | assumption | exact Ne9.p (by assumption)) | exact fun q_ => absurd q_.symm (Nat.succ_ne_zero _) | exact fun q_ => absurd (Nat.succ.inj q_).symm (by first | assumption | exact Ne9.p (by assumption)) | (intro q_; (try dsimp only at q_); rcases q_ with q_ | q_ | q_ | q_ | q_ <;> first | exact absurd q_ (by first | assumption | exact Ne9.p (by assumption)) | exact absurd (Nat.succ.inj q_) (by first | assumption | exact Ne9.p (by assumption)) | exact absurd q_.symm (Nat.succ_ne_zero _) | exact absurd (Nat.succ.inj q_).symm (by first | assumption | exact Ne9.p (by assumption))) | (intro q_; (try dsimp only at q_); rcases q_ with q_ | q_ | q_ | q_ <;> first | exact absurd q_ (by first | assumption | exact Ne9.p (by assumption)) | exact absurd (Nat.succ.inj q_) (by first | assumption | exact Ne9.p (by assumption)) | exact absurd q_.symm (Nat.succ_ne_zero _) | exact absurd (Nat.succ.inj q_).symm (by first | assumption | exact Ne9.p (by assumption))) | (intro q_; (try dsimp only at q_); rcases q_ with q_ | q_ <;> first | exact absurd q_ (by first | assumption | exact Ne9.p (by assumption)) | exact absurd (Nat.succ.inj q_) (by first | assumption | exact Ne9.p (by assumption)) | exact absurd q_.symm (Nat.succ_ne_zero _) | exact absurd (Nat.succ.inj q_).symm (by first | assumption | exact Ne9.p (by assumption))) | (intro q_; (try dsimp only at q_); omega))
                    have htk : tok T p = (k, k + 1, 5, 0) := by unfold tok; rw [hsp, if_neg (by omega), if_neg c_nl, if_neg c_nf, if_neg c_59, if_neg c_61]
                    exact h_vreturn hx hb hlk hret hR hL ⟨by rw [htk]; exact ⟨va, gC G 12, hF_q_w_27, by show StrAt G w_27 (gC G 12) (if (5 : Int) = 1 then _ else []); rw [if_neg (by decide)]; exact hP_gC_G_12_w_27, hva, fun q_ => absurd (show (5 : Int) = 2 from q_) (by decide)⟩, hU⟩ (by omega) (by omega) rfl rfl dX11_advance_197
                  ·
                    have c_61 : bat T k = 61 := by omega
                    refine h_iconst hx hb dX11_advance_189 ?_
                    refine lv_goto (tgt := 194) hx hb dX11_advance_190 (by decide) ?_
                    refine h_put X hR hL hF_q_w_25 (Nat.succ_ne_zero _) rfl in_X12 tyX12_ok nmX12 5 (by decide) q2099 rfl rfl rfl (Nat.le_of_ble_eq_true rfl) dX11_advance_194 (fun w_29 ew_30 H locs hR hL => ?_)
                    have hU : Up (fun q_ => q_ = q + 1) w w_29 := by rw [ew_30]; exact hU.set hF_q_w_25 (by first | exact Or.inl rfl | exact Or.inl (Or.inl rfl) | exact Or.inl (Or.inr rfl) | exact Or.inl (Or.inr (Or.inl rfl)) | exact Or.inl (Or.inr (Or.inr rfl)) | exact Or.inr ⟨Nat.succ_ne_zero _, by rw [Nat.add_sub_cancel]; assumption⟩ | exact Or.inr ⟨by omega, by assumption⟩) hG _
                    have hF_q_w_29 : w_29 q = some (q + 1, oE 9 [.ref bf, .int (iI ((T.length : Int))), .int (iI (((k : Nat) : Int))), .int (iI (((k : Nat) : Int) + 1)), .int (iI (va)), .int (iI (4)), .ref (gC G 12)]) := by rw [ew_30]; exact wset_eq _ _ _
                    have hF_bf_w_29 : w_29 bf = some (rb, iE G 1 800 fb) := by rw [ew_30]; exact (wset_ne _ (by first | exact Ne9.p ne_bf_q | exact Ne.symm (Ne9.p ne_q_bf) | exact ne_bf_q | exact Ne.symm ne_q_bf | exact w_ne hF_bf_w_25 hF_q_w_25 (by intro h; cases h) | exact w_neR hF_bf_w_25 hF_q_w_25 (by first | exact fun q_ => absurd (Nat.succ.inj q_) (by first | assumption | exact Ne9.p (by assumption)) | exact fun q_ => absurd (Nat.succ.inj q_).symm (by first | assumption | exact Ne9.p (by assumption)) | exact Nat.succ_ne_zero _ | exact (Nat.succ_ne_zero _).symm | omega))).trans hF_bf_w_25
                    have hP_gC_G_12_w_29 := hP_gC_G_12_w_25.mv (w1 := w_29) (S := fun q_ => q_ = q + 1) (by rw [ew_30]; exact Fr.one hF_q_w_25 _) (by first | exact id | exact fun q_ => absurd q_ (by first | assumption | exact Ne9.p (by assumption)) | exact fun q_ => absurd (Nat.succ.inj q_) (by first | assumption | exact Ne9.p (by assumption)) | exact fun q_ => absurd q_.symm (Nat.succ_ne_zero _) | exact fun q_ => absurd (Nat.succ.inj q_).symm (by first | assumption | exact Ne9.p (by assumption)) | (intro q_; (try dsimp only at q_); rcases q_ with q_ | q_ | q_ | q_ | q_ <;> first | exact absurd q_ (by first | assumption | exact Ne9.p (by assumption)) | exact absurd (Nat.succ.inj q_) (by first | assumption | exact Ne9.p (by assumption)) | exact absurd q_.symm (Nat.succ_ne_zero _) | exact absurd (Nat.succ.inj q_).symm (by first | assumption | exact Ne9.p (by assumption))) | (intro q_; (try dsimp only at q_); rcases q_ with q_ | q_ | q_ | q_ <;> first | exact absurd q_ (by first | assumption | exact Ne9.p (by assumption)) | exact absurd (Nat.succ.inj q_) (by first | assumption | exact Ne9.p (by assumption)) | exact absurd q_.symm (Nat.succ_ne_zero _) | exact absurd (Nat.succ.inj q_).symm (by first | assumption | exact Ne9.p (by assumption))) | (intro q_; (try dsimp only at q_); rcases q_ with q_ | q_ <;> first | exact absurd q_ (by first | assumption | exact Ne9.p (by assumption)) | exact absurd (Nat.succ.inj q_) (by first | assumption | exact Ne9.p (by assumption)) | exact absurd q_.symm (Nat.succ_ne_zero _) | exact absurd (Nat.succ.inj q_).symm (by first | assumption | exact Ne9.p (by assumption))) | (intro q_; (try dsimp only at q_); omega))
                    have htk : tok T p = (k, k + 1, 4, 0) := by unfold tok; rw [hsp, if_neg (by omega), if_neg c_nl, if_neg c_nf, if_neg c_59, if_pos c_61]
                    exact h_vreturn hx hb hlk hret hR hL ⟨by rw [htk]; exact ⟨va, gC G 12, hF_q_w_29, by show StrAt G w_29 (gC G 12) (if (4 : Int) = 1 then _ else []); rw [if_neg (by decide)]; exact hP_gC_G_12_w_29, hva, fun q_ => absurd (show (4 : Int) = 2 from q_) (by decide)⟩, hU⟩ (by omega) (by omega) rfl rfl dX11_advance_197
                ·
                  have c_59 : bat T k = 59 := by omega
                  refine h_iconst hx hb dX11_advance_171 ?_
                  refine lv_goto (tgt := 194) hx hb dX11_advance_172 (by decide) ?_
                  refine h_put X hR hL hF_q_w_25 (Nat.succ_ne_zero _) rfl in_X12 tyX12_ok nmX12 5 (by decide) q2099 rfl rfl rfl (Nat.le_of_ble_eq_true rfl) dX11_advance_194 (fun w_31 ew_32 H locs hR hL => ?_)
                  have hU : Up (fun q_ => q_ = q + 1) w w_31 := by rw [ew_32]; exact hU.set hF_q_w_25 (by first | exact Or.inl rfl | exact Or.inl (Or.inl rfl) | exact Or.inl (Or.inr rfl) | exact Or.inl (Or.inr (Or.inl rfl)) | exact Or.inl (Or.inr (Or.inr rfl)) | exact Or.inr ⟨Nat.succ_ne_zero _, by rw [Nat.add_sub_cancel]; assumption⟩ | exact Or.inr ⟨by omega, by assumption⟩) hG _
                  have hF_q_w_31 : w_31 q = some (q + 1, oE 9 [.ref bf, .int (iI ((T.length : Int))), .int (iI (((k : Nat) : Int))), .int (iI (((k : Nat) : Int) + 1)), .int (iI (va)), .int (iI (3)), .ref (gC G 12)]) := by rw [ew_32]; exact wset_eq _ _ _
                  have hF_bf_w_31 : w_31 bf = some (rb, iE G 1 800 fb) := by rw [ew_32]; exact (wset_ne _ (by first | exact Ne9.p ne_bf_q | exact Ne.symm (Ne9.p ne_q_bf) | exact ne_bf_q | exact Ne.symm ne_q_bf | exact w_ne hF_bf_w_25 hF_q_w_25 (by intro h; cases h) | exact w_neR hF_bf_w_25 hF_q_w_25 (by first | exact fun q_ => absurd (Nat.succ.inj q_) (by first | assumption | exact Ne9.p (by assumption)) | exact fun q_ => absurd (Nat.succ.inj q_).symm (by first | assumption | exact Ne9.p (by assumption)) | exact Nat.succ_ne_zero _ | exact (Nat.succ_ne_zero _).symm | omega))).trans hF_bf_w_25
                  have hP_gC_G_12_w_31 := hP_gC_G_12_w_25.mv (w1 := w_31) (S := fun q_ => q_ = q + 1) (by rw [ew_32]; exact Fr.one hF_q_w_25 _) (by first | exact id | exact fun q_ => absurd q_ (by first | assumption | exact Ne9.p (by assumption)) | exact fun q_ => absurd (Nat.succ.inj q_) (by first | assumption | exact Ne9.p (by assumption)) | exact fun q_ => absurd q_.symm (Nat.succ_ne_zero _) | exact fun q_ => absurd (Nat.succ.inj q_).symm (by first | assumption | exact Ne9.p (by assumption)) | (intro q_; (try dsimp only at q_); rcases q_ with q_ | q_ | q_ | q_ | q_ <;> first | exact absurd q_ (by first | assumption | exact Ne9.p (by assumption)) | exact absurd (Nat.succ.inj q_) (by first | assumption | exact Ne9.p (by assumption)) | exact absurd q_.symm (Nat.succ_ne_zero _) | exact absurd (Nat.succ.inj q_).symm (by first | assumption | exact Ne9.p (by assumption))) | (intro q_; (try dsimp only at q_); rcases q_ with q_ | q_ | q_ | q_ <;> first | exact absurd q_ (by first | assumption | exact Ne9.p (by assumption)) | exact absurd (Nat.succ.inj q_) (by first | assumption | exact Ne9.p (by assumption)) | exact absurd q_.symm (Nat.succ_ne_zero _) | exact absurd (Nat.succ.inj q_).symm (by first | assumption | exact Ne9.p (by assumption))) | (intro q_; (try dsimp only at q_); rcases q_ with q_ | q_ <;> first | exact absurd q_ (by first | assumption | exact Ne9.p (by assumption)) | exact absurd (Nat.succ.inj q_) (by first | assumption | exact Ne9.p (by assumption)) | exact absurd q_.symm (Nat.succ_ne_zero _) | exact absurd (Nat.succ.inj q_).symm (by first | assumption | exact Ne9.p (by assumption))) | (intro q_; (try dsimp only at q_); omega))
                  have htk : tok T p = (k, k + 1, 3, 0) := by unfold tok; rw [hsp, if_neg (by omega), if_neg c_nl, if_neg c_nf, if_pos c_59]
                  exact h_vreturn hx hb hlk hret hR hL ⟨by rw [htk]; exact ⟨va, gC G 12, hF_q_w_31, by show StrAt G w_31 (gC G 12) (if (3 : Int) = 1 then _ else []); rw [if_neg (by decide)]; exact hP_gC_G_12_w_31, hva, fun q_ => absurd (show (3 : Int) = 2 from q_) (by decide)⟩, hU⟩ (by omega) (by omega) rfl rfl dX11_advance_197
              ·
                have c_y2 := b2i_n1.mp c_f
                refine lv_aload_n hx hb dX11_advance_130 rfl (lv_at hl 0 rfl) ?_
                refine h_iconst hx hb dX11_advance_131 ?_
                refine h_put X hR hL hF_q_w_17 (Nat.succ_ne_zero _) rfl in_X12 tyX12_ok nmX12 5 (by decide) q2099 rfl rfl rfl (Nat.le_of_ble_eq_true rfl) dX11_advance_132 (fun w_33 ew_34 H locs hR hL => ?_)
                have hU : Up (fun q_ => q_ = q + 1) w w_33 := by rw [ew_34]; exact hU.set hF_q_w_17 (by first | exact Or.inl rfl | exact Or.inl (Or.inl rfl) | exact Or.inl (Or.inr rfl) | exact Or.inl (Or.inr (Or.inl rfl)) | exact Or.inl (Or.inr (Or.inr rfl)) | exact Or.inr ⟨Nat.succ_ne_zero _, by rw [Nat.add_sub_cancel]; assumption⟩ | exact Or.inr ⟨by omega, by assumption⟩) hG _
                have hF_q_w_33 : w_33 q = some (q + 1, oE 9 [.ref bf, .int (iI ((T.length : Int))), .int (iI (((k : Nat) : Int))), .int (iI (((k : Nat) : Int))), .int (iI (va)), .int (iI (2)), .ref (gC G 12)]) := by rw [ew_34]; exact wset_eq _ _ _
                have hF_bf_w_33 : w_33 bf = some (rb, iE G 1 800 fb) := by rw [ew_34]; exact (wset_ne _ (by first | exact Ne9.p ne_bf_q | exact Ne.symm (Ne9.p ne_q_bf) | exact ne_bf_q | exact Ne.symm ne_q_bf | exact w_ne hF_bf_w_17 hF_q_w_17 (by intro h; cases h) | exact w_neR hF_bf_w_17 hF_q_w_17 (by first | exact fun q_ => absurd (Nat.succ.inj q_) (by first | assumption | exact Ne9.p (by assumption)) | exact fun q_ => absurd (Nat.succ.inj q_).symm (by first | assumption | exact Ne9.p (by assumption)) | exact Nat.succ_ne_zero _ | exact (Nat.succ_ne_zero _).symm | omega))).trans hF_bf_w_17
                have hP_gC_G_12_w_33 := hP_gC_G_12_w_17.mv (w1 := w_33) (S := fun q_ => q_ = q + 1) (by rw [ew_34]; exact Fr.one hF_q_w_17 _) (by first | exact id | exact fun q_ => absurd q_ (by first | assumption | exact Ne9.p (by assumption)) | exact fun q_ => absurd (Nat.succ.inj q_) (by first | assumption | exact Ne9.p (by assumption)) | exact fun q_ => absurd q_.symm (Nat.succ_ne_zero _) | exact fun q_ => absurd (Nat.succ.inj q_).symm (by first | assumption | exact Ne9.p (by assumption)) | (intro q_; (try dsimp only at q_); rcases q_ with q_ | q_ | q_ | q_ | q_ <;> first | exact absurd q_ (by first | assumption | exact Ne9.p (by assumption)) | exact absurd (Nat.succ.inj q_) (by first | assumption | exact Ne9.p (by assumption)) | exact absurd q_.symm (Nat.succ_ne_zero _) | exact absurd (Nat.succ.inj q_).symm (by first | assumption | exact Ne9.p (by assumption))) | (intro q_; (try dsimp only at q_); rcases q_ with q_ | q_ | q_ | q_ <;> first | exact absurd q_ (by first | assumption | exact Ne9.p (by assumption)) | exact absurd (Nat.succ.inj q_) (by first | assumption | exact Ne9.p (by assumption)) | exact absurd q_.symm (Nat.succ_ne_zero _) | exact absurd (Nat.succ.inj q_).symm (by first | assumption | exact Ne9.p (by assumption))) | (intro q_; (try dsimp only at q_); rcases q_ with q_ | q_ <;> first | exact absurd q_ (by first | assumption | exact Ne9.p (by assumption)) | exact absurd (Nat.succ.inj q_) (by first | assumption | exact Ne9.p (by assumption)) | exact absurd q_.symm (Nat.succ_ne_zero _) | exact absurd (Nat.succ.inj q_).symm (by first | assumption | exact Ne9.p (by assumption))) | (intro q_; (try dsimp only at q_); omega))
                refine lv_aload_n hx hb dX11_advance_135 rfl (lv_at hl 0 rfl) ?_
                refine lv_aload_n hx hb dX11_advance_136 rfl (lv_at hl 0 rfl) ?_
                -- call SpokenMarks$Scanner.digits
                refine h_kI (h_runU (x := ⟨"SpokenMarks$Scanner", "digits", "()I"⟩) (owner := "SpokenMarks$Scanner") X hR (sc_digr l G w_33 q bf rb T (((k : Nat) : Int)) va 2 (.ref (gC G 12)) ((k)) hF_q_w_33 ⟨fb, hF_bf_w_33, hTW, hfb⟩ hk.2 hqb hU.2.2.1) (by decide) pn_yX11_digits (hasC.of hF_q_w_33 rfl) q2084 q3389 (h_declC X q2086 q2087) (h_selP X hR qs19 q2085 (by decide) (hasC.of hF_q_w_33 rfl)) q2086 q162 q2087 ⟨by decide, by decide⟩ hl.1 (Nat.le_of_ble_eq_true rfl) dX11_advance_137 ⟨by omega, by omega⟩) hL (fun z_35 w_36 hp_37 H locs hR hL => ?_)
                obtain ⟨⟨rfl, hzr_40⟩, hO__38, u_39⟩ := hp_37
                have hF_bf_w_36 : w_36 bf = some (rb, iE G 1 800 fb) := u_39.1 _ _ _ hF_bf_w_33 (by first | exact id | exact fun q_ => absurd q_ (by first | assumption | exact Ne9.p (by assumption)) | exact fun q_ => absurd (Nat.succ.inj q_) (by first | assumption | exact Ne9.p (by assumption)) | exact fun q_ => absurd q_.symm (Nat.succ_ne_zero _) | exact fun q_ => absurd (Nat.succ.inj q_).symm (by first | assumption | exact Ne9.p (by assumption)) | (intro q_; (try dsimp only at q_); rcases q_ with q_ | q_ | q_ | q_ | q_ <;> first | exact absurd q_ (by first | assumption | exact Ne9.p (by assumption)) | exact absurd (Nat.succ.inj q_) (by first | assumption | exact Ne9.p (by assumption)) | exact absurd q_.symm (Nat.succ_ne_zero _) | exact absurd (Nat.succ.inj q_).symm (by first | assumption | exact Ne9.p (by assumption))) | (intro q_; (try dsimp only at q_); rcases q_ with q_ | q_ | q_ | q_ <;> first | exact absurd q_ (by first | assumption | exact Ne9.p (by assumption)) | exact absurd (Nat.succ.inj q_) (by first | assumption | exact Ne9.p (by assumption)) | exact absurd q_.symm (Nat.succ_ne_zero _) | exact absurd (Nat.succ.inj q_).symm (by first | assumption | exact Ne9.p (by assumption))) | (intro q_; (try dsimp only at q_); rcases q_ with q_ | q_ <;> first | exact absurd q_ (by first | assumption | exact Ne9.p (by assumption)) | exact absurd (Nat.succ.inj q_) (by first | assumption | exact Ne9.p (by assumption)) | exact absurd q_.symm (Nat.succ_ne_zero _) | exact absurd (Nat.succ.inj q_).symm (by first | assumption | exact Ne9.p (by assumption))) | (intro q_; (try dsimp only at q_); omega))
                have hP_gC_G_12_w_36 := hP_gC_G_12_w_33.mv (u_39.1) (by first | exact id | exact fun q_ => absurd q_ (by first | assumption | exact Ne9.p (by assumption)) | exact fun q_ => absurd (Nat.succ.inj q_) (by first | assumption | exact Ne9.p (by assumption)) | exact fun q_ => absurd q_.symm (Nat.succ_ne_zero _) | exact fun q_ => absurd (Nat.succ.inj q_).symm (by first | assumption | exact Ne9.p (by assumption)) | (intro q_; (try dsimp only at q_); rcases q_ with q_ | q_ | q_ | q_ | q_ <;> first | exact absurd q_ (by first | assumption | exact Ne9.p (by assumption)) | exact absurd (Nat.succ.inj q_) (by first | assumption | exact Ne9.p (by assumption)) | exact absurd q_.symm (Nat.succ_ne_zero _) | exact absurd (Nat.succ.inj q_).symm (by first | assumption | exact Ne9.p (by assumption))) | (intro q_; (try dsimp only at q_); rcases q_ with q_ | q_ | q_ | q_ <;> first | exact absurd q_ (by first | assumption | exact Ne9.p (by assumption)) | exact absurd (Nat.succ.inj q_) (by first | assumption | exact Ne9.p (by assumption)) | exact absurd q_.symm (Nat.succ_ne_zero _) | exact absurd (Nat.succ.inj q_).symm (by first | assumption | exact Ne9.p (by assumption))) | (intro q_; (try dsimp only at q_); rcases q_ with q_ | q_ <;> first | exact absurd q_ (by first | assumption | exact Ne9.p (by assumption)) | exact absurd (Nat.succ.inj q_) (by first | assumption | exact Ne9.p (by assumption)) | exact absurd q_.symm (Nat.succ_ne_zero _) | exact absurd (Nat.succ.inj q_).symm (by first | assumption | exact Ne9.p (by assumption))) | (intro q_; (try dsimp only at q_); omega))
                have hU : Up (fun q_ => q_ = q + 1) w w_36 := hU.tr u_39 (fun q_ h_ => by first | exact absurd h_ id | exact Or.inl h_ | exact Or.inr (up_nw h_ (by assumption)) | exact Or.inl (Or.inl h_) | exact Or.inl (Or.inr h_) | exact Or.inl (Or.inr (Or.inl h_)) | exact Or.inl (Or.inr (Or.inr h_)) | exact Or.inl (Or.inr (Or.inr (Or.inl h_))) | exact Or.inl (Or.inr (Or.inr (Or.inr h_))) | exact Or.inl (h_.elim Or.inl (fun h_ => Or.inr (Or.inl h_))) | ((try dsimp only at h_); first | exact Or.inl (by omega) | exact Or.inr ⟨by omega, by subst h_; rw [Nat.add_sub_cancel]; assumption⟩)) hG
                refine h_put X hR hL hO__38 (Nat.succ_ne_zero _) rfl in_X12 tyX12_ok nmX12 4 (by decide) q2094 rfl rfl rfl (Nat.le_of_ble_eq_true rfl) dX11_advance_140 (fun w_41 ew_42 H locs hR hL => ?_)
                have hU : Up (fun q_ => q_ = q + 1) w w_41 := by rw [ew_42]; exact hU.set hO__38 (by first | exact Or.inl rfl | exact Or.inl (Or.inl rfl) | exact Or.inl (Or.inr rfl) | exact Or.inl (Or.inr (Or.inl rfl)) | exact Or.inl (Or.inr (Or.inr rfl)) | exact Or.inr ⟨Nat.succ_ne_zero _, by rw [Nat.add_sub_cancel]; assumption⟩ | exact Or.inr ⟨by omega, by assumption⟩) hG _
                have hF_q_w_41 : w_41 q = some (q + 1, oE 9 [.ref bf, .int (iI ((T.length : Int))), .int (iI (((k : Nat) : Int))), .int (iI (((fgE T ((k)) : Nat) : Int))), .int (iI (nmV T ((k)))), .int (iI (2)), .ref (gC G 12)]) := by rw [ew_42]; exact wset_eq _ _ _
                have hF_bf_w_41 : w_41 bf = some (rb, iE G 1 800 fb) := by rw [ew_42]; exact (wset_ne _ (by first | exact Ne9.p ne_bf_q | exact Ne.symm (Ne9.p ne_q_bf) | exact ne_bf_q | exact Ne.symm ne_q_bf | exact w_ne hF_bf_w_36 hO__38 (by intro h; cases h) | exact w_neR hF_bf_w_36 hO__38 (by first | exact fun q_ => absurd (Nat.succ.inj q_) (by first | assumption | exact Ne9.p (by assumption)) | exact fun q_ => absurd (Nat.succ.inj q_).symm (by first | assumption | exact Ne9.p (by assumption)) | exact Nat.succ_ne_zero _ | exact (Nat.succ_ne_zero _).symm | omega))).trans hF_bf_w_36
                have hP_gC_G_12_w_41 := hP_gC_G_12_w_36.mv (w1 := w_41) (S := fun q_ => q_ = q + 1) (by rw [ew_42]; exact Fr.one hO__38 _) (by first | exact id | exact fun q_ => absurd q_ (by first | assumption | exact Ne9.p (by assumption)) | exact fun q_ => absurd (Nat.succ.inj q_) (by first | assumption | exact Ne9.p (by assumption)) | exact fun q_ => absurd q_.symm (Nat.succ_ne_zero _) | exact fun q_ => absurd (Nat.succ.inj q_).symm (by first | assumption | exact Ne9.p (by assumption)) | (intro q_; (try dsimp only at q_); rcases q_ with q_ | q_ | q_ | q_ | q_ <;> first | exact absurd q_ (by first | assumption | exact Ne9.p (by assumption)) | exact absurd (Nat.succ.inj q_) (by first | assumption | exact Ne9.p (by assumption)) | exact absurd q_.symm (Nat.succ_ne_zero _) | exact absurd (Nat.succ.inj q_).symm (by first | assumption | exact Ne9.p (by assumption))) | (intro q_; (try dsimp only at q_); rcases q_ with q_ | q_ | q_ | q_ <;> first | exact absurd q_ (by first | assumption | exact Ne9.p (by assumption)) | exact absurd (Nat.succ.inj q_) (by first | assumption | exact Ne9.p (by assumption)) | exact absurd q_.symm (Nat.succ_ne_zero _) | exact absurd (Nat.succ.inj q_).symm (by first | assumption | exact Ne9.p (by assumption))) | (intro q_; (try dsimp only at q_); rcases q_ with q_ | q_ <;> first | exact absurd q_ (by first | assumption | exact Ne9.p (by assumption)) | exact absurd (Nat.succ.inj q_) (by first | assumption | exact Ne9.p (by assumption)) | exact absurd q_.symm (Nat.succ_ne_zero _) | exact absurd (Nat.succ.inj q_).symm (by first | assumption | exact Ne9.p (by assumption))) | (intro q_; (try dsimp only at q_); omega))
                refine lv_goto (tgt := 197) hx hb dX11_advance_143 (by decide) ?_
                have htk : tok T p = (k, fgE T k, 2, nmV T k) := by unfold tok; rw [hsp, if_neg (by omega), if_neg c_nl, if_pos c_y2]
                exact h_vreturn hx hb hlk hret hR hL ⟨by rw [htk]; exact ⟨nmV T ((k)), gC G 12, hF_q_w_41, by show StrAt G w_41 (gC G 12) (if (2 : Int) = 1 then _ else []); rw [if_neg (by decide)]; exact hP_gC_G_12_w_41, ⟨by omega, by omega⟩, fun _ => rfl⟩, hU⟩ (by omega) (by omega) rfl rfl dX11_advance_197
            ·
              have c_y := b2i_n1.mp c_l
              refine lv_aload_n hx hb dX11_advance_99 rfl (lv_at hl 0 rfl) ?_
              refine h_iconst hx hb dX11_advance_100 ?_
              refine h_put X hR hL hF_q_w_17 (Nat.succ_ne_zero _) rfl in_X12 tyX12_ok nmX12 5 (by decide) q2099 rfl rfl rfl (Nat.le_of_ble_eq_true rfl) dX11_advance_101 (fun w_43 ew_44 H locs hR hL => ?_)
              have hU : Up (fun q_ => q_ = q + 1) w w_43 := by rw [ew_44]; exact hU.set hF_q_w_17 (by first | exact Or.inl rfl | exact Or.inl (Or.inl rfl) | exact Or.inl (Or.inr rfl) | exact Or.inl (Or.inr (Or.inl rfl)) | exact Or.inl (Or.inr (Or.inr rfl)) | exact Or.inr ⟨Nat.succ_ne_zero _, by rw [Nat.add_sub_cancel]; assumption⟩ | exact Or.inr ⟨by omega, by assumption⟩) hG _
              have hF_q_w_43 : w_43 q = some (q + 1, oE 9 [.ref bf, .int (iI ((T.length : Int))), .int (iI (((k : Nat) : Int))), .int (iI (((k : Nat) : Int))), .int (iI (va)), .int (iI (1)), .ref (gC G 12)]) := by rw [ew_44]; exact wset_eq _ _ _
              have hF_bf_w_43 : w_43 bf = some (rb, iE G 1 800 fb) := by rw [ew_44]; exact (wset_ne _ (by first | exact Ne9.p ne_bf_q | exact Ne.symm (Ne9.p ne_q_bf) | exact ne_bf_q | exact Ne.symm ne_q_bf | exact w_ne hF_bf_w_17 hF_q_w_17 (by intro h; cases h) | exact w_neR hF_bf_w_17 hF_q_w_17 (by first | exact fun q_ => absurd (Nat.succ.inj q_) (by first | assumption | exact Ne9.p (by assumption)) | exact fun q_ => absurd (Nat.succ.inj q_).symm (by first | assumption | exact Ne9.p (by assumption)) | exact Nat.succ_ne_zero _ | exact (Nat.succ_ne_zero _).symm | omega))).trans hF_bf_w_17
              have hP_gC_G_12_w_43 := hP_gC_G_12_w_17.mv (w1 := w_43) (S := fun q_ => q_ = q + 1) (by rw [ew_44]; exact Fr.one hF_q_w_17 _) (by first | exact id | exact fun q_ => absurd q_ (by first | assumption | exact Ne9.p (by assumption)) | exact fun q_ => absurd (Nat.succ.inj q_) (by first | assumption | exact Ne9.p (by assumption)) | exact fun q_ => absurd q_.symm (Nat.succ_ne_zero _) | exact fun q_ => absurd (Nat.succ.inj q_).symm (by first | assumption | exact Ne9.p (by assumption)) | (intro q_; (try dsimp only at q_); rcases q_ with q_ | q_ | q_ | q_ | q_ <;> first | exact absurd q_ (by first | assumption | exact Ne9.p (by assumption)) | exact absurd (Nat.succ.inj q_) (by first | assumption | exact Ne9.p (by assumption)) | exact absurd q_.symm (Nat.succ_ne_zero _) | exact absurd (Nat.succ.inj q_).symm (by first | assumption | exact Ne9.p (by assumption))) | (intro q_; (try dsimp only at q_); rcases q_ with q_ | q_ | q_ | q_ <;> first | exact absurd q_ (by first | assumption | exact Ne9.p (by assumption)) | exact absurd (Nat.succ.inj q_) (by first | assumption | exact Ne9.p (by assumption)) | exact absurd q_.symm (Nat.succ_ne_zero _) | exact absurd (Nat.succ.inj q_).symm (by first | assumption | exact Ne9.p (by assumption))) | (intro q_; (try dsimp only at q_); rcases q_ with q_ | q_ <;> first | exact absurd q_ (by first | assumption | exact Ne9.p (by assumption)) | exact absurd (Nat.succ.inj q_) (by first | assumption | exact Ne9.p (by assumption)) | exact absurd q_.symm (Nat.succ_ne_zero _) | exact absurd (Nat.succ.inj q_).symm (by first | assumption | exact Ne9.p (by assumption))) | (intro q_; (try dsimp only at q_); omega))
              refine lv_aload_n hx hb dX11_advance_104 rfl (lv_at hl 0 rfl) ?_
              refine lv_aload_n hx hb dX11_advance_105 rfl (lv_at hl 0 rfl) ?_
              -- call SpokenMarks$Scanner.letters
              refine h_kR (h_runU (x := ⟨"SpokenMarks$Scanner", "letters", "()Ljava/lang/String;"⟩) (owner := "SpokenMarks$Scanner") X hR (sc_letr l G w_43 q bf rb T (((k : Nat) : Int)) va 1 (.ref (gC G 12)) ((k)) hF_q_w_43 ⟨fb, hF_bf_w_43, hTW, hfb⟩ hk.2 hqb hU.2.2.1) (by decide) pn_yX11_letters (hasC.of hF_q_w_43 rfl) q2075 q3387 (h_declC X q2077 q2078) (h_selP X hR qs18 q2076 (by decide) (hasC.of hF_q_w_43 rfl)) q2077 q162 q2078 ⟨by decide, by decide⟩ hl.1 (Nat.le_of_ble_eq_true rfl) dX11_advance_106 ⟨by omega, by omega⟩) hL (fun z_45 w_46 hp_47 H locs hR hL => ?_)
              obtain ⟨hS__48, hO__49, u_50⟩ := hp_47
              have hF_bf_w_46 : w_46 bf = some (rb, iE G 1 800 fb) := u_50.1 _ _ _ hF_bf_w_43 (by first | exact id | exact fun q_ => absurd q_ (by first | assumption | exact Ne9.p (by assumption)) | exact fun q_ => absurd (Nat.succ.inj q_) (by first | assumption | exact Ne9.p (by assumption)) | exact fun q_ => absurd q_.symm (Nat.succ_ne_zero _) | exact fun q_ => absurd (Nat.succ.inj q_).symm (by first | assumption | exact Ne9.p (by assumption)) | (intro q_; (try dsimp only at q_); rcases q_ with q_ | q_ | q_ | q_ | q_ <;> first | exact absurd q_ (by first | assumption | exact Ne9.p (by assumption)) | exact absurd (Nat.succ.inj q_) (by first | assumption | exact Ne9.p (by assumption)) | exact absurd q_.symm (Nat.succ_ne_zero _) | exact absurd (Nat.succ.inj q_).symm (by first | assumption | exact Ne9.p (by assumption))) | (intro q_; (try dsimp only at q_); rcases q_ with q_ | q_ | q_ | q_ <;> first | exact absurd q_ (by first | assumption | exact Ne9.p (by assumption)) | exact absurd (Nat.succ.inj q_) (by first | assumption | exact Ne9.p (by assumption)) | exact absurd q_.symm (Nat.succ_ne_zero _) | exact absurd (Nat.succ.inj q_).symm (by first | assumption | exact Ne9.p (by assumption))) | (intro q_; (try dsimp only at q_); rcases q_ with q_ | q_ <;> first | exact absurd q_ (by first | assumption | exact Ne9.p (by assumption)) | exact absurd (Nat.succ.inj q_) (by first | assumption | exact Ne9.p (by assumption)) | exact absurd q_.symm (Nat.succ_ne_zero _) | exact absurd (Nat.succ.inj q_).symm (by first | assumption | exact Ne9.p (by assumption))) | (intro q_; (try dsimp only at q_); omega))
              have hP_gC_G_12_w_46 := hP_gC_G_12_w_43.mv (u_50.1) (by first | exact id | exact fun q_ => absurd q_ (by first | assumption | exact Ne9.p (by assumption)) | exact fun q_ => absurd (Nat.succ.inj q_) (by first | assumption | exact Ne9.p (by assumption)) | exact fun q_ => absurd q_.symm (Nat.succ_ne_zero _) | exact fun q_ => absurd (Nat.succ.inj q_).symm (by first | assumption | exact Ne9.p (by assumption)) | (intro q_; (try dsimp only at q_); rcases q_ with q_ | q_ | q_ | q_ | q_ <;> first | exact absurd q_ (by first | assumption | exact Ne9.p (by assumption)) | exact absurd (Nat.succ.inj q_) (by first | assumption | exact Ne9.p (by assumption)) | exact absurd q_.symm (Nat.succ_ne_zero _) | exact absurd (Nat.succ.inj q_).symm (by first | assumption | exact Ne9.p (by assumption))) | (intro q_; (try dsimp only at q_); rcases q_ with q_ | q_ | q_ | q_ <;> first | exact absurd q_ (by first | assumption | exact Ne9.p (by assumption)) | exact absurd (Nat.succ.inj q_) (by first | assumption | exact Ne9.p (by assumption)) | exact absurd q_.symm (Nat.succ_ne_zero _) | exact absurd (Nat.succ.inj q_).symm (by first | assumption | exact Ne9.p (by assumption))) | (intro q_; (try dsimp only at q_); rcases q_ with q_ | q_ <;> first | exact absurd q_ (by first | assumption | exact Ne9.p (by assumption)) | exact absurd (Nat.succ.inj q_) (by first | assumption | exact Ne9.p (by assumption)) | exact absurd q_.symm (Nat.succ_ne_zero _) | exact absurd (Nat.succ.inj q_).symm (by first | assumption | exact Ne9.p (by assumption))) | (intro q_; (try dsimp only at q_); omega))
              have hU : Up (fun q_ => q_ = q + 1) w w_46 := hU.tr u_50 (fun q_ h_ => by first | exact absurd h_ id | exact Or.inl h_ | exact Or.inr (up_nw h_ (by assumption)) | exact Or.inl (Or.inl h_) | exact Or.inl (Or.inr h_) | exact Or.inl (Or.inr (Or.inl h_)) | exact Or.inl (Or.inr (Or.inr h_)) | exact Or.inl (Or.inr (Or.inr (Or.inl h_))) | exact Or.inl (Or.inr (Or.inr (Or.inr h_))) | exact Or.inl (h_.elim Or.inl (fun h_ => Or.inr (Or.inl h_))) | ((try dsimp only at h_); first | exact Or.inl (by omega) | exact Or.inr ⟨by omega, by subst h_; rw [Nat.add_sub_cancel]; assumption⟩)) hG
              refine h_put X hR hL hO__49 (Nat.succ_ne_zero _) rfl in_X12 tyX12_ok nmX12 6 (by decide) q2100 rfl rfl rfl (Nat.le_of_ble_eq_true rfl) dX11_advance_109 (fun w_51 ew_52 H locs hR hL => ?_)
              have hU : Up (fun q_ => q_ = q + 1) w w_51 := by rw [ew_52]; exact hU.set hO__49 (by first | exact Or.inl rfl | exact Or.inl (Or.inl rfl) | exact Or.inl (Or.inr rfl) | exact Or.inl (Or.inr (Or.inl rfl)) | exact Or.inl (Or.inr (Or.inr rfl)) | exact Or.inr ⟨Nat.succ_ne_zero _, by rw [Nat.add_sub_cancel]; assumption⟩ | exact Or.inr ⟨by omega, by assumption⟩) hG _
              have hF_q_w_51 : w_51 q = some (q + 1, oE 9 [.ref bf, .int (iI ((T.length : Int))), .int (iI (((k : Nat) : Int))), .int (iI (((ltE T ((k)) : Nat) : Int))), .int (iI (va)), .int (iI (1)), .ref z_45]) := by rw [ew_52]; exact wset_eq _ _ _
              have hF_bf_w_51 : w_51 bf = some (rb, iE G 1 800 fb) := by rw [ew_52]; exact (wset_ne _ (by first | exact Ne9.p ne_bf_q | exact Ne.symm (Ne9.p ne_q_bf) | exact ne_bf_q | exact Ne.symm ne_q_bf | exact w_ne hF_bf_w_46 hO__49 (by intro h; cases h) | exact w_neR hF_bf_w_46 hO__49 (by first | exact fun q_ => absurd (Nat.succ.inj q_) (by first | assumption | exact Ne9.p (by assumption)) | exact fun q_ => absurd (Nat.succ.inj q_).symm (by first | assumption | exact Ne9.p (by assumption)) | exact Nat.succ_ne_zero _ | exact (Nat.succ_ne_zero _).symm | omega))).trans hF_bf_w_46
              have hP_gC_G_12_w_51 := hP_gC_G_12_w_46.mv (w1 := w_51) (S := fun q_ => q_ = q + 1) (by rw [ew_52]; exact Fr.one hO__49 _) (by first | exact id | exact fun q_ => absurd q_ (by first | assumption | exact Ne9.p (by assumption)) | exact fun q_ => absurd (Nat.succ.inj q_) (by first | assumption | exact Ne9.p (by assumption)) | exact fun q_ => absurd q_.symm (Nat.succ_ne_zero _) | exact fun q_ => absurd (Nat.succ.inj q_).symm (by first | assumption | exact Ne9.p (by assumption)) | (intro q_; (try dsimp only at q_); rcases q_ with q_ | q_ | q_ | q_ | q_ <;> first | exact absurd q_ (by first | assumption | exact Ne9.p (by assumption)) | exact absurd (Nat.succ.inj q_) (by first | assumption | exact Ne9.p (by assumption)) | exact absurd q_.symm (Nat.succ_ne_zero _) | exact absurd (Nat.succ.inj q_).symm (by first | assumption | exact Ne9.p (by assumption))) | (intro q_; (try dsimp only at q_); rcases q_ with q_ | q_ | q_ | q_ <;> first | exact absurd q_ (by first | assumption | exact Ne9.p (by assumption)) | exact absurd (Nat.succ.inj q_) (by first | assumption | exact Ne9.p (by assumption)) | exact absurd q_.symm (Nat.succ_ne_zero _) | exact absurd (Nat.succ.inj q_).symm (by first | assumption | exact Ne9.p (by assumption))) | (intro q_; (try dsimp only at q_); rcases q_ with q_ | q_ <;> first | exact absurd q_ (by first | assumption | exact Ne9.p (by assumption)) | exact absurd (Nat.succ.inj q_) (by first | assumption | exact Ne9.p (by assumption)) | exact absurd q_.symm (Nat.succ_ne_zero _) | exact absurd (Nat.succ.inj q_).symm (by first | assumption | exact Ne9.p (by assumption))) | (intro q_; (try dsimp only at q_); omega))
              have hP_z_45_w_51 := hS__48.mv (w1 := w_51) (S := fun q_ => q_ = q + 1) (by rw [ew_52]; exact Fr.one hO__49 _) (by first | exact id | exact fun q_ => absurd q_ (by first | assumption | exact Ne9.p (by assumption)) | exact fun q_ => absurd (Nat.succ.inj q_) (by first | assumption | exact Ne9.p (by assumption)) | exact fun q_ => absurd q_.symm (Nat.succ_ne_zero _) | exact fun q_ => absurd (Nat.succ.inj q_).symm (by first | assumption | exact Ne9.p (by assumption)) | (intro q_; (try dsimp only at q_); rcases q_ with q_ | q_ | q_ | q_ | q_ <;> first | exact absurd q_ (by first | assumption | exact Ne9.p (by assumption)) | exact absurd (Nat.succ.inj q_) (by first | assumption | exact Ne9.p (by assumption)) | exact absurd q_.symm (Nat.succ_ne_zero _) | exact absurd (Nat.succ.inj q_).symm (by first | assumption | exact Ne9.p (by assumption))) | (intro q_; (try dsimp only at q_); rcases q_ with q_ | q_ | q_ | q_ <;> first | exact absurd q_ (by first | assumption | exact Ne9.p (by assumption)) | exact absurd (Nat.succ.inj q_) (by first | assumption | exact Ne9.p (by assumption)) | exact absurd q_.symm (Nat.succ_ne_zero _) | exact absurd (Nat.succ.inj q_).symm (by first | assumption | exact Ne9.p (by assumption))) | (intro q_; (try dsimp only at q_); rcases q_ with q_ | q_ <;> first | exact absurd q_ (by first | assumption | exact Ne9.p (by assumption)) | exact absurd (Nat.succ.inj q_) (by first | assumption | exact Ne9.p (by assumption)) | exact absurd q_.symm (Nat.succ_ne_zero _) | exact absurd (Nat.succ.inj q_).symm (by first | assumption | exact Ne9.p (by assumption))) | (intro q_; (try dsimp only at q_); omega))
              refine lv_goto (tgt := 197) hx hb dX11_advance_112 (by decide) ?_
              have htk : tok T p = (k, ltE T k, 1, 0) := by unfold tok; rw [hsp, if_neg (by omega), if_pos c_y]
              exact h_vreturn hx hb hlk hret hR hL ⟨by rw [htk]; exact ⟨va, z_45, hF_q_w_51, by show StrAt G w_51 z_45 (if (1 : Int) = 1 then lw T k (ltE T k) else []); rw [if_pos rfl]; exact hP_z_45_w_51, hva, fun q_ => absurd (show (1 : Int) = 2 from q_) (by decide)⟩, hU⟩ (by omega) (by omega) rfl rfl dX11_advance_197
          ·
            refine lv_aload_n hx hb dX11_advance_76 rfl (lv_at hl 0 rfl) ?_
            refine h_iconst hx hb dX11_advance_77 ?_
            refine h_put X hR hL hF_q_w_17 (Nat.succ_ne_zero _) rfl in_X12 tyX12_ok nmX12 5 (by decide) q2099 rfl rfl rfl (Nat.le_of_ble_eq_true rfl) dX11_advance_78 (fun w_53 ew_54 H locs hR hL => ?_)
            have hU : Up (fun q_ => q_ = q + 1) w w_53 := by rw [ew_54]; exact hU.set hF_q_w_17 (by first | exact Or.inl rfl | exact Or.inl (Or.inl rfl) | exact Or.inl (Or.inr rfl) | exact Or.inl (Or.inr (Or.inl rfl)) | exact Or.inl (Or.inr (Or.inr rfl)) | exact Or.inr ⟨Nat.succ_ne_zero _, by rw [Nat.add_sub_cancel]; assumption⟩ | exact Or.inr ⟨by omega, by assumption⟩) hG _
            have hF_q_w_53 : w_53 q = some (q + 1, oE 9 [.ref bf, .int (iI ((T.length : Int))), .int (iI (((k : Nat) : Int))), .int (iI (((k : Nat) : Int))), .int (iI (va)), .int (iI (0)), .ref (gC G 12)]) := by rw [ew_54]; exact wset_eq _ _ _
            have hF_bf_w_53 : w_53 bf = some (rb, iE G 1 800 fb) := by rw [ew_54]; exact (wset_ne _ (by first | exact Ne9.p ne_bf_q | exact Ne.symm (Ne9.p ne_q_bf) | exact ne_bf_q | exact Ne.symm ne_q_bf | exact w_ne hF_bf_w_17 hF_q_w_17 (by intro h; cases h) | exact w_neR hF_bf_w_17 hF_q_w_17 (by first | exact fun q_ => absurd (Nat.succ.inj q_) (by first | assumption | exact Ne9.p (by assumption)) | exact fun q_ => absurd (Nat.succ.inj q_).symm (by first | assumption | exact Ne9.p (by assumption)) | exact Nat.succ_ne_zero _ | exact (Nat.succ_ne_zero _).symm | omega))).trans hF_bf_w_17
            have hP_gC_G_12_w_53 := hP_gC_G_12_w_17.mv (w1 := w_53) (S := fun q_ => q_ = q + 1) (by rw [ew_54]; exact Fr.one hF_q_w_17 _) (by first | exact id | exact fun q_ => absurd q_ (by first | assumption | exact Ne9.p (by assumption)) | exact fun q_ => absurd (Nat.succ.inj q_) (by first | assumption | exact Ne9.p (by assumption)) | exact fun q_ => absurd q_.symm (Nat.succ_ne_zero _) | exact fun q_ => absurd (Nat.succ.inj q_).symm (by first | assumption | exact Ne9.p (by assumption)) | (intro q_; (try dsimp only at q_); rcases q_ with q_ | q_ | q_ | q_ | q_ <;> first | exact absurd q_ (by first | assumption | exact Ne9.p (by assumption)) | exact absurd (Nat.succ.inj q_) (by first | assumption | exact Ne9.p (by assumption)) | exact absurd q_.symm (Nat.succ_ne_zero _) | exact absurd (Nat.succ.inj q_).symm (by first | assumption | exact Ne9.p (by assumption))) | (intro q_; (try dsimp only at q_); rcases q_ with q_ | q_ | q_ | q_ <;> first | exact absurd q_ (by first | assumption | exact Ne9.p (by assumption)) | exact absurd (Nat.succ.inj q_) (by first | assumption | exact Ne9.p (by assumption)) | exact absurd q_.symm (Nat.succ_ne_zero _) | exact absurd (Nat.succ.inj q_).symm (by first | assumption | exact Ne9.p (by assumption))) | (intro q_; (try dsimp only at q_); rcases q_ with q_ | q_ <;> first | exact absurd q_ (by first | assumption | exact Ne9.p (by assumption)) | exact absurd (Nat.succ.inj q_) (by first | assumption | exact Ne9.p (by assumption)) | exact absurd q_.symm (Nat.succ_ne_zero _) | exact absurd (Nat.succ.inj q_).symm (by first | assumption | exact Ne9.p (by assumption))) | (intro q_; (try dsimp only at q_); omega))
            refine lv_goto (tgt := 197) hx hb dX11_advance_81 (by decide) ?_
            have htk : tok T p = (k, k, 0, 0) := by unfold tok; rw [hsp, if_pos (by omega)]
            exact h_vreturn hx hb hlk hret hR hL ⟨by rw [htk]; exact ⟨va, gC G 12, hF_q_w_53, by show StrAt G w_53 (gC G 12) (if (0 : Int) = 1 then _ else []); rw [if_neg (by decide)]; exact hP_gC_G_12_w_53, hva, fun q_ => absurd (show (0 : Int) = 2 from q_) (by decide)⟩, hU⟩ (by omega) (by omega) rfl rfl dX11_advance_197
        ·
          have c_t1 := b2i_n1.mp c_t
          have c_go := skp_go (T := T) (k := k) (by omega)
          refine lv_aload_n hx hb dX11_advance_38 rfl (lv_at hl 0 rfl) ?_
          refine lv_dup hx hb dX11_advance_39 rfl ?_
          refine h_get X hR hI_q_w_3 rfl in_X12 2 (by decide) q2092 rfl dX11_advance_40 ?_
          refine h_iconst hx hb dX11_advance_43 ?_
          refine h_iadd hx hb dX11_advance_44 ?_
          refine h_put X hR hL hI_q_w_3 (Nat.succ_ne_zero _) rfl in_X12 tyX12_ok nmX12 2 (by decide) q2092 rfl rfl rfl (Nat.le_of_ble_eq_true rfl) dX11_advance_45 (fun w_55 ew_56 H locs hR hL => ?_)
          have hU : Up (fun q_ => q_ = q + 1) w w_55 := by rw [ew_56]; exact hU.set hI_q_w_3 (by first | exact Or.inl rfl | exact Or.inl (Or.inl rfl) | exact Or.inl (Or.inr rfl) | exact Or.inl (Or.inr (Or.inl rfl)) | exact Or.inl (Or.inr (Or.inr rfl)) | exact Or.inr ⟨Nat.succ_ne_zero _, by rw [Nat.add_sub_cancel]; assumption⟩ | exact Or.inr ⟨by omega, by assumption⟩) hG _
          have hF_q_w_55 : w_55 q = some (q + 1, oE 9 [.ref bf, .int (iI ((T.length : Int))), .int (iI (((k : Nat) : Int) + 1)), .int (iI ((p : Int))), .int (iI (va)), .int (iI (z3)), wv]) := by rw [ew_56]; exact wset_eq _ _ _
          have hF_bf_w_55 : w_55 bf = some (rb, iE G 1 800 fb) := by rw [ew_56]; exact (wset_ne _ (by first | exact Ne9.p ne_bf_q | exact Ne.symm (Ne9.p ne_q_bf) | exact ne_bf_q | exact Ne.symm ne_q_bf | exact w_ne hI_bf_w_3 hI_q_w_3 (by intro h; cases h) | exact w_neR hI_bf_w_3 hI_q_w_3 (by first | exact fun q_ => absurd (Nat.succ.inj q_) (by first | assumption | exact Ne9.p (by assumption)) | exact fun q_ => absurd (Nat.succ.inj q_).symm (by first | assumption | exact Ne9.p (by assumption)) | exact Nat.succ_ne_zero _ | exact (Nat.succ_ne_zero _).symm | omega))).trans hI_bf_w_3
          refine lv_goto (tgt := 8) hx hb dX11_advance_48 (by decide) ?_
          exact ih_4 (k + 1) w_55 (by have := c_go.2; omega) (by rw [← hsk]; exact c_go.1.symm) hF_bf_w_55 hF_q_w_55 hU (by omega) _ _ _ hR hL (lv_sub hl [0] rfl)
  exact LOOP_4 _ p w_1 ⟨Nat.le_refl _, hp⟩ rfl hF_bf_w_1 hF_q_w_1 hU (Nat.lt_succ_self _) _ _ _ hR hL (lv_sub hl [0] rfl)

theorem sc_advTr (l : Launch) (G : Gl) (w : Wd) (q : Nat) (bf rb : Nat) (T : List Int) (s : Sc) (hK : TkAt G w 9 [] q bf T s) (hB : BufAt G w bf rb T) (hp : scA s ≤ T.length) (hqb : rb ≠ q + 1) (hG : RegW w) : HM l yX11_advance cX11_advance 1 none 9 4 33 G [.ref q] w (QV G (fun w_ => TkAt G w_ 9 [] q bf T (tok T (scA s)) ∧ Up (fun q_ => q_ = q + 1) w w_)) := by
  obtain ⟨va, wa, h1, -, h3, -⟩ := hK
  exact sc_advr l G w q bf rb T _ va _ _ (scA s) h1 hB h3 hp hqb hG

set_option maxHeartbeats 4000000 in
set_option maxRecDepth 100000 in
/-- SpokenMarks$Scanner.advance -/
theorem sc_advs (l : Launch) (G : Gl) (w : Wd) (q : Nat) (ol ca : Value) (bf rb : Nat) (T : List Int) (z1 va z3 : Int) (wv : Value) (p : Nat) (hA : w q = some (q + 1, oE 10 [.ref bf, .int (iI ((T.length : Int))), .int (iI (z1)), .int (iI ((p : Int))), .int (iI (va)), .int (iI (z3)), wv, ol, ca])) (hB : BufAt G w bf rb T) (hva : R32 va) (hp : p ≤ T.length) (hqb : rb ≠ q + 1) (hG : RegW w) : HM l yX11_advance cX11_advance 1 none 9 4 33 G [.ref q] w (QV G (fun w_ => TkAt G w_ 10 [ol, ca] q bf T (tok T p) ∧ Up (fun q_ => q_ = q + 1) w w_)) := by
  refine HM.mk (by decide +kernel) (Nat.le_of_ble_eq_true rfl) ?_
  intro p9 e9 s9 m9 a9 b9 meth9 c9 ls X hret hlk hnm hl H hR
  have hx := X.1.1
  have hb := X.1.2.1
  have hl : lv_has ls 1 [(0, .ref q)] := hl
  have hL : LK G [] := fun q h => absurd h List.not_mem_nil
  generalize ([] : List Loc) = locs at hL ⊢
  have hU : Up (fun q_ => q_ = q + 1) w w := Up.rf hG
  have hB0 := hB
  obtain ⟨fb, hB1, hTW, hfb⟩ := hB
  have hTl := hTW.1
  refine lv_aload_n hx hb dX11_advance_0 rfl (lv_at hl 0 rfl) ?_
  refine lv_aload_n hx hb dX11_advance_1 rfl (lv_at hl 0 rfl) ?_
  refine h_get X hR hA rfl in_X22 3 (by decide) q2093 rfl dX11_advance_2 ?_
  refine h_put X hR hL hA (Nat.succ_ne_zero _) rfl in_X22 tyX22_ok nmX22 2 (by decide) q2092 rfl rfl rfl (Nat.le_of_ble_eq_true rfl) dX11_advance_5 (fun w_1 ew_2 H locs hR hL => ?_)
  have hU : Up (fun q_ => q_ = q + 1) w w_1 := by rw [ew_2]; exact hU.set hA (by first | exact Or.inl rfl | exact Or.inl (Or.inl rfl) | exact Or.inl (Or.inr rfl) | exact Or.inl (Or.inr (Or.inl rfl)) | exact Or.inl (Or.inr (Or.inr rfl)) | exact Or.inr ⟨Nat.succ_ne_zero _, by rw [Nat.add_sub_cancel]; assumption⟩ | exact Or.inr ⟨by omega, by assumption⟩) hG _
  have hF_q_w_1 : w_1 q = some (q + 1, oE 10 [.ref bf, .int (iI ((T.length : Int))), .int (iI ((p : Int))), .int (iI ((p : Int))), .int (iI (va)), .int (iI (z3)), wv, ol, ca]) := by rw [ew_2]; exact wset_eq _ _ _
  have hF_bf_w_1 : w_1 bf = some (rb, iE G 1 800 fb) := by rw [ew_2]; exact (wset_ne _ (by first | exact Ne9.p ne_bf_q | exact Ne.symm (Ne9.p ne_q_bf) | exact ne_bf_q | exact Ne.symm ne_q_bf | exact w_ne hB1 hA (by intro h; cases h) | exact w_neR hB1 hA (by first | exact fun q_ => absurd (Nat.succ.inj q_) (by first | assumption | exact Ne9.p (by assumption)) | exact fun q_ => absurd (Nat.succ.inj q_).symm (by first | assumption | exact Ne9.p (by assumption)) | exact Nat.succ_ne_zero _ | exact (Nat.succ_ne_zero _).symm | omega))).trans hB1
  have LOOP_4 : ∀ (N_ : Nat) (k : Nat)(w_3 : Wd) , (p ≤ k ∧ k ≤ T.length) → (skp T k = skp T p) → (w_3 bf = some (rb, iE G 1 800 fb)) → (w_3 q = some (q + 1, oE 10 [.ref bf, .int (iI ((T.length : Int))), .int (iI (((k : Nat) : Int))), .int (iI ((p : Int))), .int (iI (va)), .int (iI (z3)), wv, ol, ca])) → (Up (fun q_ => q_ = q + 1) w w_3) → (T.length - k) < N_ → ∀ (H : Heap) (locs : List Loc) (ls : Array Slot), Rp G w_3 H → LK G locs → lv_has ls 1 [(0, .ref q)] → W p9 l e9 (rmk 9 4 33) s9 m9 a9 b9 meth9 c9 H locs 0 0 (MQ b9 (QV G (fun w_ => TkAt G w_ 10 [ol, ca] q bf T (tok T p) ∧ Up (fun q_ => q_ = q + 1) w w_)) a9 s9 4 33 (frG G)) (F0 m9 8 ls []) := by
    intro N_
    induction N_ with
    | zero => intro _ _ _ _ _ _ _ h_; exact absurd h_ (Nat.not_lt_zero _)
    | succ N_ ih_ =>
      intro k w_3 hk hsk hI_bf_w_3 hI_q_w_3 hU hN_ H locs ls hR hL hl
      have ih_4 := ih_
      clear ih_
      refine lv_aload_n hx hb dX11_advance_8 rfl (lv_at hl 0 rfl) ?_
      refine lv_aload_n hx hb dX11_advance_9 rfl (lv_at hl 0 rfl) ?_
      refine h_get X hR hI_q_w_3 rfl in_X22 2 (by decide) q2092 rfl dX11_advance_10 ?_
      refine h_bipush hx hb dX11_advance_13 (by decide) ?_
      refine h_bipush hx hb dX11_advance_15 (by decide) ?_
      -- call SpokenMarks$Scanner.isBetween
      refine h_kIp (h_runU (x := ⟨"SpokenMarks$Scanner", "isBetween", "(III)Z"⟩) (owner := "SpokenMarks$Scanner") X hR (sc_isBs l G w_3 q ol ca bf rb T (((k : Nat) : Int)) ((p : Int)) va z3 wv hI_q_w_3 ⟨fb, hI_bf_w_3, hTW, hfb⟩ ((k)) 32 32 (by decide) (by omega)) (by decide) pn_yX11_isBetween (hasC.of hI_q_w_3 rfl) q2070 q3386 (h_declC X q2072 q2074) (h_selP X hR qs17 q2071 (by decide) (hasC.of hI_q_w_3 rfl)) q2072 q162 q2074 ⟨by decide, by decide⟩ hl.1 (Nat.le_of_ble_eq_true rfl) dX11_advance_17 ⟨by omega, by omega⟩) hL (fun H locs hR hL => ?_)
      refine h_if_ne hx hb 38 dX11_advance_20 (by decide) (by have := b2i_01 (32 ≤ bat T k ∧ bat T k ≤ 32); omega) (fun c_s => ?_) (fun c_s => ?_)
      ·
        have c_s1 := b2i_n1.mp c_s
        have c_go := skp_go (T := T) (k := k) (by omega)
        refine lv_aload_n hx hb dX11_advance_38 rfl (lv_at hl 0 rfl) ?_
        refine lv_dup hx hb dX11_advance_39 rfl ?_
        refine h_get X hR hI_q_w_3 rfl in_X22 2 (by decide) q2092 rfl dX11_advance_40 ?_
        refine h_iconst hx hb dX11_advance_43 ?_
        refine h_iadd hx hb dX11_advance_44 ?_
        refine h_put X hR hL hI_q_w_3 (Nat.succ_ne_zero _) rfl in_X22 tyX22_ok nmX22 2 (by decide) q2092 rfl rfl rfl (Nat.le_of_ble_eq_true rfl) dX11_advance_45 (fun w_8 ew_9 H locs hR hL => ?_)
        have hU : Up (fun q_ => q_ = q + 1) w w_8 := by rw [ew_9]; exact hU.set hI_q_w_3 (by first | exact Or.inl rfl | exact Or.inl (Or.inl rfl) | exact Or.inl (Or.inr rfl) | exact Or.inl (Or.inr (Or.inl rfl)) | exact Or.inl (Or.inr (Or.inr rfl)) | exact Or.inr ⟨Nat.succ_ne_zero _, by rw [Nat.add_sub_cancel]; assumption⟩ | exact Or.inr ⟨by omega, by assumption⟩) hG _
        have hF_q_w_8 : w_8 q = some (q + 1, oE 10 [.ref bf, .int (iI ((T.length : Int))), .int (iI (((k : Nat) : Int) + 1)), .int (iI ((p : Int))), .int (iI (va)), .int (iI (z3)), wv, ol, ca]) := by rw [ew_9]; exact wset_eq _ _ _
        have hF_bf_w_8 : w_8 bf = some (rb, iE G 1 800 fb) := by rw [ew_9]; exact (wset_ne _ (by first | exact Ne9.p ne_bf_q | exact Ne.symm (Ne9.p ne_q_bf) | exact ne_bf_q | exact Ne.symm ne_q_bf | exact w_ne hI_bf_w_3 hI_q_w_3 (by intro h; cases h) | exact w_neR hI_bf_w_3 hI_q_w_3 (by first | exact fun q_ => absurd (Nat.succ.inj q_) (by first | assumption | exact Ne9.p (by assumption)) | exact fun q_ => absurd (Nat.succ.inj q_).symm (by first | assumption | exact Ne9.p (by assumption)) | exact Nat.succ_ne_zero _ | exact (Nat.succ_ne_zero _).symm | omega))).trans hI_bf_w_3
        refine lv_goto (tgt := 8) hx hb dX11_advance_48 (by decide) ?_
        exact ih_4 (k + 1) w_8 (by have := c_go.2; omega) (by rw [← hsk]; exact c_go.1.symm) hF_bf_w_8 hF_q_w_8 hU (by omega) _ _ _ hR hL (lv_sub hl [0] rfl)
      ·
        have c_s0 := b2i_0.mp c_s
        refine lv_aload_n hx hb dX11_advance_23 rfl (lv_at hl 0 rfl) ?_
        refine lv_aload_n hx hb dX11_advance_24 rfl (lv_at hl 0 rfl) ?_
        refine h_get X hR hI_q_w_3 rfl in_X22 2 (by decide) q2092 rfl dX11_advance_25 ?_
        refine h_bipush hx hb dX11_advance_28 (by decide) ?_
        refine h_bipush hx hb dX11_advance_30 (by decide) ?_
        -- call SpokenMarks$Scanner.isBetween
        refine h_kIp (h_runU (x := ⟨"SpokenMarks$Scanner", "isBetween", "(III)Z"⟩) (owner := "SpokenMarks$Scanner") X hR (sc_isBs l G w_3 q ol ca bf rb T (((k : Nat) : Int)) ((p : Int)) va z3 wv hI_q_w_3 ⟨fb, hI_bf_w_3, hTW, hfb⟩ ((k)) 10 10 (by decide) (by omega)) (by decide) pn_yX11_isBetween (hasC.of hI_q_w_3 rfl) q2070 q3386 (h_declC X q2072 q2074) (h_selP X hR qs17 q2071 (by decide) (hasC.of hI_q_w_3 rfl)) q2072 q162 q2074 ⟨by decide, by decide⟩ hl.1 (Nat.le_of_ble_eq_true rfl) dX11_advance_32 ⟨by omega, by omega⟩) hL (fun H locs hR hL => ?_)
        refine h_if_eq hx hb 51 dX11_advance_35 (by decide) (by have := b2i_01 (10 ≤ bat T k ∧ bat T k ≤ 10); omega) (fun c_t => ?_) (fun c_t => ?_)
        ·
          have c_t0 := b2i_0.mp c_t
          have hsp : skp T p = k := hsk.symm.trans (skp_no (by omega))
          refine lv_aload_n hx hb dX11_advance_51 rfl (lv_at hl 0 rfl) ?_
          refine lv_aload_n hx hb dX11_advance_52 rfl (lv_at hl 0 rfl) ?_
          refine h_get X hR hI_q_w_3 rfl in_X22 2 (by decide) q2092 rfl dX11_advance_53 ?_
          refine h_put X hR hL hI_q_w_3 (Nat.succ_ne_zero _) rfl in_X22 tyX22_ok nmX22 3 (by decide) q2093 rfl rfl rfl (Nat.le_of_ble_eq_true rfl) dX11_advance_56 (fun w_14 ew_15 H locs hR hL => ?_)
          have hU : Up (fun q_ => q_ = q + 1) w w_14 := by rw [ew_15]; exact hU.set hI_q_w_3 (by first | exact Or.inl rfl | exact Or.inl (Or.inl rfl) | exact Or.inl (Or.inr rfl) | exact Or.inl (Or.inr (Or.inl rfl)) | exact Or.inl (Or.inr (Or.inr rfl)) | exact Or.inr ⟨Nat.succ_ne_zero _, by rw [Nat.add_sub_cancel]; assumption⟩ | exact Or.inr ⟨by omega, by assumption⟩) hG _
          have hF_q_w_14 : w_14 q = some (q + 1, oE 10 [.ref bf, .int (iI ((T.length : Int))), .int (iI (((k : Nat) : Int))), .int (iI (((k : Nat) : Int))), .int (iI (va)), .int (iI (z3)), wv, ol, ca]) := by rw [ew_15]; exact wset_eq _ _ _
          have hF_bf_w_14 : w_14 bf = some (rb, iE G 1 800 fb) := by rw [ew_15]; exact (wset_ne _ (by first | exact Ne9.p ne_bf_q | exact Ne.symm (Ne9.p ne_q_bf) | exact ne_bf_q | exact Ne.symm ne_q_bf | exact w_ne hI_bf_w_3 hI_q_w_3 (by intro h; cases h) | exact w_neR hI_bf_w_3 hI_q_w_3 (by first | exact fun q_ => absurd (Nat.succ.inj q_) (by first | assumption | exact Ne9.p (by assumption)) | exact fun q_ => absurd (Nat.succ.inj q_).symm (by first | assumption | exact Ne9.p (by assumption)) | exact Nat.succ_ne_zero _ | exact (Nat.succ_ne_zero _).symm | omega))).trans hI_bf_w_3
          refine lv_aload_n hx hb dX11_advance_59 rfl (lv_at hl 0 rfl) ?_
          refine h_ldcS X 12 rfl q2062 dX11_advance_60 ?_
          have hcn_16 : StrAt G w_14 (gC G 12) [] := StrAt.con hR X.2 12 (by decide) (by decide) (by decide +kernel)
          refine h_put X hR hL hF_q_w_14 (Nat.succ_ne_zero _) rfl in_X22 tyX22_ok nmX22 6 (by decide) q2100 rfl rfl rfl (Nat.le_of_ble_eq_true rfl) dX11_advance_62 (fun w_17 ew_18 H locs hR hL => ?_)
          have hU : Up (fun q_ => q_ = q + 1) w w_17 := by rw [ew_18]; exact hU.set hF_q_w_14 (by first | exact Or.inl rfl | exact Or.inl (Or.inl rfl) | exact Or.inl (Or.inr rfl) | exact Or.inl (Or.inr (Or.inl rfl)) | exact Or.inl (Or.inr (Or.inr rfl)) | exact Or.inr ⟨Nat.succ_ne_zero _, by rw [Nat.add_sub_cancel]; assumption⟩ | exact Or.inr ⟨by omega, by assumption⟩) hG _
          have hF_q_w_17 : w_17 q = some (q + 1, oE 10 [.ref bf, .int (iI ((T.length : Int))), .int (iI (((k : Nat) : Int))), .int (iI (((k : Nat) : Int))), .int (iI (va)), .int (iI (z3)), .ref (gC G 12), ol, ca]) := by rw [ew_18]; exact wset_eq _ _ _
          have hF_bf_w_17 : w_17 bf = some (rb, iE G 1 800 fb) := by rw [ew_18]; exact (wset_ne _ (by first | exact Ne9.p ne_bf_q | exact Ne.symm (Ne9.p ne_q_bf) | exact ne_bf_q | exact Ne.symm ne_q_bf | exact w_ne hF_bf_w_14 hF_q_w_14 (by intro h; cases h) | exact w_neR hF_bf_w_14 hF_q_w_14 (by first | exact fun q_ => absurd (Nat.succ.inj q_) (by first | assumption | exact Ne9.p (by assumption)) | exact fun q_ => absurd (Nat.succ.inj q_).symm (by first | assumption | exact Ne9.p (by assumption)) | exact Nat.succ_ne_zero _ | exact (Nat.succ_ne_zero _).symm | omega))).trans hF_bf_w_14
          have hP_gC_G_12_w_17 := hcn_16.mv (w1 := w_17) (S := fun q_ => q_ = q + 1) (by rw [ew_18]; exact Fr.one hF_q_w_14 _) (by first | exact id | exact fun q_ => absurd q_ (by first | assumption | exact Ne9.p (by assumption)) | exact fun q_ => absurd (Nat.succ.inj q_) (by first | assumption | exact Ne9.p (by assumption)) | exact fun q_ => absurd q_.symm (Nat.succ_ne_zero _) | exact fun q_ => absurd (Nat.succ.inj q_).symm (by first | assumption | exact Ne9.p (by assumption)) | (intro q_; (try dsimp only at q_); rcases q_ with q_ | q_ | q_ | q_ | q_ <;> first | exact absurd q_ (by first | assumption | exact Ne9.p (by assumption)) | exact absurd (Nat.succ.inj q_) (by first | assumption | exact Ne9.p (by assumption)) | exact absurd q_.symm (Nat.succ_ne_zero _) | exact absurd (Nat.succ.inj q_).symm (by first | assumption | exact Ne9.p (by assumption))) | (intro q_; (try dsimp only at q_); rcases q_ with q_ | q_ | q_ | q_ <;> first | exact absurd q_ (by first | assumption | exact Ne9.p (by assumption)) | exact absurd (Nat.succ.inj q_) (by first | assumption | exact Ne9.p (by assumption)) | exact absurd q_.symm (Nat.succ_ne_zero _) | exact absurd (Nat.succ.inj q_).symm (by first | assumption | exact Ne9.p (by assumption))) | (intro q_; (try dsimp only at q_); rcases q_ with q_ | q_ <;> first | exact absurd q_ (by first | assumption | exact Ne9.p (by assumption)) | exact absurd (Nat.succ.inj q_) (by first | assumption | exact Ne9.p (by assumption)) | exact absurd q_.symm (Nat.succ_ne_zero _) | exact absurd (Nat.succ.inj q_).symm (by first | assumption | exact Ne9.p (by assumption))) | (intro q_; (try dsimp only at q_); omega))
          refine lv_aload_n hx hb dX11_advance_65 rfl (lv_at hl 0 rfl) ?_
          refine h_get X hR hF_q_w_17 rfl in_X22 2 (by decide) q2092 rfl dX11_advance_66 ?_
          refine lv_aload_n hx hb dX11_advance_69 rfl (lv_at hl 0 rfl) ?_
          refine h_get X hR hF_q_w_17 rfl in_X22 1 (by decide) q2091 rfl dX11_advance_70 ?_
          refine h_icmp_ne hx hb 84 dX11_advance_73 (by decide) (by omega) (by omega) (fun c_e => ?_) (fun c_e => ?_)
          ·
            refine lv_aload_n hx hb dX11_advance_84 rfl (lv_at hl 0 rfl) ?_
            refine lv_aload_n hx hb dX11_advance_85 rfl (lv_at hl 0 rfl) ?_
            refine h_get X hR hF_q_w_17 rfl in_X22 2 (by decide) q2092 rfl dX11_advance_86 ?_
            refine h_bipush hx hb dX11_advance_89 (by decide) ?_
            refine h_bipush hx hb dX11_advance_91 (by decide) ?_
            -- call SpokenMarks$Scanner.isBetween
            refine h_kIp (h_runU (x := ⟨"SpokenMarks$Scanner", "isBetween", "(III)Z"⟩) (owner := "SpokenMarks$Scanner") X hR (sc_isBs l G w_17 q ol ca bf rb T (((k : Nat) : Int)) (((k : Nat) : Int)) va z3 (.ref (gC G 12)) hF_q_w_17 ⟨fb, hF_bf_w_17, hTW, hfb⟩ ((k)) 97 122 (by decide) (by omega)) (by decide) pn_yX11_isBetween (hasC.of hF_q_w_17 rfl) q2070 q3386 (h_declC X q2072 q2074) (h_selP X hR qs17 q2071 (by decide) (hasC.of hF_q_w_17 rfl)) q2072 q162 q2074 ⟨by decide, by decide⟩ hl.1 (Nat.le_of_ble_eq_true rfl) dX11_advance_93 ⟨by omega, by omega⟩) hL (fun H locs hR hL => ?_)
            refine h_if_eq hx hb 115 dX11_advance_96 (by decide) (by have := b2i_01 (97 ≤ bat T k ∧ bat T k ≤ 122); omega) (fun c_l => ?_) (fun c_l => ?_)
            ·
              have c_nl := b2i_0.mp c_l
              refine lv_aload_n hx hb dX11_advance_115 rfl (lv_at hl 0 rfl) ?_
              refine lv_aload_n hx hb dX11_advance_116 rfl (lv_at hl 0 rfl) ?_
              refine h_get X hR hF_q_w_17 rfl in_X22 2 (by decide) q2092 rfl dX11_advance_117 ?_
              refine h_bipush hx hb dX11_advance_120 (by decide) ?_
              refine h_bipush hx hb dX11_advance_122 (by decide) ?_
              -- call SpokenMarks$Scanner.isBetween
              refine h_kIp (h_runU (x := ⟨"SpokenMarks$Scanner", "isBetween", "(III)Z"⟩) (owner := "SpokenMarks$Scanner") X hR (sc_isBs l G w_17 q ol ca bf rb T (((k : Nat) : Int)) (((k : Nat) : Int)) va z3 (.ref (gC G 12)) hF_q_w_17 ⟨fb, hF_bf_w_17, hTW, hfb⟩ ((k)) 48 57 (by decide) (by omega)) (by decide) pn_yX11_isBetween (hasC.of hF_q_w_17 rfl) q2070 q3386 (h_declC X q2072 q2074) (h_selP X hR qs17 q2071 (by decide) (hasC.of hF_q_w_17 rfl)) q2072 q162 q2074 ⟨by decide, by decide⟩ hl.1 (Nat.le_of_ble_eq_true rfl) dX11_advance_124 ⟨by omega, by omega⟩) hL (fun H locs hR hL => ?_)
              refine h_if_eq hx hb 146 dX11_advance_127 (by decide) (by have := b2i_01 (48 ≤ bat T k ∧ bat T k ≤ 57); omega) (fun c_f => ?_) (fun c_f => ?_)
              ·
                have c_nf := b2i_0.mp c_f
                have hil : k < T.length := (by omega)
                have hf := hfb k hil
                have hx2 := hTW.2 k hil
                have hbt : bat T k = T.getD k 0 := if_pos hil
                have hb8 := b8_b hx2
                have hb8r := b8_r (T.getD k 0)
                refine lv_aload_n hx hb dX11_advance_146 rfl (lv_at hl 0 rfl) ?_
                refine lv_dup hx hb dX11_advance_147 rfl ?_
                refine h_get X hR hF_q_w_17 rfl in_X22 3 (by decide) q2093 rfl dX11_advance_148 ?_
                refine h_iconst hx hb dX11_advance_151 ?_
                refine h_iadd hx hb dX11_advance_152 ?_
                refine h_put X hR hL hF_q_w_17 (Nat.succ_ne_zero _) rfl in_X22 tyX22_ok nmX22 3 (by decide) q2093 rfl rfl rfl (Nat.le_of_ble_eq_true rfl) dX11_advance_153 (fun w_25 ew_26 H locs hR hL => ?_)
                have hU : Up (fun q_ => q_ = q + 1) w w_25 := by rw [ew_26]; exact hU.set hF_q_w_17 (by first | exact Or.inl rfl | exact Or.inl (Or.inl rfl) | exact Or.inl (Or.inr rfl) | exact Or.inl (Or.inr (Or.inl rfl)) | exact Or.inl (Or.inr (Or.inr rfl)) | exact Or.inr ⟨Nat.succ_ne_zero _, by rw [Nat.add_sub_cancel]; assumption⟩ | exact Or.inr ⟨by omega, by assumption⟩) hG _
                have hF_q_w_25 : w_25 q = some (q + 1, oE 10 [.ref bf, .int (iI ((T.length : Int))), .int (iI (((k : Nat) : Int))), .int (iI (((k : Nat) : Int) + 1)), .int (iI (va)), .int (iI (z3)), .ref (gC G 12), ol, ca]) := by rw [ew_26]; exact wset_eq _ _ _
                have hF_bf_w_25 : w_25 bf = some (rb, iE G 1 800 fb) := by rw [ew_26]; exact (wset_ne _ (by first | exact Ne9.p ne_bf_q | exact Ne.symm (Ne9.p ne_q_bf) | exact ne_bf_q | exact Ne.symm ne_q_bf | exact w_ne hF_bf_w_17 hF_q_w_17 (by intro h; cases h) | exact w_neR hF_bf_w_17 hF_q_w_17 (by first | exact fun q_ => absurd (Nat.succ.inj q_) (by first | assumption | exact Ne9.p (by assumption)) | exact fun q_ => absurd (Nat.succ.inj q_).symm (by first | assumption | exact Ne9.p (by assumption)) | exact Nat.succ_ne_zero _ | exact (Nat.succ_ne_zero _).symm | omega))).trans hF_bf_w_17
                have hP_gC_G_12_w_25 := hP_gC_G_12_w_17.mv (w1 := w_25) (S := fun q_ => q_ = q + 1) (by rw [ew_26]; exact Fr.one hF_q_w_17 _) (by first | exact id | exact fun q_ => absurd q_ (by first | assumption | exact Ne9.p (by assumption)) | exact fun q_ => absurd (Nat.succ.inj q_) (by first | assumption | exact Ne9.p (by assumption)) | exact fun q_ => absurd q_.symm (Nat.succ_ne_zero _) | exact fun q_ => absurd (Nat.succ.inj q_).symm (by first | assumption | exact Ne9.p (by assumption)) | (intro q_; (try dsimp only at q_); rcases q_ with q_ | q_ | q_ | q_ | q_ <;> first | exact absurd q_ (by first | assumption | exact Ne9.p (by assumption)) | exact absurd (Nat.succ.inj q_) (by first | assumption | exact Ne9.p (by assumption)) | exact absurd q_.symm (Nat.succ_ne_zero _) | exact absurd (Nat.succ.inj q_).symm (by first | assumption | exact Ne9.p (by assumption))) | (intro q_; (try dsimp only at q_); rcases q_ with q_ | q_ | q_ | q_ <;> first | exact absurd q_ (by first | assumption | exact Ne9.p (by assumption)) | exact absurd (Nat.succ.inj q_) (by first | assumption | exact Ne9.p (by assumption)) | exact absurd q_.symm (Nat.succ_ne_zero _) | exact absurd (Nat.succ.inj q_).symm (by first | assumption | exact Ne9.p (by assumption))) | (intro q_; (try dsimp only at q_); rcases q_ with q_ | q_ <;> first | exact absurd q_ (by first | assumption | exact Ne9.p (by assumption)) | exact absurd (Nat.succ.inj q_) (by first | assumption | exact Ne9.p (by assumption)) | exact absurd q_.symm (Nat.succ_ne_zero _) | exact absurd (Nat.succ.inj q_).symm (by first | assumption | exact Ne9.p (by assumption))) | (intro q_; (try dsimp only at q_); omega))
                refine lv_aload_n hx hb dX11_advance_156 rfl (lv_at hl 0 rfl) ?_
                refine lv_aload_n hx hb dX11_advance_157 rfl (lv_at hl 0 rfl) ?_
                refine h_get X hR hF_q_w_25 rfl in_X22 0 (by decide) q2090 rfl dX11_advance_158 ?_
                refine lv_aload_n hx hb dX11_advance_161 rfl (lv_at hl 0 rfl) ?_
                refine h_get X hR hF_q_w_25 rfl in_X22 2 (by decide) q2092 rfl dX11_advance_162 ?_
                refine h_bald X hR hF_bf_w_25 (by omega) (by omega) dX11_advance_165 ?_
                refine W.eq (g2 := F0 m9 166 ls [.int (iI (fb k)), .ref q]) (congrArg (fun z_ : Int => F0 m9 166 ls [.int (iI (z_)), .ref q]) (show (fb (((k : Nat) : Int)).toNat : Int) = fb k from (by rw [Int.toNat_natCast]))) ?_
                refine h_bipush hx hb dX11_advance_166 (by decide) ?_
                refine h_icmp_ne hx hb 175 dX11_advance_168 (by decide) (by omega) (by omega) (fun c_59a => ?_) (fun c_59a => ?_)
                ·
                  have c_59 : ¬ bat T k = 59 := by omega
                  refine lv_aload_n hx hb dX11_advance_175 rfl (lv_at hl 0 rfl) ?_
                  refine h_get X hR hF_q_w_25 rfl in_X22 0 (by decide) q2090 rfl dX11_advance_176 ?_
                  refine lv_aload_n hx hb dX11_advance_179 rfl (lv_at hl 0 rfl) ?_
                  refine h_get X hR hF_q_w_25 rfl in_X22 2 (by decide) q2092 rfl dX11_advance_180 ?_
                  refine h_bald X hR hF_bf_w_25 (by omega) (by omega) dX11_advance_183 ?_
                  refine W.eq (g2 := F0 m9 184 ls [.int (iI (fb k)), .ref q]) (congrArg (fun z_ : Int => F0 m9 184 ls [.int (iI (z_)), .ref q]) (show (fb (((k : Nat) : Int)).toNat : Int) = fb k from (by rw [Int.toNat_natCast]))) ?_
                  refine h_bipush hx hb dX11_advance_184 (by decide) ?_
                  refine h_icmp_ne hx hb 193 dX11_advance_186 (by decide) (by omega) (by omega) (fun c_61a => ?_) (fun c_61a => ?_)
                  ·
                    have c_61 : ¬ bat T k = 61 := by omega
                    refine h_iconst hx hb dX11_advance_193 ?_
                    refine h_put X hR hL hF_q_w_25 (Nat.succ_ne_zero _) rfl in_X22 tyX22_ok nmX22 5 (by decide) q2099 rfl rfl rfl (Nat.le_of_ble_eq_true rfl) dX11_advance_194 (fun w_27 ew_28 H locs hR hL => ?_)
                    have hU : Up (fun q_ => q_ = q + 1) w w_27 := by rw [ew_28]; exact hU.set hF_q_w_25 (by first | exact Or.inl rfl | exact Or.inl (Or.inl rfl) | exact Or.inl (Or.inr rfl) | exact Or.inl (Or.inr (Or.inl rfl)) | exact Or.inl (Or.inr (Or.inr rfl)) | exact Or.inr ⟨Nat.succ_ne_zero _, by rw [Nat.add_sub_cancel]; assumption⟩ | exact Or.inr ⟨by omega, by assumption⟩) hG _
                    have hF_q_w_27 : w_27 q = some (q + 1, oE 10 [.ref bf, .int (iI ((T.length : Int))), .int (iI (((k : Nat) : Int))), .int (iI (((k : Nat) : Int) + 1)), .int (iI (va)), .int (iI (5)), .ref (gC G 12), ol, ca]) := by rw [ew_28]; exact wset_eq _ _ _
                    have hF_bf_w_27 : w_27 bf = some (rb, iE G 1 800 fb) := by rw [ew_28]; exact (wset_ne _ (by first | exact Ne9.p ne_bf_q | exact Ne.symm (Ne9.p ne_q_bf) | exact ne_bf_q | exact Ne.symm ne_q_bf | exact w_ne hF_bf_w_25 hF_q_w_25 (by intro h; cases h) | exact w_neR hF_bf_w_25 hF_q_w_25 (by first | exact fun q_ => absurd (Nat.succ.inj q_) (by first | assumption | exact Ne9.p (by assumption)) | exact fun q_ => absurd (Nat.succ.inj q_).symm (by first | assumption | exact Ne9.p (by assumption)) | exact Nat.succ_ne_zero _ | exact (Nat.succ_ne_zero _).symm | omega))).trans hF_bf_w_25
                    have hP_gC_G_12_w_27 := hP_gC_G_12_w_25.mv (w1 := w_27) (S := fun q_ => q_ = q + 1) (by rw [ew_28]; exact Fr.one hF_q_w_25 _) (by first | exact id | exact fun q_ => absurd q_ (by first | assumption | exact Ne9.p (by assumption)) | exact fun q_ => absurd (Nat.succ.inj q_) (by first | assumption | exact Ne9.p (by assumption)) | exact fun q_ => absurd q_.symm (Nat.succ_ne_zero _) | exact fun q_ => absurd (Nat.succ.inj q_).symm (by first | assumption | exact Ne9.p (by assumption)) | (intro q_; (try dsimp only at q_); rcases q_ with q_ | q_ | q_ | q_ | q_ <;> first | exact absurd q_ (by first | assumption | exact Ne9.p (by assumption)) | exact absurd (Nat.succ.inj q_) (by first | assumption | exact Ne9.p (by assumption)) | exact absurd q_.symm (Nat.succ_ne_zero _) | exact absurd (Nat.succ.inj q_).symm (by first | assumption | exact Ne9.p (by assumption))) | (intro q_; (try dsimp only at q_); rcases q_ with q_ | q_ | q_ | q_ <;> first | exact absurd q_ (by first | assumption | exact Ne9.p (by assumption)) | exact absurd (Nat.succ.inj q_) (by first | assumption | exact Ne9.p (by assumption)) | exact absurd q_.symm (Nat.succ_ne_zero _) | exact absurd (Nat.succ.inj q_).symm (by first | assumption | exact Ne9.p (by assumption))) | (intro q_; (try dsimp only at q_); rcases q_ with q_ | q_ <;> first | exact absurd q_ (by first | assumption | exact Ne9.p (by assumption)) | exact absurd (Nat.succ.inj q_) (by first | assumption | exact Ne9.p (by assumption)) | exact absurd q_.symm (Nat.succ_ne_zero _) | exact absurd (Nat.succ.inj q_).symm (by first | assumption | exact Ne9.p (by assumption))) | (intro q_; (try dsimp only at q_); omega))
                    have htk : tok T p = (k, k + 1, 5, 0) := by unfold tok; rw [hsp, if_neg (by omega), if_neg c_nl, if_neg c_nf, if_neg c_59, if_neg c_61]
                    exact h_vreturn hx hb hlk hret hR hL ⟨by rw [htk]; exact ⟨va, gC G 12, hF_q_w_27, by show StrAt G w_27 (gC G 12) (if (5 : Int) = 1 then _ else []); rw [if_neg (by decide)]; exact hP_gC_G_12_w_27, hva, fun q_ => absurd (show (5 : Int) = 2 from q_) (by decide)⟩, hU⟩ (by omega) (by omega) rfl rfl dX11_advance_197
                  ·
                    have c_61 : bat T k = 61 := by omega
                    refine h_iconst hx hb dX11_advance_189 ?_
                    refine lv_goto (tgt := 194) hx hb dX11_advance_190 (by decide) ?_
                    refine h_put X hR hL hF_q_w_25 (Nat.succ_ne_zero _) rfl in_X22 tyX22_ok nmX22 5 (by decide) q2099 rfl rfl rfl (Nat.le_of_ble_eq_true rfl) dX11_advance_194 (fun w_29 ew_30 H locs hR hL => ?_)
                    have hU : Up (fun q_ => q_ = q + 1) w w_29 := by rw [ew_30]; exact hU.set hF_q_w_25 (by first | exact Or.inl rfl | exact Or.inl (Or.inl rfl) | exact Or.inl (Or.inr rfl) | exact Or.inl (Or.inr (Or.inl rfl)) | exact Or.inl (Or.inr (Or.inr rfl)) | exact Or.inr ⟨Nat.succ_ne_zero _, by rw [Nat.add_sub_cancel]; assumption⟩ | exact Or.inr ⟨by omega, by assumption⟩) hG _
                    have hF_q_w_29 : w_29 q = some (q + 1, oE 10 [.ref bf, .int (iI ((T.length : Int))), .int (iI (((k : Nat) : Int))), .int (iI (((k : Nat) : Int) + 1)), .int (iI (va)), .int (iI (4)), .ref (gC G 12), ol, ca]) := by rw [ew_30]; exact wset_eq _ _ _
                    have hF_bf_w_29 : w_29 bf = some (rb, iE G 1 800 fb) := by rw [ew_30]; exact (wset_ne _ (by first | exact Ne9.p ne_bf_q | exact Ne.symm (Ne9.p ne_q_bf) | exact ne_bf_q | exact Ne.symm ne_q_bf | exact w_ne hF_bf_w_25 hF_q_w_25 (by intro h; cases h) | exact w_neR hF_bf_w_25 hF_q_w_25 (by first | exact fun q_ => absurd (Nat.succ.inj q_) (by first | assumption | exact Ne9.p (by assumption)) | exact fun q_ => absurd (Nat.succ.inj q_).symm (by first | assumption | exact Ne9.p (by assumption)) | exact Nat.succ_ne_zero _ | exact (Nat.succ_ne_zero _).symm | omega))).trans hF_bf_w_25
                    have hP_gC_G_12_w_29 := hP_gC_G_12_w_25.mv (w1 := w_29) (S := fun q_ => q_ = q + 1) (by rw [ew_30]; exact Fr.one hF_q_w_25 _) (by first | exact id | exact fun q_ => absurd q_ (by first | assumption | exact Ne9.p (by assumption)) | exact fun q_ => absurd (Nat.succ.inj q_) (by first | assumption | exact Ne9.p (by assumption)) | exact fun q_ => absurd q_.symm (Nat.succ_ne_zero _) | exact fun q_ => absurd (Nat.succ.inj q_).symm (by first | assumption | exact Ne9.p (by assumption)) | (intro q_; (try dsimp only at q_); rcases q_ with q_ | q_ | q_ | q_ | q_ <;> first | exact absurd q_ (by first | assumption | exact Ne9.p (by assumption)) | exact absurd (Nat.succ.inj q_) (by first | assumption | exact Ne9.p (by assumption)) | exact absurd q_.symm (Nat.succ_ne_zero _) | exact absurd (Nat.succ.inj q_).symm (by first | assumption | exact Ne9.p (by assumption))) | (intro q_; (try dsimp only at q_); rcases q_ with q_ | q_ | q_ | q_ <;> first | exact absurd q_ (by first | assumption | exact Ne9.p (by assumption)) | exact absurd (Nat.succ.inj q_) (by first | assumption | exact Ne9.p (by assumption)) | exact absurd q_.symm (Nat.succ_ne_zero _) | exact absurd (Nat.succ.inj q_).symm (by first | assumption | exact Ne9.p (by assumption))) | (intro q_; (try dsimp only at q_); rcases q_ with q_ | q_ <;> first | exact absurd q_ (by first | assumption | exact Ne9.p (by assumption)) | exact absurd (Nat.succ.inj q_) (by first | assumption | exact Ne9.p (by assumption)) | exact absurd q_.symm (Nat.succ_ne_zero _) | exact absurd (Nat.succ.inj q_).symm (by first | assumption | exact Ne9.p (by assumption))) | (intro q_; (try dsimp only at q_); omega))
                    have htk : tok T p = (k, k + 1, 4, 0) := by unfold tok; rw [hsp, if_neg (by omega), if_neg c_nl, if_neg c_nf, if_neg c_59, if_pos c_61]
                    exact h_vreturn hx hb hlk hret hR hL ⟨by rw [htk]; exact ⟨va, gC G 12, hF_q_w_29, by show StrAt G w_29 (gC G 12) (if (4 : Int) = 1 then _ else []); rw [if_neg (by decide)]; exact hP_gC_G_12_w_29, hva, fun q_ => absurd (show (4 : Int) = 2 from q_) (by decide)⟩, hU⟩ (by omega) (by omega) rfl rfl dX11_advance_197
                ·
                  have c_59 : bat T k = 59 := by omega
                  refine h_iconst hx hb dX11_advance_171 ?_
                  refine lv_goto (tgt := 194) hx hb dX11_advance_172 (by decide) ?_
                  refine h_put X hR hL hF_q_w_25 (Nat.succ_ne_zero _) rfl in_X22 tyX22_ok nmX22 5 (by decide) q2099 rfl rfl rfl (Nat.le_of_ble_eq_true rfl) dX11_advance_194 (fun w_31 ew_32 H locs hR hL => ?_)
                  have hU : Up (fun q_ => q_ = q + 1) w w_31 := by rw [ew_32]; exact hU.set hF_q_w_25 (by first | exact Or.inl rfl | exact Or.inl (Or.inl rfl) | exact Or.inl (Or.inr rfl) | exact Or.inl (Or.inr (Or.inl rfl)) | exact Or.inl (Or.inr (Or.inr rfl)) | exact Or.inr ⟨Nat.succ_ne_zero _, by rw [Nat.add_sub_cancel]; assumption⟩ | exact Or.inr ⟨by omega, by assumption⟩) hG _
                  have hF_q_w_31 : w_31 q = some (q + 1, oE 10 [.ref bf, .int (iI ((T.length : Int))), .int (iI (((k : Nat) : Int))), .int (iI (((k : Nat) : Int) + 1)), .int (iI (va)), .int (iI (3)), .ref (gC G 12), ol, ca]) := by rw [ew_32]; exact wset_eq _ _ _
                  have hF_bf_w_31 : w_31 bf = some (rb, iE G 1 800 fb) := by rw [ew_32]; exact (wset_ne _ (by first | exact Ne9.p ne_bf_q | exact Ne.symm (Ne9.p ne_q_bf) | exact ne_bf_q | exact Ne.symm ne_q_bf | exact w_ne hF_bf_w_25 hF_q_w_25 (by intro h; cases h) | exact w_neR hF_bf_w_25 hF_q_w_25 (by first | exact fun q_ => absurd (Nat.succ.inj q_) (by first | assumption | exact Ne9.p (by assumption)) | exact fun q_ => absurd (Nat.succ.inj q_).symm (by first | assumption | exact Ne9.p (by assumption)) | exact Nat.succ_ne_zero _ | exact (Nat.succ_ne_zero _).symm | omega))).trans hF_bf_w_25
                  have hP_gC_G_12_w_31 := hP_gC_G_12_w_25.mv (w1 := w_31) (S := fun q_ => q_ = q + 1) (by rw [ew_32]; exact Fr.one hF_q_w_25 _) (by first | exact id | exact fun q_ => absurd q_ (by first | assumption | exact Ne9.p (by assumption)) | exact fun q_ => absurd (Nat.succ.inj q_) (by first | assumption | exact Ne9.p (by assumption)) | exact fun q_ => absurd q_.symm (Nat.succ_ne_zero _) | exact fun q_ => absurd (Nat.succ.inj q_).symm (by first | assumption | exact Ne9.p (by assumption)) | (intro q_; (try dsimp only at q_); rcases q_ with q_ | q_ | q_ | q_ | q_ <;> first | exact absurd q_ (by first | assumption | exact Ne9.p (by assumption)) | exact absurd (Nat.succ.inj q_) (by first | assumption | exact Ne9.p (by assumption)) | exact absurd q_.symm (Nat.succ_ne_zero _) | exact absurd (Nat.succ.inj q_).symm (by first | assumption | exact Ne9.p (by assumption))) | (intro q_; (try dsimp only at q_); rcases q_ with q_ | q_ | q_ | q_ <;> first | exact absurd q_ (by first | assumption | exact Ne9.p (by assumption)) | exact absurd (Nat.succ.inj q_) (by first | assumption | exact Ne9.p (by assumption)) | exact absurd q_.symm (Nat.succ_ne_zero _) | exact absurd (Nat.succ.inj q_).symm (by first | assumption | exact Ne9.p (by assumption))) | (intro q_; (try dsimp only at q_); rcases q_ with q_ | q_ <;> first | exact absurd q_ (by first | assumption | exact Ne9.p (by assumption)) | exact absurd (Nat.succ.inj q_) (by first | assumption | exact Ne9.p (by assumption)) | exact absurd q_.symm (Nat.succ_ne_zero _) | exact absurd (Nat.succ.inj q_).symm (by first | assumption | exact Ne9.p (by assumption))) | (intro q_; (try dsimp only at q_); omega))
                  have htk : tok T p = (k, k + 1, 3, 0) := by unfold tok; rw [hsp, if_neg (by omega), if_neg c_nl, if_neg c_nf, if_pos c_59]
                  exact h_vreturn hx hb hlk hret hR hL ⟨by rw [htk]; exact ⟨va, gC G 12, hF_q_w_31, by show StrAt G w_31 (gC G 12) (if (3 : Int) = 1 then _ else []); rw [if_neg (by decide)]; exact hP_gC_G_12_w_31, hva, fun q_ => absurd (show (3 : Int) = 2 from q_) (by decide)⟩, hU⟩ (by omega) (by omega) rfl rfl dX11_advance_197
              ·
                have c_y2 := b2i_n1.mp c_f
                refine lv_aload_n hx hb dX11_advance_130 rfl (lv_at hl 0 rfl) ?_
                refine h_iconst hx hb dX11_advance_131 ?_
                refine h_put X hR hL hF_q_w_17 (Nat.succ_ne_zero _) rfl in_X22 tyX22_ok nmX22 5 (by decide) q2099 rfl rfl rfl (Nat.le_of_ble_eq_true rfl) dX11_advance_132 (fun w_33 ew_34 H locs hR hL => ?_)
                have hU : Up (fun q_ => q_ = q + 1) w w_33 := by rw [ew_34]; exact hU.set hF_q_w_17 (by first | exact Or.inl rfl | exact Or.inl (Or.inl rfl) | exact Or.inl (Or.inr rfl) | exact Or.inl (Or.inr (Or.inl rfl)) | exact Or.inl (Or.inr (Or.inr rfl)) | exact Or.inr ⟨Nat.succ_ne_zero _, by rw [Nat.add_sub_cancel]; assumption⟩ | exact Or.inr ⟨by omega, by assumption⟩) hG _
                have hF_q_w_33 : w_33 q = some (q + 1, oE 10 [.ref bf, .int (iI ((T.length : Int))), .int (iI (((k : Nat) : Int))), .int (iI (((k : Nat) : Int))), .int (iI (va)), .int (iI (2)), .ref (gC G 12), ol, ca]) := by rw [ew_34]; exact wset_eq _ _ _
                have hF_bf_w_33 : w_33 bf = some (rb, iE G 1 800 fb) := by rw [ew_34]; exact (wset_ne _ (by first | exact Ne9.p ne_bf_q | exact Ne.symm (Ne9.p ne_q_bf) | exact ne_bf_q | exact Ne.symm ne_q_bf | exact w_ne hF_bf_w_17 hF_q_w_17 (by intro h; cases h) | exact w_neR hF_bf_w_17 hF_q_w_17 (by first | exact fun q_ => absurd (Nat.succ.inj q_) (by first | assumption | exact Ne9.p (by assumption)) | exact fun q_ => absurd (Nat.succ.inj q_).symm (by first | assumption | exact Ne9.p (by assumption)) | exact Nat.succ_ne_zero _ | exact (Nat.succ_ne_zero _).symm | omega))).trans hF_bf_w_17
                have hP_gC_G_12_w_33 := hP_gC_G_12_w_17.mv (w1 := w_33) (S := fun q_ => q_ = q + 1) (by rw [ew_34]; exact Fr.one hF_q_w_17 _) (by first | exact id | exact fun q_ => absurd q_ (by first | assumption | exact Ne9.p (by assumption)) | exact fun q_ => absurd (Nat.succ.inj q_) (by first | assumption | exact Ne9.p (by assumption)) | exact fun q_ => absurd q_.symm (Nat.succ_ne_zero _) | exact fun q_ => absurd (Nat.succ.inj q_).symm (by first | assumption | exact Ne9.p (by assumption)) | (intro q_; (try dsimp only at q_); rcases q_ with q_ | q_ | q_ | q_ | q_ <;> first | exact absurd q_ (by first | assumption | exact Ne9.p (by assumption)) | exact absurd (Nat.succ.inj q_) (by first | assumption | exact Ne9.p (by assumption)) | exact absurd q_.symm (Nat.succ_ne_zero _) | exact absurd (Nat.succ.inj q_).symm (by first | assumption | exact Ne9.p (by assumption))) | (intro q_; (try dsimp only at q_); rcases q_ with q_ | q_ | q_ | q_ <;> first | exact absurd q_ (by first | assumption | exact Ne9.p (by assumption)) | exact absurd (Nat.succ.inj q_) (by first | assumption | exact Ne9.p (by assumption)) | exact absurd q_.symm (Nat.succ_ne_zero _) | exact absurd (Nat.succ.inj q_).symm (by first | assumption | exact Ne9.p (by assumption))) | (intro q_; (try dsimp only at q_); rcases q_ with q_ | q_ <;> first | exact absurd q_ (by first | assumption | exact Ne9.p (by assumption)) | exact absurd (Nat.succ.inj q_) (by first | assumption | exact Ne9.p (by assumption)) | exact absurd q_.symm (Nat.succ_ne_zero _) | exact absurd (Nat.succ.inj q_).symm (by first | assumption | exact Ne9.p (by assumption))) | (intro q_; (try dsimp only at q_); omega))
                refine lv_aload_n hx hb dX11_advance_135 rfl (lv_at hl 0 rfl) ?_
                refine lv_aload_n hx hb dX11_advance_136 rfl (lv_at hl 0 rfl) ?_
                -- call SpokenMarks$Scanner.digits
                refine h_kI (h_runU (x := ⟨"SpokenMarks$Scanner", "digits", "()I"⟩) (owner := "SpokenMarks$Scanner") X hR (sc_digs l G w_33 q ol ca bf rb T (((k : Nat) : Int)) va 2 (.ref (gC G 12)) ((k)) hF_q_w_33 ⟨fb, hF_bf_w_33, hTW, hfb⟩ hk.2 hqb hU.2.2.1) (by decide) pn_yX11_digits (hasC.of hF_q_w_33 rfl) q2084 q3389 (h_declC X q2086 q2087) (h_selP X hR qs19 q2085 (by decide) (hasC.of hF_q_w_33 rfl)) q2086 q162 q2087 ⟨by decide, by decide⟩ hl.1 (Nat.le_of_ble_eq_true rfl) dX11_advance_137 ⟨by omega, by omega⟩) hL (fun z_35 w_36 hp_37 H locs hR hL => ?_)
                obtain ⟨⟨rfl, hzr_40⟩, hO__38, u_39⟩ := hp_37
                have hF_bf_w_36 : w_36 bf = some (rb, iE G 1 800 fb) := u_39.1 _ _ _ hF_bf_w_33 (by first | exact id | exact fun q_ => absurd q_ (by first | assumption | exact Ne9.p (by assumption)) | exact fun q_ => absurd (Nat.succ.inj q_) (by first | assumption | exact Ne9.p (by assumption)) | exact fun q_ => absurd q_.symm (Nat.succ_ne_zero _) | exact fun q_ => absurd (Nat.succ.inj q_).symm (by first | assumption | exact Ne9.p (by assumption)) | (intro q_; (try dsimp only at q_); rcases q_ with q_ | q_ | q_ | q_ | q_ <;> first | exact absurd q_ (by first | assumption | exact Ne9.p (by assumption)) | exact absurd (Nat.succ.inj q_) (by first | assumption | exact Ne9.p (by assumption)) | exact absurd q_.symm (Nat.succ_ne_zero _) | exact absurd (Nat.succ.inj q_).symm (by first | assumption | exact Ne9.p (by assumption))) | (intro q_; (try dsimp only at q_); rcases q_ with q_ | q_ | q_ | q_ <;> first | exact absurd q_ (by first | assumption | exact Ne9.p (by assumption)) | exact absurd (Nat.succ.inj q_) (by first | assumption | exact Ne9.p (by assumption)) | exact absurd q_.symm (Nat.succ_ne_zero _) | exact absurd (Nat.succ.inj q_).symm (by first | assumption | exact Ne9.p (by assumption))) | (intro q_; (try dsimp only at q_); rcases q_ with q_ | q_ <;> first | exact absurd q_ (by first | assumption | exact Ne9.p (by assumption)) | exact absurd (Nat.succ.inj q_) (by first | assumption | exact Ne9.p (by assumption)) | exact absurd q_.symm (Nat.succ_ne_zero _) | exact absurd (Nat.succ.inj q_).symm (by first | assumption | exact Ne9.p (by assumption))) | (intro q_; (try dsimp only at q_); omega))
                have hP_gC_G_12_w_36 := hP_gC_G_12_w_33.mv (u_39.1) (by first | exact id | exact fun q_ => absurd q_ (by first | assumption | exact Ne9.p (by assumption)) | exact fun q_ => absurd (Nat.succ.inj q_) (by first | assumption | exact Ne9.p (by assumption)) | exact fun q_ => absurd q_.symm (Nat.succ_ne_zero _) | exact fun q_ => absurd (Nat.succ.inj q_).symm (by first | assumption | exact Ne9.p (by assumption)) | (intro q_; (try dsimp only at q_); rcases q_ with q_ | q_ | q_ | q_ | q_ <;> first | exact absurd q_ (by first | assumption | exact Ne9.p (by assumption)) | exact absurd (Nat.succ.inj q_) (by first | assumption | exact Ne9.p (by assumption)) | exact absurd q_.symm (Nat.succ_ne_zero _) | exact absurd (Nat.succ.inj q_).symm (by first | assumption | exact Ne9.p (by assumption))) | (intro q_; (try dsimp only at q_); rcases q_ with q_ | q_ | q_ | q_ <;> first | exact absurd q_ (by first | assumption | exact Ne9.p (by assumption)) | exact absurd (Nat.succ.inj q_) (by first | assumption | exact Ne9.p (by assumption)) | exact absurd q_.symm (Nat.succ_ne_zero _) | exact absurd (Nat.succ.inj q_).symm (by first | assumption | exact Ne9.p (by assumption))) | (intro q_; (try dsimp only at q_); rcases q_ with q_ | q_ <;> first | exact absurd q_ (by first | assumption | exact Ne9.p (by assumption)) | exact absurd (Nat.succ.inj q_) (by first | assumption | exact Ne9.p (by assumption)) | exact absurd q_.symm (Nat.succ_ne_zero _) | exact absurd (Nat.succ.inj q_).symm (by first | assumption | exact Ne9.p (by assumption))) | (intro q_; (try dsimp only at q_); omega))
                have hU : Up (fun q_ => q_ = q + 1) w w_36 := hU.tr u_39 (fun q_ h_ => by first | exact absurd h_ id | exact Or.inl h_ | exact Or.inr (up_nw h_ (by assumption)) | exact Or.inl (Or.inl h_) | exact Or.inl (Or.inr h_) | exact Or.inl (Or.inr (Or.inl h_)) | exact Or.inl (Or.inr (Or.inr h_)) | exact Or.inl (Or.inr (Or.inr (Or.inl h_))) | exact Or.inl (Or.inr (Or.inr (Or.inr h_))) | exact Or.inl (h_.elim Or.inl (fun h_ => Or.inr (Or.inl h_))) | ((try dsimp only at h_); first | exact Or.inl (by omega) | exact Or.inr ⟨by omega, by subst h_; rw [Nat.add_sub_cancel]; assumption⟩)) hG
                refine h_put X hR hL hO__38 (Nat.succ_ne_zero _) rfl in_X22 tyX22_ok nmX22 4 (by decide) q2094 rfl rfl rfl (Nat.le_of_ble_eq_true rfl) dX11_advance_140 (fun w_41 ew_42 H locs hR hL => ?_)
                have hU : Up (fun q_ => q_ = q + 1) w w_41 := by rw [ew_42]; exact hU.set hO__38 (by first | exact Or.inl rfl | exact Or.inl (Or.inl rfl) | exact Or.inl (Or.inr rfl) | exact Or.inl (Or.inr (Or.inl rfl)) | exact Or.inl (Or.inr (Or.inr rfl)) | exact Or.inr ⟨Nat.succ_ne_zero _, by rw [Nat.add_sub_cancel]; assumption⟩ | exact Or.inr ⟨by omega, by assumption⟩) hG _
                have hF_q_w_41 : w_41 q = some (q + 1, oE 10 [.ref bf, .int (iI ((T.length : Int))), .int (iI (((k : Nat) : Int))), .int (iI (((fgE T ((k)) : Nat) : Int))), .int (iI (nmV T ((k)))), .int (iI (2)), .ref (gC G 12), ol, ca]) := by rw [ew_42]; exact wset_eq _ _ _
                have hF_bf_w_41 : w_41 bf = some (rb, iE G 1 800 fb) := by rw [ew_42]; exact (wset_ne _ (by first | exact Ne9.p ne_bf_q | exact Ne.symm (Ne9.p ne_q_bf) | exact ne_bf_q | exact Ne.symm ne_q_bf | exact w_ne hF_bf_w_36 hO__38 (by intro h; cases h) | exact w_neR hF_bf_w_36 hO__38 (by first | exact fun q_ => absurd (Nat.succ.inj q_) (by first | assumption | exact Ne9.p (by assumption)) | exact fun q_ => absurd (Nat.succ.inj q_).symm (by first | assumption | exact Ne9.p (by assumption)) | exact Nat.succ_ne_zero _ | exact (Nat.succ_ne_zero _).symm | omega))).trans hF_bf_w_36
                have hP_gC_G_12_w_41 := hP_gC_G_12_w_36.mv (w1 := w_41) (S := fun q_ => q_ = q + 1) (by rw [ew_42]; exact Fr.one hO__38 _) (by first | exact id | exact fun q_ => absurd q_ (by first | assumption | exact Ne9.p (by assumption)) | exact fun q_ => absurd (Nat.succ.inj q_) (by first | assumption | exact Ne9.p (by assumption)) | exact fun q_ => absurd q_.symm (Nat.succ_ne_zero _) | exact fun q_ => absurd (Nat.succ.inj q_).symm (by first | assumption | exact Ne9.p (by assumption)) | (intro q_; (try dsimp only at q_); rcases q_ with q_ | q_ | q_ | q_ | q_ <;> first | exact absurd q_ (by first | assumption | exact Ne9.p (by assumption)) | exact absurd (Nat.succ.inj q_) (by first | assumption | exact Ne9.p (by assumption)) | exact absurd q_.symm (Nat.succ_ne_zero _) | exact absurd (Nat.succ.inj q_).symm (by first | assumption | exact Ne9.p (by assumption))) | (intro q_; (try dsimp only at q_); rcases q_ with q_ | q_ | q_ | q_ <;> first | exact absurd q_ (by first | assumption | exact Ne9.p (by assumption)) | exact absurd (Nat.succ.inj q_) (by first | assumption | exact Ne9.p (by assumption)) | exact absurd q_.symm (Nat.succ_ne_zero _) | exact absurd (Nat.succ.inj q_).symm (by first | assumption | exact Ne9.p (by assumption))) | (intro q_; (try dsimp only at q_); rcases q_ with q_ | q_ <;> first | exact absurd q_ (by first | assumption | exact Ne9.p (by assumption)) | exact absurd (Nat.succ.inj q_) (by first | assumption | exact Ne9.p (by assumption)) | exact absurd q_.symm (Nat.succ_ne_zero _) | exact absurd (Nat.succ.inj q_).symm (by first | assumption | exact Ne9.p (by assumption))) | (intro q_; (try dsimp only at q_); omega))
                refine lv_goto (tgt := 197) hx hb dX11_advance_143 (by decide) ?_
                have htk : tok T p = (k, fgE T k, 2, nmV T k) := by unfold tok; rw [hsp, if_neg (by omega), if_neg c_nl, if_pos c_y2]
                exact h_vreturn hx hb hlk hret hR hL ⟨by rw [htk]; exact ⟨nmV T ((k)), gC G 12, hF_q_w_41, by show StrAt G w_41 (gC G 12) (if (2 : Int) = 1 then _ else []); rw [if_neg (by decide)]; exact hP_gC_G_12_w_41, ⟨by omega, by omega⟩, fun _ => rfl⟩, hU⟩ (by omega) (by omega) rfl rfl dX11_advance_197
            ·
              have c_y := b2i_n1.mp c_l
              refine lv_aload_n hx hb dX11_advance_99 rfl (lv_at hl 0 rfl) ?_
              refine h_iconst hx hb dX11_advance_100 ?_
              refine h_put X hR hL hF_q_w_17 (Nat.succ_ne_zero _) rfl in_X22 tyX22_ok nmX22 5 (by decide) q2099 rfl rfl rfl (Nat.le_of_ble_eq_true rfl) dX11_advance_101 (fun w_43 ew_44 H locs hR hL => ?_)
              have hU : Up (fun q_ => q_ = q + 1) w w_43 := by rw [ew_44]; exact hU.set hF_q_w_17 (by first | exact Or.inl rfl | exact Or.inl (Or.inl rfl) | exact Or.inl (Or.inr rfl) | exact Or.inl (Or.inr (Or.inl rfl)) | exact Or.inl (Or.inr (Or.inr rfl)) | exact Or.inr ⟨Nat.succ_ne_zero _, by rw [Nat.add_sub_cancel]; assumption⟩ | exact Or.inr ⟨by omega, by assumption⟩) hG _
              have hF_q_w_43 : w_43 q = some (q + 1, oE 10 [.ref bf, .int (iI ((T.length : Int))), .int (iI (((k : Nat) : Int))), .int (iI (((k : Nat) : Int))), .int (iI (va)), .int (iI (1)), .ref (gC G 12), ol, ca]) := by rw [ew_44]; exact wset_eq _ _ _
              have hF_bf_w_43 : w_43 bf = some (rb, iE G 1 800 fb) := by rw [ew_44]; exact (wset_ne _ (by first | exact Ne9.p ne_bf_q | exact Ne.symm (Ne9.p ne_q_bf) | exact ne_bf_q | exact Ne.symm ne_q_bf | exact w_ne hF_bf_w_17 hF_q_w_17 (by intro h; cases h) | exact w_neR hF_bf_w_17 hF_q_w_17 (by first | exact fun q_ => absurd (Nat.succ.inj q_) (by first | assumption | exact Ne9.p (by assumption)) | exact fun q_ => absurd (Nat.succ.inj q_).symm (by first | assumption | exact Ne9.p (by assumption)) | exact Nat.succ_ne_zero _ | exact (Nat.succ_ne_zero _).symm | omega))).trans hF_bf_w_17
              have hP_gC_G_12_w_43 := hP_gC_G_12_w_17.mv (w1 := w_43) (S := fun q_ => q_ = q + 1) (by rw [ew_44]; exact Fr.one hF_q_w_17 _) (by first | exact id | exact fun q_ => absurd q_ (by first | assumption | exact Ne9.p (by assumption)) | exact fun q_ => absurd (Nat.succ.inj q_) (by first | assumption | exact Ne9.p (by assumption)) | exact fun q_ => absurd q_.symm (Nat.succ_ne_zero _) | exact fun q_ => absurd (Nat.succ.inj q_).symm (by first | assumption | exact Ne9.p (by assumption)) | (intro q_; (try dsimp only at q_); rcases q_ with q_ | q_ | q_ | q_ | q_ <;> first | exact absurd q_ (by first | assumption | exact Ne9.p (by assumption)) | exact absurd (Nat.succ.inj q_) (by first | assumption | exact Ne9.p (by assumption)) | exact absurd q_.symm (Nat.succ_ne_zero _) | exact absurd (Nat.succ.inj q_).symm (by first | assumption | exact Ne9.p (by assumption))) | (intro q_; (try dsimp only at q_); rcases q_ with q_ | q_ | q_ | q_ <;> first | exact absurd q_ (by first | assumption | exact Ne9.p (by assumption)) | exact absurd (Nat.succ.inj q_) (by first | assumption | exact Ne9.p (by assumption)) | exact absurd q_.symm (Nat.succ_ne_zero _) | exact absurd (Nat.succ.inj q_).symm (by first | assumption | exact Ne9.p (by assumption))) | (intro q_; (try dsimp only at q_); rcases q_ with q_ | q_ <;> first | exact absurd q_ (by first | assumption | exact Ne9.p (by assumption)) | exact absurd (Nat.succ.inj q_) (by first | assumption | exact Ne9.p (by assumption)) | exact absurd q_.symm (Nat.succ_ne_zero _) | exact absurd (Nat.succ.inj q_).symm (by first | assumption | exact Ne9.p (by assumption))) | (intro q_; (try dsimp only at q_); omega))
              refine lv_aload_n hx hb dX11_advance_104 rfl (lv_at hl 0 rfl) ?_
              refine lv_aload_n hx hb dX11_advance_105 rfl (lv_at hl 0 rfl) ?_
              -- call SpokenMarks$Scanner.letters
              refine h_kR (h_runU (x := ⟨"SpokenMarks$Scanner", "letters", "()Ljava/lang/String;"⟩) (owner := "SpokenMarks$Scanner") X hR (sc_lets l G w_43 q ol ca bf rb T (((k : Nat) : Int)) va 1 (.ref (gC G 12)) ((k)) hF_q_w_43 ⟨fb, hF_bf_w_43, hTW, hfb⟩ hk.2 hqb hU.2.2.1) (by decide) pn_yX11_letters (hasC.of hF_q_w_43 rfl) q2075 q3387 (h_declC X q2077 q2078) (h_selP X hR qs18 q2076 (by decide) (hasC.of hF_q_w_43 rfl)) q2077 q162 q2078 ⟨by decide, by decide⟩ hl.1 (Nat.le_of_ble_eq_true rfl) dX11_advance_106 ⟨by omega, by omega⟩) hL (fun z_45 w_46 hp_47 H locs hR hL => ?_)
              obtain ⟨hS__48, hO__49, u_50⟩ := hp_47
              have hF_bf_w_46 : w_46 bf = some (rb, iE G 1 800 fb) := u_50.1 _ _ _ hF_bf_w_43 (by first | exact id | exact fun q_ => absurd q_ (by first | assumption | exact Ne9.p (by assumption)) | exact fun q_ => absurd (Nat.succ.inj q_) (by first | assumption | exact Ne9.p (by assumption)) | exact fun q_ => absurd q_.symm (Nat.succ_ne_zero _) | exact fun q_ => absurd (Nat.succ.inj q_).symm (by first | assumption | exact Ne9.p (by assumption)) | (intro q_; (try dsimp only at q_); rcases q_ with q_ | q_ | q_ | q_ | q_ <;> first | exact absurd q_ (by first | assumption | exact Ne9.p (by assumption)) | exact absurd (Nat.succ.inj q_) (by first | assumption | exact Ne9.p (by assumption)) | exact absurd q_.symm (Nat.succ_ne_zero _) | exact absurd (Nat.succ.inj q_).symm (by first | assumption | exact Ne9.p (by assumption))) | (intro q_; (try dsimp only at q_); rcases q_ with q_ | q_ | q_ | q_ <;> first | exact absurd q_ (by first | assumption | exact Ne9.p (by assumption)) | exact absurd (Nat.succ.inj q_) (by first | assumption | exact Ne9.p (by assumption)) | exact absurd q_.symm (Nat.succ_ne_zero _) | exact absurd (Nat.succ.inj q_).symm (by first | assumption | exact Ne9.p (by assumption))) | (intro q_; (try dsimp only at q_); rcases q_ with q_ | q_ <;> first | exact absurd q_ (by first | assumption | exact Ne9.p (by assumption)) | exact absurd (Nat.succ.inj q_) (by first | assumption | exact Ne9.p (by assumption)) | exact absurd q_.symm (Nat.succ_ne_zero _) | exact absurd (Nat.succ.inj q_).symm (by first | assumption | exact Ne9.p (by assumption))) | (intro q_; (try dsimp only at q_); omega))
              have hP_gC_G_12_w_46 := hP_gC_G_12_w_43.mv (u_50.1) (by first | exact id | exact fun q_ => absurd q_ (by first | assumption | exact Ne9.p (by assumption)) | exact fun q_ => absurd (Nat.succ.inj q_) (by first | assumption | exact Ne9.p (by assumption)) | exact fun q_ => absurd q_.symm (Nat.succ_ne_zero _) | exact fun q_ => absurd (Nat.succ.inj q_).symm (by first | assumption | exact Ne9.p (by assumption)) | (intro q_; (try dsimp only at q_); rcases q_ with q_ | q_ | q_ | q_ | q_ <;> first | exact absurd q_ (by first | assumption | exact Ne9.p (by assumption)) | exact absurd (Nat.succ.inj q_) (by first | assumption | exact Ne9.p (by assumption)) | exact absurd q_.symm (Nat.succ_ne_zero _) | exact absurd (Nat.succ.inj q_).symm (by first | assumption | exact Ne9.p (by assumption))) | (intro q_; (try dsimp only at q_); rcases q_ with q_ | q_ | q_ | q_ <;> first | exact absurd q_ (by first | assumption | exact Ne9.p (by assumption)) | exact absurd (Nat.succ.inj q_) (by first | assumption | exact Ne9.p (by assumption)) | exact absurd q_.symm (Nat.succ_ne_zero _) | exact absurd (Nat.succ.inj q_).symm (by first | assumption | exact Ne9.p (by assumption))) | (intro q_; (try dsimp only at q_); rcases q_ with q_ | q_ <;> first | exact absurd q_ (by first | assumption | exact Ne9.p (by assumption)) | exact absurd (Nat.succ.inj q_) (by first | assumption | exact Ne9.p (by assumption)) | exact absurd q_.symm (Nat.succ_ne_zero _) | exact absurd (Nat.succ.inj q_).symm (by first | assumption | exact Ne9.p (by assumption))) | (intro q_; (try dsimp only at q_); omega))
              have hU : Up (fun q_ => q_ = q + 1) w w_46 := hU.tr u_50 (fun q_ h_ => by first | exact absurd h_ id | exact Or.inl h_ | exact Or.inr (up_nw h_ (by assumption)) | exact Or.inl (Or.inl h_) | exact Or.inl (Or.inr h_) | exact Or.inl (Or.inr (Or.inl h_)) | exact Or.inl (Or.inr (Or.inr h_)) | exact Or.inl (Or.inr (Or.inr (Or.inl h_))) | exact Or.inl (Or.inr (Or.inr (Or.inr h_))) | exact Or.inl (h_.elim Or.inl (fun h_ => Or.inr (Or.inl h_))) | ((try dsimp only at h_); first | exact Or.inl (by omega) | exact Or.inr ⟨by omega, by subst h_; rw [Nat.add_sub_cancel]; assumption⟩)) hG
              refine h_put X hR hL hO__49 (Nat.succ_ne_zero _) rfl in_X22 tyX22_ok nmX22 6 (by decide) q2100 rfl rfl rfl (Nat.le_of_ble_eq_true rfl) dX11_advance_109 (fun w_51 ew_52 H locs hR hL => ?_)
              have hU : Up (fun q_ => q_ = q + 1) w w_51 := by rw [ew_52]; exact hU.set hO__49 (by first | exact Or.inl rfl | exact Or.inl (Or.inl rfl) | exact Or.inl (Or.inr rfl) | exact Or.inl (Or.inr (Or.inl rfl)) | exact Or.inl (Or.inr (Or.inr rfl)) | exact Or.inr ⟨Nat.succ_ne_zero _, by rw [Nat.add_sub_cancel]; assumption⟩ | exact Or.inr ⟨by omega, by assumption⟩) hG _
              have hF_q_w_51 : w_51 q = some (q + 1, oE 10 [.ref bf, .int (iI ((T.length : Int))), .int (iI (((k : Nat) : Int))), .int (iI (((ltE T ((k)) : Nat) : Int))), .int (iI (va)), .int (iI (1)), .ref z_45, ol, ca]) := by rw [ew_52]; exact wset_eq _ _ _
              have hF_bf_w_51 : w_51 bf = some (rb, iE G 1 800 fb) := by rw [ew_52]; exact (wset_ne _ (by first | exact Ne9.p ne_bf_q | exact Ne.symm (Ne9.p ne_q_bf) | exact ne_bf_q | exact Ne.symm ne_q_bf | exact w_ne hF_bf_w_46 hO__49 (by intro h; cases h) | exact w_neR hF_bf_w_46 hO__49 (by first | exact fun q_ => absurd (Nat.succ.inj q_) (by first | assumption | exact Ne9.p (by assumption)) | exact fun q_ => absurd (Nat.succ.inj q_).symm (by first | assumption | exact Ne9.p (by assumption)) | exact Nat.succ_ne_zero _ | exact (Nat.succ_ne_zero _).symm | omega))).trans hF_bf_w_46
              have hP_gC_G_12_w_51 := hP_gC_G_12_w_46.mv (w1 := w_51) (S := fun q_ => q_ = q + 1) (by rw [ew_52]; exact Fr.one hO__49 _) (by first | exact id | exact fun q_ => absurd q_ (by first | assumption | exact Ne9.p (by assumption)) | exact fun q_ => absurd (Nat.succ.inj q_) (by first | assumption | exact Ne9.p (by assumption)) | exact fun q_ => absurd q_.symm (Nat.succ_ne_zero _) | exact fun q_ => absurd (Nat.succ.inj q_).symm (by first | assumption | exact Ne9.p (by assumption)) | (intro q_; (try dsimp only at q_); rcases q_ with q_ | q_ | q_ | q_ | q_ <;> first | exact absurd q_ (by first | assumption | exact Ne9.p (by assumption)) | exact absurd (Nat.succ.inj q_) (by first | assumption | exact Ne9.p (by assumption)) | exact absurd q_.symm (Nat.succ_ne_zero _) | exact absurd (Nat.succ.inj q_).symm (by first | assumption | exact Ne9.p (by assumption))) | (intro q_; (try dsimp only at q_); rcases q_ with q_ | q_ | q_ | q_ <;> first | exact absurd q_ (by first | assumption | exact Ne9.p (by assumption)) | exact absurd (Nat.succ.inj q_) (by first | assumption | exact Ne9.p (by assumption)) | exact absurd q_.symm (Nat.succ_ne_zero _) | exact absurd (Nat.succ.inj q_).symm (by first | assumption | exact Ne9.p (by assumption))) | (intro q_; (try dsimp only at q_); rcases q_ with q_ | q_ <;> first | exact absurd q_ (by first | assumption | exact Ne9.p (by assumption)) | exact absurd (Nat.succ.inj q_) (by first | assumption | exact Ne9.p (by assumption)) | exact absurd q_.symm (Nat.succ_ne_zero _) | exact absurd (Nat.succ.inj q_).symm (by first | assumption | exact Ne9.p (by assumption))) | (intro q_; (try dsimp only at q_); omega))
              have hP_z_45_w_51 := hS__48.mv (w1 := w_51) (S := fun q_ => q_ = q + 1) (by rw [ew_52]; exact Fr.one hO__49 _) (by first | exact id | exact fun q_ => absurd q_ (by first | assumption | exact Ne9.p (by assumption)) | exact fun q_ => absurd (Nat.succ.inj q_) (by first | assumption | exact Ne9.p (by assumption)) | exact fun q_ => absurd q_.symm (Nat.succ_ne_zero _) | exact fun q_ => absurd (Nat.succ.inj q_).symm (by first | assumption | exact Ne9.p (by assumption)) | (intro q_; (try dsimp only at q_); rcases q_ with q_ | q_ | q_ | q_ | q_ <;> first | exact absurd q_ (by first | assumption | exact Ne9.p (by assumption)) | exact absurd (Nat.succ.inj q_) (by first | assumption | exact Ne9.p (by assumption)) | exact absurd q_.symm (Nat.succ_ne_zero _) | exact absurd (Nat.succ.inj q_).symm (by first | assumption | exact Ne9.p (by assumption))) | (intro q_; (try dsimp only at q_); rcases q_ with q_ | q_ | q_ | q_ <;> first | exact absurd q_ (by first | assumption | exact Ne9.p (by assumption)) | exact absurd (Nat.succ.inj q_) (by first | assumption | exact Ne9.p (by assumption)) | exact absurd q_.symm (Nat.succ_ne_zero _) | exact absurd (Nat.succ.inj q_).symm (by first | assumption | exact Ne9.p (by assumption))) | (intro q_; (try dsimp only at q_); rcases q_ with q_ | q_ <;> first | exact absurd q_ (by first | assumption | exact Ne9.p (by assumption)) | exact absurd (Nat.succ.inj q_) (by first | assumption | exact Ne9.p (by assumption)) | exact absurd q_.symm (Nat.succ_ne_zero _) | exact absurd (Nat.succ.inj q_).symm (by first | assumption | exact Ne9.p (by assumption))) | (intro q_; (try dsimp only at q_); omega))
              refine lv_goto (tgt := 197) hx hb dX11_advance_112 (by decide) ?_
              have htk : tok T p = (k, ltE T k, 1, 0) := by unfold tok; rw [hsp, if_neg (by omega), if_pos c_y]
              exact h_vreturn hx hb hlk hret hR hL ⟨by rw [htk]; exact ⟨va, z_45, hF_q_w_51, by show StrAt G w_51 z_45 (if (1 : Int) = 1 then lw T k (ltE T k) else []); rw [if_pos rfl]; exact hP_z_45_w_51, hva, fun q_ => absurd (show (1 : Int) = 2 from q_) (by decide)⟩, hU⟩ (by omega) (by omega) rfl rfl dX11_advance_197
          ·
            refine lv_aload_n hx hb dX11_advance_76 rfl (lv_at hl 0 rfl) ?_
            refine h_iconst hx hb dX11_advance_77 ?_
            refine h_put X hR hL hF_q_w_17 (Nat.succ_ne_zero _) rfl in_X22 tyX22_ok nmX22 5 (by decide) q2099 rfl rfl rfl (Nat.le_of_ble_eq_true rfl) dX11_advance_78 (fun w_53 ew_54 H locs hR hL => ?_)
            have hU : Up (fun q_ => q_ = q + 1) w w_53 := by rw [ew_54]; exact hU.set hF_q_w_17 (by first | exact Or.inl rfl | exact Or.inl (Or.inl rfl) | exact Or.inl (Or.inr rfl) | exact Or.inl (Or.inr (Or.inl rfl)) | exact Or.inl (Or.inr (Or.inr rfl)) | exact Or.inr ⟨Nat.succ_ne_zero _, by rw [Nat.add_sub_cancel]; assumption⟩ | exact Or.inr ⟨by omega, by assumption⟩) hG _
            have hF_q_w_53 : w_53 q = some (q + 1, oE 10 [.ref bf, .int (iI ((T.length : Int))), .int (iI (((k : Nat) : Int))), .int (iI (((k : Nat) : Int))), .int (iI (va)), .int (iI (0)), .ref (gC G 12), ol, ca]) := by rw [ew_54]; exact wset_eq _ _ _
            have hF_bf_w_53 : w_53 bf = some (rb, iE G 1 800 fb) := by rw [ew_54]; exact (wset_ne _ (by first | exact Ne9.p ne_bf_q | exact Ne.symm (Ne9.p ne_q_bf) | exact ne_bf_q | exact Ne.symm ne_q_bf | exact w_ne hF_bf_w_17 hF_q_w_17 (by intro h; cases h) | exact w_neR hF_bf_w_17 hF_q_w_17 (by first | exact fun q_ => absurd (Nat.succ.inj q_) (by first | assumption | exact Ne9.p (by assumption)) | exact fun q_ => absurd (Nat.succ.inj q_).symm (by first | assumption | exact Ne9.p (by assumption)) | exact Nat.succ_ne_zero _ | exact (Nat.succ_ne_zero _).symm | omega))).trans hF_bf_w_17
            have hP_gC_G_12_w_53 := hP_gC_G_12_w_17.mv (w1 := w_53) (S := fun q_ => q_ = q + 1) (by rw [ew_54]; exact Fr.one hF_q_w_17 _) (by first | exact id | exact fun q_ => absurd q_ (by first | assumption | exact Ne9.p (by assumption)) | exact fun q_ => absurd (Nat.succ.inj q_) (by first | assumption | exact Ne9.p (by assumption)) | exact fun q_ => absurd q_.symm (Nat.succ_ne_zero _) | exact fun q_ => absurd (Nat.succ.inj q_).symm (by first | assumption | exact Ne9.p (by assumption)) | (intro q_; (try dsimp only at q_); rcases q_ with q_ | q_ | q_ | q_ | q_ <;> first | exact absurd q_ (by first | assumption | exact Ne9.p (by assumption)) | exact absurd (Nat.succ.inj q_) (by first | assumption | exact Ne9.p (by assumption)) | exact absurd q_.symm (Nat.succ_ne_zero _) | exact absurd (Nat.succ.inj q_).symm (by first | assumption | exact Ne9.p (by assumption))) | (intro q_; (try dsimp only at q_); rcases q_ with q_ | q_ | q_ | q_ <;> first | exact absurd q_ (by first | assumption | exact Ne9.p (by assumption)) | exact absurd (Nat.succ.inj q_) (by first | assumption | exact Ne9.p (by assumption)) | exact absurd q_.symm (Nat.succ_ne_zero _) | exact absurd (Nat.succ.inj q_).symm (by first | assumption | exact Ne9.p (by assumption))) | (intro q_; (try dsimp only at q_); rcases q_ with q_ | q_ <;> first | exact absurd q_ (by first | assumption | exact Ne9.p (by assumption)) | exact absurd (Nat.succ.inj q_) (by first | assumption | exact Ne9.p (by assumption)) | exact absurd q_.symm (Nat.succ_ne_zero _) | exact absurd (Nat.succ.inj q_).symm (by first | assumption | exact Ne9.p (by assumption))) | (intro q_; (try dsimp only at q_); omega))
            refine lv_goto (tgt := 197) hx hb dX11_advance_81 (by decide) ?_
            have htk : tok T p = (k, k, 0, 0) := by unfold tok; rw [hsp, if_pos (by omega)]
            exact h_vreturn hx hb hlk hret hR hL ⟨by rw [htk]; exact ⟨va, gC G 12, hF_q_w_53, by show StrAt G w_53 (gC G 12) (if (0 : Int) = 1 then _ else []); rw [if_neg (by decide)]; exact hP_gC_G_12_w_53, hva, fun q_ => absurd (show (0 : Int) = 2 from q_) (by decide)⟩, hU⟩ (by omega) (by omega) rfl rfl dX11_advance_197
        ·
          have c_t1 := b2i_n1.mp c_t
          have c_go := skp_go (T := T) (k := k) (by omega)
          refine lv_aload_n hx hb dX11_advance_38 rfl (lv_at hl 0 rfl) ?_
          refine lv_dup hx hb dX11_advance_39 rfl ?_
          refine h_get X hR hI_q_w_3 rfl in_X22 2 (by decide) q2092 rfl dX11_advance_40 ?_
          refine h_iconst hx hb dX11_advance_43 ?_
          refine h_iadd hx hb dX11_advance_44 ?_
          refine h_put X hR hL hI_q_w_3 (Nat.succ_ne_zero _) rfl in_X22 tyX22_ok nmX22 2 (by decide) q2092 rfl rfl rfl (Nat.le_of_ble_eq_true rfl) dX11_advance_45 (fun w_55 ew_56 H locs hR hL => ?_)
          have hU : Up (fun q_ => q_ = q + 1) w w_55 := by rw [ew_56]; exact hU.set hI_q_w_3 (by first | exact Or.inl rfl | exact Or.inl (Or.inl rfl) | exact Or.inl (Or.inr rfl) | exact Or.inl (Or.inr (Or.inl rfl)) | exact Or.inl (Or.inr (Or.inr rfl)) | exact Or.inr ⟨Nat.succ_ne_zero _, by rw [Nat.add_sub_cancel]; assumption⟩ | exact Or.inr ⟨by omega, by assumption⟩) hG _
          have hF_q_w_55 : w_55 q = some (q + 1, oE 10 [.ref bf, .int (iI ((T.length : Int))), .int (iI (((k : Nat) : Int) + 1)), .int (iI ((p : Int))), .int (iI (va)), .int (iI (z3)), wv, ol, ca]) := by rw [ew_56]; exact wset_eq _ _ _
          have hF_bf_w_55 : w_55 bf = some (rb, iE G 1 800 fb) := by rw [ew_56]; exact (wset_ne _ (by first | exact Ne9.p ne_bf_q | exact Ne.symm (Ne9.p ne_q_bf) | exact ne_bf_q | exact Ne.symm ne_q_bf | exact w_ne hI_bf_w_3 hI_q_w_3 (by intro h; cases h) | exact w_neR hI_bf_w_3 hI_q_w_3 (by first | exact fun q_ => absurd (Nat.succ.inj q_) (by first | assumption | exact Ne9.p (by assumption)) | exact fun q_ => absurd (Nat.succ.inj q_).symm (by first | assumption | exact Ne9.p (by assumption)) | exact Nat.succ_ne_zero _ | exact (Nat.succ_ne_zero _).symm | omega))).trans hI_bf_w_3
          refine lv_goto (tgt := 8) hx hb dX11_advance_48 (by decide) ?_
          exact ih_4 (k + 1) w_55 (by have := c_go.2; omega) (by rw [← hsk]; exact c_go.1.symm) hF_bf_w_55 hF_q_w_55 hU (by omega) _ _ _ hR hL (lv_sub hl [0] rfl)
  exact LOOP_4 _ p w_1 ⟨Nat.le_refl _, hp⟩ rfl hF_bf_w_1 hF_q_w_1 hU (Nat.lt_succ_self _) _ _ _ hR hL (lv_sub hl [0] rfl)

theorem sc_advTs (l : Launch) (G : Gl) (w : Wd) (q : Nat) (ol ca : Value) (bf rb : Nat) (T : List Int) (s : Sc) (hK : TkAt G w 10 [ol, ca] q bf T s) (hB : BufAt G w bf rb T) (hp : scA s ≤ T.length) (hqb : rb ≠ q + 1) (hG : RegW w) : HM l yX11_advance cX11_advance 1 none 9 4 33 G [.ref q] w (QV G (fun w_ => TkAt G w_ 10 [ol, ca] q bf T (tok T (scA s)) ∧ Up (fun q_ => q_ = q + 1) w w_)) := by
  obtain ⟨va, wa, h1, -, h3, -⟩ := hK
  exact sc_advs l G w q ol ca bf rb T _ va _ _ (scA s) h1 hB h3 hp hqb hG
