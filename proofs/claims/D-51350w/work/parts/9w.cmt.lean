/-! the component: feed -/
set_option maxRecDepth 100000
def fdP (B : List Int) (f : Nat → Int) : Nat → List Int
  | 0 => B
  | j + 1 => fdP B f j ++ by4 (f j)
theorem fdP_len (B : List Int) (f : Nat → Int) : ∀ j, (fdP B f j).length = B.length + 4 * j
  | 0 => rfl
  | j + 1 => by
    show (fdP B f j ++ by4 (f j)).length = _
    rw [List.length_append, fdP_len B f j]
    show _ + 4 = _
    omega
theorem fdP_5 {B : List Int} {f : Nat → Int} {x1 x2 x3 x4 x5 : Int} (h1 : f 0 = x1) (h2 : f 1 = x2) (h3 : f 2 = x3) (h4 : f 3 = x4) (h5 : f 4 = x5) : fdP B f 5 = fdB B x1 x2 x3 x4 x5 := by
  subst h1 h2 h3 h4 h5
  rfl
theorem b8_m (x : Int) : b8 (x % 256) = b8 x := by unfold b8; omega
theorem buf4 {G : Gl} {w : Wd} {bf rb : Nat} {T : List Int} {fb : Nat → Int} {v : Int} (hT : TxW T) (hf : ∀ k, k < T.length → fb k = b8 (T.getD k 0)) (hl : T.length + 4 ≤ 800) (h1 : w bf = some (rb, iE G 1 800 (zset (zset (zset (zset fb T.length (b8 (v / 16777216))) (T.length + 1) (b8 (v / 65536))) (T.length + 2) (b8 (v / 256))) (T.length + 3) (b8 (v / 1))))) : BufAt G w bf rb (T ++ by4 v) := by
  refine ⟨_, h1, hT.app (by show _ + 4 ≤ 800; exact hl) (fun x hx => by4_r hx), fun k hk => ?_⟩
  rw [List.length_append] at hk
  have hk : k < T.length + 4 := hk
  rw [List.getD_eq_getElem?_getD]
  unfold zset
  rcases (show k < T.length ∨ k = T.length ∨ k = T.length + 1 ∨ k = T.length + 2 ∨ k = T.length + 3 by omega) with q | q | q | q | q
  · rw [List.getElem?_append_left q, ← List.getD_eq_getElem?_getD, if_neg (by omega), if_neg (by omega), if_neg (by omega), if_neg (by omega)]; exact hf k q
  · subst q
    rw [List.getElem?_append_right (by omega), if_neg (by omega), if_neg (by omega), if_neg (by omega), if_pos rfl, Nat.sub_self]
    exact (b8_m _).symm
  · subst q
    rw [List.getElem?_append_right (by omega), if_neg (by omega), if_neg (by omega), if_pos rfl, show T.length + 1 - T.length = 1 by omega]
    exact (b8_m _).symm
  · subst q
    rw [List.getElem?_append_right (by omega), if_neg (by omega), if_pos rfl, show T.length + 2 - T.length = 2 by omega]
    exact (b8_m _).symm
  · subst q
    rw [List.getElem?_append_right (by omega), if_pos rfl, show T.length + 3 - T.length = 3 by omega]
    exact (b8_m _).symm
theorem fdA_n {B : List Int} {a b c d e : Int} (h : ¬ ((B.length : Int) + 20 ≤ 800)) : fdA B a b c d e = B := by unfold fdA; exact if_pos (by omega)
theorem fdA_y {B : List Int} {a b c d e : Int} (h : (B.length : Int) + 20 ≤ 800) : fdA B a b c d e = fdB B a b c d e := by unfold fdA; exact if_neg (by omega)


set_option maxHeartbeats 4000000 in
set_option maxRecDepth 100000 in
/-- SpokenMarks.feed -/
theorem sm_fee (l : Launch) (G : Gl) (w : Wd) (a : Nat) (x bf hq fs : Nat) (nb er ca dn rf ud : Int) (sv : Value) (hX : w x = some (x + 1, oE 0 [.ref bf, .ref hq, .int (iI (nb)), .int (iI (er)), .int (iI (ca)), .int (iI (dn)), .int (iI (rf)), .int (iI (ud)), .ref a, sv, .ref fs])) (B : List Int) (hnb : nb = (B.length : Int)) (hB : BufAt G w bf (bf + 1) B) (x1 x2 x3 x4 x5 : Int) (r1 : R32 x1) (r2 : R32 x2) (r3 : R32 x3) (r4 : R32 x4) (r5 : R32 x5) (hG : RegW w) : HM l yX1_feed cX1_feed 12 (some .int) 1 1 5 G [.ref x, .int (iI (x1)), .int (iI (x2)), .int (iI (x3)), .int (iI (x4)), .int (iI (x5))] w (QI G (fun z_ w_ => z_ = (if 800 < (B.length : Int) + 20 then -1 else (B.length : Int) + 20) ∧ w_ x = some (x + 1, oE 0 [.ref bf, .ref hq, .int (iI (((fdA B x1 x2 x3 x4 x5).length : Int))), .int (iI (er)), .int (iI (ca)), .int (iI (dn)), .int (iI (rf)), .int (iI (ud)), .ref a, sv, .ref fs]) ∧ BufAt G w_ bf (bf + 1) (fdA B x1 x2 x3 x4 x5) ∧ Up (fun q_ => q_ = x + 1 ∨ q_ = bf + 1) w w_)) := by
  refine HM.mk (by decide +kernel) (Nat.le_of_ble_eq_true rfl) ?_
  intro p9 e9 s9 m9 a9 b9 meth9 c9 ls X hret hlk hnm hl H hR
  have hx := X.1.1
  have hb := X.1.2.1
  have hl : lv_has ls 12 [(0, .ref x), (1, .int (iI (x1))), (2, .int (iI (x2))), (3, .int (iI (x3))), (4, .int (iI (x4))), (5, .int (iI (x5)))] := hl
  have hL : LK G [] := fun q h => absurd h List.not_mem_nil
  generalize ([] : List Loc) = locs at hL ⊢
  have hU : Up (fun q_ => q_ = x + 1 ∨ q_ = bf + 1) w w := Up.rf hG
  have nbx : Ne9 bf x := hB.ne (hasC.of hX rfl)
  have ne_bf_x : Ne9 bf x := nbx
  have hB0 := hB
  obtain ⟨fb0, hB1, hTW0, hfb0⟩ := hB
  have hB8 := hTW0.1
  subst hnb
  refine lv_aload_n hx hb dX1_feed_0 rfl (lv_at hl 0 rfl) ?_
  refine h_get X hR hX rfl in_X1 2 (by decide) q1694 rfl dX1_feed_1 ?_
  refine h_bipush hx hb dX1_feed_4 (by decide) ?_
  refine h_iadd hx hb dX1_feed_6 ?_
  refine h_sipush hx hb dX1_feed_7 (by decide) ?_
  refine h_icmp_le hx hb 15 dX1_feed_10 (by decide) (by omega) (by omega) (fun c_8 => ?_) (fun c_8 => ?_)
  ·
    refine h_iconst hx hb dX1_feed_15 ?_
    refine h_newI (atype := .int) X hR 0 (fun q => q + 1) rfl (fun C h => by cases h) rfl q634 5 rfl (by omega) (by omega) (by omega) (by decide) dX1_feed_16 (fun q5 hq5 w_1 ew_2 H hR => ?_)
    have hn_q5 : w q5 = none := hU.2.1 _ hq5
    have hU : Up (fun q_ => q_ = x + 1 ∨ q_ = bf + 1) w w_1 := by rw [ew_2]; exact hU.new hq5 (by first | exact Or.inr (Or.inl rfl) | exact Or.inl rfl | exact Or.inr (Or.inr (by assumption)))
    have hF_q5_w_1 : w_1 q5 = some (q5 + 1, iE G 0 5 (fun _ => 0)) := by rw [ew_2]; exact wset_eq _ _ _
    have ne_x_q5 : Ne9 x q5 := w_neN hX hq5
    have hF_x_w_1 : w_1 x = some (x + 1, oE 0 [.ref bf, .ref hq, .int (iI ((B.length : Int))), .int (iI (er)), .int (iI (ca)), .int (iI (dn)), .int (iI (rf)), .int (iI (ud)), .ref a, sv, .ref fs]) := by rw [ew_2]; exact (wset_ne _ (w_neN hX hq5)).trans hX
    have ne_bf_q5 : Ne9 bf q5 := w_neN hB1 hq5
    have hF_bf_w_1 : w_1 bf = some (bf + 1, iE G 1 800 fb0) := by rw [ew_2]; exact (wset_ne _ (w_neN hB1 hq5)).trans hB1
    refine lv_dup hx hb dX1_feed_18 rfl ?_
    refine h_iconst hx hb dX1_feed_19 ?_
    refine lv_iload_n hx hb dX1_feed_20 rfl (lv_at hl 1 rfl) ?_
    refine h_iast X hR hL hF_q5_w_1 (by omega) (by omega) (by omega) dX1_feed_21 (fun w_3 ew_4 H locs hR hL => ?_)
    have hU : Up (fun q_ => q_ = x + 1 ∨ q_ = bf + 1) w w_3 := by rw [ew_4]; exact hU.set hF_q5_w_1 (by first | exact Or.inl rfl | exact Or.inl (Or.inl rfl) | exact Or.inl (Or.inr rfl) | exact Or.inl (Or.inr (Or.inl rfl)) | exact Or.inl (Or.inr (Or.inr rfl)) | exact Or.inr ⟨Nat.succ_ne_zero _, by rw [Nat.add_sub_cancel]; assumption⟩ | exact Or.inr ⟨by omega, by assumption⟩) hG _
    have hF_q5_w_3 : w_3 q5 = some (q5 + 1, iE G 0 5 (zset (fun _ => 0) (Int.toNat 0) x1)) := by rw [ew_4]; exact wset_eq _ _ _
    have hF_x_w_3 : w_3 x = some (x + 1, oE 0 [.ref bf, .ref hq, .int (iI ((B.length : Int))), .int (iI (er)), .int (iI (ca)), .int (iI (dn)), .int (iI (rf)), .int (iI (ud)), .ref a, sv, .ref fs]) := by rw [ew_4]; exact (wset_ne _ (by first | exact Ne9.p ne_x_q5 | exact Ne.symm (Ne9.p ne_q5_x) | exact ne_x_q5 | exact Ne.symm ne_q5_x | exact w_ne hF_x_w_1 hF_q5_w_1 (by intro h; cases h) | exact w_neR hF_x_w_1 hF_q5_w_1 (by first | exact fun q_ => absurd (Nat.succ.inj q_) (by first | assumption | exact Ne9.p (by assumption)) | exact fun q_ => absurd (Nat.succ.inj q_).symm (by first | assumption | exact Ne9.p (by assumption)) | exact Nat.succ_ne_zero _ | exact (Nat.succ_ne_zero _).symm | omega))).trans hF_x_w_1
    have hF_bf_w_3 : w_3 bf = some (bf + 1, iE G 1 800 fb0) := by rw [ew_4]; exact (wset_ne _ (by first | exact Ne9.p ne_bf_q5 | exact Ne.symm (Ne9.p ne_q5_bf) | exact ne_bf_q5 | exact Ne.symm ne_q5_bf | exact w_ne hF_bf_w_1 hF_q5_w_1 (by intro h; cases h) | exact w_neR hF_bf_w_1 hF_q5_w_1 (by first | exact fun q_ => absurd (Nat.succ.inj q_) (by first | assumption | exact Ne9.p (by assumption)) | exact fun q_ => absurd (Nat.succ.inj q_).symm (by first | assumption | exact Ne9.p (by assumption)) | exact Nat.succ_ne_zero _ | exact (Nat.succ_ne_zero _).symm | omega))).trans hF_bf_w_1
    refine lv_dup hx hb dX1_feed_22 rfl ?_
    refine h_iconst hx hb dX1_feed_23 ?_
    refine lv_iload_n hx hb dX1_feed_24 rfl (lv_at hl 2 rfl) ?_
    refine h_iast X hR hL hF_q5_w_3 (by omega) (by omega) (by omega) dX1_feed_25 (fun w_5 ew_6 H locs hR hL => ?_)
    have hU : Up (fun q_ => q_ = x + 1 ∨ q_ = bf + 1) w w_5 := by rw [ew_6]; exact hU.set hF_q5_w_3 (by first | exact Or.inl rfl | exact Or.inl (Or.inl rfl) | exact Or.inl (Or.inr rfl) | exact Or.inl (Or.inr (Or.inl rfl)) | exact Or.inl (Or.inr (Or.inr rfl)) | exact Or.inr ⟨Nat.succ_ne_zero _, by rw [Nat.add_sub_cancel]; assumption⟩ | exact Or.inr ⟨by omega, by assumption⟩) hG _
    have hF_q5_w_5 : w_5 q5 = some (q5 + 1, iE G 0 5 (zset (zset (fun _ => 0) (Int.toNat 0) x1) (Int.toNat 1) x2)) := by rw [ew_6]; exact wset_eq _ _ _
    have hF_x_w_5 : w_5 x = some (x + 1, oE 0 [.ref bf, .ref hq, .int (iI ((B.length : Int))), .int (iI (er)), .int (iI (ca)), .int (iI (dn)), .int (iI (rf)), .int (iI (ud)), .ref a, sv, .ref fs]) := by rw [ew_6]; exact (wset_ne _ (by first | exact Ne9.p ne_x_q5 | exact Ne.symm (Ne9.p ne_q5_x) | exact ne_x_q5 | exact Ne.symm ne_q5_x | exact w_ne hF_x_w_3 hF_q5_w_3 (by intro h; cases h) | exact w_neR hF_x_w_3 hF_q5_w_3 (by first | exact fun q_ => absurd (Nat.succ.inj q_) (by first | assumption | exact Ne9.p (by assumption)) | exact fun q_ => absurd (Nat.succ.inj q_).symm (by first | assumption | exact Ne9.p (by assumption)) | exact Nat.succ_ne_zero _ | exact (Nat.succ_ne_zero _).symm | omega))).trans hF_x_w_3
    have hF_bf_w_5 : w_5 bf = some (bf + 1, iE G 1 800 fb0) := by rw [ew_6]; exact (wset_ne _ (by first | exact Ne9.p ne_bf_q5 | exact Ne.symm (Ne9.p ne_q5_bf) | exact ne_bf_q5 | exact Ne.symm ne_q5_bf | exact w_ne hF_bf_w_3 hF_q5_w_3 (by intro h; cases h) | exact w_neR hF_bf_w_3 hF_q5_w_3 (by first | exact fun q_ => absurd (Nat.succ.inj q_) (by first | assumption | exact Ne9.p (by assumption)) | exact fun q_ => absurd (Nat.succ.inj q_).symm (by first | assumption | exact Ne9.p (by assumption)) | exact Nat.succ_ne_zero _ | exact (Nat.succ_ne_zero _).symm | omega))).trans hF_bf_w_3
    refine lv_dup hx hb dX1_feed_26 rfl ?_
    refine h_iconst hx hb dX1_feed_27 ?_
    refine lv_iload_n hx hb dX1_feed_28 rfl (lv_at hl 3 rfl) ?_
    refine h_iast X hR hL hF_q5_w_5 (by omega) (by omega) (by omega) dX1_feed_29 (fun w_7 ew_8 H locs hR hL => ?_)
    have hU : Up (fun q_ => q_ = x + 1 ∨ q_ = bf + 1) w w_7 := by rw [ew_8]; exact hU.set hF_q5_w_5 (by first | exact Or.inl rfl | exact Or.inl (Or.inl rfl) | exact Or.inl (Or.inr rfl) | exact Or.inl (Or.inr (Or.inl rfl)) | exact Or.inl (Or.inr (Or.inr rfl)) | exact Or.inr ⟨Nat.succ_ne_zero _, by rw [Nat.add_sub_cancel]; assumption⟩ | exact Or.inr ⟨by omega, by assumption⟩) hG _
    have hF_q5_w_7 : w_7 q5 = some (q5 + 1, iE G 0 5 (zset (zset (zset (fun _ => 0) (Int.toNat 0) x1) (Int.toNat 1) x2) (Int.toNat 2) x3)) := by rw [ew_8]; exact wset_eq _ _ _
    have hF_x_w_7 : w_7 x = some (x + 1, oE 0 [.ref bf, .ref hq, .int (iI ((B.length : Int))), .int (iI (er)), .int (iI (ca)), .int (iI (dn)), .int (iI (rf)), .int (iI (ud)), .ref a, sv, .ref fs]) := by rw [ew_8]; exact (wset_ne _ (by first | exact Ne9.p ne_x_q5 | exact Ne.symm (Ne9.p ne_q5_x) | exact ne_x_q5 | exact Ne.symm ne_q5_x | exact w_ne hF_x_w_5 hF_q5_w_5 (by intro h; cases h) | exact w_neR hF_x_w_5 hF_q5_w_5 (by first | exact fun q_ => absurd (Nat.succ.inj q_) (by first | assumption | exact Ne9.p (by assumption)) | exact fun q_ => absurd (Nat.succ.inj q_).symm (by first | assumption | exact Ne9.p (by assumption)) | exact Nat.succ_ne_zero _ | exact (Nat.succ_ne_zero _).symm | omega))).trans hF_x_w_5
    have hF_bf_w_7 : w_7 bf = some (bf + 1, iE G 1 800 fb0) := by rw [ew_8]; exact (wset_ne _ (by first | exact Ne9.p ne_bf_q5 | exact Ne.symm (Ne9.p ne_q5_bf) | exact ne_bf_q5 | exact Ne.symm ne_q5_bf | exact w_ne hF_bf_w_5 hF_q5_w_5 (by intro h; cases h) | exact w_neR hF_bf_w_5 hF_q5_w_5 (by first | exact fun q_ => absurd (Nat.succ.inj q_) (by first | assumption | exact Ne9.p (by assumption)) | exact fun q_ => absurd (Nat.succ.inj q_).symm (by first | assumption | exact Ne9.p (by assumption)) | exact Nat.succ_ne_zero _ | exact (Nat.succ_ne_zero _).symm | omega))).trans hF_bf_w_5
    refine lv_dup hx hb dX1_feed_30 rfl ?_
    refine h_iconst hx hb dX1_feed_31 ?_
    refine lv_iload hx hb dX1_feed_32 (lv_at hl 4 rfl) ?_
    refine h_iast X hR hL hF_q5_w_7 (by omega) (by omega) (by omega) dX1_feed_34 (fun w_9 ew_10 H locs hR hL => ?_)
    have hU : Up (fun q_ => q_ = x + 1 ∨ q_ = bf + 1) w w_9 := by rw [ew_10]; exact hU.set hF_q5_w_7 (by first | exact Or.inl rfl | exact Or.inl (Or.inl rfl) | exact Or.inl (Or.inr rfl) | exact Or.inl (Or.inr (Or.inl rfl)) | exact Or.inl (Or.inr (Or.inr rfl)) | exact Or.inr ⟨Nat.succ_ne_zero _, by rw [Nat.add_sub_cancel]; assumption⟩ | exact Or.inr ⟨by omega, by assumption⟩) hG _
    have hF_q5_w_9 : w_9 q5 = some (q5 + 1, iE G 0 5 (zset (zset (zset (zset (fun _ => 0) (Int.toNat 0) x1) (Int.toNat 1) x2) (Int.toNat 2) x3) (Int.toNat 3) x4)) := by rw [ew_10]; exact wset_eq _ _ _
    have hF_x_w_9 : w_9 x = some (x + 1, oE 0 [.ref bf, .ref hq, .int (iI ((B.length : Int))), .int (iI (er)), .int (iI (ca)), .int (iI (dn)), .int (iI (rf)), .int (iI (ud)), .ref a, sv, .ref fs]) := by rw [ew_10]; exact (wset_ne _ (by first | exact Ne9.p ne_x_q5 | exact Ne.symm (Ne9.p ne_q5_x) | exact ne_x_q5 | exact Ne.symm ne_q5_x | exact w_ne hF_x_w_7 hF_q5_w_7 (by intro h; cases h) | exact w_neR hF_x_w_7 hF_q5_w_7 (by first | exact fun q_ => absurd (Nat.succ.inj q_) (by first | assumption | exact Ne9.p (by assumption)) | exact fun q_ => absurd (Nat.succ.inj q_).symm (by first | assumption | exact Ne9.p (by assumption)) | exact Nat.succ_ne_zero _ | exact (Nat.succ_ne_zero _).symm | omega))).trans hF_x_w_7
    have hF_bf_w_9 : w_9 bf = some (bf + 1, iE G 1 800 fb0) := by rw [ew_10]; exact (wset_ne _ (by first | exact Ne9.p ne_bf_q5 | exact Ne.symm (Ne9.p ne_q5_bf) | exact ne_bf_q5 | exact Ne.symm ne_q5_bf | exact w_ne hF_bf_w_7 hF_q5_w_7 (by intro h; cases h) | exact w_neR hF_bf_w_7 hF_q5_w_7 (by first | exact fun q_ => absurd (Nat.succ.inj q_) (by first | assumption | exact Ne9.p (by assumption)) | exact fun q_ => absurd (Nat.succ.inj q_).symm (by first | assumption | exact Ne9.p (by assumption)) | exact Nat.succ_ne_zero _ | exact (Nat.succ_ne_zero _).symm | omega))).trans hF_bf_w_7
    refine lv_dup hx hb dX1_feed_35 rfl ?_
    refine h_iconst hx hb dX1_feed_36 ?_
    refine lv_iload hx hb dX1_feed_37 (lv_at hl 5 rfl) ?_
    refine h_iast X hR hL hF_q5_w_9 (by omega) (by omega) (by omega) dX1_feed_39 (fun w_11 ew_12 H locs hR hL => ?_)
    have hU : Up (fun q_ => q_ = x + 1 ∨ q_ = bf + 1) w w_11 := by rw [ew_12]; exact hU.set hF_q5_w_9 (by first | exact Or.inl rfl | exact Or.inl (Or.inl rfl) | exact Or.inl (Or.inr rfl) | exact Or.inl (Or.inr (Or.inl rfl)) | exact Or.inl (Or.inr (Or.inr rfl)) | exact Or.inr ⟨Nat.succ_ne_zero _, by rw [Nat.add_sub_cancel]; assumption⟩ | exact Or.inr ⟨by omega, by assumption⟩) hG _
    have hF_q5_w_11 : w_11 q5 = some (q5 + 1, iE G 0 5 (zset (zset (zset (zset (zset (fun _ => 0) (Int.toNat 0) x1) (Int.toNat 1) x2) (Int.toNat 2) x3) (Int.toNat 3) x4) (Int.toNat 4) x5)) := by rw [ew_12]; exact wset_eq _ _ _
    have hF_x_w_11 : w_11 x = some (x + 1, oE 0 [.ref bf, .ref hq, .int (iI ((B.length : Int))), .int (iI (er)), .int (iI (ca)), .int (iI (dn)), .int (iI (rf)), .int (iI (ud)), .ref a, sv, .ref fs]) := by rw [ew_12]; exact (wset_ne _ (by first | exact Ne9.p ne_x_q5 | exact Ne.symm (Ne9.p ne_q5_x) | exact ne_x_q5 | exact Ne.symm ne_q5_x | exact w_ne hF_x_w_9 hF_q5_w_9 (by intro h; cases h) | exact w_neR hF_x_w_9 hF_q5_w_9 (by first | exact fun q_ => absurd (Nat.succ.inj q_) (by first | assumption | exact Ne9.p (by assumption)) | exact fun q_ => absurd (Nat.succ.inj q_).symm (by first | assumption | exact Ne9.p (by assumption)) | exact Nat.succ_ne_zero _ | exact (Nat.succ_ne_zero _).symm | omega))).trans hF_x_w_9
    have hF_bf_w_11 : w_11 bf = some (bf + 1, iE G 1 800 fb0) := by rw [ew_12]; exact (wset_ne _ (by first | exact Ne9.p ne_bf_q5 | exact Ne.symm (Ne9.p ne_q5_bf) | exact ne_bf_q5 | exact Ne.symm ne_q5_bf | exact w_ne hF_bf_w_9 hF_q5_w_9 (by intro h; cases h) | exact w_neR hF_bf_w_9 hF_q5_w_9 (by first | exact fun q_ => absurd (Nat.succ.inj q_) (by first | assumption | exact Ne9.p (by assumption)) | exact fun q_ => absurd (Nat.succ.inj q_).symm (by first | assumption | exact Ne9.p (by assumption)) | exact Nat.succ_ne_zero _ | exact (Nat.succ_ne_zero _).symm | omega))).trans hF_bf_w_9
    refine lv_astore (lv' := [(6, .ref q5), (0, .ref x), (1, .int (iI (x1))), (2, .int (iI (x2))), (3, .int (iI (x3))), (4, .int (iI (x4))), (5, .int (iI (x5)))]) hx hb dX1_feed_40 hl (by decide) rfl (fun ls hl => ?_)
    obtain ⟨fx, hfx⟩ : ∃ fx : Nat → Int, fx = zset (zset (zset (zset (zset (fun _ => 0) (Int.toNat 0) x1) (Int.toNat 1) x2) (Int.toNat 2) x3) (Int.toNat 3) x4) (Int.toNat 4) x5 := ⟨_, rfl⟩
    have hq5_ : w_11 q5 = some (q5 + 1, iE G 0 5 fx) := by rw [hfx]; exact hF_q5_w_11
    have hv0 : fx 0 = x1 := by rw [hfx]; rfl
    have hv1 : fx 1 = x2 := by rw [hfx]; rfl
    have hv2 : fx 2 = x3 := by rw [hfx]; rfl
    have hv3 : fx 3 = x4 := by rw [hfx]; rfl
    have hv4 : fx 4 = x5 := by rw [hfx]; rfl
    have hvR : ∀ j, j < 5 → R32 (fx j) := fun j hj => by rcases (show j = 0 ∨ j = 1 ∨ j = 2 ∨ j = 3 ∨ j = 4 by omega) with q | q | q | q | q <;> subst q; (rw [hv0]; exact r1); (rw [hv1]; exact r2); (rw [hv2]; exact r3); (rw [hv3]; exact r4); (rw [hv4]; exact r5)
    refine lv_aload hx hb dX1_feed_42 (lv_at hl 0 rfl) ?_
    refine lv_astore (lv' := [(7, .ref q5), (6, .ref q5), (0, .ref x), (1, .int (iI (x1))), (2, .int (iI (x2))), (3, .int (iI (x3))), (4, .int (iI (x4))), (5, .int (iI (x5)))]) hx hb dX1_feed_44 hl (by decide) rfl (fun ls hl => ?_)
    refine lv_aload hx hb dX1_feed_46 (lv_at hl 0 rfl) ?_
    refine h_alenI X hR hq5_ rfl dX1_feed_48 ?_
    refine lv_istore (lv' := [(8, .int (iI (((5 : Nat) : Int)))), (7, .ref q5), (6, .ref q5), (0, .ref x), (1, .int (iI (x1))), (2, .int (iI (x2))), (3, .int (iI (x3))), (4, .int (iI (x4))), (5, .int (iI (x5)))]) hx hb dX1_feed_49 hl (by decide) rfl (fun ls hl => ?_)
    refine h_iconst hx hb dX1_feed_51 ?_
    refine lv_istore (lv' := [(9, .int (iI (0))), (8, .int (iI (((5 : Nat) : Int)))), (7, .ref q5), (6, .ref q5), (0, .ref x), (1, .int (iI (x1))), (2, .int (iI (x2))), (3, .int (iI (x3))), (4, .int (iI (x4))), (5, .int (iI (x5)))]) hx hb dX1_feed_52 hl (by decide) rfl (fun ls hl => ?_)
    have LOOP_14 : ∀ (N_ : Nat) (j : Nat) (fb : Nat → Int)(w_13 : Wd) , (j ≤ 5) → (TxW (fdP B fx j)) → (∀ k, k < (fdP B fx j).length → fb k = b8 ((fdP B fx j).getD k 0)) → (w_13 q5 = some (q5 + 1, iE G 0 5 fx)) → (w_13 x = some (x + 1, oE 0 [.ref bf, .ref hq, .int (iI (((fdP B fx j).length : Int))), .int (iI (er)), .int (iI (ca)), .int (iI (dn)), .int (iI (rf)), .int (iI (ud)), .ref a, sv, .ref fs])) → (w_13 bf = some (bf + 1, iE G 1 800 fb)) → (Up (fun q_ => q_ = x + 1 ∨ q_ = bf + 1) w w_13) → (5 - j) < N_ → ∀ (H : Heap) (locs : List Loc) (ls : Array Slot), Rp G w_13 H → LK G locs → lv_has ls 12 [(0, .ref x), (7, .ref q5), (8, .int (iI (((5 : Nat) : Int)))), (9, .int (iI ((j : Int))))] → W p9 l e9 (rmk 1 1 5) s9 m9 a9 b9 meth9 c9 H locs 1 5 (MQ b9 (QI G (fun z_ w_ => z_ = (if 800 < (B.length : Int) + 20 then -1 else (B.length : Int) + 20) ∧ w_ x = some (x + 1, oE 0 [.ref bf, .ref hq, .int (iI (((fdA B x1 x2 x3 x4 x5).length : Int))), .int (iI (er)), .int (iI (ca)), .int (iI (dn)), .int (iI (rf)), .int (iI (ud)), .ref a, sv, .ref fs]) ∧ BufAt G w_ bf (bf + 1) (fdA B x1 x2 x3 x4 x5) ∧ Up (fun q_ => q_ = x + 1 ∨ q_ = bf + 1) w w_)) a9 s9 1 5 (frG G)) (F0 m9 54 ls []) := by
      intro N_
      induction N_ with
      | zero => intro _ _ _ _ _ _ _ _ _ _ h_; exact absurd h_ (Nat.not_lt_zero _)
      | succ N_ ih_ =>
        intro j fb w_13 hj hTW hfb hI_q5_w_13 hI_x_w_13 hI_bf_w_13 hU hN_ H locs ls hR hL hl
        have ih_14 := ih_
        clear ih_
        have hTl := fdP_len B fx j
        refine lv_iload hx hb dX1_feed_54 (lv_at hl 3 rfl) ?_
        refine lv_iload hx hb dX1_feed_56 (lv_at hl 2 rfl) ?_
        refine h_icmp_ge hx hb 114 dX1_feed_58 (by decide) (by omega) (by omega) (fun c_j => ?_) (fun c_j => ?_)
        ·
          refine lv_aload_n hx hb dX1_feed_114 rfl (lv_at hl 0 rfl) ?_
          refine h_get X hR hI_x_w_13 rfl in_X1 2 (by decide) q1694 rfl dX1_feed_115 ?_
          have hj5 : j = 5 := by omega
          subst hj5
          have hT5 : fdP B fx 5 = fdA B x1 x2 x3 x4 x5 := (fdP_5 hv0 hv1 hv2 hv3 hv4).trans (fdA_y c_8).symm
          exact h_ireturn hx hb hlk hret hR hL rfl ⟨by rw [if_neg (by omega)]; omega, by rw [← hT5]; exact hI_x_w_13, by rw [← hT5]; exact ⟨fb, hI_bf_w_13, hTW, hfb⟩, hU⟩ (by omega) (by omega) rfl rfl dX1_feed_118
        ·
          refine lv_aload hx hb dX1_feed_61 (lv_at hl 1 rfl) ?_
          refine lv_iload hx hb dX1_feed_63 (lv_at hl 3 rfl) ?_
          refine h_iald X hR hI_q5_w_13 (by omega) (by omega) dX1_feed_65 ?_
          have hjl : j < 5 := by omega
          have hvj := hvR j hjl
          obtain ⟨v, hv⟩ : ∃ v, v = fx j := ⟨_, rfl⟩
          have hvr : R32 v := by rw [hv]; exact hvj
          refine W.eq (g2 := F0 m9 66 ls [.int (iI (v))]) (congrArg (fun z_ : Int => F0 m9 66 ls [.int (iI (z_))]) (show (fx ((j : Int)).toNat : Int) = v from (by rw [hv, Int.toNat_natCast]))) ?_
          refine lv_istore (lv' := [(10, .int (iI (v))), (0, .ref x), (7, .ref q5), (8, .int (iI (((5 : Nat) : Int)))), (9, .int (iI ((j : Int))))]) hx hb dX1_feed_66 hl (by decide) rfl (fun ls hl => ?_)
          refine h_bipush hx hb dX1_feed_68 (by decide) ?_
          refine lv_istore (lv' := [(11, .int (iI (24))), (10, .int (iI (v))), (0, .ref x), (7, .ref q5), (8, .int (iI (((5 : Nat) : Int)))), (9, .int (iI ((j : Int))))]) hx hb dX1_feed_70 hl (by decide) rfl (fun ls hl => ?_)
          refine lv_iload hx hb dX1_feed_72 (lv_at hl 0 rfl) ?_
          refine h_if_lt hx hb 108 dX1_feed_74 (by decide) (by decide) (fun z_ => absurd z_ (by decide)) (fun _ => ?_)
          refine lv_aload_n hx hb dX1_feed_77 rfl (lv_at hl 2 rfl) ?_
          refine h_get X hR hI_x_w_13 rfl in_X1 0 (by decide) q1692 rfl dX1_feed_78 ?_
          refine lv_aload_n hx hb dX1_feed_81 rfl (lv_at hl 2 rfl) ?_
          refine h_get X hR hI_x_w_13 rfl in_X1 2 (by decide) q1694 rfl dX1_feed_82 ?_
          refine lv_iload hx hb dX1_feed_85 (lv_at hl 1 rfl) ?_
          refine lv_iload hx hb dX1_feed_87 (lv_at hl 0 rfl) ?_
          refine h_ishr hx hb 24 16777216 dX1_feed_89 hvr (by decide) rfl (by decide) ?_
          refine h_i2b hx hb dX1_feed_90 ⟨by omega, by omega⟩ ?_
          refine h_bast X hR hL hI_bf_w_13 (Nat.succ_ne_zero _) (by omega) (by omega) (b8_r _) dX1_feed_91 (fun w_16 ew_17 H locs hR hL => ?_)
          have hU : Up (fun q_ => q_ = x + 1 ∨ q_ = bf + 1) w w_16 := by rw [ew_17]; exact hU.set hI_bf_w_13 (by first | exact Or.inl rfl | exact Or.inl (Or.inl rfl) | exact Or.inl (Or.inr rfl) | exact Or.inl (Or.inr (Or.inl rfl)) | exact Or.inl (Or.inr (Or.inr rfl)) | exact Or.inr ⟨Nat.succ_ne_zero _, by rw [Nat.add_sub_cancel]; assumption⟩ | exact Or.inr ⟨by omega, by assumption⟩) hG _
          have hF_bf_w_16 : w_16 bf = some (bf + 1, iE G 1 800 (zset fb (((fdP B fx j).length : Int)).toNat (b8 (v / 16777216)))) := by rw [ew_17]; exact wset_eq _ _ _
          have hF_q5_w_16 : w_16 q5 = some (q5 + 1, iE G 0 5 fx) := by rw [ew_17]; exact (wset_ne _ (by first | exact Ne9.p ne_q5_bf | exact Ne.symm (Ne9.p ne_bf_q5) | exact ne_q5_bf | exact Ne.symm ne_bf_q5 | exact w_ne hI_q5_w_13 hI_bf_w_13 (by intro h; cases h) | exact w_neR hI_q5_w_13 hI_bf_w_13 (by first | exact fun q_ => absurd (Nat.succ.inj q_) (by first | assumption | exact Ne9.p (by assumption)) | exact fun q_ => absurd (Nat.succ.inj q_).symm (by first | assumption | exact Ne9.p (by assumption)) | exact Nat.succ_ne_zero _ | exact (Nat.succ_ne_zero _).symm | omega))).trans hI_q5_w_13
          have hF_x_w_16 : w_16 x = some (x + 1, oE 0 [.ref bf, .ref hq, .int (iI (((fdP B fx j).length : Int))), .int (iI (er)), .int (iI (ca)), .int (iI (dn)), .int (iI (rf)), .int (iI (ud)), .ref a, sv, .ref fs]) := by rw [ew_17]; exact (wset_ne _ (by first | exact Ne9.p ne_x_bf | exact Ne.symm (Ne9.p ne_bf_x) | exact ne_x_bf | exact Ne.symm ne_bf_x | exact w_ne hI_x_w_13 hI_bf_w_13 (by intro h; cases h) | exact w_neR hI_x_w_13 hI_bf_w_13 (by first | exact fun q_ => absurd (Nat.succ.inj q_) (by first | assumption | exact Ne9.p (by assumption)) | exact fun q_ => absurd (Nat.succ.inj q_).symm (by first | assumption | exact Ne9.p (by assumption)) | exact Nat.succ_ne_zero _ | exact (Nat.succ_ne_zero _).symm | omega))).trans hI_x_w_13
          refine lv_aload_n hx hb dX1_feed_92 rfl (lv_at hl 2 rfl) ?_
          refine lv_dup hx hb dX1_feed_93 rfl ?_
          refine h_get X hR hF_x_w_16 rfl in_X1 2 (by decide) q1694 rfl dX1_feed_94 ?_
          refine h_iconst hx hb dX1_feed_97 ?_
          refine h_iadd hx hb dX1_feed_98 ?_
          refine W.eq (g2 := F0 m9 99 ls [.int (iI ((((fdP B fx j).length + 1 : Nat) : Int))), .ref x]) (congrArg (fun z_ : Int => F0 m9 99 ls [.int (iI (z_)), .ref x]) (show (((fdP B fx j).length : Int) + 1 : Int) = (((fdP B fx j).length + 1 : Nat) : Int) from (by omega))) ?_
          refine h_put X hR hL hF_x_w_16 (Nat.succ_ne_zero _) rfl in_X1 tyX1_ok nmX1 2 (by decide) q1694 rfl rfl rfl (Nat.le_of_ble_eq_true rfl) dX1_feed_99 (fun w_18 ew_19 H locs hR hL => ?_)
          have hU : Up (fun q_ => q_ = x + 1 ∨ q_ = bf + 1) w w_18 := by rw [ew_19]; exact hU.set hF_x_w_16 (by first | exact Or.inl rfl | exact Or.inl (Or.inl rfl) | exact Or.inl (Or.inr rfl) | exact Or.inl (Or.inr (Or.inl rfl)) | exact Or.inl (Or.inr (Or.inr rfl)) | exact Or.inr ⟨Nat.succ_ne_zero _, by rw [Nat.add_sub_cancel]; assumption⟩ | exact Or.inr ⟨by omega, by assumption⟩) hG _
          have hF_x_w_18 : w_18 x = some (x + 1, oE 0 [.ref bf, .ref hq, .int (iI ((((fdP B fx j).length + 1 : Nat) : Int))), .int (iI (er)), .int (iI (ca)), .int (iI (dn)), .int (iI (rf)), .int (iI (ud)), .ref a, sv, .ref fs]) := by rw [ew_19]; exact wset_eq _ _ _
          have hF_bf_w_18 : w_18 bf = some (bf + 1, iE G 1 800 (zset fb (((fdP B fx j).length : Int)).toNat (b8 (v / 16777216)))) := by rw [ew_19]; exact (wset_ne _ (by first | exact Ne9.p ne_bf_x | exact Ne.symm (Ne9.p ne_x_bf) | exact ne_bf_x | exact Ne.symm ne_x_bf | exact w_ne hF_bf_w_16 hF_x_w_16 (by intro h; cases h) | exact w_neR hF_bf_w_16 hF_x_w_16 (by first | exact fun q_ => absurd (Nat.succ.inj q_) (by first | assumption | exact Ne9.p (by assumption)) | exact fun q_ => absurd (Nat.succ.inj q_).symm (by first | assumption | exact Ne9.p (by assumption)) | exact Nat.succ_ne_zero _ | exact (Nat.succ_ne_zero _).symm | omega))).trans hF_bf_w_16
          have hF_q5_w_18 : w_18 q5 = some (q5 + 1, iE G 0 5 fx) := by rw [ew_19]; exact (wset_ne _ (by first | exact Ne9.p ne_q5_x | exact Ne.symm (Ne9.p ne_x_q5) | exact ne_q5_x | exact Ne.symm ne_x_q5 | exact w_ne hF_q5_w_16 hF_x_w_16 (by intro h; cases h) | exact w_neR hF_q5_w_16 hF_x_w_16 (by first | exact fun q_ => absurd (Nat.succ.inj q_) (by first | assumption | exact Ne9.p (by assumption)) | exact fun q_ => absurd (Nat.succ.inj q_).symm (by first | assumption | exact Ne9.p (by assumption)) | exact Nat.succ_ne_zero _ | exact (Nat.succ_ne_zero _).symm | omega))).trans hF_q5_w_16
          refine h_iinc (lv' := [(11, .int (iI (24 + (-8)))), (10, .int (iI (v))), (0, .ref x), (7, .ref q5), (8, .int (iI (((5 : Nat) : Int)))), (9, .int (iI ((j : Int))))]) hx hb dX1_feed_102 hl (k := 0) rfl (by decide) rfl (fun ls hl => ?_)
          have hl : lv_has ls 12 [(11, .int (iI (16))), (10, .int (iI (v))), (0, .ref x), (7, .ref q5), (8, .int (iI (((5 : Nat) : Int)))), (9, .int (iI ((j : Int))))] := lv_conv hl (congrArg (fun z_ : Int => ([(11, .int (iI (z_))), (10, .int (iI (v))), (0, .ref x), (7, .ref q5), (8, .int (iI (((5 : Nat) : Int)))), (9, .int (iI ((j : Int))))] : List (Nat × Value))) (show (24 + (-8) : Int) = 16 from (by decide)))
          refine lv_goto (tgt := 72) hx hb dX1_feed_105 (by decide) ?_
          refine lv_iload hx hb dX1_feed_72 (lv_at hl 0 rfl) ?_
          refine h_if_lt hx hb 108 dX1_feed_74 (by decide) (by decide) (fun z_ => absurd z_ (by decide)) (fun _ => ?_)
          refine lv_aload_n hx hb dX1_feed_77 rfl (lv_at hl 2 rfl) ?_
          refine h_get X hR hF_x_w_18 rfl in_X1 0 (by decide) q1692 rfl dX1_feed_78 ?_
          refine lv_aload_n hx hb dX1_feed_81 rfl (lv_at hl 2 rfl) ?_
          refine h_get X hR hF_x_w_18 rfl in_X1 2 (by decide) q1694 rfl dX1_feed_82 ?_
          refine lv_iload hx hb dX1_feed_85 (lv_at hl 1 rfl) ?_
          refine lv_iload hx hb dX1_feed_87 (lv_at hl 0 rfl) ?_
          refine h_ishr hx hb 16 65536 dX1_feed_89 hvr (by decide) rfl (by decide) ?_
          refine h_i2b hx hb dX1_feed_90 ⟨by omega, by omega⟩ ?_
          refine h_bast X hR hL hF_bf_w_18 (Nat.succ_ne_zero _) (by omega) (by omega) (b8_r _) dX1_feed_91 (fun w_21 ew_22 H locs hR hL => ?_)
          have hU : Up (fun q_ => q_ = x + 1 ∨ q_ = bf + 1) w w_21 := by rw [ew_22]; exact hU.set hF_bf_w_18 (by first | exact Or.inl rfl | exact Or.inl (Or.inl rfl) | exact Or.inl (Or.inr rfl) | exact Or.inl (Or.inr (Or.inl rfl)) | exact Or.inl (Or.inr (Or.inr rfl)) | exact Or.inr ⟨Nat.succ_ne_zero _, by rw [Nat.add_sub_cancel]; assumption⟩ | exact Or.inr ⟨by omega, by assumption⟩) hG _
          have hF_bf_w_21 : w_21 bf = some (bf + 1, iE G 1 800 (zset (zset fb (((fdP B fx j).length : Int)).toNat (b8 (v / 16777216))) ((((fdP B fx j).length + 1 : Nat) : Int)).toNat (b8 (v / 65536)))) := by rw [ew_22]; exact wset_eq _ _ _
          have hF_x_w_21 : w_21 x = some (x + 1, oE 0 [.ref bf, .ref hq, .int (iI ((((fdP B fx j).length + 1 : Nat) : Int))), .int (iI (er)), .int (iI (ca)), .int (iI (dn)), .int (iI (rf)), .int (iI (ud)), .ref a, sv, .ref fs]) := by rw [ew_22]; exact (wset_ne _ (by first | exact Ne9.p ne_x_bf | exact Ne.symm (Ne9.p ne_bf_x) | exact ne_x_bf | exact Ne.symm ne_bf_x | exact w_ne hF_x_w_18 hF_bf_w_18 (by intro h; cases h) | exact w_neR hF_x_w_18 hF_bf_w_18 (by first | exact fun q_ => absurd (Nat.succ.inj q_) (by first | assumption | exact Ne9.p (by assumption)) | exact fun q_ => absurd (Nat.succ.inj q_).symm (by first | assumption | exact Ne9.p (by assumption)) | exact Nat.succ_ne_zero _ | exact (Nat.succ_ne_zero _).symm | omega))).trans hF_x_w_18
          have hF_q5_w_21 : w_21 q5 = some (q5 + 1, iE G 0 5 fx) := by rw [ew_22]; exact (wset_ne _ (by first | exact Ne9.p ne_q5_bf | exact Ne.symm (Ne9.p ne_bf_q5) | exact ne_q5_bf | exact Ne.symm ne_bf_q5 | exact w_ne hF_q5_w_18 hF_bf_w_18 (by intro h; cases h) | exact w_neR hF_q5_w_18 hF_bf_w_18 (by first | exact fun q_ => absurd (Nat.succ.inj q_) (by first | assumption | exact Ne9.p (by assumption)) | exact fun q_ => absurd (Nat.succ.inj q_).symm (by first | assumption | exact Ne9.p (by assumption)) | exact Nat.succ_ne_zero _ | exact (Nat.succ_ne_zero _).symm | omega))).trans hF_q5_w_18
          refine lv_aload_n hx hb dX1_feed_92 rfl (lv_at hl 2 rfl) ?_
          refine lv_dup hx hb dX1_feed_93 rfl ?_
          refine h_get X hR hF_x_w_21 rfl in_X1 2 (by decide) q1694 rfl dX1_feed_94 ?_
          refine h_iconst hx hb dX1_feed_97 ?_
          refine h_iadd hx hb dX1_feed_98 ?_
          refine W.eq (g2 := F0 m9 99 ls [.int (iI ((((fdP B fx j).length + 2 : Nat) : Int))), .ref x]) (congrArg (fun z_ : Int => F0 m9 99 ls [.int (iI (z_)), .ref x]) (show ((((fdP B fx j).length + 1 : Nat) : Int) + 1 : Int) = (((fdP B fx j).length + 2 : Nat) : Int) from (by omega))) ?_
          refine h_put X hR hL hF_x_w_21 (Nat.succ_ne_zero _) rfl in_X1 tyX1_ok nmX1 2 (by decide) q1694 rfl rfl rfl (Nat.le_of_ble_eq_true rfl) dX1_feed_99 (fun w_23 ew_24 H locs hR hL => ?_)
          have hU : Up (fun q_ => q_ = x + 1 ∨ q_ = bf + 1) w w_23 := by rw [ew_24]; exact hU.set hF_x_w_21 (by first | exact Or.inl rfl | exact Or.inl (Or.inl rfl) | exact Or.inl (Or.inr rfl) | exact Or.inl (Or.inr (Or.inl rfl)) | exact Or.inl (Or.inr (Or.inr rfl)) | exact Or.inr ⟨Nat.succ_ne_zero _, by rw [Nat.add_sub_cancel]; assumption⟩ | exact Or.inr ⟨by omega, by assumption⟩) hG _
          have hF_x_w_23 : w_23 x = some (x + 1, oE 0 [.ref bf, .ref hq, .int (iI ((((fdP B fx j).length + 2 : Nat) : Int))), .int (iI (er)), .int (iI (ca)), .int (iI (dn)), .int (iI (rf)), .int (iI (ud)), .ref a, sv, .ref fs]) := by rw [ew_24]; exact wset_eq _ _ _
          have hF_bf_w_23 : w_23 bf = some (bf + 1, iE G 1 800 (zset (zset fb (((fdP B fx j).length : Int)).toNat (b8 (v / 16777216))) ((((fdP B fx j).length + 1 : Nat) : Int)).toNat (b8 (v / 65536)))) := by rw [ew_24]; exact (wset_ne _ (by first | exact Ne9.p ne_bf_x | exact Ne.symm (Ne9.p ne_x_bf) | exact ne_bf_x | exact Ne.symm ne_x_bf | exact w_ne hF_bf_w_21 hF_x_w_21 (by intro h; cases h) | exact w_neR hF_bf_w_21 hF_x_w_21 (by first | exact fun q_ => absurd (Nat.succ.inj q_) (by first | assumption | exact Ne9.p (by assumption)) | exact fun q_ => absurd (Nat.succ.inj q_).symm (by first | assumption | exact Ne9.p (by assumption)) | exact Nat.succ_ne_zero _ | exact (Nat.succ_ne_zero _).symm | omega))).trans hF_bf_w_21
          have hF_q5_w_23 : w_23 q5 = some (q5 + 1, iE G 0 5 fx) := by rw [ew_24]; exact (wset_ne _ (by first | exact Ne9.p ne_q5_x | exact Ne.symm (Ne9.p ne_x_q5) | exact ne_q5_x | exact Ne.symm ne_x_q5 | exact w_ne hF_q5_w_21 hF_x_w_21 (by intro h; cases h) | exact w_neR hF_q5_w_21 hF_x_w_21 (by first | exact fun q_ => absurd (Nat.succ.inj q_) (by first | assumption | exact Ne9.p (by assumption)) | exact fun q_ => absurd (Nat.succ.inj q_).symm (by first | assumption | exact Ne9.p (by assumption)) | exact Nat.succ_ne_zero _ | exact (Nat.succ_ne_zero _).symm | omega))).trans hF_q5_w_21
          refine h_iinc (lv' := [(11, .int (iI (16 + (-8)))), (10, .int (iI (v))), (0, .ref x), (7, .ref q5), (8, .int (iI (((5 : Nat) : Int)))), (9, .int (iI ((j : Int))))]) hx hb dX1_feed_102 hl (k := 0) rfl (by decide) rfl (fun ls hl => ?_)
          have hl : lv_has ls 12 [(11, .int (iI (8))), (10, .int (iI (v))), (0, .ref x), (7, .ref q5), (8, .int (iI (((5 : Nat) : Int)))), (9, .int (iI ((j : Int))))] := lv_conv hl (congrArg (fun z_ : Int => ([(11, .int (iI (z_))), (10, .int (iI (v))), (0, .ref x), (7, .ref q5), (8, .int (iI (((5 : Nat) : Int)))), (9, .int (iI ((j : Int))))] : List (Nat × Value))) (show (16 + (-8) : Int) = 8 from (by decide)))
          refine lv_goto (tgt := 72) hx hb dX1_feed_105 (by decide) ?_
          refine lv_iload hx hb dX1_feed_72 (lv_at hl 0 rfl) ?_
          refine h_if_lt hx hb 108 dX1_feed_74 (by decide) (by decide) (fun z_ => absurd z_ (by decide)) (fun _ => ?_)
          refine lv_aload_n hx hb dX1_feed_77 rfl (lv_at hl 2 rfl) ?_
          refine h_get X hR hF_x_w_23 rfl in_X1 0 (by decide) q1692 rfl dX1_feed_78 ?_
          refine lv_aload_n hx hb dX1_feed_81 rfl (lv_at hl 2 rfl) ?_
          refine h_get X hR hF_x_w_23 rfl in_X1 2 (by decide) q1694 rfl dX1_feed_82 ?_
          refine lv_iload hx hb dX1_feed_85 (lv_at hl 1 rfl) ?_
          refine lv_iload hx hb dX1_feed_87 (lv_at hl 0 rfl) ?_
          refine h_ishr hx hb 8 256 dX1_feed_89 hvr (by decide) rfl (by decide) ?_
          refine h_i2b hx hb dX1_feed_90 ⟨by omega, by omega⟩ ?_
          refine h_bast X hR hL hF_bf_w_23 (Nat.succ_ne_zero _) (by omega) (by omega) (b8_r _) dX1_feed_91 (fun w_26 ew_27 H locs hR hL => ?_)
          have hU : Up (fun q_ => q_ = x + 1 ∨ q_ = bf + 1) w w_26 := by rw [ew_27]; exact hU.set hF_bf_w_23 (by first | exact Or.inl rfl | exact Or.inl (Or.inl rfl) | exact Or.inl (Or.inr rfl) | exact Or.inl (Or.inr (Or.inl rfl)) | exact Or.inl (Or.inr (Or.inr rfl)) | exact Or.inr ⟨Nat.succ_ne_zero _, by rw [Nat.add_sub_cancel]; assumption⟩ | exact Or.inr ⟨by omega, by assumption⟩) hG _
          have hF_bf_w_26 : w_26 bf = some (bf + 1, iE G 1 800 (zset (zset (zset fb (((fdP B fx j).length : Int)).toNat (b8 (v / 16777216))) ((((fdP B fx j).length + 1 : Nat) : Int)).toNat (b8 (v / 65536))) ((((fdP B fx j).length + 2 : Nat) : Int)).toNat (b8 (v / 256)))) := by rw [ew_27]; exact wset_eq _ _ _
          have hF_x_w_26 : w_26 x = some (x + 1, oE 0 [.ref bf, .ref hq, .int (iI ((((fdP B fx j).length + 2 : Nat) : Int))), .int (iI (er)), .int (iI (ca)), .int (iI (dn)), .int (iI (rf)), .int (iI (ud)), .ref a, sv, .ref fs]) := by rw [ew_27]; exact (wset_ne _ (by first | exact Ne9.p ne_x_bf | exact Ne.symm (Ne9.p ne_bf_x) | exact ne_x_bf | exact Ne.symm ne_bf_x | exact w_ne hF_x_w_23 hF_bf_w_23 (by intro h; cases h) | exact w_neR hF_x_w_23 hF_bf_w_23 (by first | exact fun q_ => absurd (Nat.succ.inj q_) (by first | assumption | exact Ne9.p (by assumption)) | exact fun q_ => absurd (Nat.succ.inj q_).symm (by first | assumption | exact Ne9.p (by assumption)) | exact Nat.succ_ne_zero _ | exact (Nat.succ_ne_zero _).symm | omega))).trans hF_x_w_23
          have hF_q5_w_26 : w_26 q5 = some (q5 + 1, iE G 0 5 fx) := by rw [ew_27]; exact (wset_ne _ (by first | exact Ne9.p ne_q5_bf | exact Ne.symm (Ne9.p ne_bf_q5) | exact ne_q5_bf | exact Ne.symm ne_bf_q5 | exact w_ne hF_q5_w_23 hF_bf_w_23 (by intro h; cases h) | exact w_neR hF_q5_w_23 hF_bf_w_23 (by first | exact fun q_ => absurd (Nat.succ.inj q_) (by first | assumption | exact Ne9.p (by assumption)) | exact fun q_ => absurd (Nat.succ.inj q_).symm (by first | assumption | exact Ne9.p (by assumption)) | exact Nat.succ_ne_zero _ | exact (Nat.succ_ne_zero _).symm | omega))).trans hF_q5_w_23
          refine lv_aload_n hx hb dX1_feed_92 rfl (lv_at hl 2 rfl) ?_
          refine lv_dup hx hb dX1_feed_93 rfl ?_
          refine h_get X hR hF_x_w_26 rfl in_X1 2 (by decide) q1694 rfl dX1_feed_94 ?_
          refine h_iconst hx hb dX1_feed_97 ?_
          refine h_iadd hx hb dX1_feed_98 ?_
          refine W.eq (g2 := F0 m9 99 ls [.int (iI ((((fdP B fx j).length + 3 : Nat) : Int))), .ref x]) (congrArg (fun z_ : Int => F0 m9 99 ls [.int (iI (z_)), .ref x]) (show ((((fdP B fx j).length + 2 : Nat) : Int) + 1 : Int) = (((fdP B fx j).length + 3 : Nat) : Int) from (by omega))) ?_
          refine h_put X hR hL hF_x_w_26 (Nat.succ_ne_zero _) rfl in_X1 tyX1_ok nmX1 2 (by decide) q1694 rfl rfl rfl (Nat.le_of_ble_eq_true rfl) dX1_feed_99 (fun w_28 ew_29 H locs hR hL => ?_)
          have hU : Up (fun q_ => q_ = x + 1 ∨ q_ = bf + 1) w w_28 := by rw [ew_29]; exact hU.set hF_x_w_26 (by first | exact Or.inl rfl | exact Or.inl (Or.inl rfl) | exact Or.inl (Or.inr rfl) | exact Or.inl (Or.inr (Or.inl rfl)) | exact Or.inl (Or.inr (Or.inr rfl)) | exact Or.inr ⟨Nat.succ_ne_zero _, by rw [Nat.add_sub_cancel]; assumption⟩ | exact Or.inr ⟨by omega, by assumption⟩) hG _
          have hF_x_w_28 : w_28 x = some (x + 1, oE 0 [.ref bf, .ref hq, .int (iI ((((fdP B fx j).length + 3 : Nat) : Int))), .int (iI (er)), .int (iI (ca)), .int (iI (dn)), .int (iI (rf)), .int (iI (ud)), .ref a, sv, .ref fs]) := by rw [ew_29]; exact wset_eq _ _ _
          have hF_bf_w_28 : w_28 bf = some (bf + 1, iE G 1 800 (zset (zset (zset fb (((fdP B fx j).length : Int)).toNat (b8 (v / 16777216))) ((((fdP B fx j).length + 1 : Nat) : Int)).toNat (b8 (v / 65536))) ((((fdP B fx j).length + 2 : Nat) : Int)).toNat (b8 (v / 256)))) := by rw [ew_29]; exact (wset_ne _ (by first | exact Ne9.p ne_bf_x | exact Ne.symm (Ne9.p ne_x_bf) | exact ne_bf_x | exact Ne.symm ne_x_bf | exact w_ne hF_bf_w_26 hF_x_w_26 (by intro h; cases h) | exact w_neR hF_bf_w_26 hF_x_w_26 (by first | exact fun q_ => absurd (Nat.succ.inj q_) (by first | assumption | exact Ne9.p (by assumption)) | exact fun q_ => absurd (Nat.succ.inj q_).symm (by first | assumption | exact Ne9.p (by assumption)) | exact Nat.succ_ne_zero _ | exact (Nat.succ_ne_zero _).symm | omega))).trans hF_bf_w_26
          have hF_q5_w_28 : w_28 q5 = some (q5 + 1, iE G 0 5 fx) := by rw [ew_29]; exact (wset_ne _ (by first | exact Ne9.p ne_q5_x | exact Ne.symm (Ne9.p ne_x_q5) | exact ne_q5_x | exact Ne.symm ne_x_q5 | exact w_ne hF_q5_w_26 hF_x_w_26 (by intro h; cases h) | exact w_neR hF_q5_w_26 hF_x_w_26 (by first | exact fun q_ => absurd (Nat.succ.inj q_) (by first | assumption | exact Ne9.p (by assumption)) | exact fun q_ => absurd (Nat.succ.inj q_).symm (by first | assumption | exact Ne9.p (by assumption)) | exact Nat.succ_ne_zero _ | exact (Nat.succ_ne_zero _).symm | omega))).trans hF_q5_w_26
          refine h_iinc (lv' := [(11, .int (iI (8 + (-8)))), (10, .int (iI (v))), (0, .ref x), (7, .ref q5), (8, .int (iI (((5 : Nat) : Int)))), (9, .int (iI ((j : Int))))]) hx hb dX1_feed_102 hl (k := 0) rfl (by decide) rfl (fun ls hl => ?_)
          have hl : lv_has ls 12 [(11, .int (iI (0))), (10, .int (iI (v))), (0, .ref x), (7, .ref q5), (8, .int (iI (((5 : Nat) : Int)))), (9, .int (iI ((j : Int))))] := lv_conv hl (congrArg (fun z_ : Int => ([(11, .int (iI (z_))), (10, .int (iI (v))), (0, .ref x), (7, .ref q5), (8, .int (iI (((5 : Nat) : Int)))), (9, .int (iI ((j : Int))))] : List (Nat × Value))) (show (8 + (-8) : Int) = 0 from (by decide)))
          refine lv_goto (tgt := 72) hx hb dX1_feed_105 (by decide) ?_
          refine lv_iload hx hb dX1_feed_72 (lv_at hl 0 rfl) ?_
          refine h_if_lt hx hb 108 dX1_feed_74 (by decide) (by decide) (fun z_ => absurd z_ (by decide)) (fun _ => ?_)
          refine lv_aload_n hx hb dX1_feed_77 rfl (lv_at hl 2 rfl) ?_
          refine h_get X hR hF_x_w_28 rfl in_X1 0 (by decide) q1692 rfl dX1_feed_78 ?_
          refine lv_aload_n hx hb dX1_feed_81 rfl (lv_at hl 2 rfl) ?_
          refine h_get X hR hF_x_w_28 rfl in_X1 2 (by decide) q1694 rfl dX1_feed_82 ?_
          refine lv_iload hx hb dX1_feed_85 (lv_at hl 1 rfl) ?_
          refine lv_iload hx hb dX1_feed_87 (lv_at hl 0 rfl) ?_
          refine h_ishr hx hb 0 1 dX1_feed_89 hvr (by decide) rfl (by decide) ?_
          refine h_i2b hx hb dX1_feed_90 ⟨by omega, by omega⟩ ?_
          refine h_bast X hR hL hF_bf_w_28 (Nat.succ_ne_zero _) (by omega) (by omega) (b8_r _) dX1_feed_91 (fun w_31 ew_32 H locs hR hL => ?_)
          have hU : Up (fun q_ => q_ = x + 1 ∨ q_ = bf + 1) w w_31 := by rw [ew_32]; exact hU.set hF_bf_w_28 (by first | exact Or.inl rfl | exact Or.inl (Or.inl rfl) | exact Or.inl (Or.inr rfl) | exact Or.inl (Or.inr (Or.inl rfl)) | exact Or.inl (Or.inr (Or.inr rfl)) | exact Or.inr ⟨Nat.succ_ne_zero _, by rw [Nat.add_sub_cancel]; assumption⟩ | exact Or.inr ⟨by omega, by assumption⟩) hG _
          have hF_bf_w_31 : w_31 bf = some (bf + 1, iE G 1 800 (zset (zset (zset (zset fb (((fdP B fx j).length : Int)).toNat (b8 (v / 16777216))) ((((fdP B fx j).length + 1 : Nat) : Int)).toNat (b8 (v / 65536))) ((((fdP B fx j).length + 2 : Nat) : Int)).toNat (b8 (v / 256))) ((((fdP B fx j).length + 3 : Nat) : Int)).toNat (b8 (v / 1)))) := by rw [ew_32]; exact wset_eq _ _ _
          have hF_x_w_31 : w_31 x = some (x + 1, oE 0 [.ref bf, .ref hq, .int (iI ((((fdP B fx j).length + 3 : Nat) : Int))), .int (iI (er)), .int (iI (ca)), .int (iI (dn)), .int (iI (rf)), .int (iI (ud)), .ref a, sv, .ref fs]) := by rw [ew_32]; exact (wset_ne _ (by first | exact Ne9.p ne_x_bf | exact Ne.symm (Ne9.p ne_bf_x) | exact ne_x_bf | exact Ne.symm ne_bf_x | exact w_ne hF_x_w_28 hF_bf_w_28 (by intro h; cases h) | exact w_neR hF_x_w_28 hF_bf_w_28 (by first | exact fun q_ => absurd (Nat.succ.inj q_) (by first | assumption | exact Ne9.p (by assumption)) | exact fun q_ => absurd (Nat.succ.inj q_).symm (by first | assumption | exact Ne9.p (by assumption)) | exact Nat.succ_ne_zero _ | exact (Nat.succ_ne_zero _).symm | omega))).trans hF_x_w_28
          have hF_q5_w_31 : w_31 q5 = some (q5 + 1, iE G 0 5 fx) := by rw [ew_32]; exact (wset_ne _ (by first | exact Ne9.p ne_q5_bf | exact Ne.symm (Ne9.p ne_bf_q5) | exact ne_q5_bf | exact Ne.symm ne_bf_q5 | exact w_ne hF_q5_w_28 hF_bf_w_28 (by intro h; cases h) | exact w_neR hF_q5_w_28 hF_bf_w_28 (by first | exact fun q_ => absurd (Nat.succ.inj q_) (by first | assumption | exact Ne9.p (by assumption)) | exact fun q_ => absurd (Nat.succ.inj q_).symm (by first | assumption | exact Ne9.p (by assumption)) | exact Nat.succ_ne_zero _ | exact (Nat.succ_ne_zero _).symm | omega))).trans hF_q5_w_28
          refine lv_aload_n hx hb dX1_feed_92 rfl (lv_at hl 2 rfl) ?_
          refine lv_dup hx hb dX1_feed_93 rfl ?_
          refine h_get X hR hF_x_w_31 rfl in_X1 2 (by decide) q1694 rfl dX1_feed_94 ?_
          refine h_iconst hx hb dX1_feed_97 ?_
          refine h_iadd hx hb dX1_feed_98 ?_
          refine W.eq (g2 := F0 m9 99 ls [.int (iI ((((fdP B fx j).length + 4 : Nat) : Int))), .ref x]) (congrArg (fun z_ : Int => F0 m9 99 ls [.int (iI (z_)), .ref x]) (show ((((fdP B fx j).length + 3 : Nat) : Int) + 1 : Int) = (((fdP B fx j).length + 4 : Nat) : Int) from (by omega))) ?_
          refine h_put X hR hL hF_x_w_31 (Nat.succ_ne_zero _) rfl in_X1 tyX1_ok nmX1 2 (by decide) q1694 rfl rfl rfl (Nat.le_of_ble_eq_true rfl) dX1_feed_99 (fun w_33 ew_34 H locs hR hL => ?_)
          have hU : Up (fun q_ => q_ = x + 1 ∨ q_ = bf + 1) w w_33 := by rw [ew_34]; exact hU.set hF_x_w_31 (by first | exact Or.inl rfl | exact Or.inl (Or.inl rfl) | exact Or.inl (Or.inr rfl) | exact Or.inl (Or.inr (Or.inl rfl)) | exact Or.inl (Or.inr (Or.inr rfl)) | exact Or.inr ⟨Nat.succ_ne_zero _, by rw [Nat.add_sub_cancel]; assumption⟩ | exact Or.inr ⟨by omega, by assumption⟩) hG _
          have hF_x_w_33 : w_33 x = some (x + 1, oE 0 [.ref bf, .ref hq, .int (iI ((((fdP B fx j).length + 4 : Nat) : Int))), .int (iI (er)), .int (iI (ca)), .int (iI (dn)), .int (iI (rf)), .int (iI (ud)), .ref a, sv, .ref fs]) := by rw [ew_34]; exact wset_eq _ _ _
          have hF_bf_w_33 : w_33 bf = some (bf + 1, iE G 1 800 (zset (zset (zset (zset fb (((fdP B fx j).length : Int)).toNat (b8 (v / 16777216))) ((((fdP B fx j).length + 1 : Nat) : Int)).toNat (b8 (v / 65536))) ((((fdP B fx j).length + 2 : Nat) : Int)).toNat (b8 (v / 256))) ((((fdP B fx j).length + 3 : Nat) : Int)).toNat (b8 (v / 1)))) := by rw [ew_34]; exact (wset_ne _ (by first | exact Ne9.p ne_bf_x | exact Ne.symm (Ne9.p ne_x_bf) | exact ne_bf_x | exact Ne.symm ne_x_bf | exact w_ne hF_bf_w_31 hF_x_w_31 (by intro h; cases h) | exact w_neR hF_bf_w_31 hF_x_w_31 (by first | exact fun q_ => absurd (Nat.succ.inj q_) (by first | assumption | exact Ne9.p (by assumption)) | exact fun q_ => absurd (Nat.succ.inj q_).symm (by first | assumption | exact Ne9.p (by assumption)) | exact Nat.succ_ne_zero _ | exact (Nat.succ_ne_zero _).symm | omega))).trans hF_bf_w_31
          have hF_q5_w_33 : w_33 q5 = some (q5 + 1, iE G 0 5 fx) := by rw [ew_34]; exact (wset_ne _ (by first | exact Ne9.p ne_q5_x | exact Ne.symm (Ne9.p ne_x_q5) | exact ne_q5_x | exact Ne.symm ne_x_q5 | exact w_ne hF_q5_w_31 hF_x_w_31 (by intro h; cases h) | exact w_neR hF_q5_w_31 hF_x_w_31 (by first | exact fun q_ => absurd (Nat.succ.inj q_) (by first | assumption | exact Ne9.p (by assumption)) | exact fun q_ => absurd (Nat.succ.inj q_).symm (by first | assumption | exact Ne9.p (by assumption)) | exact Nat.succ_ne_zero _ | exact (Nat.succ_ne_zero _).symm | omega))).trans hF_q5_w_31
          refine h_iinc (lv' := [(11, .int (iI (0 + (-8)))), (10, .int (iI (v))), (0, .ref x), (7, .ref q5), (8, .int (iI (((5 : Nat) : Int)))), (9, .int (iI ((j : Int))))]) hx hb dX1_feed_102 hl (k := 0) rfl (by decide) rfl (fun ls hl => ?_)
          have hl : lv_has ls 12 [(11, .int (iI (-8))), (10, .int (iI (v))), (0, .ref x), (7, .ref q5), (8, .int (iI (((5 : Nat) : Int)))), (9, .int (iI ((j : Int))))] := lv_conv hl (congrArg (fun z_ : Int => ([(11, .int (iI (z_))), (10, .int (iI (v))), (0, .ref x), (7, .ref q5), (8, .int (iI (((5 : Nat) : Int)))), (9, .int (iI ((j : Int))))] : List (Nat × Value))) (show (0 + (-8) : Int) = -8 from (by decide)))
          refine lv_goto (tgt := 72) hx hb dX1_feed_105 (by decide) ?_
          refine lv_iload hx hb dX1_feed_72 (lv_at hl 0 rfl) ?_
          refine h_if_lt hx hb 108 dX1_feed_74 (by decide) (by decide) (fun _ => ?_) (fun z_ => absurd z_ (by decide))
          have hb4 : BufAt G w_33 bf (bf + 1) (fdP B fx j ++ by4 v) := buf4 hTW hfb (by omega) hF_bf_w_33
          have hT1 : fdP B fx (j + 1) = fdP B fx j ++ by4 v := by rw [hv]; rfl
          rw [← hT1] at hb4
          obtain ⟨fb1, hb41, hn1, hn2⟩ := hb4
          have hx4 : w_33 x = some (x + 1, oE 0 [.ref bf, .ref hq, .int (iI (((fdP B fx (j + 1)).length : Int))), .int (iI (er)), .int (iI (ca)), .int (iI (dn)), .int (iI (rf)), .int (iI (ud)), .ref a, sv, .ref fs]) := by have h_ := hF_x_w_33; rw [show (((fdP B fx j).length + 4 : Nat) : Int) = ((fdP B fx (j + 1)).length : Int) from by rw [fdP_len, fdP_len]; omega] at h_; exact h_
          refine h_iinc (lv' := [(9, .int (iI ((j : Int) + 1))), (11, .int (iI (-8))), (10, .int (iI (v))), (0, .ref x), (7, .ref q5), (8, .int (iI (((5 : Nat) : Int))))]) hx hb dX1_feed_108 hl (k := 5) rfl (by decide) rfl (fun ls hl => ?_)
          refine lv_goto (tgt := 54) hx hb dX1_feed_111 (by decide) ?_
          exact ih_14 (j + 1) fb1 w_33 hjl hn1 hn2 hF_q5_w_33 hx4 hb41 hU (by omega) _ _ _ hR hL (lv_sub hl [3, 4, 5, 0] rfl)
    exact LOOP_14 _ 0 fb0 w_11 (Nat.zero_le _) hTW0 hfb0 hq5_ hF_x_w_11 hF_bf_w_11 hU (Nat.lt_succ_self _) _ _ _ hR hL (lv_sub hl [4, 2, 1, 0] rfl)
  ·
    refine h_iconst hx hb dX1_feed_13 ?_
    exact h_ireturn hx hb hlk hret hR hL rfl ⟨(if_pos (by omega)).symm, by rw [fdA_n c_8]; exact hX, by rw [fdA_n c_8]; exact hB0, hU⟩ (by omega) (by omega) rfl rfl dX1_feed_14
