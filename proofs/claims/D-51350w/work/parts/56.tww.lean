/-! the twin: feed -/
set_option maxRecDepth 100000
def by1 (v : Int) (k : Nat) : Int := v / ((2 ^ (24 - 8 * k) : Nat) : Int) % 256
def by4 (v : Int) : List Int := [v / 16777216 % 256, v / 65536 % 256, v / 256 % 256, v / 1 % 256]
theorem by4_r {v x : Int} (h : x ∈ by4 v) : 0 ≤ x ∧ x ≤ 255 := by
  simp only [by4, List.mem_cons, List.not_mem_nil, or_false] at h
  rcases h with h | h | h | h <;> subst h <;> omega
theorem TxW.app {B D : List Int} (h : TxW B) (hl : B.length + D.length ≤ 800) (hD : ∀ x ∈ D, 0 ≤ x ∧ x ≤ 255) : TxW (B ++ D) := by
  refine ⟨by rw [List.length_append]; exact hl, fun k hk => ?_⟩
  rw [List.length_append] at hk
  rw [List.getD_eq_getElem?_getD]
  by_cases q : k < B.length
  · rw [List.getElem?_append_left q, ← List.getD_eq_getElem?_getD]; exact h.2 k q
  · rw [List.getElem?_append_right (by omega), List.getElem?_eq_getElem (by omega), Option.getD_some]; exact hD _ (List.getElem_mem _)
theorem BfAt.app1 {t t1 : Tw} {B : List Int} {x : Int} (h : BfAt t B) (h0 : B.length < 800) (hx : 0 ≤ x ∧ x ≤ 255) (h14 : t1.2 14 = zset (t.2 14) B.length x) : BfAt t1 (B ++ [x]) := by
  refine ⟨h.1.app (by simp; omega) (fun y hy => by rw [List.mem_singleton.mp hy]; exact hx), fun k hk => ?_⟩
  rw [List.length_append, List.length_singleton] at hk
  rw [h14]; unfold zset
  by_cases q : k = B.length
  · rw [if_pos q, q]; simp
  · rw [if_neg q, List.getD_eq_getElem?_getD, List.getElem?_append_left (by omega), ← List.getD_eq_getElem?_getD]; exact h.2 k (by omega)
def fdB (B : List Int) (a b c d e : Int) : List Int := B ++ by4 a ++ by4 b ++ by4 c ++ by4 d ++ by4 e
def fdA (B : List Int) (a b c d e : Int) : List Int := if 800 < B.length + 20 then B else fdB B a b c d e
theorem fdB_len (B : List Int) (a b c d e : Int) : (fdB B a b c d e).length = B.length + 20 := by simp [fdB, by4]

theorem pn_yX10_bytes : ParN yX10_bytes 1 := by decide +kernel

set_option maxHeartbeats 4000000 in
set_option maxRecDepth 100000 in
/-- bytes -/
theorem m_bytes (l : Launch) (G : Gl) (w : Wd) (a : Nat) (ad : Nat → Nat) (t : Tw) (hT : TwAt G w a ad t) (v : Int) (B : List Int) (hv : R32 v) (hB : BfAt t B) (hb15 : t.1 15 = (B.length : Int)) (h8 : B.length + 4 ≤ 800) : HM l yX10_bytes cX10_bytes 3 none 1 0 0 G [.ref a, .int (iI (v))] w (QV G (fun w_ => ∃ t_ : Tw, TwS G w w_ a ad t_ ∧ TwE [14, 15] t t_ ∧ BfAt t_ (B ++ by4 v) ∧ t_.1 15 = ((B ++ by4 v).length : Int))) := by
  refine HM.mk (by decide +kernel) (Nat.le_of_ble_eq_true rfl) ?_
  intro p9 e9 s9 m9 a9 b9 meth9 c9 ls X hret hlk hnm hl H hR
  have hx := X.1.1
  have hb := X.1.2.1
  have hl : lv_has ls 3 [(0, .ref a), (1, .int (iI (v)))] := hl
  have hL : LK G [] := fun q h => absurd h List.not_mem_nil
  generalize ([] : List Loc) = locs at hL ⊢
  have hTb := hT
  have hT : TwS G w w a ad t := TwS.rf hT
  refine h_bipush hx hb dX10_bytes_0 (by decide) ?_
  refine lv_istore_n (lv' := [(2, .int (iI (24))), (0, .ref a), (1, .int (iI (v)))]) hx hb dX10_bytes_2 rfl hl (by decide) rfl (fun ls hl => ?_)
  refine lv_iload_n hx hb dX10_bytes_3 rfl (lv_at hl 0 rfl) ?_
  refine h_if_lt hx hb 39 dX10_bytes_4 (by decide) (by decide) (fun z_ => absurd z_ (by decide)) (fun _ => ?_)
  refine lv_aload_n hx hb dX10_bytes_7 rfl (lv_at hl 1 rfl) ?_
  refine tw_get X hR hT 14 (by decide) q2955 rfl dX10_bytes_8 ?_
  refine lv_aload_n hx hb dX10_bytes_11 rfl (lv_at hl 1 rfl) ?_
  refine tw_get X hR hT 15 (by decide) q2956 (v := .int (iI ((B.length : Int)))) (congrArg (fun z => some (Value.int (iI z))) (hb15)) dX10_bytes_12 ?_
  refine lv_iload_n hx hb dX10_bytes_15 rfl (lv_at hl 2 rfl) ?_
  refine lv_iload_n hx hb dX10_bytes_16 rfl (lv_at hl 0 rfl) ?_
  refine h_ishr hx hb 24 16777216 dX10_bytes_17 hv (by decide) rfl (by decide) ?_
  refine h_sipush hx hb dX10_bytes_18 (by decide) ?_
  refine h_iand hx hb dX10_bytes_21 (iI_and255 _) ?_
  refine tw_iast X hR hL hT (k := 14) (by decide) B.length (by omega) (by show _ < _; simp only [twN]; omega) (by omega) dX10_bytes_22 (fun t_2 et_3 w_4 hT H locs hR hL => ?_)
  have hE_t_2 := TwE.ast et_3
  have hv_t_2 := tast_v et_3
  have hB1 : BfAt t_2 (B ++ [v / 16777216 % 256]) := BfAt.app1 (t := t) hB (by (try simp only [List.length_append, List.length_cons, List.length_nil]); omega) ⟨by omega, by omega⟩ (by rw [hv_t_2]; try (congr 1; simp only [List.length_append, List.length_cons, List.length_nil]))
  refine lv_aload_n hx hb dX10_bytes_23 rfl (lv_at hl 1 rfl) ?_
  refine lv_dup hx hb dX10_bytes_24 rfl ?_
  refine tw_get X hR hT 15 (by decide) q2956 (v := .int (iI ((B.length : Int)))) (congrArg (fun z => some (Value.int (iI z))) (((hE_t_2 15 (by decide)).1).trans hb15)) dX10_bytes_25 ?_
  refine h_iconst hx hb dX10_bytes_28 ?_
  refine h_iadd hx hb dX10_bytes_29 ?_
  refine tw_puti X hR hL hT 15 (by decide) q2956 rfl rfl rfl twF_s15 (by omega) dX10_bytes_30 (fun t_5 et_6 w_7 hT H locs hR hL => ?_)
  have hE_t_5 := TwE.put et_6
  have hv_t_5 := tput_v et_6
  have hC1 : BfAt t_5 (B ++ [v / 16777216 % 256]) := ⟨hB1.1, fun k hk => by rw [(hE_t_5 14 (by decide)).2]; exact hB1.2 k hk⟩
  have h15_1 : t_5.1 15 = ((B.length + 1 : Nat) : Int) := (hv_t_5).trans (by omega)
  refine h_iinc (lv' := [(2, .int (iI (24 + (-8)))), (0, .ref a), (1, .int (iI (v)))]) hx hb dX10_bytes_33 hl (k := 0) rfl (by decide) rfl (fun ls hl => ?_)
  have hl : lv_has ls 3 [(2, .int (iI (16))), (0, .ref a), (1, .int (iI (v)))] := lv_conv hl (congrArg (fun z_ : Int => ([(2, .int (iI (z_))), (0, .ref a), (1, .int (iI (v)))] : List (Nat × Value))) (show (24 + (-8) : Int) = 16 from (by omega)))
  refine lv_goto (tgt := 3) hx hb dX10_bytes_36 (by decide) ?_
  refine lv_iload_n hx hb dX10_bytes_3 rfl (lv_at hl 0 rfl) ?_
  refine h_if_lt hx hb 39 dX10_bytes_4 (by decide) (by decide) (fun z_ => absurd z_ (by decide)) (fun _ => ?_)
  refine lv_aload_n hx hb dX10_bytes_7 rfl (lv_at hl 1 rfl) ?_
  refine tw_get X hR hT 14 (by decide) q2955 rfl dX10_bytes_8 ?_
  refine lv_aload_n hx hb dX10_bytes_11 rfl (lv_at hl 1 rfl) ?_
  refine tw_get X hR hT 15 (by decide) q2956 (v := .int (iI (((B.length + 1 : Nat) : Int)))) (congrArg (fun z => some (Value.int (iI z))) (h15_1)) dX10_bytes_12 ?_
  refine lv_iload_n hx hb dX10_bytes_15 rfl (lv_at hl 2 rfl) ?_
  refine lv_iload_n hx hb dX10_bytes_16 rfl (lv_at hl 0 rfl) ?_
  refine h_ishr hx hb 16 65536 dX10_bytes_17 hv (by decide) rfl (by decide) ?_
  refine h_sipush hx hb dX10_bytes_18 (by decide) ?_
  refine h_iand hx hb dX10_bytes_21 (iI_and255 _) ?_
  refine tw_iast X hR hL hT (k := 14) (by decide) (B.length + 1) (by omega) (by show _ < _; simp only [twN]; omega) (by omega) dX10_bytes_22 (fun t_9 et_10 w_11 hT H locs hR hL => ?_)
  have hE_t_9 := TwE.ast et_10
  have hv_t_9 := tast_v et_10
  have hB2 : BfAt t_9 ((B ++ [v / 16777216 % 256]) ++ [v / 65536 % 256]) := BfAt.app1 (t := t_5) hC1 (by (try simp only [List.length_append, List.length_cons, List.length_nil]); omega) ⟨by omega, by omega⟩ (by rw [hv_t_9]; try (congr 1; simp only [List.length_append, List.length_cons, List.length_nil]))
  refine lv_aload_n hx hb dX10_bytes_23 rfl (lv_at hl 1 rfl) ?_
  refine lv_dup hx hb dX10_bytes_24 rfl ?_
  refine tw_get X hR hT 15 (by decide) q2956 (v := .int (iI (((B.length + 1 : Nat) : Int)))) (congrArg (fun z => some (Value.int (iI z))) (((hE_t_9 15 (by decide)).1).trans h15_1)) dX10_bytes_25 ?_
  refine h_iconst hx hb dX10_bytes_28 ?_
  refine h_iadd hx hb dX10_bytes_29 ?_
  refine tw_puti X hR hL hT 15 (by decide) q2956 rfl rfl rfl twF_s15 (by omega) dX10_bytes_30 (fun t_12 et_13 w_14 hT H locs hR hL => ?_)
  have hE_t_12 := TwE.put et_13
  have hv_t_12 := tput_v et_13
  have hC2 : BfAt t_12 ((B ++ [v / 16777216 % 256]) ++ [v / 65536 % 256]) := ⟨hB2.1, fun k hk => by rw [(hE_t_12 14 (by decide)).2]; exact hB2.2 k hk⟩
  have h15_2 : t_12.1 15 = ((B.length + 2 : Nat) : Int) := (hv_t_12).trans (by omega)
  refine h_iinc (lv' := [(2, .int (iI (16 + (-8)))), (0, .ref a), (1, .int (iI (v)))]) hx hb dX10_bytes_33 hl (k := 0) rfl (by decide) rfl (fun ls hl => ?_)
  have hl : lv_has ls 3 [(2, .int (iI (8))), (0, .ref a), (1, .int (iI (v)))] := lv_conv hl (congrArg (fun z_ : Int => ([(2, .int (iI (z_))), (0, .ref a), (1, .int (iI (v)))] : List (Nat × Value))) (show (16 + (-8) : Int) = 8 from (by omega)))
  refine lv_goto (tgt := 3) hx hb dX10_bytes_36 (by decide) ?_
  refine lv_iload_n hx hb dX10_bytes_3 rfl (lv_at hl 0 rfl) ?_
  refine h_if_lt hx hb 39 dX10_bytes_4 (by decide) (by decide) (fun z_ => absurd z_ (by decide)) (fun _ => ?_)
  refine lv_aload_n hx hb dX10_bytes_7 rfl (lv_at hl 1 rfl) ?_
  refine tw_get X hR hT 14 (by decide) q2955 rfl dX10_bytes_8 ?_
  refine lv_aload_n hx hb dX10_bytes_11 rfl (lv_at hl 1 rfl) ?_
  refine tw_get X hR hT 15 (by decide) q2956 (v := .int (iI (((B.length + 2 : Nat) : Int)))) (congrArg (fun z => some (Value.int (iI z))) (h15_2)) dX10_bytes_12 ?_
  refine lv_iload_n hx hb dX10_bytes_15 rfl (lv_at hl 2 rfl) ?_
  refine lv_iload_n hx hb dX10_bytes_16 rfl (lv_at hl 0 rfl) ?_
  refine h_ishr hx hb 8 256 dX10_bytes_17 hv (by decide) rfl (by decide) ?_
  refine h_sipush hx hb dX10_bytes_18 (by decide) ?_
  refine h_iand hx hb dX10_bytes_21 (iI_and255 _) ?_
  refine tw_iast X hR hL hT (k := 14) (by decide) (B.length + 2) (by omega) (by show _ < _; simp only [twN]; omega) (by omega) dX10_bytes_22 (fun t_16 et_17 w_18 hT H locs hR hL => ?_)
  have hE_t_16 := TwE.ast et_17
  have hv_t_16 := tast_v et_17
  have hB3 : BfAt t_16 (((B ++ [v / 16777216 % 256]) ++ [v / 65536 % 256]) ++ [v / 256 % 256]) := BfAt.app1 (t := t_12) hC2 (by (try simp only [List.length_append, List.length_cons, List.length_nil]); omega) ⟨by omega, by omega⟩ (by rw [hv_t_16]; try (congr 1; simp only [List.length_append, List.length_cons, List.length_nil]))
  refine lv_aload_n hx hb dX10_bytes_23 rfl (lv_at hl 1 rfl) ?_
  refine lv_dup hx hb dX10_bytes_24 rfl ?_
  refine tw_get X hR hT 15 (by decide) q2956 (v := .int (iI (((B.length + 2 : Nat) : Int)))) (congrArg (fun z => some (Value.int (iI z))) (((hE_t_16 15 (by decide)).1).trans h15_2)) dX10_bytes_25 ?_
  refine h_iconst hx hb dX10_bytes_28 ?_
  refine h_iadd hx hb dX10_bytes_29 ?_
  refine tw_puti X hR hL hT 15 (by decide) q2956 rfl rfl rfl twF_s15 (by omega) dX10_bytes_30 (fun t_19 et_20 w_21 hT H locs hR hL => ?_)
  have hE_t_19 := TwE.put et_20
  have hv_t_19 := tput_v et_20
  have hC3 : BfAt t_19 (((B ++ [v / 16777216 % 256]) ++ [v / 65536 % 256]) ++ [v / 256 % 256]) := ⟨hB3.1, fun k hk => by rw [(hE_t_19 14 (by decide)).2]; exact hB3.2 k hk⟩
  have h15_3 : t_19.1 15 = ((B.length + 3 : Nat) : Int) := (hv_t_19).trans (by omega)
  refine h_iinc (lv' := [(2, .int (iI (8 + (-8)))), (0, .ref a), (1, .int (iI (v)))]) hx hb dX10_bytes_33 hl (k := 0) rfl (by decide) rfl (fun ls hl => ?_)
  have hl : lv_has ls 3 [(2, .int (iI (0))), (0, .ref a), (1, .int (iI (v)))] := lv_conv hl (congrArg (fun z_ : Int => ([(2, .int (iI (z_))), (0, .ref a), (1, .int (iI (v)))] : List (Nat × Value))) (show (8 + (-8) : Int) = 0 from (by omega)))
  refine lv_goto (tgt := 3) hx hb dX10_bytes_36 (by decide) ?_
  refine lv_iload_n hx hb dX10_bytes_3 rfl (lv_at hl 0 rfl) ?_
  refine h_if_lt hx hb 39 dX10_bytes_4 (by decide) (by decide) (fun z_ => absurd z_ (by decide)) (fun _ => ?_)
  refine lv_aload_n hx hb dX10_bytes_7 rfl (lv_at hl 1 rfl) ?_
  refine tw_get X hR hT 14 (by decide) q2955 rfl dX10_bytes_8 ?_
  refine lv_aload_n hx hb dX10_bytes_11 rfl (lv_at hl 1 rfl) ?_
  refine tw_get X hR hT 15 (by decide) q2956 (v := .int (iI (((B.length + 3 : Nat) : Int)))) (congrArg (fun z => some (Value.int (iI z))) (h15_3)) dX10_bytes_12 ?_
  refine lv_iload_n hx hb dX10_bytes_15 rfl (lv_at hl 2 rfl) ?_
  refine lv_iload_n hx hb dX10_bytes_16 rfl (lv_at hl 0 rfl) ?_
  refine h_ishr hx hb 0 1 dX10_bytes_17 hv (by decide) rfl (by decide) ?_
  refine h_sipush hx hb dX10_bytes_18 (by decide) ?_
  refine h_iand hx hb dX10_bytes_21 (iI_and255 _) ?_
  refine tw_iast X hR hL hT (k := 14) (by decide) (B.length + 3) (by omega) (by show _ < _; simp only [twN]; omega) (by omega) dX10_bytes_22 (fun t_23 et_24 w_25 hT H locs hR hL => ?_)
  have hE_t_23 := TwE.ast et_24
  have hv_t_23 := tast_v et_24
  have hB4 : BfAt t_23 ((((B ++ [v / 16777216 % 256]) ++ [v / 65536 % 256]) ++ [v / 256 % 256]) ++ [v / 1 % 256]) := BfAt.app1 (t := t_19) hC3 (by (try simp only [List.length_append, List.length_cons, List.length_nil]); omega) ⟨by omega, by omega⟩ (by rw [hv_t_23]; try (congr 1; simp only [List.length_append, List.length_cons, List.length_nil]))
  refine lv_aload_n hx hb dX10_bytes_23 rfl (lv_at hl 1 rfl) ?_
  refine lv_dup hx hb dX10_bytes_24 rfl ?_
  refine tw_get X hR hT 15 (by decide) q2956 (v := .int (iI (((B.length + 3 : Nat) : Int)))) (congrArg (fun z => some (Value.int (iI z))) (((hE_t_23 15 (by decide)).1).trans h15_3)) dX10_bytes_25 ?_
  refine h_iconst hx hb dX10_bytes_28 ?_
  refine h_iadd hx hb dX10_bytes_29 ?_
  refine tw_puti X hR hL hT 15 (by decide) q2956 rfl rfl rfl twF_s15 (by omega) dX10_bytes_30 (fun t_26 et_27 w_28 hT H locs hR hL => ?_)
  have hE_t_26 := TwE.put et_27
  have hv_t_26 := tput_v et_27
  have hC4 : BfAt t_26 ((((B ++ [v / 16777216 % 256]) ++ [v / 65536 % 256]) ++ [v / 256 % 256]) ++ [v / 1 % 256]) := ⟨hB4.1, fun k hk => by rw [(hE_t_26 14 (by decide)).2]; exact hB4.2 k hk⟩
  have h15_4 : t_26.1 15 = ((B.length + 4 : Nat) : Int) := (hv_t_26).trans (by omega)
  refine h_iinc (lv' := [(2, .int (iI (0 + (-8)))), (0, .ref a), (1, .int (iI (v)))]) hx hb dX10_bytes_33 hl (k := 0) rfl (by decide) rfl (fun ls hl => ?_)
  have hl : lv_has ls 3 [(2, .int (iI (-8))), (0, .ref a), (1, .int (iI (v)))] := lv_conv hl (congrArg (fun z_ : Int => ([(2, .int (iI (z_))), (0, .ref a), (1, .int (iI (v)))] : List (Nat × Value))) (show (0 + (-8) : Int) = -8 from (by omega)))
  refine lv_goto (tgt := 3) hx hb dX10_bytes_36 (by decide) ?_
  refine lv_iload_n hx hb dX10_bytes_3 rfl (lv_at hl 0 rfl) ?_
  refine h_if_lt hx hb 39 dX10_bytes_4 (by decide) (by decide) (fun _ => ?_) (fun z_ => absurd z_ (by decide))
  exact h_vreturn hx hb hlk hret hR hL ⟨t_26, hT, (TwE.tr (S2 := [14, 15]) (TwE.tr (S2 := [14, 15]) (TwE.tr (S2 := [14, 15]) (TwE.tr (S2 := [14, 15]) (TwE.tr (S2 := [14, 15]) (TwE.tr (S2 := [14, 15]) (TwE.tr (S2 := [14, 15]) (TwE.tr (S2 := [14, 15]) (TwE.rf : TwE [] t t) hE_t_2 rfl rfl) hE_t_5 rfl rfl) hE_t_9 rfl rfl) hE_t_12 rfl rfl) hE_t_16 rfl rfl) hE_t_19 rfl rfl) hE_t_23 rfl rfl) hE_t_26 rfl rfl), ⟨by have h_ := hC4; rw [List.append_assoc, List.append_assoc, List.append_assoc] at h_; exact h_, (h15_4).trans (by simp only [List.length_append, by4, List.length_cons, List.length_nil])⟩⟩ (by omega) (by omega) rfl rfl dX10_bytes_39

set_option maxHeartbeats 4000000 in
set_option maxRecDepth 100000 in
/-- feed -/
theorem m_feed (l : Launch) (G : Gl) (w : Wd) (a : Nat) (ad : Nat → Nat) (t : Tw) (hT : TwAt G w a ad t) (x1 : Int) (x2 : Int) (x3 : Int) (x4 : Int) (x5 : Int) (B : List Int) (hx_x1 : R32 x1) (hx_x2 : R32 x2) (hx_x3 : R32 x3) (hx_x4 : R32 x4) (hx_x5 : R32 x5) (hB : BfAt t B) (hb15 : t.1 15 = (B.length : Int)) : HM l yX10_feed cX10_feed 6 (some .int) 2 0 0 G [.ref a, .int (iI (x1)), .int (iI (x2)), .int (iI (x3)), .int (iI (x4)), .int (iI (x5))] w (QI G (fun z_ w_ => z_ = (if 800 < (B.length : Int) + 20 then -1 else (B.length : Int) + 20) ∧ ∃ t_ : Tw, TwS G w w_ a ad t_ ∧ TwE [0, 14, 15] t t_ ∧ t_.1 0 = 0 ∧ BfAt t_ (fdA B x1 x2 x3 x4 x5) ∧ t_.1 15 = ((fdA B x1 x2 x3 x4 x5).length : Int))) := by
  refine HM.mk (by decide +kernel) (Nat.le_of_ble_eq_true rfl) ?_
  intro p9 e9 s9 m9 a9 b9 meth9 c9 ls X hret hlk hnm hl H hR
  have hx := X.1.1
  have hb := X.1.2.1
  have hl : lv_has ls 6 [(0, .ref a), (1, .int (iI (x1))), (2, .int (iI (x2))), (3, .int (iI (x3))), (4, .int (iI (x4))), (5, .int (iI (x5)))] := hl
  have hL : LK G [] := fun q h => absurd h List.not_mem_nil
  generalize ([] : List Loc) = locs at hL ⊢
  have hTb := hT
  have hT : TwS G w w a ad t := TwS.rf hT
  have hB8 := hB.1.1
  refine lv_aload_n hx hb dX10_feed_0 rfl (lv_at hl 0 rfl) ?_
  refine h_iconst hx hb dX10_feed_1 ?_
  refine tw_puti X hR hL hT 0 (by decide) q2941 rfl rfl rfl twF_s0 (by omega) dX10_feed_2 (fun t_1 et_2 w_3 hT H locs hR hL => ?_)
  have hE_t_1 := TwE.put et_2
  have hv_t_1 := tput_v et_2
  refine lv_aload_n hx hb dX10_feed_5 rfl (lv_at hl 0 rfl) ?_
  refine tw_get X hR hT 15 (by decide) q2956 (v := .int (iI ((B.length : Int)))) (congrArg (fun z => some (Value.int (iI z))) (((hE_t_1 15 (by decide)).1).trans hb15)) dX10_feed_6 ?_
  refine h_bipush hx hb dX10_feed_9 (by decide) ?_
  refine h_iadd hx hb dX10_feed_11 ?_
  refine h_sipush hx hb dX10_feed_12 (by decide) ?_
  refine h_icmp_le hx hb 20 dX10_feed_15 (by decide) (by omega) (by omega) (fun c_8 => ?_) (fun c_8 => ?_)
  ·
    refine lv_aload_n hx hb dX10_feed_20 rfl (lv_at hl 0 rfl) ?_
    refine lv_iload_n hx hb dX10_feed_21 rfl (lv_at hl 1 rfl) ?_
    -- call SpokenMarksModel.bytes
    refine h_kV (h_runV X hR (m_bytes l G w_3 a ad t_1 hT.1 x1 B hx_x1 (⟨hB.1, fun k hk => (congrFun ((hE_t_1 14 (by decide)).2) k).trans (hB.2 k hk)⟩) (((hE_t_1 15 (by decide)).1).trans hb15) (by omega)) pn_yX10_bytes (hasC.of hT.1.ob rfl) q3046 q3048 qs78 q161 q3049 ⟨by decide, by decide⟩ hl.1 (Nat.le_of_ble_eq_true rfl) dX10_feed_22 ⟨by omega, by omega⟩) hL (fun w_5 hp_6 H locs hR hL => ?_)
    obtain ⟨t_7, hT2, hE_t_7, et_8⟩ := hp_6
    have hT := hT.tr hT2
    clear hT2
    have hB1 : BfAt t_7 (B ++ by4 x1) := et_8.1
    have h15_1 : t_7.1 15 = ((B ++ by4 x1).length : Int) := et_8.2
    have hl1 : (B ++ by4 x1).length = B.length + 4 := by simp only [List.length_append, by4, List.length_cons, List.length_nil]
    refine lv_aload_n hx hb dX10_feed_25 rfl (lv_at hl 0 rfl) ?_
    refine lv_iload_n hx hb dX10_feed_26 rfl (lv_at hl 2 rfl) ?_
    -- call SpokenMarksModel.bytes
    refine h_kV (h_runV X hR (m_bytes l G w_5 a ad t_7 hT.1 x2 (B ++ by4 x1) hx_x2 hB1 h15_1 (by omega)) pn_yX10_bytes (hasC.of hT.1.ob rfl) q3046 q3048 qs78 q161 q3049 ⟨by decide, by decide⟩ hl.1 (Nat.le_of_ble_eq_true rfl) dX10_feed_27 ⟨by omega, by omega⟩) hL (fun w_10 hp_11 H locs hR hL => ?_)
    obtain ⟨t_12, hT2, hE_t_12, et_13⟩ := hp_11
    have hT := hT.tr hT2
    clear hT2
    have hB2 : BfAt t_12 (B ++ by4 x1 ++ by4 x2) := et_13.1
    have h15_2 : t_12.1 15 = ((B ++ by4 x1 ++ by4 x2).length : Int) := et_13.2
    have hl2 : (B ++ by4 x1 ++ by4 x2).length = B.length + 8 := by simp only [List.length_append, by4, List.length_cons, List.length_nil]
    refine lv_aload_n hx hb dX10_feed_30 rfl (lv_at hl 0 rfl) ?_
    refine lv_iload_n hx hb dX10_feed_31 rfl (lv_at hl 3 rfl) ?_
    -- call SpokenMarksModel.bytes
    refine h_kV (h_runV X hR (m_bytes l G w_10 a ad t_12 hT.1 x3 (B ++ by4 x1 ++ by4 x2) hx_x3 hB2 h15_2 (by omega)) pn_yX10_bytes (hasC.of hT.1.ob rfl) q3046 q3048 qs78 q161 q3049 ⟨by decide, by decide⟩ hl.1 (Nat.le_of_ble_eq_true rfl) dX10_feed_32 ⟨by omega, by omega⟩) hL (fun w_15 hp_16 H locs hR hL => ?_)
    obtain ⟨t_17, hT2, hE_t_17, et_18⟩ := hp_16
    have hT := hT.tr hT2
    clear hT2
    have hB3 : BfAt t_17 (B ++ by4 x1 ++ by4 x2 ++ by4 x3) := et_18.1
    have h15_3 : t_17.1 15 = ((B ++ by4 x1 ++ by4 x2 ++ by4 x3).length : Int) := et_18.2
    have hl3 : (B ++ by4 x1 ++ by4 x2 ++ by4 x3).length = B.length + 12 := by simp only [List.length_append, by4, List.length_cons, List.length_nil]
    refine lv_aload_n hx hb dX10_feed_35 rfl (lv_at hl 0 rfl) ?_
    refine lv_iload hx hb dX10_feed_36 (lv_at hl 4 rfl) ?_
    -- call SpokenMarksModel.bytes
    refine h_kV (h_runV X hR (m_bytes l G w_15 a ad t_17 hT.1 x4 (B ++ by4 x1 ++ by4 x2 ++ by4 x3) hx_x4 hB3 h15_3 (by omega)) pn_yX10_bytes (hasC.of hT.1.ob rfl) q3046 q3048 qs78 q161 q3049 ⟨by decide, by decide⟩ hl.1 (Nat.le_of_ble_eq_true rfl) dX10_feed_38 ⟨by omega, by omega⟩) hL (fun w_20 hp_21 H locs hR hL => ?_)
    obtain ⟨t_22, hT2, hE_t_22, et_23⟩ := hp_21
    have hT := hT.tr hT2
    clear hT2
    have hB4 : BfAt t_22 (B ++ by4 x1 ++ by4 x2 ++ by4 x3 ++ by4 x4) := et_23.1
    have h15_4 : t_22.1 15 = ((B ++ by4 x1 ++ by4 x2 ++ by4 x3 ++ by4 x4).length : Int) := et_23.2
    have hl4 : (B ++ by4 x1 ++ by4 x2 ++ by4 x3 ++ by4 x4).length = B.length + 16 := by simp only [List.length_append, by4, List.length_cons, List.length_nil]
    refine lv_aload_n hx hb dX10_feed_41 rfl (lv_at hl 0 rfl) ?_
    refine lv_iload hx hb dX10_feed_42 (lv_at hl 5 rfl) ?_
    -- call SpokenMarksModel.bytes
    refine h_kV (h_runV X hR (m_bytes l G w_20 a ad t_22 hT.1 x5 (B ++ by4 x1 ++ by4 x2 ++ by4 x3 ++ by4 x4) hx_x5 hB4 h15_4 (by omega)) pn_yX10_bytes (hasC.of hT.1.ob rfl) q3046 q3048 qs78 q161 q3049 ⟨by decide, by decide⟩ hl.1 (Nat.le_of_ble_eq_true rfl) dX10_feed_44 ⟨by omega, by omega⟩) hL (fun w_25 hp_26 H locs hR hL => ?_)
    obtain ⟨t_27, hT2, hE_t_27, et_28⟩ := hp_26
    have hT := hT.tr hT2
    clear hT2
    have hB5 : BfAt t_27 (B ++ by4 x1 ++ by4 x2 ++ by4 x3 ++ by4 x4 ++ by4 x5) := et_28.1
    have h15_5 : t_27.1 15 = ((B ++ by4 x1 ++ by4 x2 ++ by4 x3 ++ by4 x4 ++ by4 x5).length : Int) := et_28.2
    have hl5 : (B ++ by4 x1 ++ by4 x2 ++ by4 x3 ++ by4 x4 ++ by4 x5).length = B.length + 20 := by simp only [List.length_append, by4, List.length_cons, List.length_nil]
    refine lv_aload_n hx hb dX10_feed_47 rfl (lv_at hl 0 rfl) ?_
    refine tw_get X hR hT 15 (by decide) q2956 (v := .int (iI (((B ++ by4 x1 ++ by4 x2 ++ by4 x3 ++ by4 x4 ++ by4 x5).length : Int)))) (congrArg (fun z => some (Value.int (iI z))) (h15_5)) dX10_feed_48 ?_
    exact h_ireturn hx hb hlk hret hR hL rfl ⟨(by rw [if_neg (by omega)]; omega), ⟨t_27, hT, (TwE.tr (S2 := [0, 14, 15]) (TwE.tr (S2 := [0, 14, 15]) (TwE.tr (S2 := [0, 14, 15]) (TwE.tr (S2 := [0, 14, 15]) (TwE.tr (S2 := [0, 14, 15]) (TwE.tr (S2 := [0, 14, 15]) (TwE.rf : TwE [] t t) hE_t_1 rfl rfl) hE_t_7 rfl rfl) hE_t_12 rfl rfl) hE_t_17 rfl rfl) hE_t_22 rfl rfl) hE_t_27 rfl rfl), ⟨((((((hE_t_27 0 (by decide)).1).trans (hE_t_22 0 (by decide)).1).trans (hE_t_17 0 (by decide)).1).trans (hE_t_12 0 (by decide)).1).trans (hE_t_7 0 (by decide)).1).trans hv_t_1, by unfold fdA; rw [if_neg (by omega)]; exact hB5, by unfold fdA; rw [if_neg (by omega)]; exact h15_5⟩⟩⟩ (by omega) (by omega) rfl rfl dX10_feed_51
  ·
    refine h_iconst hx hb dX10_feed_18 ?_
    exact h_ireturn hx hb hlk hret hR hL rfl ⟨(by rw [if_pos (by omega)]), ⟨t_1, hT, (TwE.tr (S2 := [0, 14, 15]) (TwE.rf : TwE [] t t) hE_t_1 rfl rfl), ⟨hv_t_1, by unfold fdA; rw [if_pos (by omega)]; exact ⟨hB.1, fun k hk => (congrFun ((hE_t_1 14 (by decide)).2) k).trans (hB.2 k hk)⟩, by unfold fdA; rw [if_pos (by omega)]; exact ((hE_t_1 15 (by decide)).1).trans hb15⟩⟩⟩ (by omega) (by omega) rfl rfl dX10_feed_19
