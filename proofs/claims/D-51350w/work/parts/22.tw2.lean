/-! the twin: ears -/
set_option maxRecDepth 100000
theorem wrd_erase {L : List Int} (h : Wrd L) (k : Nat) : Wrd (L.eraseIdx k) := ⟨Nat.le_trans (List.length_eraseIdx_le L k) h.1, fun c hc => h.2 c (List.mem_of_mem_eraseIdx hc)⟩
theorem wrd_set {L : List Int} (h : Wrd L) (k : Nat) {z : Int} (hz : Ltr z) : Wrd (L.set k z) := ⟨by rw [List.length_set]; exact h.1, fun c hc => by
  rcases List.mem_or_eq_of_mem_set hc with q | q
  · exact h.2 c q
  · rw [q]; exact hz⟩
theorem dg_set (L : List Int) (k j : Nat) (z : Int) (hk : k < L.length) : dg (L.set k z) j = if j = k then z - 96 else dg L j := by
  unfold dg
  simp only [List.getD_eq_getElem?_getD, List.getElem?_set]
  by_cases h : j = k
  · subst h; simp [hk]
  · simp [h, Ne.symm h]
theorem Spt.mv {t t1 : Tw} {L : List Int} (h : Spt t L) (h1 : t1.1 2 = t.1 2) (h2 : t1.2 1 = t.2 1) : Spt t1 L := ⟨h1.trans h.1, h.2.1, fun i hi => by rw [h2]; exact h.2.2 i hi⟩
theorem Spt.st {t t1 : Tw} {L : List Int} (h : Spt t L) {k : Nat} {z v : Int} (e : t1 = tast t 1 k v) (hk : k < L.length) (hz : Ltr z) (hv : v = z - 96) : Spt t1 (L.set k z) := by
  subst e
  refine ⟨by rw [List.length_set]; exact h.1, wrd_set h.2.1 k hz, fun i hi => ?_⟩
  rw [List.length_set] at hi
  rw [tast_at, dg_set L k i z hk]
  by_cases q : i = k
  · simp [q, hv]
  · simp [q]; exact h.2.2 i hi
theorem drop_two {L : List Int} {k : Nat} (h : k + 1 < L.length) : L.drop k = L[k] :: L[k + 1] :: L.drop (k + 2) := by
  rw [List.drop_eq_getElem_cons (by omega : k < L.length), List.drop_eq_getElem_cons h]
theorem prs_step {a b c : Int} {M : List Int} {k : Nat} (h : k + 1 < M.length) (hn : ¬ (dg M k = a - 96 ∧ dg M (k + 1) = b - 96)) : M.take (k + 1) ++ prs a b c (M.drop (k + 1)) = M.take k ++ prs a b c (M.drop k) := by
  have e1 : ¬ (M[k] = a ∧ M[k + 1] = b) := fun q => hn ⟨by rw [dg_lt (by omega)]; omega, by rw [dg_lt h]; omega⟩
  rw [drop_two h, prs, if_neg e1, List.take_succ_eq_append_getElem (by omega : k < M.length), List.append_assoc, List.drop_eq_getElem_cons h]
  rfl
theorem prs_hit {a b c : Int} {M : List Int} {k : Nat} (h : k + 1 < M.length) (h1 : dg M k = a - 96) (h2 : dg M (k + 1) = b - 96) : ((M.set k c).eraseIdx (k + 1)).take (k + 1) ++ prs a b c (((M.set k c).eraseIdx (k + 1)).drop (k + 1)) = M.take k ++ prs a b c (M.drop k) := by
  rw [dg_lt (by omega)] at h1
  rw [dg_lt h] at h2
  have e1 : M[k] = a ∧ M[k + 1] = b := ⟨by omega, by omega⟩
  have e2 : (M.set k c).eraseIdx (k + 1) = M.take k ++ c :: M.drop (k + 2) := by
    refine List.ext_getElem? (fun i => ?_)
    rw [List.getElem?_eraseIdx, List.getElem?_append, List.length_take, Nat.min_eq_left (by omega)]
    simp only [List.getElem?_set, List.getElem?_take, List.getElem?_cons, List.getElem?_drop, List.length_set]
    rcases Nat.lt_trichotomy i k with q | q | q
    · rw [if_pos (by omega), if_neg (by omega), if_pos (by omega), if_pos (by omega)]
    · subst q; rw [if_pos (by omega), if_pos rfl, if_pos (by omega), if_neg (by omega), if_pos (by omega)]
    · rw [if_neg (by omega), if_neg (by omega), if_neg (by omega), if_neg (by omega)]
      congr 1; omega
  have hl : (M.take k).length = k := by rw [List.length_take]; omega
  rw [e2, drop_two h, prs, if_pos e1]
  rw [List.take_append, List.drop_append, hl, show k + 1 - k = 1 by omega, List.take_of_length_le (by omega : (M.take k).length ≤ k + 1), List.drop_of_length_le (by omega : (M.take k).length ≤ k + 1)]
  simp
theorem prs_end {a b c : Int} {M : List Int} {k : Nat} (h : M.length ≤ k + 1) : M.take k ++ prs a b c (M.drop k) = M := by
  have : prs a b c (M.drop k) = M.drop k := by
    have hl : (M.drop k).length ≤ 1 := by rw [List.length_drop]; omega
    match hm : M.drop k with
    | [] => rfl
    | [x] => rfl
    | x :: y :: r => rw [hm] at hl; simp at hl
  rw [this, List.take_append_drop]
/-- letters h taken away behind place k -/
def silK (L : List Int) (k : Nat) : List Int := L.take k ++ (L.drop k).filter (fun c => decide (c ≠ 104))
theorem silK_pre {L : List Int} {k : Nat} (hk : k ≤ L.length) {j : Nat} (hj : j < k) : dg (silK L k) j = dg L j := by
  unfold dg silK
  rw [List.getD_eq_getElem?_getD, List.getD_eq_getElem?_getD, List.getElem?_append_left (by rw [List.length_take]; omega), List.getElem?_take, if_pos hj]
theorem silK_len {L : List Int} {k : Nat} (hk : k ≤ L.length) : k ≤ (silK L k).length := by unfold silK; rw [List.length_append, List.length_take]; omega
theorem silK_hit {L : List Int} {k : Nat} (hk : k < L.length) (h : dg L k = 8) : (silK L (k + 1)).eraseIdx k = silK L k := by
  rw [dg_lt hk] at h
  unfold silK
  rw [List.drop_eq_getElem_cons hk, List.filter_cons, if_neg (by simp; omega), List.take_succ_eq_append_getElem hk, List.append_assoc, List.eraseIdx_append_of_length_le (by rw [List.length_take]; omega), List.length_take, Nat.min_eq_left (by omega), Nat.sub_self]
  rfl
theorem silK_no {L : List Int} {k : Nat} (hk : k < L.length) (h : dg L k ≠ 8) : silK L (k + 1) = silK L k := by
  rw [dg_lt hk] at h
  unfold silK
  rw [List.drop_eq_getElem_cons hk, List.filter_cons, if_pos (by simp; omega), List.take_succ_eq_append_getElem hk, List.append_assoc]
  rfl
theorem silK_1 (L : List Int) : silK L 1 = sil L := by cases L <;> simp [silK, sil]
theorem silK_all (L : List Int) : silK L L.length = L := by simp [silK]
/-- runs taken away behind place k -/
def rnsK (L : List Int) (k : Nat) : List Int := L.take (k + 1) ++ rnA (L.getD k 0) (L.drop (k + 1))
theorem rnsK_pre {L : List Int} {k : Nat} (hk : k < L.length) {j : Nat} (hj : j ≤ k) : dg (rnsK L k) j = dg L j := by
  have e : (rnsK L k)[j]? = L[j]? := by
    unfold rnsK
    rw [List.getElem?_append_left (by rw [List.length_take]; omega), List.getElem?_take, if_pos (by omega)]
  unfold dg
  rw [List.getD_eq_getElem?_getD, List.getD_eq_getElem?_getD, e]
theorem rnsK_len {L : List Int} {k : Nat} (hk : k < L.length) : k < (rnsK L k).length := by unfold rnsK; rw [List.length_append, List.length_take]; omega
theorem rnsK_hit {L : List Int} {k : Nat} (hk : k + 1 < L.length) (h : dg L (k + 1) = dg L k) : (rnsK L (k + 1)).eraseIdx (k + 1) = rnsK L k := by
  rw [dg_lt hk, dg_lt (by omega)] at h
  unfold rnsK
  rw [List.drop_eq_getElem_cons hk, rnA, show L.getD k 0 = L[k] by simp [show k < L.length by omega], if_pos (by omega), show L.getD (k + 1) 0 = L[k + 1] by simp [hk], List.take_succ_eq_append_getElem hk, List.append_assoc, List.eraseIdx_append_of_length_le (by rw [List.length_take]; omega), List.length_take, Nat.min_eq_left (by omega), Nat.sub_self]
  rfl
theorem rnsK_no {L : List Int} {k : Nat} (hk : k + 1 < L.length) (h : dg L (k + 1) ≠ dg L k) : rnsK L (k + 1) = rnsK L k := by
  rw [dg_lt hk, dg_lt (by omega)] at h
  unfold rnsK
  rw [List.drop_eq_getElem_cons hk, rnA, show L.getD k 0 = L[k] by simp [show k < L.length by omega], if_neg (by omega), show L.getD (k + 1) 0 = L[k + 1] by simp [hk], List.take_succ_eq_append_getElem hk, List.append_assoc]
  rfl
theorem rnsK_0 {L : List Int} (h : L ≠ []) : rnsK L 0 = rns L := by cases L with
  | nil => exact absurd rfl h
  | cons x r => simp [rnsK, rns]
theorem rnsK_all {L : List Int} (h : L ≠ []) : rnsK L (L.length - 1) = L := by
  have : 0 < L.length := List.length_pos_iff.mpr h
  unfold rnsK
  rw [show L.length - 1 + 1 = L.length by omega]
  simp [rnA]

theorem pn_yX10_goes : ParN yX10_goes 1 := by decide +kernel
theorem pn_yX10_letter : ParN yX10_letter 1 := by decide +kernel

set_option maxHeartbeats 4000000 in
set_option maxRecDepth 100000 in
/-- isWordPart -/
theorem m_isWordPart (l : Launch) (G : Gl) (w : Wd) (v : Int)  (h1 : R64 v) : HM l yX10_isWordPart cX10_isWordPart 2 (some .boolean) 1 0 0 G [.long (lI (v))] w (QI G (fun z_ w_ => z_ = b2i (1000000 ≤ v) ∧ w_ = w)) := by
  refine HM.mk (by decide +kernel) (Nat.le_of_ble_eq_true rfl) ?_
  intro p9 e9 s9 m9 a9 b9 meth9 c9 ls X hret hlk hnm hl H hR
  have hx := X.1.1
  have hb := X.1.2.1
  have hl : lv_has ls 2 [(0, .long (lI (v)))] := hl
  have hL : LK G [] := fun q h => absurd h List.not_mem_nil
  generalize ([] : List Loc) = locs at hL ⊢
  refine lv_lload_n hx hb dX10_isWordPart_0 rfl (lv_at hl 0 rfl) ?_
  refine lv_ldc2 (v := lI (1000000)) hx hb X.1.2.2.2.1 (X.1.2.2.2.2 _ q2802) dX10_isWordPart_1 ?_
  refine h_lcmp hx hb dX10_isWordPart_4 (by omega) (by omega) ?_
  refine h_if_lt hx hb 12 dX10_isWordPart_5 (by decide) (by have := cmpZ_r v 1000000; omega) (fun c_1 => ?_) (fun c_1 => ?_)
  ·
    refine h_iconst hx hb dX10_isWordPart_12 ?_
    exact h_ireturn hx hb hlk hret hR hL (nar01 (by omega)) ⟨by simp only [cmpZ_lt, cmpZ_gt] at *; unfold b2i; split <;> omega, rfl⟩ (by omega) (by omega) rfl rfl dX10_isWordPart_13
  ·
    refine h_iconst hx hb dX10_isWordPart_8 ?_
    refine lv_goto (tgt := 13) hx hb dX10_isWordPart_9 (by decide) ?_
    exact h_ireturn hx hb hlk hret hR hL (nar01 (by omega)) ⟨by simp only [cmpZ_lt, cmpZ_gt] at *; unfold b2i; split <;> omega, rfl⟩ (by omega) (by omega) rfl rfl dX10_isWordPart_13

set_option maxHeartbeats 4000000 in
set_option maxRecDepth 100000 in
/-- spelled -/
theorem m_spelled (l : Launch) (G : Gl) (w : Wd) (a : Nat) (ad : Nat → Nat) (t : Tw) (hT : TwAt G w a ad t)  (L : List Int) (hs : Spt t L) : HM l yX10_spelled cX10_spelled 4 (some .long) 1 0 0 G [.ref a] w (QL G (fun z_ w_ => z_ = enc L ∧ w_ = w)) := by
  refine HM.mk (by decide +kernel) (Nat.le_of_ble_eq_true rfl) ?_
  intro p9 e9 s9 m9 a9 b9 meth9 c9 ls X hret hlk hnm hl H hR
  have hx := X.1.1
  have hb := X.1.2.1
  have hl : lv_has ls 4 [(0, .ref a)] := hl
  have hL : LK G [] := fun q h => absurd h List.not_mem_nil
  generalize ([] : List Loc) = locs at hL ⊢
  have hTb := hT
  have hT : TwS G w w a ad t := TwS.rf hT
  have hw1 := hs.2.1.1
  refine h_lconst hx hb 0 dX10_spelled_0 rfl ?_
  refine lv_lstore_n (lv' := [(1, .long (lI (0))), (0, .ref a)]) hx hb dX10_spelled_1 rfl hl (by decide) rfl (fun ls hl => ?_)
  refine h_iconst hx hb dX10_spelled_2 ?_
  refine lv_istore_n (lv' := [(3, .int (iI (0))), (1, .long (lI (0))), (0, .ref a)]) hx hb dX10_spelled_3 rfl hl (by decide) rfl (fun ls hl => ?_)
  have LOOP_1 : ∀ (N_ : Nat) (k : Nat), (k ≤ 8) → (8 - k) < N_ → ∀ (H : Heap) (locs : List Loc) (ls : Array Slot), Rp G w H → LK G locs → lv_has ls 4 [(0, .ref a), (1, .long (lI (encF L k))), (3, .int (iI ((k : Int))))] → W p9 l e9 (rmk 1 0 0) s9 m9 a9 b9 meth9 c9 H locs 0 0 (MQ b9 (QL G (fun z_ w_ => z_ = enc L ∧ w_ = w)) a9 s9 0 0 (frG G)) (F0 m9 4 ls []) := by
    intro N_
    induction N_ with
    | zero => intro _ _ h_; exact absurd h_ (Nat.not_lt_zero _)
    | succ N_ ih_ =>
      intro k hk hN_ H locs ls hR hL hl
      have ih_1 := ih_
      clear ih_
      refine lv_iload_n hx hb dX10_spelled_4 rfl (lv_at hl 2 rfl) ?_
      refine h_bipush hx hb dX10_spelled_5 (by decide) ?_
      refine h_icmp_ge hx hb 42 dX10_spelled_7 (by decide) (by omega) (by omega) (fun c_2 => ?_) (fun c_2 => ?_)
      ·
        refine lv_ldc2 (v := lI (1000000)) hx hb X.1.2.2.2.1 (X.1.2.2.2.2 _ q2802) dX10_spelled_42 ?_
        refine lv_lload_n hx hb dX10_spelled_45 rfl (lv_at hl 1 rfl) ?_
        refine h_ladd hx hb dX10_spelled_46 ?_
        exact h_lreturn hx hb hlk hret hR hL ⟨by rw [show k = 8 by omega]; rfl, rfl⟩ (by omega) (by omega) rfl rfl dX10_spelled_47
      ·
        refine lv_ldc2 (v := lI (27)) hx hb X.1.2.2.2.1 (X.1.2.2.2.2 _ q2801) dX10_spelled_10 ?_
        refine lv_lload_n hx hb dX10_spelled_13 rfl (lv_at hl 1 rfl) ?_
        refine h_lmul hx hb dX10_spelled_14 ?_
        refine lv_iload_n hx hb dX10_spelled_15 rfl (lv_at hl 2 rfl) ?_
        refine lv_aload_n hx hb dX10_spelled_16 rfl (lv_at hl 0 rfl) ?_
        refine tw_get X hR hT 2 (by decide) q2943 (v := .int (iI ((L.length : Int)))) (congrArg (fun z => some (Value.int (iI z))) (hs.1)) dX10_spelled_17 ?_
        refine h_icmp_ge hx hb 32 dX10_spelled_20 (by decide) (by omega) (by omega) (fun c_3 => ?_) (fun c_3 => ?_)
        ·
          refine h_iconst hx hb dX10_spelled_32 ?_
          refine h_i2l hx hb dX10_spelled_33 (by omega) ?_
          refine h_ladd hx hb dX10_spelled_34 ?_
          refine lv_lstore_n (lv' := [(1, .long (lI (27 * (encF L k) + 0))), (0, .ref a), (3, .int (iI ((k : Int))))]) hx hb dX10_spelled_35 rfl hl (by decide) rfl (fun ls hl => ?_)
          have hl : lv_has ls 4 [(1, .long (lI (encF L (k + 1)))), (0, .ref a), (3, .int (iI ((k : Int))))] := lv_conv hl (congrArg (fun z_ : Int => ([(1, .long (lI (z_))), (0, .ref a), (3, .int (iI ((k : Int))))] : List (Nat × Value))) (show (27 * (encF L k) + 0 : Int) = encF L (k + 1) from (by rw [encF_s]; first | done | rw [dg_ge (by omega)])))
          refine h_iinc (lv' := [(3, .int (iI ((k : Int) + 1))), (1, .long (lI (encF L (k + 1)))), (0, .ref a)]) hx hb dX10_spelled_36 hl (k := 2) rfl (by decide) rfl (fun ls hl => ?_)
          refine lv_goto (tgt := 4) hx hb dX10_spelled_39 (by decide) ?_
          exact ih_1 (k + 1) (by omega) (by omega) _ _ _ hR hL (lv_sub hl [2, 1, 0] rfl)
        ·
          refine lv_aload_n hx hb dX10_spelled_23 rfl (lv_at hl 0 rfl) ?_
          refine tw_get X hR hT 1 (by decide) q2942 rfl dX10_spelled_24 ?_
          refine lv_iload_n hx hb dX10_spelled_27 rfl (lv_at hl 2 rfl) ?_
          refine tw_iald X hR hT (k := 1) (by decide) k (by omega) (by show _ < _; simp only [twN]; omega) (v := dg L k) (hs.2.2 k (by omega)) dX10_spelled_28 (fun ra_28 => ?_)
          refine lv_goto (tgt := 33) hx hb dX10_spelled_29 (by decide) ?_
          refine h_i2l hx hb dX10_spelled_33 (by omega) ?_
          refine h_ladd hx hb dX10_spelled_34 ?_
          refine lv_lstore_n (lv' := [(1, .long (lI (27 * (encF L k) + (dg L k)))), (0, .ref a), (3, .int (iI ((k : Int))))]) hx hb dX10_spelled_35 rfl hl (by decide) rfl (fun ls hl => ?_)
          have hl : lv_has ls 4 [(1, .long (lI (encF L (k + 1)))), (0, .ref a), (3, .int (iI ((k : Int))))] := lv_conv hl (congrArg (fun z_ : Int => ([(1, .long (lI (z_))), (0, .ref a), (3, .int (iI ((k : Int))))] : List (Nat × Value))) (show (27 * (encF L k) + (dg L k) : Int) = encF L (k + 1) from (by rw [encF_s]; first | done | rw [dg_ge (by omega)])))
          refine h_iinc (lv' := [(3, .int (iI ((k : Int) + 1))), (1, .long (lI (encF L (k + 1)))), (0, .ref a)]) hx hb dX10_spelled_36 hl (k := 2) rfl (by decide) rfl (fun ls hl => ?_)
          refine lv_goto (tgt := 4) hx hb dX10_spelled_39 (by decide) ?_
          exact ih_1 (k + 1) (by omega) (by omega) _ _ _ hR hL (lv_sub hl [2, 1, 0] rfl)
  exact LOOP_1 _ 0 (by omega) (Nat.lt_succ_self _) _ _ _ hR hL (lv_sub hl [2, 1, 0] rfl)

set_option maxHeartbeats 4000000 in
set_option maxRecDepth 100000 in
/-- goes -/
theorem m_goes (l : Launch) (G : Gl) (w : Wd) (a : Nat) (ad : Nat → Nat) (t : Tw) (hT : TwAt G w a ad t) (k : Nat) (L : List Int) (hs : Spt t L) (hk : k < L.length) : HM l yX10_goes cX10_goes 3 none 1 0 0 G [.ref a, .int (iI ((k : Int)))] w (QV G (fun w_ => ∃ t_ : Tw, TwS G w w_ a ad t_ ∧ TwE [1, 2] t t_ ∧ Spt t_ (L.eraseIdx k))) := by
  refine HM.mk (by decide +kernel) (Nat.le_of_ble_eq_true rfl) ?_
  intro p9 e9 s9 m9 a9 b9 meth9 c9 ls X hret hlk hnm hl H hR
  have hx := X.1.1
  have hb := X.1.2.1
  have hl : lv_has ls 3 [(0, .ref a), (1, .int (iI ((k : Int))))] := hl
  have hL : LK G [] := fun q h => absurd h List.not_mem_nil
  generalize ([] : List Loc) = locs at hL ⊢
  have hTb := hT
  have hT : TwS G w w a ad t := TwS.rf hT
  have hw1 := hs.2.1.1
  refine lv_aload_n hx hb dX10_goes_0 rfl (lv_at hl 0 rfl) ?_
  refine lv_dup hx hb dX10_goes_1 rfl ?_
  refine tw_get X hR hT 2 (by decide) q2943 (v := .int (iI ((L.length : Int)))) (congrArg (fun z => some (Value.int (iI z))) (hs.1)) dX10_goes_2 ?_
  refine h_iconst hx hb dX10_goes_5 ?_
  refine h_isub hx hb dX10_goes_6 ?_
  refine tw_puti X hR hL hT 2 (by decide) q2943 rfl rfl rfl twF_s2 (by omega) dX10_goes_7 (fun t_1 et_2 w_3 hT H locs hR hL => ?_)
  have hE_t_1 := TwE.put et_2
  have hv_t_1 := tput_v et_2
  refine lv_iload_n hx hb dX10_goes_10 rfl (lv_at hl 1 rfl) ?_
  refine lv_istore_n (lv' := [(2, .int (iI ((k : Int)))), (0, .ref a), (1, .int (iI ((k : Int))))]) hx hb dX10_goes_11 rfl hl (by decide) rfl (fun ls hl => ?_)
  have LOOP_6 : ∀ (N_ : Nat) (i : Nat) (t_4 : Tw) (w_5 : Wd), (k ≤ i) → (i + 1 ≤ L.length) → (TwS G w w_5 a ad t_4) → (TwE [1, 2] t t_4) → (t_4.1 2 = (L.length : Int) - 1) → (∀ j, j < L.length → t_4.2 1 j = if j < k then dg L j else if j < i then dg L (j + 1) else dg L j) → (L.length - i) < N_ → ∀ (H : Heap) (locs : List Loc) (ls : Array Slot), Rp G w_5 H → LK G locs → lv_has ls 3 [(0, .ref a), (1, .int (iI ((k : Int)))), (2, .int (iI ((i : Int))))] → W p9 l e9 (rmk 1 0 0) s9 m9 a9 b9 meth9 c9 H locs 0 0 (MQ b9 (QV G (fun w_ => ∃ t_ : Tw, TwS G w w_ a ad t_ ∧ TwE [1, 2] t t_ ∧ Spt t_ (L.eraseIdx k))) a9 s9 0 0 (frG G)) (F0 m9 12 ls []) := by
    intro N_
    induction N_ with
    | zero => intro _ _ _ _ _ _ _ _ _ h_; exact absurd h_ (Nat.not_lt_zero _)
    | succ N_ ih_ =>
      intro i t_4 w_5 hi hi2 hT hE_t_4 h2 hs2 hN_ H locs ls hR hL hl
      have ih_6 := ih_
      clear ih_
      refine lv_iload_n hx hb dX10_goes_12 rfl (lv_at hl 2 rfl) ?_
      refine lv_aload_n hx hb dX10_goes_13 rfl (lv_at hl 0 rfl) ?_
      refine tw_get X hR hT 2 (by decide) q2943 (v := .int (iI ((L.length : Int) - 1))) (congrArg (fun z => some (Value.int (iI z))) (h2)) dX10_goes_14 ?_
      refine h_icmp_ge hx hb 40 dX10_goes_17 (by decide) (by omega) (by omega) (fun c_7 => ?_) (fun c_7 => ?_)
      ·
        exact h_vreturn hx hb hlk hret hR hL ⟨t_4, hT, (TwE.tr (S2 := [1, 2]) (TwE.rf : TwE [] t t) hE_t_4 rfl rfl), ⟨h2.trans (by rw [List.length_eraseIdx, if_pos hk]; omega), wrd_erase hs.2.1 k, fun j hj => by rw [List.length_eraseIdx, if_pos hk] at hj; rw [dg_erase, hs2 j (by omega)]; by_cases q : j < k; rw [if_pos q, if_pos q]; rw [if_neg q, if_neg q, if_pos (by omega)]⟩⟩ (by omega) (by omega) rfl rfl dX10_goes_40
      ·
        refine lv_aload_n hx hb dX10_goes_20 rfl (lv_at hl 0 rfl) ?_
        refine tw_get X hR hT 1 (by decide) q2942 rfl dX10_goes_21 ?_
        refine lv_iload_n hx hb dX10_goes_24 rfl (lv_at hl 2 rfl) ?_
        refine lv_aload_n hx hb dX10_goes_25 rfl (lv_at hl 0 rfl) ?_
        refine tw_get X hR hT 1 (by decide) q2942 rfl dX10_goes_26 ?_
        refine lv_iload_n hx hb dX10_goes_29 rfl (lv_at hl 2 rfl) ?_
        refine h_iconst hx hb dX10_goes_30 ?_
        refine h_iadd hx hb dX10_goes_31 ?_
        refine tw_iald X hR hT (k := 1) (by decide) (i + 1) (by omega) (by show _ < _; simp only [twN]; omega) (v := dg L (i + 1)) ((hs2 (i + 1) (by omega)).trans (by rw [if_neg (by omega), if_neg (by omega)])) dX10_goes_32 (fun ra_32 => ?_)
        refine tw_iast X hR hL hT (k := 1) (by decide) i (by omega) (by show _ < _; simp only [twN]; omega) (by omega) dX10_goes_33 (fun t_8 et_9 w_10 hT H locs hR hL => ?_)
        have hE_t_8 := TwE.ast et_9
        have hv_t_8 := tast_v et_9
        refine h_iinc (lv' := [(2, .int (iI ((i : Int) + 1))), (0, .ref a), (1, .int (iI ((k : Int))))]) hx hb dX10_goes_34 hl (k := 2) rfl (by decide) rfl (fun ls hl => ?_)
        refine lv_goto (tgt := 12) hx hb dX10_goes_37 (by decide) ?_
        exact ih_6 (i + 1) t_8 w_10 (by omega) (by omega) hT (TwE.tr (S2 := [1, 2]) (TwE.tr (S2 := [1, 2]) (TwE.rf : TwE [] t t) hE_t_4 rfl rfl) hE_t_8 rfl rfl) ((hE_t_8 2 (by decide)).1.trans h2) (fun j hj => by rw [hv_t_8]; unfold zset; by_cases q : j = i; rw [if_pos q, if_neg (by omega), if_pos (by omega), q]; rw [if_neg q, hs2 j hj]; by_cases q2 : j < k; rw [if_pos q2, if_pos q2]; rw [if_neg q2, if_neg q2]; by_cases q3 : j < i; rw [if_pos q3, if_pos (by omega)]; rw [if_neg q3, if_neg (by omega)]) (by omega) _ _ _ hR hL (lv_sub hl [1, 2, 0] rfl)
  exact LOOP_6 _ k t_1 w_3 (by omega) (by omega) hT (TwE.tr (S2 := [1, 2]) (TwE.rf : TwE [] t t) hE_t_1 rfl rfl) hv_t_1 (fun j hj => by rw [(hE_t_1 1 (by decide)).2, hs.2.2 j hj]; split <;> (try split) <;> first | rfl | omega) (Nat.lt_succ_self _) _ _ _ hR hL (lv_sub hl [1, 2, 0] rfl)

set_option maxHeartbeats 4000000 in
set_option maxRecDepth 100000 in
/-- joins -/
theorem m_joins (l : Launch) (G : Gl) (w : Wd) (a : Nat) (ad : Nat → Nat) (t : Tw) (hT : TwAt G w a ad t) (x : Int) (y : Int) (z : Int) (L : List Int) (hs0 : Spt t L) (hx3 : Ltr x) (hy3 : Ltr y) (hz3 : Ltr z) : HM l yX10_joins cX10_joins 5 none 2 0 0 G [.ref a, .int (iI (x)), .int (iI (y)), .int (iI (z))] w (QV G (fun w_ => ∃ t_ : Tw, TwS G w w_ a ad t_ ∧ TwE [1, 2] t t_ ∧ Spt t_ (prs x y z L))) := by
  refine HM.mk (by decide +kernel) (Nat.le_of_ble_eq_true rfl) ?_
  intro p9 e9 s9 m9 a9 b9 meth9 c9 ls X hret hlk hnm hl H hR
  have hx := X.1.1
  have hb := X.1.2.1
  have hl : lv_has ls 5 [(0, .ref a), (1, .int (iI (x))), (2, .int (iI (y))), (3, .int (iI (z)))] := hl
  have hL : LK G [] := fun q h => absurd h List.not_mem_nil
  generalize ([] : List Loc) = locs at hL ⊢
  have hTb := hT
  have hT : TwS G w w a ad t := TwS.rf hT
  refine h_iconst hx hb dX10_joins_0 ?_
  refine lv_istore (lv' := [(4, .int (iI (0))), (0, .ref a), (1, .int (iI (x))), (2, .int (iI (y))), (3, .int (iI (z)))]) hx hb dX10_joins_1 hl (by decide) rfl (fun ls hl => ?_)
  have LOOP_3 : ∀ (N_ : Nat) (k : Nat) (M : List Int) (t_1 : Tw) (w_2 : Wd), (M.take k ++ prs x y z (M.drop k) = prs x y z L) → (k ≤ M.length) → (TwS G w w_2 a ad t_1) → (TwE [1, 2] t t_1) → (Spt t_1 M) → (M.length - k) < N_ → ∀ (H : Heap) (locs : List Loc) (ls : Array Slot), Rp G w_2 H → LK G locs → lv_has ls 5 [(0, .ref a), (1, .int (iI (x))), (2, .int (iI (y))), (3, .int (iI (z))), (4, .int (iI ((k : Int))))] → W p9 l e9 (rmk 2 0 0) s9 m9 a9 b9 meth9 c9 H locs 0 0 (MQ b9 (QV G (fun w_ => ∃ t_ : Tw, TwS G w w_ a ad t_ ∧ TwE [1, 2] t t_ ∧ Spt t_ (prs x y z L))) a9 s9 0 0 (frG G)) (F0 m9 3 ls []) := by
    intro N_
    induction N_ with
    | zero => intro _ _ _ _ _ _ _ _ _ h_; exact absurd h_ (Nat.not_lt_zero _)
    | succ N_ ih_ =>
      intro k M t_1 w_2 hM hk hT hE_t_1 hs hN_ H locs ls hR hL hl
      have ih_3 := ih_
      clear ih_
      have hw1 := hs.2.1.1
      refine lv_iload hx hb dX10_joins_3 (lv_at hl 4 rfl) ?_
      refine h_iconst hx hb dX10_joins_5 ?_
      refine h_iadd hx hb dX10_joins_6 ?_
      refine lv_aload_n hx hb dX10_joins_7 rfl (lv_at hl 0 rfl) ?_
      refine tw_get X hR hT 2 (by decide) q2943 (v := .int (iI ((M.length : Int)))) (congrArg (fun z => some (Value.int (iI z))) (hs.1)) dX10_joins_8 ?_
      refine h_icmp_ge hx hb 72 dX10_joins_11 (by decide) (by omega) (by omega) (fun c_4 => ?_) (fun c_4 => ?_)
      ·
        exact h_vreturn hx hb hlk hret hR hL ⟨t_1, hT, (TwE.tr (S2 := [1, 2]) (TwE.rf : TwE [] t t) hE_t_1 rfl rfl), (by rw [← hM, prs_end (by omega)]; exact hs)⟩ (by omega) (by omega) rfl rfl dX10_joins_72
      ·
        refine lv_aload_n hx hb dX10_joins_14 rfl (lv_at hl 0 rfl) ?_
        refine tw_get X hR hT 1 (by decide) q2942 rfl dX10_joins_15 ?_
        refine lv_iload hx hb dX10_joins_18 (lv_at hl 4 rfl) ?_
        refine tw_iald X hR hT (k := 1) (by decide) k (by omega) (by show _ < _; simp only [twN]; omega) (v := dg M k) (hs.2.2 k (by omega)) dX10_joins_20 (fun ra_20 => ?_)
        refine lv_iload_n hx hb dX10_joins_21 rfl (lv_at hl 1 rfl) ?_
        -- call SpokenMarksModel.letter
        refine h_kIp (h_runS X hR (m_letterC l G w_2  x) pn_yX10_letter q2854 q2855 q161 q2856 ⟨by decide, by decide⟩ hl.1 (Nat.le_of_ble_eq_true rfl) dX10_joins_22 ⟨by omega, by omega⟩) hL (fun H locs hR hL => ?_)
        refine h_icmp_ne hx hb 66 dX10_joins_25 (by decide) (by omega) (by omega) (fun c_a => ?_) (fun c_a => ?_)
        ·
          refine h_iinc (lv' := [(4, .int (iI ((k : Int) + 1))), (0, .ref a), (1, .int (iI (x))), (2, .int (iI (y))), (3, .int (iI (z)))]) hx hb dX10_joins_66 hl (k := 4) rfl (by decide) rfl (fun ls hl => ?_)
          refine lv_goto (tgt := 3) hx hb dX10_joins_69 (by decide) ?_
          exact ih_3 (k + 1) M t_1 w_2 ((prs_step (by omega) (fun q => c_a q.1)).trans hM) (by omega) hT (TwE.tr (S2 := [1, 2]) (TwE.rf : TwE [] t t) hE_t_1 rfl rfl) hs (by (try rw [List.length_eraseIdx, List.length_set]); (try split) <;> omega) _ _ _ hR hL (lv_sub hl [1, 2, 3, 4, 0] rfl)
        ·
          refine lv_aload_n hx hb dX10_joins_28 rfl (lv_at hl 0 rfl) ?_
          refine tw_get X hR hT 1 (by decide) q2942 rfl dX10_joins_29 ?_
          refine lv_iload hx hb dX10_joins_32 (lv_at hl 4 rfl) ?_
          refine h_iconst hx hb dX10_joins_34 ?_
          refine h_iadd hx hb dX10_joins_35 ?_
          refine tw_iald X hR hT (k := 1) (by decide) (k + 1) (by omega) (by show _ < _; simp only [twN]; omega) (v := dg M (k + 1)) (hs.2.2 (k + 1) (by omega)) dX10_joins_36 (fun ra_36 => ?_)
          refine lv_iload_n hx hb dX10_joins_37 rfl (lv_at hl 2 rfl) ?_
          -- call SpokenMarksModel.letter
          refine h_kIp (h_runS X hR (m_letterC l G w_2  y) pn_yX10_letter q2854 q2855 q161 q2856 ⟨by decide, by decide⟩ hl.1 (Nat.le_of_ble_eq_true rfl) dX10_joins_38 ⟨by omega, by omega⟩) hL (fun H locs hR hL => ?_)
          refine h_icmp_eq hx hb 47 dX10_joins_41 (by decide) (by omega) (by omega) (fun c_b => ?_) (fun c_b => ?_)
          ·
            refine lv_aload_n hx hb dX10_joins_47 rfl (lv_at hl 0 rfl) ?_
            refine tw_get X hR hT 1 (by decide) q2942 rfl dX10_joins_48 ?_
            refine lv_iload hx hb dX10_joins_51 (lv_at hl 4 rfl) ?_
            refine lv_iload_n hx hb dX10_joins_53 rfl (lv_at hl 3 rfl) ?_
            -- call SpokenMarksModel.letter
            refine h_kIp (h_runS X hR (m_letterC l G w_2  z) pn_yX10_letter q2854 q2855 q161 q2856 ⟨by decide, by decide⟩ hl.1 (Nat.le_of_ble_eq_true rfl) dX10_joins_54 ⟨by omega, by omega⟩) hL (fun H locs hR hL => ?_)
            refine tw_iast X hR hL hT (k := 1) (by decide) k (by omega) (by show _ < _; simp only [twN]; omega) (by omega) dX10_joins_57 (fun t_14 et_15 w_16 hT H locs hR hL => ?_)
            have hE_t_14 := TwE.ast et_15
            have hv_t_14 := tast_v et_15
            refine lv_aload_n hx hb dX10_joins_58 rfl (lv_at hl 0 rfl) ?_
            refine lv_iload hx hb dX10_joins_59 (lv_at hl 4 rfl) ?_
            refine h_iconst hx hb dX10_joins_61 ?_
            refine h_iadd hx hb dX10_joins_62 ?_
            have hs3 := Spt.st (z := z) hs et_15 (by omega) hz3 (by omega)
            -- call SpokenMarksModel.goes
            refine h_kV (h_runV X hR (m_goes l G w_16 a ad t_14 hT.1 (k + 1) (M.set k z) hs3 (by rw [List.length_set]; omega)) pn_yX10_goes (hasC.of hT.1.ob rfl) q2857 q2859 qs59 q161 q2860 ⟨by decide, by decide⟩ hl.1 (Nat.le_of_ble_eq_true rfl) dX10_joins_63 ⟨by omega, by omega⟩) hL (fun w_18 hp_19 H locs hR hL => ?_)
            obtain ⟨t_20, hT2, hE_t_20, et_21⟩ := hp_19
            have hT := hT.tr hT2
            clear hT2
            refine h_iinc (lv' := [(4, .int (iI ((k : Int) + 1))), (0, .ref a), (1, .int (iI (x))), (2, .int (iI (y))), (3, .int (iI (z)))]) hx hb dX10_joins_66 hl (k := 4) rfl (by decide) rfl (fun ls hl => ?_)
            refine lv_goto (tgt := 3) hx hb dX10_joins_69 (by decide) ?_
            exact ih_3 (k + 1) ((M.set k z).eraseIdx (k + 1)) t_20 w_18 ((prs_hit (by omega) c_a c_b).trans hM) (by rw [List.length_eraseIdx, List.length_set]; split <;> omega) hT (TwE.tr (S2 := [1, 2]) (TwE.tr (S2 := [1, 2]) (TwE.tr (S2 := [1, 2]) (TwE.rf : TwE [] t t) hE_t_1 rfl rfl) hE_t_14 rfl rfl) hE_t_20 rfl rfl) et_21 (by (try rw [List.length_eraseIdx, List.length_set]); (try split) <;> omega) _ _ _ hR hL (lv_sub hl [1, 2, 3, 4, 0] rfl)
          ·
            refine lv_goto (tgt := 66) hx hb dX10_joins_44 (by decide) ?_
            refine h_iinc (lv' := [(4, .int (iI ((k : Int) + 1))), (0, .ref a), (1, .int (iI (x))), (2, .int (iI (y))), (3, .int (iI (z)))]) hx hb dX10_joins_66 hl (k := 4) rfl (by decide) rfl (fun ls hl => ?_)
            refine lv_goto (tgt := 3) hx hb dX10_joins_69 (by decide) ?_
            exact ih_3 (k + 1) M t_1 w_2 ((prs_step (by omega) (fun q => c_b q.2)).trans hM) (by omega) hT (TwE.tr (S2 := [1, 2]) (TwE.rf : TwE [] t t) hE_t_1 rfl rfl) hs (by (try rw [List.length_eraseIdx, List.length_set]); (try split) <;> omega) _ _ _ hR hL (lv_sub hl [1, 2, 3, 4, 0] rfl)
  exact LOOP_3 _ 0 L t w rfl (by omega) hT (TwE.rf : TwE [1, 2] t t) hs0 (Nat.lt_succ_self _) _ _ _ hR hL (lv_sub hl [1, 2, 3, 4, 0] rfl)

set_option maxHeartbeats 4000000 in
set_option maxRecDepth 100000 in
/-- heard -/
theorem m_heard (l : Launch) (G : Gl) (w : Wd) (v : Int)  (h1 : R32 v) : HM l yX10_heard cX10_heard 1 (some .int) 2 0 0 G [.int (iI (v))] w (QI G (fun z_ w_ => z_ = hrd (v + 96) - 96 ∧ w_ = w)) := by
  refine HM.mk (by decide +kernel) (Nat.le_of_ble_eq_true rfl) ?_
  intro p9 e9 s9 m9 a9 b9 meth9 c9 ls X hret hlk hnm hl H hR
  have hx := X.1.1
  have hb := X.1.2.1
  have hl : lv_has ls 1 [(0, .int (iI (v)))] := hl
  have hL : LK G [] := fun q h => absurd h List.not_mem_nil
  generalize ([] : List Loc) = locs at hL ⊢
  refine lv_iload_n hx hb dX10_heard_0 rfl (lv_at hl 0 rfl) ?_
  refine h_bipush hx hb dX10_heard_1 (by decide) ?_
  -- call SpokenMarksModel.letter
  refine h_kIp (h_runS X hR (m_letterC l G w  99) pn_yX10_letter q2854 q2855 q161 q2856 ⟨by decide, by decide⟩ hl.1 (Nat.le_of_ble_eq_true rfl) dX10_heard_3 ⟨by omega, by omega⟩) hL (fun H locs hR hL => ?_)
  refine h_icmp_ne hx hb 15 dX10_heard_6 (by decide) (by omega) (by omega) (fun c_4 => ?_) (fun c_4 => ?_)
  ·
    refine lv_iload_n hx hb dX10_heard_15 rfl (lv_at hl 0 rfl) ?_
    refine h_bipush hx hb dX10_heard_16 (by decide) ?_
    -- call SpokenMarksModel.letter
    refine h_kIp (h_runS X hR (m_letterC l G w  122) pn_yX10_letter q2854 q2855 q161 q2856 ⟨by decide, by decide⟩ hl.1 (Nat.le_of_ble_eq_true rfl) dX10_heard_18 ⟨by omega, by omega⟩) hL (fun H locs hR hL => ?_)
    refine h_icmp_ne hx hb 30 dX10_heard_21 (by decide) (by omega) (by omega) (fun c_8 => ?_) (fun c_8 => ?_)
    ·
      refine lv_iload_n hx hb dX10_heard_30 rfl (lv_at hl 0 rfl) ?_
      refine h_bipush hx hb dX10_heard_31 (by decide) ?_
      -- call SpokenMarksModel.letter
      refine h_kIp (h_runS X hR (m_letterC l G w  121) pn_yX10_letter q2854 q2855 q161 q2856 ⟨by decide, by decide⟩ hl.1 (Nat.le_of_ble_eq_true rfl) dX10_heard_33 ⟨by omega, by omega⟩) hL (fun H locs hR hL => ?_)
      refine h_icmp_ne hx hb 45 dX10_heard_36 (by decide) (by omega) (by omega) (fun c_12 => ?_) (fun c_12 => ?_)
      ·
        refine lv_iload_n hx hb dX10_heard_45 rfl (lv_at hl 0 rfl) ?_
        refine h_bipush hx hb dX10_heard_46 (by decide) ?_
        -- call SpokenMarksModel.letter
        refine h_kIp (h_runS X hR (m_letterC l G w  119) pn_yX10_letter q2854 q2855 q161 q2856 ⟨by decide, by decide⟩ hl.1 (Nat.le_of_ble_eq_true rfl) dX10_heard_48 ⟨by omega, by omega⟩) hL (fun H locs hR hL => ?_)
        refine h_icmp_ne hx hb 62 dX10_heard_51 (by decide) (by omega) (by omega) (fun c_16 => ?_) (fun c_16 => ?_)
        ·
          refine lv_iload_n hx hb dX10_heard_62 rfl (lv_at hl 0 rfl) ?_
          exact h_ireturn hx hb hlk hret hR hL rfl ⟨by unfold hrd; repeat' split <;> omega, rfl⟩ (by omega) (by omega) rfl rfl dX10_heard_63
        ·
          refine h_bipush hx hb dX10_heard_54 (by decide) ?_
          -- call SpokenMarksModel.letter
          refine h_kIp (h_runS X hR (m_letterC l G w  118) pn_yX10_letter q2854 q2855 q161 q2856 ⟨by decide, by decide⟩ hl.1 (Nat.le_of_ble_eq_true rfl) dX10_heard_56 ⟨by omega, by omega⟩) hL (fun H locs hR hL => ?_)
          refine lv_goto (tgt := 63) hx hb dX10_heard_59 (by decide) ?_
          exact h_ireturn hx hb hlk hret hR hL rfl ⟨by unfold hrd; repeat' split <;> omega, rfl⟩ (by omega) (by omega) rfl rfl dX10_heard_63
      ·
        refine h_bipush hx hb dX10_heard_39 (by decide) ?_
        -- call SpokenMarksModel.letter
        refine h_kIp (h_runS X hR (m_letterC l G w  105) pn_yX10_letter q2854 q2855 q161 q2856 ⟨by decide, by decide⟩ hl.1 (Nat.le_of_ble_eq_true rfl) dX10_heard_41 ⟨by omega, by omega⟩) hL (fun H locs hR hL => ?_)
        exact h_ireturn hx hb hlk hret hR hL rfl ⟨by unfold hrd; repeat' split <;> omega, rfl⟩ (by omega) (by omega) rfl rfl dX10_heard_44
    ·
      refine h_bipush hx hb dX10_heard_24 (by decide) ?_
      -- call SpokenMarksModel.letter
      refine h_kIp (h_runS X hR (m_letterC l G w  115) pn_yX10_letter q2854 q2855 q161 q2856 ⟨by decide, by decide⟩ hl.1 (Nat.le_of_ble_eq_true rfl) dX10_heard_26 ⟨by omega, by omega⟩) hL (fun H locs hR hL => ?_)
      exact h_ireturn hx hb hlk hret hR hL rfl ⟨by unfold hrd; repeat' split <;> omega, rfl⟩ (by omega) (by omega) rfl rfl dX10_heard_29
  ·
    refine h_bipush hx hb dX10_heard_9 (by decide) ?_
    -- call SpokenMarksModel.letter
    refine h_kIp (h_runS X hR (m_letterC l G w  107) pn_yX10_letter q2854 q2855 q161 q2856 ⟨by decide, by decide⟩ hl.1 (Nat.le_of_ble_eq_true rfl) dX10_heard_11 ⟨by omega, by omega⟩) hL (fun H locs hR hL => ?_)
    exact h_ireturn hx hb hlk hret hR hL rfl ⟨by unfold hrd; repeat' split <;> omega, rfl⟩ (by omega) (by omega) rfl rfl dX10_heard_14
