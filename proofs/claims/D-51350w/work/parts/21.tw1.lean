/-! the twin: words, readers of the row -/
set_option maxRecDepth 100000
abbrev hd (t : Tw) (k : Nat) : Int := t.2 3 k
abbrev tof (t : Tw) (r k : Nat) : Int := t.2 3 (32 + 14 * r + k)
/-- the letters that lie in 'spelt' -/
def Spt (t : Tw) (L : List Int) : Prop := t.1 2 = (L.length : Int) ∧ Wrd L ∧ ∀ i, i < L.length → t.2 1 i = dg L i
theorem encF_md {L : List Int} (h : ∀ c ∈ L, Ltr c) {j : Nat} (hj : 0 < j) : encF L j % 27 = dg L (j - 1) ∧ encF L j / 27 = encF L (j - 1) := by
  obtain ⟨i, rfl⟩ : ∃ i, j = i + 1 := ⟨j - 1, by omega⟩
  exact encF_mod h i
theorem encF_le {L : List Int} (h : ∀ c ∈ L, Ltr c) {j : Nat} (hj : j ≤ 8) : 0 ≤ encF L j ∧ encF L j < 282429536481 := by
  have hm : ∀ n, encF L j ≤ encF L (j + n) := fun n => by
    induction n with
    | zero => exact Int.le_refl _
    | succ n ih => have := dg_r h (j + n); have := encF_nn h (j + n); rw [show j + (n + 1) = (j + n) + 1 from rfl, encF_s]; omega
  have h1 := hm (8 - j)
  rw [show j + (8 - j) = 8 by omega] at h1
  have := encF_bd h
  exact ⟨encF_nn h j, by omega⟩
/-- the row's numbers are small -/
def Nw (f : Nat → Int) : Prop := (∀ k, k < 16 → 0 ≤ f k ∧ f k < 1000000000) ∧ (∀ r k, r ≤ 40 → k < 4 → 0 ≤ f (32 + 14 * r + k) ∧ f (32 + 14 * r + k) < 1000000000) ∧ (1 ≤ f 0 ∧ f 0 ≤ 8) ∧ f 2 ≤ 40 ∧ f 3 ≤ 8 ∧ ∀ r, r ≤ 40 → f (32 + 14 * r + 3) ≤ 5


set_option maxHeartbeats 4000000 in
set_option maxRecDepth 100000 in
/-- thrown -/
theorem m_thrown (l : Launch) (G : Gl) (w : Wd) (a : Nat) (ad : Nat → Nat) (t : Tw) (hT : TwAt G w a ad t)    : HM l yX10_thrown cX10_thrown 1 (some .int) 1 0 0 G [.ref a] w (QI G (fun z_ w_ => z_ = t.1 0 ∧ w_ = w)) := by
  refine HM.mk (by decide +kernel) (Nat.le_of_ble_eq_true rfl) ?_
  intro p9 e9 s9 m9 a9 b9 meth9 c9 ls X hret hlk hnm hl H hR
  have hx := X.1.1
  have hb := X.1.2.1
  have hl : lv_has ls 1 [(0, .ref a)] := hl
  have hL : LK G [] := fun q h => absurd h List.not_mem_nil
  generalize ([] : List Loc) = locs at hL ⊢
  have hTb := hT
  have hT : TwS G w w a ad t := TwS.rf hT
  refine lv_aload_n hx hb dX10_thrown_0 rfl (lv_at hl 0 rfl) ?_
  refine tw_get X hR hT 0 (by decide) q2941 (v := .int (iI (t.1 0))) rfl dX10_thrown_1 ?_
  have rg_t_0 := hTb.ri 0 (by decide) (by decide)
  exact h_ireturn hx hb hlk hret hR hL rfl ⟨rfl, rfl⟩ (by omega) (by omega) rfl rfl dX10_thrown_4

set_option maxHeartbeats 4000000 in
set_option maxRecDepth 100000 in
/-- in -/
theorem m_in (l : Launch) (G : Gl) (w : Wd) (v : Int) (lo : Int) (hi : Int)  (h1 : R64 v) (h2 : R64 lo) (h3 : R64 hi) : HM l yX10_in cX10_in 6 (some .boolean) 1 0 0 G [.long (lI (v)), .long (lI (lo)), .long (lI (hi))] w (QI G (fun z_ w_ => z_ = b2i (lo ≤ v ∧ v ≤ hi) ∧ w_ = w)) := by
  refine HM.mk (by decide +kernel) (Nat.le_of_ble_eq_true rfl) ?_
  intro p9 e9 s9 m9 a9 b9 meth9 c9 ls X hret hlk hnm hl H hR
  have hx := X.1.1
  have hb := X.1.2.1
  have hl : lv_has ls 6 [(0, .long (lI (v))), (2, .long (lI (lo))), (4, .long (lI (hi)))] := hl
  have hL : LK G [] := fun q h => absurd h List.not_mem_nil
  generalize ([] : List Loc) = locs at hL ⊢
  refine lv_lload_n hx hb dX10_in_0 rfl (lv_at hl 0 rfl) ?_
  refine lv_lload_n hx hb dX10_in_1 rfl (lv_at hl 1 rfl) ?_
  refine h_lcmp hx hb dX10_in_2 (by omega) (by omega) ?_
  refine h_if_lt hx hb 17 dX10_in_3 (by decide) (by have := cmpZ_r v lo; omega) (fun c_1 => ?_) (fun c_1 => ?_)
  ·
    refine h_iconst hx hb dX10_in_17 ?_
    exact h_ireturn hx hb hlk hret hR hL (nar01 (by omega)) ⟨by simp only [cmpZ_lt, cmpZ_gt] at *; unfold b2i; split <;> omega, rfl⟩ (by omega) (by omega) rfl rfl dX10_in_18
  ·
    refine lv_lload_n hx hb dX10_in_6 rfl (lv_at hl 0 rfl) ?_
    refine lv_lload hx hb dX10_in_7 (lv_at hl 2 rfl) ?_
    refine h_lcmp hx hb dX10_in_9 (by omega) (by omega) ?_
    refine h_if_gt hx hb 17 dX10_in_10 (by decide) (by have := cmpZ_r v hi; omega) (fun c_2 => ?_) (fun c_2 => ?_)
    ·
      refine h_iconst hx hb dX10_in_17 ?_
      exact h_ireturn hx hb hlk hret hR hL (nar01 (by omega)) ⟨by simp only [cmpZ_lt, cmpZ_gt] at *; unfold b2i; split <;> omega, rfl⟩ (by omega) (by omega) rfl rfl dX10_in_18
    ·
      refine h_iconst hx hb dX10_in_13 ?_
      refine lv_goto (tgt := 18) hx hb dX10_in_14 (by decide) ?_
      exact h_ireturn hx hb hlk hret hR hL (nar01 (by omega)) ⟨by simp only [cmpZ_lt, cmpZ_gt] at *; unfold b2i; split <;> omega, rfl⟩ (by omega) (by omega) rfl rfl dX10_in_18

set_option maxHeartbeats 4000000 in
set_option maxRecDepth 100000 in
/-- head -/
theorem m_head (l : Launch) (G : Gl) (w : Wd) (a : Nat) (ad : Nat → Nat) (t : Tw) (hT : TwAt G w a ad t) (k : Nat)  (hk : k < 606) : HM l yX10_head cX10_head 2 (some .int) 1 0 0 G [.ref a, .int (iI ((k : Int)))] w (QI G (fun z_ w_ => z_ = hd t k ∧ w_ = w)) := by
  refine HM.mk (by decide +kernel) (Nat.le_of_ble_eq_true rfl) ?_
  intro p9 e9 s9 m9 a9 b9 meth9 c9 ls X hret hlk hnm hl H hR
  have hx := X.1.1
  have hb := X.1.2.1
  have hl : lv_has ls 2 [(0, .ref a), (1, .int (iI ((k : Int))))] := hl
  have hL : LK G [] := fun q h => absurd h List.not_mem_nil
  generalize ([] : List Loc) = locs at hL ⊢
  have hTb := hT
  have hT : TwS G w w a ad t := TwS.rf hT
  refine lv_aload_n hx hb dX10_head_0 rfl (lv_at hl 0 rfl) ?_
  refine tw_get X hR hT 3 (by decide) q2944 rfl dX10_head_1 ?_
  refine lv_iload_n hx hb dX10_head_4 rfl (lv_at hl 1 rfl) ?_
  refine tw_lald X hR hT (k := 3) (by decide) k (by omega) (by show _ < _; simp only [twN]; omega) (v := t.2 3 k) rfl dX10_head_5 (fun ra_5 => ?_)
  refine h_l2i hx hb dX10_head_6 ?_
  exact h_ireturn hx hb hlk hret hR hL rfl ⟨rfl, rfl⟩ (by omega) (by omega) rfl rfl dX10_head_7

set_option maxHeartbeats 4000000 in
set_option maxRecDepth 100000 in
/-- of -/
theorem m_of (l : Launch) (G : Gl) (w : Wd) (a : Nat) (ad : Nat → Nat) (t : Tw) (hT : TwAt G w a ad t) (i : Nat) (j : Nat)  (h1 : i ≤ 40) (h2 : j < 14) : HM l yX10_of cX10_of 3 (some .int) 1 0 0 G [.ref a, .int (iI ((i : Int))), .int (iI ((j : Int)))] w (QI G (fun z_ w_ => z_ = tof t i j ∧ w_ = w)) := by
  refine HM.mk (by decide +kernel) (Nat.le_of_ble_eq_true rfl) ?_
  intro p9 e9 s9 m9 a9 b9 meth9 c9 ls X hret hlk hnm hl H hR
  have hx := X.1.1
  have hb := X.1.2.1
  have hl : lv_has ls 3 [(0, .ref a), (1, .int (iI ((i : Int)))), (2, .int (iI ((j : Int))))] := hl
  have hL : LK G [] := fun q h => absurd h List.not_mem_nil
  generalize ([] : List Loc) = locs at hL ⊢
  have hTb := hT
  have hT : TwS G w w a ad t := TwS.rf hT
  refine lv_aload_n hx hb dX10_of_0 rfl (lv_at hl 0 rfl) ?_
  refine tw_get X hR hT 3 (by decide) q2944 rfl dX10_of_1 ?_
  refine h_bipush hx hb dX10_of_4 (by decide) ?_
  refine h_bipush hx hb dX10_of_6 (by decide) ?_
  refine lv_iload_n hx hb dX10_of_8 rfl (lv_at hl 1 rfl) ?_
  refine h_imul hx hb dX10_of_9 ?_
  refine h_iadd hx hb dX10_of_10 ?_
  refine lv_iload_n hx hb dX10_of_11 rfl (lv_at hl 2 rfl) ?_
  refine h_iadd hx hb dX10_of_12 ?_
  refine tw_lald X hR hT (k := 3) (by decide) (32 + (14 * (i)) + (j)) (by omega) (by show _ < _; simp only [twN]; omega) (v := t.2 3 (32 + (14 * (i)) + (j))) rfl dX10_of_13 (fun ra_13 => ?_)
  refine h_l2i hx hb dX10_of_14 ?_
  exact h_ireturn hx hb hlk hret hR hL rfl ⟨rfl, rfl⟩ (by omega) (by omega) rfl rfl dX10_of_15

set_option maxHeartbeats 4000000 in
set_option maxRecDepth 100000 in
/-- part -/
theorem m_part (l : Launch) (G : Gl) (w : Wd) (a : Nat) (ad : Nat → Nat) (t : Tw) (hT : TwAt G w a ad t) (i : Nat) (j : Nat)  (h1 : i ≤ 40) (h2 : j < 5) : HM l yX10_part cX10_part 3 (some .long) 1 0 0 G [.ref a, .int (iI ((i : Int))), .int (iI ((j : Int)))] w (QL G (fun z_ w_ => z_ = t.2 3 (32 + 14 * i + 4 + j) ∧ w_ = w)) := by
  refine HM.mk (by decide +kernel) (Nat.le_of_ble_eq_true rfl) ?_
  intro p9 e9 s9 m9 a9 b9 meth9 c9 ls X hret hlk hnm hl H hR
  have hx := X.1.1
  have hb := X.1.2.1
  have hl : lv_has ls 3 [(0, .ref a), (1, .int (iI ((i : Int)))), (2, .int (iI ((j : Int))))] := hl
  have hL : LK G [] := fun q h => absurd h List.not_mem_nil
  generalize ([] : List Loc) = locs at hL ⊢
  have hTb := hT
  have hT : TwS G w w a ad t := TwS.rf hT
  refine lv_aload_n hx hb dX10_part_0 rfl (lv_at hl 0 rfl) ?_
  refine tw_get X hR hT 3 (by decide) q2944 rfl dX10_part_1 ?_
  refine h_bipush hx hb dX10_part_4 (by decide) ?_
  refine h_bipush hx hb dX10_part_6 (by decide) ?_
  refine lv_iload_n hx hb dX10_part_8 rfl (lv_at hl 1 rfl) ?_
  refine h_imul hx hb dX10_part_9 ?_
  refine h_iadd hx hb dX10_part_10 ?_
  refine h_iconst hx hb dX10_part_11 ?_
  refine h_iadd hx hb dX10_part_12 ?_
  refine lv_iload_n hx hb dX10_part_13 rfl (lv_at hl 2 rfl) ?_
  refine h_iadd hx hb dX10_part_14 ?_
  refine tw_lald X hR hT (k := 3) (by decide) (32 + (14 * (i)) + 4 + (j)) (by omega) (by show _ < _; simp only [twN]; omega) (v := t.2 3 (32 + (14 * (i)) + 4 + (j))) rfl dX10_part_15 (fun ra_15 => ?_)
  exact h_lreturn hx hb hlk hret hR hL ⟨rfl, rfl⟩ (by omega) (by omega) rfl rfl dX10_part_16

set_option maxHeartbeats 4000000 in
set_option maxRecDepth 100000 in
/-- earOf -/
theorem m_earOf (l : Launch) (G : Gl) (w : Wd) (a : Nat) (ad : Nat → Nat) (t : Tw) (hT : TwAt G w a ad t) (i : Nat) (j : Nat)  (h1 : i ≤ 40) (h2 : j < 5) : HM l yX10_earOf cX10_earOf 3 (some .long) 1 0 0 G [.ref a, .int (iI ((i : Int))), .int (iI ((j : Int)))] w (QL G (fun z_ w_ => z_ = t.2 3 (32 + 14 * i + 9 + j) ∧ w_ = w)) := by
  refine HM.mk (by decide +kernel) (Nat.le_of_ble_eq_true rfl) ?_
  intro p9 e9 s9 m9 a9 b9 meth9 c9 ls X hret hlk hnm hl H hR
  have hx := X.1.1
  have hb := X.1.2.1
  have hl : lv_has ls 3 [(0, .ref a), (1, .int (iI ((i : Int)))), (2, .int (iI ((j : Int))))] := hl
  have hL : LK G [] := fun q h => absurd h List.not_mem_nil
  generalize ([] : List Loc) = locs at hL ⊢
  have hTb := hT
  have hT : TwS G w w a ad t := TwS.rf hT
  refine lv_aload_n hx hb dX10_earOf_0 rfl (lv_at hl 0 rfl) ?_
  refine tw_get X hR hT 3 (by decide) q2944 rfl dX10_earOf_1 ?_
  refine h_bipush hx hb dX10_earOf_4 (by decide) ?_
  refine h_bipush hx hb dX10_earOf_6 (by decide) ?_
  refine lv_iload_n hx hb dX10_earOf_8 rfl (lv_at hl 1 rfl) ?_
  refine h_imul hx hb dX10_earOf_9 ?_
  refine h_iadd hx hb dX10_earOf_10 ?_
  refine h_bipush hx hb dX10_earOf_11 (by decide) ?_
  refine h_iadd hx hb dX10_earOf_13 ?_
  refine lv_iload_n hx hb dX10_earOf_14 rfl (lv_at hl 2 rfl) ?_
  refine h_iadd hx hb dX10_earOf_15 ?_
  refine tw_lald X hR hT (k := 3) (by decide) (32 + (14 * (i)) + 9 + (j)) (by omega) (by show _ < _; simp only [twN]; omega) (v := t.2 3 (32 + (14 * (i)) + 9 + (j))) rfl dX10_earOf_16 (fun ra_16 => ?_)
  exact h_lreturn hx hb hlk hret hR hL ⟨rfl, rfl⟩ (by omega) (by omega) rfl rfl dX10_earOf_17

set_option maxHeartbeats 4000000 in
set_option maxRecDepth 100000 in
/-- ruleWord -/
theorem m_ruleWord (l : Launch) (G : Gl) (w : Wd) (a : Nat) (ad : Nat → Nat) (t : Tw) (hT : TwAt G w a ad t) (i : Nat) (j : Nat)  (h1 : i < 8) (h2 : j < 2) : HM l yX10_ruleWord cX10_ruleWord 3 (some .long) 1 0 0 G [.ref a, .int (iI ((i : Int))), .int (iI ((j : Int)))] w (QL G (fun z_ w_ => z_ = t.2 3 (16 + 2 * i + j) ∧ w_ = w)) := by
  refine HM.mk (by decide +kernel) (Nat.le_of_ble_eq_true rfl) ?_
  intro p9 e9 s9 m9 a9 b9 meth9 c9 ls X hret hlk hnm hl H hR
  have hx := X.1.1
  have hb := X.1.2.1
  have hl : lv_has ls 3 [(0, .ref a), (1, .int (iI ((i : Int)))), (2, .int (iI ((j : Int))))] := hl
  have hL : LK G [] := fun q h => absurd h List.not_mem_nil
  generalize ([] : List Loc) = locs at hL ⊢
  have hTb := hT
  have hT : TwS G w w a ad t := TwS.rf hT
  refine lv_aload_n hx hb dX10_ruleWord_0 rfl (lv_at hl 0 rfl) ?_
  refine tw_get X hR hT 3 (by decide) q2944 rfl dX10_ruleWord_1 ?_
  refine h_bipush hx hb dX10_ruleWord_4 (by decide) ?_
  refine h_iconst hx hb dX10_ruleWord_6 ?_
  refine lv_iload_n hx hb dX10_ruleWord_7 rfl (lv_at hl 1 rfl) ?_
  refine h_imul hx hb dX10_ruleWord_8 ?_
  refine h_iadd hx hb dX10_ruleWord_9 ?_
  refine lv_iload_n hx hb dX10_ruleWord_10 rfl (lv_at hl 2 rfl) ?_
  refine h_iadd hx hb dX10_ruleWord_11 ?_
  refine tw_lald X hR hT (k := 3) (by decide) (16 + (2 * (i)) + (j)) (by omega) (by show _ < _; simp only [twN]; omega) (v := t.2 3 (16 + (2 * (i)) + (j))) rfl dX10_ruleWord_12 (fun ra_12 => ?_)
  exact h_lreturn hx hb hlk hret hR hL ⟨rfl, rfl⟩ (by omega) (by omega) rfl rfl dX10_ruleWord_13

set_option maxHeartbeats 4000000 in
set_option maxRecDepth 100000 in
/-- lays -/
theorem m_lays (l : Launch) (G : Gl) (w : Wd) (a : Nat) (ad : Nat → Nat) (t : Tw) (hT : TwAt G w a ad t) (i : Nat) (j : Nat) (v : Int)  (h1 : i ≤ 40) (h2 : j < 14) (h3 : R64 v) : HM l yX10_lays cX10_lays 5 none 1 0 0 G [.ref a, .int (iI ((i : Int))), .int (iI ((j : Int))), .long (lI (v))] w (QV G (fun w_ => TwS G w w_ a ad (tast t 3 (32 + 14 * i + j) v))) := by
  refine HM.mk (by decide +kernel) (Nat.le_of_ble_eq_true rfl) ?_
  intro p9 e9 s9 m9 a9 b9 meth9 c9 ls X hret hlk hnm hl H hR
  have hx := X.1.1
  have hb := X.1.2.1
  have hl : lv_has ls 5 [(0, .ref a), (1, .int (iI ((i : Int)))), (2, .int (iI ((j : Int)))), (3, .long (lI (v)))] := hl
  have hL : LK G [] := fun q h => absurd h List.not_mem_nil
  generalize ([] : List Loc) = locs at hL ⊢
  have hTb := hT
  have hT : TwS G w w a ad t := TwS.rf hT
  refine lv_aload_n hx hb dX10_lays_0 rfl (lv_at hl 0 rfl) ?_
  refine tw_get X hR hT 3 (by decide) q2944 rfl dX10_lays_1 ?_
  refine h_bipush hx hb dX10_lays_4 (by decide) ?_
  refine h_bipush hx hb dX10_lays_6 (by decide) ?_
  refine lv_iload_n hx hb dX10_lays_8 rfl (lv_at hl 1 rfl) ?_
  refine h_imul hx hb dX10_lays_9 ?_
  refine h_iadd hx hb dX10_lays_10 ?_
  refine lv_iload_n hx hb dX10_lays_11 rfl (lv_at hl 2 rfl) ?_
  refine h_iadd hx hb dX10_lays_12 ?_
  refine lv_lload_n hx hb dX10_lays_13 rfl (lv_at hl 3 rfl) ?_
  refine tw_last X hR hL hT (k := 3) (by decide) (32 + (14 * (i)) + (j)) (by omega) (by show _ < _; simp only [twN]; omega) (by omega) dX10_lays_14 (fun t_1 et_2 w_3 hT H locs hR hL => ?_)
  have hE_t_1 := TwE.ast et_2
  have hv_t_1 := tast_v et_2
  exact h_vreturn hx hb hlk hret hR hL (by subst_vars; exact hT) (by omega) (by omega) rfl rfl dX10_lays_15

set_option maxHeartbeats 4000000 in
set_option maxRecDepth 100000 in
/-- counts -/
theorem m_counts (l : Launch) (G : Gl) (w : Wd) (a : Nat) (ad : Nat → Nat) (t : Tw) (hT : TwAt G w a ad t) (i : Nat) (v : Int)  (h1 : i < 3) (h2 : R32 v) (h3 : R32 (t.2 3 (5 + i))) : HM l yX10_counts cX10_counts 3 none 1 0 0 G [.ref a, .int (iI ((i : Int))), .int (iI (v))] w (QV G (fun w_ => TwS G w w_ a ad (tast t 3 (5 + i) (t.2 3 (5 + i) + v)))) := by
  refine HM.mk (by decide +kernel) (Nat.le_of_ble_eq_true rfl) ?_
  intro p9 e9 s9 m9 a9 b9 meth9 c9 ls X hret hlk hnm hl H hR
  have hx := X.1.1
  have hb := X.1.2.1
  have hl : lv_has ls 3 [(0, .ref a), (1, .int (iI ((i : Int)))), (2, .int (iI (v)))] := hl
  have hL : LK G [] := fun q h => absurd h List.not_mem_nil
  generalize ([] : List Loc) = locs at hL ⊢
  have hTb := hT
  have hT : TwS G w w a ad t := TwS.rf hT
  refine lv_aload_n hx hb dX10_counts_0 rfl (lv_at hl 0 rfl) ?_
  refine tw_get X hR hT 3 (by decide) q2944 rfl dX10_counts_1 ?_
  refine h_iconst hx hb dX10_counts_4 ?_
  refine lv_iload_n hx hb dX10_counts_5 rfl (lv_at hl 1 rfl) ?_
  refine h_iadd hx hb dX10_counts_6 ?_
  refine lv_dup2_11 hx hb dX10_counts_7 rfl rfl ?_
  refine tw_lald X hR hT (k := 3) (by decide) (5 + (i)) (by omega) (by show _ < _; simp only [twN]; omega) (v := t.2 3 (5 + (i))) rfl dX10_counts_8 (fun ra_8 => ?_)
  refine lv_iload_n hx hb dX10_counts_9 rfl (lv_at hl 2 rfl) ?_
  refine h_i2l hx hb dX10_counts_10 (by omega) ?_
  refine h_ladd hx hb dX10_counts_11 ?_
  refine tw_last X hR hL hT (k := 3) (by decide) (5 + (i)) (by omega) (by show _ < _; simp only [twN]; omega) (by omega) dX10_counts_12 (fun t_1 et_2 w_3 hT H locs hR hL => ?_)
  have hE_t_1 := TwE.ast et_2
  have hv_t_1 := tast_v et_2
  exact h_vreturn hx hb hlk hret hR hL (by subst_vars; exact hT) (by omega) (by omega) rfl rfl dX10_counts_13

set_option maxHeartbeats 4000000 in
set_option maxRecDepth 100000 in
/-- letter -/
theorem m_letterC (l : Launch) (G : Gl) (w : Wd) (ch : Int)   : HM l yX10_letter cX10_letter 1 (some .int) 1 0 0 G [.int (iI (ch))] w (QI G (fun z_ w_ => z_ = ch - 96 ∧ w_ = w)) := by
  refine HM.mk (by decide +kernel) (Nat.le_of_ble_eq_true rfl) ?_
  intro p9 e9 s9 m9 a9 b9 meth9 c9 ls X hret hlk hnm hl H hR
  have hx := X.1.1
  have hb := X.1.2.1
  have hl : lv_has ls 1 [(0, .int (iI (ch)))] := hl
  have hL : LK G [] := fun q h => absurd h List.not_mem_nil
  generalize ([] : List Loc) = locs at hL ⊢
  refine lv_iload_n hx hb dX10_letter_0 rfl (lv_at hl 0 rfl) ?_
  refine h_bipush hx hb dX10_letter_1 (by decide) ?_
  refine h_isub hx hb dX10_letter_3 ?_
  refine h_iconst hx hb dX10_letter_4 ?_
  refine h_iadd hx hb dX10_letter_5 ?_
  exact h_ireturn hx hb hlk hret hR hL rfl ⟨by omega, rfl⟩ (by omega) (by omega) rfl rfl dX10_letter_6

set_option maxHeartbeats 4000000 in
set_option maxRecDepth 100000 in
/-- spells -/
theorem m_spells (l : Launch) (G : Gl) (w : Wd) (a : Nat) (ad : Nat → Nat) (t : Tw) (hT : TwAt G w a ad t)  (L : List Int) (hw : Wrd L) : HM l yX10_spells cX10_spells 6 none 1 0 0 G [.ref a, .long (lI (enc L))] w (QV G (fun w_ => ∃ t_ : Tw, TwS G w w_ a ad t_ ∧ TwE [1, 2] t t_ ∧ Spt t_ L)) := by
  refine HM.mk (by decide +kernel) (Nat.le_of_ble_eq_true rfl) ?_
  intro p9 e9 s9 m9 a9 b9 meth9 c9 ls X hret hlk hnm hl H hR
  have hx := X.1.1
  have hb := X.1.2.1
  have hl : lv_has ls 6 [(0, .ref a), (1, .long (lI (enc L)))] := hl
  have hL : LK G [] := fun q h => absurd h List.not_mem_nil
  generalize ([] : List Loc) = locs at hL ⊢
  have hTb := hT
  have hT : TwS G w w a ad t := TwS.rf hT
  have hen := enc_r hw.2
  have hw1 := hw.1
  refine lv_lload_n hx hb dX10_spells_0 rfl (lv_at hl 1 rfl) ?_
  refine lv_ldc2 (v := lI (1000000)) hx hb X.1.2.2.2.1 (X.1.2.2.2.2 _ q2802) dX10_spells_1 ?_
  refine h_lsub hx hb dX10_spells_4 ?_
  refine lv_lstore_n (lv' := [(3, .long (lI ((enc L) - 1000000))), (0, .ref a), (1, .long (lI (enc L)))]) hx hb dX10_spells_5 rfl hl (by decide) rfl (fun ls hl => ?_)
  have hl : lv_has ls 6 [(3, .long (lI (encF L 8))), (0, .ref a), (1, .long (lI (enc L)))] := lv_conv hl (congrArg (fun z_ : Int => ([(3, .long (lI (z_))), (0, .ref a), (1, .long (lI (enc L)))] : List (Nat × Value))) (show ((enc L) - 1000000 : Int) = encF L 8 from (by unfold enc; omega)))
  refine h_bipush hx hb dX10_spells_6 (by decide) ?_
  refine lv_istore (lv' := [(5, .int (iI (7))), (3, .long (lI (encF L 8))), (0, .ref a), (1, .long (lI (enc L)))]) hx hb dX10_spells_8 hl (by decide) rfl (fun ls hl => ?_)
  have LOOP_3 : ∀ (N_ : Nat) (j : Nat) (t_1 : Tw) (w_2 : Wd), (j ≤ 8) → (TwS G w w_2 a ad t_1) → (TwE [1] t t_1) → (∀ i, j ≤ i → i < 8 → t_1.2 1 i = dg L i) → j < N_ → ∀ (H : Heap) (locs : List Loc) (ls : Array Slot), Rp G w_2 H → LK G locs → lv_has ls 6 [(0, .ref a), (3, .long (lI (encF L j))), (5, .int (iI ((j : Int) - 1)))] → W p9 l e9 (rmk 1 0 0) s9 m9 a9 b9 meth9 c9 H locs 0 0 (MQ b9 (QV G (fun w_ => ∃ t_ : Tw, TwS G w w_ a ad t_ ∧ TwE [1, 2] t t_ ∧ Spt t_ L)) a9 s9 0 0 (frG G)) (F0 m9 10 ls []) := by
    intro N_
    induction N_ with
    | zero => intro _ _ _ _ _ _ _ h_; exact absurd h_ (Nat.not_lt_zero _)
    | succ N_ ih_ =>
      intro j t_1 w_2 hj hT hE_t_1 hs hN_ H locs ls hR hL hl
      have ih_3 := ih_
      clear ih_
      refine lv_iload hx hb dX10_spells_10 (lv_at hl 2 rfl) ?_
      refine h_if_lt hx hb 40 dX10_spells_12 (by decide) (by omega) (fun c_4 => ?_) (fun c_4 => ?_)
      ·
        refine lv_aload_n hx hb dX10_spells_40 rfl (lv_at hl 0 rfl) ?_
        refine h_iconst hx hb dX10_spells_41 ?_
        refine tw_puti X hR hL hT 2 (by decide) q2943 rfl rfl rfl twF_s2 (by omega) dX10_spells_42 (fun t_5 et_6 w_7 hT H locs hR hL => ?_)
        have hE_t_5 := TwE.put et_6
        have hv_t_5 := tput_v et_6
        have LOOP_10 : ∀ (N_ : Nat) (k : Nat) (t_8 : Tw) (w_9 : Wd), (k ≤ L.length) → (TwS G w w_9 a ad t_8) → (TwE [1, 2] t t_8) → (∀ i, i < 8 → t_8.2 1 i = dg L i) → (t_8.1 2 = (k : Int)) → (L.length - k) < N_ → ∀ (H : Heap) (locs : List Loc) (ls : Array Slot), Rp G w_9 H → LK G locs → lv_has ls 6 [(0, .ref a)] → W p9 l e9 (rmk 1 0 0) s9 m9 a9 b9 meth9 c9 H locs 0 0 (MQ b9 (QV G (fun w_ => ∃ t_ : Tw, TwS G w w_ a ad t_ ∧ TwE [1, 2] t t_ ∧ Spt t_ L)) a9 s9 0 0 (frG G)) (F0 m9 45 ls []) := by
          intro N_
          induction N_ with
          | zero => intro _ _ _ _ _ _ _ _ h_; exact absurd h_ (Nat.not_lt_zero _)
          | succ N_ ih_ =>
            intro k t_8 w_9 hk hT hE_t_8 hs hk2 hN_ H locs ls hR hL hl
            have ih_10 := ih_
            clear ih_
            refine lv_aload_n hx hb dX10_spells_45 rfl (lv_at hl 0 rfl) ?_
            refine tw_get X hR hT 2 (by decide) q2943 (v := .int (iI ((k : Int)))) (congrArg (fun z => some (Value.int (iI z))) (hk2)) dX10_spells_46 ?_
            refine h_bipush hx hb dX10_spells_49 (by decide) ?_
            refine h_icmp_ge hx hb 79 dX10_spells_51 (by decide) (by omega) (by omega) (fun c_11 => ?_) (fun c_11 => ?_)
            ·
              exact h_vreturn hx hb hlk hret hR hL ⟨t_8, hT, (TwE.tr (S2 := [1, 2]) (TwE.rf : TwE [] t t) hE_t_8 rfl rfl), ⟨by rw [hk2, show k = L.length from by rcases Nat.lt_or_ge k L.length with q | q; (have := dg_pos hw.2 q; omega); omega], hw, fun i hi => hs i (by have := hw.1; omega)⟩⟩ (by omega) (by omega) rfl rfl dX10_spells_79
            ·
              refine lv_aload_n hx hb dX10_spells_54 rfl (lv_at hl 0 rfl) ?_
              refine tw_get X hR hT 1 (by decide) q2942 rfl dX10_spells_55 ?_
              refine lv_aload_n hx hb dX10_spells_58 rfl (lv_at hl 0 rfl) ?_
              refine tw_get X hR hT 2 (by decide) q2943 (v := .int (iI ((k : Int)))) (congrArg (fun z => some (Value.int (iI z))) (hk2)) dX10_spells_59 ?_
              have hdk := dg_r hw.2 k
              refine tw_iald X hR hT (k := 1) (by decide) k (by omega) (by show _ < _; simp only [twN]; omega) (v := dg L k) (hs k (by omega)) dX10_spells_62 (fun ra_62 => ?_)
              refine h_if_le hx hb 79 dX10_spells_63 (by decide) (by omega) (fun c_12 => ?_) (fun c_12 => ?_)
              ·
                exact h_vreturn hx hb hlk hret hR hL ⟨t_8, hT, (TwE.tr (S2 := [1, 2]) (TwE.rf : TwE [] t t) hE_t_8 rfl rfl), ⟨by rw [hk2, show k = L.length from by rcases Nat.lt_or_ge k L.length with q | q; (have := dg_pos hw.2 q; omega); omega], hw, fun i hi => hs i (by have := hw.1; omega)⟩⟩ (by omega) (by omega) rfl rfl dX10_spells_79
              ·
                have hkl : k < L.length := Nat.lt_of_not_le (fun q => by have := dg_ge q; omega)
                refine lv_aload_n hx hb dX10_spells_66 rfl (lv_at hl 0 rfl) ?_
                refine lv_dup hx hb dX10_spells_67 rfl ?_
                refine tw_get X hR hT 2 (by decide) q2943 (v := .int (iI ((k : Int)))) (congrArg (fun z => some (Value.int (iI z))) (hk2)) dX10_spells_68 ?_
                refine h_iconst hx hb dX10_spells_71 ?_
                refine h_iadd hx hb dX10_spells_72 ?_
                refine tw_puti X hR hL hT 2 (by decide) q2943 rfl rfl rfl twF_s2 (by omega) dX10_spells_73 (fun t_13 et_14 w_15 hT H locs hR hL => ?_)
                have hE_t_13 := TwE.put et_14
                have hv_t_13 := tput_v et_14
                refine lv_goto (tgt := 45) hx hb dX10_spells_76 (by decide) ?_
                exact ih_10 (k + 1) t_13 w_15 (by omega) hT (TwE.tr (S2 := [1, 2]) (TwE.tr (S2 := [1, 2]) (TwE.rf : TwE [] t t) hE_t_8 rfl rfl) hE_t_13 rfl rfl) (fun i hi => by rw [(hE_t_13 1 (by decide)).2]; exact hs i hi) (hv_t_13.trans rfl) (by omega) _ _ _ hR hL (lv_sub hl [0] rfl)
        exact LOOP_10 _ 0 t_5 w_7 (by omega) hT (TwE.tr (S2 := [1, 2]) (TwE.tr (S2 := [1, 2]) (TwE.rf : TwE [] t t) hE_t_1 rfl rfl) hE_t_5 rfl rfl) (fun i hi => by rw [(hE_t_5 1 (by decide)).2]; exact hs i (by omega) hi) hv_t_5 (Nat.lt_succ_self _) _ _ _ hR hL (lv_sub hl [0] rfl)
      ·
        have hm := encF_md hw.2 (j := j) (by omega)
        have hb2 := encF_le hw.2 (j := j) (by omega)
        have hd2 := dg_r hw.2 (j - 1)
        refine lv_aload_n hx hb dX10_spells_15 rfl (lv_at hl 0 rfl) ?_
        refine tw_get X hR hT 1 (by decide) q2942 rfl dX10_spells_16 ?_
        refine lv_iload hx hb dX10_spells_19 (lv_at hl 2 rfl) ?_
        refine lv_lload_n hx hb dX10_spells_21 rfl (lv_at hl 1 rfl) ?_
        refine lv_ldc2 (v := lI (27)) hx hb X.1.2.2.2.1 (X.1.2.2.2.2 _ q2801) dX10_spells_22 ?_
        refine h_lrem hx hb dX10_spells_25 ⟨⟨by omega, by omega⟩, by decide, by decide⟩ ?_
        refine h_l2i hx hb dX10_spells_26 ?_
        refine tw_iast X hR hL hT (k := 1) (by decide) (j - 1) (by omega) (by show _ < _; simp only [twN]; omega) (by omega) dX10_spells_27 (fun t_16 et_17 w_18 hT H locs hR hL => ?_)
        have hE_t_16 := TwE.ast et_17
        have hv_t_16 := tast_v et_17
        refine lv_lload_n hx hb dX10_spells_28 rfl (lv_at hl 1 rfl) ?_
        refine lv_ldc2 (v := lI (27)) hx hb X.1.2.2.2.1 (X.1.2.2.2.2 _ q2801) dX10_spells_29 ?_
        refine h_ldiv hx hb dX10_spells_32 ⟨⟨by omega, by omega⟩, by decide, by decide⟩ ?_
        refine lv_lstore_n (lv' := [(3, .long (lI ((encF L j) / 27))), (0, .ref a), (5, .int (iI ((j : Int) - 1)))]) hx hb dX10_spells_33 rfl hl (by decide) rfl (fun ls hl => ?_)
        have hl : lv_has ls 6 [(3, .long (lI (encF L (j - 1)))), (0, .ref a), (5, .int (iI ((j : Int) - 1)))] := lv_conv hl (congrArg (fun z_ : Int => ([(3, .long (lI (z_))), (0, .ref a), (5, .int (iI ((j : Int) - 1)))] : List (Nat × Value))) (show ((encF L j) / 27 : Int) = encF L (j - 1) from (by omega)))
        refine h_iinc (lv' := [(5, .int (iI ((j : Int) - 1 + (-1)))), (3, .long (lI (encF L (j - 1)))), (0, .ref a)]) hx hb dX10_spells_34 hl (k := 2) rfl (by decide) rfl (fun ls hl => ?_)
        have hl : lv_has ls 6 [(5, .int (iI (((j - 1 : Nat) : Int) - 1))), (3, .long (lI (encF L (j - 1)))), (0, .ref a)] := lv_conv hl (congrArg (fun z_ : Int => ([(5, .int (iI (z_))), (3, .long (lI (encF L (j - 1)))), (0, .ref a)] : List (Nat × Value))) (show ((j : Int) - 1 + (-1) : Int) = ((j - 1 : Nat) : Int) - 1 from (by omega)))
        refine lv_goto (tgt := 10) hx hb dX10_spells_37 (by decide) ?_
        exact ih_3 (j - 1) t_16 w_18 (by omega) hT (TwE.tr (S2 := [1]) (TwE.tr (S2 := [1]) (TwE.rf : TwE [] t t) hE_t_1 rfl rfl) hE_t_16 rfl rfl) (fun i h1 h2 => by rw [hv_t_16]; unfold zset; split; (next q => subst q; omega); exact hs i (by omega) h2) (by omega) _ _ _ hR hL (lv_sub hl [2, 1, 0] rfl)
  have hl : lv_has ls 6 [(5, .int (iI (((8 : Nat) : Int) - 1))), (3, .long (lI (encF L 8))), (0, .ref a), (1, .long (lI (enc L)))] := lv_conv hl (congrArg (fun z_ : Int => ([(5, .int (iI (z_))), (3, .long (lI (encF L 8))), (0, .ref a), (1, .long (lI (enc L)))] : List (Nat × Value))) (show (7 : Int) = ((8 : Nat) : Int) - 1 from (by omega)))
  exact LOOP_3 _ 8 t w (by omega) hT (TwE.rf : TwE [1] t t) (fun i h1 h2 => absurd h1 (by omega)) (Nat.lt_succ_self _) _ _ _ hR hL (lv_sub hl [2, 1, 0] rfl)
