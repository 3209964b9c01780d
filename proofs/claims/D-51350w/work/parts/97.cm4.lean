/-! the component: what the catalogue answers -/
set_option maxRecDepth 100000
theorem CatAt.s2 {G : Gl} {w : Wd} {a lm lr hm : Nat} {c : Cat} (h : CatAt G w a lm lr hm c) : (∃ y, w lm = some y) ∧ (∃ y, w lr = some y) ∧ ∃ y, w hm = some y := by
  obtain ⟨bda, aca, so, fb, fa, Lm, Lr, mp, h1, h2, h3, h4, ⟨⟨mo1, -, h5⟩, -⟩, ⟨⟨mo2, -, h6⟩, -⟩, ⟨h7, -⟩, -⟩ := h
  exact ⟨h5.sm, h6.sm, h7.sm⟩
theorem CatS.mw {c : Cat} (h : CatS c) {k : Nat} (hk : k < cN c) : MrkW (mk c k) := h.2.2.2.1.2 k hk
theorem CatS.pw {c : Cat} (h : CatS c) {k : Nat} (hk : k < cN c) : PrtsW (mPs (mk c k)) := (h.mw hk).2.1
theorem shO_on {c : Cat} (h : CatW c) {k : Nat} (hk : k < cN c) {s : Int} (hs : 0 ≤ s ∧ s < cSh c) : ((shO c (mPl (mk c k)) : Int) = s) ↔ onB c k s = true := by
  have hb0 := h.2.2.2.1
  have hm := h.1.mw hk
  have hp := hm.2.2.2
  have hl := h.1.2.2.1.1
  have h1 := h.1.1
  obtain ⟨a1, a2⟩ := shN_spec (c := c) (p := mPl (mk c k)) (by rw [hb0]; exact hp.1) ((cSh c).toNat - 1)
  have ale := shN_le c (mPl (mk c k)) ((cSh c).toNat - 1)
  change bd c (shO c (mPl (mk c k))) ≤ _ at a1
  change ∀ j, shO c (mPl (mk c k)) < j → _ at a2
  change shO c (mPl (mk c k)) ≤ _ at ale
  rw [onB_iff]
  unfold isOn bdX
  obtain ⟨n, rfl⟩ : ∃ n : Nat, s = (n : Int) := ⟨s.toNat, by omega⟩
  have e1 : ((n : Int) + 1).toNat = n + 1 := by omega
  rw [if_neg (by omega), Int.toNat_natCast, e1]
  constructor
  · intro q
    have q2 : shO c (mPl (mk c k)) = n := by omega
    rw [q2] at a1 a2
    refine ⟨a1, ?_⟩
    split
    · exact hp.2
    · exact a2 (n + 1) (by omega) (by omega)
  · intro ⟨q1, q2⟩
    rcases Nat.lt_trichotomy (shO c (mPl (mk c k))) n with q | q | q
    · have := a2 n q (by omega); omega
    · omega
    · have h5 := bd_mono h (i := n + 1) (j := shO c (mPl (mk c k))) (by omega) (by omega)
      rw [if_neg (by omega)] at q2
      omega
theorem lsT_s {c : Cat} (h : CatW c) : ∀ k, 0 < k → k < cN c → 0 < lsT c k ∧ lsT c k < 10000
  | 0, h0, _ => absurd h0 (Nat.lt_irrefl _)
  | k + 1, _, hk => by
    have h1 := h.2.1 k hk
    have a := (h.1.mw (k := k) (by omega)).2.2.2
    have b := (h.1.mw hk).2.2.2
    unfold lsT
    by_cases q : k = 0
    · subst q
      have e0 : lsT c 0 = 0 := rfl
      rw [e0, if_pos (Or.inl rfl)]; omega
    · have ih := lsT_s h k (by omega) (by omega)
      split <;> omega

theorem pn_yX2_isTight : ParN yX2_isTight 1 := by decide +kernel
theorem pn_yX2_placeAt : ParN yX2_placeAt 1 := by decide +kernel
theorem pn_yX2_spaced : ParN yX2_spaced 2 := by decide +kernel

set_option maxHeartbeats 4000000 in
set_option maxRecDepth 100000 in
/-- SpokenMarks$Catalogue.spaced -/
theorem ct_spc (l : Launch) (G : Gl) (w : Wd) (r n : Int) (h1 : -1 ≤ r ∧ r ≤ 41) (h2 : 0 ≤ n ∧ n ≤ 41) : HM l yX2_spaced cX2_spaced 2 (some .int) 1 0 0 G [.int (iI (r)), .int (iI (n))] w (QI G (fun z_ w_ => z_ = spc r n ∧ w_ = w)) := by
  refine HM.mk (by decide +kernel) (Nat.le_of_ble_eq_true rfl) ?_
  intro p9 e9 s9 m9 a9 b9 meth9 c9 ls X hret hlk hnm hl H hR
  have hx := X.1.1
  have hb := X.1.2.1
  have hl : lv_has ls 2 [(0, .int (iI (r))), (1, .int (iI (n)))] := hl
  have hL : LK G [] := fun q h => absurd h List.not_mem_nil
  generalize ([] : List Loc) = locs at hL ⊢
  refine lv_iload_n hx hb dX2_spaced_0 rfl (lv_at hl 0 rfl) ?_
  refine h_iconst hx hb dX2_spaced_1 ?_
  refine h_iadd hx hb dX2_spaced_2 ?_
  refine h_sipush hx hb dX2_spaced_3 (by decide) ?_
  refine h_imul hx hb dX2_spaced_6 ?_
  refine lv_iload_n hx hb dX2_spaced_7 rfl (lv_at hl 1 rfl) ?_
  refine h_iconst hx hb dX2_spaced_8 ?_
  refine h_iadd hx hb dX2_spaced_9 ?_
  refine h_idiv hx hb dX2_spaced_10 ⟨⟨by omega, by omega⟩, by omega, by omega⟩ ?_
  exact h_ireturn hx hb hlk hret hR hL rfl ⟨rfl, rfl⟩ (by omega) (by omega) rfl rfl dX2_spaced_11

set_option maxHeartbeats 4000000 in
set_option maxRecDepth 100000 in
/-- SpokenMarks$Catalogue.placeAt -/
theorem ct_plA (l : Launch) (G : Gl) (w : Wd) (a lm lr hm : Nat) (c : Cat) (hC : CatAt G w a lm lr hm c) (hS : CatS c) (r : Int) (h1 : R32 r) : HM l yX2_placeAt cX2_placeAt 2 (some .int) 4 0 0 G [.ref a, .int (iI (r))] w (QI G (fun z_ w_ => z_ = plA c r ∧ w_ = w)) := by
  refine HM.mk (by decide +kernel) (Nat.le_of_ble_eq_true rfl) ?_
  intro p9 e9 s9 m9 a9 b9 meth9 c9 ls X hret hlk hnm hl H hR
  have hx := X.1.1
  have hb := X.1.2.1
  have hl : lv_has ls 2 [(0, .ref a), (1, .int (iI (r)))] := hl
  have hL : LK G [] := fun q h => absurd h List.not_mem_nil
  generalize ([] : List Loc) = locs at hL ⊢
  have hC0 := hC
  obtain ⟨bda, aca, so, fb, fa, Lm, Lr, mp, hCt, ⟨hbd, hbx⟩, ⟨hac, hax⟩, hso, ⟨⟨mo1, hm1, hlm⟩, hmk, hnd⟩, ⟨⟨mo2, hm2, hlr⟩, hru⟩, ⟨hhm, hmp⟩, hrd, hid, hba, hll⟩ := hC
  have hCt : w a = some (a + 1, oE 2 [.int (iI (cSh c)), .int (iI (cRm c)), .ref bda, .ref lm, .ref lr, .ref hm, .ref so, .ref aca, .int (iI (cNx c))]) := hCt
  have s1 := hS.1
  have s2 := hS.2.1
  have s3 := hS.2.2.1
  have s4 := hS.2.2.2.1.1
  have hRW := hS.2.2.2.2.1
  have s5 := hRW.1
  have s6 := hS.2.2.2.2.2
  have hml : Lm.length = cN c := hmk.1
  have hrl := hru.1
  refine lv_iload_n hx hb dX2_placeAt_0 rfl (lv_at hl 1 rfl) ?_
  refine h_if_ge hx hb 8 dX2_placeAt_1 (by decide) (by omega) (fun c_0 => ?_) (fun c_0 => ?_)
  ·
    refine lv_iload_n hx hb dX2_placeAt_8 rfl (lv_at hl 1 rfl) ?_
    refine lv_aload_n hx hb dX2_placeAt_9 rfl (lv_at hl 0 rfl) ?_
    refine h_get X hR hCt rfl in_X2 3 (by decide) q597 rfl dX2_placeAt_10 ?_
    -- call java/util/ArrayList.size
    refine h_k5Ip (h_runF (x := ⟨"java/util/List", "size", "()I"⟩) X hR (ls_size l G w (lm + 1) lm 40 mo1 Lm hlm) pn_i_java_util_List_size_0 (hlm.c) (kk_face X.2 (by decide +kernel) q1566 q1565 q1570 q1568 q664) q1564 q1569 q1567 q125 q1571 ⟨by decide, by decide⟩ hl.1 (Nat.le_of_ble_eq_true rfl) dX2_placeAt_13 ⟨by omega, by omega⟩) hL (fun H locs hR hL => ?_)
    refine W.eq (g2 := F0 m9 18 ls [.int (iI ((cN c : Int))), .int (iI (r))]) (congrArg (fun z_ : Int => F0 m9 18 ls [.int (iI (z_)), .int (iI (r))]) (show ((Lm.length : Int) : Int) = (cN c : Int) from (by rw [hml]))) ?_
    refine h_icmp_ge hx hb 40 dX2_placeAt_18 (by decide) (by omega) (by omega) (fun c_1 => ?_) (fun c_1 => ?_)
    ·
      refine h_sipush hx hb dX2_placeAt_40 (by decide) ?_
      exact h_ireturn hx hb hlk hret hR hL rfl ⟨by unfold plA; first | (rw [if_pos (by omega)]) | (rw [if_neg (by omega), if_pos (by omega)]) | (rw [if_neg (by omega), if_neg (by omega)]), rfl⟩ (by omega) (by omega) rfl rfl dX2_placeAt_43
    ·
      refine lv_aload_n hx hb dX2_placeAt_21 rfl (lv_at hl 0 rfl) ?_
      refine h_get X hR hCt rfl in_X2 3 (by decide) q597 rfl dX2_placeAt_22 ?_
      refine lv_iload_n hx hb dX2_placeAt_25 rfl (lv_at hl 1 rfl) ?_
      refine W.eq (g2 := F0 m9 26 ls [.int (iI (((r.toNat : Nat) : Int))), .ref lm]) (congrArg (fun z_ : Int => F0 m9 26 ls [.int (iI (z_)), .ref lm]) (show (r : Int) = ((r.toNat : Nat) : Int) from (by omega))) ?_
      -- call java/util/ArrayList.get
      refine h_k5Rp (h_runF (x := ⟨"java/util/List", "get", "(I)Ljava/lang/Object;"⟩) X hR (ls_get l G w (lm + 1) lm 40 mo1 Lm hlm r.toNat (by omega)) pn_i_java_util_List_get_1 (hlm.c) (kk_face X.2 (by decide +kernel) q1575 q1574 q1579 q1577 q664) q1573 q1578 q1576 q125 q1580 ⟨by decide, by decide⟩ hl.1 (Nat.le_of_ble_eq_true rfl) dX2_placeAt_26 ⟨by omega, by omega⟩) hL (fun H locs hR hL => ?_)
      have hm_7 : MkAt G (cRl c) w (a + 1) (Lm.getD r.toNat 0) (mk c r.toNat) := MksAt.g hmk (show r.toNat < cN c by omega)
      have hm_7w := hS.mw (k := r.toNat) (by omega)
      have hm_7p := hS.pw (k := r.toNat) (by omega)
      have hm_7r := hm_7w.1
      have hm_7r2 := hm_7w.2.2
      obtain ⟨pl_8, hm_71, hm_72⟩ := hm_7
      refine h_castS X hR (hasC.of hm_71 rfl) q1385 dX2_placeAt_31 ?_
      refine h_getN X hR hm_71 rfl in_X5 3 (by decide) q1548 rfl dX2_placeAt_34 ?_
      refine lv_goto (tgt := 43) hx hb dX2_placeAt_37 (by decide) ?_
      exact h_ireturn hx hb hlk hret hR hL rfl ⟨by unfold plA; first | (rw [if_pos (by omega)]) | (rw [if_neg (by omega), if_pos (by omega)]) | (rw [if_neg (by omega), if_neg (by omega)]), rfl⟩ (by omega) (by omega) rfl rfl dX2_placeAt_43
  ·
    refine h_iconst hx hb dX2_placeAt_4 ?_
    refine lv_goto (tgt := 43) hx hb dX2_placeAt_5 (by decide) ?_
    exact h_ireturn hx hb hlk hret hR hL rfl ⟨by unfold plA; first | (rw [if_pos (by omega)]) | (rw [if_neg (by omega), if_pos (by omega)]) | (rw [if_neg (by omega), if_neg (by omega)]), rfl⟩ (by omega) (by omega) rfl rfl dX2_placeAt_43

theorem plA_b {c : Cat} (h : CatS c) (r : Int) : -1 ≤ plA c r ∧ plA c r ≤ 10000 := by
  unfold plA
  split
  · omega
  · split
    · next q1 q2 => have := (h.mw (k := r.toNat) (by omega)).2.2.2; omega
    · omega

set_option maxHeartbeats 4000000 in
set_option maxRecDepth 100000 in
/-- SpokenMarks$Catalogue.isTight -/
theorem ct_tight (l : Launch) (G : Gl) (w : Wd) (a lm lr hm : Nat) (c : Cat) (hC : CatAt G w a lm lr hm c) (hS : CatS c) (r : Int) (h1 : -100 ≤ r ∧ r ≤ 100) : HM l yX2_isTight cX2_isTight 2 (some .boolean) 5 0 0 G [.ref a, .int (iI (r))] w (QI G (fun z_ w_ => z_ = b2i (plA c r - plA c (r - 1) < 2) ∧ w_ = w)) := by
  refine HM.mk (by decide +kernel) (Nat.le_of_ble_eq_true rfl) ?_
  intro p9 e9 s9 m9 a9 b9 meth9 c9 ls X hret hlk hnm hl H hR
  have hx := X.1.1
  have hb := X.1.2.1
  have hl : lv_has ls 2 [(0, .ref a), (1, .int (iI (r)))] := hl
  have hL : LK G [] := fun q h => absurd h List.not_mem_nil
  generalize ([] : List Loc) = locs at hL ⊢
  have hC0 := hC
  obtain ⟨bda, aca, so, fb, fa, Lm, Lr, mp, hCt, ⟨hbd, hbx⟩, ⟨hac, hax⟩, hso, ⟨⟨mo1, hm1, hlm⟩, hmk, hnd⟩, ⟨⟨mo2, hm2, hlr⟩, hru⟩, ⟨hhm, hmp⟩, hrd, hid, hba, hll⟩ := hC
  have hCt : w a = some (a + 1, oE 2 [.int (iI (cSh c)), .int (iI (cRm c)), .ref bda, .ref lm, .ref lr, .ref hm, .ref so, .ref aca, .int (iI (cNx c))]) := hCt
  have s1 := hS.1
  have s2 := hS.2.1
  have s3 := hS.2.2.1
  have s4 := hS.2.2.2.1.1
  have hRW := hS.2.2.2.2.1
  have s5 := hRW.1
  have s6 := hS.2.2.2.2.2
  have hml : Lm.length = cN c := hmk.1
  have hrl := hru.1
  have hp1 := plA_b hS r
  have hp2 := plA_b hS (r - 1)
  refine lv_aload_n hx hb dX2_isTight_0 rfl (lv_at hl 0 rfl) ?_
  refine lv_iload_n hx hb dX2_isTight_1 rfl (lv_at hl 1 rfl) ?_
  -- call SpokenMarks$Catalogue.placeAt
  refine h_kIp (h_runV X hR (ct_plA l G w a lm lr hm c hC0 hS r (by omega)) pn_yX2_placeAt (hC0.c) q1681 q1683 qs9 q123 q1684 ⟨by decide, by decide⟩ hl.1 (Nat.le_of_ble_eq_true rfl) dX2_isTight_2 ⟨by omega, by omega⟩) hL (fun H locs hR hL => ?_)
  refine lv_aload_n hx hb dX2_isTight_5 rfl (lv_at hl 0 rfl) ?_
  refine lv_iload_n hx hb dX2_isTight_6 rfl (lv_at hl 1 rfl) ?_
  refine h_iconst hx hb dX2_isTight_7 ?_
  refine h_isub hx hb dX2_isTight_8 ?_
  -- call SpokenMarks$Catalogue.placeAt
  refine h_kIp (h_runV X hR (ct_plA l G w a lm lr hm c hC0 hS (r - 1) (by omega)) pn_yX2_placeAt (hC0.c) q1681 q1683 qs9 q123 q1684 ⟨by decide, by decide⟩ hl.1 (Nat.le_of_ble_eq_true rfl) dX2_isTight_9 ⟨by omega, by omega⟩) hL (fun H locs hR hL => ?_)
  refine h_isub hx hb dX2_isTight_12 ?_
  refine h_iconst hx hb dX2_isTight_13 ?_
  refine h_icmp_ge hx hb 21 dX2_isTight_14 (by decide) (by omega) (by omega) (fun c_t => ?_) (fun c_t => ?_)
  ·
    refine h_iconst hx hb dX2_isTight_21 ?_
    exact h_ireturn hx hb hlk hret hR hL (nar01 (by omega)) ⟨by first | exact (b2i_t (by omega)).symm | exact (b2i_f (by omega)).symm, rfl⟩ (by omega) (by omega) rfl rfl dX2_isTight_22
  ·
    refine h_iconst hx hb dX2_isTight_17 ?_
    refine lv_goto (tgt := 22) hx hb dX2_isTight_18 (by decide) ?_
    exact h_ireturn hx hb hlk hret hR hL (nar01 (by omega)) ⟨by first | exact (b2i_t (by omega)).symm | exact (b2i_f (by omega)).symm, rfl⟩ (by omega) (by omega) rfl rfl dX2_isTight_22

theorem plA_0 {c : Cat} (h : CatS c) {r : Int} (hr : 0 ≤ r) : 0 ≤ plA c r := by
  unfold plA
  rw [if_neg (by omega)]
  split
  · next q => exact (h.mw (k := r.toNat) (by omega)).2.2.2.1
  · decide
theorem plF_nn {c : Cat} (h : CatS c) {r : Int} (hr : 0 ≤ r ∧ r ≤ (cN c : Int)) (hn : ¬ plA c r - plA c (r - 1) < 2) : 0 ≤ plA c r + plA c (r - 1) := by
  have a := plA_0 h hr.1
  have b := plA_b h (r - 1)
  by_cases q : r = 0
  · subst q
    have : plA c (0 - 1) = -1 := if_pos (by decide)
    omega
  · have := plA_0 h (r := r - 1) (by omega); omega

set_option maxHeartbeats 4000000 in
set_option maxRecDepth 100000 in
/-- SpokenMarks$Catalogue.placeFor -/
theorem ct_plF (l : Launch) (G : Gl) (w : Wd) (a lm lr hm : Nat) (c : Cat) (hC : CatAt G w a lm lr hm c) (hS : CatS c) (r : Int) (h1 : 0 ≤ r ∧ r ≤ (cN c : Int)) : HM l yX2_placeFor cX2_placeFor 2 (some .int) 6 0 0 G [.ref a, .int (iI (r))] w (QI G (fun z_ w_ => z_ = plF c r ∧ w_ = w)) := by
  refine HM.mk (by decide +kernel) (Nat.le_of_ble_eq_true rfl) ?_
  intro p9 e9 s9 m9 a9 b9 meth9 c9 ls X hret hlk hnm hl H hR
  have hx := X.1.1
  have hb := X.1.2.1
  have hl : lv_has ls 2 [(0, .ref a), (1, .int (iI (r)))] := hl
  have hL : LK G [] := fun q h => absurd h List.not_mem_nil
  generalize ([] : List Loc) = locs at hL ⊢
  have hC0 := hC
  obtain ⟨bda, aca, so, fb, fa, Lm, Lr, mp, hCt, ⟨hbd, hbx⟩, ⟨hac, hax⟩, hso, ⟨⟨mo1, hm1, hlm⟩, hmk, hnd⟩, ⟨⟨mo2, hm2, hlr⟩, hru⟩, ⟨hhm, hmp⟩, hrd, hid, hba, hll⟩ := hC
  have hCt : w a = some (a + 1, oE 2 [.int (iI (cSh c)), .int (iI (cRm c)), .ref bda, .ref lm, .ref lr, .ref hm, .ref so, .ref aca, .int (iI (cNx c))]) := hCt
  have s1 := hS.1
  have s2 := hS.2.1
  have s3 := hS.2.2.1
  have s4 := hS.2.2.2.1.1
  have hRW := hS.2.2.2.2.1
  have s5 := hRW.1
  have s6 := hS.2.2.2.2.2
  have hml : Lm.length = cN c := hmk.1
  have hrl := hru.1
  have hp1 := plA_b hS r
  have hp2 := plA_b hS (r - 1)
  have hp3 := plA_b hS 0
  refine lv_aload_n hx hb dX2_placeFor_0 rfl (lv_at hl 0 rfl) ?_
  refine lv_iload_n hx hb dX2_placeFor_1 rfl (lv_at hl 1 rfl) ?_
  -- call SpokenMarks$Catalogue.isTight
  refine h_kIp (h_runV X hR (ct_tight l G w a lm lr hm c hC0 hS r (by omega)) pn_yX2_isTight (hC0.c) q1677 q1678 q1679 q123 q1680 ⟨by decide, by decide⟩ hl.1 (Nat.le_of_ble_eq_true rfl) dX2_placeFor_2 ⟨by omega, by omega⟩) hL (fun H locs hR hL => ?_)
  refine h_if_eq hx hb 26 dX2_placeFor_5 (by decide) (by have := b2i_01 (plA c r - plA c (r - 1) < 2); omega) (fun c_t => ?_) (fun c_t => ?_)
  ·
    have c_n := b2i_0.mp c_t
    have hp4 : 0 ≤ plA c r + plA c (r - 1) := plF_nn hS h1 c_n
    refine lv_aload_n hx hb dX2_placeFor_26 rfl (lv_at hl 0 rfl) ?_
    refine lv_iload_n hx hb dX2_placeFor_27 rfl (lv_at hl 1 rfl) ?_
    -- call SpokenMarks$Catalogue.placeAt
    refine h_kIp (h_runV X hR (ct_plA l G w a lm lr hm c hC0 hS r (by omega)) pn_yX2_placeAt (hC0.c) q1681 q1683 qs9 q123 q1684 ⟨by decide, by decide⟩ hl.1 (Nat.le_of_ble_eq_true rfl) dX2_placeFor_28 ⟨by omega, by omega⟩) hL (fun H locs hR hL => ?_)
    refine lv_aload_n hx hb dX2_placeFor_31 rfl (lv_at hl 0 rfl) ?_
    refine lv_iload_n hx hb dX2_placeFor_32 rfl (lv_at hl 1 rfl) ?_
    refine h_iconst hx hb dX2_placeFor_33 ?_
    refine h_isub hx hb dX2_placeFor_34 ?_
    -- call SpokenMarks$Catalogue.placeAt
    refine h_kIp (h_runV X hR (ct_plA l G w a lm lr hm c hC0 hS (r - 1) (by omega)) pn_yX2_placeAt (hC0.c) q1681 q1683 qs9 q123 q1684 ⟨by decide, by decide⟩ hl.1 (Nat.le_of_ble_eq_true rfl) dX2_placeFor_35 ⟨by omega, by omega⟩) hL (fun H locs hR hL => ?_)
    refine h_iadd hx hb dX2_placeFor_38 ?_
    refine h_iconst hx hb dX2_placeFor_39 ?_
    refine h_idiv hx hb dX2_placeFor_40 ⟨⟨by omega, by omega⟩, by omega, by omega⟩ ?_
    exact h_ireturn hx hb hlk hret hR hL rfl ⟨by unfold plF; first | exact (if_pos c_n).symm | exact (if_neg c_n).symm, rfl⟩ (by omega) (by omega) rfl rfl dX2_placeFor_41
  ·
    have c_n := b2i_n1.mp c_t
    refine lv_iload_n hx hb dX2_placeFor_8 rfl (lv_at hl 1 rfl) ?_
    refine lv_aload_n hx hb dX2_placeFor_9 rfl (lv_at hl 0 rfl) ?_
    refine h_get X hR hCt rfl in_X2 3 (by decide) q597 rfl dX2_placeFor_10 ?_
    -- call java/util/ArrayList.size
    refine h_k5Ip (h_runF (x := ⟨"java/util/List", "size", "()I"⟩) X hR (ls_size l G w (lm + 1) lm 40 mo1 Lm hlm) pn_i_java_util_List_size_0 (hlm.c) (kk_face X.2 (by decide +kernel) q1566 q1565 q1570 q1568 q664) q1564 q1569 q1567 q125 q1571 ⟨by decide, by decide⟩ hl.1 (Nat.le_of_ble_eq_true rfl) dX2_placeFor_13 ⟨by omega, by omega⟩) hL (fun H locs hR hL => ?_)
    refine W.eq (g2 := F0 m9 18 ls [.int (iI ((cN c : Int))), .int (iI (r))]) (congrArg (fun z_ : Int => F0 m9 18 ls [.int (iI (z_)), .int (iI (r))]) (show ((Lm.length : Int) : Int) = (cN c : Int) from (by rw [hml]))) ?_
    refine h_iconst hx hb dX2_placeFor_18 ?_
    refine h_iadd hx hb dX2_placeFor_19 ?_
    -- call SpokenMarks$Catalogue.spaced
    refine h_kIp (h_runS X hR (ct_spc l G w r ((cN c : Int) + 1) (by omega) (by omega)) pn_yX2_spaced q1640 q1641 q123 q1642 ⟨by decide, by decide⟩ hl.1 (Nat.le_of_ble_eq_true rfl) dX2_placeFor_20 ⟨by omega, by omega⟩) hL (fun H locs hR hL => ?_)
    refine lv_goto (tgt := 41) hx hb dX2_placeFor_23 (by decide) ?_
    exact h_ireturn hx hb hlk hret hR hL rfl ⟨by unfold plF; first | exact (if_pos c_n).symm | exact (if_neg c_n).symm, rfl⟩ (by omega) (by omega) rfl rfl dX2_placeFor_41

set_option maxHeartbeats 4000000 in
set_option maxRecDepth 100000 in
/-- SpokenMarks$Catalogue.movesFor -/
theorem ct_mvs (l : Launch) (G : Gl) (w : Wd) (a lm lr hm : Nat) (c : Cat) (hC : CatAt G w a lm lr hm c) (hS : CatS c) (r : Int) (h1 : 0 ≤ r ∧ r ≤ (cN c : Int)) : HM l yX2_movesFor cX2_movesFor 4 (some .int) 6 0 0 G [.ref a, .int (iI (r))] w (QI G (fun z_ w_ => z_ = (if plA c r - plA c (r - 1) < 2 then mvN c r else 0) ∧ w_ = w)) := by
  refine HM.mk (by decide +kernel) (Nat.le_of_ble_eq_true rfl) ?_
  intro p9 e9 s9 m9 a9 b9 meth9 c9 ls X hret hlk hnm hl H hR
  have hx := X.1.1
  have hb := X.1.2.1
  have hl : lv_has ls 4 [(0, .ref a), (1, .int (iI (r)))] := hl
  have hL : LK G [] := fun q h => absurd h List.not_mem_nil
  generalize ([] : List Loc) = locs at hL ⊢
  have hC0 := hC
  obtain ⟨bda, aca, so, fb, fa, Lm, Lr, mp, hCt, ⟨hbd, hbx⟩, ⟨hac, hax⟩, hso, ⟨⟨mo1, hm1, hlm⟩, hmk, hnd⟩, ⟨⟨mo2, hm2, hlr⟩, hru⟩, ⟨hhm, hmp⟩, hrd, hid, hba, hll⟩ := hC
  have hCt : w a = some (a + 1, oE 2 [.int (iI (cSh c)), .int (iI (cRm c)), .ref bda, .ref lm, .ref lr, .ref hm, .ref so, .ref aca, .int (iI (cNx c))]) := hCt
  have s1 := hS.1
  have s2 := hS.2.1
  have s3 := hS.2.2.1
  have s4 := hS.2.2.2.1.1
  have hRW := hS.2.2.2.2.1
  have s5 := hRW.1
  have s6 := hS.2.2.2.2.2
  have hml : Lm.length = cN c := hmk.1
  have hrl := hru.1
  refine lv_aload_n hx hb dX2_movesFor_0 rfl (lv_at hl 0 rfl) ?_
  refine lv_iload_n hx hb dX2_movesFor_1 rfl (lv_at hl 1 rfl) ?_
  -- call SpokenMarks$Catalogue.isTight
  refine h_kIp (h_runV X hR (ct_tight l G w a lm lr hm c hC0 hS r (by omega)) pn_yX2_isTight (hC0.c) q1677 q1678 q1679 q123 q1680 ⟨by decide, by decide⟩ hl.1 (Nat.le_of_ble_eq_true rfl) dX2_movesFor_2 ⟨by omega, by omega⟩) hL (fun H locs hR hL => ?_)
  refine h_if_ne hx hb 10 dX2_movesFor_5 (by decide) (by have := b2i_01 (plA c r - plA c (r - 1) < 2); omega) (fun c_t => ?_) (fun c_t => ?_)
  ·
    have c_n := b2i_n1.mp c_t
    refine h_iconst hx hb dX2_movesFor_10 ?_
    refine lv_istore_n (lv' := [(2, .int (iI (0))), (0, .ref a), (1, .int (iI (r)))]) hx hb dX2_movesFor_11 rfl hl (by decide) rfl (fun ls hl => ?_)
    refine h_iconst hx hb dX2_movesFor_12 ?_
    refine lv_istore_n (lv' := [(3, .int (iI (0))), (2, .int (iI (0))), (0, .ref a), (1, .int (iI (r)))]) hx hb dX2_movesFor_13 rfl hl (by decide) rfl (fun ls hl => ?_)
    have LOOP_4 : ∀ (N_ : Nat) (k : Nat), (k ≤ cN c) → (41 - k) < N_ → ∀ (H : Heap) (locs : List Loc) (ls : Array Slot), Rp G w H → LK G locs → lv_has ls 4 [(0, .ref a), (1, .int (iI (r))), (2, .int (iI ((sumN (fun k_ => b2i (mPl (mk c k_) ≠ spc (if (k_ : Int) < r then k_ else k_ + 1) (cN c + 1))) k)))), (3, .int (iI ((k : Int))))] → W p9 l e9 (rmk 6 0 0) s9 m9 a9 b9 meth9 c9 H locs 0 0 (MQ b9 (QI G (fun z_ w_ => z_ = (if plA c r - plA c (r - 1) < 2 then mvN c r else 0) ∧ w_ = w)) a9 s9 0 0 (frG G)) (F0 m9 14 ls []) := by
      intro N_
      induction N_ with
      | zero => intro _ _ h_; exact absurd h_ (Nat.not_lt_zero _)
      | succ N_ ih_ =>
        intro k hk hN_ H locs ls hR hL hl
        have ih_4 := ih_
        clear ih_
        refine lv_iload_n hx hb dX2_movesFor_14 rfl (lv_at hl 3 rfl) ?_
        refine lv_aload_n hx hb dX2_movesFor_15 rfl (lv_at hl 0 rfl) ?_
        refine h_get X hR hCt rfl in_X2 3 (by decide) q597 rfl dX2_movesFor_16 ?_
        -- call java/util/ArrayList.size
        refine h_k5Ip (h_runF (x := ⟨"java/util/List", "size", "()I"⟩) X hR (ls_size l G w (lm + 1) lm 40 mo1 Lm hlm) pn_i_java_util_List_size_0 (hlm.c) (kk_face X.2 (by decide +kernel) q1566 q1565 q1570 q1568 q664) q1564 q1569 q1567 q125 q1571 ⟨by decide, by decide⟩ hl.1 (Nat.le_of_ble_eq_true rfl) dX2_movesFor_19 ⟨by omega, by omega⟩) hL (fun H locs hR hL => ?_)
        refine W.eq (g2 := F0 m9 24 ls [.int (iI ((cN c : Int))), .int (iI ((k : Int)))]) (congrArg (fun z_ : Int => F0 m9 24 ls [.int (iI (z_)), .int (iI ((k : Int)))]) (show ((Lm.length : Int) : Int) = (cN c : Int) from (by rw [hml]))) ?_
        refine h_icmp_ge hx hb 89 dX2_movesFor_24 (by decide) (by omega) (by omega) (fun c_k => ?_) (fun c_k => ?_)
        ·
          refine lv_iload_n hx hb dX2_movesFor_89 rfl (lv_at hl 2 rfl) ?_
          exact h_ireturn hx hb hlk hret hR hL rfl ⟨by rw [if_pos c_n, show k = cN c by omega]; rfl, rfl⟩ (by omega) (by omega) rfl rfl dX2_movesFor_90
        ·
          refine lv_iload_n hx hb dX2_movesFor_27 rfl (lv_at hl 2 rfl) ?_
          refine lv_aload_n hx hb dX2_movesFor_28 rfl (lv_at hl 0 rfl) ?_
          refine h_get X hR hCt rfl in_X2 3 (by decide) q597 rfl dX2_movesFor_29 ?_
          refine lv_iload_n hx hb dX2_movesFor_32 rfl (lv_at hl 3 rfl) ?_
          -- call java/util/ArrayList.get
          refine h_k5Rp (h_runF (x := ⟨"java/util/List", "get", "(I)Ljava/lang/Object;"⟩) X hR (ls_get l G w (lm + 1) lm 40 mo1 Lm hlm k (by omega)) pn_i_java_util_List_get_1 (hlm.c) (kk_face X.2 (by decide +kernel) q1575 q1574 q1579 q1577 q664) q1573 q1578 q1576 q125 q1580 ⟨by decide, by decide⟩ hl.1 (Nat.le_of_ble_eq_true rfl) dX2_movesFor_33 ⟨by omega, by omega⟩) hL (fun H locs hR hL => ?_)
          have hm_11 : MkAt G (cRl c) w (a + 1) (Lm.getD k 0) (mk c k) := MksAt.g hmk (show k < cN c by omega)
          have hm_11w := hS.mw (k := k) (by omega)
          have hm_11p := hS.pw (k := k) (by omega)
          have hm_11r := hm_11w.1
          have hm_11r2 := hm_11w.2.2
          obtain ⟨pl_12, hm_111, hm_112⟩ := hm_11
          refine h_castS X hR (hasC.of hm_111 rfl) q1385 dX2_movesFor_38 ?_
          refine h_getN X hR hm_111 rfl in_X5 3 (by decide) q1548 rfl dX2_movesFor_41 ?_
          refine lv_iload_n hx hb dX2_movesFor_44 rfl (lv_at hl 3 rfl) ?_
          refine lv_iload_n hx hb dX2_movesFor_45 rfl (lv_at hl 1 rfl) ?_
          refine h_icmp_ge hx hb 53 dX2_movesFor_46 (by decide) (by omega) (by omega) (fun c_r => ?_) (fun c_r => ?_)
          ·
            refine lv_iload_n hx hb dX2_movesFor_53 rfl (lv_at hl 3 rfl) ?_
            refine h_iconst hx hb dX2_movesFor_54 ?_
            refine h_iadd hx hb dX2_movesFor_55 ?_
            refine lv_aload_n hx hb dX2_movesFor_56 rfl (lv_at hl 0 rfl) ?_
            refine h_get X hR hCt rfl in_X2 3 (by decide) q597 rfl dX2_movesFor_57 ?_
            -- call java/util/ArrayList.size
            refine h_k5Ip (h_runF (x := ⟨"java/util/List", "size", "()I"⟩) X hR (ls_size l G w (lm + 1) lm 40 mo1 Lm hlm) pn_i_java_util_List_size_0 (hlm.c) (kk_face X.2 (by decide +kernel) q1566 q1565 q1570 q1568 q664) q1564 q1569 q1567 q125 q1571 ⟨by decide, by decide⟩ hl.1 (Nat.le_of_ble_eq_true rfl) dX2_movesFor_60 ⟨by omega, by omega⟩) hL (fun H locs hR hL => ?_)
            refine W.eq (g2 := F0 m9 65 ls [.int (iI ((cN c : Int))), .int (iI ((k : Int) + 1)), .int (iI (mPl (mk c k))), .int (iI ((sumN (fun k_ => b2i (mPl (mk c k_) ≠ spc (if (k_ : Int) < r then k_ else k_ + 1) (cN c + 1))) k)))]) (congrArg (fun z_ : Int => F0 m9 65 ls [.int (iI (z_)), .int (iI ((k : Int) + 1)), .int (iI (mPl (mk c k))), .int (iI ((sumN (fun k_ => b2i (mPl (mk c k_) ≠ spc (if (k_ : Int) < r then k_ else k_ + 1) (cN c + 1))) k)))]) (show ((Lm.length : Int) : Int) = (cN c : Int) from (by rw [hml]))) ?_
            refine h_iconst hx hb dX2_movesFor_65 ?_
            refine h_iadd hx hb dX2_movesFor_66 ?_
            refine W.eq (g2 := F0 m9 67 ls [.int (iI ((cN c : Int) + 1)), .int (iI ((if (k : Int) < r then (k : Int) else k + 1))), .int (iI (mPl (mk c k))), .int (iI ((sumN (fun k_ => b2i (mPl (mk c k_) ≠ spc (if (k_ : Int) < r then k_ else k_ + 1) (cN c + 1))) k)))]) (congrArg (fun z_ : Int => F0 m9 67 ls [.int (iI ((cN c : Int) + 1)), .int (iI (z_)), .int (iI (mPl (mk c k))), .int (iI ((sumN (fun k_ => b2i (mPl (mk c k_) ≠ spc (if (k_ : Int) < r then k_ else k_ + 1) (cN c + 1))) k)))]) (show ((k : Int) + 1 : Int) = (if (k : Int) < r then (k : Int) else k + 1) from (by split <;> omega))) ?_
            -- call SpokenMarks$Catalogue.spaced
            refine h_kIp (h_runS X hR (ct_spc l G w ((if (k : Int) < r then (k : Int) else k + 1)) ((cN c : Int) + 1) (by split <;> omega) (by omega)) pn_yX2_spaced q1640 q1641 q123 q1642 ⟨by decide, by decide⟩ hl.1 (Nat.le_of_ble_eq_true rfl) dX2_movesFor_67 ⟨by omega, by omega⟩) hL (fun H locs hR hL => ?_)
            have hsp := spc_r (k := if (k : Int) < r then (k : Int) else k + 1) (n := (cN c : Int) + 1) (by split <;> omega) (by split <;> omega) (by omega)
            refine h_icmp_eq hx hb 77 dX2_movesFor_70 (by decide) (by omega) (by omega) (fun c_e => ?_) (fun c_e => ?_)
            ·
              refine h_iconst hx hb dX2_movesFor_77 ?_
              refine W.eq (g2 := F0 m9 78 ls [.int (iI (b2i (mPl (mk c k) ≠ spc (if (k : Int) < r then k else k + 1) (cN c + 1)))), .int (iI ((sumN (fun k_ => b2i (mPl (mk c k_) ≠ spc (if (k_ : Int) < r then k_ else k_ + 1) (cN c + 1))) k)))]) (congrArg (fun z_ : Int => F0 m9 78 ls [.int (iI (z_)), .int (iI ((sumN (fun k_ => b2i (mPl (mk c k_) ≠ spc (if (k_ : Int) < r then k_ else k_ + 1) (cN c + 1))) k)))]) (show (0 : Int) = b2i (mPl (mk c k) ≠ spc (if (k : Int) < r then k else k + 1) (cN c + 1)) from (by first | exact (b2i_t c_e).symm | exact (b2i_f (fun q_ => q_ c_e)).symm))) ?_
              -- call SpokenMarks.bit
              refine h_kIp (h_runSN X hR (c_bit l G w (b2i (mPl (mk c k) ≠ spc (if (k : Int) < r then k else k + 1) (cN c + 1))) (by first | exact b2i_01 _ | omega)) pn_yX1_bit q1643 q1644 q120 q1645 ⟨by decide, by decide⟩ hl.1 (Nat.le_of_ble_eq_true rfl) dX2_movesFor_78 ⟨by omega, by omega⟩) hL (fun H locs hR hL => ?_)
              refine h_iadd hx hb dX2_movesFor_81 ?_
              refine W.eq (g2 := F0 m9 82 ls [.int (iI ((sumN (fun k_ => b2i (mPl (mk c k_) ≠ spc (if (k_ : Int) < r then k_ else k_ + 1) (cN c + 1))) (k + 1))))]) (congrArg (fun z_ : Int => F0 m9 82 ls [.int (iI (z_))]) (show (((sumN (fun k_ => b2i (mPl (mk c k_) ≠ spc (if (k_ : Int) < r then k_ else k_ + 1) (cN c + 1))) k)) + (b2i (mPl (mk c k) ≠ spc (if (k : Int) < r then k else k + 1) (cN c + 1))) : Int) = (sumN (fun k_ => b2i (mPl (mk c k_) ≠ spc (if (k_ : Int) < r then k_ else k_ + 1) (cN c + 1))) (k + 1)) from (by rfl))) ?_
              refine lv_istore_n (lv' := [(2, .int (iI ((sumN (fun k_ => b2i (mPl (mk c k_) ≠ spc (if (k_ : Int) < r then k_ else k_ + 1) (cN c + 1))) (k + 1))))), (0, .ref a), (1, .int (iI (r))), (3, .int (iI ((k : Int))))]) hx hb dX2_movesFor_82 rfl hl (by decide) rfl (fun ls hl => ?_)
              refine h_iinc (lv' := [(3, .int (iI ((k : Int) + 1))), (2, .int (iI ((sumN (fun k_ => b2i (mPl (mk c k_) ≠ spc (if (k_ : Int) < r then k_ else k_ + 1) (cN c + 1))) (k + 1))))), (0, .ref a), (1, .int (iI (r)))]) hx hb dX2_movesFor_83 hl (k := 3) rfl (by decide) rfl (fun ls hl => ?_)
              refine lv_goto (tgt := 14) hx hb dX2_movesFor_86 (by decide) ?_
              exact ih_4 (k + 1) (by omega) (by omega) _ _ _ hR hL (lv_sub hl [2, 3, 1, 0] rfl)
            ·
              refine h_iconst hx hb dX2_movesFor_73 ?_
              refine lv_goto (tgt := 78) hx hb dX2_movesFor_74 (by decide) ?_
              refine W.eq (g2 := F0 m9 78 ls [.int (iI (b2i (mPl (mk c k) ≠ spc (if (k : Int) < r then k else k + 1) (cN c + 1)))), .int (iI ((sumN (fun k_ => b2i (mPl (mk c k_) ≠ spc (if (k_ : Int) < r then k_ else k_ + 1) (cN c + 1))) k)))]) (congrArg (fun z_ : Int => F0 m9 78 ls [.int (iI (z_)), .int (iI ((sumN (fun k_ => b2i (mPl (mk c k_) ≠ spc (if (k_ : Int) < r then k_ else k_ + 1) (cN c + 1))) k)))]) (show (1 : Int) = b2i (mPl (mk c k) ≠ spc (if (k : Int) < r then k else k + 1) (cN c + 1)) from (by first | exact (b2i_t c_e).symm | exact (b2i_f (fun q_ => q_ c_e)).symm))) ?_
              -- call SpokenMarks.bit
              refine h_kIp (h_runSN X hR (c_bit l G w (b2i (mPl (mk c k) ≠ spc (if (k : Int) < r then k else k + 1) (cN c + 1))) (by first | exact b2i_01 _ | omega)) pn_yX1_bit q1643 q1644 q120 q1645 ⟨by decide, by decide⟩ hl.1 (Nat.le_of_ble_eq_true rfl) dX2_movesFor_78 ⟨by omega, by omega⟩) hL (fun H locs hR hL => ?_)
              refine h_iadd hx hb dX2_movesFor_81 ?_
              refine W.eq (g2 := F0 m9 82 ls [.int (iI ((sumN (fun k_ => b2i (mPl (mk c k_) ≠ spc (if (k_ : Int) < r then k_ else k_ + 1) (cN c + 1))) (k + 1))))]) (congrArg (fun z_ : Int => F0 m9 82 ls [.int (iI (z_))]) (show (((sumN (fun k_ => b2i (mPl (mk c k_) ≠ spc (if (k_ : Int) < r then k_ else k_ + 1) (cN c + 1))) k)) + (b2i (mPl (mk c k) ≠ spc (if (k : Int) < r then k else k + 1) (cN c + 1))) : Int) = (sumN (fun k_ => b2i (mPl (mk c k_) ≠ spc (if (k_ : Int) < r then k_ else k_ + 1) (cN c + 1))) (k + 1)) from (by rfl))) ?_
              refine lv_istore_n (lv' := [(2, .int (iI ((sumN (fun k_ => b2i (mPl (mk c k_) ≠ spc (if (k_ : Int) < r then k_ else k_ + 1) (cN c + 1))) (k + 1))))), (0, .ref a), (1, .int (iI (r))), (3, .int (iI ((k : Int))))]) hx hb dX2_movesFor_82 rfl hl (by decide) rfl (fun ls hl => ?_)
              refine h_iinc (lv' := [(3, .int (iI ((k : Int) + 1))), (2, .int (iI ((sumN (fun k_ => b2i (mPl (mk c k_) ≠ spc (if (k_ : Int) < r then k_ else k_ + 1) (cN c + 1))) (k + 1))))), (0, .ref a), (1, .int (iI (r)))]) hx hb dX2_movesFor_83 hl (k := 3) rfl (by decide) rfl (fun ls hl => ?_)
              refine lv_goto (tgt := 14) hx hb dX2_movesFor_86 (by decide) ?_
              exact ih_4 (k + 1) (by omega) (by omega) _ _ _ hR hL (lv_sub hl [2, 3, 1, 0] rfl)
          ·
            refine lv_iload_n hx hb dX2_movesFor_49 rfl (lv_at hl 3 rfl) ?_
            refine lv_goto (tgt := 56) hx hb dX2_movesFor_50 (by decide) ?_
            refine lv_aload_n hx hb dX2_movesFor_56 rfl (lv_at hl 0 rfl) ?_
            refine h_get X hR hCt rfl in_X2 3 (by decide) q597 rfl dX2_movesFor_57 ?_
            -- call java/util/ArrayList.size
            refine h_k5Ip (h_runF (x := ⟨"java/util/List", "size", "()I"⟩) X hR (ls_size l G w (lm + 1) lm 40 mo1 Lm hlm) pn_i_java_util_List_size_0 (hlm.c) (kk_face X.2 (by decide +kernel) q1566 q1565 q1570 q1568 q664) q1564 q1569 q1567 q125 q1571 ⟨by decide, by decide⟩ hl.1 (Nat.le_of_ble_eq_true rfl) dX2_movesFor_60 ⟨by omega, by omega⟩) hL (fun H locs hR hL => ?_)
            refine W.eq (g2 := F0 m9 65 ls [.int (iI ((cN c : Int))), .int (iI ((k : Int))), .int (iI (mPl (mk c k))), .int (iI ((sumN (fun k_ => b2i (mPl (mk c k_) ≠ spc (if (k_ : Int) < r then k_ else k_ + 1) (cN c + 1))) k)))]) (congrArg (fun z_ : Int => F0 m9 65 ls [.int (iI (z_)), .int (iI ((k : Int))), .int (iI (mPl (mk c k))), .int (iI ((sumN (fun k_ => b2i (mPl (mk c k_) ≠ spc (if (k_ : Int) < r then k_ else k_ + 1) (cN c + 1))) k)))]) (show ((Lm.length : Int) : Int) = (cN c : Int) from (by rw [hml]))) ?_
            refine h_iconst hx hb dX2_movesFor_65 ?_
            refine h_iadd hx hb dX2_movesFor_66 ?_
            refine W.eq (g2 := F0 m9 67 ls [.int (iI ((cN c : Int) + 1)), .int (iI ((if (k : Int) < r then (k : Int) else k + 1))), .int (iI (mPl (mk c k))), .int (iI ((sumN (fun k_ => b2i (mPl (mk c k_) ≠ spc (if (k_ : Int) < r then k_ else k_ + 1) (cN c + 1))) k)))]) (congrArg (fun z_ : Int => F0 m9 67 ls [.int (iI ((cN c : Int) + 1)), .int (iI (z_)), .int (iI (mPl (mk c k))), .int (iI ((sumN (fun k_ => b2i (mPl (mk c k_) ≠ spc (if (k_ : Int) < r then k_ else k_ + 1) (cN c + 1))) k)))]) (show ((k : Int) : Int) = (if (k : Int) < r then (k : Int) else k + 1) from (by split <;> omega))) ?_
            -- call SpokenMarks$Catalogue.spaced
            refine h_kIp (h_runS X hR (ct_spc l G w ((if (k : Int) < r then (k : Int) else k + 1)) ((cN c : Int) + 1) (by split <;> omega) (by omega)) pn_yX2_spaced q1640 q1641 q123 q1642 ⟨by decide, by decide⟩ hl.1 (Nat.le_of_ble_eq_true rfl) dX2_movesFor_67 ⟨by omega, by omega⟩) hL (fun H locs hR hL => ?_)
            have hsp := spc_r (k := if (k : Int) < r then (k : Int) else k + 1) (n := (cN c : Int) + 1) (by split <;> omega) (by split <;> omega) (by omega)
            refine h_icmp_eq hx hb 77 dX2_movesFor_70 (by decide) (by omega) (by omega) (fun c_e => ?_) (fun c_e => ?_)
            ·
              refine h_iconst hx hb dX2_movesFor_77 ?_
              refine W.eq (g2 := F0 m9 78 ls [.int (iI (b2i (mPl (mk c k) ≠ spc (if (k : Int) < r then k else k + 1) (cN c + 1)))), .int (iI ((sumN (fun k_ => b2i (mPl (mk c k_) ≠ spc (if (k_ : Int) < r then k_ else k_ + 1) (cN c + 1))) k)))]) (congrArg (fun z_ : Int => F0 m9 78 ls [.int (iI (z_)), .int (iI ((sumN (fun k_ => b2i (mPl (mk c k_) ≠ spc (if (k_ : Int) < r then k_ else k_ + 1) (cN c + 1))) k)))]) (show (0 : Int) = b2i (mPl (mk c k) ≠ spc (if (k : Int) < r then k else k + 1) (cN c + 1)) from (by first | exact (b2i_t c_e).symm | exact (b2i_f (fun q_ => q_ c_e)).symm))) ?_
              -- call SpokenMarks.bit
              refine h_kIp (h_runSN X hR (c_bit l G w (b2i (mPl (mk c k) ≠ spc (if (k : Int) < r then k else k + 1) (cN c + 1))) (by first | exact b2i_01 _ | omega)) pn_yX1_bit q1643 q1644 q120 q1645 ⟨by decide, by decide⟩ hl.1 (Nat.le_of_ble_eq_true rfl) dX2_movesFor_78 ⟨by omega, by omega⟩) hL (fun H locs hR hL => ?_)
              refine h_iadd hx hb dX2_movesFor_81 ?_
              refine W.eq (g2 := F0 m9 82 ls [.int (iI ((sumN (fun k_ => b2i (mPl (mk c k_) ≠ spc (if (k_ : Int) < r then k_ else k_ + 1) (cN c + 1))) (k + 1))))]) (congrArg (fun z_ : Int => F0 m9 82 ls [.int (iI (z_))]) (show (((sumN (fun k_ => b2i (mPl (mk c k_) ≠ spc (if (k_ : Int) < r then k_ else k_ + 1) (cN c + 1))) k)) + (b2i (mPl (mk c k) ≠ spc (if (k : Int) < r then k else k + 1) (cN c + 1))) : Int) = (sumN (fun k_ => b2i (mPl (mk c k_) ≠ spc (if (k_ : Int) < r then k_ else k_ + 1) (cN c + 1))) (k + 1)) from (by rfl))) ?_
              refine lv_istore_n (lv' := [(2, .int (iI ((sumN (fun k_ => b2i (mPl (mk c k_) ≠ spc (if (k_ : Int) < r then k_ else k_ + 1) (cN c + 1))) (k + 1))))), (0, .ref a), (1, .int (iI (r))), (3, .int (iI ((k : Int))))]) hx hb dX2_movesFor_82 rfl hl (by decide) rfl (fun ls hl => ?_)
              refine h_iinc (lv' := [(3, .int (iI ((k : Int) + 1))), (2, .int (iI ((sumN (fun k_ => b2i (mPl (mk c k_) ≠ spc (if (k_ : Int) < r then k_ else k_ + 1) (cN c + 1))) (k + 1))))), (0, .ref a), (1, .int (iI (r)))]) hx hb dX2_movesFor_83 hl (k := 3) rfl (by decide) rfl (fun ls hl => ?_)
              refine lv_goto (tgt := 14) hx hb dX2_movesFor_86 (by decide) ?_
              exact ih_4 (k + 1) (by omega) (by omega) _ _ _ hR hL (lv_sub hl [2, 3, 1, 0] rfl)
            ·
              refine h_iconst hx hb dX2_movesFor_73 ?_
              refine lv_goto (tgt := 78) hx hb dX2_movesFor_74 (by decide) ?_
              refine W.eq (g2 := F0 m9 78 ls [.int (iI (b2i (mPl (mk c k) ≠ spc (if (k : Int) < r then k else k + 1) (cN c + 1)))), .int (iI ((sumN (fun k_ => b2i (mPl (mk c k_) ≠ spc (if (k_ : Int) < r then k_ else k_ + 1) (cN c + 1))) k)))]) (congrArg (fun z_ : Int => F0 m9 78 ls [.int (iI (z_)), .int (iI ((sumN (fun k_ => b2i (mPl (mk c k_) ≠ spc (if (k_ : Int) < r then k_ else k_ + 1) (cN c + 1))) k)))]) (show (1 : Int) = b2i (mPl (mk c k) ≠ spc (if (k : Int) < r then k else k + 1) (cN c + 1)) from (by first | exact (b2i_t c_e).symm | exact (b2i_f (fun q_ => q_ c_e)).symm))) ?_
              -- call SpokenMarks.bit
              refine h_kIp (h_runSN X hR (c_bit l G w (b2i (mPl (mk c k) ≠ spc (if (k : Int) < r then k else k + 1) (cN c + 1))) (by first | exact b2i_01 _ | omega)) pn_yX1_bit q1643 q1644 q120 q1645 ⟨by decide, by decide⟩ hl.1 (Nat.le_of_ble_eq_true rfl) dX2_movesFor_78 ⟨by omega, by omega⟩) hL (fun H locs hR hL => ?_)
              refine h_iadd hx hb dX2_movesFor_81 ?_
              refine W.eq (g2 := F0 m9 82 ls [.int (iI ((sumN (fun k_ => b2i (mPl (mk c k_) ≠ spc (if (k_ : Int) < r then k_ else k_ + 1) (cN c + 1))) (k + 1))))]) (congrArg (fun z_ : Int => F0 m9 82 ls [.int (iI (z_))]) (show (((sumN (fun k_ => b2i (mPl (mk c k_) ≠ spc (if (k_ : Int) < r then k_ else k_ + 1) (cN c + 1))) k)) + (b2i (mPl (mk c k) ≠ spc (if (k : Int) < r then k else k + 1) (cN c + 1))) : Int) = (sumN (fun k_ => b2i (mPl (mk c k_) ≠ spc (if (k_ : Int) < r then k_ else k_ + 1) (cN c + 1))) (k + 1)) from (by rfl))) ?_
              refine lv_istore_n (lv' := [(2, .int (iI ((sumN (fun k_ => b2i (mPl (mk c k_) ≠ spc (if (k_ : Int) < r then k_ else k_ + 1) (cN c + 1))) (k + 1))))), (0, .ref a), (1, .int (iI (r))), (3, .int (iI ((k : Int))))]) hx hb dX2_movesFor_82 rfl hl (by decide) rfl (fun ls hl => ?_)
              refine h_iinc (lv' := [(3, .int (iI ((k : Int) + 1))), (2, .int (iI ((sumN (fun k_ => b2i (mPl (mk c k_) ≠ spc (if (k_ : Int) < r then k_ else k_ + 1) (cN c + 1))) (k + 1))))), (0, .ref a), (1, .int (iI (r)))]) hx hb dX2_movesFor_83 hl (k := 3) rfl (by decide) rfl (fun ls hl => ?_)
              refine lv_goto (tgt := 14) hx hb dX2_movesFor_86 (by decide) ?_
              exact ih_4 (k + 1) (by omega) (by omega) _ _ _ hR hL (lv_sub hl [2, 3, 1, 0] rfl)
    exact LOOP_4 _ 0 (by omega) (Nat.lt_succ_self _) _ _ _ hR hL (lv_sub hl [2, 3, 1, 0] rfl)
  ·
    have c_n := b2i_0.mp c_t
    refine h_iconst hx hb dX2_movesFor_8 ?_
    exact h_ireturn hx hb hlk hret hR hL rfl ⟨(if_neg c_n).symm, rfl⟩ (by omega) (by omega) rfl rfl dX2_movesFor_9
