/-! the component: balance -/
set_option maxRecDepth 100000
def bS (c : Cat) (s j : Nat) : Int := if 0 < j ∧ j ≤ s then balV c (j - 1) else bd c j
def bSL (c : Cat) (s : Nat) : List Int := (List.range (cSh c).toNat).map (bS c s)
theorem bSL_len (c : Cat) (s : Nat) : (bSL c s).length = (cSh c).toNat := by unfold bSL; rw [List.length_map, List.length_range]
theorem bSL_at (c : Cat) (s : Nat) {j : Nat} (hj : j < (cSh c).toNat) : (bSL c s).getD j 0 = bS c s j := by unfold bSL; simp [hj]
theorem bS_s {c : Cat} {s n : Nat} {f : Nat → Int} (hf : ∀ j, j < n → f j = bS c s j) (j : Nat) (hj : j < n) : zset f (s + 1) (balV c s) j = bS c (s + 1) j := by
  unfold zset
  by_cases q : j = s + 1
  · rw [if_pos q]; unfold bS; rw [if_pos (by omega), show j - 1 = s by omega]
  · rw [if_neg q, hf j hj]; unfold bS
    by_cases q2 : 0 < j ∧ j ≤ s
    · rw [if_pos q2, if_pos (by omega)]
    · rw [if_neg q2, if_neg (by omega)]
theorem bS_e {c : Cat} {j : Nat} (hj : j < (cSh c).toNat) : bS c ((cSh c).toNat - 1) j = bd (cBal c) j := by
  show _ = (balB c).getD j 0
  cases j with
  | zero => exact if_neg (by omega)
  | succ k => rw [balB_s c (by omega)]; exact if_pos (by omega)
theorem balV_pl (c : Cat) (B : List Int) (s : Nat) : plA (setBd c B) ((balI c (s + 1) : Nat) : Int) = balV c s := plA_nat (c := c) (r := balI c (s + 1))
theorem BalP.s1 {c : Cat} {s : Nat} (h : balI c s < cN c) : BalP c s (balI c s + 1) (mWd (mk c (balI c s))) 0 := by
  have h_ := BalP.step (fs := 1) (sm := 0) (Or.inl ⟨rfl, rfl, rfl⟩) h (fun q => absurd q (by decide))
  rwa [Int.zero_add] at h_
theorem BalP.s2 {c : Cat} {s : Nat} (h : ¬ balI c s < cN c) : BalP c s (balI c s) 0 0 := by
  refine Or.inr ⟨rfl, 0, by have := balI_le c s; omega, ?_⟩
  show balI c s = grdS c (balI c s)
  unfold grdS
  rw [if_neg h]
theorem bSL_s {c : Cat} (h : CatS c) (s : Nat) : CatS (setBd c (bSL c s)) := h.bds (bSL_len c s) (fun j hj => by
  rw [bSL_len] at hj
  rw [bSL_at c s hj]
  unfold bS
  split
  · exact balV_r h _
  · exact h.2.2.1.2 j (by rw [h.2.2.1.1]; exact hj))

theorem pn_yX2_shelvesOver : ParN yX2_shelvesOver 0 := by decide +kernel

set_option maxHeartbeats 4000000 in
set_option maxRecDepth 100000 in
/-- SpokenMarks$Catalogue.balance -/
theorem ct_bal (l : Launch) (G : Gl) (w : Wd) (a lm lr hm : Nat) (c : Cat) (hC : CatAt G w a lm lr hm c) (hS : CatS c) (hW : CatW c) (hG : RegW w) : HM l yX2_balance cX2_balance 4 (some .int) 8 0 0 G [.ref a] w (QI G (fun z_ w_ => z_ = ovr (cBal c) ∧ CatAt G w_ a lm lr hm (cBal c) ∧ Up (fun q_ => q_ = a + 1) w w_)) := by
  refine HM.mk (by decide +kernel) (Nat.le_of_ble_eq_true rfl) ?_
  intro p9 e9 s9 m9 a9 b9 meth9 c9 ls X hret hlk hnm hl H hR
  have hx := X.1.1
  have hb := X.1.2.1
  have hl : lv_has ls 4 [(0, .ref a)] := hl
  have hL : LK G [] := fun q h => absurd h List.not_mem_nil
  generalize ([] : List Loc) = locs at hL ⊢
  have hU : Up (fun q_ => q_ = a + 1) w w := Up.rf hG
  have hC0 := hC
  obtain ⟨bda, aca, so, fb, fa, Lm, Lr, mp, hCt, ⟨hbd, hbx⟩, ⟨hac, hax⟩, hso, ⟨⟨mo1, hm1, hlm⟩, hmk, hnd⟩, ⟨⟨mo2, hm2, hlr⟩, hru⟩, ⟨hhm, hmp⟩, hrd, hid, hba, hll⟩ := hC
  have hCt : w a = some (a + 1, oE 2 [.int (iI (cSh c)), .int (iI (cRm c)), .ref bda, .ref lm, .ref lr, .ref hm, .ref so, .ref aca, .int (iI (cNx c))]) := hCt
  have s1 := hS.1
  have s2 := hS.2.1
  have s3 := hS.2.2.1
  have s4 := hS.2.2.2.1.1
  have hRW := hS.2.2.2.2.1
  have s5 := hRW.1
  have s6 := hS.2.2.2.2.2
  have hml : Lm.length = cN c := hmk.1
  have hrl := hru.1
  have nla : lm ≠ a := hasC_ne hlm.c hC0.c (by decide)
  have nra : lr ≠ a := hasC_ne hlr.c hC0.c (by decide)
  have nha : hm ≠ a := hasC_ne hhm.c hC0.c (by decide)
  have nhl : hm ≠ lm := hasC_ne hhm.c hlm.c (by decide)
  have ne_bda_aca : bda ≠ aca := hba
  have nhr : hm ≠ lr := hasC_ne hhm.c hlr.c (by decide)
  have hWb : CatW (cBal c) := (CatW.bal (b := 1000000) hW ⟨fun k_ hk_ => by have h_ := s6.1 k_ hk_; omega, by have h_ := s6.2; omega⟩).1
  refine h_iconst hx hb dX2_balance_0 ?_
  refine lv_istore_n (lv' := [(1, .int (iI (0))), (0, .ref a)]) hx hb dX2_balance_1 rfl hl (by decide) rfl (fun ls hl => ?_)
  refine h_iconst hx hb dX2_balance_2 ?_
  refine lv_istore_n (lv' := [(2, .int (iI (1))), (1, .int (iI (0))), (0, .ref a)]) hx hb dX2_balance_3 rfl hl (by decide) rfl (fun ls hl => ?_)
  have LOOP_2 : ∀ (N_ : Nat) (s : Nat) (fbv : Nat → Int)(w_1 : Wd) , (s ≤ (cSh c).toNat - 1) → (∀ j, j < (cSh c).toNat → fbv j = bS c s j) → (w_1 a = some (a + 1, oE 2 [.int (iI (cSh c)), .int (iI (cRm c)), .ref bda, .ref lm, .ref lr, .ref hm, .ref so, .ref aca, .int (iI (cNx c))])) → (w_1 aca = some (a + 1, iE G 0 3 fa)) → (w_1 so = some (0, oE 7 [])) → (LsAt G w_1 (lm + 1) lm 40 mo1 Lm) → (LsAt G w_1 (lr + 1) lr 8 mo2 Lr) → (HmAt G w_1 (hm + 1) hm ((cRl c).length) mp) → (MksAt G (cRl c) w_1 (a + 1) Lm (cMk c)) → (RusAt G w_1 Lr (cRl c)) → (MpAt G w_1 mp (cRl c)) → (w_1 bda = some (a + 1, iE G 0 ((cSh c).toNat) fbv)) → (Up (fun q_ => q_ = a + 1) w w_1) → (9 - s) < N_ → ∀ (H : Heap) (locs : List Loc) (ls : Array Slot), Rp G w_1 H → LK G locs → lv_has ls 4 [(0, .ref a), (1, .int (iI (((balI c s : Nat) : Int)))), (2, .int (iI (((s + 1 : Nat) : Int))))] → W p9 l e9 (rmk 8 0 0) s9 m9 a9 b9 meth9 c9 H locs 0 0 (MQ b9 (QI G (fun z_ w_ => z_ = ovr (cBal c) ∧ CatAt G w_ a lm lr hm (cBal c) ∧ Up (fun q_ => q_ = a + 1) w w_)) a9 s9 0 0 (frG G)) (F0 m9 4 ls []) := by
    intro N_
    induction N_ with
    | zero => intro _ _ _ _ _ _ _ _ _ _ _ _ _ _ _ _ h_; exact absurd h_ (Nat.not_lt_zero _)
    | succ N_ ih_ =>
      intro s fbv w_1 hs hfb hI_a_w_1 hI_aca_w_1 hI_so_w_1 hI_lm_w_1 hI_lr_w_1 hI_hm_w_1 hI__mks_w_1 hI__ru_w_1 hI__mp_w_1 hI_bda_w_1 hU hN_ H locs ls hR hL hl
      have ih_2 := ih_
      clear ih_
      have hbi := balI_le c s
      have hSb := bSL_s hS s
      refine lv_iload_n hx hb dX2_balance_4 rfl (lv_at hl 2 rfl) ?_
      refine lv_aload_n hx hb dX2_balance_5 rfl (lv_at hl 0 rfl) ?_
      refine h_get X hR hI_a_w_1 rfl in_X2 0 (by decide) q589 rfl dX2_balance_6 ?_
      refine h_icmp_ge hx hb 142 dX2_balance_9 (by decide) (by omega) (by omega) (fun c_s => ?_) (fun c_s => ?_)
      ·
        have hse : s = (cSh c).toNat - 1 := by omega
        have hcl_3 : CatAt G w_1 a lm lr hm (cBal c) := ⟨bda, aca, so, fbv, fa, Lm, Lr, mp, hI_a_w_1, ⟨hI_bda_w_1, fun j_ hj_ => by have h_ := hfb j_ hj_; rw [hse] at h_; exact h_.trans (bS_e hj_)⟩, ⟨hI_aca_w_1, hax⟩, hI_so_w_1, ⟨⟨mo1, hm1, hI_lm_w_1⟩, hI__mks_w_1, hnd⟩, ⟨⟨mo2, hm2, hI_lr_w_1⟩, hI__ru_w_1⟩, ⟨hI_hm_w_1, hI__mp_w_1⟩, hrd, hid, hba, hll⟩
        refine lv_aload_n hx hb dX2_balance_142 rfl (lv_at hl 0 rfl) ?_
        -- call SpokenMarks$Catalogue.shelvesOver
        refine h_kIp (h_runV X hR (ct_ovr l G w_1 a lm lr hm (cBal c) hcl_3 hWb.1 hWb) pn_yX2_shelvesOver (hcl_3.c) q1836 q1837 q1838 q123 q1839 ⟨by decide, by decide⟩ hl.1 (Nat.le_of_ble_eq_true rfl) dX2_balance_143 ⟨by omega, by omega⟩) hL (fun H locs hR hL => ?_)
        exact h_ireturn hx hb hlk hret hR hL rfl ⟨rfl, hcl_3, hU⟩ (by omega) (by omega) rfl rfl dX2_balance_146
      ·
        refine lv_iload_n hx hb dX2_balance_12 rfl (lv_at hl 1 rfl) ?_
        refine lv_aload_n hx hb dX2_balance_13 rfl (lv_at hl 0 rfl) ?_
        refine h_get X hR hI_a_w_1 rfl in_X2 3 (by decide) q597 rfl dX2_balance_14 ?_
        -- call java/util/ArrayList.size
        refine h_k5Ip (h_runF (x := ⟨"java/util/List", "size", "()I"⟩) X hR (ls_size l G w_1 (lm + 1) lm 40 mo1 Lm hI_lm_w_1) pn_i_java_util_List_size_0 (hI_lm_w_1.c) (kk_face X.2 (by decide +kernel) q1566 q1565 q1570 q1568 q664) q1564 q1569 q1567 q125 q1571 ⟨by decide, by decide⟩ hl.1 (Nat.le_of_ble_eq_true rfl) dX2_balance_17 ⟨by omega, by omega⟩) hL (fun H locs hR hL => ?_)
        refine W.eq (g2 := F0 m9 22 ls [.int (iI ((cN c : Int))), .int (iI (((balI c s : Nat) : Int)))]) (congrArg (fun z_ : Int => F0 m9 22 ls [.int (iI (z_)), .int (iI (((balI c s : Nat) : Int)))]) (show ((Lm.length : Int) : Int) = (cN c : Int) from (by rw [hml]))) ?_
        refine h_icmp_ge hx hb 44 dX2_balance_22 (by decide) (by omega) (by omega) (fun c_0 => ?_) (fun c_0 => ?_)
        ·
          refine h_iconst hx hb dX2_balance_44 ?_
          refine lv_istore_n (lv' := [(3, .int (iI (0))), (0, .ref a), (1, .int (iI (((balI c s : Nat) : Int)))), (2, .int (iI (((s + 1 : Nat) : Int))))]) hx hb dX2_balance_45 rfl hl (by decide) rfl (fun ls hl => ?_)
          refine lv_iload_n hx hb dX2_balance_46 rfl (lv_at hl 2 rfl) ?_
          refine h_iconst hx hb dX2_balance_47 ?_
          refine h_iadd hx hb dX2_balance_48 ?_
          refine lv_aload_n hx hb dX2_balance_49 rfl (lv_at hl 1 rfl) ?_
          refine h_get X hR hI_a_w_1 rfl in_X2 3 (by decide) q597 rfl dX2_balance_50 ?_
          -- call java/util/ArrayList.size
          refine h_k5Ip (h_runF (x := ⟨"java/util/List", "size", "()I"⟩) X hR (ls_size l G w_1 (lm + 1) lm 40 mo1 Lm hI_lm_w_1) pn_i_java_util_List_size_0 (hI_lm_w_1.c) (kk_face X.2 (by decide +kernel) q1566 q1565 q1570 q1568 q664) q1564 q1569 q1567 q125 q1571 ⟨by decide, by decide⟩ hl.1 (Nat.le_of_ble_eq_true rfl) dX2_balance_53 ⟨by omega, by omega⟩) hL (fun H locs hR hL => ?_)
          refine W.eq (g2 := F0 m9 58 ls [.int (iI ((cN c : Int))), .int (iI (((balI c s : Nat) : Int) + 1))]) (congrArg (fun z_ : Int => F0 m9 58 ls [.int (iI (z_)), .int (iI (((balI c s : Nat) : Int) + 1))]) (show ((Lm.length : Int) : Int) = (cN c : Int) from (by rw [hml]))) ?_
          refine h_mmin X hl.1 ⟨by omega, by omega⟩ ⟨by omega, by omega⟩ q1835 q336 q135 q337 ⟨by decide, Nat.le_of_ble_eq_true rfl⟩ (by omega) (by omega) dX2_balance_58 ?_
          refine W.eq (g2 := F0 m9 61 ls [.int (iI (((balI c s : Nat) : Int)))]) (congrArg (fun z_ : Int => F0 m9 61 ls [.int (iI (z_))]) (show (if ((balI c s : Nat) : Int) + 1 ≤ (cN c : Int) then ((balI c s : Nat) : Int) + 1 else (cN c : Int) : Int) = ((balI c s : Nat) : Int) from (by split <;> omega))) ?_
          refine lv_istore_n (lv' := [(1, .int (iI (((balI c s : Nat) : Int)))), (3, .int (iI (0))), (0, .ref a), (2, .int (iI (((s + 1 : Nat) : Int))))]) hx hb dX2_balance_61 rfl hl (by decide) rfl (fun ls hl => ?_)
          have LOOP_13 : ∀ (N_ : Nat) (i : Nat) (sm : Int), (i ≤ cN c) → (BalP c s i sm 0) → (0 ≤ sm ∧ sm ≤ 1000) → (42 - i) < N_ → ∀ (H : Heap) (locs : List Loc) (ls : Array Slot), Rp G w_1 H → LK G locs → lv_has ls 4 [(0, .ref a), (1, .int (iI (((i : Nat) : Int)))), (2, .int (iI (((s + 1 : Nat) : Int)))), (3, .int (iI (sm)))] → W p9 l e9 (rmk 8 0 0) s9 m9 a9 b9 meth9 c9 H locs 0 0 (MQ b9 (QI G (fun z_ w_ => z_ = ovr (cBal c) ∧ CatAt G w_ a lm lr hm (cBal c) ∧ Up (fun q_ => q_ = a + 1) w w_)) a9 s9 0 0 (frG G)) (F0 m9 62 ls []) := by
            intro N_
            induction N_ with
            | zero => intro _ _ _ _ _ h_; exact absurd h_ (Nat.not_lt_zero _)
            | succ N_ ih_ =>
              intro i sm hi hB hsm hN_ H locs ls hR hL hl
              have ih_13 := ih_
              clear ih_
              refine lv_iload_n hx hb dX2_balance_62 rfl (lv_at hl 1 rfl) ?_
              refine lv_aload_n hx hb dX2_balance_63 rfl (lv_at hl 0 rfl) ?_
              refine h_get X hR hI_a_w_1 rfl in_X2 3 (by decide) q597 rfl dX2_balance_64 ?_
              -- call java/util/ArrayList.size
              refine h_k5Ip (h_runF (x := ⟨"java/util/List", "size", "()I"⟩) X hR (ls_size l G w_1 (lm + 1) lm 40 mo1 Lm hI_lm_w_1) pn_i_java_util_List_size_0 (hI_lm_w_1.c) (kk_face X.2 (by decide +kernel) q1566 q1565 q1570 q1568 q664) q1564 q1569 q1567 q125 q1571 ⟨by decide, by decide⟩ hl.1 (Nat.le_of_ble_eq_true rfl) dX2_balance_67 ⟨by omega, by omega⟩) hL (fun H locs hR hL => ?_)
              refine W.eq (g2 := F0 m9 72 ls [.int (iI ((cN c : Int))), .int (iI (((i : Nat) : Int)))]) (congrArg (fun z_ : Int => F0 m9 72 ls [.int (iI (z_)), .int (iI (((i : Nat) : Int)))]) (show ((Lm.length : Int) : Int) = (cN c : Int) from (by rw [hml]))) ?_
              refine h_icmp_ge hx hb 125 dX2_balance_72 (by decide) (by omega) (by omega) (fun c_x => ?_) (fun c_x => ?_)
              ·
                have hie : i = balI c (s + 1) := (hB.end1 (by omega)).symm
                refine lv_aload_n hx hb dX2_balance_125 rfl (lv_at hl 0 rfl) ?_
                refine h_get X hR hI_a_w_1 rfl in_X2 2 (by decide) q594 rfl dX2_balance_126 ?_
                refine lv_iload_n hx hb dX2_balance_129 rfl (lv_at hl 2 rfl) ?_
                refine lv_aload_n hx hb dX2_balance_130 rfl (lv_at hl 0 rfl) ?_
                refine lv_iload_n hx hb dX2_balance_131 rfl (lv_at hl 1 rfl) ?_
                have hcl_17 : CatAt G w_1 a lm lr hm (setBd c (bSL c s)) := ⟨bda, aca, so, fbv, fa, Lm, Lr, mp, hI_a_w_1, ⟨hI_bda_w_1, fun j_ hj_ => (hfb j_ hj_).trans (bSL_at c s hj_).symm⟩, ⟨hI_aca_w_1, hax⟩, hI_so_w_1, ⟨⟨mo1, hm1, hI_lm_w_1⟩, hI__mks_w_1, hnd⟩, ⟨⟨mo2, hm2, hI_lr_w_1⟩, hI__ru_w_1⟩, ⟨hI_hm_w_1, hI__mp_w_1⟩, hrd, hid, hba, hll⟩
                -- call SpokenMarks$Catalogue.placeAt
                refine h_kIp (h_runV X hR (ct_plA l G w_1 a lm lr hm (setBd c (bSL c s)) hcl_17 hSb (((i : Nat) : Int)) (by omega)) pn_yX2_placeAt (hcl_17.c) q1681 q1683 qs9 q123 q1684 ⟨by decide, by decide⟩ hl.1 (Nat.le_of_ble_eq_true rfl) dX2_balance_132 ⟨by omega, by omega⟩) hL (fun H locs hR hL => ?_)
                refine W.eq (g2 := F0 m9 135 ls [.int (iI (balV c s)), .int (iI (((s + 1 : Nat) : Int))), .ref bda]) (congrArg (fun z_ : Int => F0 m9 135 ls [.int (iI (z_)), .int (iI (((s + 1 : Nat) : Int))), .ref bda]) (show (plA (setBd c (bSL c s)) (((i : Nat) : Int)) : Int) = balV c s from (by rw [hie]; exact balV_pl c _ s))) ?_
                refine h_iast X hR hL hI_bda_w_1 (Nat.succ_ne_zero _) (by omega) (by omega) dX2_balance_135 (fun w_21 ew_22 H locs hR hL => ?_)
                have hU : Up (fun q_ => q_ = a + 1) w w_21 := by rw [ew_22]; exact hU.set hI_bda_w_1 (by first | exact Or.inl rfl | exact Or.inl (Or.inl rfl) | exact Or.inl (Or.inr rfl) | exact Or.inl (Or.inr (Or.inl rfl)) | exact Or.inl (Or.inr (Or.inr rfl)) | exact Or.inr ⟨Nat.succ_ne_zero _, by rw [Nat.add_sub_cancel]; assumption⟩ | exact Or.inr ⟨by omega, by assumption⟩) hG _
                have hF_bda_w_21 : w_21 bda = some (a + 1, iE G 0 ((cSh c).toNat) (zset fbv (((s + 1 : Nat) : Int)).toNat (balV c s))) := by rw [ew_22]; exact wset_eq _ _ _
                have hF_a_w_21 : w_21 a = some (a + 1, oE 2 [.int (iI (cSh c)), .int (iI (cRm c)), .ref bda, .ref lm, .ref lr, .ref hm, .ref so, .ref aca, .int (iI (cNx c))]) := by rw [ew_22]; exact (wset_ne _ (by first | exact ne_a_bda | exact Ne.symm ne_bda_a | exact w_ne hI_a_w_1 hI_bda_w_1 (by intro h; cases h) | exact w_neR hI_a_w_1 hI_bda_w_1 (by first | exact fun q_ => absurd (Nat.succ.inj q_) (by assumption) | exact fun q_ => absurd (Nat.succ.inj q_).symm (by assumption) | exact Nat.succ_ne_zero _ | exact (Nat.succ_ne_zero _).symm | omega))).trans hI_a_w_1
                have hF_aca_w_21 : w_21 aca = some (a + 1, iE G 0 3 fa) := by rw [ew_22]; exact (wset_ne _ (by first | exact ne_aca_bda | exact Ne.symm ne_bda_aca | exact w_ne hI_aca_w_1 hI_bda_w_1 (by intro h; cases h) | exact w_neR hI_aca_w_1 hI_bda_w_1 (by first | exact fun q_ => absurd (Nat.succ.inj q_) (by assumption) | exact fun q_ => absurd (Nat.succ.inj q_).symm (by assumption) | exact Nat.succ_ne_zero _ | exact (Nat.succ_ne_zero _).symm | omega))).trans hI_aca_w_1
                have hF_so_w_21 : w_21 so = some (0, oE 7 []) := by rw [ew_22]; exact (wset_ne _ (by first | exact ne_so_bda | exact Ne.symm ne_bda_so | exact w_ne hI_so_w_1 hI_bda_w_1 (by intro h; cases h) | exact w_neR hI_so_w_1 hI_bda_w_1 (by first | exact fun q_ => absurd (Nat.succ.inj q_) (by assumption) | exact fun q_ => absurd (Nat.succ.inj q_).symm (by assumption) | exact Nat.succ_ne_zero _ | exact (Nat.succ_ne_zero _).symm | omega))).trans hI_so_w_1
                have hP_lm_w_21 := hI_lm_w_1.mv (w1 := w_21) (S := fun q_ => q_ = a + 1) (by rw [ew_22]; exact Fr.one hI_bda_w_1 _) (by first | exact id | exact fun q_ => absurd (Nat.succ.inj q_) (by assumption) | exact fun q_ => absurd q_.symm (Nat.succ_ne_zero _) | exact fun q_ => absurd (Nat.succ.inj q_).symm (by assumption) | (intro q_; (try dsimp only at q_); omega))
                have hP_lr_w_21 := hI_lr_w_1.mv (w1 := w_21) (S := fun q_ => q_ = a + 1) (by rw [ew_22]; exact Fr.one hI_bda_w_1 _) (by first | exact id | exact fun q_ => absurd (Nat.succ.inj q_) (by assumption) | exact fun q_ => absurd q_.symm (Nat.succ_ne_zero _) | exact fun q_ => absurd (Nat.succ.inj q_).symm (by assumption) | (intro q_; (try dsimp only at q_); omega))
                have hP_hm_w_21 := hI_hm_w_1.mv (w1 := w_21) (S := fun q_ => q_ = a + 1) (by rw [ew_22]; exact Fr.one hI_bda_w_1 _) ⟨(by first | exact id | (intro q_; (try dsimp only at q_); omega)), (by first | exact id | (intro q_; (try dsimp only at q_); omega))⟩
                have hFm_23 : MksAt G (cRl c) w_21 (a + 1) Lm (cMk c) := by rw [ew_22]; exact MksAt.oth hI__mks_w_1 (Nat.succ_ne_zero _) hI_bda_w_1 (by intro fs_ h_; cases h_) _
                have hFm_24 := hI__ru_w_1.mv (w1 := w_21) (S := fun q_ => q_ = a + 1) (by rw [ew_22]; exact Fr.one hI_bda_w_1 _) (by first | exact id | exact fun q_ => absurd (Nat.succ.inj q_) (by assumption) | exact fun q_ => absurd q_.symm (Nat.succ_ne_zero _) | exact fun q_ => absurd (Nat.succ.inj q_).symm (by assumption) | (intro q_; (try dsimp only at q_); omega))
                have hFm_25 := hI__mp_w_1.mv (w1 := w_21) (S := fun q_ => q_ = a + 1) (by rw [ew_22]; exact Fr.one hI_bda_w_1 _) (by first | exact id | exact fun q_ => absurd (Nat.succ.inj q_) (by assumption) | exact fun q_ => absurd q_.symm (Nat.succ_ne_zero _) | exact fun q_ => absurd (Nat.succ.inj q_).symm (by assumption) | (intro q_; (try dsimp only at q_); omega))
                have hl : lv_has ls 4 [(0, .ref a), (1, .int (iI (((balI c (s + 1) : Nat) : Int)))), (2, .int (iI (((s + 1 : Nat) : Int)))), (3, .int (iI (sm)))] := lv_conv hl (congrArg (fun z_ : Int => ([(0, .ref a), (1, .int (iI (z_))), (2, .int (iI (((s + 1 : Nat) : Int)))), (3, .int (iI (sm)))] : List (Nat × Value))) (show (((i : Nat) : Int) : Int) = ((balI c (s + 1) : Nat) : Int) from (by rw [hie])))
                refine h_iinc (lv' := [(2, .int (iI (((s + 1 : Nat) : Int) + 1))), (0, .ref a), (1, .int (iI (((balI c (s + 1) : Nat) : Int)))), (3, .int (iI (sm)))]) hx hb dX2_balance_136 hl (k := 2) rfl (by decide) rfl (fun ls hl => ?_)
                refine lv_goto (tgt := 4) hx hb dX2_balance_139 (by decide) ?_
                exact ih_2 (s + 1) (zset fbv (((s + 1 : Nat) : Int)).toNat (balV c s)) w_21 (by omega) (fun j_ hj_ => bS_s hfb j_ hj_) hF_a_w_21 hF_aca_w_21 hF_so_w_21 hP_lm_w_21 hP_lr_w_21 hP_hm_w_21 hFm_23 hFm_24 hFm_25 hF_bda_w_21 hU (by omega) _ _ _ hR hL (lv_sub hl [1, 2, 0] rfl)
              ·
                have c_i : i < cN c := by omega
                refine lv_iload_n hx hb dX2_balance_75 rfl (lv_at hl 3 rfl) ?_
                refine lv_aload_n hx hb dX2_balance_76 rfl (lv_at hl 0 rfl) ?_
                refine h_get X hR hI_a_w_1 rfl in_X2 3 (by decide) q597 rfl dX2_balance_77 ?_
                refine lv_iload_n hx hb dX2_balance_80 rfl (lv_at hl 1 rfl) ?_
                -- call java/util/ArrayList.get
                refine h_k5Rp (h_runF (x := ⟨"java/util/List", "get", "(I)Ljava/lang/Object;"⟩) X hR (ls_get l G w_1 (lm + 1) lm 40 mo1 Lm hI_lm_w_1 i (by omega)) pn_i_java_util_List_get_1 (hI_lm_w_1.c) (kk_face X.2 (by decide +kernel) q1575 q1574 q1579 q1577 q664) q1573 q1578 q1576 q125 q1580 ⟨by decide, by decide⟩ hl.1 (Nat.le_of_ble_eq_true rfl) dX2_balance_81 ⟨by omega, by omega⟩) hL (fun H locs hR hL => ?_)
                obtain ⟨pl_hm_30, hm_301, hm_302⟩ : MkAt G (cRl c) w_1 (a + 1) (Lm.getD i 0) (mk c i) := MksAt.g hI__mks_w_1 (show i < cN c by omega)
                have hmw_31 := (hS.mw (k := i) (by omega)).2.2.1
                refine h_castS X hR (hasC.of hm_301 rfl) q1385 dX2_balance_86 ?_
                refine h_getN X hR hm_301 rfl in_X5 2 (by decide) q1545 rfl dX2_balance_89 ?_
                refine h_iadd hx hb dX2_balance_92 ?_
                refine lv_aload_n hx hb dX2_balance_93 rfl (lv_at hl 0 rfl) ?_
                refine h_get X hR hI_a_w_1 rfl in_X2 1 (by decide) q592 rfl dX2_balance_94 ?_
                refine h_icmp_gt hx hb 125 dX2_balance_97 (by decide) (by omega) (by omega) (fun c_g => ?_) (fun c_g => ?_)
                ·
                  have hie : i = balI c (s + 1) := (hB.end2 rfl (by omega)).symm
                  refine lv_aload_n hx hb dX2_balance_125 rfl (lv_at hl 0 rfl) ?_
                  refine h_get X hR hI_a_w_1 rfl in_X2 2 (by decide) q594 rfl dX2_balance_126 ?_
                  refine lv_iload_n hx hb dX2_balance_129 rfl (lv_at hl 2 rfl) ?_
                  refine lv_aload_n hx hb dX2_balance_130 rfl (lv_at hl 0 rfl) ?_
                  refine lv_iload_n hx hb dX2_balance_131 rfl (lv_at hl 1 rfl) ?_
                  have hcl_32 : CatAt G w_1 a lm lr hm (setBd c (bSL c s)) := ⟨bda, aca, so, fbv, fa, Lm, Lr, mp, hI_a_w_1, ⟨hI_bda_w_1, fun j_ hj_ => (hfb j_ hj_).trans (bSL_at c s hj_).symm⟩, ⟨hI_aca_w_1, hax⟩, hI_so_w_1, ⟨⟨mo1, hm1, hI_lm_w_1⟩, hI__mks_w_1, hnd⟩, ⟨⟨mo2, hm2, hI_lr_w_1⟩, hI__ru_w_1⟩, ⟨hI_hm_w_1, hI__mp_w_1⟩, hrd, hid, hba, hll⟩
                  -- call SpokenMarks$Catalogue.placeAt
                  refine h_kIp (h_runV X hR (ct_plA l G w_1 a lm lr hm (setBd c (bSL c s)) hcl_32 hSb (((i : Nat) : Int)) (by omega)) pn_yX2_placeAt (hcl_32.c) q1681 q1683 qs9 q123 q1684 ⟨by decide, by decide⟩ hl.1 (Nat.le_of_ble_eq_true rfl) dX2_balance_132 ⟨by omega, by omega⟩) hL (fun H locs hR hL => ?_)
                  refine W.eq (g2 := F0 m9 135 ls [.int (iI (balV c s)), .int (iI (((s + 1 : Nat) : Int))), .ref bda]) (congrArg (fun z_ : Int => F0 m9 135 ls [.int (iI (z_)), .int (iI (((s + 1 : Nat) : Int))), .ref bda]) (show (plA (setBd c (bSL c s)) (((i : Nat) : Int)) : Int) = balV c s from (by rw [hie]; exact balV_pl c _ s))) ?_
                  refine h_iast X hR hL hI_bda_w_1 (Nat.succ_ne_zero _) (by omega) (by omega) dX2_balance_135 (fun w_36 ew_37 H locs hR hL => ?_)
                  have hU : Up (fun q_ => q_ = a + 1) w w_36 := by rw [ew_37]; exact hU.set hI_bda_w_1 (by first | exact Or.inl rfl | exact Or.inl (Or.inl rfl) | exact Or.inl (Or.inr rfl) | exact Or.inl (Or.inr (Or.inl rfl)) | exact Or.inl (Or.inr (Or.inr rfl)) | exact Or.inr ⟨Nat.succ_ne_zero _, by rw [Nat.add_sub_cancel]; assumption⟩ | exact Or.inr ⟨by omega, by assumption⟩) hG _
                  have hF_bda_w_36 : w_36 bda = some (a + 1, iE G 0 ((cSh c).toNat) (zset fbv (((s + 1 : Nat) : Int)).toNat (balV c s))) := by rw [ew_37]; exact wset_eq _ _ _
                  have hF_a_w_36 : w_36 a = some (a + 1, oE 2 [.int (iI (cSh c)), .int (iI (cRm c)), .ref bda, .ref lm, .ref lr, .ref hm, .ref so, .ref aca, .int (iI (cNx c))]) := by rw [ew_37]; exact (wset_ne _ (by first | exact ne_a_bda | exact Ne.symm ne_bda_a | exact w_ne hI_a_w_1 hI_bda_w_1 (by intro h; cases h) | exact w_neR hI_a_w_1 hI_bda_w_1 (by first | exact fun q_ => absurd (Nat.succ.inj q_) (by assumption) | exact fun q_ => absurd (Nat.succ.inj q_).symm (by assumption) | exact Nat.succ_ne_zero _ | exact (Nat.succ_ne_zero _).symm | omega))).trans hI_a_w_1
                  have hF_aca_w_36 : w_36 aca = some (a + 1, iE G 0 3 fa) := by rw [ew_37]; exact (wset_ne _ (by first | exact ne_aca_bda | exact Ne.symm ne_bda_aca | exact w_ne hI_aca_w_1 hI_bda_w_1 (by intro h; cases h) | exact w_neR hI_aca_w_1 hI_bda_w_1 (by first | exact fun q_ => absurd (Nat.succ.inj q_) (by assumption) | exact fun q_ => absurd (Nat.succ.inj q_).symm (by assumption) | exact Nat.succ_ne_zero _ | exact (Nat.succ_ne_zero _).symm | omega))).trans hI_aca_w_1
                  have hF_so_w_36 : w_36 so = some (0, oE 7 []) := by rw [ew_37]; exact (wset_ne _ (by first | exact ne_so_bda | exact Ne.symm ne_bda_so | exact w_ne hI_so_w_1 hI_bda_w_1 (by intro h; cases h) | exact w_neR hI_so_w_1 hI_bda_w_1 (by first | exact fun q_ => absurd (Nat.succ.inj q_) (by assumption) | exact fun q_ => absurd (Nat.succ.inj q_).symm (by assumption) | exact Nat.succ_ne_zero _ | exact (Nat.succ_ne_zero _).symm | omega))).trans hI_so_w_1
                  have hP_lm_w_36 := hI_lm_w_1.mv (w1 := w_36) (S := fun q_ => q_ = a + 1) (by rw [ew_37]; exact Fr.one hI_bda_w_1 _) (by first | exact id | exact fun q_ => absurd (Nat.succ.inj q_) (by assumption) | exact fun q_ => absurd q_.symm (Nat.succ_ne_zero _) | exact fun q_ => absurd (Nat.succ.inj q_).symm (by assumption) | (intro q_; (try dsimp only at q_); omega))
                  have hP_lr_w_36 := hI_lr_w_1.mv (w1 := w_36) (S := fun q_ => q_ = a + 1) (by rw [ew_37]; exact Fr.one hI_bda_w_1 _) (by first | exact id | exact fun q_ => absurd (Nat.succ.inj q_) (by assumption) | exact fun q_ => absurd q_.symm (Nat.succ_ne_zero _) | exact fun q_ => absurd (Nat.succ.inj q_).symm (by assumption) | (intro q_; (try dsimp only at q_); omega))
                  have hP_hm_w_36 := hI_hm_w_1.mv (w1 := w_36) (S := fun q_ => q_ = a + 1) (by rw [ew_37]; exact Fr.one hI_bda_w_1 _) ⟨(by first | exact id | (intro q_; (try dsimp only at q_); omega)), (by first | exact id | (intro q_; (try dsimp only at q_); omega))⟩
                  have hFm_38 : MksAt G (cRl c) w_36 (a + 1) Lm (cMk c) := by rw [ew_37]; exact MksAt.oth hI__mks_w_1 (Nat.succ_ne_zero _) hI_bda_w_1 (by intro fs_ h_; cases h_) _
                  have hFm_39 := hI__ru_w_1.mv (w1 := w_36) (S := fun q_ => q_ = a + 1) (by rw [ew_37]; exact Fr.one hI_bda_w_1 _) (by first | exact id | exact fun q_ => absurd (Nat.succ.inj q_) (by assumption) | exact fun q_ => absurd q_.symm (Nat.succ_ne_zero _) | exact fun q_ => absurd (Nat.succ.inj q_).symm (by assumption) | (intro q_; (try dsimp only at q_); omega))
                  have hFm_40 := hI__mp_w_1.mv (w1 := w_36) (S := fun q_ => q_ = a + 1) (by rw [ew_37]; exact Fr.one hI_bda_w_1 _) (by first | exact id | exact fun q_ => absurd (Nat.succ.inj q_) (by assumption) | exact fun q_ => absurd q_.symm (Nat.succ_ne_zero _) | exact fun q_ => absurd (Nat.succ.inj q_).symm (by assumption) | (intro q_; (try dsimp only at q_); omega))
                  have hF_Lm_getD_i_0_w_36 : w_36 (Lm.getD i 0) = some (a + 1, oE 3 [.int (iI (mId (mk c i))), .ref pl_hm_30, .int (iI (mWd (mk c i))), .int (iI (mPl (mk c i)))]) := by rw [ew_37]; exact (wset_ne _ (by first | exact ne_Lm_getD_i_0_bda | exact Ne.symm ne_bda_Lm_getD_i_0 | exact w_ne hm_301 hI_bda_w_1 (by intro h; cases h) | exact w_neR hm_301 hI_bda_w_1 (by first | exact fun q_ => absurd (Nat.succ.inj q_) (by assumption) | exact fun q_ => absurd (Nat.succ.inj q_).symm (by assumption) | exact Nat.succ_ne_zero _ | exact (Nat.succ_ne_zero _).symm | omega))).trans hm_301
                  have hP_pl_hm_30_w_36 := hm_302.mv (w1 := w_36) (S := fun q_ => q_ = a + 1) (by rw [ew_37]; exact Fr.one hI_bda_w_1 _) (by first | exact id | exact fun q_ => absurd (Nat.succ.inj q_) (by assumption) | exact fun q_ => absurd q_.symm (Nat.succ_ne_zero _) | exact fun q_ => absurd (Nat.succ.inj q_).symm (by assumption) | (intro q_; (try dsimp only at q_); omega))
                  have hl : lv_has ls 4 [(0, .ref a), (1, .int (iI (((balI c (s + 1) : Nat) : Int)))), (2, .int (iI (((s + 1 : Nat) : Int)))), (3, .int (iI (sm)))] := lv_conv hl (congrArg (fun z_ : Int => ([(0, .ref a), (1, .int (iI (z_))), (2, .int (iI (((s + 1 : Nat) : Int)))), (3, .int (iI (sm)))] : List (Nat × Value))) (show (((i : Nat) : Int) : Int) = ((balI c (s + 1) : Nat) : Int) from (by rw [hie])))
                  refine h_iinc (lv' := [(2, .int (iI (((s + 1 : Nat) : Int) + 1))), (0, .ref a), (1, .int (iI (((balI c (s + 1) : Nat) : Int)))), (3, .int (iI (sm)))]) hx hb dX2_balance_136 hl (k := 2) rfl (by decide) rfl (fun ls hl => ?_)
                  refine lv_goto (tgt := 4) hx hb dX2_balance_139 (by decide) ?_
                  exact ih_2 (s + 1) (zset fbv (((s + 1 : Nat) : Int)).toNat (balV c s)) w_36 (by omega) (fun j_ hj_ => bS_s hfb j_ hj_) hF_a_w_36 hF_aca_w_36 hF_so_w_36 hP_lm_w_36 hP_lr_w_36 hP_hm_w_36 hFm_38 hFm_39 hFm_40 hF_bda_w_36 hU (by omega) _ _ _ hR hL (lv_sub hl [1, 2, 0] rfl)
                ·
                  have c_w : sm + mWd (mk c i) ≤ cRm c := by omega
                  refine lv_iload_n hx hb dX2_balance_100 rfl (lv_at hl 3 rfl) ?_
                  refine lv_aload_n hx hb dX2_balance_101 rfl (lv_at hl 0 rfl) ?_
                  refine h_get X hR hI_a_w_1 rfl in_X2 3 (by decide) q597 rfl dX2_balance_102 ?_
                  refine lv_iload_n hx hb dX2_balance_105 rfl (lv_at hl 1 rfl) ?_
                  -- call java/util/ArrayList.get
                  refine h_k5Rp (h_runF (x := ⟨"java/util/List", "get", "(I)Ljava/lang/Object;"⟩) X hR (ls_get l G w_1 (lm + 1) lm 40 mo1 Lm hI_lm_w_1 i (by omega)) pn_i_java_util_List_get_1 (hI_lm_w_1.c) (kk_face X.2 (by decide +kernel) q1575 q1574 q1579 q1577 q664) q1573 q1578 q1576 q125 q1580 ⟨by decide, by decide⟩ hl.1 (Nat.le_of_ble_eq_true rfl) dX2_balance_106 ⟨by omega, by omega⟩) hL (fun H locs hR hL => ?_)
                  refine h_castS X hR (hasC.of hm_301 rfl) q1385 dX2_balance_111 ?_
                  refine h_getN X hR hm_301 rfl in_X5 2 (by decide) q1545 rfl dX2_balance_114 ?_
                  refine h_iadd hx hb dX2_balance_117 ?_
                  refine lv_istore_n (lv' := [(3, .int (iI (sm + (mWd (mk c i))))), (0, .ref a), (1, .int (iI (((i : Nat) : Int)))), (2, .int (iI (((s + 1 : Nat) : Int))))]) hx hb dX2_balance_118 rfl hl (by decide) rfl (fun ls hl => ?_)
                  refine h_iinc (lv' := [(1, .int (iI (((i : Nat) : Int) + 1))), (3, .int (iI (sm + (mWd (mk c i))))), (0, .ref a), (2, .int (iI (((s + 1 : Nat) : Int))))]) hx hb dX2_balance_119 hl (k := 2) rfl (by decide) rfl (fun ls hl => ?_)
                  refine lv_goto (tgt := 62) hx hb dX2_balance_122 (by decide) ?_
                  exact ih_13 (i + 1) (sm + mWd (mk c i)) (by omega) (hB.step c_i (fun _ => c_w)) (by omega) (by omega) _ _ _ hR hL (lv_sub hl [2, 0, 3, 1] rfl)
          exact LOOP_13 _ (balI c s) 0 (by omega) (BalP.s2 (by omega)) (by omega) (Nat.lt_succ_self _) _ _ _ hR hL (lv_sub hl [2, 0, 3, 1] rfl)
        ·
          refine lv_aload_n hx hb dX2_balance_25 rfl (lv_at hl 0 rfl) ?_
          refine h_get X hR hI_a_w_1 rfl in_X2 3 (by decide) q597 rfl dX2_balance_26 ?_
          refine lv_iload_n hx hb dX2_balance_29 rfl (lv_at hl 1 rfl) ?_
          -- call java/util/ArrayList.get
          refine h_k5Rp (h_runF (x := ⟨"java/util/List", "get", "(I)Ljava/lang/Object;"⟩) X hR (ls_get l G w_1 (lm + 1) lm 40 mo1 Lm hI_lm_w_1 (balI c s) (by omega)) pn_i_java_util_List_get_1 (hI_lm_w_1.c) (kk_face X.2 (by decide +kernel) q1575 q1574 q1579 q1577 q664) q1573 q1578 q1576 q125 q1580 ⟨by decide, by decide⟩ hl.1 (Nat.le_of_ble_eq_true rfl) dX2_balance_30 ⟨by omega, by omega⟩) hL (fun H locs hR hL => ?_)
          obtain ⟨pl_hm_48, hm_481, hm_482⟩ : MkAt G (cRl c) w_1 (a + 1) (Lm.getD (balI c s) 0) (mk c (balI c s)) := MksAt.g hI__mks_w_1 (show (balI c s) < cN c by omega)
          have hmw_49 := (hS.mw (k := balI c s) (by omega)).2.2.1
          refine h_castS X hR (hasC.of hm_481 rfl) q1385 dX2_balance_35 ?_
          refine h_getN X hR hm_481 rfl in_X5 2 (by decide) q1545 rfl dX2_balance_38 ?_
          refine lv_goto (tgt := 45) hx hb dX2_balance_41 (by decide) ?_
          refine lv_istore_n (lv' := [(3, .int (iI (mWd (mk c (balI c s))))), (0, .ref a), (1, .int (iI (((balI c s : Nat) : Int)))), (2, .int (iI (((s + 1 : Nat) : Int))))]) hx hb dX2_balance_45 rfl hl (by decide) rfl (fun ls hl => ?_)
          refine lv_iload_n hx hb dX2_balance_46 rfl (lv_at hl 2 rfl) ?_
          refine h_iconst hx hb dX2_balance_47 ?_
          refine h_iadd hx hb dX2_balance_48 ?_
          refine lv_aload_n hx hb dX2_balance_49 rfl (lv_at hl 1 rfl) ?_
          refine h_get X hR hI_a_w_1 rfl in_X2 3 (by decide) q597 rfl dX2_balance_50 ?_
          -- call java/util/ArrayList.size
          refine h_k5Ip (h_runF (x := ⟨"java/util/List", "size", "()I"⟩) X hR (ls_size l G w_1 (lm + 1) lm 40 mo1 Lm hI_lm_w_1) pn_i_java_util_List_size_0 (hI_lm_w_1.c) (kk_face X.2 (by decide +kernel) q1566 q1565 q1570 q1568 q664) q1564 q1569 q1567 q125 q1571 ⟨by decide, by decide⟩ hl.1 (Nat.le_of_ble_eq_true rfl) dX2_balance_53 ⟨by omega, by omega⟩) hL (fun H locs hR hL => ?_)
          refine W.eq (g2 := F0 m9 58 ls [.int (iI ((cN c : Int))), .int (iI (((balI c s : Nat) : Int) + 1))]) (congrArg (fun z_ : Int => F0 m9 58 ls [.int (iI (z_)), .int (iI (((balI c s : Nat) : Int) + 1))]) (show ((Lm.length : Int) : Int) = (cN c : Int) from (by rw [hml]))) ?_
          refine h_mmin X hl.1 ⟨by omega, by omega⟩ ⟨by omega, by omega⟩ q1835 q336 q135 q337 ⟨by decide, Nat.le_of_ble_eq_true rfl⟩ (by omega) (by omega) dX2_balance_58 ?_
          refine W.eq (g2 := F0 m9 61 ls [.int (iI (((balI c s + 1 : Nat) : Int)))]) (congrArg (fun z_ : Int => F0 m9 61 ls [.int (iI (z_))]) (show (if ((balI c s : Nat) : Int) + 1 ≤ (cN c : Int) then ((balI c s : Nat) : Int) + 1 else (cN c : Int) : Int) = ((balI c s + 1 : Nat) : Int) from (by split <;> omega))) ?_
          refine lv_istore_n (lv' := [(1, .int (iI (((balI c s + 1 : Nat) : Int)))), (3, .int (iI (mWd (mk c (balI c s))))), (0, .ref a), (2, .int (iI (((s + 1 : Nat) : Int))))]) hx hb dX2_balance_61 rfl hl (by decide) rfl (fun ls hl => ?_)
          have LOOP_53 : ∀ (N_ : Nat) (i : Nat) (sm : Int), (i ≤ cN c) → (BalP c s i sm 0) → (0 ≤ sm ∧ sm ≤ 1000) → (42 - i) < N_ → ∀ (H : Heap) (locs : List Loc) (ls : Array Slot), Rp G w_1 H → LK G locs → lv_has ls 4 [(0, .ref a), (1, .int (iI (((i : Nat) : Int)))), (2, .int (iI (((s + 1 : Nat) : Int)))), (3, .int (iI (sm)))] → W p9 l e9 (rmk 8 0 0) s9 m9 a9 b9 meth9 c9 H locs 0 0 (MQ b9 (QI G (fun z_ w_ => z_ = ovr (cBal c) ∧ CatAt G w_ a lm lr hm (cBal c) ∧ Up (fun q_ => q_ = a + 1) w w_)) a9 s9 0 0 (frG G)) (F0 m9 62 ls []) := by
            intro N_
            induction N_ with
            | zero => intro _ _ _ _ _ h_; exact absurd h_ (Nat.not_lt_zero _)
            | succ N_ ih_ =>
              intro i sm hi hB hsm hN_ H locs ls hR hL hl
              have ih_53 := ih_
              clear ih_
              refine lv_iload_n hx hb dX2_balance_62 rfl (lv_at hl 1 rfl) ?_
              refine lv_aload_n hx hb dX2_balance_63 rfl (lv_at hl 0 rfl) ?_
              refine h_get X hR hI_a_w_1 rfl in_X2 3 (by decide) q597 rfl dX2_balance_64 ?_
              -- call java/util/ArrayList.size
              refine h_k5Ip (h_runF (x := ⟨"java/util/List", "size", "()I"⟩) X hR (ls_size l G w_1 (lm + 1) lm 40 mo1 Lm hI_lm_w_1) pn_i_java_util_List_size_0 (hI_lm_w_1.c) (kk_face X.2 (by decide +kernel) q1566 q1565 q1570 q1568 q664) q1564 q1569 q1567 q125 q1571 ⟨by decide, by decide⟩ hl.1 (Nat.le_of_ble_eq_true rfl) dX2_balance_67 ⟨by omega, by omega⟩) hL (fun H locs hR hL => ?_)
              refine W.eq (g2 := F0 m9 72 ls [.int (iI ((cN c : Int))), .int (iI (((i : Nat) : Int)))]) (congrArg (fun z_ : Int => F0 m9 72 ls [.int (iI (z_)), .int (iI (((i : Nat) : Int)))]) (show ((Lm.length : Int) : Int) = (cN c : Int) from (by rw [hml]))) ?_
              refine h_icmp_ge hx hb 125 dX2_balance_72 (by decide) (by omega) (by omega) (fun c_x => ?_) (fun c_x => ?_)
              ·
                have hie : i = balI c (s + 1) := (hB.end1 (by omega)).symm
                refine lv_aload_n hx hb dX2_balance_125 rfl (lv_at hl 0 rfl) ?_
                refine h_get X hR hI_a_w_1 rfl in_X2 2 (by decide) q594 rfl dX2_balance_126 ?_
                refine lv_iload_n hx hb dX2_balance_129 rfl (lv_at hl 2 rfl) ?_
                refine lv_aload_n hx hb dX2_balance_130 rfl (lv_at hl 0 rfl) ?_
                refine lv_iload_n hx hb dX2_balance_131 rfl (lv_at hl 1 rfl) ?_
                have hcl_57 : CatAt G w_1 a lm lr hm (setBd c (bSL c s)) := ⟨bda, aca, so, fbv, fa, Lm, Lr, mp, hI_a_w_1, ⟨hI_bda_w_1, fun j_ hj_ => (hfb j_ hj_).trans (bSL_at c s hj_).symm⟩, ⟨hI_aca_w_1, hax⟩, hI_so_w_1, ⟨⟨mo1, hm1, hI_lm_w_1⟩, hI__mks_w_1, hnd⟩, ⟨⟨mo2, hm2, hI_lr_w_1⟩, hI__ru_w_1⟩, ⟨hI_hm_w_1, hI__mp_w_1⟩, hrd, hid, hba, hll⟩
                -- call SpokenMarks$Catalogue.placeAt
                refine h_kIp (h_runV X hR (ct_plA l G w_1 a lm lr hm (setBd c (bSL c s)) hcl_57 hSb (((i : Nat) : Int)) (by omega)) pn_yX2_placeAt (hcl_57.c) q1681 q1683 qs9 q123 q1684 ⟨by decide, by decide⟩ hl.1 (Nat.le_of_ble_eq_true rfl) dX2_balance_132 ⟨by omega, by omega⟩) hL (fun H locs hR hL => ?_)
                refine W.eq (g2 := F0 m9 135 ls [.int (iI (balV c s)), .int (iI (((s + 1 : Nat) : Int))), .ref bda]) (congrArg (fun z_ : Int => F0 m9 135 ls [.int (iI (z_)), .int (iI (((s + 1 : Nat) : Int))), .ref bda]) (show (plA (setBd c (bSL c s)) (((i : Nat) : Int)) : Int) = balV c s from (by rw [hie]; exact balV_pl c _ s))) ?_
                refine h_iast X hR hL hI_bda_w_1 (Nat.succ_ne_zero _) (by omega) (by omega) dX2_balance_135 (fun w_61 ew_62 H locs hR hL => ?_)
                have hU : Up (fun q_ => q_ = a + 1) w w_61 := by rw [ew_62]; exact hU.set hI_bda_w_1 (by first | exact Or.inl rfl | exact Or.inl (Or.inl rfl) | exact Or.inl (Or.inr rfl) | exact Or.inl (Or.inr (Or.inl rfl)) | exact Or.inl (Or.inr (Or.inr rfl)) | exact Or.inr ⟨Nat.succ_ne_zero _, by rw [Nat.add_sub_cancel]; assumption⟩ | exact Or.inr ⟨by omega, by assumption⟩) hG _
                have hF_bda_w_61 : w_61 bda = some (a + 1, iE G 0 ((cSh c).toNat) (zset fbv (((s + 1 : Nat) : Int)).toNat (balV c s))) := by rw [ew_62]; exact wset_eq _ _ _
                have hF_a_w_61 : w_61 a = some (a + 1, oE 2 [.int (iI (cSh c)), .int (iI (cRm c)), .ref bda, .ref lm, .ref lr, .ref hm, .ref so, .ref aca, .int (iI (cNx c))]) := by rw [ew_62]; exact (wset_ne _ (by first | exact ne_a_bda | exact Ne.symm ne_bda_a | exact w_ne hI_a_w_1 hI_bda_w_1 (by intro h; cases h) | exact w_neR hI_a_w_1 hI_bda_w_1 (by first | exact fun q_ => absurd (Nat.succ.inj q_) (by assumption) | exact fun q_ => absurd (Nat.succ.inj q_).symm (by assumption) | exact Nat.succ_ne_zero _ | exact (Nat.succ_ne_zero _).symm | omega))).trans hI_a_w_1
                have hF_aca_w_61 : w_61 aca = some (a + 1, iE G 0 3 fa) := by rw [ew_62]; exact (wset_ne _ (by first | exact ne_aca_bda | exact Ne.symm ne_bda_aca | exact w_ne hI_aca_w_1 hI_bda_w_1 (by intro h; cases h) | exact w_neR hI_aca_w_1 hI_bda_w_1 (by first | exact fun q_ => absurd (Nat.succ.inj q_) (by assumption) | exact fun q_ => absurd (Nat.succ.inj q_).symm (by assumption) | exact Nat.succ_ne_zero _ | exact (Nat.succ_ne_zero _).symm | omega))).trans hI_aca_w_1
                have hF_so_w_61 : w_61 so = some (0, oE 7 []) := by rw [ew_62]; exact (wset_ne _ (by first | exact ne_so_bda | exact Ne.symm ne_bda_so | exact w_ne hI_so_w_1 hI_bda_w_1 (by intro h; cases h) | exact w_neR hI_so_w_1 hI_bda_w_1 (by first | exact fun q_ => absurd (Nat.succ.inj q_) (by assumption) | exact fun q_ => absurd (Nat.succ.inj q_).symm (by assumption) | exact Nat.succ_ne_zero _ | exact (Nat.succ_ne_zero _).symm | omega))).trans hI_so_w_1
                have hP_lm_w_61 := hI_lm_w_1.mv (w1 := w_61) (S := fun q_ => q_ = a + 1) (by rw [ew_62]; exact Fr.one hI_bda_w_1 _) (by first | exact id | exact fun q_ => absurd (Nat.succ.inj q_) (by assumption) | exact fun q_ => absurd q_.symm (Nat.succ_ne_zero _) | exact fun q_ => absurd (Nat.succ.inj q_).symm (by assumption) | (intro q_; (try dsimp only at q_); omega))
                have hP_lr_w_61 := hI_lr_w_1.mv (w1 := w_61) (S := fun q_ => q_ = a + 1) (by rw [ew_62]; exact Fr.one hI_bda_w_1 _) (by first | exact id | exact fun q_ => absurd (Nat.succ.inj q_) (by assumption) | exact fun q_ => absurd q_.symm (Nat.succ_ne_zero _) | exact fun q_ => absurd (Nat.succ.inj q_).symm (by assumption) | (intro q_; (try dsimp only at q_); omega))
                have hP_hm_w_61 := hI_hm_w_1.mv (w1 := w_61) (S := fun q_ => q_ = a + 1) (by rw [ew_62]; exact Fr.one hI_bda_w_1 _) ⟨(by first | exact id | (intro q_; (try dsimp only at q_); omega)), (by first | exact id | (intro q_; (try dsimp only at q_); omega))⟩
                have hFm_63 : MksAt G (cRl c) w_61 (a + 1) Lm (cMk c) := by rw [ew_62]; exact MksAt.oth hI__mks_w_1 (Nat.succ_ne_zero _) hI_bda_w_1 (by intro fs_ h_; cases h_) _
                have hFm_64 := hI__ru_w_1.mv (w1 := w_61) (S := fun q_ => q_ = a + 1) (by rw [ew_62]; exact Fr.one hI_bda_w_1 _) (by first | exact id | exact fun q_ => absurd (Nat.succ.inj q_) (by assumption) | exact fun q_ => absurd q_.symm (Nat.succ_ne_zero _) | exact fun q_ => absurd (Nat.succ.inj q_).symm (by assumption) | (intro q_; (try dsimp only at q_); omega))
                have hFm_65 := hI__mp_w_1.mv (w1 := w_61) (S := fun q_ => q_ = a + 1) (by rw [ew_62]; exact Fr.one hI_bda_w_1 _) (by first | exact id | exact fun q_ => absurd (Nat.succ.inj q_) (by assumption) | exact fun q_ => absurd q_.symm (Nat.succ_ne_zero _) | exact fun q_ => absurd (Nat.succ.inj q_).symm (by assumption) | (intro q_; (try dsimp only at q_); omega))
                have hF_Lm_getD__balI_c_s__0_w_61 : w_61 (Lm.getD (balI c s) 0) = some (a + 1, oE 3 [.int (iI (mId (mk c (balI c s)))), .ref pl_hm_48, .int (iI (mWd (mk c (balI c s)))), .int (iI (mPl (mk c (balI c s))))]) := by rw [ew_62]; exact (wset_ne _ (by first | exact ne_Lm_getD__balI_c_s__0_bda | exact Ne.symm ne_bda_Lm_getD__balI_c_s__0 | exact w_ne hm_481 hI_bda_w_1 (by intro h; cases h) | exact w_neR hm_481 hI_bda_w_1 (by first | exact fun q_ => absurd (Nat.succ.inj q_) (by assumption) | exact fun q_ => absurd (Nat.succ.inj q_).symm (by assumption) | exact Nat.succ_ne_zero _ | exact (Nat.succ_ne_zero _).symm | omega))).trans hm_481
                have hP_pl_hm_48_w_61 := hm_482.mv (w1 := w_61) (S := fun q_ => q_ = a + 1) (by rw [ew_62]; exact Fr.one hI_bda_w_1 _) (by first | exact id | exact fun q_ => absurd (Nat.succ.inj q_) (by assumption) | exact fun q_ => absurd q_.symm (Nat.succ_ne_zero _) | exact fun q_ => absurd (Nat.succ.inj q_).symm (by assumption) | (intro q_; (try dsimp only at q_); omega))
                have hl : lv_has ls 4 [(0, .ref a), (1, .int (iI (((balI c (s + 1) : Nat) : Int)))), (2, .int (iI (((s + 1 : Nat) : Int)))), (3, .int (iI (sm)))] := lv_conv hl (congrArg (fun z_ : Int => ([(0, .ref a), (1, .int (iI (z_))), (2, .int (iI (((s + 1 : Nat) : Int)))), (3, .int (iI (sm)))] : List (Nat × Value))) (show (((i : Nat) : Int) : Int) = ((balI c (s + 1) : Nat) : Int) from (by rw [hie])))
                refine h_iinc (lv' := [(2, .int (iI (((s + 1 : Nat) : Int) + 1))), (0, .ref a), (1, .int (iI (((balI c (s + 1) : Nat) : Int)))), (3, .int (iI (sm)))]) hx hb dX2_balance_136 hl (k := 2) rfl (by decide) rfl (fun ls hl => ?_)
                refine lv_goto (tgt := 4) hx hb dX2_balance_139 (by decide) ?_
                exact ih_2 (s + 1) (zset fbv (((s + 1 : Nat) : Int)).toNat (balV c s)) w_61 (by omega) (fun j_ hj_ => bS_s hfb j_ hj_) hF_a_w_61 hF_aca_w_61 hF_so_w_61 hP_lm_w_61 hP_lr_w_61 hP_hm_w_61 hFm_63 hFm_64 hFm_65 hF_bda_w_61 hU (by omega) _ _ _ hR hL (lv_sub hl [1, 2, 0] rfl)
              ·
                have c_i : i < cN c := by omega
                refine lv_iload_n hx hb dX2_balance_75 rfl (lv_at hl 3 rfl) ?_
                refine lv_aload_n hx hb dX2_balance_76 rfl (lv_at hl 0 rfl) ?_
                refine h_get X hR hI_a_w_1 rfl in_X2 3 (by decide) q597 rfl dX2_balance_77 ?_
                refine lv_iload_n hx hb dX2_balance_80 rfl (lv_at hl 1 rfl) ?_
                -- call java/util/ArrayList.get
                refine h_k5Rp (h_runF (x := ⟨"java/util/List", "get", "(I)Ljava/lang/Object;"⟩) X hR (ls_get l G w_1 (lm + 1) lm 40 mo1 Lm hI_lm_w_1 i (by omega)) pn_i_java_util_List_get_1 (hI_lm_w_1.c) (kk_face X.2 (by decide +kernel) q1575 q1574 q1579 q1577 q664) q1573 q1578 q1576 q125 q1580 ⟨by decide, by decide⟩ hl.1 (Nat.le_of_ble_eq_true rfl) dX2_balance_81 ⟨by omega, by omega⟩) hL (fun H locs hR hL => ?_)
                obtain ⟨pl_hm_70, hm_701, hm_702⟩ : MkAt G (cRl c) w_1 (a + 1) (Lm.getD i 0) (mk c i) := MksAt.g hI__mks_w_1 (show i < cN c by omega)
                have hmw_71 := (hS.mw (k := i) (by omega)).2.2.1
                refine h_castS X hR (hasC.of hm_701 rfl) q1385 dX2_balance_86 ?_
                refine h_getN X hR hm_701 rfl in_X5 2 (by decide) q1545 rfl dX2_balance_89 ?_
                refine h_iadd hx hb dX2_balance_92 ?_
                refine lv_aload_n hx hb dX2_balance_93 rfl (lv_at hl 0 rfl) ?_
                refine h_get X hR hI_a_w_1 rfl in_X2 1 (by decide) q592 rfl dX2_balance_94 ?_
                refine h_icmp_gt hx hb 125 dX2_balance_97 (by decide) (by omega) (by omega) (fun c_g => ?_) (fun c_g => ?_)
                ·
                  have hie : i = balI c (s + 1) := (hB.end2 rfl (by omega)).symm
                  refine lv_aload_n hx hb dX2_balance_125 rfl (lv_at hl 0 rfl) ?_
                  refine h_get X hR hI_a_w_1 rfl in_X2 2 (by decide) q594 rfl dX2_balance_126 ?_
                  refine lv_iload_n hx hb dX2_balance_129 rfl (lv_at hl 2 rfl) ?_
                  refine lv_aload_n hx hb dX2_balance_130 rfl (lv_at hl 0 rfl) ?_
                  refine lv_iload_n hx hb dX2_balance_131 rfl (lv_at hl 1 rfl) ?_
                  have hcl_72 : CatAt G w_1 a lm lr hm (setBd c (bSL c s)) := ⟨bda, aca, so, fbv, fa, Lm, Lr, mp, hI_a_w_1, ⟨hI_bda_w_1, fun j_ hj_ => (hfb j_ hj_).trans (bSL_at c s hj_).symm⟩, ⟨hI_aca_w_1, hax⟩, hI_so_w_1, ⟨⟨mo1, hm1, hI_lm_w_1⟩, hI__mks_w_1, hnd⟩, ⟨⟨mo2, hm2, hI_lr_w_1⟩, hI__ru_w_1⟩, ⟨hI_hm_w_1, hI__mp_w_1⟩, hrd, hid, hba, hll⟩
                  -- call SpokenMarks$Catalogue.placeAt
                  refine h_kIp (h_runV X hR (ct_plA l G w_1 a lm lr hm (setBd c (bSL c s)) hcl_72 hSb (((i : Nat) : Int)) (by omega)) pn_yX2_placeAt (hcl_72.c) q1681 q1683 qs9 q123 q1684 ⟨by decide, by decide⟩ hl.1 (Nat.le_of_ble_eq_true rfl) dX2_balance_132 ⟨by omega, by omega⟩) hL (fun H locs hR hL => ?_)
                  refine W.eq (g2 := F0 m9 135 ls [.int (iI (balV c s)), .int (iI (((s + 1 : Nat) : Int))), .ref bda]) (congrArg (fun z_ : Int => F0 m9 135 ls [.int (iI (z_)), .int (iI (((s + 1 : Nat) : Int))), .ref bda]) (show (plA (setBd c (bSL c s)) (((i : Nat) : Int)) : Int) = balV c s from (by rw [hie]; exact balV_pl c _ s))) ?_
                  refine h_iast X hR hL hI_bda_w_1 (Nat.succ_ne_zero _) (by omega) (by omega) dX2_balance_135 (fun w_76 ew_77 H locs hR hL => ?_)
                  have hU : Up (fun q_ => q_ = a + 1) w w_76 := by rw [ew_77]; exact hU.set hI_bda_w_1 (by first | exact Or.inl rfl | exact Or.inl (Or.inl rfl) | exact Or.inl (Or.inr rfl) | exact Or.inl (Or.inr (Or.inl rfl)) | exact Or.inl (Or.inr (Or.inr rfl)) | exact Or.inr ⟨Nat.succ_ne_zero _, by rw [Nat.add_sub_cancel]; assumption⟩ | exact Or.inr ⟨by omega, by assumption⟩) hG _
                  have hF_bda_w_76 : w_76 bda = some (a + 1, iE G 0 ((cSh c).toNat) (zset fbv (((s + 1 : Nat) : Int)).toNat (balV c s))) := by rw [ew_77]; exact wset_eq _ _ _
                  have hF_a_w_76 : w_76 a = some (a + 1, oE 2 [.int (iI (cSh c)), .int (iI (cRm c)), .ref bda, .ref lm, .ref lr, .ref hm, .ref so, .ref aca, .int (iI (cNx c))]) := by rw [ew_77]; exact (wset_ne _ (by first | exact ne_a_bda | exact Ne.symm ne_bda_a | exact w_ne hI_a_w_1 hI_bda_w_1 (by intro h; cases h) | exact w_neR hI_a_w_1 hI_bda_w_1 (by first | exact fun q_ => absurd (Nat.succ.inj q_) (by assumption) | exact fun q_ => absurd (Nat.succ.inj q_).symm (by assumption) | exact Nat.succ_ne_zero _ | exact (Nat.succ_ne_zero _).symm | omega))).trans hI_a_w_1
                  have hF_aca_w_76 : w_76 aca = some (a + 1, iE G 0 3 fa) := by rw [ew_77]; exact (wset_ne _ (by first | exact ne_aca_bda | exact Ne.symm ne_bda_aca | exact w_ne hI_aca_w_1 hI_bda_w_1 (by intro h; cases h) | exact w_neR hI_aca_w_1 hI_bda_w_1 (by first | exact fun q_ => absurd (Nat.succ.inj q_) (by assumption) | exact fun q_ => absurd (Nat.succ.inj q_).symm (by assumption) | exact Nat.succ_ne_zero _ | exact (Nat.succ_ne_zero _).symm | omega))).trans hI_aca_w_1
                  have hF_so_w_76 : w_76 so = some (0, oE 7 []) := by rw [ew_77]; exact (wset_ne _ (by first | exact ne_so_bda | exact Ne.symm ne_bda_so | exact w_ne hI_so_w_1 hI_bda_w_1 (by intro h; cases h) | exact w_neR hI_so_w_1 hI_bda_w_1 (by first | exact fun q_ => absurd (Nat.succ.inj q_) (by assumption) | exact fun q_ => absurd (Nat.succ.inj q_).symm (by assumption) | exact Nat.succ_ne_zero _ | exact (Nat.succ_ne_zero _).symm | omega))).trans hI_so_w_1
                  have hP_lm_w_76 := hI_lm_w_1.mv (w1 := w_76) (S := fun q_ => q_ = a + 1) (by rw [ew_77]; exact Fr.one hI_bda_w_1 _) (by first | exact id | exact fun q_ => absurd (Nat.succ.inj q_) (by assumption) | exact fun q_ => absurd q_.symm (Nat.succ_ne_zero _) | exact fun q_ => absurd (Nat.succ.inj q_).symm (by assumption) | (intro q_; (try dsimp only at q_); omega))
                  have hP_lr_w_76 := hI_lr_w_1.mv (w1 := w_76) (S := fun q_ => q_ = a + 1) (by rw [ew_77]; exact Fr.one hI_bda_w_1 _) (by first | exact id | exact fun q_ => absurd (Nat.succ.inj q_) (by assumption) | exact fun q_ => absurd q_.symm (Nat.succ_ne_zero _) | exact fun q_ => absurd (Nat.succ.inj q_).symm (by assumption) | (intro q_; (try dsimp only at q_); omega))
                  have hP_hm_w_76 := hI_hm_w_1.mv (w1 := w_76) (S := fun q_ => q_ = a + 1) (by rw [ew_77]; exact Fr.one hI_bda_w_1 _) ⟨(by first | exact id | (intro q_; (try dsimp only at q_); omega)), (by first | exact id | (intro q_; (try dsimp only at q_); omega))⟩
                  have hFm_78 : MksAt G (cRl c) w_76 (a + 1) Lm (cMk c) := by rw [ew_77]; exact MksAt.oth hI__mks_w_1 (Nat.succ_ne_zero _) hI_bda_w_1 (by intro fs_ h_; cases h_) _
                  have hFm_79 := hI__ru_w_1.mv (w1 := w_76) (S := fun q_ => q_ = a + 1) (by rw [ew_77]; exact Fr.one hI_bda_w_1 _) (by first | exact id | exact fun q_ => absurd (Nat.succ.inj q_) (by assumption) | exact fun q_ => absurd q_.symm (Nat.succ_ne_zero _) | exact fun q_ => absurd (Nat.succ.inj q_).symm (by assumption) | (intro q_; (try dsimp only at q_); omega))
                  have hFm_80 := hI__mp_w_1.mv (w1 := w_76) (S := fun q_ => q_ = a + 1) (by rw [ew_77]; exact Fr.one hI_bda_w_1 _) (by first | exact id | exact fun q_ => absurd (Nat.succ.inj q_) (by assumption) | exact fun q_ => absurd q_.symm (Nat.succ_ne_zero _) | exact fun q_ => absurd (Nat.succ.inj q_).symm (by assumption) | (intro q_; (try dsimp only at q_); omega))
                  have hF_Lm_getD__balI_c_s__0_w_76 : w_76 (Lm.getD (balI c s) 0) = some (a + 1, oE 3 [.int (iI (mId (mk c (balI c s)))), .ref pl_hm_48, .int (iI (mWd (mk c (balI c s)))), .int (iI (mPl (mk c (balI c s))))]) := by rw [ew_77]; exact (wset_ne _ (by first | exact ne_Lm_getD__balI_c_s__0_bda | exact Ne.symm ne_bda_Lm_getD__balI_c_s__0 | exact w_ne hm_481 hI_bda_w_1 (by intro h; cases h) | exact w_neR hm_481 hI_bda_w_1 (by first | exact fun q_ => absurd (Nat.succ.inj q_) (by assumption) | exact fun q_ => absurd (Nat.succ.inj q_).symm (by assumption) | exact Nat.succ_ne_zero _ | exact (Nat.succ_ne_zero _).symm | omega))).trans hm_481
                  have hP_pl_hm_48_w_76 := hm_482.mv (w1 := w_76) (S := fun q_ => q_ = a + 1) (by rw [ew_77]; exact Fr.one hI_bda_w_1 _) (by first | exact id | exact fun q_ => absurd (Nat.succ.inj q_) (by assumption) | exact fun q_ => absurd q_.symm (Nat.succ_ne_zero _) | exact fun q_ => absurd (Nat.succ.inj q_).symm (by assumption) | (intro q_; (try dsimp only at q_); omega))
                  have hF_Lm_getD_i_0_w_76 : w_76 (Lm.getD i 0) = some (a + 1, oE 3 [.int (iI (mId (mk c i))), .ref pl_hm_70, .int (iI (mWd (mk c i))), .int (iI (mPl (mk c i)))]) := by rw [ew_77]; exact (wset_ne _ (by first | exact ne_Lm_getD_i_0_bda | exact Ne.symm ne_bda_Lm_getD_i_0 | exact w_ne hm_701 hI_bda_w_1 (by intro h; cases h) | exact w_neR hm_701 hI_bda_w_1 (by first | exact fun q_ => absurd (Nat.succ.inj q_) (by assumption) | exact fun q_ => absurd (Nat.succ.inj q_).symm (by assumption) | exact Nat.succ_ne_zero _ | exact (Nat.succ_ne_zero _).symm | omega))).trans hm_701
                  have hP_pl_hm_70_w_76 := hm_702.mv (w1 := w_76) (S := fun q_ => q_ = a + 1) (by rw [ew_77]; exact Fr.one hI_bda_w_1 _) (by first | exact id | exact fun q_ => absurd (Nat.succ.inj q_) (by assumption) | exact fun q_ => absurd q_.symm (Nat.succ_ne_zero _) | exact fun q_ => absurd (Nat.succ.inj q_).symm (by assumption) | (intro q_; (try dsimp only at q_); omega))
                  have hl : lv_has ls 4 [(0, .ref a), (1, .int (iI (((balI c (s + 1) : Nat) : Int)))), (2, .int (iI (((s + 1 : Nat) : Int)))), (3, .int (iI (sm)))] := lv_conv hl (congrArg (fun z_ : Int => ([(0, .ref a), (1, .int (iI (z_))), (2, .int (iI (((s + 1 : Nat) : Int)))), (3, .int (iI (sm)))] : List (Nat × Value))) (show (((i : Nat) : Int) : Int) = ((balI c (s + 1) : Nat) : Int) from (by rw [hie])))
                  refine h_iinc (lv' := [(2, .int (iI (((s + 1 : Nat) : Int) + 1))), (0, .ref a), (1, .int (iI (((balI c (s + 1) : Nat) : Int)))), (3, .int (iI (sm)))]) hx hb dX2_balance_136 hl (k := 2) rfl (by decide) rfl (fun ls hl => ?_)
                  refine lv_goto (tgt := 4) hx hb dX2_balance_139 (by decide) ?_
                  exact ih_2 (s + 1) (zset fbv (((s + 1 : Nat) : Int)).toNat (balV c s)) w_76 (by omega) (fun j_ hj_ => bS_s hfb j_ hj_) hF_a_w_76 hF_aca_w_76 hF_so_w_76 hP_lm_w_76 hP_lr_w_76 hP_hm_w_76 hFm_78 hFm_79 hFm_80 hF_bda_w_76 hU (by omega) _ _ _ hR hL (lv_sub hl [1, 2, 0] rfl)
                ·
                  have c_w : sm + mWd (mk c i) ≤ cRm c := by omega
                  refine lv_iload_n hx hb dX2_balance_100 rfl (lv_at hl 3 rfl) ?_
                  refine lv_aload_n hx hb dX2_balance_101 rfl (lv_at hl 0 rfl) ?_
                  refine h_get X hR hI_a_w_1 rfl in_X2 3 (by decide) q597 rfl dX2_balance_102 ?_
                  refine lv_iload_n hx hb dX2_balance_105 rfl (lv_at hl 1 rfl) ?_
                  -- call java/util/ArrayList.get
                  refine h_k5Rp (h_runF (x := ⟨"java/util/List", "get", "(I)Ljava/lang/Object;"⟩) X hR (ls_get l G w_1 (lm + 1) lm 40 mo1 Lm hI_lm_w_1 i (by omega)) pn_i_java_util_List_get_1 (hI_lm_w_1.c) (kk_face X.2 (by decide +kernel) q1575 q1574 q1579 q1577 q664) q1573 q1578 q1576 q125 q1580 ⟨by decide, by decide⟩ hl.1 (Nat.le_of_ble_eq_true rfl) dX2_balance_106 ⟨by omega, by omega⟩) hL (fun H locs hR hL => ?_)
                  refine h_castS X hR (hasC.of hm_701 rfl) q1385 dX2_balance_111 ?_
                  refine h_getN X hR hm_701 rfl in_X5 2 (by decide) q1545 rfl dX2_balance_114 ?_
                  refine h_iadd hx hb dX2_balance_117 ?_
                  refine lv_istore_n (lv' := [(3, .int (iI (sm + (mWd (mk c i))))), (0, .ref a), (1, .int (iI (((i : Nat) : Int)))), (2, .int (iI (((s + 1 : Nat) : Int))))]) hx hb dX2_balance_118 rfl hl (by decide) rfl (fun ls hl => ?_)
                  refine h_iinc (lv' := [(1, .int (iI (((i : Nat) : Int) + 1))), (3, .int (iI (sm + (mWd (mk c i))))), (0, .ref a), (2, .int (iI (((s + 1 : Nat) : Int))))]) hx hb dX2_balance_119 hl (k := 2) rfl (by decide) rfl (fun ls hl => ?_)
                  refine lv_goto (tgt := 62) hx hb dX2_balance_122 (by decide) ?_
                  exact ih_53 (i + 1) (sm + mWd (mk c i)) (by omega) (hB.step c_i (fun _ => c_w)) (by omega) (by omega) _ _ _ hR hL (lv_sub hl [2, 0, 3, 1] rfl)
          exact LOOP_53 _ (balI c s + 1) (mWd (mk c (balI c s))) (by omega) (BalP.s1 (by omega)) (by omega) (Nat.lt_succ_self _) _ _ _ hR hL (lv_sub hl [2, 0, 3, 1] rfl)
  have hl : lv_has ls 4 [(2, .int (iI (1))), (1, .int (iI (((balI c 0 : Nat) : Int)))), (0, .ref a)] := lv_conv hl (congrArg (fun z_ : Int => ([(2, .int (iI (1))), (1, .int (iI (z_))), (0, .ref a)] : List (Nat × Value))) (show (0 : Int) = ((balI c 0 : Nat) : Int) from (by rfl)))
  exact LOOP_2 _ 0 fb w (Nat.zero_le _) (fun j_ hj_ => (hbx j_ hj_).trans (if_neg (by omega)).symm) hCt hac hso hlm hlr hhm hmk hru hmp hbd hU (Nat.lt_succ_self _) _ _ _ hR hL (lv_sub hl [2, 1, 0] rfl)
