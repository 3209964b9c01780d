/-! the component: ranks, shelves, sums -/
set_option maxRecDepth 100000
theorem endA_s (c : Cat) (s : Int) (last : Prop) [Decidable last] (k : Nat) : endA c s last (k + 1) = if onB c k s = true ∧ (last ∨ endA c s last k = -1) then mId (mk c k) else endA c s last k := rfl
theorem shN_dn {c : Cat} {v : Int} {k : Nat} (hk : 0 < k) (h : ¬ bd c k ≤ v) : shN c v (k - 1) = shN c v k := by
  obtain ⟨j, rfl⟩ : ∃ j, k = j + 1 := ⟨k - 1, by omega⟩
  show shN c v j = if bd c (j + 1) ≤ v then j + 1 else shN c v j
  rw [if_neg h]

theorem pn_yX2_overOn : ParN yX2_overOn 1 := by decide +kernel
theorem pn_yX2_rankFor : ParN yX2_rankFor 1 := by decide +kernel
theorem pn_yX2_shelfOf : ParN yX2_shelfOf 1 := by decide +kernel
theorem pn_yX2_widthOn : ParN yX2_widthOn 1 := by decide +kernel
theorem pn_yX3_compare : ParN yX3_compare 2 := by decide +kernel
theorem pn_i_java_util_Comparator_compare_2 : ParN ⟨"java/util/Comparator", "compare", "(Ljava/lang/Object;Ljava/lang/Object;)I"⟩ 2 := by decide +kernel

set_option maxHeartbeats 4000000 in
set_option maxRecDepth 100000 in
/-- SpokenMarks$Catalogue.rankOf -/
theorem ct_rkOf (l : Launch) (G : Gl) (w : Wd) (a lm lr hm : Nat) (c : Cat) (hC : CatAt G w a lm lr hm c) (hS : CatS c) (id : Int) (h1 : R32 id) : HM l yX2_rankOf cX2_rankOf 3 (some .int) 4 0 0 G [.ref a, .int (iI (id))] w (QI G (fun z_ w_ => z_ = rkOf c id ∧ w_ = w)) := by
  refine HM.mk (by decide +kernel) (Nat.le_of_ble_eq_true rfl) ?_
  intro p9 e9 s9 m9 a9 b9 meth9 c9 ls X hret hlk hnm hl H hR
  have hx := X.1.1
  have hb := X.1.2.1
  have hl : lv_has ls 3 [(0, .ref a), (1, .int (iI (id)))] := hl
  have hL : LK G [] := fun q h => absurd h List.not_mem_nil
  generalize ([] : List Loc) = locs at hL ⊢
  have hC0 := hC
  obtain ⟨bda, aca, so, fb, fa, Lm, Lr, mp, hCt, ⟨hbd, hbx⟩, ⟨hac, hax⟩, hso, ⟨⟨mo1, hm1, hlm⟩, hmk, hnd⟩, ⟨⟨mo2, hm2, hlr⟩, hru⟩, ⟨hhm, hmp⟩, hrd, hid, hba, hll⟩ := hC
  have hCt : w a = some (a + 1, oE 2 [.int (iI (cSh c)), .int (iI (cRm c)), .ref bda, .ref lm, .ref lr, .ref hm, .ref so, .ref aca, .int (iI (cNx c))]) := hCt
  have s1 := hS.1
  have s2 := hS.2.1
  have s3 := hS.2.2.1
  have s4 := hS.2.2.2.1.1
  have hRW := hS.2.2.2.2.1
  have s5 := hRW.1
  have s6 := hS.2.2.2.2.2
  have hml : Lm.length = cN c := hmk.1
  have hrl := hru.1
  refine h_iconst hx hb dX2_rankOf_0 ?_
  refine lv_istore_n (lv' := [(2, .int (iI (0))), (0, .ref a), (1, .int (iI (id)))]) hx hb dX2_rankOf_1 rfl hl (by decide) rfl (fun ls hl => ?_)
  have LOOP_1 : ∀ (N_ : Nat) (k : Nat), (k ≤ cN c) → (∀ j, j < k → mId (mk c j) ≠ id) → (42 - k) < N_ → ∀ (H : Heap) (locs : List Loc) (ls : Array Slot), Rp G w H → LK G locs → lv_has ls 3 [(0, .ref a), (1, .int (iI (id))), (2, .int (iI ((k : Int))))] → W p9 l e9 (rmk 4 0 0) s9 m9 a9 b9 meth9 c9 H locs 0 0 (MQ b9 (QI G (fun z_ w_ => z_ = rkOf c id ∧ w_ = w)) a9 s9 0 0 (frG G)) (F0 m9 2 ls []) := by
    intro N_
    induction N_ with
    | zero => intro _ _ _ h_; exact absurd h_ (Nat.not_lt_zero _)
    | succ N_ ih_ =>
      intro k hk hn hN_ H locs ls hR hL hl
      have ih_1 := ih_
      clear ih_
      refine lv_iload_n hx hb dX2_rankOf_2 rfl (lv_at hl 2 rfl) ?_
      refine lv_aload_n hx hb dX2_rankOf_3 rfl (lv_at hl 0 rfl) ?_
      refine h_get X hR hCt rfl in_X2 3 (by decide) q597 rfl dX2_rankOf_4 ?_
      -- call java/util/ArrayList.size
      refine h_k5Ip (h_runF (x := ⟨"java/util/List", "size", "()I"⟩) X hR (ls_size l G w (lm + 1) lm 40 mo1 Lm hlm) pn_i_java_util_List_size_0 (hlm.c) (kk_face X.2 (by decide +kernel) q1566 q1565 q1570 q1568 q664) q1564 q1569 q1567 q125 q1571 ⟨by decide, by decide⟩ hl.1 (Nat.le_of_ble_eq_true rfl) dX2_rankOf_7 ⟨by omega, by omega⟩) hL (fun H locs hR hL => ?_)
      refine W.eq (g2 := F0 m9 12 ls [.int (iI ((cN c : Int))), .int (iI ((k : Int)))]) (congrArg (fun z_ : Int => F0 m9 12 ls [.int (iI (z_)), .int (iI ((k : Int)))]) (show ((Lm.length : Int) : Int) = (cN c : Int) from (by rw [hml]))) ?_
      refine h_icmp_ge hx hb 41 dX2_rankOf_12 (by decide) (by omega) (by omega) (fun c_k => ?_) (fun c_k => ?_)
      ·
        refine lv_iload_n hx hb dX2_rankOf_41 rfl (lv_at hl 2 rfl) ?_
        refine lv_aload_n hx hb dX2_rankOf_42 rfl (lv_at hl 0 rfl) ?_
        refine h_get X hR hCt rfl in_X2 3 (by decide) q597 rfl dX2_rankOf_43 ?_
        -- call java/util/ArrayList.size
        refine h_k5Ip (h_runF (x := ⟨"java/util/List", "size", "()I"⟩) X hR (ls_size l G w (lm + 1) lm 40 mo1 Lm hlm) pn_i_java_util_List_size_0 (hlm.c) (kk_face X.2 (by decide +kernel) q1566 q1565 q1570 q1568 q664) q1564 q1569 q1567 q125 q1571 ⟨by decide, by decide⟩ hl.1 (Nat.le_of_ble_eq_true rfl) dX2_rankOf_46 ⟨by omega, by omega⟩) hL (fun H locs hR hL => ?_)
        refine W.eq (g2 := F0 m9 51 ls [.int (iI ((cN c : Int))), .int (iI ((k : Int)))]) (congrArg (fun z_ : Int => F0 m9 51 ls [.int (iI (z_)), .int (iI ((k : Int)))]) (show ((Lm.length : Int) : Int) = (cN c : Int) from (by rw [hml]))) ?_
        refine h_icmp_ge hx hb 58 dX2_rankOf_51 (by decide) (by omega) (by omega) (fun c_z => ?_) (fun c_z => ?_)
        ·
          refine h_iconst hx hb dX2_rankOf_58 ?_
          exact h_ireturn hx hb hlk hret hR hL rfl ⟨by first | exact (fstN_eq (P := fun k_ => mId (mk c k_) = id) (by omega) c_e hn).symm | exact absurd c_k (by omega) | exact (fstN_no (P := fun k_ => mId (mk c k_) = id) (fun j hj => hn j (by omega))).symm | (exfalso; omega), rfl⟩ (by omega) (by omega) rfl rfl dX2_rankOf_59
        ·
          refine lv_iload_n hx hb dX2_rankOf_54 rfl (lv_at hl 2 rfl) ?_
          refine lv_goto (tgt := 59) hx hb dX2_rankOf_55 (by decide) ?_
          exact h_ireturn hx hb hlk hret hR hL rfl ⟨by first | exact (fstN_eq (P := fun k_ => mId (mk c k_) = id) (by omega) c_e hn).symm | exact absurd c_k (by omega) | exact (fstN_no (P := fun k_ => mId (mk c k_) = id) (fun j hj => hn j (by omega))).symm | (exfalso; omega), rfl⟩ (by omega) (by omega) rfl rfl dX2_rankOf_59
      ·
        refine lv_aload_n hx hb dX2_rankOf_15 rfl (lv_at hl 0 rfl) ?_
        refine h_get X hR hCt rfl in_X2 3 (by decide) q597 rfl dX2_rankOf_16 ?_
        refine lv_iload_n hx hb dX2_rankOf_19 rfl (lv_at hl 2 rfl) ?_
        -- call java/util/ArrayList.get
        refine h_k5Rp (h_runF (x := ⟨"java/util/List", "get", "(I)Ljava/lang/Object;"⟩) X hR (ls_get l G w (lm + 1) lm 40 mo1 Lm hlm k (by omega)) pn_i_java_util_List_get_1 (hlm.c) (kk_face X.2 (by decide +kernel) q1575 q1574 q1579 q1577 q664) q1573 q1578 q1576 q125 q1580 ⟨by decide, by decide⟩ hl.1 (Nat.le_of_ble_eq_true rfl) dX2_rankOf_20 ⟨by omega, by omega⟩) hL (fun H locs hR hL => ?_)
        have hm_11 : MkAt G (cRl c) w (a + 1) (Lm.getD k 0) (mk c k) := MksAt.g hmk (show k < cN c by omega)
        have hm_11w := hS.mw (k := k) (by omega)
        have hm_11p := hS.pw (k := k) (by omega)
        have hm_11r := hm_11w.1
        have hm_11r2 := hm_11w.2.2
        obtain ⟨pl_12, hm_111, hm_112⟩ := hm_11
        refine h_castS X hR (hasC.of hm_111 rfl) q1385 dX2_rankOf_25 ?_
        refine h_getN X hR hm_111 rfl in_X5 0 (by decide) q1537 rfl dX2_rankOf_28 ?_
        refine lv_iload_n hx hb dX2_rankOf_31 rfl (lv_at hl 1 rfl) ?_
        refine h_icmp_eq hx hb 41 dX2_rankOf_32 (by decide) (by omega) (by omega) (fun c_e => ?_) (fun c_e => ?_)
        ·
          refine lv_iload_n hx hb dX2_rankOf_41 rfl (lv_at hl 2 rfl) ?_
          refine lv_aload_n hx hb dX2_rankOf_42 rfl (lv_at hl 0 rfl) ?_
          refine h_get X hR hCt rfl in_X2 3 (by decide) q597 rfl dX2_rankOf_43 ?_
          -- call java/util/ArrayList.size
          refine h_k5Ip (h_runF (x := ⟨"java/util/List", "size", "()I"⟩) X hR (ls_size l G w (lm + 1) lm 40 mo1 Lm hlm) pn_i_java_util_List_size_0 (hlm.c) (kk_face X.2 (by decide +kernel) q1566 q1565 q1570 q1568 q664) q1564 q1569 q1567 q125 q1571 ⟨by decide, by decide⟩ hl.1 (Nat.le_of_ble_eq_true rfl) dX2_rankOf_46 ⟨by omega, by omega⟩) hL (fun H locs hR hL => ?_)
          refine W.eq (g2 := F0 m9 51 ls [.int (iI ((cN c : Int))), .int (iI ((k : Int)))]) (congrArg (fun z_ : Int => F0 m9 51 ls [.int (iI (z_)), .int (iI ((k : Int)))]) (show ((Lm.length : Int) : Int) = (cN c : Int) from (by rw [hml]))) ?_
          refine h_icmp_ge hx hb 58 dX2_rankOf_51 (by decide) (by omega) (by omega) (fun c_z => ?_) (fun c_z => ?_)
          ·
            refine h_iconst hx hb dX2_rankOf_58 ?_
            exact h_ireturn hx hb hlk hret hR hL rfl ⟨by first | exact (fstN_eq (P := fun k_ => mId (mk c k_) = id) (by omega) c_e hn).symm | exact absurd c_k (by omega) | exact (fstN_no (P := fun k_ => mId (mk c k_) = id) (fun j hj => hn j (by omega))).symm | (exfalso; omega), rfl⟩ (by omega) (by omega) rfl rfl dX2_rankOf_59
          ·
            refine lv_iload_n hx hb dX2_rankOf_54 rfl (lv_at hl 2 rfl) ?_
            refine lv_goto (tgt := 59) hx hb dX2_rankOf_55 (by decide) ?_
            exact h_ireturn hx hb hlk hret hR hL rfl ⟨by first | exact (fstN_eq (P := fun k_ => mId (mk c k_) = id) (by omega) c_e hn).symm | exact absurd c_k (by omega) | exact (fstN_no (P := fun k_ => mId (mk c k_) = id) (fun j hj => hn j (by omega))).symm | (exfalso; omega), rfl⟩ (by omega) (by omega) rfl rfl dX2_rankOf_59
        ·
          refine h_iinc (lv' := [(2, .int (iI ((k : Int) + 1))), (0, .ref a), (1, .int (iI (id)))]) hx hb dX2_rankOf_35 hl (k := 2) rfl (by decide) rfl (fun ls hl => ?_)
          refine lv_goto (tgt := 2) hx hb dX2_rankOf_38 (by decide) ?_
          exact ih_1 (k + 1) (by omega) (fun j hj => by by_cases q_ : j = k; (subst q_; exact c_e); exact hn j (by omega)) (by omega) _ _ _ hR hL (lv_sub hl [1, 2, 0] rfl)
  exact LOOP_1 _ 0 (Nat.zero_le _) (fun j hj => absurd hj (Nat.not_lt_zero _)) (Nat.lt_succ_self _) _ _ _ hR hL (lv_sub hl [1, 2, 0] rfl)

set_option maxHeartbeats 4000000 in
set_option maxRecDepth 100000 in
/-- SpokenMarks$Catalogue.rankFor -/
theorem ct_rkF (l : Launch) (G : Gl) (w : Wd) (a lm lr hm : Nat) (c : Cat) (hC : CatAt G w a lm lr hm c) (hS : CatS c) (b rb : Nat) (m1 : Mrk) (hM : MkAt G (cRl c) w rb b m1) (hP : PrtsW (mPs m1)) : HM l yX2_rankFor cX2_rankFor 3 (some .int) 14 0 0 G [.ref a, .ref b] w (QI G (fun z_ w_ => z_ = (rkF c (mPs m1) : Int) ∧ w_ = w)) := by
  refine HM.mk (by decide +kernel) (Nat.le_of_ble_eq_true rfl) ?_
  intro p9 e9 s9 m9 a9 b9 meth9 c9 ls X hret hlk hnm hl H hR
  have hx := X.1.1
  have hb := X.1.2.1
  have hl : lv_has ls 3 [(0, .ref a), (1, .ref b)] := hl
  have hL : LK G [] := fun q h => absurd h List.not_mem_nil
  generalize ([] : List Loc) = locs at hL ⊢
  have hC0 := hC
  obtain ⟨bda, aca, so, fb, fa, Lm, Lr, mp, hCt, ⟨hbd, hbx⟩, ⟨hac, hax⟩, hso, ⟨⟨mo1, hm1, hlm⟩, hmk, hnd⟩, ⟨⟨mo2, hm2, hlr⟩, hru⟩, ⟨hhm, hmp⟩, hrd, hid, hba, hll⟩ := hC
  have hCt : w a = some (a + 1, oE 2 [.int (iI (cSh c)), .int (iI (cRm c)), .ref bda, .ref lm, .ref lr, .ref hm, .ref so, .ref aca, .int (iI (cNx c))]) := hCt
  have s1 := hS.1
  have s2 := hS.2.1
  have s3 := hS.2.2.1
  have s4 := hS.2.2.2.1.1
  have hRW := hS.2.2.2.2.1
  have s5 := hRW.1
  have s6 := hS.2.2.2.2.2
  have hml : Lm.length = cN c := hmk.1
  have hrl := hru.1
  refine h_iconst hx hb dX2_rankFor_0 ?_
  refine lv_istore_n (lv' := [(2, .int (iI (0))), (0, .ref a), (1, .ref b)]) hx hb dX2_rankFor_1 rfl hl (by decide) rfl (fun ls hl => ?_)
  have LOOP_1 : ∀ (N_ : Nat) (k : Nat), (k ≤ cN c) → (∀ j, j < k → cmpM (cRl c) (mPs (mk c j)) (mPs m1) < 0) → (42 - k) < N_ → ∀ (H : Heap) (locs : List Loc) (ls : Array Slot), Rp G w H → LK G locs → lv_has ls 3 [(0, .ref a), (1, .ref b), (2, .int (iI ((k : Int))))] → W p9 l e9 (rmk 14 0 0) s9 m9 a9 b9 meth9 c9 H locs 0 0 (MQ b9 (QI G (fun z_ w_ => z_ = (rkF c (mPs m1) : Int) ∧ w_ = w)) a9 s9 0 0 (frG G)) (F0 m9 2 ls []) := by
    intro N_
    induction N_ with
    | zero => intro _ _ _ h_; exact absurd h_ (Nat.not_lt_zero _)
    | succ N_ ih_ =>
      intro k hk hn hN_ H locs ls hR hL hl
      have ih_1 := ih_
      clear ih_
      refine lv_iload_n hx hb dX2_rankFor_2 rfl (lv_at hl 2 rfl) ?_
      refine lv_aload_n hx hb dX2_rankFor_3 rfl (lv_at hl 0 rfl) ?_
      refine h_get X hR hCt rfl in_X2 3 (by decide) q597 rfl dX2_rankFor_4 ?_
      -- call java/util/ArrayList.size
      refine h_k5Ip (h_runF (x := ⟨"java/util/List", "size", "()I"⟩) X hR (ls_size l G w (lm + 1) lm 40 mo1 Lm hlm) pn_i_java_util_List_size_0 (hlm.c) (kk_face X.2 (by decide +kernel) q1566 q1565 q1570 q1568 q664) q1564 q1569 q1567 q125 q1571 ⟨by decide, by decide⟩ hl.1 (Nat.le_of_ble_eq_true rfl) dX2_rankFor_7 ⟨by omega, by omega⟩) hL (fun H locs hR hL => ?_)
      refine W.eq (g2 := F0 m9 12 ls [.int (iI ((cN c : Int))), .int (iI ((k : Int)))]) (congrArg (fun z_ : Int => F0 m9 12 ls [.int (iI (z_)), .int (iI ((k : Int)))]) (show ((Lm.length : Int) : Int) = (cN c : Int) from (by rw [hml]))) ?_
      refine h_icmp_ge hx hb 47 dX2_rankFor_12 (by decide) (by omega) (by omega) (fun c_k => ?_) (fun c_k => ?_)
      ·
        refine lv_iload_n hx hb dX2_rankFor_47 rfl (lv_at hl 2 rfl) ?_
        exact h_ireturn hx hb hlk hret hR hL rfl ⟨by rw [show rkF c (mPs m1) = k from runN_eq hk hn (by first | exact Or.inl (by omega) | exact Or.inr (by omega))], rfl⟩ (by omega) (by omega) rfl rfl dX2_rankFor_48
      ·
        refine lv_aload_n hx hb dX2_rankFor_15 rfl (lv_at hl 0 rfl) ?_
        refine h_get X hR hCt rfl in_X2 6 (by decide) q609 rfl dX2_rankFor_16 ?_
        refine lv_aload_n hx hb dX2_rankFor_19 rfl (lv_at hl 0 rfl) ?_
        refine h_get X hR hCt rfl in_X2 3 (by decide) q597 rfl dX2_rankFor_20 ?_
        refine lv_iload_n hx hb dX2_rankFor_23 rfl (lv_at hl 2 rfl) ?_
        -- call java/util/ArrayList.get
        refine h_k5Rp (h_runF (x := ⟨"java/util/List", "get", "(I)Ljava/lang/Object;"⟩) X hR (ls_get l G w (lm + 1) lm 40 mo1 Lm hlm k (by omega)) pn_i_java_util_List_get_1 (hlm.c) (kk_face X.2 (by decide +kernel) q1575 q1574 q1579 q1577 q664) q1573 q1578 q1576 q125 q1580 ⟨by decide, by decide⟩ hl.1 (Nat.le_of_ble_eq_true rfl) dX2_rankFor_24 ⟨by omega, by omega⟩) hL (fun H locs hR hL => ?_)
        have hm_8 : MkAt G (cRl c) w (a + 1) (Lm.getD k 0) (mk c k) := MksAt.g hmk (show k < cN c by omega)
        have hm_8w := hS.mw (k := k) (by omega)
        have hm_8p := hS.pw (k := k) (by omega)
        refine h_castS X hR (hm_8.c) q1385 dX2_rankFor_29 ?_
        refine lv_aload_n hx hb dX2_rankFor_32 rfl (lv_at hl 1 rfl) ?_
        -- call SpokenMarks$Spoken.compare
        refine h_k5Ip (h_runF (x := ⟨"java/util/Comparator", "compare", "(Ljava/lang/Object;Ljava/lang/Object;)I"⟩) X hR (sp_cmpO l G w so hso (Lm.getD k 0) b (a + 1) rb (cRl c) (mk c k) m1 hm_8 hM hRW (hS.pw (by omega)) hP) pn_i_java_util_Comparator_compare_2 (hasC.of hso rfl) (kk_face X.2 (by decide +kernel) q1592 q1591 q1597 q1595 q1593) q1590 q1596 q1594 q144 q1598 ⟨by decide, by decide⟩ hl.1 (Nat.le_of_ble_eq_true rfl) dX2_rankFor_33 ⟨by omega, by omega⟩) hL (fun H locs hR hL => ?_)
        have hsp := spM_enc hRW (hS.pw (k := k) (by omega)) hP
        refine h_if_ge hx hb 47 dX2_rankFor_38 (by decide) (by omega) (fun c_e => ?_) (fun c_e => ?_)
        ·
          refine lv_iload_n hx hb dX2_rankFor_47 rfl (lv_at hl 2 rfl) ?_
          exact h_ireturn hx hb hlk hret hR hL rfl ⟨by rw [show rkF c (mPs m1) = k from runN_eq hk hn (by first | exact Or.inl (by omega) | exact Or.inr (by omega))], rfl⟩ (by omega) (by omega) rfl rfl dX2_rankFor_48
        ·
          refine h_iinc (lv' := [(2, .int (iI ((k : Int) + 1))), (0, .ref a), (1, .ref b)]) hx hb dX2_rankFor_41 hl (k := 2) rfl (by decide) rfl (fun ls hl => ?_)
          refine lv_goto (tgt := 2) hx hb dX2_rankFor_44 (by decide) ?_
          exact ih_1 (k + 1) (by omega) (fun j hj => by by_cases q_ : j = k; (subst q_; omega); exact hn j (by omega)) (by omega) _ _ _ hR hL (lv_sub hl [1, 2, 0] rfl)
  exact LOOP_1 _ 0 (Nat.zero_le _) (fun j hj => absurd hj (Nat.not_lt_zero _)) (Nat.lt_succ_self _) _ _ _ hR hL (lv_sub hl [1, 2, 0] rfl)

set_option maxHeartbeats 4000000 in
set_option maxRecDepth 100000 in
/-- SpokenMarks$Catalogue.isThere -/
theorem ct_isTh (l : Launch) (G : Gl) (w : Wd) (a lm lr hm : Nat) (c : Cat) (hC : CatAt G w a lm lr hm c) (hS : CatS c) (b rb : Nat) (m1 : Mrk) (hM : MkAt G (cRl c) w rb b m1) (hP : PrtsW (mPs m1)) : HM l yX2_isThere cX2_isThere 3 (some .boolean) 15 0 0 G [.ref a, .ref b] w (QI G (fun z_ w_ => z_ = b2i (twinN c (mPs m1) ≠ -1) ∧ w_ = w)) := by
  refine HM.mk (by decide +kernel) (Nat.le_of_ble_eq_true rfl) ?_
  intro p9 e9 s9 m9 a9 b9 meth9 c9 ls X hret hlk hnm hl H hR
  have hx := X.1.1
  have hb := X.1.2.1
  have hl : lv_has ls 3 [(0, .ref a), (1, .ref b)] := hl
  have hL : LK G [] := fun q h => absurd h List.not_mem_nil
  generalize ([] : List Loc) = locs at hL ⊢
  have hC0 := hC
  obtain ⟨bda, aca, so, fb, fa, Lm, Lr, mp, hCt, ⟨hbd, hbx⟩, ⟨hac, hax⟩, hso, ⟨⟨mo1, hm1, hlm⟩, hmk, hnd⟩, ⟨⟨mo2, hm2, hlr⟩, hru⟩, ⟨hhm, hmp⟩, hrd, hid, hba, hll⟩ := hC
  have hCt : w a = some (a + 1, oE 2 [.int (iI (cSh c)), .int (iI (cRm c)), .ref bda, .ref lm, .ref lr, .ref hm, .ref so, .ref aca, .int (iI (cNx c))]) := hCt
  have s1 := hS.1
  have s2 := hS.2.1
  have s3 := hS.2.2.1
  have s4 := hS.2.2.2.1.1
  have hRW := hS.2.2.2.2.1
  have s5 := hRW.1
  have s6 := hS.2.2.2.2.2
  have hml : Lm.length = cN c := hmk.1
  have hrl := hru.1
  have hrk := rkF_le c (mPs m1)
  refine lv_aload_n hx hb dX2_isThere_0 rfl (lv_at hl 0 rfl) ?_
  refine lv_aload_n hx hb dX2_isThere_1 rfl (lv_at hl 1 rfl) ?_
  -- call SpokenMarks$Catalogue.rankFor
  refine h_kIp (h_runV X hR (ct_rkF l G w a lm lr hm c hC0 hS b rb m1 hM hP) pn_yX2_rankFor (hC0.c) q1559 q1560 q1561 q123 q1562 ⟨by decide, by decide⟩ hl.1 (Nat.le_of_ble_eq_true rfl) dX2_isThere_2 ⟨by omega, by omega⟩) hL (fun H locs hR hL => ?_)
  refine lv_istore_n (lv' := [(2, .int (iI ((rkF c (mPs m1) : Int)))), (0, .ref a), (1, .ref b)]) hx hb dX2_isThere_5 rfl hl (by decide) rfl (fun ls hl => ?_)
  refine lv_iload_n hx hb dX2_isThere_6 rfl (lv_at hl 0 rfl) ?_
  refine lv_aload_n hx hb dX2_isThere_7 rfl (lv_at hl 1 rfl) ?_
  refine h_get X hR hCt rfl in_X2 3 (by decide) q597 rfl dX2_isThere_8 ?_
  -- call java/util/ArrayList.size
  refine h_k5Ip (h_runF (x := ⟨"java/util/List", "size", "()I"⟩) X hR (ls_size l G w (lm + 1) lm 40 mo1 Lm hlm) pn_i_java_util_List_size_0 (hlm.c) (kk_face X.2 (by decide +kernel) q1566 q1565 q1570 q1568 q664) q1564 q1569 q1567 q125 q1571 ⟨by decide, by decide⟩ hl.1 (Nat.le_of_ble_eq_true rfl) dX2_isThere_11 ⟨by omega, by omega⟩) hL (fun H locs hR hL => ?_)
  refine W.eq (g2 := F0 m9 16 ls [.int (iI ((cN c : Int))), .int (iI ((rkF c (mPs m1) : Int)))]) (congrArg (fun z_ : Int => F0 m9 16 ls [.int (iI (z_)), .int (iI ((rkF c (mPs m1) : Int)))]) (show ((Lm.length : Int) : Int) = (cN c : Int) from (by rw [hml]))) ?_
  refine h_icmp_ge hx hb 49 dX2_isThere_16 (by decide) (by omega) (by omega) (fun c_k => ?_) (fun c_k => ?_)
  ·
    refine h_iconst hx hb dX2_isThere_49 ?_
    exact h_ireturn hx hb hlk hret hR hL (nar01 (by omega)) ⟨by first | exact (b2i_t (p := twinN c (mPs m1) ≠ -1) (fun q_ => by unfold twinN at q_; rw [if_pos ⟨by omega, by omega⟩] at q_; omega)).symm | exact (b2i_f (p := twinN c (mPs m1) ≠ -1) (fun q_ => q_ (by unfold twinN; rw [if_neg (fun z_ => by first | omega | exact absurd z_.2 (by omega))]))).symm, rfl⟩ (by omega) (by omega) rfl rfl dX2_isThere_50
  ·
    refine lv_aload_n hx hb dX2_isThere_19 rfl (lv_at hl 1 rfl) ?_
    refine h_get X hR hCt rfl in_X2 6 (by decide) q609 rfl dX2_isThere_20 ?_
    refine lv_aload_n hx hb dX2_isThere_23 rfl (lv_at hl 1 rfl) ?_
    refine h_get X hR hCt rfl in_X2 3 (by decide) q597 rfl dX2_isThere_24 ?_
    refine lv_iload_n hx hb dX2_isThere_27 rfl (lv_at hl 0 rfl) ?_
    -- call java/util/ArrayList.get
    refine h_k5Rp (h_runF (x := ⟨"java/util/List", "get", "(I)Ljava/lang/Object;"⟩) X hR (ls_get l G w (lm + 1) lm 40 mo1 Lm hlm (rkF c (mPs m1)) (by omega)) pn_i_java_util_List_get_1 (hlm.c) (kk_face X.2 (by decide +kernel) q1575 q1574 q1579 q1577 q664) q1573 q1578 q1576 q125 q1580 ⟨by decide, by decide⟩ hl.1 (Nat.le_of_ble_eq_true rfl) dX2_isThere_28 ⟨by omega, by omega⟩) hL (fun H locs hR hL => ?_)
    have hm_10 : MkAt G (cRl c) w (a + 1) (Lm.getD (rkF c (mPs m1)) 0) (mk c (rkF c (mPs m1))) := MksAt.g hmk (show (rkF c (mPs m1)) < cN c by omega)
    have hm_10w := hS.mw (k := rkF c (mPs m1)) (by omega)
    have hm_10p := hS.pw (k := rkF c (mPs m1)) (by omega)
    refine h_castS X hR (hm_10.c) q1385 dX2_isThere_33 ?_
    refine lv_aload_n hx hb dX2_isThere_36 rfl (lv_at hl 2 rfl) ?_
    -- call SpokenMarks$Spoken.compare
    refine h_k5Ip (h_runF (x := ⟨"java/util/Comparator", "compare", "(Ljava/lang/Object;Ljava/lang/Object;)I"⟩) X hR (sp_cmpO l G w so hso (Lm.getD (rkF c (mPs m1)) 0) b (a + 1) rb (cRl c) (mk c (rkF c (mPs m1))) m1 hm_10 hM hRW (hS.pw (by omega)) hP) pn_i_java_util_Comparator_compare_2 (hasC.of hso rfl) (kk_face X.2 (by decide +kernel) q1592 q1591 q1597 q1595 q1593) q1590 q1596 q1594 q144 q1598 ⟨by decide, by decide⟩ hl.1 (Nat.le_of_ble_eq_true rfl) dX2_isThere_37 ⟨by omega, by omega⟩) hL (fun H locs hR hL => ?_)
    have hsp := spM_enc hRW (hS.pw (k := rkF c (mPs m1)) (by omega)) hP
    refine h_if_ne hx hb 49 dX2_isThere_42 (by decide) (by omega) (fun c_e => ?_) (fun c_e => ?_)
    ·
      refine h_iconst hx hb dX2_isThere_49 ?_
      exact h_ireturn hx hb hlk hret hR hL (nar01 (by omega)) ⟨by first | exact (b2i_t (p := twinN c (mPs m1) ≠ -1) (fun q_ => by unfold twinN at q_; rw [if_pos ⟨by omega, by omega⟩] at q_; omega)).symm | exact (b2i_f (p := twinN c (mPs m1) ≠ -1) (fun q_ => q_ (by unfold twinN; rw [if_neg (fun z_ => by first | omega | exact absurd z_.2 (by omega))]))).symm, rfl⟩ (by omega) (by omega) rfl rfl dX2_isThere_50
    ·
      refine h_iconst hx hb dX2_isThere_45 ?_
      refine lv_goto (tgt := 50) hx hb dX2_isThere_46 (by decide) ?_
      exact h_ireturn hx hb hlk hret hR hL (nar01 (by omega)) ⟨by first | exact (b2i_t (p := twinN c (mPs m1) ≠ -1) (fun q_ => by unfold twinN at q_; rw [if_pos ⟨by omega, by omega⟩] at q_; omega)).symm | exact (b2i_f (p := twinN c (mPs m1) ≠ -1) (fun q_ => q_ (by unfold twinN; rw [if_neg (fun z_ => by first | omega | exact absurd z_.2 (by omega))]))).symm, rfl⟩ (by omega) (by omega) rfl rfl dX2_isThere_50

theorem shN_at {c : Cat} {v : Int} {k : Nat} (h : bd c k ≤ v) : shN c v k = k := by
  cases k with
  | zero => rfl
  | succ k => unfold shN; rw [if_pos h]

set_option maxHeartbeats 4000000 in
set_option maxRecDepth 100000 in
/-- SpokenMarks$Catalogue.shelfOf -/
theorem ct_shO (l : Launch) (G : Gl) (w : Wd) (a lm lr hm : Nat) (c : Cat) (hC : CatAt G w a lm lr hm c) (hS : CatS c) (v : Int) (h1 : R32 v) (h0 : bd c 0 ≤ v) : HM l yX2_shelfOf cX2_shelfOf 3 (some .int) 1 0 0 G [.ref a, .int (iI (v))] w (QI G (fun z_ w_ => z_ = (shO c v : Int) ∧ w_ = w)) := by
  refine HM.mk (by decide +kernel) (Nat.le_of_ble_eq_true rfl) ?_
  intro p9 e9 s9 m9 a9 b9 meth9 c9 ls X hret hlk hnm hl H hR
  have hx := X.1.1
  have hb := X.1.2.1
  have hl : lv_has ls 3 [(0, .ref a), (1, .int (iI (v)))] := hl
  have hL : LK G [] := fun q h => absurd h List.not_mem_nil
  generalize ([] : List Loc) = locs at hL ⊢
  have hC0 := hC
  obtain ⟨bda, aca, so, fb, fa, Lm, Lr, mp, hCt, ⟨hbd, hbx⟩, ⟨hac, hax⟩, hso, ⟨⟨mo1, hm1, hlm⟩, hmk, hnd⟩, ⟨⟨mo2, hm2, hlr⟩, hru⟩, ⟨hhm, hmp⟩, hrd, hid, hba, hll⟩ := hC
  have hCt : w a = some (a + 1, oE 2 [.int (iI (cSh c)), .int (iI (cRm c)), .ref bda, .ref lm, .ref lr, .ref hm, .ref so, .ref aca, .int (iI (cNx c))]) := hCt
  have s1 := hS.1
  have s2 := hS.2.1
  have s3 := hS.2.2.1
  have s4 := hS.2.2.2.1.1
  have hRW := hS.2.2.2.2.1
  have s5 := hRW.1
  have s6 := hS.2.2.2.2.2
  have hml : Lm.length = cN c := hmk.1
  have hrl := hru.1
  refine lv_aload_n hx hb dX2_shelfOf_0 rfl (lv_at hl 0 rfl) ?_
  refine h_get X hR hCt rfl in_X2 0 (by decide) q589 rfl dX2_shelfOf_1 ?_
  refine h_iconst hx hb dX2_shelfOf_4 ?_
  refine h_isub hx hb dX2_shelfOf_5 ?_
  refine W.eq (g2 := F0 m9 6 ls [.int (iI ((((cSh c).toNat - 1 : Nat) : Int)))]) (congrArg (fun z_ : Int => F0 m9 6 ls [.int (iI (z_))]) (show ((cSh c) - 1 : Int) = (((cSh c).toNat - 1 : Nat) : Int) from (by omega))) ?_
  refine lv_istore_n (lv' := [(2, .int (iI ((((cSh c).toNat - 1 : Nat) : Int)))), (0, .ref a), (1, .int (iI (v)))]) hx hb dX2_shelfOf_6 rfl hl (by decide) rfl (fun ls hl => ?_)
  have LOOP_1 : ∀ (N_ : Nat) (k : Nat), (k < (cSh c).toNat) → (shN c v k = shO c v) → (k + 1) < N_ → ∀ (H : Heap) (locs : List Loc) (ls : Array Slot), Rp G w H → LK G locs → lv_has ls 3 [(0, .ref a), (1, .int (iI (v))), (2, .int (iI ((k : Int))))] → W p9 l e9 (rmk 1 0 0) s9 m9 a9 b9 meth9 c9 H locs 0 0 (MQ b9 (QI G (fun z_ w_ => z_ = (shO c v : Int) ∧ w_ = w)) a9 s9 0 0 (frG G)) (F0 m9 7 ls []) := by
    intro N_
    induction N_ with
    | zero => intro _ _ _ h_; exact absurd h_ (Nat.not_lt_zero _)
    | succ N_ ih_ =>
      intro k hk hn hN_ H locs ls hR hL hl
      have ih_1 := ih_
      clear ih_
      refine lv_aload_n hx hb dX2_shelfOf_7 rfl (lv_at hl 0 rfl) ?_
      refine h_get X hR hCt rfl in_X2 2 (by decide) q594 rfl dX2_shelfOf_8 ?_
      refine lv_iload_n hx hb dX2_shelfOf_11 rfl (lv_at hl 2 rfl) ?_
      have hbk := s3.2 k (by omega)
      have hbe := hbx k hk
      refine h_iald X hR hbd (by omega) (by omega) dX2_shelfOf_12 ?_
      refine W.eq (g2 := F0 m9 13 ls [.int (iI (fb k))]) (congrArg (fun z_ : Int => F0 m9 13 ls [.int (iI (z_))]) (show (fb ((k : Int)).toNat : Int) = fb k from (by rw [Int.toNat_natCast]))) ?_
      refine lv_iload_n hx hb dX2_shelfOf_13 rfl (lv_at hl 1 rfl) ?_
      refine h_icmp_le hx hb 23 dX2_shelfOf_14 (by decide) (by omega) (by omega) (fun c_e => ?_) (fun c_e => ?_)
      ·
        refine lv_iload_n hx hb dX2_shelfOf_23 rfl (lv_at hl 2 rfl) ?_
        exact h_ireturn hx hb hlk hret hR hL rfl ⟨by rw [← hn, shN_at (by rw [← hbe]; exact c_e)], rfl⟩ (by omega) (by omega) rfl rfl dX2_shelfOf_24
      ·
        have hk0 : 0 < k := Nat.pos_of_ne_zero (fun q_ => by subst q_; omega)
        have hk1 : k = k - 1 + 1 := by omega
        refine h_iinc (lv' := [(2, .int (iI ((k : Int) + (-1)))), (0, .ref a), (1, .int (iI (v)))]) hx hb dX2_shelfOf_17 hl (k := 2) rfl (by decide) rfl (fun ls hl => ?_)
        have hl : lv_has ls 3 [(2, .int (iI (((k - 1 : Nat) : Int)))), (0, .ref a), (1, .int (iI (v)))] := lv_conv hl (congrArg (fun z_ : Int => ([(2, .int (iI (z_))), (0, .ref a), (1, .int (iI (v)))] : List (Nat × Value))) (show ((k : Int) + (-1) : Int) = ((k - 1 : Nat) : Int) from (by omega)))
        refine lv_goto (tgt := 7) hx hb dX2_shelfOf_20 (by decide) ?_
        exact ih_1 (k - 1) (by omega) (by rw [← hn]; exact shN_dn hk0 (by rw [← hbe]; omega)) (by omega) _ _ _ hR hL (lv_sub hl [1, 2, 0] rfl)
  exact LOOP_1 _ ((cSh c).toNat - 1) (by omega) rfl (Nat.lt_succ_self _) _ _ _ hR hL (lv_sub hl [1, 2, 0] rfl)

set_option maxHeartbeats 4000000 in
set_option maxRecDepth 100000 in
/-- SpokenMarks$Catalogue.marksOn -/
theorem ct_mkOn (l : Launch) (G : Gl) (w : Wd) (a lm lr hm : Nat) (c : Cat) (hC : CatAt G w a lm lr hm c) (hS : CatS c) (hW : CatW c) (s : Int) (hs : 0 ≤ s ∧ s < cSh c) : HM l yX2_marksOn cX2_marksOn 4 (some .int) 5 0 0 G [.ref a, .int (iI (s))] w (QI G (fun z_ w_ => z_ = mkOn c s ∧ w_ = w)) := by
  refine HM.mk (by decide +kernel) (Nat.le_of_ble_eq_true rfl) ?_
  intro p9 e9 s9 m9 a9 b9 meth9 c9 ls X hret hlk hnm hl H hR
  have hx := X.1.1
  have hb := X.1.2.1
  have hl : lv_has ls 4 [(0, .ref a), (1, .int (iI (s)))] := hl
  have hL : LK G [] := fun q h => absurd h List.not_mem_nil
  generalize ([] : List Loc) = locs at hL ⊢
  have hC0 := hC
  obtain ⟨bda, aca, so, fb, fa, Lm, Lr, mp, hCt, ⟨hbd, hbx⟩, ⟨hac, hax⟩, hso, ⟨⟨mo1, hm1, hlm⟩, hmk, hnd⟩, ⟨⟨mo2, hm2, hlr⟩, hru⟩, ⟨hhm, hmp⟩, hrd, hid, hba, hll⟩ := hC
  have hCt : w a = some (a + 1, oE 2 [.int (iI (cSh c)), .int (iI (cRm c)), .ref bda, .ref lm, .ref lr, .ref hm, .ref so, .ref aca, .int (iI (cNx c))]) := hCt
  have s1 := hS.1
  have s2 := hS.2.1
  have s3 := hS.2.2.1
  have s4 := hS.2.2.2.1.1
  have hRW := hS.2.2.2.2.1
  have s5 := hRW.1
  have s6 := hS.2.2.2.2.2
  have hml : Lm.length = cN c := hmk.1
  have hrl := hru.1
  refine h_iconst hx hb dX2_marksOn_0 ?_
  refine lv_istore_n (lv' := [(2, .int (iI (0))), (0, .ref a), (1, .int (iI (s)))]) hx hb dX2_marksOn_1 rfl hl (by decide) rfl (fun ls hl => ?_)
  refine h_iconst hx hb dX2_marksOn_2 ?_
  refine lv_istore_n (lv' := [(3, .int (iI (0))), (2, .int (iI (0))), (0, .ref a), (1, .int (iI (s)))]) hx hb dX2_marksOn_3 rfl hl (by decide) rfl (fun ls hl => ?_)
  have LOOP_1 : ∀ (N_ : Nat) (k : Nat), (k ≤ cN c) → (42 - k) < N_ → ∀ (H : Heap) (locs : List Loc) (ls : Array Slot), Rp G w H → LK G locs → lv_has ls 4 [(0, .ref a), (1, .int (iI (s))), (2, .int (iI ((sumN (fun k_ => b2i (onB c k_ s = true)) k)))), (3, .int (iI ((k : Int))))] → W p9 l e9 (rmk 5 0 0) s9 m9 a9 b9 meth9 c9 H locs 0 0 (MQ b9 (QI G (fun z_ w_ => z_ = mkOn c s ∧ w_ = w)) a9 s9 0 0 (frG G)) (F0 m9 4 ls []) := by
    intro N_
    induction N_ with
    | zero => intro _ _ h_; exact absurd h_ (Nat.not_lt_zero _)
    | succ N_ ih_ =>
      intro k hk hN_ H locs ls hR hL hl
      have ih_1 := ih_
      clear ih_
      refine lv_iload_n hx hb dX2_marksOn_4 rfl (lv_at hl 3 rfl) ?_
      refine lv_aload_n hx hb dX2_marksOn_5 rfl (lv_at hl 0 rfl) ?_
      refine h_get X hR hCt rfl in_X2 3 (by decide) q597 rfl dX2_marksOn_6 ?_
      -- call java/util/ArrayList.size
      refine h_k5Ip (h_runF (x := ⟨"java/util/List", "size", "()I"⟩) X hR (ls_size l G w (lm + 1) lm 40 mo1 Lm hlm) pn_i_java_util_List_size_0 (hlm.c) (kk_face X.2 (by decide +kernel) q1566 q1565 q1570 q1568 q664) q1564 q1569 q1567 q125 q1571 ⟨by decide, by decide⟩ hl.1 (Nat.le_of_ble_eq_true rfl) dX2_marksOn_9 ⟨by omega, by omega⟩) hL (fun H locs hR hL => ?_)
      refine W.eq (g2 := F0 m9 14 ls [.int (iI ((cN c : Int))), .int (iI ((k : Int)))]) (congrArg (fun z_ : Int => F0 m9 14 ls [.int (iI (z_)), .int (iI ((k : Int)))]) (show ((Lm.length : Int) : Int) = (cN c : Int) from (by rw [hml]))) ?_
      refine h_icmp_ge hx hb 58 dX2_marksOn_14 (by decide) (by omega) (by omega) (fun c_k => ?_) (fun c_k => ?_)
      ·
        refine lv_iload_n hx hb dX2_marksOn_58 rfl (lv_at hl 2 rfl) ?_
        exact h_ireturn hx hb hlk hret hR hL rfl ⟨by rw [show k = cN c by omega]; rfl, rfl⟩ (by omega) (by omega) rfl rfl dX2_marksOn_59
      ·
        refine lv_iload_n hx hb dX2_marksOn_17 rfl (lv_at hl 2 rfl) ?_
        refine lv_aload_n hx hb dX2_marksOn_18 rfl (lv_at hl 0 rfl) ?_
        refine lv_aload_n hx hb dX2_marksOn_19 rfl (lv_at hl 0 rfl) ?_
        refine h_get X hR hCt rfl in_X2 3 (by decide) q597 rfl dX2_marksOn_20 ?_
        refine lv_iload_n hx hb dX2_marksOn_23 rfl (lv_at hl 3 rfl) ?_
        -- call java/util/ArrayList.get
        refine h_k5Rp (h_runF (x := ⟨"java/util/List", "get", "(I)Ljava/lang/Object;"⟩) X hR (ls_get l G w (lm + 1) lm 40 mo1 Lm hlm k (by omega)) pn_i_java_util_List_get_1 (hlm.c) (kk_face X.2 (by decide +kernel) q1575 q1574 q1579 q1577 q664) q1573 q1578 q1576 q125 q1580 ⟨by decide, by decide⟩ hl.1 (Nat.le_of_ble_eq_true rfl) dX2_marksOn_24 ⟨by omega, by omega⟩) hL (fun H locs hR hL => ?_)
        have hm_8 : MkAt G (cRl c) w (a + 1) (Lm.getD k 0) (mk c k) := MksAt.g hmk (show k < cN c by omega)
        have hm_8w := hS.mw (k := k) (by omega)
        have hm_8p := hS.pw (k := k) (by omega)
        have hm_8r := hm_8w.1
        have hm_8r2 := hm_8w.2.2
        obtain ⟨pl_9, hm_81, hm_82⟩ := hm_8
        refine h_castS X hR (hasC.of hm_81 rfl) q1385 dX2_marksOn_29 ?_
        refine h_getN X hR hm_81 rfl in_X5 3 (by decide) q1548 rfl dX2_marksOn_32 ?_
        -- call SpokenMarks$Catalogue.shelfOf
        refine h_kIp (h_runV X hR (ct_shO l G w a lm lr hm c hC0 hS (mPl (mk c k)) (by omega) (by rw [hW.2.2.2.1]; omega)) pn_yX2_shelfOf (hC0.c) q1848 q1849 q1850 q123 q1851 ⟨by decide, by decide⟩ hl.1 (Nat.le_of_ble_eq_true rfl) dX2_marksOn_35 ⟨by omega, by omega⟩) hL (fun H locs hR hL => ?_)
        have hso2 := shO_r hS (mPl (mk c k))
        have hon := shO_on hW (k := k) (by omega) hs
        refine lv_iload_n hx hb dX2_marksOn_38 rfl (lv_at hl 1 rfl) ?_
        refine h_icmp_ne hx hb 46 dX2_marksOn_39 (by decide) (by omega) (by omega) (fun c_e => ?_) (fun c_e => ?_)
        ·
          refine h_iconst hx hb dX2_marksOn_46 ?_
          refine W.eq (g2 := F0 m9 47 ls [.int (iI (b2i (onB c k s = true))), .int (iI ((sumN (fun k_ => b2i (onB c k_ s = true)) k)))]) (congrArg (fun z_ : Int => F0 m9 47 ls [.int (iI (z_)), .int (iI ((sumN (fun k_ => b2i (onB c k_ s = true)) k)))]) (show (0 : Int) = b2i (onB c k s = true) from (by first | exact (b2i_t (hon.mp c_e)).symm | exact (b2i_f (fun q_ => c_e (hon.mpr q_))).symm))) ?_
          -- call SpokenMarks.bit
          refine h_kIp (h_runSN X hR (c_bit l G w (b2i (onB c k s = true)) (by first | exact b2i_01 _ | omega)) pn_yX1_bit q1643 q1644 q120 q1645 ⟨by decide, by decide⟩ hl.1 (Nat.le_of_ble_eq_true rfl) dX2_marksOn_47 ⟨by omega, by omega⟩) hL (fun H locs hR hL => ?_)
          refine h_iadd hx hb dX2_marksOn_50 ?_
          refine W.eq (g2 := F0 m9 51 ls [.int (iI ((sumN (fun k_ => b2i (onB c k_ s = true)) (k + 1))))]) (congrArg (fun z_ : Int => F0 m9 51 ls [.int (iI (z_))]) (show (((sumN (fun k_ => b2i (onB c k_ s = true)) k)) + (b2i (onB c k s = true)) : Int) = (sumN (fun k_ => b2i (onB c k_ s = true)) (k + 1)) from (by rfl))) ?_
          refine lv_istore_n (lv' := [(2, .int (iI ((sumN (fun k_ => b2i (onB c k_ s = true)) (k + 1))))), (0, .ref a), (1, .int (iI (s))), (3, .int (iI ((k : Int))))]) hx hb dX2_marksOn_51 rfl hl (by decide) rfl (fun ls hl => ?_)
          refine h_iinc (lv' := [(3, .int (iI ((k : Int) + 1))), (2, .int (iI ((sumN (fun k_ => b2i (onB c k_ s = true)) (k + 1))))), (0, .ref a), (1, .int (iI (s)))]) hx hb dX2_marksOn_52 hl (k := 3) rfl (by decide) rfl (fun ls hl => ?_)
          refine lv_goto (tgt := 4) hx hb dX2_marksOn_55 (by decide) ?_
          exact ih_1 (k + 1) (by omega) (by omega) _ _ _ hR hL (lv_sub hl [2, 3, 1, 0] rfl)
        ·
          refine h_iconst hx hb dX2_marksOn_42 ?_
          refine lv_goto (tgt := 47) hx hb dX2_marksOn_43 (by decide) ?_
          refine W.eq (g2 := F0 m9 47 ls [.int (iI (b2i (onB c k s = true))), .int (iI ((sumN (fun k_ => b2i (onB c k_ s = true)) k)))]) (congrArg (fun z_ : Int => F0 m9 47 ls [.int (iI (z_)), .int (iI ((sumN (fun k_ => b2i (onB c k_ s = true)) k)))]) (show (1 : Int) = b2i (onB c k s = true) from (by first | exact (b2i_t (hon.mp c_e)).symm | exact (b2i_f (fun q_ => c_e (hon.mpr q_))).symm))) ?_
          -- call SpokenMarks.bit
          refine h_kIp (h_runSN X hR (c_bit l G w (b2i (onB c k s = true)) (by first | exact b2i_01 _ | omega)) pn_yX1_bit q1643 q1644 q120 q1645 ⟨by decide, by decide⟩ hl.1 (Nat.le_of_ble_eq_true rfl) dX2_marksOn_47 ⟨by omega, by omega⟩) hL (fun H locs hR hL => ?_)
          refine h_iadd hx hb dX2_marksOn_50 ?_
          refine W.eq (g2 := F0 m9 51 ls [.int (iI ((sumN (fun k_ => b2i (onB c k_ s = true)) (k + 1))))]) (congrArg (fun z_ : Int => F0 m9 51 ls [.int (iI (z_))]) (show (((sumN (fun k_ => b2i (onB c k_ s = true)) k)) + (b2i (onB c k s = true)) : Int) = (sumN (fun k_ => b2i (onB c k_ s = true)) (k + 1)) from (by rfl))) ?_
          refine lv_istore_n (lv' := [(2, .int (iI ((sumN (fun k_ => b2i (onB c k_ s = true)) (k + 1))))), (0, .ref a), (1, .int (iI (s))), (3, .int (iI ((k : Int))))]) hx hb dX2_marksOn_51 rfl hl (by decide) rfl (fun ls hl => ?_)
          refine h_iinc (lv' := [(3, .int (iI ((k : Int) + 1))), (2, .int (iI ((sumN (fun k_ => b2i (onB c k_ s = true)) (k + 1))))), (0, .ref a), (1, .int (iI (s)))]) hx hb dX2_marksOn_52 hl (k := 3) rfl (by decide) rfl (fun ls hl => ?_)
          refine lv_goto (tgt := 4) hx hb dX2_marksOn_55 (by decide) ?_
          exact ih_1 (k + 1) (by omega) (by omega) _ _ _ hR hL (lv_sub hl [2, 3, 1, 0] rfl)
  exact LOOP_1 _ 0 (by omega) (Nat.lt_succ_self _) _ _ _ hR hL (lv_sub hl [2, 3, 1, 0] rfl)

set_option maxHeartbeats 4000000 in
set_option maxRecDepth 100000 in
/-- SpokenMarks$Catalogue.widthOn -/
theorem ct_wdOn (l : Launch) (G : Gl) (w : Wd) (a lm lr hm : Nat) (c : Cat) (hC : CatAt G w a lm lr hm c) (hS : CatS c) (hW : CatW c) (s : Int) (hs : 0 ≤ s ∧ s < cSh c) : HM l yX2_widthOn cX2_widthOn 4 (some .int) 5 0 0 G [.ref a, .int (iI (s))] w (QI G (fun z_ w_ => z_ = wdOn c s ∧ w_ = w)) := by
  refine HM.mk (by decide +kernel) (Nat.le_of_ble_eq_true rfl) ?_
  intro p9 e9 s9 m9 a9 b9 meth9 c9 ls X hret hlk hnm hl H hR
  have hx := X.1.1
  have hb := X.1.2.1
  have hl : lv_has ls 4 [(0, .ref a), (1, .int (iI (s)))] := hl
  have hL : LK G [] := fun q h => absurd h List.not_mem_nil
  generalize ([] : List Loc) = locs at hL ⊢
  have hC0 := hC
  obtain ⟨bda, aca, so, fb, fa, Lm, Lr, mp, hCt, ⟨hbd, hbx⟩, ⟨hac, hax⟩, hso, ⟨⟨mo1, hm1, hlm⟩, hmk, hnd⟩, ⟨⟨mo2, hm2, hlr⟩, hru⟩, ⟨hhm, hmp⟩, hrd, hid, hba, hll⟩ := hC
  have hCt : w a = some (a + 1, oE 2 [.int (iI (cSh c)), .int (iI (cRm c)), .ref bda, .ref lm, .ref lr, .ref hm, .ref so, .ref aca, .int (iI (cNx c))]) := hCt
  have s1 := hS.1
  have s2 := hS.2.1
  have s3 := hS.2.2.1
  have s4 := hS.2.2.2.1.1
  have hRW := hS.2.2.2.2.1
  have s5 := hRW.1
  have s6 := hS.2.2.2.2.2
  have hml : Lm.length = cN c := hmk.1
  have hrl := hru.1
  refine h_iconst hx hb dX2_widthOn_0 ?_
  refine lv_istore_n (lv' := [(2, .int (iI (0))), (0, .ref a), (1, .int (iI (s)))]) hx hb dX2_widthOn_1 rfl hl (by decide) rfl (fun ls hl => ?_)
  refine h_iconst hx hb dX2_widthOn_2 ?_
  refine lv_istore_n (lv' := [(3, .int (iI (0))), (2, .int (iI (0))), (0, .ref a), (1, .int (iI (s)))]) hx hb dX2_widthOn_3 rfl hl (by decide) rfl (fun ls hl => ?_)
  have LOOP_1 : ∀ (N_ : Nat) (k : Nat), (k ≤ cN c) → (42 - k) < N_ → ∀ (H : Heap) (locs : List Loc) (ls : Array Slot), Rp G w H → LK G locs → lv_has ls 4 [(0, .ref a), (1, .int (iI (s))), (2, .int (iI ((sumN (fun k_ => if onB c k_ s = true then mWd (mk c k_) else 0) k)))), (3, .int (iI ((k : Int))))] → W p9 l e9 (rmk 5 0 0) s9 m9 a9 b9 meth9 c9 H locs 0 0 (MQ b9 (QI G (fun z_ w_ => z_ = wdOn c s ∧ w_ = w)) a9 s9 0 0 (frG G)) (F0 m9 4 ls []) := by
    intro N_
    induction N_ with
    | zero => intro _ _ h_; exact absurd h_ (Nat.not_lt_zero _)
    | succ N_ ih_ =>
      intro k hk hN_ H locs ls hR hL hl
      have ih_1 := ih_
      clear ih_
      refine lv_iload_n hx hb dX2_widthOn_4 rfl (lv_at hl 3 rfl) ?_
      refine lv_aload_n hx hb dX2_widthOn_5 rfl (lv_at hl 0 rfl) ?_
      refine h_get X hR hCt rfl in_X2 3 (by decide) q597 rfl dX2_widthOn_6 ?_
      -- call java/util/ArrayList.size
      refine h_k5Ip (h_runF (x := ⟨"java/util/List", "size", "()I"⟩) X hR (ls_size l G w (lm + 1) lm 40 mo1 Lm hlm) pn_i_java_util_List_size_0 (hlm.c) (kk_face X.2 (by decide +kernel) q1566 q1565 q1570 q1568 q664) q1564 q1569 q1567 q125 q1571 ⟨by decide, by decide⟩ hl.1 (Nat.le_of_ble_eq_true rfl) dX2_widthOn_9 ⟨by omega, by omega⟩) hL (fun H locs hR hL => ?_)
      refine W.eq (g2 := F0 m9 14 ls [.int (iI ((cN c : Int))), .int (iI ((k : Int)))]) (congrArg (fun z_ : Int => F0 m9 14 ls [.int (iI (z_)), .int (iI ((k : Int)))]) (show ((Lm.length : Int) : Int) = (cN c : Int) from (by rw [hml]))) ?_
      refine h_icmp_ge hx hb 70 dX2_widthOn_14 (by decide) (by omega) (by omega) (fun c_k => ?_) (fun c_k => ?_)
      ·
        refine lv_iload_n hx hb dX2_widthOn_70 rfl (lv_at hl 2 rfl) ?_
        exact h_ireturn hx hb hlk hret hR hL rfl ⟨by rw [show k = cN c by omega]; rfl, rfl⟩ (by omega) (by omega) rfl rfl dX2_widthOn_71
      ·
        refine lv_iload_n hx hb dX2_widthOn_17 rfl (lv_at hl 2 rfl) ?_
        refine lv_aload_n hx hb dX2_widthOn_18 rfl (lv_at hl 0 rfl) ?_
        refine lv_aload_n hx hb dX2_widthOn_19 rfl (lv_at hl 0 rfl) ?_
        refine h_get X hR hCt rfl in_X2 3 (by decide) q597 rfl dX2_widthOn_20 ?_
        refine lv_iload_n hx hb dX2_widthOn_23 rfl (lv_at hl 3 rfl) ?_
        -- call java/util/ArrayList.get
        refine h_k5Rp (h_runF (x := ⟨"java/util/List", "get", "(I)Ljava/lang/Object;"⟩) X hR (ls_get l G w (lm + 1) lm 40 mo1 Lm hlm k (by omega)) pn_i_java_util_List_get_1 (hlm.c) (kk_face X.2 (by decide +kernel) q1575 q1574 q1579 q1577 q664) q1573 q1578 q1576 q125 q1580 ⟨by decide, by decide⟩ hl.1 (Nat.le_of_ble_eq_true rfl) dX2_widthOn_24 ⟨by omega, by omega⟩) hL (fun H locs hR hL => ?_)
        have hm_8 : MkAt G (cRl c) w (a + 1) (Lm.getD k 0) (mk c k) := MksAt.g hmk (show k < cN c by omega)
        have hm_8w := hS.mw (k := k) (by omega)
        have hm_8p := hS.pw (k := k) (by omega)
        have hm_8r := hm_8w.1
        have hm_8r2 := hm_8w.2.2
        obtain ⟨pl_9, hm_81, hm_82⟩ := hm_8
        refine h_castS X hR (hasC.of hm_81 rfl) q1385 dX2_widthOn_29 ?_
        refine h_getN X hR hm_81 rfl in_X5 3 (by decide) q1548 rfl dX2_widthOn_32 ?_
        -- call SpokenMarks$Catalogue.shelfOf
        refine h_kIp (h_runV X hR (ct_shO l G w a lm lr hm c hC0 hS (mPl (mk c k)) (by omega) (by rw [hW.2.2.2.1]; omega)) pn_yX2_shelfOf (hC0.c) q1848 q1849 q1850 q123 q1851 ⟨by decide, by decide⟩ hl.1 (Nat.le_of_ble_eq_true rfl) dX2_widthOn_35 ⟨by omega, by omega⟩) hL (fun H locs hR hL => ?_)
        have hso2 := shO_r hS (mPl (mk c k))
        have hon := shO_on hW (k := k) (by omega) hs
        refine lv_iload_n hx hb dX2_widthOn_38 rfl (lv_at hl 1 rfl) ?_
        refine h_icmp_ne hx hb 61 dX2_widthOn_39 (by decide) (by omega) (by omega) (fun c_e => ?_) (fun c_e => ?_)
        ·
          refine h_iconst hx hb dX2_widthOn_61 ?_
          refine W.eq (g2 := F0 m9 62 ls [.int (iI ((if onB c k s = true then mWd (mk c k) else 0))), .int (iI ((sumN (fun k_ => if onB c k_ s = true then mWd (mk c k_) else 0) k)))]) (congrArg (fun z_ : Int => F0 m9 62 ls [.int (iI (z_)), .int (iI ((sumN (fun k_ => if onB c k_ s = true then mWd (mk c k_) else 0) k)))]) (show (0 : Int) = (if onB c k s = true then mWd (mk c k) else 0) from (by first | exact (if_pos (hon.mp c_e)).symm | exact (if_neg (fun q_ => c_e (hon.mpr q_))).symm))) ?_
          refine h_iadd hx hb dX2_widthOn_62 ?_
          refine W.eq (g2 := F0 m9 63 ls [.int (iI ((sumN (fun k_ => if onB c k_ s = true then mWd (mk c k_) else 0) (k + 1))))]) (congrArg (fun z_ : Int => F0 m9 63 ls [.int (iI (z_))]) (show (((sumN (fun k_ => if onB c k_ s = true then mWd (mk c k_) else 0) k)) + ((if onB c k s = true then mWd (mk c k) else 0)) : Int) = (sumN (fun k_ => if onB c k_ s = true then mWd (mk c k_) else 0) (k + 1)) from (by rfl))) ?_
          refine lv_istore_n (lv' := [(2, .int (iI ((sumN (fun k_ => if onB c k_ s = true then mWd (mk c k_) else 0) (k + 1))))), (0, .ref a), (1, .int (iI (s))), (3, .int (iI ((k : Int))))]) hx hb dX2_widthOn_63 rfl hl (by decide) rfl (fun ls hl => ?_)
          refine h_iinc (lv' := [(3, .int (iI ((k : Int) + 1))), (2, .int (iI ((sumN (fun k_ => if onB c k_ s = true then mWd (mk c k_) else 0) (k + 1))))), (0, .ref a), (1, .int (iI (s)))]) hx hb dX2_widthOn_64 hl (k := 3) rfl (by decide) rfl (fun ls hl => ?_)
          refine lv_goto (tgt := 4) hx hb dX2_widthOn_67 (by decide) ?_
          exact ih_1 (k + 1) (by omega) (by omega) _ _ _ hR hL (lv_sub hl [2, 3, 1, 0] rfl)
        ·
          refine lv_aload_n hx hb dX2_widthOn_42 rfl (lv_at hl 0 rfl) ?_
          refine h_get X hR hCt rfl in_X2 3 (by decide) q597 rfl dX2_widthOn_43 ?_
          refine lv_iload_n hx hb dX2_widthOn_46 rfl (lv_at hl 3 rfl) ?_
          -- call java/util/ArrayList.get
          refine h_k5Rp (h_runF (x := ⟨"java/util/List", "get", "(I)Ljava/lang/Object;"⟩) X hR (ls_get l G w (lm + 1) lm 40 mo1 Lm hlm k (by omega)) pn_i_java_util_List_get_1 (hlm.c) (kk_face X.2 (by decide +kernel) q1575 q1574 q1579 q1577 q664) q1573 q1578 q1576 q125 q1580 ⟨by decide, by decide⟩ hl.1 (Nat.le_of_ble_eq_true rfl) dX2_widthOn_47 ⟨by omega, by omega⟩) hL (fun H locs hR hL => ?_)
          refine h_castS X hR (hasC.of hm_81 rfl) q1385 dX2_widthOn_52 ?_
          refine h_getN X hR hm_81 rfl in_X5 2 (by decide) q1545 rfl dX2_widthOn_55 ?_
          refine lv_goto (tgt := 62) hx hb dX2_widthOn_58 (by decide) ?_
          refine W.eq (g2 := F0 m9 62 ls [.int (iI ((if onB c k s = true then mWd (mk c k) else 0))), .int (iI ((sumN (fun k_ => if onB c k_ s = true then mWd (mk c k_) else 0) k)))]) (congrArg (fun z_ : Int => F0 m9 62 ls [.int (iI (z_)), .int (iI ((sumN (fun k_ => if onB c k_ s = true then mWd (mk c k_) else 0) k)))]) (show (mWd (mk c k) : Int) = (if onB c k s = true then mWd (mk c k) else 0) from (by first | exact (if_pos (hon.mp c_e)).symm | exact (if_neg (fun q_ => c_e (hon.mpr q_))).symm))) ?_
          refine h_iadd hx hb dX2_widthOn_62 ?_
          refine W.eq (g2 := F0 m9 63 ls [.int (iI ((sumN (fun k_ => if onB c k_ s = true then mWd (mk c k_) else 0) (k + 1))))]) (congrArg (fun z_ : Int => F0 m9 63 ls [.int (iI (z_))]) (show (((sumN (fun k_ => if onB c k_ s = true then mWd (mk c k_) else 0) k)) + ((if onB c k s = true then mWd (mk c k) else 0)) : Int) = (sumN (fun k_ => if onB c k_ s = true then mWd (mk c k_) else 0) (k + 1)) from (by rfl))) ?_
          refine lv_istore_n (lv' := [(2, .int (iI ((sumN (fun k_ => if onB c k_ s = true then mWd (mk c k_) else 0) (k + 1))))), (0, .ref a), (1, .int (iI (s))), (3, .int (iI ((k : Int))))]) hx hb dX2_widthOn_63 rfl hl (by decide) rfl (fun ls hl => ?_)
          refine h_iinc (lv' := [(3, .int (iI ((k : Int) + 1))), (2, .int (iI ((sumN (fun k_ => if onB c k_ s = true then mWd (mk c k_) else 0) (k + 1))))), (0, .ref a), (1, .int (iI (s)))]) hx hb dX2_widthOn_64 hl (k := 3) rfl (by decide) rfl (fun ls hl => ?_)
          refine lv_goto (tgt := 4) hx hb dX2_widthOn_67 (by decide) ?_
          exact ih_1 (k + 1) (by omega) (by omega) _ _ _ hR hL (lv_sub hl [2, 3, 1, 0] rfl)
  exact LOOP_1 _ 0 (by omega) (Nat.lt_succ_self _) _ _ _ hR hL (lv_sub hl [2, 3, 1, 0] rfl)

theorem wdOn_b {c : Cat} (h : CatS c) (s : Int) : 0 ≤ wdOn c s ∧ wdOn c s ≤ 1000 := by
  have h4 := h.2.2.2.1.1
  have := sumN_bd (f := fun k => if onB c k s = true then mWd (mk c k) else 0) (n := cN c) 0 20 (fun i hi => by have := (h.mw hi).2.2.1; split <;> omega)
  unfold wdOn
  omega

set_option maxHeartbeats 4000000 in
set_option maxRecDepth 100000 in
/-- SpokenMarks$Catalogue.overOn -/
theorem ct_ovOn (l : Launch) (G : Gl) (w : Wd) (a lm lr hm : Nat) (c : Cat) (hC : CatAt G w a lm lr hm c) (hS : CatS c) (hW : CatW c) (s : Int) (hs : 0 ≤ s ∧ s < cSh c) : HM l yX2_overOn cX2_overOn 2 (some .int) 6 0 0 G [.ref a, .int (iI (s))] w (QI G (fun z_ w_ => z_ = (if 0 ≤ wdOn c s - cRm c then wdOn c s - cRm c else 0) ∧ w_ = w)) := by
  refine HM.mk (by decide +kernel) (Nat.le_of_ble_eq_true rfl) ?_
  intro p9 e9 s9 m9 a9 b9 meth9 c9 ls X hret hlk hnm hl H hR
  have hx := X.1.1
  have hb := X.1.2.1
  have hl : lv_has ls 2 [(0, .ref a), (1, .int (iI (s)))] := hl
  have hL : LK G [] := fun q h => absurd h List.not_mem_nil
  generalize ([] : List Loc) = locs at hL ⊢
  have hC0 := hC
  obtain ⟨bda, aca, so, fb, fa, Lm, Lr, mp, hCt, ⟨hbd, hbx⟩, ⟨hac, hax⟩, hso, ⟨⟨mo1, hm1, hlm⟩, hmk, hnd⟩, ⟨⟨mo2, hm2, hlr⟩, hru⟩, ⟨hhm, hmp⟩, hrd, hid, hba, hll⟩ := hC
  have hCt : w a = some (a + 1, oE 2 [.int (iI (cSh c)), .int (iI (cRm c)), .ref bda, .ref lm, .ref lr, .ref hm, .ref so, .ref aca, .int (iI (cNx c))]) := hCt
  have s1 := hS.1
  have s2 := hS.2.1
  have s3 := hS.2.2.1
  have s4 := hS.2.2.2.1.1
  have hRW := hS.2.2.2.2.1
  have s5 := hRW.1
  have s6 := hS.2.2.2.2.2
  have hml : Lm.length = cN c := hmk.1
  have hrl := hru.1
  have hwb := wdOn_b hS s
  refine h_iconst hx hb dX2_overOn_0 ?_
  refine lv_aload_n hx hb dX2_overOn_1 rfl (lv_at hl 0 rfl) ?_
  refine lv_iload_n hx hb dX2_overOn_2 rfl (lv_at hl 1 rfl) ?_
  -- call SpokenMarks$Catalogue.widthOn
  refine h_kIp (h_runV X hR (ct_wdOn l G w a lm lr hm c hC0 hS hW s hs) pn_yX2_widthOn (hC0.c) q1844 q1845 q1846 q123 q1847 ⟨by decide, by decide⟩ hl.1 (Nat.le_of_ble_eq_true rfl) dX2_overOn_3 ⟨by omega, by omega⟩) hL (fun H locs hR hL => ?_)
  refine lv_aload_n hx hb dX2_overOn_6 rfl (lv_at hl 0 rfl) ?_
  refine h_get X hR hCt rfl in_X2 1 (by decide) q592 rfl dX2_overOn_7 ?_
  refine h_isub hx hb dX2_overOn_10 ?_
  refine h_mmax X hl.1 ⟨by omega, by omega⟩ ⟨by omega, by omega⟩ q1852 q318 q135 q319 ⟨by decide, Nat.le_of_ble_eq_true rfl⟩ (by omega) (by omega) dX2_overOn_11 ?_
  exact h_ireturn hx hb hlk hret hR hL rfl ⟨rfl, rfl⟩ (by omega) (by omega) rfl rfl dX2_overOn_14

set_option maxHeartbeats 4000000 in
set_option maxRecDepth 100000 in
/-- SpokenMarks$Catalogue.shelvesOver -/
theorem ct_ovr (l : Launch) (G : Gl) (w : Wd) (a lm lr hm : Nat) (c : Cat) (hC : CatAt G w a lm lr hm c) (hS : CatS c) (hW : CatW c)  : HM l yX2_shelvesOver cX2_shelvesOver 3 (some .int) 7 0 0 G [.ref a] w (QI G (fun z_ w_ => z_ = ovr c ∧ w_ = w)) := by
  refine HM.mk (by decide +kernel) (Nat.le_of_ble_eq_true rfl) ?_
  intro p9 e9 s9 m9 a9 b9 meth9 c9 ls X hret hlk hnm hl H hR
  have hx := X.1.1
  have hb := X.1.2.1
  have hl : lv_has ls 3 [(0, .ref a)] := hl
  have hL : LK G [] := fun q h => absurd h List.not_mem_nil
  generalize ([] : List Loc) = locs at hL ⊢
  have hC0 := hC
  obtain ⟨bda, aca, so, fb, fa, Lm, Lr, mp, hCt, ⟨hbd, hbx⟩, ⟨hac, hax⟩, hso, ⟨⟨mo1, hm1, hlm⟩, hmk, hnd⟩, ⟨⟨mo2, hm2, hlr⟩, hru⟩, ⟨hhm, hmp⟩, hrd, hid, hba, hll⟩ := hC
  have hCt : w a = some (a + 1, oE 2 [.int (iI (cSh c)), .int (iI (cRm c)), .ref bda, .ref lm, .ref lr, .ref hm, .ref so, .ref aca, .int (iI (cNx c))]) := hCt
  have s1 := hS.1
  have s2 := hS.2.1
  have s3 := hS.2.2.1
  have s4 := hS.2.2.2.1.1
  have hRW := hS.2.2.2.2.1
  have s5 := hRW.1
  have s6 := hS.2.2.2.2.2
  have hml : Lm.length = cN c := hmk.1
  have hrl := hru.1
  refine h_iconst hx hb dX2_shelvesOver_0 ?_
  refine lv_istore_n (lv' := [(1, .int (iI (0))), (0, .ref a)]) hx hb dX2_shelvesOver_1 rfl hl (by decide) rfl (fun ls hl => ?_)
  refine h_iconst hx hb dX2_shelvesOver_2 ?_
  refine lv_istore_n (lv' := [(2, .int (iI (0))), (1, .int (iI (0))), (0, .ref a)]) hx hb dX2_shelvesOver_3 rfl hl (by decide) rfl (fun ls hl => ?_)
  have LOOP_1 : ∀ (N_ : Nat) (k : Nat), (k ≤ (cSh c).toNat) → (42 - k) < N_ → ∀ (H : Heap) (locs : List Loc) (ls : Array Slot), Rp G w H → LK G locs → lv_has ls 3 [(0, .ref a), (1, .int (iI ((sumN (fun s_ => b2i (cRm c < wdOn c s_)) k)))), (2, .int (iI ((k : Int))))] → W p9 l e9 (rmk 7 0 0) s9 m9 a9 b9 meth9 c9 H locs 0 0 (MQ b9 (QI G (fun z_ w_ => z_ = ovr c ∧ w_ = w)) a9 s9 0 0 (frG G)) (F0 m9 4 ls []) := by
    intro N_
    induction N_ with
    | zero => intro _ _ h_; exact absurd h_ (Nat.not_lt_zero _)
    | succ N_ ih_ =>
      intro k hk hN_ H locs ls hR hL hl
      have ih_1 := ih_
      clear ih_
      refine lv_iload_n hx hb dX2_shelvesOver_4 rfl (lv_at hl 2 rfl) ?_
      refine lv_aload_n hx hb dX2_shelvesOver_5 rfl (lv_at hl 0 rfl) ?_
      refine h_get X hR hCt rfl in_X2 0 (by decide) q589 rfl dX2_shelvesOver_6 ?_
      refine h_icmp_ge hx hb 37 dX2_shelvesOver_9 (by decide) (by omega) (by omega) (fun c_k => ?_) (fun c_k => ?_)
      ·
        refine lv_iload_n hx hb dX2_shelvesOver_37 rfl (lv_at hl 1 rfl) ?_
        exact h_ireturn hx hb hlk hret hR hL rfl ⟨by rw [show k = (cSh c).toNat by omega]; rfl, rfl⟩ (by omega) (by omega) rfl rfl dX2_shelvesOver_38
      ·
        refine lv_iload_n hx hb dX2_shelvesOver_12 rfl (lv_at hl 1 rfl) ?_
        refine lv_aload_n hx hb dX2_shelvesOver_13 rfl (lv_at hl 0 rfl) ?_
        refine lv_iload_n hx hb dX2_shelvesOver_14 rfl (lv_at hl 2 rfl) ?_
        have hwb := wdOn_b hS (k : Int)
        -- call SpokenMarks$Catalogue.overOn
        refine h_kIp (h_runV X hR (ct_ovOn l G w a lm lr hm c hC0 hS hW ((k : Int)) ⟨by omega, by omega⟩) pn_yX2_overOn (hC0.c) q1840 q1841 q1842 q123 q1843 ⟨by decide, by decide⟩ hl.1 (Nat.le_of_ble_eq_true rfl) dX2_shelvesOver_15 ⟨by omega, by omega⟩) hL (fun H locs hR hL => ?_)
        refine h_if_le hx hb 25 dX2_shelvesOver_18 (by decide) (by split <;> omega) (fun c_e => ?_) (fun c_e => ?_)
        ·
          refine h_iconst hx hb dX2_shelvesOver_25 ?_
          refine W.eq (g2 := F0 m9 26 ls [.int (iI (b2i (cRm c < wdOn c k))), .int (iI ((sumN (fun s_ => b2i (cRm c < wdOn c s_)) k)))]) (congrArg (fun z_ : Int => F0 m9 26 ls [.int (iI (z_)), .int (iI ((sumN (fun s_ => b2i (cRm c < wdOn c s_)) k)))]) (show (0 : Int) = b2i (cRm c < wdOn c k) from (by first | exact (b2i_t (by split at c_e <;> omega)).symm | exact (b2i_f (by split at c_e <;> omega)).symm))) ?_
          -- call SpokenMarks.bit
          refine h_kIp (h_runSN X hR (c_bit l G w (b2i (cRm c < wdOn c k)) (by first | exact b2i_01 _ | omega)) pn_yX1_bit q1643 q1644 q120 q1645 ⟨by decide, by decide⟩ hl.1 (Nat.le_of_ble_eq_true rfl) dX2_shelvesOver_26 ⟨by omega, by omega⟩) hL (fun H locs hR hL => ?_)
          refine h_iadd hx hb dX2_shelvesOver_29 ?_
          refine W.eq (g2 := F0 m9 30 ls [.int (iI ((sumN (fun s_ => b2i (cRm c < wdOn c s_)) (k + 1))))]) (congrArg (fun z_ : Int => F0 m9 30 ls [.int (iI (z_))]) (show (((sumN (fun s_ => b2i (cRm c < wdOn c s_)) k)) + (b2i (cRm c < wdOn c k)) : Int) = (sumN (fun s_ => b2i (cRm c < wdOn c s_)) (k + 1)) from (by rfl))) ?_
          refine lv_istore_n (lv' := [(1, .int (iI ((sumN (fun s_ => b2i (cRm c < wdOn c s_)) (k + 1))))), (0, .ref a), (2, .int (iI ((k : Int))))]) hx hb dX2_shelvesOver_30 rfl hl (by decide) rfl (fun ls hl => ?_)
          refine h_iinc (lv' := [(2, .int (iI ((k : Int) + 1))), (1, .int (iI ((sumN (fun s_ => b2i (cRm c < wdOn c s_)) (k + 1))))), (0, .ref a)]) hx hb dX2_shelvesOver_31 hl (k := 2) rfl (by decide) rfl (fun ls hl => ?_)
          refine lv_goto (tgt := 4) hx hb dX2_shelvesOver_34 (by decide) ?_
          exact ih_1 (k + 1) (by omega) (by omega) _ _ _ hR hL (lv_sub hl [2, 1, 0] rfl)
        ·
          refine h_iconst hx hb dX2_shelvesOver_21 ?_
          refine lv_goto (tgt := 26) hx hb dX2_shelvesOver_22 (by decide) ?_
          refine W.eq (g2 := F0 m9 26 ls [.int (iI (b2i (cRm c < wdOn c k))), .int (iI ((sumN (fun s_ => b2i (cRm c < wdOn c s_)) k)))]) (congrArg (fun z_ : Int => F0 m9 26 ls [.int (iI (z_)), .int (iI ((sumN (fun s_ => b2i (cRm c < wdOn c s_)) k)))]) (show (1 : Int) = b2i (cRm c < wdOn c k) from (by first | exact (b2i_t (by split at c_e <;> omega)).symm | exact (b2i_f (by split at c_e <;> omega)).symm))) ?_
          -- call SpokenMarks.bit
          refine h_kIp (h_runSN X hR (c_bit l G w (b2i (cRm c < wdOn c k)) (by first | exact b2i_01 _ | omega)) pn_yX1_bit q1643 q1644 q120 q1645 ⟨by decide, by decide⟩ hl.1 (Nat.le_of_ble_eq_true rfl) dX2_shelvesOver_26 ⟨by omega, by omega⟩) hL (fun H locs hR hL => ?_)
          refine h_iadd hx hb dX2_shelvesOver_29 ?_
          refine W.eq (g2 := F0 m9 30 ls [.int (iI ((sumN (fun s_ => b2i (cRm c < wdOn c s_)) (k + 1))))]) (congrArg (fun z_ : Int => F0 m9 30 ls [.int (iI (z_))]) (show (((sumN (fun s_ => b2i (cRm c < wdOn c s_)) k)) + (b2i (cRm c < wdOn c k)) : Int) = (sumN (fun s_ => b2i (cRm c < wdOn c s_)) (k + 1)) from (by rfl))) ?_
          refine lv_istore_n (lv' := [(1, .int (iI ((sumN (fun s_ => b2i (cRm c < wdOn c s_)) (k + 1))))), (0, .ref a), (2, .int (iI ((k : Int))))]) hx hb dX2_shelvesOver_30 rfl hl (by decide) rfl (fun ls hl => ?_)
          refine h_iinc (lv' := [(2, .int (iI ((k : Int) + 1))), (1, .int (iI ((sumN (fun s_ => b2i (cRm c < wdOn c s_)) (k + 1))))), (0, .ref a)]) hx hb dX2_shelvesOver_31 hl (k := 2) rfl (by decide) rfl (fun ls hl => ?_)
          refine lv_goto (tgt := 4) hx hb dX2_shelvesOver_34 (by decide) ?_
          exact ih_1 (k + 1) (by omega) (by omega) _ _ _ hR hL (lv_sub hl [2, 1, 0] rfl)
  exact LOOP_1 _ 0 (by omega) (Nat.lt_succ_self _) _ _ _ hR hL (lv_sub hl [2, 1, 0] rfl)

set_option maxHeartbeats 4000000 in
set_option maxRecDepth 100000 in
/-- SpokenMarks$Catalogue.endOn -/
theorem ct_end0 (l : Launch) (G : Gl) (w : Wd) (a lm lr hm : Nat) (c : Cat) (hC : CatAt G w a lm lr hm c) (hS : CatS c) (hW : CatW c) (s : Int) (hs : 0 ≤ s ∧ s < cSh c) : HM l yX2_endOn cX2_endOn 6 (some .int) 5 0 0 G [.ref a, .int (iI (s)), .int (iI (0))] w (QI G (fun z_ w_ => z_ = endA c s ((0 : Int) ≠ 0) (cN c) ∧ w_ = w)) := by
  refine HM.mk (by decide +kernel) (Nat.le_of_ble_eq_true rfl) ?_
  intro p9 e9 s9 m9 a9 b9 meth9 c9 ls X hret hlk hnm hl H hR
  have hx := X.1.1
  have hb := X.1.2.1
  have hl : lv_has ls 6 [(0, .ref a), (1, .int (iI (s))), (2, .int (iI (0)))] := hl
  have hL : LK G [] := fun q h => absurd h List.not_mem_nil
  generalize ([] : List Loc) = locs at hL ⊢
  have hC0 := hC
  obtain ⟨bda, aca, so, fb, fa, Lm, Lr, mp, hCt, ⟨hbd, hbx⟩, ⟨hac, hax⟩, hso, ⟨⟨mo1, hm1, hlm⟩, hmk, hnd⟩, ⟨⟨mo2, hm2, hlr⟩, hru⟩, ⟨hhm, hmp⟩, hrd, hid, hba, hll⟩ := hC
  have hCt : w a = some (a + 1, oE 2 [.int (iI (cSh c)), .int (iI (cRm c)), .ref bda, .ref lm, .ref lr, .ref hm, .ref so, .ref aca, .int (iI (cNx c))]) := hCt
  have s1 := hS.1
  have s2 := hS.2.1
  have s3 := hS.2.2.1
  have s4 := hS.2.2.2.1.1
  have hRW := hS.2.2.2.2.1
  have s5 := hRW.1
  have s6 := hS.2.2.2.2.2
  have hml : Lm.length = cN c := hmk.1
  have hrl := hru.1
  refine h_iconst hx hb dX2_endOn_0 ?_
  refine lv_istore_n (lv' := [(3, .int (iI (-1))), (0, .ref a), (1, .int (iI (s))), (2, .int (iI (0)))]) hx hb dX2_endOn_1 rfl hl (by decide) rfl (fun ls hl => ?_)
  refine h_iconst hx hb dX2_endOn_2 ?_
  refine lv_istore (lv' := [(4, .int (iI (0))), (3, .int (iI (-1))), (0, .ref a), (1, .int (iI (s))), (2, .int (iI (0)))]) hx hb dX2_endOn_3 hl (by decide) rfl (fun ls hl => ?_)
  have LOOP_1 : ∀ (N_ : Nat) (k : Nat), (k ≤ cN c) → (42 - k) < N_ → ∀ (H : Heap) (locs : List Loc) (ls : Array Slot), Rp G w H → LK G locs → lv_has ls 6 [(0, .ref a), (1, .int (iI (s))), (2, .int (iI (0))), (3, .int (iI (endA c s ((0 : Int) ≠ 0) k))), (4, .int (iI ((k : Int))))] → W p9 l e9 (rmk 5 0 0) s9 m9 a9 b9 meth9 c9 H locs 0 0 (MQ b9 (QI G (fun z_ w_ => z_ = endA c s ((0 : Int) ≠ 0) (cN c) ∧ w_ = w)) a9 s9 0 0 (frG G)) (F0 m9 5 ls []) := by
    intro N_
    induction N_ with
    | zero => intro _ _ h_; exact absurd h_ (Nat.not_lt_zero _)
    | succ N_ ih_ =>
      intro k hk hN_ H locs ls hR hL hl
      have ih_1 := ih_
      clear ih_
      refine lv_iload hx hb dX2_endOn_5 (lv_at hl 4 rfl) ?_
      refine lv_aload_n hx hb dX2_endOn_7 rfl (lv_at hl 0 rfl) ?_
      refine h_get X hR hCt rfl in_X2 3 (by decide) q597 rfl dX2_endOn_8 ?_
      -- call java/util/ArrayList.size
      refine h_k5Ip (h_runF (x := ⟨"java/util/List", "size", "()I"⟩) X hR (ls_size l G w (lm + 1) lm 40 mo1 Lm hlm) pn_i_java_util_List_size_0 (hlm.c) (kk_face X.2 (by decide +kernel) q1566 q1565 q1570 q1568 q664) q1564 q1569 q1567 q125 q1571 ⟨by decide, by decide⟩ hl.1 (Nat.le_of_ble_eq_true rfl) dX2_endOn_11 ⟨by omega, by omega⟩) hL (fun H locs hR hL => ?_)
      refine W.eq (g2 := F0 m9 16 ls [.int (iI ((cN c : Int))), .int (iI ((k : Int)))]) (congrArg (fun z_ : Int => F0 m9 16 ls [.int (iI (z_)), .int (iI ((k : Int)))]) (show ((Lm.length : Int) : Int) = (cN c : Int) from (by rw [hml]))) ?_
      refine h_icmp_ge hx hb 93 dX2_endOn_16 (by decide) (by omega) (by omega) (fun c_k => ?_) (fun c_k => ?_)
      ·
        refine lv_iload_n hx hb dX2_endOn_93 rfl (lv_at hl 3 rfl) ?_
        exact h_ireturn hx hb hlk hret hR hL rfl ⟨by rw [show k = cN c by omega], rfl⟩ (by omega) (by omega) rfl rfl dX2_endOn_94
      ·
        refine lv_aload_n hx hb dX2_endOn_19 rfl (lv_at hl 0 rfl) ?_
        refine lv_aload_n hx hb dX2_endOn_20 rfl (lv_at hl 0 rfl) ?_
        refine h_get X hR hCt rfl in_X2 3 (by decide) q597 rfl dX2_endOn_21 ?_
        refine lv_iload hx hb dX2_endOn_24 (lv_at hl 4 rfl) ?_
        -- call java/util/ArrayList.get
        refine h_k5Rp (h_runF (x := ⟨"java/util/List", "get", "(I)Ljava/lang/Object;"⟩) X hR (ls_get l G w (lm + 1) lm 40 mo1 Lm hlm k (by omega)) pn_i_java_util_List_get_1 (hlm.c) (kk_face X.2 (by decide +kernel) q1575 q1574 q1579 q1577 q664) q1573 q1578 q1576 q125 q1580 ⟨by decide, by decide⟩ hl.1 (Nat.le_of_ble_eq_true rfl) dX2_endOn_26 ⟨by omega, by omega⟩) hL (fun H locs hR hL => ?_)
        have hm_8 : MkAt G (cRl c) w (a + 1) (Lm.getD k 0) (mk c k) := MksAt.g hmk (show k < cN c by omega)
        have hm_8w := hS.mw (k := k) (by omega)
        have hm_8p := hS.pw (k := k) (by omega)
        have hm_8r := hm_8w.1
        have hm_8r2 := hm_8w.2.2
        obtain ⟨pl_9, hm_81, hm_82⟩ := hm_8
        refine h_castS X hR (hasC.of hm_81 rfl) q1385 dX2_endOn_31 ?_
        refine h_getN X hR hm_81 rfl in_X5 3 (by decide) q1548 rfl dX2_endOn_34 ?_
        -- call SpokenMarks$Catalogue.shelfOf
        refine h_kIp (h_runV X hR (ct_shO l G w a lm lr hm c hC0 hS (mPl (mk c k)) (by omega) (by rw [hW.2.2.2.1]; omega)) pn_yX2_shelfOf (hC0.c) q1848 q1849 q1850 q123 q1851 ⟨by decide, by decide⟩ hl.1 (Nat.le_of_ble_eq_true rfl) dX2_endOn_37 ⟨by omega, by omega⟩) hL (fun H locs hR hL => ?_)
        have hso2 := shO_r hS (mPl (mk c k))
        have hon := shO_on hW (k := k) (by omega) hs
        have her := endA_r hS s ((0 : Int) ≠ 0) k (by omega)
        refine lv_iload_n hx hb dX2_endOn_40 rfl (lv_at hl 1 rfl) ?_
        refine h_icmp_ne hx hb 57 dX2_endOn_41 (by decide) (by omega) (by omega) (fun c_e => ?_) (fun c_e => ?_)
        ·
          refine h_iconst hx hb dX2_endOn_57 ?_
          refine lv_istore (lv' := [(5, .int (iI (0))), (0, .ref a), (1, .int (iI (s))), (2, .int (iI (0))), (3, .int (iI (endA c s ((0 : Int) ≠ 0) k))), (4, .int (iI ((k : Int))))]) hx hb dX2_endOn_58 hl (by decide) rfl (fun ls hl => ?_)
          refine lv_iload hx hb dX2_endOn_60 (lv_at hl 0 rfl) ?_
          refine h_if_eq hx hb 85 dX2_endOn_62 (by decide) (by decide) (fun _ => ?_) (fun z_ => absurd z_ (by decide))
          refine lv_iload_n hx hb dX2_endOn_85 rfl (lv_at hl 4 rfl) ?_
          refine W.eq (g2 := F0 m9 86 ls [.int (iI (endA c s ((0 : Int) ≠ 0) (k + 1)))]) (congrArg (fun z_ : Int => F0 m9 86 ls [.int (iI (z_))]) (show (endA c s ((0 : Int) ≠ 0) k : Int) = endA c s ((0 : Int) ≠ 0) (k + 1) from (by rw [endA_s]; split; (next q_ => first | rfl | exact absurd (hon.mpr q_.1) c_e | exact absurd q_.2 (fun z_ => z_.elim (fun y_ => y_ rfl) c_n)); (next q_ => first | rfl | exact absurd ⟨hon.mp c_e, Or.inr c_n⟩ q_)))) ?_
          refine lv_istore_n (lv' := [(3, .int (iI (endA c s ((0 : Int) ≠ 0) (k + 1)))), (5, .int (iI (0))), (0, .ref a), (1, .int (iI (s))), (2, .int (iI (0))), (4, .int (iI ((k : Int))))]) hx hb dX2_endOn_86 rfl hl (by decide) rfl (fun ls hl => ?_)
          refine h_iinc (lv' := [(4, .int (iI ((k : Int) + 1))), (3, .int (iI (endA c s ((0 : Int) ≠ 0) (k + 1)))), (5, .int (iI (0))), (0, .ref a), (1, .int (iI (s))), (2, .int (iI (0)))]) hx hb dX2_endOn_87 hl (k := 5) rfl (by decide) rfl (fun ls hl => ?_)
          refine lv_goto (tgt := 5) hx hb dX2_endOn_90 (by decide) ?_
          exact ih_1 (k + 1) (by omega) (by omega) _ _ _ hR hL (lv_sub hl [3, 4, 5, 1, 0] rfl)
        ·
          refine lv_iload_n hx hb dX2_endOn_44 rfl (lv_at hl 2 rfl) ?_
          refine h_if_ne hx hb 53 dX2_endOn_45 (by decide) (by decide) (fun z_ => absurd z_ (by decide)) (fun _ => ?_)
          refine lv_iload_n hx hb dX2_endOn_48 rfl (lv_at hl 3 rfl) ?_
          refine h_iconst hx hb dX2_endOn_49 ?_
          refine h_icmp_ne hx hb 57 dX2_endOn_50 (by decide) (by omega) (by omega) (fun c_n => ?_) (fun c_n => ?_)
          ·
            refine h_iconst hx hb dX2_endOn_57 ?_
            refine lv_istore (lv' := [(5, .int (iI (0))), (0, .ref a), (1, .int (iI (s))), (2, .int (iI (0))), (3, .int (iI (endA c s ((0 : Int) ≠ 0) k))), (4, .int (iI ((k : Int))))]) hx hb dX2_endOn_58 hl (by decide) rfl (fun ls hl => ?_)
            refine lv_iload hx hb dX2_endOn_60 (lv_at hl 0 rfl) ?_
            refine h_if_eq hx hb 85 dX2_endOn_62 (by decide) (by decide) (fun _ => ?_) (fun z_ => absurd z_ (by decide))
            refine lv_iload_n hx hb dX2_endOn_85 rfl (lv_at hl 4 rfl) ?_
            refine W.eq (g2 := F0 m9 86 ls [.int (iI (endA c s ((0 : Int) ≠ 0) (k + 1)))]) (congrArg (fun z_ : Int => F0 m9 86 ls [.int (iI (z_))]) (show (endA c s ((0 : Int) ≠ 0) k : Int) = endA c s ((0 : Int) ≠ 0) (k + 1) from (by rw [endA_s]; split; (next q_ => first | rfl | exact absurd (hon.mpr q_.1) c_e | exact absurd q_.2 (fun z_ => z_.elim (fun y_ => y_ rfl) c_n)); (next q_ => first | rfl | exact absurd ⟨hon.mp c_e, Or.inr c_n⟩ q_)))) ?_
            refine lv_istore_n (lv' := [(3, .int (iI (endA c s ((0 : Int) ≠ 0) (k + 1)))), (5, .int (iI (0))), (0, .ref a), (1, .int (iI (s))), (2, .int (iI (0))), (4, .int (iI ((k : Int))))]) hx hb dX2_endOn_86 rfl hl (by decide) rfl (fun ls hl => ?_)
            refine h_iinc (lv' := [(4, .int (iI ((k : Int) + 1))), (3, .int (iI (endA c s ((0 : Int) ≠ 0) (k + 1)))), (5, .int (iI (0))), (0, .ref a), (1, .int (iI (s))), (2, .int (iI (0)))]) hx hb dX2_endOn_87 hl (k := 5) rfl (by decide) rfl (fun ls hl => ?_)
            refine lv_goto (tgt := 5) hx hb dX2_endOn_90 (by decide) ?_
            exact ih_1 (k + 1) (by omega) (by omega) _ _ _ hR hL (lv_sub hl [3, 4, 5, 1, 0] rfl)
          ·
            refine h_iconst hx hb dX2_endOn_53 ?_
            refine lv_goto (tgt := 58) hx hb dX2_endOn_54 (by decide) ?_
            refine lv_istore (lv' := [(5, .int (iI (1))), (0, .ref a), (1, .int (iI (s))), (2, .int (iI (0))), (3, .int (iI (endA c s ((0 : Int) ≠ 0) k))), (4, .int (iI ((k : Int))))]) hx hb dX2_endOn_58 hl (by decide) rfl (fun ls hl => ?_)
            refine lv_iload hx hb dX2_endOn_60 (lv_at hl 0 rfl) ?_
            refine h_if_eq hx hb 85 dX2_endOn_62 (by decide) (by decide) (fun z_ => absurd z_ (by decide)) (fun _ => ?_)
            refine lv_aload_n hx hb dX2_endOn_65 rfl (lv_at hl 1 rfl) ?_
            refine h_get X hR hCt rfl in_X2 3 (by decide) q597 rfl dX2_endOn_66 ?_
            refine lv_iload hx hb dX2_endOn_69 (lv_at hl 5 rfl) ?_
            -- call java/util/ArrayList.get
            refine h_k5Rp (h_runF (x := ⟨"java/util/List", "get", "(I)Ljava/lang/Object;"⟩) X hR (ls_get l G w (lm + 1) lm 40 mo1 Lm hlm k (by omega)) pn_i_java_util_List_get_1 (hlm.c) (kk_face X.2 (by decide +kernel) q1575 q1574 q1579 q1577 q664) q1573 q1578 q1576 q125 q1580 ⟨by decide, by decide⟩ hl.1 (Nat.le_of_ble_eq_true rfl) dX2_endOn_71 ⟨by omega, by omega⟩) hL (fun H locs hR hL => ?_)
            refine h_castS X hR (hasC.of hm_81 rfl) q1385 dX2_endOn_76 ?_
            refine h_getN X hR hm_81 rfl in_X5 0 (by decide) q1537 rfl dX2_endOn_79 ?_
            refine lv_goto (tgt := 86) hx hb dX2_endOn_82 (by decide) ?_
            refine W.eq (g2 := F0 m9 86 ls [.int (iI (endA c s ((0 : Int) ≠ 0) (k + 1)))]) (congrArg (fun z_ : Int => F0 m9 86 ls [.int (iI (z_))]) (show (mId (mk c k) : Int) = endA c s ((0 : Int) ≠ 0) (k + 1) from (by rw [endA_s]; split; (next q_ => first | rfl | exact absurd (hon.mpr q_.1) c_e | exact absurd q_.2 (fun z_ => z_.elim (fun y_ => y_ rfl) c_n)); (next q_ => first | rfl | exact absurd ⟨hon.mp c_e, Or.inr c_n⟩ q_)))) ?_
            refine lv_istore_n (lv' := [(3, .int (iI (endA c s ((0 : Int) ≠ 0) (k + 1)))), (5, .int (iI (1))), (0, .ref a), (1, .int (iI (s))), (2, .int (iI (0))), (4, .int (iI ((k : Int))))]) hx hb dX2_endOn_86 rfl hl (by decide) rfl (fun ls hl => ?_)
            refine h_iinc (lv' := [(4, .int (iI ((k : Int) + 1))), (3, .int (iI (endA c s ((0 : Int) ≠ 0) (k + 1)))), (5, .int (iI (1))), (0, .ref a), (1, .int (iI (s))), (2, .int (iI (0)))]) hx hb dX2_endOn_87 hl (k := 5) rfl (by decide) rfl (fun ls hl => ?_)
            refine lv_goto (tgt := 5) hx hb dX2_endOn_90 (by decide) ?_
            exact ih_1 (k + 1) (by omega) (by omega) _ _ _ hR hL (lv_sub hl [3, 4, 5, 1, 0] rfl)
  exact LOOP_1 _ 0 (by omega) (Nat.lt_succ_self _) _ _ _ hR hL (lv_sub hl [2, 3, 4, 1, 0] rfl)

set_option maxHeartbeats 4000000 in
set_option maxRecDepth 100000 in
/-- SpokenMarks$Catalogue.endOn -/
theorem ct_end1 (l : Launch) (G : Gl) (w : Wd) (a lm lr hm : Nat) (c : Cat) (hC : CatAt G w a lm lr hm c) (hS : CatS c) (hW : CatW c) (s : Int) (hs : 0 ≤ s ∧ s < cSh c) : HM l yX2_endOn cX2_endOn 6 (some .int) 5 0 0 G [.ref a, .int (iI (s)), .int (iI (1))] w (QI G (fun z_ w_ => z_ = endA c s ((1 : Int) ≠ 0) (cN c) ∧ w_ = w)) := by
  refine HM.mk (by decide +kernel) (Nat.le_of_ble_eq_true rfl) ?_
  intro p9 e9 s9 m9 a9 b9 meth9 c9 ls X hret hlk hnm hl H hR
  have hx := X.1.1
  have hb := X.1.2.1
  have hl : lv_has ls 6 [(0, .ref a), (1, .int (iI (s))), (2, .int (iI (1)))] := hl
  have hL : LK G [] := fun q h => absurd h List.not_mem_nil
  generalize ([] : List Loc) = locs at hL ⊢
  have hC0 := hC
  obtain ⟨bda, aca, so, fb, fa, Lm, Lr, mp, hCt, ⟨hbd, hbx⟩, ⟨hac, hax⟩, hso, ⟨⟨mo1, hm1, hlm⟩, hmk, hnd⟩, ⟨⟨mo2, hm2, hlr⟩, hru⟩, ⟨hhm, hmp⟩, hrd, hid, hba, hll⟩ := hC
  have hCt : w a = some (a + 1, oE 2 [.int (iI (cSh c)), .int (iI (cRm c)), .ref bda, .ref lm, .ref lr, .ref hm, .ref so, .ref aca, .int (iI (cNx c))]) := hCt
  have s1 := hS.1
  have s2 := hS.2.1
  have s3 := hS.2.2.1
  have s4 := hS.2.2.2.1.1
  have hRW := hS.2.2.2.2.1
  have s5 := hRW.1
  have s6 := hS.2.2.2.2.2
  have hml : Lm.length = cN c := hmk.1
  have hrl := hru.1
  refine h_iconst hx hb dX2_endOn_0 ?_
  refine lv_istore_n (lv' := [(3, .int (iI (-1))), (0, .ref a), (1, .int (iI (s))), (2, .int (iI (1)))]) hx hb dX2_endOn_1 rfl hl (by decide) rfl (fun ls hl => ?_)
  refine h_iconst hx hb dX2_endOn_2 ?_
  refine lv_istore (lv' := [(4, .int (iI (0))), (3, .int (iI (-1))), (0, .ref a), (1, .int (iI (s))), (2, .int (iI (1)))]) hx hb dX2_endOn_3 hl (by decide) rfl (fun ls hl => ?_)
  have LOOP_1 : ∀ (N_ : Nat) (k : Nat), (k ≤ cN c) → (42 - k) < N_ → ∀ (H : Heap) (locs : List Loc) (ls : Array Slot), Rp G w H → LK G locs → lv_has ls 6 [(0, .ref a), (1, .int (iI (s))), (2, .int (iI (1))), (3, .int (iI (endA c s ((1 : Int) ≠ 0) k))), (4, .int (iI ((k : Int))))] → W p9 l e9 (rmk 5 0 0) s9 m9 a9 b9 meth9 c9 H locs 0 0 (MQ b9 (QI G (fun z_ w_ => z_ = endA c s ((1 : Int) ≠ 0) (cN c) ∧ w_ = w)) a9 s9 0 0 (frG G)) (F0 m9 5 ls []) := by
    intro N_
    induction N_ with
    | zero => intro _ _ h_; exact absurd h_ (Nat.not_lt_zero _)
    | succ N_ ih_ =>
      intro k hk hN_ H locs ls hR hL hl
      have ih_1 := ih_
      clear ih_
      refine lv_iload hx hb dX2_endOn_5 (lv_at hl 4 rfl) ?_
      refine lv_aload_n hx hb dX2_endOn_7 rfl (lv_at hl 0 rfl) ?_
      refine h_get X hR hCt rfl in_X2 3 (by decide) q597 rfl dX2_endOn_8 ?_
      -- call java/util/ArrayList.size
      refine h_k5Ip (h_runF (x := ⟨"java/util/List", "size", "()I"⟩) X hR (ls_size l G w (lm + 1) lm 40 mo1 Lm hlm) pn_i_java_util_List_size_0 (hlm.c) (kk_face X.2 (by decide +kernel) q1566 q1565 q1570 q1568 q664) q1564 q1569 q1567 q125 q1571 ⟨by decide, by decide⟩ hl.1 (Nat.le_of_ble_eq_true rfl) dX2_endOn_11 ⟨by omega, by omega⟩) hL (fun H locs hR hL => ?_)
      refine W.eq (g2 := F0 m9 16 ls [.int (iI ((cN c : Int))), .int (iI ((k : Int)))]) (congrArg (fun z_ : Int => F0 m9 16 ls [.int (iI (z_)), .int (iI ((k : Int)))]) (show ((Lm.length : Int) : Int) = (cN c : Int) from (by rw [hml]))) ?_
      refine h_icmp_ge hx hb 93 dX2_endOn_16 (by decide) (by omega) (by omega) (fun c_k => ?_) (fun c_k => ?_)
      ·
        refine lv_iload_n hx hb dX2_endOn_93 rfl (lv_at hl 3 rfl) ?_
        exact h_ireturn hx hb hlk hret hR hL rfl ⟨by rw [show k = cN c by omega], rfl⟩ (by omega) (by omega) rfl rfl dX2_endOn_94
      ·
        refine lv_aload_n hx hb dX2_endOn_19 rfl (lv_at hl 0 rfl) ?_
        refine lv_aload_n hx hb dX2_endOn_20 rfl (lv_at hl 0 rfl) ?_
        refine h_get X hR hCt rfl in_X2 3 (by decide) q597 rfl dX2_endOn_21 ?_
        refine lv_iload hx hb dX2_endOn_24 (lv_at hl 4 rfl) ?_
        -- call java/util/ArrayList.get
        refine h_k5Rp (h_runF (x := ⟨"java/util/List", "get", "(I)Ljava/lang/Object;"⟩) X hR (ls_get l G w (lm + 1) lm 40 mo1 Lm hlm k (by omega)) pn_i_java_util_List_get_1 (hlm.c) (kk_face X.2 (by decide +kernel) q1575 q1574 q1579 q1577 q664) q1573 q1578 q1576 q125 q1580 ⟨by decide, by decide⟩ hl.1 (Nat.le_of_ble_eq_true rfl) dX2_endOn_26 ⟨by omega, by omega⟩) hL (fun H locs hR hL => ?_)
        have hm_8 : MkAt G (cRl c) w (a + 1) (Lm.getD k 0) (mk c k) := MksAt.g hmk (show k < cN c by omega)
        have hm_8w := hS.mw (k := k) (by omega)
        have hm_8p := hS.pw (k := k) (by omega)
        have hm_8r := hm_8w.1
        have hm_8r2 := hm_8w.2.2
        obtain ⟨pl_9, hm_81, hm_82⟩ := hm_8
        refine h_castS X hR (hasC.of hm_81 rfl) q1385 dX2_endOn_31 ?_
        refine h_getN X hR hm_81 rfl in_X5 3 (by decide) q1548 rfl dX2_endOn_34 ?_
        -- call SpokenMarks$Catalogue.shelfOf
        refine h_kIp (h_runV X hR (ct_shO l G w a lm lr hm c hC0 hS (mPl (mk c k)) (by omega) (by rw [hW.2.2.2.1]; omega)) pn_yX2_shelfOf (hC0.c) q1848 q1849 q1850 q123 q1851 ⟨by decide, by decide⟩ hl.1 (Nat.le_of_ble_eq_true rfl) dX2_endOn_37 ⟨by omega, by omega⟩) hL (fun H locs hR hL => ?_)
        have hso2 := shO_r hS (mPl (mk c k))
        have hon := shO_on hW (k := k) (by omega) hs
        have her := endA_r hS s ((1 : Int) ≠ 0) k (by omega)
        refine lv_iload_n hx hb dX2_endOn_40 rfl (lv_at hl 1 rfl) ?_
        refine h_icmp_ne hx hb 57 dX2_endOn_41 (by decide) (by omega) (by omega) (fun c_e => ?_) (fun c_e => ?_)
        ·
          refine h_iconst hx hb dX2_endOn_57 ?_
          refine lv_istore (lv' := [(5, .int (iI (0))), (0, .ref a), (1, .int (iI (s))), (2, .int (iI (1))), (3, .int (iI (endA c s ((1 : Int) ≠ 0) k))), (4, .int (iI ((k : Int))))]) hx hb dX2_endOn_58 hl (by decide) rfl (fun ls hl => ?_)
          refine lv_iload hx hb dX2_endOn_60 (lv_at hl 0 rfl) ?_
          refine h_if_eq hx hb 85 dX2_endOn_62 (by decide) (by decide) (fun _ => ?_) (fun z_ => absurd z_ (by decide))
          refine lv_iload_n hx hb dX2_endOn_85 rfl (lv_at hl 4 rfl) ?_
          refine W.eq (g2 := F0 m9 86 ls [.int (iI (endA c s ((1 : Int) ≠ 0) (k + 1)))]) (congrArg (fun z_ : Int => F0 m9 86 ls [.int (iI (z_))]) (show (endA c s ((1 : Int) ≠ 0) k : Int) = endA c s ((1 : Int) ≠ 0) (k + 1) from (by rw [endA_s]; split; (next q_ => first | rfl | exact absurd (hon.mpr q_.1) c_e); (next q_ => first | rfl | exact absurd ⟨hon.mp c_e, Or.inl (by decide)⟩ q_)))) ?_
          refine lv_istore_n (lv' := [(3, .int (iI (endA c s ((1 : Int) ≠ 0) (k + 1)))), (5, .int (iI (0))), (0, .ref a), (1, .int (iI (s))), (2, .int (iI (1))), (4, .int (iI ((k : Int))))]) hx hb dX2_endOn_86 rfl hl (by decide) rfl (fun ls hl => ?_)
          refine h_iinc (lv' := [(4, .int (iI ((k : Int) + 1))), (3, .int (iI (endA c s ((1 : Int) ≠ 0) (k + 1)))), (5, .int (iI (0))), (0, .ref a), (1, .int (iI (s))), (2, .int (iI (1)))]) hx hb dX2_endOn_87 hl (k := 5) rfl (by decide) rfl (fun ls hl => ?_)
          refine lv_goto (tgt := 5) hx hb dX2_endOn_90 (by decide) ?_
          exact ih_1 (k + 1) (by omega) (by omega) _ _ _ hR hL (lv_sub hl [3, 4, 5, 1, 0] rfl)
        ·
          refine lv_iload_n hx hb dX2_endOn_44 rfl (lv_at hl 2 rfl) ?_
          refine h_if_ne hx hb 53 dX2_endOn_45 (by decide) (by decide) (fun _ => ?_) (fun z_ => absurd z_ (by decide))
          refine h_iconst hx hb dX2_endOn_53 ?_
          refine lv_goto (tgt := 58) hx hb dX2_endOn_54 (by decide) ?_
          refine lv_istore (lv' := [(5, .int (iI (1))), (0, .ref a), (1, .int (iI (s))), (2, .int (iI (1))), (3, .int (iI (endA c s ((1 : Int) ≠ 0) k))), (4, .int (iI ((k : Int))))]) hx hb dX2_endOn_58 hl (by decide) rfl (fun ls hl => ?_)
          refine lv_iload hx hb dX2_endOn_60 (lv_at hl 0 rfl) ?_
          refine h_if_eq hx hb 85 dX2_endOn_62 (by decide) (by decide) (fun z_ => absurd z_ (by decide)) (fun _ => ?_)
          refine lv_aload_n hx hb dX2_endOn_65 rfl (lv_at hl 1 rfl) ?_
          refine h_get X hR hCt rfl in_X2 3 (by decide) q597 rfl dX2_endOn_66 ?_
          refine lv_iload hx hb dX2_endOn_69 (lv_at hl 5 rfl) ?_
          -- call java/util/ArrayList.get
          refine h_k5Rp (h_runF (x := ⟨"java/util/List", "get", "(I)Ljava/lang/Object;"⟩) X hR (ls_get l G w (lm + 1) lm 40 mo1 Lm hlm k (by omega)) pn_i_java_util_List_get_1 (hlm.c) (kk_face X.2 (by decide +kernel) q1575 q1574 q1579 q1577 q664) q1573 q1578 q1576 q125 q1580 ⟨by decide, by decide⟩ hl.1 (Nat.le_of_ble_eq_true rfl) dX2_endOn_71 ⟨by omega, by omega⟩) hL (fun H locs hR hL => ?_)
          refine h_castS X hR (hasC.of hm_81 rfl) q1385 dX2_endOn_76 ?_
          refine h_getN X hR hm_81 rfl in_X5 0 (by decide) q1537 rfl dX2_endOn_79 ?_
          refine lv_goto (tgt := 86) hx hb dX2_endOn_82 (by decide) ?_
          refine W.eq (g2 := F0 m9 86 ls [.int (iI (endA c s ((1 : Int) ≠ 0) (k + 1)))]) (congrArg (fun z_ : Int => F0 m9 86 ls [.int (iI (z_))]) (show (mId (mk c k) : Int) = endA c s ((1 : Int) ≠ 0) (k + 1) from (by rw [endA_s]; split; (next q_ => first | rfl | exact absurd (hon.mpr q_.1) c_e); (next q_ => first | rfl | exact absurd ⟨hon.mp c_e, Or.inl (by decide)⟩ q_)))) ?_
          refine lv_istore_n (lv' := [(3, .int (iI (endA c s ((1 : Int) ≠ 0) (k + 1)))), (5, .int (iI (1))), (0, .ref a), (1, .int (iI (s))), (2, .int (iI (1))), (4, .int (iI ((k : Int))))]) hx hb dX2_endOn_86 rfl hl (by decide) rfl (fun ls hl => ?_)
          refine h_iinc (lv' := [(4, .int (iI ((k : Int) + 1))), (3, .int (iI (endA c s ((1 : Int) ≠ 0) (k + 1)))), (5, .int (iI (1))), (0, .ref a), (1, .int (iI (s))), (2, .int (iI (1)))]) hx hb dX2_endOn_87 hl (k := 5) rfl (by decide) rfl (fun ls hl => ?_)
          refine lv_goto (tgt := 5) hx hb dX2_endOn_90 (by decide) ?_
          exact ih_1 (k + 1) (by omega) (by omega) _ _ _ hR hL (lv_sub hl [3, 4, 5, 1, 0] rfl)
  exact LOOP_1 _ 0 (by omega) (Nat.lt_succ_self _) _ _ _ hR hL (lv_sub hl [2, 3, 4, 1, 0] rfl)

set_option maxHeartbeats 4000000 in
set_option maxRecDepth 100000 in
/-- SpokenMarks$Catalogue.isBound -/
theorem ct_isB (l : Launch) (G : Gl) (w : Wd) (a lm lr hm : Nat) (c : Cat) (hC : CatAt G w a lm lr hm c) (hS : CatS c) (s v : Int) (hs : 1 ≤ s ∧ s < cSh c) (h1 : R32 v) (hv0 : v ≤ 10000) : HM l yX2_isBound cX2_isBound 3 (some .boolean) 1 0 0 G [.ref a, .int (iI (s)), .int (iI (v))] w (QI G (fun z_ w_ => z_ = b2i ¬ (v < bdX c (s - 1) ∨ bdX c (s + 1) < v) ∧ w_ = w)) := by
  refine HM.mk (by decide +kernel) (Nat.le_of_ble_eq_true rfl) ?_
  intro p9 e9 s9 m9 a9 b9 meth9 c9 ls X hret hlk hnm hl H hR
  have hx := X.1.1
  have hb := X.1.2.1
  have hl : lv_has ls 3 [(0, .ref a), (1, .int (iI (s))), (2, .int (iI (v)))] := hl
  have hL : LK G [] := fun q h => absurd h List.not_mem_nil
  generalize ([] : List Loc) = locs at hL ⊢
  have hC0 := hC
  obtain ⟨bda, aca, so, fb, fa, Lm, Lr, mp, hCt, ⟨hbd, hbx⟩, ⟨hac, hax⟩, hso, ⟨⟨mo1, hm1, hlm⟩, hmk, hnd⟩, ⟨⟨mo2, hm2, hlr⟩, hru⟩, ⟨hhm, hmp⟩, hrd, hid, hba, hll⟩ := hC
  have hCt : w a = some (a + 1, oE 2 [.int (iI (cSh c)), .int (iI (cRm c)), .ref bda, .ref lm, .ref lr, .ref hm, .ref so, .ref aca, .int (iI (cNx c))]) := hCt
  have s1 := hS.1
  have s2 := hS.2.1
  have s3 := hS.2.2.1
  have s4 := hS.2.2.2.1.1
  have hRW := hS.2.2.2.2.1
  have s5 := hRW.1
  have s6 := hS.2.2.2.2.2
  have hml : Lm.length = cN c := hmk.1
  have hrl := hru.1
  have hb1 : fb (s - 1).toNat = bdX c (s - 1) := by unfold bdX; rw [if_neg (by omega)]; exact hbx _ (by omega)
  have hb1r := s3.2 (s - 1).toNat (by omega)
  rw [← hbx _ (by omega)] at hb1r
  have hb2 : s + 1 < cSh c → fb (s + 1).toNat = bdX c (s + 1) ∧ 0 ≤ fb (s + 1).toNat ∧ fb (s + 1).toNat ≤ 10000 := fun q_ => by unfold bdX; rw [if_neg (by omega)]; have h_ := s3.2 (s + 1).toNat (by omega); rw [← hbx _ (by omega)] at h_; exact ⟨hbx _ (by omega), h_⟩
  have hb3 : cSh c ≤ s + 1 → bdX c (s + 1) = 10000 := fun q_ => if_pos q_
  have hv : v ≤ 10000 := hv0
  refine lv_iload_n hx hb dX2_isBound_0 rfl (lv_at hl 2 rfl) ?_
  refine lv_aload_n hx hb dX2_isBound_1 rfl (lv_at hl 0 rfl) ?_
  refine h_get X hR hCt rfl in_X2 2 (by decide) q594 rfl dX2_isBound_2 ?_
  refine lv_iload_n hx hb dX2_isBound_5 rfl (lv_at hl 1 rfl) ?_
  refine h_iconst hx hb dX2_isBound_6 ?_
  refine h_isub hx hb dX2_isBound_7 ?_
  refine h_iald X hR hbd (by omega) (by omega) dX2_isBound_8 ?_
  refine h_icmp_lt hx hb 38 dX2_isBound_9 (by decide) (by omega) (by omega) (fun c_a => ?_) (fun c_a => ?_)
  ·
    refine h_iconst hx hb dX2_isBound_38 ?_
    exact h_ireturn hx hb hlk hret hR hL (nar01 (by omega)) ⟨by first | exact (b2i_t (p := ¬ (v < bdX c (s - 1) ∨ bdX c (s + 1) < v)) (by omega)).symm | exact (b2i_f (p := ¬ (v < bdX c (s - 1) ∨ bdX c (s + 1) < v)) (by omega)).symm, rfl⟩ (by omega) (by omega) rfl rfl dX2_isBound_39
  ·
    refine lv_iload_n hx hb dX2_isBound_12 rfl (lv_at hl 1 rfl) ?_
    refine lv_aload_n hx hb dX2_isBound_13 rfl (lv_at hl 0 rfl) ?_
    refine h_get X hR hCt rfl in_X2 0 (by decide) q589 rfl dX2_isBound_14 ?_
    refine h_iconst hx hb dX2_isBound_17 ?_
    refine h_isub hx hb dX2_isBound_18 ?_
    refine h_icmp_eq hx hb 34 dX2_isBound_19 (by decide) (by omega) (by omega) (fun c_b => ?_) (fun c_b => ?_)
    ·
      have hb5 := hb3 (by omega)
      refine h_iconst hx hb dX2_isBound_34 ?_
      refine lv_goto (tgt := 39) hx hb dX2_isBound_35 (by decide) ?_
      exact h_ireturn hx hb hlk hret hR hL (nar01 (by omega)) ⟨by first | exact (b2i_t (p := ¬ (v < bdX c (s - 1) ∨ bdX c (s + 1) < v)) (by omega)).symm | exact (b2i_f (p := ¬ (v < bdX c (s - 1) ∨ bdX c (s + 1) < v)) (by omega)).symm, rfl⟩ (by omega) (by omega) rfl rfl dX2_isBound_39
    ·
      have hb4 := hb2 (by omega)
      refine lv_iload_n hx hb dX2_isBound_22 rfl (lv_at hl 2 rfl) ?_
      refine lv_aload_n hx hb dX2_isBound_23 rfl (lv_at hl 0 rfl) ?_
      refine h_get X hR hCt rfl in_X2 2 (by decide) q594 rfl dX2_isBound_24 ?_
      refine lv_iload_n hx hb dX2_isBound_27 rfl (lv_at hl 1 rfl) ?_
      refine h_iconst hx hb dX2_isBound_28 ?_
      refine h_iadd hx hb dX2_isBound_29 ?_
      refine h_iald X hR hbd (by omega) (by omega) dX2_isBound_30 ?_
      refine h_icmp_gt hx hb 38 dX2_isBound_31 (by decide) (by omega) (by omega) (fun c_c => ?_) (fun c_c => ?_)
      ·
        refine h_iconst hx hb dX2_isBound_38 ?_
        exact h_ireturn hx hb hlk hret hR hL (nar01 (by omega)) ⟨by first | exact (b2i_t (p := ¬ (v < bdX c (s - 1) ∨ bdX c (s + 1) < v)) (by omega)).symm | exact (b2i_f (p := ¬ (v < bdX c (s - 1) ∨ bdX c (s + 1) < v)) (by omega)).symm, rfl⟩ (by omega) (by omega) rfl rfl dX2_isBound_39
      ·
        refine h_iconst hx hb dX2_isBound_34 ?_
        refine lv_goto (tgt := 39) hx hb dX2_isBound_35 (by decide) ?_
        exact h_ireturn hx hb hlk hret hR hL (nar01 (by omega)) ⟨by first | exact (b2i_t (p := ¬ (v < bdX c (s - 1) ∨ bdX c (s + 1) < v)) (by omega)).symm | exact (b2i_f (p := ¬ (v < bdX c (s - 1) ∨ bdX c (s + 1) < v)) (by omega)).symm, rfl⟩ (by omega) (by omega) rfl rfl dX2_isBound_39

theorem lsT_z {c : Cat} (h : CatW c) {k : Nat} {z : Int} (hk : 1 ≤ k ∧ k ≤ max 1 (cN c)) (hz : if k = 1 then z = (if cN c < 2 then 0 else 10000) else z = lsT c (k - 1)) (hn : k < cN c) : 0 < z ∧ z ≤ 10000 := by
  by_cases q : k = 1
  · rw [if_pos q, if_neg (by omega)] at hz; omega
  · rw [if_neg q] at hz
    have := lsT_s h (k - 1) (by omega) (by omega)
    omega
theorem lsT_n {c : Cat} (h : CatW c) {k : Nat} {z : Int} (hk : 1 ≤ k ∧ k ≤ max 1 (cN c)) (hz : if k = 1 then z = (if cN c < 2 then 0 else 10000) else z = lsT c (k - 1)) (hn : k < cN c) : (if z ≤ mPl (mk c k) - mPl (mk c (k - 1)) then z else mPl (mk c k) - mPl (mk c (k - 1))) = lsT c (k - 1 + 1) := by
  have e1 : k - 1 + 1 = k := by omega
  have a := (h.1.mw hn).2.2.2
  have b := (h.1.mw (k := k - 1) (by omega)).2.2.2
  unfold lsT
  rw [e1]
  by_cases q : k = 1
  · subst q
    rw [if_pos rfl, if_neg (by omega)] at hz
    have e0 : lsT c (1 - 1) = 0 := rfl
    rw [e0, if_pos (Or.inl rfl), if_neg (by omega)]
  · rw [if_neg q] at hz
    have h2 := lsT_s h (k - 1) (by omega) (by omega)
    rw [hz]
    by_cases q2 : lsT c (k - 1) ≤ mPl (mk c k) - mPl (mk c (k - 1))
    · rw [if_pos q2, if_neg (by omega)]
    · rw [if_neg q2, if_pos (by omega)]
theorem lsT_f {c : Cat} {k : Nat} {z : Int} (hk : 1 ≤ k ∧ k ≤ max 1 (cN c)) (hz : if k = 1 then z = (if cN c < 2 then 0 else 10000) else z = lsT c (k - 1)) (hn : cN c ≤ k) : z = lsT c (cN c - 1) := by
  by_cases q : k = 1
  · rw [if_pos q, if_pos (by omega)] at hz
    rw [show cN c - 1 = 0 by omega, hz]; rfl
  · rw [if_neg q] at hz
    rw [hz, show k = cN c by omega]

set_option maxHeartbeats 4000000 in
set_option maxRecDepth 100000 in
/-- SpokenMarks$Catalogue.leastStep -/
theorem ct_lsT (l : Launch) (G : Gl) (w : Wd) (a lm lr hm : Nat) (c : Cat) (hC : CatAt G w a lm lr hm c) (hS : CatS c) (hW : CatW c)  : HM l yX2_leastStep cX2_leastStep 3 (some .int) 4 0 0 G [.ref a] w (QI G (fun z_ w_ => z_ = lsT c (cN c - 1) ∧ w_ = w)) := by
  refine HM.mk (by decide +kernel) (Nat.le_of_ble_eq_true rfl) ?_
  intro p9 e9 s9 m9 a9 b9 meth9 c9 ls X hret hlk hnm hl H hR
  have hx := X.1.1
  have hb := X.1.2.1
  have hl : lv_has ls 3 [(0, .ref a)] := hl
  have hL : LK G [] := fun q h => absurd h List.not_mem_nil
  generalize ([] : List Loc) = locs at hL ⊢
  have hC0 := hC
  obtain ⟨bda, aca, so, fb, fa, Lm, Lr, mp, hCt, ⟨hbd, hbx⟩, ⟨hac, hax⟩, hso, ⟨⟨mo1, hm1, hlm⟩, hmk, hnd⟩, ⟨⟨mo2, hm2, hlr⟩, hru⟩, ⟨hhm, hmp⟩, hrd, hid, hba, hll⟩ := hC
  have hCt : w a = some (a + 1, oE 2 [.int (iI (cSh c)), .int (iI (cRm c)), .ref bda, .ref lm, .ref lr, .ref hm, .ref so, .ref aca, .int (iI (cNx c))]) := hCt
  have s1 := hS.1
  have s2 := hS.2.1
  have s3 := hS.2.2.1
  have s4 := hS.2.2.2.1.1
  have hRW := hS.2.2.2.2.1
  have s5 := hRW.1
  have s6 := hS.2.2.2.2.2
  have hml : Lm.length = cN c := hmk.1
  have hrl := hru.1
  refine lv_aload_n hx hb dX2_leastStep_0 rfl (lv_at hl 0 rfl) ?_
  refine h_get X hR hCt rfl in_X2 3 (by decide) q597 rfl dX2_leastStep_1 ?_
  -- call java/util/ArrayList.size
  refine h_k5Ip (h_runF (x := ⟨"java/util/List", "size", "()I"⟩) X hR (ls_size l G w (lm + 1) lm 40 mo1 Lm hlm) pn_i_java_util_List_size_0 (hlm.c) (kk_face X.2 (by decide +kernel) q1566 q1565 q1570 q1568 q664) q1564 q1569 q1567 q125 q1571 ⟨by decide, by decide⟩ hl.1 (Nat.le_of_ble_eq_true rfl) dX2_leastStep_4 ⟨by omega, by omega⟩) hL (fun H locs hR hL => ?_)
  refine W.eq (g2 := F0 m9 9 ls [.int (iI ((cN c : Int)))]) (congrArg (fun z_ : Int => F0 m9 9 ls [.int (iI (z_))]) (show ((Lm.length : Int) : Int) = (cN c : Int) from (by rw [hml]))) ?_
  refine h_iconst hx hb dX2_leastStep_9 ?_
  refine h_icmp_ge hx hb 17 dX2_leastStep_10 (by decide) (by omega) (by omega) (fun c_2 => ?_) (fun c_2 => ?_)
  ·
    refine h_sipush hx hb dX2_leastStep_17 (by decide) ?_
    refine W.eq (g2 := F0 m9 20 ls [.int (iI ((if cN c < 2 then 0 else 10000)))]) (congrArg (fun z_ : Int => F0 m9 20 ls [.int (iI (z_))]) (show (10000 : Int) = (if cN c < 2 then 0 else 10000) from (by first | exact (if_pos (by omega)).symm | exact (if_neg (by omega)).symm))) ?_
    refine lv_istore_n (lv' := [(1, .int (iI ((if cN c < 2 then 0 else 10000)))), (0, .ref a)]) hx hb dX2_leastStep_20 rfl hl (by decide) rfl (fun ls hl => ?_)
    obtain ⟨z0, hz0⟩ : ∃ z0 : Int, z0 = if cN c < 2 then 0 else 10000 := ⟨_, rfl⟩
    refine h_iconst hx hb dX2_leastStep_21 ?_
    refine lv_istore_n (lv' := [(2, .int (iI (1))), (1, .int (iI ((if cN c < 2 then 0 else 10000)))), (0, .ref a)]) hx hb dX2_leastStep_22 rfl hl (by decide) rfl (fun ls hl => ?_)
    have LOOP_4 : ∀ (N_ : Nat) (k : Nat) (z : Int), (1 ≤ k ∧ k ≤ max 1 (cN c)) → (if k = 1 then z = (if cN c < 2 then 0 else 10000) else z = lsT c (k - 1)) → (42 - k) < N_ → ∀ (H : Heap) (locs : List Loc) (ls : Array Slot), Rp G w H → LK G locs → lv_has ls 3 [(0, .ref a), (1, .int (iI (z))), (2, .int (iI ((k : Int))))] → W p9 l e9 (rmk 4 0 0) s9 m9 a9 b9 meth9 c9 H locs 0 0 (MQ b9 (QI G (fun z_ w_ => z_ = lsT c (cN c - 1) ∧ w_ = w)) a9 s9 0 0 (frG G)) (F0 m9 23 ls []) := by
      intro N_
      induction N_ with
      | zero => intro _ _ _ _ h_; exact absurd h_ (Nat.not_lt_zero _)
      | succ N_ ih_ =>
        intro k z hk hz hN_ H locs ls hR hL hl
        have ih_4 := ih_
        clear ih_
        refine lv_iload_n hx hb dX2_leastStep_23 rfl (lv_at hl 2 rfl) ?_
        refine lv_aload_n hx hb dX2_leastStep_24 rfl (lv_at hl 0 rfl) ?_
        refine h_get X hR hCt rfl in_X2 3 (by decide) q597 rfl dX2_leastStep_25 ?_
        -- call java/util/ArrayList.size
        refine h_k5Ip (h_runF (x := ⟨"java/util/List", "size", "()I"⟩) X hR (ls_size l G w (lm + 1) lm 40 mo1 Lm hlm) pn_i_java_util_List_size_0 (hlm.c) (kk_face X.2 (by decide +kernel) q1566 q1565 q1570 q1568 q664) q1564 q1569 q1567 q125 q1571 ⟨by decide, by decide⟩ hl.1 (Nat.le_of_ble_eq_true rfl) dX2_leastStep_28 ⟨by omega, by omega⟩) hL (fun H locs hR hL => ?_)
        refine W.eq (g2 := F0 m9 33 ls [.int (iI ((cN c : Int))), .int (iI ((k : Int)))]) (congrArg (fun z_ : Int => F0 m9 33 ls [.int (iI (z_)), .int (iI ((k : Int)))]) (show ((Lm.length : Int) : Int) = (cN c : Int) from (by rw [hml]))) ?_
        refine h_icmp_ge hx hb 82 dX2_leastStep_33 (by decide) (by omega) (by omega) (fun c_k => ?_) (fun c_k => ?_)
        ·
          refine lv_iload_n hx hb dX2_leastStep_82 rfl (lv_at hl 1 rfl) ?_
          exact h_ireturn hx hb hlk hret hR hL rfl ⟨lsT_f hk hz (by omega), rfl⟩ (by omega) (by omega) rfl rfl dX2_leastStep_83
        ·
          refine lv_iload_n hx hb dX2_leastStep_36 rfl (lv_at hl 1 rfl) ?_
          refine lv_aload_n hx hb dX2_leastStep_37 rfl (lv_at hl 0 rfl) ?_
          refine h_get X hR hCt rfl in_X2 3 (by decide) q597 rfl dX2_leastStep_38 ?_
          refine lv_iload_n hx hb dX2_leastStep_41 rfl (lv_at hl 2 rfl) ?_
          -- call java/util/ArrayList.get
          refine h_k5Rp (h_runF (x := ⟨"java/util/List", "get", "(I)Ljava/lang/Object;"⟩) X hR (ls_get l G w (lm + 1) lm 40 mo1 Lm hlm k (by omega)) pn_i_java_util_List_get_1 (hlm.c) (kk_face X.2 (by decide +kernel) q1575 q1574 q1579 q1577 q664) q1573 q1578 q1576 q125 q1580 ⟨by decide, by decide⟩ hl.1 (Nat.le_of_ble_eq_true rfl) dX2_leastStep_42 ⟨by omega, by omega⟩) hL (fun H locs hR hL => ?_)
          have hm_11 : MkAt G (cRl c) w (a + 1) (Lm.getD k 0) (mk c k) := MksAt.g hmk (show k < cN c by omega)
          have hm_11w := hS.mw (k := k) (by omega)
          have hm_11p := hS.pw (k := k) (by omega)
          have hm_11r := hm_11w.1
          have hm_11r2 := hm_11w.2.2
          obtain ⟨pl_12, hm_111, hm_112⟩ := hm_11
          refine h_castS X hR (hasC.of hm_111 rfl) q1385 dX2_leastStep_47 ?_
          refine h_getN X hR hm_111 rfl in_X5 3 (by decide) q1548 rfl dX2_leastStep_50 ?_
          refine lv_aload_n hx hb dX2_leastStep_53 rfl (lv_at hl 0 rfl) ?_
          refine h_get X hR hCt rfl in_X2 3 (by decide) q597 rfl dX2_leastStep_54 ?_
          refine lv_iload_n hx hb dX2_leastStep_57 rfl (lv_at hl 2 rfl) ?_
          refine h_iconst hx hb dX2_leastStep_58 ?_
          refine h_isub hx hb dX2_leastStep_59 ?_
          refine W.eq (g2 := F0 m9 60 ls [.int (iI (((k - 1 : Nat) : Int))), .ref lm, .int (iI (mPl (mk c k))), .int (iI (z))]) (congrArg (fun z_ : Int => F0 m9 60 ls [.int (iI (z_)), .ref lm, .int (iI (mPl (mk c k))), .int (iI (z))]) (show (((k : Int)) - 1 : Int) = ((k - 1 : Nat) : Int) from (by omega))) ?_
          -- call java/util/ArrayList.get
          refine h_k5Rp (h_runF (x := ⟨"java/util/List", "get", "(I)Ljava/lang/Object;"⟩) X hR (ls_get l G w (lm + 1) lm 40 mo1 Lm hlm (k - 1) (by omega)) pn_i_java_util_List_get_1 (hlm.c) (kk_face X.2 (by decide +kernel) q1575 q1574 q1579 q1577 q664) q1573 q1578 q1576 q125 q1580 ⟨by decide, by decide⟩ hl.1 (Nat.le_of_ble_eq_true rfl) dX2_leastStep_60 ⟨by omega, by omega⟩) hL (fun H locs hR hL => ?_)
          have hm_16 : MkAt G (cRl c) w (a + 1) (Lm.getD (k - 1) 0) (mk c (k - 1)) := MksAt.g hmk (show (k - 1) < cN c by omega)
          have hm_16w := hS.mw (k := k - 1) (by omega)
          have hm_16p := hS.pw (k := k - 1) (by omega)
          have hm_16r := hm_16w.1
          have hm_16r2 := hm_16w.2.2
          obtain ⟨pl_17, hm_161, hm_162⟩ := hm_16
          refine h_castS X hR (hasC.of hm_161 rfl) q1385 dX2_leastStep_65 ?_
          refine h_getN X hR hm_161 rfl in_X5 3 (by decide) q1548 rfl dX2_leastStep_68 ?_
          refine h_isub hx hb dX2_leastStep_71 ?_
          have hst := hW.2.1 (k - 1) (by omega)
          rw [show k - 1 + 1 = k by omega] at hst
          have hzr := lsT_z hW hk hz (by omega)
          refine h_mmin X hl.1 ⟨by omega, by omega⟩ ⟨by omega, by omega⟩ q1835 q336 q135 q337 ⟨by decide, Nat.le_of_ble_eq_true rfl⟩ (by omega) (by omega) dX2_leastStep_72 ?_
          have hnw := lsT_n hW hk hz (by omega)
          refine lv_istore_n (lv' := [(1, .int (iI (if z ≤ (mPl (mk c k)) - (mPl (mk c (k - 1))) then z else (mPl (mk c k)) - (mPl (mk c (k - 1)))))), (0, .ref a), (2, .int (iI ((k : Int))))]) hx hb dX2_leastStep_75 rfl hl (by decide) rfl (fun ls hl => ?_)
          refine h_iinc (lv' := [(2, .int (iI ((k : Int) + 1))), (1, .int (iI (if z ≤ (mPl (mk c k)) - (mPl (mk c (k - 1))) then z else (mPl (mk c k)) - (mPl (mk c (k - 1)))))), (0, .ref a)]) hx hb dX2_leastStep_76 hl (k := 2) rfl (by decide) rfl (fun ls hl => ?_)
          refine lv_goto (tgt := 23) hx hb dX2_leastStep_79 (by decide) ?_
          exact ih_4 (k + 1) (if z ≤ (mPl (mk c k)) - (mPl (mk c (k - 1))) then z else (mPl (mk c k)) - (mPl (mk c (k - 1)))) (by omega) (by rw [if_neg (by omega), show k + 1 - 1 = k - 1 + 1 by omega]; exact hnw) (by omega) _ _ _ hR hL (lv_sub hl [2, 1, 0] rfl)
    exact LOOP_4 _ 1 ((if cN c < 2 then 0 else 10000)) (by omega) (by rw [if_pos rfl]) (Nat.lt_succ_self _) _ _ _ hR hL (lv_sub hl [2, 1, 0] rfl)
  ·
    refine h_iconst hx hb dX2_leastStep_13 ?_
    refine lv_goto (tgt := 20) hx hb dX2_leastStep_14 (by decide) ?_
    refine W.eq (g2 := F0 m9 20 ls [.int (iI ((if cN c < 2 then 0 else 10000)))]) (congrArg (fun z_ : Int => F0 m9 20 ls [.int (iI (z_))]) (show (0 : Int) = (if cN c < 2 then 0 else 10000) from (by first | exact (if_pos (by omega)).symm | exact (if_neg (by omega)).symm))) ?_
    refine lv_istore_n (lv' := [(1, .int (iI ((if cN c < 2 then 0 else 10000)))), (0, .ref a)]) hx hb dX2_leastStep_20 rfl hl (by decide) rfl (fun ls hl => ?_)
    obtain ⟨z0, hz0⟩ : ∃ z0 : Int, z0 = if cN c < 2 then 0 else 10000 := ⟨_, rfl⟩
    refine h_iconst hx hb dX2_leastStep_21 ?_
    refine lv_istore_n (lv' := [(2, .int (iI (1))), (1, .int (iI ((if cN c < 2 then 0 else 10000)))), (0, .ref a)]) hx hb dX2_leastStep_22 rfl hl (by decide) rfl (fun ls hl => ?_)
    have LOOP_18 : ∀ (N_ : Nat) (k : Nat) (z : Int), (1 ≤ k ∧ k ≤ max 1 (cN c)) → (if k = 1 then z = (if cN c < 2 then 0 else 10000) else z = lsT c (k - 1)) → (42 - k) < N_ → ∀ (H : Heap) (locs : List Loc) (ls : Array Slot), Rp G w H → LK G locs → lv_has ls 3 [(0, .ref a), (1, .int (iI (z))), (2, .int (iI ((k : Int))))] → W p9 l e9 (rmk 4 0 0) s9 m9 a9 b9 meth9 c9 H locs 0 0 (MQ b9 (QI G (fun z_ w_ => z_ = lsT c (cN c - 1) ∧ w_ = w)) a9 s9 0 0 (frG G)) (F0 m9 23 ls []) := by
      intro N_
      induction N_ with
      | zero => intro _ _ _ _ h_; exact absurd h_ (Nat.not_lt_zero _)
      | succ N_ ih_ =>
        intro k z hk hz hN_ H locs ls hR hL hl
        have ih_18 := ih_
        clear ih_
        refine lv_iload_n hx hb dX2_leastStep_23 rfl (lv_at hl 2 rfl) ?_
        refine lv_aload_n hx hb dX2_leastStep_24 rfl (lv_at hl 0 rfl) ?_
        refine h_get X hR hCt rfl in_X2 3 (by decide) q597 rfl dX2_leastStep_25 ?_
        -- call java/util/ArrayList.size
        refine h_k5Ip (h_runF (x := ⟨"java/util/List", "size", "()I"⟩) X hR (ls_size l G w (lm + 1) lm 40 mo1 Lm hlm) pn_i_java_util_List_size_0 (hlm.c) (kk_face X.2 (by decide +kernel) q1566 q1565 q1570 q1568 q664) q1564 q1569 q1567 q125 q1571 ⟨by decide, by decide⟩ hl.1 (Nat.le_of_ble_eq_true rfl) dX2_leastStep_28 ⟨by omega, by omega⟩) hL (fun H locs hR hL => ?_)
        refine W.eq (g2 := F0 m9 33 ls [.int (iI ((cN c : Int))), .int (iI ((k : Int)))]) (congrArg (fun z_ : Int => F0 m9 33 ls [.int (iI (z_)), .int (iI ((k : Int)))]) (show ((Lm.length : Int) : Int) = (cN c : Int) from (by rw [hml]))) ?_
        refine h_icmp_ge hx hb 82 dX2_leastStep_33 (by decide) (by omega) (by omega) (fun c_k => ?_) (fun c_k => ?_)
        ·
          refine lv_iload_n hx hb dX2_leastStep_82 rfl (lv_at hl 1 rfl) ?_
          exact h_ireturn hx hb hlk hret hR hL rfl ⟨lsT_f hk hz (by omega), rfl⟩ (by omega) (by omega) rfl rfl dX2_leastStep_83
        ·
          refine lv_iload_n hx hb dX2_leastStep_36 rfl (lv_at hl 1 rfl) ?_
          refine lv_aload_n hx hb dX2_leastStep_37 rfl (lv_at hl 0 rfl) ?_
          refine h_get X hR hCt rfl in_X2 3 (by decide) q597 rfl dX2_leastStep_38 ?_
          refine lv_iload_n hx hb dX2_leastStep_41 rfl (lv_at hl 2 rfl) ?_
          -- call java/util/ArrayList.get
          refine h_k5Rp (h_runF (x := ⟨"java/util/List", "get", "(I)Ljava/lang/Object;"⟩) X hR (ls_get l G w (lm + 1) lm 40 mo1 Lm hlm k (by omega)) pn_i_java_util_List_get_1 (hlm.c) (kk_face X.2 (by decide +kernel) q1575 q1574 q1579 q1577 q664) q1573 q1578 q1576 q125 q1580 ⟨by decide, by decide⟩ hl.1 (Nat.le_of_ble_eq_true rfl) dX2_leastStep_42 ⟨by omega, by omega⟩) hL (fun H locs hR hL => ?_)
          have hm_25 : MkAt G (cRl c) w (a + 1) (Lm.getD k 0) (mk c k) := MksAt.g hmk (show k < cN c by omega)
          have hm_25w := hS.mw (k := k) (by omega)
          have hm_25p := hS.pw (k := k) (by omega)
          have hm_25r := hm_25w.1
          have hm_25r2 := hm_25w.2.2
          obtain ⟨pl_26, hm_251, hm_252⟩ := hm_25
          refine h_castS X hR (hasC.of hm_251 rfl) q1385 dX2_leastStep_47 ?_
          refine h_getN X hR hm_251 rfl in_X5 3 (by decide) q1548 rfl dX2_leastStep_50 ?_
          refine lv_aload_n hx hb dX2_leastStep_53 rfl (lv_at hl 0 rfl) ?_
          refine h_get X hR hCt rfl in_X2 3 (by decide) q597 rfl dX2_leastStep_54 ?_
          refine lv_iload_n hx hb dX2_leastStep_57 rfl (lv_at hl 2 rfl) ?_
          refine h_iconst hx hb dX2_leastStep_58 ?_
          refine h_isub hx hb dX2_leastStep_59 ?_
          refine W.eq (g2 := F0 m9 60 ls [.int (iI (((k - 1 : Nat) : Int))), .ref lm, .int (iI (mPl (mk c k))), .int (iI (z))]) (congrArg (fun z_ : Int => F0 m9 60 ls [.int (iI (z_)), .ref lm, .int (iI (mPl (mk c k))), .int (iI (z))]) (show (((k : Int)) - 1 : Int) = ((k - 1 : Nat) : Int) from (by omega))) ?_
          -- call java/util/ArrayList.get
          refine h_k5Rp (h_runF (x := ⟨"java/util/List", "get", "(I)Ljava/lang/Object;"⟩) X hR (ls_get l G w (lm + 1) lm 40 mo1 Lm hlm (k - 1) (by omega)) pn_i_java_util_List_get_1 (hlm.c) (kk_face X.2 (by decide +kernel) q1575 q1574 q1579 q1577 q664) q1573 q1578 q1576 q125 q1580 ⟨by decide, by decide⟩ hl.1 (Nat.le_of_ble_eq_true rfl) dX2_leastStep_60 ⟨by omega, by omega⟩) hL (fun H locs hR hL => ?_)
          have hm_30 : MkAt G (cRl c) w (a + 1) (Lm.getD (k - 1) 0) (mk c (k - 1)) := MksAt.g hmk (show (k - 1) < cN c by omega)
          have hm_30w := hS.mw (k := k - 1) (by omega)
          have hm_30p := hS.pw (k := k - 1) (by omega)
          have hm_30r := hm_30w.1
          have hm_30r2 := hm_30w.2.2
          obtain ⟨pl_31, hm_301, hm_302⟩ := hm_30
          refine h_castS X hR (hasC.of hm_301 rfl) q1385 dX2_leastStep_65 ?_
          refine h_getN X hR hm_301 rfl in_X5 3 (by decide) q1548 rfl dX2_leastStep_68 ?_
          refine h_isub hx hb dX2_leastStep_71 ?_
          have hst := hW.2.1 (k - 1) (by omega)
          rw [show k - 1 + 1 = k by omega] at hst
          have hzr := lsT_z hW hk hz (by omega)
          refine h_mmin X hl.1 ⟨by omega, by omega⟩ ⟨by omega, by omega⟩ q1835 q336 q135 q337 ⟨by decide, Nat.le_of_ble_eq_true rfl⟩ (by omega) (by omega) dX2_leastStep_72 ?_
          have hnw := lsT_n hW hk hz (by omega)
          refine lv_istore_n (lv' := [(1, .int (iI (if z ≤ (mPl (mk c k)) - (mPl (mk c (k - 1))) then z else (mPl (mk c k)) - (mPl (mk c (k - 1)))))), (0, .ref a), (2, .int (iI ((k : Int))))]) hx hb dX2_leastStep_75 rfl hl (by decide) rfl (fun ls hl => ?_)
          refine h_iinc (lv' := [(2, .int (iI ((k : Int) + 1))), (1, .int (iI (if z ≤ (mPl (mk c k)) - (mPl (mk c (k - 1))) then z else (mPl (mk c k)) - (mPl (mk c (k - 1)))))), (0, .ref a)]) hx hb dX2_leastStep_76 hl (k := 2) rfl (by decide) rfl (fun ls hl => ?_)
          refine lv_goto (tgt := 23) hx hb dX2_leastStep_79 (by decide) ?_
          exact ih_18 (k + 1) (if z ≤ (mPl (mk c k)) - (mPl (mk c (k - 1))) then z else (mPl (mk c k)) - (mPl (mk c (k - 1)))) (by omega) (by rw [if_neg (by omega), show k + 1 - 1 = k - 1 + 1 by omega]; exact hnw) (by omega) _ _ _ hR hL (lv_sub hl [2, 1, 0] rfl)
    exact LOOP_18 _ 1 ((if cN c < 2 then 0 else 10000)) (by omega) (by rw [if_pos rfl]) (Nat.lt_succ_self _) _ _ _ hR hL (lv_sub hl [2, 1, 0] rfl)
