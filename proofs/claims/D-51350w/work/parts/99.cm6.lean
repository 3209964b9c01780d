/-! the component: rules, likeness, gaps, ears -/
set_option maxRecDepth 100000

theorem pn_yX2_earOf : ParN yX2_earOf 1 := by decide +kernel
theorem pn_yX3_differ : ParN yX3_differ 2 := by decide +kernel
theorem pn_yX7_earOf : ParN yX7_earOf 1 := by decide +kernel
theorem pn_yX6_init : ParN yX6_init 2 := by decide +kernel
theorem pn_yJ3_iterator : ParN yJ3_iterator 0 := by decide +kernel
theorem pn_yJ25_hasNext : ParN yJ25_hasNext 0 := by decide +kernel
theorem pn_yJ25_next : ParN yJ25_next 0 := by decide +kernel
theorem pn_yJ19_get : ParN yJ19_get 1 := by decide +kernel
theorem pn_i_java_util_Iterator_hasNext_0 : ParN ⟨"java/util/Iterator", "hasNext", "()Z"⟩ 0 := by decide +kernel
theorem pn_i_java_util_Iterator_next_0 : ParN ⟨"java/util/Iterator", "next", "()Ljava/lang/Object;"⟩ 0 := by decide +kernel
theorem pn_i_java_util_List_iterator_0 : ParN ⟨"java/util/List", "iterator", "()Ljava/util/Iterator;"⟩ 0 := by decide +kernel
theorem pn_i_java_util_Map_get_1 : ParN ⟨"java/util/Map", "get", "(Ljava/lang/Object;)Ljava/lang/Object;"⟩ 1 := by decide +kernel

set_option maxHeartbeats 4000000 in
set_option maxRecDepth 100000 in
/-- SpokenMarks$Catalogue.ruleFor -/
theorem ct_rlF (l : Launch) (G : Gl) (w : Wd) (a lm lr hm : Nat) (c : Cat) (hC : CatAt G w a lm lr hm c) (hS : CatS c) (sa : Nat) (L : List Int) (hT : StrAt G w sa L) : HM l yX2_ruleFor cX2_ruleFor 3 (some .int) 5 0 0 G [.ref a, .ref sa] w (QI G (fun z_ w_ => z_ = rlF (cRl c) L ∧ w_ = w)) := by
  refine HM.mk (by decide +kernel) (Nat.le_of_ble_eq_true rfl) ?_
  intro p9 e9 s9 m9 a9 b9 meth9 c9 ls X hret hlk hnm hl H hR
  have hx := X.1.1
  have hb := X.1.2.1
  have hl : lv_has ls 3 [(0, .ref a), (1, .ref sa)] := hl
  have hL : LK G [] := fun q h => absurd h List.not_mem_nil
  generalize ([] : List Loc) = locs at hL ⊢
  have hC0 := hC
  obtain ⟨bda, aca, so, fb, fa, Lm, Lr, mp, hCt, ⟨hbd, hbx⟩, ⟨hac, hax⟩, hso, ⟨⟨mo1, hm1, hlm⟩, hmk, hnd⟩, ⟨⟨mo2, hm2, hlr⟩, hru⟩, ⟨hhm, hmp⟩, hrd, hid, hba, hll⟩ := hC
  have hCt : w a = some (a + 1, oE 2 [.int (iI (cSh c)), .int (iI (cRm c)), .ref bda, .ref lm, .ref lr, .ref hm, .ref so, .ref aca, .int (iI (cNx c))]) := hCt
  have s1 := hS.1
  have s2 := hS.2.1
  have s3 := hS.2.2.1
  have s4 := hS.2.2.2.1.1
  have hRW := hS.2.2.2.2.1
  have s5 := hRW.1
  have s6 := hS.2.2.2.2.2
  have hml : Lm.length = cN c := hmk.1
  have hrl := hru.1
  refine h_iconst hx hb dX2_ruleFor_0 ?_
  refine lv_istore_n (lv' := [(2, .int (iI (0))), (0, .ref a), (1, .ref sa)]) hx hb dX2_ruleFor_1 rfl hl (by decide) rfl (fun ls hl => ?_)
  have LOOP_1 : ∀ (N_ : Nat) (k : Nat), (k ≤ (cRl c).length) → (∀ j, j < k → ¬ r1 (cRl c) j = L) → (42 - k) < N_ → ∀ (H : Heap) (locs : List Loc) (ls : Array Slot), Rp G w H → LK G locs → lv_has ls 3 [(0, .ref a), (1, .ref sa), (2, .int (iI ((k : Int))))] → W p9 l e9 (rmk 5 0 0) s9 m9 a9 b9 meth9 c9 H locs 0 0 (MQ b9 (QI G (fun z_ w_ => z_ = rlF (cRl c) L ∧ w_ = w)) a9 s9 0 0 (frG G)) (F0 m9 2 ls []) := by
    intro N_
    induction N_ with
    | zero => intro _ _ _ h_; exact absurd h_ (Nat.not_lt_zero _)
    | succ N_ ih_ =>
      intro k hk hn hN_ H locs ls hR hL hl
      have ih_1 := ih_
      clear ih_
      refine lv_iload_n hx hb dX2_ruleFor_2 rfl (lv_at hl 2 rfl) ?_
      refine lv_aload_n hx hb dX2_ruleFor_3 rfl (lv_at hl 0 rfl) ?_
      refine h_get X hR hCt rfl in_X2 4 (by decide) q603 rfl dX2_ruleFor_4 ?_
      -- call java/util/ArrayList.size
      refine h_k5Ip (h_runF (x := ⟨"java/util/List", "size", "()I"⟩) X hR (ls_size l G w (lr + 1) lr 8 mo2 Lr hlr) pn_i_java_util_List_size_0 (hlr.c) (kk_face X.2 (by decide +kernel) q1566 q1565 q1570 q1568 q664) q1564 q1569 q1567 q125 q1571 ⟨by decide, by decide⟩ hl.1 (Nat.le_of_ble_eq_true rfl) dX2_ruleFor_7 ⟨by omega, by omega⟩) hL (fun H locs hR hL => ?_)
      refine W.eq (g2 := F0 m9 12 ls [.int (iI (((cRl c).length : Int))), .int (iI ((k : Int)))]) (congrArg (fun z_ : Int => F0 m9 12 ls [.int (iI (z_)), .int (iI ((k : Int)))]) (show ((Lr.length : Int) : Int) = ((cRl c).length : Int) from (by rw [hrl]))) ?_
      refine h_icmp_ge hx hb 46 dX2_ruleFor_12 (by decide) (by omega) (by omega) (fun c_k => ?_) (fun c_k => ?_)
      ·
        refine h_iconst hx hb dX2_ruleFor_46 ?_
        exact h_ireturn hx hb hlk hret hR hL rfl ⟨(fstN_no (P := fun k_ => r1 (cRl c) k_ = L) (fun j hj => hn j (by omega))).symm, rfl⟩ (by omega) (by omega) rfl rfl dX2_ruleFor_47
      ·
        refine lv_aload_n hx hb dX2_ruleFor_15 rfl (lv_at hl 0 rfl) ?_
        refine h_get X hR hCt rfl in_X2 4 (by decide) q603 rfl dX2_ruleFor_16 ?_
        refine lv_iload_n hx hb dX2_ruleFor_19 rfl (lv_at hl 2 rfl) ?_
        -- call java/util/ArrayList.get
        refine h_k5Rp (h_runF (x := ⟨"java/util/List", "get", "(I)Ljava/lang/Object;"⟩) X hR (ls_get l G w (lr + 1) lr 8 mo2 Lr hlr k (by omega)) pn_i_java_util_List_get_1 (hlr.c) (kk_face X.2 (by decide +kernel) q1575 q1574 q1579 q1577 q664) q1573 q1578 q1576 q125 q1580 ⟨by decide, by decide⟩ hl.1 (Nat.le_of_ble_eq_true rfl) dX2_ruleFor_20 ⟨by omega, by omega⟩) hL (fun H locs hR hL => ?_)
        obtain ⟨fa_hr_8, sa_hr_8, hr_81, hr_82, hr_83⟩ : RuAt G w (Lr.getD k 0) (gR (cRl c) k) := RusAt.g hru (show k < (cRl c).length by omega)
        refine h_castS X hR (hasC.of hr_81 rfl) q1806 dX2_ruleFor_25 ?_
        refine h_getN X hR hr_81 rfl in_X4 0 (by decide) q646 rfl dX2_ruleFor_28 ?_
        refine lv_aload_n hx hb dX2_ruleFor_31 rfl (lv_at hl 1 rfl) ?_
        -- call java/lang/String.equals
        refine h_kIp (h_runV X hR (s_eq l G w fa_hr_8 sa (r1 (cRl c) k) L hr_82 hT) pn_yJ10_equals (hr_82.c) q1891 q1186 q3385 q132 q1187 ⟨by decide, by decide⟩ hl.1 (Nat.le_of_ble_eq_true rfl) dX2_ruleFor_32 ⟨by omega, by omega⟩) hL (fun H locs hR hL => ?_)
        refine h_if_eq hx hb 40 dX2_ruleFor_35 (by decide) (by have := b2i_01 (r1 (cRl c) k = L); omega) (fun c_e => ?_) (fun c_e => ?_)
        ·
          refine h_iinc (lv' := [(2, .int (iI ((k : Int) + 1))), (0, .ref a), (1, .ref sa)]) hx hb dX2_ruleFor_40 hl (k := 2) rfl (by decide) rfl (fun ls hl => ?_)
          refine lv_goto (tgt := 2) hx hb dX2_ruleFor_43 (by decide) ?_
          exact ih_1 (k + 1) (by omega) (fun j hj => by by_cases q_ : j = k; (subst q_; exact b2i_0.mp c_e); exact hn j (by omega)) (by omega) _ _ _ hR hL (lv_sub hl [1, 2, 0] rfl)
        ·
          refine lv_iload_n hx hb dX2_ruleFor_38 rfl (lv_at hl 2 rfl) ?_
          exact h_ireturn hx hb hlk hret hR hL rfl ⟨(fstN_eq (P := fun k_ => r1 (cRl c) k_ = L) (by omega) (b2i_n1.mp c_e) hn).symm, rfl⟩ (by omega) (by omega) rfl rfl dX2_ruleFor_39
  exact LOOP_1 _ 0 (Nat.zero_le _) (fun j hj => absurd hj (Nat.not_lt_zero _)) (Nat.lt_succ_self _) _ _ _ hR hL (lv_sub hl [1, 2, 0] rfl)

theorem difM_b {R : Rls} {p q : List Prt} (h : PrtsW p) : -1 ≤ difM R p q ∧ difM R p q ≤ 5 := difM_r R p q h.2.1

set_option maxHeartbeats 4000000 in
set_option maxRecDepth 100000 in
/-- SpokenMarks$Catalogue.firstLike -/
theorem ct_fst (l : Launch) (G : Gl) (w : Wd) (a lm lr hm : Nat) (c : Cat) (hC : CatAt G w a lm lr hm c) (hS : CatS c) (b rb : Nat) (m1 : Mrk) (hM : MkAt G (cRl c) w rb b m1) (hP : PrtsW (mPs m1)) : HM l yX2_firstLike cX2_firstLike 3 (some .int) 12 0 0 G [.ref a, .ref b] w (QI G (fun z_ w_ => z_ = (if frsN c (mPs m1) = -1 then -1 else mId (mk c (frsN c (mPs m1)).toNat)) ∧ w_ = w)) := by
  refine HM.mk (by decide +kernel) (Nat.le_of_ble_eq_true rfl) ?_
  intro p9 e9 s9 m9 a9 b9 meth9 c9 ls X hret hlk hnm hl H hR
  have hx := X.1.1
  have hb := X.1.2.1
  have hl : lv_has ls 3 [(0, .ref a), (1, .ref b)] := hl
  have hL : LK G [] := fun q h => absurd h List.not_mem_nil
  generalize ([] : List Loc) = locs at hL ⊢
  have hC0 := hC
  obtain ⟨bda, aca, so, fb, fa, Lm, Lr, mp, hCt, ⟨hbd, hbx⟩, ⟨hac, hax⟩, hso, ⟨⟨mo1, hm1, hlm⟩, hmk, hnd⟩, ⟨⟨mo2, hm2, hlr⟩, hru⟩, ⟨hhm, hmp⟩, hrd, hid, hba, hll⟩ := hC
  have hCt : w a = some (a + 1, oE 2 [.int (iI (cSh c)), .int (iI (cRm c)), .ref bda, .ref lm, .ref lr, .ref hm, .ref so, .ref aca, .int (iI (cNx c))]) := hCt
  have s1 := hS.1
  have s2 := hS.2.1
  have s3 := hS.2.2.1
  have s4 := hS.2.2.2.1.1
  have hRW := hS.2.2.2.2.1
  have s5 := hRW.1
  have s6 := hS.2.2.2.2.2
  have hml : Lm.length = cN c := hmk.1
  have hrl := hru.1
  refine h_iconst hx hb dX2_firstLike_0 ?_
  refine lv_istore_n (lv' := [(2, .int (iI (0))), (0, .ref a), (1, .ref b)]) hx hb dX2_firstLike_1 rfl hl (by decide) rfl (fun ls hl => ?_)
  have LOOP_1 : ∀ (N_ : Nat) (k : Nat), (k ≤ cN c) → (∀ j, j < k → ¬ difM (cRl c) (mPs (mk c j)) (mPs m1) = -1) → (42 - k) < N_ → ∀ (H : Heap) (locs : List Loc) (ls : Array Slot), Rp G w H → LK G locs → lv_has ls 3 [(0, .ref a), (1, .ref b), (2, .int (iI ((k : Int))))] → W p9 l e9 (rmk 12 0 0) s9 m9 a9 b9 meth9 c9 H locs 0 0 (MQ b9 (QI G (fun z_ w_ => z_ = (if frsN c (mPs m1) = -1 then -1 else mId (mk c (frsN c (mPs m1)).toNat)) ∧ w_ = w)) a9 s9 0 0 (frG G)) (F0 m9 2 ls []) := by
    intro N_
    induction N_ with
    | zero => intro _ _ _ h_; exact absurd h_ (Nat.not_lt_zero _)
    | succ N_ ih_ =>
      intro k hk hn hN_ H locs ls hR hL hl
      have ih_1 := ih_
      clear ih_
      refine lv_iload_n hx hb dX2_firstLike_2 rfl (lv_at hl 2 rfl) ?_
      refine lv_aload_n hx hb dX2_firstLike_3 rfl (lv_at hl 0 rfl) ?_
      refine h_get X hR hCt rfl in_X2 3 (by decide) q597 rfl dX2_firstLike_4 ?_
      -- call java/util/ArrayList.size
      refine h_k5Ip (h_runF (x := ⟨"java/util/List", "size", "()I"⟩) X hR (ls_size l G w (lm + 1) lm 40 mo1 Lm hlm) pn_i_java_util_List_size_0 (hlm.c) (kk_face X.2 (by decide +kernel) q1566 q1565 q1570 q1568 q664) q1564 q1569 q1567 q125 q1571 ⟨by decide, by decide⟩ hl.1 (Nat.le_of_ble_eq_true rfl) dX2_firstLike_7 ⟨by omega, by omega⟩) hL (fun H locs hR hL => ?_)
      refine W.eq (g2 := F0 m9 12 ls [.int (iI ((cN c : Int))), .int (iI ((k : Int)))]) (congrArg (fun z_ : Int => F0 m9 12 ls [.int (iI (z_)), .int (iI ((k : Int)))]) (show ((Lm.length : Int) : Int) = (cN c : Int) from (by rw [hml]))) ?_
      refine h_icmp_ge hx hb 59 dX2_firstLike_12 (by decide) (by omega) (by omega) (fun c_k => ?_) (fun c_k => ?_)
      ·
        refine h_iconst hx hb dX2_firstLike_59 ?_
        exact h_ireturn hx hb hlk hret hR hL rfl ⟨by rw [show frsN c (mPs m1) = -1 from fstN_no (P := fun k_ => difM (cRl c) (mPs (mk c k_)) (mPs m1) = -1) (fun j hj => hn j (by omega)), if_pos rfl], rfl⟩ (by omega) (by omega) rfl rfl dX2_firstLike_60
      ·
        refine lv_aload_n hx hb dX2_firstLike_15 rfl (lv_at hl 0 rfl) ?_
        refine h_get X hR hCt rfl in_X2 3 (by decide) q597 rfl dX2_firstLike_16 ?_
        refine lv_iload_n hx hb dX2_firstLike_19 rfl (lv_at hl 2 rfl) ?_
        -- call java/util/ArrayList.get
        refine h_k5Rp (h_runF (x := ⟨"java/util/List", "get", "(I)Ljava/lang/Object;"⟩) X hR (ls_get l G w (lm + 1) lm 40 mo1 Lm hlm k (by omega)) pn_i_java_util_List_get_1 (hlm.c) (kk_face X.2 (by decide +kernel) q1575 q1574 q1579 q1577 q664) q1573 q1578 q1576 q125 q1580 ⟨by decide, by decide⟩ hl.1 (Nat.le_of_ble_eq_true rfl) dX2_firstLike_20 ⟨by omega, by omega⟩) hL (fun H locs hR hL => ?_)
        have hm_8 : MkAt G (cRl c) w (a + 1) (Lm.getD k 0) (mk c k) := MksAt.g hmk (show k < cN c by omega)
        have hm_8w := hS.mw (k := k) (by omega)
        have hm_8p := hS.pw (k := k) (by omega)
        refine h_castS X hR (hm_8.c) q1385 dX2_firstLike_25 ?_
        refine lv_aload_n hx hb dX2_firstLike_28 rfl (lv_at hl 1 rfl) ?_
        -- call SpokenMarks$Spoken.differ
        refine h_kIp (h_runS X hR (sp_dif l G w (Lm.getD k 0) b (a + 1) rb (cRl c) (mk c k) m1 hm_8 hM hRW (hS.pw (by omega)) hP) pn_yX3_differ q1762 q1763 q144 q1764 ⟨by decide, by decide⟩ hl.1 (Nat.le_of_ble_eq_true rfl) dX2_firstLike_29 ⟨by omega, by omega⟩) hL (fun H locs hR hL => ?_)
        have hdb := difM_b (R := cRl c) (q := mPs m1) (hS.pw (k := k) (by omega))
        refine h_iconst hx hb dX2_firstLike_32 ?_
        refine h_icmp_ne hx hb 53 dX2_firstLike_33 (by decide) (by omega) (by decide) (fun c_e => ?_) (fun c_e => ?_)
        ·
          refine h_iinc (lv' := [(2, .int (iI ((k : Int) + 1))), (0, .ref a), (1, .ref b)]) hx hb dX2_firstLike_53 hl (k := 2) rfl (by decide) rfl (fun ls hl => ?_)
          refine lv_goto (tgt := 2) hx hb dX2_firstLike_56 (by decide) ?_
          exact ih_1 (k + 1) (by omega) (fun j hj => by by_cases q_ : j = k; (subst q_; exact c_e); exact hn j (by omega)) (by omega) _ _ _ hR hL (lv_sub hl [1, 2, 0] rfl)
        ·
          refine lv_aload_n hx hb dX2_firstLike_36 rfl (lv_at hl 0 rfl) ?_
          refine h_get X hR hCt rfl in_X2 3 (by decide) q597 rfl dX2_firstLike_37 ?_
          refine lv_iload_n hx hb dX2_firstLike_40 rfl (lv_at hl 2 rfl) ?_
          -- call java/util/ArrayList.get
          refine h_k5Rp (h_runF (x := ⟨"java/util/List", "get", "(I)Ljava/lang/Object;"⟩) X hR (ls_get l G w (lm + 1) lm 40 mo1 Lm hlm k (by omega)) pn_i_java_util_List_get_1 (hlm.c) (kk_face X.2 (by decide +kernel) q1575 q1574 q1579 q1577 q664) q1573 q1578 q1576 q125 q1580 ⟨by decide, by decide⟩ hl.1 (Nat.le_of_ble_eq_true rfl) dX2_firstLike_41 ⟨by omega, by omega⟩) hL (fun H locs hR hL => ?_)
          have hm_15 : MkAt G (cRl c) w (a + 1) (Lm.getD k 0) (mk c k) := MksAt.g hmk (show k < cN c by omega)
          have hm_15w := hS.mw (k := k) (by omega)
          have hm_15p := hS.pw (k := k) (by omega)
          have hm_15r := hm_15w.1
          have hm_15r2 := hm_15w.2.2
          obtain ⟨pl_16, hm_151, hm_152⟩ := hm_15
          refine h_castS X hR (hasC.of hm_151 rfl) q1385 dX2_firstLike_46 ?_
          refine h_getN X hR hm_151 rfl in_X5 0 (by decide) q1537 rfl dX2_firstLike_49 ?_
          exact h_ireturn hx hb hlk hret hR hL rfl ⟨by rw [show frsN c (mPs m1) = (k : Int) from fstN_eq (P := fun k_ => difM (cRl c) (mPs (mk c k_)) (mPs m1) = -1) (by omega) c_e hn, if_neg (by omega), Int.toNat_natCast], rfl⟩ (by omega) (by omega) rfl rfl dX2_firstLike_52
  exact LOOP_1 _ 0 (Nat.zero_le _) (fun j hj => absurd hj (Nat.not_lt_zero _)) (Nat.lt_succ_self _) _ _ _ hR hL (lv_sub hl [1, 2, 0] rfl)

set_option maxHeartbeats 4000000 in
set_option maxRecDepth 100000 in
/-- SpokenMarks$Catalogue.family -/
theorem ct_fam (l : Launch) (G : Gl) (w : Wd) (a lm lr hm : Nat) (c : Cat) (hC : CatAt G w a lm lr hm c) (hS : CatS c) (b rb : Nat) (m1 : Mrk) (hM : MkAt G (cRl c) w rb b m1) (hP : PrtsW (mPs m1)) : HM l yX2_family cX2_family 4 (some .int) 10 0 0 G [.ref a, .ref b] w (QI G (fun z_ w_ => z_ = (sumN (fun k_ => b2i (encP (earP (cRl c) ((mPs (mk c k_)).getD 0 prt0)) = encP (earP (cRl c) ((mPs m1).getD 0 prt0)))) (cN c)) ∧ w_ = w)) := by
  refine HM.mk (by decide +kernel) (Nat.le_of_ble_eq_true rfl) ?_
  intro p9 e9 s9 m9 a9 b9 meth9 c9 ls X hret hlk hnm hl H hR
  have hx := X.1.1
  have hb := X.1.2.1
  have hl : lv_has ls 4 [(0, .ref a), (1, .ref b)] := hl
  have hL : LK G [] := fun q h => absurd h List.not_mem_nil
  generalize ([] : List Loc) = locs at hL ⊢
  have hC0 := hC
  obtain ⟨bda, aca, so, fb, fa, Lm, Lr, mp, hCt, ⟨hbd, hbx⟩, ⟨hac, hax⟩, hso, ⟨⟨mo1, hm1, hlm⟩, hmk, hnd⟩, ⟨⟨mo2, hm2, hlr⟩, hru⟩, ⟨hhm, hmp⟩, hrd, hid, hba, hll⟩ := hC
  have hCt : w a = some (a + 1, oE 2 [.int (iI (cSh c)), .int (iI (cRm c)), .ref bda, .ref lm, .ref lr, .ref hm, .ref so, .ref aca, .int (iI (cNx c))]) := hCt
  have s1 := hS.1
  have s2 := hS.2.1
  have s3 := hS.2.2.1
  have s4 := hS.2.2.2.1.1
  have hRW := hS.2.2.2.2.1
  have s5 := hRW.1
  have s6 := hS.2.2.2.2.2
  have hml : Lm.length = cN c := hmk.1
  have hrl := hru.1
  have hM0 := hM
  obtain ⟨pl9, hM1, hM2⟩ := hM
  have hM3 := hM2
  obtain ⟨mo9, P9, hMm, hMP, hMl, hMx⟩ := hM2
  have l1 := hP.1
  refine h_iconst hx hb dX2_family_0 ?_
  refine lv_istore_n (lv' := [(2, .int (iI (0))), (0, .ref a), (1, .ref b)]) hx hb dX2_family_1 rfl hl (by decide) rfl (fun ls hl => ?_)
  refine h_iconst hx hb dX2_family_2 ?_
  refine lv_istore_n (lv' := [(3, .int (iI (0))), (2, .int (iI (0))), (0, .ref a), (1, .ref b)]) hx hb dX2_family_3 rfl hl (by decide) rfl (fun ls hl => ?_)
  have LOOP_1 : ∀ (N_ : Nat) (k : Nat), (k ≤ cN c) → (42 - k) < N_ → ∀ (H : Heap) (locs : List Loc) (ls : Array Slot), Rp G w H → LK G locs → lv_has ls 4 [(0, .ref a), (1, .ref b), (2, .int (iI ((sumN (fun k_ => b2i (encP (earP (cRl c) ((mPs (mk c k_)).getD 0 prt0)) = encP (earP (cRl c) ((mPs m1).getD 0 prt0)))) k)))), (3, .int (iI ((k : Int))))] → W p9 l e9 (rmk 10 0 0) s9 m9 a9 b9 meth9 c9 H locs 0 0 (MQ b9 (QI G (fun z_ w_ => z_ = (sumN (fun k_ => b2i (encP (earP (cRl c) ((mPs (mk c k_)).getD 0 prt0)) = encP (earP (cRl c) ((mPs m1).getD 0 prt0)))) (cN c)) ∧ w_ = w)) a9 s9 0 0 (frG G)) (F0 m9 4 ls []) := by
    intro N_
    induction N_ with
    | zero => intro _ _ h_; exact absurd h_ (Nat.not_lt_zero _)
    | succ N_ ih_ =>
      intro k hk hN_ H locs ls hR hL hl
      have ih_1 := ih_
      clear ih_
      refine lv_iload_n hx hb dX2_family_4 rfl (lv_at hl 3 rfl) ?_
      refine lv_aload_n hx hb dX2_family_5 rfl (lv_at hl 0 rfl) ?_
      refine h_get X hR hCt rfl in_X2 3 (by decide) q597 rfl dX2_family_6 ?_
      -- call java/util/ArrayList.size
      refine h_k5Ip (h_runF (x := ⟨"java/util/List", "size", "()I"⟩) X hR (ls_size l G w (lm + 1) lm 40 mo1 Lm hlm) pn_i_java_util_List_size_0 (hlm.c) (kk_face X.2 (by decide +kernel) q1566 q1565 q1570 q1568 q664) q1564 q1569 q1567 q125 q1571 ⟨by decide, by decide⟩ hl.1 (Nat.le_of_ble_eq_true rfl) dX2_family_9 ⟨by omega, by omega⟩) hL (fun H locs hR hL => ?_)
      refine W.eq (g2 := F0 m9 14 ls [.int (iI ((cN c : Int))), .int (iI ((k : Int)))]) (congrArg (fun z_ : Int => F0 m9 14 ls [.int (iI (z_)), .int (iI ((k : Int)))]) (show ((Lm.length : Int) : Int) = (cN c : Int) from (by rw [hml]))) ?_
      refine h_icmp_ge hx hb 79 dX2_family_14 (by decide) (by omega) (by omega) (fun c_k => ?_) (fun c_k => ?_)
      ·
        refine lv_iload_n hx hb dX2_family_79 rfl (lv_at hl 2 rfl) ?_
        exact h_ireturn hx hb hlk hret hR hL rfl ⟨by rw [show k = cN c by omega], rfl⟩ (by omega) (by omega) rfl rfl dX2_family_80
      ·
        refine lv_iload_n hx hb dX2_family_17 rfl (lv_at hl 2 rfl) ?_
        refine lv_aload_n hx hb dX2_family_18 rfl (lv_at hl 0 rfl) ?_
        refine h_get X hR hCt rfl in_X2 3 (by decide) q597 rfl dX2_family_19 ?_
        refine lv_iload_n hx hb dX2_family_22 rfl (lv_at hl 3 rfl) ?_
        -- call java/util/ArrayList.get
        refine h_k5Rp (h_runF (x := ⟨"java/util/List", "get", "(I)Ljava/lang/Object;"⟩) X hR (ls_get l G w (lm + 1) lm 40 mo1 Lm hlm k (by omega)) pn_i_java_util_List_get_1 (hlm.c) (kk_face X.2 (by decide +kernel) q1575 q1574 q1579 q1577 q664) q1573 q1578 q1576 q125 q1580 ⟨by decide, by decide⟩ hl.1 (Nat.le_of_ble_eq_true rfl) dX2_family_23 ⟨by omega, by omega⟩) hL (fun H locs hR hL => ?_)
        have hm_8 : MkAt G (cRl c) w (a + 1) (Lm.getD k 0) (mk c k) := MksAt.g hmk (show k < cN c by omega)
        have hm_8w := hS.mw (k := k) (by omega)
        have hm_8p := hS.pw (k := k) (by omega)
        have hm_8r := hm_8w.1
        have hm_8r2 := hm_8w.2.2
        obtain ⟨pl_9, hm_81, hm_82⟩ := hm_8
        refine h_castS X hR (hasC.of hm_81 rfl) q1385 dX2_family_28 ?_
        refine h_getN X hR hm_81 rfl in_X5 1 (by decide) q1542 rfl dX2_family_31 ?_
        have hmw := (hS.pw (k := k) (by omega)).1
        obtain ⟨mo_hp_10, P_hp_10, hp_10m, hp_10P, hp_10l, hp_10x⟩ := hm_82
        refine h_iconst hx hb dX2_family_34 ?_
        -- call java/util/ArrayList.get
        refine h_k5Rp (h_runF (x := ⟨"java/util/List", "get", "(I)Ljava/lang/Object;"⟩) X hR (ls_get l G w 0 pl_9 5 mo_hp_10 P_hp_10 hp_10P 0 (by omega)) pn_i_java_util_List_get_1 (hp_10P.c) (kk_face X.2 (by decide +kernel) q1575 q1574 q1579 q1577 q664) q1573 q1578 q1576 q125 q1580 ⟨by decide, by decide⟩ hl.1 (Nat.le_of_ble_eq_true rfl) dX2_family_35 ⟨by omega, by omega⟩) hL (fun H locs hR hL => ?_)
        have hx_14 := hp_10x 0 (by omega)
        obtain ⟨C__15, hC__16, hK__17⟩ := hx_14.part
        refine h_castY X hR hC__16 hK__17 q1391 dX2_family_40 ?_
        refine lv_aload_n hx hb dX2_family_43 rfl (lv_at hl 1 rfl) ?_
        refine h_getN X hR hM1 rfl in_X5 1 (by decide) q1542 rfl dX2_family_44 ?_
        refine h_iconst hx hb dX2_family_47 ?_
        -- call java/util/ArrayList.get
        refine h_k5Rp (h_runF (x := ⟨"java/util/List", "get", "(I)Ljava/lang/Object;"⟩) X hR (ls_get l G w 0 pl9 5 mo9 P9 hMP 0 (by omega)) pn_i_java_util_List_get_1 (hMP.c) (kk_face X.2 (by decide +kernel) q1575 q1574 q1579 q1577 q664) q1573 q1578 q1576 q125 q1580 ⟨by decide, by decide⟩ hl.1 (Nat.le_of_ble_eq_true rfl) dX2_family_48 ⟨by omega, by omega⟩) hL (fun H locs hR hL => ?_)
        have hx_21 := hMx 0 (by omega)
        obtain ⟨C__22, hC__23, hK__24⟩ := hx_21.part
        refine h_castY X hR hC__23 hK__24 q1391 dX2_family_53 ?_
        refine h_iconst hx hb dX2_family_56 ?_
        -- call SpokenMarks$Part.compare
        refine h_kIp (h_runS X hR (pt_cmp1 l G w (P_hp_10.getD 0 0) (P9.getD 0 0) (cRl c) ((mPs (mk c k)).getD 0 prt0) ((mPs m1).getD 0 prt0) hx_14 hx_21 hRW ((hS.pw (by omega)).gd 0) (hP.gd 0)) pn_yX8_compare q2393 q1614 q159 q1615 ⟨by decide, by decide⟩ hl.1 (Nat.le_of_ble_eq_true rfl) dX2_family_57 ⟨by omega, by omega⟩) hL (fun H locs hR hL => ?_)
        have hpr := pcmp_r (earP_w hRW ((hS.pw (k := k) (by omega)).gd 0)) (earP_w hRW (hP.gd 0))
        have hp0 := pcmp_0 (earP_w hRW ((hS.pw (k := k) (by omega)).gd 0)) (earP_w hRW (hP.gd 0))
        refine h_if_ne hx hb 67 dX2_family_60 (by decide) (by omega) (fun c_e => ?_) (fun c_e => ?_)
        ·
          refine h_iconst hx hb dX2_family_67 ?_
          refine W.eq (g2 := F0 m9 68 ls [.int (iI (b2i (encP (earP (cRl c) ((mPs (mk c k)).getD 0 prt0)) = encP (earP (cRl c) ((mPs m1).getD 0 prt0))))), .int (iI ((sumN (fun k_ => b2i (encP (earP (cRl c) ((mPs (mk c k_)).getD 0 prt0)) = encP (earP (cRl c) ((mPs m1).getD 0 prt0)))) k)))]) (congrArg (fun z_ : Int => F0 m9 68 ls [.int (iI (z_)), .int (iI ((sumN (fun k_ => b2i (encP (earP (cRl c) ((mPs (mk c k_)).getD 0 prt0)) = encP (earP (cRl c) ((mPs m1).getD 0 prt0)))) k)))]) (show (0 : Int) = b2i (encP (earP (cRl c) ((mPs (mk c k)).getD 0 prt0)) = encP (earP (cRl c) ((mPs m1).getD 0 prt0))) from (by first | exact (b2i_t (hp0.mp c_e)).symm | exact (b2i_f (fun q_ => c_e (hp0.mpr q_))).symm))) ?_
          -- call SpokenMarks.bit
          refine h_kIp (h_runSN X hR (c_bit l G w (b2i (encP (earP (cRl c) ((mPs (mk c k)).getD 0 prt0)) = encP (earP (cRl c) ((mPs m1).getD 0 prt0)))) (by first | exact b2i_01 _ | omega)) pn_yX1_bit q1643 q1644 q120 q1645 ⟨by decide, by decide⟩ hl.1 (Nat.le_of_ble_eq_true rfl) dX2_family_68 ⟨by omega, by omega⟩) hL (fun H locs hR hL => ?_)
          refine h_iadd hx hb dX2_family_71 ?_
          refine W.eq (g2 := F0 m9 72 ls [.int (iI ((sumN (fun k_ => b2i (encP (earP (cRl c) ((mPs (mk c k_)).getD 0 prt0)) = encP (earP (cRl c) ((mPs m1).getD 0 prt0)))) (k + 1))))]) (congrArg (fun z_ : Int => F0 m9 72 ls [.int (iI (z_))]) (show (((sumN (fun k_ => b2i (encP (earP (cRl c) ((mPs (mk c k_)).getD 0 prt0)) = encP (earP (cRl c) ((mPs m1).getD 0 prt0)))) k)) + (b2i (encP (earP (cRl c) ((mPs (mk c k)).getD 0 prt0)) = encP (earP (cRl c) ((mPs m1).getD 0 prt0)))) : Int) = (sumN (fun k_ => b2i (encP (earP (cRl c) ((mPs (mk c k_)).getD 0 prt0)) = encP (earP (cRl c) ((mPs m1).getD 0 prt0)))) (k + 1)) from (by rfl))) ?_
          refine lv_istore_n (lv' := [(2, .int (iI ((sumN (fun k_ => b2i (encP (earP (cRl c) ((mPs (mk c k_)).getD 0 prt0)) = encP (earP (cRl c) ((mPs m1).getD 0 prt0)))) (k + 1))))), (0, .ref a), (1, .ref b), (3, .int (iI ((k : Int))))]) hx hb dX2_family_72 rfl hl (by decide) rfl (fun ls hl => ?_)
          refine h_iinc (lv' := [(3, .int (iI ((k : Int) + 1))), (2, .int (iI ((sumN (fun k_ => b2i (encP (earP (cRl c) ((mPs (mk c k_)).getD 0 prt0)) = encP (earP (cRl c) ((mPs m1).getD 0 prt0)))) (k + 1))))), (0, .ref a), (1, .ref b)]) hx hb dX2_family_73 hl (k := 3) rfl (by decide) rfl (fun ls hl => ?_)
          refine lv_goto (tgt := 4) hx hb dX2_family_76 (by decide) ?_
          exact ih_1 (k + 1) (by omega) (by omega) _ _ _ hR hL (lv_sub hl [2, 3, 1, 0] rfl)
        ·
          refine h_iconst hx hb dX2_family_63 ?_
          refine lv_goto (tgt := 68) hx hb dX2_family_64 (by decide) ?_
          refine W.eq (g2 := F0 m9 68 ls [.int (iI (b2i (encP (earP (cRl c) ((mPs (mk c k)).getD 0 prt0)) = encP (earP (cRl c) ((mPs m1).getD 0 prt0))))), .int (iI ((sumN (fun k_ => b2i (encP (earP (cRl c) ((mPs (mk c k_)).getD 0 prt0)) = encP (earP (cRl c) ((mPs m1).getD 0 prt0)))) k)))]) (congrArg (fun z_ : Int => F0 m9 68 ls [.int (iI (z_)), .int (iI ((sumN (fun k_ => b2i (encP (earP (cRl c) ((mPs (mk c k_)).getD 0 prt0)) = encP (earP (cRl c) ((mPs m1).getD 0 prt0)))) k)))]) (show (1 : Int) = b2i (encP (earP (cRl c) ((mPs (mk c k)).getD 0 prt0)) = encP (earP (cRl c) ((mPs m1).getD 0 prt0))) from (by first | exact (b2i_t (hp0.mp c_e)).symm | exact (b2i_f (fun q_ => c_e (hp0.mpr q_))).symm))) ?_
          -- call SpokenMarks.bit
          refine h_kIp (h_runSN X hR (c_bit l G w (b2i (encP (earP (cRl c) ((mPs (mk c k)).getD 0 prt0)) = encP (earP (cRl c) ((mPs m1).getD 0 prt0)))) (by first | exact b2i_01 _ | omega)) pn_yX1_bit q1643 q1644 q120 q1645 ⟨by decide, by decide⟩ hl.1 (Nat.le_of_ble_eq_true rfl) dX2_family_68 ⟨by omega, by omega⟩) hL (fun H locs hR hL => ?_)
          refine h_iadd hx hb dX2_family_71 ?_
          refine W.eq (g2 := F0 m9 72 ls [.int (iI ((sumN (fun k_ => b2i (encP (earP (cRl c) ((mPs (mk c k_)).getD 0 prt0)) = encP (earP (cRl c) ((mPs m1).getD 0 prt0)))) (k + 1))))]) (congrArg (fun z_ : Int => F0 m9 72 ls [.int (iI (z_))]) (show (((sumN (fun k_ => b2i (encP (earP (cRl c) ((mPs (mk c k_)).getD 0 prt0)) = encP (earP (cRl c) ((mPs m1).getD 0 prt0)))) k)) + (b2i (encP (earP (cRl c) ((mPs (mk c k)).getD 0 prt0)) = encP (earP (cRl c) ((mPs m1).getD 0 prt0)))) : Int) = (sumN (fun k_ => b2i (encP (earP (cRl c) ((mPs (mk c k_)).getD 0 prt0)) = encP (earP (cRl c) ((mPs m1).getD 0 prt0)))) (k + 1)) from (by rfl))) ?_
          refine lv_istore_n (lv' := [(2, .int (iI ((sumN (fun k_ => b2i (encP (earP (cRl c) ((mPs (mk c k_)).getD 0 prt0)) = encP (earP (cRl c) ((mPs m1).getD 0 prt0)))) (k + 1))))), (0, .ref a), (1, .ref b), (3, .int (iI ((k : Int))))]) hx hb dX2_family_72 rfl hl (by decide) rfl (fun ls hl => ?_)
          refine h_iinc (lv' := [(3, .int (iI ((k : Int) + 1))), (2, .int (iI ((sumN (fun k_ => b2i (encP (earP (cRl c) ((mPs (mk c k_)).getD 0 prt0)) = encP (earP (cRl c) ((mPs m1).getD 0 prt0)))) (k + 1))))), (0, .ref a), (1, .ref b)]) hx hb dX2_family_73 hl (k := 3) rfl (by decide) rfl (fun ls hl => ?_)
          refine lv_goto (tgt := 4) hx hb dX2_family_76 (by decide) ?_
          exact ih_1 (k + 1) (by omega) (by omega) _ _ _ hR hL (lv_sub hl [2, 3, 1, 0] rfl)
  exact LOOP_1 _ 0 (by omega) (Nat.lt_succ_self _) _ _ _ hR hL (lv_sub hl [2, 3, 1, 0] rfl)

/-- how many pairs i < k are alike, by the greater place -/
def alkB (c : Cat) (k : Nat) : Int := sumN (fun i => b2i (difM (cRl c) (mPs (mk c i)) (mPs (mk c k)) = -1)) k
theorem sumN_add (f g : Nat → Int) (n : Nat) : sumN (fun i => f i + g i) n = sumN f n + sumN g n := by
  induction n with
  | zero => rfl
  | succ n ih => rw [sumN_s, sumN_s, sumN_s, ih]; omega
theorem sum_tri (F : Nat → Nat → Int) (n : Nat) : sumN (fun k => sumN (fun i => F i k) k) n = sumN (fun a => sumN (fun i => F a (a + 1 + i)) (n - (a + 1))) n := by
  induction n with
  | zero => rfl
  | succ n ih =>
    rw [sumN_s, ih]
    have h1 : sumN (fun a => sumN (fun i => F a (a + 1 + i)) (n + 1 - (a + 1))) (n + 1) = sumN (fun a => sumN (fun i => F a (a + 1 + i)) (n - (a + 1)) + F a n) n := by
      rw [sumN_s, show n + 1 - (n + 1) = 0 by omega, sumN_0]
      rw [Int.add_zero]
      refine sumN_congr (fun a ha => ?_)
      rw [show n + 1 - (a + 1) = (n - (a + 1)) + 1 by omega, sumN_s, show a + 1 + (n - (a + 1)) = n by omega]
    rw [h1, sumN_add]
theorem alkN_B (c : Cat) : sumN (alkB c) (cN c) = alkN c := sum_tri (fun i k => b2i (difM (cRl c) (mPs (mk c i)) (mPs (mk c k)) = -1)) (cN c)

set_option maxHeartbeats 4000000 in
set_option maxRecDepth 100000 in
/-- SpokenMarks$Catalogue.alike -/
theorem ct_alk (l : Launch) (G : Gl) (w : Wd) (a lm lr hm : Nat) (c : Cat) (hC : CatAt G w a lm lr hm c) (hS : CatS c)  : HM l yX2_alike cX2_alike 4 (some .int) 11 0 0 G [.ref a] w (QI G (fun z_ w_ => z_ = alkN c ∧ w_ = w)) := by
  refine HM.mk (by decide +kernel) (Nat.le_of_ble_eq_true rfl) ?_
  intro p9 e9 s9 m9 a9 b9 meth9 c9 ls X hret hlk hnm hl H hR
  have hx := X.1.1
  have hb := X.1.2.1
  have hl : lv_has ls 4 [(0, .ref a)] := hl
  have hL : LK G [] := fun q h => absurd h List.not_mem_nil
  generalize ([] : List Loc) = locs at hL ⊢
  have hC0 := hC
  obtain ⟨bda, aca, so, fb, fa, Lm, Lr, mp, hCt, ⟨hbd, hbx⟩, ⟨hac, hax⟩, hso, ⟨⟨mo1, hm1, hlm⟩, hmk, hnd⟩, ⟨⟨mo2, hm2, hlr⟩, hru⟩, ⟨hhm, hmp⟩, hrd, hid, hba, hll⟩ := hC
  have hCt : w a = some (a + 1, oE 2 [.int (iI (cSh c)), .int (iI (cRm c)), .ref bda, .ref lm, .ref lr, .ref hm, .ref so, .ref aca, .int (iI (cNx c))]) := hCt
  have s1 := hS.1
  have s2 := hS.2.1
  have s3 := hS.2.2.1
  have s4 := hS.2.2.2.1.1
  have hRW := hS.2.2.2.2.1
  have s5 := hRW.1
  have s6 := hS.2.2.2.2.2
  have hml : Lm.length = cN c := hmk.1
  have hrl := hru.1
  refine h_iconst hx hb dX2_alike_0 ?_
  refine lv_istore_n (lv' := [(1, .int (iI (0))), (0, .ref a)]) hx hb dX2_alike_1 rfl hl (by decide) rfl (fun ls hl => ?_)
  refine h_iconst hx hb dX2_alike_2 ?_
  refine lv_istore_n (lv' := [(2, .int (iI (0))), (1, .int (iI (0))), (0, .ref a)]) hx hb dX2_alike_3 rfl hl (by decide) rfl (fun ls hl => ?_)
  have LOOP_1 : ∀ (N_ : Nat) (k : Nat), (k ≤ cN c) → (42 - k) < N_ → ∀ (H : Heap) (locs : List Loc) (ls : Array Slot), Rp G w H → LK G locs → lv_has ls 4 [(0, .ref a), (1, .int (iI ((sumN (alkB c) k)))), (2, .int (iI ((k : Int))))] → W p9 l e9 (rmk 11 0 0) s9 m9 a9 b9 meth9 c9 H locs 0 0 (MQ b9 (QI G (fun z_ w_ => z_ = alkN c ∧ w_ = w)) a9 s9 0 0 (frG G)) (F0 m9 4 ls []) := by
    intro N_
    induction N_ with
    | zero => intro _ _ h_; exact absurd h_ (Nat.not_lt_zero _)
    | succ N_ ih_ =>
      intro k hk hN_ H locs ls hR hL hl
      have ih_1 := ih_
      clear ih_
      refine lv_iload_n hx hb dX2_alike_4 rfl (lv_at hl 2 rfl) ?_
      refine lv_aload_n hx hb dX2_alike_5 rfl (lv_at hl 0 rfl) ?_
      refine h_get X hR hCt rfl in_X2 3 (by decide) q597 rfl dX2_alike_6 ?_
      -- call java/util/ArrayList.size
      refine h_k5Ip (h_runF (x := ⟨"java/util/List", "size", "()I"⟩) X hR (ls_size l G w (lm + 1) lm 40 mo1 Lm hlm) pn_i_java_util_List_size_0 (hlm.c) (kk_face X.2 (by decide +kernel) q1566 q1565 q1570 q1568 q664) q1564 q1569 q1567 q125 q1571 ⟨by decide, by decide⟩ hl.1 (Nat.le_of_ble_eq_true rfl) dX2_alike_9 ⟨by omega, by omega⟩) hL (fun H locs hR hL => ?_)
      refine W.eq (g2 := F0 m9 14 ls [.int (iI ((cN c : Int))), .int (iI ((k : Int)))]) (congrArg (fun z_ : Int => F0 m9 14 ls [.int (iI (z_)), .int (iI ((k : Int)))]) (show ((Lm.length : Int) : Int) = (cN c : Int) from (by rw [hml]))) ?_
      refine h_icmp_ge hx hb 80 dX2_alike_14 (by decide) (by omega) (by omega) (fun c_k => ?_) (fun c_k => ?_)
      ·
        refine lv_iload_n hx hb dX2_alike_80 rfl (lv_at hl 1 rfl) ?_
        exact h_ireturn hx hb hlk hret hR hL rfl ⟨by rw [← alkN_B, show k = cN c by omega], rfl⟩ (by omega) (by omega) rfl rfl dX2_alike_81
      ·
        refine h_iconst hx hb dX2_alike_17 ?_
        refine lv_istore_n (lv' := [(3, .int (iI (0))), (0, .ref a), (1, .int (iI ((sumN (alkB c) k)))), (2, .int (iI ((k : Int))))]) hx hb dX2_alike_18 rfl hl (by decide) rfl (fun ls hl => ?_)
        have LOOP_5 : ∀ (N_ : Nat) (i : Nat), (i ≤ k) → (41 - i) < N_ → ∀ (H : Heap) (locs : List Loc) (ls : Array Slot), Rp G w H → LK G locs → lv_has ls 4 [(0, .ref a), (1, .int (iI ((sumN (alkB c) k + sumN (fun i_ => b2i (difM (cRl c) (mPs (mk c i_)) (mPs (mk c k)) = -1)) i)))), (2, .int (iI ((k : Int)))), (3, .int (iI ((i : Int))))] → W p9 l e9 (rmk 11 0 0) s9 m9 a9 b9 meth9 c9 H locs 0 0 (MQ b9 (QI G (fun z_ w_ => z_ = alkN c ∧ w_ = w)) a9 s9 0 0 (frG G)) (F0 m9 19 ls []) := by
          intro N_
          induction N_ with
          | zero => intro _ _ h_; exact absurd h_ (Nat.not_lt_zero _)
          | succ N_ ih_ =>
            intro i hi hN_ H locs ls hR hL hl
            have ih_5 := ih_
            clear ih_
            refine lv_iload_n hx hb dX2_alike_19 rfl (lv_at hl 3 rfl) ?_
            refine lv_iload_n hx hb dX2_alike_20 rfl (lv_at hl 2 rfl) ?_
            refine h_icmp_ge hx hb 74 dX2_alike_21 (by decide) (by omega) (by omega) (fun c_i => ?_) (fun c_i => ?_)
            ·
              have hl : lv_has ls 4 [(0, .ref a), (1, .int (iI ((sumN (alkB c) (k + 1))))), (2, .int (iI ((k : Int)))), (3, .int (iI ((i : Int))))] := lv_conv hl (congrArg (fun z_ : Int => ([(0, .ref a), (1, .int (iI (z_))), (2, .int (iI ((k : Int)))), (3, .int (iI ((i : Int))))] : List (Nat × Value))) (show ((sumN (alkB c) k + sumN (fun i_ => b2i (difM (cRl c) (mPs (mk c i_)) (mPs (mk c k)) = -1)) i) : Int) = (sumN (alkB c) (k + 1)) from (by rw [sumN_s, show i = k by omega]; rfl)))
              refine h_iinc (lv' := [(2, .int (iI ((k : Int) + 1))), (0, .ref a), (1, .int (iI ((sumN (alkB c) (k + 1))))), (3, .int (iI ((i : Int))))]) hx hb dX2_alike_74 hl (k := 2) rfl (by decide) rfl (fun ls hl => ?_)
              refine lv_goto (tgt := 4) hx hb dX2_alike_77 (by decide) ?_
              exact ih_1 (k + 1) (by omega) (by omega) _ _ _ hR hL (lv_sub hl [1, 2, 0] rfl)
            ·
              refine lv_iload_n hx hb dX2_alike_24 rfl (lv_at hl 1 rfl) ?_
              refine lv_aload_n hx hb dX2_alike_25 rfl (lv_at hl 0 rfl) ?_
              refine h_get X hR hCt rfl in_X2 3 (by decide) q597 rfl dX2_alike_26 ?_
              refine lv_iload_n hx hb dX2_alike_29 rfl (lv_at hl 3 rfl) ?_
              -- call java/util/ArrayList.get
              refine h_k5Rp (h_runF (x := ⟨"java/util/List", "get", "(I)Ljava/lang/Object;"⟩) X hR (ls_get l G w (lm + 1) lm 40 mo1 Lm hlm i (by omega)) pn_i_java_util_List_get_1 (hlm.c) (kk_face X.2 (by decide +kernel) q1575 q1574 q1579 q1577 q664) q1573 q1578 q1576 q125 q1580 ⟨by decide, by decide⟩ hl.1 (Nat.le_of_ble_eq_true rfl) dX2_alike_30 ⟨by omega, by omega⟩) hL (fun H locs hR hL => ?_)
              have hm_9 : MkAt G (cRl c) w (a + 1) (Lm.getD i 0) (mk c i) := MksAt.g hmk (show i < cN c by omega)
              have hm_9w := hS.mw (k := i) (by omega)
              have hm_9p := hS.pw (k := i) (by omega)
              refine h_castS X hR (hm_9.c) q1385 dX2_alike_35 ?_
              refine lv_aload_n hx hb dX2_alike_38 rfl (lv_at hl 0 rfl) ?_
              refine h_get X hR hCt rfl in_X2 3 (by decide) q597 rfl dX2_alike_39 ?_
              refine lv_iload_n hx hb dX2_alike_42 rfl (lv_at hl 2 rfl) ?_
              -- call java/util/ArrayList.get
              refine h_k5Rp (h_runF (x := ⟨"java/util/List", "get", "(I)Ljava/lang/Object;"⟩) X hR (ls_get l G w (lm + 1) lm 40 mo1 Lm hlm k (by omega)) pn_i_java_util_List_get_1 (hlm.c) (kk_face X.2 (by decide +kernel) q1575 q1574 q1579 q1577 q664) q1573 q1578 q1576 q125 q1580 ⟨by decide, by decide⟩ hl.1 (Nat.le_of_ble_eq_true rfl) dX2_alike_43 ⟨by omega, by omega⟩) hL (fun H locs hR hL => ?_)
              have hm_13 : MkAt G (cRl c) w (a + 1) (Lm.getD k 0) (mk c k) := MksAt.g hmk (show k < cN c by omega)
              have hm_13w := hS.mw (k := k) (by omega)
              have hm_13p := hS.pw (k := k) (by omega)
              refine h_castS X hR (hm_13.c) q1385 dX2_alike_48 ?_
              -- call SpokenMarks$Spoken.differ
              refine h_kIp (h_runS X hR (sp_dif l G w (Lm.getD i 0) (Lm.getD k 0) (a + 1) (a + 1) (cRl c) (mk c i) (mk c k) hm_9 hm_13 hRW (hS.pw (by omega)) (hS.pw (by omega))) pn_yX3_differ q1762 q1763 q144 q1764 ⟨by decide, by decide⟩ hl.1 (Nat.le_of_ble_eq_true rfl) dX2_alike_51 ⟨by omega, by omega⟩) hL (fun H locs hR hL => ?_)
              have hdb := difM_b (R := cRl c) (q := mPs (mk c k)) (hS.pw (k := i) (by omega))
              refine h_iconst hx hb dX2_alike_54 ?_
              refine h_icmp_ne hx hb 62 dX2_alike_55 (by decide) (by omega) (by decide) (fun c_e => ?_) (fun c_e => ?_)
              ·
                refine h_iconst hx hb dX2_alike_62 ?_
                refine W.eq (g2 := F0 m9 63 ls [.int (iI (b2i (difM (cRl c) (mPs (mk c i)) (mPs (mk c k)) = -1))), .int (iI ((sumN (alkB c) k + sumN (fun i_ => b2i (difM (cRl c) (mPs (mk c i_)) (mPs (mk c k)) = -1)) i)))]) (congrArg (fun z_ : Int => F0 m9 63 ls [.int (iI (z_)), .int (iI ((sumN (alkB c) k + sumN (fun i_ => b2i (difM (cRl c) (mPs (mk c i_)) (mPs (mk c k)) = -1)) i)))]) (show (0 : Int) = b2i (difM (cRl c) (mPs (mk c i)) (mPs (mk c k)) = -1) from (by first | exact (b2i_t c_e).symm | exact (b2i_f c_e).symm))) ?_
                -- call SpokenMarks.bit
                refine h_kIp (h_runSN X hR (c_bit l G w (b2i (difM (cRl c) (mPs (mk c i)) (mPs (mk c k)) = -1)) (by first | exact b2i_01 _ | omega)) pn_yX1_bit q1643 q1644 q120 q1645 ⟨by decide, by decide⟩ hl.1 (Nat.le_of_ble_eq_true rfl) dX2_alike_63 ⟨by omega, by omega⟩) hL (fun H locs hR hL => ?_)
                refine h_iadd hx hb dX2_alike_66 ?_
                refine W.eq (g2 := F0 m9 67 ls [.int (iI ((sumN (alkB c) k + sumN (fun i_ => b2i (difM (cRl c) (mPs (mk c i_)) (mPs (mk c k)) = -1)) (i + 1))))]) (congrArg (fun z_ : Int => F0 m9 67 ls [.int (iI (z_))]) (show (((sumN (alkB c) k + sumN (fun i_ => b2i (difM (cRl c) (mPs (mk c i_)) (mPs (mk c k)) = -1)) i)) + (b2i (difM (cRl c) (mPs (mk c i)) (mPs (mk c k)) = -1)) : Int) = (sumN (alkB c) k + sumN (fun i_ => b2i (difM (cRl c) (mPs (mk c i_)) (mPs (mk c k)) = -1)) (i + 1)) from (by rw [sumN_s]; omega))) ?_
                refine lv_istore_n (lv' := [(1, .int (iI ((sumN (alkB c) k + sumN (fun i_ => b2i (difM (cRl c) (mPs (mk c i_)) (mPs (mk c k)) = -1)) (i + 1))))), (0, .ref a), (2, .int (iI ((k : Int)))), (3, .int (iI ((i : Int))))]) hx hb dX2_alike_67 rfl hl (by decide) rfl (fun ls hl => ?_)
                refine h_iinc (lv' := [(3, .int (iI ((i : Int) + 1))), (1, .int (iI ((sumN (alkB c) k + sumN (fun i_ => b2i (difM (cRl c) (mPs (mk c i_)) (mPs (mk c k)) = -1)) (i + 1))))), (0, .ref a), (2, .int (iI ((k : Int))))]) hx hb dX2_alike_68 hl (k := 3) rfl (by decide) rfl (fun ls hl => ?_)
                refine lv_goto (tgt := 19) hx hb dX2_alike_71 (by decide) ?_
                exact ih_5 (i + 1) (by omega) (by omega) _ _ _ hR hL (lv_sub hl [2, 1, 3, 0] rfl)
              ·
                refine h_iconst hx hb dX2_alike_58 ?_
                refine lv_goto (tgt := 63) hx hb dX2_alike_59 (by decide) ?_
                refine W.eq (g2 := F0 m9 63 ls [.int (iI (b2i (difM (cRl c) (mPs (mk c i)) (mPs (mk c k)) = -1))), .int (iI ((sumN (alkB c) k + sumN (fun i_ => b2i (difM (cRl c) (mPs (mk c i_)) (mPs (mk c k)) = -1)) i)))]) (congrArg (fun z_ : Int => F0 m9 63 ls [.int (iI (z_)), .int (iI ((sumN (alkB c) k + sumN (fun i_ => b2i (difM (cRl c) (mPs (mk c i_)) (mPs (mk c k)) = -1)) i)))]) (show (1 : Int) = b2i (difM (cRl c) (mPs (mk c i)) (mPs (mk c k)) = -1) from (by first | exact (b2i_t c_e).symm | exact (b2i_f c_e).symm))) ?_
                -- call SpokenMarks.bit
                refine h_kIp (h_runSN X hR (c_bit l G w (b2i (difM (cRl c) (mPs (mk c i)) (mPs (mk c k)) = -1)) (by first | exact b2i_01 _ | omega)) pn_yX1_bit q1643 q1644 q120 q1645 ⟨by decide, by decide⟩ hl.1 (Nat.le_of_ble_eq_true rfl) dX2_alike_63 ⟨by omega, by omega⟩) hL (fun H locs hR hL => ?_)
                refine h_iadd hx hb dX2_alike_66 ?_
                refine W.eq (g2 := F0 m9 67 ls [.int (iI ((sumN (alkB c) k + sumN (fun i_ => b2i (difM (cRl c) (mPs (mk c i_)) (mPs (mk c k)) = -1)) (i + 1))))]) (congrArg (fun z_ : Int => F0 m9 67 ls [.int (iI (z_))]) (show (((sumN (alkB c) k + sumN (fun i_ => b2i (difM (cRl c) (mPs (mk c i_)) (mPs (mk c k)) = -1)) i)) + (b2i (difM (cRl c) (mPs (mk c i)) (mPs (mk c k)) = -1)) : Int) = (sumN (alkB c) k + sumN (fun i_ => b2i (difM (cRl c) (mPs (mk c i_)) (mPs (mk c k)) = -1)) (i + 1)) from (by rw [sumN_s]; omega))) ?_
                refine lv_istore_n (lv' := [(1, .int (iI ((sumN (alkB c) k + sumN (fun i_ => b2i (difM (cRl c) (mPs (mk c i_)) (mPs (mk c k)) = -1)) (i + 1))))), (0, .ref a), (2, .int (iI ((k : Int)))), (3, .int (iI ((i : Int))))]) hx hb dX2_alike_67 rfl hl (by decide) rfl (fun ls hl => ?_)
                refine h_iinc (lv' := [(3, .int (iI ((i : Int) + 1))), (1, .int (iI ((sumN (alkB c) k + sumN (fun i_ => b2i (difM (cRl c) (mPs (mk c i_)) (mPs (mk c k)) = -1)) (i + 1))))), (0, .ref a), (2, .int (iI ((k : Int))))]) hx hb dX2_alike_68 hl (k := 3) rfl (by decide) rfl (fun ls hl => ?_)
                refine lv_goto (tgt := 19) hx hb dX2_alike_71 (by decide) ?_
                exact ih_5 (i + 1) (by omega) (by omega) _ _ _ hR hL (lv_sub hl [2, 1, 3, 0] rfl)
        have hl : lv_has ls 4 [(3, .int (iI (0))), (0, .ref a), (1, .int (iI ((sumN (alkB c) k + sumN (fun i_ => b2i (difM (cRl c) (mPs (mk c i_)) (mPs (mk c k)) = -1)) 0)))), (2, .int (iI ((k : Int))))] := lv_conv hl (congrArg (fun z_ : Int => ([(3, .int (iI (0))), (0, .ref a), (1, .int (iI (z_))), (2, .int (iI ((k : Int))))] : List (Nat × Value))) (show ((sumN (alkB c) k) : Int) = (sumN (alkB c) k + sumN (fun i_ => b2i (difM (cRl c) (mPs (mk c i_)) (mPs (mk c k)) = -1)) 0) from (by rw [sumN_0]; omega)))
        exact LOOP_5 _ 0 (by omega) (Nat.lt_succ_self _) _ _ _ hR hL (lv_sub hl [1, 2, 3, 0] rfl)
  exact LOOP_1 _ 0 (by omega) (Nat.lt_succ_self _) _ _ _ hR hL (lv_sub hl [2, 1, 0] rfl)

set_option maxHeartbeats 4000000 in
set_option maxRecDepth 100000 in
/-- SpokenMarks$Catalogue.gap -/
theorem ct_gap (l : Launch) (G : Gl) (w : Wd) (a lm lr hm : Nat) (c : Cat) (hC : CatAt G w a lm lr hm c) (hS : CatS c)  : HM l yX2_gap cX2_gap 3 (some .int) 14 0 0 G [.ref a] w (QI G (fun z_ w_ => z_ = gapN c ∧ w_ = w)) := by
  refine HM.mk (by decide +kernel) (Nat.le_of_ble_eq_true rfl) ?_
  intro p9 e9 s9 m9 a9 b9 meth9 c9 ls X hret hlk hnm hl H hR
  have hx := X.1.1
  have hb := X.1.2.1
  have hl : lv_has ls 3 [(0, .ref a)] := hl
  have hL : LK G [] := fun q h => absurd h List.not_mem_nil
  generalize ([] : List Loc) = locs at hL ⊢
  have hC0 := hC
  obtain ⟨bda, aca, so, fb, fa, Lm, Lr, mp, hCt, ⟨hbd, hbx⟩, ⟨hac, hax⟩, hso, ⟨⟨mo1, hm1, hlm⟩, hmk, hnd⟩, ⟨⟨mo2, hm2, hlr⟩, hru⟩, ⟨hhm, hmp⟩, hrd, hid, hba, hll⟩ := hC
  have hCt : w a = some (a + 1, oE 2 [.int (iI (cSh c)), .int (iI (cRm c)), .ref bda, .ref lm, .ref lr, .ref hm, .ref so, .ref aca, .int (iI (cNx c))]) := hCt
  have s1 := hS.1
  have s2 := hS.2.1
  have s3 := hS.2.2.1
  have s4 := hS.2.2.2.1.1
  have hRW := hS.2.2.2.2.1
  have s5 := hRW.1
  have s6 := hS.2.2.2.2.2
  have hml : Lm.length = cN c := hmk.1
  have hrl := hru.1
  refine h_iconst hx hb dX2_gap_0 ?_
  refine lv_istore_n (lv' := [(1, .int (iI (0))), (0, .ref a)]) hx hb dX2_gap_1 rfl hl (by decide) rfl (fun ls hl => ?_)
  refine h_iconst hx hb dX2_gap_2 ?_
  refine lv_istore_n (lv' := [(2, .int (iI (1))), (1, .int (iI (0))), (0, .ref a)]) hx hb dX2_gap_3 rfl hl (by decide) rfl (fun ls hl => ?_)
  have LOOP_1 : ∀ (N_ : Nat) (k : Nat), (k ≤ cN c - 1) → (41 - k) < N_ → ∀ (H : Heap) (locs : List Loc) (ls : Array Slot), Rp G w H → LK G locs → lv_has ls 3 [(0, .ref a), (1, .int (iI ((sumN (fun k_ => b2i (mPl (mk c (k_ + 1)) ≤ mPl (mk c k_) ∨ 0 ≤ cmpM (cRl c) (mPs (mk c k_)) (mPs (mk c (k_ + 1))))) k)))), (2, .int (iI (((k + 1 : Nat) : Int))))] → W p9 l e9 (rmk 14 0 0) s9 m9 a9 b9 meth9 c9 H locs 0 0 (MQ b9 (QI G (fun z_ w_ => z_ = gapN c ∧ w_ = w)) a9 s9 0 0 (frG G)) (F0 m9 4 ls []) := by
    intro N_
    induction N_ with
    | zero => intro _ _ h_; exact absurd h_ (Nat.not_lt_zero _)
    | succ N_ ih_ =>
      intro k hk hN_ H locs ls hR hL hl
      have ih_1 := ih_
      clear ih_
      refine lv_iload_n hx hb dX2_gap_4 rfl (lv_at hl 2 rfl) ?_
      refine lv_aload_n hx hb dX2_gap_5 rfl (lv_at hl 0 rfl) ?_
      refine h_get X hR hCt rfl in_X2 3 (by decide) q597 rfl dX2_gap_6 ?_
      -- call java/util/ArrayList.size
      refine h_k5Ip (h_runF (x := ⟨"java/util/List", "size", "()I"⟩) X hR (ls_size l G w (lm + 1) lm 40 mo1 Lm hlm) pn_i_java_util_List_size_0 (hlm.c) (kk_face X.2 (by decide +kernel) q1566 q1565 q1570 q1568 q664) q1564 q1569 q1567 q125 q1571 ⟨by decide, by decide⟩ hl.1 (Nat.le_of_ble_eq_true rfl) dX2_gap_9 ⟨by omega, by omega⟩) hL (fun H locs hR hL => ?_)
      refine W.eq (g2 := F0 m9 14 ls [.int (iI ((cN c : Int))), .int (iI (((k + 1 : Nat) : Int)))]) (congrArg (fun z_ : Int => F0 m9 14 ls [.int (iI (z_)), .int (iI (((k + 1 : Nat) : Int)))]) (show ((Lm.length : Int) : Int) = (cN c : Int) from (by rw [hml]))) ?_
      refine h_icmp_ge hx hb 111 dX2_gap_14 (by decide) (by omega) (by omega) (fun c_k => ?_) (fun c_k => ?_)
      ·
        have hl : lv_has ls 3 [(0, .ref a), (1, .int (iI ((sumN (fun k_ => b2i (mPl (mk c (k_ + 1)) ≤ mPl (mk c k_) ∨ 0 ≤ cmpM (cRl c) (mPs (mk c k_)) (mPs (mk c (k_ + 1))))) (cN c - 1) + sumN (fun s_ => b2i (bd c (s_ + 1) < bd c s_)) 0)))), (2, .int (iI (((k + 1 : Nat) : Int))))] := lv_conv hl (congrArg (fun z_ : Int => ([(0, .ref a), (1, .int (iI (z_))), (2, .int (iI (((k + 1 : Nat) : Int))))] : List (Nat × Value))) (show ((sumN (fun k_ => b2i (mPl (mk c (k_ + 1)) ≤ mPl (mk c k_) ∨ 0 ≤ cmpM (cRl c) (mPs (mk c k_)) (mPs (mk c (k_ + 1))))) k) : Int) = (sumN (fun k_ => b2i (mPl (mk c (k_ + 1)) ≤ mPl (mk c k_) ∨ 0 ≤ cmpM (cRl c) (mPs (mk c k_)) (mPs (mk c (k_ + 1))))) (cN c - 1) + sumN (fun s_ => b2i (bd c (s_ + 1) < bd c s_)) 0) from (by rw [show k = cN c - 1 by omega, sumN_0]; omega)))
        refine h_iconst hx hb dX2_gap_111 ?_
        refine lv_istore_n (lv' := [(2, .int (iI (1))), (0, .ref a), (1, .int (iI ((sumN (fun k_ => b2i (mPl (mk c (k_ + 1)) ≤ mPl (mk c k_) ∨ 0 ≤ cmpM (cRl c) (mPs (mk c k_)) (mPs (mk c (k_ + 1))))) (cN c - 1) + sumN (fun s_ => b2i (bd c (s_ + 1) < bd c s_)) 0))))]) hx hb dX2_gap_112 rfl hl (by decide) rfl (fun ls hl => ?_)
        have LOOP_5 : ∀ (N_ : Nat) (s : Nat), (s ≤ (cSh c).toNat - 1) → (9 - s) < N_ → ∀ (H : Heap) (locs : List Loc) (ls : Array Slot), Rp G w H → LK G locs → lv_has ls 3 [(0, .ref a), (1, .int (iI ((sumN (fun k_ => b2i (mPl (mk c (k_ + 1)) ≤ mPl (mk c k_) ∨ 0 ≤ cmpM (cRl c) (mPs (mk c k_)) (mPs (mk c (k_ + 1))))) (cN c - 1) + sumN (fun s_ => b2i (bd c (s_ + 1) < bd c s_)) s)))), (2, .int (iI (((s + 1 : Nat) : Int))))] → W p9 l e9 (rmk 14 0 0) s9 m9 a9 b9 meth9 c9 H locs 0 0 (MQ b9 (QI G (fun z_ w_ => z_ = gapN c ∧ w_ = w)) a9 s9 0 0 (frG G)) (F0 m9 113 ls []) := by
          intro N_
          induction N_ with
          | zero => intro _ _ h_; exact absurd h_ (Nat.not_lt_zero _)
          | succ N_ ih_ =>
            intro s hs hN_ H locs ls hR hL hl
            have ih_5 := ih_
            clear ih_
            refine lv_iload_n hx hb dX2_gap_113 rfl (lv_at hl 2 rfl) ?_
            refine lv_aload_n hx hb dX2_gap_114 rfl (lv_at hl 0 rfl) ?_
            refine h_get X hR hCt rfl in_X2 0 (by decide) q589 rfl dX2_gap_115 ?_
            refine h_icmp_ge hx hb 155 dX2_gap_118 (by decide) (by omega) (by omega) (fun c_s => ?_) (fun c_s => ?_)
            ·
              refine lv_iload_n hx hb dX2_gap_155 rfl (lv_at hl 1 rfl) ?_
              exact h_ireturn hx hb hlk hret hR hL rfl ⟨by unfold gapN; rw [show s = (cSh c).toNat - 1 by omega], rfl⟩ (by omega) (by omega) rfl rfl dX2_gap_156
            ·
              have hb1 := hbx (s + 1) (by omega)
              have hb2 := hbx s (by omega)
              have hb3 := s3.2 (s + 1) (by omega)
              have hb4 := s3.2 s (by omega)
              refine lv_iload_n hx hb dX2_gap_121 rfl (lv_at hl 1 rfl) ?_
              refine lv_aload_n hx hb dX2_gap_122 rfl (lv_at hl 0 rfl) ?_
              refine h_get X hR hCt rfl in_X2 2 (by decide) q594 rfl dX2_gap_123 ?_
              refine lv_iload_n hx hb dX2_gap_126 rfl (lv_at hl 2 rfl) ?_
              refine h_iald X hR hbd (by omega) (by omega) dX2_gap_127 ?_
              refine W.eq (g2 := F0 m9 128 ls [.int (iI (fb (s + 1))), .int (iI ((sumN (fun k_ => b2i (mPl (mk c (k_ + 1)) ≤ mPl (mk c k_) ∨ 0 ≤ cmpM (cRl c) (mPs (mk c k_)) (mPs (mk c (k_ + 1))))) (cN c - 1) + sumN (fun s_ => b2i (bd c (s_ + 1) < bd c s_)) s)))]) (congrArg (fun z_ : Int => F0 m9 128 ls [.int (iI (z_)), .int (iI ((sumN (fun k_ => b2i (mPl (mk c (k_ + 1)) ≤ mPl (mk c k_) ∨ 0 ≤ cmpM (cRl c) (mPs (mk c k_)) (mPs (mk c (k_ + 1))))) (cN c - 1) + sumN (fun s_ => b2i (bd c (s_ + 1) < bd c s_)) s)))]) (show (fb (((s + 1 : Nat) : Int)).toNat : Int) = fb (s + 1) from (by rw [Int.toNat_natCast]))) ?_
              refine lv_aload_n hx hb dX2_gap_128 rfl (lv_at hl 0 rfl) ?_
              refine h_get X hR hCt rfl in_X2 2 (by decide) q594 rfl dX2_gap_129 ?_
              refine lv_iload_n hx hb dX2_gap_132 rfl (lv_at hl 2 rfl) ?_
              refine h_iconst hx hb dX2_gap_133 ?_
              refine h_isub hx hb dX2_gap_134 ?_
              refine W.eq (g2 := F0 m9 135 ls [.int (iI ((s : Int))), .ref bda, .int (iI (fb (s + 1))), .int (iI ((sumN (fun k_ => b2i (mPl (mk c (k_ + 1)) ≤ mPl (mk c k_) ∨ 0 ≤ cmpM (cRl c) (mPs (mk c k_)) (mPs (mk c (k_ + 1))))) (cN c - 1) + sumN (fun s_ => b2i (bd c (s_ + 1) < bd c s_)) s)))]) (congrArg (fun z_ : Int => F0 m9 135 ls [.int (iI (z_)), .ref bda, .int (iI (fb (s + 1))), .int (iI ((sumN (fun k_ => b2i (mPl (mk c (k_ + 1)) ≤ mPl (mk c k_) ∨ 0 ≤ cmpM (cRl c) (mPs (mk c k_)) (mPs (mk c (k_ + 1))))) (cN c - 1) + sumN (fun s_ => b2i (bd c (s_ + 1) < bd c s_)) s)))]) (show ((((s + 1 : Nat) : Int)) - 1 : Int) = (s : Int) from (by omega))) ?_
              refine h_iald X hR hbd (by omega) (by omega) dX2_gap_135 ?_
              refine W.eq (g2 := F0 m9 136 ls [.int (iI (fb s)), .int (iI (fb (s + 1))), .int (iI ((sumN (fun k_ => b2i (mPl (mk c (k_ + 1)) ≤ mPl (mk c k_) ∨ 0 ≤ cmpM (cRl c) (mPs (mk c k_)) (mPs (mk c (k_ + 1))))) (cN c - 1) + sumN (fun s_ => b2i (bd c (s_ + 1) < bd c s_)) s)))]) (congrArg (fun z_ : Int => F0 m9 136 ls [.int (iI (z_)), .int (iI (fb (s + 1))), .int (iI ((sumN (fun k_ => b2i (mPl (mk c (k_ + 1)) ≤ mPl (mk c k_) ∨ 0 ≤ cmpM (cRl c) (mPs (mk c k_)) (mPs (mk c (k_ + 1))))) (cN c - 1) + sumN (fun s_ => b2i (bd c (s_ + 1) < bd c s_)) s)))]) (show (fb ((s : Int)).toNat : Int) = fb s from (by rw [Int.toNat_natCast]))) ?_
              refine h_icmp_ge hx hb 143 dX2_gap_136 (by decide) (by omega) (by omega) (fun c_t => ?_) (fun c_t => ?_)
              ·
                refine h_iconst hx hb dX2_gap_143 ?_
                refine W.eq (g2 := F0 m9 144 ls [.int (iI (b2i (bd c (s + 1) < bd c s))), .int (iI ((sumN (fun k_ => b2i (mPl (mk c (k_ + 1)) ≤ mPl (mk c k_) ∨ 0 ≤ cmpM (cRl c) (mPs (mk c k_)) (mPs (mk c (k_ + 1))))) (cN c - 1) + sumN (fun s_ => b2i (bd c (s_ + 1) < bd c s_)) s)))]) (congrArg (fun z_ : Int => F0 m9 144 ls [.int (iI (z_)), .int (iI ((sumN (fun k_ => b2i (mPl (mk c (k_ + 1)) ≤ mPl (mk c k_) ∨ 0 ≤ cmpM (cRl c) (mPs (mk c k_)) (mPs (mk c (k_ + 1))))) (cN c - 1) + sumN (fun s_ => b2i (bd c (s_ + 1) < bd c s_)) s)))]) (show (0 : Int) = b2i (bd c (s + 1) < bd c s) from (by first | exact (b2i_t (by omega)).symm | exact (b2i_f (by omega)).symm))) ?_
                -- call SpokenMarks.bit
                refine h_kIp (h_runSN X hR (c_bit l G w (b2i (bd c (s + 1) < bd c s)) (by first | exact b2i_01 _ | omega)) pn_yX1_bit q1643 q1644 q120 q1645 ⟨by decide, by decide⟩ hl.1 (Nat.le_of_ble_eq_true rfl) dX2_gap_144 ⟨by omega, by omega⟩) hL (fun H locs hR hL => ?_)
                refine h_iadd hx hb dX2_gap_147 ?_
                refine W.eq (g2 := F0 m9 148 ls [.int (iI ((sumN (fun k_ => b2i (mPl (mk c (k_ + 1)) ≤ mPl (mk c k_) ∨ 0 ≤ cmpM (cRl c) (mPs (mk c k_)) (mPs (mk c (k_ + 1))))) (cN c - 1) + sumN (fun s_ => b2i (bd c (s_ + 1) < bd c s_)) (s + 1))))]) (congrArg (fun z_ : Int => F0 m9 148 ls [.int (iI (z_))]) (show (((sumN (fun k_ => b2i (mPl (mk c (k_ + 1)) ≤ mPl (mk c k_) ∨ 0 ≤ cmpM (cRl c) (mPs (mk c k_)) (mPs (mk c (k_ + 1))))) (cN c - 1) + sumN (fun s_ => b2i (bd c (s_ + 1) < bd c s_)) s)) + (b2i (bd c (s + 1) < bd c s)) : Int) = (sumN (fun k_ => b2i (mPl (mk c (k_ + 1)) ≤ mPl (mk c k_) ∨ 0 ≤ cmpM (cRl c) (mPs (mk c k_)) (mPs (mk c (k_ + 1))))) (cN c - 1) + sumN (fun s_ => b2i (bd c (s_ + 1) < bd c s_)) (s + 1)) from (by rw [sumN_s]; omega))) ?_
                refine lv_istore_n (lv' := [(1, .int (iI ((sumN (fun k_ => b2i (mPl (mk c (k_ + 1)) ≤ mPl (mk c k_) ∨ 0 ≤ cmpM (cRl c) (mPs (mk c k_)) (mPs (mk c (k_ + 1))))) (cN c - 1) + sumN (fun s_ => b2i (bd c (s_ + 1) < bd c s_)) (s + 1))))), (0, .ref a), (2, .int (iI (((s + 1 : Nat) : Int))))]) hx hb dX2_gap_148 rfl hl (by decide) rfl (fun ls hl => ?_)
                refine h_iinc (lv' := [(2, .int (iI (((s + 1 : Nat) : Int) + 1))), (1, .int (iI ((sumN (fun k_ => b2i (mPl (mk c (k_ + 1)) ≤ mPl (mk c k_) ∨ 0 ≤ cmpM (cRl c) (mPs (mk c k_)) (mPs (mk c (k_ + 1))))) (cN c - 1) + sumN (fun s_ => b2i (bd c (s_ + 1) < bd c s_)) (s + 1))))), (0, .ref a)]) hx hb dX2_gap_149 hl (k := 2) rfl (by decide) rfl (fun ls hl => ?_)
                refine lv_goto (tgt := 113) hx hb dX2_gap_152 (by decide) ?_
                exact ih_5 (s + 1) (by omega) (by omega) _ _ _ hR hL (lv_sub hl [2, 1, 0] rfl)
              ·
                refine h_iconst hx hb dX2_gap_139 ?_
                refine lv_goto (tgt := 144) hx hb dX2_gap_140 (by decide) ?_
                refine W.eq (g2 := F0 m9 144 ls [.int (iI (b2i (bd c (s + 1) < bd c s))), .int (iI ((sumN (fun k_ => b2i (mPl (mk c (k_ + 1)) ≤ mPl (mk c k_) ∨ 0 ≤ cmpM (cRl c) (mPs (mk c k_)) (mPs (mk c (k_ + 1))))) (cN c - 1) + sumN (fun s_ => b2i (bd c (s_ + 1) < bd c s_)) s)))]) (congrArg (fun z_ : Int => F0 m9 144 ls [.int (iI (z_)), .int (iI ((sumN (fun k_ => b2i (mPl (mk c (k_ + 1)) ≤ mPl (mk c k_) ∨ 0 ≤ cmpM (cRl c) (mPs (mk c k_)) (mPs (mk c (k_ + 1))))) (cN c - 1) + sumN (fun s_ => b2i (bd c (s_ + 1) < bd c s_)) s)))]) (show (1 : Int) = b2i (bd c (s + 1) < bd c s) from (by first | exact (b2i_t (by omega)).symm | exact (b2i_f (by omega)).symm))) ?_
                -- call SpokenMarks.bit
                refine h_kIp (h_runSN X hR (c_bit l G w (b2i (bd c (s + 1) < bd c s)) (by first | exact b2i_01 _ | omega)) pn_yX1_bit q1643 q1644 q120 q1645 ⟨by decide, by decide⟩ hl.1 (Nat.le_of_ble_eq_true rfl) dX2_gap_144 ⟨by omega, by omega⟩) hL (fun H locs hR hL => ?_)
                refine h_iadd hx hb dX2_gap_147 ?_
                refine W.eq (g2 := F0 m9 148 ls [.int (iI ((sumN (fun k_ => b2i (mPl (mk c (k_ + 1)) ≤ mPl (mk c k_) ∨ 0 ≤ cmpM (cRl c) (mPs (mk c k_)) (mPs (mk c (k_ + 1))))) (cN c - 1) + sumN (fun s_ => b2i (bd c (s_ + 1) < bd c s_)) (s + 1))))]) (congrArg (fun z_ : Int => F0 m9 148 ls [.int (iI (z_))]) (show (((sumN (fun k_ => b2i (mPl (mk c (k_ + 1)) ≤ mPl (mk c k_) ∨ 0 ≤ cmpM (cRl c) (mPs (mk c k_)) (mPs (mk c (k_ + 1))))) (cN c - 1) + sumN (fun s_ => b2i (bd c (s_ + 1) < bd c s_)) s)) + (b2i (bd c (s + 1) < bd c s)) : Int) = (sumN (fun k_ => b2i (mPl (mk c (k_ + 1)) ≤ mPl (mk c k_) ∨ 0 ≤ cmpM (cRl c) (mPs (mk c k_)) (mPs (mk c (k_ + 1))))) (cN c - 1) + sumN (fun s_ => b2i (bd c (s_ + 1) < bd c s_)) (s + 1)) from (by rw [sumN_s]; omega))) ?_
                refine lv_istore_n (lv' := [(1, .int (iI ((sumN (fun k_ => b2i (mPl (mk c (k_ + 1)) ≤ mPl (mk c k_) ∨ 0 ≤ cmpM (cRl c) (mPs (mk c k_)) (mPs (mk c (k_ + 1))))) (cN c - 1) + sumN (fun s_ => b2i (bd c (s_ + 1) < bd c s_)) (s + 1))))), (0, .ref a), (2, .int (iI (((s + 1 : Nat) : Int))))]) hx hb dX2_gap_148 rfl hl (by decide) rfl (fun ls hl => ?_)
                refine h_iinc (lv' := [(2, .int (iI (((s + 1 : Nat) : Int) + 1))), (1, .int (iI ((sumN (fun k_ => b2i (mPl (mk c (k_ + 1)) ≤ mPl (mk c k_) ∨ 0 ≤ cmpM (cRl c) (mPs (mk c k_)) (mPs (mk c (k_ + 1))))) (cN c - 1) + sumN (fun s_ => b2i (bd c (s_ + 1) < bd c s_)) (s + 1))))), (0, .ref a)]) hx hb dX2_gap_149 hl (k := 2) rfl (by decide) rfl (fun ls hl => ?_)
                refine lv_goto (tgt := 113) hx hb dX2_gap_152 (by decide) ?_
                exact ih_5 (s + 1) (by omega) (by omega) _ _ _ hR hL (lv_sub hl [2, 1, 0] rfl)
        exact LOOP_5 _ 0 (by omega) (Nat.lt_succ_self _) _ _ _ hR hL (lv_sub hl [1, 2, 0] rfl)
      ·
        refine lv_iload_n hx hb dX2_gap_17 rfl (lv_at hl 1 rfl) ?_
        refine lv_aload_n hx hb dX2_gap_18 rfl (lv_at hl 0 rfl) ?_
        refine h_get X hR hCt rfl in_X2 3 (by decide) q597 rfl dX2_gap_19 ?_
        refine lv_iload_n hx hb dX2_gap_22 rfl (lv_at hl 2 rfl) ?_
        -- call java/util/ArrayList.get
        refine h_k5Rp (h_runF (x := ⟨"java/util/List", "get", "(I)Ljava/lang/Object;"⟩) X hR (ls_get l G w (lm + 1) lm 40 mo1 Lm hlm (k + 1) (by omega)) pn_i_java_util_List_get_1 (hlm.c) (kk_face X.2 (by decide +kernel) q1575 q1574 q1579 q1577 q664) q1573 q1578 q1576 q125 q1580 ⟨by decide, by decide⟩ hl.1 (Nat.le_of_ble_eq_true rfl) dX2_gap_23 ⟨by omega, by omega⟩) hL (fun H locs hR hL => ?_)
        have hm_15 : MkAt G (cRl c) w (a + 1) (Lm.getD (k + 1) 0) (mk c (k + 1)) := MksAt.g hmk (show (k + 1) < cN c by omega)
        have hm_15w := hS.mw (k := k + 1) (by omega)
        have hm_15p := hS.pw (k := k + 1) (by omega)
        have hm_15r := hm_15w.1
        have hm_15r2 := hm_15w.2.2
        obtain ⟨pl_16, hm_151, hm_152⟩ := hm_15
        refine h_castS X hR (hasC.of hm_151 rfl) q1385 dX2_gap_28 ?_
        refine h_getN X hR hm_151 rfl in_X5 3 (by decide) q1548 rfl dX2_gap_31 ?_
        refine lv_aload_n hx hb dX2_gap_34 rfl (lv_at hl 0 rfl) ?_
        refine h_get X hR hCt rfl in_X2 3 (by decide) q597 rfl dX2_gap_35 ?_
        refine lv_iload_n hx hb dX2_gap_38 rfl (lv_at hl 2 rfl) ?_
        refine h_iconst hx hb dX2_gap_39 ?_
        refine h_isub hx hb dX2_gap_40 ?_
        refine W.eq (g2 := F0 m9 41 ls [.int (iI ((k : Int))), .ref lm, .int (iI (mPl (mk c (k + 1)))), .int (iI ((sumN (fun k_ => b2i (mPl (mk c (k_ + 1)) ≤ mPl (mk c k_) ∨ 0 ≤ cmpM (cRl c) (mPs (mk c k_)) (mPs (mk c (k_ + 1))))) k)))]) (congrArg (fun z_ : Int => F0 m9 41 ls [.int (iI (z_)), .ref lm, .int (iI (mPl (mk c (k + 1)))), .int (iI ((sumN (fun k_ => b2i (mPl (mk c (k_ + 1)) ≤ mPl (mk c k_) ∨ 0 ≤ cmpM (cRl c) (mPs (mk c k_)) (mPs (mk c (k_ + 1))))) k)))]) (show ((((k + 1 : Nat) : Int)) - 1 : Int) = (k : Int) from (by omega))) ?_
        -- call java/util/ArrayList.get
        refine h_k5Rp (h_runF (x := ⟨"java/util/List", "get", "(I)Ljava/lang/Object;"⟩) X hR (ls_get l G w (lm + 1) lm 40 mo1 Lm hlm k (by omega)) pn_i_java_util_List_get_1 (hlm.c) (kk_face X.2 (by decide +kernel) q1575 q1574 q1579 q1577 q664) q1573 q1578 q1576 q125 q1580 ⟨by decide, by decide⟩ hl.1 (Nat.le_of_ble_eq_true rfl) dX2_gap_41 ⟨by omega, by omega⟩) hL (fun H locs hR hL => ?_)
        have hm_20 : MkAt G (cRl c) w (a + 1) (Lm.getD k 0) (mk c k) := MksAt.g hmk (show k < cN c by omega)
        have hm_20w := hS.mw (k := k) (by omega)
        have hm_20p := hS.pw (k := k) (by omega)
        have hm_20r := hm_20w.1
        have hm_20r2 := hm_20w.2.2
        obtain ⟨pl_21, hm_201, hm_202⟩ := hm_20
        refine h_castS X hR (hasC.of hm_201 rfl) q1385 dX2_gap_46 ?_
        refine h_getN X hR hm_201 rfl in_X5 3 (by decide) q1548 rfl dX2_gap_49 ?_
        refine h_icmp_le hx hb 95 dX2_gap_52 (by decide) (by omega) (by omega) (fun c_a => ?_) (fun c_a => ?_)
        ·
          refine h_iconst hx hb dX2_gap_95 ?_
          refine lv_goto (tgt := 100) hx hb dX2_gap_96 (by decide) ?_
          refine W.eq (g2 := F0 m9 100 ls [.int (iI (b2i (mPl (mk c (k + 1)) ≤ mPl (mk c k) ∨ 0 ≤ cmpM (cRl c) (mPs (mk c k)) (mPs (mk c (k + 1)))))), .int (iI ((sumN (fun k_ => b2i (mPl (mk c (k_ + 1)) ≤ mPl (mk c k_) ∨ 0 ≤ cmpM (cRl c) (mPs (mk c k_)) (mPs (mk c (k_ + 1))))) k)))]) (congrArg (fun z_ : Int => F0 m9 100 ls [.int (iI (z_)), .int (iI ((sumN (fun k_ => b2i (mPl (mk c (k_ + 1)) ≤ mPl (mk c k_) ∨ 0 ≤ cmpM (cRl c) (mPs (mk c k_)) (mPs (mk c (k_ + 1))))) k)))]) (show (1 : Int) = b2i (mPl (mk c (k + 1)) ≤ mPl (mk c k) ∨ 0 ≤ cmpM (cRl c) (mPs (mk c k)) (mPs (mk c (k + 1)))) from (by first | exact (b2i_t (Or.inl c_a)).symm | exact (b2i_t (Or.inr (by omega))).symm | exact (b2i_f (fun q_ => by rcases q_ with q_ | q_ <;> omega)).symm))) ?_
          -- call SpokenMarks.bit
          refine h_kIp (h_runSN X hR (c_bit l G w (b2i (mPl (mk c (k + 1)) ≤ mPl (mk c k) ∨ 0 ≤ cmpM (cRl c) (mPs (mk c k)) (mPs (mk c (k + 1))))) (by first | exact b2i_01 _ | omega)) pn_yX1_bit q1643 q1644 q120 q1645 ⟨by decide, by decide⟩ hl.1 (Nat.le_of_ble_eq_true rfl) dX2_gap_100 ⟨by omega, by omega⟩) hL (fun H locs hR hL => ?_)
          refine h_iadd hx hb dX2_gap_103 ?_
          refine W.eq (g2 := F0 m9 104 ls [.int (iI ((sumN (fun k_ => b2i (mPl (mk c (k_ + 1)) ≤ mPl (mk c k_) ∨ 0 ≤ cmpM (cRl c) (mPs (mk c k_)) (mPs (mk c (k_ + 1))))) (k + 1))))]) (congrArg (fun z_ : Int => F0 m9 104 ls [.int (iI (z_))]) (show (((sumN (fun k_ => b2i (mPl (mk c (k_ + 1)) ≤ mPl (mk c k_) ∨ 0 ≤ cmpM (cRl c) (mPs (mk c k_)) (mPs (mk c (k_ + 1))))) k)) + (b2i (mPl (mk c (k + 1)) ≤ mPl (mk c k) ∨ 0 ≤ cmpM (cRl c) (mPs (mk c k)) (mPs (mk c (k + 1))))) : Int) = (sumN (fun k_ => b2i (mPl (mk c (k_ + 1)) ≤ mPl (mk c k_) ∨ 0 ≤ cmpM (cRl c) (mPs (mk c k_)) (mPs (mk c (k_ + 1))))) (k + 1)) from (by rfl))) ?_
          refine lv_istore_n (lv' := [(1, .int (iI ((sumN (fun k_ => b2i (mPl (mk c (k_ + 1)) ≤ mPl (mk c k_) ∨ 0 ≤ cmpM (cRl c) (mPs (mk c k_)) (mPs (mk c (k_ + 1))))) (k + 1))))), (0, .ref a), (2, .int (iI (((k + 1 : Nat) : Int))))]) hx hb dX2_gap_104 rfl hl (by decide) rfl (fun ls hl => ?_)
          refine h_iinc (lv' := [(2, .int (iI (((k + 1 : Nat) : Int) + 1))), (1, .int (iI ((sumN (fun k_ => b2i (mPl (mk c (k_ + 1)) ≤ mPl (mk c k_) ∨ 0 ≤ cmpM (cRl c) (mPs (mk c k_)) (mPs (mk c (k_ + 1))))) (k + 1))))), (0, .ref a)]) hx hb dX2_gap_105 hl (k := 2) rfl (by decide) rfl (fun ls hl => ?_)
          refine lv_goto (tgt := 4) hx hb dX2_gap_108 (by decide) ?_
          exact ih_1 (k + 1) (by omega) (by omega) _ _ _ hR hL (lv_sub hl [2, 1, 0] rfl)
        ·
          refine lv_aload_n hx hb dX2_gap_55 rfl (lv_at hl 0 rfl) ?_
          refine h_get X hR hCt rfl in_X2 6 (by decide) q609 rfl dX2_gap_56 ?_
          refine lv_aload_n hx hb dX2_gap_59 rfl (lv_at hl 0 rfl) ?_
          refine h_get X hR hCt rfl in_X2 3 (by decide) q597 rfl dX2_gap_60 ?_
          refine lv_iload_n hx hb dX2_gap_63 rfl (lv_at hl 2 rfl) ?_
          refine h_iconst hx hb dX2_gap_64 ?_
          refine h_isub hx hb dX2_gap_65 ?_
          refine W.eq (g2 := F0 m9 66 ls [.int (iI ((k : Int))), .ref lm, .ref so, .int (iI ((sumN (fun k_ => b2i (mPl (mk c (k_ + 1)) ≤ mPl (mk c k_) ∨ 0 ≤ cmpM (cRl c) (mPs (mk c k_)) (mPs (mk c (k_ + 1))))) k)))]) (congrArg (fun z_ : Int => F0 m9 66 ls [.int (iI (z_)), .ref lm, .ref so, .int (iI ((sumN (fun k_ => b2i (mPl (mk c (k_ + 1)) ≤ mPl (mk c k_) ∨ 0 ≤ cmpM (cRl c) (mPs (mk c k_)) (mPs (mk c (k_ + 1))))) k)))]) (show ((((k + 1 : Nat) : Int)) - 1 : Int) = (k : Int) from (by omega))) ?_
          -- call java/util/ArrayList.get
          refine h_k5Rp (h_runF (x := ⟨"java/util/List", "get", "(I)Ljava/lang/Object;"⟩) X hR (ls_get l G w (lm + 1) lm 40 mo1 Lm hlm k (by omega)) pn_i_java_util_List_get_1 (hlm.c) (kk_face X.2 (by decide +kernel) q1575 q1574 q1579 q1577 q664) q1573 q1578 q1576 q125 q1580 ⟨by decide, by decide⟩ hl.1 (Nat.le_of_ble_eq_true rfl) dX2_gap_66 ⟨by omega, by omega⟩) hL (fun H locs hR hL => ?_)
          have hm_28 : MkAt G (cRl c) w (a + 1) (Lm.getD k 0) (mk c k) := MksAt.g hmk (show k < cN c by omega)
          have hm_28w := hS.mw (k := k) (by omega)
          have hm_28p := hS.pw (k := k) (by omega)
          refine h_castS X hR (hm_28.c) q1385 dX2_gap_71 ?_
          refine lv_aload_n hx hb dX2_gap_74 rfl (lv_at hl 0 rfl) ?_
          refine h_get X hR hCt rfl in_X2 3 (by decide) q597 rfl dX2_gap_75 ?_
          refine lv_iload_n hx hb dX2_gap_78 rfl (lv_at hl 2 rfl) ?_
          -- call java/util/ArrayList.get
          refine h_k5Rp (h_runF (x := ⟨"java/util/List", "get", "(I)Ljava/lang/Object;"⟩) X hR (ls_get l G w (lm + 1) lm 40 mo1 Lm hlm (k + 1) (by omega)) pn_i_java_util_List_get_1 (hlm.c) (kk_face X.2 (by decide +kernel) q1575 q1574 q1579 q1577 q664) q1573 q1578 q1576 q125 q1580 ⟨by decide, by decide⟩ hl.1 (Nat.le_of_ble_eq_true rfl) dX2_gap_79 ⟨by omega, by omega⟩) hL (fun H locs hR hL => ?_)
          have hm_32 : MkAt G (cRl c) w (a + 1) (Lm.getD (k + 1) 0) (mk c (k + 1)) := MksAt.g hmk (show (k + 1) < cN c by omega)
          have hm_32w := hS.mw (k := k + 1) (by omega)
          have hm_32p := hS.pw (k := k + 1) (by omega)
          refine h_castS X hR (hm_32.c) q1385 dX2_gap_84 ?_
          -- call SpokenMarks$Spoken.compare
          refine h_k5Ip (h_runF (x := ⟨"java/util/Comparator", "compare", "(Ljava/lang/Object;Ljava/lang/Object;)I"⟩) X hR (sp_cmpO l G w so hso (Lm.getD k 0) (Lm.getD (k + 1) 0) (a + 1) (a + 1) (cRl c) (mk c k) (mk c (k + 1)) hm_28 hm_32 hRW (hS.pw (by omega)) (hS.pw (by omega))) pn_i_java_util_Comparator_compare_2 (hasC.of hso rfl) (kk_face X.2 (by decide +kernel) q1592 q1591 q1597 q1595 q1593) q1590 q1596 q1594 q144 q1598 ⟨by decide, by decide⟩ hl.1 (Nat.le_of_ble_eq_true rfl) dX2_gap_87 ⟨by omega, by omega⟩) hL (fun H locs hR hL => ?_)
          have hsp := spM_enc hRW (hS.pw (k := k) (by omega)) (hS.pw (k := k + 1) (by omega))
          refine h_if_lt hx hb 99 dX2_gap_92 (by decide) (by omega) (fun c_b => ?_) (fun c_b => ?_)
          ·
            refine h_iconst hx hb dX2_gap_99 ?_
            refine W.eq (g2 := F0 m9 100 ls [.int (iI (b2i (mPl (mk c (k + 1)) ≤ mPl (mk c k) ∨ 0 ≤ cmpM (cRl c) (mPs (mk c k)) (mPs (mk c (k + 1)))))), .int (iI ((sumN (fun k_ => b2i (mPl (mk c (k_ + 1)) ≤ mPl (mk c k_) ∨ 0 ≤ cmpM (cRl c) (mPs (mk c k_)) (mPs (mk c (k_ + 1))))) k)))]) (congrArg (fun z_ : Int => F0 m9 100 ls [.int (iI (z_)), .int (iI ((sumN (fun k_ => b2i (mPl (mk c (k_ + 1)) ≤ mPl (mk c k_) ∨ 0 ≤ cmpM (cRl c) (mPs (mk c k_)) (mPs (mk c (k_ + 1))))) k)))]) (show (0 : Int) = b2i (mPl (mk c (k + 1)) ≤ mPl (mk c k) ∨ 0 ≤ cmpM (cRl c) (mPs (mk c k)) (mPs (mk c (k + 1)))) from (by first | exact (b2i_t (Or.inl c_a)).symm | exact (b2i_t (Or.inr (by omega))).symm | exact (b2i_f (fun q_ => by rcases q_ with q_ | q_ <;> omega)).symm))) ?_
            -- call SpokenMarks.bit
            refine h_kIp (h_runSN X hR (c_bit l G w (b2i (mPl (mk c (k + 1)) ≤ mPl (mk c k) ∨ 0 ≤ cmpM (cRl c) (mPs (mk c k)) (mPs (mk c (k + 1))))) (by first | exact b2i_01 _ | omega)) pn_yX1_bit q1643 q1644 q120 q1645 ⟨by decide, by decide⟩ hl.1 (Nat.le_of_ble_eq_true rfl) dX2_gap_100 ⟨by omega, by omega⟩) hL (fun H locs hR hL => ?_)
            refine h_iadd hx hb dX2_gap_103 ?_
            refine W.eq (g2 := F0 m9 104 ls [.int (iI ((sumN (fun k_ => b2i (mPl (mk c (k_ + 1)) ≤ mPl (mk c k_) ∨ 0 ≤ cmpM (cRl c) (mPs (mk c k_)) (mPs (mk c (k_ + 1))))) (k + 1))))]) (congrArg (fun z_ : Int => F0 m9 104 ls [.int (iI (z_))]) (show (((sumN (fun k_ => b2i (mPl (mk c (k_ + 1)) ≤ mPl (mk c k_) ∨ 0 ≤ cmpM (cRl c) (mPs (mk c k_)) (mPs (mk c (k_ + 1))))) k)) + (b2i (mPl (mk c (k + 1)) ≤ mPl (mk c k) ∨ 0 ≤ cmpM (cRl c) (mPs (mk c k)) (mPs (mk c (k + 1))))) : Int) = (sumN (fun k_ => b2i (mPl (mk c (k_ + 1)) ≤ mPl (mk c k_) ∨ 0 ≤ cmpM (cRl c) (mPs (mk c k_)) (mPs (mk c (k_ + 1))))) (k + 1)) from (by rfl))) ?_
            refine lv_istore_n (lv' := [(1, .int (iI ((sumN (fun k_ => b2i (mPl (mk c (k_ + 1)) ≤ mPl (mk c k_) ∨ 0 ≤ cmpM (cRl c) (mPs (mk c k_)) (mPs (mk c (k_ + 1))))) (k + 1))))), (0, .ref a), (2, .int (iI (((k + 1 : Nat) : Int))))]) hx hb dX2_gap_104 rfl hl (by decide) rfl (fun ls hl => ?_)
            refine h_iinc (lv' := [(2, .int (iI (((k + 1 : Nat) : Int) + 1))), (1, .int (iI ((sumN (fun k_ => b2i (mPl (mk c (k_ + 1)) ≤ mPl (mk c k_) ∨ 0 ≤ cmpM (cRl c) (mPs (mk c k_)) (mPs (mk c (k_ + 1))))) (k + 1))))), (0, .ref a)]) hx hb dX2_gap_105 hl (k := 2) rfl (by decide) rfl (fun ls hl => ?_)
            refine lv_goto (tgt := 4) hx hb dX2_gap_108 (by decide) ?_
            exact ih_1 (k + 1) (by omega) (by omega) _ _ _ hR hL (lv_sub hl [2, 1, 0] rfl)
          ·
            refine h_iconst hx hb dX2_gap_95 ?_
            refine lv_goto (tgt := 100) hx hb dX2_gap_96 (by decide) ?_
            refine W.eq (g2 := F0 m9 100 ls [.int (iI (b2i (mPl (mk c (k + 1)) ≤ mPl (mk c k) ∨ 0 ≤ cmpM (cRl c) (mPs (mk c k)) (mPs (mk c (k + 1)))))), .int (iI ((sumN (fun k_ => b2i (mPl (mk c (k_ + 1)) ≤ mPl (mk c k_) ∨ 0 ≤ cmpM (cRl c) (mPs (mk c k_)) (mPs (mk c (k_ + 1))))) k)))]) (congrArg (fun z_ : Int => F0 m9 100 ls [.int (iI (z_)), .int (iI ((sumN (fun k_ => b2i (mPl (mk c (k_ + 1)) ≤ mPl (mk c k_) ∨ 0 ≤ cmpM (cRl c) (mPs (mk c k_)) (mPs (mk c (k_ + 1))))) k)))]) (show (1 : Int) = b2i (mPl (mk c (k + 1)) ≤ mPl (mk c k) ∨ 0 ≤ cmpM (cRl c) (mPs (mk c k)) (mPs (mk c (k + 1)))) from (by first | exact (b2i_t (Or.inl c_a)).symm | exact (b2i_t (Or.inr (by omega))).symm | exact (b2i_f (fun q_ => by rcases q_ with q_ | q_ <;> omega)).symm))) ?_
            -- call SpokenMarks.bit
            refine h_kIp (h_runSN X hR (c_bit l G w (b2i (mPl (mk c (k + 1)) ≤ mPl (mk c k) ∨ 0 ≤ cmpM (cRl c) (mPs (mk c k)) (mPs (mk c (k + 1))))) (by first | exact b2i_01 _ | omega)) pn_yX1_bit q1643 q1644 q120 q1645 ⟨by decide, by decide⟩ hl.1 (Nat.le_of_ble_eq_true rfl) dX2_gap_100 ⟨by omega, by omega⟩) hL (fun H locs hR hL => ?_)
            refine h_iadd hx hb dX2_gap_103 ?_
            refine W.eq (g2 := F0 m9 104 ls [.int (iI ((sumN (fun k_ => b2i (mPl (mk c (k_ + 1)) ≤ mPl (mk c k_) ∨ 0 ≤ cmpM (cRl c) (mPs (mk c k_)) (mPs (mk c (k_ + 1))))) (k + 1))))]) (congrArg (fun z_ : Int => F0 m9 104 ls [.int (iI (z_))]) (show (((sumN (fun k_ => b2i (mPl (mk c (k_ + 1)) ≤ mPl (mk c k_) ∨ 0 ≤ cmpM (cRl c) (mPs (mk c k_)) (mPs (mk c (k_ + 1))))) k)) + (b2i (mPl (mk c (k + 1)) ≤ mPl (mk c k) ∨ 0 ≤ cmpM (cRl c) (mPs (mk c k)) (mPs (mk c (k + 1))))) : Int) = (sumN (fun k_ => b2i (mPl (mk c (k_ + 1)) ≤ mPl (mk c k_) ∨ 0 ≤ cmpM (cRl c) (mPs (mk c k_)) (mPs (mk c (k_ + 1))))) (k + 1)) from (by rfl))) ?_
            refine lv_istore_n (lv' := [(1, .int (iI ((sumN (fun k_ => b2i (mPl (mk c (k_ + 1)) ≤ mPl (mk c k_) ∨ 0 ≤ cmpM (cRl c) (mPs (mk c k_)) (mPs (mk c (k_ + 1))))) (k + 1))))), (0, .ref a), (2, .int (iI (((k + 1 : Nat) : Int))))]) hx hb dX2_gap_104 rfl hl (by decide) rfl (fun ls hl => ?_)
            refine h_iinc (lv' := [(2, .int (iI (((k + 1 : Nat) : Int) + 1))), (1, .int (iI ((sumN (fun k_ => b2i (mPl (mk c (k_ + 1)) ≤ mPl (mk c k_) ∨ 0 ≤ cmpM (cRl c) (mPs (mk c k_)) (mPs (mk c (k_ + 1))))) (k + 1))))), (0, .ref a)]) hx hb dX2_gap_105 hl (k := 2) rfl (by decide) rfl (fun ls hl => ?_)
            refine lv_goto (tgt := 4) hx hb dX2_gap_108 (by decide) ?_
            exact ih_1 (k + 1) (by omega) (by omega) _ _ _ hR hL (lv_sub hl [2, 1, 0] rfl)
  exact LOOP_1 _ 0 (by omega) (Nat.lt_succ_self _) _ _ _ hR hL (lv_sub hl [2, 1, 0] rfl)

set_option maxHeartbeats 4000000 in
set_option maxRecDepth 100000 in
/-- SpokenMarks$Catalogue.widths -/
theorem ct_wds (l : Launch) (G : Gl) (w : Wd) (a lm lr hm : Nat) (c : Cat) (hC : CatAt G w a lm lr hm c) (hS : CatS c) (hG : RegW w) : HM l yX2_widths cX2_widths 4 (some .int) 5 1 4 G [.ref a] w (QI G (fun z_ w_ => z_ = wds c ∧ Up (fun _ => False) w w_)) := by
  refine HM.mk (by decide +kernel) (Nat.le_of_ble_eq_true rfl) ?_
  intro p9 e9 s9 m9 a9 b9 meth9 c9 ls X hret hlk hnm hl H hR
  have hx := X.1.1
  have hb := X.1.2.1
  have hl : lv_has ls 4 [(0, .ref a)] := hl
  have hL : LK G [] := fun q h => absurd h List.not_mem_nil
  generalize ([] : List Loc) = locs at hL ⊢
  have hU : Up (fun _ => False) w w := Up.rf hG
  have hC0 := hC
  obtain ⟨bda, aca, so, fb, fa, Lm, Lr, mp, hCt, ⟨hbd, hbx⟩, ⟨hac, hax⟩, hso, ⟨⟨mo1, hm1, hlm⟩, hmk, hnd⟩, ⟨⟨mo2, hm2, hlr⟩, hru⟩, ⟨hhm, hmp⟩, hrd, hid, hba, hll⟩ := hC
  have hCt : w a = some (a + 1, oE 2 [.int (iI (cSh c)), .int (iI (cRm c)), .ref bda, .ref lm, .ref lr, .ref hm, .ref so, .ref aca, .int (iI (cNx c))]) := hCt
  have s1 := hS.1
  have s2 := hS.2.1
  have s3 := hS.2.2.1
  have s4 := hS.2.2.2.1.1
  have hRW := hS.2.2.2.2.1
  have s5 := hRW.1
  have s6 := hS.2.2.2.2.2
  have hml : Lm.length = cN c := hmk.1
  have hrl := hru.1
  refine h_iconst hx hb dX2_widths_0 ?_
  refine lv_istore_n (lv' := [(1, .int (iI (0))), (0, .ref a)]) hx hb dX2_widths_1 rfl hl (by decide) rfl (fun ls hl => ?_)
  refine lv_aload_n hx hb dX2_widths_2 rfl (lv_at hl 1 rfl) ?_
  refine h_get X hR hCt rfl in_X2 3 (by decide) q597 rfl dX2_widths_3 ?_
  -- call java/util/ArrayList.iterator
  refine h_k5R (h_runF (x := ⟨"java/util/List", "iterator", "()Ljava/util/Iterator;"⟩) X hR (ls_iter l G w (lm + 1) lm mo1 Lm hlm.z hU.2.2.1) pn_i_java_util_List_iterator_0 (hlm.z.c) (kk_face X.2 (by decide +kernel) q1316 q1315 q1320 q1318 q664) q1314 q1319 q1317 q125 q1321 ⟨by decide, by decide⟩ hl.1 (Nat.le_of_ble_eq_true rfl) dX2_widths_6 ⟨by omega, by omega⟩) hL (fun it w_1 hp_2 H locs hR hL => ?_)
  obtain ⟨hz_4, hf_5, u_3⟩ := hp_2
  have ne_a_it : a ≠ it := w_neN hCt hz_4
  have ne_lm_it : lm ≠ it := sm_ne hlm.sm hz_4
  have hn_it : w it = none := hU.2.1 _ hz_4
  have hF_a_w_1 : w_1 a = some (a + 1, oE 2 [.int (iI (cSh c)), .int (iI (cRm c)), .ref bda, .ref lm, .ref lr, .ref hm, .ref so, .ref aca, .int (iI (cNx c))]) := u_3.1 _ _ _ hCt (by first | exact id | (intro q_; (try dsimp only at q_); omega))
  have hP_lm_w_1 := hlm.mv (u_3.1) (by first | exact id | (intro q_; (try dsimp only at q_); omega))
  have hFm_6 := hmk.mv (w1 := w_1) (u_3.1) (by first | exact id | (intro q_; (try dsimp only at q_); omega)) (by first | exact id | (intro q_; (try dsimp only at q_); omega))
  have hU : Up (fun _ => False) w w_1 := hU.tr u_3 (fun q_ h_ => by first | exact absurd h_ id | exact Or.inl h_ | ((try dsimp only at h_); first | exact Or.inl (by omega) | exact Or.inr ⟨by omega, by subst h_; rw [Nat.add_sub_cancel]; assumption⟩)) hG
  refine lv_astore_n (lv' := [(2, .ref it), (1, .int (iI (0))), (0, .ref a)]) hx hb dX2_widths_11 rfl hl (by decide) rfl (fun ls hl => ?_)
  have LOOP_8 : ∀ (N_ : Nat) (k : Nat) (la : Int)(w_7 : Wd) , (k ≤ cN c) → (w_7 a = some (a + 1, oE 2 [.int (iI (cSh c)), .int (iI (cRm c)), .ref bda, .ref lm, .ref lr, .ref hm, .ref so, .ref aca, .int (iI (cNx c))])) → (LsAt G w_7 (lm + 1) lm 40 mo1 Lm) → (MksAt G (cRl c) w_7 (a + 1) Lm (cMk c)) → (w_7 it = some (it + 1, oE 22 [.int (iI (((k : Nat) : Int))), .int (iI (la)), .int (iI (mo1)), .ref lm])) → (Up (fun _ => False) w w_7) → (42 - k) < N_ → ∀ (H : Heap) (locs : List Loc) (ls : Array Slot), Rp G w_7 H → LK G locs → lv_has ls 4 [(0, .ref a), (1, .int (iI ((sumN (fun k_ => mWd (mk c k_)) k)))), (2, .ref it)] → W p9 l e9 (rmk 5 1 4) s9 m9 a9 b9 meth9 c9 H locs 1 4 (MQ b9 (QI G (fun z_ w_ => z_ = wds c ∧ Up (fun _ => False) w w_)) a9 s9 1 4 (frG G)) (F0 m9 12 ls []) := by
    intro N_
    induction N_ with
    | zero => intro _ _ _ _ _ _ _ _ _ h_; exact absurd h_ (Nat.not_lt_zero _)
    | succ N_ ih_ =>
      intro k la w_7 hk hI_a_w_7 hI_lm_w_7 hI__mks_w_7 hI_it_w_7 hU hN_ H locs ls hR hL hl
      have ih_8 := ih_
      clear ih_
      refine lv_aload_n hx hb dX2_widths_12 rfl (lv_at hl 2 rfl) ?_
      -- call java/util/ArrayList$Itr.hasNext
      refine h_k5Ip (h_runF (x := ⟨"java/util/Iterator", "hasNext", "()Z"⟩) X hR (it_has l G w_7 (lm + 1) lm mo1 Lm hI_lm_w_7.z it ((k)) la hI_it_w_7 (by omega)) pn_i_java_util_Iterator_hasNext_0 (hasC.of hI_it_w_7 rfl) (kk_face X.2 (by decide +kernel) q1344 q1343 q1349 q1347 q1345) q1342 q1348 q1346 q152 q1350 ⟨by decide, by decide⟩ hl.1 (Nat.le_of_ble_eq_true rfl) dX2_widths_13 ⟨by omega, by omega⟩) hL (fun H locs hR hL => ?_)
      refine h_if_eq hx hb 41 dX2_widths_18 (by decide) (by have := b2i_01 (k < Lm.length); omega) (fun c_k => ?_) (fun c_k => ?_)
      ·
        have c_n := b2i_0.mp c_k
        refine lv_iload_n hx hb dX2_widths_41 rfl (lv_at hl 1 rfl) ?_
        exact h_ireturn hx hb hlk hret hR hL rfl ⟨by rw [show k = cN c by omega]; rfl, hU⟩ (by omega) (by omega) rfl rfl dX2_widths_42
      ·
        have c_n := b2i_n1.mp c_k
        refine lv_aload_n hx hb dX2_widths_21 rfl (lv_at hl 2 rfl) ?_
        -- call java/util/ArrayList$Itr.next
        refine h_k5R (h_runF (x := ⟨"java/util/Iterator", "next", "()Ljava/lang/Object;"⟩) X hR (it_next l G w_7 (lm + 1) lm mo1 Lm hI_lm_w_7.z it ((k)) la hI_it_w_7 hU.2.2.1 c_n hm1 (by omega)) pn_i_java_util_Iterator_next_0 (hasC.of hI_it_w_7 rfl) (kk_face X.2 (by decide +kernel) q1354 q1353 q1358 q1356 q1345) q1352 q1357 q1355 q152 q1359 ⟨by decide, by decide⟩ hl.1 (Nat.le_of_ble_eq_true rfl) dX2_widths_22 ⟨by omega, by omega⟩) hL (fun z_12 w_13 hp_14 H locs hR hL => ?_)
        obtain ⟨rfl, hI__16, u_15⟩ := hp_14
        have hF_a_w_13 : w_13 a = some (a + 1, oE 2 [.int (iI (cSh c)), .int (iI (cRm c)), .ref bda, .ref lm, .ref lr, .ref hm, .ref so, .ref aca, .int (iI (cNx c))]) := u_15.1 _ _ _ hI_a_w_7 (by first | exact id | (intro q_; (try dsimp only at q_); omega))
        have hP_lm_w_13 := hI_lm_w_7.mv (u_15.1) (by first | exact id | (intro q_; (try dsimp only at q_); omega))
        have hFm_17 := hI__mks_w_7.mv (w1 := w_13) (u_15.1) (by first | exact id | (intro q_; (try dsimp only at q_); omega)) (by first | exact id | (intro q_; (try dsimp only at q_); omega))
        have hU : Up (fun _ => False) w w_13 := hU.tr u_15 (fun q_ h_ => by first | exact absurd h_ id | exact Or.inl h_ | ((try dsimp only at h_); first | exact Or.inl (by omega) | exact Or.inr ⟨by omega, by subst h_; rw [Nat.add_sub_cancel]; assumption⟩)) hG
        obtain ⟨pl_hm_18, hm_181, hm_182⟩ : MkAt G (cRl c) w_13 (a + 1) (Lm.getD ((k)) 0) (mk c k) := MksAt.g hFm_17 (show k < cN c by omega)
        refine h_castS X hR (hasC.of hm_181 rfl) q1385 dX2_widths_27 ?_
        refine lv_astore_n (lv' := [(3, .ref (Lm.getD ((k)) 0)), (0, .ref a), (1, .int (iI ((sumN (fun k_ => mWd (mk c k_)) k)))), (2, .ref it)]) hx hb dX2_widths_30 rfl hl (by decide) rfl (fun ls hl => ?_)
        refine lv_iload_n hx hb dX2_widths_31 rfl (lv_at hl 2 rfl) ?_
        refine lv_aload_n hx hb dX2_widths_32 rfl (lv_at hl 0 rfl) ?_
        refine h_getN X hR hm_181 rfl in_X5 2 (by decide) q1545 rfl dX2_widths_33 ?_
        refine h_iadd hx hb dX2_widths_36 ?_
        refine W.eq (g2 := F0 m9 37 ls [.int (iI ((sumN (fun k_ => mWd (mk c k_)) (k + 1))))]) (congrArg (fun z_ : Int => F0 m9 37 ls [.int (iI (z_))]) (show (((sumN (fun k_ => mWd (mk c k_)) k)) + (mWd (mk c k)) : Int) = (sumN (fun k_ => mWd (mk c k_)) (k + 1)) from (by rfl))) ?_
        refine lv_istore_n (lv' := [(1, .int (iI ((sumN (fun k_ => mWd (mk c k_)) (k + 1))))), (3, .ref (Lm.getD ((k)) 0)), (0, .ref a), (2, .ref it)]) hx hb dX2_widths_37 rfl hl (by decide) rfl (fun ls hl => ?_)
        refine lv_goto (tgt := 12) hx hb dX2_widths_38 (by decide) ?_
        exact ih_8 (k + 1) ((k : Int)) w_13 (by omega) hF_a_w_13 hP_lm_w_13 hFm_17 hI__16 hU (by omega) _ _ _ hR hL (lv_sub hl [2, 0, 3] rfl)
  exact LOOP_8 _ 0 (-1) w_1 (by omega) hF_a_w_1 hP_lm_w_1 hFm_6 hf_5 hU (Nat.lt_succ_self _) _ _ _ hR hL (lv_sub hl [2, 1, 0] rfl)

set_option maxHeartbeats 4000000 in
set_option maxRecDepth 100000 in
/-- SpokenMarks$Catalogue.earOf -/
theorem ct_ear (l : Launch) (G : Gl) (w : Wd) (a lm lr hm : Nat) (c : Cat) (hC : CatAt G w a lm lr hm c) (hS : CatS c) (sa : Nat) (L : List Int) (hT : StrAt G w sa L) (hLw : Wrd L ∧ L ≠ []) (hG : RegW w) : HM l yX2_earOf cX2_earOf 3 (some (.object "java/lang/String")) 10 21 125 G [.ref a, .ref sa] w (QR G (fun z_ w_ => StrAt G w_ z_ (earL (spk (cRl c) L)) ∧ Up (fun _ => False) w w_)) := by
  refine HM.mk (by decide +kernel) (Nat.le_of_ble_eq_true rfl) ?_
  intro p9 e9 s9 m9 a9 b9 meth9 c9 ls X hret hlk hnm hl H hR
  have hx := X.1.1
  have hb := X.1.2.1
  have hl : lv_has ls 3 [(0, .ref a), (1, .ref sa)] := hl
  have hL : LK G [] := fun q h => absurd h List.not_mem_nil
  generalize ([] : List Loc) = locs at hL ⊢
  have hU : Up (fun _ => False) w w := Up.rf hG
  have hC0 := hC
  obtain ⟨bda, aca, so, fb, fa, Lm, Lr, mp, hCt, ⟨hbd, hbx⟩, ⟨hac, hax⟩, hso, ⟨⟨mo1, hm1, hlm⟩, hmk, hnd⟩, ⟨⟨mo2, hm2, hlr⟩, hru⟩, ⟨hhm, hmp⟩, hrd, hid, hba, hll⟩ := hC
  have hCt : w a = some (a + 1, oE 2 [.int (iI (cSh c)), .int (iI (cRm c)), .ref bda, .ref lm, .ref lr, .ref hm, .ref so, .ref aca, .int (iI (cNx c))]) := hCt
  have s1 := hS.1
  have s2 := hS.2.1
  have s3 := hS.2.2.1
  have s4 := hS.2.2.2.1.1
  have hRW := hS.2.2.2.2.1
  have s5 := hRW.1
  have s6 := hS.2.2.2.2.2
  have hml : Lm.length = cN c := hmk.1
  have hrl := hru.1
  have hspw := spk_w hRW hLw
  refine lv_aload_n hx hb dX2_earOf_0 rfl (lv_at hl 0 rfl) ?_
  refine h_get X hR hCt rfl in_X2 5 (by decide) q608 rfl dX2_earOf_1 ?_
  refine lv_aload_n hx hb dX2_earOf_4 rfl (lv_at hl 1 rfl) ?_
  -- call java/util/HashMap.get
  refine h_k5Np (h_runF (x := ⟨"java/util/Map", "get", "(Ljava/lang/Object;)Ljava/lang/Object;"⟩) X hR (hm_get l G w (hm + 1) hm ((cRl c).length) mp hhm sa L hT) pn_i_java_util_Map_get_1 (hhm.c) (kk_face X.2 (by decide +kernel) q1405 q1404 q1409 q1407 q738) q1403 q1408 q1406 q143 q1410 ⟨by decide, by decide⟩ hl.1 (Nat.le_of_ble_eq_true rfl) dX2_earOf_5 ⟨by omega, by omega⟩) hL (fun H locs hR hL => ?_)
  rcases hmp L with ⟨e_, hr_⟩ | ⟨va, e_, hv_, hr_⟩
  ·
    refine W.eq (g2 := F0 m9 10 ls [.null]) (by rw [e_]; rfl) ?_
    refine lv_castN hx hb dX2_earOf_10 ?_
    refine lv_astore_nN (lv' := [(2, .null), (0, .ref a), (1, .ref sa)]) hx hb dX2_earOf_13 rfl hl (by decide) rfl (fun ls hl => ?_)
    refine lv_aload_nN hx hb dX2_earOf_14 rfl (lv_at hl 0 rfl) ?_
    refine lv_ifnonnullN hx hb dX2_earOf_15 ?_
    refine lv_aload_n hx hb dX2_earOf_18 rfl (lv_at hl 2 rfl) ?_
    refine lv_goto (tgt := 23) hx hb dX2_earOf_19 (by decide) ?_
    -- call SpokenMarks$Step.earOf
    refine h_kR (h_runS X hR (st_ear l G w sa L hT hLw.1 hU.2.2.1) pn_yX7_earOf q1420 q1421 q157 q1422 ⟨by decide, by decide⟩ hl.1 (Nat.le_of_ble_eq_true rfl) dX2_earOf_23 ⟨by omega, by omega⟩) hL (fun z_4 w_5 hp_6 H locs hR hL => ?_)
    obtain ⟨hS__8, u_7⟩ := hp_6
    have hF_a_w_5 : w_5 a = some (a + 1, oE 2 [.int (iI (cSh c)), .int (iI (cRm c)), .ref bda, .ref lm, .ref lr, .ref hm, .ref so, .ref aca, .int (iI (cNx c))]) := u_7.1 _ _ _ hCt (by first | exact id | (intro q_; (try dsimp only at q_); omega))
    have hP_hm_w_5 := hhm.mv (u_7.1) ⟨(by first | exact id | (intro q_; (try dsimp only at q_); omega)), (by first | exact id | (intro q_; (try dsimp only at q_); omega))⟩
    have hP_sa_w_5 := hT.mv (u_7.1) (by first | exact id | (intro q_; (try dsimp only at q_); omega))
    have hU : Up (fun _ => False) w w_5 := hU.tr u_7 (fun q_ h_ => by first | exact absurd h_ id | exact Or.inl h_ | ((try dsimp only at h_); first | exact Or.inl (by omega) | exact Or.inr ⟨by omega, by subst h_; rw [Nat.add_sub_cancel]; assumption⟩)) hG
    exact h_areturn hx hb hlk hret (by first | exact Or.inl ⟨_, rfl⟩ | exact Or.inr ⟨_, rfl⟩) hR hL ⟨(by rw [show spk (cRl c) L = L from if_pos hr_]; exact hS__8), hU⟩ (by omega) (by omega) rfl rfl dX2_earOf_26
  ·
    refine W.eq (g2 := F0 m9 10 ls [.ref va]) (by rw [e_]; rfl) ?_
    refine h_castS X hR (hv_.c) q1419 dX2_earOf_10 ?_
    refine lv_astore_n (lv' := [(2, .ref va), (0, .ref a), (1, .ref sa)]) hx hb dX2_earOf_13 rfl hl (by decide) rfl (fun ls hl => ?_)
    refine lv_aload_n hx hb dX2_earOf_14 rfl (lv_at hl 0 rfl) ?_
    refine lv_ifnonnull (tgt := 22) hx hb dX2_earOf_15 (by decide) ?_
    refine lv_aload_n hx hb dX2_earOf_22 rfl (lv_at hl 0 rfl) ?_
    -- call SpokenMarks$Step.earOf
    refine h_kR (h_runS X hR (st_ear l G w va (spk (cRl c) L) hv_ hspw.1 hU.2.2.1) pn_yX7_earOf q1420 q1421 q157 q1422 ⟨by decide, by decide⟩ hl.1 (Nat.le_of_ble_eq_true rfl) dX2_earOf_23 ⟨by omega, by omega⟩) hL (fun z_9 w_10 hp_11 H locs hR hL => ?_)
    obtain ⟨hS__13, u_12⟩ := hp_11
    have hF_a_w_10 : w_10 a = some (a + 1, oE 2 [.int (iI (cSh c)), .int (iI (cRm c)), .ref bda, .ref lm, .ref lr, .ref hm, .ref so, .ref aca, .int (iI (cNx c))]) := u_12.1 _ _ _ hCt (by first | exact id | (intro q_; (try dsimp only at q_); omega))
    have hP_hm_w_10 := hhm.mv (u_12.1) ⟨(by first | exact id | (intro q_; (try dsimp only at q_); omega)), (by first | exact id | (intro q_; (try dsimp only at q_); omega))⟩
    have hP_sa_w_10 := hT.mv (u_12.1) (by first | exact id | (intro q_; (try dsimp only at q_); omega))
    have hP_va_w_10 := hv_.mv (u_12.1) (by first | exact id | (intro q_; (try dsimp only at q_); omega))
    have hU : Up (fun _ => False) w w_10 := hU.tr u_12 (fun q_ h_ => by first | exact absurd h_ id | exact Or.inl h_ | ((try dsimp only at h_); first | exact Or.inl (by omega) | exact Or.inr ⟨by omega, by subst h_; rw [Nat.add_sub_cancel]; assumption⟩)) hG
    exact h_areturn hx hb hlk hret (by first | exact Or.inl ⟨_, rfl⟩ | exact Or.inr ⟨_, rfl⟩) hR hL ⟨hS__13, hU⟩ (by omega) (by omega) rfl rfl dX2_earOf_26

set_option maxHeartbeats 4000000 in
set_option maxRecDepth 100000 in
/-- SpokenMarks$Catalogue.heard -/
theorem ct_heard (l : Launch) (G : Gl) (w : Wd) (a lm lr hm : Nat) (c : Cat) (hC : CatAt G w a lm lr hm c) (hS : CatS c) (sa : Nat) (L : List Int) (hT : StrAt G w sa L) (hLw : Wrd L ∧ L ≠ []) (hG : RegW w) : HM l yX2_heard cX2_heard 2 (some (.object "SpokenMarks$Word")) 11 22 127 G [.ref a, .ref sa] w (QR G (fun z_ w_ => w z_ = none ∧ PtAt G (cRl c) w_ z_ (.inr L) ∧ Up (fun _ => False) w w_)) := by
  refine HM.mk (by decide +kernel) (Nat.le_of_ble_eq_true rfl) ?_
  intro p9 e9 s9 m9 a9 b9 meth9 c9 ls X hret hlk hnm hl H hR
  have hx := X.1.1
  have hb := X.1.2.1
  have hl : lv_has ls 2 [(0, .ref a), (1, .ref sa)] := hl
  have hL : LK G [] := fun q h => absurd h List.not_mem_nil
  generalize ([] : List Loc) = locs at hL ⊢
  have hU : Up (fun _ => False) w w := Up.rf hG
  refine h_new X hR (ci := 4) (fun q => q + 1) rfl in_X6 tyX6_ok q1392 q1397 q155 [.null, .null] (by intro j hj; rcases (show j = 0 ∨ j = 1 by omega) with rfl | rfl <;> rfl) (by omega) (by omega) dX2_heard_0 (fun q hq w_1 ew_2 H hR => ?_)
  have hn_q : w q = none := hU.2.1 _ hq
  have hU : Up (fun _ => False) w w_1 := by rw [ew_2]; exact hU.new hq (by first | exact Or.inr (Or.inl rfl) | exact Or.inl rfl | exact Or.inr (Or.inr (by assumption)))
  have hF_q_w_1 : w_1 q = some (q + 1, oE 4 [.null, .null]) := by rw [ew_2]; exact wset_eq _ _ _
  have ne_lm_q : lm ≠ q := sm_ne ((hC.s2).1) hq
  have ne_lr_q : lr ≠ q := sm_ne ((hC.s2).2.1) hq
  have ne_hm_q : hm ≠ q := sm_ne ((hC.s2).2.2) hq
  have ne_a_q : a ≠ q := sm_ne hC.sm hq
  have hP_a_w_1 := hC.mv (w1 := w_1) (S := fun _ => False) (by rw [ew_2]; exact Fr.add hq _) ⟨id, id, id, id, id⟩
  have ne_sa_q : sa ≠ q := sm_ne hT.sm hq
  have hP_sa_w_1 := hT.mv (w1 := w_1) (S := fun _ => False) (by rw [ew_2]; exact Fr.add hq _) id
  refine lv_dup hx hb dX2_heard_3 rfl ?_
  refine lv_aload_n hx hb dX2_heard_4 rfl (lv_at hl 1 rfl) ?_
  refine lv_aload_n hx hb dX2_heard_5 rfl (lv_at hl 0 rfl) ?_
  refine lv_aload_n hx hb dX2_heard_6 rfl (lv_at hl 1 rfl) ?_
  -- call SpokenMarks$Catalogue.earOf
  refine h_kR (h_runV X hR (ct_ear l G w_1 a lm lr hm c hP_a_w_1 hS sa L hP_sa_w_1 hLw hU.2.2.1) pn_yX2_earOf (hP_a_w_1.c) q1398 q1399 q1400 q123 q1401 ⟨by decide, by decide⟩ hl.1 (Nat.le_of_ble_eq_true rfl) dX2_heard_7 ⟨by omega, by omega⟩) hL (fun ea w_3 hp_4 H locs hR hL => ?_)
  obtain ⟨hS__6, u_5⟩ := hp_4
  have hF_q_w_3 : w_3 q = some (q + 1, oE 4 [.null, .null]) := u_5.1 _ _ _ hF_q_w_1 (by first | exact id | (intro q_; (try dsimp only at q_); omega))
  have hP_a_w_3 := hP_a_w_1.mv (u_5.1) ⟨(by first | exact id | (intro q_; (try dsimp only at q_); omega)), (by first | exact id | (intro q_; (try dsimp only at q_); omega)), (by first | exact id | (intro q_; (try dsimp only at q_); omega)), (by first | exact id | (intro q_; (try dsimp only at q_); omega)), (by first | exact id | (intro q_; (try dsimp only at q_); omega))⟩
  have hP_sa_w_3 := hP_sa_w_1.mv (u_5.1) (by first | exact id | (intro q_; (try dsimp only at q_); omega))
  have hU : Up (fun _ => False) w w_3 := hU.tr u_5 (fun q_ h_ => by first | exact absurd h_ id | exact Or.inl h_ | ((try dsimp only at h_); first | exact Or.inl (by omega) | exact Or.inr ⟨by omega, by subst h_; rw [Nat.add_sub_cancel]; assumption⟩)) hG
  -- call SpokenMarks$Word.<init>
  refine h_kV (h_runI X hR (wd_init l G w_3 (q + 1) (by omega) q sa ea hF_q_w_3 hU.2.2.1) pn_yX6_init rfl q1515 q1516 q155 q1517 ⟨by decide, by decide⟩ hl.1 (Nat.le_of_ble_eq_true rfl) dX2_heard_10 ⟨by omega, by omega⟩) hL (fun w_8 hp_9 H locs hR hL => ?_)
  obtain ⟨hO__11, u_10⟩ := hp_9
  have hP_a_w_8 := hP_a_w_3.mv (u_10.1) ⟨(by first | exact id | (intro q_; (try dsimp only at q_); omega)), (by first | exact id | (intro q_; (try dsimp only at q_); omega)), (by first | exact id | (intro q_; (try dsimp only at q_); omega)), (by first | exact id | (intro q_; (try dsimp only at q_); omega)), (by first | exact id | (intro q_; (try dsimp only at q_); omega))⟩
  have hP_sa_w_8 := hP_sa_w_3.mv (u_10.1) (by first | exact id | (intro q_; (try dsimp only at q_); omega))
  have hP_ea_w_8 := hS__6.mv (u_10.1) (by first | exact id | (intro q_; (try dsimp only at q_); omega))
  have hU : Up (fun _ => False) w w_8 := hU.tr u_10 (fun q_ h_ => by first | exact absurd h_ id | exact Or.inl h_ | ((try dsimp only at h_); first | exact Or.inl (by omega) | exact Or.inr ⟨by omega, by subst h_; rw [Nat.add_sub_cancel]; assumption⟩)) hG
  have hR := hR.retag (0) hO__11 (Nat.succ_ne_zero _)
  obtain ⟨w_12, ew_13⟩ : ∃ w_ : Wd, w_ = wset w_8 q (0, oE 4 [.ref sa, .ref ea]) := ⟨_, rfl⟩
  rw [← ew_13] at hR
  have hU : Up (fun _ => False) w w_12 := by rw [ew_13]; exact hU.tag hO__11 hn_q (Or.inl rfl)
  have hF_q_w_12 : w_12 q = some (0, oE 4 [.ref sa, .ref ea]) := by rw [ew_13]; exact wset_eq _ _ _
  have hP_a_w_12 := hP_a_w_8.mv (w1 := w_12) (S := fun q_ => q_ = q + 1) (by rw [ew_13]; exact Fr.one hO__11 _) ⟨(by first | exact id | (intro q_; (try dsimp only at q_); omega)), (by first | exact id | (intro q_; (try dsimp only at q_); omega)), (by first | exact id | (intro q_; (try dsimp only at q_); omega)), (by first | exact id | (intro q_; (try dsimp only at q_); omega)), (by first | exact id | (intro q_; (try dsimp only at q_); omega))⟩
  have hP_sa_w_12 := hP_sa_w_8.mv (w1 := w_12) (S := fun q_ => q_ = q + 1) (by rw [ew_13]; exact Fr.one hO__11 _) (by first | exact id | (intro q_; (try dsimp only at q_); omega))
  have hP_ea_w_12 := hP_ea_w_8.mv (w1 := w_12) (S := fun q_ => q_ = q + 1) (by rw [ew_13]; exact Fr.one hO__11 _) (by first | exact id | (intro q_; (try dsimp only at q_); omega))
  exact h_areturn hx hb hlk hret (by first | exact Or.inl ⟨_, rfl⟩ | exact Or.inr ⟨_, rfl⟩) hR hL ⟨hn_q, ⟨sa, ea, hF_q_w_12, hP_sa_w_12, hP_ea_w_12⟩, hU⟩ (by omega) (by omega) rfl rfl dX2_heard_13
