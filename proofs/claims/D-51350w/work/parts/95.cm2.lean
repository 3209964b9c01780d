/-! the component: marks, how they lie to each other -/
set_option maxRecDepth 100000
theorem PtAt.part {G : Gl} {R : Rls} {w : Wd} {a : Nat} {x : Prt} (h : PtAt G R w a x) : ∃ C, hasC w a C ∧ Cond.castable C "SpokenMarks$Part" ∈ lw_tbl := by
  cases x with
  | inl n => exact ⟨_, hasC.of h rfl, q3422⟩
  | inr L => obtain ⟨la, ea, h1, -⟩ := h; exact ⟨_, hasC.of h1 rfl, q3423⟩
def isFP (x : Prt) : Bool := !isWP x
section CMI
variable {G : Gl} {p : Program} {l : Launch} {e : Env} {s : State} {m : MethodId} {args : Array Value} {below : List Frame} {meth : Method} {c : Code} {H : Heap} {locs : List Loc} {cells slots : Nat} {Q : State → Prop}
variable {cc : ByteArray} {own : String} {nL lv mc ms : Nat} {pc : Nat} {ls : Array Slot} {rest : List Value} {w : Wd} {a r : Nat}
theorem h_instW (X : HX G p s m args c cc nL own) (hR : Rp G w H) {R : Rls} {x : Prt} {index : Nat} (h : PtAt G R w a x) (hcl : Cond.classLink own index "SpokenMarks$Word" ∈ lw_all) (d : decode cc pc = .ok (.instanceof index, 3))
    (k : W p l e (rmk lv mc ms) s m args below meth c H locs cells slots Q (F0 m (pc + 3) ls (.int (iI (b2i (isWP x = true))) :: rest))) : W p l e (rmk lv mc ms) s m args below meth c H locs cells slots Q (F0 m pc ls (.ref a :: rest)) := by
  cases x with
  | inl n => exact h_instNo X hR (C := "SpokenMarks$Figure") (hasC.of h rfl) [false, false, true, true, true, true, false, true, true, true, true] rfl hcl d k
  | inr L => obtain ⟨la, ea, h1, -⟩ := h; exact h_instS X hR (hasC.of h1 rfl) hcl d k
theorem h_instF (X : HX G p s m args c cc nL own) (hR : Rp G w H) {R : Rls} {x : Prt} {index : Nat} (h : PtAt G R w a x) (hcl : Cond.classLink own index "SpokenMarks$Figure" ∈ lw_all) (d : decode cc pc = .ok (.instanceof index, 3))
    (k : W p l e (rmk lv mc ms) s m args below meth c H locs cells slots Q (F0 m (pc + 3) ls (.int (iI (b2i (isFP x = true))) :: rest))) : W p l e (rmk lv mc ms) s m args below meth c H locs cells slots Q (F0 m pc ls (.ref a :: rest)) := by
  cases x with
  | inl n => exact h_instS X hR (hasC.of h rfl) hcl d k
  | inr L => obtain ⟨la, ea, h1, -⟩ := h; exact h_instNo X hR (C := "SpokenMarks$Word") (hasC.of h1 rfl) [false, true, false, false, false, false, true, false, true, true, false] rfl hcl d k
end CMI
theorem isWP_r {x : Prt} (h : isWP x = true) : ∃ L, x = .inr L := by
  cases x with
  | inl n => cases h
  | inr L => exact ⟨L, rfl⟩
theorem isWP_l {x : Prt} (h : ¬ isWP x = true) : ∃ n, x = .inl n := by
  cases x with
  | inl n => exact ⟨n, rfl⟩
  | inr L => exact absurd rfl h

theorem pn_yX1_bit : ParN yX1_bit 1 := by decide +kernel
theorem pn_yX5_init : ParN yX5_init 4 := by decide +kernel
theorem pn_yX8_compare : ParN yX8_compare 3 := by decide +kernel
theorem pn_yX3_compare_2 : ParN yX3_compare_2 2 := by decide +kernel
theorem pn_yX3_compare_3 : ParN yX3_compare_3 3 := by decide +kernel
theorem pn_yJ3_get : ParN yJ3_get 1 := by decide +kernel
theorem pn_yJ3_size : ParN yJ3_size 0 := by decide +kernel
theorem pn_i_java_util_List_get_1 : ParN ⟨"java/util/List", "get", "(I)Ljava/lang/Object;"⟩ 1 := by decide +kernel
theorem pn_i_java_util_List_size_0 : ParN ⟨"java/util/List", "size", "()I"⟩ 0 := by decide +kernel

set_option maxHeartbeats 4000000 in
set_option maxRecDepth 100000 in
/-- SpokenMarks$Spoken.compare -/
theorem sp_cmp1 (l : Launch) (G : Gl) (w : Wd) (a b ra rb : Nat) (R : Rls) (m1 m2 : Mrk) (hA : MkAt G R w ra a m1) (hB : MkAt G R w rb b m2) (hRW : RlW R) (h1 : PrtsW (mPs m1)) (h2 : PrtsW (mPs m2)) : HM l yX3_compare_3 cX3_compare_3 6 (some .int) 11 0 0 G [.ref a, .ref b, .int (iI (1))] w (QI G (fun z_ w_ => z_ = spV (earQ R (mPs m1)) (earQ R (mPs m2)) ∧ w_ = w)) := by
  refine HM.mk (by decide +kernel) (Nat.le_of_ble_eq_true rfl) ?_
  intro p9 e9 s9 m9 a9 b9 meth9 c9 ls X hret hlk hnm hl H hR
  have hx := X.1.1
  have hb := X.1.2.1
  have hl : lv_has ls 6 [(0, .ref a), (1, .ref b), (2, .int (iI (1)))] := hl
  have hL : LK G [] := fun q h => absurd h List.not_mem_nil
  generalize ([] : List Loc) = locs at hL ⊢
  have hA0 := hA
  obtain ⟨pl1, hA1, hA2⟩ := hA
  have hA3 := hA2
  obtain ⟨mo1, P1, hAm, hAP, hAl, hAx⟩ := hA2
  have hB0 := hB
  obtain ⟨pl2, hB1, hB2⟩ := hB
  have hB3 := hB2
  obtain ⟨mo2, P2, hBm, hBP, hBl, hBx⟩ := hB2
  have hAl := hAl
  have l1 := h1.2.1
  have l2 := h2.2.1
  refine lv_aload_n hx hb dX3_compare_3_0 rfl (lv_at hl 0 rfl) ?_
  refine h_getN X hR hA1 rfl in_X5 1 (by decide) q1540 rfl dX3_compare_3_1 ?_
  -- call java/util/ArrayList.size
  refine h_k5Ip (h_runF (x := ⟨"java/util/List", "size", "()I"⟩) X hR (ls_size l G w 0 pl1 5 mo1 P1 hAP) pn_i_java_util_List_size_0 (hAP.c) (kk_face X.2 (by decide +kernel) q1566 q1565 q1570 q1568 q664) q1608 q1569 q1567 q125 q1571 ⟨by decide, by decide⟩ hl.1 (Nat.le_of_ble_eq_true rfl) dX3_compare_3_4 ⟨by omega, by omega⟩) hL (fun H locs hR hL => ?_)
  refine lv_aload_n hx hb dX3_compare_3_9 rfl (lv_at hl 1 rfl) ?_
  refine h_getN X hR hB1 rfl in_X5 1 (by decide) q1540 rfl dX3_compare_3_10 ?_
  -- call java/util/ArrayList.size
  refine h_k5Ip (h_runF (x := ⟨"java/util/List", "size", "()I"⟩) X hR (ls_size l G w 0 pl2 5 mo2 P2 hBP) pn_i_java_util_List_size_0 (hBP.c) (kk_face X.2 (by decide +kernel) q1566 q1565 q1570 q1568 q664) q1608 q1569 q1567 q125 q1571 ⟨by decide, by decide⟩ hl.1 (Nat.le_of_ble_eq_true rfl) dX3_compare_3_13 ⟨by omega, by omega⟩) hL (fun H locs hR hL => ?_)
  refine h_mmin X hl.1 ⟨by omega, by omega⟩ ⟨by omega, by omega⟩ q1609 q336 q135 q337 ⟨by decide, Nat.le_of_ble_eq_true rfl⟩ (by omega) (by omega) dX3_compare_3_18 ?_
  refine W.eq (g2 := F0 m9 21 ls [.int (iI (((min (mPs m1).length (mPs m2).length : Nat) : Int)))]) (congrArg (fun z_ : Int => F0 m9 21 ls [.int (iI (z_))]) (show (if (P1.length : Int) ≤ (P2.length : Int) then (P1.length : Int) else (P2.length : Int) : Int) = ((min (mPs m1).length (mPs m2).length : Nat) : Int) from (by split <;> omega))) ?_
  refine lv_istore_n (lv' := [(3, .int (iI (((min (mPs m1).length (mPs m2).length : Nat) : Int)))), (0, .ref a), (1, .ref b), (2, .int (iI (1)))]) hx hb dX3_compare_3_21 rfl hl (by decide) rfl (fun ls hl => ?_)
  refine h_iconst hx hb dX3_compare_3_22 ?_
  refine lv_istore (lv' := [(4, .int (iI (0))), (3, .int (iI (((min (mPs m1).length (mPs m2).length : Nat) : Int)))), (0, .ref a), (1, .ref b), (2, .int (iI (1)))]) hx hb dX3_compare_3_23 hl (by decide) rfl (fun ls hl => ?_)
  have LOOP_7 : ∀ (N_ : Nat) (k : Nat), (k ≤ min (mPs m1).length (mPs m2).length) → (spV ((earQ R (mPs m1)).drop k) ((earQ R (mPs m2)).drop k) = spV (earQ R (mPs m1)) (earQ R (mPs m2))) → (6 - k) < N_ → ∀ (H : Heap) (locs : List Loc) (ls : Array Slot), Rp G w H → LK G locs → lv_has ls 6 [(0, .ref a), (1, .ref b), (2, .int (iI (1))), (3, .int (iI (((min (mPs m1).length (mPs m2).length : Nat) : Int)))), (4, .int (iI ((k : Int))))] → W p9 l e9 (rmk 11 0 0) s9 m9 a9 b9 meth9 c9 H locs 0 0 (MQ b9 (QI G (fun z_ w_ => z_ = spV (earQ R (mPs m1)) (earQ R (mPs m2)) ∧ w_ = w)) a9 s9 0 0 (frG G)) (F0 m9 25 ls []) := by
    intro N_
    induction N_ with
    | zero => intro _ _ _ h_; exact absurd h_ (Nat.not_lt_zero _)
    | succ N_ ih_ =>
      intro k hk hs hN_ H locs ls hR hL hl
      have ih_7 := ih_
      clear ih_
      refine lv_iload hx hb dX3_compare_3_25 (lv_at hl 4 rfl) ?_
      refine lv_iload_n hx hb dX3_compare_3_27 rfl (lv_at hl 3 rfl) ?_
      refine h_icmp_ge hx hb 79 dX3_compare_3_28 (by decide) (by omega) (by omega) (fun c_k => ?_) (fun c_k => ?_)
      ·
        refine lv_aload_n hx hb dX3_compare_3_79 rfl (lv_at hl 0 rfl) ?_
        refine h_getN X hR hA1 rfl in_X5 1 (by decide) q1540 rfl dX3_compare_3_80 ?_
        -- call java/util/ArrayList.size
        refine h_k5Ip (h_runF (x := ⟨"java/util/List", "size", "()I"⟩) X hR (ls_size l G w 0 pl1 5 mo1 P1 hAP) pn_i_java_util_List_size_0 (hAP.c) (kk_face X.2 (by decide +kernel) q1566 q1565 q1570 q1568 q664) q1608 q1569 q1567 q125 q1571 ⟨by decide, by decide⟩ hl.1 (Nat.le_of_ble_eq_true rfl) dX3_compare_3_83 ⟨by omega, by omega⟩) hL (fun H locs hR hL => ?_)
        refine lv_aload_n hx hb dX3_compare_3_88 rfl (lv_at hl 1 rfl) ?_
        refine h_getN X hR hB1 rfl in_X5 1 (by decide) q1540 rfl dX3_compare_3_89 ?_
        -- call java/util/ArrayList.size
        refine h_k5Ip (h_runF (x := ⟨"java/util/List", "size", "()I"⟩) X hR (ls_size l G w 0 pl2 5 mo2 P2 hBP) pn_i_java_util_List_size_0 (hBP.c) (kk_face X.2 (by decide +kernel) q1566 q1565 q1570 q1568 q664) q1608 q1569 q1567 q125 q1571 ⟨by decide, by decide⟩ hl.1 (Nat.le_of_ble_eq_true rfl) dX3_compare_3_92 ⟨by omega, by omega⟩) hL (fun H locs hR hL => ?_)
        refine h_isub hx hb dX3_compare_3_97 ?_
        exact h_ireturn hx hb hlk hret hR hL rfl ⟨by rw [← hs, spV_end (by rw [earQ_len, earQ_len]; omega) (by rw [earQ_len]; omega) (by rw [earQ_len]; omega), earQ_len, earQ_len]; omega, rfl⟩ (by omega) (by omega) rfl rfl dX3_compare_3_98
      ·
        refine lv_aload_n hx hb dX3_compare_3_31 rfl (lv_at hl 0 rfl) ?_
        refine h_getN X hR hA1 rfl in_X5 1 (by decide) q1540 rfl dX3_compare_3_32 ?_
        refine lv_iload hx hb dX3_compare_3_35 (lv_at hl 4 rfl) ?_
        -- call java/util/ArrayList.get
        refine h_k5Rp (h_runF (x := ⟨"java/util/List", "get", "(I)Ljava/lang/Object;"⟩) X hR (ls_get l G w 0 pl1 5 mo1 P1 hAP k (by omega)) pn_i_java_util_List_get_1 (hAP.c) (kk_face X.2 (by decide +kernel) q1575 q1574 q1579 q1577 q664) q1611 q1578 q1576 q125 q1580 ⟨by decide, by decide⟩ hl.1 (Nat.le_of_ble_eq_true rfl) dX3_compare_3_37 ⟨by omega, by omega⟩) hL (fun H locs hR hL => ?_)
        have hx_17 := hAx k (by omega)
        obtain ⟨C__18, hC__19, hK__20⟩ := hx_17.part
        refine h_castY X hR hC__19 hK__20 q1612 dX3_compare_3_42 ?_
        refine lv_aload_n hx hb dX3_compare_3_45 rfl (lv_at hl 1 rfl) ?_
        refine h_getN X hR hB1 rfl in_X5 1 (by decide) q1540 rfl dX3_compare_3_46 ?_
        refine lv_iload hx hb dX3_compare_3_49 (lv_at hl 4 rfl) ?_
        -- call java/util/ArrayList.get
        refine h_k5Rp (h_runF (x := ⟨"java/util/List", "get", "(I)Ljava/lang/Object;"⟩) X hR (ls_get l G w 0 pl2 5 mo2 P2 hBP k (by omega)) pn_i_java_util_List_get_1 (hBP.c) (kk_face X.2 (by decide +kernel) q1575 q1574 q1579 q1577 q664) q1611 q1578 q1576 q125 q1580 ⟨by decide, by decide⟩ hl.1 (Nat.le_of_ble_eq_true rfl) dX3_compare_3_51 ⟨by omega, by omega⟩) hL (fun H locs hR hL => ?_)
        have hx_24 := hBx k (by omega)
        obtain ⟨C__25, hC__26, hK__27⟩ := hx_24.part
        refine h_castY X hR hC__26 hK__27 q1612 dX3_compare_3_56 ?_
        refine lv_iload_n hx hb dX3_compare_3_59 rfl (lv_at hl 2 rfl) ?_
        -- call SpokenMarks$Part.compare
        refine h_kIp (h_runS X hR (pt_cmp1 l G w (P1.getD k 0) (P2.getD k 0) R ((mPs m1).getD k prt0) ((mPs m2).getD k prt0) hx_17 hx_24 hRW (h1.gd k) (h2.gd k)) pn_yX8_compare q1613 q1614 q159 q1615 ⟨by decide, by decide⟩ hl.1 (Nat.le_of_ble_eq_true rfl) dX3_compare_3_60 ⟨by omega, by omega⟩) hL (fun H locs hR hL => ?_)
        have hpr := pcmp_r (earP_w hRW (h1.gd k)) (earP_w hRW (h2.gd k))
        refine lv_istore (lv' := [(5, .int (iI (pcmp (earP R ((mPs m1).getD k prt0)) (earP R ((mPs m2).getD k prt0))))), (0, .ref a), (1, .ref b), (2, .int (iI (1))), (3, .int (iI (((min (mPs m1).length (mPs m2).length : Nat) : Int)))), (4, .int (iI ((k : Int))))]) hx hb dX3_compare_3_63 hl (by decide) rfl (fun ls hl => ?_)
        refine lv_iload hx hb dX3_compare_3_65 (lv_at hl 0 rfl) ?_
        refine h_if_eq hx hb 73 dX3_compare_3_67 (by decide) ⟨by omega, by omega⟩ (fun c_p => ?_) (fun c_p => ?_)
        ·
          refine h_iinc (lv' := [(4, .int (iI ((k : Int) + 1))), (5, .int (iI (pcmp (earP R ((mPs m1).getD k prt0)) (earP R ((mPs m2).getD k prt0))))), (0, .ref a), (1, .ref b), (2, .int (iI (1))), (3, .int (iI (((min (mPs m1).length (mPs m2).length : Nat) : Int))))]) hx hb dX3_compare_3_73 hl (k := 5) rfl (by decide) rfl (fun ls hl => ?_)
          refine lv_goto (tgt := 25) hx hb dX3_compare_3_76 (by decide) ?_
          exact ih_7 (k + 1) (by omega) (by rw [← hs, spV_drop (k := k) (by rw [earQ_len]; omega) (by rw [earQ_len]; omega), earQ_at, earQ_at, if_pos c_p]) (by omega) _ _ _ hR hL (lv_sub hl [2, 3, 4, 5, 0] rfl)
        ·
          refine lv_iload hx hb dX3_compare_3_70 (lv_at hl 0 rfl) ?_
          exact h_ireturn hx hb hlk hret hR hL rfl ⟨by rw [← hs, spV_drop (k := k) (by rw [earQ_len]; omega) (by rw [earQ_len]; omega), earQ_at, earQ_at, if_neg c_p], rfl⟩ (by omega) (by omega) rfl rfl dX3_compare_3_72
  exact LOOP_7 _ 0 (Nat.zero_le _) rfl (Nat.lt_succ_self _) _ _ _ hR hL (lv_sub hl [2, 3, 4, 1, 0] rfl)

set_option maxHeartbeats 4000000 in
set_option maxRecDepth 100000 in
/-- SpokenMarks$Spoken.compare -/
theorem sp_cmp0 (l : Launch) (G : Gl) (w : Wd) (a b ra rb : Nat) (R : Rls) (m1 m2 : Mrk) (hA : MkAt G R w ra a m1) (hB : MkAt G R w rb b m2) (hRW : RlW R) (h1 : PrtsW (mPs m1)) (h2 : PrtsW (mPs m2)) : HM l yX3_compare_3 cX3_compare_3 6 (some .int) 11 0 0 G [.ref a, .ref b, .int (iI (0))] w (QI G (fun z_ w_ => z_ = spV (mPs m1) (mPs m2) ∧ w_ = w)) := by
  refine HM.mk (by decide +kernel) (Nat.le_of_ble_eq_true rfl) ?_
  intro p9 e9 s9 m9 a9 b9 meth9 c9 ls X hret hlk hnm hl H hR
  have hx := X.1.1
  have hb := X.1.2.1
  have hl : lv_has ls 6 [(0, .ref a), (1, .ref b), (2, .int (iI (0)))] := hl
  have hL : LK G [] := fun q h => absurd h List.not_mem_nil
  generalize ([] : List Loc) = locs at hL ⊢
  have hA0 := hA
  obtain ⟨pl1, hA1, hA2⟩ := hA
  have hA3 := hA2
  obtain ⟨mo1, P1, hAm, hAP, hAl, hAx⟩ := hA2
  have hB0 := hB
  obtain ⟨pl2, hB1, hB2⟩ := hB
  have hB3 := hB2
  obtain ⟨mo2, P2, hBm, hBP, hBl, hBx⟩ := hB2
  have hAl := hAl
  have l1 := h1.2.1
  have l2 := h2.2.1
  refine lv_aload_n hx hb dX3_compare_3_0 rfl (lv_at hl 0 rfl) ?_
  refine h_getN X hR hA1 rfl in_X5 1 (by decide) q1540 rfl dX3_compare_3_1 ?_
  -- call java/util/ArrayList.size
  refine h_k5Ip (h_runF (x := ⟨"java/util/List", "size", "()I"⟩) X hR (ls_size l G w 0 pl1 5 mo1 P1 hAP) pn_i_java_util_List_size_0 (hAP.c) (kk_face X.2 (by decide +kernel) q1566 q1565 q1570 q1568 q664) q1608 q1569 q1567 q125 q1571 ⟨by decide, by decide⟩ hl.1 (Nat.le_of_ble_eq_true rfl) dX3_compare_3_4 ⟨by omega, by omega⟩) hL (fun H locs hR hL => ?_)
  refine lv_aload_n hx hb dX3_compare_3_9 rfl (lv_at hl 1 rfl) ?_
  refine h_getN X hR hB1 rfl in_X5 1 (by decide) q1540 rfl dX3_compare_3_10 ?_
  -- call java/util/ArrayList.size
  refine h_k5Ip (h_runF (x := ⟨"java/util/List", "size", "()I"⟩) X hR (ls_size l G w 0 pl2 5 mo2 P2 hBP) pn_i_java_util_List_size_0 (hBP.c) (kk_face X.2 (by decide +kernel) q1566 q1565 q1570 q1568 q664) q1608 q1569 q1567 q125 q1571 ⟨by decide, by decide⟩ hl.1 (Nat.le_of_ble_eq_true rfl) dX3_compare_3_13 ⟨by omega, by omega⟩) hL (fun H locs hR hL => ?_)
  refine h_mmin X hl.1 ⟨by omega, by omega⟩ ⟨by omega, by omega⟩ q1609 q336 q135 q337 ⟨by decide, Nat.le_of_ble_eq_true rfl⟩ (by omega) (by omega) dX3_compare_3_18 ?_
  refine W.eq (g2 := F0 m9 21 ls [.int (iI (((min (mPs m1).length (mPs m2).length : Nat) : Int)))]) (congrArg (fun z_ : Int => F0 m9 21 ls [.int (iI (z_))]) (show (if (P1.length : Int) ≤ (P2.length : Int) then (P1.length : Int) else (P2.length : Int) : Int) = ((min (mPs m1).length (mPs m2).length : Nat) : Int) from (by split <;> omega))) ?_
  refine lv_istore_n (lv' := [(3, .int (iI (((min (mPs m1).length (mPs m2).length : Nat) : Int)))), (0, .ref a), (1, .ref b), (2, .int (iI (0)))]) hx hb dX3_compare_3_21 rfl hl (by decide) rfl (fun ls hl => ?_)
  refine h_iconst hx hb dX3_compare_3_22 ?_
  refine lv_istore (lv' := [(4, .int (iI (0))), (3, .int (iI (((min (mPs m1).length (mPs m2).length : Nat) : Int)))), (0, .ref a), (1, .ref b), (2, .int (iI (0)))]) hx hb dX3_compare_3_23 hl (by decide) rfl (fun ls hl => ?_)
  have LOOP_7 : ∀ (N_ : Nat) (k : Nat), (k ≤ min (mPs m1).length (mPs m2).length) → (spV ((mPs m1).drop k) ((mPs m2).drop k) = spV (mPs m1) (mPs m2)) → (6 - k) < N_ → ∀ (H : Heap) (locs : List Loc) (ls : Array Slot), Rp G w H → LK G locs → lv_has ls 6 [(0, .ref a), (1, .ref b), (2, .int (iI (0))), (3, .int (iI (((min (mPs m1).length (mPs m2).length : Nat) : Int)))), (4, .int (iI ((k : Int))))] → W p9 l e9 (rmk 11 0 0) s9 m9 a9 b9 meth9 c9 H locs 0 0 (MQ b9 (QI G (fun z_ w_ => z_ = spV (mPs m1) (mPs m2) ∧ w_ = w)) a9 s9 0 0 (frG G)) (F0 m9 25 ls []) := by
    intro N_
    induction N_ with
    | zero => intro _ _ _ h_; exact absurd h_ (Nat.not_lt_zero _)
    | succ N_ ih_ =>
      intro k hk hs hN_ H locs ls hR hL hl
      have ih_7 := ih_
      clear ih_
      refine lv_iload hx hb dX3_compare_3_25 (lv_at hl 4 rfl) ?_
      refine lv_iload_n hx hb dX3_compare_3_27 rfl (lv_at hl 3 rfl) ?_
      refine h_icmp_ge hx hb 79 dX3_compare_3_28 (by decide) (by omega) (by omega) (fun c_k => ?_) (fun c_k => ?_)
      ·
        refine lv_aload_n hx hb dX3_compare_3_79 rfl (lv_at hl 0 rfl) ?_
        refine h_getN X hR hA1 rfl in_X5 1 (by decide) q1540 rfl dX3_compare_3_80 ?_
        -- call java/util/ArrayList.size
        refine h_k5Ip (h_runF (x := ⟨"java/util/List", "size", "()I"⟩) X hR (ls_size l G w 0 pl1 5 mo1 P1 hAP) pn_i_java_util_List_size_0 (hAP.c) (kk_face X.2 (by decide +kernel) q1566 q1565 q1570 q1568 q664) q1608 q1569 q1567 q125 q1571 ⟨by decide, by decide⟩ hl.1 (Nat.le_of_ble_eq_true rfl) dX3_compare_3_83 ⟨by omega, by omega⟩) hL (fun H locs hR hL => ?_)
        refine lv_aload_n hx hb dX3_compare_3_88 rfl (lv_at hl 1 rfl) ?_
        refine h_getN X hR hB1 rfl in_X5 1 (by decide) q1540 rfl dX3_compare_3_89 ?_
        -- call java/util/ArrayList.size
        refine h_k5Ip (h_runF (x := ⟨"java/util/List", "size", "()I"⟩) X hR (ls_size l G w 0 pl2 5 mo2 P2 hBP) pn_i_java_util_List_size_0 (hBP.c) (kk_face X.2 (by decide +kernel) q1566 q1565 q1570 q1568 q664) q1608 q1569 q1567 q125 q1571 ⟨by decide, by decide⟩ hl.1 (Nat.le_of_ble_eq_true rfl) dX3_compare_3_92 ⟨by omega, by omega⟩) hL (fun H locs hR hL => ?_)
        refine h_isub hx hb dX3_compare_3_97 ?_
        exact h_ireturn hx hb hlk hret hR hL rfl ⟨by rw [← hs, spV_end (by omega) (by omega) (by omega)]; omega, rfl⟩ (by omega) (by omega) rfl rfl dX3_compare_3_98
      ·
        refine lv_aload_n hx hb dX3_compare_3_31 rfl (lv_at hl 0 rfl) ?_
        refine h_getN X hR hA1 rfl in_X5 1 (by decide) q1540 rfl dX3_compare_3_32 ?_
        refine lv_iload hx hb dX3_compare_3_35 (lv_at hl 4 rfl) ?_
        -- call java/util/ArrayList.get
        refine h_k5Rp (h_runF (x := ⟨"java/util/List", "get", "(I)Ljava/lang/Object;"⟩) X hR (ls_get l G w 0 pl1 5 mo1 P1 hAP k (by omega)) pn_i_java_util_List_get_1 (hAP.c) (kk_face X.2 (by decide +kernel) q1575 q1574 q1579 q1577 q664) q1611 q1578 q1576 q125 q1580 ⟨by decide, by decide⟩ hl.1 (Nat.le_of_ble_eq_true rfl) dX3_compare_3_37 ⟨by omega, by omega⟩) hL (fun H locs hR hL => ?_)
        have hx_17 := hAx k (by omega)
        obtain ⟨C__18, hC__19, hK__20⟩ := hx_17.part
        refine h_castY X hR hC__19 hK__20 q1612 dX3_compare_3_42 ?_
        refine lv_aload_n hx hb dX3_compare_3_45 rfl (lv_at hl 1 rfl) ?_
        refine h_getN X hR hB1 rfl in_X5 1 (by decide) q1540 rfl dX3_compare_3_46 ?_
        refine lv_iload hx hb dX3_compare_3_49 (lv_at hl 4 rfl) ?_
        -- call java/util/ArrayList.get
        refine h_k5Rp (h_runF (x := ⟨"java/util/List", "get", "(I)Ljava/lang/Object;"⟩) X hR (ls_get l G w 0 pl2 5 mo2 P2 hBP k (by omega)) pn_i_java_util_List_get_1 (hBP.c) (kk_face X.2 (by decide +kernel) q1575 q1574 q1579 q1577 q664) q1611 q1578 q1576 q125 q1580 ⟨by decide, by decide⟩ hl.1 (Nat.le_of_ble_eq_true rfl) dX3_compare_3_51 ⟨by omega, by omega⟩) hL (fun H locs hR hL => ?_)
        have hx_24 := hBx k (by omega)
        obtain ⟨C__25, hC__26, hK__27⟩ := hx_24.part
        refine h_castY X hR hC__26 hK__27 q1612 dX3_compare_3_56 ?_
        refine lv_iload_n hx hb dX3_compare_3_59 rfl (lv_at hl 2 rfl) ?_
        -- call SpokenMarks$Part.compare
        refine h_kIp (h_runS X hR (pt_cmp0 l G w (P1.getD k 0) (P2.getD k 0) R ((mPs m1).getD k prt0) ((mPs m2).getD k prt0) hx_17 hx_24 hRW (h1.gd k) (h2.gd k)) pn_yX8_compare q1613 q1614 q159 q1615 ⟨by decide, by decide⟩ hl.1 (Nat.le_of_ble_eq_true rfl) dX3_compare_3_60 ⟨by omega, by omega⟩) hL (fun H locs hR hL => ?_)
        have hpr := pcmp_r (h1.gd k) (h2.gd k)
        refine lv_istore (lv' := [(5, .int (iI (pcmp ((mPs m1).getD k prt0) ((mPs m2).getD k prt0)))), (0, .ref a), (1, .ref b), (2, .int (iI (0))), (3, .int (iI (((min (mPs m1).length (mPs m2).length : Nat) : Int)))), (4, .int (iI ((k : Int))))]) hx hb dX3_compare_3_63 hl (by decide) rfl (fun ls hl => ?_)
        refine lv_iload hx hb dX3_compare_3_65 (lv_at hl 0 rfl) ?_
        refine h_if_eq hx hb 73 dX3_compare_3_67 (by decide) ⟨by omega, by omega⟩ (fun c_p => ?_) (fun c_p => ?_)
        ·
          refine h_iinc (lv' := [(4, .int (iI ((k : Int) + 1))), (5, .int (iI (pcmp ((mPs m1).getD k prt0) ((mPs m2).getD k prt0)))), (0, .ref a), (1, .ref b), (2, .int (iI (0))), (3, .int (iI (((min (mPs m1).length (mPs m2).length : Nat) : Int))))]) hx hb dX3_compare_3_73 hl (k := 5) rfl (by decide) rfl (fun ls hl => ?_)
          refine lv_goto (tgt := 25) hx hb dX3_compare_3_76 (by decide) ?_
          exact ih_7 (k + 1) (by omega) (by rw [← hs, spV_drop (k := k) (by omega) (by omega), if_pos c_p]) (by omega) _ _ _ hR hL (lv_sub hl [2, 3, 4, 5, 0] rfl)
        ·
          refine lv_iload hx hb dX3_compare_3_70 (lv_at hl 0 rfl) ?_
          exact h_ireturn hx hb hlk hret hR hL rfl ⟨by rw [← hs, spV_drop (k := k) (by omega) (by omega), if_neg c_p], rfl⟩ (by omega) (by omega) rfl rfl dX3_compare_3_72
  exact LOOP_7 _ 0 (Nat.zero_le _) rfl (Nat.lt_succ_self _) _ _ _ hR hL (lv_sub hl [2, 3, 4, 1, 0] rfl)

set_option maxHeartbeats 4000000 in
set_option maxRecDepth 100000 in
/-- SpokenMarks$Spoken.compare -/
theorem sp_cmpM (l : Launch) (G : Gl) (w : Wd) (o : Nat) (hO : w o = some (0, oE 7 [])) (a b ra rb : Nat) (R : Rls) (m1 m2 : Mrk) (hA : MkAt G R w ra a m1) (hB : MkAt G R w rb b m2) (hRW : RlW R) (h1 : PrtsW (mPs m1)) (h2 : PrtsW (mPs m2)) : HM l yX3_compare_2 cX3_compare_2 4 (some .int) 12 0 0 G [.ref o, .ref a, .ref b] w (QI G (fun z_ w_ => z_ = spM R (mPs m1) (mPs m2) ∧ w_ = w)) := by
  refine HM.mk (by decide +kernel) (Nat.le_of_ble_eq_true rfl) ?_
  intro p9 e9 s9 m9 a9 b9 meth9 c9 ls X hret hlk hnm hl H hR
  have hx := X.1.1
  have hb := X.1.2.1
  have hl : lv_has ls 4 [(0, .ref o), (1, .ref a), (2, .ref b)] := hl
  have hL : LK G [] := fun q h => absurd h List.not_mem_nil
  generalize ([] : List Loc) = locs at hL ⊢
  have l1 := h1.2.1
  have l2 := h2.2.1
  have hq := spV_enc (earQ_w hRW h1.2.2) (earQ_w hRW h2.2.2) (by rw [earQ_len]; omega) (by rw [earQ_len]; omega)
  refine lv_aload_n hx hb dX3_compare_2_0 rfl (lv_at hl 1 rfl) ?_
  refine lv_aload_n hx hb dX3_compare_2_1 rfl (lv_at hl 2 rfl) ?_
  refine h_iconst hx hb dX3_compare_2_2 ?_
  -- call SpokenMarks$Spoken.compare
  refine h_kIp (h_runS X hR (sp_cmp1 l G w a b ra rb R m1 m2 hA hB hRW h1 h2) pn_yX3_compare_3 q1604 q1605 q144 q1606 ⟨by decide, by decide⟩ hl.1 (Nat.le_of_ble_eq_true rfl) dX3_compare_2_3 ⟨by omega, by omega⟩) hL (fun H locs hR hL => ?_)
  refine lv_istore_n (lv' := [(3, .int (iI (spV (earQ R (mPs m1)) (earQ R (mPs m2))))), (0, .ref o), (1, .ref a), (2, .ref b)]) hx hb dX3_compare_2_6 rfl hl (by decide) rfl (fun ls hl => ?_)
  refine lv_iload_n hx hb dX3_compare_2_7 rfl (lv_at hl 0 rfl) ?_
  refine h_if_eq hx hb 15 dX3_compare_2_8 (by decide) ⟨by omega, by omega⟩ (fun c_e => ?_) (fun c_e => ?_)
  ·
    refine lv_aload_n hx hb dX3_compare_2_15 rfl (lv_at hl 2 rfl) ?_
    refine lv_aload_n hx hb dX3_compare_2_16 rfl (lv_at hl 3 rfl) ?_
    refine h_iconst hx hb dX3_compare_2_17 ?_
    -- call SpokenMarks$Spoken.compare
    refine h_kIp (h_runS X hR (sp_cmp0 l G w a b ra rb R m1 m2 hA hB hRW h1 h2) pn_yX3_compare_3 q1604 q1605 q144 q1606 ⟨by decide, by decide⟩ hl.1 (Nat.le_of_ble_eq_true rfl) dX3_compare_2_18 ⟨by omega, by omega⟩) hL (fun H locs hR hL => ?_)
    exact h_ireturn hx hb hlk hret hR hL rfl ⟨by unfold spM; first | exact (if_pos c_e).symm | exact (if_neg c_e).symm, rfl⟩ (by omega) (by omega) rfl rfl dX3_compare_2_21
  ·
    refine lv_iload_n hx hb dX3_compare_2_11 rfl (lv_at hl 0 rfl) ?_
    refine lv_goto (tgt := 21) hx hb dX3_compare_2_12 (by decide) ?_
    exact h_ireturn hx hb hlk hret hR hL rfl ⟨by unfold spM; first | exact (if_pos c_e).symm | exact (if_neg c_e).symm, rfl⟩ (by omega) (by omega) rfl rfl dX3_compare_2_21

set_option maxHeartbeats 4000000 in
set_option maxRecDepth 100000 in
/-- SpokenMarks$Spoken.compare -/
theorem sp_cmpO (l : Launch) (G : Gl) (w : Wd) (o : Nat) (hO : w o = some (0, oE 7 [])) (a b ra rb : Nat) (R : Rls) (m1 m2 : Mrk) (hA : MkAt G R w ra a m1) (hB : MkAt G R w rb b m2) (hRW : RlW R) (h1 : PrtsW (mPs m1)) (h2 : PrtsW (mPs m2)) : HM l yX3_compare cX3_compare 3 (some .int) 13 0 0 G [.ref o, .ref a, .ref b] w (QI G (fun z_ w_ => z_ = spM R (mPs m1) (mPs m2) ∧ w_ = w)) := by
  refine HM.mk (by decide +kernel) (Nat.le_of_ble_eq_true rfl) ?_
  intro p9 e9 s9 m9 a9 b9 meth9 c9 ls X hret hlk hnm hl H hR
  have hx := X.1.1
  have hb := X.1.2.1
  have hl : lv_has ls 3 [(0, .ref o), (1, .ref a), (2, .ref b)] := hl
  have hL : LK G [] := fun q h => absurd h List.not_mem_nil
  generalize ([] : List Loc) = locs at hL ⊢
  refine lv_aload_n hx hb dX3_compare_0 rfl (lv_at hl 0 rfl) ?_
  refine lv_aload_n hx hb dX3_compare_1 rfl (lv_at hl 1 rfl) ?_
  refine h_castS X hR (hA.c) q1599 dX3_compare_2 ?_
  refine lv_aload_n hx hb dX3_compare_5 rfl (lv_at hl 2 rfl) ?_
  refine h_castS X hR (hB.c) q1599 dX3_compare_6 ?_
  -- call SpokenMarks$Spoken.compare
  refine h_kIp (h_runV X hR (sp_cmpM l G w o hO a b ra rb R m1 m2 hA hB hRW h1 h2) pn_yX3_compare_2 (hasC.of hO rfl) q1600 q1601 q1602 q144 q1603 ⟨by decide, by decide⟩ hl.1 (Nat.le_of_ble_eq_true rfl) dX3_compare_9 ⟨by omega, by omega⟩) hL (fun H locs hR hL => ?_)
  exact h_ireturn hx hb hlk hret hR hL rfl ⟨rfl, rfl⟩ (by omega) (by omega) rfl rfl dX3_compare_12

set_option maxHeartbeats 4000000 in
set_option maxRecDepth 100000 in
/-- SpokenMarks$Spoken.differ -/
theorem sp_dif (l : Launch) (G : Gl) (w : Wd) (a b ra rb : Nat) (R : Rls) (m1 m2 : Mrk) (hA : MkAt G R w ra a m1) (hB : MkAt G R w rb b m2) (hRW : RlW R) (h1 : PrtsW (mPs m1)) (h2 : PrtsW (mPs m2)) : HM l yX3_differ cX3_differ 4 (some .int) 10 0 0 G [.ref a, .ref b] w (QI G (fun z_ w_ => z_ = difM R (mPs m1) (mPs m2) ∧ w_ = w)) := by
  refine HM.mk (by decide +kernel) (Nat.le_of_ble_eq_true rfl) ?_
  intro p9 e9 s9 m9 a9 b9 meth9 c9 ls X hret hlk hnm hl H hR
  have hx := X.1.1
  have hb := X.1.2.1
  have hl : lv_has ls 4 [(0, .ref a), (1, .ref b)] := hl
  have hL : LK G [] := fun q h => absurd h List.not_mem_nil
  generalize ([] : List Loc) = locs at hL ⊢
  have hA0 := hA
  obtain ⟨pl1, hA1, hA2⟩ := hA
  have hA3 := hA2
  obtain ⟨mo1, P1, hAm, hAP, hAl, hAx⟩ := hA2
  have hB0 := hB
  obtain ⟨pl2, hB1, hB2⟩ := hB
  have hB3 := hB2
  obtain ⟨mo2, P2, hBm, hBP, hBl, hBx⟩ := hB2
  have hAl := hAl
  have l1 := h1.2.1
  have l2 := h2.2.1
  refine lv_aload_n hx hb dX3_differ_0 rfl (lv_at hl 0 rfl) ?_
  refine h_getN X hR hA1 rfl in_X5 1 (by decide) q1540 rfl dX3_differ_1 ?_
  -- call java/util/ArrayList.size
  refine h_k5Ip (h_runF (x := ⟨"java/util/List", "size", "()I"⟩) X hR (ls_size l G w 0 pl1 5 mo1 P1 hAP) pn_i_java_util_List_size_0 (hAP.c) (kk_face X.2 (by decide +kernel) q1566 q1565 q1570 q1568 q664) q1608 q1569 q1567 q125 q1571 ⟨by decide, by decide⟩ hl.1 (Nat.le_of_ble_eq_true rfl) dX3_differ_4 ⟨by omega, by omega⟩) hL (fun H locs hR hL => ?_)
  refine lv_aload_n hx hb dX3_differ_9 rfl (lv_at hl 1 rfl) ?_
  refine h_getN X hR hB1 rfl in_X5 1 (by decide) q1540 rfl dX3_differ_10 ?_
  -- call java/util/ArrayList.size
  refine h_k5Ip (h_runF (x := ⟨"java/util/List", "size", "()I"⟩) X hR (ls_size l G w 0 pl2 5 mo2 P2 hBP) pn_i_java_util_List_size_0 (hBP.c) (kk_face X.2 (by decide +kernel) q1566 q1565 q1570 q1568 q664) q1608 q1569 q1567 q125 q1571 ⟨by decide, by decide⟩ hl.1 (Nat.le_of_ble_eq_true rfl) dX3_differ_13 ⟨by omega, by omega⟩) hL (fun H locs hR hL => ?_)
  refine h_mmin X hl.1 ⟨by omega, by omega⟩ ⟨by omega, by omega⟩ q1609 q336 q135 q337 ⟨by decide, Nat.le_of_ble_eq_true rfl⟩ (by omega) (by omega) dX3_differ_18 ?_
  refine W.eq (g2 := F0 m9 21 ls [.int (iI (((min (mPs m1).length (mPs m2).length : Nat) : Int)))]) (congrArg (fun z_ : Int => F0 m9 21 ls [.int (iI (z_))]) (show (if (P1.length : Int) ≤ (P2.length : Int) then (P1.length : Int) else (P2.length : Int) : Int) = ((min (mPs m1).length (mPs m2).length : Nat) : Int) from (by split <;> omega))) ?_
  refine lv_istore_n (lv' := [(2, .int (iI (((min (mPs m1).length (mPs m2).length : Nat) : Int)))), (0, .ref a), (1, .ref b)]) hx hb dX3_differ_21 rfl hl (by decide) rfl (fun ls hl => ?_)
  refine h_iconst hx hb dX3_differ_22 ?_
  refine lv_istore_n (lv' := [(3, .int (iI (0))), (2, .int (iI (((min (mPs m1).length (mPs m2).length : Nat) : Int)))), (0, .ref a), (1, .ref b)]) hx hb dX3_differ_23 rfl hl (by decide) rfl (fun ls hl => ?_)
  have LOOP_7 : ∀ (N_ : Nat) (k : Nat), (k ≤ min (mPs m1).length (mPs m2).length) → (dfK (k : Int) ((earK R (mPs m1)).drop k) ((earK R (mPs m2)).drop k) = difM R (mPs m1) (mPs m2)) → (6 - k) < N_ → ∀ (H : Heap) (locs : List Loc) (ls : Array Slot), Rp G w H → LK G locs → lv_has ls 4 [(0, .ref a), (1, .ref b), (2, .int (iI (((min (mPs m1).length (mPs m2).length : Nat) : Int)))), (3, .int (iI ((k : Int))))] → W p9 l e9 (rmk 10 0 0) s9 m9 a9 b9 meth9 c9 H locs 0 0 (MQ b9 (QI G (fun z_ w_ => z_ = difM R (mPs m1) (mPs m2) ∧ w_ = w)) a9 s9 0 0 (frG G)) (F0 m9 24 ls []) := by
    intro N_
    induction N_ with
    | zero => intro _ _ _ h_; exact absurd h_ (Nat.not_lt_zero _)
    | succ N_ ih_ =>
      intro k hk hs hN_ H locs ls hR hL hl
      have ih_7 := ih_
      clear ih_
      refine lv_iload_n hx hb dX3_differ_24 rfl (lv_at hl 3 rfl) ?_
      refine lv_iload_n hx hb dX3_differ_25 rfl (lv_at hl 2 rfl) ?_
      refine h_icmp_ge hx hb 70 dX3_differ_26 (by decide) (by omega) (by omega) (fun c_k => ?_) (fun c_k => ?_)
      ·
        refine lv_aload_n hx hb dX3_differ_70 rfl (lv_at hl 0 rfl) ?_
        refine h_getN X hR hA1 rfl in_X5 1 (by decide) q1540 rfl dX3_differ_71 ?_
        -- call java/util/ArrayList.size
        refine h_k5Ip (h_runF (x := ⟨"java/util/List", "size", "()I"⟩) X hR (ls_size l G w 0 pl1 5 mo1 P1 hAP) pn_i_java_util_List_size_0 (hAP.c) (kk_face X.2 (by decide +kernel) q1566 q1565 q1570 q1568 q664) q1608 q1569 q1567 q125 q1571 ⟨by decide, by decide⟩ hl.1 (Nat.le_of_ble_eq_true rfl) dX3_differ_74 ⟨by omega, by omega⟩) hL (fun H locs hR hL => ?_)
        refine lv_aload_n hx hb dX3_differ_79 rfl (lv_at hl 1 rfl) ?_
        refine h_getN X hR hB1 rfl in_X5 1 (by decide) q1540 rfl dX3_differ_80 ?_
        -- call java/util/ArrayList.size
        refine h_k5Ip (h_runF (x := ⟨"java/util/List", "size", "()I"⟩) X hR (ls_size l G w 0 pl2 5 mo2 P2 hBP) pn_i_java_util_List_size_0 (hBP.c) (kk_face X.2 (by decide +kernel) q1566 q1565 q1570 q1568 q664) q1608 q1569 q1567 q125 q1571 ⟨by decide, by decide⟩ hl.1 (Nat.le_of_ble_eq_true rfl) dX3_differ_83 ⟨by omega, by omega⟩) hL (fun H locs hR hL => ?_)
        refine h_icmp_ne hx hb 95 dX3_differ_88 (by decide) (by omega) (by omega) (fun c_z => ?_) (fun c_z => ?_)
        ·
          refine lv_iload_n hx hb dX3_differ_95 rfl (lv_at hl 2 rfl) ?_
          exact h_ireturn hx hb hlk hret hR hL rfl ⟨by rw [← hs, dfK_end _ (by rw [earK_len, earK_len]; omega), earK_len, earK_len]; split <;> omega, rfl⟩ (by omega) (by omega) rfl rfl dX3_differ_96
        ·
          refine h_iconst hx hb dX3_differ_91 ?_
          refine lv_goto (tgt := 96) hx hb dX3_differ_92 (by decide) ?_
          exact h_ireturn hx hb hlk hret hR hL rfl ⟨by rw [← hs, dfK_end _ (by rw [earK_len, earK_len]; omega), earK_len, earK_len]; split <;> omega, rfl⟩ (by omega) (by omega) rfl rfl dX3_differ_96
      ·
        refine lv_aload_n hx hb dX3_differ_29 rfl (lv_at hl 0 rfl) ?_
        refine h_getN X hR hA1 rfl in_X5 1 (by decide) q1540 rfl dX3_differ_30 ?_
        refine lv_iload_n hx hb dX3_differ_33 rfl (lv_at hl 3 rfl) ?_
        -- call java/util/ArrayList.get
        refine h_k5Rp (h_runF (x := ⟨"java/util/List", "get", "(I)Ljava/lang/Object;"⟩) X hR (ls_get l G w 0 pl1 5 mo1 P1 hAP k (by omega)) pn_i_java_util_List_get_1 (hAP.c) (kk_face X.2 (by decide +kernel) q1575 q1574 q1579 q1577 q664) q1611 q1578 q1576 q125 q1580 ⟨by decide, by decide⟩ hl.1 (Nat.le_of_ble_eq_true rfl) dX3_differ_34 ⟨by omega, by omega⟩) hL (fun H locs hR hL => ?_)
        have hx_17 := hAx k (by omega)
        obtain ⟨C__18, hC__19, hK__20⟩ := hx_17.part
        refine h_castY X hR hC__19 hK__20 q1612 dX3_differ_39 ?_
        refine lv_aload_n hx hb dX3_differ_42 rfl (lv_at hl 1 rfl) ?_
        refine h_getN X hR hB1 rfl in_X5 1 (by decide) q1540 rfl dX3_differ_43 ?_
        refine lv_iload_n hx hb dX3_differ_46 rfl (lv_at hl 3 rfl) ?_
        -- call java/util/ArrayList.get
        refine h_k5Rp (h_runF (x := ⟨"java/util/List", "get", "(I)Ljava/lang/Object;"⟩) X hR (ls_get l G w 0 pl2 5 mo2 P2 hBP k (by omega)) pn_i_java_util_List_get_1 (hBP.c) (kk_face X.2 (by decide +kernel) q1575 q1574 q1579 q1577 q664) q1611 q1578 q1576 q125 q1580 ⟨by decide, by decide⟩ hl.1 (Nat.le_of_ble_eq_true rfl) dX3_differ_47 ⟨by omega, by omega⟩) hL (fun H locs hR hL => ?_)
        have hx_24 := hBx k (by omega)
        obtain ⟨C__25, hC__26, hK__27⟩ := hx_24.part
        refine h_castY X hR hC__26 hK__27 q1612 dX3_differ_52 ?_
        refine h_iconst hx hb dX3_differ_55 ?_
        -- call SpokenMarks$Part.compare
        refine h_kIp (h_runS X hR (pt_cmp1 l G w (P1.getD k 0) (P2.getD k 0) R ((mPs m1).getD k prt0) ((mPs m2).getD k prt0) hx_17 hx_24 hRW (h1.gd k) (h2.gd k)) pn_yX8_compare q1613 q1614 q159 q1615 ⟨by decide, by decide⟩ hl.1 (Nat.le_of_ble_eq_true rfl) dX3_differ_56 ⟨by omega, by omega⟩) hL (fun H locs hR hL => ?_)
        have hpr := pcmp_r (earP_w hRW (h1.gd k)) (earP_w hRW (h2.gd k))
        refine h_if_eq hx hb 64 dX3_differ_59 (by decide) ⟨by omega, by omega⟩ (fun c_p => ?_) (fun c_p => ?_)
        ·
          refine h_iinc (lv' := [(3, .int (iI ((k : Int) + 1))), (0, .ref a), (1, .ref b), (2, .int (iI (((min (mPs m1).length (mPs m2).length : Nat) : Int))))]) hx hb dX3_differ_64 hl (k := 3) rfl (by decide) rfl (fun ls hl => ?_)
          refine lv_goto (tgt := 24) hx hb dX3_differ_67 (by decide) ?_
          exact ih_7 (k + 1) (by omega) (by rw [show ((k + 1 : Nat) : Int) = (k : Int) + 1 from rfl]; rw [← hs, dfK_drop (k := k) _ (by rw [earK_len]; omega) (by rw [earK_len]; omega), earK_at _ _ (by omega), earK_at _ _ (by omega), if_pos ((pcmp_0 (earP_w hRW (h1.gd k)) (earP_w hRW (h2.gd k))).mp c_p)]) (by omega) _ _ _ hR hL (lv_sub hl [1, 2, 3, 0] rfl)
        ·
          refine lv_iload_n hx hb dX3_differ_62 rfl (lv_at hl 3 rfl) ?_
          exact h_ireturn hx hb hlk hret hR hL rfl ⟨by rw [← hs, dfK_drop _ (by rw [earK_len]; omega) (by rw [earK_len]; omega), earK_at _ _ (by omega), earK_at _ _ (by omega), if_neg (fun q_ => c_p ((pcmp_0 (earP_w hRW (h1.gd k)) (earP_w hRW (h2.gd k))).mpr q_))], rfl⟩ (by omega) (by omega) rfl rfl dX3_differ_63
  exact LOOP_7 _ 0 (Nat.zero_le _) rfl (Nat.lt_succ_self _) _ _ _ hR hL (lv_sub hl [2, 3, 1, 0] rfl)

set_option maxHeartbeats 4000000 in
set_option maxRecDepth 100000 in
/-- SpokenMarks$Mark.words -/
theorem mk_words (l : Launch) (G : Gl) (w : Wd) (a ra : Nat) (R : Rls) (m1 : Mrk) (hA : MkAt G R w ra a m1) (hRW : RlW R) (h1 : PrtsW (mPs m1)) : HM l yX5_words cX5_words 3 (some .int) 5 0 0 G [.ref a] w (QI G (fun z_ w_ => z_ = wrdN (mPs m1) ∧ w_ = w)) := by
  refine HM.mk (by decide +kernel) (Nat.le_of_ble_eq_true rfl) ?_
  intro p9 e9 s9 m9 a9 b9 meth9 c9 ls X hret hlk hnm hl H hR
  have hx := X.1.1
  have hb := X.1.2.1
  have hl : lv_has ls 3 [(0, .ref a)] := hl
  have hL : LK G [] := fun q h => absurd h List.not_mem_nil
  generalize ([] : List Loc) = locs at hL ⊢
  have hA0 := hA
  obtain ⟨pl1, hA1, hA2⟩ := hA
  have hA3 := hA2
  obtain ⟨mo1, P1, hAm, hAP, hAl, hAx⟩ := hA2
  have l1 := h1.2.1
  refine h_iconst hx hb dX5_words_0 ?_
  refine lv_istore_n (lv' := [(1, .int (iI (0))), (0, .ref a)]) hx hb dX5_words_1 rfl hl (by decide) rfl (fun ls hl => ?_)
  refine h_iconst hx hb dX5_words_2 ?_
  refine lv_istore_n (lv' := [(2, .int (iI (0))), (1, .int (iI (0))), (0, .ref a)]) hx hb dX5_words_3 rfl hl (by decide) rfl (fun ls hl => ?_)
  have LOOP_1 : ∀ (N_ : Nat) (k : Nat), (k ≤ (mPs m1).length) → (6 - k) < N_ → ∀ (H : Heap) (locs : List Loc) (ls : Array Slot), Rp G w H → LK G locs → lv_has ls 3 [(0, .ref a), (1, .int (iI ((sumN (fun j => b2i (isWP ((mPs m1).getD j prt0) = true)) k)))), (2, .int (iI ((k : Int))))] → W p9 l e9 (rmk 5 0 0) s9 m9 a9 b9 meth9 c9 H locs 0 0 (MQ b9 (QI G (fun z_ w_ => z_ = wrdN (mPs m1) ∧ w_ = w)) a9 s9 0 0 (frG G)) (F0 m9 4 ls []) := by
    intro N_
    induction N_ with
    | zero => intro _ _ h_; exact absurd h_ (Nat.not_lt_zero _)
    | succ N_ ih_ =>
      intro k hk hN_ H locs ls hR hL hl
      have ih_1 := ih_
      clear ih_
      refine lv_iload_n hx hb dX5_words_4 rfl (lv_at hl 2 rfl) ?_
      refine lv_aload_n hx hb dX5_words_5 rfl (lv_at hl 0 rfl) ?_
      refine h_get X hR hA1 rfl in_X5 1 (by decide) q1539 rfl dX5_words_6 ?_
      -- call java/util/ArrayList.size
      refine h_k5Ip (h_runF (x := ⟨"java/util/List", "size", "()I"⟩) X hR (ls_size l G w 0 pl1 5 mo1 P1 hAP) pn_i_java_util_List_size_0 (hAP.c) (kk_face X.2 (by decide +kernel) q1566 q1565 q1570 q1568 q664) q2294 q1569 q1567 q125 q1571 ⟨by decide, by decide⟩ hl.1 (Nat.le_of_ble_eq_true rfl) dX5_words_9 ⟨by omega, by omega⟩) hL (fun H locs hR hL => ?_)
      refine h_icmp_ge hx hb 42 dX5_words_14 (by decide) (by omega) (by omega) (fun c_k => ?_) (fun c_k => ?_)
      ·
        refine lv_iload_n hx hb dX5_words_42 rfl (lv_at hl 1 rfl) ?_
        exact h_ireturn hx hb hlk hret hR hL rfl ⟨by rw [show k = (mPs m1).length by omega]; rfl, rfl⟩ (by omega) (by omega) rfl rfl dX5_words_43
      ·
        refine lv_iload_n hx hb dX5_words_17 rfl (lv_at hl 1 rfl) ?_
        refine lv_aload_n hx hb dX5_words_18 rfl (lv_at hl 0 rfl) ?_
        refine h_get X hR hA1 rfl in_X5 1 (by decide) q1539 rfl dX5_words_19 ?_
        refine lv_iload_n hx hb dX5_words_22 rfl (lv_at hl 2 rfl) ?_
        -- call java/util/ArrayList.get
        refine h_k5Rp (h_runF (x := ⟨"java/util/List", "get", "(I)Ljava/lang/Object;"⟩) X hR (ls_get l G w 0 pl1 5 mo1 P1 hAP k (by omega)) pn_i_java_util_List_get_1 (hAP.c) (kk_face X.2 (by decide +kernel) q1575 q1574 q1579 q1577 q664) q2296 q1578 q1576 q125 q1580 ⟨by decide, by decide⟩ hl.1 (Nat.le_of_ble_eq_true rfl) dX5_words_23 ⟨by omega, by omega⟩) hL (fun H locs hR hL => ?_)
        have hx_8 := hAx k (by omega)
        refine h_instW X hR hx_8 q2297 dX5_words_28 ?_
        -- call SpokenMarks.bit
        refine h_kIp (h_runSN X hR (c_bit l G w (b2i (isWP ((mPs m1).getD k prt0) = true)) (b2i_01 _)) pn_yX1_bit q2298 q1644 q120 q1645 ⟨by decide, by decide⟩ hl.1 (Nat.le_of_ble_eq_true rfl) dX5_words_31 ⟨by omega, by omega⟩) hL (fun H locs hR hL => ?_)
        refine h_iadd hx hb dX5_words_34 ?_
        refine W.eq (g2 := F0 m9 35 ls [.int (iI ((sumN (fun j => b2i (isWP ((mPs m1).getD j prt0) = true)) (k + 1))))]) (congrArg (fun z_ : Int => F0 m9 35 ls [.int (iI (z_))]) (show (((sumN (fun j => b2i (isWP ((mPs m1).getD j prt0) = true)) k)) + (b2i (isWP ((mPs m1).getD k prt0) = true)) : Int) = (sumN (fun j => b2i (isWP ((mPs m1).getD j prt0) = true)) (k + 1)) from (by rfl))) ?_
        refine lv_istore_n (lv' := [(1, .int (iI ((sumN (fun j => b2i (isWP ((mPs m1).getD j prt0) = true)) (k + 1))))), (0, .ref a), (2, .int (iI ((k : Int))))]) hx hb dX5_words_35 rfl hl (by decide) rfl (fun ls hl => ?_)
        refine h_iinc (lv' := [(2, .int (iI ((k : Int) + 1))), (1, .int (iI ((sumN (fun j => b2i (isWP ((mPs m1).getD j prt0) = true)) (k + 1))))), (0, .ref a)]) hx hb dX5_words_36 hl (k := 2) rfl (by decide) rfl (fun ls hl => ?_)
        refine lv_goto (tgt := 4) hx hb dX5_words_39 (by decide) ?_
        exact ih_1 (k + 1) (by omega) (by omega) _ _ _ hR hL (lv_sub hl [2, 1, 0] rfl)
  exact LOOP_1 _ 0 (by omega) (Nat.lt_succ_self _) _ _ _ hR hL (lv_sub hl [2, 1, 0] rfl)

theorem hasE_w {R : Rls} {x : Prt} {L M : List Int} (hx : PrtW x) (hR : RlW R) (hM : Wrd M) (e : x = .inr L) : (earL (spk R L) = M) ↔ encP (earP R x) = enc M := by
  subst e
  exact ⟨fun q => congrArg enc q, fun q => enc_inj (wrd_ear (spk_w hR hx).1) hM q⟩
theorem hasE_f {R : Rls} {x : Prt} {M : List Int} (hx : PrtW x) (hM : Wrd M) (e : ¬ isWP x = true) : ¬ encP (earP R x) = enc M := by
  obtain ⟨n, rfl⟩ := isWP_l e
  have := hx.2
  have := (enc_r hM.2).1
  show ¬ n = enc M
  omega

theorem hasE_up {R : Rls} {p : List Prt} {M : List Int} {k n : Nat} (hk : k < n) (h : encP (earP R (p.getD k prt0)) = enc M) : hasE R p M n = true := by
  induction n with
  | zero => omega
  | succ n ih =>
    rw [hasE_s, Bool.or_eq_true, decide_eq_true_iff]
    rcases Nat.lt_or_ge k n with q | q
    · exact Or.inl (ih q)
    · rw [show n = k by omega]; exact Or.inr h

set_option maxHeartbeats 4000000 in
set_option maxRecDepth 100000 in
/-- SpokenMarks$Mark.hasEar -/
theorem mk_hasE (l : Launch) (G : Gl) (w : Wd) (a ra : Nat) (R : Rls) (m1 : Mrk) (hA : MkAt G R w ra a m1) (hRW : RlW R) (h1 : PrtsW (mPs m1)) (sa : Nat) (M : List Int) (hS : StrAt G w sa M) (hM : Wrd M) : HM l yX5_hasEar cX5_hasEar 5 (some .boolean) 7 0 0 G [.ref a, .ref sa] w (QI G (fun z_ w_ => z_ = b2i (hasE R (mPs m1) M (mPs m1).length = true) ∧ w_ = w)) := by
  refine HM.mk (by decide +kernel) (Nat.le_of_ble_eq_true rfl) ?_
  intro p9 e9 s9 m9 a9 b9 meth9 c9 ls X hret hlk hnm hl H hR
  have hx := X.1.1
  have hb := X.1.2.1
  have hl : lv_has ls 5 [(0, .ref a), (1, .ref sa)] := hl
  have hL : LK G [] := fun q h => absurd h List.not_mem_nil
  generalize ([] : List Loc) = locs at hL ⊢
  have hA0 := hA
  obtain ⟨pl1, hA1, hA2⟩ := hA
  have hA3 := hA2
  obtain ⟨mo1, P1, hAm, hAP, hAl, hAx⟩ := hA2
  have l1 := h1.2.1
  refine h_iconst hx hb dX5_hasEar_0 ?_
  refine lv_istore_n (lv' := [(2, .int (iI (0))), (0, .ref a), (1, .ref sa)]) hx hb dX5_hasEar_1 rfl hl (by decide) rfl (fun ls hl => ?_)
  have LOOP_1 : ∀ (N_ : Nat) (k : Nat), (k ≤ (mPs m1).length) → (¬ hasE R (mPs m1) M k = true) → (6 - k) < N_ → ∀ (H : Heap) (locs : List Loc) (ls : Array Slot), Rp G w H → LK G locs → lv_has ls 5 [(0, .ref a), (1, .ref sa), (2, .int (iI ((k : Int))))] → W p9 l e9 (rmk 7 0 0) s9 m9 a9 b9 meth9 c9 H locs 0 0 (MQ b9 (QI G (fun z_ w_ => z_ = b2i (hasE R (mPs m1) M (mPs m1).length = true) ∧ w_ = w)) a9 s9 0 0 (frG G)) (F0 m9 2 ls []) := by
    intro N_
    induction N_ with
    | zero => intro _ _ _ h_; exact absurd h_ (Nat.not_lt_zero _)
    | succ N_ ih_ =>
      intro k hk hn hN_ H locs ls hR hL hl
      have ih_1 := ih_
      clear ih_
      refine lv_iload_n hx hb dX5_hasEar_2 rfl (lv_at hl 2 rfl) ?_
      refine lv_aload_n hx hb dX5_hasEar_3 rfl (lv_at hl 0 rfl) ?_
      refine h_get X hR hA1 rfl in_X5 1 (by decide) q1539 rfl dX5_hasEar_4 ?_
      -- call java/util/ArrayList.size
      refine h_k5Ip (h_runF (x := ⟨"java/util/List", "size", "()I"⟩) X hR (ls_size l G w 0 pl1 5 mo1 P1 hAP) pn_i_java_util_List_size_0 (hAP.c) (kk_face X.2 (by decide +kernel) q1566 q1565 q1570 q1568 q664) q2294 q1569 q1567 q125 q1571 ⟨by decide, by decide⟩ hl.1 (Nat.le_of_ble_eq_true rfl) dX5_hasEar_7 ⟨by omega, by omega⟩) hL (fun H locs hR hL => ?_)
      refine h_icmp_ge hx hb 60 dX5_hasEar_12 (by decide) (by omega) (by omega) (fun c_k => ?_) (fun c_k => ?_)
      ·
        refine h_iconst hx hb dX5_hasEar_60 ?_
        exact h_ireturn hx hb hlk hret hR hL rfl ⟨by rw [show (mPs m1).length = k by omega, b2i_f hn], rfl⟩ (by omega) (by omega) rfl rfl dX5_hasEar_61
      ·
        refine lv_aload_n hx hb dX5_hasEar_15 rfl (lv_at hl 0 rfl) ?_
        refine h_get X hR hA1 rfl in_X5 1 (by decide) q1539 rfl dX5_hasEar_16 ?_
        refine lv_iload_n hx hb dX5_hasEar_19 rfl (lv_at hl 2 rfl) ?_
        -- call java/util/ArrayList.get
        refine h_k5Rp (h_runF (x := ⟨"java/util/List", "get", "(I)Ljava/lang/Object;"⟩) X hR (ls_get l G w 0 pl1 5 mo1 P1 hAP k (by omega)) pn_i_java_util_List_get_1 (hAP.c) (kk_face X.2 (by decide +kernel) q1575 q1574 q1579 q1577 q664) q2296 q1578 q1576 q125 q1580 ⟨by decide, by decide⟩ hl.1 (Nat.le_of_ble_eq_true rfl) dX5_hasEar_20 ⟨by omega, by omega⟩) hL (fun H locs hR hL => ?_)
        have hx_8 := hAx k (by omega)
        refine lv_astore (lv' := [(4, .ref (P1.getD k 0)), (0, .ref a), (1, .ref sa), (2, .int (iI ((k : Int))))]) hx hb dX5_hasEar_25 hl (by decide) rfl (fun ls hl => ?_)
        refine lv_aload hx hb dX5_hasEar_27 (lv_at hl 0 rfl) ?_
        refine h_instW X hR hx_8 q2297 dX5_hasEar_29 ?_
        refine h_if_eq hx hb 54 dX5_hasEar_32 (by decide) (by have := b2i_01 (isWP ((mPs m1).getD k prt0) = true); omega) (fun c_i => ?_) (fun c_i => ?_)
        ·
          have hno := hasE_f (R := R) (h1.gd k) hM (b2i_0.mp c_i)
          refine h_iinc (lv' := [(2, .int (iI ((k : Int) + 1))), (4, .ref (P1.getD k 0)), (0, .ref a), (1, .ref sa)]) hx hb dX5_hasEar_54 hl (k := 3) rfl (by decide) rfl (fun ls hl => ?_)
          refine lv_goto (tgt := 2) hx hb dX5_hasEar_57 (by decide) ?_
          exact ih_1 (k + 1) (by omega) (by rw [hasE_s, Bool.or_eq_true, decide_eq_true_iff]; intro q_; rcases q_ with q_ | q_; exact hn q_; exact hno q_) (by omega) _ _ _ hR hL (lv_sub hl [2, 3, 0] rfl)
        ·
          have c_i1 := b2i_n1.mp c_i
          obtain ⟨L, hq_14⟩ := isWP_r c_i1
          have hW_11 := hx_8
          rw [hq_14] at hW_11
          obtain ⟨la_9, ea_10, hW_11, hS_12, hT_13⟩ := hW_11
          refine lv_aload hx hb dX5_hasEar_35 (lv_at hl 0 rfl) ?_
          refine h_castS X hR (hasC.of hW_11 rfl) q2297 dX5_hasEar_37 ?_
          refine lv_astore_n (lv' := [(3, .ref (P1.getD k 0)), (4, .ref (P1.getD k 0)), (0, .ref a), (1, .ref sa), (2, .int (iI ((k : Int))))]) hx hb dX5_hasEar_40 rfl hl (by decide) rfl (fun ls hl => ?_)
          refine lv_aload_n hx hb dX5_hasEar_41 rfl (lv_at hl 0 rfl) ?_
          refine h_getN X hR hW_11 rfl in_X6 1 (by decide) q1525 rfl dX5_hasEar_42 ?_
          refine lv_aload_n hx hb dX5_hasEar_45 rfl (lv_at hl 3 rfl) ?_
          -- call java/lang/String.equals
          refine h_kIp (h_runV X hR (s_eq l G w ea_10 sa (earL (spk R L)) M hT_13 hS) pn_yJ10_equals (hT_13.c) q2430 q1186 q3385 q132 q1187 ⟨by decide, by decide⟩ hl.1 (Nat.le_of_ble_eq_true rfl) dX5_hasEar_46 ⟨by omega, by omega⟩) hL (fun H locs hR hL => ?_)
          refine h_if_eq hx hb 54 dX5_hasEar_49 (by decide) (by have := b2i_01 (earL (spk R L) = M); omega) (fun c_q => ?_) (fun c_q => ?_)
          ·
            have hno := fun z_ => b2i_0.mp c_q ((hasE_w (h1.gd k) hRW hM hq_14).mpr z_)
            refine h_iinc (lv' := [(2, .int (iI ((k : Int) + 1))), (3, .ref (P1.getD k 0)), (4, .ref (P1.getD k 0)), (0, .ref a), (1, .ref sa)]) hx hb dX5_hasEar_54 hl (k := 4) rfl (by decide) rfl (fun ls hl => ?_)
            refine lv_goto (tgt := 2) hx hb dX5_hasEar_57 (by decide) ?_
            exact ih_1 (k + 1) (by omega) (by rw [hasE_s, Bool.or_eq_true, decide_eq_true_iff]; intro q_; rcases q_ with q_ | q_; exact hn q_; exact hno q_) (by omega) _ _ _ hR hL (lv_sub hl [3, 4, 0] rfl)
          ·
            have hye := (hasE_w (h1.gd k) hRW hM hq_14).mp (b2i_n1.mp c_q)
            refine h_iconst hx hb dX5_hasEar_52 ?_
            exact h_ireturn hx hb hlk hret hR hL rfl ⟨by rw [b2i_t (hasE_up (k := k) (by omega) hye)], rfl⟩ (by omega) (by omega) rfl rfl dX5_hasEar_53
  exact LOOP_1 _ 0 (by omega) (fun q_ => by cases q_) (Nat.lt_succ_self _) _ _ _ hR hL (lv_sub hl [1, 2, 0] rfl)

set_option maxHeartbeats 4000000 in
set_option maxRecDepth 100000 in
/-- SpokenMarks$Mark.copy -/
theorem mk_copy (l : Launch) (G : Gl) (w : Wd) (a ra : Nat) (R : Rls) (m1 : Mrk) (hA : MkAt G R w ra a m1) (hG : RegW w) : HM l yX5_copy cX5_copy 1 (some (.object "SpokenMarks$Mark")) 2 1 4 G [.ref a] w (QR G (fun z_ w_ => w z_ = none ∧ MkAt G R w_ (z_ + 1) z_ m1 ∧ Up (fun _ => False) w w_)) := by
  refine HM.mk (by decide +kernel) (Nat.le_of_ble_eq_true rfl) ?_
  intro p9 e9 s9 m9 a9 b9 meth9 c9 ls X hret hlk hnm hl H hR
  have hx := X.1.1
  have hb := X.1.2.1
  have hl : lv_has ls 1 [(0, .ref a)] := hl
  have hL : LK G [] := fun q h => absurd h List.not_mem_nil
  generalize ([] : List Loc) = locs at hL ⊢
  have hU : Up (fun _ => False) w w := Up.rf hG
  have hA0 := hA
  obtain ⟨pl1, hA1, hA2⟩ := hA
  have hA3 := hA2
  obtain ⟨mo1, P1, hAm, hAP, hAl, hAx⟩ := hA2
  refine h_new X hR (ci := 3) (fun q => q + 1) rfl in_X5 tyX5_ok q1804 q1386 q154 [.int (iI (0)), .null, .int (iI (0)), .int (iI (0))] (by intro j hj; rcases (show j = 0 ∨ j = 1 ∨ j = 2 ∨ j = 3 by omega) with rfl | rfl | rfl | rfl <;> rfl) (by omega) (by omega) dX5_copy_0 (fun q hq w_1 ew_2 H hR => ?_)
  have hn_q : w q = none := hU.2.1 _ hq
  have hU : Up (fun _ => False) w w_1 := by rw [ew_2]; exact hU.new hq (by first | exact Or.inr (Or.inl rfl) | exact Or.inl rfl | exact Or.inr (Or.inr (by assumption)))
  have hF_q_w_1 : w_1 q = some (q + 1, oE 3 [.int (iI (0)), .null, .int (iI (0)), .int (iI (0))]) := by rw [ew_2]; exact wset_eq _ _ _
  have ne_a_q : a ≠ q := w_neN hA1 hq
  have hF_a_w_1 : w_1 a = some (ra, oE 3 [.int (iI (mId m1)), .ref pl1, .int (iI (mWd m1)), .int (iI (mPl m1))]) := by rw [ew_2]; exact (wset_ne _ (w_neN hA1 hq)).trans hA1
  have ne_pl1_q : pl1 ≠ q := sm_ne hA3.sm hq
  have hP_pl1_w_1 := hA3.mv (w1 := w_1) (S := fun _ => False) (by rw [ew_2]; exact Fr.add hq _) id
  have hrq : ra ≠ q + 1 := fun z_ => (hG a ra _ hA1 (by omega)) (by rw [z_, Nat.add_sub_cancel]; exact hn_q)
  refine lv_dup hx hb dX5_copy_3 rfl ?_
  refine lv_aload_n hx hb dX5_copy_4 rfl (lv_at hl 0 rfl) ?_
  refine h_get X hR hF_a_w_1 rfl in_X5 0 (by decide) q1536 rfl dX5_copy_5 ?_
  refine lv_aload_n hx hb dX5_copy_8 rfl (lv_at hl 0 rfl) ?_
  refine h_get X hR hF_a_w_1 rfl in_X5 1 (by decide) q1539 rfl dX5_copy_9 ?_
  refine lv_aload_n hx hb dX5_copy_12 rfl (lv_at hl 0 rfl) ?_
  refine h_get X hR hF_a_w_1 rfl in_X5 2 (by decide) q1543 rfl dX5_copy_13 ?_
  refine lv_aload_n hx hb dX5_copy_16 rfl (lv_at hl 0 rfl) ?_
  refine h_get X hR hF_a_w_1 rfl in_X5 3 (by decide) q1547 rfl dX5_copy_17 ?_
  -- call SpokenMarks$Mark.<init>
  refine h_kV (h_runI X hR (mk_init l G w_1 (q + 1) (by omega) q (mId m1) pl1 (mWd m1) (mPl m1) hF_q_w_1 hU.2.2.1) pn_yX5_init rfl q1805 q1533 q154 q1534 ⟨by decide, by decide⟩ hl.1 (Nat.le_of_ble_eq_true rfl) dX5_copy_20 ⟨by omega, by omega⟩) hL (fun w_4 hp_5 H locs hR hL => ?_)
  obtain ⟨hO__7, u_6⟩ := hp_5
  have hF_a_w_4 : w_4 a = some (ra, oE 3 [.int (iI (mId m1)), .ref pl1, .int (iI (mWd m1)), .int (iI (mPl m1))]) := u_6.1 _ _ _ hF_a_w_1 (by first | exact id | (intro q_; (try dsimp only at q_); omega))
  have hP_pl1_w_4 := hP_pl1_w_1.mv (u_6.1) (by first | exact id | (intro q_; (try dsimp only at q_); omega))
  have hU : Up (fun _ => False) w w_4 := hU.tr u_6 (fun q_ h_ => by first | exact absurd h_ id | exact Or.inl h_ | ((try dsimp only at h_); first | exact Or.inl (by omega) | exact Or.inr ⟨by omega, by subst h_; rw [Nat.add_sub_cancel]; assumption⟩)) hG
  exact h_areturn hx hb hlk hret (by first | exact Or.inl ⟨_, rfl⟩ | exact Or.inr ⟨_, rfl⟩) hR hL ⟨hn_q, ⟨pl1, hO__7, hP_pl1_w_4⟩, hU⟩ (by omega) (by omega) rfl rfl dX5_copy_23
