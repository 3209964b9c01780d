/-! JDK: bits; byte arrays compared -/
set_option maxRecDepth 100000
theorem iI_u0 {v : Nat} (hv : v < 4294967296) (h0 : v ≠ 0) : ¬ iI (v : Int) = 0 := by
  intro q
  have := congrArg (fun z : Int32 => z.toBitVec.toNat) q
  simp only [iI_bn] at this
  have h2 : (0 : Int32).toBitVec.toNat = 0 := by decide
  rw [h2] at this
  omega

theorem pn_yJ17_numberOfTrailingZeros : ParN yJ17_numberOfTrailingZeros 1 := by decide +kernel
theorem pn_yJ22_numberOfTrailingZeros : ParN yJ22_numberOfTrailingZeros 1 := by decide +kernel
theorem pn_yJ21_getLongUnaligned : ParN yJ21_getLongUnaligned 2 := by decide +kernel

set_option maxHeartbeats 4000000 in
set_option maxRecDepth 100000 in
/-- Integer.numberOfTrailingZeros -/
theorem in_ntz0 (l : Launch) (G : Gl) (w : Wd) (v : Nat) (hl0 : LowB v 0) (hv : v < 4294967296) : HM l yJ17_numberOfTrailingZeros cJ17_numberOfTrailingZeros 2 (some .int) 1 0 0 G [.int (iI ((v : Int)))] w (QI G (fun z_ w_ => z_ = 0 ∧ w_ = w)) := by
  refine HM.mk (by decide +kernel) (Nat.le_of_ble_eq_true rfl) ?_
  intro p9 e9 s9 m9 a9 b9 meth9 c9 ls X hret hlk hnm hl H hR
  have hx := X.1.1
  have hb := X.1.2.1
  have hl : lv_has ls 2 [(0, .int (iI ((v : Int))))] := hl
  have hL : LK G [] := fun q h => absurd h List.not_mem_nil
  generalize ([] : List Loc) = locs at hL ⊢
  refine lv_iload_n hx hb dJ17_numberOfTrailingZeros_0 rfl (lv_at hl 0 rfl) ?_
  refine h_iconst hx hb dJ17_numberOfTrailingZeros_1 ?_
  refine lv_ixor hx hb dJ17_numberOfTrailingZeros_2 ?_
  refine lv_iload_n hx hb dJ17_numberOfTrailingZeros_3 rfl (lv_at hl 0 rfl) ?_
  refine h_iconst hx hb dJ17_numberOfTrailingZeros_4 ?_
  refine h_isub hx hb dJ17_numberOfTrailingZeros_5 ?_
  refine lv_iand hx hb dJ17_numberOfTrailingZeros_6 ?_
  refine W.eq (g2 := F0 m9 7 ls [.int (iI 0)]) (by have e_ := iI_ntz hl0 hv (by decide); rw [e_] <;> rfl) ?_
  refine lv_istore_n (lv' := [(0, .int (iI (0)))]) hx hb dJ17_numberOfTrailingZeros_7 rfl hl (by decide) rfl (fun ls hl => ?_)
  refine lv_iload_n hx hb dJ17_numberOfTrailingZeros_8 rfl (lv_at hl 0 rfl) ?_
  refine h_if_gt hx hb 17 dJ17_numberOfTrailingZeros_9 (by decide) (by decide) (fun z_ => absurd z_ (by decide)) (fun _ => ?_)
  refine lv_iload_n hx hb dJ17_numberOfTrailingZeros_12 rfl (lv_at hl 0 rfl) ?_
  refine h_bipush hx hb dJ17_numberOfTrailingZeros_13 (by decide) ?_
  refine lv_iand hx hb dJ17_numberOfTrailingZeros_15 ?_
  refine W.eq (g2 := F0 m9 16 ls [.int (iI 0)]) (by rfl) ?_
  exact h_ireturn hx hb hlk hret hR hL rfl ⟨rfl, rfl⟩ (by omega) (by omega) rfl rfl dJ17_numberOfTrailingZeros_16

set_option maxHeartbeats 4000000 in
set_option maxRecDepth 100000 in
/-- Integer.numberOfTrailingZeros -/
theorem in_ntz1 (l : Launch) (G : Gl) (w : Wd) (v : Nat) (hl0 : LowB v 1) (hv : v < 4294967296) : HM l yJ17_numberOfTrailingZeros cJ17_numberOfTrailingZeros 2 (some .int) 1 0 0 G [.int (iI ((v : Int)))] w (QI G (fun z_ w_ => z_ = 1 ∧ w_ = w)) := by
  refine HM.mk (by decide +kernel) (Nat.le_of_ble_eq_true rfl) ?_
  intro p9 e9 s9 m9 a9 b9 meth9 c9 ls X hret hlk hnm hl H hR
  have hx := X.1.1
  have hb := X.1.2.1
  have hl : lv_has ls 2 [(0, .int (iI ((v : Int))))] := hl
  have hL : LK G [] := fun q h => absurd h List.not_mem_nil
  generalize ([] : List Loc) = locs at hL ⊢
  refine lv_iload_n hx hb dJ17_numberOfTrailingZeros_0 rfl (lv_at hl 0 rfl) ?_
  refine h_iconst hx hb dJ17_numberOfTrailingZeros_1 ?_
  refine lv_ixor hx hb dJ17_numberOfTrailingZeros_2 ?_
  refine lv_iload_n hx hb dJ17_numberOfTrailingZeros_3 rfl (lv_at hl 0 rfl) ?_
  refine h_iconst hx hb dJ17_numberOfTrailingZeros_4 ?_
  refine h_isub hx hb dJ17_numberOfTrailingZeros_5 ?_
  refine lv_iand hx hb dJ17_numberOfTrailingZeros_6 ?_
  refine W.eq (g2 := F0 m9 7 ls [.int (iI 1)]) (by have e_ := iI_ntz hl0 hv (by decide); rw [e_] <;> rfl) ?_
  refine lv_istore_n (lv' := [(0, .int (iI (1)))]) hx hb dJ17_numberOfTrailingZeros_7 rfl hl (by decide) rfl (fun ls hl => ?_)
  refine lv_iload_n hx hb dJ17_numberOfTrailingZeros_8 rfl (lv_at hl 0 rfl) ?_
  refine h_if_gt hx hb 17 dJ17_numberOfTrailingZeros_9 (by decide) (by decide) (fun _ => ?_) (fun z_ => absurd z_ (by decide))
  refine h_iconst hx hb dJ17_numberOfTrailingZeros_17 ?_
  refine lv_istore_n (lv' := [(1, .int (iI (1))), (0, .int (iI (1)))]) hx hb dJ17_numberOfTrailingZeros_18 rfl hl (by decide) rfl (fun ls hl => ?_)
  refine lv_iload_n hx hb dJ17_numberOfTrailingZeros_19 rfl (lv_at hl 1 rfl) ?_
  refine lv_ldcw (v := iI (65536)) hx hb X.1.2.2.2.1 (X.1.2.2.2.2 _ q1049) dJ17_numberOfTrailingZeros_20 ?_
  refine h_icmp_le hx hb 34 dJ17_numberOfTrailingZeros_23 (by decide) (by decide) (by decide) (fun _ => ?_) (fun z_ => absurd z_ (by decide))
  refine lv_iload_n hx hb dJ17_numberOfTrailingZeros_34 rfl (lv_at hl 1 rfl) ?_
  refine h_sipush hx hb dJ17_numberOfTrailingZeros_35 (by decide) ?_
  refine h_icmp_le hx hb 49 dJ17_numberOfTrailingZeros_38 (by decide) (by decide) (by decide) (fun _ => ?_) (fun z_ => absurd z_ (by decide))
  refine lv_iload_n hx hb dJ17_numberOfTrailingZeros_49 rfl (lv_at hl 1 rfl) ?_
  refine h_bipush hx hb dJ17_numberOfTrailingZeros_50 (by decide) ?_
  refine h_icmp_le hx hb 62 dJ17_numberOfTrailingZeros_52 (by decide) (by decide) (by decide) (fun _ => ?_) (fun z_ => absurd z_ (by decide))
  refine lv_iload_n hx hb dJ17_numberOfTrailingZeros_62 rfl (lv_at hl 1 rfl) ?_
  refine h_iconst hx hb dJ17_numberOfTrailingZeros_63 ?_
  refine h_icmp_le hx hb 74 dJ17_numberOfTrailingZeros_64 (by decide) (by decide) (by decide) (fun _ => ?_) (fun z_ => absurd z_ (by decide))
  refine lv_iload_n hx hb dJ17_numberOfTrailingZeros_74 rfl (lv_at hl 0 rfl) ?_
  refine lv_iload_n hx hb dJ17_numberOfTrailingZeros_75 rfl (lv_at hl 1 rfl) ?_
  refine h_iconst hx hb dJ17_numberOfTrailingZeros_76 ?_
  refine lv_iushr (v := iI 0) hx hb dJ17_numberOfTrailingZeros_77 (by decide +kernel) ?_
  refine h_iadd hx hb dJ17_numberOfTrailingZeros_78 ?_
  exact h_ireturn hx hb hlk hret hR hL rfl ⟨by decide, rfl⟩ (by omega) (by omega) rfl rfl dJ17_numberOfTrailingZeros_79

set_option maxHeartbeats 4000000 in
set_option maxRecDepth 100000 in
/-- Integer.numberOfTrailingZeros -/
theorem in_ntz2 (l : Launch) (G : Gl) (w : Wd) (v : Nat) (hl0 : LowB v 2) (hv : v < 4294967296) : HM l yJ17_numberOfTrailingZeros cJ17_numberOfTrailingZeros 2 (some .int) 1 0 0 G [.int (iI ((v : Int)))] w (QI G (fun z_ w_ => z_ = 2 ∧ w_ = w)) := by
  refine HM.mk (by decide +kernel) (Nat.le_of_ble_eq_true rfl) ?_
  intro p9 e9 s9 m9 a9 b9 meth9 c9 ls X hret hlk hnm hl H hR
  have hx := X.1.1
  have hb := X.1.2.1
  have hl : lv_has ls 2 [(0, .int (iI ((v : Int))))] := hl
  have hL : LK G [] := fun q h => absurd h List.not_mem_nil
  generalize ([] : List Loc) = locs at hL ⊢
  refine lv_iload_n hx hb dJ17_numberOfTrailingZeros_0 rfl (lv_at hl 0 rfl) ?_
  refine h_iconst hx hb dJ17_numberOfTrailingZeros_1 ?_
  refine lv_ixor hx hb dJ17_numberOfTrailingZeros_2 ?_
  refine lv_iload_n hx hb dJ17_numberOfTrailingZeros_3 rfl (lv_at hl 0 rfl) ?_
  refine h_iconst hx hb dJ17_numberOfTrailingZeros_4 ?_
  refine h_isub hx hb dJ17_numberOfTrailingZeros_5 ?_
  refine lv_iand hx hb dJ17_numberOfTrailingZeros_6 ?_
  refine W.eq (g2 := F0 m9 7 ls [.int (iI 3)]) (by have e_ := iI_ntz hl0 hv (by decide); rw [e_] <;> rfl) ?_
  refine lv_istore_n (lv' := [(0, .int (iI (3)))]) hx hb dJ17_numberOfTrailingZeros_7 rfl hl (by decide) rfl (fun ls hl => ?_)
  refine lv_iload_n hx hb dJ17_numberOfTrailingZeros_8 rfl (lv_at hl 0 rfl) ?_
  refine h_if_gt hx hb 17 dJ17_numberOfTrailingZeros_9 (by decide) (by decide) (fun _ => ?_) (fun z_ => absurd z_ (by decide))
  refine h_iconst hx hb dJ17_numberOfTrailingZeros_17 ?_
  refine lv_istore_n (lv' := [(1, .int (iI (1))), (0, .int (iI (3)))]) hx hb dJ17_numberOfTrailingZeros_18 rfl hl (by decide) rfl (fun ls hl => ?_)
  refine lv_iload_n hx hb dJ17_numberOfTrailingZeros_19 rfl (lv_at hl 1 rfl) ?_
  refine lv_ldcw (v := iI (65536)) hx hb X.1.2.2.2.1 (X.1.2.2.2.2 _ q1049) dJ17_numberOfTrailingZeros_20 ?_
  refine h_icmp_le hx hb 34 dJ17_numberOfTrailingZeros_23 (by decide) (by decide) (by decide) (fun _ => ?_) (fun z_ => absurd z_ (by decide))
  refine lv_iload_n hx hb dJ17_numberOfTrailingZeros_34 rfl (lv_at hl 1 rfl) ?_
  refine h_sipush hx hb dJ17_numberOfTrailingZeros_35 (by decide) ?_
  refine h_icmp_le hx hb 49 dJ17_numberOfTrailingZeros_38 (by decide) (by decide) (by decide) (fun _ => ?_) (fun z_ => absurd z_ (by decide))
  refine lv_iload_n hx hb dJ17_numberOfTrailingZeros_49 rfl (lv_at hl 1 rfl) ?_
  refine h_bipush hx hb dJ17_numberOfTrailingZeros_50 (by decide) ?_
  refine h_icmp_le hx hb 62 dJ17_numberOfTrailingZeros_52 (by decide) (by decide) (by decide) (fun _ => ?_) (fun z_ => absurd z_ (by decide))
  refine lv_iload_n hx hb dJ17_numberOfTrailingZeros_62 rfl (lv_at hl 1 rfl) ?_
  refine h_iconst hx hb dJ17_numberOfTrailingZeros_63 ?_
  refine h_icmp_le hx hb 74 dJ17_numberOfTrailingZeros_64 (by decide) (by decide) (by decide) (fun _ => ?_) (fun z_ => absurd z_ (by decide))
  refine lv_iload_n hx hb dJ17_numberOfTrailingZeros_74 rfl (lv_at hl 0 rfl) ?_
  refine lv_iload_n hx hb dJ17_numberOfTrailingZeros_75 rfl (lv_at hl 1 rfl) ?_
  refine h_iconst hx hb dJ17_numberOfTrailingZeros_76 ?_
  refine lv_iushr (v := iI 1) hx hb dJ17_numberOfTrailingZeros_77 (by decide +kernel) ?_
  refine h_iadd hx hb dJ17_numberOfTrailingZeros_78 ?_
  exact h_ireturn hx hb hlk hret hR hL rfl ⟨by decide, rfl⟩ (by omega) (by omega) rfl rfl dJ17_numberOfTrailingZeros_79

set_option maxHeartbeats 4000000 in
set_option maxRecDepth 100000 in
/-- Integer.numberOfTrailingZeros -/
theorem in_ntz3 (l : Launch) (G : Gl) (w : Wd) (v : Nat) (hl0 : LowB v 3) (hv : v < 4294967296) : HM l yJ17_numberOfTrailingZeros cJ17_numberOfTrailingZeros 2 (some .int) 1 0 0 G [.int (iI ((v : Int)))] w (QI G (fun z_ w_ => z_ = 3 ∧ w_ = w)) := by
  refine HM.mk (by decide +kernel) (Nat.le_of_ble_eq_true rfl) ?_
  intro p9 e9 s9 m9 a9 b9 meth9 c9 ls X hret hlk hnm hl H hR
  have hx := X.1.1
  have hb := X.1.2.1
  have hl : lv_has ls 2 [(0, .int (iI ((v : Int))))] := hl
  have hL : LK G [] := fun q h => absurd h List.not_mem_nil
  generalize ([] : List Loc) = locs at hL ⊢
  refine lv_iload_n hx hb dJ17_numberOfTrailingZeros_0 rfl (lv_at hl 0 rfl) ?_
  refine h_iconst hx hb dJ17_numberOfTrailingZeros_1 ?_
  refine lv_ixor hx hb dJ17_numberOfTrailingZeros_2 ?_
  refine lv_iload_n hx hb dJ17_numberOfTrailingZeros_3 rfl (lv_at hl 0 rfl) ?_
  refine h_iconst hx hb dJ17_numberOfTrailingZeros_4 ?_
  refine h_isub hx hb dJ17_numberOfTrailingZeros_5 ?_
  refine lv_iand hx hb dJ17_numberOfTrailingZeros_6 ?_
  refine W.eq (g2 := F0 m9 7 ls [.int (iI 7)]) (by have e_ := iI_ntz hl0 hv (by decide); rw [e_] <;> rfl) ?_
  refine lv_istore_n (lv' := [(0, .int (iI (7)))]) hx hb dJ17_numberOfTrailingZeros_7 rfl hl (by decide) rfl (fun ls hl => ?_)
  refine lv_iload_n hx hb dJ17_numberOfTrailingZeros_8 rfl (lv_at hl 0 rfl) ?_
  refine h_if_gt hx hb 17 dJ17_numberOfTrailingZeros_9 (by decide) (by decide) (fun _ => ?_) (fun z_ => absurd z_ (by decide))
  refine h_iconst hx hb dJ17_numberOfTrailingZeros_17 ?_
  refine lv_istore_n (lv' := [(1, .int (iI (1))), (0, .int (iI (7)))]) hx hb dJ17_numberOfTrailingZeros_18 rfl hl (by decide) rfl (fun ls hl => ?_)
  refine lv_iload_n hx hb dJ17_numberOfTrailingZeros_19 rfl (lv_at hl 1 rfl) ?_
  refine lv_ldcw (v := iI (65536)) hx hb X.1.2.2.2.1 (X.1.2.2.2.2 _ q1049) dJ17_numberOfTrailingZeros_20 ?_
  refine h_icmp_le hx hb 34 dJ17_numberOfTrailingZeros_23 (by decide) (by decide) (by decide) (fun _ => ?_) (fun z_ => absurd z_ (by decide))
  refine lv_iload_n hx hb dJ17_numberOfTrailingZeros_34 rfl (lv_at hl 1 rfl) ?_
  refine h_sipush hx hb dJ17_numberOfTrailingZeros_35 (by decide) ?_
  refine h_icmp_le hx hb 49 dJ17_numberOfTrailingZeros_38 (by decide) (by decide) (by decide) (fun _ => ?_) (fun z_ => absurd z_ (by decide))
  refine lv_iload_n hx hb dJ17_numberOfTrailingZeros_49 rfl (lv_at hl 1 rfl) ?_
  refine h_bipush hx hb dJ17_numberOfTrailingZeros_50 (by decide) ?_
  refine h_icmp_le hx hb 62 dJ17_numberOfTrailingZeros_52 (by decide) (by decide) (by decide) (fun _ => ?_) (fun z_ => absurd z_ (by decide))
  refine lv_iload_n hx hb dJ17_numberOfTrailingZeros_62 rfl (lv_at hl 1 rfl) ?_
  refine h_iconst hx hb dJ17_numberOfTrailingZeros_63 ?_
  refine h_icmp_le hx hb 74 dJ17_numberOfTrailingZeros_64 (by decide) (by decide) (by decide) (fun z_ => absurd z_ (by decide)) (fun _ => ?_)
  refine h_iinc (lv' := [(1, .int (iI (1 + 2))), (0, .int (iI (7)))]) hx hb dJ17_numberOfTrailingZeros_67 hl (k := 0) rfl (by decide) rfl (fun ls hl => ?_)
  refine lv_iload_n hx hb dJ17_numberOfTrailingZeros_70 rfl (lv_at hl 1 rfl) ?_
  refine h_iconst hx hb dJ17_numberOfTrailingZeros_71 ?_
  refine lv_iushr (v := iI 1) hx hb dJ17_numberOfTrailingZeros_72 (by decide +kernel) ?_
  refine lv_istore_n (lv' := [(0, .int (iI (1))), (1, .int (iI (1 + 2)))]) hx hb dJ17_numberOfTrailingZeros_73 rfl hl (by decide) rfl (fun ls hl => ?_)
  refine lv_iload_n hx hb dJ17_numberOfTrailingZeros_74 rfl (lv_at hl 1 rfl) ?_
  refine lv_iload_n hx hb dJ17_numberOfTrailingZeros_75 rfl (lv_at hl 0 rfl) ?_
  refine h_iconst hx hb dJ17_numberOfTrailingZeros_76 ?_
  refine lv_iushr (v := iI 0) hx hb dJ17_numberOfTrailingZeros_77 (by decide +kernel) ?_
  refine h_iadd hx hb dJ17_numberOfTrailingZeros_78 ?_
  exact h_ireturn hx hb hlk hret hR hL rfl ⟨by decide, rfl⟩ (by omega) (by omega) rfl rfl dJ17_numberOfTrailingZeros_79

set_option maxHeartbeats 4000000 in
set_option maxRecDepth 100000 in
/-- Integer.numberOfTrailingZeros -/
theorem in_ntz4 (l : Launch) (G : Gl) (w : Wd) (v : Nat) (hl0 : LowB v 4) (hv : v < 4294967296) : HM l yJ17_numberOfTrailingZeros cJ17_numberOfTrailingZeros 2 (some .int) 1 0 0 G [.int (iI ((v : Int)))] w (QI G (fun z_ w_ => z_ = 4 ∧ w_ = w)) := by
  refine HM.mk (by decide +kernel) (Nat.le_of_ble_eq_true rfl) ?_
  intro p9 e9 s9 m9 a9 b9 meth9 c9 ls X hret hlk hnm hl H hR
  have hx := X.1.1
  have hb := X.1.2.1
  have hl : lv_has ls 2 [(0, .int (iI ((v : Int))))] := hl
  have hL : LK G [] := fun q h => absurd h List.not_mem_nil
  generalize ([] : List Loc) = locs at hL ⊢
  refine lv_iload_n hx hb dJ17_numberOfTrailingZeros_0 rfl (lv_at hl 0 rfl) ?_
  refine h_iconst hx hb dJ17_numberOfTrailingZeros_1 ?_
  refine lv_ixor hx hb dJ17_numberOfTrailingZeros_2 ?_
  refine lv_iload_n hx hb dJ17_numberOfTrailingZeros_3 rfl (lv_at hl 0 rfl) ?_
  refine h_iconst hx hb dJ17_numberOfTrailingZeros_4 ?_
  refine h_isub hx hb dJ17_numberOfTrailingZeros_5 ?_
  refine lv_iand hx hb dJ17_numberOfTrailingZeros_6 ?_
  refine W.eq (g2 := F0 m9 7 ls [.int (iI 15)]) (by have e_ := iI_ntz hl0 hv (by decide); rw [e_] <;> rfl) ?_
  refine lv_istore_n (lv' := [(0, .int (iI (15)))]) hx hb dJ17_numberOfTrailingZeros_7 rfl hl (by decide) rfl (fun ls hl => ?_)
  refine lv_iload_n hx hb dJ17_numberOfTrailingZeros_8 rfl (lv_at hl 0 rfl) ?_
  refine h_if_gt hx hb 17 dJ17_numberOfTrailingZeros_9 (by decide) (by decide) (fun _ => ?_) (fun z_ => absurd z_ (by decide))
  refine h_iconst hx hb dJ17_numberOfTrailingZeros_17 ?_
  refine lv_istore_n (lv' := [(1, .int (iI (1))), (0, .int (iI (15)))]) hx hb dJ17_numberOfTrailingZeros_18 rfl hl (by decide) rfl (fun ls hl => ?_)
  refine lv_iload_n hx hb dJ17_numberOfTrailingZeros_19 rfl (lv_at hl 1 rfl) ?_
  refine lv_ldcw (v := iI (65536)) hx hb X.1.2.2.2.1 (X.1.2.2.2.2 _ q1049) dJ17_numberOfTrailingZeros_20 ?_
  refine h_icmp_le hx hb 34 dJ17_numberOfTrailingZeros_23 (by decide) (by decide) (by decide) (fun _ => ?_) (fun z_ => absurd z_ (by decide))
  refine lv_iload_n hx hb dJ17_numberOfTrailingZeros_34 rfl (lv_at hl 1 rfl) ?_
  refine h_sipush hx hb dJ17_numberOfTrailingZeros_35 (by decide) ?_
  refine h_icmp_le hx hb 49 dJ17_numberOfTrailingZeros_38 (by decide) (by decide) (by decide) (fun _ => ?_) (fun z_ => absurd z_ (by decide))
  refine lv_iload_n hx hb dJ17_numberOfTrailingZeros_49 rfl (lv_at hl 1 rfl) ?_
  refine h_bipush hx hb dJ17_numberOfTrailingZeros_50 (by decide) ?_
  refine h_icmp_le hx hb 62 dJ17_numberOfTrailingZeros_52 (by decide) (by decide) (by decide) (fun _ => ?_) (fun z_ => absurd z_ (by decide))
  refine lv_iload_n hx hb dJ17_numberOfTrailingZeros_62 rfl (lv_at hl 1 rfl) ?_
  refine h_iconst hx hb dJ17_numberOfTrailingZeros_63 ?_
  refine h_icmp_le hx hb 74 dJ17_numberOfTrailingZeros_64 (by decide) (by decide) (by decide) (fun z_ => absurd z_ (by decide)) (fun _ => ?_)
  refine h_iinc (lv' := [(1, .int (iI (1 + 2))), (0, .int (iI (15)))]) hx hb dJ17_numberOfTrailingZeros_67 hl (k := 0) rfl (by decide) rfl (fun ls hl => ?_)
  refine lv_iload_n hx hb dJ17_numberOfTrailingZeros_70 rfl (lv_at hl 1 rfl) ?_
  refine h_iconst hx hb dJ17_numberOfTrailingZeros_71 ?_
  refine lv_iushr (v := iI 3) hx hb dJ17_numberOfTrailingZeros_72 (by decide +kernel) ?_
  refine lv_istore_n (lv' := [(0, .int (iI (3))), (1, .int (iI (1 + 2)))]) hx hb dJ17_numberOfTrailingZeros_73 rfl hl (by decide) rfl (fun ls hl => ?_)
  refine lv_iload_n hx hb dJ17_numberOfTrailingZeros_74 rfl (lv_at hl 1 rfl) ?_
  refine lv_iload_n hx hb dJ17_numberOfTrailingZeros_75 rfl (lv_at hl 0 rfl) ?_
  refine h_iconst hx hb dJ17_numberOfTrailingZeros_76 ?_
  refine lv_iushr (v := iI 1) hx hb dJ17_numberOfTrailingZeros_77 (by decide +kernel) ?_
  refine h_iadd hx hb dJ17_numberOfTrailingZeros_78 ?_
  exact h_ireturn hx hb hlk hret hR hL rfl ⟨by decide, rfl⟩ (by omega) (by omega) rfl rfl dJ17_numberOfTrailingZeros_79

set_option maxHeartbeats 4000000 in
set_option maxRecDepth 100000 in
/-- Integer.numberOfTrailingZeros -/
theorem in_ntz5 (l : Launch) (G : Gl) (w : Wd) (v : Nat) (hl0 : LowB v 5) (hv : v < 4294967296) : HM l yJ17_numberOfTrailingZeros cJ17_numberOfTrailingZeros 2 (some .int) 1 0 0 G [.int (iI ((v : Int)))] w (QI G (fun z_ w_ => z_ = 5 ∧ w_ = w)) := by
  refine HM.mk (by decide +kernel) (Nat.le_of_ble_eq_true rfl) ?_
  intro p9 e9 s9 m9 a9 b9 meth9 c9 ls X hret hlk hnm hl H hR
  have hx := X.1.1
  have hb := X.1.2.1
  have hl : lv_has ls 2 [(0, .int (iI ((v : Int))))] := hl
  have hL : LK G [] := fun q h => absurd h List.not_mem_nil
  generalize ([] : List Loc) = locs at hL ⊢
  refine lv_iload_n hx hb dJ17_numberOfTrailingZeros_0 rfl (lv_at hl 0 rfl) ?_
  refine h_iconst hx hb dJ17_numberOfTrailingZeros_1 ?_
  refine lv_ixor hx hb dJ17_numberOfTrailingZeros_2 ?_
  refine lv_iload_n hx hb dJ17_numberOfTrailingZeros_3 rfl (lv_at hl 0 rfl) ?_
  refine h_iconst hx hb dJ17_numberOfTrailingZeros_4 ?_
  refine h_isub hx hb dJ17_numberOfTrailingZeros_5 ?_
  refine lv_iand hx hb dJ17_numberOfTrailingZeros_6 ?_
  refine W.eq (g2 := F0 m9 7 ls [.int (iI 31)]) (by have e_ := iI_ntz hl0 hv (by decide); rw [e_] <;> rfl) ?_
  refine lv_istore_n (lv' := [(0, .int (iI (31)))]) hx hb dJ17_numberOfTrailingZeros_7 rfl hl (by decide) rfl (fun ls hl => ?_)
  refine lv_iload_n hx hb dJ17_numberOfTrailingZeros_8 rfl (lv_at hl 0 rfl) ?_
  refine h_if_gt hx hb 17 dJ17_numberOfTrailingZeros_9 (by decide) (by decide) (fun _ => ?_) (fun z_ => absurd z_ (by decide))
  refine h_iconst hx hb dJ17_numberOfTrailingZeros_17 ?_
  refine lv_istore_n (lv' := [(1, .int (iI (1))), (0, .int (iI (31)))]) hx hb dJ17_numberOfTrailingZeros_18 rfl hl (by decide) rfl (fun ls hl => ?_)
  refine lv_iload_n hx hb dJ17_numberOfTrailingZeros_19 rfl (lv_at hl 1 rfl) ?_
  refine lv_ldcw (v := iI (65536)) hx hb X.1.2.2.2.1 (X.1.2.2.2.2 _ q1049) dJ17_numberOfTrailingZeros_20 ?_
  refine h_icmp_le hx hb 34 dJ17_numberOfTrailingZeros_23 (by decide) (by decide) (by decide) (fun _ => ?_) (fun z_ => absurd z_ (by decide))
  refine lv_iload_n hx hb dJ17_numberOfTrailingZeros_34 rfl (lv_at hl 1 rfl) ?_
  refine h_sipush hx hb dJ17_numberOfTrailingZeros_35 (by decide) ?_
  refine h_icmp_le hx hb 49 dJ17_numberOfTrailingZeros_38 (by decide) (by decide) (by decide) (fun _ => ?_) (fun z_ => absurd z_ (by decide))
  refine lv_iload_n hx hb dJ17_numberOfTrailingZeros_49 rfl (lv_at hl 1 rfl) ?_
  refine h_bipush hx hb dJ17_numberOfTrailingZeros_50 (by decide) ?_
  refine h_icmp_le hx hb 62 dJ17_numberOfTrailingZeros_52 (by decide) (by decide) (by decide) (fun z_ => absurd z_ (by decide)) (fun _ => ?_)
  refine h_iinc (lv' := [(1, .int (iI (1 + 4))), (0, .int (iI (31)))]) hx hb dJ17_numberOfTrailingZeros_55 hl (k := 0) rfl (by decide) rfl (fun ls hl => ?_)
  refine lv_iload_n hx hb dJ17_numberOfTrailingZeros_58 rfl (lv_at hl 1 rfl) ?_
  refine h_iconst hx hb dJ17_numberOfTrailingZeros_59 ?_
  refine lv_iushr (v := iI 1) hx hb dJ17_numberOfTrailingZeros_60 (by decide +kernel) ?_
  refine lv_istore_n (lv' := [(0, .int (iI (1))), (1, .int (iI (1 + 4)))]) hx hb dJ17_numberOfTrailingZeros_61 rfl hl (by decide) rfl (fun ls hl => ?_)
  refine lv_iload_n hx hb dJ17_numberOfTrailingZeros_62 rfl (lv_at hl 0 rfl) ?_
  refine h_iconst hx hb dJ17_numberOfTrailingZeros_63 ?_
  refine h_icmp_le hx hb 74 dJ17_numberOfTrailingZeros_64 (by decide) (by decide) (by decide) (fun _ => ?_) (fun z_ => absurd z_ (by decide))
  refine lv_iload_n hx hb dJ17_numberOfTrailingZeros_74 rfl (lv_at hl 1 rfl) ?_
  refine lv_iload_n hx hb dJ17_numberOfTrailingZeros_75 rfl (lv_at hl 0 rfl) ?_
  refine h_iconst hx hb dJ17_numberOfTrailingZeros_76 ?_
  refine lv_iushr (v := iI 0) hx hb dJ17_numberOfTrailingZeros_77 (by decide +kernel) ?_
  refine h_iadd hx hb dJ17_numberOfTrailingZeros_78 ?_
  exact h_ireturn hx hb hlk hret hR hL rfl ⟨by decide, rfl⟩ (by omega) (by omega) rfl rfl dJ17_numberOfTrailingZeros_79

set_option maxHeartbeats 4000000 in
set_option maxRecDepth 100000 in
/-- Integer.numberOfTrailingZeros -/
theorem in_ntz6 (l : Launch) (G : Gl) (w : Wd) (v : Nat) (hl0 : LowB v 6) (hv : v < 4294967296) : HM l yJ17_numberOfTrailingZeros cJ17_numberOfTrailingZeros 2 (some .int) 1 0 0 G [.int (iI ((v : Int)))] w (QI G (fun z_ w_ => z_ = 6 ∧ w_ = w)) := by
  refine HM.mk (by decide +kernel) (Nat.le_of_ble_eq_true rfl) ?_
  intro p9 e9 s9 m9 a9 b9 meth9 c9 ls X hret hlk hnm hl H hR
  have hx := X.1.1
  have hb := X.1.2.1
  have hl : lv_has ls 2 [(0, .int (iI ((v : Int))))] := hl
  have hL : LK G [] := fun q h => absurd h List.not_mem_nil
  generalize ([] : List Loc) = locs at hL ⊢
  refine lv_iload_n hx hb dJ17_numberOfTrailingZeros_0 rfl (lv_at hl 0 rfl) ?_
  refine h_iconst hx hb dJ17_numberOfTrailingZeros_1 ?_
  refine lv_ixor hx hb dJ17_numberOfTrailingZeros_2 ?_
  refine lv_iload_n hx hb dJ17_numberOfTrailingZeros_3 rfl (lv_at hl 0 rfl) ?_
  refine h_iconst hx hb dJ17_numberOfTrailingZeros_4 ?_
  refine h_isub hx hb dJ17_numberOfTrailingZeros_5 ?_
  refine lv_iand hx hb dJ17_numberOfTrailingZeros_6 ?_
  refine W.eq (g2 := F0 m9 7 ls [.int (iI 63)]) (by have e_ := iI_ntz hl0 hv (by decide); rw [e_] <;> rfl) ?_
  refine lv_istore_n (lv' := [(0, .int (iI (63)))]) hx hb dJ17_numberOfTrailingZeros_7 rfl hl (by decide) rfl (fun ls hl => ?_)
  refine lv_iload_n hx hb dJ17_numberOfTrailingZeros_8 rfl (lv_at hl 0 rfl) ?_
  refine h_if_gt hx hb 17 dJ17_numberOfTrailingZeros_9 (by decide) (by decide) (fun _ => ?_) (fun z_ => absurd z_ (by decide))
  refine h_iconst hx hb dJ17_numberOfTrailingZeros_17 ?_
  refine lv_istore_n (lv' := [(1, .int (iI (1))), (0, .int (iI (63)))]) hx hb dJ17_numberOfTrailingZeros_18 rfl hl (by decide) rfl (fun ls hl => ?_)
  refine lv_iload_n hx hb dJ17_numberOfTrailingZeros_19 rfl (lv_at hl 1 rfl) ?_
  refine lv_ldcw (v := iI (65536)) hx hb X.1.2.2.2.1 (X.1.2.2.2.2 _ q1049) dJ17_numberOfTrailingZeros_20 ?_
  refine h_icmp_le hx hb 34 dJ17_numberOfTrailingZeros_23 (by decide) (by decide) (by decide) (fun _ => ?_) (fun z_ => absurd z_ (by decide))
  refine lv_iload_n hx hb dJ17_numberOfTrailingZeros_34 rfl (lv_at hl 1 rfl) ?_
  refine h_sipush hx hb dJ17_numberOfTrailingZeros_35 (by decide) ?_
  refine h_icmp_le hx hb 49 dJ17_numberOfTrailingZeros_38 (by decide) (by decide) (by decide) (fun _ => ?_) (fun z_ => absurd z_ (by decide))
  refine lv_iload_n hx hb dJ17_numberOfTrailingZeros_49 rfl (lv_at hl 1 rfl) ?_
  refine h_bipush hx hb dJ17_numberOfTrailingZeros_50 (by decide) ?_
  refine h_icmp_le hx hb 62 dJ17_numberOfTrailingZeros_52 (by decide) (by decide) (by decide) (fun z_ => absurd z_ (by decide)) (fun _ => ?_)
  refine h_iinc (lv' := [(1, .int (iI (1 + 4))), (0, .int (iI (63)))]) hx hb dJ17_numberOfTrailingZeros_55 hl (k := 0) rfl (by decide) rfl (fun ls hl => ?_)
  refine lv_iload_n hx hb dJ17_numberOfTrailingZeros_58 rfl (lv_at hl 1 rfl) ?_
  refine h_iconst hx hb dJ17_numberOfTrailingZeros_59 ?_
  refine lv_iushr (v := iI 3) hx hb dJ17_numberOfTrailingZeros_60 (by decide +kernel) ?_
  refine lv_istore_n (lv' := [(0, .int (iI (3))), (1, .int (iI (1 + 4)))]) hx hb dJ17_numberOfTrailingZeros_61 rfl hl (by decide) rfl (fun ls hl => ?_)
  refine lv_iload_n hx hb dJ17_numberOfTrailingZeros_62 rfl (lv_at hl 0 rfl) ?_
  refine h_iconst hx hb dJ17_numberOfTrailingZeros_63 ?_
  refine h_icmp_le hx hb 74 dJ17_numberOfTrailingZeros_64 (by decide) (by decide) (by decide) (fun _ => ?_) (fun z_ => absurd z_ (by decide))
  refine lv_iload_n hx hb dJ17_numberOfTrailingZeros_74 rfl (lv_at hl 1 rfl) ?_
  refine lv_iload_n hx hb dJ17_numberOfTrailingZeros_75 rfl (lv_at hl 0 rfl) ?_
  refine h_iconst hx hb dJ17_numberOfTrailingZeros_76 ?_
  refine lv_iushr (v := iI 1) hx hb dJ17_numberOfTrailingZeros_77 (by decide +kernel) ?_
  refine h_iadd hx hb dJ17_numberOfTrailingZeros_78 ?_
  exact h_ireturn hx hb hlk hret hR hL rfl ⟨by decide, rfl⟩ (by omega) (by omega) rfl rfl dJ17_numberOfTrailingZeros_79

set_option maxHeartbeats 4000000 in
set_option maxRecDepth 100000 in
/-- Integer.numberOfTrailingZeros -/
theorem in_ntz7 (l : Launch) (G : Gl) (w : Wd) (v : Nat) (hl0 : LowB v 7) (hv : v < 4294967296) : HM l yJ17_numberOfTrailingZeros cJ17_numberOfTrailingZeros 2 (some .int) 1 0 0 G [.int (iI ((v : Int)))] w (QI G (fun z_ w_ => z_ = 7 ∧ w_ = w)) := by
  refine HM.mk (by decide +kernel) (Nat.le_of_ble_eq_true rfl) ?_
  intro p9 e9 s9 m9 a9 b9 meth9 c9 ls X hret hlk hnm hl H hR
  have hx := X.1.1
  have hb := X.1.2.1
  have hl : lv_has ls 2 [(0, .int (iI ((v : Int))))] := hl
  have hL : LK G [] := fun q h => absurd h List.not_mem_nil
  generalize ([] : List Loc) = locs at hL ⊢
  refine lv_iload_n hx hb dJ17_numberOfTrailingZeros_0 rfl (lv_at hl 0 rfl) ?_
  refine h_iconst hx hb dJ17_numberOfTrailingZeros_1 ?_
  refine lv_ixor hx hb dJ17_numberOfTrailingZeros_2 ?_
  refine lv_iload_n hx hb dJ17_numberOfTrailingZeros_3 rfl (lv_at hl 0 rfl) ?_
  refine h_iconst hx hb dJ17_numberOfTrailingZeros_4 ?_
  refine h_isub hx hb dJ17_numberOfTrailingZeros_5 ?_
  refine lv_iand hx hb dJ17_numberOfTrailingZeros_6 ?_
  refine W.eq (g2 := F0 m9 7 ls [.int (iI 127)]) (by have e_ := iI_ntz hl0 hv (by decide); rw [e_] <;> rfl) ?_
  refine lv_istore_n (lv' := [(0, .int (iI (127)))]) hx hb dJ17_numberOfTrailingZeros_7 rfl hl (by decide) rfl (fun ls hl => ?_)
  refine lv_iload_n hx hb dJ17_numberOfTrailingZeros_8 rfl (lv_at hl 0 rfl) ?_
  refine h_if_gt hx hb 17 dJ17_numberOfTrailingZeros_9 (by decide) (by decide) (fun _ => ?_) (fun z_ => absurd z_ (by decide))
  refine h_iconst hx hb dJ17_numberOfTrailingZeros_17 ?_
  refine lv_istore_n (lv' := [(1, .int (iI (1))), (0, .int (iI (127)))]) hx hb dJ17_numberOfTrailingZeros_18 rfl hl (by decide) rfl (fun ls hl => ?_)
  refine lv_iload_n hx hb dJ17_numberOfTrailingZeros_19 rfl (lv_at hl 1 rfl) ?_
  refine lv_ldcw (v := iI (65536)) hx hb X.1.2.2.2.1 (X.1.2.2.2.2 _ q1049) dJ17_numberOfTrailingZeros_20 ?_
  refine h_icmp_le hx hb 34 dJ17_numberOfTrailingZeros_23 (by decide) (by decide) (by decide) (fun _ => ?_) (fun z_ => absurd z_ (by decide))
  refine lv_iload_n hx hb dJ17_numberOfTrailingZeros_34 rfl (lv_at hl 1 rfl) ?_
  refine h_sipush hx hb dJ17_numberOfTrailingZeros_35 (by decide) ?_
  refine h_icmp_le hx hb 49 dJ17_numberOfTrailingZeros_38 (by decide) (by decide) (by decide) (fun _ => ?_) (fun z_ => absurd z_ (by decide))
  refine lv_iload_n hx hb dJ17_numberOfTrailingZeros_49 rfl (lv_at hl 1 rfl) ?_
  refine h_bipush hx hb dJ17_numberOfTrailingZeros_50 (by decide) ?_
  refine h_icmp_le hx hb 62 dJ17_numberOfTrailingZeros_52 (by decide) (by decide) (by decide) (fun z_ => absurd z_ (by decide)) (fun _ => ?_)
  refine h_iinc (lv' := [(1, .int (iI (1 + 4))), (0, .int (iI (127)))]) hx hb dJ17_numberOfTrailingZeros_55 hl (k := 0) rfl (by decide) rfl (fun ls hl => ?_)
  refine lv_iload_n hx hb dJ17_numberOfTrailingZeros_58 rfl (lv_at hl 1 rfl) ?_
  refine h_iconst hx hb dJ17_numberOfTrailingZeros_59 ?_
  refine lv_iushr (v := iI 7) hx hb dJ17_numberOfTrailingZeros_60 (by decide +kernel) ?_
  refine lv_istore_n (lv' := [(0, .int (iI (7))), (1, .int (iI (1 + 4)))]) hx hb dJ17_numberOfTrailingZeros_61 rfl hl (by decide) rfl (fun ls hl => ?_)
  refine lv_iload_n hx hb dJ17_numberOfTrailingZeros_62 rfl (lv_at hl 0 rfl) ?_
  refine h_iconst hx hb dJ17_numberOfTrailingZeros_63 ?_
  refine h_icmp_le hx hb 74 dJ17_numberOfTrailingZeros_64 (by decide) (by decide) (by decide) (fun z_ => absurd z_ (by decide)) (fun _ => ?_)
  refine h_iinc (lv' := [(1, .int (iI (1 + 4 + 2))), (0, .int (iI (7)))]) hx hb dJ17_numberOfTrailingZeros_67 hl (k := 1) rfl (by decide) rfl (fun ls hl => ?_)
  refine lv_iload_n hx hb dJ17_numberOfTrailingZeros_70 rfl (lv_at hl 1 rfl) ?_
  refine h_iconst hx hb dJ17_numberOfTrailingZeros_71 ?_
  refine lv_iushr (v := iI 1) hx hb dJ17_numberOfTrailingZeros_72 (by decide +kernel) ?_
  refine lv_istore_n (lv' := [(0, .int (iI (1))), (1, .int (iI (1 + 4 + 2)))]) hx hb dJ17_numberOfTrailingZeros_73 rfl hl (by decide) rfl (fun ls hl => ?_)
  refine lv_iload_n hx hb dJ17_numberOfTrailingZeros_74 rfl (lv_at hl 1 rfl) ?_
  refine lv_iload_n hx hb dJ17_numberOfTrailingZeros_75 rfl (lv_at hl 0 rfl) ?_
  refine h_iconst hx hb dJ17_numberOfTrailingZeros_76 ?_
  refine lv_iushr (v := iI 0) hx hb dJ17_numberOfTrailingZeros_77 (by decide +kernel) ?_
  refine h_iadd hx hb dJ17_numberOfTrailingZeros_78 ?_
  exact h_ireturn hx hb hlk hret hR hL rfl ⟨by decide, rfl⟩ (by omega) (by omega) rfl rfl dJ17_numberOfTrailingZeros_79

set_option maxHeartbeats 4000000 in
set_option maxRecDepth 100000 in
/-- Integer.numberOfTrailingZeros -/
theorem in_ntz8 (l : Launch) (G : Gl) (w : Wd) (v : Nat) (hl0 : LowB v 8) (hv : v < 4294967296) : HM l yJ17_numberOfTrailingZeros cJ17_numberOfTrailingZeros 2 (some .int) 1 0 0 G [.int (iI ((v : Int)))] w (QI G (fun z_ w_ => z_ = 8 ∧ w_ = w)) := by
  refine HM.mk (by decide +kernel) (Nat.le_of_ble_eq_true rfl) ?_
  intro p9 e9 s9 m9 a9 b9 meth9 c9 ls X hret hlk hnm hl H hR
  have hx := X.1.1
  have hb := X.1.2.1
  have hl : lv_has ls 2 [(0, .int (iI ((v : Int))))] := hl
  have hL : LK G [] := fun q h => absurd h List.not_mem_nil
  generalize ([] : List Loc) = locs at hL ⊢
  refine lv_iload_n hx hb dJ17_numberOfTrailingZeros_0 rfl (lv_at hl 0 rfl) ?_
  refine h_iconst hx hb dJ17_numberOfTrailingZeros_1 ?_
  refine lv_ixor hx hb dJ17_numberOfTrailingZeros_2 ?_
  refine lv_iload_n hx hb dJ17_numberOfTrailingZeros_3 rfl (lv_at hl 0 rfl) ?_
  refine h_iconst hx hb dJ17_numberOfTrailingZeros_4 ?_
  refine h_isub hx hb dJ17_numberOfTrailingZeros_5 ?_
  refine lv_iand hx hb dJ17_numberOfTrailingZeros_6 ?_
  refine W.eq (g2 := F0 m9 7 ls [.int (iI 255)]) (by have e_ := iI_ntz hl0 hv (by decide); rw [e_] <;> rfl) ?_
  refine lv_istore_n (lv' := [(0, .int (iI (255)))]) hx hb dJ17_numberOfTrailingZeros_7 rfl hl (by decide) rfl (fun ls hl => ?_)
  refine lv_iload_n hx hb dJ17_numberOfTrailingZeros_8 rfl (lv_at hl 0 rfl) ?_
  refine h_if_gt hx hb 17 dJ17_numberOfTrailingZeros_9 (by decide) (by decide) (fun _ => ?_) (fun z_ => absurd z_ (by decide))
  refine h_iconst hx hb dJ17_numberOfTrailingZeros_17 ?_
  refine lv_istore_n (lv' := [(1, .int (iI (1))), (0, .int (iI (255)))]) hx hb dJ17_numberOfTrailingZeros_18 rfl hl (by decide) rfl (fun ls hl => ?_)
  refine lv_iload_n hx hb dJ17_numberOfTrailingZeros_19 rfl (lv_at hl 1 rfl) ?_
  refine lv_ldcw (v := iI (65536)) hx hb X.1.2.2.2.1 (X.1.2.2.2.2 _ q1049) dJ17_numberOfTrailingZeros_20 ?_
  refine h_icmp_le hx hb 34 dJ17_numberOfTrailingZeros_23 (by decide) (by decide) (by decide) (fun _ => ?_) (fun z_ => absurd z_ (by decide))
  refine lv_iload_n hx hb dJ17_numberOfTrailingZeros_34 rfl (lv_at hl 1 rfl) ?_
  refine h_sipush hx hb dJ17_numberOfTrailingZeros_35 (by decide) ?_
  refine h_icmp_le hx hb 49 dJ17_numberOfTrailingZeros_38 (by decide) (by decide) (by decide) (fun _ => ?_) (fun z_ => absurd z_ (by decide))
  refine lv_iload_n hx hb dJ17_numberOfTrailingZeros_49 rfl (lv_at hl 1 rfl) ?_
  refine h_bipush hx hb dJ17_numberOfTrailingZeros_50 (by decide) ?_
  refine h_icmp_le hx hb 62 dJ17_numberOfTrailingZeros_52 (by decide) (by decide) (by decide) (fun z_ => absurd z_ (by decide)) (fun _ => ?_)
  refine h_iinc (lv' := [(1, .int (iI (1 + 4))), (0, .int (iI (255)))]) hx hb dJ17_numberOfTrailingZeros_55 hl (k := 0) rfl (by decide) rfl (fun ls hl => ?_)
  refine lv_iload_n hx hb dJ17_numberOfTrailingZeros_58 rfl (lv_at hl 1 rfl) ?_
  refine h_iconst hx hb dJ17_numberOfTrailingZeros_59 ?_
  refine lv_iushr (v := iI 15) hx hb dJ17_numberOfTrailingZeros_60 (by decide +kernel) ?_
  refine lv_istore_n (lv' := [(0, .int (iI (15))), (1, .int (iI (1 + 4)))]) hx hb dJ17_numberOfTrailingZeros_61 rfl hl (by decide) rfl (fun ls hl => ?_)
  refine lv_iload_n hx hb dJ17_numberOfTrailingZeros_62 rfl (lv_at hl 0 rfl) ?_
  refine h_iconst hx hb dJ17_numberOfTrailingZeros_63 ?_
  refine h_icmp_le hx hb 74 dJ17_numberOfTrailingZeros_64 (by decide) (by decide) (by decide) (fun z_ => absurd z_ (by decide)) (fun _ => ?_)
  refine h_iinc (lv' := [(1, .int (iI (1 + 4 + 2))), (0, .int (iI (15)))]) hx hb dJ17_numberOfTrailingZeros_67 hl (k := 1) rfl (by decide) rfl (fun ls hl => ?_)
  refine lv_iload_n hx hb dJ17_numberOfTrailingZeros_70 rfl (lv_at hl 1 rfl) ?_
  refine h_iconst hx hb dJ17_numberOfTrailingZeros_71 ?_
  refine lv_iushr (v := iI 3) hx hb dJ17_numberOfTrailingZeros_72 (by decide +kernel) ?_
  refine lv_istore_n (lv' := [(0, .int (iI (3))), (1, .int (iI (1 + 4 + 2)))]) hx hb dJ17_numberOfTrailingZeros_73 rfl hl (by decide) rfl (fun ls hl => ?_)
  refine lv_iload_n hx hb dJ17_numberOfTrailingZeros_74 rfl (lv_at hl 1 rfl) ?_
  refine lv_iload_n hx hb dJ17_numberOfTrailingZeros_75 rfl (lv_at hl 0 rfl) ?_
  refine h_iconst hx hb dJ17_numberOfTrailingZeros_76 ?_
  refine lv_iushr (v := iI 1) hx hb dJ17_numberOfTrailingZeros_77 (by decide +kernel) ?_
  refine h_iadd hx hb dJ17_numberOfTrailingZeros_78 ?_
  exact h_ireturn hx hb hlk hret hR hL rfl ⟨by decide, rfl⟩ (by omega) (by omega) rfl rfl dJ17_numberOfTrailingZeros_79

set_option maxHeartbeats 4000000 in
set_option maxRecDepth 100000 in
/-- Integer.numberOfTrailingZeros -/
theorem in_ntz9 (l : Launch) (G : Gl) (w : Wd) (v : Nat) (hl0 : LowB v 9) (hv : v < 4294967296) : HM l yJ17_numberOfTrailingZeros cJ17_numberOfTrailingZeros 2 (some .int) 1 0 0 G [.int (iI ((v : Int)))] w (QI G (fun z_ w_ => z_ = 9 ∧ w_ = w)) := by
  refine HM.mk (by decide +kernel) (Nat.le_of_ble_eq_true rfl) ?_
  intro p9 e9 s9 m9 a9 b9 meth9 c9 ls X hret hlk hnm hl H hR
  have hx := X.1.1
  have hb := X.1.2.1
  have hl : lv_has ls 2 [(0, .int (iI ((v : Int))))] := hl
  have hL : LK G [] := fun q h => absurd h List.not_mem_nil
  generalize ([] : List Loc) = locs at hL ⊢
  refine lv_iload_n hx hb dJ17_numberOfTrailingZeros_0 rfl (lv_at hl 0 rfl) ?_
  refine h_iconst hx hb dJ17_numberOfTrailingZeros_1 ?_
  refine lv_ixor hx hb dJ17_numberOfTrailingZeros_2 ?_
  refine lv_iload_n hx hb dJ17_numberOfTrailingZeros_3 rfl (lv_at hl 0 rfl) ?_
  refine h_iconst hx hb dJ17_numberOfTrailingZeros_4 ?_
  refine h_isub hx hb dJ17_numberOfTrailingZeros_5 ?_
  refine lv_iand hx hb dJ17_numberOfTrailingZeros_6 ?_
  refine W.eq (g2 := F0 m9 7 ls [.int (iI 511)]) (by have e_ := iI_ntz hl0 hv (by decide); rw [e_] <;> rfl) ?_
  refine lv_istore_n (lv' := [(0, .int (iI (511)))]) hx hb dJ17_numberOfTrailingZeros_7 rfl hl (by decide) rfl (fun ls hl => ?_)
  refine lv_iload_n hx hb dJ17_numberOfTrailingZeros_8 rfl (lv_at hl 0 rfl) ?_
  refine h_if_gt hx hb 17 dJ17_numberOfTrailingZeros_9 (by decide) (by decide) (fun _ => ?_) (fun z_ => absurd z_ (by decide))
  refine h_iconst hx hb dJ17_numberOfTrailingZeros_17 ?_
  refine lv_istore_n (lv' := [(1, .int (iI (1))), (0, .int (iI (511)))]) hx hb dJ17_numberOfTrailingZeros_18 rfl hl (by decide) rfl (fun ls hl => ?_)
  refine lv_iload_n hx hb dJ17_numberOfTrailingZeros_19 rfl (lv_at hl 1 rfl) ?_
  refine lv_ldcw (v := iI (65536)) hx hb X.1.2.2.2.1 (X.1.2.2.2.2 _ q1049) dJ17_numberOfTrailingZeros_20 ?_
  refine h_icmp_le hx hb 34 dJ17_numberOfTrailingZeros_23 (by decide) (by decide) (by decide) (fun _ => ?_) (fun z_ => absurd z_ (by decide))
  refine lv_iload_n hx hb dJ17_numberOfTrailingZeros_34 rfl (lv_at hl 1 rfl) ?_
  refine h_sipush hx hb dJ17_numberOfTrailingZeros_35 (by decide) ?_
  refine h_icmp_le hx hb 49 dJ17_numberOfTrailingZeros_38 (by decide) (by decide) (by decide) (fun z_ => absurd z_ (by decide)) (fun _ => ?_)
  refine h_iinc (lv' := [(1, .int (iI (1 + 8))), (0, .int (iI (511)))]) hx hb dJ17_numberOfTrailingZeros_41 hl (k := 0) rfl (by decide) rfl (fun ls hl => ?_)
  refine lv_iload_n hx hb dJ17_numberOfTrailingZeros_44 rfl (lv_at hl 1 rfl) ?_
  refine h_bipush hx hb dJ17_numberOfTrailingZeros_45 (by decide) ?_
  refine lv_iushr (v := iI 1) hx hb dJ17_numberOfTrailingZeros_47 (by decide +kernel) ?_
  refine lv_istore_n (lv' := [(0, .int (iI (1))), (1, .int (iI (1 + 8)))]) hx hb dJ17_numberOfTrailingZeros_48 rfl hl (by decide) rfl (fun ls hl => ?_)
  refine lv_iload_n hx hb dJ17_numberOfTrailingZeros_49 rfl (lv_at hl 0 rfl) ?_
  refine h_bipush hx hb dJ17_numberOfTrailingZeros_50 (by decide) ?_
  refine h_icmp_le hx hb 62 dJ17_numberOfTrailingZeros_52 (by decide) (by decide) (by decide) (fun _ => ?_) (fun z_ => absurd z_ (by decide))
  refine lv_iload_n hx hb dJ17_numberOfTrailingZeros_62 rfl (lv_at hl 0 rfl) ?_
  refine h_iconst hx hb dJ17_numberOfTrailingZeros_63 ?_
  refine h_icmp_le hx hb 74 dJ17_numberOfTrailingZeros_64 (by decide) (by decide) (by decide) (fun _ => ?_) (fun z_ => absurd z_ (by decide))
  refine lv_iload_n hx hb dJ17_numberOfTrailingZeros_74 rfl (lv_at hl 1 rfl) ?_
  refine lv_iload_n hx hb dJ17_numberOfTrailingZeros_75 rfl (lv_at hl 0 rfl) ?_
  refine h_iconst hx hb dJ17_numberOfTrailingZeros_76 ?_
  refine lv_iushr (v := iI 0) hx hb dJ17_numberOfTrailingZeros_77 (by decide +kernel) ?_
  refine h_iadd hx hb dJ17_numberOfTrailingZeros_78 ?_
  exact h_ireturn hx hb hlk hret hR hL rfl ⟨by decide, rfl⟩ (by omega) (by omega) rfl rfl dJ17_numberOfTrailingZeros_79

set_option maxHeartbeats 4000000 in
set_option maxRecDepth 100000 in
/-- Integer.numberOfTrailingZeros -/
theorem in_ntz10 (l : Launch) (G : Gl) (w : Wd) (v : Nat) (hl0 : LowB v 10) (hv : v < 4294967296) : HM l yJ17_numberOfTrailingZeros cJ17_numberOfTrailingZeros 2 (some .int) 1 0 0 G [.int (iI ((v : Int)))] w (QI G (fun z_ w_ => z_ = 10 ∧ w_ = w)) := by
  refine HM.mk (by decide +kernel) (Nat.le_of_ble_eq_true rfl) ?_
  intro p9 e9 s9 m9 a9 b9 meth9 c9 ls X hret hlk hnm hl H hR
  have hx := X.1.1
  have hb := X.1.2.1
  have hl : lv_has ls 2 [(0, .int (iI ((v : Int))))] := hl
  have hL : LK G [] := fun q h => absurd h List.not_mem_nil
  generalize ([] : List Loc) = locs at hL ⊢
  refine lv_iload_n hx hb dJ17_numberOfTrailingZeros_0 rfl (lv_at hl 0 rfl) ?_
  refine h_iconst hx hb dJ17_numberOfTrailingZeros_1 ?_
  refine lv_ixor hx hb dJ17_numberOfTrailingZeros_2 ?_
  refine lv_iload_n hx hb dJ17_numberOfTrailingZeros_3 rfl (lv_at hl 0 rfl) ?_
  refine h_iconst hx hb dJ17_numberOfTrailingZeros_4 ?_
  refine h_isub hx hb dJ17_numberOfTrailingZeros_5 ?_
  refine lv_iand hx hb dJ17_numberOfTrailingZeros_6 ?_
  refine W.eq (g2 := F0 m9 7 ls [.int (iI 1023)]) (by have e_ := iI_ntz hl0 hv (by decide); rw [e_] <;> rfl) ?_
  refine lv_istore_n (lv' := [(0, .int (iI (1023)))]) hx hb dJ17_numberOfTrailingZeros_7 rfl hl (by decide) rfl (fun ls hl => ?_)
  refine lv_iload_n hx hb dJ17_numberOfTrailingZeros_8 rfl (lv_at hl 0 rfl) ?_
  refine h_if_gt hx hb 17 dJ17_numberOfTrailingZeros_9 (by decide) (by decide) (fun _ => ?_) (fun z_ => absurd z_ (by decide))
  refine h_iconst hx hb dJ17_numberOfTrailingZeros_17 ?_
  refine lv_istore_n (lv' := [(1, .int (iI (1))), (0, .int (iI (1023)))]) hx hb dJ17_numberOfTrailingZeros_18 rfl hl (by decide) rfl (fun ls hl => ?_)
  refine lv_iload_n hx hb dJ17_numberOfTrailingZeros_19 rfl (lv_at hl 1 rfl) ?_
  refine lv_ldcw (v := iI (65536)) hx hb X.1.2.2.2.1 (X.1.2.2.2.2 _ q1049) dJ17_numberOfTrailingZeros_20 ?_
  refine h_icmp_le hx hb 34 dJ17_numberOfTrailingZeros_23 (by decide) (by decide) (by decide) (fun _ => ?_) (fun z_ => absurd z_ (by decide))
  refine lv_iload_n hx hb dJ17_numberOfTrailingZeros_34 rfl (lv_at hl 1 rfl) ?_
  refine h_sipush hx hb dJ17_numberOfTrailingZeros_35 (by decide) ?_
  refine h_icmp_le hx hb 49 dJ17_numberOfTrailingZeros_38 (by decide) (by decide) (by decide) (fun z_ => absurd z_ (by decide)) (fun _ => ?_)
  refine h_iinc (lv' := [(1, .int (iI (1 + 8))), (0, .int (iI (1023)))]) hx hb dJ17_numberOfTrailingZeros_41 hl (k := 0) rfl (by decide) rfl (fun ls hl => ?_)
  refine lv_iload_n hx hb dJ17_numberOfTrailingZeros_44 rfl (lv_at hl 1 rfl) ?_
  refine h_bipush hx hb dJ17_numberOfTrailingZeros_45 (by decide) ?_
  refine lv_iushr (v := iI 3) hx hb dJ17_numberOfTrailingZeros_47 (by decide +kernel) ?_
  refine lv_istore_n (lv' := [(0, .int (iI (3))), (1, .int (iI (1 + 8)))]) hx hb dJ17_numberOfTrailingZeros_48 rfl hl (by decide) rfl (fun ls hl => ?_)
  refine lv_iload_n hx hb dJ17_numberOfTrailingZeros_49 rfl (lv_at hl 0 rfl) ?_
  refine h_bipush hx hb dJ17_numberOfTrailingZeros_50 (by decide) ?_
  refine h_icmp_le hx hb 62 dJ17_numberOfTrailingZeros_52 (by decide) (by decide) (by decide) (fun _ => ?_) (fun z_ => absurd z_ (by decide))
  refine lv_iload_n hx hb dJ17_numberOfTrailingZeros_62 rfl (lv_at hl 0 rfl) ?_
  refine h_iconst hx hb dJ17_numberOfTrailingZeros_63 ?_
  refine h_icmp_le hx hb 74 dJ17_numberOfTrailingZeros_64 (by decide) (by decide) (by decide) (fun _ => ?_) (fun z_ => absurd z_ (by decide))
  refine lv_iload_n hx hb dJ17_numberOfTrailingZeros_74 rfl (lv_at hl 1 rfl) ?_
  refine lv_iload_n hx hb dJ17_numberOfTrailingZeros_75 rfl (lv_at hl 0 rfl) ?_
  refine h_iconst hx hb dJ17_numberOfTrailingZeros_76 ?_
  refine lv_iushr (v := iI 1) hx hb dJ17_numberOfTrailingZeros_77 (by decide +kernel) ?_
  refine h_iadd hx hb dJ17_numberOfTrailingZeros_78 ?_
  exact h_ireturn hx hb hlk hret hR hL rfl ⟨by decide, rfl⟩ (by omega) (by omega) rfl rfl dJ17_numberOfTrailingZeros_79

set_option maxHeartbeats 4000000 in
set_option maxRecDepth 100000 in
/-- Integer.numberOfTrailingZeros -/
theorem in_ntz11 (l : Launch) (G : Gl) (w : Wd) (v : Nat) (hl0 : LowB v 11) (hv : v < 4294967296) : HM l yJ17_numberOfTrailingZeros cJ17_numberOfTrailingZeros 2 (some .int) 1 0 0 G [.int (iI ((v : Int)))] w (QI G (fun z_ w_ => z_ = 11 ∧ w_ = w)) := by
  refine HM.mk (by decide +kernel) (Nat.le_of_ble_eq_true rfl) ?_
  intro p9 e9 s9 m9 a9 b9 meth9 c9 ls X hret hlk hnm hl H hR
  have hx := X.1.1
  have hb := X.1.2.1
  have hl : lv_has ls 2 [(0, .int (iI ((v : Int))))] := hl
  have hL : LK G [] := fun q h => absurd h List.not_mem_nil
  generalize ([] : List Loc) = locs at hL ⊢
  refine lv_iload_n hx hb dJ17_numberOfTrailingZeros_0 rfl (lv_at hl 0 rfl) ?_
  refine h_iconst hx hb dJ17_numberOfTrailingZeros_1 ?_
  refine lv_ixor hx hb dJ17_numberOfTrailingZeros_2 ?_
  refine lv_iload_n hx hb dJ17_numberOfTrailingZeros_3 rfl (lv_at hl 0 rfl) ?_
  refine h_iconst hx hb dJ17_numberOfTrailingZeros_4 ?_
  refine h_isub hx hb dJ17_numberOfTrailingZeros_5 ?_
  refine lv_iand hx hb dJ17_numberOfTrailingZeros_6 ?_
  refine W.eq (g2 := F0 m9 7 ls [.int (iI 2047)]) (by have e_ := iI_ntz hl0 hv (by decide); rw [e_] <;> rfl) ?_
  refine lv_istore_n (lv' := [(0, .int (iI (2047)))]) hx hb dJ17_numberOfTrailingZeros_7 rfl hl (by decide) rfl (fun ls hl => ?_)
  refine lv_iload_n hx hb dJ17_numberOfTrailingZeros_8 rfl (lv_at hl 0 rfl) ?_
  refine h_if_gt hx hb 17 dJ17_numberOfTrailingZeros_9 (by decide) (by decide) (fun _ => ?_) (fun z_ => absurd z_ (by decide))
  refine h_iconst hx hb dJ17_numberOfTrailingZeros_17 ?_
  refine lv_istore_n (lv' := [(1, .int (iI (1))), (0, .int (iI (2047)))]) hx hb dJ17_numberOfTrailingZeros_18 rfl hl (by decide) rfl (fun ls hl => ?_)
  refine lv_iload_n hx hb dJ17_numberOfTrailingZeros_19 rfl (lv_at hl 1 rfl) ?_
  refine lv_ldcw (v := iI (65536)) hx hb X.1.2.2.2.1 (X.1.2.2.2.2 _ q1049) dJ17_numberOfTrailingZeros_20 ?_
  refine h_icmp_le hx hb 34 dJ17_numberOfTrailingZeros_23 (by decide) (by decide) (by decide) (fun _ => ?_) (fun z_ => absurd z_ (by decide))
  refine lv_iload_n hx hb dJ17_numberOfTrailingZeros_34 rfl (lv_at hl 1 rfl) ?_
  refine h_sipush hx hb dJ17_numberOfTrailingZeros_35 (by decide) ?_
  refine h_icmp_le hx hb 49 dJ17_numberOfTrailingZeros_38 (by decide) (by decide) (by decide) (fun z_ => absurd z_ (by decide)) (fun _ => ?_)
  refine h_iinc (lv' := [(1, .int (iI (1 + 8))), (0, .int (iI (2047)))]) hx hb dJ17_numberOfTrailingZeros_41 hl (k := 0) rfl (by decide) rfl (fun ls hl => ?_)
  refine lv_iload_n hx hb dJ17_numberOfTrailingZeros_44 rfl (lv_at hl 1 rfl) ?_
  refine h_bipush hx hb dJ17_numberOfTrailingZeros_45 (by decide) ?_
  refine lv_iushr (v := iI 7) hx hb dJ17_numberOfTrailingZeros_47 (by decide +kernel) ?_
  refine lv_istore_n (lv' := [(0, .int (iI (7))), (1, .int (iI (1 + 8)))]) hx hb dJ17_numberOfTrailingZeros_48 rfl hl (by decide) rfl (fun ls hl => ?_)
  refine lv_iload_n hx hb dJ17_numberOfTrailingZeros_49 rfl (lv_at hl 0 rfl) ?_
  refine h_bipush hx hb dJ17_numberOfTrailingZeros_50 (by decide) ?_
  refine h_icmp_le hx hb 62 dJ17_numberOfTrailingZeros_52 (by decide) (by decide) (by decide) (fun _ => ?_) (fun z_ => absurd z_ (by decide))
  refine lv_iload_n hx hb dJ17_numberOfTrailingZeros_62 rfl (lv_at hl 0 rfl) ?_
  refine h_iconst hx hb dJ17_numberOfTrailingZeros_63 ?_
  refine h_icmp_le hx hb 74 dJ17_numberOfTrailingZeros_64 (by decide) (by decide) (by decide) (fun z_ => absurd z_ (by decide)) (fun _ => ?_)
  refine h_iinc (lv' := [(1, .int (iI (1 + 8 + 2))), (0, .int (iI (7)))]) hx hb dJ17_numberOfTrailingZeros_67 hl (k := 1) rfl (by decide) rfl (fun ls hl => ?_)
  refine lv_iload_n hx hb dJ17_numberOfTrailingZeros_70 rfl (lv_at hl 1 rfl) ?_
  refine h_iconst hx hb dJ17_numberOfTrailingZeros_71 ?_
  refine lv_iushr (v := iI 1) hx hb dJ17_numberOfTrailingZeros_72 (by decide +kernel) ?_
  refine lv_istore_n (lv' := [(0, .int (iI (1))), (1, .int (iI (1 + 8 + 2)))]) hx hb dJ17_numberOfTrailingZeros_73 rfl hl (by decide) rfl (fun ls hl => ?_)
  refine lv_iload_n hx hb dJ17_numberOfTrailingZeros_74 rfl (lv_at hl 1 rfl) ?_
  refine lv_iload_n hx hb dJ17_numberOfTrailingZeros_75 rfl (lv_at hl 0 rfl) ?_
  refine h_iconst hx hb dJ17_numberOfTrailingZeros_76 ?_
  refine lv_iushr (v := iI 0) hx hb dJ17_numberOfTrailingZeros_77 (by decide +kernel) ?_
  refine h_iadd hx hb dJ17_numberOfTrailingZeros_78 ?_
  exact h_ireturn hx hb hlk hret hR hL rfl ⟨by decide, rfl⟩ (by omega) (by omega) rfl rfl dJ17_numberOfTrailingZeros_79

set_option maxHeartbeats 4000000 in
set_option maxRecDepth 100000 in
/-- Integer.numberOfTrailingZeros -/
theorem in_ntz12 (l : Launch) (G : Gl) (w : Wd) (v : Nat) (hl0 : LowB v 12) (hv : v < 4294967296) : HM l yJ17_numberOfTrailingZeros cJ17_numberOfTrailingZeros 2 (some .int) 1 0 0 G [.int (iI ((v : Int)))] w (QI G (fun z_ w_ => z_ = 12 ∧ w_ = w)) := by
  refine HM.mk (by decide +kernel) (Nat.le_of_ble_eq_true rfl) ?_
  intro p9 e9 s9 m9 a9 b9 meth9 c9 ls X hret hlk hnm hl H hR
  have hx := X.1.1
  have hb := X.1.2.1
  have hl : lv_has ls 2 [(0, .int (iI ((v : Int))))] := hl
  have hL : LK G [] := fun q h => absurd h List.not_mem_nil
  generalize ([] : List Loc) = locs at hL ⊢
  refine lv_iload_n hx hb dJ17_numberOfTrailingZeros_0 rfl (lv_at hl 0 rfl) ?_
  refine h_iconst hx hb dJ17_numberOfTrailingZeros_1 ?_
  refine lv_ixor hx hb dJ17_numberOfTrailingZeros_2 ?_
  refine lv_iload_n hx hb dJ17_numberOfTrailingZeros_3 rfl (lv_at hl 0 rfl) ?_
  refine h_iconst hx hb dJ17_numberOfTrailingZeros_4 ?_
  refine h_isub hx hb dJ17_numberOfTrailingZeros_5 ?_
  refine lv_iand hx hb dJ17_numberOfTrailingZeros_6 ?_
  refine W.eq (g2 := F0 m9 7 ls [.int (iI 4095)]) (by have e_ := iI_ntz hl0 hv (by decide); rw [e_] <;> rfl) ?_
  refine lv_istore_n (lv' := [(0, .int (iI (4095)))]) hx hb dJ17_numberOfTrailingZeros_7 rfl hl (by decide) rfl (fun ls hl => ?_)
  refine lv_iload_n hx hb dJ17_numberOfTrailingZeros_8 rfl (lv_at hl 0 rfl) ?_
  refine h_if_gt hx hb 17 dJ17_numberOfTrailingZeros_9 (by decide) (by decide) (fun _ => ?_) (fun z_ => absurd z_ (by decide))
  refine h_iconst hx hb dJ17_numberOfTrailingZeros_17 ?_
  refine lv_istore_n (lv' := [(1, .int (iI (1))), (0, .int (iI (4095)))]) hx hb dJ17_numberOfTrailingZeros_18 rfl hl (by decide) rfl (fun ls hl => ?_)
  refine lv_iload_n hx hb dJ17_numberOfTrailingZeros_19 rfl (lv_at hl 1 rfl) ?_
  refine lv_ldcw (v := iI (65536)) hx hb X.1.2.2.2.1 (X.1.2.2.2.2 _ q1049) dJ17_numberOfTrailingZeros_20 ?_
  refine h_icmp_le hx hb 34 dJ17_numberOfTrailingZeros_23 (by decide) (by decide) (by decide) (fun _ => ?_) (fun z_ => absurd z_ (by decide))
  refine lv_iload_n hx hb dJ17_numberOfTrailingZeros_34 rfl (lv_at hl 1 rfl) ?_
  refine h_sipush hx hb dJ17_numberOfTrailingZeros_35 (by decide) ?_
  refine h_icmp_le hx hb 49 dJ17_numberOfTrailingZeros_38 (by decide) (by decide) (by decide) (fun z_ => absurd z_ (by decide)) (fun _ => ?_)
  refine h_iinc (lv' := [(1, .int (iI (1 + 8))), (0, .int (iI (4095)))]) hx hb dJ17_numberOfTrailingZeros_41 hl (k := 0) rfl (by decide) rfl (fun ls hl => ?_)
  refine lv_iload_n hx hb dJ17_numberOfTrailingZeros_44 rfl (lv_at hl 1 rfl) ?_
  refine h_bipush hx hb dJ17_numberOfTrailingZeros_45 (by decide) ?_
  refine lv_iushr (v := iI 15) hx hb dJ17_numberOfTrailingZeros_47 (by decide +kernel) ?_
  refine lv_istore_n (lv' := [(0, .int (iI (15))), (1, .int (iI (1 + 8)))]) hx hb dJ17_numberOfTrailingZeros_48 rfl hl (by decide) rfl (fun ls hl => ?_)
  refine lv_iload_n hx hb dJ17_numberOfTrailingZeros_49 rfl (lv_at hl 0 rfl) ?_
  refine h_bipush hx hb dJ17_numberOfTrailingZeros_50 (by decide) ?_
  refine h_icmp_le hx hb 62 dJ17_numberOfTrailingZeros_52 (by decide) (by decide) (by decide) (fun _ => ?_) (fun z_ => absurd z_ (by decide))
  refine lv_iload_n hx hb dJ17_numberOfTrailingZeros_62 rfl (lv_at hl 0 rfl) ?_
  refine h_iconst hx hb dJ17_numberOfTrailingZeros_63 ?_
  refine h_icmp_le hx hb 74 dJ17_numberOfTrailingZeros_64 (by decide) (by decide) (by decide) (fun z_ => absurd z_ (by decide)) (fun _ => ?_)
  refine h_iinc (lv' := [(1, .int (iI (1 + 8 + 2))), (0, .int (iI (15)))]) hx hb dJ17_numberOfTrailingZeros_67 hl (k := 1) rfl (by decide) rfl (fun ls hl => ?_)
  refine lv_iload_n hx hb dJ17_numberOfTrailingZeros_70 rfl (lv_at hl 1 rfl) ?_
  refine h_iconst hx hb dJ17_numberOfTrailingZeros_71 ?_
  refine lv_iushr (v := iI 3) hx hb dJ17_numberOfTrailingZeros_72 (by decide +kernel) ?_
  refine lv_istore_n (lv' := [(0, .int (iI (3))), (1, .int (iI (1 + 8 + 2)))]) hx hb dJ17_numberOfTrailingZeros_73 rfl hl (by decide) rfl (fun ls hl => ?_)
  refine lv_iload_n hx hb dJ17_numberOfTrailingZeros_74 rfl (lv_at hl 1 rfl) ?_
  refine lv_iload_n hx hb dJ17_numberOfTrailingZeros_75 rfl (lv_at hl 0 rfl) ?_
  refine h_iconst hx hb dJ17_numberOfTrailingZeros_76 ?_
  refine lv_iushr (v := iI 1) hx hb dJ17_numberOfTrailingZeros_77 (by decide +kernel) ?_
  refine h_iadd hx hb dJ17_numberOfTrailingZeros_78 ?_
  exact h_ireturn hx hb hlk hret hR hL rfl ⟨by decide, rfl⟩ (by omega) (by omega) rfl rfl dJ17_numberOfTrailingZeros_79

set_option maxHeartbeats 4000000 in
set_option maxRecDepth 100000 in
/-- Integer.numberOfTrailingZeros -/
theorem in_ntz13 (l : Launch) (G : Gl) (w : Wd) (v : Nat) (hl0 : LowB v 13) (hv : v < 4294967296) : HM l yJ17_numberOfTrailingZeros cJ17_numberOfTrailingZeros 2 (some .int) 1 0 0 G [.int (iI ((v : Int)))] w (QI G (fun z_ w_ => z_ = 13 ∧ w_ = w)) := by
  refine HM.mk (by decide +kernel) (Nat.le_of_ble_eq_true rfl) ?_
  intro p9 e9 s9 m9 a9 b9 meth9 c9 ls X hret hlk hnm hl H hR
  have hx := X.1.1
  have hb := X.1.2.1
  have hl : lv_has ls 2 [(0, .int (iI ((v : Int))))] := hl
  have hL : LK G [] := fun q h => absurd h List.not_mem_nil
  generalize ([] : List Loc) = locs at hL ⊢
  refine lv_iload_n hx hb dJ17_numberOfTrailingZeros_0 rfl (lv_at hl 0 rfl) ?_
  refine h_iconst hx hb dJ17_numberOfTrailingZeros_1 ?_
  refine lv_ixor hx hb dJ17_numberOfTrailingZeros_2 ?_
  refine lv_iload_n hx hb dJ17_numberOfTrailingZeros_3 rfl (lv_at hl 0 rfl) ?_
  refine h_iconst hx hb dJ17_numberOfTrailingZeros_4 ?_
  refine h_isub hx hb dJ17_numberOfTrailingZeros_5 ?_
  refine lv_iand hx hb dJ17_numberOfTrailingZeros_6 ?_
  refine W.eq (g2 := F0 m9 7 ls [.int (iI 8191)]) (by have e_ := iI_ntz hl0 hv (by decide); rw [e_] <;> rfl) ?_
  refine lv_istore_n (lv' := [(0, .int (iI (8191)))]) hx hb dJ17_numberOfTrailingZeros_7 rfl hl (by decide) rfl (fun ls hl => ?_)
  refine lv_iload_n hx hb dJ17_numberOfTrailingZeros_8 rfl (lv_at hl 0 rfl) ?_
  refine h_if_gt hx hb 17 dJ17_numberOfTrailingZeros_9 (by decide) (by decide) (fun _ => ?_) (fun z_ => absurd z_ (by decide))
  refine h_iconst hx hb dJ17_numberOfTrailingZeros_17 ?_
  refine lv_istore_n (lv' := [(1, .int (iI (1))), (0, .int (iI (8191)))]) hx hb dJ17_numberOfTrailingZeros_18 rfl hl (by decide) rfl (fun ls hl => ?_)
  refine lv_iload_n hx hb dJ17_numberOfTrailingZeros_19 rfl (lv_at hl 1 rfl) ?_
  refine lv_ldcw (v := iI (65536)) hx hb X.1.2.2.2.1 (X.1.2.2.2.2 _ q1049) dJ17_numberOfTrailingZeros_20 ?_
  refine h_icmp_le hx hb 34 dJ17_numberOfTrailingZeros_23 (by decide) (by decide) (by decide) (fun _ => ?_) (fun z_ => absurd z_ (by decide))
  refine lv_iload_n hx hb dJ17_numberOfTrailingZeros_34 rfl (lv_at hl 1 rfl) ?_
  refine h_sipush hx hb dJ17_numberOfTrailingZeros_35 (by decide) ?_
  refine h_icmp_le hx hb 49 dJ17_numberOfTrailingZeros_38 (by decide) (by decide) (by decide) (fun z_ => absurd z_ (by decide)) (fun _ => ?_)
  refine h_iinc (lv' := [(1, .int (iI (1 + 8))), (0, .int (iI (8191)))]) hx hb dJ17_numberOfTrailingZeros_41 hl (k := 0) rfl (by decide) rfl (fun ls hl => ?_)
  refine lv_iload_n hx hb dJ17_numberOfTrailingZeros_44 rfl (lv_at hl 1 rfl) ?_
  refine h_bipush hx hb dJ17_numberOfTrailingZeros_45 (by decide) ?_
  refine lv_iushr (v := iI 31) hx hb dJ17_numberOfTrailingZeros_47 (by decide +kernel) ?_
  refine lv_istore_n (lv' := [(0, .int (iI (31))), (1, .int (iI (1 + 8)))]) hx hb dJ17_numberOfTrailingZeros_48 rfl hl (by decide) rfl (fun ls hl => ?_)
  refine lv_iload_n hx hb dJ17_numberOfTrailingZeros_49 rfl (lv_at hl 0 rfl) ?_
  refine h_bipush hx hb dJ17_numberOfTrailingZeros_50 (by decide) ?_
  refine h_icmp_le hx hb 62 dJ17_numberOfTrailingZeros_52 (by decide) (by decide) (by decide) (fun z_ => absurd z_ (by decide)) (fun _ => ?_)
  refine h_iinc (lv' := [(1, .int (iI (1 + 8 + 4))), (0, .int (iI (31)))]) hx hb dJ17_numberOfTrailingZeros_55 hl (k := 1) rfl (by decide) rfl (fun ls hl => ?_)
  refine lv_iload_n hx hb dJ17_numberOfTrailingZeros_58 rfl (lv_at hl 1 rfl) ?_
  refine h_iconst hx hb dJ17_numberOfTrailingZeros_59 ?_
  refine lv_iushr (v := iI 1) hx hb dJ17_numberOfTrailingZeros_60 (by decide +kernel) ?_
  refine lv_istore_n (lv' := [(0, .int (iI (1))), (1, .int (iI (1 + 8 + 4)))]) hx hb dJ17_numberOfTrailingZeros_61 rfl hl (by decide) rfl (fun ls hl => ?_)
  refine lv_iload_n hx hb dJ17_numberOfTrailingZeros_62 rfl (lv_at hl 0 rfl) ?_
  refine h_iconst hx hb dJ17_numberOfTrailingZeros_63 ?_
  refine h_icmp_le hx hb 74 dJ17_numberOfTrailingZeros_64 (by decide) (by decide) (by decide) (fun _ => ?_) (fun z_ => absurd z_ (by decide))
  refine lv_iload_n hx hb dJ17_numberOfTrailingZeros_74 rfl (lv_at hl 1 rfl) ?_
  refine lv_iload_n hx hb dJ17_numberOfTrailingZeros_75 rfl (lv_at hl 0 rfl) ?_
  refine h_iconst hx hb dJ17_numberOfTrailingZeros_76 ?_
  refine lv_iushr (v := iI 0) hx hb dJ17_numberOfTrailingZeros_77 (by decide +kernel) ?_
  refine h_iadd hx hb dJ17_numberOfTrailingZeros_78 ?_
  exact h_ireturn hx hb hlk hret hR hL rfl ⟨by decide, rfl⟩ (by omega) (by omega) rfl rfl dJ17_numberOfTrailingZeros_79

set_option maxHeartbeats 4000000 in
set_option maxRecDepth 100000 in
/-- Integer.numberOfTrailingZeros -/
theorem in_ntz14 (l : Launch) (G : Gl) (w : Wd) (v : Nat) (hl0 : LowB v 14) (hv : v < 4294967296) : HM l yJ17_numberOfTrailingZeros cJ17_numberOfTrailingZeros 2 (some .int) 1 0 0 G [.int (iI ((v : Int)))] w (QI G (fun z_ w_ => z_ = 14 ∧ w_ = w)) := by
  refine HM.mk (by decide +kernel) (Nat.le_of_ble_eq_true rfl) ?_
  intro p9 e9 s9 m9 a9 b9 meth9 c9 ls X hret hlk hnm hl H hR
  have hx := X.1.1
  have hb := X.1.2.1
  have hl : lv_has ls 2 [(0, .int (iI ((v : Int))))] := hl
  have hL : LK G [] := fun q h => absurd h List.not_mem_nil
  generalize ([] : List Loc) = locs at hL ⊢
  refine lv_iload_n hx hb dJ17_numberOfTrailingZeros_0 rfl (lv_at hl 0 rfl) ?_
  refine h_iconst hx hb dJ17_numberOfTrailingZeros_1 ?_
  refine lv_ixor hx hb dJ17_numberOfTrailingZeros_2 ?_
  refine lv_iload_n hx hb dJ17_numberOfTrailingZeros_3 rfl (lv_at hl 0 rfl) ?_
  refine h_iconst hx hb dJ17_numberOfTrailingZeros_4 ?_
  refine h_isub hx hb dJ17_numberOfTrailingZeros_5 ?_
  refine lv_iand hx hb dJ17_numberOfTrailingZeros_6 ?_
  refine W.eq (g2 := F0 m9 7 ls [.int (iI 16383)]) (by have e_ := iI_ntz hl0 hv (by decide); rw [e_] <;> rfl) ?_
  refine lv_istore_n (lv' := [(0, .int (iI (16383)))]) hx hb dJ17_numberOfTrailingZeros_7 rfl hl (by decide) rfl (fun ls hl => ?_)
  refine lv_iload_n hx hb dJ17_numberOfTrailingZeros_8 rfl (lv_at hl 0 rfl) ?_
  refine h_if_gt hx hb 17 dJ17_numberOfTrailingZeros_9 (by decide) (by decide) (fun _ => ?_) (fun z_ => absurd z_ (by decide))
  refine h_iconst hx hb dJ17_numberOfTrailingZeros_17 ?_
  refine lv_istore_n (lv' := [(1, .int (iI (1))), (0, .int (iI (16383)))]) hx hb dJ17_numberOfTrailingZeros_18 rfl hl (by decide) rfl (fun ls hl => ?_)
  refine lv_iload_n hx hb dJ17_numberOfTrailingZeros_19 rfl (lv_at hl 1 rfl) ?_
  refine lv_ldcw (v := iI (65536)) hx hb X.1.2.2.2.1 (X.1.2.2.2.2 _ q1049) dJ17_numberOfTrailingZeros_20 ?_
  refine h_icmp_le hx hb 34 dJ17_numberOfTrailingZeros_23 (by decide) (by decide) (by decide) (fun _ => ?_) (fun z_ => absurd z_ (by decide))
  refine lv_iload_n hx hb dJ17_numberOfTrailingZeros_34 rfl (lv_at hl 1 rfl) ?_
  refine h_sipush hx hb dJ17_numberOfTrailingZeros_35 (by decide) ?_
  refine h_icmp_le hx hb 49 dJ17_numberOfTrailingZeros_38 (by decide) (by decide) (by decide) (fun z_ => absurd z_ (by decide)) (fun _ => ?_)
  refine h_iinc (lv' := [(1, .int (iI (1 + 8))), (0, .int (iI (16383)))]) hx hb dJ17_numberOfTrailingZeros_41 hl (k := 0) rfl (by decide) rfl (fun ls hl => ?_)
  refine lv_iload_n hx hb dJ17_numberOfTrailingZeros_44 rfl (lv_at hl 1 rfl) ?_
  refine h_bipush hx hb dJ17_numberOfTrailingZeros_45 (by decide) ?_
  refine lv_iushr (v := iI 63) hx hb dJ17_numberOfTrailingZeros_47 (by decide +kernel) ?_
  refine lv_istore_n (lv' := [(0, .int (iI (63))), (1, .int (iI (1 + 8)))]) hx hb dJ17_numberOfTrailingZeros_48 rfl hl (by decide) rfl (fun ls hl => ?_)
  refine lv_iload_n hx hb dJ17_numberOfTrailingZeros_49 rfl (lv_at hl 0 rfl) ?_
  refine h_bipush hx hb dJ17_numberOfTrailingZeros_50 (by decide) ?_
  refine h_icmp_le hx hb 62 dJ17_numberOfTrailingZeros_52 (by decide) (by decide) (by decide) (fun z_ => absurd z_ (by decide)) (fun _ => ?_)
  refine h_iinc (lv' := [(1, .int (iI (1 + 8 + 4))), (0, .int (iI (63)))]) hx hb dJ17_numberOfTrailingZeros_55 hl (k := 1) rfl (by decide) rfl (fun ls hl => ?_)
  refine lv_iload_n hx hb dJ17_numberOfTrailingZeros_58 rfl (lv_at hl 1 rfl) ?_
  refine h_iconst hx hb dJ17_numberOfTrailingZeros_59 ?_
  refine lv_iushr (v := iI 3) hx hb dJ17_numberOfTrailingZeros_60 (by decide +kernel) ?_
  refine lv_istore_n (lv' := [(0, .int (iI (3))), (1, .int (iI (1 + 8 + 4)))]) hx hb dJ17_numberOfTrailingZeros_61 rfl hl (by decide) rfl (fun ls hl => ?_)
  refine lv_iload_n hx hb dJ17_numberOfTrailingZeros_62 rfl (lv_at hl 0 rfl) ?_
  refine h_iconst hx hb dJ17_numberOfTrailingZeros_63 ?_
  refine h_icmp_le hx hb 74 dJ17_numberOfTrailingZeros_64 (by decide) (by decide) (by decide) (fun _ => ?_) (fun z_ => absurd z_ (by decide))
  refine lv_iload_n hx hb dJ17_numberOfTrailingZeros_74 rfl (lv_at hl 1 rfl) ?_
  refine lv_iload_n hx hb dJ17_numberOfTrailingZeros_75 rfl (lv_at hl 0 rfl) ?_
  refine h_iconst hx hb dJ17_numberOfTrailingZeros_76 ?_
  refine lv_iushr (v := iI 1) hx hb dJ17_numberOfTrailingZeros_77 (by decide +kernel) ?_
  refine h_iadd hx hb dJ17_numberOfTrailingZeros_78 ?_
  exact h_ireturn hx hb hlk hret hR hL rfl ⟨by decide, rfl⟩ (by omega) (by omega) rfl rfl dJ17_numberOfTrailingZeros_79

set_option maxHeartbeats 4000000 in
set_option maxRecDepth 100000 in
/-- Integer.numberOfTrailingZeros -/
theorem in_ntz15 (l : Launch) (G : Gl) (w : Wd) (v : Nat) (hl0 : LowB v 15) (hv : v < 4294967296) : HM l yJ17_numberOfTrailingZeros cJ17_numberOfTrailingZeros 2 (some .int) 1 0 0 G [.int (iI ((v : Int)))] w (QI G (fun z_ w_ => z_ = 15 ∧ w_ = w)) := by
  refine HM.mk (by decide +kernel) (Nat.le_of_ble_eq_true rfl) ?_
  intro p9 e9 s9 m9 a9 b9 meth9 c9 ls X hret hlk hnm hl H hR
  have hx := X.1.1
  have hb := X.1.2.1
  have hl : lv_has ls 2 [(0, .int (iI ((v : Int))))] := hl
  have hL : LK G [] := fun q h => absurd h List.not_mem_nil
  generalize ([] : List Loc) = locs at hL ⊢
  refine lv_iload_n hx hb dJ17_numberOfTrailingZeros_0 rfl (lv_at hl 0 rfl) ?_
  refine h_iconst hx hb dJ17_numberOfTrailingZeros_1 ?_
  refine lv_ixor hx hb dJ17_numberOfTrailingZeros_2 ?_
  refine lv_iload_n hx hb dJ17_numberOfTrailingZeros_3 rfl (lv_at hl 0 rfl) ?_
  refine h_iconst hx hb dJ17_numberOfTrailingZeros_4 ?_
  refine h_isub hx hb dJ17_numberOfTrailingZeros_5 ?_
  refine lv_iand hx hb dJ17_numberOfTrailingZeros_6 ?_
  refine W.eq (g2 := F0 m9 7 ls [.int (iI 32767)]) (by have e_ := iI_ntz hl0 hv (by decide); rw [e_] <;> rfl) ?_
  refine lv_istore_n (lv' := [(0, .int (iI (32767)))]) hx hb dJ17_numberOfTrailingZeros_7 rfl hl (by decide) rfl (fun ls hl => ?_)
  refine lv_iload_n hx hb dJ17_numberOfTrailingZeros_8 rfl (lv_at hl 0 rfl) ?_
  refine h_if_gt hx hb 17 dJ17_numberOfTrailingZeros_9 (by decide) (by decide) (fun _ => ?_) (fun z_ => absurd z_ (by decide))
  refine h_iconst hx hb dJ17_numberOfTrailingZeros_17 ?_
  refine lv_istore_n (lv' := [(1, .int (iI (1))), (0, .int (iI (32767)))]) hx hb dJ17_numberOfTrailingZeros_18 rfl hl (by decide) rfl (fun ls hl => ?_)
  refine lv_iload_n hx hb dJ17_numberOfTrailingZeros_19 rfl (lv_at hl 1 rfl) ?_
  refine lv_ldcw (v := iI (65536)) hx hb X.1.2.2.2.1 (X.1.2.2.2.2 _ q1049) dJ17_numberOfTrailingZeros_20 ?_
  refine h_icmp_le hx hb 34 dJ17_numberOfTrailingZeros_23 (by decide) (by decide) (by decide) (fun _ => ?_) (fun z_ => absurd z_ (by decide))
  refine lv_iload_n hx hb dJ17_numberOfTrailingZeros_34 rfl (lv_at hl 1 rfl) ?_
  refine h_sipush hx hb dJ17_numberOfTrailingZeros_35 (by decide) ?_
  refine h_icmp_le hx hb 49 dJ17_numberOfTrailingZeros_38 (by decide) (by decide) (by decide) (fun z_ => absurd z_ (by decide)) (fun _ => ?_)
  refine h_iinc (lv' := [(1, .int (iI (1 + 8))), (0, .int (iI (32767)))]) hx hb dJ17_numberOfTrailingZeros_41 hl (k := 0) rfl (by decide) rfl (fun ls hl => ?_)
  refine lv_iload_n hx hb dJ17_numberOfTrailingZeros_44 rfl (lv_at hl 1 rfl) ?_
  refine h_bipush hx hb dJ17_numberOfTrailingZeros_45 (by decide) ?_
  refine lv_iushr (v := iI 127) hx hb dJ17_numberOfTrailingZeros_47 (by decide +kernel) ?_
  refine lv_istore_n (lv' := [(0, .int (iI (127))), (1, .int (iI (1 + 8)))]) hx hb dJ17_numberOfTrailingZeros_48 rfl hl (by decide) rfl (fun ls hl => ?_)
  refine lv_iload_n hx hb dJ17_numberOfTrailingZeros_49 rfl (lv_at hl 0 rfl) ?_
  refine h_bipush hx hb dJ17_numberOfTrailingZeros_50 (by decide) ?_
  refine h_icmp_le hx hb 62 dJ17_numberOfTrailingZeros_52 (by decide) (by decide) (by decide) (fun z_ => absurd z_ (by decide)) (fun _ => ?_)
  refine h_iinc (lv' := [(1, .int (iI (1 + 8 + 4))), (0, .int (iI (127)))]) hx hb dJ17_numberOfTrailingZeros_55 hl (k := 1) rfl (by decide) rfl (fun ls hl => ?_)
  refine lv_iload_n hx hb dJ17_numberOfTrailingZeros_58 rfl (lv_at hl 1 rfl) ?_
  refine h_iconst hx hb dJ17_numberOfTrailingZeros_59 ?_
  refine lv_iushr (v := iI 7) hx hb dJ17_numberOfTrailingZeros_60 (by decide +kernel) ?_
  refine lv_istore_n (lv' := [(0, .int (iI (7))), (1, .int (iI (1 + 8 + 4)))]) hx hb dJ17_numberOfTrailingZeros_61 rfl hl (by decide) rfl (fun ls hl => ?_)
  refine lv_iload_n hx hb dJ17_numberOfTrailingZeros_62 rfl (lv_at hl 0 rfl) ?_
  refine h_iconst hx hb dJ17_numberOfTrailingZeros_63 ?_
  refine h_icmp_le hx hb 74 dJ17_numberOfTrailingZeros_64 (by decide) (by decide) (by decide) (fun z_ => absurd z_ (by decide)) (fun _ => ?_)
  refine h_iinc (lv' := [(1, .int (iI (1 + 8 + 4 + 2))), (0, .int (iI (7)))]) hx hb dJ17_numberOfTrailingZeros_67 hl (k := 1) rfl (by decide) rfl (fun ls hl => ?_)
  refine lv_iload_n hx hb dJ17_numberOfTrailingZeros_70 rfl (lv_at hl 1 rfl) ?_
  refine h_iconst hx hb dJ17_numberOfTrailingZeros_71 ?_
  refine lv_iushr (v := iI 1) hx hb dJ17_numberOfTrailingZeros_72 (by decide +kernel) ?_
  refine lv_istore_n (lv' := [(0, .int (iI (1))), (1, .int (iI (1 + 8 + 4 + 2)))]) hx hb dJ17_numberOfTrailingZeros_73 rfl hl (by decide) rfl (fun ls hl => ?_)
  refine lv_iload_n hx hb dJ17_numberOfTrailingZeros_74 rfl (lv_at hl 1 rfl) ?_
  refine lv_iload_n hx hb dJ17_numberOfTrailingZeros_75 rfl (lv_at hl 0 rfl) ?_
  refine h_iconst hx hb dJ17_numberOfTrailingZeros_76 ?_
  refine lv_iushr (v := iI 0) hx hb dJ17_numberOfTrailingZeros_77 (by decide +kernel) ?_
  refine h_iadd hx hb dJ17_numberOfTrailingZeros_78 ?_
  exact h_ireturn hx hb hlk hret hR hL rfl ⟨by decide, rfl⟩ (by omega) (by omega) rfl rfl dJ17_numberOfTrailingZeros_79

set_option maxHeartbeats 4000000 in
set_option maxRecDepth 100000 in
/-- Integer.numberOfTrailingZeros -/
theorem in_ntz16 (l : Launch) (G : Gl) (w : Wd) (v : Nat) (hl0 : LowB v 16) (hv : v < 4294967296) : HM l yJ17_numberOfTrailingZeros cJ17_numberOfTrailingZeros 2 (some .int) 1 0 0 G [.int (iI ((v : Int)))] w (QI G (fun z_ w_ => z_ = 16 ∧ w_ = w)) := by
  refine HM.mk (by decide +kernel) (Nat.le_of_ble_eq_true rfl) ?_
  intro p9 e9 s9 m9 a9 b9 meth9 c9 ls X hret hlk hnm hl H hR
  have hx := X.1.1
  have hb := X.1.2.1
  have hl : lv_has ls 2 [(0, .int (iI ((v : Int))))] := hl
  have hL : LK G [] := fun q h => absurd h List.not_mem_nil
  generalize ([] : List Loc) = locs at hL ⊢
  refine lv_iload_n hx hb dJ17_numberOfTrailingZeros_0 rfl (lv_at hl 0 rfl) ?_
  refine h_iconst hx hb dJ17_numberOfTrailingZeros_1 ?_
  refine lv_ixor hx hb dJ17_numberOfTrailingZeros_2 ?_
  refine lv_iload_n hx hb dJ17_numberOfTrailingZeros_3 rfl (lv_at hl 0 rfl) ?_
  refine h_iconst hx hb dJ17_numberOfTrailingZeros_4 ?_
  refine h_isub hx hb dJ17_numberOfTrailingZeros_5 ?_
  refine lv_iand hx hb dJ17_numberOfTrailingZeros_6 ?_
  refine W.eq (g2 := F0 m9 7 ls [.int (iI 65535)]) (by have e_ := iI_ntz hl0 hv (by decide); rw [e_] <;> rfl) ?_
  refine lv_istore_n (lv' := [(0, .int (iI (65535)))]) hx hb dJ17_numberOfTrailingZeros_7 rfl hl (by decide) rfl (fun ls hl => ?_)
  refine lv_iload_n hx hb dJ17_numberOfTrailingZeros_8 rfl (lv_at hl 0 rfl) ?_
  refine h_if_gt hx hb 17 dJ17_numberOfTrailingZeros_9 (by decide) (by decide) (fun _ => ?_) (fun z_ => absurd z_ (by decide))
  refine h_iconst hx hb dJ17_numberOfTrailingZeros_17 ?_
  refine lv_istore_n (lv' := [(1, .int (iI (1))), (0, .int (iI (65535)))]) hx hb dJ17_numberOfTrailingZeros_18 rfl hl (by decide) rfl (fun ls hl => ?_)
  refine lv_iload_n hx hb dJ17_numberOfTrailingZeros_19 rfl (lv_at hl 1 rfl) ?_
  refine lv_ldcw (v := iI (65536)) hx hb X.1.2.2.2.1 (X.1.2.2.2.2 _ q1049) dJ17_numberOfTrailingZeros_20 ?_
  refine h_icmp_le hx hb 34 dJ17_numberOfTrailingZeros_23 (by decide) (by decide) (by decide) (fun _ => ?_) (fun z_ => absurd z_ (by decide))
  refine lv_iload_n hx hb dJ17_numberOfTrailingZeros_34 rfl (lv_at hl 1 rfl) ?_
  refine h_sipush hx hb dJ17_numberOfTrailingZeros_35 (by decide) ?_
  refine h_icmp_le hx hb 49 dJ17_numberOfTrailingZeros_38 (by decide) (by decide) (by decide) (fun z_ => absurd z_ (by decide)) (fun _ => ?_)
  refine h_iinc (lv' := [(1, .int (iI (1 + 8))), (0, .int (iI (65535)))]) hx hb dJ17_numberOfTrailingZeros_41 hl (k := 0) rfl (by decide) rfl (fun ls hl => ?_)
  refine lv_iload_n hx hb dJ17_numberOfTrailingZeros_44 rfl (lv_at hl 1 rfl) ?_
  refine h_bipush hx hb dJ17_numberOfTrailingZeros_45 (by decide) ?_
  refine lv_iushr (v := iI 255) hx hb dJ17_numberOfTrailingZeros_47 (by decide +kernel) ?_
  refine lv_istore_n (lv' := [(0, .int (iI (255))), (1, .int (iI (1 + 8)))]) hx hb dJ17_numberOfTrailingZeros_48 rfl hl (by decide) rfl (fun ls hl => ?_)
  refine lv_iload_n hx hb dJ17_numberOfTrailingZeros_49 rfl (lv_at hl 0 rfl) ?_
  refine h_bipush hx hb dJ17_numberOfTrailingZeros_50 (by decide) ?_
  refine h_icmp_le hx hb 62 dJ17_numberOfTrailingZeros_52 (by decide) (by decide) (by decide) (fun z_ => absurd z_ (by decide)) (fun _ => ?_)
  refine h_iinc (lv' := [(1, .int (iI (1 + 8 + 4))), (0, .int (iI (255)))]) hx hb dJ17_numberOfTrailingZeros_55 hl (k := 1) rfl (by decide) rfl (fun ls hl => ?_)
  refine lv_iload_n hx hb dJ17_numberOfTrailingZeros_58 rfl (lv_at hl 1 rfl) ?_
  refine h_iconst hx hb dJ17_numberOfTrailingZeros_59 ?_
  refine lv_iushr (v := iI 15) hx hb dJ17_numberOfTrailingZeros_60 (by decide +kernel) ?_
  refine lv_istore_n (lv' := [(0, .int (iI (15))), (1, .int (iI (1 + 8 + 4)))]) hx hb dJ17_numberOfTrailingZeros_61 rfl hl (by decide) rfl (fun ls hl => ?_)
  refine lv_iload_n hx hb dJ17_numberOfTrailingZeros_62 rfl (lv_at hl 0 rfl) ?_
  refine h_iconst hx hb dJ17_numberOfTrailingZeros_63 ?_
  refine h_icmp_le hx hb 74 dJ17_numberOfTrailingZeros_64 (by decide) (by decide) (by decide) (fun z_ => absurd z_ (by decide)) (fun _ => ?_)
  refine h_iinc (lv' := [(1, .int (iI (1 + 8 + 4 + 2))), (0, .int (iI (15)))]) hx hb dJ17_numberOfTrailingZeros_67 hl (k := 1) rfl (by decide) rfl (fun ls hl => ?_)
  refine lv_iload_n hx hb dJ17_numberOfTrailingZeros_70 rfl (lv_at hl 1 rfl) ?_
  refine h_iconst hx hb dJ17_numberOfTrailingZeros_71 ?_
  refine lv_iushr (v := iI 3) hx hb dJ17_numberOfTrailingZeros_72 (by decide +kernel) ?_
  refine lv_istore_n (lv' := [(0, .int (iI (3))), (1, .int (iI (1 + 8 + 4 + 2)))]) hx hb dJ17_numberOfTrailingZeros_73 rfl hl (by decide) rfl (fun ls hl => ?_)
  refine lv_iload_n hx hb dJ17_numberOfTrailingZeros_74 rfl (lv_at hl 1 rfl) ?_
  refine lv_iload_n hx hb dJ17_numberOfTrailingZeros_75 rfl (lv_at hl 0 rfl) ?_
  refine h_iconst hx hb dJ17_numberOfTrailingZeros_76 ?_
  refine lv_iushr (v := iI 1) hx hb dJ17_numberOfTrailingZeros_77 (by decide +kernel) ?_
  refine h_iadd hx hb dJ17_numberOfTrailingZeros_78 ?_
  exact h_ireturn hx hb hlk hret hR hL rfl ⟨by decide, rfl⟩ (by omega) (by omega) rfl rfl dJ17_numberOfTrailingZeros_79

set_option maxHeartbeats 4000000 in
set_option maxRecDepth 100000 in
/-- Integer.numberOfTrailingZeros -/
theorem in_ntz17 (l : Launch) (G : Gl) (w : Wd) (v : Nat) (hl0 : LowB v 17) (hv : v < 4294967296) : HM l yJ17_numberOfTrailingZeros cJ17_numberOfTrailingZeros 2 (some .int) 1 0 0 G [.int (iI ((v : Int)))] w (QI G (fun z_ w_ => z_ = 17 ∧ w_ = w)) := by
  refine HM.mk (by decide +kernel) (Nat.le_of_ble_eq_true rfl) ?_
  intro p9 e9 s9 m9 a9 b9 meth9 c9 ls X hret hlk hnm hl H hR
  have hx := X.1.1
  have hb := X.1.2.1
  have hl : lv_has ls 2 [(0, .int (iI ((v : Int))))] := hl
  have hL : LK G [] := fun q h => absurd h List.not_mem_nil
  generalize ([] : List Loc) = locs at hL ⊢
  refine lv_iload_n hx hb dJ17_numberOfTrailingZeros_0 rfl (lv_at hl 0 rfl) ?_
  refine h_iconst hx hb dJ17_numberOfTrailingZeros_1 ?_
  refine lv_ixor hx hb dJ17_numberOfTrailingZeros_2 ?_
  refine lv_iload_n hx hb dJ17_numberOfTrailingZeros_3 rfl (lv_at hl 0 rfl) ?_
  refine h_iconst hx hb dJ17_numberOfTrailingZeros_4 ?_
  refine h_isub hx hb dJ17_numberOfTrailingZeros_5 ?_
  refine lv_iand hx hb dJ17_numberOfTrailingZeros_6 ?_
  refine W.eq (g2 := F0 m9 7 ls [.int (iI 131071)]) (by have e_ := iI_ntz hl0 hv (by decide); rw [e_] <;> rfl) ?_
  refine lv_istore_n (lv' := [(0, .int (iI (131071)))]) hx hb dJ17_numberOfTrailingZeros_7 rfl hl (by decide) rfl (fun ls hl => ?_)
  refine lv_iload_n hx hb dJ17_numberOfTrailingZeros_8 rfl (lv_at hl 0 rfl) ?_
  refine h_if_gt hx hb 17 dJ17_numberOfTrailingZeros_9 (by decide) (by decide) (fun _ => ?_) (fun z_ => absurd z_ (by decide))
  refine h_iconst hx hb dJ17_numberOfTrailingZeros_17 ?_
  refine lv_istore_n (lv' := [(1, .int (iI (1))), (0, .int (iI (131071)))]) hx hb dJ17_numberOfTrailingZeros_18 rfl hl (by decide) rfl (fun ls hl => ?_)
  refine lv_iload_n hx hb dJ17_numberOfTrailingZeros_19 rfl (lv_at hl 1 rfl) ?_
  refine lv_ldcw (v := iI (65536)) hx hb X.1.2.2.2.1 (X.1.2.2.2.2 _ q1049) dJ17_numberOfTrailingZeros_20 ?_
  refine h_icmp_le hx hb 34 dJ17_numberOfTrailingZeros_23 (by decide) (by decide) (by decide) (fun z_ => absurd z_ (by decide)) (fun _ => ?_)
  refine h_iinc (lv' := [(1, .int (iI (1 + 16))), (0, .int (iI (131071)))]) hx hb dJ17_numberOfTrailingZeros_26 hl (k := 0) rfl (by decide) rfl (fun ls hl => ?_)
  refine lv_iload_n hx hb dJ17_numberOfTrailingZeros_29 rfl (lv_at hl 1 rfl) ?_
  refine h_bipush hx hb dJ17_numberOfTrailingZeros_30 (by decide) ?_
  refine lv_iushr (v := iI 1) hx hb dJ17_numberOfTrailingZeros_32 (by decide +kernel) ?_
  refine lv_istore_n (lv' := [(0, .int (iI (1))), (1, .int (iI (1 + 16)))]) hx hb dJ17_numberOfTrailingZeros_33 rfl hl (by decide) rfl (fun ls hl => ?_)
  refine lv_iload_n hx hb dJ17_numberOfTrailingZeros_34 rfl (lv_at hl 0 rfl) ?_
  refine h_sipush hx hb dJ17_numberOfTrailingZeros_35 (by decide) ?_
  refine h_icmp_le hx hb 49 dJ17_numberOfTrailingZeros_38 (by decide) (by decide) (by decide) (fun _ => ?_) (fun z_ => absurd z_ (by decide))
  refine lv_iload_n hx hb dJ17_numberOfTrailingZeros_49 rfl (lv_at hl 0 rfl) ?_
  refine h_bipush hx hb dJ17_numberOfTrailingZeros_50 (by decide) ?_
  refine h_icmp_le hx hb 62 dJ17_numberOfTrailingZeros_52 (by decide) (by decide) (by decide) (fun _ => ?_) (fun z_ => absurd z_ (by decide))
  refine lv_iload_n hx hb dJ17_numberOfTrailingZeros_62 rfl (lv_at hl 0 rfl) ?_
  refine h_iconst hx hb dJ17_numberOfTrailingZeros_63 ?_
  refine h_icmp_le hx hb 74 dJ17_numberOfTrailingZeros_64 (by decide) (by decide) (by decide) (fun _ => ?_) (fun z_ => absurd z_ (by decide))
  refine lv_iload_n hx hb dJ17_numberOfTrailingZeros_74 rfl (lv_at hl 1 rfl) ?_
  refine lv_iload_n hx hb dJ17_numberOfTrailingZeros_75 rfl (lv_at hl 0 rfl) ?_
  refine h_iconst hx hb dJ17_numberOfTrailingZeros_76 ?_
  refine lv_iushr (v := iI 0) hx hb dJ17_numberOfTrailingZeros_77 (by decide +kernel) ?_
  refine h_iadd hx hb dJ17_numberOfTrailingZeros_78 ?_
  exact h_ireturn hx hb hlk hret hR hL rfl ⟨by decide, rfl⟩ (by omega) (by omega) rfl rfl dJ17_numberOfTrailingZeros_79

set_option maxHeartbeats 4000000 in
set_option maxRecDepth 100000 in
/-- Integer.numberOfTrailingZeros -/
theorem in_ntz18 (l : Launch) (G : Gl) (w : Wd) (v : Nat) (hl0 : LowB v 18) (hv : v < 4294967296) : HM l yJ17_numberOfTrailingZeros cJ17_numberOfTrailingZeros 2 (some .int) 1 0 0 G [.int (iI ((v : Int)))] w (QI G (fun z_ w_ => z_ = 18 ∧ w_ = w)) := by
  refine HM.mk (by decide +kernel) (Nat.le_of_ble_eq_true rfl) ?_
  intro p9 e9 s9 m9 a9 b9 meth9 c9 ls X hret hlk hnm hl H hR
  have hx := X.1.1
  have hb := X.1.2.1
  have hl : lv_has ls 2 [(0, .int (iI ((v : Int))))] := hl
  have hL : LK G [] := fun q h => absurd h List.not_mem_nil
  generalize ([] : List Loc) = locs at hL ⊢
  refine lv_iload_n hx hb dJ17_numberOfTrailingZeros_0 rfl (lv_at hl 0 rfl) ?_
  refine h_iconst hx hb dJ17_numberOfTrailingZeros_1 ?_
  refine lv_ixor hx hb dJ17_numberOfTrailingZeros_2 ?_
  refine lv_iload_n hx hb dJ17_numberOfTrailingZeros_3 rfl (lv_at hl 0 rfl) ?_
  refine h_iconst hx hb dJ17_numberOfTrailingZeros_4 ?_
  refine h_isub hx hb dJ17_numberOfTrailingZeros_5 ?_
  refine lv_iand hx hb dJ17_numberOfTrailingZeros_6 ?_
  refine W.eq (g2 := F0 m9 7 ls [.int (iI 262143)]) (by have e_ := iI_ntz hl0 hv (by decide); rw [e_] <;> rfl) ?_
  refine lv_istore_n (lv' := [(0, .int (iI (262143)))]) hx hb dJ17_numberOfTrailingZeros_7 rfl hl (by decide) rfl (fun ls hl => ?_)
  refine lv_iload_n hx hb dJ17_numberOfTrailingZeros_8 rfl (lv_at hl 0 rfl) ?_
  refine h_if_gt hx hb 17 dJ17_numberOfTrailingZeros_9 (by decide) (by decide) (fun _ => ?_) (fun z_ => absurd z_ (by decide))
  refine h_iconst hx hb dJ17_numberOfTrailingZeros_17 ?_
  refine lv_istore_n (lv' := [(1, .int (iI (1))), (0, .int (iI (262143)))]) hx hb dJ17_numberOfTrailingZeros_18 rfl hl (by decide) rfl (fun ls hl => ?_)
  refine lv_iload_n hx hb dJ17_numberOfTrailingZeros_19 rfl (lv_at hl 1 rfl) ?_
  refine lv_ldcw (v := iI (65536)) hx hb X.1.2.2.2.1 (X.1.2.2.2.2 _ q1049) dJ17_numberOfTrailingZeros_20 ?_
  refine h_icmp_le hx hb 34 dJ17_numberOfTrailingZeros_23 (by decide) (by decide) (by decide) (fun z_ => absurd z_ (by decide)) (fun _ => ?_)
  refine h_iinc (lv' := [(1, .int (iI (1 + 16))), (0, .int (iI (262143)))]) hx hb dJ17_numberOfTrailingZeros_26 hl (k := 0) rfl (by decide) rfl (fun ls hl => ?_)
  refine lv_iload_n hx hb dJ17_numberOfTrailingZeros_29 rfl (lv_at hl 1 rfl) ?_
  refine h_bipush hx hb dJ17_numberOfTrailingZeros_30 (by decide) ?_
  refine lv_iushr (v := iI 3) hx hb dJ17_numberOfTrailingZeros_32 (by decide +kernel) ?_
  refine lv_istore_n (lv' := [(0, .int (iI (3))), (1, .int (iI (1 + 16)))]) hx hb dJ17_numberOfTrailingZeros_33 rfl hl (by decide) rfl (fun ls hl => ?_)
  refine lv_iload_n hx hb dJ17_numberOfTrailingZeros_34 rfl (lv_at hl 0 rfl) ?_
  refine h_sipush hx hb dJ17_numberOfTrailingZeros_35 (by decide) ?_
  refine h_icmp_le hx hb 49 dJ17_numberOfTrailingZeros_38 (by decide) (by decide) (by decide) (fun _ => ?_) (fun z_ => absurd z_ (by decide))
  refine lv_iload_n hx hb dJ17_numberOfTrailingZeros_49 rfl (lv_at hl 0 rfl) ?_
  refine h_bipush hx hb dJ17_numberOfTrailingZeros_50 (by decide) ?_
  refine h_icmp_le hx hb 62 dJ17_numberOfTrailingZeros_52 (by decide) (by decide) (by decide) (fun _ => ?_) (fun z_ => absurd z_ (by decide))
  refine lv_iload_n hx hb dJ17_numberOfTrailingZeros_62 rfl (lv_at hl 0 rfl) ?_
  refine h_iconst hx hb dJ17_numberOfTrailingZeros_63 ?_
  refine h_icmp_le hx hb 74 dJ17_numberOfTrailingZeros_64 (by decide) (by decide) (by decide) (fun _ => ?_) (fun z_ => absurd z_ (by decide))
  refine lv_iload_n hx hb dJ17_numberOfTrailingZeros_74 rfl (lv_at hl 1 rfl) ?_
  refine lv_iload_n hx hb dJ17_numberOfTrailingZeros_75 rfl (lv_at hl 0 rfl) ?_
  refine h_iconst hx hb dJ17_numberOfTrailingZeros_76 ?_
  refine lv_iushr (v := iI 1) hx hb dJ17_numberOfTrailingZeros_77 (by decide +kernel) ?_
  refine h_iadd hx hb dJ17_numberOfTrailingZeros_78 ?_
  exact h_ireturn hx hb hlk hret hR hL rfl ⟨by decide, rfl⟩ (by omega) (by omega) rfl rfl dJ17_numberOfTrailingZeros_79

set_option maxHeartbeats 4000000 in
set_option maxRecDepth 100000 in
/-- Integer.numberOfTrailingZeros -/
theorem in_ntz19 (l : Launch) (G : Gl) (w : Wd) (v : Nat) (hl0 : LowB v 19) (hv : v < 4294967296) : HM l yJ17_numberOfTrailingZeros cJ17_numberOfTrailingZeros 2 (some .int) 1 0 0 G [.int (iI ((v : Int)))] w (QI G (fun z_ w_ => z_ = 19 ∧ w_ = w)) := by
  refine HM.mk (by decide +kernel) (Nat.le_of_ble_eq_true rfl) ?_
  intro p9 e9 s9 m9 a9 b9 meth9 c9 ls X hret hlk hnm hl H hR
  have hx := X.1.1
  have hb := X.1.2.1
  have hl : lv_has ls 2 [(0, .int (iI ((v : Int))))] := hl
  have hL : LK G [] := fun q h => absurd h List.not_mem_nil
  generalize ([] : List Loc) = locs at hL ⊢
  refine lv_iload_n hx hb dJ17_numberOfTrailingZeros_0 rfl (lv_at hl 0 rfl) ?_
  refine h_iconst hx hb dJ17_numberOfTrailingZeros_1 ?_
  refine lv_ixor hx hb dJ17_numberOfTrailingZeros_2 ?_
  refine lv_iload_n hx hb dJ17_numberOfTrailingZeros_3 rfl (lv_at hl 0 rfl) ?_
  refine h_iconst hx hb dJ17_numberOfTrailingZeros_4 ?_
  refine h_isub hx hb dJ17_numberOfTrailingZeros_5 ?_
  refine lv_iand hx hb dJ17_numberOfTrailingZeros_6 ?_
  refine W.eq (g2 := F0 m9 7 ls [.int (iI 524287)]) (by have e_ := iI_ntz hl0 hv (by decide); rw [e_] <;> rfl) ?_
  refine lv_istore_n (lv' := [(0, .int (iI (524287)))]) hx hb dJ17_numberOfTrailingZeros_7 rfl hl (by decide) rfl (fun ls hl => ?_)
  refine lv_iload_n hx hb dJ17_numberOfTrailingZeros_8 rfl (lv_at hl 0 rfl) ?_
  refine h_if_gt hx hb 17 dJ17_numberOfTrailingZeros_9 (by decide) (by decide) (fun _ => ?_) (fun z_ => absurd z_ (by decide))
  refine h_iconst hx hb dJ17_numberOfTrailingZeros_17 ?_
  refine lv_istore_n (lv' := [(1, .int (iI (1))), (0, .int (iI (524287)))]) hx hb dJ17_numberOfTrailingZeros_18 rfl hl (by decide) rfl (fun ls hl => ?_)
  refine lv_iload_n hx hb dJ17_numberOfTrailingZeros_19 rfl (lv_at hl 1 rfl) ?_
  refine lv_ldcw (v := iI (65536)) hx hb X.1.2.2.2.1 (X.1.2.2.2.2 _ q1049) dJ17_numberOfTrailingZeros_20 ?_
  refine h_icmp_le hx hb 34 dJ17_numberOfTrailingZeros_23 (by decide) (by decide) (by decide) (fun z_ => absurd z_ (by decide)) (fun _ => ?_)
  refine h_iinc (lv' := [(1, .int (iI (1 + 16))), (0, .int (iI (524287)))]) hx hb dJ17_numberOfTrailingZeros_26 hl (k := 0) rfl (by decide) rfl (fun ls hl => ?_)
  refine lv_iload_n hx hb dJ17_numberOfTrailingZeros_29 rfl (lv_at hl 1 rfl) ?_
  refine h_bipush hx hb dJ17_numberOfTrailingZeros_30 (by decide) ?_
  refine lv_iushr (v := iI 7) hx hb dJ17_numberOfTrailingZeros_32 (by decide +kernel) ?_
  refine lv_istore_n (lv' := [(0, .int (iI (7))), (1, .int (iI (1 + 16)))]) hx hb dJ17_numberOfTrailingZeros_33 rfl hl (by decide) rfl (fun ls hl => ?_)
  refine lv_iload_n hx hb dJ17_numberOfTrailingZeros_34 rfl (lv_at hl 0 rfl) ?_
  refine h_sipush hx hb dJ17_numberOfTrailingZeros_35 (by decide) ?_
  refine h_icmp_le hx hb 49 dJ17_numberOfTrailingZeros_38 (by decide) (by decide) (by decide) (fun _ => ?_) (fun z_ => absurd z_ (by decide))
  refine lv_iload_n hx hb dJ17_numberOfTrailingZeros_49 rfl (lv_at hl 0 rfl) ?_
  refine h_bipush hx hb dJ17_numberOfTrailingZeros_50 (by decide) ?_
  refine h_icmp_le hx hb 62 dJ17_numberOfTrailingZeros_52 (by decide) (by decide) (by decide) (fun _ => ?_) (fun z_ => absurd z_ (by decide))
  refine lv_iload_n hx hb dJ17_numberOfTrailingZeros_62 rfl (lv_at hl 0 rfl) ?_
  refine h_iconst hx hb dJ17_numberOfTrailingZeros_63 ?_
  refine h_icmp_le hx hb 74 dJ17_numberOfTrailingZeros_64 (by decide) (by decide) (by decide) (fun z_ => absurd z_ (by decide)) (fun _ => ?_)
  refine h_iinc (lv' := [(1, .int (iI (1 + 16 + 2))), (0, .int (iI (7)))]) hx hb dJ17_numberOfTrailingZeros_67 hl (k := 1) rfl (by decide) rfl (fun ls hl => ?_)
  refine lv_iload_n hx hb dJ17_numberOfTrailingZeros_70 rfl (lv_at hl 1 rfl) ?_
  refine h_iconst hx hb dJ17_numberOfTrailingZeros_71 ?_
  refine lv_iushr (v := iI 1) hx hb dJ17_numberOfTrailingZeros_72 (by decide +kernel) ?_
  refine lv_istore_n (lv' := [(0, .int (iI (1))), (1, .int (iI (1 + 16 + 2)))]) hx hb dJ17_numberOfTrailingZeros_73 rfl hl (by decide) rfl (fun ls hl => ?_)
  refine lv_iload_n hx hb dJ17_numberOfTrailingZeros_74 rfl (lv_at hl 1 rfl) ?_
  refine lv_iload_n hx hb dJ17_numberOfTrailingZeros_75 rfl (lv_at hl 0 rfl) ?_
  refine h_iconst hx hb dJ17_numberOfTrailingZeros_76 ?_
  refine lv_iushr (v := iI 0) hx hb dJ17_numberOfTrailingZeros_77 (by decide +kernel) ?_
  refine h_iadd hx hb dJ17_numberOfTrailingZeros_78 ?_
  exact h_ireturn hx hb hlk hret hR hL rfl ⟨by decide, rfl⟩ (by omega) (by omega) rfl rfl dJ17_numberOfTrailingZeros_79

set_option maxHeartbeats 4000000 in
set_option maxRecDepth 100000 in
/-- Integer.numberOfTrailingZeros -/
theorem in_ntz20 (l : Launch) (G : Gl) (w : Wd) (v : Nat) (hl0 : LowB v 20) (hv : v < 4294967296) : HM l yJ17_numberOfTrailingZeros cJ17_numberOfTrailingZeros 2 (some .int) 1 0 0 G [.int (iI ((v : Int)))] w (QI G (fun z_ w_ => z_ = 20 ∧ w_ = w)) := by
  refine HM.mk (by decide +kernel) (Nat.le_of_ble_eq_true rfl) ?_
  intro p9 e9 s9 m9 a9 b9 meth9 c9 ls X hret hlk hnm hl H hR
  have hx := X.1.1
  have hb := X.1.2.1
  have hl : lv_has ls 2 [(0, .int (iI ((v : Int))))] := hl
  have hL : LK G [] := fun q h => absurd h List.not_mem_nil
  generalize ([] : List Loc) = locs at hL ⊢
  refine lv_iload_n hx hb dJ17_numberOfTrailingZeros_0 rfl (lv_at hl 0 rfl) ?_
  refine h_iconst hx hb dJ17_numberOfTrailingZeros_1 ?_
  refine lv_ixor hx hb dJ17_numberOfTrailingZeros_2 ?_
  refine lv_iload_n hx hb dJ17_numberOfTrailingZeros_3 rfl (lv_at hl 0 rfl) ?_
  refine h_iconst hx hb dJ17_numberOfTrailingZeros_4 ?_
  refine h_isub hx hb dJ17_numberOfTrailingZeros_5 ?_
  refine lv_iand hx hb dJ17_numberOfTrailingZeros_6 ?_
  refine W.eq (g2 := F0 m9 7 ls [.int (iI 1048575)]) (by have e_ := iI_ntz hl0 hv (by decide); rw [e_] <;> rfl) ?_
  refine lv_istore_n (lv' := [(0, .int (iI (1048575)))]) hx hb dJ17_numberOfTrailingZeros_7 rfl hl (by decide) rfl (fun ls hl => ?_)
  refine lv_iload_n hx hb dJ17_numberOfTrailingZeros_8 rfl (lv_at hl 0 rfl) ?_
  refine h_if_gt hx hb 17 dJ17_numberOfTrailingZeros_9 (by decide) (by decide) (fun _ => ?_) (fun z_ => absurd z_ (by decide))
  refine h_iconst hx hb dJ17_numberOfTrailingZeros_17 ?_
  refine lv_istore_n (lv' := [(1, .int (iI (1))), (0, .int (iI (1048575)))]) hx hb dJ17_numberOfTrailingZeros_18 rfl hl (by decide) rfl (fun ls hl => ?_)
  refine lv_iload_n hx hb dJ17_numberOfTrailingZeros_19 rfl (lv_at hl 1 rfl) ?_
  refine lv_ldcw (v := iI (65536)) hx hb X.1.2.2.2.1 (X.1.2.2.2.2 _ q1049) dJ17_numberOfTrailingZeros_20 ?_
  refine h_icmp_le hx hb 34 dJ17_numberOfTrailingZeros_23 (by decide) (by decide) (by decide) (fun z_ => absurd z_ (by decide)) (fun _ => ?_)
  refine h_iinc (lv' := [(1, .int (iI (1 + 16))), (0, .int (iI (1048575)))]) hx hb dJ17_numberOfTrailingZeros_26 hl (k := 0) rfl (by decide) rfl (fun ls hl => ?_)
  refine lv_iload_n hx hb dJ17_numberOfTrailingZeros_29 rfl (lv_at hl 1 rfl) ?_
  refine h_bipush hx hb dJ17_numberOfTrailingZeros_30 (by decide) ?_
  refine lv_iushr (v := iI 15) hx hb dJ17_numberOfTrailingZeros_32 (by decide +kernel) ?_
  refine lv_istore_n (lv' := [(0, .int (iI (15))), (1, .int (iI (1 + 16)))]) hx hb dJ17_numberOfTrailingZeros_33 rfl hl (by decide) rfl (fun ls hl => ?_)
  refine lv_iload_n hx hb dJ17_numberOfTrailingZeros_34 rfl (lv_at hl 0 rfl) ?_
  refine h_sipush hx hb dJ17_numberOfTrailingZeros_35 (by decide) ?_
  refine h_icmp_le hx hb 49 dJ17_numberOfTrailingZeros_38 (by decide) (by decide) (by decide) (fun _ => ?_) (fun z_ => absurd z_ (by decide))
  refine lv_iload_n hx hb dJ17_numberOfTrailingZeros_49 rfl (lv_at hl 0 rfl) ?_
  refine h_bipush hx hb dJ17_numberOfTrailingZeros_50 (by decide) ?_
  refine h_icmp_le hx hb 62 dJ17_numberOfTrailingZeros_52 (by decide) (by decide) (by decide) (fun _ => ?_) (fun z_ => absurd z_ (by decide))
  refine lv_iload_n hx hb dJ17_numberOfTrailingZeros_62 rfl (lv_at hl 0 rfl) ?_
  refine h_iconst hx hb dJ17_numberOfTrailingZeros_63 ?_
  refine h_icmp_le hx hb 74 dJ17_numberOfTrailingZeros_64 (by decide) (by decide) (by decide) (fun z_ => absurd z_ (by decide)) (fun _ => ?_)
  refine h_iinc (lv' := [(1, .int (iI (1 + 16 + 2))), (0, .int (iI (15)))]) hx hb dJ17_numberOfTrailingZeros_67 hl (k := 1) rfl (by decide) rfl (fun ls hl => ?_)
  refine lv_iload_n hx hb dJ17_numberOfTrailingZeros_70 rfl (lv_at hl 1 rfl) ?_
  refine h_iconst hx hb dJ17_numberOfTrailingZeros_71 ?_
  refine lv_iushr (v := iI 3) hx hb dJ17_numberOfTrailingZeros_72 (by decide +kernel) ?_
  refine lv_istore_n (lv' := [(0, .int (iI (3))), (1, .int (iI (1 + 16 + 2)))]) hx hb dJ17_numberOfTrailingZeros_73 rfl hl (by decide) rfl (fun ls hl => ?_)
  refine lv_iload_n hx hb dJ17_numberOfTrailingZeros_74 rfl (lv_at hl 1 rfl) ?_
  refine lv_iload_n hx hb dJ17_numberOfTrailingZeros_75 rfl (lv_at hl 0 rfl) ?_
  refine h_iconst hx hb dJ17_numberOfTrailingZeros_76 ?_
  refine lv_iushr (v := iI 1) hx hb dJ17_numberOfTrailingZeros_77 (by decide +kernel) ?_
  refine h_iadd hx hb dJ17_numberOfTrailingZeros_78 ?_
  exact h_ireturn hx hb hlk hret hR hL rfl ⟨by decide, rfl⟩ (by omega) (by omega) rfl rfl dJ17_numberOfTrailingZeros_79

set_option maxHeartbeats 4000000 in
set_option maxRecDepth 100000 in
/-- Integer.numberOfTrailingZeros -/
theorem in_ntz21 (l : Launch) (G : Gl) (w : Wd) (v : Nat) (hl0 : LowB v 21) (hv : v < 4294967296) : HM l yJ17_numberOfTrailingZeros cJ17_numberOfTrailingZeros 2 (some .int) 1 0 0 G [.int (iI ((v : Int)))] w (QI G (fun z_ w_ => z_ = 21 ∧ w_ = w)) := by
  refine HM.mk (by decide +kernel) (Nat.le_of_ble_eq_true rfl) ?_
  intro p9 e9 s9 m9 a9 b9 meth9 c9 ls X hret hlk hnm hl H hR
  have hx := X.1.1
  have hb := X.1.2.1
  have hl : lv_has ls 2 [(0, .int (iI ((v : Int))))] := hl
  have hL : LK G [] := fun q h => absurd h List.not_mem_nil
  generalize ([] : List Loc) = locs at hL ⊢
  refine lv_iload_n hx hb dJ17_numberOfTrailingZeros_0 rfl (lv_at hl 0 rfl) ?_
  refine h_iconst hx hb dJ17_numberOfTrailingZeros_1 ?_
  refine lv_ixor hx hb dJ17_numberOfTrailingZeros_2 ?_
  refine lv_iload_n hx hb dJ17_numberOfTrailingZeros_3 rfl (lv_at hl 0 rfl) ?_
  refine h_iconst hx hb dJ17_numberOfTrailingZeros_4 ?_
  refine h_isub hx hb dJ17_numberOfTrailingZeros_5 ?_
  refine lv_iand hx hb dJ17_numberOfTrailingZeros_6 ?_
  refine W.eq (g2 := F0 m9 7 ls [.int (iI 2097151)]) (by have e_ := iI_ntz hl0 hv (by decide); rw [e_] <;> rfl) ?_
  refine lv_istore_n (lv' := [(0, .int (iI (2097151)))]) hx hb dJ17_numberOfTrailingZeros_7 rfl hl (by decide) rfl (fun ls hl => ?_)
  refine lv_iload_n hx hb dJ17_numberOfTrailingZeros_8 rfl (lv_at hl 0 rfl) ?_
  refine h_if_gt hx hb 17 dJ17_numberOfTrailingZeros_9 (by decide) (by decide) (fun _ => ?_) (fun z_ => absurd z_ (by decide))
  refine h_iconst hx hb dJ17_numberOfTrailingZeros_17 ?_
  refine lv_istore_n (lv' := [(1, .int (iI (1))), (0, .int (iI (2097151)))]) hx hb dJ17_numberOfTrailingZeros_18 rfl hl (by decide) rfl (fun ls hl => ?_)
  refine lv_iload_n hx hb dJ17_numberOfTrailingZeros_19 rfl (lv_at hl 1 rfl) ?_
  refine lv_ldcw (v := iI (65536)) hx hb X.1.2.2.2.1 (X.1.2.2.2.2 _ q1049) dJ17_numberOfTrailingZeros_20 ?_
  refine h_icmp_le hx hb 34 dJ17_numberOfTrailingZeros_23 (by decide) (by decide) (by decide) (fun z_ => absurd z_ (by decide)) (fun _ => ?_)
  refine h_iinc (lv' := [(1, .int (iI (1 + 16))), (0, .int (iI (2097151)))]) hx hb dJ17_numberOfTrailingZeros_26 hl (k := 0) rfl (by decide) rfl (fun ls hl => ?_)
  refine lv_iload_n hx hb dJ17_numberOfTrailingZeros_29 rfl (lv_at hl 1 rfl) ?_
  refine h_bipush hx hb dJ17_numberOfTrailingZeros_30 (by decide) ?_
  refine lv_iushr (v := iI 31) hx hb dJ17_numberOfTrailingZeros_32 (by decide +kernel) ?_
  refine lv_istore_n (lv' := [(0, .int (iI (31))), (1, .int (iI (1 + 16)))]) hx hb dJ17_numberOfTrailingZeros_33 rfl hl (by decide) rfl (fun ls hl => ?_)
  refine lv_iload_n hx hb dJ17_numberOfTrailingZeros_34 rfl (lv_at hl 0 rfl) ?_
  refine h_sipush hx hb dJ17_numberOfTrailingZeros_35 (by decide) ?_
  refine h_icmp_le hx hb 49 dJ17_numberOfTrailingZeros_38 (by decide) (by decide) (by decide) (fun _ => ?_) (fun z_ => absurd z_ (by decide))
  refine lv_iload_n hx hb dJ17_numberOfTrailingZeros_49 rfl (lv_at hl 0 rfl) ?_
  refine h_bipush hx hb dJ17_numberOfTrailingZeros_50 (by decide) ?_
  refine h_icmp_le hx hb 62 dJ17_numberOfTrailingZeros_52 (by decide) (by decide) (by decide) (fun z_ => absurd z_ (by decide)) (fun _ => ?_)
  refine h_iinc (lv' := [(1, .int (iI (1 + 16 + 4))), (0, .int (iI (31)))]) hx hb dJ17_numberOfTrailingZeros_55 hl (k := 1) rfl (by decide) rfl (fun ls hl => ?_)
  refine lv_iload_n hx hb dJ17_numberOfTrailingZeros_58 rfl (lv_at hl 1 rfl) ?_
  refine h_iconst hx hb dJ17_numberOfTrailingZeros_59 ?_
  refine lv_iushr (v := iI 1) hx hb dJ17_numberOfTrailingZeros_60 (by decide +kernel) ?_
  refine lv_istore_n (lv' := [(0, .int (iI (1))), (1, .int (iI (1 + 16 + 4)))]) hx hb dJ17_numberOfTrailingZeros_61 rfl hl (by decide) rfl (fun ls hl => ?_)
  refine lv_iload_n hx hb dJ17_numberOfTrailingZeros_62 rfl (lv_at hl 0 rfl) ?_
  refine h_iconst hx hb dJ17_numberOfTrailingZeros_63 ?_
  refine h_icmp_le hx hb 74 dJ17_numberOfTrailingZeros_64 (by decide) (by decide) (by decide) (fun _ => ?_) (fun z_ => absurd z_ (by decide))
  refine lv_iload_n hx hb dJ17_numberOfTrailingZeros_74 rfl (lv_at hl 1 rfl) ?_
  refine lv_iload_n hx hb dJ17_numberOfTrailingZeros_75 rfl (lv_at hl 0 rfl) ?_
  refine h_iconst hx hb dJ17_numberOfTrailingZeros_76 ?_
  refine lv_iushr (v := iI 0) hx hb dJ17_numberOfTrailingZeros_77 (by decide +kernel) ?_
  refine h_iadd hx hb dJ17_numberOfTrailingZeros_78 ?_
  exact h_ireturn hx hb hlk hret hR hL rfl ⟨by decide, rfl⟩ (by omega) (by omega) rfl rfl dJ17_numberOfTrailingZeros_79

set_option maxHeartbeats 4000000 in
set_option maxRecDepth 100000 in
/-- Integer.numberOfTrailingZeros -/
theorem in_ntz22 (l : Launch) (G : Gl) (w : Wd) (v : Nat) (hl0 : LowB v 22) (hv : v < 4294967296) : HM l yJ17_numberOfTrailingZeros cJ17_numberOfTrailingZeros 2 (some .int) 1 0 0 G [.int (iI ((v : Int)))] w (QI G (fun z_ w_ => z_ = 22 ∧ w_ = w)) := by
  refine HM.mk (by decide +kernel) (Nat.le_of_ble_eq_true rfl) ?_
  intro p9 e9 s9 m9 a9 b9 meth9 c9 ls X hret hlk hnm hl H hR
  have hx := X.1.1
  have hb := X.1.2.1
  have hl : lv_has ls 2 [(0, .int (iI ((v : Int))))] := hl
  have hL : LK G [] := fun q h => absurd h List.not_mem_nil
  generalize ([] : List Loc) = locs at hL ⊢
  refine lv_iload_n hx hb dJ17_numberOfTrailingZeros_0 rfl (lv_at hl 0 rfl) ?_
  refine h_iconst hx hb dJ17_numberOfTrailingZeros_1 ?_
  refine lv_ixor hx hb dJ17_numberOfTrailingZeros_2 ?_
  refine lv_iload_n hx hb dJ17_numberOfTrailingZeros_3 rfl (lv_at hl 0 rfl) ?_
  refine h_iconst hx hb dJ17_numberOfTrailingZeros_4 ?_
  refine h_isub hx hb dJ17_numberOfTrailingZeros_5 ?_
  refine lv_iand hx hb dJ17_numberOfTrailingZeros_6 ?_
  refine W.eq (g2 := F0 m9 7 ls [.int (iI 4194303)]) (by have e_ := iI_ntz hl0 hv (by decide); rw [e_] <;> rfl) ?_
  refine lv_istore_n (lv' := [(0, .int (iI (4194303)))]) hx hb dJ17_numberOfTrailingZeros_7 rfl hl (by decide) rfl (fun ls hl => ?_)
  refine lv_iload_n hx hb dJ17_numberOfTrailingZeros_8 rfl (lv_at hl 0 rfl) ?_
  refine h_if_gt hx hb 17 dJ17_numberOfTrailingZeros_9 (by decide) (by decide) (fun _ => ?_) (fun z_ => absurd z_ (by decide))
  refine h_iconst hx hb dJ17_numberOfTrailingZeros_17 ?_
  refine lv_istore_n (lv' := [(1, .int (iI (1))), (0, .int (iI (4194303)))]) hx hb dJ17_numberOfTrailingZeros_18 rfl hl (by decide) rfl (fun ls hl => ?_)
  refine lv_iload_n hx hb dJ17_numberOfTrailingZeros_19 rfl (lv_at hl 1 rfl) ?_
  refine lv_ldcw (v := iI (65536)) hx hb X.1.2.2.2.1 (X.1.2.2.2.2 _ q1049) dJ17_numberOfTrailingZeros_20 ?_
  refine h_icmp_le hx hb 34 dJ17_numberOfTrailingZeros_23 (by decide) (by decide) (by decide) (fun z_ => absurd z_ (by decide)) (fun _ => ?_)
  refine h_iinc (lv' := [(1, .int (iI (1 + 16))), (0, .int (iI (4194303)))]) hx hb dJ17_numberOfTrailingZeros_26 hl (k := 0) rfl (by decide) rfl (fun ls hl => ?_)
  refine lv_iload_n hx hb dJ17_numberOfTrailingZeros_29 rfl (lv_at hl 1 rfl) ?_
  refine h_bipush hx hb dJ17_numberOfTrailingZeros_30 (by decide) ?_
  refine lv_iushr (v := iI 63) hx hb dJ17_numberOfTrailingZeros_32 (by decide +kernel) ?_
  refine lv_istore_n (lv' := [(0, .int (iI (63))), (1, .int (iI (1 + 16)))]) hx hb dJ17_numberOfTrailingZeros_33 rfl hl (by decide) rfl (fun ls hl => ?_)
  refine lv_iload_n hx hb dJ17_numberOfTrailingZeros_34 rfl (lv_at hl 0 rfl) ?_
  refine h_sipush hx hb dJ17_numberOfTrailingZeros_35 (by decide) ?_
  refine h_icmp_le hx hb 49 dJ17_numberOfTrailingZeros_38 (by decide) (by decide) (by decide) (fun _ => ?_) (fun z_ => absurd z_ (by decide))
  refine lv_iload_n hx hb dJ17_numberOfTrailingZeros_49 rfl (lv_at hl 0 rfl) ?_
  refine h_bipush hx hb dJ17_numberOfTrailingZeros_50 (by decide) ?_
  refine h_icmp_le hx hb 62 dJ17_numberOfTrailingZeros_52 (by decide) (by decide) (by decide) (fun z_ => absurd z_ (by decide)) (fun _ => ?_)
  refine h_iinc (lv' := [(1, .int (iI (1 + 16 + 4))), (0, .int (iI (63)))]) hx hb dJ17_numberOfTrailingZeros_55 hl (k := 1) rfl (by decide) rfl (fun ls hl => ?_)
  refine lv_iload_n hx hb dJ17_numberOfTrailingZeros_58 rfl (lv_at hl 1 rfl) ?_
  refine h_iconst hx hb dJ17_numberOfTrailingZeros_59 ?_
  refine lv_iushr (v := iI 3) hx hb dJ17_numberOfTrailingZeros_60 (by decide +kernel) ?_
  refine lv_istore_n (lv' := [(0, .int (iI (3))), (1, .int (iI (1 + 16 + 4)))]) hx hb dJ17_numberOfTrailingZeros_61 rfl hl (by decide) rfl (fun ls hl => ?_)
  refine lv_iload_n hx hb dJ17_numberOfTrailingZeros_62 rfl (lv_at hl 0 rfl) ?_
  refine h_iconst hx hb dJ17_numberOfTrailingZeros_63 ?_
  refine h_icmp_le hx hb 74 dJ17_numberOfTrailingZeros_64 (by decide) (by decide) (by decide) (fun _ => ?_) (fun z_ => absurd z_ (by decide))
  refine lv_iload_n hx hb dJ17_numberOfTrailingZeros_74 rfl (lv_at hl 1 rfl) ?_
  refine lv_iload_n hx hb dJ17_numberOfTrailingZeros_75 rfl (lv_at hl 0 rfl) ?_
  refine h_iconst hx hb dJ17_numberOfTrailingZeros_76 ?_
  refine lv_iushr (v := iI 1) hx hb dJ17_numberOfTrailingZeros_77 (by decide +kernel) ?_
  refine h_iadd hx hb dJ17_numberOfTrailingZeros_78 ?_
  exact h_ireturn hx hb hlk hret hR hL rfl ⟨by decide, rfl⟩ (by omega) (by omega) rfl rfl dJ17_numberOfTrailingZeros_79

set_option maxHeartbeats 4000000 in
set_option maxRecDepth 100000 in
/-- Integer.numberOfTrailingZeros -/
theorem in_ntz23 (l : Launch) (G : Gl) (w : Wd) (v : Nat) (hl0 : LowB v 23) (hv : v < 4294967296) : HM l yJ17_numberOfTrailingZeros cJ17_numberOfTrailingZeros 2 (some .int) 1 0 0 G [.int (iI ((v : Int)))] w (QI G (fun z_ w_ => z_ = 23 ∧ w_ = w)) := by
  refine HM.mk (by decide +kernel) (Nat.le_of_ble_eq_true rfl) ?_
  intro p9 e9 s9 m9 a9 b9 meth9 c9 ls X hret hlk hnm hl H hR
  have hx := X.1.1
  have hb := X.1.2.1
  have hl : lv_has ls 2 [(0, .int (iI ((v : Int))))] := hl
  have hL : LK G [] := fun q h => absurd h List.not_mem_nil
  generalize ([] : List Loc) = locs at hL ⊢
  refine lv_iload_n hx hb dJ17_numberOfTrailingZeros_0 rfl (lv_at hl 0 rfl) ?_
  refine h_iconst hx hb dJ17_numberOfTrailingZeros_1 ?_
  refine lv_ixor hx hb dJ17_numberOfTrailingZeros_2 ?_
  refine lv_iload_n hx hb dJ17_numberOfTrailingZeros_3 rfl (lv_at hl 0 rfl) ?_
  refine h_iconst hx hb dJ17_numberOfTrailingZeros_4 ?_
  refine h_isub hx hb dJ17_numberOfTrailingZeros_5 ?_
  refine lv_iand hx hb dJ17_numberOfTrailingZeros_6 ?_
  refine W.eq (g2 := F0 m9 7 ls [.int (iI 8388607)]) (by have e_ := iI_ntz hl0 hv (by decide); rw [e_] <;> rfl) ?_
  refine lv_istore_n (lv' := [(0, .int (iI (8388607)))]) hx hb dJ17_numberOfTrailingZeros_7 rfl hl (by decide) rfl (fun ls hl => ?_)
  refine lv_iload_n hx hb dJ17_numberOfTrailingZeros_8 rfl (lv_at hl 0 rfl) ?_
  refine h_if_gt hx hb 17 dJ17_numberOfTrailingZeros_9 (by decide) (by decide) (fun _ => ?_) (fun z_ => absurd z_ (by decide))
  refine h_iconst hx hb dJ17_numberOfTrailingZeros_17 ?_
  refine lv_istore_n (lv' := [(1, .int (iI (1))), (0, .int (iI (8388607)))]) hx hb dJ17_numberOfTrailingZeros_18 rfl hl (by decide) rfl (fun ls hl => ?_)
  refine lv_iload_n hx hb dJ17_numberOfTrailingZeros_19 rfl (lv_at hl 1 rfl) ?_
  refine lv_ldcw (v := iI (65536)) hx hb X.1.2.2.2.1 (X.1.2.2.2.2 _ q1049) dJ17_numberOfTrailingZeros_20 ?_
  refine h_icmp_le hx hb 34 dJ17_numberOfTrailingZeros_23 (by decide) (by decide) (by decide) (fun z_ => absurd z_ (by decide)) (fun _ => ?_)
  refine h_iinc (lv' := [(1, .int (iI (1 + 16))), (0, .int (iI (8388607)))]) hx hb dJ17_numberOfTrailingZeros_26 hl (k := 0) rfl (by decide) rfl (fun ls hl => ?_)
  refine lv_iload_n hx hb dJ17_numberOfTrailingZeros_29 rfl (lv_at hl 1 rfl) ?_
  refine h_bipush hx hb dJ17_numberOfTrailingZeros_30 (by decide) ?_
  refine lv_iushr (v := iI 127) hx hb dJ17_numberOfTrailingZeros_32 (by decide +kernel) ?_
  refine lv_istore_n (lv' := [(0, .int (iI (127))), (1, .int (iI (1 + 16)))]) hx hb dJ17_numberOfTrailingZeros_33 rfl hl (by decide) rfl (fun ls hl => ?_)
  refine lv_iload_n hx hb dJ17_numberOfTrailingZeros_34 rfl (lv_at hl 0 rfl) ?_
  refine h_sipush hx hb dJ17_numberOfTrailingZeros_35 (by decide) ?_
  refine h_icmp_le hx hb 49 dJ17_numberOfTrailingZeros_38 (by decide) (by decide) (by decide) (fun _ => ?_) (fun z_ => absurd z_ (by decide))
  refine lv_iload_n hx hb dJ17_numberOfTrailingZeros_49 rfl (lv_at hl 0 rfl) ?_
  refine h_bipush hx hb dJ17_numberOfTrailingZeros_50 (by decide) ?_
  refine h_icmp_le hx hb 62 dJ17_numberOfTrailingZeros_52 (by decide) (by decide) (by decide) (fun z_ => absurd z_ (by decide)) (fun _ => ?_)
  refine h_iinc (lv' := [(1, .int (iI (1 + 16 + 4))), (0, .int (iI (127)))]) hx hb dJ17_numberOfTrailingZeros_55 hl (k := 1) rfl (by decide) rfl (fun ls hl => ?_)
  refine lv_iload_n hx hb dJ17_numberOfTrailingZeros_58 rfl (lv_at hl 1 rfl) ?_
  refine h_iconst hx hb dJ17_numberOfTrailingZeros_59 ?_
  refine lv_iushr (v := iI 7) hx hb dJ17_numberOfTrailingZeros_60 (by decide +kernel) ?_
  refine lv_istore_n (lv' := [(0, .int (iI (7))), (1, .int (iI (1 + 16 + 4)))]) hx hb dJ17_numberOfTrailingZeros_61 rfl hl (by decide) rfl (fun ls hl => ?_)
  refine lv_iload_n hx hb dJ17_numberOfTrailingZeros_62 rfl (lv_at hl 0 rfl) ?_
  refine h_iconst hx hb dJ17_numberOfTrailingZeros_63 ?_
  refine h_icmp_le hx hb 74 dJ17_numberOfTrailingZeros_64 (by decide) (by decide) (by decide) (fun z_ => absurd z_ (by decide)) (fun _ => ?_)
  refine h_iinc (lv' := [(1, .int (iI (1 + 16 + 4 + 2))), (0, .int (iI (7)))]) hx hb dJ17_numberOfTrailingZeros_67 hl (k := 1) rfl (by decide) rfl (fun ls hl => ?_)
  refine lv_iload_n hx hb dJ17_numberOfTrailingZeros_70 rfl (lv_at hl 1 rfl) ?_
  refine h_iconst hx hb dJ17_numberOfTrailingZeros_71 ?_
  refine lv_iushr (v := iI 1) hx hb dJ17_numberOfTrailingZeros_72 (by decide +kernel) ?_
  refine lv_istore_n (lv' := [(0, .int (iI (1))), (1, .int (iI (1 + 16 + 4 + 2)))]) hx hb dJ17_numberOfTrailingZeros_73 rfl hl (by decide) rfl (fun ls hl => ?_)
  refine lv_iload_n hx hb dJ17_numberOfTrailingZeros_74 rfl (lv_at hl 1 rfl) ?_
  refine lv_iload_n hx hb dJ17_numberOfTrailingZeros_75 rfl (lv_at hl 0 rfl) ?_
  refine h_iconst hx hb dJ17_numberOfTrailingZeros_76 ?_
  refine lv_iushr (v := iI 0) hx hb dJ17_numberOfTrailingZeros_77 (by decide +kernel) ?_
  refine h_iadd hx hb dJ17_numberOfTrailingZeros_78 ?_
  exact h_ireturn hx hb hlk hret hR hL rfl ⟨by decide, rfl⟩ (by omega) (by omega) rfl rfl dJ17_numberOfTrailingZeros_79

set_option maxHeartbeats 4000000 in
set_option maxRecDepth 100000 in
/-- Integer.numberOfTrailingZeros -/
theorem in_ntz24 (l : Launch) (G : Gl) (w : Wd) (v : Nat) (hl0 : LowB v 24) (hv : v < 4294967296) : HM l yJ17_numberOfTrailingZeros cJ17_numberOfTrailingZeros 2 (some .int) 1 0 0 G [.int (iI ((v : Int)))] w (QI G (fun z_ w_ => z_ = 24 ∧ w_ = w)) := by
  refine HM.mk (by decide +kernel) (Nat.le_of_ble_eq_true rfl) ?_
  intro p9 e9 s9 m9 a9 b9 meth9 c9 ls X hret hlk hnm hl H hR
  have hx := X.1.1
  have hb := X.1.2.1
  have hl : lv_has ls 2 [(0, .int (iI ((v : Int))))] := hl
  have hL : LK G [] := fun q h => absurd h List.not_mem_nil
  generalize ([] : List Loc) = locs at hL ⊢
  refine lv_iload_n hx hb dJ17_numberOfTrailingZeros_0 rfl (lv_at hl 0 rfl) ?_
  refine h_iconst hx hb dJ17_numberOfTrailingZeros_1 ?_
  refine lv_ixor hx hb dJ17_numberOfTrailingZeros_2 ?_
  refine lv_iload_n hx hb dJ17_numberOfTrailingZeros_3 rfl (lv_at hl 0 rfl) ?_
  refine h_iconst hx hb dJ17_numberOfTrailingZeros_4 ?_
  refine h_isub hx hb dJ17_numberOfTrailingZeros_5 ?_
  refine lv_iand hx hb dJ17_numberOfTrailingZeros_6 ?_
  refine W.eq (g2 := F0 m9 7 ls [.int (iI 16777215)]) (by have e_ := iI_ntz hl0 hv (by decide); rw [e_] <;> rfl) ?_
  refine lv_istore_n (lv' := [(0, .int (iI (16777215)))]) hx hb dJ17_numberOfTrailingZeros_7 rfl hl (by decide) rfl (fun ls hl => ?_)
  refine lv_iload_n hx hb dJ17_numberOfTrailingZeros_8 rfl (lv_at hl 0 rfl) ?_
  refine h_if_gt hx hb 17 dJ17_numberOfTrailingZeros_9 (by decide) (by decide) (fun _ => ?_) (fun z_ => absurd z_ (by decide))
  refine h_iconst hx hb dJ17_numberOfTrailingZeros_17 ?_
  refine lv_istore_n (lv' := [(1, .int (iI (1))), (0, .int (iI (16777215)))]) hx hb dJ17_numberOfTrailingZeros_18 rfl hl (by decide) rfl (fun ls hl => ?_)
  refine lv_iload_n hx hb dJ17_numberOfTrailingZeros_19 rfl (lv_at hl 1 rfl) ?_
  refine lv_ldcw (v := iI (65536)) hx hb X.1.2.2.2.1 (X.1.2.2.2.2 _ q1049) dJ17_numberOfTrailingZeros_20 ?_
  refine h_icmp_le hx hb 34 dJ17_numberOfTrailingZeros_23 (by decide) (by decide) (by decide) (fun z_ => absurd z_ (by decide)) (fun _ => ?_)
  refine h_iinc (lv' := [(1, .int (iI (1 + 16))), (0, .int (iI (16777215)))]) hx hb dJ17_numberOfTrailingZeros_26 hl (k := 0) rfl (by decide) rfl (fun ls hl => ?_)
  refine lv_iload_n hx hb dJ17_numberOfTrailingZeros_29 rfl (lv_at hl 1 rfl) ?_
  refine h_bipush hx hb dJ17_numberOfTrailingZeros_30 (by decide) ?_
  refine lv_iushr (v := iI 255) hx hb dJ17_numberOfTrailingZeros_32 (by decide +kernel) ?_
  refine lv_istore_n (lv' := [(0, .int (iI (255))), (1, .int (iI (1 + 16)))]) hx hb dJ17_numberOfTrailingZeros_33 rfl hl (by decide) rfl (fun ls hl => ?_)
  refine lv_iload_n hx hb dJ17_numberOfTrailingZeros_34 rfl (lv_at hl 0 rfl) ?_
  refine h_sipush hx hb dJ17_numberOfTrailingZeros_35 (by decide) ?_
  refine h_icmp_le hx hb 49 dJ17_numberOfTrailingZeros_38 (by decide) (by decide) (by decide) (fun _ => ?_) (fun z_ => absurd z_ (by decide))
  refine lv_iload_n hx hb dJ17_numberOfTrailingZeros_49 rfl (lv_at hl 0 rfl) ?_
  refine h_bipush hx hb dJ17_numberOfTrailingZeros_50 (by decide) ?_
  refine h_icmp_le hx hb 62 dJ17_numberOfTrailingZeros_52 (by decide) (by decide) (by decide) (fun z_ => absurd z_ (by decide)) (fun _ => ?_)
  refine h_iinc (lv' := [(1, .int (iI (1 + 16 + 4))), (0, .int (iI (255)))]) hx hb dJ17_numberOfTrailingZeros_55 hl (k := 1) rfl (by decide) rfl (fun ls hl => ?_)
  refine lv_iload_n hx hb dJ17_numberOfTrailingZeros_58 rfl (lv_at hl 1 rfl) ?_
  refine h_iconst hx hb dJ17_numberOfTrailingZeros_59 ?_
  refine lv_iushr (v := iI 15) hx hb dJ17_numberOfTrailingZeros_60 (by decide +kernel) ?_
  refine lv_istore_n (lv' := [(0, .int (iI (15))), (1, .int (iI (1 + 16 + 4)))]) hx hb dJ17_numberOfTrailingZeros_61 rfl hl (by decide) rfl (fun ls hl => ?_)
  refine lv_iload_n hx hb dJ17_numberOfTrailingZeros_62 rfl (lv_at hl 0 rfl) ?_
  refine h_iconst hx hb dJ17_numberOfTrailingZeros_63 ?_
  refine h_icmp_le hx hb 74 dJ17_numberOfTrailingZeros_64 (by decide) (by decide) (by decide) (fun z_ => absurd z_ (by decide)) (fun _ => ?_)
  refine h_iinc (lv' := [(1, .int (iI (1 + 16 + 4 + 2))), (0, .int (iI (15)))]) hx hb dJ17_numberOfTrailingZeros_67 hl (k := 1) rfl (by decide) rfl (fun ls hl => ?_)
  refine lv_iload_n hx hb dJ17_numberOfTrailingZeros_70 rfl (lv_at hl 1 rfl) ?_
  refine h_iconst hx hb dJ17_numberOfTrailingZeros_71 ?_
  refine lv_iushr (v := iI 3) hx hb dJ17_numberOfTrailingZeros_72 (by decide +kernel) ?_
  refine lv_istore_n (lv' := [(0, .int (iI (3))), (1, .int (iI (1 + 16 + 4 + 2)))]) hx hb dJ17_numberOfTrailingZeros_73 rfl hl (by decide) rfl (fun ls hl => ?_)
  refine lv_iload_n hx hb dJ17_numberOfTrailingZeros_74 rfl (lv_at hl 1 rfl) ?_
  refine lv_iload_n hx hb dJ17_numberOfTrailingZeros_75 rfl (lv_at hl 0 rfl) ?_
  refine h_iconst hx hb dJ17_numberOfTrailingZeros_76 ?_
  refine lv_iushr (v := iI 1) hx hb dJ17_numberOfTrailingZeros_77 (by decide +kernel) ?_
  refine h_iadd hx hb dJ17_numberOfTrailingZeros_78 ?_
  exact h_ireturn hx hb hlk hret hR hL rfl ⟨by decide, rfl⟩ (by omega) (by omega) rfl rfl dJ17_numberOfTrailingZeros_79

set_option maxHeartbeats 4000000 in
set_option maxRecDepth 100000 in
/-- Integer.numberOfTrailingZeros -/
theorem in_ntz25 (l : Launch) (G : Gl) (w : Wd) (v : Nat) (hl0 : LowB v 25) (hv : v < 4294967296) : HM l yJ17_numberOfTrailingZeros cJ17_numberOfTrailingZeros 2 (some .int) 1 0 0 G [.int (iI ((v : Int)))] w (QI G (fun z_ w_ => z_ = 25 ∧ w_ = w)) := by
  refine HM.mk (by decide +kernel) (Nat.le_of_ble_eq_true rfl) ?_
  intro p9 e9 s9 m9 a9 b9 meth9 c9 ls X hret hlk hnm hl H hR
  have hx := X.1.1
  have hb := X.1.2.1
  have hl : lv_has ls 2 [(0, .int (iI ((v : Int))))] := hl
  have hL : LK G [] := fun q h => absurd h List.not_mem_nil
  generalize ([] : List Loc) = locs at hL ⊢
  refine lv_iload_n hx hb dJ17_numberOfTrailingZeros_0 rfl (lv_at hl 0 rfl) ?_
  refine h_iconst hx hb dJ17_numberOfTrailingZeros_1 ?_
  refine lv_ixor hx hb dJ17_numberOfTrailingZeros_2 ?_
  refine lv_iload_n hx hb dJ17_numberOfTrailingZeros_3 rfl (lv_at hl 0 rfl) ?_
  refine h_iconst hx hb dJ17_numberOfTrailingZeros_4 ?_
  refine h_isub hx hb dJ17_numberOfTrailingZeros_5 ?_
  refine lv_iand hx hb dJ17_numberOfTrailingZeros_6 ?_
  refine W.eq (g2 := F0 m9 7 ls [.int (iI 33554431)]) (by have e_ := iI_ntz hl0 hv (by decide); rw [e_] <;> rfl) ?_
  refine lv_istore_n (lv' := [(0, .int (iI (33554431)))]) hx hb dJ17_numberOfTrailingZeros_7 rfl hl (by decide) rfl (fun ls hl => ?_)
  refine lv_iload_n hx hb dJ17_numberOfTrailingZeros_8 rfl (lv_at hl 0 rfl) ?_
  refine h_if_gt hx hb 17 dJ17_numberOfTrailingZeros_9 (by decide) (by decide) (fun _ => ?_) (fun z_ => absurd z_ (by decide))
  refine h_iconst hx hb dJ17_numberOfTrailingZeros_17 ?_
  refine lv_istore_n (lv' := [(1, .int (iI (1))), (0, .int (iI (33554431)))]) hx hb dJ17_numberOfTrailingZeros_18 rfl hl (by decide) rfl (fun ls hl => ?_)
  refine lv_iload_n hx hb dJ17_numberOfTrailingZeros_19 rfl (lv_at hl 1 rfl) ?_
  refine lv_ldcw (v := iI (65536)) hx hb X.1.2.2.2.1 (X.1.2.2.2.2 _ q1049) dJ17_numberOfTrailingZeros_20 ?_
  refine h_icmp_le hx hb 34 dJ17_numberOfTrailingZeros_23 (by decide) (by decide) (by decide) (fun z_ => absurd z_ (by decide)) (fun _ => ?_)
  refine h_iinc (lv' := [(1, .int (iI (1 + 16))), (0, .int (iI (33554431)))]) hx hb dJ17_numberOfTrailingZeros_26 hl (k := 0) rfl (by decide) rfl (fun ls hl => ?_)
  refine lv_iload_n hx hb dJ17_numberOfTrailingZeros_29 rfl (lv_at hl 1 rfl) ?_
  refine h_bipush hx hb dJ17_numberOfTrailingZeros_30 (by decide) ?_
  refine lv_iushr (v := iI 511) hx hb dJ17_numberOfTrailingZeros_32 (by decide +kernel) ?_
  refine lv_istore_n (lv' := [(0, .int (iI (511))), (1, .int (iI (1 + 16)))]) hx hb dJ17_numberOfTrailingZeros_33 rfl hl (by decide) rfl (fun ls hl => ?_)
  refine lv_iload_n hx hb dJ17_numberOfTrailingZeros_34 rfl (lv_at hl 0 rfl) ?_
  refine h_sipush hx hb dJ17_numberOfTrailingZeros_35 (by decide) ?_
  refine h_icmp_le hx hb 49 dJ17_numberOfTrailingZeros_38 (by decide) (by decide) (by decide) (fun z_ => absurd z_ (by decide)) (fun _ => ?_)
  refine h_iinc (lv' := [(1, .int (iI (1 + 16 + 8))), (0, .int (iI (511)))]) hx hb dJ17_numberOfTrailingZeros_41 hl (k := 1) rfl (by decide) rfl (fun ls hl => ?_)
  refine lv_iload_n hx hb dJ17_numberOfTrailingZeros_44 rfl (lv_at hl 1 rfl) ?_
  refine h_bipush hx hb dJ17_numberOfTrailingZeros_45 (by decide) ?_
  refine lv_iushr (v := iI 1) hx hb dJ17_numberOfTrailingZeros_47 (by decide +kernel) ?_
  refine lv_istore_n (lv' := [(0, .int (iI (1))), (1, .int (iI (1 + 16 + 8)))]) hx hb dJ17_numberOfTrailingZeros_48 rfl hl (by decide) rfl (fun ls hl => ?_)
  refine lv_iload_n hx hb dJ17_numberOfTrailingZeros_49 rfl (lv_at hl 0 rfl) ?_
  refine h_bipush hx hb dJ17_numberOfTrailingZeros_50 (by decide) ?_
  refine h_icmp_le hx hb 62 dJ17_numberOfTrailingZeros_52 (by decide) (by decide) (by decide) (fun _ => ?_) (fun z_ => absurd z_ (by decide))
  refine lv_iload_n hx hb dJ17_numberOfTrailingZeros_62 rfl (lv_at hl 0 rfl) ?_
  refine h_iconst hx hb dJ17_numberOfTrailingZeros_63 ?_
  refine h_icmp_le hx hb 74 dJ17_numberOfTrailingZeros_64 (by decide) (by decide) (by decide) (fun _ => ?_) (fun z_ => absurd z_ (by decide))
  refine lv_iload_n hx hb dJ17_numberOfTrailingZeros_74 rfl (lv_at hl 1 rfl) ?_
  refine lv_iload_n hx hb dJ17_numberOfTrailingZeros_75 rfl (lv_at hl 0 rfl) ?_
  refine h_iconst hx hb dJ17_numberOfTrailingZeros_76 ?_
  refine lv_iushr (v := iI 0) hx hb dJ17_numberOfTrailingZeros_77 (by decide +kernel) ?_
  refine h_iadd hx hb dJ17_numberOfTrailingZeros_78 ?_
  exact h_ireturn hx hb hlk hret hR hL rfl ⟨by decide, rfl⟩ (by omega) (by omega) rfl rfl dJ17_numberOfTrailingZeros_79

set_option maxHeartbeats 4000000 in
set_option maxRecDepth 100000 in
/-- Integer.numberOfTrailingZeros -/
theorem in_ntz26 (l : Launch) (G : Gl) (w : Wd) (v : Nat) (hl0 : LowB v 26) (hv : v < 4294967296) : HM l yJ17_numberOfTrailingZeros cJ17_numberOfTrailingZeros 2 (some .int) 1 0 0 G [.int (iI ((v : Int)))] w (QI G (fun z_ w_ => z_ = 26 ∧ w_ = w)) := by
  refine HM.mk (by decide +kernel) (Nat.le_of_ble_eq_true rfl) ?_
  intro p9 e9 s9 m9 a9 b9 meth9 c9 ls X hret hlk hnm hl H hR
  have hx := X.1.1
  have hb := X.1.2.1
  have hl : lv_has ls 2 [(0, .int (iI ((v : Int))))] := hl
  have hL : LK G [] := fun q h => absurd h List.not_mem_nil
  generalize ([] : List Loc) = locs at hL ⊢
  refine lv_iload_n hx hb dJ17_numberOfTrailingZeros_0 rfl (lv_at hl 0 rfl) ?_
  refine h_iconst hx hb dJ17_numberOfTrailingZeros_1 ?_
  refine lv_ixor hx hb dJ17_numberOfTrailingZeros_2 ?_
  refine lv_iload_n hx hb dJ17_numberOfTrailingZeros_3 rfl (lv_at hl 0 rfl) ?_
  refine h_iconst hx hb dJ17_numberOfTrailingZeros_4 ?_
  refine h_isub hx hb dJ17_numberOfTrailingZeros_5 ?_
  refine lv_iand hx hb dJ17_numberOfTrailingZeros_6 ?_
  refine W.eq (g2 := F0 m9 7 ls [.int (iI 67108863)]) (by have e_ := iI_ntz hl0 hv (by decide); rw [e_] <;> rfl) ?_
  refine lv_istore_n (lv' := [(0, .int (iI (67108863)))]) hx hb dJ17_numberOfTrailingZeros_7 rfl hl (by decide) rfl (fun ls hl => ?_)
  refine lv_iload_n hx hb dJ17_numberOfTrailingZeros_8 rfl (lv_at hl 0 rfl) ?_
  refine h_if_gt hx hb 17 dJ17_numberOfTrailingZeros_9 (by decide) (by decide) (fun _ => ?_) (fun z_ => absurd z_ (by decide))
  refine h_iconst hx hb dJ17_numberOfTrailingZeros_17 ?_
  refine lv_istore_n (lv' := [(1, .int (iI (1))), (0, .int (iI (67108863)))]) hx hb dJ17_numberOfTrailingZeros_18 rfl hl (by decide) rfl (fun ls hl => ?_)
  refine lv_iload_n hx hb dJ17_numberOfTrailingZeros_19 rfl (lv_at hl 1 rfl) ?_
  refine lv_ldcw (v := iI (65536)) hx hb X.1.2.2.2.1 (X.1.2.2.2.2 _ q1049) dJ17_numberOfTrailingZeros_20 ?_
  refine h_icmp_le hx hb 34 dJ17_numberOfTrailingZeros_23 (by decide) (by decide) (by decide) (fun z_ => absurd z_ (by decide)) (fun _ => ?_)
  refine h_iinc (lv' := [(1, .int (iI (1 + 16))), (0, .int (iI (67108863)))]) hx hb dJ17_numberOfTrailingZeros_26 hl (k := 0) rfl (by decide) rfl (fun ls hl => ?_)
  refine lv_iload_n hx hb dJ17_numberOfTrailingZeros_29 rfl (lv_at hl 1 rfl) ?_
  refine h_bipush hx hb dJ17_numberOfTrailingZeros_30 (by decide) ?_
  refine lv_iushr (v := iI 1023) hx hb dJ17_numberOfTrailingZeros_32 (by decide +kernel) ?_
  refine lv_istore_n (lv' := [(0, .int (iI (1023))), (1, .int (iI (1 + 16)))]) hx hb dJ17_numberOfTrailingZeros_33 rfl hl (by decide) rfl (fun ls hl => ?_)
  refine lv_iload_n hx hb dJ17_numberOfTrailingZeros_34 rfl (lv_at hl 0 rfl) ?_
  refine h_sipush hx hb dJ17_numberOfTrailingZeros_35 (by decide) ?_
  refine h_icmp_le hx hb 49 dJ17_numberOfTrailingZeros_38 (by decide) (by decide) (by decide) (fun z_ => absurd z_ (by decide)) (fun _ => ?_)
  refine h_iinc (lv' := [(1, .int (iI (1 + 16 + 8))), (0, .int (iI (1023)))]) hx hb dJ17_numberOfTrailingZeros_41 hl (k := 1) rfl (by decide) rfl (fun ls hl => ?_)
  refine lv_iload_n hx hb dJ17_numberOfTrailingZeros_44 rfl (lv_at hl 1 rfl) ?_
  refine h_bipush hx hb dJ17_numberOfTrailingZeros_45 (by decide) ?_
  refine lv_iushr (v := iI 3) hx hb dJ17_numberOfTrailingZeros_47 (by decide +kernel) ?_
  refine lv_istore_n (lv' := [(0, .int (iI (3))), (1, .int (iI (1 + 16 + 8)))]) hx hb dJ17_numberOfTrailingZeros_48 rfl hl (by decide) rfl (fun ls hl => ?_)
  refine lv_iload_n hx hb dJ17_numberOfTrailingZeros_49 rfl (lv_at hl 0 rfl) ?_
  refine h_bipush hx hb dJ17_numberOfTrailingZeros_50 (by decide) ?_
  refine h_icmp_le hx hb 62 dJ17_numberOfTrailingZeros_52 (by decide) (by decide) (by decide) (fun _ => ?_) (fun z_ => absurd z_ (by decide))
  refine lv_iload_n hx hb dJ17_numberOfTrailingZeros_62 rfl (lv_at hl 0 rfl) ?_
  refine h_iconst hx hb dJ17_numberOfTrailingZeros_63 ?_
  refine h_icmp_le hx hb 74 dJ17_numberOfTrailingZeros_64 (by decide) (by decide) (by decide) (fun _ => ?_) (fun z_ => absurd z_ (by decide))
  refine lv_iload_n hx hb dJ17_numberOfTrailingZeros_74 rfl (lv_at hl 1 rfl) ?_
  refine lv_iload_n hx hb dJ17_numberOfTrailingZeros_75 rfl (lv_at hl 0 rfl) ?_
  refine h_iconst hx hb dJ17_numberOfTrailingZeros_76 ?_
  refine lv_iushr (v := iI 1) hx hb dJ17_numberOfTrailingZeros_77 (by decide +kernel) ?_
  refine h_iadd hx hb dJ17_numberOfTrailingZeros_78 ?_
  exact h_ireturn hx hb hlk hret hR hL rfl ⟨by decide, rfl⟩ (by omega) (by omega) rfl rfl dJ17_numberOfTrailingZeros_79

set_option maxHeartbeats 4000000 in
set_option maxRecDepth 100000 in
/-- Integer.numberOfTrailingZeros -/
theorem in_ntz27 (l : Launch) (G : Gl) (w : Wd) (v : Nat) (hl0 : LowB v 27) (hv : v < 4294967296) : HM l yJ17_numberOfTrailingZeros cJ17_numberOfTrailingZeros 2 (some .int) 1 0 0 G [.int (iI ((v : Int)))] w (QI G (fun z_ w_ => z_ = 27 ∧ w_ = w)) := by
  refine HM.mk (by decide +kernel) (Nat.le_of_ble_eq_true rfl) ?_
  intro p9 e9 s9 m9 a9 b9 meth9 c9 ls X hret hlk hnm hl H hR
  have hx := X.1.1
  have hb := X.1.2.1
  have hl : lv_has ls 2 [(0, .int (iI ((v : Int))))] := hl
  have hL : LK G [] := fun q h => absurd h List.not_mem_nil
  generalize ([] : List Loc) = locs at hL ⊢
  refine lv_iload_n hx hb dJ17_numberOfTrailingZeros_0 rfl (lv_at hl 0 rfl) ?_
  refine h_iconst hx hb dJ17_numberOfTrailingZeros_1 ?_
  refine lv_ixor hx hb dJ17_numberOfTrailingZeros_2 ?_
  refine lv_iload_n hx hb dJ17_numberOfTrailingZeros_3 rfl (lv_at hl 0 rfl) ?_
  refine h_iconst hx hb dJ17_numberOfTrailingZeros_4 ?_
  refine h_isub hx hb dJ17_numberOfTrailingZeros_5 ?_
  refine lv_iand hx hb dJ17_numberOfTrailingZeros_6 ?_
  refine W.eq (g2 := F0 m9 7 ls [.int (iI 134217727)]) (by have e_ := iI_ntz hl0 hv (by decide); rw [e_] <;> rfl) ?_
  refine lv_istore_n (lv' := [(0, .int (iI (134217727)))]) hx hb dJ17_numberOfTrailingZeros_7 rfl hl (by decide) rfl (fun ls hl => ?_)
  refine lv_iload_n hx hb dJ17_numberOfTrailingZeros_8 rfl (lv_at hl 0 rfl) ?_
  refine h_if_gt hx hb 17 dJ17_numberOfTrailingZeros_9 (by decide) (by decide) (fun _ => ?_) (fun z_ => absurd z_ (by decide))
  refine h_iconst hx hb dJ17_numberOfTrailingZeros_17 ?_
  refine lv_istore_n (lv' := [(1, .int (iI (1))), (0, .int (iI (134217727)))]) hx hb dJ17_numberOfTrailingZeros_18 rfl hl (by decide) rfl (fun ls hl => ?_)
  refine lv_iload_n hx hb dJ17_numberOfTrailingZeros_19 rfl (lv_at hl 1 rfl) ?_
  refine lv_ldcw (v := iI (65536)) hx hb X.1.2.2.2.1 (X.1.2.2.2.2 _ q1049) dJ17_numberOfTrailingZeros_20 ?_
  refine h_icmp_le hx hb 34 dJ17_numberOfTrailingZeros_23 (by decide) (by decide) (by decide) (fun z_ => absurd z_ (by decide)) (fun _ => ?_)
  refine h_iinc (lv' := [(1, .int (iI (1 + 16))), (0, .int (iI (134217727)))]) hx hb dJ17_numberOfTrailingZeros_26 hl (k := 0) rfl (by decide) rfl (fun ls hl => ?_)
  refine lv_iload_n hx hb dJ17_numberOfTrailingZeros_29 rfl (lv_at hl 1 rfl) ?_
  refine h_bipush hx hb dJ17_numberOfTrailingZeros_30 (by decide) ?_
  refine lv_iushr (v := iI 2047) hx hb dJ17_numberOfTrailingZeros_32 (by decide +kernel) ?_
  refine lv_istore_n (lv' := [(0, .int (iI (2047))), (1, .int (iI (1 + 16)))]) hx hb dJ17_numberOfTrailingZeros_33 rfl hl (by decide) rfl (fun ls hl => ?_)
  refine lv_iload_n hx hb dJ17_numberOfTrailingZeros_34 rfl (lv_at hl 0 rfl) ?_
  refine h_sipush hx hb dJ17_numberOfTrailingZeros_35 (by decide) ?_
  refine h_icmp_le hx hb 49 dJ17_numberOfTrailingZeros_38 (by decide) (by decide) (by decide) (fun z_ => absurd z_ (by decide)) (fun _ => ?_)
  refine h_iinc (lv' := [(1, .int (iI (1 + 16 + 8))), (0, .int (iI (2047)))]) hx hb dJ17_numberOfTrailingZeros_41 hl (k := 1) rfl (by decide) rfl (fun ls hl => ?_)
  refine lv_iload_n hx hb dJ17_numberOfTrailingZeros_44 rfl (lv_at hl 1 rfl) ?_
  refine h_bipush hx hb dJ17_numberOfTrailingZeros_45 (by decide) ?_
  refine lv_iushr (v := iI 7) hx hb dJ17_numberOfTrailingZeros_47 (by decide +kernel) ?_
  refine lv_istore_n (lv' := [(0, .int (iI (7))), (1, .int (iI (1 + 16 + 8)))]) hx hb dJ17_numberOfTrailingZeros_48 rfl hl (by decide) rfl (fun ls hl => ?_)
  refine lv_iload_n hx hb dJ17_numberOfTrailingZeros_49 rfl (lv_at hl 0 rfl) ?_
  refine h_bipush hx hb dJ17_numberOfTrailingZeros_50 (by decide) ?_
  refine h_icmp_le hx hb 62 dJ17_numberOfTrailingZeros_52 (by decide) (by decide) (by decide) (fun _ => ?_) (fun z_ => absurd z_ (by decide))
  refine lv_iload_n hx hb dJ17_numberOfTrailingZeros_62 rfl (lv_at hl 0 rfl) ?_
  refine h_iconst hx hb dJ17_numberOfTrailingZeros_63 ?_
  refine h_icmp_le hx hb 74 dJ17_numberOfTrailingZeros_64 (by decide) (by decide) (by decide) (fun z_ => absurd z_ (by decide)) (fun _ => ?_)
  refine h_iinc (lv' := [(1, .int (iI (1 + 16 + 8 + 2))), (0, .int (iI (7)))]) hx hb dJ17_numberOfTrailingZeros_67 hl (k := 1) rfl (by decide) rfl (fun ls hl => ?_)
  refine lv_iload_n hx hb dJ17_numberOfTrailingZeros_70 rfl (lv_at hl 1 rfl) ?_
  refine h_iconst hx hb dJ17_numberOfTrailingZeros_71 ?_
  refine lv_iushr (v := iI 1) hx hb dJ17_numberOfTrailingZeros_72 (by decide +kernel) ?_
  refine lv_istore_n (lv' := [(0, .int (iI (1))), (1, .int (iI (1 + 16 + 8 + 2)))]) hx hb dJ17_numberOfTrailingZeros_73 rfl hl (by decide) rfl (fun ls hl => ?_)
  refine lv_iload_n hx hb dJ17_numberOfTrailingZeros_74 rfl (lv_at hl 1 rfl) ?_
  refine lv_iload_n hx hb dJ17_numberOfTrailingZeros_75 rfl (lv_at hl 0 rfl) ?_
  refine h_iconst hx hb dJ17_numberOfTrailingZeros_76 ?_
  refine lv_iushr (v := iI 0) hx hb dJ17_numberOfTrailingZeros_77 (by decide +kernel) ?_
  refine h_iadd hx hb dJ17_numberOfTrailingZeros_78 ?_
  exact h_ireturn hx hb hlk hret hR hL rfl ⟨by decide, rfl⟩ (by omega) (by omega) rfl rfl dJ17_numberOfTrailingZeros_79

set_option maxHeartbeats 4000000 in
set_option maxRecDepth 100000 in
/-- Integer.numberOfTrailingZeros -/
theorem in_ntz28 (l : Launch) (G : Gl) (w : Wd) (v : Nat) (hl0 : LowB v 28) (hv : v < 4294967296) : HM l yJ17_numberOfTrailingZeros cJ17_numberOfTrailingZeros 2 (some .int) 1 0 0 G [.int (iI ((v : Int)))] w (QI G (fun z_ w_ => z_ = 28 ∧ w_ = w)) := by
  refine HM.mk (by decide +kernel) (Nat.le_of_ble_eq_true rfl) ?_
  intro p9 e9 s9 m9 a9 b9 meth9 c9 ls X hret hlk hnm hl H hR
  have hx := X.1.1
  have hb := X.1.2.1
  have hl : lv_has ls 2 [(0, .int (iI ((v : Int))))] := hl
  have hL : LK G [] := fun q h => absurd h List.not_mem_nil
  generalize ([] : List Loc) = locs at hL ⊢
  refine lv_iload_n hx hb dJ17_numberOfTrailingZeros_0 rfl (lv_at hl 0 rfl) ?_
  refine h_iconst hx hb dJ17_numberOfTrailingZeros_1 ?_
  refine lv_ixor hx hb dJ17_numberOfTrailingZeros_2 ?_
  refine lv_iload_n hx hb dJ17_numberOfTrailingZeros_3 rfl (lv_at hl 0 rfl) ?_
  refine h_iconst hx hb dJ17_numberOfTrailingZeros_4 ?_
  refine h_isub hx hb dJ17_numberOfTrailingZeros_5 ?_
  refine lv_iand hx hb dJ17_numberOfTrailingZeros_6 ?_
  refine W.eq (g2 := F0 m9 7 ls [.int (iI 268435455)]) (by have e_ := iI_ntz hl0 hv (by decide); rw [e_] <;> rfl) ?_
  refine lv_istore_n (lv' := [(0, .int (iI (268435455)))]) hx hb dJ17_numberOfTrailingZeros_7 rfl hl (by decide) rfl (fun ls hl => ?_)
  refine lv_iload_n hx hb dJ17_numberOfTrailingZeros_8 rfl (lv_at hl 0 rfl) ?_
  refine h_if_gt hx hb 17 dJ17_numberOfTrailingZeros_9 (by decide) (by decide) (fun _ => ?_) (fun z_ => absurd z_ (by decide))
  refine h_iconst hx hb dJ17_numberOfTrailingZeros_17 ?_
  refine lv_istore_n (lv' := [(1, .int (iI (1))), (0, .int (iI (268435455)))]) hx hb dJ17_numberOfTrailingZeros_18 rfl hl (by decide) rfl (fun ls hl => ?_)
  refine lv_iload_n hx hb dJ17_numberOfTrailingZeros_19 rfl (lv_at hl 1 rfl) ?_
  refine lv_ldcw (v := iI (65536)) hx hb X.1.2.2.2.1 (X.1.2.2.2.2 _ q1049) dJ17_numberOfTrailingZeros_20 ?_
  refine h_icmp_le hx hb 34 dJ17_numberOfTrailingZeros_23 (by decide) (by decide) (by decide) (fun z_ => absurd z_ (by decide)) (fun _ => ?_)
  refine h_iinc (lv' := [(1, .int (iI (1 + 16))), (0, .int (iI (268435455)))]) hx hb dJ17_numberOfTrailingZeros_26 hl (k := 0) rfl (by decide) rfl (fun ls hl => ?_)
  refine lv_iload_n hx hb dJ17_numberOfTrailingZeros_29 rfl (lv_at hl 1 rfl) ?_
  refine h_bipush hx hb dJ17_numberOfTrailingZeros_30 (by decide) ?_
  refine lv_iushr (v := iI 4095) hx hb dJ17_numberOfTrailingZeros_32 (by decide +kernel) ?_
  refine lv_istore_n (lv' := [(0, .int (iI (4095))), (1, .int (iI (1 + 16)))]) hx hb dJ17_numberOfTrailingZeros_33 rfl hl (by decide) rfl (fun ls hl => ?_)
  refine lv_iload_n hx hb dJ17_numberOfTrailingZeros_34 rfl (lv_at hl 0 rfl) ?_
  refine h_sipush hx hb dJ17_numberOfTrailingZeros_35 (by decide) ?_
  refine h_icmp_le hx hb 49 dJ17_numberOfTrailingZeros_38 (by decide) (by decide) (by decide) (fun z_ => absurd z_ (by decide)) (fun _ => ?_)
  refine h_iinc (lv' := [(1, .int (iI (1 + 16 + 8))), (0, .int (iI (4095)))]) hx hb dJ17_numberOfTrailingZeros_41 hl (k := 1) rfl (by decide) rfl (fun ls hl => ?_)
  refine lv_iload_n hx hb dJ17_numberOfTrailingZeros_44 rfl (lv_at hl 1 rfl) ?_
  refine h_bipush hx hb dJ17_numberOfTrailingZeros_45 (by decide) ?_
  refine lv_iushr (v := iI 15) hx hb dJ17_numberOfTrailingZeros_47 (by decide +kernel) ?_
  refine lv_istore_n (lv' := [(0, .int (iI (15))), (1, .int (iI (1 + 16 + 8)))]) hx hb dJ17_numberOfTrailingZeros_48 rfl hl (by decide) rfl (fun ls hl => ?_)
  refine lv_iload_n hx hb dJ17_numberOfTrailingZeros_49 rfl (lv_at hl 0 rfl) ?_
  refine h_bipush hx hb dJ17_numberOfTrailingZeros_50 (by decide) ?_
  refine h_icmp_le hx hb 62 dJ17_numberOfTrailingZeros_52 (by decide) (by decide) (by decide) (fun _ => ?_) (fun z_ => absurd z_ (by decide))
  refine lv_iload_n hx hb dJ17_numberOfTrailingZeros_62 rfl (lv_at hl 0 rfl) ?_
  refine h_iconst hx hb dJ17_numberOfTrailingZeros_63 ?_
  refine h_icmp_le hx hb 74 dJ17_numberOfTrailingZeros_64 (by decide) (by decide) (by decide) (fun z_ => absurd z_ (by decide)) (fun _ => ?_)
  refine h_iinc (lv' := [(1, .int (iI (1 + 16 + 8 + 2))), (0, .int (iI (15)))]) hx hb dJ17_numberOfTrailingZeros_67 hl (k := 1) rfl (by decide) rfl (fun ls hl => ?_)
  refine lv_iload_n hx hb dJ17_numberOfTrailingZeros_70 rfl (lv_at hl 1 rfl) ?_
  refine h_iconst hx hb dJ17_numberOfTrailingZeros_71 ?_
  refine lv_iushr (v := iI 3) hx hb dJ17_numberOfTrailingZeros_72 (by decide +kernel) ?_
  refine lv_istore_n (lv' := [(0, .int (iI (3))), (1, .int (iI (1 + 16 + 8 + 2)))]) hx hb dJ17_numberOfTrailingZeros_73 rfl hl (by decide) rfl (fun ls hl => ?_)
  refine lv_iload_n hx hb dJ17_numberOfTrailingZeros_74 rfl (lv_at hl 1 rfl) ?_
  refine lv_iload_n hx hb dJ17_numberOfTrailingZeros_75 rfl (lv_at hl 0 rfl) ?_
  refine h_iconst hx hb dJ17_numberOfTrailingZeros_76 ?_
  refine lv_iushr (v := iI 1) hx hb dJ17_numberOfTrailingZeros_77 (by decide +kernel) ?_
  refine h_iadd hx hb dJ17_numberOfTrailingZeros_78 ?_
  exact h_ireturn hx hb hlk hret hR hL rfl ⟨by decide, rfl⟩ (by omega) (by omega) rfl rfl dJ17_numberOfTrailingZeros_79

set_option maxHeartbeats 4000000 in
set_option maxRecDepth 100000 in
/-- Integer.numberOfTrailingZeros -/
theorem in_ntz29 (l : Launch) (G : Gl) (w : Wd) (v : Nat) (hl0 : LowB v 29) (hv : v < 4294967296) : HM l yJ17_numberOfTrailingZeros cJ17_numberOfTrailingZeros 2 (some .int) 1 0 0 G [.int (iI ((v : Int)))] w (QI G (fun z_ w_ => z_ = 29 ∧ w_ = w)) := by
  refine HM.mk (by decide +kernel) (Nat.le_of_ble_eq_true rfl) ?_
  intro p9 e9 s9 m9 a9 b9 meth9 c9 ls X hret hlk hnm hl H hR
  have hx := X.1.1
  have hb := X.1.2.1
  have hl : lv_has ls 2 [(0, .int (iI ((v : Int))))] := hl
  have hL : LK G [] := fun q h => absurd h List.not_mem_nil
  generalize ([] : List Loc) = locs at hL ⊢
  refine lv_iload_n hx hb dJ17_numberOfTrailingZeros_0 rfl (lv_at hl 0 rfl) ?_
  refine h_iconst hx hb dJ17_numberOfTrailingZeros_1 ?_
  refine lv_ixor hx hb dJ17_numberOfTrailingZeros_2 ?_
  refine lv_iload_n hx hb dJ17_numberOfTrailingZeros_3 rfl (lv_at hl 0 rfl) ?_
  refine h_iconst hx hb dJ17_numberOfTrailingZeros_4 ?_
  refine h_isub hx hb dJ17_numberOfTrailingZeros_5 ?_
  refine lv_iand hx hb dJ17_numberOfTrailingZeros_6 ?_
  refine W.eq (g2 := F0 m9 7 ls [.int (iI 536870911)]) (by have e_ := iI_ntz hl0 hv (by decide); rw [e_] <;> rfl) ?_
  refine lv_istore_n (lv' := [(0, .int (iI (536870911)))]) hx hb dJ17_numberOfTrailingZeros_7 rfl hl (by decide) rfl (fun ls hl => ?_)
  refine lv_iload_n hx hb dJ17_numberOfTrailingZeros_8 rfl (lv_at hl 0 rfl) ?_
  refine h_if_gt hx hb 17 dJ17_numberOfTrailingZeros_9 (by decide) (by decide) (fun _ => ?_) (fun z_ => absurd z_ (by decide))
  refine h_iconst hx hb dJ17_numberOfTrailingZeros_17 ?_
  refine lv_istore_n (lv' := [(1, .int (iI (1))), (0, .int (iI (536870911)))]) hx hb dJ17_numberOfTrailingZeros_18 rfl hl (by decide) rfl (fun ls hl => ?_)
  refine lv_iload_n hx hb dJ17_numberOfTrailingZeros_19 rfl (lv_at hl 1 rfl) ?_
  refine lv_ldcw (v := iI (65536)) hx hb X.1.2.2.2.1 (X.1.2.2.2.2 _ q1049) dJ17_numberOfTrailingZeros_20 ?_
  refine h_icmp_le hx hb 34 dJ17_numberOfTrailingZeros_23 (by decide) (by decide) (by decide) (fun z_ => absurd z_ (by decide)) (fun _ => ?_)
  refine h_iinc (lv' := [(1, .int (iI (1 + 16))), (0, .int (iI (536870911)))]) hx hb dJ17_numberOfTrailingZeros_26 hl (k := 0) rfl (by decide) rfl (fun ls hl => ?_)
  refine lv_iload_n hx hb dJ17_numberOfTrailingZeros_29 rfl (lv_at hl 1 rfl) ?_
  refine h_bipush hx hb dJ17_numberOfTrailingZeros_30 (by decide) ?_
  refine lv_iushr (v := iI 8191) hx hb dJ17_numberOfTrailingZeros_32 (by decide +kernel) ?_
  refine lv_istore_n (lv' := [(0, .int (iI (8191))), (1, .int (iI (1 + 16)))]) hx hb dJ17_numberOfTrailingZeros_33 rfl hl (by decide) rfl (fun ls hl => ?_)
  refine lv_iload_n hx hb dJ17_numberOfTrailingZeros_34 rfl (lv_at hl 0 rfl) ?_
  refine h_sipush hx hb dJ17_numberOfTrailingZeros_35 (by decide) ?_
  refine h_icmp_le hx hb 49 dJ17_numberOfTrailingZeros_38 (by decide) (by decide) (by decide) (fun z_ => absurd z_ (by decide)) (fun _ => ?_)
  refine h_iinc (lv' := [(1, .int (iI (1 + 16 + 8))), (0, .int (iI (8191)))]) hx hb dJ17_numberOfTrailingZeros_41 hl (k := 1) rfl (by decide) rfl (fun ls hl => ?_)
  refine lv_iload_n hx hb dJ17_numberOfTrailingZeros_44 rfl (lv_at hl 1 rfl) ?_
  refine h_bipush hx hb dJ17_numberOfTrailingZeros_45 (by decide) ?_
  refine lv_iushr (v := iI 31) hx hb dJ17_numberOfTrailingZeros_47 (by decide +kernel) ?_
  refine lv_istore_n (lv' := [(0, .int (iI (31))), (1, .int (iI (1 + 16 + 8)))]) hx hb dJ17_numberOfTrailingZeros_48 rfl hl (by decide) rfl (fun ls hl => ?_)
  refine lv_iload_n hx hb dJ17_numberOfTrailingZeros_49 rfl (lv_at hl 0 rfl) ?_
  refine h_bipush hx hb dJ17_numberOfTrailingZeros_50 (by decide) ?_
  refine h_icmp_le hx hb 62 dJ17_numberOfTrailingZeros_52 (by decide) (by decide) (by decide) (fun z_ => absurd z_ (by decide)) (fun _ => ?_)
  refine h_iinc (lv' := [(1, .int (iI (1 + 16 + 8 + 4))), (0, .int (iI (31)))]) hx hb dJ17_numberOfTrailingZeros_55 hl (k := 1) rfl (by decide) rfl (fun ls hl => ?_)
  refine lv_iload_n hx hb dJ17_numberOfTrailingZeros_58 rfl (lv_at hl 1 rfl) ?_
  refine h_iconst hx hb dJ17_numberOfTrailingZeros_59 ?_
  refine lv_iushr (v := iI 1) hx hb dJ17_numberOfTrailingZeros_60 (by decide +kernel) ?_
  refine lv_istore_n (lv' := [(0, .int (iI (1))), (1, .int (iI (1 + 16 + 8 + 4)))]) hx hb dJ17_numberOfTrailingZeros_61 rfl hl (by decide) rfl (fun ls hl => ?_)
  refine lv_iload_n hx hb dJ17_numberOfTrailingZeros_62 rfl (lv_at hl 0 rfl) ?_
  refine h_iconst hx hb dJ17_numberOfTrailingZeros_63 ?_
  refine h_icmp_le hx hb 74 dJ17_numberOfTrailingZeros_64 (by decide) (by decide) (by decide) (fun _ => ?_) (fun z_ => absurd z_ (by decide))
  refine lv_iload_n hx hb dJ17_numberOfTrailingZeros_74 rfl (lv_at hl 1 rfl) ?_
  refine lv_iload_n hx hb dJ17_numberOfTrailingZeros_75 rfl (lv_at hl 0 rfl) ?_
  refine h_iconst hx hb dJ17_numberOfTrailingZeros_76 ?_
  refine lv_iushr (v := iI 0) hx hb dJ17_numberOfTrailingZeros_77 (by decide +kernel) ?_
  refine h_iadd hx hb dJ17_numberOfTrailingZeros_78 ?_
  exact h_ireturn hx hb hlk hret hR hL rfl ⟨by decide, rfl⟩ (by omega) (by omega) rfl rfl dJ17_numberOfTrailingZeros_79

set_option maxHeartbeats 4000000 in
set_option maxRecDepth 100000 in
/-- Integer.numberOfTrailingZeros -/
theorem in_ntz30 (l : Launch) (G : Gl) (w : Wd) (v : Nat) (hl0 : LowB v 30) (hv : v < 4294967296) : HM l yJ17_numberOfTrailingZeros cJ17_numberOfTrailingZeros 2 (some .int) 1 0 0 G [.int (iI ((v : Int)))] w (QI G (fun z_ w_ => z_ = 30 ∧ w_ = w)) := by
  refine HM.mk (by decide +kernel) (Nat.le_of_ble_eq_true rfl) ?_
  intro p9 e9 s9 m9 a9 b9 meth9 c9 ls X hret hlk hnm hl H hR
  have hx := X.1.1
  have hb := X.1.2.1
  have hl : lv_has ls 2 [(0, .int (iI ((v : Int))))] := hl
  have hL : LK G [] := fun q h => absurd h List.not_mem_nil
  generalize ([] : List Loc) = locs at hL ⊢
  refine lv_iload_n hx hb dJ17_numberOfTrailingZeros_0 rfl (lv_at hl 0 rfl) ?_
  refine h_iconst hx hb dJ17_numberOfTrailingZeros_1 ?_
  refine lv_ixor hx hb dJ17_numberOfTrailingZeros_2 ?_
  refine lv_iload_n hx hb dJ17_numberOfTrailingZeros_3 rfl (lv_at hl 0 rfl) ?_
  refine h_iconst hx hb dJ17_numberOfTrailingZeros_4 ?_
  refine h_isub hx hb dJ17_numberOfTrailingZeros_5 ?_
  refine lv_iand hx hb dJ17_numberOfTrailingZeros_6 ?_
  refine W.eq (g2 := F0 m9 7 ls [.int (iI 1073741823)]) (by have e_ := iI_ntz hl0 hv (by decide); rw [e_] <;> rfl) ?_
  refine lv_istore_n (lv' := [(0, .int (iI (1073741823)))]) hx hb dJ17_numberOfTrailingZeros_7 rfl hl (by decide) rfl (fun ls hl => ?_)
  refine lv_iload_n hx hb dJ17_numberOfTrailingZeros_8 rfl (lv_at hl 0 rfl) ?_
  refine h_if_gt hx hb 17 dJ17_numberOfTrailingZeros_9 (by decide) (by decide) (fun _ => ?_) (fun z_ => absurd z_ (by decide))
  refine h_iconst hx hb dJ17_numberOfTrailingZeros_17 ?_
  refine lv_istore_n (lv' := [(1, .int (iI (1))), (0, .int (iI (1073741823)))]) hx hb dJ17_numberOfTrailingZeros_18 rfl hl (by decide) rfl (fun ls hl => ?_)
  refine lv_iload_n hx hb dJ17_numberOfTrailingZeros_19 rfl (lv_at hl 1 rfl) ?_
  refine lv_ldcw (v := iI (65536)) hx hb X.1.2.2.2.1 (X.1.2.2.2.2 _ q1049) dJ17_numberOfTrailingZeros_20 ?_
  refine h_icmp_le hx hb 34 dJ17_numberOfTrailingZeros_23 (by decide) (by decide) (by decide) (fun z_ => absurd z_ (by decide)) (fun _ => ?_)
  refine h_iinc (lv' := [(1, .int (iI (1 + 16))), (0, .int (iI (1073741823)))]) hx hb dJ17_numberOfTrailingZeros_26 hl (k := 0) rfl (by decide) rfl (fun ls hl => ?_)
  refine lv_iload_n hx hb dJ17_numberOfTrailingZeros_29 rfl (lv_at hl 1 rfl) ?_
  refine h_bipush hx hb dJ17_numberOfTrailingZeros_30 (by decide) ?_
  refine lv_iushr (v := iI 16383) hx hb dJ17_numberOfTrailingZeros_32 (by decide +kernel) ?_
  refine lv_istore_n (lv' := [(0, .int (iI (16383))), (1, .int (iI (1 + 16)))]) hx hb dJ17_numberOfTrailingZeros_33 rfl hl (by decide) rfl (fun ls hl => ?_)
  refine lv_iload_n hx hb dJ17_numberOfTrailingZeros_34 rfl (lv_at hl 0 rfl) ?_
  refine h_sipush hx hb dJ17_numberOfTrailingZeros_35 (by decide) ?_
  refine h_icmp_le hx hb 49 dJ17_numberOfTrailingZeros_38 (by decide) (by decide) (by decide) (fun z_ => absurd z_ (by decide)) (fun _ => ?_)
  refine h_iinc (lv' := [(1, .int (iI (1 + 16 + 8))), (0, .int (iI (16383)))]) hx hb dJ17_numberOfTrailingZeros_41 hl (k := 1) rfl (by decide) rfl (fun ls hl => ?_)
  refine lv_iload_n hx hb dJ17_numberOfTrailingZeros_44 rfl (lv_at hl 1 rfl) ?_
  refine h_bipush hx hb dJ17_numberOfTrailingZeros_45 (by decide) ?_
  refine lv_iushr (v := iI 63) hx hb dJ17_numberOfTrailingZeros_47 (by decide +kernel) ?_
  refine lv_istore_n (lv' := [(0, .int (iI (63))), (1, .int (iI (1 + 16 + 8)))]) hx hb dJ17_numberOfTrailingZeros_48 rfl hl (by decide) rfl (fun ls hl => ?_)
  refine lv_iload_n hx hb dJ17_numberOfTrailingZeros_49 rfl (lv_at hl 0 rfl) ?_
  refine h_bipush hx hb dJ17_numberOfTrailingZeros_50 (by decide) ?_
  refine h_icmp_le hx hb 62 dJ17_numberOfTrailingZeros_52 (by decide) (by decide) (by decide) (fun z_ => absurd z_ (by decide)) (fun _ => ?_)
  refine h_iinc (lv' := [(1, .int (iI (1 + 16 + 8 + 4))), (0, .int (iI (63)))]) hx hb dJ17_numberOfTrailingZeros_55 hl (k := 1) rfl (by decide) rfl (fun ls hl => ?_)
  refine lv_iload_n hx hb dJ17_numberOfTrailingZeros_58 rfl (lv_at hl 1 rfl) ?_
  refine h_iconst hx hb dJ17_numberOfTrailingZeros_59 ?_
  refine lv_iushr (v := iI 3) hx hb dJ17_numberOfTrailingZeros_60 (by decide +kernel) ?_
  refine lv_istore_n (lv' := [(0, .int (iI (3))), (1, .int (iI (1 + 16 + 8 + 4)))]) hx hb dJ17_numberOfTrailingZeros_61 rfl hl (by decide) rfl (fun ls hl => ?_)
  refine lv_iload_n hx hb dJ17_numberOfTrailingZeros_62 rfl (lv_at hl 0 rfl) ?_
  refine h_iconst hx hb dJ17_numberOfTrailingZeros_63 ?_
  refine h_icmp_le hx hb 74 dJ17_numberOfTrailingZeros_64 (by decide) (by decide) (by decide) (fun _ => ?_) (fun z_ => absurd z_ (by decide))
  refine lv_iload_n hx hb dJ17_numberOfTrailingZeros_74 rfl (lv_at hl 1 rfl) ?_
  refine lv_iload_n hx hb dJ17_numberOfTrailingZeros_75 rfl (lv_at hl 0 rfl) ?_
  refine h_iconst hx hb dJ17_numberOfTrailingZeros_76 ?_
  refine lv_iushr (v := iI 1) hx hb dJ17_numberOfTrailingZeros_77 (by decide +kernel) ?_
  refine h_iadd hx hb dJ17_numberOfTrailingZeros_78 ?_
  exact h_ireturn hx hb hlk hret hR hL rfl ⟨by decide, rfl⟩ (by omega) (by omega) rfl rfl dJ17_numberOfTrailingZeros_79

set_option maxHeartbeats 4000000 in
set_option maxRecDepth 100000 in
/-- Integer.numberOfTrailingZeros -/
theorem in_ntz31 (l : Launch) (G : Gl) (w : Wd) (v : Nat) (hl0 : LowB v 31) (hv : v < 4294967296) : HM l yJ17_numberOfTrailingZeros cJ17_numberOfTrailingZeros 2 (some .int) 1 0 0 G [.int (iI ((v : Int)))] w (QI G (fun z_ w_ => z_ = 31 ∧ w_ = w)) := by
  refine HM.mk (by decide +kernel) (Nat.le_of_ble_eq_true rfl) ?_
  intro p9 e9 s9 m9 a9 b9 meth9 c9 ls X hret hlk hnm hl H hR
  have hx := X.1.1
  have hb := X.1.2.1
  have hl : lv_has ls 2 [(0, .int (iI ((v : Int))))] := hl
  have hL : LK G [] := fun q h => absurd h List.not_mem_nil
  generalize ([] : List Loc) = locs at hL ⊢
  refine lv_iload_n hx hb dJ17_numberOfTrailingZeros_0 rfl (lv_at hl 0 rfl) ?_
  refine h_iconst hx hb dJ17_numberOfTrailingZeros_1 ?_
  refine lv_ixor hx hb dJ17_numberOfTrailingZeros_2 ?_
  refine lv_iload_n hx hb dJ17_numberOfTrailingZeros_3 rfl (lv_at hl 0 rfl) ?_
  refine h_iconst hx hb dJ17_numberOfTrailingZeros_4 ?_
  refine h_isub hx hb dJ17_numberOfTrailingZeros_5 ?_
  refine lv_iand hx hb dJ17_numberOfTrailingZeros_6 ?_
  refine W.eq (g2 := F0 m9 7 ls [.int (iI 2147483647)]) (by have e_ := iI_ntz hl0 hv (by decide); rw [e_] <;> rfl) ?_
  refine lv_istore_n (lv' := [(0, .int (iI (2147483647)))]) hx hb dJ17_numberOfTrailingZeros_7 rfl hl (by decide) rfl (fun ls hl => ?_)
  refine lv_iload_n hx hb dJ17_numberOfTrailingZeros_8 rfl (lv_at hl 0 rfl) ?_
  refine h_if_gt hx hb 17 dJ17_numberOfTrailingZeros_9 (by decide) (by decide) (fun _ => ?_) (fun z_ => absurd z_ (by decide))
  refine h_iconst hx hb dJ17_numberOfTrailingZeros_17 ?_
  refine lv_istore_n (lv' := [(1, .int (iI (1))), (0, .int (iI (2147483647)))]) hx hb dJ17_numberOfTrailingZeros_18 rfl hl (by decide) rfl (fun ls hl => ?_)
  refine lv_iload_n hx hb dJ17_numberOfTrailingZeros_19 rfl (lv_at hl 1 rfl) ?_
  refine lv_ldcw (v := iI (65536)) hx hb X.1.2.2.2.1 (X.1.2.2.2.2 _ q1049) dJ17_numberOfTrailingZeros_20 ?_
  refine h_icmp_le hx hb 34 dJ17_numberOfTrailingZeros_23 (by decide) (by decide) (by decide) (fun z_ => absurd z_ (by decide)) (fun _ => ?_)
  refine h_iinc (lv' := [(1, .int (iI (1 + 16))), (0, .int (iI (2147483647)))]) hx hb dJ17_numberOfTrailingZeros_26 hl (k := 0) rfl (by decide) rfl (fun ls hl => ?_)
  refine lv_iload_n hx hb dJ17_numberOfTrailingZeros_29 rfl (lv_at hl 1 rfl) ?_
  refine h_bipush hx hb dJ17_numberOfTrailingZeros_30 (by decide) ?_
  refine lv_iushr (v := iI 32767) hx hb dJ17_numberOfTrailingZeros_32 (by decide +kernel) ?_
  refine lv_istore_n (lv' := [(0, .int (iI (32767))), (1, .int (iI (1 + 16)))]) hx hb dJ17_numberOfTrailingZeros_33 rfl hl (by decide) rfl (fun ls hl => ?_)
  refine lv_iload_n hx hb dJ17_numberOfTrailingZeros_34 rfl (lv_at hl 0 rfl) ?_
  refine h_sipush hx hb dJ17_numberOfTrailingZeros_35 (by decide) ?_
  refine h_icmp_le hx hb 49 dJ17_numberOfTrailingZeros_38 (by decide) (by decide) (by decide) (fun z_ => absurd z_ (by decide)) (fun _ => ?_)
  refine h_iinc (lv' := [(1, .int (iI (1 + 16 + 8))), (0, .int (iI (32767)))]) hx hb dJ17_numberOfTrailingZeros_41 hl (k := 1) rfl (by decide) rfl (fun ls hl => ?_)
  refine lv_iload_n hx hb dJ17_numberOfTrailingZeros_44 rfl (lv_at hl 1 rfl) ?_
  refine h_bipush hx hb dJ17_numberOfTrailingZeros_45 (by decide) ?_
  refine lv_iushr (v := iI 127) hx hb dJ17_numberOfTrailingZeros_47 (by decide +kernel) ?_
  refine lv_istore_n (lv' := [(0, .int (iI (127))), (1, .int (iI (1 + 16 + 8)))]) hx hb dJ17_numberOfTrailingZeros_48 rfl hl (by decide) rfl (fun ls hl => ?_)
  refine lv_iload_n hx hb dJ17_numberOfTrailingZeros_49 rfl (lv_at hl 0 rfl) ?_
  refine h_bipush hx hb dJ17_numberOfTrailingZeros_50 (by decide) ?_
  refine h_icmp_le hx hb 62 dJ17_numberOfTrailingZeros_52 (by decide) (by decide) (by decide) (fun z_ => absurd z_ (by decide)) (fun _ => ?_)
  refine h_iinc (lv' := [(1, .int (iI (1 + 16 + 8 + 4))), (0, .int (iI (127)))]) hx hb dJ17_numberOfTrailingZeros_55 hl (k := 1) rfl (by decide) rfl (fun ls hl => ?_)
  refine lv_iload_n hx hb dJ17_numberOfTrailingZeros_58 rfl (lv_at hl 1 rfl) ?_
  refine h_iconst hx hb dJ17_numberOfTrailingZeros_59 ?_
  refine lv_iushr (v := iI 7) hx hb dJ17_numberOfTrailingZeros_60 (by decide +kernel) ?_
  refine lv_istore_n (lv' := [(0, .int (iI (7))), (1, .int (iI (1 + 16 + 8 + 4)))]) hx hb dJ17_numberOfTrailingZeros_61 rfl hl (by decide) rfl (fun ls hl => ?_)
  refine lv_iload_n hx hb dJ17_numberOfTrailingZeros_62 rfl (lv_at hl 0 rfl) ?_
  refine h_iconst hx hb dJ17_numberOfTrailingZeros_63 ?_
  refine h_icmp_le hx hb 74 dJ17_numberOfTrailingZeros_64 (by decide) (by decide) (by decide) (fun z_ => absurd z_ (by decide)) (fun _ => ?_)
  refine h_iinc (lv' := [(1, .int (iI (1 + 16 + 8 + 4 + 2))), (0, .int (iI (7)))]) hx hb dJ17_numberOfTrailingZeros_67 hl (k := 1) rfl (by decide) rfl (fun ls hl => ?_)
  refine lv_iload_n hx hb dJ17_numberOfTrailingZeros_70 rfl (lv_at hl 1 rfl) ?_
  refine h_iconst hx hb dJ17_numberOfTrailingZeros_71 ?_
  refine lv_iushr (v := iI 1) hx hb dJ17_numberOfTrailingZeros_72 (by decide +kernel) ?_
  refine lv_istore_n (lv' := [(0, .int (iI (1))), (1, .int (iI (1 + 16 + 8 + 4 + 2)))]) hx hb dJ17_numberOfTrailingZeros_73 rfl hl (by decide) rfl (fun ls hl => ?_)
  refine lv_iload_n hx hb dJ17_numberOfTrailingZeros_74 rfl (lv_at hl 1 rfl) ?_
  refine lv_iload_n hx hb dJ17_numberOfTrailingZeros_75 rfl (lv_at hl 0 rfl) ?_
  refine h_iconst hx hb dJ17_numberOfTrailingZeros_76 ?_
  refine lv_iushr (v := iI 0) hx hb dJ17_numberOfTrailingZeros_77 (by decide +kernel) ?_
  refine h_iadd hx hb dJ17_numberOfTrailingZeros_78 ?_
  exact h_ireturn hx hb hlk hret hR hL rfl ⟨by decide, rfl⟩ (by omega) (by omega) rfl rfl dJ17_numberOfTrailingZeros_79

theorem in_ntz (l : Launch) (G : Gl) (w : Wd) (v t : Nat) (hl0 : LowB v t) (hv : v < 4294967296) (ht : t < 32) : HM l yJ17_numberOfTrailingZeros cJ17_numberOfTrailingZeros 2 (some .int) 1 0 0 G [.int (iI (v : Int))] w (QI G (fun z_ w_ => z_ = (t : Int) ∧ w_ = w)) := by
  rcases (show t = 0 ∨ t = 1 ∨ t = 2 ∨ t = 3 ∨ t = 4 ∨ t = 5 ∨ t = 6 ∨ t = 7 ∨ t = 8 ∨ t = 9 ∨ t = 10 ∨ t = 11 ∨ t = 12 ∨ t = 13 ∨ t = 14 ∨ t = 15 ∨ t = 16 ∨ t = 17 ∨ t = 18 ∨ t = 19 ∨ t = 20 ∨ t = 21 ∨ t = 22 ∨ t = 23 ∨ t = 24 ∨ t = 25 ∨ t = 26 ∨ t = 27 ∨ t = 28 ∨ t = 29 ∨ t = 30 ∨ t = 31 by omega) with rfl | rfl | rfl | rfl | rfl | rfl | rfl | rfl | rfl | rfl | rfl | rfl | rfl | rfl | rfl | rfl | rfl | rfl | rfl | rfl | rfl | rfl | rfl | rfl | rfl | rfl | rfl | rfl | rfl | rfl | rfl | rfl
  · exact in_ntz0 l G w v hl0 hv
  · exact in_ntz1 l G w v hl0 hv
  · exact in_ntz2 l G w v hl0 hv
  · exact in_ntz3 l G w v hl0 hv
  · exact in_ntz4 l G w v hl0 hv
  · exact in_ntz5 l G w v hl0 hv
  · exact in_ntz6 l G w v hl0 hv
  · exact in_ntz7 l G w v hl0 hv
  · exact in_ntz8 l G w v hl0 hv
  · exact in_ntz9 l G w v hl0 hv
  · exact in_ntz10 l G w v hl0 hv
  · exact in_ntz11 l G w v hl0 hv
  · exact in_ntz12 l G w v hl0 hv
  · exact in_ntz13 l G w v hl0 hv
  · exact in_ntz14 l G w v hl0 hv
  · exact in_ntz15 l G w v hl0 hv
  · exact in_ntz16 l G w v hl0 hv
  · exact in_ntz17 l G w v hl0 hv
  · exact in_ntz18 l G w v hl0 hv
  · exact in_ntz19 l G w v hl0 hv
  · exact in_ntz20 l G w v hl0 hv
  · exact in_ntz21 l G w v hl0 hv
  · exact in_ntz22 l G w v hl0 hv
  · exact in_ntz23 l G w v hl0 hv
  · exact in_ntz24 l G w v hl0 hv
  · exact in_ntz25 l G w v hl0 hv
  · exact in_ntz26 l G w v hl0 hv
  · exact in_ntz27 l G w v hl0 hv
  · exact in_ntz28 l G w v hl0 hv
  · exact in_ntz29 l G w v hl0 hv
  · exact in_ntz30 l G w v hl0 hv
  · exact in_ntz31 l G w v hl0 hv

set_option maxHeartbeats 4000000 in
set_option maxRecDepth 100000 in
/-- Long.numberOfTrailingZeros -/
theorem ln_lo (l : Launch) (G : Gl) (w : Wd) (D t : Nat) (hl0 : LowB D t) (hD : D < 9223372036854775808) (ht : t < 32) : HM l yJ22_numberOfTrailingZeros cJ22_numberOfTrailingZeros 3 (some .int) 2 0 0 G [.long (lI ((D : Int)))] w (QI G (fun z_ w_ => z_ = (t : Int) ∧ w_ = w)) := by
  refine HM.mk (by decide +kernel) (Nat.le_of_ble_eq_true rfl) ?_
  intro p9 e9 s9 m9 a9 b9 meth9 c9 ls X hret hlk hnm hl H hR
  have hx := X.1.1
  have hb := X.1.2.1
  have hl : lv_has ls 3 [(0, .long (lI ((D : Int))))] := hl
  have hL : LK G [] := fun q h => absurd h List.not_mem_nil
  generalize ([] : List Loc) = locs at hL ⊢
  refine lv_lload_n hx hb dJ22_numberOfTrailingZeros_0 rfl (lv_at hl 0 rfl) ?_
  refine h_l2i hx hb dJ22_numberOfTrailingZeros_1 ?_
  refine W.eq (g2 := F0 m9 2 ls [.int (iI ((D % 4294967296 : Nat) : Int))]) (by rw [iI_cg (show (D : Int) % 4294967296 = ((D % 4294967296 : Nat) : Int) % 4294967296 by omega)]) ?_
  refine lv_istore_n (lv' := [(2, .int (iI (((D % 4294967296 : Nat) : Int)))), (0, .long (lI ((D : Int))))]) hx hb dJ22_numberOfTrailingZeros_2 rfl hl (by decide) rfl (fun ls hl => ?_)
  refine lv_iload_n hx hb dJ22_numberOfTrailingZeros_3 rfl (lv_at hl 0 rfl) ?_
  refine lv_if_ne (tgt := 21) hx hb dJ22_numberOfTrailingZeros_4 (by decide) (fun _ => ?_) (fun q_ => absurd q_ (iI_u0 (by omega) (hl0.lo ht).ne))
  refine lv_iload_n hx hb dJ22_numberOfTrailingZeros_21 rfl (lv_at hl 0 rfl) ?_
  -- call java/lang/Integer.numberOfTrailingZeros
  refine h_kIp (h_runS X hR (in_ntz l G w (D % 4294967296) t (hl0.lo ht) (by omega) ht) pn_yJ17_numberOfTrailingZeros q1055 q1056 q141 q1057 ⟨by decide, by decide⟩ hl.1 (Nat.le_of_ble_eq_true rfl) dJ22_numberOfTrailingZeros_22 ⟨by omega, by omega⟩) hL (fun H locs hR hL => ?_)
  exact h_ireturn hx hb hlk hret hR hL rfl ⟨rfl, rfl⟩ (by omega) (by omega) rfl rfl dJ22_numberOfTrailingZeros_25

set_option maxHeartbeats 4000000 in
set_option maxRecDepth 100000 in
/-- Long.numberOfTrailingZeros -/
theorem ln_hi (l : Launch) (G : Gl) (w : Wd) (D t : Nat) (hl0 : LowB D (32 + t)) (hD : D < 9223372036854775808) (ht : t < 32) : HM l yJ22_numberOfTrailingZeros cJ22_numberOfTrailingZeros 3 (some .int) 2 0 0 G [.long (lI ((D : Int)))] w (QI G (fun z_ w_ => z_ = ((32 + t : Nat) : Int) ∧ w_ = w)) := by
  refine HM.mk (by decide +kernel) (Nat.le_of_ble_eq_true rfl) ?_
  intro p9 e9 s9 m9 a9 b9 meth9 c9 ls X hret hlk hnm hl H hR
  have hx := X.1.1
  have hb := X.1.2.1
  have hl : lv_has ls 3 [(0, .long (lI ((D : Int))))] := hl
  have hL : LK G [] := fun q h => absurd h List.not_mem_nil
  generalize ([] : List Loc) = locs at hL ⊢
  refine lv_lload_n hx hb dJ22_numberOfTrailingZeros_0 rfl (lv_at hl 0 rfl) ?_
  refine h_l2i hx hb dJ22_numberOfTrailingZeros_1 ?_
  refine W.eq (g2 := F0 m9 2 ls [.int (iI ((D % 4294967296 : Nat) : Int))]) (by rw [iI_cg (show (D : Int) % 4294967296 = ((D % 4294967296 : Nat) : Int) % 4294967296 by omega)]) ?_
  have h0_ := hl0.hi
  refine W.eq (g2 := F0 m9 2 ls [.int (iI (0))]) (congrArg (fun z_ : Int => F0 m9 2 ls [.int (iI (z_))]) (show (((D % 4294967296 : Nat) : Int) : Int) = 0 from (by omega))) ?_
  refine lv_istore_n (lv' := [(2, .int (iI (0))), (0, .long (lI ((D : Int))))]) hx hb dJ22_numberOfTrailingZeros_2 rfl hl (by decide) rfl (fun ls hl => ?_)
  refine lv_iload_n hx hb dJ22_numberOfTrailingZeros_3 rfl (lv_at hl 0 rfl) ?_
  refine h_if_ne hx hb 21 dJ22_numberOfTrailingZeros_4 (by decide) (by decide) (fun z_ => absurd z_ (by decide)) (fun _ => ?_)
  refine h_bipush hx hb dJ22_numberOfTrailingZeros_7 (by decide) ?_
  refine lv_lload_n hx hb dJ22_numberOfTrailingZeros_9 rfl (lv_at hl 1 rfl) ?_
  refine h_bipush hx hb dJ22_numberOfTrailingZeros_10 (by decide) ?_
  refine lv_lushr (v := lI ((D / 4294967296 : Nat) : Int)) hx hb dJ22_numberOfTrailingZeros_12 (lI_ushr32 D hD) ?_
  refine h_l2i hx hb dJ22_numberOfTrailingZeros_13 ?_
  -- call java/lang/Integer.numberOfTrailingZeros
  refine h_kIp (h_runS X hR (in_ntz l G w (D / 4294967296) t hl0.hi.2 (by omega) ht) pn_yJ17_numberOfTrailingZeros q1055 q1056 q141 q1057 ⟨by decide, by decide⟩ hl.1 (Nat.le_of_ble_eq_true rfl) dJ22_numberOfTrailingZeros_14 ⟨by omega, by omega⟩) hL (fun H locs hR hL => ?_)
  refine h_iadd hx hb dJ22_numberOfTrailingZeros_17 ?_
  refine lv_goto (tgt := 25) hx hb dJ22_numberOfTrailingZeros_18 (by decide) ?_
  exact h_ireturn hx hb hlk hret hR hL rfl ⟨by omega, rfl⟩ (by omega) (by omega) rfl rfl dJ22_numberOfTrailingZeros_25

theorem ln_ntz (l : Launch) (G : Gl) (w : Wd) (D t : Nat) (hl0 : LowB D t) (hD : D < 9223372036854775808) (ht : t < 64) : HM l yJ22_numberOfTrailingZeros cJ22_numberOfTrailingZeros 3 (some .int) 2 0 0 G [.long (lI (D : Int))] w (QI G (fun z_ w_ => z_ = (t : Int) ∧ w_ = w)) := by
  by_cases h : t < 32
  · exact ln_lo l G w D t hl0 hD h
  · have e : t = 32 + (t - 32) := by omega
    rw [e] at hl0 ⊢
    exact ln_hi l G w D (t - 32) hl0 hD (by omega)

set_option maxHeartbeats 4000000 in
set_option maxRecDepth 100000 in
/-- Unsafe.getLongUnaligned -/
theorem un_gl (l : Launch) (G : Gl) (w : Wd) (u va r n : Nat) (f : Nat → Int) (hu : hasC w u "jdk/internal/misc/Unsafe") (hA : w va = some (r, iE G 1 n f)) (b : Nat → Nat) (hfb : ∀ i, i < 8 → f i = (b i : Int)) (hb8 : ∀ i, i < 8 → b i < 128) (hn : n = 8) : HM l yJ21_getLongUnaligned cJ21_getLongUnaligned 4 (some .long) 2 0 0 G [.ref u, .ref va, .long (lI (16))] w (QL G (fun z_ w_ => z_ = (pk8 b : Int) ∧ w_ = w)) := by
  refine HM.mkF (by decide +kernel) (Nat.le_of_ble_eq_true rfl) ?_
  intro p9 e9 s9 m9 a9 b9 meth9 c9 ls X hret hlk hnm hl H hR
  have hx := X.1.1
  have hb := X.1.2.1
  have hl : lv_has ls 4 [(0, .ref u), (1, .ref va), (2, .long (lI (16)))] := hl
  have hL : LK G [] := fun q h => absurd h List.not_mem_nil
  generalize ([] : List Loc) = locs at hL ⊢
  refine lv_lload_n hx hb dJ21_getLongUnaligned_0 rfl (lv_at hl 2 rfl) ?_
  refine lv_ldc2 (v := lI (7)) hx hb X.1.2.2.2.1 (X.1.2.2.2.2 _ q993) dJ21_getLongUnaligned_1 ?_
  refine lv_land hx hb dJ21_getLongUnaligned_4 ?_
  refine W.eq (g2 := F0 m9 5 ls [.long (lI (0))]) (by rfl) ?_
  refine h_lconst hx hb 0 dJ21_getLongUnaligned_5 rfl ?_
  refine h_lcmp hx hb dJ21_getLongUnaligned_6 (by omega) (by omega) ?_
  refine W.eq (g2 := F0 m9 7 ls [.int (iI (0))]) (congrArg (fun z_ : Int => F0 m9 7 ls [.int (iI (z_))]) (show (cmpZ 0 0 : Int) = 0 from (by decide))) ?_
  refine h_if_ne hx hb 17 dJ21_getLongUnaligned_7 (by decide) (by decide) (fun z_ => absurd z_ (by decide)) (fun _ => ?_)
  refine lv_aload_n hx hb dJ21_getLongUnaligned_10 rfl (lv_at hl 0 rfl) ?_
  refine lv_aload_n hx hb dJ21_getLongUnaligned_11 rfl (lv_at hl 1 rfl) ?_
  refine lv_lload_n hx hb dJ21_getLongUnaligned_12 rfl (lv_at hl 2 rfl) ?_
  refine h_getLong X hR hl.1 hu hA b hfb hb8 hn q994 q996 q995 q997 ⟨by decide, Nat.le_of_ble_eq_true rfl⟩ dJ21_getLongUnaligned_13 ?_
  exact h_lreturn hx hb hlk hret hR hL ⟨rfl, rfl⟩ (by omega) (by omega) rfl rfl dJ21_getLongUnaligned_16

set_option maxHeartbeats 4000000 in
set_option maxRecDepth 100000 in
/-- ArraysSupport.vectorizedMismatch -/
theorem vm_eq (l : Launch) (G : Gl) (w : Wd) (va vb ra rb n m : Nat) (f g : Nat → Int) (hA : w va = some (ra, iE G 1 n f)) (hB : w vb = some (rb, iE G 1 m g)) (b1 b2 : Nat → Nat) (hfb : ∀ i, i < 8 → f i = (b1 i : Int)) (hgb : ∀ i, i < 8 → g i = (b2 i : Int)) (hb1 : ∀ i, i < 8 → b1 i < 128) (hb2 : ∀ i, i < 8 → b2 i < 128) (hn : n = 8) (hm : m = 8) (he : pk8 b1 = pk8 b2) : HM l yJ12_vectorizedMismatch cJ12_vectorizedMismatch 19 (some .int) 3 0 0 G [.ref va, .long (lI (16)), .ref vb, .long (lI (16)), .int (iI (8)), .int (iI (0))] w (QI G (fun z_ w_ => z_ = (-1) ∧ w_ = w)) := by
  refine HM.mk (by decide +kernel) (Nat.le_of_ble_eq_true rfl) ?_
  intro p9 e9 s9 m9 a9 b9 meth9 c9 ls X hret hlk hnm hl H hR
  have hx := X.1.1
  have hb := X.1.2.1
  have hl : lv_has ls 19 [(0, .ref va), (1, .long (lI (16))), (3, .ref vb), (4, .long (lI (16))), (6, .int (iI (8))), (7, .int (iI (0)))] := hl
  have hL : LK G [] := fun q h => absurd h List.not_mem_nil
  generalize ([] : List Loc) = locs at hL ⊢
  have hcz := cmpZ_r (pk8 b1 : Int) (pk8 b2 : Int)
  have hb1l := pk8_lt hb1
  have hb2l := pk8_lt hb2
  have hUs : w (gC G 82) = some (0, oE 33 []) := hR.con ((X.2.2.2.2.2.2 82 (by decide)).trans rfl)
  refine h_getsI X hR (z32 := 3) [false, false, true, false, false, true, false, false, false, true, true] (3) rfl rfl q986 q134 q985 dJ12_vectorizedMismatch_0 ?_
  refine lv_iload hx hb dJ12_vectorizedMismatch_3 (lv_at hl 5 rfl) ?_
  refine h_isub hx hb dJ12_vectorizedMismatch_5 ?_
  refine W.eq (g2 := F0 m9 6 ls [.int (iI (3))]) (congrArg (fun z_ : Int => F0 m9 6 ls [.int (iI (z_))]) (show (3 - 0 : Int) = 3 from (by decide))) ?_
  refine lv_istore (lv' := [(8, .int (iI (3))), (0, .ref va), (1, .long (lI (16))), (3, .ref vb), (4, .long (lI (16))), (6, .int (iI (8))), (7, .int (iI (0)))]) hx hb dJ12_vectorizedMismatch_6 hl (by decide) rfl (fun ls hl => ?_)
  refine h_iconst hx hb dJ12_vectorizedMismatch_8 ?_
  refine lv_istore (lv' := [(9, .int (iI (0))), (8, .int (iI (3))), (0, .ref va), (1, .long (lI (16))), (3, .ref vb), (4, .long (lI (16))), (6, .int (iI (8))), (7, .int (iI (0)))]) hx hb dJ12_vectorizedMismatch_9 hl (by decide) rfl (fun ls hl => ?_)
  refine lv_iload hx hb dJ12_vectorizedMismatch_11 (lv_at hl 0 rfl) ?_
  refine lv_iload hx hb dJ12_vectorizedMismatch_13 (lv_at hl 6 rfl) ?_
  refine lv_iload hx hb dJ12_vectorizedMismatch_15 (lv_at hl 1 rfl) ?_
  refine h_ishr hx hb 3 8 dJ12_vectorizedMismatch_17 (by omega) (by decide) rfl (by decide) ?_
  refine W.eq (g2 := F0 m9 18 ls [.int (iI (1)), .int (iI (0))]) (congrArg (fun z_ : Int => F0 m9 18 ls [.int (iI (z_)), .int (iI (0))]) (show (8 / 8 : Int) = 1 from (by decide))) ?_
  refine h_icmp_ge hx hb 122 dJ12_vectorizedMismatch_18 (by decide) (by decide) (by decide) (fun z_ => absurd z_ (by decide)) (fun _ => ?_)
  refine lv_iload hx hb dJ12_vectorizedMismatch_21 (lv_at hl 0 rfl) ?_
  refine h_i2l hx hb dJ12_vectorizedMismatch_23 (by omega) ?_
  refine h_getsI X hR (z32 := 3) [false, false, true, false, false, true, false, false, false, true, true] (3) rfl rfl q986 q134 q985 dJ12_vectorizedMismatch_24 ?_
  refine lv_lshl (v := lI 0) hx hb dJ12_vectorizedMismatch_27 (by decide +kernel) ?_
  refine lv_lstore (lv' := [(10, .long (lI (0))), (9, .int (iI (0))), (8, .int (iI (3))), (0, .ref va), (1, .long (lI (16))), (3, .ref vb), (4, .long (lI (16))), (6, .int (iI (8))), (7, .int (iI (0)))]) hx hb dJ12_vectorizedMismatch_28 hl (by decide) rfl (fun ls hl => ?_)
  refine h_getsR X hR 82 (by decide) q988 q134 q987 dJ12_vectorizedMismatch_30 ?_
  refine lv_aload_n hx hb dJ12_vectorizedMismatch_33 rfl (lv_at hl 3 rfl) ?_
  refine lv_lload_n hx hb dJ12_vectorizedMismatch_34 rfl (lv_at hl 4 rfl) ?_
  refine lv_lload hx hb dJ12_vectorizedMismatch_35 (lv_at hl 0 rfl) ?_
  refine h_ladd hx hb dJ12_vectorizedMismatch_37 ?_
  refine W.eq (g2 := F0 m9 38 ls [.long (lI (16)), .ref va, .ref (gC G 82)]) (congrArg (fun z_ : Int => F0 m9 38 ls [.long (lI (z_)), .ref va, .ref (gC G 82)]) (show (16 + 0 : Int) = 16 from (by decide))) ?_
  -- call jdk/internal/misc/Unsafe.getLongUnaligned
  refine h_kLp (h_runV X hR (un_gl l G w (gC G 82) va ra n f (hasC.of hUs rfl) hA b1 hfb hb1 hn) pn_yJ21_getLongUnaligned ((hasC.of hUs rfl)) q989 q990 q991 q147 q992 ⟨by decide, by decide⟩ hl.1 (Nat.le_of_ble_eq_true rfl) dJ12_vectorizedMismatch_38 ⟨by omega, by omega⟩) hL (fun H locs hR hL => ?_)
  refine lv_lstore (lv' := [(12, .long (lI ((pk8 b1 : Int)))), (10, .long (lI (0))), (9, .int (iI (0))), (8, .int (iI (3))), (0, .ref va), (1, .long (lI (16))), (3, .ref vb), (4, .long (lI (16))), (6, .int (iI (8))), (7, .int (iI (0)))]) hx hb dJ12_vectorizedMismatch_41 hl (by decide) rfl (fun ls hl => ?_)
  refine h_getsR X hR 82 (by decide) q988 q134 q987 dJ12_vectorizedMismatch_43 ?_
  refine lv_aload_n hx hb dJ12_vectorizedMismatch_46 rfl (lv_at hl 6 rfl) ?_
  refine lv_lload hx hb dJ12_vectorizedMismatch_47 (lv_at hl 7 rfl) ?_
  refine lv_lload hx hb dJ12_vectorizedMismatch_49 (lv_at hl 1 rfl) ?_
  refine h_ladd hx hb dJ12_vectorizedMismatch_51 ?_
  refine W.eq (g2 := F0 m9 52 ls [.long (lI (16)), .ref vb, .ref (gC G 82)]) (congrArg (fun z_ : Int => F0 m9 52 ls [.long (lI (z_)), .ref vb, .ref (gC G 82)]) (show (16 + 0 : Int) = 16 from (by decide))) ?_
  -- call jdk/internal/misc/Unsafe.getLongUnaligned
  refine h_kLp (h_runV X hR (un_gl l G w (gC G 82) vb rb m g (hasC.of hUs rfl) hB b2 hgb hb2 hm) pn_yJ21_getLongUnaligned ((hasC.of hUs rfl)) q989 q990 q991 q147 q992 ⟨by decide, by decide⟩ hl.1 (Nat.le_of_ble_eq_true rfl) dJ12_vectorizedMismatch_52 ⟨by omega, by omega⟩) hL (fun H locs hR hL => ?_)
  refine lv_lstore (lv' := [(14, .long (lI ((pk8 b2 : Int)))), (12, .long (lI ((pk8 b1 : Int)))), (10, .long (lI (0))), (9, .int (iI (0))), (8, .int (iI (3))), (0, .ref va), (1, .long (lI (16))), (3, .ref vb), (4, .long (lI (16))), (6, .int (iI (8))), (7, .int (iI (0)))]) hx hb dJ12_vectorizedMismatch_55 hl (by decide) rfl (fun ls hl => ?_)
  refine lv_lload hx hb dJ12_vectorizedMismatch_57 (lv_at hl 1 rfl) ?_
  refine lv_lload hx hb dJ12_vectorizedMismatch_59 (lv_at hl 0 rfl) ?_
  refine h_lcmp hx hb dJ12_vectorizedMismatch_61 (by omega) (by omega) ?_
  refine W.eq (g2 := F0 m9 62 ls [.int (iI (0))]) (congrArg (fun z_ : Int => F0 m9 62 ls [.int (iI (z_))]) (show (cmpZ ((pk8 b1 : Int)) ((pk8 b2 : Int)) : Int) = 0 from (by rw [he]; exact cmpZ_0.mpr rfl))) ?_
  refine h_if_eq hx hb 116 dJ12_vectorizedMismatch_62 (by decide) (by decide) (fun _ => ?_) (fun z_ => absurd z_ (by decide))
  refine h_iinc (lv' := [(9, .int (iI (0 + 1))), (14, .long (lI ((pk8 b2 : Int)))), (12, .long (lI ((pk8 b1 : Int)))), (10, .long (lI (0))), (8, .int (iI (3))), (0, .ref va), (1, .long (lI (16))), (3, .ref vb), (4, .long (lI (16))), (6, .int (iI (8))), (7, .int (iI (0)))]) hx hb dJ12_vectorizedMismatch_116 hl (k := 3) rfl (by decide) rfl (fun ls hl => ?_)
  have hl : lv_has ls 19 [(9, .int (iI (1))), (14, .long (lI ((pk8 b2 : Int)))), (12, .long (lI ((pk8 b1 : Int)))), (10, .long (lI (0))), (8, .int (iI (3))), (0, .ref va), (1, .long (lI (16))), (3, .ref vb), (4, .long (lI (16))), (6, .int (iI (8))), (7, .int (iI (0)))] := lv_conv hl (congrArg (fun z_ : Int => ([(9, .int (iI (z_))), (14, .long (lI ((pk8 b2 : Int)))), (12, .long (lI ((pk8 b1 : Int)))), (10, .long (lI (0))), (8, .int (iI (3))), (0, .ref va), (1, .long (lI (16))), (3, .ref vb), (4, .long (lI (16))), (6, .int (iI (8))), (7, .int (iI (0)))] : List (Nat × Value))) (show (0 + 1 : Int) = 1 from (by decide)))
  refine lv_goto (tgt := 11) hx hb dJ12_vectorizedMismatch_119 (by decide) ?_
  refine lv_iload hx hb dJ12_vectorizedMismatch_11 (lv_at hl 0 rfl) ?_
  refine lv_iload hx hb dJ12_vectorizedMismatch_13 (lv_at hl 9 rfl) ?_
  refine lv_iload hx hb dJ12_vectorizedMismatch_15 (lv_at hl 4 rfl) ?_
  refine h_ishr hx hb 3 8 dJ12_vectorizedMismatch_17 (by omega) (by decide) rfl (by decide) ?_
  refine W.eq (g2 := F0 m9 18 ls [.int (iI (1)), .int (iI (1))]) (congrArg (fun z_ : Int => F0 m9 18 ls [.int (iI (z_)), .int (iI (1))]) (show (8 / 8 : Int) = 1 from (by decide))) ?_
  refine h_icmp_ge hx hb 122 dJ12_vectorizedMismatch_18 (by decide) (by decide) (by decide) (fun _ => ?_) (fun z_ => absurd z_ (by decide))
  refine lv_iload hx hb dJ12_vectorizedMismatch_122 (lv_at hl 9 rfl) ?_
  refine lv_iload hx hb dJ12_vectorizedMismatch_124 (lv_at hl 0 rfl) ?_
  refine lv_iload hx hb dJ12_vectorizedMismatch_126 (lv_at hl 4 rfl) ?_
  refine lv_ishl hx hb dJ12_vectorizedMismatch_128 ?_
  refine W.eq (g2 := F0 m9 129 ls [.int (iI (8)), .int (iI (8))]) (by rfl) ?_
  refine h_isub hx hb dJ12_vectorizedMismatch_129 ?_
  refine W.eq (g2 := F0 m9 130 ls [.int (iI (0))]) (congrArg (fun z_ : Int => F0 m9 130 ls [.int (iI (z_))]) (show (8 - 8 : Int) = 0 from (by decide))) ?_
  refine lv_istore (lv' := [(10, .int (iI (0))), (9, .int (iI (1))), (14, .long (lI ((pk8 b2 : Int)))), (12, .long (lI ((pk8 b1 : Int)))), (8, .int (iI (3))), (0, .ref va), (1, .long (lI (16))), (3, .ref vb), (4, .long (lI (16))), (6, .int (iI (8))), (7, .int (iI (0)))]) hx hb dJ12_vectorizedMismatch_130 hl (by decide) rfl (fun ls hl => ?_)
  refine lv_iload hx hb dJ12_vectorizedMismatch_132 (lv_at hl 10 rfl) ?_
  refine h_getsI X hR (z32 := 2) [false, false, true, false, false, true, false, true, false, true, false] (2) rfl rfl q1059 q134 q1058 dJ12_vectorizedMismatch_134 ?_
  refine h_icmp_ge hx hb 263 dJ12_vectorizedMismatch_137 (by decide) (by decide) (by decide) (fun z_ => absurd z_ (by decide)) (fun _ => ?_)
  refine h_iconst hx hb dJ12_vectorizedMismatch_140 ?_
  refine h_getsI X hR (z32 := 2) [false, false, true, false, false, true, false, true, false, true, false] (2) rfl rfl q1059 q134 q1058 dJ12_vectorizedMismatch_141 ?_
  refine lv_iload hx hb dJ12_vectorizedMismatch_144 (lv_at hl 10 rfl) ?_
  refine h_isub hx hb dJ12_vectorizedMismatch_146 ?_
  refine W.eq (g2 := F0 m9 147 ls [.int (iI (2)), .int (iI (1))]) (congrArg (fun z_ : Int => F0 m9 147 ls [.int (iI (z_)), .int (iI (1))]) (show (2 - 0 : Int) = 2 from (by decide))) ?_
  refine lv_ishl hx hb dJ12_vectorizedMismatch_147 ?_
  refine W.eq (g2 := F0 m9 148 ls [.int (iI (4))]) (by rfl) ?_
  refine lv_istore (lv' := [(11, .int (iI (4))), (10, .int (iI (0))), (9, .int (iI (1))), (14, .long (lI ((pk8 b2 : Int)))), (12, .long (lI ((pk8 b1 : Int)))), (8, .int (iI (3))), (0, .ref va), (1, .long (lI (16))), (3, .ref vb), (4, .long (lI (16))), (6, .int (iI (8))), (7, .int (iI (0)))]) hx hb dJ12_vectorizedMismatch_148 hl (by decide) rfl (fun ls hl => ?_)
  refine lv_iload hx hb dJ12_vectorizedMismatch_150 (lv_at hl 1 rfl) ?_
  refine lv_iload hx hb dJ12_vectorizedMismatch_152 (lv_at hl 0 rfl) ?_
  refine h_icmp_lt hx hb 258 dJ12_vectorizedMismatch_154 (by decide) (by decide) (by decide) (fun _ => ?_) (fun z_ => absurd z_ (by decide))
  refine lv_iload hx hb dJ12_vectorizedMismatch_258 (lv_at hl 1 rfl) ?_
  refine h_iconst hx hb dJ12_vectorizedMismatch_260 ?_
  refine lv_ixor hx hb dJ12_vectorizedMismatch_261 ?_
  refine W.eq (g2 := F0 m9 262 ls [.int (iI (-1))]) (by rfl) ?_
  exact h_ireturn hx hb hlk hret hR hL rfl ⟨rfl, rfl⟩ (by omega) (by omega) rfl rfl dJ12_vectorizedMismatch_262

set_option maxHeartbeats 4000000 in
set_option maxRecDepth 100000 in
/-- ArraysSupport.vectorizedMismatch -/
theorem vm_ne (l : Launch) (G : Gl) (w : Wd) (va vb ra rb n m : Nat) (f g : Nat → Int) (hA : w va = some (ra, iE G 1 n f)) (hB : w vb = some (rb, iE G 1 m g)) (b1 b2 : Nat → Nat) (hfb : ∀ i, i < 8 → f i = (b1 i : Int)) (hgb : ∀ i, i < 8 → g i = (b2 i : Int)) (hb1 : ∀ i, i < 8 → b1 i < 128) (hb2 : ∀ i, i < 8 → b2 i < 128) (hn : n = 8) (hm : m = 8) (k : Nat) (hk : k < 8) (he : ∀ i, i < k → b1 i = b2 i) (hne : b1 k ≠ b2 k) : HM l yJ12_vectorizedMismatch cJ12_vectorizedMismatch 19 (some .int) 3 0 0 G [.ref va, .long (lI (16)), .ref vb, .long (lI (16)), .int (iI (8)), .int (iI (0))] w (QI G (fun z_ w_ => z_ = (k : Int) ∧ w_ = w)) := by
  refine HM.mk (by decide +kernel) (Nat.le_of_ble_eq_true rfl) ?_
  intro p9 e9 s9 m9 a9 b9 meth9 c9 ls X hret hlk hnm hl H hR
  have hx := X.1.1
  have hb := X.1.2.1
  have hl : lv_has ls 19 [(0, .ref va), (1, .long (lI (16))), (3, .ref vb), (4, .long (lI (16))), (6, .int (iI (8))), (7, .int (iI (0)))] := hl
  have hL : LK G [] := fun q h => absurd h List.not_mem_nil
  generalize ([] : List Loc) = locs at hL ⊢
  have hcz := cmpZ_r (pk8 b1 : Int) (pk8 b2 : Int)
  have hb1l := pk8_lt hb1
  have hb2l := pk8_lt hb2
  obtain ⟨t, ht1, ht2, htl⟩ := pk8_dif hb1 hb2 hk he hne
  have hpn : (pk8 b1 : Int) ≠ (pk8 b2 : Int) := fun q_ => hne (pk8_inj hb1 hb2 (by omega) k hk)
  have hxl : pk8 b1 ^^^ pk8 b2 < 9223372036854775808 := Nat.xor_lt_two_pow (n := 63) hb1l hb2l
  have hUs : w (gC G 82) = some (0, oE 33 []) := hR.con ((X.2.2.2.2.2.2 82 (by decide)).trans rfl)
  refine h_getsI X hR (z32 := 3) [false, false, true, false, false, true, false, false, false, true, true] (3) rfl rfl q986 q134 q985 dJ12_vectorizedMismatch_0 ?_
  refine lv_iload hx hb dJ12_vectorizedMismatch_3 (lv_at hl 5 rfl) ?_
  refine h_isub hx hb dJ12_vectorizedMismatch_5 ?_
  refine W.eq (g2 := F0 m9 6 ls [.int (iI (3))]) (congrArg (fun z_ : Int => F0 m9 6 ls [.int (iI (z_))]) (show (3 - 0 : Int) = 3 from (by decide))) ?_
  refine lv_istore (lv' := [(8, .int (iI (3))), (0, .ref va), (1, .long (lI (16))), (3, .ref vb), (4, .long (lI (16))), (6, .int (iI (8))), (7, .int (iI (0)))]) hx hb dJ12_vectorizedMismatch_6 hl (by decide) rfl (fun ls hl => ?_)
  refine h_iconst hx hb dJ12_vectorizedMismatch_8 ?_
  refine lv_istore (lv' := [(9, .int (iI (0))), (8, .int (iI (3))), (0, .ref va), (1, .long (lI (16))), (3, .ref vb), (4, .long (lI (16))), (6, .int (iI (8))), (7, .int (iI (0)))]) hx hb dJ12_vectorizedMismatch_9 hl (by decide) rfl (fun ls hl => ?_)
  refine lv_iload hx hb dJ12_vectorizedMismatch_11 (lv_at hl 0 rfl) ?_
  refine lv_iload hx hb dJ12_vectorizedMismatch_13 (lv_at hl 6 rfl) ?_
  refine lv_iload hx hb dJ12_vectorizedMismatch_15 (lv_at hl 1 rfl) ?_
  refine h_ishr hx hb 3 8 dJ12_vectorizedMismatch_17 (by omega) (by decide) rfl (by decide) ?_
  refine W.eq (g2 := F0 m9 18 ls [.int (iI (1)), .int (iI (0))]) (congrArg (fun z_ : Int => F0 m9 18 ls [.int (iI (z_)), .int (iI (0))]) (show (8 / 8 : Int) = 1 from (by decide))) ?_
  refine h_icmp_ge hx hb 122 dJ12_vectorizedMismatch_18 (by decide) (by decide) (by decide) (fun z_ => absurd z_ (by decide)) (fun _ => ?_)
  refine lv_iload hx hb dJ12_vectorizedMismatch_21 (lv_at hl 0 rfl) ?_
  refine h_i2l hx hb dJ12_vectorizedMismatch_23 (by omega) ?_
  refine h_getsI X hR (z32 := 3) [false, false, true, false, false, true, false, false, false, true, true] (3) rfl rfl q986 q134 q985 dJ12_vectorizedMismatch_24 ?_
  refine lv_lshl (v := lI 0) hx hb dJ12_vectorizedMismatch_27 (by decide +kernel) ?_
  refine lv_lstore (lv' := [(10, .long (lI (0))), (9, .int (iI (0))), (8, .int (iI (3))), (0, .ref va), (1, .long (lI (16))), (3, .ref vb), (4, .long (lI (16))), (6, .int (iI (8))), (7, .int (iI (0)))]) hx hb dJ12_vectorizedMismatch_28 hl (by decide) rfl (fun ls hl => ?_)
  refine h_getsR X hR 82 (by decide) q988 q134 q987 dJ12_vectorizedMismatch_30 ?_
  refine lv_aload_n hx hb dJ12_vectorizedMismatch_33 rfl (lv_at hl 3 rfl) ?_
  refine lv_lload_n hx hb dJ12_vectorizedMismatch_34 rfl (lv_at hl 4 rfl) ?_
  refine lv_lload hx hb dJ12_vectorizedMismatch_35 (lv_at hl 0 rfl) ?_
  refine h_ladd hx hb dJ12_vectorizedMismatch_37 ?_
  refine W.eq (g2 := F0 m9 38 ls [.long (lI (16)), .ref va, .ref (gC G 82)]) (congrArg (fun z_ : Int => F0 m9 38 ls [.long (lI (z_)), .ref va, .ref (gC G 82)]) (show (16 + 0 : Int) = 16 from (by decide))) ?_
  -- call jdk/internal/misc/Unsafe.getLongUnaligned
  refine h_kLp (h_runV X hR (un_gl l G w (gC G 82) va ra n f (hasC.of hUs rfl) hA b1 hfb hb1 hn) pn_yJ21_getLongUnaligned ((hasC.of hUs rfl)) q989 q990 q991 q147 q992 ⟨by decide, by decide⟩ hl.1 (Nat.le_of_ble_eq_true rfl) dJ12_vectorizedMismatch_38 ⟨by omega, by omega⟩) hL (fun H locs hR hL => ?_)
  refine lv_lstore (lv' := [(12, .long (lI ((pk8 b1 : Int)))), (10, .long (lI (0))), (9, .int (iI (0))), (8, .int (iI (3))), (0, .ref va), (1, .long (lI (16))), (3, .ref vb), (4, .long (lI (16))), (6, .int (iI (8))), (7, .int (iI (0)))]) hx hb dJ12_vectorizedMismatch_41 hl (by decide) rfl (fun ls hl => ?_)
  refine h_getsR X hR 82 (by decide) q988 q134 q987 dJ12_vectorizedMismatch_43 ?_
  refine lv_aload_n hx hb dJ12_vectorizedMismatch_46 rfl (lv_at hl 6 rfl) ?_
  refine lv_lload hx hb dJ12_vectorizedMismatch_47 (lv_at hl 7 rfl) ?_
  refine lv_lload hx hb dJ12_vectorizedMismatch_49 (lv_at hl 1 rfl) ?_
  refine h_ladd hx hb dJ12_vectorizedMismatch_51 ?_
  refine W.eq (g2 := F0 m9 52 ls [.long (lI (16)), .ref vb, .ref (gC G 82)]) (congrArg (fun z_ : Int => F0 m9 52 ls [.long (lI (z_)), .ref vb, .ref (gC G 82)]) (show (16 + 0 : Int) = 16 from (by decide))) ?_
  -- call jdk/internal/misc/Unsafe.getLongUnaligned
  refine h_kLp (h_runV X hR (un_gl l G w (gC G 82) vb rb m g (hasC.of hUs rfl) hB b2 hgb hb2 hm) pn_yJ21_getLongUnaligned ((hasC.of hUs rfl)) q989 q990 q991 q147 q992 ⟨by decide, by decide⟩ hl.1 (Nat.le_of_ble_eq_true rfl) dJ12_vectorizedMismatch_52 ⟨by omega, by omega⟩) hL (fun H locs hR hL => ?_)
  refine lv_lstore (lv' := [(14, .long (lI ((pk8 b2 : Int)))), (12, .long (lI ((pk8 b1 : Int)))), (10, .long (lI (0))), (9, .int (iI (0))), (8, .int (iI (3))), (0, .ref va), (1, .long (lI (16))), (3, .ref vb), (4, .long (lI (16))), (6, .int (iI (8))), (7, .int (iI (0)))]) hx hb dJ12_vectorizedMismatch_55 hl (by decide) rfl (fun ls hl => ?_)
  refine lv_lload hx hb dJ12_vectorizedMismatch_57 (lv_at hl 1 rfl) ?_
  refine lv_lload hx hb dJ12_vectorizedMismatch_59 (lv_at hl 0 rfl) ?_
  refine h_lcmp hx hb dJ12_vectorizedMismatch_61 (by omega) (by omega) ?_
  refine h_if_eq hx hb 116 dJ12_vectorizedMismatch_62 (by decide) (by omega) (fun c_e => ?_) (fun c_e => ?_)
  ·
    exact absurd (cmpZ_0.mp c_e) hpn
  ·
    refine lv_lload hx hb dJ12_vectorizedMismatch_65 (lv_at hl 1 rfl) ?_
    refine lv_lload hx hb dJ12_vectorizedMismatch_67 (lv_at hl 0 rfl) ?_
    refine lv_lxor hx hb dJ12_vectorizedMismatch_69 ?_
    refine W.eq (g2 := F0 m9 70 ls [.long (lI ((pk8 b1 ^^^ pk8 b2 : Nat) : Int))]) (by rw [lI_xor _ _ hb1l hb2l]) ?_
    refine lv_lstore (lv' := [(16, .long (lI (((pk8 b1 ^^^ pk8 b2 : Nat) : Int)))), (14, .long (lI ((pk8 b2 : Int)))), (12, .long (lI ((pk8 b1 : Int)))), (10, .long (lI (0))), (9, .int (iI (0))), (8, .int (iI (3))), (0, .ref va), (1, .long (lI (16))), (3, .ref vb), (4, .long (lI (16))), (6, .int (iI (8))), (7, .int (iI (0)))]) hx hb dJ12_vectorizedMismatch_70 hl (by decide) rfl (fun ls hl => ?_)
    refine h_getsI X hR (z32 := 0) [false, false, true, false, false, true, false, false, true, true, true] (0) rfl rfl q1042 q134 q1041 dJ12_vectorizedMismatch_72 ?_
    refine h_if_eq hx hb 93 dJ12_vectorizedMismatch_75 (by decide) (by decide) (fun _ => ?_) (fun z_ => absurd z_ (by decide))
    refine lv_lload hx hb dJ12_vectorizedMismatch_93 (lv_at hl 0 rfl) ?_
    -- call java/lang/Long.numberOfTrailingZeros
    refine h_kIp (h_runS X hR (ln_ntz l G w (pk8 b1 ^^^ pk8 b2) t htl hxl (by omega)) pn_yJ22_numberOfTrailingZeros q1052 q1053 q149 q1054 ⟨by decide, by decide⟩ hl.1 (Nat.le_of_ble_eq_true rfl) dJ12_vectorizedMismatch_95 ⟨by omega, by omega⟩) hL (fun H locs hR hL => ?_)
    refine h_getsI X hR (z32 := 3) [false, false, true, false, false, true, false, true, false, false] (3) rfl rfl q1051 q134 q1050 dJ12_vectorizedMismatch_98 ?_
    refine lv_iload hx hb dJ12_vectorizedMismatch_101 (lv_at hl 11 rfl) ?_
    refine h_iadd hx hb dJ12_vectorizedMismatch_103 ?_
    refine W.eq (g2 := F0 m9 104 ls [.int (iI (3)), .int (iI ((t : Int)))]) (congrArg (fun z_ : Int => F0 m9 104 ls [.int (iI (z_)), .int (iI ((t : Int)))]) (show (3 + 0 : Int) = 3 from (by decide))) ?_
    refine h_ishr hx hb 3 8 dJ12_vectorizedMismatch_104 (by omega) (by decide) rfl (by decide) ?_
    refine W.eq (g2 := F0 m9 105 ls [.int (iI ((k : Int)))]) (congrArg (fun z_ : Int => F0 m9 105 ls [.int (iI (z_))]) (show (((t : Int)) / 8 : Int) = (k : Int) from (by omega))) ?_
    refine lv_istore (lv' := [(18, .int (iI ((k : Int)))), (16, .long (lI (((pk8 b1 ^^^ pk8 b2 : Nat) : Int)))), (14, .long (lI ((pk8 b2 : Int)))), (12, .long (lI ((pk8 b1 : Int)))), (10, .long (lI (0))), (9, .int (iI (0))), (8, .int (iI (3))), (0, .ref va), (1, .long (lI (16))), (3, .ref vb), (4, .long (lI (16))), (6, .int (iI (8))), (7, .int (iI (0)))]) hx hb dJ12_vectorizedMismatch_105 hl (by decide) rfl (fun ls hl => ?_)
    refine lv_iload hx hb dJ12_vectorizedMismatch_107 (lv_at hl 5 rfl) ?_
    refine lv_iload hx hb dJ12_vectorizedMismatch_109 (lv_at hl 6 rfl) ?_
    refine lv_ishl hx hb dJ12_vectorizedMismatch_111 ?_
    refine W.eq (g2 := F0 m9 112 ls [.int (iI (0))]) (by rfl) ?_
    refine lv_iload hx hb dJ12_vectorizedMismatch_112 (lv_at hl 0 rfl) ?_
    refine h_iadd hx hb dJ12_vectorizedMismatch_114 ?_
    exact h_ireturn hx hb hlk hret hR hL rfl ⟨by omega, rfl⟩ (by omega) (by omega) rfl rfl dJ12_vectorizedMismatch_115
