/-! JDK: String's length, charAt, isLatin1, coder, equals, isEmpty -/
set_option maxRecDepth 100000

theorem pn_yJ10_checkIndex : ParN yJ10_checkIndex 2 := by decide +kernel
theorem pn_yJ10_coder : ParN yJ10_coder 0 := by decide +kernel
theorem pn_yJ10_isLatin1 : ParN yJ10_isLatin1 0 := by decide +kernel
theorem pn_yJ16_charAt : ParN yJ16_charAt 2 := by decide +kernel
theorem pn_yJ15_checkIndex : ParN yJ15_checkIndex 3 := by decide +kernel

set_option maxHeartbeats 4000000 in
set_option maxRecDepth 100000 in
/-- String.coder -/
theorem s_coder (l : Launch) (G : Gl) (w : Wd) (a : Nat) (L : List Int) (hS : StrAt G w a L) : HM l yJ10_coder cJ10_coder 1 (some .byte) 1 0 0 G [.ref a] w (QI G (fun z_ w_ => z_ = 0 ∧ w_ = w)) := by
  refine HM.mk (by decide +kernel) (Nat.le_of_ble_eq_true rfl) ?_
  intro p9 e9 s9 m9 a9 b9 meth9 c9 ls X hret hlk hnm hl H hR
  have hx := X.1.1
  have hb := X.1.2.1
  have hl : lv_has ls 1 [(0, .ref a)] := hl
  have hL : LK G [] := fun q h => absurd h List.not_mem_nil
  generalize ([] : List Loc) = locs at hL ⊢
  have hS0 := hS
  obtain ⟨va, hS1, hS2, hS3, hS4⟩ := hS
  refine h_getsI X hR (z32 := 1) [false, false, false, false, false, false, false, true, false, true, true] (1) rfl rfl q273 q132 q380 dJ10_coder_0 ?_
  refine h_if_eq hx hb 13 dJ10_coder_3 (by decide) (by decide) (fun z_ => absurd z_ (by decide)) (fun _ => ?_)
  refine lv_aload_n hx hb dJ10_coder_6 rfl (lv_at hl 0 rfl) ?_
  refine h_strC X hR hS1 q522 dJ10_coder_7 ?_
  refine lv_goto (tgt := 14) hx hb dJ10_coder_10 (by decide) ?_
  exact h_ireturn hx hb hlk hret hR hL rfl ⟨rfl, rfl⟩ (by omega) (by omega) rfl rfl dJ10_coder_14

set_option maxHeartbeats 4000000 in
set_option maxRecDepth 100000 in
/-- String.isLatin1 -/
theorem s_isLatin1 (l : Launch) (G : Gl) (w : Wd) (a : Nat) (L : List Int) (hS : StrAt G w a L) : HM l yJ10_isLatin1 cJ10_isLatin1 1 (some .boolean) 1 0 0 G [.ref a] w (QI G (fun z_ w_ => z_ = 1 ∧ w_ = w)) := by
  refine HM.mk (by decide +kernel) (Nat.le_of_ble_eq_true rfl) ?_
  intro p9 e9 s9 m9 a9 b9 meth9 c9 ls X hret hlk hnm hl H hR
  have hx := X.1.1
  have hb := X.1.2.1
  have hl : lv_has ls 1 [(0, .ref a)] := hl
  have hL : LK G [] := fun q h => absurd h List.not_mem_nil
  generalize ([] : List Loc) = locs at hL ⊢
  have hS0 := hS
  obtain ⟨va, hS1, hS2, hS3, hS4⟩ := hS
  refine h_getsI X hR (z32 := 1) [false, false, false, false, false, false, false, true, false, true, true] (1) rfl rfl q273 q132 q380 dJ10_isLatin1_0 ?_
  refine h_if_eq hx hb 17 dJ10_isLatin1_3 (by decide) (by decide) (fun z_ => absurd z_ (by decide)) (fun _ => ?_)
  refine lv_aload_n hx hb dJ10_isLatin1_6 rfl (lv_at hl 0 rfl) ?_
  refine h_strC X hR hS1 q522 dJ10_isLatin1_7 ?_
  refine h_if_ne hx hb 17 dJ10_isLatin1_10 (by decide) (by decide) (fun z_ => absurd z_ (by decide)) (fun _ => ?_)
  refine h_iconst hx hb dJ10_isLatin1_13 ?_
  refine lv_goto (tgt := 18) hx hb dJ10_isLatin1_14 (by decide) ?_
  exact h_ireturn hx hb hlk hret hR hL rfl ⟨rfl, rfl⟩ (by omega) (by omega) rfl rfl dJ10_isLatin1_18

set_option maxHeartbeats 4000000 in
set_option maxRecDepth 100000 in
/-- String.length -/
theorem s_length (l : Launch) (G : Gl) (w : Wd) (a : Nat) (L : List Int) (hS : StrAt G w a L) : HM l yJ10_length cJ10_length 1 (some .int) 2 0 0 G [.ref a] w (QI G (fun z_ w_ => z_ = (L.length : Int) ∧ w_ = w)) := by
  refine HM.mk (by decide +kernel) (Nat.le_of_ble_eq_true rfl) ?_
  intro p9 e9 s9 m9 a9 b9 meth9 c9 ls X hret hlk hnm hl H hR
  have hx := X.1.1
  have hb := X.1.2.1
  have hl : lv_has ls 1 [(0, .ref a)] := hl
  have hL : LK G [] := fun q h => absurd h List.not_mem_nil
  generalize ([] : List Loc) = locs at hL ⊢
  have hS0 := hS
  obtain ⟨va, hS1, hS2, hS3, hS4⟩ := hS
  refine lv_aload_n hx hb dJ10_length_0 rfl (lv_at hl 0 rfl) ?_
  refine h_strV X hR hS1 q521 dJ10_length_1 ?_
  refine h_alenI X hR hS2 rfl dJ10_length_4 ?_
  refine lv_aload_n hx hb dJ10_length_5 rfl (lv_at hl 0 rfl) ?_
  -- call java/lang/String.coder
  refine h_kIp (h_runV X hR (s_coder l G w a L hS0) pn_yJ10_coder (hS0.c) q376 q377 q378 q132 q379 ⟨by decide, by decide⟩ hl.1 (Nat.le_of_ble_eq_true rfl) dJ10_length_6 ⟨by omega, by omega⟩) hL (fun H locs hR hL => ?_)
  refine h_ishr hx hb 0 1 dJ10_length_9 (by omega) (by decide) rfl (by decide) ?_
  exact h_ireturn hx hb hlk hret hR hL rfl ⟨by omega, rfl⟩ (by omega) (by omega) rfl rfl dJ10_length_10

set_option maxHeartbeats 4000000 in
set_option maxRecDepth 100000 in
/-- String.isEmpty -/
theorem s_isEmpty (l : Launch) (G : Gl) (w : Wd) (a : Nat) (L : List Int) (hS : StrAt G w a L) : HM l yJ10_isEmpty cJ10_isEmpty 1 (some .boolean) 1 0 0 G [.ref a] w (QI G (fun z_ w_ => z_ = b2i (L.length = 0) ∧ w_ = w)) := by
  refine HM.mk (by decide +kernel) (Nat.le_of_ble_eq_true rfl) ?_
  intro p9 e9 s9 m9 a9 b9 meth9 c9 ls X hret hlk hnm hl H hR
  have hx := X.1.1
  have hb := X.1.2.1
  have hl : lv_has ls 1 [(0, .ref a)] := hl
  have hL : LK G [] := fun q h => absurd h List.not_mem_nil
  generalize ([] : List Loc) = locs at hL ⊢
  have hS0 := hS
  obtain ⟨va, hS1, hS2, hS3, hS4⟩ := hS
  refine lv_aload_n hx hb dJ10_isEmpty_0 rfl (lv_at hl 0 rfl) ?_
  refine h_strV X hR hS1 q521 dJ10_isEmpty_1 ?_
  refine h_alenI X hR hS2 rfl dJ10_isEmpty_4 ?_
  refine h_if_ne hx hb 12 dJ10_isEmpty_5 (by decide) (by omega) (fun c_e => ?_) (fun c_e => ?_)
  ·
    refine h_iconst hx hb dJ10_isEmpty_12 ?_
    exact h_ireturn hx hb hlk hret hR hL (nar01 (by omega)) ⟨by first | exact (b2i_t (by omega)).symm | exact (b2i_f (by omega)).symm, rfl⟩ (by omega) (by omega) rfl rfl dJ10_isEmpty_13
  ·
    refine h_iconst hx hb dJ10_isEmpty_8 ?_
    refine lv_goto (tgt := 13) hx hb dJ10_isEmpty_9 (by decide) ?_
    exact h_ireturn hx hb hlk hret hR hL (nar01 (by omega)) ⟨by first | exact (b2i_t (by omega)).symm | exact (b2i_f (by omega)).symm, rfl⟩ (by omega) (by omega) rfl rfl dJ10_isEmpty_13

set_option maxHeartbeats 4000000 in
set_option maxRecDepth 100000 in
/-- Preconditions.checkIndex -/
theorem s_pcheck0 (l : Launch) (G : Gl) (w : Wd) (i n : Int)  (h0 : 0 ≤ i ∧ i < n) (h1 : R32 n) : HM l yJ15_checkIndex cJ15_checkIndex 3 (some .int) 1 0 0 G [.int (iI (i)), .int (iI (n)), .null] w (QI G (fun z_ w_ => z_ = i ∧ w_ = w)) := by
  refine HM.mk (by decide +kernel) (Nat.le_of_ble_eq_true rfl) ?_
  intro p9 e9 s9 m9 a9 b9 meth9 c9 ls X hret hlk hnm hl H hR
  have hx := X.1.1
  have hb := X.1.2.1
  have hl : lv_has ls 3 [(0, .int (iI (i))), (1, .int (iI (n))), (2, .null)] := hl
  have hL : LK G [] := fun q h => absurd h List.not_mem_nil
  generalize ([] : List Loc) = locs at hL ⊢
  refine lv_iload_n hx hb dJ15_checkIndex_0 rfl (lv_at hl 0 rfl) ?_
  refine h_if_lt hx hb 9 dJ15_checkIndex_1 (by decide) (by omega) (fun c_1 => ?_) (fun c_1 => ?_)
  ·
    exact absurd h0.1 (by omega)
  ·
    refine lv_iload_n hx hb dJ15_checkIndex_4 rfl (lv_at hl 0 rfl) ?_
    refine lv_iload_n hx hb dJ15_checkIndex_5 rfl (lv_at hl 1 rfl) ?_
    refine h_icmp_lt hx hb 16 dJ15_checkIndex_6 (by decide) (by omega) (by omega) (fun c_2 => ?_) (fun c_2 => ?_)
    ·
      refine lv_iload_n hx hb dJ15_checkIndex_16 rfl (lv_at hl 0 rfl) ?_
      exact h_ireturn hx hb hlk hret hR hL rfl ⟨rfl, rfl⟩ (by omega) (by omega) rfl rfl dJ15_checkIndex_17
    ·
      exact absurd h0.2 (by omega)
set_option maxHeartbeats 4000000 in
set_option maxRecDepth 100000 in
/-- Preconditions.checkIndex -/
theorem s_pcheckA (l : Launch) (G : Gl) (w : Wd) (i n : Int) (o : Nat) (h0 : 0 ≤ i ∧ i < n) (h1 : R32 n) : HM l yJ15_checkIndex cJ15_checkIndex 3 (some .int) 1 0 0 G [.int (iI (i)), .int (iI (n)), .ref o] w (QI G (fun z_ w_ => z_ = i ∧ w_ = w)) := by
  refine HM.mk (by decide +kernel) (Nat.le_of_ble_eq_true rfl) ?_
  intro p9 e9 s9 m9 a9 b9 meth9 c9 ls X hret hlk hnm hl H hR
  have hx := X.1.1
  have hb := X.1.2.1
  have hl : lv_has ls 3 [(0, .int (iI (i))), (1, .int (iI (n))), (2, .ref o)] := hl
  have hL : LK G [] := fun q h => absurd h List.not_mem_nil
  generalize ([] : List Loc) = locs at hL ⊢
  refine lv_iload_n hx hb dJ15_checkIndex_0 rfl (lv_at hl 0 rfl) ?_
  refine h_if_lt hx hb 9 dJ15_checkIndex_1 (by decide) (by omega) (fun c_1 => ?_) (fun c_1 => ?_)
  ·
    exact absurd h0.1 (by omega)
  ·
    refine lv_iload_n hx hb dJ15_checkIndex_4 rfl (lv_at hl 0 rfl) ?_
    refine lv_iload_n hx hb dJ15_checkIndex_5 rfl (lv_at hl 1 rfl) ?_
    refine h_icmp_lt hx hb 16 dJ15_checkIndex_6 (by decide) (by omega) (by omega) (fun c_2 => ?_) (fun c_2 => ?_)
    ·
      refine lv_iload_n hx hb dJ15_checkIndex_16 rfl (lv_at hl 0 rfl) ?_
      exact h_ireturn hx hb hlk hret hR hL rfl ⟨rfl, rfl⟩ (by omega) (by omega) rfl rfl dJ15_checkIndex_17
    ·
      exact absurd h0.2 (by omega)
theorem s_pcheck (l : Launch) (G : Gl) (w : Wd) (i n : Int) (o : Option Nat) (h0 : 0 ≤ i ∧ i < n) (h1 : R32 n) : HM l yJ15_checkIndex cJ15_checkIndex 3 (some .int) 1 0 0 G [.int (iI (i)), .int (iI (n)), va_rf o] w (QI G (fun z_ w_ => z_ = i ∧ w_ = w)) := by
  cases o with
  | none => exact s_pcheck0 l G w i n h0 h1
  | some q_ => exact s_pcheckA l G w i n q_ h0 h1

set_option maxHeartbeats 4000000 in
set_option maxRecDepth 100000 in
/-- String.checkIndex -/
theorem s_check (l : Launch) (G : Gl) (w : Wd) (i n : Int) (h0 : 0 ≤ i ∧ i < n) (h1 : R32 n) : HM l yJ10_checkIndex cJ10_checkIndex 2 none 2 0 0 G [.int (iI (i)), .int (iI (n))] w (QV G (fun w_ => w_ = w)) := by
  refine HM.mk (by decide +kernel) (Nat.le_of_ble_eq_true rfl) ?_
  intro p9 e9 s9 m9 a9 b9 meth9 c9 ls X hret hlk hnm hl H hR
  have hx := X.1.1
  have hb := X.1.2.1
  have hl : lv_has ls 2 [(0, .int (iI (i))), (1, .int (iI (n)))] := hl
  have hL : LK G [] := fun q h => absurd h List.not_mem_nil
  generalize ([] : List Loc) = locs at hL ⊢
  refine lv_iload_n hx hb dJ10_checkIndex_0 rfl (lv_at hl 0 rfl) ?_
  refine lv_iload_n hx hb dJ10_checkIndex_1 rfl (lv_at hl 1 rfl) ?_
  refine h_getsQ X hR [false, false, false, false, false, false, false, true, true, false] rfl q359 q138 q358 dJ10_checkIndex_2 (fun o_1 => ?_)
  -- call jdk/internal/util/Preconditions.checkIndex
  refine h_kIp (h_runS X hR (s_pcheck l G w i n o_1 (by omega) (by omega)) pn_yJ15_checkIndex q1468 q1469 q138 q1470 ⟨by decide, by decide⟩ hl.1 (Nat.le_of_ble_eq_true rfl) dJ10_checkIndex_5 ⟨by omega, by omega⟩) hL (fun H locs hR hL => ?_)
  refine lv_pop hx hb dJ10_checkIndex_8 rfl ?_
  exact h_vreturn hx hb hlk hret hR hL (by rfl) (by omega) (by omega) rfl rfl dJ10_checkIndex_9

theorem narC {z : Int} (h : 0 ≤ z ∧ z < 65536) : narrow .char (.int (iI z)) = .int (iI z) := by
  show Value.int (((iI z).toUInt32 % 65536).toInt32) = _
  rw [iI_i2c z h]

set_option maxHeartbeats 4000000 in
set_option maxRecDepth 100000 in
/-- StringLatin1.charAt -/
theorem s_lcharAt (l : Launch) (G : Gl) (w : Wd) (va r : Nat) (L : List Int) (i : Nat) (hV : w va = some (r, iE G 1 L.length (fun j => L.getD j 0))) (hi : i < L.length) (hL0 : L.length < 1000000) (hLx : 0 ≤ L.getD i 0 ∧ L.getD i 0 < 128) : HM l yJ16_charAt cJ16_charAt 2 (some .char) 3 0 0 G [.ref va, .int (iI ((i : Int)))] w (QI G (fun z_ w_ => z_ = L.getD i 0 ∧ w_ = w)) := by
  refine HM.mk (by decide +kernel) (Nat.le_of_ble_eq_true rfl) ?_
  intro p9 e9 s9 m9 a9 b9 meth9 c9 ls X hret hlk hnm hl H hR
  have hx := X.1.1
  have hb := X.1.2.1
  have hl : lv_has ls 2 [(0, .ref va), (1, .int (iI ((i : Int))))] := hl
  have hL : LK G [] := fun q h => absurd h List.not_mem_nil
  generalize ([] : List Loc) = locs at hL ⊢
  refine lv_iload_n hx hb dJ16_charAt_0 rfl (lv_at hl 1 rfl) ?_
  refine lv_aload_n hx hb dJ16_charAt_1 rfl (lv_at hl 0 rfl) ?_
  refine h_alenI X hR hV rfl dJ16_charAt_2 ?_
  -- call java/lang/String.checkIndex
  refine h_kVp (h_runS X hR (s_check l G w ((i : Int)) (((L.length : Nat) : Int)) (by omega) (by omega)) pn_yJ10_checkIndex q1465 q1466 q132 q1467 ⟨by decide, by decide⟩ hl.1 (Nat.le_of_ble_eq_true rfl) dJ16_charAt_3 ⟨by omega, by omega⟩) hL (fun H locs hR hL => ?_)
  refine lv_aload_n hx hb dJ16_charAt_6 rfl (lv_at hl 0 rfl) ?_
  refine lv_iload_n hx hb dJ16_charAt_7 rfl (lv_at hl 1 rfl) ?_
  refine h_bald X hR hV (by omega) (by omega) dJ16_charAt_8 ?_
  refine W.eq (g2 := F0 m9 9 ls [.int (iI (L.getD i 0))]) (congrArg (fun z_ : Int => F0 m9 9 ls [.int (iI (z_))]) (show ((fun j => L.getD j 0) ((i : Int)).toNat : Int) = L.getD i 0 from (by rfl))) ?_
  refine h_sipush hx hb dJ16_charAt_9 (by decide) ?_
  refine h_iand hx hb dJ16_charAt_12 (iI_and255 _) ?_
  refine h_i2c hx hb dJ16_charAt_13 (by omega) ?_
  exact h_ireturn hx hb hlk hret hR hL (narC (by omega)) ⟨by omega, rfl⟩ (by omega) (by omega) rfl rfl dJ16_charAt_14

set_option maxHeartbeats 4000000 in
set_option maxRecDepth 100000 in
/-- String.charAt -/
theorem s_charAt (l : Launch) (G : Gl) (w : Wd) (a : Nat) (L : List Int) (hS : StrAt G w a L) (i : Nat) (hi : i < L.length) : HM l yJ10_charAt cJ10_charAt 2 (some .char) 4 0 0 G [.ref a, .int (iI ((i : Int)))] w (QI G (fun z_ w_ => z_ = L.getD i 0 ∧ w_ = w)) := by
  refine HM.mk (by decide +kernel) (Nat.le_of_ble_eq_true rfl) ?_
  intro p9 e9 s9 m9 a9 b9 meth9 c9 ls X hret hlk hnm hl H hR
  have hx := X.1.1
  have hb := X.1.2.1
  have hl : lv_has ls 2 [(0, .ref a), (1, .int (iI ((i : Int))))] := hl
  have hL : LK G [] := fun q h => absurd h List.not_mem_nil
  generalize ([] : List Loc) = locs at hL ⊢
  have hS0 := hS
  obtain ⟨va, hS1, hS2, hS3, hS4⟩ := hS
  refine lv_aload_n hx hb dJ10_charAt_0 rfl (lv_at hl 0 rfl) ?_
  -- call java/lang/String.isLatin1
  refine h_kIp (h_runV X hR (s_isLatin1 l G w a L hS0) pn_yJ10_isLatin1 (hS0.c) q784 q785 q786 q132 q787 ⟨by decide, by decide⟩ hl.1 (Nat.le_of_ble_eq_true rfl) dJ10_charAt_1 ⟨by omega, by omega⟩) hL (fun H locs hR hL => ?_)
  refine h_if_eq hx hb 16 dJ10_charAt_4 (by decide) (by decide) (fun z_ => absurd z_ (by decide)) (fun _ => ?_)
  refine lv_aload_n hx hb dJ10_charAt_7 rfl (lv_at hl 0 rfl) ?_
  refine h_strV X hR hS1 q521 dJ10_charAt_8 ?_
  refine lv_iload_n hx hb dJ10_charAt_11 rfl (lv_at hl 1 rfl) ?_
  -- call java/lang/StringLatin1.charAt
  refine h_kIp (h_runS X hR (s_lcharAt l G w va 0 L i hS2 hi hS3 (hS0.at hi)) pn_yJ16_charAt q1462 q1463 q139 q1464 ⟨by decide, by decide⟩ hl.1 (Nat.le_of_ble_eq_true rfl) dJ10_charAt_12 ⟨by omega, by omega⟩) hL (fun H locs hR hL => ?_)
  exact h_ireturn hx hb hlk hret hR hL (narC (by have := hS0.at hi; omega)) ⟨rfl, rfl⟩ (by omega) (by omega) rfl rfl dJ10_charAt_15
