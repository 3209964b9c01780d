/-! JDK: StringBuilder -/
set_option maxRecDepth 100000
/-- what a method makes gets its last form -/
theorem Up.gh {S : Nat → Prop} {w w' : Wd} {a r r1 : Nat} {e e1 : Ent} (h : Up S w w') (ha : w' a = some (r, e)) (hn : w a = none) (hr : r1 = 0 ∨ w' (r1 - 1) ≠ none) : Up S w (wset w' a (r1, e1)) := by
  refine ⟨?_, h.2.1.set _ _, ?_, h.2.2.2.tag hn _⟩
  · intro b rb eb hb hs
    have hne : b ≠ a := fun q => by subst q; rw [hn] at hb; cases hb
    rw [wset_ne _ hne]; exact h.1 b rb eb hb hs
  · intro b rb eb hb hr0
    by_cases q : b = a
    · subst q; rw [wset_eq] at hb; cases hb
      by_cases q2 : r1 - 1 = b
      · rw [q2, wset_eq]; exact fun z => by cases z
      · rw [wset_ne _ q2]
        rcases hr with hr | hr
        · exact absurd hr hr0
        · exact hr
    · rw [wset_ne _ q] at hb
      by_cases q2 : rb - 1 = a
      · rw [q2, wset_eq]; exact fun z => by cases z
      · rw [wset_ne _ q2]; exact h.2.2.1 b rb eb hb hr0
/-- a made object becomes a String -/
theorem entStr {G : Gl} {w : Wd} {H : Heap} {a r va : Nat} (hR : Rp G w H) (ha : w a = some (r, oE 19 [.ref va, .int (iI 0), .int (iI 0), .int (iI 0)])) (hr : r ≠ 0) (hv : Int32) : entO G a (sE va hv) H := ⟨0, 0, hR.ex ha hr, Or.inr ⟨rfl, rfl, hR.ge ha hr⟩⟩
theorem iI_shl0 (z : Int) : iI z <<< (iI 0 &&& 31) = iI z := by
  have : (iI 0 &&& 31) = (0 : Int32) := by decide
  rw [this]
  exact Int32.shiftLeft_zero
/-- a builder that holds C -/
def SbAt (G : Gl) (w : Wd) (r a cap : Nat) (C : List Int) : Prop := ∃ (arr : Nat) (f : Nat → Int), w a = some (r, oE 20 [.ref arr, .int (iI 0), .int (iI 0), .int (iI (C.length : Int))]) ∧ w arr = some (r, iE G 1 cap f) ∧ C.length ≤ cap ∧ cap < 100000 ∧ (∀ i, i < C.length → f i = C.getD i 0) ∧ (∀ x ∈ C, 0 ≤ x ∧ x < 128) ∧ ∀ i, i < cap → -128 ≤ f i ∧ f i < 128
theorem SbAt.mv {G : Gl} {w w1 : Wd} {r a cap : Nat} {C : List Int} {S : Nat → Prop} (h : SbAt G w r a cap C) (hF : Fr S w w1) (h0 : ¬ S r) : SbAt G w1 r a cap C := by
  obtain ⟨arr, f, h1, h2, h3⟩ := h
  exact ⟨arr, f, hF _ _ _ h1 h0, hF _ _ _ h2 h0, h3⟩
theorem SbAt.sm {G : Gl} {w : Wd} {r a cap : Nat} {C : List Int} (h : SbAt G w r a cap C) : ∃ x, w a = some x := by
  obtain ⟨arr, f, h1, -⟩ := h
  exact ⟨_, h1⟩
theorem SbAt.c {G : Gl} {w : Wd} {r a cap : Nat} {C : List Int} (h : SbAt G w r a cap C) : hasC w a "java/lang/StringBuilder" := by
  obtain ⟨arr, f, h1, -⟩ := h
  exact hasC.of h1 rfl
theorem SbAt.le {G : Gl} {w : Wd} {r a cap : Nat} {C : List Int} (h : SbAt G w r a cap C) : C.length ≤ cap ∧ cap < 100000 := by
  obtain ⟨arr, f, h1, h2, h3, h4, -⟩ := h
  exact ⟨h3, h4⟩
theorem app_at' (C : List Int) (v : Int) (i : Nat) : (C ++ [v]).getD i 0 = if i = C.length then v else C.getD i 0 := by
  by_cases q : i = C.length
  · rw [if_pos q, q]; simp
  · rw [if_neg q]
    by_cases q2 : i < C.length
    · rw [List.getD_eq_getElem?_getD, List.getElem?_append_left q2, ← List.getD_eq_getElem?_getD]
    · rw [List.getD_eq_getElem?_getD, List.getD_eq_getElem?_getD, List.getElem?_eq_none (by rw [List.length_append, List.length_singleton]; omega), List.getElem?_eq_none (by omega)]
theorem app_at2 (C L : List Int) (i : Nat) : (C ++ L).getD i 0 = if i < C.length then C.getD i 0 else L.getD (i - C.length) 0 := by
  by_cases q : i < C.length
  · rw [if_pos q, List.getD_eq_getElem?_getD, List.getElem?_append_left q, ← List.getD_eq_getElem?_getD]
  · rw [if_neg q, List.getD_eq_getElem?_getD, List.getElem?_append_right (by omega), ← List.getD_eq_getElem?_getD]

theorem pn_yJ8_init : ParN yJ8_init 1 := by decide +kernel
theorem pn_yJ8_append_3 : ParN yJ8_append_3 1 := by decide +kernel
theorem pn_yJ8_append : ParN yJ8_append 1 := by decide +kernel
theorem pn_yJ8_ensureCapacityInternal : ParN yJ8_ensureCapacityInternal 1 := by decide +kernel
theorem pn_yJ8_inflateIfNeededFor : ParN yJ8_inflateIfNeededFor 1 := by decide +kernel
theorem pn_yJ8_isLatin1 : ParN yJ8_isLatin1 0 := by decide +kernel
theorem pn_yJ8_length : ParN yJ8_length 0 := by decide +kernel
theorem pn_yJ8_newCapacity : ParN yJ8_newCapacity 1 := by decide +kernel
theorem pn_yJ8_putStringAt : ParN yJ8_putStringAt 2 := by decide +kernel
theorem pn_yJ10_getBytes : ParN yJ10_getBytes 3 := by decide +kernel
theorem pn_yJ16_canEncode : ParN yJ16_canEncode 1 := by decide +kernel
theorem pn_yJ14_copyOf : ParN yJ14_copyOf 2 := by decide +kernel
theorem pn_yJ12_newLength : ParN yJ12_newLength 3 := by decide +kernel

set_option maxHeartbeats 4000000 in
set_option maxRecDepth 100000 in
/-- AbstractStringBuilder.isLatin1 -/
theorem sb_isL (l : Launch) (G : Gl) (w : Wd) (r a arr cap : Nat) (f : Nat → Int) (n : Nat) (hA1 : w a = some (r, oE 20 [.ref arr, .int (iI 0), .int (iI 0), .int (iI (n : Int))])) (hA2 : w arr = some (r, iE G 1 cap f)) (h4 : cap < 100000) : HM l yJ8_isLatin1 cJ8_isLatin1 1 (some .boolean) 1 0 0 G [.ref a] w (QI G (fun z_ w_ => z_ = 1 ∧ w_ = w)) := by
  refine HM.mk (by decide +kernel) (Nat.le_of_ble_eq_true rfl) ?_
  intro p9 e9 s9 m9 a9 b9 meth9 c9 ls X hret hlk hnm hl H hR
  have hx := X.1.1
  have hb := X.1.2.1
  have hl : lv_has ls 1 [(0, .ref a)] := hl
  have hL : LK G [] := fun q h => absurd h List.not_mem_nil
  generalize ([] : List Loc) = locs at hL ⊢
  refine h_getsI X hR (z32 := 1) [false, false, false, false, false, false, false, true, false, true, true] (1) rfl rfl q273 q132 q272 dJ8_isLatin1_0 ?_
  refine h_if_eq hx hb 17 dJ8_isLatin1_3 (by decide) (by decide) (fun z_ => absurd z_ (by decide)) (fun _ => ?_)
  refine lv_aload_n hx hb dJ8_isLatin1_6 rfl (lv_at hl 0 rfl) ?_
  refine h_get X hR hA1 rfl in_J9 1 (by decide) q282 rfl dJ8_isLatin1_7 ?_
  refine h_if_ne hx hb 17 dJ8_isLatin1_10 (by decide) (by decide) (fun z_ => absurd z_ (by decide)) (fun _ => ?_)
  refine h_iconst hx hb dJ8_isLatin1_13 ?_
  refine lv_goto (tgt := 18) hx hb dJ8_isLatin1_14 (by decide) ?_
  exact h_ireturn hx hb hlk hret hR hL (nar01 (by omega)) ⟨rfl, rfl⟩ (by omega) (by omega) rfl rfl dJ8_isLatin1_18

set_option maxHeartbeats 4000000 in
set_option maxRecDepth 100000 in
/-- AbstractStringBuilder.getValue -/
theorem sb_val (l : Launch) (G : Gl) (w : Wd) (r a arr cap : Nat) (f : Nat → Int) (n : Nat) (hA1 : w a = some (r, oE 20 [.ref arr, .int (iI 0), .int (iI 0), .int (iI (n : Int))])) (hA2 : w arr = some (r, iE G 1 cap f)) (h4 : cap < 100000) : HM l yJ8_getValue cJ8_getValue 1 (some (.array .byte)) 1 0 0 G [.ref a] w (QR G (fun z_ w_ => z_ = arr ∧ w_ = w)) := by
  refine HM.mk (by decide +kernel) (Nat.le_of_ble_eq_true rfl) ?_
  intro p9 e9 s9 m9 a9 b9 meth9 c9 ls X hret hlk hnm hl H hR
  have hx := X.1.1
  have hb := X.1.2.1
  have hl : lv_has ls 1 [(0, .ref a)] := hl
  have hL : LK G [] := fun q h => absurd h List.not_mem_nil
  generalize ([] : List Loc) = locs at hL ⊢
  refine lv_aload_n hx hb dJ8_getValue_0 rfl (lv_at hl 0 rfl) ?_
  refine h_get X hR hA1 rfl in_J9 0 (by decide) q281 rfl dJ8_getValue_1 ?_
  exact h_areturn hx hb hlk hret (by first | exact Or.inl ⟨_, rfl⟩ | exact Or.inr ⟨_, rfl⟩) hR hL ⟨rfl, rfl⟩ (by omega) (by omega) rfl rfl dJ8_getValue_4

set_option maxHeartbeats 4000000 in
set_option maxRecDepth 100000 in
/-- AbstractStringBuilder.length -/
theorem sb_alen (l : Launch) (G : Gl) (w : Wd) (r a arr cap : Nat) (f : Nat → Int) (n : Nat) (hA1 : w a = some (r, oE 20 [.ref arr, .int (iI 0), .int (iI 0), .int (iI (n : Int))])) (hA2 : w arr = some (r, iE G 1 cap f)) (h4 : cap < 100000) : HM l yJ8_length cJ8_length 1 (some .int) 1 0 0 G [.ref a] w (QI G (fun z_ w_ => z_ = (n : Int) ∧ w_ = w)) := by
  refine HM.mk (by decide +kernel) (Nat.le_of_ble_eq_true rfl) ?_
  intro p9 e9 s9 m9 a9 b9 meth9 c9 ls X hret hlk hnm hl H hR
  have hx := X.1.1
  have hb := X.1.2.1
  have hl : lv_has ls 1 [(0, .ref a)] := hl
  have hL : LK G [] := fun q h => absurd h List.not_mem_nil
  generalize ([] : List Loc) = locs at hL ⊢
  refine lv_aload_n hx hb dJ8_length_0 rfl (lv_at hl 0 rfl) ?_
  refine h_get X hR hA1 rfl in_J9 3 (by decide) q284 rfl dJ8_length_1 ?_
  exact h_ireturn hx hb hlk hret hR hL rfl ⟨rfl, rfl⟩ (by omega) (by omega) rfl rfl dJ8_length_4

set_option maxHeartbeats 4000000 in
set_option maxRecDepth 100000 in
/-- StringBuilder.length -/
theorem sb_len (l : Launch) (G : Gl) (w : Wd) (r a arr cap : Nat) (f : Nat → Int) (n : Nat) (hA1 : w a = some (r, oE 20 [.ref arr, .int (iI 0), .int (iI 0), .int (iI (n : Int))])) (hA2 : w arr = some (r, iE G 1 cap f)) (h4 : cap < 100000) : HM l yJ9_length cJ9_length 1 (some .int) 2 0 0 G [.ref a] w (QI G (fun z_ w_ => z_ = (n : Int) ∧ w_ = w)) := by
  refine HM.mk (by decide +kernel) (Nat.le_of_ble_eq_true rfl) ?_
  intro p9 e9 s9 m9 a9 b9 meth9 c9 ls X hret hlk hnm hl H hR
  have hx := X.1.1
  have hb := X.1.2.1
  have hl : lv_has ls 1 [(0, .ref a)] := hl
  have hL : LK G [] := fun q h => absurd h List.not_mem_nil
  generalize ([] : List Loc) = locs at hL ⊢
  refine lv_aload_n hx hb dJ9_length_0 rfl (lv_at hl 0 rfl) ?_
  -- call java/lang/AbstractStringBuilder.length
  refine h_kIp (h_runSU X hR (sb_alen l G w r a arr cap f n hA1 hA2 (by omega)) ⟨by decide, pn_yJ8_length.2⟩ (hasC.of hA1 rfl) q464 q460 q293 q459 q130 q465 ⟨by decide, by decide⟩ hl.1 (Nat.le_of_ble_eq_true rfl) dJ9_length_1 ⟨by omega, by omega⟩) hL (fun H locs hR hL => ?_)
  exact h_ireturn hx hb hlk hret hR hL rfl ⟨rfl, rfl⟩ (by omega) (by omega) rfl rfl dJ9_length_4

set_option maxHeartbeats 4000000 in
set_option maxRecDepth 100000 in
/-- ArraysSupport.newLength -/
theorem as_newl (l : Launch) (G : Gl) (w : Wd) (x y z : Nat) (hx : x < 1000000) (hy : y < 1000000) (hz : z < 1000000) (h1 : 1 ≤ x + max y z) : HM l yJ12_newLength cJ12_newLength 4 (some .int) 1 0 0 G [.int (iI ((x : Int))), .int (iI ((y : Int))), .int (iI ((z : Int)))] w (QI G (fun z_ w_ => z_ = ((x + max y z : Nat) : Int) ∧ w_ = w)) := by
  refine HM.mk (by decide +kernel) (Nat.le_of_ble_eq_true rfl) ?_
  intro p9 e9 s9 m9 a9 b9 meth9 c9 ls X hret hlk hnm hl H hR
  have hx := X.1.1
  have hb := X.1.2.1
  have hl : lv_has ls 4 [(0, .int (iI ((x : Int)))), (1, .int (iI ((y : Int)))), (2, .int (iI ((z : Int))))] := hl
  have hL : LK G [] := fun q h => absurd h List.not_mem_nil
  generalize ([] : List Loc) = locs at hL ⊢
  refine lv_iload_n hx hb dJ12_newLength_0 rfl (lv_at hl 0 rfl) ?_
  refine lv_iload_n hx hb dJ12_newLength_1 rfl (lv_at hl 1 rfl) ?_
  refine lv_iload_n hx hb dJ12_newLength_2 rfl (lv_at hl 2 rfl) ?_
  refine h_mmax X hl.1 ⟨by omega, by omega⟩ ⟨by omega, by omega⟩ q317 q318 q135 q319 ⟨by decide, Nat.le_of_ble_eq_true rfl⟩ (by omega) (by omega) dJ12_newLength_3 ?_
  refine W.eq (g2 := F0 m9 6 ls [.int (iI (((max y z : Nat) : Int))), .int (iI ((x : Int)))]) (congrArg (fun z_ : Int => F0 m9 6 ls [.int (iI (z_)), .int (iI ((x : Int)))]) (show (if (y : Int) ≤ (z : Int) then (z : Int) else (y : Int) : Int) = ((max y z : Nat) : Int) from (by split <;> omega))) ?_
  refine h_iadd hx hb dJ12_newLength_6 ?_
  refine lv_istore_n (lv' := [(3, .int (iI ((x : Int) + (((max y z : Nat) : Int))))), (0, .int (iI ((x : Int)))), (1, .int (iI ((y : Int)))), (2, .int (iI ((z : Int))))]) hx hb dJ12_newLength_7 rfl hl (by decide) rfl (fun ls hl => ?_)
  refine h_iconst hx hb dJ12_newLength_8 ?_
  refine lv_iload_n hx hb dJ12_newLength_9 rfl (lv_at hl 0 rfl) ?_
  refine h_icmp_ge hx hb 21 dJ12_newLength_10 (by decide) (by omega) (by omega) (fun c_a => ?_) (fun c_a => ?_)
  ·
    exact absurd c_a (by omega)
  ·
    refine lv_iload_n hx hb dJ12_newLength_13 rfl (lv_at hl 0 rfl) ?_
    refine lv_ldc (v := iI (2147483639)) hx hb X.1.2.2.2.1 (X.1.2.2.2.2 _ q320) dJ12_newLength_14 ?_
    refine h_icmp_gt hx hb 21 dJ12_newLength_16 (by decide) (by omega) (by omega) (fun c_b => ?_) (fun c_b => ?_)
    ·
      exact absurd c_b (by omega)
    ·
      refine lv_iload_n hx hb dJ12_newLength_19 rfl (lv_at hl 0 rfl) ?_
      exact h_ireturn hx hb hlk hret hR hL rfl ⟨by omega, rfl⟩ (by omega) (by omega) rfl rfl dJ12_newLength_20

set_option maxHeartbeats 4000000 in
set_option maxRecDepth 100000 in
/-- AbstractStringBuilder.newCapacity -/
theorem sb_ncap (l : Launch) (G : Gl) (w : Wd) (r a arr cap : Nat) (f : Nat → Int) (n : Nat) (hA1 : w a = some (r, oE 20 [.ref arr, .int (iI 0), .int (iI 0), .int (iI (n : Int))])) (hA2 : w arr = some (r, iE G 1 cap f)) (h4 : cap < 100000) (m : Nat) (hm : cap < m) (hm2 : m < 100000) : HM l yJ8_newCapacity cJ8_newCapacity 6 (some .int) 2 0 0 G [.ref a, .int (iI ((m : Int)))] w (QI G (fun z_ w_ => z_ = ((max m (2 * cap + 2) : Nat) : Int) ∧ w_ = w)) := by
  refine HM.mk (by decide +kernel) (Nat.le_of_ble_eq_true rfl) ?_
  intro p9 e9 s9 m9 a9 b9 meth9 c9 ls X hret hlk hnm hl H hR
  have hx := X.1.1
  have hb := X.1.2.1
  have hl : lv_has ls 6 [(0, .ref a), (1, .int (iI ((m : Int))))] := hl
  have hL : LK G [] := fun q h => absurd h List.not_mem_nil
  generalize ([] : List Loc) = locs at hL ⊢
  refine lv_aload_n hx hb dJ8_newCapacity_0 rfl (lv_at hl 0 rfl) ?_
  refine h_get X hR hA1 rfl in_J9 0 (by decide) q281 rfl dJ8_newCapacity_1 ?_
  refine h_alenI X hR hA2 rfl dJ8_newCapacity_4 ?_
  refine lv_istore_n (lv' := [(2, .int (iI (((cap : Nat) : Int)))), (0, .ref a), (1, .int (iI ((m : Int))))]) hx hb dJ8_newCapacity_5 rfl hl (by decide) rfl (fun ls hl => ?_)
  refine lv_iload_n hx hb dJ8_newCapacity_6 rfl (lv_at hl 2 rfl) ?_
  refine lv_aload_n hx hb dJ8_newCapacity_7 rfl (lv_at hl 1 rfl) ?_
  refine h_get X hR hA1 rfl in_J9 1 (by decide) q282 rfl dJ8_newCapacity_8 ?_
  refine lv_ishl hx hb dJ8_newCapacity_11 ?_
  refine W.eq (g2 := F0 m9 12 ls [.int (iI ((m : Int)))]) (by rw [iI_shl0]) ?_
  refine lv_istore_n (lv' := [(3, .int (iI ((m : Int)))), (2, .int (iI (((cap : Nat) : Int)))), (0, .ref a), (1, .int (iI ((m : Int))))]) hx hb dJ8_newCapacity_12 rfl hl (by decide) rfl (fun ls hl => ?_)
  refine lv_iload_n hx hb dJ8_newCapacity_13 rfl (lv_at hl 0 rfl) ?_
  refine lv_iload_n hx hb dJ8_newCapacity_14 rfl (lv_at hl 1 rfl) ?_
  refine h_isub hx hb dJ8_newCapacity_15 ?_
  refine W.eq (g2 := F0 m9 16 ls [.int (iI (((m - cap : Nat) : Int)))]) (congrArg (fun z_ : Int => F0 m9 16 ls [.int (iI (z_))]) (show (((m : Int)) - (((cap : Nat) : Int)) : Int) = ((m - cap : Nat) : Int) from (by omega))) ?_
  refine lv_istore (lv' := [(4, .int (iI (((m - cap : Nat) : Int)))), (3, .int (iI ((m : Int)))), (2, .int (iI (((cap : Nat) : Int)))), (0, .ref a), (1, .int (iI ((m : Int))))]) hx hb dJ8_newCapacity_16 hl (by decide) rfl (fun ls hl => ?_)
  refine lv_iload_n hx hb dJ8_newCapacity_18 rfl (lv_at hl 2 rfl) ?_
  refine lv_iload hx hb dJ8_newCapacity_19 (lv_at hl 0 rfl) ?_
  refine lv_iload_n hx hb dJ8_newCapacity_21 rfl (lv_at hl 2 rfl) ?_
  refine h_iconst hx hb dJ8_newCapacity_22 ?_
  refine lv_aload_n hx hb dJ8_newCapacity_23 rfl (lv_at hl 3 rfl) ?_
  refine h_get X hR hA1 rfl in_J9 1 (by decide) q282 rfl dJ8_newCapacity_24 ?_
  refine lv_ishl hx hb dJ8_newCapacity_27 ?_
  refine W.eq (g2 := F0 m9 28 ls [.int (iI (2)), .int (iI (((cap : Nat) : Int))), .int (iI (((m - cap : Nat) : Int))), .int (iI (((cap : Nat) : Int)))]) (by rw [iI_shl0]) ?_
  refine h_iadd hx hb dJ8_newCapacity_28 ?_
  refine W.eq (g2 := F0 m9 29 ls [.int (iI (((cap + 2 : Nat) : Int))), .int (iI (((m - cap : Nat) : Int))), .int (iI (((cap : Nat) : Int)))]) (congrArg (fun z_ : Int => F0 m9 29 ls [.int (iI (z_)), .int (iI (((m - cap : Nat) : Int))), .int (iI (((cap : Nat) : Int)))]) (show (((cap : Nat) : Int) + 2 : Int) = ((cap + 2 : Nat) : Int) from (by omega))) ?_
  -- call jdk/internal/util/ArraysSupport.newLength
  refine h_kIp (h_runS X hR (as_newl l G w cap (m - cap) (cap + 2) (by omega) (by omega) (by omega) (by omega)) pn_yJ12_newLength q314 q315 q134 q316 ⟨by decide, by decide⟩ hl.1 (Nat.le_of_ble_eq_true rfl) dJ8_newCapacity_29 ⟨by omega, by omega⟩) hL (fun H locs hR hL => ?_)
  refine W.eq (g2 := F0 m9 32 ls [.int (iI (((max m (2 * cap + 2) : Nat) : Int)))]) (congrArg (fun z_ : Int => F0 m9 32 ls [.int (iI (z_))]) (show (((cap + max (m - cap) (cap + 2) : Nat) : Int) : Int) = ((max m (2 * cap + 2) : Nat) : Int) from (by omega))) ?_
  refine lv_istore (lv' := [(5, .int (iI (((max m (2 * cap + 2) : Nat) : Int)))), (4, .int (iI (((m - cap : Nat) : Int)))), (3, .int (iI ((m : Int)))), (2, .int (iI (((cap : Nat) : Int)))), (0, .ref a), (1, .int (iI ((m : Int))))]) hx hb dJ8_newCapacity_32 hl (by decide) rfl (fun ls hl => ?_)
  refine lv_iload hx hb dJ8_newCapacity_34 (lv_at hl 0 rfl) ?_
  refine lv_ldc (v := iI (2147483647)) hx hb X.1.2.2.2.1 (X.1.2.2.2.2 _ q324) dJ8_newCapacity_36 ?_
  refine h_icmp_ne hx hb 51 dJ8_newCapacity_38 (by decide) (by omega) (by omega) (fun c_m => ?_) (fun c_m => ?_)
  ·
    refine lv_iload hx hb dJ8_newCapacity_51 (lv_at hl 0 rfl) ?_
    refine lv_aload_n hx hb dJ8_newCapacity_53 rfl (lv_at hl 4 rfl) ?_
    refine h_get X hR hA1 rfl in_J9 1 (by decide) q282 rfl dJ8_newCapacity_54 ?_
    refine h_ishr hx hb 0 1 dJ8_newCapacity_57 (by omega) (by decide) rfl (by decide) ?_
    refine W.eq (g2 := F0 m9 58 ls [.int (iI (((max m (2 * cap + 2) : Nat) : Int)))]) (congrArg (fun z_ : Int => F0 m9 58 ls [.int (iI (z_))]) (show ((((max m (2 * cap + 2) : Nat) : Int)) / 1 : Int) = ((max m (2 * cap + 2) : Nat) : Int) from (by omega))) ?_
    exact h_ireturn hx hb hlk hret hR hL rfl ⟨by omega, rfl⟩ (by omega) (by omega) rfl rfl dJ8_newCapacity_58
  ·
    exact absurd c_m (by omega)

set_option maxHeartbeats 4000000 in
set_option maxRecDepth 100000 in
/-- Arrays.copyOf -/
theorem ar_copyB (l : Launch) (G : Gl) (w : Wd) (ra arr cap m : Nat) (f : Nat → Int) (h2 : w arr = some (ra, iE G 1 cap f)) (hm : cap < m) (hm2 : m < 1000000) (hf : ∀ i, i < cap → -128 ≤ f i ∧ f i < 128) (hG : RegW w) : HM l yJ14_copyOf cJ14_copyOf 3 (some (.array .byte)) 2 1 m G [.ref arr, .int (iI ((m : Int)))] w (QR G (fun z_ w_ => w z_ = none ∧ w_ z_ = some (z_ + 1, iE G 1 m (cpA f (fun _ => 0) 0 0 cap)) ∧ Up (fun _ => False) w w_)) := by
  refine HM.mk (by decide +kernel) (Nat.le_of_ble_eq_true rfl) ?_
  intro p9 e9 s9 m9 a9 b9 meth9 c9 ls X hret hlk hnm hl H hR
  have hx := X.1.1
  have hb := X.1.2.1
  have hl : lv_has ls 3 [(0, .ref arr), (1, .int (iI ((m : Int))))] := hl
  have hL : LK G [] := fun q h => absurd h List.not_mem_nil
  generalize ([] : List Loc) = locs at hL ⊢
  have hU : Up (fun _ => False) w w := Up.rf hG
  refine lv_iload_n hx hb dJ14_copyOf_0 rfl (lv_at hl 1 rfl) ?_
  refine lv_aload_n hx hb dJ14_copyOf_1 rfl (lv_at hl 0 rfl) ?_
  refine h_alenI X hR h2 rfl dJ14_copyOf_2 ?_
  refine h_icmp_ne hx hb 14 dJ14_copyOf_3 (by decide) (by omega) (by omega) (fun c_e => ?_) (fun c_e => ?_)
  ·
    refine lv_iload_n hx hb dJ14_copyOf_14 rfl (lv_at hl 1 rfl) ?_
    refine h_newI (atype := .byte) X hR 1 (fun q => q + 1) rfl (fun C h => by cases h) rfl q203 m rfl (by omega) (by omega) (by omega) (by decide) dJ14_copyOf_15 (fun q hq w_1 ew_2 H hR => ?_)
    have hn_q : w q = none := hU.2.1 _ hq
    have hU : Up (fun _ => False) w w_1 := by rw [ew_2]; exact hU.new hq (by first | exact Or.inr (Or.inl rfl) | exact Or.inl rfl | exact Or.inr (Or.inr (by assumption)))
    have hF_q_w_1 : w_1 q = some (q + 1, iE G 1 m (fun _ => 0)) := by rw [ew_2]; exact wset_eq _ _ _
    have ne_arr_q : arr ≠ q := w_neN h2 hq
    have hF_arr_w_1 : w_1 arr = some (ra, iE G 1 cap f) := by rw [ew_2]; exact (wset_ne _ (w_neN h2 hq)).trans h2
    refine lv_astore_n (lv' := [(2, .ref q), (0, .ref arr), (1, .int (iI ((m : Int))))]) hx hb dJ14_copyOf_17 rfl hl (by decide) rfl (fun ls hl => ?_)
    refine lv_aload_n hx hb dJ14_copyOf_18 rfl (lv_at hl 1 rfl) ?_
    refine h_iconst hx hb dJ14_copyOf_19 ?_
    refine lv_aload_n hx hb dJ14_copyOf_20 rfl (lv_at hl 0 rfl) ?_
    refine h_iconst hx hb dJ14_copyOf_21 ?_
    refine lv_aload_n hx hb dJ14_copyOf_22 rfl (lv_at hl 1 rfl) ?_
    refine h_alenI X hR hF_arr_w_1 rfl dJ14_copyOf_23 ?_
    refine lv_iload_n hx hb dJ14_copyOf_24 rfl (lv_at hl 2 rfl) ?_
    refine h_mmin X hl.1 ⟨by omega, by omega⟩ ⟨by omega, by omega⟩ q335 q336 q135 q337 ⟨by decide, Nat.le_of_ble_eq_true rfl⟩ (by omega) (by omega) dJ14_copyOf_25 ?_
    refine W.eq (g2 := F0 m9 28 ls [.int (iI ((cap : Int))), .int (iI (0)), .ref q, .int (iI (0)), .ref arr]) (congrArg (fun z_ : Int => F0 m9 28 ls [.int (iI (z_)), .int (iI (0)), .ref q, .int (iI (0)), .ref arr]) (show (if ((cap : Nat) : Int) ≤ (m : Int) then ((cap : Nat) : Int) else (m : Int) : Int) = (cap : Int) from (by split <;> omega))) ?_
    refine h_copyB X hR hL hl.1 hF_arr_w_1 hF_q_w_1 (by omega) q338 (by intro x_ h_; simp only [acW, List.mem_cons, List.not_mem_nil, or_false] at h_; rcases h_ with h_ | h_ | h_ <;> subst h_; exact q340; exact q339; exact q137) ⟨by omega, by omega, by omega⟩ (by omega) (by omega) ⟨by omega, by omega⟩ (fun j_ hj_ => by rw [show ((0 : Int)).toNat + j_ = j_ by omega]; exact hf j_ (by omega)) ⟨by decide, Nat.le_of_ble_eq_true rfl⟩ dJ14_copyOf_28 (fun w_3 ew_4 H locs hR hL => ?_)
    have hU : Up (fun _ => False) w w_3 := by rw [ew_4]; exact hU.set hF_q_w_1 (by first | exact Or.inl rfl | exact Or.inl (by omega) | exact Or.inr ⟨Nat.succ_ne_zero _, by rw [Nat.add_sub_cancel]; assumption⟩ | exact Or.inr ⟨by omega, by assumption⟩) hG _
    have hF_q_w_3 : w_3 q = some (q + 1, iE G 1 m (cpA f (fun _ => 0) 0 0 cap)) := by rw [ew_4]; exact wset_eq _ _ _
    have hF_arr_w_3 : w_3 arr = some (ra, iE G 1 cap f) := by rw [ew_4]; exact (wset_ne _ (by first | exact ne_arr_q | exact Ne.symm ne_q_arr | exact w_neR hF_arr_w_1 hF_q_w_1 (by omega) | exact w_ne hF_arr_w_1 hF_q_w_1 (by intro h; cases h))).trans hF_arr_w_1
    refine lv_aload_n hx hb dJ14_copyOf_31 rfl (lv_at hl 0 rfl) ?_
    exact h_areturn hx hb hlk hret (by first | exact Or.inl ⟨_, rfl⟩ | exact Or.inr ⟨_, rfl⟩) hR hL ⟨hn_q, hF_q_w_3, hU⟩ (by omega) (by omega) rfl rfl dJ14_copyOf_32
  ·
    exact absurd c_e (by omega)

set_option maxHeartbeats 4000000 in
set_option maxRecDepth 100000 in
/-- AbstractStringBuilder.ensureCapacityInternal -/
theorem sb_ens0 (l : Launch) (G : Gl) (w : Wd) (r a arr cap : Nat) (f : Nat → Int) (n : Nat) (hA1 : w a = some (r, oE 20 [.ref arr, .int (iI 0), .int (iI 0), .int (iI (n : Int))])) (hA2 : w arr = some (r, iE G 1 cap f)) (h4 : cap < 100000) (m : Nat) (hm : m ≤ cap) : HM l yJ8_ensureCapacityInternal cJ8_ensureCapacityInternal 3 none 1 0 0 G [.ref a, .int (iI ((m : Int)))] w (QV G (fun w_ => w_ = w)) := by
  refine HM.mk (by decide +kernel) (Nat.le_of_ble_eq_true rfl) ?_
  intro p9 e9 s9 m9 a9 b9 meth9 c9 ls X hret hlk hnm hl H hR
  have hx := X.1.1
  have hb := X.1.2.1
  have hl : lv_has ls 3 [(0, .ref a), (1, .int (iI ((m : Int))))] := hl
  have hL : LK G [] := fun q h => absurd h List.not_mem_nil
  generalize ([] : List Loc) = locs at hL ⊢
  refine lv_aload_n hx hb dJ8_ensureCapacityInternal_0 rfl (lv_at hl 0 rfl) ?_
  refine h_get X hR hA1 rfl in_J9 0 (by decide) q281 rfl dJ8_ensureCapacityInternal_1 ?_
  refine h_alenI X hR hA2 rfl dJ8_ensureCapacityInternal_4 ?_
  refine lv_aload_n hx hb dJ8_ensureCapacityInternal_5 rfl (lv_at hl 0 rfl) ?_
  refine h_get X hR hA1 rfl in_J9 1 (by decide) q282 rfl dJ8_ensureCapacityInternal_6 ?_
  refine h_ishr hx hb 0 1 dJ8_ensureCapacityInternal_9 (by omega) (by decide) rfl (by decide) ?_
  refine W.eq (g2 := F0 m9 10 ls [.int (iI ((cap : Int)))]) (congrArg (fun z_ : Int => F0 m9 10 ls [.int (iI (z_))]) (show ((((cap : Nat) : Int)) / 1 : Int) = (cap : Int) from (by omega))) ?_
  refine lv_istore_n (lv' := [(2, .int (iI ((cap : Int)))), (0, .ref a), (1, .int (iI ((m : Int))))]) hx hb dJ8_ensureCapacityInternal_10 rfl hl (by decide) rfl (fun ls hl => ?_)
  refine lv_iload_n hx hb dJ8_ensureCapacityInternal_11 rfl (lv_at hl 2 rfl) ?_
  refine lv_iload_n hx hb dJ8_ensureCapacityInternal_12 rfl (lv_at hl 0 rfl) ?_
  refine h_isub hx hb dJ8_ensureCapacityInternal_13 ?_
  refine h_if_le hx hb 38 dJ8_ensureCapacityInternal_14 (by decide) (by omega) (fun c_g => ?_) (fun c_g => ?_)
  ·
    exact h_vreturn hx hb hlk hret hR hL (by rfl) (by omega) (by omega) rfl rfl dJ8_ensureCapacityInternal_38
  ·
    exact absurd c_g (by omega)

theorem cpB_at {f : Nat → Int} {n i : Nat} (hi : i < n) : cpA f (fun _ => 0) 0 0 n i = f i := by
  unfold cpA
  rw [if_pos (by omega), Nat.zero_add, Nat.sub_zero]
theorem cpB_r {f : Nat → Int} {n i m : Nat} (h : ∀ i, i < n → -128 ≤ f i ∧ f i < 128) (hi : i < m) : -128 ≤ cpA f (fun _ => 0) 0 0 n i ∧ cpA f (fun _ => 0) 0 0 n i < 128 := by
  unfold cpA
  split
  · rw [Nat.zero_add, Nat.sub_zero]; exact h i (by omega)
  · exact ⟨show (-128 : Int) ≤ 0 by decide, show (0 : Int) < 128 by decide⟩

set_option maxHeartbeats 4000000 in
set_option maxRecDepth 100000 in
/-- AbstractStringBuilder.ensureCapacityInternal -/
theorem sb_ens (l : Launch) (G : Gl) (w : Wd) (r a arr cap : Nat) (f : Nat → Int) (n : Nat) (hA1 : w a = some (r, oE 20 [.ref arr, .int (iI 0), .int (iI 0), .int (iI (n : Int))])) (hA2 : w arr = some (r, iE G 1 cap f)) (h4 : cap < 100000) (hG : RegW w) (hr : r ≠ 0) (hf : ∀ i, i < cap → -128 ≤ f i ∧ f i < 128) (m : Nat) (hm2 : m < 10000) : HM l yJ8_ensureCapacityInternal cJ8_ensureCapacityInternal 3 none 3 1 ((2 * m + 2)) G [.ref a, .int (iI ((m : Int)))] w (QV G (fun w_ => (∃ (arr2 cap2 : Nat) (g : Nat → Int), w_ a = some (r, oE 20 [.ref arr2, .int (iI 0), .int (iI 0), .int (iI (n : Int))]) ∧ w_ arr2 = some (r, iE G 1 cap2 g) ∧ m ≤ cap2 ∧ cap ≤ cap2 ∧ cap2 ≤ max cap (2 * m + 2) ∧ (∀ i, i < cap → g i = f i) ∧ ∀ i, i < cap2 → -128 ≤ g i ∧ g i < 128) ∧ Up (fun q_ => q_ = r) w w_)) := by
  refine HM.mk (by decide +kernel) (Nat.le_of_ble_eq_true rfl) ?_
  intro p9 e9 s9 m9 a9 b9 meth9 c9 ls X hret hlk hnm hl H hR
  have hx := X.1.1
  have hb := X.1.2.1
  have hl : lv_has ls 3 [(0, .ref a), (1, .int (iI ((m : Int))))] := hl
  have hL : LK G [] := fun q h => absurd h List.not_mem_nil
  generalize ([] : List Loc) = locs at hL ⊢
  have hU : Up (fun q_ => q_ = r) w w := Up.rf hG
  refine lv_aload_n hx hb dJ8_ensureCapacityInternal_0 rfl (lv_at hl 0 rfl) ?_
  refine h_get X hR hA1 rfl in_J9 0 (by decide) q281 rfl dJ8_ensureCapacityInternal_1 ?_
  refine h_alenI X hR hA2 rfl dJ8_ensureCapacityInternal_4 ?_
  refine lv_aload_n hx hb dJ8_ensureCapacityInternal_5 rfl (lv_at hl 0 rfl) ?_
  refine h_get X hR hA1 rfl in_J9 1 (by decide) q282 rfl dJ8_ensureCapacityInternal_6 ?_
  refine h_ishr hx hb 0 1 dJ8_ensureCapacityInternal_9 (by omega) (by decide) rfl (by decide) ?_
  refine W.eq (g2 := F0 m9 10 ls [.int (iI ((cap : Int)))]) (congrArg (fun z_ : Int => F0 m9 10 ls [.int (iI (z_))]) (show ((((cap : Nat) : Int)) / 1 : Int) = (cap : Int) from (by omega))) ?_
  refine lv_istore_n (lv' := [(2, .int (iI ((cap : Int)))), (0, .ref a), (1, .int (iI ((m : Int))))]) hx hb dJ8_ensureCapacityInternal_10 rfl hl (by decide) rfl (fun ls hl => ?_)
  refine lv_iload_n hx hb dJ8_ensureCapacityInternal_11 rfl (lv_at hl 2 rfl) ?_
  refine lv_iload_n hx hb dJ8_ensureCapacityInternal_12 rfl (lv_at hl 0 rfl) ?_
  refine h_isub hx hb dJ8_ensureCapacityInternal_13 ?_
  refine h_if_le hx hb 38 dJ8_ensureCapacityInternal_14 (by decide) (by omega) (fun c_g => ?_) (fun c_g => ?_)
  ·
    exact h_vreturn hx hb hlk hret hR hL ⟨⟨arr, cap, f, hA1, hA2, by omega, by omega, by omega, fun i_ hi_ => rfl, hf⟩, hU⟩ (by omega) (by omega) rfl rfl dJ8_ensureCapacityInternal_38
  ·
    refine lv_aload_n hx hb dJ8_ensureCapacityInternal_17 rfl (lv_at hl 1 rfl) ?_
    refine lv_aload_n hx hb dJ8_ensureCapacityInternal_18 rfl (lv_at hl 1 rfl) ?_
    refine h_get X hR hA1 rfl in_J9 0 (by decide) q281 rfl dJ8_ensureCapacityInternal_19 ?_
    refine lv_aload_n hx hb dJ8_ensureCapacityInternal_22 rfl (lv_at hl 1 rfl) ?_
    refine lv_iload_n hx hb dJ8_ensureCapacityInternal_23 rfl (lv_at hl 2 rfl) ?_
    -- call java/lang/AbstractStringBuilder.newCapacity
    refine h_kIp (h_runU (x := ⟨"java/lang/AbstractStringBuilder", "newCapacity", "(I)I"⟩) (owner := "java/lang/AbstractStringBuilder") X hR (sb_ncap l G w r a arr cap f n hA1 hA2 (by omega) m (by omega) (by omega)) (by decide) pn_yJ8_newCapacity (hasC.of hA1 rfl) q310 q3378 (h_declC X q312 q313) (h_selP2 X hR q312 q3378 q311 (by decide) (hasC.of hA1 rfl)) q312 q130 q313 ⟨by decide, by decide⟩ hl.1 (Nat.le_of_ble_eq_true rfl) dJ8_ensureCapacityInternal_24 ⟨by omega, by omega⟩) hL (fun H locs hR hL => ?_)
    refine lv_aload_n hx hb dJ8_ensureCapacityInternal_27 rfl (lv_at hl 1 rfl) ?_
    refine h_get X hR hA1 rfl in_J9 1 (by decide) q282 rfl dJ8_ensureCapacityInternal_28 ?_
    refine lv_ishl hx hb dJ8_ensureCapacityInternal_31 ?_
    refine W.eq (g2 := F0 m9 32 ls [.int (iI (((max m (2 * cap + 2) : Nat) : Int))), .ref arr, .ref a]) (by rw [iI_shl0]) ?_
    -- call java/util/Arrays.copyOf
    refine h_kR (h_runS X hR (ar_copyB l G w r arr cap ((max m (2 * cap + 2))) f hA2 (by omega) (by omega) hf hU.2.2.1) pn_yJ14_copyOf q325 q326 q136 q327 ⟨by decide, by decide⟩ hl.1 (Nat.le_of_ble_eq_true rfl) dJ8_ensureCapacityInternal_32 ⟨by omega, by omega⟩) hL (fun q w_4 hp_5 H locs hR hL => ?_)
    obtain ⟨hz_7, hf_8, u_6⟩ := hp_5
    have ne_a_q : a ≠ q := w_neN hA1 hz_7
    have ne_arr_q : arr ≠ q := w_neN hA2 hz_7
    have hn_q : w q = none := hU.2.1 _ hz_7
    have hF_a_w_4 : w_4 a = some (r, oE 20 [.ref arr, .int (iI (0)), .int (iI (0)), .int (iI ((n : Int)))]) := u_6.1 _ _ _ hA1 (by first | exact id | (intro q_; (try dsimp only at q_); omega))
    have hF_arr_w_4 : w_4 arr = some (r, iE G 1 cap f) := u_6.1 _ _ _ hA2 (by first | exact id | (intro q_; (try dsimp only at q_); omega))
    have hU : Up (fun q_ => q_ = r) w w_4 := hU.tr u_6 (fun q_ h_ => by first | exact absurd h_ id | exact Or.inl h_ | ((try dsimp only at h_); first | exact Or.inl (by omega) | exact Or.inr ⟨by omega, by subst h_; rw [Nat.add_sub_cancel]; assumption⟩)) hG
    refine h_put X hR hL hF_a_w_4 hr rfl in_J9 tyJ9_ok nmJ9 0 (by decide) q281 rfl rfl rfl (Nat.le_of_ble_eq_true rfl) dJ8_ensureCapacityInternal_35 (fun w_9 ew_10 H locs hR hL => ?_)
    have hU : Up (fun q_ => q_ = r) w w_9 := by rw [ew_10]; exact hU.set hF_a_w_4 (by first | exact Or.inl rfl | exact Or.inl (by omega) | exact Or.inr ⟨Nat.succ_ne_zero _, by rw [Nat.add_sub_cancel]; assumption⟩ | exact Or.inr ⟨by omega, by assumption⟩) hG _
    have hF_a_w_9 : w_9 a = some (r, oE 20 [.ref q, .int (iI (0)), .int (iI (0)), .int (iI ((n : Int)))]) := by rw [ew_10]; exact wset_eq _ _ _
    have hF_arr_w_9 : w_9 arr = some (r, iE G 1 cap f) := by rw [ew_10]; exact (wset_ne _ (by first | exact ne_arr_a | exact Ne.symm ne_a_arr | exact w_neR hF_arr_w_4 hF_a_w_4 (by omega) | exact w_ne hF_arr_w_4 hF_a_w_4 (by intro h; cases h))).trans hF_arr_w_4
    have hF_q_w_9 : w_9 q = some (q + 1, iE G 1 ((max m (2 * cap + 2))) (cpA f (fun _ => 0) 0 0 cap)) := by rw [ew_10]; exact (wset_ne _ (by first | exact ne_q_a | exact Ne.symm ne_a_q | exact w_neR hf_8 hF_a_w_4 (by omega) | exact w_ne hf_8 hF_a_w_4 (by intro h; cases h))).trans hf_8
    have hR := hR.retag (r) hF_q_w_9 (Nat.succ_ne_zero _)
    obtain ⟨w_11, ew_12⟩ : ∃ w_ : Wd, w_ = wset w_9 q (r, iE G 1 ((max m (2 * cap + 2))) (cpA f (fun _ => 0) 0 0 cap)) := ⟨_, rfl⟩
    rw [← ew_12] at hR
    have hU : Up (fun q_ => q_ = r) w w_11 := by rw [ew_12]; exact hU.tag hF_q_w_9 hn_q (Or.inr (hU.2.2.1.ofs hF_a_w_9 hr))
    have hF_q_w_11 : w_11 q = some (r, iE G 1 ((max m (2 * cap + 2))) (cpA f (fun _ => 0) 0 0 cap)) := by rw [ew_12]; exact wset_eq _ _ _
    have hF_a_w_11 : w_11 a = some (r, oE 20 [.ref q, .int (iI (0)), .int (iI (0)), .int (iI ((n : Int)))]) := by rw [ew_12]; exact (wset_ne _ (by first | exact ne_a_q | exact Ne.symm ne_q_a | exact w_neR hF_a_w_9 hF_q_w_9 (by omega) | exact w_ne hF_a_w_9 hF_q_w_9 (by intro h; cases h))).trans hF_a_w_9
    have hF_arr_w_11 : w_11 arr = some (r, iE G 1 cap f) := by rw [ew_12]; exact (wset_ne _ (by first | exact ne_arr_q | exact Ne.symm ne_q_arr | exact w_neR hF_arr_w_9 hF_q_w_9 (by omega) | exact w_ne hF_arr_w_9 hF_q_w_9 (by intro h; cases h))).trans hF_arr_w_9
    exact h_vreturn hx hb hlk hret hR hL ⟨⟨q, _, _, hF_a_w_11, hF_q_w_11, by omega, by omega, by omega, fun i_ hi_ => (cpB_at hi_), fun i_ hi_ => cpB_r hf hi_⟩, hU⟩ (by omega) (by omega) rfl rfl dJ8_ensureCapacityInternal_38

set_option maxHeartbeats 4000000 in
set_option maxRecDepth 100000 in
/-- String.getBytes -/
theorem s_getB (l : Launch) (G : Gl) (w : Wd) (a : Nat) (L : List Int) (hS : StrAt G w a L) (rd d cap : Nat) (f : Nat → Int) (hD : w d = some (rd, iE G 1 cap f)) (hrd : rd ≠ 0) (i : Nat) (hi : i + L.length ≤ cap) (hc : cap < 100000) : HM l yJ10_getBytes cJ10_getBytes 4 none 2 0 0 G [.ref a, .ref d, .int (iI ((i : Int))), .int (iI (0))] w (QV G (fun w_ => w_ = wset w d (rd, iE G 1 cap (cpA (fun j => L.getD j 0) f 0 i L.length)))) := by
  refine HM.mk (by decide +kernel) (Nat.le_of_ble_eq_true rfl) ?_
  intro p9 e9 s9 m9 a9 b9 meth9 c9 ls X hret hlk hnm hl H hR
  have hx := X.1.1
  have hb := X.1.2.1
  have hl : lv_has ls 4 [(0, .ref a), (1, .ref d), (2, .int (iI ((i : Int)))), (3, .int (iI (0)))] := hl
  have hL : LK G [] := fun q h => absurd h List.not_mem_nil
  generalize ([] : List Loc) = locs at hL ⊢
  have hS0 := hS
  obtain ⟨va, hS1, hS2, hS3, hS4⟩ := hS
  refine lv_aload_n hx hb dJ10_getBytes_0 rfl (lv_at hl 0 rfl) ?_
  -- call java/lang/String.coder
  refine h_kIp (h_runV X hR (s_coder l G w a L hS0) pn_yJ10_coder (hS0.c) q376 q377 q378 q132 q379 ⟨by decide, by decide⟩ hl.1 (Nat.le_of_ble_eq_true rfl) dJ10_getBytes_1 ⟨by omega, by omega⟩) hL (fun H locs hR hL => ?_)
  refine lv_iload_n hx hb dJ10_getBytes_4 rfl (lv_at hl 3 rfl) ?_
  refine h_icmp_ne hx hb 28 dJ10_getBytes_5 (by decide) (by decide) (by decide) (fun z_ => absurd z_ (by decide)) (fun _ => ?_)
  refine lv_aload_n hx hb dJ10_getBytes_8 rfl (lv_at hl 0 rfl) ?_
  refine h_strV X hR hS1 q521 dJ10_getBytes_9 ?_
  refine h_iconst hx hb dJ10_getBytes_12 ?_
  refine lv_aload_n hx hb dJ10_getBytes_13 rfl (lv_at hl 1 rfl) ?_
  refine lv_iload_n hx hb dJ10_getBytes_14 rfl (lv_at hl 2 rfl) ?_
  refine lv_iload_n hx hb dJ10_getBytes_15 rfl (lv_at hl 3 rfl) ?_
  refine lv_ishl hx hb dJ10_getBytes_16 ?_
  refine W.eq (g2 := F0 m9 17 ls [.int (iI ((i : Int))), .ref d, .int (iI (0)), .ref va]) (by rw [iI_shl0]) ?_
  refine lv_aload_n hx hb dJ10_getBytes_17 rfl (lv_at hl 0 rfl) ?_
  refine h_strV X hR hS1 q521 dJ10_getBytes_18 ?_
  refine h_alenI X hR hS2 rfl dJ10_getBytes_21 ?_
  refine h_copyB X hR hL hl.1 hS2 hD hrd q413 (by intro x_ h_; simp only [acW, List.mem_cons, List.not_mem_nil, or_false] at h_; rcases h_ with h_ | h_ | h_ <;> subst h_; exact q340; exact q339; exact q137) ⟨by omega, by omega, by omega⟩ (by omega) (by omega) ⟨by omega, by omega⟩ (fun j_ hj_ => by have h_ := getI hS4 (show j_ < L.length by omega); rw [show ((0 : Int)).toNat + j_ = j_ by omega]; exact ⟨by omega, by omega⟩) ⟨by decide, Nat.le_of_ble_eq_true rfl⟩ dJ10_getBytes_22 (fun w_5 ew_6 H locs hR hL => ?_)
  have hF_d_w_5 : w_5 d = some (rd, iE G 1 cap (cpA (fun j => L.getD j 0) f 0 i L.length)) := by rw [ew_6]; exact wset_eq _ _ _
  have hF_a_w_5 : w_5 a = some (0, sE va (iI (sH L))) := by rw [ew_6]; exact (wset_ne _ (w_neR hS1 hD (by omega))).trans hS1
  have hF_va_w_5 : w_5 va = some (0, iE G 1 L.length (fun j => L.getD j 0)) := by rw [ew_6]; exact (wset_ne _ (w_neR hS2 hD (by omega))).trans hS2
  refine lv_goto (tgt := 43) hx hb dJ10_getBytes_25 (by decide) ?_
  exact h_vreturn hx hb hlk hret hR hL (by rw [ew_6]; simp only [Int.toNat_natCast]; rfl) (by omega) (by omega) rfl rfl dJ10_getBytes_43

set_option maxHeartbeats 4000000 in
set_option maxRecDepth 100000 in
/-- AbstractStringBuilder.inflateIfNeededFor -/
theorem sb_inf (l : Launch) (G : Gl) (w : Wd) (r a arr cap : Nat) (f : Nat → Int) (n : Nat) (hA1 : w a = some (r, oE 20 [.ref arr, .int (iI 0), .int (iI 0), .int (iI (n : Int))])) (hA2 : w arr = some (r, iE G 1 cap f)) (h4 : cap < 100000) (b : Nat) (L : List Int) (hS : StrAt G w b L) : HM l yJ8_inflateIfNeededFor cJ8_inflateIfNeededFor 2 none 3 0 0 G [.ref a, .ref b] w (QV G (fun w_ => w_ = w)) := by
  refine HM.mk (by decide +kernel) (Nat.le_of_ble_eq_true rfl) ?_
  intro p9 e9 s9 m9 a9 b9 meth9 c9 ls X hret hlk hnm hl H hR
  have hx := X.1.1
  have hb := X.1.2.1
  have hl : lv_has ls 2 [(0, .ref a), (1, .ref b)] := hl
  have hL : LK G [] := fun q h => absurd h List.not_mem_nil
  generalize ([] : List Loc) = locs at hL ⊢
  refine h_getsI X hR (z32 := 1) [false, false, false, false, false, false, false, true, false, true, true] (1) rfl rfl q273 q132 q272 dJ8_inflateIfNeededFor_0 ?_
  refine h_if_eq hx hb 21 dJ8_inflateIfNeededFor_3 (by decide) (by decide) (fun z_ => absurd z_ (by decide)) (fun _ => ?_)
  refine lv_aload_n hx hb dJ8_inflateIfNeededFor_6 rfl (lv_at hl 0 rfl) ?_
  refine h_get X hR hA1 rfl in_J9 1 (by decide) q282 rfl dJ8_inflateIfNeededFor_7 ?_
  refine lv_aload_n hx hb dJ8_inflateIfNeededFor_10 rfl (lv_at hl 1 rfl) ?_
  -- call java/lang/String.coder
  refine h_kIp (h_runV X hR (s_coder l G w b L hS) pn_yJ10_coder (hS.c) q389 q377 q378 q132 q379 ⟨by decide, by decide⟩ hl.1 (Nat.le_of_ble_eq_true rfl) dJ8_inflateIfNeededFor_11 ⟨by omega, by omega⟩) hL (fun H locs hR hL => ?_)
  refine h_icmp_eq hx hb 21 dJ8_inflateIfNeededFor_14 (by decide) (by decide) (by decide) (fun _ => ?_) (fun z_ => absurd z_ (by decide))
  exact h_vreturn hx hb hlk hret hR hL (by rfl) (by omega) (by omega) rfl rfl dJ8_inflateIfNeededFor_21

set_option maxHeartbeats 4000000 in
set_option maxRecDepth 100000 in
/-- AbstractStringBuilder.putStringAt -/
theorem sb_put (l : Launch) (G : Gl) (w : Wd) (r a arr cap : Nat) (f : Nat → Int) (n : Nat) (hA1 : w a = some (r, oE 20 [.ref arr, .int (iI 0), .int (iI 0), .int (iI (n : Int))])) (hA2 : w arr = some (r, iE G 1 cap f)) (h4 : cap < 100000) (b : Nat) (L : List Int) (hS : StrAt G w b L) (hr : r ≠ 0) (i : Nat) (hi : i + L.length ≤ cap) : HM l yJ8_putStringAt cJ8_putStringAt 3 none 4 0 0 G [.ref a, .int (iI ((i : Int))), .ref b] w (QV G (fun w_ => w_ = wset w arr (r, iE G 1 cap (cpA (fun j => L.getD j 0) f 0 i L.length)))) := by
  refine HM.mk (by decide +kernel) (Nat.le_of_ble_eq_true rfl) ?_
  intro p9 e9 s9 m9 a9 b9 meth9 c9 ls X hret hlk hnm hl H hR
  have hx := X.1.1
  have hb := X.1.2.1
  have hl : lv_has ls 3 [(0, .ref a), (1, .int (iI ((i : Int)))), (2, .ref b)] := hl
  have hL : LK G [] := fun q h => absurd h List.not_mem_nil
  generalize ([] : List Loc) = locs at hL ⊢
  refine lv_aload_n hx hb dJ8_putStringAt_0 rfl (lv_at hl 0 rfl) ?_
  refine lv_aload_n hx hb dJ8_putStringAt_1 rfl (lv_at hl 2 rfl) ?_
  -- call java/lang/AbstractStringBuilder.inflateIfNeededFor
  refine h_kVp (h_runU (x := ⟨"java/lang/AbstractStringBuilder", "inflateIfNeededFor", "(Ljava/lang/String;)V"⟩) (owner := "java/lang/AbstractStringBuilder") X hR (sb_inf l G w r a arr cap f n hA1 hA2 (by omega) b L hS) (by decide) pn_yJ8_inflateIfNeededFor (hasC.of hA1 rfl) q385 q3380 (h_declC X q387 q388) (h_selP2 X hR q387 q3380 q386 (by decide) (hasC.of hA1 rfl)) q387 q130 q388 ⟨by decide, by decide⟩ hl.1 (Nat.le_of_ble_eq_true rfl) dJ8_putStringAt_2 ⟨by omega, by omega⟩) hL (fun H locs hR hL => ?_)
  refine lv_aload_n hx hb dJ8_putStringAt_5 rfl (lv_at hl 2 rfl) ?_
  refine lv_aload_n hx hb dJ8_putStringAt_6 rfl (lv_at hl 0 rfl) ?_
  refine h_get X hR hA1 rfl in_J9 0 (by decide) q281 rfl dJ8_putStringAt_7 ?_
  refine lv_iload_n hx hb dJ8_putStringAt_10 rfl (lv_at hl 1 rfl) ?_
  refine lv_aload_n hx hb dJ8_putStringAt_11 rfl (lv_at hl 0 rfl) ?_
  refine h_get X hR hA1 rfl in_J9 1 (by decide) q282 rfl dJ8_putStringAt_12 ?_
  -- call java/lang/String.getBytes
  refine h_kV (h_runV X hR (s_getB l G w b L hS r arr cap f hA2 hr i (by omega) (by omega)) pn_yJ10_getBytes (hS.c) q409 q410 q411 q132 q412 ⟨by decide, by decide⟩ hl.1 (Nat.le_of_ble_eq_true rfl) dJ8_putStringAt_15 ⟨by omega, by omega⟩) hL (fun w_5 hp H locs hR hL => ?_)
  have hF_arr_w_5 : w_5 arr = some (r, iE G 1 cap (cpA (fun j => L.getD j 0) f 0 i L.length)) := by rw [hp]; exact wset_eq _ _ _
  have hF_a_w_5 : w_5 a = some (r, oE 20 [.ref arr, .int (iI (0)), .int (iI (0)), .int (iI ((n : Int)))]) := by rw [hp]; exact (wset_ne _ (w_ne hA1 hA2 (by intro h; cases h))).trans hA1
  have hP_b_w_5 := hS.mv (w1 := w_5) (S := fun q_ => q_ = r) (by rw [hp]; exact Fr.one hA2 _) (by first | exact id | (intro q_; (try dsimp only at q_); omega))
  exact h_vreturn hx hb hlk hret hR hL hp (by omega) (by omega) rfl rfl dJ8_putStringAt_18

theorem sb_app {C L : List Int} {f g : Nat → Int} {cap : Nat} (h1 : ∀ i, i < C.length → f i = C.getD i 0) (h2 : ∀ i, i < cap → g i = f i) (hc : C.length ≤ cap) (i : Nat) (hi : i < (C ++ L).length) : cpA (fun j => L.getD j 0) g 0 C.length L.length i = (C ++ L).getD i 0 := by
  rw [List.length_append] at hi
  rw [app_at2]
  unfold cpA
  by_cases q : i < C.length
  · rw [if_neg (by omega), if_pos q, h2 i (by omega), h1 i q]
  · rw [if_pos (by omega), if_neg q]; congr 1; omega
theorem sb_r {L : List Int} {g : Nat → Int} {cap n : Nat} (hL : ∀ x ∈ L, 0 ≤ x ∧ x < 128) (h : ∀ i, i < cap → -128 ≤ g i ∧ g i < 128) (i : Nat) (hi : i < cap) : -128 ≤ cpA (fun j => L.getD j 0) g 0 n L.length i ∧ cpA (fun j => L.getD j 0) g 0 n L.length i < 128 := by
  unfold cpA
  split
  · have := getI hL (show 0 + (i - n) < L.length by omega)
    exact ⟨by show -128 ≤ L.getD _ 0; omega, by show L.getD _ 0 < 128; omega⟩
  · exact h i hi
theorem sb_ch {C : List Int} {f g : Nat → Int} {cap : Nat} {x : Int} (h1 : ∀ i, i < C.length → f i = C.getD i 0) (h2 : ∀ i, i < cap → g i = f i) (hc : C.length ≤ cap) (i : Nat) (hi : i < (C ++ [x]).length) : zset g C.length x i = (C ++ [x]).getD i 0 := by
  rw [List.length_append, List.length_singleton] at hi
  rw [app_at']
  unfold zset
  by_cases q : i = C.length
  · rw [if_pos q, if_pos q]
  · rw [if_neg q, if_neg q, h2 i (by omega), h1 i (by omega)]
theorem sb_rc {g : Nat → Int} {cap n : Nat} {x : Int} (hx : 0 ≤ x ∧ x < 128) (h : ∀ i, i < cap → -128 ≤ g i ∧ g i < 128) (i : Nat) (hi : i < cap) : -128 ≤ zset g n x i ∧ zset g n x i < 128 := by
  unfold zset
  split
  · omega
  · exact h i hi
theorem mem_app {C L : List Int} (h : ∀ x ∈ C, 0 ≤ x ∧ x < 128) (h2 : ∀ x ∈ L, 0 ≤ x ∧ x < 128) : ∀ x ∈ C ++ L, 0 ≤ x ∧ x < 128 := fun x hx => (List.mem_append.mp hx).elim (h x) (h2 x)
theorem StrAt.ltr {G : Gl} {w : Wd} {a : Nat} {L : List Int} (h : StrAt G w a L) : ∀ x ∈ L, 0 ≤ x ∧ x < 128 := by
  obtain ⟨va, -, -, -, h4⟩ := h
  exact h4

set_option maxHeartbeats 4000000 in
set_option maxRecDepth 100000 in
/-- AbstractStringBuilder.append -/
theorem sb_aps (l : Launch) (G : Gl) (w : Wd) (r a cap : Nat) (C : List Int) (hA : SbAt G w r a cap C) (hG : RegW w) (hr : r ≠ 0) (b : Nat) (L : List Int) (hS : StrAt G w b L) (hsz : C.length + L.length < 4000) : HM l yJ8_append cJ8_append 3 (some (.object "java/lang/AbstractStringBuilder")) 5 1 ((2 * (C.length + L.length) + 2)) G [.ref a, .ref b] w (QR G (fun z_ w_ => z_ = a ∧ (∃ cap2, SbAt G w_ r a cap2 (C ++ L) ∧ cap2 ≤ max cap (2 * (C.length + L.length) + 2)) ∧ Up (fun q_ => q_ = r) w w_)) := by
  refine HM.mk (by decide +kernel) (Nat.le_of_ble_eq_true rfl) ?_
  intro p9 e9 s9 m9 a9 b9 meth9 c9 ls X hret hlk hnm hl H hR
  have hx := X.1.1
  have hb := X.1.2.1
  have hl : lv_has ls 3 [(0, .ref a), (1, .ref b)] := hl
  have hL : LK G [] := fun q h => absurd h List.not_mem_nil
  generalize ([] : List Loc) = locs at hL ⊢
  have hU : Up (fun q_ => q_ = r) w w := Up.rf hG
  have hA0 := hA
  obtain ⟨arr, f, hA1, hA2, hA3, hA4, hA5, hA6, hf⟩ := hA
  refine lv_aload_n hx hb dJ8_append_0 rfl (lv_at hl 1 rfl) ?_
  refine lv_ifnonnull (tgt := 9) hx hb dJ8_append_1 (by decide) ?_
  refine lv_aload_n hx hb dJ8_append_9 rfl (lv_at hl 1 rfl) ?_
  -- call java/lang/String.length
  refine h_kIp (h_runV X hR (s_length l G w b L hS) pn_yJ10_length (hS.c) q372 q373 q374 q132 q375 ⟨by decide, by decide⟩ hl.1 (Nat.le_of_ble_eq_true rfl) dJ8_append_10 ⟨by omega, by omega⟩) hL (fun H locs hR hL => ?_)
  refine lv_istore_n (lv' := [(2, .int (iI ((L.length : Int)))), (0, .ref a), (1, .ref b)]) hx hb dJ8_append_13 rfl hl (by decide) rfl (fun ls hl => ?_)
  refine lv_aload_n hx hb dJ8_append_14 rfl (lv_at hl 1 rfl) ?_
  refine lv_aload_n hx hb dJ8_append_15 rfl (lv_at hl 1 rfl) ?_
  refine h_get X hR hA1 rfl in_J9 3 (by decide) q284 rfl dJ8_append_16 ?_
  refine lv_iload_n hx hb dJ8_append_19 rfl (lv_at hl 0 rfl) ?_
  refine h_iadd hx hb dJ8_append_20 ?_
  refine W.eq (g2 := F0 m9 21 ls [.int (iI (((C.length + L.length : Nat) : Int))), .ref a]) (congrArg (fun z_ : Int => F0 m9 21 ls [.int (iI (z_)), .ref a]) (show ((C.length : Int) + ((L.length : Int)) : Int) = ((C.length + L.length : Nat) : Int) from (by omega))) ?_
  -- call java/lang/AbstractStringBuilder.ensureCapacityInternal
  refine h_kV (h_runU (x := ⟨"java/lang/AbstractStringBuilder", "ensureCapacityInternal", "(I)V"⟩) (owner := "java/lang/AbstractStringBuilder") X hR (sb_ens l G w r a arr cap f C.length hA1 hA2 (by omega) hU.2.2.1 hr hf (C.length + L.length) (by omega)) (by decide) pn_yJ8_ensureCapacityInternal (hasC.of hA1 rfl) q306 q3377 (h_declC X q308 q309) (h_selP2 X hR q308 q3377 q307 (by decide) (hasC.of hA1 rfl)) q308 q130 q309 ⟨by decide, by decide⟩ hl.1 (Nat.le_of_ble_eq_true rfl) dJ8_append_21 ⟨by omega, by omega⟩) hL (fun w_5 hp_6 H locs hR hL => ?_)
  obtain ⟨⟨arr_8, cap_9, g_10, hA_11, hA_12, hce1, hce2, hce3, hge, hgr⟩, u_7⟩ := hp_6
  have hP_b_w_5 := hS.mv (u_7.1) (by first | exact id | (intro q_; (try dsimp only at q_); omega))
  have hU : Up (fun q_ => q_ = r) w w_5 := hU.tr u_7 (fun q_ h_ => by first | exact absurd h_ id | exact Or.inl h_ | ((try dsimp only at h_); first | exact Or.inl (by omega) | exact Or.inr ⟨by omega, by subst h_; rw [Nat.add_sub_cancel]; assumption⟩)) hG
  refine lv_aload_n hx hb dJ8_append_24 rfl (lv_at hl 1 rfl) ?_
  refine lv_aload_n hx hb dJ8_append_25 rfl (lv_at hl 1 rfl) ?_
  refine h_get X hR hA_11 rfl in_J9 3 (by decide) q284 rfl dJ8_append_26 ?_
  refine lv_aload_n hx hb dJ8_append_29 rfl (lv_at hl 2 rfl) ?_
  -- call java/lang/AbstractStringBuilder.putStringAt
  refine h_kV (h_runU (x := ⟨"java/lang/AbstractStringBuilder", "putStringAt", "(ILjava/lang/String;)V"⟩) (owner := "java/lang/AbstractStringBuilder") X hR (sb_put l G w_5 r a arr_8 cap_9 g_10 C.length hA_11 hA_12 (by omega) b L hP_b_w_5 hr C.length (by omega)) (by decide) pn_yJ8_putStringAt (hasC.of hA_11 rfl) q381 q3379 (h_declC X q383 q384) (h_selP2 X hR q383 q3379 q382 (by decide) (hasC.of hA_11 rfl)) q383 q130 q384 ⟨by decide, by decide⟩ hl.1 (Nat.le_of_ble_eq_true rfl) dJ8_append_30 ⟨by omega, by omega⟩) hL (fun w_14 hp_15 H locs hR hL => ?_)
  have hU : Up (fun q_ => q_ = r) w w_14 := by rw [hp_15]; exact hU.set hA_12 (by first | exact Or.inl rfl | exact Or.inl (by omega) | exact Or.inr ⟨Nat.succ_ne_zero _, by rw [Nat.add_sub_cancel]; assumption⟩ | exact Or.inr ⟨by omega, by assumption⟩) hG _
  have hF_arr_8_w_14 : w_14 arr_8 = some (r, iE G 1 cap_9 (cpA (fun j => L.getD j 0) g_10 0 C.length L.length)) := by rw [hp_15]; exact wset_eq _ _ _
  have hP_b_w_14 := hP_b_w_5.mv (w1 := w_14) (S := fun q_ => q_ = r) (by rw [hp_15]; exact Fr.one hA_12 _) (by first | exact id | (intro q_; (try dsimp only at q_); omega))
  have hF_a_w_14 : w_14 a = some (r, oE 20 [.ref arr_8, .int (iI (0)), .int (iI (0)), .int (iI ((C.length : Int)))]) := by rw [hp_15]; exact (wset_ne _ (by first | exact ne_a_arr_8 | exact Ne.symm ne_arr_8_a | exact w_neR hA_11 hA_12 (by omega) | exact w_ne hA_11 hA_12 (by intro h; cases h))).trans hA_11
  refine lv_aload_n hx hb dJ8_append_33 rfl (lv_at hl 1 rfl) ?_
  refine lv_dup hx hb dJ8_append_34 rfl ?_
  refine h_get X hR hF_a_w_14 rfl in_J9 3 (by decide) q284 rfl dJ8_append_35 ?_
  refine lv_iload_n hx hb dJ8_append_38 rfl (lv_at hl 0 rfl) ?_
  refine h_iadd hx hb dJ8_append_39 ?_
  refine h_put X hR hL hF_a_w_14 hr rfl in_J9 tyJ9_ok nmJ9 3 (by decide) q284 rfl rfl rfl (Nat.le_of_ble_eq_true rfl) dJ8_append_40 (fun w_16 ew_17 H locs hR hL => ?_)
  have hU : Up (fun q_ => q_ = r) w w_16 := by rw [ew_17]; exact hU.set hF_a_w_14 (by first | exact Or.inl rfl | exact Or.inl (by omega) | exact Or.inr ⟨Nat.succ_ne_zero _, by rw [Nat.add_sub_cancel]; assumption⟩ | exact Or.inr ⟨by omega, by assumption⟩) hG _
  have hF_a_w_16 : w_16 a = some (r, oE 20 [.ref arr_8, .int (iI (0)), .int (iI (0)), .int (iI ((C.length : Int) + ((L.length : Int))))]) := by rw [ew_17]; exact wset_eq _ _ _
  have hF_arr_8_w_16 : w_16 arr_8 = some (r, iE G 1 cap_9 (cpA (fun j => L.getD j 0) g_10 0 C.length L.length)) := by rw [ew_17]; exact (wset_ne _ (by first | exact ne_arr_8_a | exact Ne.symm ne_a_arr_8 | exact w_neR hF_arr_8_w_14 hF_a_w_14 (by omega) | exact w_ne hF_arr_8_w_14 hF_a_w_14 (by intro h; cases h))).trans hF_arr_8_w_14
  have hP_b_w_16 := hP_b_w_14.mv (w1 := w_16) (S := fun q_ => q_ = r) (by rw [ew_17]; exact Fr.one hF_a_w_14 _) (by first | exact id | (intro q_; (try dsimp only at q_); omega))
  refine lv_aload_n hx hb dJ8_append_43 rfl (lv_at hl 1 rfl) ?_
  have hlen : ((C ++ L).length : Int) = (C.length : Int) + (L.length : Int) := by rw [List.length_append]; omega
  have hSb : SbAt G w_16 r a _ (C ++ L) := ⟨arr_8, _, by rw [hlen]; exact hF_a_w_16, hF_arr_8_w_16, by rw [List.length_append]; omega, by omega, fun i_ hi_ => sb_app hA5 hge hA3 i_ hi_, mem_app hA6 hS.ltr, fun i_ hi_ => sb_r hS.ltr hgr i_ hi_⟩
  exact h_areturn hx hb hlk hret (by first | exact Or.inl ⟨_, rfl⟩ | exact Or.inr ⟨_, rfl⟩) hR hL ⟨rfl, ⟨_, hSb, by omega⟩, hU⟩ (by omega) (by omega) rfl rfl dJ8_append_44

set_option maxHeartbeats 4000000 in
set_option maxRecDepth 100000 in
/-- StringLatin1.canEncode -/
theorem s_can (l : Launch) (G : Gl) (w : Wd) (x : Int) (hxr : 0 ≤ x ∧ x < 128) : HM l yJ16_canEncode cJ16_canEncode 1 (some .boolean) 1 0 0 G [.int (iI (x))] w (QI G (fun z_ w_ => z_ = 1 ∧ w_ = w)) := by
  refine HM.mk (by decide +kernel) (Nat.le_of_ble_eq_true rfl) ?_
  intro p9 e9 s9 m9 a9 b9 meth9 c9 ls X hret hlk hnm hl H hR
  have hx := X.1.1
  have hb := X.1.2.1
  have hl : lv_has ls 1 [(0, .int (iI (x)))] := hl
  have hL : LK G [] := fun q h => absurd h List.not_mem_nil
  generalize ([] : List Loc) = locs at hL ⊢
  refine lv_iload_n hx hb dJ16_canEncode_0 rfl (lv_at hl 0 rfl) ?_
  refine h_sipush hx hb dJ16_canEncode_1 (by decide) ?_
  refine h_icmp_gt hx hb 11 dJ16_canEncode_4 (by decide) (by omega) (by omega) (fun c_x => ?_) (fun c_x => ?_)
  ·
    exact absurd c_x (by omega)
  ·
    refine h_iconst hx hb dJ16_canEncode_7 ?_
    refine lv_goto (tgt := 12) hx hb dJ16_canEncode_8 (by decide) ?_
    exact h_ireturn hx hb hlk hret hR hL (nar01 (by omega)) ⟨rfl, rfl⟩ (by omega) (by omega) rfl rfl dJ16_canEncode_12

set_option maxHeartbeats 4000000 in
set_option maxRecDepth 100000 in
/-- AbstractStringBuilder.append -/
theorem sb_apc (l : Launch) (G : Gl) (w : Wd) (r a cap : Nat) (C : List Int) (hA : SbAt G w r a cap C) (hG : RegW w) (hr : r ≠ 0) (x : Int) (hxr : 0 ≤ x ∧ x < 128) (hsz : C.length < 4000) : HM l yJ8_append_3 cJ8_append_3 2 (some (.object "java/lang/AbstractStringBuilder")) 4 1 ((2 * (C.length + 1) + 2)) G [.ref a, .int (iI (x))] w (QR G (fun z_ w_ => z_ = a ∧ (∃ cap2, SbAt G w_ r a cap2 (C ++ [x]) ∧ cap2 ≤ max cap (2 * (C.length + 1) + 2)) ∧ Up (fun q_ => q_ = r) w w_)) := by
  refine HM.mk (by decide +kernel) (Nat.le_of_ble_eq_true rfl) ?_
  intro p9 e9 s9 m9 a9 b9 meth9 c9 ls X hret hlk hnm hl H hR
  have hx := X.1.1
  have hb := X.1.2.1
  have hl : lv_has ls 2 [(0, .ref a), (1, .int (iI (x)))] := hl
  have hL : LK G [] := fun q h => absurd h List.not_mem_nil
  generalize ([] : List Loc) = locs at hL ⊢
  have hU : Up (fun q_ => q_ = r) w w := Up.rf hG
  have hA0 := hA
  obtain ⟨arr, f, hA1, hA2, hA3, hA4, hA5, hA6, hf⟩ := hA
  refine lv_aload_n hx hb dJ8_append_3_0 rfl (lv_at hl 0 rfl) ?_
  refine lv_aload_n hx hb dJ8_append_3_1 rfl (lv_at hl 0 rfl) ?_
  refine h_get X hR hA1 rfl in_J9 3 (by decide) q284 rfl dJ8_append_3_2 ?_
  refine h_iconst hx hb dJ8_append_3_5 ?_
  refine h_iadd hx hb dJ8_append_3_6 ?_
  refine W.eq (g2 := F0 m9 7 ls [.int (iI (((C.length + 1 : Nat) : Int))), .ref a]) (congrArg (fun z_ : Int => F0 m9 7 ls [.int (iI (z_)), .ref a]) (show ((C.length : Int) + 1 : Int) = ((C.length + 1 : Nat) : Int) from (by omega))) ?_
  -- call java/lang/AbstractStringBuilder.ensureCapacityInternal
  refine h_kV (h_runU (x := ⟨"java/lang/AbstractStringBuilder", "ensureCapacityInternal", "(I)V"⟩) (owner := "java/lang/AbstractStringBuilder") X hR (sb_ens l G w r a arr cap f C.length hA1 hA2 (by omega) hU.2.2.1 hr hf (C.length + 1) (by omega)) (by decide) pn_yJ8_ensureCapacityInternal (hasC.of hA1 rfl) q306 q3377 (h_declC X q308 q309) (h_selP2 X hR q308 q3377 q307 (by decide) (hasC.of hA1 rfl)) q308 q130 q309 ⟨by decide, by decide⟩ hl.1 (Nat.le_of_ble_eq_true rfl) dJ8_append_3_7 ⟨by omega, by omega⟩) hL (fun w_2 hp_3 H locs hR hL => ?_)
  obtain ⟨⟨arr_5, cap_6, g_7, hA_8, hA_9, hce1, hce2, hce3, hge, hgr⟩, u_4⟩ := hp_3
  have hU : Up (fun q_ => q_ = r) w w_2 := hU.tr u_4 (fun q_ h_ => by first | exact absurd h_ id | exact Or.inl h_ | ((try dsimp only at h_); first | exact Or.inl (by omega) | exact Or.inr ⟨by omega, by subst h_; rw [Nat.add_sub_cancel]; assumption⟩)) hG
  refine lv_aload_n hx hb dJ8_append_3_10 rfl (lv_at hl 0 rfl) ?_
  -- call java/lang/AbstractStringBuilder.isLatin1
  refine h_kIp (h_runU (x := ⟨"java/lang/AbstractStringBuilder", "isLatin1", "()Z"⟩) (owner := "java/lang/AbstractStringBuilder") X hR (sb_isL l G w_2 r a arr_5 cap_6 g_7 C.length hA_8 hA_9 (by omega)) (by decide) pn_yJ8_isLatin1 (hasC.of hA_8 rfl) q341 q343 (h_declC X q342 q345) (X.1.2.2.2.2 _ q344) q342 q130 q345 ⟨by decide, by decide⟩ hl.1 (Nat.le_of_ble_eq_true rfl) dJ8_append_3_11 ⟨by omega, by omega⟩) hL (fun H locs hR hL => ?_)
  refine h_if_eq hx hb 45 dJ8_append_3_14 (by decide) (by decide) (fun z_ => absurd z_ (by decide)) (fun _ => ?_)
  refine lv_iload_n hx hb dJ8_append_3_17 rfl (lv_at hl 1 rfl) ?_
  -- call java/lang/StringLatin1.canEncode
  refine h_kIp (h_runS X hR (s_can l G w_2 x hxr) pn_yJ16_canEncode q1485 q1486 q139 q1487 ⟨by decide, by decide⟩ hl.1 (Nat.le_of_ble_eq_true rfl) dJ8_append_3_18 ⟨by omega, by omega⟩) hL (fun H locs hR hL => ?_)
  refine h_if_eq hx hb 45 dJ8_append_3_21 (by decide) (by decide) (fun z_ => absurd z_ (by decide)) (fun _ => ?_)
  refine lv_aload_n hx hb dJ8_append_3_24 rfl (lv_at hl 0 rfl) ?_
  refine h_get X hR hA_8 rfl in_J9 0 (by decide) q281 rfl dJ8_append_3_25 ?_
  refine lv_aload_n hx hb dJ8_append_3_28 rfl (lv_at hl 0 rfl) ?_
  refine lv_dup hx hb dJ8_append_3_29 rfl ?_
  refine h_get X hR hA_8 rfl in_J9 3 (by decide) q284 rfl dJ8_append_3_30 ?_
  refine lv_dup_x1 hx hb dJ8_append_3_33 rfl rfl ?_
  refine h_iconst hx hb dJ8_append_3_34 ?_
  refine h_iadd hx hb dJ8_append_3_35 ?_
  refine h_put X hR hL hA_8 hr rfl in_J9 tyJ9_ok nmJ9 3 (by decide) q284 rfl rfl rfl (Nat.le_of_ble_eq_true rfl) dJ8_append_3_36 (fun w_18 ew_19 H locs hR hL => ?_)
  have hU : Up (fun q_ => q_ = r) w w_18 := by rw [ew_19]; exact hU.set hA_8 (by first | exact Or.inl rfl | exact Or.inl (by omega) | exact Or.inr ⟨Nat.succ_ne_zero _, by rw [Nat.add_sub_cancel]; assumption⟩ | exact Or.inr ⟨by omega, by assumption⟩) hG _
  have hF_a_w_18 : w_18 a = some (r, oE 20 [.ref arr_5, .int (iI (0)), .int (iI (0)), .int (iI ((C.length : Int) + 1))]) := by rw [ew_19]; exact wset_eq _ _ _
  have hF_arr_5_w_18 : w_18 arr_5 = some (r, iE G 1 cap_6 g_7) := by rw [ew_19]; exact (wset_ne _ (by first | exact ne_arr_5_a | exact Ne.symm ne_a_arr_5 | exact w_neR hA_9 hA_8 (by omega) | exact w_ne hA_9 hA_8 (by intro h; cases h))).trans hA_9
  refine lv_iload_n hx hb dJ8_append_3_39 rfl (lv_at hl 1 rfl) ?_
  refine h_i2b hx hb dJ8_append_3_40 (by omega) ?_
  refine W.eq (g2 := F0 m9 41 ls [.int (iI (x)), .int (iI ((C.length : Int))), .ref arr_5]) (congrArg (fun z_ : Int => F0 m9 41 ls [.int (iI (z_)), .int (iI ((C.length : Int))), .ref arr_5]) (show (b8 x : Int) = x from (by unfold b8; omega))) ?_
  refine h_bast X hR hL hF_arr_5_w_18 hr (by omega) (by omega) (by omega) dJ8_append_3_41 (fun w_20 ew_21 H locs hR hL => ?_)
  have hU : Up (fun q_ => q_ = r) w w_20 := by rw [ew_21]; exact hU.set hF_arr_5_w_18 (by first | exact Or.inl rfl | exact Or.inl (by omega) | exact Or.inr ⟨Nat.succ_ne_zero _, by rw [Nat.add_sub_cancel]; assumption⟩ | exact Or.inr ⟨by omega, by assumption⟩) hG _
  have hF_arr_5_w_20 : w_20 arr_5 = some (r, iE G 1 cap_6 (zset g_7 ((C.length : Int)).toNat x)) := by rw [ew_21]; exact wset_eq _ _ _
  have hF_a_w_20 : w_20 a = some (r, oE 20 [.ref arr_5, .int (iI (0)), .int (iI (0)), .int (iI ((C.length : Int) + 1))]) := by rw [ew_21]; exact (wset_ne _ (by first | exact ne_a_arr_5 | exact Ne.symm ne_arr_5_a | exact w_neR hF_a_w_18 hF_arr_5_w_18 (by omega) | exact w_ne hF_a_w_18 hF_arr_5_w_18 (by intro h; cases h))).trans hF_a_w_18
  refine lv_goto (tgt := 75) hx hb dJ8_append_3_42 (by decide) ?_
  refine lv_aload_n hx hb dJ8_append_3_75 rfl (lv_at hl 0 rfl) ?_
  have hlen : ((C ++ [x]).length : Int) = (C.length : Int) + 1 := by rw [List.length_append, List.length_singleton]; omega
  have hSb : SbAt G w_20 r a cap_6 (C ++ [x]) := ⟨arr_5, _, by rw [hlen]; exact hF_a_w_20, hF_arr_5_w_20, by rw [List.length_append, List.length_singleton]; omega, by omega, fun i_ hi_ => sb_ch hA5 hge hA3 i_ hi_, mem_app hA6 (fun y hy => by rw [List.mem_singleton.mp hy]; exact hxr), fun i_ hi_ => sb_rc hxr hgr i_ hi_⟩
  exact h_areturn hx hb hlk hret (by first | exact Or.inl ⟨_, rfl⟩ | exact Or.inr ⟨_, rfl⟩) hR hL ⟨rfl, ⟨_, hSb, by omega⟩, hU⟩ (by omega) (by omega) rfl rfl dJ8_append_3_76

set_option maxHeartbeats 4000000 in
set_option maxRecDepth 100000 in
/-- AbstractStringBuilder.append -/
theorem sb_apc0 (l : Launch) (G : Gl) (w : Wd) (r a cap : Nat) (C : List Int) (hA : SbAt G w r a cap C) (hG : RegW w) (hr : r ≠ 0) (x : Int) (hxr : 0 ≤ x ∧ x < 128) (hsz : C.length < cap) : HM l yJ8_append_3 cJ8_append_3 2 (some (.object "java/lang/AbstractStringBuilder")) 4 0 0 G [.ref a, .int (iI (x))] w (QR G (fun z_ w_ => z_ = a ∧ SbAt G w_ r a cap (C ++ [x]) ∧ Up (fun q_ => q_ = r) w w_)) := by
  refine HM.mk (by decide +kernel) (Nat.le_of_ble_eq_true rfl) ?_
  intro p9 e9 s9 m9 a9 b9 meth9 c9 ls X hret hlk hnm hl H hR
  have hx := X.1.1
  have hb := X.1.2.1
  have hl : lv_has ls 2 [(0, .ref a), (1, .int (iI (x)))] := hl
  have hL : LK G [] := fun q h => absurd h List.not_mem_nil
  generalize ([] : List Loc) = locs at hL ⊢
  have hU : Up (fun q_ => q_ = r) w w := Up.rf hG
  have hA0 := hA
  obtain ⟨arr, f, hA1, hA2, hA3, hA4, hA5, hA6, hf⟩ := hA
  refine lv_aload_n hx hb dJ8_append_3_0 rfl (lv_at hl 0 rfl) ?_
  refine lv_aload_n hx hb dJ8_append_3_1 rfl (lv_at hl 0 rfl) ?_
  refine h_get X hR hA1 rfl in_J9 3 (by decide) q284 rfl dJ8_append_3_2 ?_
  refine h_iconst hx hb dJ8_append_3_5 ?_
  refine h_iadd hx hb dJ8_append_3_6 ?_
  refine W.eq (g2 := F0 m9 7 ls [.int (iI (((C.length + 1 : Nat) : Int))), .ref a]) (congrArg (fun z_ : Int => F0 m9 7 ls [.int (iI (z_)), .ref a]) (show ((C.length : Int) + 1 : Int) = ((C.length + 1 : Nat) : Int) from (by omega))) ?_
  -- call java/lang/AbstractStringBuilder.ensureCapacityInternal
  refine h_kVp (h_runU (x := ⟨"java/lang/AbstractStringBuilder", "ensureCapacityInternal", "(I)V"⟩) (owner := "java/lang/AbstractStringBuilder") X hR (sb_ens0 l G w r a arr cap f C.length hA1 hA2 (by omega) (C.length + 1) (by omega)) (by decide) pn_yJ8_ensureCapacityInternal (hasC.of hA1 rfl) q306 q3377 (h_declC X q308 q309) (h_selP2 X hR q308 q3377 q307 (by decide) (hasC.of hA1 rfl)) q308 q130 q309 ⟨by decide, by decide⟩ hl.1 (Nat.le_of_ble_eq_true rfl) dJ8_append_3_7 ⟨by omega, by omega⟩) hL (fun H locs hR hL => ?_)
  refine lv_aload_n hx hb dJ8_append_3_10 rfl (lv_at hl 0 rfl) ?_
  -- call java/lang/AbstractStringBuilder.isLatin1
  refine h_kIp (h_runU (x := ⟨"java/lang/AbstractStringBuilder", "isLatin1", "()Z"⟩) (owner := "java/lang/AbstractStringBuilder") X hR (sb_isL l G w r a arr cap f C.length hA1 hA2 (by omega)) (by decide) pn_yJ8_isLatin1 (hasC.of hA1 rfl) q341 q343 (h_declC X q342 q345) (X.1.2.2.2.2 _ q344) q342 q130 q345 ⟨by decide, by decide⟩ hl.1 (Nat.le_of_ble_eq_true rfl) dJ8_append_3_11 ⟨by omega, by omega⟩) hL (fun H locs hR hL => ?_)
  refine h_if_eq hx hb 45 dJ8_append_3_14 (by decide) (by decide) (fun z_ => absurd z_ (by decide)) (fun _ => ?_)
  refine lv_iload_n hx hb dJ8_append_3_17 rfl (lv_at hl 1 rfl) ?_
  -- call java/lang/StringLatin1.canEncode
  refine h_kIp (h_runS X hR (s_can l G w x hxr) pn_yJ16_canEncode q1485 q1486 q139 q1487 ⟨by decide, by decide⟩ hl.1 (Nat.le_of_ble_eq_true rfl) dJ8_append_3_18 ⟨by omega, by omega⟩) hL (fun H locs hR hL => ?_)
  refine h_if_eq hx hb 45 dJ8_append_3_21 (by decide) (by decide) (fun z_ => absurd z_ (by decide)) (fun _ => ?_)
  refine lv_aload_n hx hb dJ8_append_3_24 rfl (lv_at hl 0 rfl) ?_
  refine h_get X hR hA1 rfl in_J9 0 (by decide) q281 rfl dJ8_append_3_25 ?_
  refine lv_aload_n hx hb dJ8_append_3_28 rfl (lv_at hl 0 rfl) ?_
  refine lv_dup hx hb dJ8_append_3_29 rfl ?_
  refine h_get X hR hA1 rfl in_J9 3 (by decide) q284 rfl dJ8_append_3_30 ?_
  refine lv_dup_x1 hx hb dJ8_append_3_33 rfl rfl ?_
  refine h_iconst hx hb dJ8_append_3_34 ?_
  refine h_iadd hx hb dJ8_append_3_35 ?_
  refine h_put X hR hL hA1 hr rfl in_J9 tyJ9_ok nmJ9 3 (by decide) q284 rfl rfl rfl (Nat.le_of_ble_eq_true rfl) dJ8_append_3_36 (fun w_12 ew_13 H locs hR hL => ?_)
  have hU : Up (fun q_ => q_ = r) w w_12 := by rw [ew_13]; exact hU.set hA1 (by first | exact Or.inl rfl | exact Or.inl (by omega) | exact Or.inr ⟨Nat.succ_ne_zero _, by rw [Nat.add_sub_cancel]; assumption⟩ | exact Or.inr ⟨by omega, by assumption⟩) hG _
  have hF_a_w_12 : w_12 a = some (r, oE 20 [.ref arr, .int (iI (0)), .int (iI (0)), .int (iI ((C.length : Int) + 1))]) := by rw [ew_13]; exact wset_eq _ _ _
  have hF_arr_w_12 : w_12 arr = some (r, iE G 1 cap f) := by rw [ew_13]; exact (wset_ne _ (by first | exact ne_arr_a | exact Ne.symm ne_a_arr | exact w_neR hA2 hA1 (by omega) | exact w_ne hA2 hA1 (by intro h; cases h))).trans hA2
  refine lv_iload_n hx hb dJ8_append_3_39 rfl (lv_at hl 1 rfl) ?_
  refine h_i2b hx hb dJ8_append_3_40 (by omega) ?_
  refine W.eq (g2 := F0 m9 41 ls [.int (iI (x)), .int (iI ((C.length : Int))), .ref arr]) (congrArg (fun z_ : Int => F0 m9 41 ls [.int (iI (z_)), .int (iI ((C.length : Int))), .ref arr]) (show (b8 x : Int) = x from (by unfold b8; omega))) ?_
  refine h_bast X hR hL hF_arr_w_12 hr (by omega) (by omega) (by omega) dJ8_append_3_41 (fun w_14 ew_15 H locs hR hL => ?_)
  have hU : Up (fun q_ => q_ = r) w w_14 := by rw [ew_15]; exact hU.set hF_arr_w_12 (by first | exact Or.inl rfl | exact Or.inl (by omega) | exact Or.inr ⟨Nat.succ_ne_zero _, by rw [Nat.add_sub_cancel]; assumption⟩ | exact Or.inr ⟨by omega, by assumption⟩) hG _
  have hF_arr_w_14 : w_14 arr = some (r, iE G 1 cap (zset f ((C.length : Int)).toNat x)) := by rw [ew_15]; exact wset_eq _ _ _
  have hF_a_w_14 : w_14 a = some (r, oE 20 [.ref arr, .int (iI (0)), .int (iI (0)), .int (iI ((C.length : Int) + 1))]) := by rw [ew_15]; exact (wset_ne _ (by first | exact ne_a_arr | exact Ne.symm ne_arr_a | exact w_neR hF_a_w_12 hF_arr_w_12 (by omega) | exact w_ne hF_a_w_12 hF_arr_w_12 (by intro h; cases h))).trans hF_a_w_12
  refine lv_goto (tgt := 75) hx hb dJ8_append_3_42 (by decide) ?_
  refine lv_aload_n hx hb dJ8_append_3_75 rfl (lv_at hl 0 rfl) ?_
  have hlen : ((C ++ [x]).length : Int) = (C.length : Int) + 1 := by rw [List.length_append, List.length_singleton]; omega
  have hSb : SbAt G w_14 r a cap (C ++ [x]) := ⟨arr, _, by rw [hlen]; exact hF_a_w_14, hF_arr_w_14, by rw [List.length_append, List.length_singleton]; omega, by omega, fun i_ hi_ => sb_ch hA5 (fun _ _ => rfl) hA3 i_ hi_, mem_app hA6 (fun y hy => by rw [List.mem_singleton.mp hy]; exact hxr), fun i_ hi_ => sb_rc hxr hf i_ hi_⟩
  exact h_areturn hx hb hlk hret (by first | exact Or.inl ⟨_, rfl⟩ | exact Or.inr ⟨_, rfl⟩) hR hL ⟨rfl, hSb, hU⟩ (by omega) (by omega) rfl rfl dJ8_append_3_76

set_option maxHeartbeats 4000000 in
set_option maxRecDepth 100000 in
/-- StringBuilder.append -/
theorem sbb_c (l : Launch) (G : Gl) (w : Wd) (r a cap : Nat) (C : List Int) (hA : SbAt G w r a cap C) (hG : RegW w) (hr : r ≠ 0) (x : Int) (hxr : 0 ≤ x ∧ x < 128) (hsz : C.length < 4000) : HM l yJ9_append_3 cJ9_append_3 2 (some (.object "java/lang/StringBuilder")) 5 1 ((2 * (C.length + 1) + 2)) G [.ref a, .int (iI (x))] w (QR G (fun z_ w_ => z_ = a ∧ (∃ cap2, SbAt G w_ r a cap2 (C ++ [x]) ∧ cap2 ≤ max cap (2 * (C.length + 1) + 2)) ∧ Up (fun q_ => q_ = r) w w_)) := by
  refine HM.mk (by decide +kernel) (Nat.le_of_ble_eq_true rfl) ?_
  intro p9 e9 s9 m9 a9 b9 meth9 c9 ls X hret hlk hnm hl H hR
  have hx := X.1.1
  have hb := X.1.2.1
  have hl : lv_has ls 2 [(0, .ref a), (1, .int (iI (x)))] := hl
  have hL : LK G [] := fun q h => absurd h List.not_mem_nil
  generalize ([] : List Loc) = locs at hL ⊢
  have hU : Up (fun q_ => q_ = r) w w := Up.rf hG
  refine lv_aload_n hx hb dJ9_append_3_0 rfl (lv_at hl 0 rfl) ?_
  refine lv_iload_n hx hb dJ9_append_3_1 rfl (lv_at hl 1 rfl) ?_
  -- call java/lang/AbstractStringBuilder.append
  refine h_kR (h_runSU X hR (sb_apc l G w r a cap C hA hU.2.2.1 hr x hxr hsz) ⟨by decide, pn_yJ8_append_3.2⟩ (hA.c) q1482 q3384 q293 q1483 q130 q1484 ⟨by decide, by decide⟩ hl.1 (Nat.le_of_ble_eq_true rfl) dJ9_append_3_2 ⟨by omega, by omega⟩) hL (fun z_1 w_2 hp_3 H locs hR hL => ?_)
  obtain ⟨rfl, ⟨cap_6, hB__5, hcp_7⟩, u_4⟩ := hp_3
  have hU : Up (fun q_ => q_ = r) w w_2 := hU.tr u_4 (fun q_ h_ => by first | exact absurd h_ id | exact Or.inl h_ | ((try dsimp only at h_); first | exact Or.inl (by omega) | exact Or.inr ⟨by omega, by subst h_; rw [Nat.add_sub_cancel]; assumption⟩)) hG
  refine lv_pop hx hb dJ9_append_3_5 rfl ?_
  refine lv_aload_n hx hb dJ9_append_3_6 rfl (lv_at hl 0 rfl) ?_
  exact h_areturn hx hb hlk hret (by first | exact Or.inl ⟨_, rfl⟩ | exact Or.inr ⟨_, rfl⟩) hR hL ⟨rfl, ⟨_, hB__5, by first | assumption | omega⟩, hU⟩ (by omega) (by omega) rfl rfl dJ9_append_3_7

set_option maxHeartbeats 4000000 in
set_option maxRecDepth 100000 in
/-- StringBuilder.append -/
theorem sbb_c0 (l : Launch) (G : Gl) (w : Wd) (r a cap : Nat) (C : List Int) (hA : SbAt G w r a cap C) (hG : RegW w) (hr : r ≠ 0) (x : Int) (hxr : 0 ≤ x ∧ x < 128) (hsz : C.length < cap) : HM l yJ9_append_3 cJ9_append_3 2 (some (.object "java/lang/StringBuilder")) 5 0 0 G [.ref a, .int (iI (x))] w (QR G (fun z_ w_ => z_ = a ∧ SbAt G w_ r a cap (C ++ [x]) ∧ Up (fun q_ => q_ = r) w w_)) := by
  refine HM.mk (by decide +kernel) (Nat.le_of_ble_eq_true rfl) ?_
  intro p9 e9 s9 m9 a9 b9 meth9 c9 ls X hret hlk hnm hl H hR
  have hx := X.1.1
  have hb := X.1.2.1
  have hl : lv_has ls 2 [(0, .ref a), (1, .int (iI (x)))] := hl
  have hL : LK G [] := fun q h => absurd h List.not_mem_nil
  generalize ([] : List Loc) = locs at hL ⊢
  have hU : Up (fun q_ => q_ = r) w w := Up.rf hG
  refine lv_aload_n hx hb dJ9_append_3_0 rfl (lv_at hl 0 rfl) ?_
  refine lv_iload_n hx hb dJ9_append_3_1 rfl (lv_at hl 1 rfl) ?_
  -- call java/lang/AbstractStringBuilder.append
  refine h_kR (h_runSU X hR (sb_apc0 l G w r a cap C hA hU.2.2.1 hr x hxr hsz) ⟨by decide, pn_yJ8_append_3.2⟩ (hA.c) q1482 q3384 q293 q1483 q130 q1484 ⟨by decide, by decide⟩ hl.1 (Nat.le_of_ble_eq_true rfl) dJ9_append_3_2 ⟨by omega, by omega⟩) hL (fun z_1 w_2 hp_3 H locs hR hL => ?_)
  obtain ⟨rfl, hB__5, u_4⟩ := hp_3
  have hU : Up (fun q_ => q_ = r) w w_2 := hU.tr u_4 (fun q_ h_ => by first | exact absurd h_ id | exact Or.inl h_ | ((try dsimp only at h_); first | exact Or.inl (by omega) | exact Or.inr ⟨by omega, by subst h_; rw [Nat.add_sub_cancel]; assumption⟩)) hG
  refine lv_pop hx hb dJ9_append_3_5 rfl ?_
  refine lv_aload_n hx hb dJ9_append_3_6 rfl (lv_at hl 0 rfl) ?_
  exact h_areturn hx hb hlk hret (by first | exact Or.inl ⟨_, rfl⟩ | exact Or.inr ⟨_, rfl⟩) hR hL ⟨rfl, hB__5, hU⟩ (by omega) (by omega) rfl rfl dJ9_append_3_7

set_option maxHeartbeats 4000000 in
set_option maxRecDepth 100000 in
/-- StringBuilder.append -/
theorem sbb_s (l : Launch) (G : Gl) (w : Wd) (r a cap : Nat) (C : List Int) (hA : SbAt G w r a cap C) (hG : RegW w) (hr : r ≠ 0) (b : Nat) (L : List Int) (hS : StrAt G w b L) (hsz : C.length + L.length < 4000) : HM l yJ9_append cJ9_append 2 (some (.object "java/lang/StringBuilder")) 6 1 ((2 * (C.length + L.length) + 2)) G [.ref a, .ref b] w (QR G (fun z_ w_ => z_ = a ∧ (∃ cap2, SbAt G w_ r a cap2 (C ++ L) ∧ cap2 ≤ max cap (2 * (C.length + L.length) + 2)) ∧ Up (fun q_ => q_ = r) w w_)) := by
  refine HM.mk (by decide +kernel) (Nat.le_of_ble_eq_true rfl) ?_
  intro p9 e9 s9 m9 a9 b9 meth9 c9 ls X hret hlk hnm hl H hR
  have hx := X.1.1
  have hb := X.1.2.1
  have hl : lv_has ls 2 [(0, .ref a), (1, .ref b)] := hl
  have hL : LK G [] := fun q h => absurd h List.not_mem_nil
  generalize ([] : List Loc) = locs at hL ⊢
  have hU : Up (fun q_ => q_ = r) w w := Up.rf hG
  refine lv_aload_n hx hb dJ9_append_0 rfl (lv_at hl 0 rfl) ?_
  refine lv_aload_n hx hb dJ9_append_1 rfl (lv_at hl 1 rfl) ?_
  -- call java/lang/AbstractStringBuilder.append
  refine h_kR (h_runSU X hR (sb_aps l G w r a cap C hA hU.2.2.1 hr b L hS hsz) ⟨by decide, pn_yJ8_append.2⟩ (hA.c) q299 q3375 q293 q300 q130 q301 ⟨by decide, by decide⟩ hl.1 (Nat.le_of_ble_eq_true rfl) dJ9_append_2 ⟨by omega, by omega⟩) hL (fun z_1 w_2 hp_3 H locs hR hL => ?_)
  obtain ⟨rfl, ⟨cap_6, hB__5, hcp_7⟩, u_4⟩ := hp_3
  have hP_b_w_2 := hS.mv (u_4.1) (by first | exact id | (intro q_; (try dsimp only at q_); omega))
  have hU : Up (fun q_ => q_ = r) w w_2 := hU.tr u_4 (fun q_ h_ => by first | exact absurd h_ id | exact Or.inl h_ | ((try dsimp only at h_); first | exact Or.inl (by omega) | exact Or.inr ⟨by omega, by subst h_; rw [Nat.add_sub_cancel]; assumption⟩)) hG
  refine lv_pop hx hb dJ9_append_5 rfl ?_
  refine lv_aload_n hx hb dJ9_append_6 rfl (lv_at hl 0 rfl) ?_
  exact h_areturn hx hb hlk hret (by first | exact Or.inl ⟨_, rfl⟩ | exact Or.inr ⟨_, rfl⟩) hR hL ⟨rfl, ⟨_, hB__5, by first | assumption | omega⟩, hU⟩ (by omega) (by omega) rfl rfl dJ9_append_7

set_option maxHeartbeats 4000000 in
set_option maxRecDepth 100000 in
/-- AbstractStringBuilder.<init> -/
theorem sb_init (l : Launch) (G : Gl) (w : Wd) (r a n : Nat) (hG : RegW w) (hr : r ≠ 0) (hA : w a = some (r, oE 20 [.null, .int (iI 0), .int (iI 0), .int (iI 0)])) (h2 : n < 10000) : HM l yJ8_init cJ8_init 2 none 1 1 n G [.ref a, .int (iI ((n : Int)))] w (QV G (fun w_ => SbAt G w_ r a n [] ∧ Up (fun q_ => q_ = r) w w_)) := by
  refine HM.mk (by decide +kernel) (Nat.le_of_ble_eq_true rfl) ?_
  intro p9 e9 s9 m9 a9 b9 meth9 c9 ls X hret hlk hnm hl H hR
  have hx := X.1.1
  have hb := X.1.2.1
  have hl : lv_has ls 2 [(0, .ref a), (1, .int (iI ((n : Int))))] := hl
  have hL : LK G [] := fun q h => absurd h List.not_mem_nil
  generalize ([] : List Loc) = locs at hL ⊢
  have hU : Up (fun q_ => q_ = r) w w := Up.rf hG
  refine lv_aload_n hx hb dJ8_init_0 rfl (lv_at hl 0 rfl) ?_
  refine W.objInit hx hb X.1.2.2.2.1 (X.1.2.2.2.2 _ q271) (X.1.2.2.2.2 _ q180) (X.1.2.2.2.2 _ q181) rfl (by rw [X.1.2.2.1]; exact hl.1) rfl dJ8_init_1 (Nat.le_of_ble_eq_true rfl) (Nat.le_of_ble_eq_true rfl) ?_
  refine W.eq (g2 := F0 m9 4 ls []) rfl ?_
  refine h_getsI X hR (z32 := 1) [false, false, false, false, false, false, false, true, false, true, true] (1) rfl rfl q273 q132 q272 dJ8_init_4 ?_
  refine h_if_eq hx hb 25 dJ8_init_7 (by decide) (by decide) (fun z_ => absurd z_ (by decide)) (fun _ => ?_)
  refine lv_aload_n hx hb dJ8_init_10 rfl (lv_at hl 0 rfl) ?_
  refine lv_iload_n hx hb dJ8_init_11 rfl (lv_at hl 1 rfl) ?_
  refine h_newI (atype := .byte) X hR 1 (fun _ => r) rfl (fun C h => by cases h) rfl q203 n rfl (by omega) (by omega) (by omega) (by decide) dJ8_init_12 (fun arr harr w_2 ew_3 H hR => ?_)
  have hn_arr : w arr = none := hU.2.1 _ harr
  have hU : Up (fun q_ => q_ = r) w w_2 := by rw [ew_3]; exact hU.new harr (Or.inr (Or.inr (hU.2.2.1.ofs hA hr)))
  have hF_arr_w_2 : w_2 arr = some (r, iE G 1 n (fun _ => 0)) := by rw [ew_3]; exact wset_eq _ _ _
  have ne_a_arr : a ≠ arr := w_neN hA harr
  have hF_a_w_2 : w_2 a = some (r, oE 20 [.null, .int (iI (0)), .int (iI (0)), .int (iI (0))]) := by rw [ew_3]; exact (wset_ne _ (w_neN hA harr)).trans hA
  refine h_put X hR hL hF_a_w_2 hr rfl in_J9 tyJ9_ok nmJ9 0 (by decide) q281 rfl rfl rfl (Nat.le_of_ble_eq_true rfl) dJ8_init_14 (fun w_4 ew_5 H locs hR hL => ?_)
  have hU : Up (fun q_ => q_ = r) w w_4 := by rw [ew_5]; exact hU.set hF_a_w_2 (by first | exact Or.inl rfl | exact Or.inl (by omega) | exact Or.inr ⟨Nat.succ_ne_zero _, by rw [Nat.add_sub_cancel]; assumption⟩ | exact Or.inr ⟨by omega, by assumption⟩) hG _
  have hF_a_w_4 : w_4 a = some (r, oE 20 [.ref arr, .int (iI (0)), .int (iI (0)), .int (iI (0))]) := by rw [ew_5]; exact wset_eq _ _ _
  have hF_arr_w_4 : w_4 arr = some (r, iE G 1 n (fun _ => 0)) := by rw [ew_5]; exact (wset_ne _ (by first | exact ne_arr_a | exact Ne.symm ne_a_arr | exact w_neR hF_arr_w_2 hF_a_w_2 (by omega) | exact w_ne hF_arr_w_2 hF_a_w_2 (by intro h; cases h))).trans hF_arr_w_2
  refine lv_aload_n hx hb dJ8_init_17 rfl (lv_at hl 0 rfl) ?_
  refine h_iconst hx hb dJ8_init_18 ?_
  refine h_put X hR hL hF_a_w_4 hr rfl in_J9 tyJ9_ok nmJ9 1 (by decide) q282 rfl rfl rfl (Nat.le_of_ble_eq_true rfl) dJ8_init_19 (fun w_6 ew_7 H locs hR hL => ?_)
  have hU : Up (fun q_ => q_ = r) w w_6 := by rw [ew_7]; exact hU.set hF_a_w_4 (by first | exact Or.inl rfl | exact Or.inl (by omega) | exact Or.inr ⟨Nat.succ_ne_zero _, by rw [Nat.add_sub_cancel]; assumption⟩ | exact Or.inr ⟨by omega, by assumption⟩) hG _
  have hF_a_w_6 : w_6 a = some (r, oE 20 [.ref arr, .int (iI (0)), .int (iI (0)), .int (iI (0))]) := by rw [ew_7]; exact wset_eq _ _ _
  have hF_arr_w_6 : w_6 arr = some (r, iE G 1 n (fun _ => 0)) := by rw [ew_7]; exact (wset_ne _ (by first | exact ne_arr_a | exact Ne.symm ne_a_arr | exact w_neR hF_arr_w_4 hF_a_w_4 (by omega) | exact w_ne hF_arr_w_4 hF_a_w_4 (by intro h; cases h))).trans hF_arr_w_4
  refine lv_goto (tgt := 38) hx hb dJ8_init_22 (by decide) ?_
  exact h_vreturn hx hb hlk hret hR hL ⟨⟨arr, _, hF_a_w_6, hF_arr_w_6, Nat.zero_le _, by omega, fun i hi => absurd hi (Nat.not_lt_zero _), fun x hx => absurd hx List.not_mem_nil, fun i _ => ⟨show (-128 : Int) ≤ 0 by decide, show (0 : Int) < 128 by decide⟩⟩, hU⟩ (by omega) (by omega) rfl rfl dJ8_init_38

set_option maxHeartbeats 4000000 in
set_option maxRecDepth 100000 in
/-- StringBuilder.<init> -/
theorem sbb_init (l : Launch) (G : Gl) (w : Wd) (r a n : Nat) (hG : RegW w) (hr : r ≠ 0) (hA : w a = some (r, oE 20 [.null, .int (iI 0), .int (iI 0), .int (iI 0)])) (h2 : n < 10000) : HM l yJ9_init_2 cJ9_init_2 2 none 2 1 n G [.ref a, .int (iI ((n : Int)))] w (QV G (fun w_ => SbAt G w_ r a n [] ∧ Up (fun q_ => q_ = r) w w_)) := by
  refine HM.mk (by decide +kernel) (Nat.le_of_ble_eq_true rfl) ?_
  intro p9 e9 s9 m9 a9 b9 meth9 c9 ls X hret hlk hnm hl H hR
  have hx := X.1.1
  have hb := X.1.2.1
  have hl : lv_has ls 2 [(0, .ref a), (1, .int (iI ((n : Int))))] := hl
  have hL : LK G [] := fun q h => absurd h List.not_mem_nil
  generalize ([] : List Loc) = locs at hL ⊢
  have hU : Up (fun q_ => q_ = r) w w := Up.rf hG
  refine lv_aload_n hx hb dJ9_init_2_0 rfl (lv_at hl 0 rfl) ?_
  refine lv_iload_n hx hb dJ9_init_2_1 rfl (lv_at hl 1 rfl) ?_
  -- call java/lang/AbstractStringBuilder.<init>
  refine h_kV (h_runI X hR (sb_init l G w r a n hU.2.2.1 hr hA (by omega)) pn_yJ8_init rfl q268 q269 q130 q270 ⟨by decide, by decide⟩ hl.1 (Nat.le_of_ble_eq_true rfl) dJ9_init_2_2 ⟨by omega, by omega⟩) hL (fun w_2 hp_3 H locs hR hL => ?_)
  obtain ⟨hB__5, u_4⟩ := hp_3
  have hU : Up (fun q_ => q_ = r) w w_2 := hU.tr u_4 (fun q_ h_ => by first | exact absurd h_ id | exact Or.inl h_ | ((try dsimp only at h_); first | exact Or.inl (by omega) | exact Or.inr ⟨by omega, by subst h_; rw [Nat.add_sub_cancel]; assumption⟩)) hG
  exact h_vreturn hx hb hlk hret hR hL ⟨hB__5, hU⟩ (by omega) (by omega) rfl rfl dJ9_init_2_5

set_option maxHeartbeats 4000000 in
set_option maxRecDepth 100000 in
/-- StringBuilder.<init> -/
theorem sbb_init0 (l : Launch) (G : Gl) (w : Wd) (r a : Nat) (hG : RegW w) (hr : r ≠ 0) (hA : w a = some (r, oE 20 [.null, .int (iI 0), .int (iI 0), .int (iI 0)])) : HM l yJ9_init cJ9_init 1 none 2 1 16 G [.ref a] w (QV G (fun w_ => SbAt G w_ r a 16 [] ∧ Up (fun q_ => q_ = r) w w_)) := by
  refine HM.mk (by decide +kernel) (Nat.le_of_ble_eq_true rfl) ?_
  intro p9 e9 s9 m9 a9 b9 meth9 c9 ls X hret hlk hnm hl H hR
  have hx := X.1.1
  have hb := X.1.2.1
  have hl : lv_has ls 1 [(0, .ref a)] := hl
  have hL : LK G [] := fun q h => absurd h List.not_mem_nil
  generalize ([] : List Loc) = locs at hL ⊢
  have hU : Up (fun q_ => q_ = r) w w := Up.rf hG
  refine lv_aload_n hx hb dJ9_init_0 rfl (lv_at hl 0 rfl) ?_
  refine h_bipush hx hb dJ9_init_1 (by decide) ?_
  -- call java/lang/AbstractStringBuilder.<init>
  refine h_kV (h_runI X hR (sb_init l G w r a 16 hU.2.2.1 hr hA (by omega)) pn_yJ8_init rfl q268 q269 q130 q270 ⟨by decide, by decide⟩ hl.1 (Nat.le_of_ble_eq_true rfl) dJ9_init_3 ⟨by omega, by omega⟩) hL (fun w_2 hp_3 H locs hR hL => ?_)
  obtain ⟨hB__5, u_4⟩ := hp_3
  have hU : Up (fun q_ => q_ = r) w w_2 := hU.tr u_4 (fun q_ h_ => by first | exact absurd h_ id | exact Or.inl h_ | ((try dsimp only at h_); first | exact Or.inl (by omega) | exact Or.inr ⟨by omega, by subst h_; rw [Nat.add_sub_cancel]; assumption⟩)) hG
  exact h_vreturn hx hb hlk hret hR hL ⟨hB__5, hU⟩ (by omega) (by omega) rfl rfl dJ9_init_6
