/-! JDK: byte arrays and Strings compared -/
set_option maxRecDepth 100000
/-- the first place below n at which they differ, -1 -/
def dfN (L M : List Int) (i n : Nat) : Int := fstN (fun k => L.getD (i + k) 0 ≠ M.getD k 0) n
theorem dfN_r (L M : List Int) (i n : Nat) : -1 ≤ dfN L M i n ∧ dfN L M i n < n := fstN_r _ n
def cmpS (L M : List Int) : Int := if dfN L M 0 (min L.length M.length) < 0 then (L.length : Int) - (M.length : Int) else L.getD (dfN L M 0 (min L.length M.length)).toNat 0 - M.getD (dfN L M 0 (min L.length M.length)).toNat 0
theorem dfN_y {L M : List Int} {i n k : Nat} (hk : k < n) (h : L.getD (i + k) 0 ≠ M.getD k 0) (hm : ∀ j, j < k → L.getD (i + j) 0 = M.getD j 0) : dfN L M i n = (k : Int) := fstN_eq hk h (fun j hj q => q (hm j hj))
theorem dfN_n {L M : List Int} {i n : Nat} (hm : ∀ j, j < n → L.getD (i + j) 0 = M.getD j 0) : dfN L M i n = -1 := fstN_no (fun j hj q => q (hm j hj))

theorem pn_yJ16_compareTo : ParN yJ16_compareTo 2 := by decide +kernel
theorem pn_yJ16_compareTo_2 : ParN yJ16_compareTo_2 4 := by decide +kernel
theorem pn_yJ16_getChar : ParN yJ16_getChar 2 := by decide +kernel
theorem pn_yJ12_mismatch_2 : ParN yJ12_mismatch_2 5 := by decide +kernel
theorem pn_yJ12_mismatch : ParN yJ12_mismatch 3 := by decide +kernel
theorem pn_yJ12_vectorizedMismatch : ParN yJ12_vectorizedMismatch 6 := by decide +kernel

set_option maxHeartbeats 4000000 in
set_option maxRecDepth 100000 in
/-- ArraysSupport.mismatch -/
theorem as_mis (l : Launch) (G : Gl) (w : Wd) (va vb ra rb : Nat) (L M : List Int) (hA : w va = some (ra, iE G 1 L.length (fun j => L.getD j 0))) (hB : w vb = some (rb, iE G 1 M.length (fun j => M.getD j 0))) (hL0 : L.length < 1000000) (hM0 : M.length < 1000000) (hLx : ∀ x ∈ L, 0 ≤ x ∧ x < 128) (hMx : ∀ x ∈ M, 0 ≤ x ∧ x < 128) (n : Nat) (hn1 : n ≤ L.length) (hn2 : n ≤ M.length) (hn8 : n ≤ 8) (hL8 : L.length ≤ 8) (hM8 : M.length ≤ 8) : HM l yJ12_mismatch cJ12_mismatch 4 (some .int) 4 0 0 G [.ref va, .ref vb, .int (iI ((n : Int)))] w (QI G (fun z_ w_ => z_ = dfN L M 0 n ∧ w_ = w)) := by
  refine HM.mk (by decide +kernel) (Nat.le_of_ble_eq_true rfl) ?_
  intro p9 e9 s9 m9 a9 b9 meth9 c9 ls X hret hlk hnm hl H hR
  have hx := X.1.1
  have hb := X.1.2.1
  have hl : lv_has ls 4 [(0, .ref va), (1, .ref vb), (2, .int (iI ((n : Int))))] := hl
  have hL : LK G [] := fun q h => absurd h List.not_mem_nil
  generalize ([] : List Loc) = locs at hL ⊢
  refine h_iconst hx hb dJ12_mismatch_0 ?_
  refine lv_istore_n (lv' := [(3, .int (iI (0))), (0, .ref va), (1, .ref vb), (2, .int (iI ((n : Int))))]) hx hb dJ12_mismatch_1 rfl hl (by decide) rfl (fun ls hl => ?_)
  refine lv_iload_n hx hb dJ12_mismatch_2 rfl (lv_at hl 3 rfl) ?_
  refine h_bipush hx hb dJ12_mismatch_3 (by decide) ?_
  refine h_icmp_le hx hb 49 dJ12_mismatch_5 (by decide) (by omega) (by omega) (fun c_7 => ?_) (fun c_7 => ?_)
  ·
    have LOOP_1 : ∀ (N_ : Nat) (k : Nat), (k ≤ n) → (∀ j, j < k → L.getD (0 + j) 0 = M.getD j 0) → (n - k) < N_ → ∀ (H : Heap) (locs : List Loc) (ls : Array Slot), Rp G w H → LK G locs → lv_has ls 4 [(0, .ref va), (1, .ref vb), (2, .int (iI ((n : Int)))), (3, .int (iI ((k : Int))))] → W p9 l e9 (rmk 4 0 0) s9 m9 a9 b9 meth9 c9 H locs 0 0 (MQ b9 (QI G (fun z_ w_ => z_ = dfN L M 0 n ∧ w_ = w)) a9 s9 0 0 (frG G)) (F0 m9 49 ls []) := by
      intro N_
      induction N_ with
      | zero => intro _ _ _ h_; exact absurd h_ (Nat.not_lt_zero _)
      | succ N_ ih_ =>
        intro k hk he hN_ H locs ls hR hL hl
        have ih_1 := ih_
        clear ih_
        refine lv_iload_n hx hb dJ12_mismatch_49 rfl (lv_at hl 3 rfl) ?_
        refine lv_iload_n hx hb dJ12_mismatch_50 rfl (lv_at hl 2 rfl) ?_
        refine h_icmp_ge hx hb 71 dJ12_mismatch_51 (by decide) (by omega) (by omega) (fun c_n => ?_) (fun c_n => ?_)
        ·
          refine h_iconst hx hb dJ12_mismatch_71 ?_
          exact h_ireturn hx hb hlk hret hR hL rfl ⟨(dfN_n (fun j hj => he j (by omega))).symm, rfl⟩ (by omega) (by omega) rfl rfl dJ12_mismatch_72
        ·
          have gL_ := getI hLx (show k < L.length by omega)
          have gM_ := getI hMx (show k < M.length by omega)
          refine lv_aload_n hx hb dJ12_mismatch_54 rfl (lv_at hl 0 rfl) ?_
          refine lv_iload_n hx hb dJ12_mismatch_55 rfl (lv_at hl 3 rfl) ?_
          refine h_bald X hR hA (by omega) (by omega) dJ12_mismatch_56 ?_
          refine W.eq (g2 := F0 m9 57 ls [.int (iI (L.getD k 0))]) (congrArg (fun z_ : Int => F0 m9 57 ls [.int (iI (z_))]) (show ((fun j => L.getD j 0) ((k : Int)).toNat : Int) = L.getD k 0 from (by rfl))) ?_
          refine lv_aload_n hx hb dJ12_mismatch_57 rfl (lv_at hl 1 rfl) ?_
          refine lv_iload_n hx hb dJ12_mismatch_58 rfl (lv_at hl 3 rfl) ?_
          refine h_bald X hR hB (by omega) (by omega) dJ12_mismatch_59 ?_
          refine W.eq (g2 := F0 m9 60 ls [.int (iI (M.getD k 0)), .int (iI (L.getD k 0))]) (congrArg (fun z_ : Int => F0 m9 60 ls [.int (iI (z_)), .int (iI (L.getD k 0))]) (show ((fun j => M.getD j 0) ((k : Int)).toNat : Int) = M.getD k 0 from (by rfl))) ?_
          refine h_icmp_eq hx hb 65 dJ12_mismatch_60 (by decide) (by omega) (by omega) (fun c_e => ?_) (fun c_e => ?_)
          ·
            refine h_iinc (lv' := [(3, .int (iI ((k : Int) + 1))), (0, .ref va), (1, .ref vb), (2, .int (iI ((n : Int))))]) hx hb dJ12_mismatch_65 hl (k := 3) rfl (by decide) rfl (fun ls hl => ?_)
            refine lv_goto (tgt := 49) hx hb dJ12_mismatch_68 (by decide) ?_
            exact ih_1 (k + 1) (by omega) (fun j hj => by by_cases q : j = k; exact q ▸ (by rw [Nat.zero_add]; exact c_e); exact he j (by omega)) (by omega) _ _ _ hR hL (lv_sub hl [1, 2, 3, 0] rfl)
          ·
            refine lv_iload_n hx hb dJ12_mismatch_63 rfl (lv_at hl 3 rfl) ?_
            exact h_ireturn hx hb hlk hret hR hL rfl ⟨(dfN_y (k := k) (by omega) (by rw [Nat.zero_add]; exact c_e) he).symm, rfl⟩ (by omega) (by omega) rfl rfl dJ12_mismatch_64
    exact LOOP_1 _ 0 (by omega) (fun j hj => absurd hj (Nat.not_lt_zero _)) (Nat.lt_succ_self _) _ _ _ hR hL (lv_sub hl [1, 2, 3, 0] rfl)
  ·
    have hn_ : n = 8 := by omega
    have hl : lv_has ls 4 [(3, .int (iI (0))), (0, .ref va), (1, .ref vb), (2, .int (iI (8)))] := lv_conv hl (congrArg (fun z_ : Int => ([(3, .int (iI (0))), (0, .ref va), (1, .ref vb), (2, .int (iI (z_)))] : List (Nat × Value))) (show ((n : Int) : Int) = 8 from (by omega)))
    have gL_ := getI hLx (show 0 < L.length by omega)
    have gM_ := getI hMx (show 0 < M.length by omega)
    refine lv_aload_n hx hb dJ12_mismatch_8 rfl (lv_at hl 1 rfl) ?_
    refine h_iconst hx hb dJ12_mismatch_9 ?_
    refine h_bald X hR hA (by omega) (by omega) dJ12_mismatch_10 ?_
    refine W.eq (g2 := F0 m9 11 ls [.int (iI (L.getD 0 0))]) (congrArg (fun z_ : Int => F0 m9 11 ls [.int (iI (z_))]) (show ((fun j => L.getD j 0) (Int.toNat 0) : Int) = L.getD 0 0 from (by rfl))) ?_
    refine lv_aload_n hx hb dJ12_mismatch_11 rfl (lv_at hl 2 rfl) ?_
    refine h_iconst hx hb dJ12_mismatch_12 ?_
    refine h_bald X hR hB (by omega) (by omega) dJ12_mismatch_13 ?_
    refine W.eq (g2 := F0 m9 14 ls [.int (iI (M.getD 0 0)), .int (iI (L.getD 0 0))]) (congrArg (fun z_ : Int => F0 m9 14 ls [.int (iI (z_)), .int (iI (L.getD 0 0))]) (show ((fun j => M.getD j 0) (Int.toNat 0) : Int) = M.getD 0 0 from (by rfl))) ?_
    refine h_icmp_eq hx hb 19 dJ12_mismatch_14 (by decide) (by omega) (by omega) (fun c_0 => ?_) (fun c_0 => ?_)
    ·
      rcases fstN_cases (fun k => L.getD (0 + k) 0 ≠ M.getD k 0) n with ⟨hd_, hall⟩ | ⟨k, hk, hd_, hdf, hmin⟩
      ·
        have hpe : ∀ i, i < 8 → L.getD i 0 = M.getD i 0 := fun i hi => by have := Decidable.not_not.mp (hall i (by omega)); rw [Nat.zero_add] at this; exact this
        refine lv_aload_n hx hb dJ12_mismatch_19 rfl (lv_at hl 1 rfl) ?_
        refine h_getsI X hR (z32 := 16) [false, false, true, false, false, true, false, false, false, false] (16) rfl rfl q979 q147 q978 dJ12_mismatch_20 ?_
        refine h_i2l hx hb dJ12_mismatch_23 (by omega) ?_
        refine lv_aload_n hx hb dJ12_mismatch_24 rfl (lv_at hl 2 rfl) ?_
        refine h_getsI X hR (z32 := 16) [false, false, true, false, false, true, false, false, false, false] (16) rfl rfl q979 q147 q978 dJ12_mismatch_25 ?_
        refine h_i2l hx hb dJ12_mismatch_28 (by omega) ?_
        refine lv_iload_n hx hb dJ12_mismatch_29 rfl (lv_at hl 3 rfl) ?_
        refine h_getsI X hR (z32 := 0) [false, false, true, false, false, true, false, false, false, true, false] (0) rfl rfl q981 q134 q980 dJ12_mismatch_30 ?_
        -- call jdk/internal/util/ArraysSupport.vectorizedMismatch
        refine h_kIp (h_runS X hR (vm_eq l G w va vb ra rb L.length M.length (fun j => L.getD j 0) (fun j => M.getD j 0) hA hB (fun i_ => (L.getD i_ 0).toNat) (fun i_ => (M.getD i_ 0).toNat) (fun i_ hi_ => by have := getI hLx (show i_ < L.length by omega); show L.getD i_ 0 = _; omega) (fun i_ hi_ => by have := getI hMx (show i_ < M.length by omega); show M.getD i_ 0 = _; omega) (fun i_ hi_ => by have := getI hLx (show i_ < L.length by omega); omega) (fun i_ hi_ => by have := getI hMx (show i_ < M.length by omega); omega) (by omega) (by omega) (by have e_ : ∀ i, i < 8 → (L.getD i 0).toNat = (M.getD i 0).toNat := (fun i hi => by rw [hpe i hi]); simp only [pk8]; rw [e_ 0 (by decide), e_ 1 (by decide), e_ 2 (by decide), e_ 3 (by decide), e_ 4 (by decide), e_ 5 (by decide), e_ 6 (by decide), e_ 7 (by decide)])) pn_yJ12_vectorizedMismatch q982 q983 q134 q984 ⟨by decide, by decide⟩ hl.1 (Nat.le_of_ble_eq_true rfl) dJ12_mismatch_33 ⟨by omega, by omega⟩) hL (fun H locs hR hL => ?_)
        refine lv_istore_n (lv' := [(3, .int (iI (-1))), (0, .ref va), (1, .ref vb), (2, .int (iI (8)))]) hx hb dJ12_mismatch_36 rfl hl (by decide) rfl (fun ls hl => ?_)
        refine lv_iload_n hx hb dJ12_mismatch_37 rfl (lv_at hl 0 rfl) ?_
        refine h_if_lt hx hb 43 dJ12_mismatch_38 (by decide) (by decide) (fun _ => ?_) (fun z_ => absurd z_ (by decide))
        refine lv_iload_n hx hb dJ12_mismatch_43 rfl (lv_at hl 3 rfl) ?_
        refine lv_iload_n hx hb dJ12_mismatch_44 rfl (lv_at hl 0 rfl) ?_
        refine h_iconst hx hb dJ12_mismatch_45 ?_
        refine lv_ixor hx hb dJ12_mismatch_46 ?_
        refine W.eq (g2 := F0 m9 47 ls [.int (iI (0)), .int (iI (8))]) (by rfl) ?_
        refine h_isub hx hb dJ12_mismatch_47 ?_
        refine W.eq (g2 := F0 m9 48 ls [.int (iI (8))]) (congrArg (fun z_ : Int => F0 m9 48 ls [.int (iI (z_))]) (show (8 - 0 : Int) = 8 from (by decide))) ?_
        refine lv_istore_n (lv' := [(3, .int (iI (8))), (0, .ref va), (1, .ref vb), (2, .int (iI (8)))]) hx hb dJ12_mismatch_48 rfl hl (by decide) rfl (fun ls hl => ?_)
        refine lv_iload_n hx hb dJ12_mismatch_49 rfl (lv_at hl 0 rfl) ?_
        refine lv_iload_n hx hb dJ12_mismatch_50 rfl (lv_at hl 3 rfl) ?_
        refine h_icmp_ge hx hb 71 dJ12_mismatch_51 (by decide) (by decide) (by decide) (fun _ => ?_) (fun z_ => absurd z_ (by decide))
        refine h_iconst hx hb dJ12_mismatch_71 ?_
        exact h_ireturn hx hb hlk hret hR hL rfl ⟨hd_.symm, rfl⟩ (by omega) (by omega) rfl rfl dJ12_mismatch_72
      ·
        have hme : ∀ i, i < k → L.getD i 0 = M.getD i 0 := fun i hi => by have := Decidable.not_not.mp (hmin i hi); rw [Nat.zero_add] at this; exact this
        rw [Nat.zero_add] at hdf
        refine lv_aload_n hx hb dJ12_mismatch_19 rfl (lv_at hl 1 rfl) ?_
        refine h_getsI X hR (z32 := 16) [false, false, true, false, false, true, false, false, false, false] (16) rfl rfl q979 q147 q978 dJ12_mismatch_20 ?_
        refine h_i2l hx hb dJ12_mismatch_23 (by omega) ?_
        refine lv_aload_n hx hb dJ12_mismatch_24 rfl (lv_at hl 2 rfl) ?_
        refine h_getsI X hR (z32 := 16) [false, false, true, false, false, true, false, false, false, false] (16) rfl rfl q979 q147 q978 dJ12_mismatch_25 ?_
        refine h_i2l hx hb dJ12_mismatch_28 (by omega) ?_
        refine lv_iload_n hx hb dJ12_mismatch_29 rfl (lv_at hl 3 rfl) ?_
        refine h_getsI X hR (z32 := 0) [false, false, true, false, false, true, false, false, false, true, false] (0) rfl rfl q981 q134 q980 dJ12_mismatch_30 ?_
        -- call jdk/internal/util/ArraysSupport.vectorizedMismatch
        refine h_kIp (h_runS X hR (vm_ne l G w va vb ra rb L.length M.length (fun j => L.getD j 0) (fun j => M.getD j 0) hA hB (fun i_ => (L.getD i_ 0).toNat) (fun i_ => (M.getD i_ 0).toNat) (fun i_ hi_ => by have := getI hLx (show i_ < L.length by omega); show L.getD i_ 0 = _; omega) (fun i_ hi_ => by have := getI hMx (show i_ < M.length by omega); show M.getD i_ 0 = _; omega) (fun i_ hi_ => by have := getI hLx (show i_ < L.length by omega); omega) (fun i_ hi_ => by have := getI hMx (show i_ < M.length by omega); omega) (by omega) (by omega) k (by omega) (fun i_ hi_ => by show (L.getD i_ 0).toNat = (M.getD i_ 0).toNat; rw [hme i_ hi_]) (by have h1_ := getI hLx (show k < L.length by omega); have h2_ := getI hMx (show k < M.length by omega); show ¬ (L.getD k 0).toNat = (M.getD k 0).toNat; omega)) pn_yJ12_vectorizedMismatch q982 q983 q134 q984 ⟨by decide, by decide⟩ hl.1 (Nat.le_of_ble_eq_true rfl) dJ12_mismatch_33 ⟨by omega, by omega⟩) hL (fun H locs hR hL => ?_)
        refine lv_istore_n (lv' := [(3, .int (iI ((k : Int)))), (0, .ref va), (1, .ref vb), (2, .int (iI (8)))]) hx hb dJ12_mismatch_36 rfl hl (by decide) rfl (fun ls hl => ?_)
        refine lv_iload_n hx hb dJ12_mismatch_37 rfl (lv_at hl 0 rfl) ?_
        refine h_if_lt hx hb 43 dJ12_mismatch_38 (by decide) (by omega) (fun c_r => ?_) (fun c_r => ?_)
        ·
          exact absurd c_r (by omega)
        ·
          refine lv_iload_n hx hb dJ12_mismatch_41 rfl (lv_at hl 0 rfl) ?_
          exact h_ireturn hx hb hlk hret hR hL rfl ⟨hd_.symm, rfl⟩ (by omega) (by omega) rfl rfl dJ12_mismatch_42
    ·
      refine h_iconst hx hb dJ12_mismatch_17 ?_
      exact h_ireturn hx hb hlk hret hR hL rfl ⟨(dfN_y (k := 0) (by omega) (by rw [Nat.zero_add]; exact c_0) (fun j hj => absurd hj (Nat.not_lt_zero _))).symm, rfl⟩ (by omega) (by omega) rfl rfl dJ12_mismatch_18

set_option maxHeartbeats 4000000 in
set_option maxRecDepth 100000 in
/-- ArraysSupport.mismatch -/
theorem as_mis5 (l : Launch) (G : Gl) (w : Wd) (va vb ra rb : Nat) (L M : List Int) (hA : w va = some (ra, iE G 1 L.length (fun j => L.getD j 0))) (hB : w vb = some (rb, iE G 1 M.length (fun j => M.getD j 0))) (hL0 : L.length < 1000000) (hM0 : M.length < 1000000) (hLx : ∀ x ∈ L, 0 ≤ x ∧ x < 128) (hMx : ∀ x ∈ M, 0 ≤ x ∧ x < 128) (i n : Nat) (hn1 : i + n ≤ L.length) (hn2 : n ≤ M.length) (hn8 : n ≤ 7) : HM l yJ12_mismatch_2 cJ12_mismatch_2 8 (some .int) 1 0 0 G [.ref va, .int (iI ((i : Int))), .ref vb, .int (iI (0)), .int (iI ((n : Int)))] w (QI G (fun z_ w_ => z_ = dfN L M i n ∧ w_ = w)) := by
  refine HM.mk (by decide +kernel) (Nat.le_of_ble_eq_true rfl) ?_
  intro p9 e9 s9 m9 a9 b9 meth9 c9 ls X hret hlk hnm hl H hR
  have hx := X.1.1
  have hb := X.1.2.1
  have hl : lv_has ls 8 [(0, .ref va), (1, .int (iI ((i : Int)))), (2, .ref vb), (3, .int (iI (0))), (4, .int (iI ((n : Int))))] := hl
  have hL : LK G [] := fun q h => absurd h List.not_mem_nil
  generalize ([] : List Loc) = locs at hL ⊢
  refine h_iconst hx hb dJ12_mismatch_2_0 ?_
  refine lv_istore (lv' := [(5, .int (iI (0))), (0, .ref va), (1, .int (iI ((i : Int)))), (2, .ref vb), (3, .int (iI (0))), (4, .int (iI ((n : Int))))]) hx hb dJ12_mismatch_2_1 hl (by decide) rfl (fun ls hl => ?_)
  refine lv_iload hx hb dJ12_mismatch_2_3 (lv_at hl 5 rfl) ?_
  refine h_bipush hx hb dJ12_mismatch_2_5 (by decide) ?_
  refine h_icmp_le hx hb 70 dJ12_mismatch_2_7 (by decide) (by omega) (by omega) (fun c_7 => ?_) (fun c_7 => ?_)
  ·
    have LOOP_1 : ∀ (N_ : Nat) (k : Nat), (k ≤ n) → (∀ j, j < k → L.getD (i + j) 0 = M.getD j 0) → (n - k) < N_ → ∀ (H : Heap) (locs : List Loc) (ls : Array Slot), Rp G w H → LK G locs → lv_has ls 8 [(0, .ref va), (1, .int (iI ((i : Int)))), (2, .ref vb), (3, .int (iI (0))), (4, .int (iI ((n : Int)))), (5, .int (iI ((k : Int))))] → W p9 l e9 (rmk 1 0 0) s9 m9 a9 b9 meth9 c9 H locs 0 0 (MQ b9 (QI G (fun z_ w_ => z_ = dfN L M i n ∧ w_ = w)) a9 s9 0 0 (frG G)) (F0 m9 70 ls []) := by
      intro N_
      induction N_ with
      | zero => intro _ _ _ h_; exact absurd h_ (Nat.not_lt_zero _)
      | succ N_ ih_ =>
        intro k hk he hN_ H locs ls hR hL hl
        have ih_1 := ih_
        clear ih_
        refine lv_iload hx hb dJ12_mismatch_2_70 (lv_at hl 5 rfl) ?_
        refine lv_iload hx hb dJ12_mismatch_2_72 (lv_at hl 4 rfl) ?_
        refine h_icmp_ge hx hb 101 dJ12_mismatch_2_74 (by decide) (by omega) (by omega) (fun c_2 => ?_) (fun c_2 => ?_)
        ·
          refine h_iconst hx hb dJ12_mismatch_2_101 ?_
          exact h_ireturn hx hb hlk hret hR hL rfl ⟨(dfN_n (fun j hj => he j (by omega))).symm, rfl⟩ (by omega) (by omega) rfl rfl dJ12_mismatch_2_102
        ·
          have gL_ := getI hLx (show i + k < L.length by omega)
          have gM_ := getI hMx (show k < M.length by omega)
          refine lv_aload_n hx hb dJ12_mismatch_2_77 rfl (lv_at hl 0 rfl) ?_
          refine lv_iload_n hx hb dJ12_mismatch_2_78 rfl (lv_at hl 1 rfl) ?_
          refine lv_iload hx hb dJ12_mismatch_2_79 (lv_at hl 5 rfl) ?_
          refine h_iadd hx hb dJ12_mismatch_2_81 ?_
          refine h_bald X hR hA (by omega) (by omega) dJ12_mismatch_2_82 ?_
          refine W.eq (g2 := F0 m9 83 ls [.int (iI (L.getD (i + k) 0))]) (congrArg (fun z_ : Int => F0 m9 83 ls [.int (iI (z_))]) (show ((fun j => L.getD j 0) ((i : Int) + ((k : Int))).toNat : Int) = L.getD (i + k) 0 from (by show L.getD _ 0 = _; rw [show ((i : Int) + (k : Int)).toNat = i + k by omega]))) ?_
          refine lv_aload_n hx hb dJ12_mismatch_2_83 rfl (lv_at hl 2 rfl) ?_
          refine lv_iload_n hx hb dJ12_mismatch_2_84 rfl (lv_at hl 3 rfl) ?_
          refine lv_iload hx hb dJ12_mismatch_2_85 (lv_at hl 5 rfl) ?_
          refine h_iadd hx hb dJ12_mismatch_2_87 ?_
          refine W.eq (g2 := F0 m9 88 ls [.int (iI ((k : Int))), .ref vb, .int (iI (L.getD (i + k) 0))]) (congrArg (fun z_ : Int => F0 m9 88 ls [.int (iI (z_)), .ref vb, .int (iI (L.getD (i + k) 0))]) (show (0 + ((k : Int)) : Int) = (k : Int) from (by omega))) ?_
          refine h_bald X hR hB (by omega) (by omega) dJ12_mismatch_2_88 ?_
          refine W.eq (g2 := F0 m9 89 ls [.int (iI (M.getD k 0)), .int (iI (L.getD (i + k) 0))]) (congrArg (fun z_ : Int => F0 m9 89 ls [.int (iI (z_)), .int (iI (L.getD (i + k) 0))]) (show ((fun j => M.getD j 0) ((k : Int)).toNat : Int) = M.getD k 0 from (by rfl))) ?_
          refine h_icmp_eq hx hb 95 dJ12_mismatch_2_89 (by decide) (by omega) (by omega) (fun c_e => ?_) (fun c_e => ?_)
          ·
            refine h_iinc (lv' := [(5, .int (iI ((k : Int) + 1))), (0, .ref va), (1, .int (iI ((i : Int)))), (2, .ref vb), (3, .int (iI (0))), (4, .int (iI ((n : Int))))]) hx hb dJ12_mismatch_2_95 hl (k := 5) rfl (by decide) rfl (fun ls hl => ?_)
            refine lv_goto (tgt := 70) hx hb dJ12_mismatch_2_98 (by decide) ?_
            exact ih_1 (k + 1) (by omega) (fun j hj => by by_cases q : j = k; exact q ▸ c_e; exact he j (by omega)) (by omega) _ _ _ hR hL (lv_sub hl [1, 2, 3, 4, 5, 0] rfl)
          ·
            refine lv_iload hx hb dJ12_mismatch_2_92 (lv_at hl 5 rfl) ?_
            exact h_ireturn hx hb hlk hret hR hL rfl ⟨(dfN_y (by omega) c_e he).symm, rfl⟩ (by omega) (by omega) rfl rfl dJ12_mismatch_2_94
    exact LOOP_1 _ 0 (by omega) (fun j hj => absurd hj (Nat.not_lt_zero _)) (Nat.lt_succ_self _) _ _ _ hR hL (lv_sub hl [1, 2, 3, 4, 5, 0] rfl)
  ·
    exact absurd hn8 (by omega)

theorem narC' {z : Int} (h : 0 ≤ z ∧ z < 65536) : narrow .char (.int (iI z)) = .int (iI z) := narC h

set_option maxHeartbeats 4000000 in
set_option maxRecDepth 100000 in
/-- StringLatin1.getChar -/
theorem s_lget (l : Launch) (G : Gl) (w : Wd) (va r : Nat) (L : List Int) (hV : w va = some (r, iE G 1 L.length (fun j => L.getD j 0))) (hL0 : L.length < 1000000) (hLx : ∀ x ∈ L, 0 ≤ x ∧ x < 128) (i : Nat) (hi : i < L.length) : HM l yJ16_getChar cJ16_getChar 2 (some .char) 1 0 0 G [.ref va, .int (iI ((i : Int)))] w (QI G (fun z_ w_ => z_ = L.getD i 0 ∧ w_ = w)) := by
  refine HM.mk (by decide +kernel) (Nat.le_of_ble_eq_true rfl) ?_
  intro p9 e9 s9 m9 a9 b9 meth9 c9 ls X hret hlk hnm hl H hR
  have hx := X.1.1
  have hb := X.1.2.1
  have hl : lv_has ls 2 [(0, .ref va), (1, .int (iI ((i : Int))))] := hl
  have hL : LK G [] := fun q h => absurd h List.not_mem_nil
  generalize ([] : List Loc) = locs at hL ⊢
  have gL_ := getI hLx hi
  refine lv_aload_n hx hb dJ16_getChar_0 rfl (lv_at hl 0 rfl) ?_
  refine lv_iload_n hx hb dJ16_getChar_1 rfl (lv_at hl 1 rfl) ?_
  refine h_bald X hR hV (by omega) (by omega) dJ16_getChar_2 ?_
  refine W.eq (g2 := F0 m9 3 ls [.int (iI (L.getD i 0))]) (congrArg (fun z_ : Int => F0 m9 3 ls [.int (iI (z_))]) (show ((fun j => L.getD j 0) ((i : Int)).toNat : Int) = L.getD i 0 from (by rfl))) ?_
  refine h_sipush hx hb dJ16_getChar_3 (by decide) ?_
  refine h_iand hx hb dJ16_getChar_6 (iI_and255 _) ?_
  refine h_i2c hx hb dJ16_getChar_7 (by omega) ?_
  exact h_ireturn hx hb hlk hret hR hL (narC (by omega)) ⟨by omega, rfl⟩ (by omega) (by omega) rfl rfl dJ16_getChar_8

set_option maxHeartbeats 4000000 in
set_option maxRecDepth 100000 in
/-- StringLatin1.compareTo -/
theorem s_lcmp4 (l : Launch) (G : Gl) (w : Wd) (va vb ra rb : Nat) (L M : List Int) (hA : w va = some (ra, iE G 1 L.length (fun j => L.getD j 0))) (hB : w vb = some (rb, iE G 1 M.length (fun j => M.getD j 0))) (hL0 : L.length < 1000000) (hM0 : M.length < 1000000) (hLx : ∀ x ∈ L, 0 ≤ x ∧ x < 128) (hMx : ∀ x ∈ M, 0 ≤ x ∧ x < 128) (hL8 : L.length ≤ 8) (hM8 : M.length ≤ 8) : HM l yJ16_compareTo_2 cJ16_compareTo_2 6 (some .int) 5 0 0 G [.ref va, .ref vb, .int (iI ((L.length : Int))), .int (iI ((M.length : Int)))] w (QI G (fun z_ w_ => z_ = cmpS L M ∧ w_ = w)) := by
  refine HM.mk (by decide +kernel) (Nat.le_of_ble_eq_true rfl) ?_
  intro p9 e9 s9 m9 a9 b9 meth9 c9 ls X hret hlk hnm hl H hR
  have hx := X.1.1
  have hb := X.1.2.1
  have hl : lv_has ls 6 [(0, .ref va), (1, .ref vb), (2, .int (iI ((L.length : Int)))), (3, .int (iI ((M.length : Int))))] := hl
  have hL : LK G [] := fun q h => absurd h List.not_mem_nil
  generalize ([] : List Loc) = locs at hL ⊢
  have hdr := dfN_r L M 0 (min L.length M.length)
  refine lv_iload_n hx hb dJ16_compareTo_2_0 rfl (lv_at hl 2 rfl) ?_
  refine lv_iload_n hx hb dJ16_compareTo_2_1 rfl (lv_at hl 3 rfl) ?_
  refine h_mmin X hl.1 ⟨by omega, by omega⟩ ⟨by omega, by omega⟩ q974 q336 q135 q337 ⟨by decide, Nat.le_of_ble_eq_true rfl⟩ (by omega) (by omega) dJ16_compareTo_2_2 ?_
  refine W.eq (g2 := F0 m9 5 ls [.int (iI (((min L.length M.length : Nat) : Int)))]) (congrArg (fun z_ : Int => F0 m9 5 ls [.int (iI (z_))]) (show (if (L.length : Int) ≤ (M.length : Int) then (L.length : Int) else (M.length : Int) : Int) = ((min L.length M.length : Nat) : Int) from (by split <;> omega))) ?_
  refine lv_istore (lv' := [(4, .int (iI (((min L.length M.length : Nat) : Int)))), (0, .ref va), (1, .ref vb), (2, .int (iI ((L.length : Int)))), (3, .int (iI ((M.length : Int))))]) hx hb dJ16_compareTo_2_5 hl (by decide) rfl (fun ls hl => ?_)
  refine lv_aload_n hx hb dJ16_compareTo_2_7 rfl (lv_at hl 1 rfl) ?_
  refine lv_aload_n hx hb dJ16_compareTo_2_8 rfl (lv_at hl 2 rfl) ?_
  refine lv_iload hx hb dJ16_compareTo_2_9 (lv_at hl 0 rfl) ?_
  -- call jdk/internal/util/ArraysSupport.mismatch
  refine h_kIp (h_runS X hR (as_mis l G w va vb ra rb L M hA hB hL0 hM0 hLx hMx (min L.length M.length) (by omega) (by omega) (by omega) hL8 hM8) pn_yJ12_mismatch q975 q976 q134 q977 ⟨by decide, by decide⟩ hl.1 (Nat.le_of_ble_eq_true rfl) dJ16_compareTo_2_11 ⟨by omega, by omega⟩) hL (fun H locs hR hL => ?_)
  refine lv_istore (lv' := [(5, .int (iI (dfN L M 0 (min L.length M.length)))), (4, .int (iI (((min L.length M.length : Nat) : Int)))), (0, .ref va), (1, .ref vb), (2, .int (iI ((L.length : Int)))), (3, .int (iI ((M.length : Int))))]) hx hb dJ16_compareTo_2_14 hl (by decide) rfl (fun ls hl => ?_)
  refine lv_iload hx hb dJ16_compareTo_2_16 (lv_at hl 0 rfl) ?_
  refine h_if_ge hx hb 27 dJ16_compareTo_2_18 (by decide) (by omega) (fun c_d => ?_) (fun c_d => ?_)
  ·
    obtain ⟨k, hk⟩ : ∃ k : Nat, dfN L M 0 (min L.length M.length) = (k : Int) := ⟨_, (Int.toNat_of_nonneg c_d).symm⟩
    have hl : lv_has ls 6 [(5, .int (iI ((k : Int)))), (4, .int (iI (((min L.length M.length : Nat) : Int)))), (0, .ref va), (1, .ref vb), (2, .int (iI ((L.length : Int)))), (3, .int (iI ((M.length : Int))))] := lv_conv hl (congrArg (fun z_ : Int => ([(5, .int (iI (z_))), (4, .int (iI (((min L.length M.length : Nat) : Int)))), (0, .ref va), (1, .ref vb), (2, .int (iI ((L.length : Int)))), (3, .int (iI ((M.length : Int))))] : List (Nat × Value))) (show (dfN L M 0 (min L.length M.length) : Int) = (k : Int) from (hk)))
    have gL_ := getI hLx (show k < L.length by omega)
    have gM_ := getI hMx (show k < M.length by omega)
    refine lv_aload_n hx hb dJ16_compareTo_2_27 rfl (lv_at hl 2 rfl) ?_
    refine lv_iload hx hb dJ16_compareTo_2_28 (lv_at hl 0 rfl) ?_
    -- call java/lang/StringLatin1.getChar
    refine h_kIp (h_runS X hR (s_lget l G w va ra L hA hL0 hLx k (by omega)) pn_yJ16_getChar q1079 q1080 q139 q1081 ⟨by decide, by decide⟩ hl.1 (Nat.le_of_ble_eq_true rfl) dJ16_compareTo_2_30 ⟨by omega, by omega⟩) hL (fun H locs hR hL => ?_)
    refine lv_aload_n hx hb dJ16_compareTo_2_33 rfl (lv_at hl 3 rfl) ?_
    refine lv_iload hx hb dJ16_compareTo_2_34 (lv_at hl 0 rfl) ?_
    -- call java/lang/StringLatin1.getChar
    refine h_kIp (h_runS X hR (s_lget l G w vb rb M hB hM0 hMx k (by omega)) pn_yJ16_getChar q1079 q1080 q139 q1081 ⟨by decide, by decide⟩ hl.1 (Nat.le_of_ble_eq_true rfl) dJ16_compareTo_2_36 ⟨by omega, by omega⟩) hL (fun H locs hR hL => ?_)
    refine h_isub hx hb dJ16_compareTo_2_39 ?_
    exact h_ireturn hx hb hlk hret hR hL rfl ⟨(by unfold cmpS; rw [if_neg (by omega), hk, Int.toNat_natCast]), rfl⟩ (by omega) (by omega) rfl rfl dJ16_compareTo_2_40
  ·
    refine lv_iload_n hx hb dJ16_compareTo_2_21 rfl (lv_at hl 4 rfl) ?_
    refine lv_iload_n hx hb dJ16_compareTo_2_22 rfl (lv_at hl 5 rfl) ?_
    refine h_isub hx hb dJ16_compareTo_2_23 ?_
    refine lv_goto (tgt := 40) hx hb dJ16_compareTo_2_24 (by decide) ?_
    exact h_ireturn hx hb hlk hret hR hL rfl ⟨(by unfold cmpS; rw [if_pos (by omega)]), rfl⟩ (by omega) (by omega) rfl rfl dJ16_compareTo_2_40

set_option maxHeartbeats 4000000 in
set_option maxRecDepth 100000 in
/-- StringLatin1.compareTo -/
theorem s_lcmp (l : Launch) (G : Gl) (w : Wd) (va vb ra rb : Nat) (L M : List Int) (hA : w va = some (ra, iE G 1 L.length (fun j => L.getD j 0))) (hB : w vb = some (rb, iE G 1 M.length (fun j => M.getD j 0))) (hL0 : L.length < 1000000) (hM0 : M.length < 1000000) (hLx : ∀ x ∈ L, 0 ≤ x ∧ x < 128) (hMx : ∀ x ∈ M, 0 ≤ x ∧ x < 128) (hL8 : L.length ≤ 8) (hM8 : M.length ≤ 8) : HM l yJ16_compareTo cJ16_compareTo 4 (some .int) 6 0 0 G [.ref va, .ref vb] w (QI G (fun z_ w_ => z_ = cmpS L M ∧ w_ = w)) := by
  refine HM.mk (by decide +kernel) (Nat.le_of_ble_eq_true rfl) ?_
  intro p9 e9 s9 m9 a9 b9 meth9 c9 ls X hret hlk hnm hl H hR
  have hx := X.1.1
  have hb := X.1.2.1
  have hl : lv_has ls 4 [(0, .ref va), (1, .ref vb)] := hl
  have hL : LK G [] := fun q h => absurd h List.not_mem_nil
  generalize ([] : List Loc) = locs at hL ⊢
  refine lv_aload_n hx hb dJ16_compareTo_0 rfl (lv_at hl 0 rfl) ?_
  refine h_alenI X hR hA rfl dJ16_compareTo_1 ?_
  refine lv_istore_n (lv' := [(2, .int (iI (((L.length : Nat) : Int)))), (0, .ref va), (1, .ref vb)]) hx hb dJ16_compareTo_2 rfl hl (by decide) rfl (fun ls hl => ?_)
  refine lv_aload_n hx hb dJ16_compareTo_3 rfl (lv_at hl 2 rfl) ?_
  refine h_alenI X hR hB rfl dJ16_compareTo_4 ?_
  refine lv_istore_n (lv' := [(3, .int (iI (((M.length : Nat) : Int)))), (2, .int (iI (((L.length : Nat) : Int)))), (0, .ref va), (1, .ref vb)]) hx hb dJ16_compareTo_5 rfl hl (by decide) rfl (fun ls hl => ?_)
  refine lv_aload_n hx hb dJ16_compareTo_6 rfl (lv_at hl 2 rfl) ?_
  refine lv_aload_n hx hb dJ16_compareTo_7 rfl (lv_at hl 3 rfl) ?_
  refine lv_iload_n hx hb dJ16_compareTo_8 rfl (lv_at hl 1 rfl) ?_
  refine lv_iload_n hx hb dJ16_compareTo_9 rfl (lv_at hl 0 rfl) ?_
  -- call java/lang/StringLatin1.compareTo
  refine h_kIp (h_runS X hR (s_lcmp4 l G w va vb ra rb L M hA hB hL0 hM0 hLx hMx hL8 hM8) pn_yJ16_compareTo_2 q971 q972 q139 q973 ⟨by decide, by decide⟩ hl.1 (Nat.le_of_ble_eq_true rfl) dJ16_compareTo_10 ⟨by omega, by omega⟩) hL (fun H locs hR hL => ?_)
  exact h_ireturn hx hb hlk hret hR hL rfl ⟨rfl, rfl⟩ (by omega) (by omega) rfl rfl dJ16_compareTo_13

set_option maxHeartbeats 4000000 in
set_option maxRecDepth 100000 in
/-- String.compareTo -/
theorem s_cmp (l : Launch) (G : Gl) (w : Wd) (a b : Nat) (L M : List Int) (hS : StrAt G w a L) (hT : StrAt G w b M) (hL8 : L.length ≤ 8) (hM8 : M.length ≤ 8) : HM l yJ10_compareTo_2 cJ10_compareTo_2 5 (some .int) 7 0 0 G [.ref a, .ref b] w (QI G (fun z_ w_ => z_ = cmpS L M ∧ w_ = w)) := by
  refine HM.mk (by decide +kernel) (Nat.le_of_ble_eq_true rfl) ?_
  intro p9 e9 s9 m9 a9 b9 meth9 c9 ls X hret hlk hnm hl H hR
  have hx := X.1.1
  have hb := X.1.2.1
  have hl : lv_has ls 5 [(0, .ref a), (1, .ref b)] := hl
  have hL : LK G [] := fun q h => absurd h List.not_mem_nil
  generalize ([] : List Loc) = locs at hL ⊢
  have hS0 := hS
  have hT0 := hT
  obtain ⟨va, hA1, hA2, hA3, hA4⟩ := hS
  obtain ⟨vb, hB1, hB2, hB3, hB4⟩ := hT
  refine lv_aload_n hx hb dJ10_compareTo_2_0 rfl (lv_at hl 0 rfl) ?_
  refine h_strV X hR hA1 q521 dJ10_compareTo_2_1 ?_
  refine lv_astore_n (lv' := [(2, .ref va), (0, .ref a), (1, .ref b)]) hx hb dJ10_compareTo_2_4 rfl hl (by decide) rfl (fun ls hl => ?_)
  refine lv_aload_n hx hb dJ10_compareTo_2_5 rfl (lv_at hl 2 rfl) ?_
  refine h_strV X hR hB1 q521 dJ10_compareTo_2_6 ?_
  refine lv_astore_n (lv' := [(3, .ref vb), (2, .ref va), (0, .ref a), (1, .ref b)]) hx hb dJ10_compareTo_2_9 rfl hl (by decide) rfl (fun ls hl => ?_)
  refine lv_aload_n hx hb dJ10_compareTo_2_10 rfl (lv_at hl 2 rfl) ?_
  -- call java/lang/String.coder
  refine h_kIp (h_runV X hR (s_coder l G w a L hS0) pn_yJ10_coder (hS0.c) q376 q377 q378 q132 q379 ⟨by decide, by decide⟩ hl.1 (Nat.le_of_ble_eq_true rfl) dJ10_compareTo_2_11 ⟨by omega, by omega⟩) hL (fun H locs hR hL => ?_)
  refine lv_istore (lv' := [(4, .int (iI (0))), (3, .ref vb), (2, .ref va), (0, .ref a), (1, .ref b)]) hx hb dJ10_compareTo_2_14 hl (by decide) rfl (fun ls hl => ?_)
  refine lv_iload hx hb dJ10_compareTo_2_16 (lv_at hl 0 rfl) ?_
  refine lv_aload_n hx hb dJ10_compareTo_2_18 rfl (lv_at hl 4 rfl) ?_
  -- call java/lang/String.coder
  refine h_kIp (h_runV X hR (s_coder l G w b M hT0) pn_yJ10_coder (hT0.c) q376 q377 q378 q132 q379 ⟨by decide, by decide⟩ hl.1 (Nat.le_of_ble_eq_true rfl) dJ10_compareTo_2_19 ⟨by omega, by omega⟩) hL (fun H locs hR hL => ?_)
  refine h_icmp_ne hx hb 44 dJ10_compareTo_2_22 (by decide) (by decide) (by decide) (fun z_ => absurd z_ (by decide)) (fun _ => ?_)
  refine lv_iload hx hb dJ10_compareTo_2_25 (lv_at hl 0 rfl) ?_
  refine h_if_ne hx hb 38 dJ10_compareTo_2_27 (by decide) (by decide) (fun z_ => absurd z_ (by decide)) (fun _ => ?_)
  refine lv_aload_n hx hb dJ10_compareTo_2_30 rfl (lv_at hl 2 rfl) ?_
  refine lv_aload_n hx hb dJ10_compareTo_2_31 rfl (lv_at hl 1 rfl) ?_
  -- call java/lang/StringLatin1.compareTo
  refine h_kIp (h_runS X hR (s_lcmp l G w va vb 0 0 L M hA2 hB2 hA3 hB3 hA4 hB4 hL8 hM8) pn_yJ16_compareTo q968 q969 q139 q970 ⟨by decide, by decide⟩ hl.1 (Nat.le_of_ble_eq_true rfl) dJ10_compareTo_2_32 ⟨by omega, by omega⟩) hL (fun H locs hR hL => ?_)
  refine lv_goto (tgt := 43) hx hb dJ10_compareTo_2_35 (by decide) ?_
  exact h_ireturn hx hb hlk hret hR hL rfl ⟨rfl, rfl⟩ (by omega) (by omega) rfl rfl dJ10_compareTo_2_43

/-- L has M at place i -/
abbrev stW (L M : List Int) (i : Nat) : Prop := i + M.length ≤ L.length ∧ dfN L M i M.length = -1

set_option maxHeartbeats 4000000 in
set_option maxRecDepth 100000 in
/-- String.startsWith -/
theorem s_stw (l : Launch) (G : Gl) (w : Wd) (a b : Nat) (L M : List Int) (hS : StrAt G w a L) (hT : StrAt G w b M) (i : Nat) (hi6 : i < 1000000) (hM7 : M.length ≤ 7) : HM l yJ10_startsWith cJ10_startsWith 8 (some .boolean) 3 0 0 G [.ref a, .ref b, .int (iI ((i : Int)))] w (QI G (fun z_ w_ => z_ = b2i (stW L M i) ∧ w_ = w)) := by
  refine HM.mk (by decide +kernel) (Nat.le_of_ble_eq_true rfl) ?_
  intro p9 e9 s9 m9 a9 b9 meth9 c9 ls X hret hlk hnm hl H hR
  have hx := X.1.1
  have hb := X.1.2.1
  have hl : lv_has ls 8 [(0, .ref a), (1, .ref b), (2, .int (iI ((i : Int))))] := hl
  have hL : LK G [] := fun q h => absurd h List.not_mem_nil
  generalize ([] : List Loc) = locs at hL ⊢
  have hS0 := hS
  have hT0 := hT
  obtain ⟨va, hA1, hA2, hA3, hA4⟩ := hS
  obtain ⟨vb, hB1, hB2, hB3, hB4⟩ := hT
  have hdr := dfN_r L M i M.length
  refine lv_iload_n hx hb dJ10_startsWith_0 rfl (lv_at hl 2 rfl) ?_
  refine h_if_lt hx hb 17 dJ10_startsWith_1 (by decide) (by omega) (fun c_0 => ?_) (fun c_0 => ?_)
  ·
    exact absurd c_0 (by omega)
  ·
    refine lv_iload_n hx hb dJ10_startsWith_4 rfl (lv_at hl 2 rfl) ?_
    refine lv_aload_n hx hb dJ10_startsWith_5 rfl (lv_at hl 0 rfl) ?_
    -- call java/lang/String.length
    refine h_kIp (h_runV X hR (s_length l G w a L hS0) pn_yJ10_length (hS0.c) q1453 q373 q374 q132 q375 ⟨by decide, by decide⟩ hl.1 (Nat.le_of_ble_eq_true rfl) dJ10_startsWith_6 ⟨by omega, by omega⟩) hL (fun H locs hR hL => ?_)
    refine lv_aload_n hx hb dJ10_startsWith_9 rfl (lv_at hl 1 rfl) ?_
    -- call java/lang/String.length
    refine h_kIp (h_runV X hR (s_length l G w b M hT0) pn_yJ10_length (hT0.c) q1453 q373 q374 q132 q375 ⟨by decide, by decide⟩ hl.1 (Nat.le_of_ble_eq_true rfl) dJ10_startsWith_10 ⟨by omega, by omega⟩) hL (fun H locs hR hL => ?_)
    refine h_isub hx hb dJ10_startsWith_13 ?_
    refine h_icmp_le hx hb 19 dJ10_startsWith_14 (by decide) (by omega) (by omega) (fun c_l => ?_) (fun c_l => ?_)
    ·
      refine lv_aload_n hx hb dJ10_startsWith_19 rfl (lv_at hl 0 rfl) ?_
      refine h_strV X hR hA1 q521 dJ10_startsWith_20 ?_
      refine lv_astore_n (lv' := [(3, .ref va), (0, .ref a), (1, .ref b), (2, .int (iI ((i : Int))))]) hx hb dJ10_startsWith_23 rfl hl (by decide) rfl (fun ls hl => ?_)
      refine lv_aload_n hx hb dJ10_startsWith_24 rfl (lv_at hl 2 rfl) ?_
      refine h_strV X hR hB1 q521 dJ10_startsWith_25 ?_
      refine lv_astore (lv' := [(4, .ref vb), (3, .ref va), (0, .ref a), (1, .ref b), (2, .int (iI ((i : Int))))]) hx hb dJ10_startsWith_28 hl (by decide) rfl (fun ls hl => ?_)
      refine h_iconst hx hb dJ10_startsWith_30 ?_
      refine lv_istore (lv' := [(5, .int (iI (0))), (4, .ref vb), (3, .ref va), (0, .ref a), (1, .ref b), (2, .int (iI ((i : Int))))]) hx hb dJ10_startsWith_31 hl (by decide) rfl (fun ls hl => ?_)
      refine lv_aload hx hb dJ10_startsWith_33 (lv_at hl 1 rfl) ?_
      refine h_alenI X hR hB2 rfl dJ10_startsWith_35 ?_
      refine lv_istore (lv' := [(6, .int (iI (((M.length : Nat) : Int)))), (5, .int (iI (0))), (4, .ref vb), (3, .ref va), (0, .ref a), (1, .ref b), (2, .int (iI ((i : Int))))]) hx hb dJ10_startsWith_36 hl (by decide) rfl (fun ls hl => ?_)
      refine lv_aload_n hx hb dJ10_startsWith_38 rfl (lv_at hl 4 rfl) ?_
      -- call java/lang/String.coder
      refine h_kIp (h_runV X hR (s_coder l G w a L hS0) pn_yJ10_coder (hS0.c) q376 q377 q378 q132 q379 ⟨by decide, by decide⟩ hl.1 (Nat.le_of_ble_eq_true rfl) dJ10_startsWith_39 ⟨by omega, by omega⟩) hL (fun H locs hR hL => ?_)
      refine lv_istore (lv' := [(7, .int (iI (0))), (6, .int (iI (((M.length : Nat) : Int)))), (5, .int (iI (0))), (4, .ref vb), (3, .ref va), (0, .ref a), (1, .ref b), (2, .int (iI ((i : Int))))]) hx hb dJ10_startsWith_42 hl (by decide) rfl (fun ls hl => ?_)
      refine lv_iload hx hb dJ10_startsWith_44 (lv_at hl 0 rfl) ?_
      refine lv_aload_n hx hb dJ10_startsWith_46 rfl (lv_at hl 6 rfl) ?_
      -- call java/lang/String.coder
      refine h_kIp (h_runV X hR (s_coder l G w b M hT0) pn_yJ10_coder (hT0.c) q376 q377 q378 q132 q379 ⟨by decide, by decide⟩ hl.1 (Nat.le_of_ble_eq_true rfl) dJ10_startsWith_47 ⟨by omega, by omega⟩) hL (fun H locs hR hL => ?_)
      refine h_icmp_ne hx hb 82 dJ10_startsWith_50 (by decide) (by decide) (by decide) (fun z_ => absurd z_ (by decide)) (fun _ => ?_)
      refine lv_iload hx hb dJ10_startsWith_53 (lv_at hl 0 rfl) ?_
      refine h_iconst hx hb dJ10_startsWith_55 ?_
      refine h_icmp_ne hx hb 63 dJ10_startsWith_56 (by decide) (by decide) (by decide) (fun _ => ?_) (fun z_ => absurd z_ (by decide))
      refine lv_aload_n hx hb dJ10_startsWith_63 rfl (lv_at hl 4 rfl) ?_
      refine lv_iload_n hx hb dJ10_startsWith_64 rfl (lv_at hl 7 rfl) ?_
      refine lv_aload hx hb dJ10_startsWith_65 (lv_at hl 3 rfl) ?_
      refine h_iconst hx hb dJ10_startsWith_67 ?_
      refine lv_iload hx hb dJ10_startsWith_68 (lv_at hl 1 rfl) ?_
      -- call jdk/internal/util/ArraysSupport.mismatch
      refine h_kIp (h_runS X hR (as_mis5 l G w va vb 0 0 L M hA2 hB2 hA3 hB3 hA4 hB4 i M.length (by omega) (by omega) hM7) pn_yJ12_mismatch_2 q1454 q1455 q134 q1456 ⟨by decide, by decide⟩ hl.1 (Nat.le_of_ble_eq_true rfl) dJ10_startsWith_70 ⟨by omega, by omega⟩) hL (fun H locs hR hL => ?_)
      refine h_if_ge hx hb 80 dJ10_startsWith_73 (by decide) (by omega) (fun c_r => ?_) (fun c_r => ?_)
      ·
        refine h_iconst hx hb dJ10_startsWith_80 ?_
        exact h_ireturn hx hb hlk hret hR hL (nar01 (by omega)) ⟨(by first | exact (b2i_t ⟨by omega, by omega⟩).symm | exact (b2i_f (fun q_ => by have := q_.2; omega)).symm), rfl⟩ (by omega) (by omega) rfl rfl dJ10_startsWith_81
      ·
        refine h_iconst hx hb dJ10_startsWith_76 ?_
        refine lv_goto (tgt := 81) hx hb dJ10_startsWith_77 (by decide) ?_
        exact h_ireturn hx hb hlk hret hR hL (nar01 (by omega)) ⟨(by first | exact (b2i_t ⟨by omega, by omega⟩).symm | exact (b2i_f (fun q_ => by have := q_.2; omega)).symm), rfl⟩ (by omega) (by omega) rfl rfl dJ10_startsWith_81
    ·
      refine h_iconst hx hb dJ10_startsWith_17 ?_
      exact h_ireturn hx hb hlk hret hR hL (nar01 (by omega)) ⟨(b2i_f (fun q_ => by have := q_.1; omega)).symm, rfl⟩ (by omega) (by omega) rfl rfl dJ10_startsWith_18
