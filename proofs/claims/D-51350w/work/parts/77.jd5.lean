/-! JDK: Strings compared; hashes -/
set_option maxRecDepth 100000
theorem lst_eq {L M : List Int} (h1 : L.length = M.length) (h2 : ∀ j, j < L.length → L.getD j 0 = M.getD j 0) : L = M := by
  refine List.ext_getElem h1 (fun i hi hi2 => ?_)
  have := h2 i hi
  simpa [hi, hi2] using this

theorem pn_yJ16_equals : ParN yJ16_equals 2 := by decide +kernel
theorem pn_yJ16_hashCode : ParN yJ16_hashCode 1 := by decide +kernel
theorem pn_yJ12_signedHashCode : ParN yJ12_signedHashCode 4 := by decide +kernel
theorem pn_yJ12_vectorizedHashCode : ParN yJ12_vectorizedHashCode 5 := by decide +kernel

theorem getI {L : List Int} (h : ∀ x ∈ L, 0 ≤ x ∧ x < 128) {k : Nat} (hk : k < L.length) : 0 ≤ L.getD k 0 ∧ L.getD k 0 < 128 := by
  rw [show L.getD k 0 = L[k] by simp [hk]]
  exact h _ (List.getElem_mem hk)

set_option maxHeartbeats 4000000 in
set_option maxRecDepth 100000 in
/-- StringLatin1.equals -/
theorem s_leq (l : Launch) (G : Gl) (w : Wd) (va vb ra rb : Nat) (L M : List Int) (hA : w va = some (ra, iE G 1 L.length (fun j => L.getD j 0))) (hB : w vb = some (rb, iE G 1 M.length (fun j => M.getD j 0))) (hL0 : L.length < 1000000) (hM0 : M.length < 1000000) (hLx : ∀ x ∈ L, 0 ≤ x ∧ x < 128) (hMx : ∀ x ∈ M, 0 ≤ x ∧ x < 128) : HM l yJ16_equals cJ16_equals 3 (some .boolean) 1 0 0 G [.ref va, .ref vb] w (QI G (fun z_ w_ => z_ = b2i (L = M) ∧ w_ = w)) := by
  refine HM.mk (by decide +kernel) (Nat.le_of_ble_eq_true rfl) ?_
  intro p9 e9 s9 m9 a9 b9 meth9 c9 ls X hret hlk hnm hl H hR
  have hx := X.1.1
  have hb := X.1.2.1
  have hl : lv_has ls 3 [(0, .ref va), (1, .ref vb)] := hl
  have hL : LK G [] := fun q h => absurd h List.not_mem_nil
  generalize ([] : List Loc) = locs at hL ⊢
  refine lv_aload_n hx hb dJ16_equals_0 rfl (lv_at hl 0 rfl) ?_
  refine h_alenI X hR hA rfl dJ16_equals_1 ?_
  refine lv_aload_n hx hb dJ16_equals_2 rfl (lv_at hl 1 rfl) ?_
  refine h_alenI X hR hB rfl dJ16_equals_3 ?_
  refine h_icmp_ne hx hb 34 dJ16_equals_4 (by decide) (by omega) (by omega) (fun c_l => ?_) (fun c_l => ?_)
  ·
    refine h_iconst hx hb dJ16_equals_34 ?_
    exact h_ireturn hx hb hlk hret hR hL (nar01 (by omega)) ⟨(b2i_f (fun q => c_l (by rw [q]))).symm, rfl⟩ (by omega) (by omega) rfl rfl dJ16_equals_35
  ·
    refine h_iconst hx hb dJ16_equals_7 ?_
    refine lv_istore_n (lv' := [(2, .int (iI (0))), (0, .ref va), (1, .ref vb)]) hx hb dJ16_equals_8 rfl hl (by decide) rfl (fun ls hl => ?_)
    have LOOP_1 : ∀ (N_ : Nat) (k : Nat), (k ≤ L.length) → (∀ j, j < k → L.getD j 0 = M.getD j 0) → (L.length - k) < N_ → ∀ (H : Heap) (locs : List Loc) (ls : Array Slot), Rp G w H → LK G locs → lv_has ls 3 [(0, .ref va), (1, .ref vb), (2, .int (iI ((k : Int))))] → W p9 l e9 (rmk 1 0 0) s9 m9 a9 b9 meth9 c9 H locs 0 0 (MQ b9 (QI G (fun z_ w_ => z_ = b2i (L = M) ∧ w_ = w)) a9 s9 0 0 (frG G)) (F0 m9 9 ls []) := by
      intro N_
      induction N_ with
      | zero => intro _ _ _ h_; exact absurd h_ (Nat.not_lt_zero _)
      | succ N_ ih_ =>
        intro k hk he hN_ H locs ls hR hL hl
        have ih_1 := ih_
        clear ih_
        refine lv_iload_n hx hb dJ16_equals_9 rfl (lv_at hl 2 rfl) ?_
        refine lv_aload_n hx hb dJ16_equals_10 rfl (lv_at hl 0 rfl) ?_
        refine h_alenI X hR hA rfl dJ16_equals_11 ?_
        refine h_icmp_ge hx hb 32 dJ16_equals_12 (by decide) (by omega) (by omega) (fun c_2 => ?_) (fun c_2 => ?_)
        ·
          refine h_iconst hx hb dJ16_equals_32 ?_
          exact h_ireturn hx hb hlk hret hR hL (nar01 (by omega)) ⟨(b2i_t (lst_eq (by omega) (fun j hj => he j (by omega)))).symm, rfl⟩ (by omega) (by omega) rfl rfl dJ16_equals_33
        ·
          have gL_ := getI hLx (show k < L.length by omega)
          have gM_ := getI hMx (show k < M.length by omega)
          refine lv_aload_n hx hb dJ16_equals_15 rfl (lv_at hl 0 rfl) ?_
          refine lv_iload_n hx hb dJ16_equals_16 rfl (lv_at hl 2 rfl) ?_
          refine h_bald X hR hA (by omega) (by omega) dJ16_equals_17 ?_
          refine W.eq (g2 := F0 m9 18 ls [.int (iI (L.getD k 0))]) (congrArg (fun z_ : Int => F0 m9 18 ls [.int (iI (z_))]) (show ((fun j => L.getD j 0) ((k : Int)).toNat : Int) = L.getD k 0 from (by rfl))) ?_
          refine lv_aload_n hx hb dJ16_equals_18 rfl (lv_at hl 1 rfl) ?_
          refine lv_iload_n hx hb dJ16_equals_19 rfl (lv_at hl 2 rfl) ?_
          refine h_bald X hR hB (by omega) (by omega) dJ16_equals_20 ?_
          refine W.eq (g2 := F0 m9 21 ls [.int (iI (M.getD k 0)), .int (iI (L.getD k 0))]) (congrArg (fun z_ : Int => F0 m9 21 ls [.int (iI (z_)), .int (iI (L.getD k 0))]) (show ((fun j => M.getD j 0) ((k : Int)).toNat : Int) = M.getD k 0 from (by rfl))) ?_
          refine h_icmp_eq hx hb 26 dJ16_equals_21 (by decide) (by omega) (by omega) (fun c_e => ?_) (fun c_e => ?_)
          ·
            refine h_iinc (lv' := [(2, .int (iI ((k : Int) + 1))), (0, .ref va), (1, .ref vb)]) hx hb dJ16_equals_26 hl (k := 2) rfl (by decide) rfl (fun ls hl => ?_)
            refine lv_goto (tgt := 9) hx hb dJ16_equals_29 (by decide) ?_
            exact ih_1 (k + 1) (by omega) (fun j hj => by by_cases q : j = k; exact q ▸ c_e; exact he j (by omega)) (by omega) _ _ _ hR hL (lv_sub hl [1, 2, 0] rfl)
          ·
            refine h_iconst hx hb dJ16_equals_24 ?_
            exact h_ireturn hx hb hlk hret hR hL (nar01 (by omega)) ⟨(b2i_f (fun q => c_e (by rw [q]))).symm, rfl⟩ (by omega) (by omega) rfl rfl dJ16_equals_25
    exact LOOP_1 _ 0 (by omega) (fun j hj => absurd hj (Nat.not_lt_zero _)) (Nat.lt_succ_self _) _ _ _ hR hL (lv_sub hl [1, 2, 0] rfl)

theorem StrAt.eqv {G : Gl} {w : Wd} {a : Nat} {L M : List Int} (h : StrAt G w a L) (h2 : StrAt G w a M) : L = M := by
  obtain ⟨va, h1, ha, hl, hx⟩ := h
  obtain ⟨vb, g1, hb, gl, gx⟩ := h2
  have e1 := h1.symm.trans g1
  have e2 : va = vb := by
    have := Option.some.inj e1
    simp [sE] at this
    exact this.1
  subst e2
  have e3 := Option.some.inj (ha.symm.trans hb)
  simp only [iE, Prod.mk.injEq, Sum.inl.injEq, true_and] at e3
  have e4 : L.length = M.length := e3.1
  refine lst_eq e4 (fun j hj => ?_)
  have e5 := congrFun e3.2 j
  have h1 := getI hx hj
  have h2 := getI gx (show j < M.length by omega)
  exact (iI_eq ⟨by omega, by omega⟩ ⟨by omega, by omega⟩).mp e5

set_option maxHeartbeats 4000000 in
set_option maxRecDepth 100000 in
/-- String.equals -/
theorem s_eq (l : Launch) (G : Gl) (w : Wd) (a b : Nat) (L M : List Int) (hS : StrAt G w a L) (hT : StrAt G w b M) : HM l yJ10_equals cJ10_equals 3 (some .boolean) 2 0 0 G [.ref a, .ref b] w (QI G (fun z_ w_ => z_ = b2i (L = M) ∧ w_ = w)) := by
  refine HM.mk (by decide +kernel) (Nat.le_of_ble_eq_true rfl) ?_
  intro p9 e9 s9 m9 a9 b9 meth9 c9 ls X hret hlk hnm hl H hR
  have hx := X.1.1
  have hb := X.1.2.1
  have hl : lv_has ls 3 [(0, .ref a), (1, .ref b)] := hl
  have hL : LK G [] := fun q h => absurd h List.not_mem_nil
  generalize ([] : List Loc) = locs at hL ⊢
  have hS0 := hS
  have hT0 := hT
  obtain ⟨va, hA1, hA2, hA3, hA4⟩ := hS
  obtain ⟨vb, hB1, hB2, hB3, hB4⟩ := hT
  refine lv_aload_n hx hb dJ10_equals_0 rfl (lv_at hl 0 rfl) ?_
  refine lv_aload_n hx hb dJ10_equals_1 rfl (lv_at hl 1 rfl) ?_
  refine lv_acmp_ne (rx := (some a)) (ry := (some b)) (tgt := 7) hx hb dJ10_equals_2 (by decide) (fun c_a => ?_) (fun c_a => ?_)
  ·
    refine lv_aload_n hx hb dJ10_equals_7 rfl (lv_at hl 1 rfl) ?_
    refine h_instS X hR (hT0.c) q963 dJ10_equals_8 ?_
    refine h_if_eq hx hb 54 dJ10_equals_11 (by decide) (by decide) (fun z_ => absurd z_ (by decide)) (fun _ => ?_)
    refine lv_aload_n hx hb dJ10_equals_14 rfl (lv_at hl 1 rfl) ?_
    refine h_castS X hR (hT0.c) q963 dJ10_equals_15 ?_
    refine lv_astore_n (lv' := [(2, .ref b), (0, .ref a), (1, .ref b)]) hx hb dJ10_equals_18 rfl hl (by decide) rfl (fun ls hl => ?_)
    refine h_getsI X hR (z32 := 1) [false, false, false, false, false, false, false, true, false, true, true] (1) rfl rfl q273 q132 q380 dJ10_equals_19 ?_
    refine h_if_eq hx hb 36 dJ10_equals_22 (by decide) (by decide) (fun z_ => absurd z_ (by decide)) (fun _ => ?_)
    refine lv_aload_n hx hb dJ10_equals_25 rfl (lv_at hl 1 rfl) ?_
    refine h_strC X hR hA1 q522 dJ10_equals_26 ?_
    refine lv_aload_n hx hb dJ10_equals_29 rfl (lv_at hl 0 rfl) ?_
    refine h_strC X hR hB1 q522 dJ10_equals_30 ?_
    refine h_icmp_ne hx hb 54 dJ10_equals_33 (by decide) (by decide) (by decide) (fun z_ => absurd z_ (by decide)) (fun _ => ?_)
    refine lv_aload_n hx hb dJ10_equals_36 rfl (lv_at hl 1 rfl) ?_
    refine h_strV X hR hA1 q521 dJ10_equals_37 ?_
    refine lv_aload_n hx hb dJ10_equals_40 rfl (lv_at hl 0 rfl) ?_
    refine h_strV X hR hB1 q521 dJ10_equals_41 ?_
    -- call java/lang/StringLatin1.equals
    refine h_kIp (h_runS X hR (s_leq l G w va vb 0 0 L M hA2 hB2 hA3 hB3 hA4 hB4) pn_yJ16_equals q1188 q1189 q139 q1190 ⟨by decide, by decide⟩ hl.1 (Nat.le_of_ble_eq_true rfl) dJ10_equals_44 ⟨by omega, by omega⟩) hL (fun H locs hR hL => ?_)
    have hz := b2i_01 (L = M)
    refine h_if_eq hx hb 54 dJ10_equals_47 (by decide) (by omega) (fun c_z => ?_) (fun c_z => ?_)
    ·
      refine h_iconst hx hb dJ10_equals_54 ?_
      exact h_ireturn hx hb hlk hret hR hL (nar01 (by omega)) ⟨by omega, rfl⟩ (by omega) (by omega) rfl rfl dJ10_equals_55
    ·
      refine h_iconst hx hb dJ10_equals_50 ?_
      refine lv_goto (tgt := 55) hx hb dJ10_equals_51 (by decide) ?_
      exact h_ireturn hx hb hlk hret hR hL (nar01 (by omega)) ⟨by omega, rfl⟩ (by omega) (by omega) rfl rfl dJ10_equals_55
  ·
    refine h_iconst hx hb dJ10_equals_5 ?_
    exact h_ireturn hx hb hlk hret hR hL (nar01 (by omega)) ⟨(b2i_t (by have e_ := Option.some.inj c_a; subst e_; exact hS0.eqv hT0)).symm, rfl⟩ (by omega) (by omega) rfl rfl dJ10_equals_6

set_option maxHeartbeats 4000000 in
set_option maxRecDepth 100000 in
/-- ArraysSupport.signedHashCode -/
theorem as_sh (l : Launch) (G : Gl) (w : Wd) (va r : Nat) (L : List Int) (hV : w va = some (r, iE G 1 L.length (fun j => L.getD j 0))) (hL0 : L.length < 1000000) (hLx : ∀ x ∈ L, 0 ≤ x ∧ x < 128) : HM l yJ12_signedHashCode cJ12_signedHashCode 6 (some .int) 1 0 0 G [.int (iI (0)), .ref va, .int (iI (0)), .int (iI ((L.length : Int)))] w (QI G (fun z_ w_ => z_ = sH L ∧ w_ = w)) := by
  refine HM.mk (by decide +kernel) (Nat.le_of_ble_eq_true rfl) ?_
  intro p9 e9 s9 m9 a9 b9 meth9 c9 ls X hret hlk hnm hl H hR
  have hx := X.1.1
  have hb := X.1.2.1
  have hl : lv_has ls 6 [(0, .int (iI (0))), (1, .ref va), (2, .int (iI (0))), (3, .int (iI ((L.length : Int))))] := hl
  have hL : LK G [] := fun q h => absurd h List.not_mem_nil
  generalize ([] : List Loc) = locs at hL ⊢
  refine lv_iload_n hx hb dJ12_signedHashCode_0 rfl (lv_at hl 2 rfl) ?_
  refine lv_iload_n hx hb dJ12_signedHashCode_1 rfl (lv_at hl 3 rfl) ?_
  refine h_iadd hx hb dJ12_signedHashCode_2 ?_
  refine lv_istore (lv' := [(4, .int (iI (0 + ((L.length : Int))))), (0, .int (iI (0))), (1, .ref va), (2, .int (iI (0))), (3, .int (iI ((L.length : Int))))]) hx hb dJ12_signedHashCode_3 hl (by decide) rfl (fun ls hl => ?_)
  refine lv_iload_n hx hb dJ12_signedHashCode_5 rfl (lv_at hl 3 rfl) ?_
  refine lv_istore (lv' := [(5, .int (iI (0))), (4, .int (iI (0 + ((L.length : Int))))), (0, .int (iI (0))), (1, .ref va), (2, .int (iI (0))), (3, .int (iI ((L.length : Int))))]) hx hb dJ12_signedHashCode_6 hl (by decide) rfl (fun ls hl => ?_)
  have hl : lv_has ls 6 [(5, .int (iI (0))), (4, .int (iI ((L.length : Int)))), (0, .int (iI (0))), (1, .ref va), (2, .int (iI (0))), (3, .int (iI ((L.length : Int))))] := lv_conv hl (congrArg (fun z_ : Int => ([(5, .int (iI (0))), (4, .int (iI (z_))), (0, .int (iI (0))), (1, .ref va), (2, .int (iI (0))), (3, .int (iI ((L.length : Int))))] : List (Nat × Value))) (show (0 + ((L.length : Int)) : Int) = (L.length : Int) from (by omega)))
  have LOOP_1 : ∀ (N_ : Nat) (k : Nat), (k ≤ L.length) → (L.length - k) < N_ → ∀ (H : Heap) (locs : List Loc) (ls : Array Slot), Rp G w H → LK G locs → lv_has ls 6 [(0, .int (iI (sH (L.take k)))), (1, .ref va), (4, .int (iI ((L.length : Int)))), (5, .int (iI ((k : Int))))] → W p9 l e9 (rmk 1 0 0) s9 m9 a9 b9 meth9 c9 H locs 0 0 (MQ b9 (QI G (fun z_ w_ => z_ = sH L ∧ w_ = w)) a9 s9 0 0 (frG G)) (F0 m9 8 ls []) := by
    intro N_
    induction N_ with
    | zero => intro _ _ h_; exact absurd h_ (Nat.not_lt_zero _)
    | succ N_ ih_ =>
      intro k hk hN_ H locs ls hR hL hl
      have ih_1 := ih_
      clear ih_
      refine lv_iload hx hb dJ12_signedHashCode_8 (lv_at hl 3 rfl) ?_
      refine lv_iload hx hb dJ12_signedHashCode_10 (lv_at hl 2 rfl) ?_
      refine h_icmp_ge hx hb 35 dJ12_signedHashCode_12 (by decide) (by omega) (by omega) (fun c_2 => ?_) (fun c_2 => ?_)
      ·
        refine lv_iload_n hx hb dJ12_signedHashCode_35 rfl (lv_at hl 0 rfl) ?_
        exact h_ireturn hx hb hlk hret hR hL rfl ⟨by rw [show k = L.length by omega, List.take_length], rfl⟩ (by omega) (by omega) rfl rfl dJ12_signedHashCode_36
      ·
        refine h_bipush hx hb dJ12_signedHashCode_15 (by decide) ?_
        refine lv_iload_n hx hb dJ12_signedHashCode_17 rfl (lv_at hl 0 rfl) ?_
        refine h_imul hx hb dJ12_signedHashCode_18 ?_
        refine lv_aload_n hx hb dJ12_signedHashCode_19 rfl (lv_at hl 1 rfl) ?_
        refine lv_iload hx hb dJ12_signedHashCode_20 (lv_at hl 3 rfl) ?_
        refine h_bald X hR hV (by omega) (by omega) dJ12_signedHashCode_22 ?_
        refine W.eq (g2 := F0 m9 23 ls [.int (iI (L.getD k 0)), .int (iI (31 * (sH (L.take k))))]) (congrArg (fun z_ : Int => F0 m9 23 ls [.int (iI (z_)), .int (iI (31 * (sH (L.take k))))]) (show ((fun j => L.getD j 0) ((k : Int)).toNat : Int) = L.getD k 0 from (by rfl))) ?_
        refine h_sipush hx hb dJ12_signedHashCode_23 (by decide) ?_
        refine h_iand hx hb dJ12_signedHashCode_26 (iI_and255 _) ?_
        refine h_iadd hx hb dJ12_signedHashCode_27 ?_
        refine lv_istore_n (lv' := [(0, .int (iI (31 * (sH (L.take k)) + ((L.getD k 0) % 256)))), (1, .ref va), (4, .int (iI ((L.length : Int)))), (5, .int (iI ((k : Int))))]) hx hb dJ12_signedHashCode_28 rfl hl (by decide) rfl (fun ls hl => ?_)
        refine h_iinc (lv' := [(5, .int (iI ((k : Int) + 1))), (0, .int (iI (31 * (sH (L.take k)) + ((L.getD k 0) % 256)))), (1, .ref va), (4, .int (iI ((L.length : Int))))]) hx hb dJ12_signedHashCode_29 hl (k := 3) rfl (by decide) rfl (fun ls hl => ?_)
        refine lv_goto (tgt := 8) hx hb dJ12_signedHashCode_32 (by decide) ?_
        have hl : lv_has ls 6 [(5, .int (iI ((k : Int) + 1))), (0, .int (iI (sH (L.take (k + 1))))), (1, .ref va), (4, .int (iI ((L.length : Int))))] := lv_conv hl (congrArg (fun z_ : Int => ([(5, .int (iI ((k : Int) + 1))), (0, .int (iI (z_))), (1, .ref va), (4, .int (iI ((L.length : Int))))] : List (Nat × Value))) (show (31 * (sH (L.take k)) + ((L.getD k 0) % 256) : Int) = sH (L.take (k + 1)) from (by rw [sH_take L k (by omega)]; have := getI hLx (show k < L.length by omega); omega)))
        exact ih_1 (k + 1) (by omega) (by omega) _ _ _ hR hL (lv_sub hl [1, 2, 3, 0] rfl)
  have hl : lv_has ls 6 [(5, .int (iI (0))), (4, .int (iI ((L.length : Int)))), (0, .int (iI (sH (L.take 0)))), (1, .ref va), (2, .int (iI (0))), (3, .int (iI ((L.length : Int))))] := lv_conv hl (congrArg (fun z_ : Int => ([(5, .int (iI (0))), (4, .int (iI ((L.length : Int)))), (0, .int (iI (z_))), (1, .ref va), (2, .int (iI (0))), (3, .int (iI ((L.length : Int))))] : List (Nat × Value))) (show (0 : Int) = sH (L.take 0) from (by rw [List.take_zero]; rfl)))
  exact LOOP_1 _ 0 (by omega) (Nat.lt_succ_self _) _ _ _ hR hL (lv_sub hl [2, 3, 1, 0] rfl)

set_option maxHeartbeats 4000000 in
set_option maxRecDepth 100000 in
/-- ArraysSupport.vectorizedHashCode -/
theorem as_vh (l : Launch) (G : Gl) (w : Wd) (va r : Nat) (L : List Int) (hV : w va = some (r, iE G 1 L.length (fun j => L.getD j 0))) (hL0 : L.length < 1000000) (hLx : ∀ x ∈ L, 0 ≤ x ∧ x < 128) : HM l yJ12_vectorizedHashCode cJ12_vectorizedHashCode 5 (some .int) 2 0 0 G [.ref va, .int (iI (0)), .int (iI ((L.length : Int))), .int (iI (0)), .int (iI (4))] w (QI G (fun z_ w_ => z_ = sH L ∧ w_ = w)) := by
  refine HM.mk (by decide +kernel) (Nat.le_of_ble_eq_true rfl) ?_
  intro p9 e9 s9 m9 a9 b9 meth9 c9 ls X hret hlk hnm hl H hR
  have hx := X.1.1
  have hb := X.1.2.1
  have hl : lv_has ls 5 [(0, .ref va), (1, .int (iI (0))), (2, .int (iI ((L.length : Int)))), (3, .int (iI (0))), (4, .int (iI (4)))] := hl
  have hL : LK G [] := fun q h => absurd h List.not_mem_nil
  generalize ([] : List Loc) = locs at hL ⊢
  refine lv_iload hx hb dJ12_vectorizedHashCode_0 (lv_at hl 4 rfl) ?_
  refine h_tabIn hx hb 44 dJ12_vectorizedHashCode_2 (by decide) (by decide) (by rfl) (by decide) ?_
  refine lv_iload_n hx hb dJ12_vectorizedHashCode_44 rfl (lv_at hl 3 rfl) ?_
  refine lv_aload_n hx hb dJ12_vectorizedHashCode_45 rfl (lv_at hl 0 rfl) ?_
  refine h_castA X hR hV (arr_nmI X.2 (k := 1) (ty := .byte) rfl (fun C h => by cases h) (nm := "[B") (by decide)) q794 dJ12_vectorizedHashCode_46 ?_
  refine lv_iload_n hx hb dJ12_vectorizedHashCode_49 rfl (lv_at hl 1 rfl) ?_
  refine lv_iload_n hx hb dJ12_vectorizedHashCode_50 rfl (lv_at hl 2 rfl) ?_
  -- call jdk/internal/util/ArraysSupport.signedHashCode
  refine h_kIp (h_runS X hR (as_sh l G w va r L hV hL0 hLx) pn_yJ12_signedHashCode q795 q796 q134 q797 ⟨by decide, by decide⟩ hl.1 (Nat.le_of_ble_eq_true rfl) dJ12_vectorizedHashCode_51 ⟨by omega, by omega⟩) hL (fun H locs hR hL => ?_)
  refine lv_goto (tgt := 157) hx hb dJ12_vectorizedHashCode_54 (by decide) ?_
  exact h_ireturn hx hb hlk hret hR hL rfl ⟨rfl, rfl⟩ (by omega) (by omega) rfl rfl dJ12_vectorizedHashCode_157

set_option maxHeartbeats 4000000 in
set_option maxRecDepth 100000 in
/-- StringLatin1.hashCode -/
theorem s_lhash (l : Launch) (G : Gl) (w : Wd) (va r : Nat) (L : List Int) (hV : w va = some (r, iE G 1 L.length (fun j => L.getD j 0))) (hL0 : L.length < 1000000) (hLx : ∀ x ∈ L, 0 ≤ x ∧ x < 128) : HM l yJ16_hashCode cJ16_hashCode 1 (some .int) 3 0 0 G [.ref va] w (QI G (fun z_ w_ => z_ = hN L ∧ w_ = w)) := by
  refine HM.mk (by decide +kernel) (Nat.le_of_ble_eq_true rfl) ?_
  intro p9 e9 s9 m9 a9 b9 meth9 c9 ls X hret hlk hnm hl H hR
  have hx := X.1.1
  have hb := X.1.2.1
  have hl : lv_has ls 1 [(0, .ref va)] := hl
  have hL : LK G [] := fun q h => absurd h List.not_mem_nil
  generalize ([] : List Loc) = locs at hL ⊢
  refine lv_aload_n hx hb dJ16_hashCode_0 rfl (lv_at hl 0 rfl) ?_
  refine h_alenI X hR hV rfl dJ16_hashCode_1 ?_
  by_cases c_n : (((L.length : Nat) : Int)) = 0
  ·
    refine h_lookup hx hb 28 dJ16_hashCode_2 (by omega) (by decide) (by rw [c_n] <;> rfl) (by decide) ?_
    refine h_iconst hx hb dJ16_hashCode_28 ?_
    refine lv_goto (tgt := 51) hx hb dJ16_hashCode_29 (by decide) ?_
    refine W.eq (g2 := F0 m9 51 ls [.int (iI (hN L))]) (by rw [hN_i, show sH L = 0 by rw [List.length_eq_zero_iff.mp (show L.length = 0 by omega)]; rfl]) ?_
    exact h_ireturn hx hb hlk hret hR hL rfl ⟨rfl, rfl⟩ (by omega) (by omega) rfl rfl dJ16_hashCode_51
  ·
    by_cases c_1 : (((L.length : Nat) : Int)) = 1
    ·
      refine h_lookup hx hb 32 dJ16_hashCode_2 (by omega) (by decide) (by rw [c_1] <;> rfl) (by decide) ?_
      refine lv_aload_n hx hb dJ16_hashCode_32 rfl (lv_at hl 0 rfl) ?_
      refine h_iconst hx hb dJ16_hashCode_33 ?_
      refine h_bald X hR hV (by omega) (by omega) dJ16_hashCode_34 ?_
      refine W.eq (g2 := F0 m9 35 ls [.int (iI (L.getD 0 0))]) (congrArg (fun z_ : Int => F0 m9 35 ls [.int (iI (z_))]) (show ((fun j => L.getD j 0) (Int.toNat 0) : Int) = L.getD 0 0 from (by rfl))) ?_
      refine h_sipush hx hb dJ16_hashCode_35 (by decide) ?_
      refine h_iand hx hb dJ16_hashCode_38 (iI_and255 _) ?_
      refine lv_goto (tgt := 51) hx hb dJ16_hashCode_39 (by decide) ?_
      refine W.eq (g2 := F0 m9 51 ls [.int (iI (hN L))]) (by rw [hN_i, show sH L = L.getD 0 0 % 256 by obtain ⟨x_, rfl⟩ := List.length_eq_one_iff.mp (show L.length = 1 by omega); have := getI hLx (show 0 < [x_].length by simp); simp at this; simp [sH]; omega]) ?_
      exact h_ireturn hx hb hlk hret hR hL rfl ⟨rfl, rfl⟩ (by omega) (by omega) rfl rfl dJ16_hashCode_51
    ·
      refine h_lookup (off := 40) hx hb 42 dJ16_hashCode_2 (by omega) (by decide) (by simp [Op.lookupswitch.offset]; (repeat' split) <;> omega) (by decide) ?_
      refine lv_aload_n hx hb dJ16_hashCode_42 rfl (lv_at hl 0 rfl) ?_
      refine h_iconst hx hb dJ16_hashCode_43 ?_
      refine lv_aload_n hx hb dJ16_hashCode_44 rfl (lv_at hl 0 rfl) ?_
      refine h_alenI X hR hV rfl dJ16_hashCode_45 ?_
      refine h_iconst hx hb dJ16_hashCode_46 ?_
      refine h_iconst hx hb dJ16_hashCode_47 ?_
      -- call jdk/internal/util/ArraysSupport.vectorizedHashCode
      refine h_kIp (h_runS X hR (as_vh l G w va r L hV hL0 hLx) pn_yJ12_vectorizedHashCode q791 q792 q134 q793 ⟨by decide, by decide⟩ hl.1 (Nat.le_of_ble_eq_true rfl) dJ16_hashCode_48 ⟨by omega, by omega⟩) hL (fun H locs hR hL => ?_)
      refine W.eq (g2 := F0 m9 51 ls [.int (iI (hN L))]) (by rw [hN_i]) ?_
      exact h_ireturn hx hb hlk hret hR hL rfl ⟨rfl, rfl⟩ (by omega) (by omega) rfl rfl dJ16_hashCode_51

set_option maxHeartbeats 4000000 in
set_option maxRecDepth 100000 in
/-- String.hashCode -/
theorem s_hash (l : Launch) (G : Gl) (w : Wd) (a : Nat) (L : List Int) (hS : StrAt G w a L) : HM l yJ10_hashCode cJ10_hashCode 2 (some .int) 4 0 0 G [.ref a] w (QI G (fun z_ w_ => z_ = hN L ∧ w_ = w)) := by
  refine HM.mk (by decide +kernel) (Nat.le_of_ble_eq_true rfl) ?_
  intro p9 e9 s9 m9 a9 b9 meth9 c9 ls X hret hlk hnm hl H hR
  have hx := X.1.1
  have hb := X.1.2.1
  have hl : lv_has ls 2 [(0, .ref a)] := hl
  have hL : LK G [] := fun q h => absurd h List.not_mem_nil
  generalize ([] : List Loc) = locs at hL ⊢
  have hS0 := hS
  obtain ⟨va, hS1, hS2, hS3, hS4⟩ := hS
  refine lv_aload_n hx hb dJ10_hashCode_0 rfl (lv_at hl 0 rfl) ?_
  refine h_strH X hR hS1 q523 dJ10_hashCode_1 (fun h0 z0 hh0 hz0 hat hcase => ?_)
  refine lv_istore_n (lv' := [(1, .int (iI (h0))), (0, .ref a)]) hx hb dJ10_hashCode_4 rfl hl (by decide) rfl (fun ls hl => ?_)
  refine lv_iload_n hx hb dJ10_hashCode_5 rfl (lv_at hl 0 rfl) ?_
  refine h_if_ne hx hb 58 dJ10_hashCode_6 (by decide) (by omega) (fun c_h => ?_) (fun c_h => ?_)
  ·
    have he : h0 = hN L := by rcases hcase with q_ | q_; exact (iI_eq hh0 (hN_r L)).mp (q_.1.trans (hN_i L).symm); exact absurd q_.1 c_h
    have hl : lv_has ls 2 [(1, .int (iI (hN L))), (0, .ref a)] := lv_conv hl (congrArg (fun z_ : Int => ([(1, .int (iI (z_))), (0, .ref a)] : List (Nat × Value))) (show (h0 : Int) = hN L from (he)))
    refine lv_iload_n hx hb dJ10_hashCode_58 rfl (lv_at hl 0 rfl) ?_
    exact h_ireturn hx hb hlk hret hR hL rfl ⟨rfl, rfl⟩ (by omega) (by omega) rfl rfl dJ10_hashCode_59
  ·
    refine lv_aload_n hx hb dJ10_hashCode_9 rfl (lv_at hl 1 rfl) ?_
    refine h_strZ X hat q524 dJ10_hashCode_10 ?_
    refine h_if_ne hx hb 58 dJ10_hashCode_13 (by decide) (by omega) (fun c_z => ?_) (fun c_z => ?_)
    ·
      have he : h0 = hN L := by rcases hcase with q_ | q_; exact (iI_eq hh0 (hN_r L)).mp (q_.1.trans (hN_i L).symm); exact absurd q_.2.1 c_z
      have hl : lv_has ls 2 [(1, .int (iI (hN L))), (0, .ref a)] := lv_conv hl (congrArg (fun z_ : Int => ([(1, .int (iI (z_))), (0, .ref a)] : List (Nat × Value))) (show (h0 : Int) = hN L from (he)))
      refine lv_iload_n hx hb dJ10_hashCode_58 rfl (lv_at hl 0 rfl) ?_
      exact h_ireturn hx hb hlk hret hR hL rfl ⟨rfl, rfl⟩ (by omega) (by omega) rfl rfl dJ10_hashCode_59
    ·
      have hge : gB G ≤ a := by rcases hcase with q_ | q_; exact absurd (q_.2 (by rw [← q_.1, c_h]; rfl)) (by omega); exact q_.2.2
      refine lv_aload_n hx hb dJ10_hashCode_16 rfl (lv_at hl 1 rfl) ?_
      -- call java/lang/String.isLatin1
      refine h_kIp (h_runV X hR (s_isLatin1 l G w a L hS0) pn_yJ10_isLatin1 (hS0.c) q784 q785 q786 q132 q787 ⟨by decide, by decide⟩ hl.1 (Nat.le_of_ble_eq_true rfl) dJ10_hashCode_17 ⟨by omega, by omega⟩) hL (fun H locs hR hL => ?_)
      refine h_if_eq hx hb 33 dJ10_hashCode_20 (by decide) (by decide) (fun z_ => absurd z_ (by decide)) (fun _ => ?_)
      refine lv_aload_n hx hb dJ10_hashCode_23 rfl (lv_at hl 1 rfl) ?_
      refine h_strV X hR hS1 q521 dJ10_hashCode_24 ?_
      -- call java/lang/StringLatin1.hashCode
      refine h_kIp (h_runS X hR (s_lhash l G w va 0 L hS2 hS3 hS4) pn_yJ16_hashCode q788 q789 q139 q790 ⟨by decide, by decide⟩ hl.1 (Nat.le_of_ble_eq_true rfl) dJ10_hashCode_27 ⟨by omega, by omega⟩) hL (fun H locs hR hL => ?_)
      have hNr := hN_r L
      refine lv_goto (tgt := 40) hx hb dJ10_hashCode_30 (by decide) ?_
      refine lv_istore_n (lv' := [(1, .int (iI (hN L))), (0, .ref a)]) hx hb dJ10_hashCode_40 rfl hl (by decide) rfl (fun ls hl => ?_)
      refine lv_iload_n hx hb dJ10_hashCode_41 rfl (lv_at hl 0 rfl) ?_
      refine h_if_ne hx hb 53 dJ10_hashCode_42 (by decide) (by omega) (fun c_n => ?_) (fun c_n => ?_)
      ·
        have hne : iI (sH L) ≠ 0 := fun q_ => c_n ((iI_eq (hN_r L) ⟨by decide, by decide⟩).mp ((hN_i L).trans q_))
        refine lv_aload_n hx hb dJ10_hashCode_53 rfl (lv_at hl 1 rfl) ?_
        refine lv_iload_n hx hb dJ10_hashCode_54 rfl (lv_at hl 0 rfl) ?_
        refine h_strPut X hR hL hS1 hge 2 (by decide) q523 rfl rfl rfl (Or.inl ⟨rfl, congrArg Value.int (hN_i L), hne⟩) dJ10_hashCode_55 (fun H locs hR hL => ?_)
        refine lv_iload_n hx hb dJ10_hashCode_58 rfl (lv_at hl 0 rfl) ?_
        exact h_ireturn hx hb hlk hret hR hL rfl ⟨rfl, rfl⟩ (by omega) (by omega) rfl rfl dJ10_hashCode_59
      ·
        have hz_ : iI (sH L) = 0 := by rw [← hN_i L, c_n]; rfl
        refine lv_aload_n hx hb dJ10_hashCode_45 rfl (lv_at hl 1 rfl) ?_
        refine h_iconst hx hb dJ10_hashCode_46 ?_
        refine h_strPut X hR hL hS1 hge 3 (by decide) q524 rfl rfl rfl (Or.inr ⟨rfl, rfl, hz_⟩) dJ10_hashCode_47 (fun H locs hR hL => ?_)
        refine lv_goto (tgt := 58) hx hb dJ10_hashCode_50 (by decide) ?_
        refine lv_iload_n hx hb dJ10_hashCode_58 rfl (lv_at hl 0 rfl) ?_
        exact h_ireturn hx hb hlk hret hR hL rfl ⟨rfl, rfl⟩ (by omega) (by omega) rfl rfl dJ10_hashCode_59
