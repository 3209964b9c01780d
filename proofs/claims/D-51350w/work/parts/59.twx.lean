/-! the twin: key words -/
set_option maxRecDepth 100000
def kyB (T : List Int) (e : Rd) (K : List Int) : Bool := match e with
  | .inl _ => false
  | .inr s => decide (scK s = 1) && decide (scL T s = K)
theorem scL_iff {T : List Int} {s : Sc} {K : List Int} : scL T s = K ↔ scA s - scB s = K.length ∧ ∀ j, j < K.length → bat T (scB s + j) = K.getD j 0 := by
  constructor
  · intro h
    have hl := scL_len T s
    rw [h] at hl
    refine ⟨hl.symm, fun j hj => ?_⟩
    have := scL_at T s (k := j) (by omega)
    rw [h] at this
    unfold dg at this
    rw [show K.getD j 96 = K.getD j 0 by simp [hj]] at this
    omega
  · rintro ⟨h1, h2⟩
    refine List.ext_getElem (by rw [scL_len]; exact h1) (fun j g1 g2 => ?_)
    have e := h2 j g2
    rw [show K.getD j 0 = K[j] by simp [g2]] at e
    rw [← e]
    simp only [scL, List.getElem_map, List.getElem_range]
theorem kyB_1 {T : List Int} {s : Sc} {K : List Int} : kyB T (.inr s) K = true ↔ scK s = 1 ∧ scA s - scB s = K.length ∧ ∀ j, j < K.length → bat T (scB s + j) = K.getD j 0 := by
  have e : kyB T (.inr s) K = true ↔ scK s = 1 ∧ scL T s = K := by simp [kyB]
  rw [e, scL_iff]
theorem kyB_0 {T : List Int} {x : Nat × Int} {K : List Int} : ¬ kyB T (.inl x) K = true := by simp [kyB]
/-- which order it is: 0 mark, 1 say, 2 unsay, 3 drop, 4 width, 5 bound, 6 balance, 7 respace, -1 none -/
def ordK (T : List Int) (e : Rd) : Int := if kyB T e (kkTx 25) = true then 1 else if kyB T e (kkTx 26) = true then 0 else if kyB T e (kkTx 27) = true then 2 else if kyB T e (kkTx 28) = true then 3 else if kyB T e (kkTx 29) = true then 4 else if kyB T e (kkTx 30) = true then 5 else if kyB T e (kkTx 31) = true then 6 else if kyB T e (kkTx 32) = true then 7 else -1

theorem pn_yX10_isKey : ParN yX10_isKey 1 := by decide +kernel
theorem pn_yJ10_charAt : ParN yJ10_charAt 1 := by decide +kernel
theorem pn_yJ10_length : ParN yJ10_length 0 := by decide +kernel

set_option maxHeartbeats 4000000 in
set_option maxRecDepth 100000 in
/-- isKey -/
theorem m_isKeyS (l : Launch) (G : Gl) (w : Wd) (a : Nat) (ad : Nat → Nat) (t : Tw) (hT : TwAt G w a ad t)  (T : List Int) (s : Sc) (sw : Nat) (K : List Int) (hRd : RdAt t T (.inr s)) (hK : StrAt G w sw K) : HM l yX10_isKey cX10_isKey 3 (some .boolean) 5 0 0 G [.ref a, .ref sw] w (QI G (fun z_ w_ => z_ = b2i (kyB T (.inr s) K = true) ∧ w_ = w)) := by
  refine HM.mk (by decide +kernel) (Nat.le_of_ble_eq_true rfl) ?_
  intro p9 e9 s9 m9 a9 b9 meth9 c9 ls X hret hlk hnm hl H hR
  have hx := X.1.1
  have hb := X.1.2.1
  have hl : lv_has ls 3 [(0, .ref a), (1, .ref sw)] := hl
  have hL : LK G [] := fun q h => absurd h List.not_mem_nil
  generalize ([] : List Loc) = locs at hL ⊢
  have hTb := hT
  have hT : TwS G w w a ad t := TwS.rf hT
  have hT8 := hRd.1.2.1.1
  have hW := hRd.2.2.2.2
  have hWa := hW.1
  have hWb := hW.2.1
  have hWk := hW.2.2.1
  have hKl : K.length < 1000000 := by obtain ⟨_, _, _, h_, _⟩ := hK; exact h_
  refine lv_aload_n hx hb dX10_isKey_0 rfl (lv_at hl 0 rfl) ?_
  refine tw_get X hR hT 21 (by decide) q2962 (v := .int (iI (0))) (congrArg (fun z => some (Value.int (iI z))) (hRd.2.1)) dX10_isKey_1 ?_
  refine h_if_ne hx hb 31 dX10_isKey_4 (by decide) (by decide) (fun z_ => absurd z_ (by decide)) (fun _ => ?_)
  refine lv_aload_n hx hb dX10_isKey_7 rfl (lv_at hl 0 rfl) ?_
  refine tw_get X hR hT 19 (by decide) q2960 (v := .int (iI (scK s))) (congrArg (fun z => some (Value.int (iI z))) (hRd.2.2.2.1.2.2.1)) dX10_isKey_8 ?_
  refine h_iconst hx hb dX10_isKey_11 ?_
  refine h_icmp_ne hx hb 31 dX10_isKey_12 (by decide) (by omega) (by omega) (fun c_k => ?_) (fun c_k => ?_)
  ·
    refine h_iconst hx hb dX10_isKey_31 ?_
    exact h_ireturn hx hb hlk hret hR hL (nar01 (by omega)) ⟨(b2i_f (fun q => by obtain ⟨q1, q2, q3⟩ := kyB_1.mp q; omega)).symm, rfl⟩ (by omega) (by omega) rfl rfl dX10_isKey_32
  ·
    refine lv_aload_n hx hb dX10_isKey_15 rfl (lv_at hl 0 rfl) ?_
    refine tw_get X hR hT 17 (by decide) q2958 (v := .int (iI ((scA s : Int)))) (congrArg (fun z => some (Value.int (iI z))) (hRd.2.2.2.1.2.1)) dX10_isKey_16 ?_
    refine lv_aload_n hx hb dX10_isKey_19 rfl (lv_at hl 0 rfl) ?_
    refine tw_get X hR hT 18 (by decide) q2959 (v := .int (iI ((scB s : Int)))) (congrArg (fun z => some (Value.int (iI z))) (hRd.2.2.2.1.1)) dX10_isKey_20 ?_
    refine h_isub hx hb dX10_isKey_23 ?_
    refine lv_aload_n hx hb dX10_isKey_24 rfl (lv_at hl 1 rfl) ?_
    -- call java/lang/String.length
    refine h_kIp (h_runV X hR (s_length l G w sw K hK) pn_yJ10_length (hK.c) q2724 q373 q374 q132 q375 ⟨by decide, by decide⟩ hl.1 (Nat.le_of_ble_eq_true rfl) dX10_isKey_25 ⟨by omega, by omega⟩) hL (fun H locs hR hL => ?_)
    refine h_icmp_eq hx hb 33 dX10_isKey_28 (by decide) (by omega) (by omega) (fun c_l => ?_) (fun c_l => ?_)
    ·
      refine h_iconst hx hb dX10_isKey_33 ?_
      refine lv_istore_n (lv' := [(2, .int (iI (0))), (0, .ref a), (1, .ref sw)]) hx hb dX10_isKey_34 rfl hl (by decide) rfl (fun ls hl => ?_)
      have LOOP_5 : ∀ (N_ : Nat) (i : Nat), (i ≤ K.length) → (∀ j, j < i → bat T (scB s + j) = K.getD j 0) → (K.length - i) < N_ → ∀ (H : Heap) (locs : List Loc) (ls : Array Slot), Rp G w H → LK G locs → lv_has ls 3 [(0, .ref a), (1, .ref sw), (2, .int (iI ((i : Int))))] → W p9 l e9 (rmk 5 0 0) s9 m9 a9 b9 meth9 c9 H locs 0 0 (MQ b9 (QI G (fun z_ w_ => z_ = b2i (kyB T (.inr s) K = true) ∧ w_ = w)) a9 s9 0 0 (frG G)) (F0 m9 35 ls []) := by
        intro N_
        induction N_ with
        | zero => intro _ _ _ h_; exact absurd h_ (Nat.not_lt_zero _)
        | succ N_ ih_ =>
          intro i hi heq hN_ H locs ls hR hL hl
          have ih_5 := ih_
          clear ih_
          refine lv_iload_n hx hb dX10_isKey_35 rfl (lv_at hl 2 rfl) ?_
          refine lv_aload_n hx hb dX10_isKey_36 rfl (lv_at hl 1 rfl) ?_
          -- call java/lang/String.length
          refine h_kIp (h_runV X hR (s_length l G w sw K hK) pn_yJ10_length (hK.c) q2724 q373 q374 q132 q375 ⟨by decide, by decide⟩ hl.1 (Nat.le_of_ble_eq_true rfl) dX10_isKey_37 ⟨by omega, by omega⟩) hL (fun H locs hR hL => ?_)
          refine h_icmp_ge hx hb 70 dX10_isKey_40 (by decide) (by omega) (by omega) (fun c_i => ?_) (fun c_i => ?_)
          ·
            refine h_iconst hx hb dX10_isKey_70 ?_
            exact h_ireturn hx hb hlk hret hR hL (nar01 (by omega)) ⟨(b2i_t (kyB_1.mpr ⟨by omega, by omega, fun j hj => heq j (by omega)⟩)).symm, rfl⟩ (by omega) (by omega) rfl rfl dX10_isKey_71
          ·
            refine lv_aload_n hx hb dX10_isKey_43 rfl (lv_at hl 0 rfl) ?_
            refine tw_get X hR hT 14 (by decide) q2955 rfl dX10_isKey_44 ?_
            refine lv_aload_n hx hb dX10_isKey_47 rfl (lv_at hl 0 rfl) ?_
            refine tw_get X hR hT 18 (by decide) q2959 (v := .int (iI ((scB s : Int)))) (congrArg (fun z => some (Value.int (iI z))) (hRd.2.2.2.1.1)) dX10_isKey_48 ?_
            refine lv_iload_n hx hb dX10_isKey_51 rfl (lv_at hl 2 rfl) ?_
            refine h_iadd hx hb dX10_isKey_52 ?_
            refine tw_iald X hR hT (k := 14) (by decide) (scB s + i) (by omega) (by show _ < _; simp only [twN]; omega) (v := bat T (scB s + i)) (hRd.1.bt (by omega)) dX10_isKey_53 (fun ra_53 => ?_)
            have hbr := bat_r hRd.1.2.1 (scB s + i)
            refine lv_aload_n hx hb dX10_isKey_54 rfl (lv_at hl 1 rfl) ?_
            refine lv_iload_n hx hb dX10_isKey_55 rfl (lv_at hl 2 rfl) ?_
            -- call java/lang/String.charAt
            refine h_kIp (h_runV X hR (s_charAt l G w sw K hK i (by omega)) pn_yJ10_charAt (hK.c) q2725 q1459 q1460 q132 q1461 ⟨by decide, by decide⟩ hl.1 (Nat.le_of_ble_eq_true rfl) dX10_isKey_56 ⟨by omega, by omega⟩) hL (fun H locs hR hL => ?_)
            have hkr := hK.at (j := i) (by omega)
            refine h_icmp_eq hx hb 64 dX10_isKey_59 (by decide) (by omega) (by omega) (fun c_e => ?_) (fun c_e => ?_)
            ·
              refine h_iinc (lv' := [(2, .int (iI ((i : Int) + 1))), (0, .ref a), (1, .ref sw)]) hx hb dX10_isKey_64 hl (k := 2) rfl (by decide) rfl (fun ls hl => ?_)
              refine lv_goto (tgt := 35) hx hb dX10_isKey_67 (by decide) ?_
              exact ih_5 (i + 1) (by omega) (fun j hj => by by_cases q : j = i; (rw [q]; exact c_e); exact heq j (by omega)) (by omega) _ _ _ hR hL (lv_sub hl [1, 2, 0] rfl)
            ·
              refine h_iconst hx hb dX10_isKey_62 ?_
              exact h_ireturn hx hb hlk hret hR hL (nar01 (by omega)) ⟨(b2i_f (fun q => by obtain ⟨q1, q2, q3⟩ := kyB_1.mp q; exact c_e (q3 i (by omega)))).symm, rfl⟩ (by omega) (by omega) rfl rfl dX10_isKey_63
      exact LOOP_5 _ 0 (by omega) (fun j hj => absurd hj (Nat.not_lt_zero _)) (Nat.lt_succ_self _) _ _ _ hR hL (lv_sub hl [1, 2, 0] rfl)
    ·
      refine h_iconst hx hb dX10_isKey_31 ?_
      exact h_ireturn hx hb hlk hret hR hL (nar01 (by omega)) ⟨(b2i_f (fun q => by obtain ⟨q1, q2, q3⟩ := kyB_1.mp q; omega)).symm, rfl⟩ (by omega) (by omega) rfl rfl dX10_isKey_32

set_option maxHeartbeats 4000000 in
set_option maxRecDepth 100000 in
/-- isKey -/
theorem m_isKeyE (l : Launch) (G : Gl) (w : Wd) (a : Nat) (ad : Nat → Nat) (t : Tw) (hT : TwAt G w a ad t)  (T : List Int) (x : Nat × Int) (sw : Nat) (K : List Int) (hRd : RdAt t T (.inl x)) (hK : StrAt G w sw K) : HM l yX10_isKey cX10_isKey 3 (some .boolean) 5 0 0 G [.ref a, .ref sw] w (QI G (fun z_ w_ => z_ = b2i (kyB T (.inl x) K = true) ∧ w_ = w)) := by
  refine HM.mk (by decide +kernel) (Nat.le_of_ble_eq_true rfl) ?_
  intro p9 e9 s9 m9 a9 b9 meth9 c9 ls X hret hlk hnm hl H hR
  have hx := X.1.1
  have hb := X.1.2.1
  have hl : lv_has ls 3 [(0, .ref a), (1, .ref sw)] := hl
  have hL : LK G [] := fun q h => absurd h List.not_mem_nil
  generalize ([] : List Loc) = locs at hL ⊢
  have hTb := hT
  have hT : TwS G w w a ad t := TwS.rf hT
  have hT8 := hRd.1.2.1.1
  have hxr : R32 x.2 := by have := hTb.ri 21 (by decide) (by decide); rwa [hRd.2.1] at this
  have hx0 := hRd.2.2.2.1
  have hx17 := hRd.2.2.2.2.1
  have hx18 := hRd.2.2.2.2.2
  refine lv_aload_n hx hb dX10_isKey_0 rfl (lv_at hl 0 rfl) ?_
  refine tw_get X hR hT 21 (by decide) q2962 (v := .int (iI (x.2))) (congrArg (fun z => some (Value.int (iI z))) (hRd.2.1)) dX10_isKey_1 ?_
  refine h_if_ne hx hb 31 dX10_isKey_4 (by decide) (by omega) (fun c_w => ?_) (fun c_w => ?_)
  ·
    refine h_iconst hx hb dX10_isKey_31 ?_
    exact h_ireturn hx hb hlk hret hR hL (nar01 (by omega)) ⟨(b2i_f kyB_0).symm, rfl⟩ (by omega) (by omega) rfl rfl dX10_isKey_32
  ·
    exact absurd (by assumption) hx0

theorem m_isKey (l : Launch) (G : Gl) (w : Wd) (a : Nat) (ad : Nat → Nat) (t : Tw) (hT : TwAt G w a ad t)  (T : List Int) (e : Rd) (sw : Nat) (K : List Int) (hRd : RdAt t T e) (hK : StrAt G w sw K) : HM l yX10_isKey cX10_isKey 3 (some .boolean) 5 0 0 G [.ref a, .ref sw] w (QI G (fun z_ w_ => z_ = b2i (kyB T e K = true) ∧ w_ = w)) := by
  cases e with
  | inl x => exact m_isKeyE l G w a ad t hT T x sw K hRd hK
  | inr s => exact m_isKeyS l G w a ad t hT T s sw K hRd hK

set_option maxHeartbeats 4000000 in
set_option maxRecDepth 100000 in
/-- orderHere -/
theorem m_orderHere (l : Launch) (G : Gl) (w : Wd) (a : Nat) (ad : Nat → Nat) (t : Tw) (hT : TwAt G w a ad t)  (T : List Int) (e : Rd) (hRd : RdAt t T e) : HM l yX10_orderHere cX10_orderHere 1 (some .int) 6 0 0 G [.ref a] w (QI G (fun z_ w_ => z_ = ordK T e ∧ w_ = w)) := by
  refine HM.mk (by decide +kernel) (Nat.le_of_ble_eq_true rfl) ?_
  intro p9 e9 s9 m9 a9 b9 meth9 c9 ls X hret hlk hnm hl H hR
  have hx := X.1.1
  have hb := X.1.2.1
  have hl : lv_has ls 1 [(0, .ref a)] := hl
  have hL : LK G [] := fun q h => absurd h List.not_mem_nil
  generalize ([] : List Loc) = locs at hL ⊢
  have hTb := hT
  have hT : TwS G w w a ad t := TwS.rf hT
  refine lv_aload_n hx hb dX10_orderHere_0 rfl (lv_at hl 0 rfl) ?_
  refine h_ldcSw X 25 rfl q2784 dX10_orderHere_1 ?_
  -- call SpokenMarksModel.isKey
  refine h_kIp (h_runV X hR (m_isKey l G w a ad t hT.1 T e (gC G 25) (kkTx 25) hRd (StrAt.con hR X.2 25 (by decide) (by decide) (by decide))) pn_yX10_isKey (hasC.of hT.1.ob rfl) q2768 q2770 qs39 q161 q2771 ⟨by decide, by decide⟩ hl.1 (Nat.le_of_ble_eq_true rfl) dX10_orderHere_4 ⟨by omega, by omega⟩) hL (fun H locs hR hL => ?_)
  refine h_if_eq hx hb 12 dX10_orderHere_7 (by decide) (b2i_R _) (fun c_0 => ?_) (fun c_0 => ?_)
  ·
    have d_0 := b2i_0.mp c_0
    refine lv_aload_n hx hb dX10_orderHere_12 rfl (lv_at hl 0 rfl) ?_
    refine h_ldcSw X 26 rfl q2891 dX10_orderHere_13 ?_
    -- call SpokenMarksModel.isKey
    refine h_kIp (h_runV X hR (m_isKey l G w a ad t hT.1 T e (gC G 26) (kkTx 26) hRd (StrAt.con hR X.2 26 (by decide) (by decide) (by decide))) pn_yX10_isKey (hasC.of hT.1.ob rfl) q2768 q2770 qs39 q161 q2771 ⟨by decide, by decide⟩ hl.1 (Nat.le_of_ble_eq_true rfl) dX10_orderHere_16 ⟨by omega, by omega⟩) hL (fun H locs hR hL => ?_)
    refine h_if_eq hx hb 24 dX10_orderHere_19 (by decide) (b2i_R _) (fun c_1 => ?_) (fun c_1 => ?_)
    ·
      have d_1 := b2i_0.mp c_1
      refine lv_aload_n hx hb dX10_orderHere_24 rfl (lv_at hl 0 rfl) ?_
      refine h_ldcSw X 27 rfl q3323 dX10_orderHere_25 ?_
      -- call SpokenMarksModel.isKey
      refine h_kIp (h_runV X hR (m_isKey l G w a ad t hT.1 T e (gC G 27) (kkTx 27) hRd (StrAt.con hR X.2 27 (by decide) (by decide) (by decide))) pn_yX10_isKey (hasC.of hT.1.ob rfl) q2768 q2770 qs39 q161 q2771 ⟨by decide, by decide⟩ hl.1 (Nat.le_of_ble_eq_true rfl) dX10_orderHere_28 ⟨by omega, by omega⟩) hL (fun H locs hR hL => ?_)
      refine h_if_eq hx hb 36 dX10_orderHere_31 (by decide) (b2i_R _) (fun c_2 => ?_) (fun c_2 => ?_)
      ·
        have d_2 := b2i_0.mp c_2
        refine lv_aload_n hx hb dX10_orderHere_36 rfl (lv_at hl 0 rfl) ?_
        refine h_ldcSw X 28 rfl q3324 dX10_orderHere_37 ?_
        -- call SpokenMarksModel.isKey
        refine h_kIp (h_runV X hR (m_isKey l G w a ad t hT.1 T e (gC G 28) (kkTx 28) hRd (StrAt.con hR X.2 28 (by decide) (by decide) (by decide))) pn_yX10_isKey (hasC.of hT.1.ob rfl) q2768 q2770 qs39 q161 q2771 ⟨by decide, by decide⟩ hl.1 (Nat.le_of_ble_eq_true rfl) dX10_orderHere_40 ⟨by omega, by omega⟩) hL (fun H locs hR hL => ?_)
        refine h_if_eq hx hb 48 dX10_orderHere_43 (by decide) (b2i_R _) (fun c_3 => ?_) (fun c_3 => ?_)
        ·
          have d_3 := b2i_0.mp c_3
          refine lv_aload_n hx hb dX10_orderHere_48 rfl (lv_at hl 0 rfl) ?_
          refine h_ldcSw X 29 rfl q3325 dX10_orderHere_49 ?_
          -- call SpokenMarksModel.isKey
          refine h_kIp (h_runV X hR (m_isKey l G w a ad t hT.1 T e (gC G 29) (kkTx 29) hRd (StrAt.con hR X.2 29 (by decide) (by decide) (by decide))) pn_yX10_isKey (hasC.of hT.1.ob rfl) q2768 q2770 qs39 q161 q2771 ⟨by decide, by decide⟩ hl.1 (Nat.le_of_ble_eq_true rfl) dX10_orderHere_52 ⟨by omega, by omega⟩) hL (fun H locs hR hL => ?_)
          refine h_if_eq hx hb 60 dX10_orderHere_55 (by decide) (b2i_R _) (fun c_4 => ?_) (fun c_4 => ?_)
          ·
            have d_4 := b2i_0.mp c_4
            refine lv_aload_n hx hb dX10_orderHere_60 rfl (lv_at hl 0 rfl) ?_
            refine h_ldcSw X 30 rfl q3326 dX10_orderHere_61 ?_
            -- call SpokenMarksModel.isKey
            refine h_kIp (h_runV X hR (m_isKey l G w a ad t hT.1 T e (gC G 30) (kkTx 30) hRd (StrAt.con hR X.2 30 (by decide) (by decide) (by decide))) pn_yX10_isKey (hasC.of hT.1.ob rfl) q2768 q2770 qs39 q161 q2771 ⟨by decide, by decide⟩ hl.1 (Nat.le_of_ble_eq_true rfl) dX10_orderHere_64 ⟨by omega, by omega⟩) hL (fun H locs hR hL => ?_)
            refine h_if_eq hx hb 72 dX10_orderHere_67 (by decide) (b2i_R _) (fun c_5 => ?_) (fun c_5 => ?_)
            ·
              have d_5 := b2i_0.mp c_5
              refine lv_aload_n hx hb dX10_orderHere_72 rfl (lv_at hl 0 rfl) ?_
              refine h_ldcSw X 31 rfl q3327 dX10_orderHere_73 ?_
              -- call SpokenMarksModel.isKey
              refine h_kIp (h_runV X hR (m_isKey l G w a ad t hT.1 T e (gC G 31) (kkTx 31) hRd (StrAt.con hR X.2 31 (by decide) (by decide) (by decide))) pn_yX10_isKey (hasC.of hT.1.ob rfl) q2768 q2770 qs39 q161 q2771 ⟨by decide, by decide⟩ hl.1 (Nat.le_of_ble_eq_true rfl) dX10_orderHere_76 ⟨by omega, by omega⟩) hL (fun H locs hR hL => ?_)
              refine h_if_eq hx hb 85 dX10_orderHere_79 (by decide) (b2i_R _) (fun c_6 => ?_) (fun c_6 => ?_)
              ·
                have d_6 := b2i_0.mp c_6
                refine lv_aload_n hx hb dX10_orderHere_85 rfl (lv_at hl 0 rfl) ?_
                refine h_ldcSw X 32 rfl q3328 dX10_orderHere_86 ?_
                -- call SpokenMarksModel.isKey
                refine h_kIp (h_runV X hR (m_isKey l G w a ad t hT.1 T e (gC G 32) (kkTx 32) hRd (StrAt.con hR X.2 32 (by decide) (by decide) (by decide))) pn_yX10_isKey (hasC.of hT.1.ob rfl) q2768 q2770 qs39 q161 q2771 ⟨by decide, by decide⟩ hl.1 (Nat.le_of_ble_eq_true rfl) dX10_orderHere_89 ⟨by omega, by omega⟩) hL (fun H locs hR hL => ?_)
                refine h_if_eq hx hb 100 dX10_orderHere_92 (by decide) (b2i_R _) (fun c_7 => ?_) (fun c_7 => ?_)
                ·
                  have d_7 := b2i_0.mp c_7
                  refine h_iconst hx hb dX10_orderHere_100 ?_
                  exact h_ireturn hx hb hlk hret hR hL rfl ⟨(by unfold ordK; rw [if_neg d_0, if_neg d_1, if_neg d_2, if_neg d_3, if_neg d_4, if_neg d_5, if_neg d_6, if_neg d_7]), rfl⟩ (by omega) (by omega) rfl rfl dX10_orderHere_101
                ·
                  have d_7 := b2i_n1.mp c_7
                  refine h_bipush hx hb dX10_orderHere_95 (by decide) ?_
                  refine lv_goto (tgt := 101) hx hb dX10_orderHere_97 (by decide) ?_
                  exact h_ireturn hx hb hlk hret hR hL rfl ⟨(by unfold ordK; rw [if_neg d_0, if_neg d_1, if_neg d_2, if_neg d_3, if_neg d_4, if_neg d_5, if_neg d_6, if_pos d_7]), rfl⟩ (by omega) (by omega) rfl rfl dX10_orderHere_101
              ·
                have d_6 := b2i_n1.mp c_6
                refine h_bipush hx hb dX10_orderHere_82 (by decide) ?_
                exact h_ireturn hx hb hlk hret hR hL rfl ⟨(by unfold ordK; rw [if_neg d_0, if_neg d_1, if_neg d_2, if_neg d_3, if_neg d_4, if_neg d_5, if_pos d_6]), rfl⟩ (by omega) (by omega) rfl rfl dX10_orderHere_84
            ·
              have d_5 := b2i_n1.mp c_5
              refine h_iconst hx hb dX10_orderHere_70 ?_
              exact h_ireturn hx hb hlk hret hR hL rfl ⟨(by unfold ordK; rw [if_neg d_0, if_neg d_1, if_neg d_2, if_neg d_3, if_neg d_4, if_pos d_5]), rfl⟩ (by omega) (by omega) rfl rfl dX10_orderHere_71
          ·
            have d_4 := b2i_n1.mp c_4
            refine h_iconst hx hb dX10_orderHere_58 ?_
            exact h_ireturn hx hb hlk hret hR hL rfl ⟨(by unfold ordK; rw [if_neg d_0, if_neg d_1, if_neg d_2, if_neg d_3, if_pos d_4]), rfl⟩ (by omega) (by omega) rfl rfl dX10_orderHere_59
        ·
          have d_3 := b2i_n1.mp c_3
          refine h_iconst hx hb dX10_orderHere_46 ?_
          exact h_ireturn hx hb hlk hret hR hL rfl ⟨(by unfold ordK; rw [if_neg d_0, if_neg d_1, if_neg d_2, if_pos d_3]), rfl⟩ (by omega) (by omega) rfl rfl dX10_orderHere_47
      ·
        have d_2 := b2i_n1.mp c_2
        refine h_iconst hx hb dX10_orderHere_34 ?_
        exact h_ireturn hx hb hlk hret hR hL rfl ⟨(by unfold ordK; rw [if_neg d_0, if_neg d_1, if_pos d_2]), rfl⟩ (by omega) (by omega) rfl rfl dX10_orderHere_35
    ·
      have d_1 := b2i_n1.mp c_1
      refine h_iconst hx hb dX10_orderHere_22 ?_
      exact h_ireturn hx hb hlk hret hR hL rfl ⟨(by unfold ordK; rw [if_neg d_0, if_pos d_1]), rfl⟩ (by omega) (by omega) rfl rfl dX10_orderHere_23
  ·
    have d_0 := b2i_n1.mp c_0
    refine h_iconst hx hb dX10_orderHere_10 ?_
    exact h_ireturn hx hb hlk hret hR hL rfl ⟨(by unfold ordK; rw [if_pos d_0]), rfl⟩ (by omega) (by omega) rfl rfl dX10_orderHere_11
