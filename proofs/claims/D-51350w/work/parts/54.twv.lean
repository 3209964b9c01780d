/-! the twin: an order is done -/
set_option maxRecDepth 100000
/-- an order: kind, two numbers, parts, word, how it is spoken -/
abbrev Ord_ : Type := Int × Int × Int × List Prt × List Int × List Int
abbrev oK (o : Ord_) : Int := o.1
abbrev oA (o : Ord_) : Int := o.2.1
abbrev oB (o : Ord_) : Int := o.2.2.1
abbrev oP (o : Ord_) : List Prt := o.2.2.2.1
abbrev oW (o : Ord_) : List Int := o.2.2.2.2.1
abbrev oS (o : Ord_) : List Int := o.2.2.2.2.2
def OrdOk (o : Ord_) : Prop := (0 ≤ oK o ∧ oK o ≤ 7) ∧ (oK o = 0 → PrtsW (oP o) ∧ 1 ≤ oA o ∧ oA o ≤ 20) ∧ (oK o = 1 → (Wrd (oW o) ∧ oW o ≠ []) ∧ Wrd (oS o) ∧ oS o ≠ []) ∧ (2 ≤ oK o → oK o ≤ 5 → 0 ≤ oA o ∧ oA o ≤ 9999) ∧ (oK o = 4 → 1 ≤ oB o ∧ oB o ≤ 20) ∧ (oK o = 5 → 0 ≤ oB o ∧ oB o ≤ 10000)
def OrdAt (f : Nat → Int) (k : Nat) (o : Ord_) : Prop := f (9 * k) = oK o ∧ (oK o ≠ 1 → oK o ≤ 5 → f (9 * k + 1) = oA o) ∧ (oK o = 4 ∨ oK o = 5 → f (9 * k + 2) = oB o) ∧ (oK o = 0 → f (9 * k + 3) = ((oP o).length : Int) ∧ ∀ j, j < (oP o).length → f (9 * k + 4 + j) = encP ((oP o).getD j prt0)) ∧ (oK o = 1 → f (9 * k + 4) = enc (oW o) ∧ f (9 * k + 5) = enc (oS o))
/-- the numbers of all orders are ints -/
def CelR (f : Nat → Int) : Prop := ∀ k, R32 (f (9 * k + 1)) ∧ R32 (f (9 * k + 2))
def oDo (c : Cat) (o : Ord_) : Cat × Int := if oK o = 0 then adA c (oP o) (oA o) else if oK o = 1 then syA c (oW o) (oS o) else doA c (oK o) (oA o) (oB o)
theorem oDo_0 {c : Cat} {o : Ord_} (h : oK o = 0) : oDo c o = adA c (oP o) (oA o) := if_pos h
theorem oDo_1 {c : Cat} {o : Ord_} (h : oK o = 1) : oDo c o = syA c (oW o) (oS o) := (if_neg (by omega)).trans (if_pos h)
theorem doA_cg {c : Cat} {k x y x1 y1 : Int} (hk : 2 ≤ k ∧ k ≤ 7) (h1 : k ≤ 5 → x = x1) (h2 : k = 4 ∨ k = 5 → y = y1) : doA c k x y = doA c k x1 y1 := by
  unfold doA
  by_cases q2 : k = 2
  · rw [if_pos q2, if_pos q2, h1 (by omega)]
  by_cases q3 : k = 3
  · rw [if_neg q2, if_pos q3, if_neg q2, if_pos q3, h1 (by omega)]
  by_cases q4 : k = 4
  · rw [if_neg q2, if_neg q3, if_pos q4, if_neg q2, if_neg q3, if_pos q4, h1 (by omega), h2 (Or.inl q4)]
  by_cases q5 : k = 5
  · rw [if_neg q2, if_neg q3, if_neg q4, if_pos q5, if_neg q2, if_neg q3, if_neg q4, if_pos q5, h1 (by omega), h2 (Or.inr q5)]
  by_cases q6 : k = 6
  · rw [if_neg q2, if_neg q3, if_neg q4, if_neg q5, if_pos q6, if_neg q2, if_neg q3, if_neg q4, if_neg q5]
  rw [if_neg q2, if_neg q3, if_neg q4, if_neg q5, if_neg q6, if_neg q2, if_neg q3, if_neg q4, if_neg q5]
theorem oDo_2 {c : Cat} {o : Ord_} {f : Nat → Int} {k : Nat} (hO : OrdAt f k o) (hk : OrdOk o) (h0 : ¬ oK o = 0) (h1 : ¬ oK o = 1) : doA c (oK o) (f (9 * k + 1)) (f (9 * k + 2)) = oDo c o := by
  have := hk.1
  unfold oDo
  rw [if_neg h0, if_neg h1]
  exact doA_cg (by omega) (fun q => hO.2.1 h1 q) hO.2.2.1
theorem oDo_r {c : Cat} {o : Ord_} (h : CatS c) (ho : OrdOk o) : -9 ≤ (oDo c o).2 ∧ (oDo c o).2 < 1000000 := by
  unfold oDo
  split
  · have := adA_r (g := oP o) (w := oA o) h; omega
  split
  · have := syA_r (L := oW o) (M := oS o) h; omega
  · next q0 q1 => have := doA_r h (oK o) (oA o) (oB o) (fun q => by have := ho.2.2.2.1; omega); omega
theorem Ok.ord {c : Cat} {b : Int} {o : Ord_} (h : Ok b c) (hb : b < 990000) (ho : OrdOk o) : Ok (b + 41) (oDo c o).1 := by
  obtain ⟨h1, h2, h3, h4, h5, h6⟩ := ho
  unfold oDo
  split
  · next q => exact h.ad hb (h2 q).1 (h2 q).2
  split
  · next q => exact h.sy hb (h3 q).1 (h3 q).2
  · exact h.do hb (fun q => by omega) h5 h6
def ordS (s : Sys) (o : Ord_) : Sys := ((oDo (sC s) o).1, sU s, if (oDo (sC s) o).2 < 0 then sD s else sD s + 1, if (oDo (sC s) o).2 < 0 then sR s + 1 else sR s)
theorem SysOk.ord {b : Int} {s : Sys} {o : Ord_} (h : SysOk b s) (hb : b < 990000) (ho : OrdOk o) : SysOk (b + 41) (ordS s o) := by
  have h1 := h.2.2.1; have h2 := h.2.2.2
  refine ⟨h.1.ord hb ho, fun u hu => (h.2.1 u hu).mono (by omega), ?_, ?_⟩
  · by_cases q : (oDo (sC s) o).2 < 0
    · have e : sD (ordS s o) = sD s := if_pos q
      rw [e]; omega
    · have e : sD (ordS s o) = sD s + 1 := if_neg q
      rw [e]; omega
  · by_cases q : (oDo (sC s) o).2 < 0
    · have e : sR (ordS s o) = sR s + 1 := if_pos q
      rw [e]; omega
    · have e : sR (ordS s o) = sR s := if_neg q
      rw [e]; omega

theorem pn_yX10_doesNow : ParN yX10_doesNow 1 := by decide +kernel

set_option maxHeartbeats 4000000 in
set_option maxRecDepth 100000 in
/-- doesNow -/
theorem m_doesNow (l : Launch) (G : Gl) (w : Wd) (a : Nat) (ad : Nat → Nat) (t : Tw) (hT : TwAt G w a ad t)  (c0 : Cat) (k : Nat) (o : Ord_) (hC : RowIs (t.2 3) c0) (hO : OrdAt (t.2 28) k o) (ho : OrdOk o) (hcr : CelR (t.2 28)) (hk : k < 20) (hpd : PD (cMk c0)) (hac : ∀ k, k < 3 → cAc c0 k < 990000) (hnx : cNx c0 < 990000) : HM l yX10_doesNow cX10_doesNow 3 (some .int) 9 0 0 G [.ref a, .int (iI (((9 * k : Nat) : Int)))] w (QI G (fun z_ w_ => z_ = (oDo c0 o).2 ∧ ∃ t_ : Tw, TwS G w w_ a ad t_ ∧ TwE [1, 2, 3] t t_ ∧ RowIs (t_.2 3) (oDo c0 o).1)) := by
  refine HM.mk (by decide +kernel) (Nat.le_of_ble_eq_true rfl) ?_
  intro p9 e9 s9 m9 a9 b9 meth9 c9 ls X hret hlk hnm hl H hR
  have hx := X.1.1
  have hb := X.1.2.1
  have hl : lv_has ls 3 [(0, .ref a), (1, .int (iI (((9 * k : Nat) : Int))))] := hl
  have hL : LK G [] := fun q h => absurd h List.not_mem_nil
  generalize ([] : List Loc) = locs at hL ⊢
  have hTb := hT
  have hT : TwS G w w a ad t := TwS.rf hT
  have hn40 := hC.n40
  have hsh8 := hC.sh8
  have hk7 := ho.1
  have hA_ := ho.2.2.2.1
  refine lv_aload_n hx hb dX10_doesNow_0 rfl (lv_at hl 0 rfl) ?_
  refine tw_get X hR hT 28 (by decide) q2969 rfl dX10_doesNow_1 ?_
  refine lv_iload_n hx hb dX10_doesNow_4 rfl (lv_at hl 1 rfl) ?_
  refine tw_lald X hR hT (k := 28) (by decide) (9 * k) (by omega) (by show _ < _; simp only [twN]; omega) (v := oK o) hO.1 dX10_doesNow_5 (fun ra_5 => ?_)
  refine h_l2i hx hb dX10_doesNow_6 ?_
  refine lv_istore_n (lv' := [(2, .int (iI (oK o))), (0, .ref a), (1, .int (iI (((9 * k : Nat) : Int))))]) hx hb dX10_doesNow_7 rfl hl (by decide) rfl (fun ls hl => ?_)
  refine lv_iload_n hx hb dX10_doesNow_8 rfl (lv_at hl 0 rfl) ?_
  refine h_iconst hx hb dX10_doesNow_9 ?_
  refine h_icmp_ne hx hb 34 dX10_doesNow_10 (by decide) (by omega) (by omega) (fun c_1 => ?_) (fun c_1 => ?_)
  ·
    refine lv_iload_n hx hb dX10_doesNow_34 rfl (lv_at hl 0 rfl) ?_
    refine h_if_eq hx hb 62 dX10_doesNow_35 (by decide) (by omega) (fun c_0 => ?_) (fun c_0 => ?_)
    ·
      refine lv_aload_n hx hb dX10_doesNow_62 rfl (lv_at hl 1 rfl) ?_
      refine lv_aload_n hx hb dX10_doesNow_63 rfl (lv_at hl 1 rfl) ?_
      refine tw_get X hR hT 28 (by decide) q2969 rfl dX10_doesNow_64 ?_
      refine lv_iload_n hx hb dX10_doesNow_67 rfl (lv_at hl 2 rfl) ?_
      refine h_iconst hx hb dX10_doesNow_68 ?_
      refine h_iadd hx hb dX10_doesNow_69 ?_
      refine lv_aload_n hx hb dX10_doesNow_70 rfl (lv_at hl 1 rfl) ?_
      refine tw_get X hR hT 28 (by decide) q2969 rfl dX10_doesNow_71 ?_
      refine lv_iload_n hx hb dX10_doesNow_74 rfl (lv_at hl 2 rfl) ?_
      refine h_iconst hx hb dX10_doesNow_75 ?_
      refine h_iadd hx hb dX10_doesNow_76 ?_
      refine tw_lald X hR hT (k := 28) (by decide) (9 * k + 3) (by omega) (by show _ < _; simp only [twN]; omega) (v := ((oP o).length : Int)) (hO.2.2.2.1 c_0).1 dX10_doesNow_77 (fun ra_77 => ?_)
      refine h_l2i hx hb dX10_doesNow_78 ?_
      refine W.eq (g2 := F0 m9 79 ls [.int (iI (((oP o).length : Int))), .int (iI (((9 * k + 4 : Nat) : Int))), .ref (ad 28), .ref a]) (congrArg (fun z_ : Int => F0 m9 79 ls [.int (iI (((oP o).length : Int))), .int (iI (z_)), .ref (ad 28), .ref a]) (show (((9 * k : Nat) : Int) + 4 : Int) = ((9 * k + 4 : Nat) : Int) from (by omega))) ?_
      -- call SpokenMarksModel.laysGuest
      refine h_kV (h_runV X hR (m_laysGuest28 l G w a ad t hT.1 (9 * k + 4) (cRl c0) (oP o) (by have := (ho.2.1 c_0).1.2.1; show _ ≤ _; simp only [twN]; omega) hC.rl (ho.2.1 c_0).1 (hO.2.2.2.1 c_0).2) pn_yX10_laysGuest (hasC.of hT.1.ob rfl) q2905 q2907 qs69 q161 q2908 ⟨by decide, by decide⟩ hl.1 (Nat.le_of_ble_eq_true rfl) dX10_doesNow_79 ⟨by omega, by omega⟩) hL (fun w_2 hp_3 H locs hR hL => ?_)
      obtain ⟨t_4, hT2, hE_t_4, et_5⟩ := hp_3
      have hT := hT.tr hT2
      clear hT2
      have hr3 : ∀ i, i < 592 → t_4.2 3 i = t.2 3 i := et_5.2
      have hG := et_5.1
      have hC2 : RowIs (t_4.2 3) c0 := hC.mv (fun i hi => hr3 i (by have := hC.n40; omega))
      refine lv_aload_n hx hb dX10_doesNow_82 rfl (lv_at hl 1 rfl) ?_
      refine lv_aload_n hx hb dX10_doesNow_83 rfl (lv_at hl 1 rfl) ?_
      refine tw_get X hR hT 28 (by decide) q2969 rfl dX10_doesNow_84 ?_
      refine lv_iload_n hx hb dX10_doesNow_87 rfl (lv_at hl 2 rfl) ?_
      refine h_iconst hx hb dX10_doesNow_88 ?_
      refine h_iadd hx hb dX10_doesNow_89 ?_
      refine tw_lald X hR hT (k := 28) (by decide) (9 * k + 1) (by omega) (by show _ < _; simp only [twN]; omega) (v := oA o) ((congrFun ((hE_t_4 28 (by decide)).2) (9 * k + 1)).trans ((hO.2.1 c_1 (by omega)))) dX10_doesNow_90 (fun ra_90 => ?_)
      refine h_l2i hx hb dX10_doesNow_91 ?_
      -- call SpokenMarksModel.adds
      refine h_kI (h_runV X hR (m_adds l G w_2 a ad t_4 hT.1 (oA o) c0 (oP o) hC2 hG (ho.2.1 c_0).1 (ho.2.1 c_0).2 hac hnx) pn_yX10_adds (hasC.of hT.1.ob rfl) q3238 q3240 qs101 q161 q3241 ⟨by decide, by decide⟩ hl.1 (Nat.le_of_ble_eq_true rfl) dX10_doesNow_92 ⟨by omega, by omega⟩) hL (fun z_6 w_7 hp_8 H locs hR hL => ?_)
      obtain ⟨rfl, t_9, hT2, hE_t_9, et_10⟩ := hp_8
      have hT := hT.tr hT2
      clear hT2
      exact h_ireturn hx hb hlk hret hR hL rfl ⟨(by rw [oDo_0 c_0]), ⟨t_9, hT, (TwE.tr (S2 := [1, 2, 3]) (TwE.tr (S2 := [1, 2, 3]) (TwE.rf : TwE [] t t) hE_t_4 rfl rfl) hE_t_9 rfl rfl), (by rw [oDo_0 c_0]; exact et_10)⟩⟩ (by omega) (by omega) rfl rfl dX10_doesNow_95
    ·
      refine lv_aload_n hx hb dX10_doesNow_38 rfl (lv_at hl 1 rfl) ?_
      refine lv_iload_n hx hb dX10_doesNow_39 rfl (lv_at hl 0 rfl) ?_
      refine lv_aload_n hx hb dX10_doesNow_40 rfl (lv_at hl 1 rfl) ?_
      refine tw_get X hR hT 28 (by decide) q2969 rfl dX10_doesNow_41 ?_
      refine lv_iload_n hx hb dX10_doesNow_44 rfl (lv_at hl 2 rfl) ?_
      refine h_iconst hx hb dX10_doesNow_45 ?_
      refine h_iadd hx hb dX10_doesNow_46 ?_
      refine tw_lald X hR hT (k := 28) (by decide) (9 * k + 1) (by omega) (by show _ < _; simp only [twN]; omega) (v := t.2 28 (9 * k + 1)) rfl dX10_doesNow_47 (fun ra_47 => ?_)
      refine h_l2i hx hb dX10_doesNow_48 ?_
      refine lv_aload_n hx hb dX10_doesNow_49 rfl (lv_at hl 1 rfl) ?_
      refine tw_get X hR hT 28 (by decide) q2969 rfl dX10_doesNow_50 ?_
      refine lv_iload_n hx hb dX10_doesNow_53 rfl (lv_at hl 2 rfl) ?_
      refine h_iconst hx hb dX10_doesNow_54 ?_
      refine h_iadd hx hb dX10_doesNow_55 ?_
      refine tw_lald X hR hT (k := 28) (by decide) ((9 * k) + 2) (by omega) (by show _ < _; simp only [twN]; omega) (v := t.2 28 ((9 * k) + 2)) rfl dX10_doesNow_56 (fun ra_56 => ?_)
      refine h_l2i hx hb dX10_doesNow_57 ?_
      -- call SpokenMarksModel.does
      refine h_kI (h_runV X hR (m_does l G w a ad t hT.1 (oK o) (t.2 28 (9 * k + 1)) (t.2 28 ((9 * k) + 2)) c0 hC (by omega) (hcr k).1 (hcr k).2 (fun q => by rw [hO.2.1 c_1 (by omega)]; omega) (fun q => by rw [hO.2.2.1 (Or.inl q)]; exact ho.2.2.2.2.1 q) hpd hac) pn_yX10_does (hasC.of hT.1.ob rfl) q3258 q3260 qs105 q161 q3261 ⟨by decide, by decide⟩ hl.1 (Nat.le_of_ble_eq_true rfl) dX10_doesNow_58 ⟨by omega, by omega⟩) hL (fun z_11 w_12 hp_13 H locs hR hL => ?_)
      obtain ⟨rfl, t_14, hT2, hE_t_14, et_15⟩ := hp_13
      have hT := hT.tr hT2
      clear hT2
      exact h_ireturn hx hb hlk hret hR hL rfl ⟨(by rw [← oDo_2 (c := c0) hO ho c_0 c_1]), ⟨t_14, hT, (TwE.tr (S2 := [1, 2, 3]) (TwE.rf : TwE [] t t) hE_t_14 rfl rfl), (by rw [← oDo_2 (c := c0) hO ho c_0 c_1]; exact et_15)⟩⟩ (by omega) (by omega) rfl rfl dX10_doesNow_61
  ·
    refine lv_aload_n hx hb dX10_doesNow_13 rfl (lv_at hl 1 rfl) ?_
    refine lv_aload_n hx hb dX10_doesNow_14 rfl (lv_at hl 1 rfl) ?_
    refine tw_get X hR hT 28 (by decide) q2969 rfl dX10_doesNow_15 ?_
    refine lv_iload_n hx hb dX10_doesNow_18 rfl (lv_at hl 2 rfl) ?_
    refine h_iconst hx hb dX10_doesNow_19 ?_
    refine h_iadd hx hb dX10_doesNow_20 ?_
    refine tw_lald X hR hT (k := 28) (by decide) (9 * k + 4) (by omega) (by show _ < _; simp only [twN]; omega) (v := enc (oW o)) (hO.2.2.2.2 c_1).1 dX10_doesNow_21 (fun ra_21 => ?_)
    refine lv_aload_n hx hb dX10_doesNow_22 rfl (lv_at hl 1 rfl) ?_
    refine tw_get X hR hT 28 (by decide) q2969 rfl dX10_doesNow_23 ?_
    refine lv_iload_n hx hb dX10_doesNow_26 rfl (lv_at hl 2 rfl) ?_
    refine h_iconst hx hb dX10_doesNow_27 ?_
    refine h_iadd hx hb dX10_doesNow_28 ?_
    refine tw_lald X hR hT (k := 28) (by decide) (9 * k + 5) (by omega) (by show _ < _; simp only [twN]; omega) (v := enc (oS o)) (hO.2.2.2.2 c_1).2 dX10_doesNow_29 (fun ra_29 => ?_)
    -- call SpokenMarksModel.says
    refine h_kI (h_runV X hR (m_says l G w a ad t hT.1 c0 (oW o) (oS o) hC (ho.2.2.1 c_1).1 (ho.2.2.1 c_1).2 hpd hac) pn_yX10_says (hasC.of hT.1.ob rfl) q2815 q2817 qs50 q161 q2818 ⟨by decide, by decide⟩ hl.1 (Nat.le_of_ble_eq_true rfl) dX10_doesNow_30 ⟨by omega, by omega⟩) hL (fun z_16 w_17 hp_18 H locs hR hL => ?_)
    obtain ⟨rfl, t_19, hT2, hE_t_19, et_20⟩ := hp_18
    have hT := hT.tr hT2
    clear hT2
    exact h_ireturn hx hb hlk hret hR hL rfl ⟨(by rw [oDo_1 c_1]), ⟨t_19, hT, (TwE.tr (S2 := [1, 2, 3]) (TwE.rf : TwE [] t t) hE_t_19 rfl rfl), (by rw [oDo_1 c_1]; exact et_20)⟩⟩ (by omega) (by omega) rfl rfl dX10_doesNow_33

set_option maxHeartbeats 4000000 in
set_option maxRecDepth 100000 in
/-- isDoneNow -/
theorem m_isDoneNow (l : Launch) (G : Gl) (w : Wd) (a : Nat) (ad : Nat → Nat) (t : Tw) (hT : TwAt G w a ad t)  (s : Sys) (k : Nat) (o : Ord_) (hS : SysIs t s) (hO : OrdAt (t.2 28) k o) (ho : OrdOk o) (hcr : CelR (t.2 28)) (hk : k < 20) (hpd : PD (cMk (sC s))) (hac : ∀ k, k < 3 → cAc (sC s) k < 990000) (hnx : cNx (sC s) < 990000) (hb9 : 0 ≤ sD s ∧ sD s < 1000000) (hb10 : 0 ≤ sR s ∧ sR s < 1000000) : HM l yX10_isDoneNow cX10_isDoneNow 3 (some .boolean) 10 0 0 G [.ref a, .int (iI (((9 * k : Nat) : Int)))] w (QI G (fun z_ w_ => z_ = b2i (0 ≤ (oDo (sC s) o).2) ∧ ∃ t_ : Tw, TwS G w w_ a ad t_ ∧ TwE [1, 2, 3, 9, 10] t t_ ∧ SysIs t_ (ordS s o))) := by
  refine HM.mk (by decide +kernel) (Nat.le_of_ble_eq_true rfl) ?_
  intro p9 e9 s9 m9 a9 b9 meth9 c9 ls X hret hlk hnm hl H hR
  have hx := X.1.1
  have hb := X.1.2.1
  have hl : lv_has ls 3 [(0, .ref a), (1, .int (iI (((9 * k : Nat) : Int))))] := hl
  have hL : LK G [] := fun q h => absurd h List.not_mem_nil
  generalize ([] : List Loc) = locs at hL ⊢
  have hTb := hT
  have hT : TwS G w w a ad t := TwS.rf hT
  refine lv_aload_n hx hb dX10_isDoneNow_0 rfl (lv_at hl 0 rfl) ?_
  refine lv_iload_n hx hb dX10_isDoneNow_1 rfl (lv_at hl 1 rfl) ?_
  -- call SpokenMarksModel.doesNow
  refine h_kI (h_runV X hR (m_doesNow l G w a ad t hT.1 (sC s) k o hS.C hO ho hcr hk hpd hac hnx) pn_yX10_doesNow (hasC.of hT.1.ob rfl) q3337 q3339 qs116 q161 q3340 ⟨by decide, by decide⟩ hl.1 (Nat.le_of_ble_eq_true rfl) dX10_isDoneNow_2 ⟨by omega, by omega⟩) hL (fun z_1 w_2 hp_3 H locs hR hL => ?_)
  obtain ⟨rfl, t_4, hT2, hE_t_4, et_5⟩ := hp_3
  have hT := hT.tr hT2
  clear hT2
  have hCn := et_5
  have hor := oDo_r (o := o) hS.C.s ho
  refine lv_istore_n (lv' := [(2, .int (iI ((oDo (sC s) o).2))), (0, .ref a), (1, .int (iI (((9 * k : Nat) : Int))))]) hx hb dX10_isDoneNow_5 rfl hl (by decide) rfl (fun ls hl => ?_)
  refine lv_iload_n hx hb dX10_isDoneNow_6 rfl (lv_at hl 0 rfl) ?_
  refine h_if_ge hx hb 23 dX10_isDoneNow_7 (by decide) (by omega) (fun c_z => ?_) (fun c_z => ?_)
  ·
    refine lv_aload_n hx hb dX10_isDoneNow_23 rfl (lv_at hl 1 rfl) ?_
    refine lv_dup hx hb dX10_isDoneNow_24 rfl ?_
    refine tw_get X hR hT 9 (by decide) q2950 (v := .int (iI (sD s))) (congrArg (fun z => some (Value.int (iI z))) (((hE_t_4 9 (by decide)).1).trans hS.2.2.1)) dX10_isDoneNow_25 ?_
    refine h_iconst hx hb dX10_isDoneNow_28 ?_
    refine h_iadd hx hb dX10_isDoneNow_29 ?_
    refine tw_puti X hR hL hT 9 (by decide) q2950 rfl rfl rfl twF_s9 (by omega) dX10_isDoneNow_30 (fun t_6 et_7 w_8 hT H locs hR hL => ?_)
    have hE_t_6 := TwE.put et_7
    have hv_t_6 := tput_v et_7
    refine lv_iload_n hx hb dX10_isDoneNow_33 rfl (lv_at hl 0 rfl) ?_
    refine h_if_lt hx hb 41 dX10_isDoneNow_34 (by decide) (by omega) (fun c_y => ?_) (fun c_y => ?_)
    ·
      exact absurd c_z (by omega)
    ·
      refine h_iconst hx hb dX10_isDoneNow_37 ?_
      refine lv_goto (tgt := 42) hx hb dX10_isDoneNow_38 (by decide) ?_
      exact h_ireturn hx hb hlk hret hR hL (nar01 (by omega)) ⟨(by rw [b2i_t (by omega)]), ⟨t_6, hT, (TwE.tr (S2 := [1, 2, 3, 9, 10]) (TwE.tr (S2 := [1, 2, 3, 9, 10]) (TwE.rf : TwE [] t t) hE_t_4 rfl rfl) hE_t_6 rfl rfl), (by unfold ordS; rw [if_neg (by omega), if_neg (by omega)]; exact ⟨by rw [(hE_t_6 3 (by decide)).2]; exact hCn, by rw [((hE_t_6 12 (by decide)).1).trans (hE_t_4 12 (by decide)).1, ((hE_t_6 8 (by decide)).2).trans (hE_t_4 8 (by decide)).2]; exact hS.2.1, hv_t_6, (((hE_t_6 10 (by decide)).1).trans (hE_t_4 10 (by decide)).1).trans hS.2.2.2⟩)⟩⟩ (by omega) (by omega) rfl rfl dX10_isDoneNow_42
  ·
    have c_z : (oDo (sC s) o).2 < 0 := by omega
    refine lv_aload_n hx hb dX10_isDoneNow_10 rfl (lv_at hl 1 rfl) ?_
    refine lv_dup hx hb dX10_isDoneNow_11 rfl ?_
    refine tw_get X hR hT 10 (by decide) q2951 (v := .int (iI (sR s))) (congrArg (fun z => some (Value.int (iI z))) (((hE_t_4 10 (by decide)).1).trans hS.2.2.2)) dX10_isDoneNow_12 ?_
    refine h_iconst hx hb dX10_isDoneNow_15 ?_
    refine h_iadd hx hb dX10_isDoneNow_16 ?_
    refine tw_puti X hR hL hT 10 (by decide) q2951 rfl rfl rfl twF_s10 (by omega) dX10_isDoneNow_17 (fun t_9 et_10 w_11 hT H locs hR hL => ?_)
    have hE_t_9 := TwE.put et_10
    have hv_t_9 := tput_v et_10
    refine lv_goto (tgt := 33) hx hb dX10_isDoneNow_20 (by decide) ?_
    refine lv_iload_n hx hb dX10_isDoneNow_33 rfl (lv_at hl 0 rfl) ?_
    refine h_if_lt hx hb 41 dX10_isDoneNow_34 (by decide) (by omega) (fun c_y => ?_) (fun c_y => ?_)
    ·
      refine h_iconst hx hb dX10_isDoneNow_41 ?_
      exact h_ireturn hx hb hlk hret hR hL (nar01 (by omega)) ⟨(by rw [b2i_f (by omega)]), ⟨t_9, hT, (TwE.tr (S2 := [1, 2, 3, 9, 10]) (TwE.tr (S2 := [1, 2, 3, 9, 10]) (TwE.rf : TwE [] t t) hE_t_4 rfl rfl) hE_t_9 rfl rfl), (by unfold ordS; rw [if_pos c_z, if_pos c_z]; exact ⟨by rw [(hE_t_9 3 (by decide)).2]; exact hCn, by rw [((hE_t_9 12 (by decide)).1).trans (hE_t_4 12 (by decide)).1, ((hE_t_9 8 (by decide)).2).trans (hE_t_4 8 (by decide)).2]; exact hS.2.1, (((hE_t_9 9 (by decide)).1).trans (hE_t_4 9 (by decide)).1).trans hS.2.2.1, hv_t_9⟩)⟩⟩ (by omega) (by omega) rfl rfl dX10_isDoneNow_42
    ·
      exact absurd c_z (by omega)
