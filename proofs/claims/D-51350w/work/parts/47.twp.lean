/-! the twin: a guest is read -/
set_option maxRecDepth 100000
def rEnd (e : Rd) : Rd := match e with
  | .inl x => .inl x
  | .inr s => if scK s = 0 then .inr s else .inl (scB s, 1)
theorem RdAt.end0 {t : Tw} {T : List Int} {e : Rd} (h : RdAt t T e) (h0 : t.1 19 = 0) : rEnd e = e := by
  cases e with
  | inl x => rfl
  | inr s => exact if_pos (h.2.2.2.1.2.2.1.symm.trans h0)
theorem RdAt.end1 {t : Tw} {T : List Int} {e : Rd} (h : RdAt t T e) (h0 : ¬ t.1 19 = 0) : rErr 1 e = rEnd e := by
  cases e with
  | inl x => rfl
  | inr s => exact (if_neg (fun q => h0 (h.2.2.2.1.2.2.1.trans q))).symm
def rGuest (T : List Int) : Rd × List Prt := (rEnd (rParts T (.inr (tok T 0))).1, (rParts T (.inr (tok T 0))).2)
theorem rPart_ok {T : List Int} {e : Rd} {ps : List Prt} {s1 : Sc} (h : (rPart T e ps).1 = .inr s1) : (rPart T e ps).2.length = ps.length + 1 := by
  cases e with
  | inl x => cases h
  | inr s => exact rPart_len h
theorem rMore_len {T : List Int} (n : Nat) (q : Rd × List Prt) (hq : ∀ s, q.1 = .inr s → 1 ≤ q.2.length) : ∀ s, (rMore T n q).1 = .inr s → 1 ≤ (rMore T n q).2.length := by
  induction n generalizing q with
  | zero => exact hq
  | succ n ih =>
    by_cases hw : wrC q.1 = 0
    · cases hq1 : q.1 with
      | inl x =>
        intro s hs
        have e : rMore T (n + 1) q = q := by unfold rMore; rw [hq1]
        rw [e] at hs ⊢; exact hq s hs
      | inr s0 =>
        by_cases hk : scK s0 = 1 ∨ scK s0 = 2
        · rw [rMore_go hq1 hk (Nat.succ_pos n)]
          exact ih _ (fun s hs => by rw [rPart_ok hs]; omega)
        · rw [rMore_no hq1 hk]; exact hq
    · rw [rMore_end hw]; exact hq
theorem rParts_len {T : List Int} {e : Rd} {s : Sc} (h : (rParts T e).1 = .inr s) : 1 ≤ (rParts T e).2.length := rMore_len 6 _ (fun s hs => by rw [rPart_ok hs]; omega) s h
theorem rEnd_ok {e : Rd} (h : wrC (rEnd e) = 0) (h2 : ∀ x, e = .inl x → x.2 ≠ 0) : ∃ s, e = .inr s ∧ rEnd e = .inr s := by
  cases e with
  | inl x => exact absurd h (h2 x rfl)
  | inr s =>
    refine ⟨s, rfl, ?_⟩
    by_cases q : scK s = 0
    · exact if_pos q
    · have e : rEnd (.inr s) = .inl (scB s, 1) := if_neg q
      rw [e] at h; exact absurd h (show ¬ (1 : Int) = 0 by decide)
theorem RdAt.ne0 {t : Tw} {T : List Int} {e : Rd} (h : RdAt t T e) : ∀ x, e = .inl x → x.2 ≠ 0 := fun x hx => by subst hx; exact h.2.2.2.1

theorem pn_yX10_laysGuest : ParN yX10_laysGuest 3 := by decide +kernel
theorem pn_yX10_readsParts : ParN yX10_readsParts 0 := by decide +kernel
theorem pn_yX10_starts : ParN yX10_starts 1 := by decide +kernel

set_option maxHeartbeats 4000000 in
set_option maxRecDepth 100000 in
/-- readsGuest -/
theorem m_readsGuest (l : Launch) (G : Gl) (w : Wd) (a : Nat) (ad : Nat → Nat) (t : Tw) (hT : TwAt G w a ad t)  (T : List Int) (c0 : Cat) (hB : BfAt t T) (hC : RowIs (t.2 3) c0) : HM l yX10_readsGuest cX10_readsGuest 2 (some .boolean) 7 0 0 G [.ref a, .int (iI ((T.length : Int)))] w (QI G (fun z_ w_ => z_ = b2i (wrC (rGuest T).1 = 0) ∧ ∃ t_ : Tw, TwS G w w_ a ad t_ ∧ TwE [1, 2, 3, 15, 16, 17, 18, 19, 20, 21, 22, 23, 24] t t_ ∧ RdAt t_ T (rGuest T).1 ∧ t_.1 15 = 0 ∧ (∀ i, i < 592 → t_.2 3 i = t.2 3 i) ∧ (wrC (rGuest T).1 = 0 → SlotP (t_.2 3) 40 (cRl c0) (rGuest T).2 ∧ PrtsW (rGuest T).2))) := by
  refine HM.mk (by decide +kernel) (Nat.le_of_ble_eq_true rfl) ?_
  intro p9 e9 s9 m9 a9 b9 meth9 c9 ls X hret hlk hnm hl H hR
  have hx := X.1.1
  have hb := X.1.2.1
  have hl : lv_has ls 2 [(0, .ref a), (1, .int (iI ((T.length : Int))))] := hl
  have hL : LK G [] := fun q h => absurd h List.not_mem_nil
  generalize ([] : List Loc) = locs at hL ⊢
  have hTb := hT
  have hT : TwS G w w a ad t := TwS.rf hT
  refine lv_aload_n hx hb dX10_readsGuest_0 rfl (lv_at hl 0 rfl) ?_
  refine lv_iload_n hx hb dX10_readsGuest_1 rfl (lv_at hl 1 rfl) ?_
  -- call SpokenMarksModel.starts
  refine h_kV (h_runV X hR (m_starts l G w a ad t hT.1 T hB) pn_yX10_starts (hasC.of hT.1.ob rfl) q2740 q2742 qs34 q161 q2743 ⟨by decide, by decide⟩ hl.1 (Nat.le_of_ble_eq_true rfl) dX10_readsGuest_2 ⟨by omega, by omega⟩) hL (fun w_2 hp_3 H locs hR hL => ?_)
  obtain ⟨t_4, hT2, hE_t_4, et_5⟩ := hp_3
  have hT := hT.tr hT2
  clear hT2
  have h15 := et_5.2
  have hR0 := et_5.1
  refine lv_aload_n hx hb dX10_readsGuest_5 rfl (lv_at hl 0 rfl) ?_
  -- call SpokenMarksModel.readsParts
  refine h_kV (h_runV X hR (m_readsParts l G w_2 a ad t_4 hT.1 T (.inr (tok T 0)) hR0) pn_yX10_readsParts (hasC.of hT.1.ob rfl) q2896 q2898 qs67 q161 q2899 ⟨by decide, by decide⟩ hl.1 (Nat.le_of_ble_eq_true rfl) dX10_readsGuest_6 ⟨by omega, by omega⟩) hL (fun w_7 hp_8 H locs hR hL => ?_)
  obtain ⟨t_9, hT2, hE_t_9, et_10⟩ := hp_8
  have hT := hT.tr hT2
  clear hT2
  obtain ⟨q, hq⟩ : ∃ q_, q_ = rParts T (.inr (tok T 0)) := ⟨_, rfl⟩
  rw [← hq] at et_10
  have hRq := et_10.1
  have hPq := et_10.2
  have hp5 := hPq.2.1
  refine lv_aload_n hx hb dX10_readsGuest_9 rfl (lv_at hl 0 rfl) ?_
  refine tw_get X hR hT 19 (by decide) q2960 (v := .int (iI (t_9.1 19))) rfl dX10_readsGuest_10 ?_
  have rg_t_9_19 := hT.1.ri 19 (by decide) (by decide)
  refine h_if_eq hx hb 21 dX10_readsGuest_13 (by decide) (by omega) (fun c_k => ?_) (fun c_k => ?_)
  ·
    have hRz : RdAt t_9 T (rEnd q.1) := by rw [hRq.end0 c_k]; exact hRq
    have hrz : R32 (wrC (rEnd q.1)) := by have h_ := hT.1.ri 21 (by decide) (by decide); rwa [hRz.wr] at h_
    refine lv_aload_n hx hb dX10_readsGuest_21 rfl (lv_at hl 0 rfl) ?_
    refine tw_get X hR hT 21 (by decide) q2962 (v := .int (iI (wrC (rEnd q.1)))) (congrArg (fun z => some (Value.int (iI z))) (hRz.wr)) dX10_readsGuest_22 ?_
    refine h_if_ne hx hb 41 dX10_readsGuest_25 (by decide) (by omega) (fun c_w => ?_) (fun c_w => ?_)
    ·
      refine lv_aload_n hx hb dX10_readsGuest_41 rfl (lv_at hl 0 rfl) ?_
      refine tw_get X hR hT 21 (by decide) q2962 (v := .int (iI (wrC (rEnd q.1)))) (congrArg (fun z => some (Value.int (iI z))) (hRz.wr)) dX10_readsGuest_42 ?_
      refine h_if_ne hx hb 52 dX10_readsGuest_45 (by decide) (by omega) (fun c_z => ?_) (fun c_z => ?_)
      ·
        refine h_iconst hx hb dX10_readsGuest_52 ?_
        exact h_ireturn hx hb hlk hret hR hL (nar01 (by omega)) ⟨(by rw [rGuest, ← hq]; exact (b2i_f c_w).symm), ⟨t_9, hT, (TwE.tr (S2 := [1, 2, 3, 15, 16, 17, 18, 19, 20, 21, 22, 23, 24]) (TwE.tr (S2 := [1, 2, 3, 15, 16, 17, 18, 19, 20, 21, 22, 23, 24]) (TwE.rf : TwE [] t t) hE_t_4 rfl rfl) hE_t_9 rfl rfl), (by rw [rGuest, ← hq]; exact ⟨hRz, (((hE_t_9 15 (by decide)).1).trans h15), fun i hi => congrFun (((hE_t_9 3 (by decide)).2).trans (hE_t_4 3 (by decide)).2) i, fun h_ => absurd h_ c_w⟩)⟩⟩ (by omega) (by omega) rfl rfl dX10_readsGuest_53
      ·
        exact absurd c_z c_w
    ·
      obtain ⟨s1, hs1, hs2⟩ := rEnd_ok c_w hRq.ne0
      have hpw : PrtsW q.2 := ⟨by have h_ := hs1; rw [hq] at h_ ⊢; exact rParts_len h_, hp5, hPq.2.2.2⟩
      refine lv_aload_n hx hb dX10_readsGuest_28 rfl (lv_at hl 0 rfl) ?_
      refine lv_aload_n hx hb dX10_readsGuest_29 rfl (lv_at hl 0 rfl) ?_
      refine tw_get X hR hT 23 (by decide) q2964 rfl dX10_readsGuest_30 ?_
      refine h_iconst hx hb dX10_readsGuest_33 ?_
      refine lv_aload_n hx hb dX10_readsGuest_34 rfl (lv_at hl 0 rfl) ?_
      refine tw_get X hR hT 24 (by decide) q2965 (v := .int (iI (t_9.1 24))) rfl dX10_readsGuest_35 ?_
      have rg_t_9_24 := hT.1.ri 24 (by decide) (by decide)
      refine W.eq (g2 := F0 m9 38 ls [.int (iI ((q.2.length : Int))), .int (iI (0)), .ref (ad 23), .ref a]) (congrArg (fun z_ : Int => F0 m9 38 ls [.int (iI (z_)), .int (iI (0)), .ref (ad 23), .ref a]) (show (t_9.1 24 : Int) = (q.2.length : Int) from (hPq.1))) ?_
      -- call SpokenMarksModel.laysGuest
      refine h_kV (h_runV X hR (m_laysGuest23 l G w_7 a ad t_9 hT.1 0 (cRl c0) q.2 (by show _ ≤ _; simp only [twN]; omega) (by rw [((hE_t_9 3 (by decide)).2).trans (hE_t_4 3 (by decide)).2]; exact hC.rl) hpw (fun j hj => (by rw [Nat.zero_add]; exact hPq.2.2.1 j hj))) pn_yX10_laysGuest (hasC.of hT.1.ob rfl) q2905 q2907 qs69 q161 q2908 ⟨by decide, by decide⟩ hl.1 (Nat.le_of_ble_eq_true rfl) dX10_readsGuest_38 ⟨by omega, by omega⟩) hL (fun w_12 hp_13 H locs hR hL => ?_)
      obtain ⟨t_14, hT2, hE_t_14, et_15⟩ := hp_13
      have hT := hT.tr hT2
      clear hT2
      refine lv_aload_n hx hb dX10_readsGuest_41 rfl (lv_at hl 0 rfl) ?_
      refine tw_get X hR hT 21 (by decide) q2962 (v := .int (iI (wrC (rEnd q.1)))) (congrArg (fun z => some (Value.int (iI z))) (((hE_t_14 21 (by decide)).1).trans hRz.wr)) dX10_readsGuest_42 ?_
      refine h_if_ne hx hb 52 dX10_readsGuest_45 (by decide) (by omega) (fun c_z => ?_) (fun c_z => ?_)
      ·
        exact absurd c_w c_z
      ·
        refine h_iconst hx hb dX10_readsGuest_48 ?_
        refine lv_goto (tgt := 53) hx hb dX10_readsGuest_49 (by decide) ?_
        exact h_ireturn hx hb hlk hret hR hL (nar01 (by omega)) ⟨(by rw [rGuest, ← hq]; exact (b2i_t c_w).symm), ⟨t_14, hT, (TwE.tr (S2 := [1, 2, 3, 15, 16, 17, 18, 19, 20, 21, 22, 23, 24]) (TwE.tr (S2 := [1, 2, 3, 15, 16, 17, 18, 19, 20, 21, 22, 23, 24]) (TwE.tr (S2 := [1, 2, 3, 15, 16, 17, 18, 19, 20, 21, 22, 23, 24]) (TwE.rf : TwE [] t t) hE_t_4 rfl rfl) hE_t_9 rfl rfl) hE_t_14 rfl rfl), (by rw [rGuest, ← hq]; exact ⟨hRz.mv hE_t_14 (by decide) (by decide) (by decide) (by decide) (by decide) (by decide) (by decide) (by decide), ((((hE_t_14 15 (by decide)).1).trans (hE_t_9 15 (by decide)).1).trans h15), fun i hi => (et_15.2 i hi).trans (congrFun (((hE_t_9 3 (by decide)).2).trans (hE_t_4 3 (by decide)).2) i), fun _ => ⟨et_15.1, hpw⟩⟩)⟩⟩ (by omega) (by omega) rfl rfl dX10_readsGuest_53
  ·
    refine lv_aload_n hx hb dX10_readsGuest_16 rfl (lv_at hl 0 rfl) ?_
    refine h_iconst hx hb dX10_readsGuest_17 ?_
    -- call SpokenMarksModel.errs
    refine h_kV (h_runV X hR (m_errs l G w_7 a ad t_9 hT.1 1 T q.1 hRq (by omega)) pn_yX10_errs (hasC.of hT.1.ob rfl) q2772 q2774 qs40 q161 q2775 ⟨by decide, by decide⟩ hl.1 (Nat.le_of_ble_eq_true rfl) dX10_readsGuest_18 ⟨by omega, by omega⟩) hL (fun w_17 hp_18 H locs hR hL => ?_)
    obtain ⟨t_19, hT2, hE_t_19, et_20⟩ := hp_18
    have hT := hT.tr hT2
    clear hT2
    have hRz : RdAt t_19 T (rEnd q.1) := by rw [← hRq.end1 c_k]; exact et_20
    have hrz : R32 (wrC (rEnd q.1)) := by have h_ := hT.1.ri 21 (by decide) (by decide); rwa [hRz.wr] at h_
    refine lv_aload_n hx hb dX10_readsGuest_21 rfl (lv_at hl 0 rfl) ?_
    refine tw_get X hR hT 21 (by decide) q2962 (v := .int (iI (wrC (rEnd q.1)))) (congrArg (fun z => some (Value.int (iI z))) (hRz.wr)) dX10_readsGuest_22 ?_
    refine h_if_ne hx hb 41 dX10_readsGuest_25 (by decide) (by omega) (fun c_w => ?_) (fun c_w => ?_)
    ·
      refine lv_aload_n hx hb dX10_readsGuest_41 rfl (lv_at hl 0 rfl) ?_
      refine tw_get X hR hT 21 (by decide) q2962 (v := .int (iI (wrC (rEnd q.1)))) (congrArg (fun z => some (Value.int (iI z))) (hRz.wr)) dX10_readsGuest_42 ?_
      refine h_if_ne hx hb 52 dX10_readsGuest_45 (by decide) (by omega) (fun c_z => ?_) (fun c_z => ?_)
      ·
        refine h_iconst hx hb dX10_readsGuest_52 ?_
        exact h_ireturn hx hb hlk hret hR hL (nar01 (by omega)) ⟨(by rw [rGuest, ← hq]; exact (b2i_f c_w).symm), ⟨t_19, hT, (TwE.tr (S2 := [1, 2, 3, 15, 16, 17, 18, 19, 20, 21, 22, 23, 24]) (TwE.tr (S2 := [1, 2, 3, 15, 16, 17, 18, 19, 20, 21, 22, 23, 24]) (TwE.tr (S2 := [1, 2, 3, 15, 16, 17, 18, 19, 20, 21, 22, 23, 24]) (TwE.rf : TwE [] t t) hE_t_4 rfl rfl) hE_t_9 rfl rfl) hE_t_19 rfl rfl), (by rw [rGuest, ← hq]; exact ⟨hRz, ((((hE_t_19 15 (by decide)).1).trans (hE_t_9 15 (by decide)).1).trans h15), fun i hi => congrFun ((((hE_t_19 3 (by decide)).2).trans (hE_t_9 3 (by decide)).2).trans (hE_t_4 3 (by decide)).2) i, fun h_ => absurd h_ c_w⟩)⟩⟩ (by omega) (by omega) rfl rfl dX10_readsGuest_53
      ·
        exact absurd c_z c_w
    ·
      obtain ⟨s1, hs1, hs2⟩ := rEnd_ok c_w hRq.ne0
      have hpw : PrtsW q.2 := ⟨by have h_ := hs1; rw [hq] at h_ ⊢; exact rParts_len h_, hp5, hPq.2.2.2⟩
      refine lv_aload_n hx hb dX10_readsGuest_28 rfl (lv_at hl 0 rfl) ?_
      refine lv_aload_n hx hb dX10_readsGuest_29 rfl (lv_at hl 0 rfl) ?_
      refine tw_get X hR hT 23 (by decide) q2964 rfl dX10_readsGuest_30 ?_
      refine h_iconst hx hb dX10_readsGuest_33 ?_
      refine lv_aload_n hx hb dX10_readsGuest_34 rfl (lv_at hl 0 rfl) ?_
      refine tw_get X hR hT 24 (by decide) q2965 (v := .int (iI (t_9.1 24))) (congrArg (fun z => some (Value.int (iI z))) ((hE_t_19 24 (by decide)).1)) dX10_readsGuest_35 ?_
      have rg_t_9_24 : R32 (t_9.1 24) := by have := hT.1.ri 24 (by decide) (by decide); rwa [(hE_t_19 24 (by decide)).1] at this
      refine W.eq (g2 := F0 m9 38 ls [.int (iI ((q.2.length : Int))), .int (iI (0)), .ref (ad 23), .ref a]) (congrArg (fun z_ : Int => F0 m9 38 ls [.int (iI (z_)), .int (iI (0)), .ref (ad 23), .ref a]) (show (t_9.1 24 : Int) = (q.2.length : Int) from (hPq.1))) ?_
      -- call SpokenMarksModel.laysGuest
      refine h_kV (h_runV X hR (m_laysGuest23 l G w_17 a ad t_19 hT.1 0 (cRl c0) q.2 (by show _ ≤ _; simp only [twN]; omega) (by rw [(((hE_t_19 3 (by decide)).2).trans (hE_t_9 3 (by decide)).2).trans (hE_t_4 3 (by decide)).2]; exact hC.rl) hpw (fun j hj => (by rw [Nat.zero_add]; exact (congrFun ((hE_t_19 23 (by decide)).2) j).trans <| hPq.2.2.1 j hj))) pn_yX10_laysGuest (hasC.of hT.1.ob rfl) q2905 q2907 qs69 q161 q2908 ⟨by decide, by decide⟩ hl.1 (Nat.le_of_ble_eq_true rfl) dX10_readsGuest_38 ⟨by omega, by omega⟩) hL (fun w_22 hp_23 H locs hR hL => ?_)
      obtain ⟨t_24, hT2, hE_t_24, et_25⟩ := hp_23
      have hT := hT.tr hT2
      clear hT2
      refine lv_aload_n hx hb dX10_readsGuest_41 rfl (lv_at hl 0 rfl) ?_
      refine tw_get X hR hT 21 (by decide) q2962 (v := .int (iI (wrC (rEnd q.1)))) (congrArg (fun z => some (Value.int (iI z))) (((hE_t_24 21 (by decide)).1).trans hRz.wr)) dX10_readsGuest_42 ?_
      refine h_if_ne hx hb 52 dX10_readsGuest_45 (by decide) (by omega) (fun c_z => ?_) (fun c_z => ?_)
      ·
        exact absurd c_w c_z
      ·
        refine h_iconst hx hb dX10_readsGuest_48 ?_
        refine lv_goto (tgt := 53) hx hb dX10_readsGuest_49 (by decide) ?_
        exact h_ireturn hx hb hlk hret hR hL (nar01 (by omega)) ⟨(by rw [rGuest, ← hq]; exact (b2i_t c_w).symm), ⟨t_24, hT, (TwE.tr (S2 := [1, 2, 3, 15, 16, 17, 18, 19, 20, 21, 22, 23, 24]) (TwE.tr (S2 := [1, 2, 3, 15, 16, 17, 18, 19, 20, 21, 22, 23, 24]) (TwE.tr (S2 := [1, 2, 3, 15, 16, 17, 18, 19, 20, 21, 22, 23, 24]) (TwE.tr (S2 := [1, 2, 3, 15, 16, 17, 18, 19, 20, 21, 22, 23, 24]) (TwE.rf : TwE [] t t) hE_t_4 rfl rfl) hE_t_9 rfl rfl) hE_t_19 rfl rfl) hE_t_24 rfl rfl), (by rw [rGuest, ← hq]; exact ⟨hRz.mv hE_t_24 (by decide) (by decide) (by decide) (by decide) (by decide) (by decide) (by decide) (by decide), (((((hE_t_24 15 (by decide)).1).trans (hE_t_19 15 (by decide)).1).trans (hE_t_9 15 (by decide)).1).trans h15), fun i hi => (et_25.2 i hi).trans (congrFun ((((hE_t_19 3 (by decide)).2).trans (hE_t_9 3 (by decide)).2).trans (hE_t_4 3 (by decide)).2) i), fun _ => ⟨et_25.1, hpw⟩⟩)⟩⟩ (by omega) (by omega) rfl rfl dX10_readsGuest_53
