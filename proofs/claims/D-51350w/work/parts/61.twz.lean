/-! the twin: orders are read -/
set_option maxRecDepth 100000
def ord0 : Ord_ := (6, 0, 0, [], [], [])
theorem ordK_r (T : List Int) (e : Rd) : -1 ≤ ordK T e ∧ ordK T e ≤ 7 := by
  unfold ordK
  repeat' split
  all_goals omega
def rStep (T : List Int) (s : Sc) (os : List Ord_) : Rd × List Ord_ := if ordK T (.inr s) = -1 then (.inl (scB s, 1), os) else if os.length = 20 then (.inl (scB s, 5), os) else (rMust T 3 (rRst T (ordK T (.inr s)) (.inr (tok T (scA s)))).1, os ++ [(rRst T (ordK T (.inr s)) (.inr (tok T (scA s)))).2])
def rAll (T : List Int) : Nat → Rd × List Ord_ → Rd × List Ord_
  | 0, q => q
  | n + 1, q => match q.1 with
    | .inl _ => q
    | .inr s => if scK s = 0 then q else rAll T n (rStep T s q.2)
theorem rAll_end {T : List Int} {n : Nat} {q : Rd × List Ord_} (h : wrC q.1 ≠ 0) : rAll T n q = q := by
  cases n with
  | zero => rfl
  | succ n => obtain ⟨x, hx⟩ := wrC_inl h; unfold rAll; rw [hx]
theorem rAll_no {T : List Int} {n : Nat} {q : Rd × List Ord_} {s : Sc} (h : q.1 = .inr s) (hk : scK s = 0) : rAll T n q = q := by
  cases n with
  | zero => rfl
  | succ n => unfold rAll; rw [h]; exact if_pos hk
theorem rAll_go {T : List Int} {n : Nat} {q : Rd × List Ord_} {s : Sc} (h : q.1 = .inr s) (hk : ¬ scK s = 0) (hn : 0 < n) : rAll T n q = rAll T (n - 1) (rStep T s q.2) := by
  obtain ⟨m, rfl⟩ : ∃ m, n = m + 1 := ⟨n - 1, by omega⟩
  show rAll T (m + 1) q = rAll T m _
  conv => lhs; unfold rAll
  rw [h]; exact if_neg hk
def rPlay (T : List Int) : Rd × List Ord_ := rAll T 22 (.inr (tok T 0), [])
theorem rStep_len {T : List Int} {s s1 : Sc} {os : List Ord_} (h : (rStep T s os).1 = .inr s1) : (rStep T s os).2.length = os.length + 1 := by
  unfold rStep at h ⊢
  split at h
  · cases h
  · split at h
    · cases h
    · next q1 q2 => rw [if_neg q1, if_neg q2]; simp
def OrdsAt (t : Tw) (os : List Ord_) : Prop := t.1 29 = (os.length : Int) ∧ os.length ≤ 20 ∧ (∀ k, k < os.length → OrdAt (t.2 28) k (os.getD k ord0)) ∧ ∀ o ∈ os, OrdOk o
theorem OrdAt.mv {f g : Nat → Int} {k : Nat} {o : Ord_} (h : OrdAt f k o) (ho : OrdOk o) (hg : ∀ i, 9 * k ≤ i → i < 9 * k + 9 → g i = f i) : OrdAt g k o := by
  refine ⟨(hg _ (by omega) (by omega)).trans h.1, fun a b => (hg _ (by omega) (by omega)).trans (h.2.1 a b), fun a => (hg _ (by omega) (by omega)).trans (h.2.2.1 a), fun a => ⟨(hg _ (by omega) (by omega)).trans (h.2.2.2.1 a).1, fun j hj => ?_⟩, fun a => ⟨(hg _ (by omega) (by omega)).trans (h.2.2.2.2 a).1, (hg _ (by omega) (by omega)).trans (h.2.2.2.2 a).2⟩⟩
  have := (ho.2.1 a).1.2.1
  exact (hg _ (by omega) (by omega)).trans ((h.2.2.2.1 a).2 j hj)
theorem OrdsAt.mv {t t1 : Tw} {os : List Ord_} {S : List Nat} (h : OrdsAt t os) (hE : TwE S t t1) (h1 : 29 ∉ S) (h2 : 28 ∉ S) : OrdsAt t1 os := by
  unfold OrdsAt; rw [(hE 29 h1).1, (hE 28 h2).2]; exact h
theorem OrdsAt.put {t t1 : Tw} {os : List Ord_} {o : Ord_} (h : OrdsAt t os) (h20 : ¬ os.length = 20) (h29 : t1.1 29 = (os.length : Int) + 1) (hg : ∀ i, i < 9 * os.length → t1.2 28 i = t.2 28 i) (hO : OrdAt (t1.2 28) os.length o) (ho : OrdOk o) : OrdsAt t1 (os ++ [o]) := by
  have hl : (os ++ [o]).length = os.length + 1 := by simp
  have h2 := h.2.1
  refine ⟨by rw [h29, hl]; omega, by omega, fun k hk => ?_, fun x hx => ?_⟩
  · rw [hl] at hk
    by_cases q : k = os.length
    · subst q
      rw [show (os ++ [o]).getD os.length ord0 = o by simp]; exact hO
    · have e : (os ++ [o]).getD k ord0 = os.getD k ord0 := by rw [List.getD_eq_getElem?_getD, List.getElem?_append_left (by omega), ← List.getD_eq_getElem?_getD]
      rw [e]
      exact (h.2.2.1 k (by omega)).mv (h.2.2.2 _ (getmem (by omega))) (fun i _ hi => hg i (by omega))
  · rcases List.mem_append.mp hx with q | q
    · exact h.2.2.2 x q
    · rw [List.mem_singleton.mp q]; exact ho
theorem OrdsAt.nil {t : Tw} (h : t.1 29 = 0) : OrdsAt t [] := ⟨h, Nat.zero_le _, fun k hk => absurd hk (Nat.not_lt_zero _), fun x hx => absurd hx List.not_mem_nil⟩

theorem pn_yX10_orderHere : ParN yX10_orderHere 0 := by decide +kernel
theorem pn_yX10_readsRest : ParN yX10_readsRest 2 := by decide +kernel

set_option maxHeartbeats 4000000 in
set_option maxRecDepth 100000 in
/-- readsOrder -/
theorem m_readsOrder (l : Launch) (G : Gl) (w : Wd) (a : Nat) (ad : Nat → Nat) (t : Tw) (hT : TwAt G w a ad t)  (T : List Int) (s : Sc) (os : List Ord_) (hRd : RdAt t T (.inr s)) (hO : OrdsAt t os) (hcr : CelR (t.2 28)) : HM l yX10_readsOrder cX10_readsOrder 2 none 8 0 0 G [.ref a] w (QV G (fun w_ => ∃ t_ : Tw, TwS G w w_ a ad t_ ∧ TwE [1, 2, 17, 18, 19, 20, 21, 22, 23, 24, 26, 27, 28, 29] t t_ ∧ RdAt t_ T (rStep T s os).1 ∧ CelR (t_.2 28) ∧ (wrC (rStep T s os).1 = 0 → OrdsAt t_ (rStep T s os).2))) := by
  refine HM.mk (by decide +kernel) (Nat.le_of_ble_eq_true rfl) ?_
  intro p9 e9 s9 m9 a9 b9 meth9 c9 ls X hret hlk hnm hl H hR
  have hx := X.1.1
  have hb := X.1.2.1
  have hl : lv_has ls 2 [(0, .ref a)] := hl
  have hL : LK G [] := fun q h => absurd h List.not_mem_nil
  generalize ([] : List Loc) = locs at hL ⊢
  have hTb := hT
  have hT : TwS G w w a ad t := TwS.rf hT
  have hT8 := hRd.1.2.1.1
  have hW := hRd.2.2.2.2
  have hWa := hW.1
  have hWb := hW.2.1
  have hWk := hW.2.2.1
  have ho20 := hO.2.1
  refine lv_aload_n hx hb dX10_readsOrder_0 rfl (lv_at hl 0 rfl) ?_
  -- call SpokenMarksModel.orderHere
  refine h_kIp (h_runV X hR (m_orderHere l G w a ad t hT.1 T ((.inr s)) hRd) pn_yX10_orderHere (hasC.of hT.1.ob rfl) q3319 q3321 qs113 q161 q3322 ⟨by decide, by decide⟩ hl.1 (Nat.le_of_ble_eq_true rfl) dX10_readsOrder_1 ⟨by omega, by omega⟩) hL (fun H locs hR hL => ?_)
  have hkr := ordK_r T (.inr s)
  refine lv_istore_n (lv' := [(1, .int (iI (ordK T ((.inr s))))), (0, .ref a)]) hx hb dX10_readsOrder_4 rfl hl (by decide) rfl (fun ls hl => ?_)
  refine lv_iload_n hx hb dX10_readsOrder_5 rfl (lv_at hl 0 rfl) ?_
  refine h_iconst hx hb dX10_readsOrder_6 ?_
  refine h_icmp_ne hx hb 15 dX10_readsOrder_7 (by decide) (by omega) (by omega) (fun c_n => ?_) (fun c_n => ?_)
  ·
    refine lv_aload_n hx hb dX10_readsOrder_15 rfl (lv_at hl 1 rfl) ?_
    refine tw_get X hR hT 29 (by decide) q2970 (v := .int (iI ((os.length : Int)))) (congrArg (fun z => some (Value.int (iI z))) (hO.1)) dX10_readsOrder_16 ?_
    refine h_bipush hx hb dX10_readsOrder_19 (by decide) ?_
    refine h_icmp_ne hx hb 29 dX10_readsOrder_21 (by decide) (by omega) (by omega) (fun c_20 => ?_) (fun c_20 => ?_)
    ·
      refine lv_aload_n hx hb dX10_readsOrder_29 rfl (lv_at hl 1 rfl) ?_
      refine tw_get X hR hT 21 (by decide) q2962 (v := .int (iI (0))) (congrArg (fun z => some (Value.int (iI z))) (hRd.2.1)) dX10_readsOrder_30 ?_
      refine h_if_eq hx hb 37 dX10_readsOrder_33 (by decide) (by omega) (fun c_w => ?_) (fun c_w => ?_)
      ·
        refine lv_aload_n hx hb dX10_readsOrder_37 rfl (lv_at hl 1 rfl) ?_
        -- call SpokenMarksModel.next
        refine h_kV (h_runV X hR (m_next l G w a ad t hT.1 T (scA s) (hRd.1.mv (TwE.rf : TwE [17, 18, 19, 20, 21, 22] t t) (by decide) (by decide)) (hRd.2.2.2.1.2.1) hWb) pn_yX10_next (hasC.of hT.1.ob rfl) q2744 q2746 qs35 q161 q2747 ⟨by decide, by decide⟩ hl.1 (Nat.le_of_ble_eq_true rfl) dX10_readsOrder_38 ⟨by omega, by omega⟩) hL (fun w_5 hp_6 H locs hR hL => ?_)
        obtain ⟨t_7, hT2, hE_t_7, et_8⟩ := hp_6
        have hT := hT.tr hT2
        clear hT2
        have hRn := hRd.nx (TwE.tr (S2 := [17, 18, 19, 20]) (TwE.rf : TwE [] t t) hE_t_7 rfl rfl) (by decide) (by decide) (by decide) (by decide) et_8
        refine lv_aload_n hx hb dX10_readsOrder_41 rfl (lv_at hl 1 rfl) ?_
        refine tw_get X hR hT 28 (by decide) q2969 rfl dX10_readsOrder_42 ?_
        refine h_bipush hx hb dX10_readsOrder_45 (by decide) ?_
        refine lv_aload_n hx hb dX10_readsOrder_47 rfl (lv_at hl 1 rfl) ?_
        refine tw_get X hR hT 29 (by decide) q2970 (v := .int (iI ((os.length : Int)))) (congrArg (fun z => some (Value.int (iI z))) (((hE_t_7 29 (by decide)).1).trans hO.1)) dX10_readsOrder_48 ?_
        refine h_imul hx hb dX10_readsOrder_51 ?_
        refine lv_iload_n hx hb dX10_readsOrder_52 rfl (lv_at hl 0 rfl) ?_
        refine h_i2l hx hb dX10_readsOrder_53 (by omega) ?_
        refine tw_last X hR hL hT (k := 28) (by decide) (9 * os.length) (by omega) (by show _ < _; simp only [twN]; omega) (by omega) dX10_readsOrder_54 (fun t_9 et_10 w_11 hT H locs hR hL => ?_)
        have hE_t_9 := TwE.ast et_10
        have hv_t_9 := tast_v et_10
        have hpre : ∀ i, i < 9 * os.length → t_9.2 28 i = t.2 28 i := fun i hi => by rw [hv_t_9]; unfold zset; rw [if_neg (by omega), (hE_t_7 28 (by decide)).2]
        have hcr1 : CelR (t_9.2 28) := by rw [hv_t_9, (hE_t_7 28 (by decide)).2]; exact CelR.put hcr (Or.inr ⟨by omega, by omega⟩)
        have hc1 : t_9.2 28 (9 * os.length) = (ordK T (.inr s)) := by rw [hv_t_9]; unfold zset; rw [if_pos rfl]
        have hRm : RdAt t_9 T (.inr (tok T (scA s))) := (hRn.mv hE_t_9 (by decide) (by decide) (by decide) (by decide) (by decide) (by decide) (by decide) (by decide))
        refine lv_aload_n hx hb dX10_readsOrder_55 rfl (lv_at hl 1 rfl) ?_
        refine h_bipush hx hb dX10_readsOrder_56 (by decide) ?_
        refine lv_aload_n hx hb dX10_readsOrder_58 rfl (lv_at hl 1 rfl) ?_
        refine tw_get X hR hT 29 (by decide) q2970 (v := .int (iI ((os.length : Int)))) (congrArg (fun z => some (Value.int (iI z))) ((((hE_t_9 29 (by decide)).1).trans (hE_t_7 29 (by decide)).1).trans hO.1)) dX10_readsOrder_59 ?_
        refine h_imul hx hb dX10_readsOrder_62 ?_
        refine lv_iload_n hx hb dX10_readsOrder_63 rfl (lv_at hl 0 rfl) ?_
        refine W.eq (g2 := F0 m9 64 ls [.int (iI (ordK T ((.inr s)))), .int (iI (((9 * os.length : Nat) : Int))), .ref a]) (congrArg (fun z_ : Int => F0 m9 64 ls [.int (iI (ordK T ((.inr s)))), .int (iI (z_)), .ref a]) (show (9 * ((os.length : Int)) : Int) = ((9 * os.length : Nat) : Int) from (by omega))) ?_
        -- call SpokenMarksModel.readsRest
        refine h_kV (h_runV X hR (m_readsRest l G w_11 a ad t_9 hT.1 ((ordK T (.inr s))) T ((.inr (tok T (scA s)))) os.length hRm (by omega) (by omega) hc1 hcr1) pn_yX10_readsRest (hasC.of hT.1.ob rfl) q3329 q3331 qs114 q161 q3332 ⟨by decide, by decide⟩ hl.1 (Nat.le_of_ble_eq_true rfl) dX10_readsOrder_64 ⟨by omega, by omega⟩) hL (fun w_13 hp_14 H locs hR hL => ?_)
        obtain ⟨t_15, hT2, hE_t_15, et_16⟩ := hp_14
        have hT := hT.tr hT2
        clear hT2
        have hR4 := et_16.1
        have hq1 := et_16.2.1
        have hq2 := et_16.2.2.1
        have hcr2 := et_16.2.2.2.1
        have hok := et_16.2.2.2.2
        refine lv_aload_n hx hb dX10_readsOrder_67 rfl (lv_at hl 1 rfl) ?_
        refine lv_dup hx hb dX10_readsOrder_68 rfl ?_
        refine tw_get X hR hT 29 (by decide) q2970 (v := .int (iI ((os.length : Int)))) (congrArg (fun z => some (Value.int (iI z))) (((((hE_t_15 29 (by decide)).1).trans (hE_t_9 29 (by decide)).1).trans (hE_t_7 29 (by decide)).1).trans hO.1)) dX10_readsOrder_69 ?_
        refine h_iconst hx hb dX10_readsOrder_72 ?_
        refine h_iadd hx hb dX10_readsOrder_73 ?_
        refine tw_puti X hR hL hT 29 (by decide) q2970 rfl rfl rfl twF_s29 (by omega) dX10_readsOrder_74 (fun t_17 et_18 w_19 hT H locs hR hL => ?_)
        have hE_t_17 := TwE.put et_18
        have hv_t_17 := tput_v et_18
        refine lv_aload_n hx hb dX10_readsOrder_77 rfl (lv_at hl 1 rfl) ?_
        refine h_iconst hx hb dX10_readsOrder_78 ?_
        -- call SpokenMarksModel.must
        refine h_kV (h_runV X hR (m_must l G w_19 a ad t_17 hT.1 3 T ((rRst T (ordK T (.inr s)) (.inr (tok T (scA s)))).1) (hR4.mv hE_t_17 (by decide) (by decide) (by decide) (by decide) (by decide) (by decide) (by decide) (by decide)) ⟨by decide, by decide⟩) pn_yX10_must (hasC.of hT.1.ob rfl) q2780 q2782 qs42 q161 q2783 ⟨by decide, by decide⟩ hl.1 (Nat.le_of_ble_eq_true rfl) dX10_readsOrder_79 ⟨by omega, by omega⟩) hL (fun w_21 hp_22 H locs hR hL => ?_)
        obtain ⟨t_23, hT2, hE_t_23, et_24⟩ := hp_22
        have hT := hT.tr hT2
        clear hT2
        have hR5 := et_24
        exact h_vreturn hx hb hlk hret hR hL ⟨t_23, hT, (TwE.tr (S2 := [1, 2, 17, 18, 19, 20, 21, 22, 23, 24, 26, 27, 28, 29]) (TwE.tr (S2 := [1, 2, 17, 18, 19, 20, 21, 22, 23, 24, 26, 27, 28, 29]) (TwE.tr (S2 := [1, 2, 17, 18, 19, 20, 21, 22, 23, 24, 26, 27, 28, 29]) (TwE.tr (S2 := [1, 2, 17, 18, 19, 20, 21, 22, 23, 24, 26, 27, 28, 29]) (TwE.tr (S2 := [1, 2, 17, 18, 19, 20, 21, 22, 23, 24, 26, 27, 28, 29]) (TwE.rf : TwE [] t t) hE_t_7 rfl rfl) hE_t_9 rfl rfl) hE_t_15 rfl rfl) hE_t_17 rfl rfl) hE_t_23 rfl rfl), (by rw [rStep, if_neg c_n, if_neg (by omega)]; exact ⟨hR5, by rw [((hE_t_23 28 (by decide)).2.trans (hE_t_17 28 (by decide)).2)]; exact hcr2, fun hw => by obtain ⟨s5, hs5⟩ := hR5.ok hw; obtain ⟨s4, hs4⟩ := rMust_ok hs5; have hok2 := hok (by rw [hs4]; rfl); exact hO.put (by omega) (((hE_t_23 29 (by decide)).1).trans hv_t_17) (fun i hi => (congrFun ((hE_t_23 28 (by decide)).2.trans (hE_t_17 28 (by decide)).2) i).trans ((hq1 i (by omega)).trans (hpre i (by omega)))) (by rw [((hE_t_23 28 (by decide)).2.trans (hE_t_17 28 (by decide)).2)]; exact hok2.1) hok2.2⟩)⟩ (by omega) (by omega) rfl rfl dX10_readsOrder_82
      ·
        exact absurd rfl c_w
    ·
      refine lv_aload_n hx hb dX10_readsOrder_24 rfl (lv_at hl 1 rfl) ?_
      refine h_iconst hx hb dX10_readsOrder_25 ?_
      -- call SpokenMarksModel.errs
      refine h_kV (h_runV X hR (m_errs l G w a ad t hT.1 5 T ((.inr s)) hRd (by omega)) pn_yX10_errs (hasC.of hT.1.ob rfl) q2772 q2774 qs40 q161 q2775 ⟨by decide, by decide⟩ hl.1 (Nat.le_of_ble_eq_true rfl) dX10_readsOrder_26 ⟨by omega, by omega⟩) hL (fun w_26 hp_27 H locs hR hL => ?_)
      obtain ⟨t_28, hT2, hE_t_28, et_29⟩ := hp_27
      have hT := hT.tr hT2
      clear hT2
      have hRe_5 : RdAt t_28 T (rErr 5 (.inr s)) := et_29
      have hRx_5 : R32 (wrC (rErr 5 (.inr s))) := by have h_ := hT.1.ri 21 (by decide) (by decide); rwa [hRe_5.wr] at h_
      refine lv_aload_n hx hb dX10_readsOrder_29 rfl (lv_at hl 1 rfl) ?_
      refine tw_get X hR hT 21 (by decide) q2962 (v := .int (iI (wrC (rErr 5 (.inr s))))) (congrArg (fun z => some (Value.int (iI z))) (hRe_5.wr)) dX10_readsOrder_30 ?_
      refine h_if_eq hx hb 37 dX10_readsOrder_33 (by decide) (by omega) (fun c_w => ?_) (fun c_w => ?_)
      ·
        exact absurd c_w (rErr_w hRd (by decide))
      ·
        exact h_vreturn hx hb hlk hret hR hL ⟨t_28, hT, (TwE.tr (S2 := [1, 2, 17, 18, 19, 20, 21, 22, 23, 24, 26, 27, 28, 29]) (TwE.rf : TwE [] t t) hE_t_28 rfl rfl), (by rw [rStep, if_neg c_n, if_pos (by omega)]; exact ⟨hRe_5, by rw [(hE_t_28 28 (by decide)).2]; exact hcr, fun hw => absurd hw (show ¬ (5 : Int) = 0 by decide)⟩)⟩ (by omega) (by omega) rfl rfl dX10_readsOrder_36
  ·
    refine lv_aload_n hx hb dX10_readsOrder_10 rfl (lv_at hl 1 rfl) ?_
    refine h_iconst hx hb dX10_readsOrder_11 ?_
    -- call SpokenMarksModel.errs
    refine h_kV (h_runV X hR (m_errs l G w a ad t hT.1 1 T ((.inr s)) hRd (by omega)) pn_yX10_errs (hasC.of hT.1.ob rfl) q2772 q2774 qs40 q161 q2775 ⟨by decide, by decide⟩ hl.1 (Nat.le_of_ble_eq_true rfl) dX10_readsOrder_12 ⟨by omega, by omega⟩) hL (fun w_31 hp_32 H locs hR hL => ?_)
    obtain ⟨t_33, hT2, hE_t_33, et_34⟩ := hp_32
    have hT := hT.tr hT2
    clear hT2
    have hRe_1 : RdAt t_33 T (rErr 1 (.inr s)) := et_34
    have hRx_1 : R32 (wrC (rErr 1 (.inr s))) := by have h_ := hT.1.ri 21 (by decide) (by decide); rwa [hRe_1.wr] at h_
    refine lv_aload_n hx hb dX10_readsOrder_15 rfl (lv_at hl 1 rfl) ?_
    refine tw_get X hR hT 29 (by decide) q2970 (v := .int (iI ((os.length : Int)))) (congrArg (fun z => some (Value.int (iI z))) (((hE_t_33 29 (by decide)).1).trans hO.1)) dX10_readsOrder_16 ?_
    refine h_bipush hx hb dX10_readsOrder_19 (by decide) ?_
    refine h_icmp_ne hx hb 29 dX10_readsOrder_21 (by decide) (by omega) (by omega) (fun c_20 => ?_) (fun c_20 => ?_)
    ·
      refine lv_aload_n hx hb dX10_readsOrder_29 rfl (lv_at hl 1 rfl) ?_
      refine tw_get X hR hT 21 (by decide) q2962 (v := .int (iI (wrC (rErr 1 (.inr s))))) (congrArg (fun z => some (Value.int (iI z))) (hRe_1.wr)) dX10_readsOrder_30 ?_
      refine h_if_eq hx hb 37 dX10_readsOrder_33 (by decide) (by omega) (fun c_w => ?_) (fun c_w => ?_)
      ·
        exact absurd c_w (rErr_w hRd (by decide))
      ·
        exact h_vreturn hx hb hlk hret hR hL ⟨t_33, hT, (TwE.tr (S2 := [1, 2, 17, 18, 19, 20, 21, 22, 23, 24, 26, 27, 28, 29]) (TwE.rf : TwE [] t t) hE_t_33 rfl rfl), (by rw [rStep, if_pos c_n]; exact ⟨hRe_1, by rw [(hE_t_33 28 (by decide)).2]; exact hcr, fun hw => absurd hw (show ¬ (1 : Int) = 0 by decide)⟩)⟩ (by omega) (by omega) rfl rfl dX10_readsOrder_36
    ·
      refine lv_aload_n hx hb dX10_readsOrder_24 rfl (lv_at hl 1 rfl) ?_
      refine h_iconst hx hb dX10_readsOrder_25 ?_
      -- call SpokenMarksModel.errs
      refine h_kV (h_runV X hR (m_errs l G w_31 a ad t_33 hT.1 5 T ((rErr 1 (.inr s))) hRe_1 (by omega)) pn_yX10_errs (hasC.of hT.1.ob rfl) q2772 q2774 qs40 q161 q2775 ⟨by decide, by decide⟩ hl.1 (Nat.le_of_ble_eq_true rfl) dX10_readsOrder_26 ⟨by omega, by omega⟩) hL (fun w_36 hp_37 H locs hR hL => ?_)
      obtain ⟨t_38, hT2, hE_t_38, et_39⟩ := hp_37
      have hT := hT.tr hT2
      clear hT2
      have hRe_5 : RdAt t_38 T (rErr 5 (rErr 1 (.inr s))) := et_39
      have hRx_5 : R32 (wrC (rErr 5 (rErr 1 (.inr s)))) := by have h_ := hT.1.ri 21 (by decide) (by decide); rwa [hRe_5.wr] at h_
      refine lv_aload_n hx hb dX10_readsOrder_29 rfl (lv_at hl 1 rfl) ?_
      refine tw_get X hR hT 21 (by decide) q2962 (v := .int (iI (wrC (rErr 5 (rErr 1 (.inr s)))))) (congrArg (fun z => some (Value.int (iI z))) (hRe_5.wr)) dX10_readsOrder_30 ?_
      refine h_if_eq hx hb 37 dX10_readsOrder_33 (by decide) (by omega) (fun c_w => ?_) (fun c_w => ?_)
      ·
        exact absurd c_w (rErr_w hRe_1 (by decide))
      ·
        exact h_vreturn hx hb hlk hret hR hL ⟨t_38, hT, (TwE.tr (S2 := [1, 2, 17, 18, 19, 20, 21, 22, 23, 24, 26, 27, 28, 29]) (TwE.tr (S2 := [1, 2, 17, 18, 19, 20, 21, 22, 23, 24, 26, 27, 28, 29]) (TwE.rf : TwE [] t t) hE_t_33 rfl rfl) hE_t_38 rfl rfl), (by rw [rStep, if_pos c_n]; exact ⟨hRe_5, by rw [((hE_t_38 28 (by decide)).2).trans (hE_t_33 28 (by decide)).2]; exact hcr, fun hw => absurd hw (show ¬ (1 : Int) = 0 by decide)⟩)⟩ (by omega) (by omega) rfl rfl dX10_readsOrder_36
