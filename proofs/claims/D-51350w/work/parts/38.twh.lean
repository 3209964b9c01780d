/-! the twin: says, unsays, does -/
set_option maxRecDepth 100000
def PD (L : List Mrk) : Prop := ∀ i j, i < L.length → j < L.length → i ≠ j → mPs (gM L i) ≠ mPs (gM L j)
theorem Dst.of {L : List Mrk} (hw : ∀ k, k < L.length → MrkW (gM L k)) (hp : PD L) (R : Rls) : Dst R L := fun i j hi hj hij q => hp i j hi hj hij (cmpM_0 (hw i hi).2.1.2.2 (hw j hj).2.1.2.2 q)
theorem r_app (R : Rls) (x : List Int × List Int) (k : Nat) (hk : k < R.length + 1) : r1 (R ++ [x]) k = (if k = R.length then x.1 else r1 R k) ∧ r2 (R ++ [x]) k = (if k = R.length then x.2 else r2 R k) := by
  unfold r1 r2
  by_cases h : k = R.length
  · subst h; rw [if_pos rfl, if_pos rfl]; simp
  · rw [if_neg h, if_neg h]; rw [List.getD_eq_getElem?_getD, List.getElem?_append_left (by omega), ← List.getD_eq_getElem?_getD]; exact ⟨rfl, rfl⟩
theorem r_rem (R : Rls) (r k : Nat) (hr : r < R.length) : r1 (remAt R r) k = r1 R (if k < r then k else k + 1) ∧ r2 (remAt R r) k = r2 R (if k < r then k else k + 1) := by
  unfold r1 r2
  rw [remAt_at R r _ hr k]
  split <;> exact ⟨rfl, rfl⟩
theorem mem_remAt {α : Type} {L : List α} {r : Nat} {x : α} (h : x ∈ remAt L r) : x ∈ L := by
  rcases List.mem_append.mp h with q | q
  · exact List.mem_of_mem_take q
  · exact List.mem_of_mem_drop q
theorem RowIs.rls {f g : Nat → Int} {c : Cat} (h : RowIs f c) {R : Rls} (hR : RlW R) (hg : ∀ i, i ≠ 3 → (i < 16 ∨ 32 ≤ i) → g i = f i) (h3 : g 3 = (R.length : Int)) (hk : ∀ k, k < R.length → g (16 + 2 * k) = enc (r1 R k) ∧ g (16 + 2 * k + 1) = enc (r2 R k)) : RowL g (setRl c R) := by
  have hn := h.n40
  have h8 := h.sh8
  refine ⟨⟨h.s.1, h.s.2.1, h.s.2.2.1, h.s.2.2.2.1, hR, h.s.2.2.2.2.2⟩, ?_, ?_, ?_, ?_, fun k hk => ?_, fun s hs => ?_, ⟨h3, hk, hR⟩, fun r hr => ?_⟩
  · rw [hg 0 (by omega) (by omega)]; exact h.sh
  · rw [hg 1 (by omega) (by omega)]; exact h.rm
  · rw [hg 2 (by omega) (by omega)]; exact h.n
  · rw [hg 4 (by omega) (by omega)]; exact h.nx
  · rw [hg _ (by omega) (by omega)]; exact h.ac k hk
  · have hs2 : (s : Int) < cSh c := hs
    rw [hg _ (by omega) (by omega)]; exact h.bd s hs
  · have hm := h.m r hr
    have hs : SlotL f r (mk c r) := ⟨hm.1, hm.2.1, hm.2.2.1, hm.2.2.2.1⟩
    exact hs.mv (fun i _ _ => hg i (by omega) (by omega))
theorem RowIs.rlA {f g : Nat → Int} {c : Cat} {L M : List Int} (h : RowIs f c) (hn : (cRl c).length < 8) (hL : Wrd L ∧ L ≠ []) (hM : Wrd M ∧ M ≠ []) (hg : ∀ i, i ≠ 3 → i ≠ 16 + 2 * (cRl c).length → i ≠ 16 + 2 * (cRl c).length + 1 → g i = f i) (h3 : g 3 = ((cRl c).length : Int) + 1) (ha : g (16 + 2 * (cRl c).length) = enc L) (hb : g (16 + 2 * (cRl c).length + 1) = enc M) : RowL g (setRl c (cRl c ++ [(L, M)])) := by
  have hl : (cRl c ++ [(L, M)]).length = (cRl c).length + 1 := by simp
  refine h.rls ⟨by omega, fun q hq => ?_⟩ (fun i h1 h2 => hg i h1 (by omega) (by omega)) (by rw [h3, hl]; omega) (fun k hk => ?_)
  · rcases List.mem_append.mp hq with z | z
    · exact h.rl.2.2.2 q z
    · rw [List.mem_singleton.mp z]; exact ⟨hL, hM⟩
  · rw [hl] at hk
    have e := r_app (cRl c) (L, M) k hk
    rw [e.1, e.2]
    by_cases q : k = (cRl c).length
    · rw [if_pos q, if_pos q, q]; exact ⟨ha, hb⟩
    · rw [if_neg q, if_neg q, hg _ (by omega) (by omega) (by omega), hg _ (by omega) (by omega) (by omega)]; exact h.rl.2.1 k (by omega)
theorem RowIs.rlD {f g : Nat → Int} {c : Cat} {r : Nat} (h : RowIs f c) (hr : r < (cRl c).length) (hg : ∀ i, i ≠ 3 → (i < 16 + 2 * r ∨ 16 + 2 * ((cRl c).length - 1) ≤ i) → g i = f i) (h3 : g 3 = ((cRl c).length : Int) - 1) (hq : ∀ i, 16 + 2 * r ≤ i → i < 16 + 2 * ((cRl c).length - 1) → g i = f (i + 2)) : RowL g (setRl c (remAt (cRl c) r)) := by
  have hl := remAt_len (cRl c) r hr
  have h8 := h.rl.2.2.1
  refine h.rls ⟨by omega, fun q hq => h.rl.2.2.2 q (mem_remAt hq)⟩ (fun i h1 h2 => hg i h1 (by omega)) (by rw [h3, hl]; omega) (fun k hk => ?_)
  have e := r_rem (cRl c) r k hr
  rw [e.1, e.2]
  by_cases q : k < r
  · rw [if_pos q, hg _ (by omega) (by omega), hg _ (by omega) (by omega)]; exact h.rl.2.1 k (by omega)
  · rw [if_neg q, hq _ (by omega) (by omega), hq _ (by omega) (by omega)]; exact h.rl.2.1 (k + 1) (by omega)
def syA (c : Cat) (L M : List Int) : Cat × Int := if rlF (cRl c) L ≠ -1 then (c, -2) else if (cRl c).length = 8 then (c, -3) else ordA (setRl c (cRl c ++ [(L, M)]))
def unA (c : Cat) (r : Nat) : Cat × Int := ordA (setRl c (remAt (cRl c) r))

theorem pn_yX10_ordersAnew : ParN yX10_ordersAnew 0 := by decide +kernel

set_option maxHeartbeats 4000000 in
set_option maxRecDepth 100000 in
/-- says -/
theorem m_says (l : Launch) (G : Gl) (w : Wd) (a : Nat) (ad : Nat → Nat) (t : Tw) (hT : TwAt G w a ad t)  (c0 : Cat) (L : List Int) (M : List Int) (hC : RowIs (t.2 3) c0) (hLw : Wrd L ∧ L ≠ []) (hMw : Wrd M ∧ M ≠ []) (hpd : PD (cMk c0)) (hac : ∀ k, k < 3 → cAc c0 k < 990000) : HM l yX10_says cX10_says 5 (some .int) 7 0 0 G [.ref a, .long (lI (enc L)), .long (lI (enc M))] w (QI G (fun z_ w_ => z_ = (syA c0 L M).2 ∧ ∃ t_ : Tw, TwS G w w_ a ad t_ ∧ TwE [1, 2, 3] t t_ ∧ RowIs (t_.2 3) (syA c0 L M).1)) := by
  refine HM.mk (by decide +kernel) (Nat.le_of_ble_eq_true rfl) ?_
  intro p9 e9 s9 m9 a9 b9 meth9 c9 ls X hret hlk hnm hl H hR
  have hx := X.1.1
  have hb := X.1.2.1
  have hl : lv_has ls 5 [(0, .ref a), (1, .long (lI (enc L))), (3, .long (lI (enc M)))] := hl
  have hL : LK G [] := fun q h => absurd h List.not_mem_nil
  generalize ([] : List Loc) = locs at hL ⊢
  have hTb := hT
  have hT : TwS G w w a ad t := TwS.rf hT
  have hn40 := hC.n40
  have hsh8 := hC.sh8
  have hn8 := hC.rl.2.2.1
  have heL := enc_r hLw.1.2
  have heM := enc_r hMw.1.2
  have hrf : -1 ≤ rlF (cRl c0) L ∧ rlF (cRl c0) L < ((cRl c0).length : Int) := fstN_r (fun k => r1 (cRl c0) k = L) (cRl c0).length
  refine lv_aload_n hx hb dX10_says_0 rfl (lv_at hl 0 rfl) ?_
  refine lv_lload_n hx hb dX10_says_1 rfl (lv_at hl 1 rfl) ?_
  -- call SpokenMarksModel.ruleFor
  refine h_kIp (h_runV X hR (m_ruleFor l G w a ad t hT.1 (cRl c0) L hC.rl hLw.1) pn_yX10_ruleFor (hasC.of hT.1.ob rfl) q2803 q2805 qs47 q161 q2806 ⟨by decide, by decide⟩ hl.1 (Nat.le_of_ble_eq_true rfl) dX10_says_2 ⟨by omega, by omega⟩) hL (fun H locs hR hL => ?_)
  refine h_iconst hx hb dX10_says_5 ?_
  refine h_icmp_eq hx hb 12 dX10_says_6 (by decide) (by omega) (by omega) (fun c_r => ?_) (fun c_r => ?_)
  ·
    refine lv_aload_n hx hb dX10_says_12 rfl (lv_at hl 0 rfl) ?_
    refine h_iconst hx hb dX10_says_13 ?_
    -- call SpokenMarksModel.head
    refine h_kIp (h_runV X hR (m_head l G w a ad t hT.1 3 (by omega)) pn_yX10_head (hasC.of hT.1.ob rfl) q2789 q2791 qs44 q161 q2792 ⟨by decide, by decide⟩ hl.1 (Nat.le_of_ble_eq_true rfl) dX10_says_14 ⟨by omega, by omega⟩) hL (fun H locs hR hL => ?_)
    refine W.eq (g2 := F0 m9 17 ls [.int (iI (((cRl c0).length : Int)))]) (congrArg (fun z_ : Int => F0 m9 17 ls [.int (iI (z_))]) (show (hd t 3 : Int) = ((cRl c0).length : Int) from (by exact hC.rl.1))) ?_
    refine h_bipush hx hb dX10_says_17 (by decide) ?_
    refine h_icmp_ne hx hb 25 dX10_says_19 (by decide) (by omega) (by omega) (fun c_8 => ?_) (fun c_8 => ?_)
    ·
      refine lv_aload_n hx hb dX10_says_25 rfl (lv_at hl 0 rfl) ?_
      refine tw_get X hR hT 3 (by decide) q2944 rfl dX10_says_26 ?_
      refine h_bipush hx hb dX10_says_29 (by decide) ?_
      refine h_iconst hx hb dX10_says_31 ?_
      refine lv_aload_n hx hb dX10_says_32 rfl (lv_at hl 0 rfl) ?_
      refine h_iconst hx hb dX10_says_33 ?_
      -- call SpokenMarksModel.head
      refine h_kIp (h_runV X hR (m_head l G w a ad t hT.1 3 (by omega)) pn_yX10_head (hasC.of hT.1.ob rfl) q2789 q2791 qs44 q161 q2792 ⟨by decide, by decide⟩ hl.1 (Nat.le_of_ble_eq_true rfl) dX10_says_34 ⟨by omega, by omega⟩) hL (fun H locs hR hL => ?_)
      refine W.eq (g2 := F0 m9 37 ls [.int (iI (((cRl c0).length : Int))), .int (iI (2)), .int (iI (16)), .ref (ad 3)]) (congrArg (fun z_ : Int => F0 m9 37 ls [.int (iI (z_)), .int (iI (2)), .int (iI (16)), .ref (ad 3)]) (show (hd t 3 : Int) = ((cRl c0).length : Int) from (by exact hC.rl.1))) ?_
      refine h_imul hx hb dX10_says_37 ?_
      refine h_iadd hx hb dX10_says_38 ?_
      refine lv_lload_n hx hb dX10_says_39 rfl (lv_at hl 1 rfl) ?_
      refine tw_last X hR hL hT (k := 3) (by decide) (16 + 2 * (cRl c0).length) (by omega) (by show _ < _; simp only [twN]; omega) (by omega) dX10_says_40 (fun t_10 et_11 w_12 hT H locs hR hL => ?_)
      have hE_t_10 := TwE.ast et_11
      have hv_t_10 := tast_v et_11
      have ha0 : t_10.2 3 (16 + 2 * (cRl c0).length) = enc L := by rw [hv_t_10]; unfold zset; rw [if_pos rfl]
      have ho1 : ∀ i, i ≠ 16 + 2 * (cRl c0).length → t_10.2 3 i = t.2 3 i := fun i hi => by rw [hv_t_10]; unfold zset; rw [if_neg (by omega)]
      refine lv_aload_n hx hb dX10_says_41 rfl (lv_at hl 0 rfl) ?_
      refine tw_get X hR hT 3 (by decide) q2944 rfl dX10_says_42 ?_
      refine h_bipush hx hb dX10_says_45 (by decide) ?_
      refine h_iconst hx hb dX10_says_47 ?_
      refine lv_aload_n hx hb dX10_says_48 rfl (lv_at hl 0 rfl) ?_
      refine h_iconst hx hb dX10_says_49 ?_
      -- call SpokenMarksModel.head
      refine h_kIp (h_runV X hR (m_head l G w_12 a ad t_10 hT.1 3 (by omega)) pn_yX10_head (hasC.of hT.1.ob rfl) q2789 q2791 qs44 q161 q2792 ⟨by decide, by decide⟩ hl.1 (Nat.le_of_ble_eq_true rfl) dX10_says_50 ⟨by omega, by omega⟩) hL (fun H locs hR hL => ?_)
      refine W.eq (g2 := F0 m9 53 ls [.int (iI (((cRl c0).length : Int))), .int (iI (2)), .int (iI (16)), .ref (ad 3)]) (congrArg (fun z_ : Int => F0 m9 53 ls [.int (iI (z_)), .int (iI (2)), .int (iI (16)), .ref (ad 3)]) (show (hd t_10 3 : Int) = ((cRl c0).length : Int) from ((ho1 3 (by omega)).trans hC.rl.1))) ?_
      refine h_imul hx hb dX10_says_53 ?_
      refine h_iadd hx hb dX10_says_54 ?_
      refine h_iconst hx hb dX10_says_55 ?_
      refine h_iadd hx hb dX10_says_56 ?_
      refine lv_lload_n hx hb dX10_says_57 rfl (lv_at hl 2 rfl) ?_
      refine tw_last X hR hL hT (k := 3) (by decide) (16 + 2 * (cRl c0).length + 1) (by omega) (by show _ < _; simp only [twN]; omega) (by omega) dX10_says_58 (fun t_16 et_17 w_18 hT H locs hR hL => ?_)
      have hE_t_16 := TwE.ast et_17
      have hv_t_16 := tast_v et_17
      have hb_0 : t_16.2 3 (16 + 2 * (cRl c0).length) = enc L := by rw [hv_t_16]; unfold zset; rw [if_neg (by omega)]; exact ha0
      have hb_1 : t_16.2 3 (16 + 2 * (cRl c0).length + 1) = enc M := by rw [hv_t_16]; unfold zset; rw [if_pos rfl]
      have ho2 : ∀ i, i ≠ 16 + 2 * (cRl c0).length ∧ i ≠ 16 + 2 * (cRl c0).length + 1 → t_16.2 3 i = t.2 3 i := fun i hi => by rw [hv_t_16]; unfold zset; rw [if_neg (by omega)]; exact ho1 i (by omega)
      refine lv_aload_n hx hb dX10_says_59 rfl (lv_at hl 0 rfl) ?_
      refine tw_get X hR hT 3 (by decide) q2944 rfl dX10_says_60 ?_
      refine h_iconst hx hb dX10_says_63 ?_
      refine lv_dup2_11 hx hb dX10_says_64 rfl rfl ?_
      refine tw_lald X hR hT (k := 3) (by decide) 3 (by omega) (by show _ < _; simp only [twN]; omega) (v := ((cRl c0).length : Int)) ((ho2 3 (by omega)).trans hC.rl.1) dX10_says_65 (fun ra_65 => ?_)
      refine h_lconst hx hb 1 dX10_says_66 rfl ?_
      refine h_ladd hx hb dX10_says_67 ?_
      refine tw_last X hR hL hT (k := 3) (by decide) 3 (by omega) (by show _ < _; simp only [twN]; omega) (by omega) dX10_says_68 (fun t_19 et_20 w_21 hT H locs hR hL => ?_)
      have hE_t_19 := TwE.ast et_20
      have hv_t_19 := tast_v et_20
      have hc_0 : t_19.2 3 (16 + 2 * (cRl c0).length) = enc L := by rw [hv_t_19]; unfold zset; rw [if_neg (by omega)]; exact hb_0
      have hc_1 : t_19.2 3 (16 + 2 * (cRl c0).length + 1) = enc M := by rw [hv_t_19]; unfold zset; rw [if_neg (by omega)]; exact hb_1
      have hc_2 : t_19.2 3 3 = ((cRl c0).length : Int) + 1 := by rw [hv_t_19]; unfold zset; rw [if_pos rfl]
      have ho3 : ∀ i, i ≠ 3 ∧ i ≠ 16 + 2 * (cRl c0).length ∧ i ≠ 16 + 2 * (cRl c0).length + 1 → t_19.2 3 i = t.2 3 i := fun i hi => by rw [hv_t_19]; unfold zset; rw [if_neg (by omega)]; exact ho2 i (by omega)
      refine lv_aload_n hx hb dX10_says_69 rfl (lv_at hl 0 rfl) ?_
      -- call SpokenMarksModel.ordersAnew
      refine h_kI (h_runV X hR (m_ordersAnew l G w_21 a ad t_19 hT.1 (setRl c0 (cRl c0 ++ [(L, M)])) (hC.rlA (by omega) hLw hMw (fun i h1 h2 h3 => ho3 i ⟨h1, h2, h3⟩) hc_2 hc_0 hc_1) (Dst.of (L := cMk c0) (fun k hk => hC.mw k hk) hpd _) hac) pn_yX10_ordersAnew (hasC.of hT.1.ob rfl) q2819 q2821 qs51 q161 q2822 ⟨by decide, by decide⟩ hl.1 (Nat.le_of_ble_eq_true rfl) dX10_says_70 ⟨by omega, by omega⟩) hL (fun z_22 w_23 hp_24 H locs hR hL => ?_)
      obtain ⟨rfl, t_25, hT2, hE_t_25, et_26⟩ := hp_24
      have hT := hT.tr hT2
      clear hT2
      exact h_ireturn hx hb hlk hret hR hL rfl ⟨(by unfold syA; rw [if_neg (by omega)]; rw [if_neg (by omega)]), ⟨t_25, hT, (TwE.tr (S2 := [1, 2, 3]) (TwE.tr (S2 := [1, 2, 3]) (TwE.tr (S2 := [1, 2, 3]) (TwE.tr (S2 := [1, 2, 3]) (TwE.rf : TwE [] t t) hE_t_10 rfl rfl) hE_t_16 rfl rfl) hE_t_19 rfl rfl) hE_t_25 rfl rfl), (by unfold syA; rw [if_neg (by omega)]; rw [if_neg (by omega)]; exact et_26)⟩⟩ (by omega) (by omega) rfl rfl dX10_says_73
    ·
      refine h_bipush hx hb dX10_says_22 (by decide) ?_
      exact h_ireturn hx hb hlk hret hR hL rfl ⟨(by unfold syA; rw [if_neg (by omega)]; rw [if_pos (by omega)]), ⟨t, hT, (TwE.rf : TwE [1, 2, 3] t t), (by unfold syA; rw [if_neg (by omega)]; rw [if_pos (by omega)]; exact hC)⟩⟩ (by omega) (by omega) rfl rfl dX10_says_24
  ·
    refine h_bipush hx hb dX10_says_9 (by decide) ?_
    exact h_ireturn hx hb hlk hret hR hL rfl ⟨(by unfold syA; rw [if_pos (by omega)]), ⟨t, hT, (TwE.rf : TwE [1, 2, 3] t t), (by unfold syA; rw [if_pos (by omega)]; exact hC)⟩⟩ (by omega) (by omega) rfl rfl dX10_says_11

set_option maxHeartbeats 4000000 in
set_option maxRecDepth 100000 in
/-- unsays -/
theorem m_unsays (l : Launch) (G : Gl) (w : Wd) (a : Nat) (ad : Nat → Nat) (t : Tw) (hT : TwAt G w a ad t) (r : Nat) (c0 : Cat) (hC : RowIs (t.2 3) c0) (hr : r < (cRl c0).length) (hpd : PD (cMk c0)) (hac : ∀ k, k < 3 → cAc c0 k < 990000) : HM l yX10_unsays cX10_unsays 2 (some .int) 7 0 0 G [.ref a, .int (iI ((r : Int)))] w (QI G (fun z_ w_ => z_ = (unA c0 r).2 ∧ ∃ t_ : Tw, TwS G w w_ a ad t_ ∧ TwE [1, 2, 3] t t_ ∧ RowIs (t_.2 3) (unA c0 r).1)) := by
  refine HM.mk (by decide +kernel) (Nat.le_of_ble_eq_true rfl) ?_
  intro p9 e9 s9 m9 a9 b9 meth9 c9 ls X hret hlk hnm hl H hR
  have hx := X.1.1
  have hb := X.1.2.1
  have hl : lv_has ls 2 [(0, .ref a), (1, .int (iI ((r : Int))))] := hl
  have hL : LK G [] := fun q h => absurd h List.not_mem_nil
  generalize ([] : List Loc) = locs at hL ⊢
  have hTb := hT
  have hT : TwS G w w a ad t := TwS.rf hT
  have hn40 := hC.n40
  have hsh8 := hC.sh8
  have hn8 := hC.rl.2.2.1
  refine lv_aload_n hx hb dX10_unsays_0 rfl (lv_at hl 0 rfl) ?_
  refine tw_get X hR hT 3 (by decide) q2944 rfl dX10_unsays_1 ?_
  refine h_iconst hx hb dX10_unsays_4 ?_
  refine lv_dup2_11 hx hb dX10_unsays_5 rfl rfl ?_
  refine tw_lald X hR hT (k := 3) (by decide) 3 (by omega) (by show _ < _; simp only [twN]; omega) (v := ((cRl c0).length : Int)) hC.rl.1 dX10_unsays_6 (fun ra_6 => ?_)
  refine h_lconst hx hb 1 dX10_unsays_7 rfl ?_
  refine h_lsub hx hb dX10_unsays_8 ?_
  refine tw_last X hR hL hT (k := 3) (by decide) 3 (by omega) (by show _ < _; simp only [twN]; omega) (by omega) dX10_unsays_9 (fun t_1 et_2 w_3 hT H locs hR hL => ?_)
  have hE_t_1 := TwE.ast et_2
  have hv_t_1 := tast_v et_2
  have hc_0 : t_1.2 3 3 = ((cRl c0).length : Int) - 1 := by rw [hv_t_1]; unfold zset; rw [if_pos rfl]
  have ho3 : ∀ i, i ≠ 3 → t_1.2 3 i = t.2 3 i := fun i hi => by rw [hv_t_1]; unfold zset; rw [if_neg (by omega)]
  refine lv_aload_n hx hb dX10_unsays_10 rfl (lv_at hl 0 rfl) ?_
  refine tw_get X hR hT 3 (by decide) q2944 rfl dX10_unsays_11 ?_
  refine h_bipush hx hb dX10_unsays_14 (by decide) ?_
  refine h_iconst hx hb dX10_unsays_16 ?_
  refine lv_iload_n hx hb dX10_unsays_17 rfl (lv_at hl 1 rfl) ?_
  refine h_iconst hx hb dX10_unsays_18 ?_
  refine h_iadd hx hb dX10_unsays_19 ?_
  refine h_imul hx hb dX10_unsays_20 ?_
  refine h_iadd hx hb dX10_unsays_21 ?_
  refine lv_aload_n hx hb dX10_unsays_22 rfl (lv_at hl 0 rfl) ?_
  refine tw_get X hR hT 3 (by decide) q2944 rfl dX10_unsays_23 ?_
  refine h_bipush hx hb dX10_unsays_26 (by decide) ?_
  refine h_iconst hx hb dX10_unsays_28 ?_
  refine lv_iload_n hx hb dX10_unsays_29 rfl (lv_at hl 1 rfl) ?_
  refine h_imul hx hb dX10_unsays_30 ?_
  refine h_iadd hx hb dX10_unsays_31 ?_
  refine h_iconst hx hb dX10_unsays_32 ?_
  refine lv_aload_n hx hb dX10_unsays_33 rfl (lv_at hl 0 rfl) ?_
  refine h_iconst hx hb dX10_unsays_34 ?_
  -- call SpokenMarksModel.head
  refine h_kIp (h_runV X hR (m_head l G w_3 a ad t_1 hT.1 3 (by omega)) pn_yX10_head (hasC.of hT.1.ob rfl) q2789 q2791 qs44 q161 q2792 ⟨by decide, by decide⟩ hl.1 (Nat.le_of_ble_eq_true rfl) dX10_unsays_35 ⟨by omega, by omega⟩) hL (fun H locs hR hL => ?_)
  refine W.eq (g2 := F0 m9 38 ls [.int (iI (((cRl c0).length : Int) - 1)), .int (iI (2)), .int (iI (16 + (2 * ((r : Int))))), .ref (ad 3), .int (iI (16 + (2 * ((r : Int) + 1)))), .ref (ad 3)]) (congrArg (fun z_ : Int => F0 m9 38 ls [.int (iI (z_)), .int (iI (2)), .int (iI (16 + (2 * ((r : Int))))), .ref (ad 3), .int (iI (16 + (2 * ((r : Int) + 1)))), .ref (ad 3)]) (show (hd t_1 3 : Int) = ((cRl c0).length : Int) - 1 from (hc_0))) ?_
  refine lv_iload_n hx hb dX10_unsays_38 rfl (lv_at hl 1 rfl) ?_
  refine h_isub hx hb dX10_unsays_39 ?_
  refine h_imul hx hb dX10_unsays_40 ?_
  refine W.eq (g2 := F0 m9 41 ls [.int (iI (((2 * ((cRl c0).length - 1 - r) : Nat) : Int))), .int (iI (16 + (2 * ((r : Int))))), .ref (ad 3), .int (iI (16 + (2 * ((r : Int) + 1)))), .ref (ad 3)]) (congrArg (fun z_ : Int => F0 m9 41 ls [.int (iI (z_)), .int (iI (16 + (2 * ((r : Int))))), .ref (ad 3), .int (iI (16 + (2 * ((r : Int) + 1)))), .ref (ad 3)]) (show (2 * ((((cRl c0).length : Int) - 1) - ((r : Int))) : Int) = ((2 * ((cRl c0).length - 1 - r) : Nat) : Int) from (by omega))) ?_
  refine W.eq (g2 := F0 m9 41 ls [.int (iI (((2 * ((cRl c0).length - 1 - r) : Nat) : Int))), .int (iI (((16 + 2 * r : Nat) : Int))), .ref (ad 3), .int (iI (16 + (2 * ((r : Int) + 1)))), .ref (ad 3)]) (congrArg (fun z_ : Int => F0 m9 41 ls [.int (iI (((2 * ((cRl c0).length - 1 - r) : Nat) : Int))), .int (iI (z_)), .ref (ad 3), .int (iI (16 + (2 * ((r : Int) + 1)))), .ref (ad 3)]) (show (16 + (2 * ((r : Int))) : Int) = ((16 + 2 * r : Nat) : Int) from (by omega))) ?_
  refine W.eq (g2 := F0 m9 41 ls [.int (iI (((2 * ((cRl c0).length - 1 - r) : Nat) : Int))), .int (iI (((16 + 2 * r : Nat) : Int))), .ref (ad 3), .int (iI (((16 + 2 * (r + 1) : Nat) : Int))), .ref (ad 3)]) (congrArg (fun z_ : Int => F0 m9 41 ls [.int (iI (((2 * ((cRl c0).length - 1 - r) : Nat) : Int))), .int (iI (((16 + 2 * r : Nat) : Int))), .ref (ad 3), .int (iI (z_)), .ref (ad 3)]) (show (16 + (2 * ((r : Int) + 1)) : Int) = ((16 + 2 * (r + 1) : Nat) : Int) from (by omega))) ?_
  -- call SpokenMarksModel.copies
  refine h_kV (h_runS X hR (m_copies l G w_3 a ad t_1 hT.1 3 (16 + 2 * (r + 1)) 3 (16 + 2 * r) (2 * ((cRl c0).length - 1 - r)) (by decide) (by decide) (by show _ ≤ _; simp only [twN]; omega) (by show _ ≤ _; simp only [twN]; omega) (by first | exact Or.inl (by decide) | exact Or.inr (by omega))) pn_yX10_copies q2737 q2738 q161 q2739 ⟨by decide, by decide⟩ hl.1 (Nat.le_of_ble_eq_true rfl) dX10_unsays_41 ⟨by omega, by omega⟩) hL (fun w_8 hp_9 H locs hR hL => ?_)
  obtain ⟨t_10, hT2, e1_, e2_, hc_t_10⟩ := hp_9
  have hE_t_10 : TwE [3] t_1 t_10 := fun k_ hk_ => ⟨by rw [e1_], e2_ k_ (by simpa using hk_)⟩
  have e1_t_10 := e1_
  have hT := hT.tr hT2
  clear hT2 e1_ e2_
  have hcp : ∀ i, ¬ (16 + 2 * r ≤ i ∧ i < 16 + 2 * r + 2 * ((cRl c0).length - 1 - r)) → t_10.2 3 i = t_1.2 3 i := fun i hi => by rw [hc_t_10]; unfold cpyF; rw [if_neg hi]
  have hcq : ∀ i, 16 + 2 * r ≤ i → i < 16 + 2 * ((cRl c0).length - 1) → t_10.2 3 i = t_1.2 3 (i + 2) := fun i h1 h2 => by rw [hc_t_10]; unfold cpyF; rw [if_pos (by omega), show i - (16 + 2 * r) + (16 + 2 * (r + 1)) = i + 2 by omega]
  refine lv_aload_n hx hb dX10_unsays_44 rfl (lv_at hl 0 rfl) ?_
  -- call SpokenMarksModel.ordersAnew
  refine h_kI (h_runV X hR (m_ordersAnew l G w_8 a ad t_10 hT.1 (setRl c0 (remAt (cRl c0) r)) (hC.rlD hr (fun i h1 h2 => (hcp i (by omega)).trans (ho3 i h1)) ((hcp 3 (by omega)).trans hc_0) (fun i h1 h2 => (hcq i h1 h2).trans (ho3 _ (by omega)))) (Dst.of (L := cMk c0) (fun k hk => hC.mw k hk) hpd _) hac) pn_yX10_ordersAnew (hasC.of hT.1.ob rfl) q2819 q2821 qs51 q161 q2822 ⟨by decide, by decide⟩ hl.1 (Nat.le_of_ble_eq_true rfl) dX10_unsays_45 ⟨by omega, by omega⟩) hL (fun z_11 w_12 hp_13 H locs hR hL => ?_)
  obtain ⟨rfl, t_14, hT2, hE_t_14, et_15⟩ := hp_13
  have hT := hT.tr hT2
  clear hT2
  exact h_ireturn hx hb hlk hret hR hL rfl ⟨rfl, ⟨t_14, hT, (TwE.tr (S2 := [1, 2, 3]) (TwE.tr (S2 := [1, 2, 3]) (TwE.tr (S2 := [1, 2, 3]) (TwE.rf : TwE [] t t) hE_t_1 rfl rfl) hE_t_10 rfl rfl) hE_t_14 rfl rfl), et_15⟩⟩ (by omega) (by omega) rfl rfl dX10_unsays_48
