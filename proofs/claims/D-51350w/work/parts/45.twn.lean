/-! the twin: starts, parts, rules to be said -/
set_option maxRecDepth 100000
def BfAt (t : Tw) (T : List Int) : Prop := TxW T ∧ ∀ k, k < T.length → t.2 14 k = T.getD k 0
def rPut (T : List Int) (s : Sc) (ps : List Prt) (x : Prt) : Rd × List Prt := if ps.length = 5 then (.inl (scB s, 4), ps) else (.inr (tok T (scA s)), ps ++ [x])
def rPart (T : List Int) (e : Rd) (ps : List Prt) : Rd × List Prt := match e with
  | .inl x => (.inl x, ps)
  | .inr s => if scK s = 2 then (if scV s ≤ 99999 then rPut T s ps (.inl (scV s)) else (.inl (scB s, 2), ps))
    else if scK s = 1 then (if scA s - scB s ≤ 8 then rPut T s ps (.inr (scL T s)) else (.inl (scB s, 3), ps)) else (.inl (scB s, 1), ps)
def rMore (T : List Int) : Nat → Rd × List Prt → Rd × List Prt
  | 0, q => q
  | n + 1, q => match q.1 with
    | .inl _ => q
    | .inr s => if scK s = 1 ∨ scK s = 2 then rMore T n (rPart T q.1 q.2) else q
def rParts (T : List Int) (e : Rd) : Rd × List Prt := rMore T 6 (rPart T e [])
def PsAt (t : Tw) (ps : List Prt) : Prop := t.1 24 = (ps.length : Int) ∧ ps.length ≤ 5 ∧ (∀ k, k < ps.length → t.2 23 k = encP (ps.getD k prt0)) ∧ ∀ x ∈ ps, PrtW x
theorem PsAt.mv {t t1 : Tw} {ps : List Prt} {S : List Nat} (h : PsAt t ps) (hE : TwE S t t1) (h1 : 24 ∉ S) (h2 : 23 ∉ S) : PsAt t1 ps := by
  unfold PsAt; rw [(hE 24 h1).1, (hE 23 h2).2]; exact h
theorem PsAt.put {t t1 : Tw} {ps : List Prt} {x : Prt} (h : PsAt t ps) (hx : PrtW x) (h5 : ¬ ps.length = 5) (h1 : t1.1 24 = (ps.length : Int) + 1) (h2 : t1.2 23 = zset (t.2 23) ps.length (encP x)) : PsAt t1 (ps ++ [x]) := by
  have hl : (ps ++ [x]).length = ps.length + 1 := by simp
  have h6 := h.2.1
  refine ⟨by rw [h1, hl]; omega, by omega, fun k hk => ?_, fun y hy => ?_⟩
  · rw [h2]; unfold zset
    by_cases q : k = ps.length
    · rw [if_pos q, q]; simp
    · rw [if_neg q, List.getD_eq_getElem?_getD, List.getElem?_append_left (by omega), ← List.getD_eq_getElem?_getD]; exact h.2.2.1 k (by omega)
  · rcases List.mem_append.mp hy with q | q
    · exact h.2.2.2 y q
    · rw [List.mem_singleton.mp q]; exact hx
theorem rMore_end {T : List Int} {n : Nat} {q : Rd × List Prt} (h : wrC q.1 ≠ 0) : rMore T n q = q := by
  cases n with
  | zero => rfl
  | succ n => obtain ⟨x, hx⟩ := wrC_inl h; unfold rMore; rw [hx]
theorem rMore_no {T : List Int} {n : Nat} {q : Rd × List Prt} {s : Sc} (h : q.1 = .inr s) (hk : ¬ (scK s = 1 ∨ scK s = 2)) : rMore T n q = q := by
  cases n with
  | zero => rfl
  | succ n => unfold rMore; rw [h]; exact if_neg hk
theorem rMore_go {T : List Int} {n : Nat} {q : Rd × List Prt} {s : Sc} (h : q.1 = .inr s) (hk : scK s = 1 ∨ scK s = 2) (hn : 0 < n) : rMore T n q = rMore T (n - 1) (rPart T q.1 q.2) := by
  obtain ⟨m, rfl⟩ : ∃ m, n = m + 1 := ⟨n - 1, by omega⟩
  show rMore T (m + 1) q = rMore T m _
  conv => lhs; unfold rMore
  rw [h]; exact if_pos hk
theorem rPut_len {T : List Int} {s s1 : Sc} {ps : List Prt} {x : Prt} (h : (rPut T s ps x).1 = .inr s1) : (rPut T s ps x).2.length = ps.length + 1 := by
  unfold rPut at h ⊢
  split at h
  · cases h
  · next q => rw [if_neg q]; simp
theorem rPart_len {T : List Int} {s s1 : Sc} {ps : List Prt} (h : (rPart T (.inr s) ps).1 = .inr s1) : (rPart T (.inr s) ps).2.length = ps.length + 1 := by
  unfold rPart at h ⊢
  dsimp only at h ⊢
  by_cases h2 : scK s = 2
  · rw [if_pos h2] at h ⊢
    by_cases h3 : scV s ≤ 99999
    · rw [if_pos h3] at h ⊢; exact rPut_len h
    · rw [if_neg h3] at h; cases h
  · rw [if_neg h2] at h ⊢
    by_cases h1 : scK s = 1
    · rw [if_pos h1] at h ⊢
      by_cases h3 : scA s - scB s ≤ 8
      · rw [if_pos h3] at h ⊢; exact rPut_len h
      · rw [if_neg h3] at h; cases h
    · rw [if_neg h1] at h; cases h
theorem rErr_w {t : Tw} {T : List Int} {e : Rd} {c : Int} (h : RdAt t T e) (hc : c ≠ 0) : ¬ wrC (rErr c e) = 0 := by
  cases e with
  | inl x => exact h.2.2.2.1
  | inr s => exact hc
theorem rLook_ok {T : List Int} {s : Sc} (h : wrC (rLook T (.inr s)).1 = 0) : scK s = 1 ∧ scA s - scB s ≤ 8 := by
  by_cases h1 : scK s = 1
  · by_cases h2 : scA s - scB s ≤ 8
    · exact ⟨h1, h2⟩
    · rw [rLook_2 h1 h2] at h; exact absurd h (show ¬ (3 : Int) = 0 by decide)
  · rw [rLook_1 h1] at h; exact absurd h (show ¬ (1 : Int) = 0 by decide)
theorem rPart_n2 {T : List Int} {s : Sc} {ps : List Prt} (h : scK s = 2) (h2 : ¬ scV s ≤ 99999) : rPart T (.inr s) ps = (.inl (scB s, 2), ps) := (if_pos h).trans (if_neg h2)
theorem rPart_n5 {T : List Int} {s : Sc} {ps : List Prt} (h : scK s = 2) (h2 : scV s ≤ 99999) (h5 : ps.length = 5) : rPart T (.inr s) ps = (.inl (scB s, 4), ps) := ((if_pos h).trans (if_pos h2)).trans (if_pos h5)
theorem rPart_n0 {T : List Int} {s : Sc} {ps : List Prt} (h : scK s = 2) (h2 : scV s ≤ 99999) (h5 : ¬ ps.length = 5) : rPart T (.inr s) ps = (.inr (tok T (scA s)), ps ++ [.inl (scV s)]) := ((if_pos h).trans (if_pos h2)).trans (if_neg h5)
theorem rPart_w0 {T : List Int} {s : Sc} {ps : List Prt} (h : ¬ scK s = 2) (h1 : scK s = 1) (h2 : scA s - scB s ≤ 8) (h5 : ¬ ps.length = 5) : rPart T (.inr s) ps = (.inr (tok T (scA s)), ps ++ [.inr (scL T s)]) := (((if_neg h).trans (if_pos h1)).trans (if_pos h2)).trans (if_neg h5)
theorem rPart_w5 {T : List Int} {s : Sc} {ps : List Prt} (h : ¬ scK s = 2) (h5 : ps.length = 5) : rPart T (.inr s) ps = (rErr 4 (rLook T (.inr s)).1, ps) := by
  refine (if_neg h).trans ?_
  by_cases h1 : scK s = 1
  · rw [if_pos h1]
    by_cases h2 : scA s - scB s ≤ 8
    · rw [if_pos h2, rLook_3 h1 h2]; exact if_pos h5
    · rw [if_neg h2, rLook_2 h1 h2]; rfl
  · rw [if_neg h1, rLook_1 h1]; rfl
theorem rPart_w1 {T : List Int} {s : Sc} {ps : List Prt} (h : ¬ scK s = 2) (hw : ¬ wrC (rLook T (.inr s)).1 = 0) : rPart T (.inr s) ps = ((rLook T (.inr s)).1, ps) := by
  refine (if_neg h).trans ?_
  by_cases h1 : scK s = 1
  · rw [if_pos h1]
    by_cases h2 : scA s - scB s ≤ 8
    · rw [rLook_3 h1 h2] at hw; exact absurd rfl hw
    · rw [if_neg h2, rLook_2 h1 h2]
  · rw [if_neg h1, rLook_1 h1]
/-- a rule to be said: word and how it is spoken -/
def rSay (T : List Int) (e : Rd) : Rd × List Int × List Int := ((rWord T (rMust T 4 (rWord T e).1)).1, (rWord T e).2, (rWord T (rMust T 4 (rWord T e).1)).2)


set_option maxHeartbeats 4000000 in
set_option maxRecDepth 100000 in
/-- starts -/
theorem m_starts (l : Launch) (G : Gl) (w : Wd) (a : Nat) (ad : Nat → Nat) (t : Tw) (hT : TwAt G w a ad t)  (T : List Int) (hB : BfAt t T) : HM l yX10_starts cX10_starts 2 none 4 0 0 G [.ref a, .int (iI ((T.length : Int)))] w (QV G (fun w_ => ∃ t_ : Tw, TwS G w w_ a ad t_ ∧ TwE [15, 16, 17, 18, 19, 20, 21, 22] t t_ ∧ RdAt t_ T (.inr (tok T 0)) ∧ t_.1 15 = 0)) := by
  refine HM.mk (by decide +kernel) (Nat.le_of_ble_eq_true rfl) ?_
  intro p9 e9 s9 m9 a9 b9 meth9 c9 ls X hret hlk hnm hl H hR
  have hx := X.1.1
  have hb := X.1.2.1
  have hl : lv_has ls 2 [(0, .ref a), (1, .int (iI ((T.length : Int))))] := hl
  have hL : LK G [] := fun q h => absurd h List.not_mem_nil
  generalize ([] : List Loc) = locs at hL ⊢
  have hTb := hT
  have hT : TwS G w w a ad t := TwS.rf hT
  have hT8 := hB.1.1
  refine lv_aload_n hx hb dX10_starts_0 rfl (lv_at hl 0 rfl) ?_
  refine lv_iload_n hx hb dX10_starts_1 rfl (lv_at hl 1 rfl) ?_
  refine tw_puti X hR hL hT 16 (by decide) q2957 rfl rfl rfl twF_s16 (by omega) dX10_starts_2 (fun t_1 et_2 w_3 hT H locs hR hL => ?_)
  have hE_t_1 := TwE.put et_2
  have hv_t_1 := tput_v et_2
  refine lv_aload_n hx hb dX10_starts_5 rfl (lv_at hl 0 rfl) ?_
  refine h_iconst hx hb dX10_starts_6 ?_
  refine tw_puti X hR hL hT 15 (by decide) q2956 rfl rfl rfl twF_s15 (by omega) dX10_starts_7 (fun t_4 et_5 w_6 hT H locs hR hL => ?_)
  have hE_t_4 := TwE.put et_5
  have hv_t_4 := tput_v et_5
  refine lv_aload_n hx hb dX10_starts_10 rfl (lv_at hl 0 rfl) ?_
  refine h_iconst hx hb dX10_starts_11 ?_
  refine tw_puti X hR hL hT 17 (by decide) q2958 rfl rfl rfl twF_s17 (by omega) dX10_starts_12 (fun t_7 et_8 w_9 hT H locs hR hL => ?_)
  have hE_t_7 := TwE.put et_8
  have hv_t_7 := tput_v et_8
  refine lv_aload_n hx hb dX10_starts_15 rfl (lv_at hl 0 rfl) ?_
  refine h_iconst hx hb dX10_starts_16 ?_
  refine tw_puti X hR hL hT 21 (by decide) q2962 rfl rfl rfl twF_s21 (by omega) dX10_starts_17 (fun t_10 et_11 w_12 hT H locs hR hL => ?_)
  have hE_t_10 := TwE.put et_11
  have hv_t_10 := tput_v et_11
  refine lv_aload_n hx hb dX10_starts_20 rfl (lv_at hl 0 rfl) ?_
  refine h_iconst hx hb dX10_starts_21 ?_
  refine tw_puti X hR hL hT 22 (by decide) q2963 rfl rfl rfl twF_s22 (by omega) dX10_starts_22 (fun t_13 et_14 w_15 hT H locs hR hL => ?_)
  have hE_t_13 := TwE.put et_14
  have hv_t_13 := tput_v et_14
  refine lv_aload_n hx hb dX10_starts_25 rfl (lv_at hl 0 rfl) ?_
  -- call SpokenMarksModel.next
  refine h_kV (h_runV X hR (m_next l G w_15 a ad t_13 hT.1 T 0 ⟨(((((hE_t_13 16 (by decide)).1).trans (hE_t_10 16 (by decide)).1).trans (hE_t_7 16 (by decide)).1).trans (hE_t_4 16 (by decide)).1).trans hv_t_1, hB.1, fun k hk => (congrFun ((((((hE_t_13 14 (by decide)).2).trans (hE_t_10 14 (by decide)).2).trans (hE_t_7 14 (by decide)).2).trans (hE_t_4 14 (by decide)).2).trans (hE_t_1 14 (by decide)).2) k).trans (hB.2 k hk)⟩ ((((hE_t_13 17 (by decide)).1).trans (hE_t_10 17 (by decide)).1).trans hv_t_7) (Nat.zero_le _)) pn_yX10_next (hasC.of hT.1.ob rfl) q2744 q2746 qs35 q161 q2747 ⟨by decide, by decide⟩ hl.1 (Nat.le_of_ble_eq_true rfl) dX10_starts_26 ⟨by omega, by omega⟩) hL (fun w_17 hp_18 H locs hR hL => ?_)
  obtain ⟨t_19, hT2, hE_t_19, et_20⟩ := hp_18
  have hT := hT.tr hT2
  clear hT2
  exact h_vreturn hx hb hlk hret hR hL ⟨t_19, hT, (TwE.tr (S2 := [15, 16, 17, 18, 19, 20, 21, 22]) (TwE.tr (S2 := [15, 16, 17, 18, 19, 20, 21, 22]) (TwE.tr (S2 := [15, 16, 17, 18, 19, 20, 21, 22]) (TwE.tr (S2 := [15, 16, 17, 18, 19, 20, 21, 22]) (TwE.tr (S2 := [15, 16, 17, 18, 19, 20, 21, 22]) (TwE.tr (S2 := [15, 16, 17, 18, 19, 20, 21, 22]) (TwE.rf : TwE [] t t) hE_t_1 rfl rfl) hE_t_4 rfl rfl) hE_t_7 rfl rfl) hE_t_10 rfl rfl) hE_t_13 rfl rfl) hE_t_19 rfl rfl), ⟨⟨⟨((((((hE_t_19 16 (by decide)).1).trans (hE_t_13 16 (by decide)).1).trans (hE_t_10 16 (by decide)).1).trans (hE_t_7 16 (by decide)).1).trans (hE_t_4 16 (by decide)).1).trans hv_t_1, hB.1, fun k hk => (congrFun (((((((hE_t_19 14 (by decide)).2).trans (hE_t_13 14 (by decide)).2).trans (hE_t_10 14 (by decide)).2).trans (hE_t_7 14 (by decide)).2).trans (hE_t_4 14 (by decide)).2).trans (hE_t_1 14 (by decide)).2) k).trans (hB.2 k hk)⟩, (((hE_t_19 21 (by decide)).1).trans (hE_t_13 21 (by decide)).1).trans hv_t_10, ((hE_t_19 22 (by decide)).1).trans hv_t_13, et_20, tok_w (Nat.zero_le _)⟩, (((((hE_t_19 15 (by decide)).1).trans (hE_t_13 15 (by decide)).1).trans (hE_t_10 15 (by decide)).1).trans (hE_t_7 15 (by decide)).1).trans hv_t_4⟩⟩ (by omega) (by omega) rfl rfl dX10_starts_29

set_option maxHeartbeats 4000000 in
set_option maxRecDepth 100000 in
/-- readsPart -/
theorem m_readsPartS (l : Launch) (G : Gl) (w : Wd) (a : Nat) (ad : Nat → Nat) (t : Tw) (hT : TwAt G w a ad t)  (T : List Int) (s : Sc) (ps : List Prt) (hRd : RdAt t T (.inr s)) (hP : PsAt t ps) : HM l yX10_readsPart cX10_readsPart 3 none 5 0 0 G [.ref a] w (QV G (fun w_ => ∃ t_ : Tw, TwS G w w_ a ad t_ ∧ TwE [1, 2, 17, 18, 19, 20, 21, 22, 23, 24] t t_ ∧ RdAt t_ T (rPart T (.inr s) ps).1 ∧ PsAt t_ (rPart T (.inr s) ps).2)) := by
  refine HM.mk (by decide +kernel) (Nat.le_of_ble_eq_true rfl) ?_
  intro p9 e9 s9 m9 a9 b9 meth9 c9 ls X hret hlk hnm hl H hR
  have hx := X.1.1
  have hb := X.1.2.1
  have hl : lv_has ls 3 [(0, .ref a)] := hl
  have hL : LK G [] := fun q h => absurd h List.not_mem_nil
  generalize ([] : List Loc) = locs at hL ⊢
  have hTb := hT
  have hT : TwS G w w a ad t := TwS.rf hT
  have hT8 := hRd.1.2.1.1
  have hW := hRd.2.2.2.2
  have hWa := hW.1
  have hWb := hW.2.1
  have hWk := hW.2.2.1
  have hp5 := hP.2.1
  refine h_lconst hx hb 0 dX10_readsPart_0 rfl ?_
  refine lv_lstore_n (lv' := [(1, .long (lI (0))), (0, .ref a)]) hx hb dX10_readsPart_1 rfl hl (by decide) rfl (fun ls hl => ?_)
  refine lv_aload_n hx hb dX10_readsPart_2 rfl (lv_at hl 1 rfl) ?_
  refine tw_get X hR hT 19 (by decide) q2960 (v := .int (iI (scK s))) (congrArg (fun z => some (Value.int (iI z))) (hRd.2.2.2.1.2.2.1)) dX10_readsPart_3 ?_
  refine h_iconst hx hb dX10_readsPart_6 ?_
  refine h_icmp_ne hx hb 34 dX10_readsPart_7 (by decide) (by omega) (by omega) (fun c_k => ?_) (fun c_k => ?_)
  ·
    refine lv_aload_n hx hb dX10_readsPart_34 rfl (lv_at hl 1 rfl) ?_
    -- call SpokenMarksModel.wordHere
    refine h_kL (h_runV X hR (m_wordHere l G w a ad t hT.1 T ((.inr s)) hRd) pn_yX10_wordHere (hasC.of hT.1.ob rfl) q2793 q2795 qs45 q161 q2796 ⟨by decide, by decide⟩ hl.1 (Nat.le_of_ble_eq_true rfl) dX10_readsPart_35 ⟨by omega, by omega⟩) hL (fun z_1 w_2 hp_3 H locs hR hL => ?_)
    obtain ⟨rfl, t_4, hT2, hE_t_4, et_5⟩ := hp_3
    have hT := hT.tr hT2
    clear hT2
    have hRl : RdAt t_4 T (rLook T (.inr s)).1 := et_5
    have hRx_l : R32 (wrC ((rLook T (.inr s)).1)) := by have h_ := hT.1.ri 21 (by decide) (by decide); rwa [hRl.wr] at h_
    refine lv_lstore_n (lv' := [(1, .long (lI (encR (rLook T ((.inr s)))))), (0, .ref a)]) hx hb dX10_readsPart_38 rfl hl (by decide) rfl (fun ls hl => ?_)
    refine lv_aload_n hx hb dX10_readsPart_39 rfl (lv_at hl 1 rfl) ?_
    refine tw_get X hR hT 24 (by decide) q2965 (v := .int (iI ((ps.length : Int)))) (congrArg (fun z => some (Value.int (iI z))) (((hE_t_4 24 (by decide)).1).trans hP.1)) dX10_readsPart_40 ?_
    refine h_iconst hx hb dX10_readsPart_43 ?_
    refine h_icmp_ne hx hb 52 dX10_readsPart_44 (by decide) (by omega) (by omega) (fun c_5 => ?_) (fun c_5 => ?_)
    ·
      refine lv_aload_n hx hb dX10_readsPart_52 rfl (lv_at hl 1 rfl) ?_
      refine tw_get X hR hT 21 (by decide) q2962 (v := .int (iI (wrC ((rLook T (.inr s)).1)))) (congrArg (fun z => some (Value.int (iI z))) (hRl.wr)) dX10_readsPart_53 ?_
      refine h_if_eq hx hb 60 dX10_readsPart_56 (by decide) (by omega) (fun c_w => ?_) (fun c_w => ?_)
      ·
        obtain ⟨hk1, hl8⟩ := rLook_ok c_w
        have hrl := rLook_3 (T := T) hk1 hl8
        have hRs := hRl
        rw [hrl] at hRs
        have hxw : PrtW (.inr (scL T s)) := scL_w hW hk1 hl8
        have hxr_ := encP_r hxw
        have hl : lv_has ls 3 [(1, .long (lI (encP (.inr (scL T s))))), (0, .ref a)] := lv_conv hl (congrArg (fun z_ : Int => ([(1, .long (lI (z_))), (0, .ref a)] : List (Nat × Value))) (show (encR (rLook T ((.inr s))) : Int) = encP (.inr (scL T s)) from (by rw [hrl]; rfl)))
        refine lv_aload_n hx hb dX10_readsPart_60 rfl (lv_at hl 1 rfl) ?_
        refine tw_get X hR hT 23 (by decide) q2964 rfl dX10_readsPart_61 ?_
        refine lv_aload_n hx hb dX10_readsPart_64 rfl (lv_at hl 1 rfl) ?_
        refine tw_get X hR hT 24 (by decide) q2965 (v := .int (iI ((ps.length : Int)))) (congrArg (fun z => some (Value.int (iI z))) (((hE_t_4 24 (by decide)).1).trans hP.1)) dX10_readsPart_65 ?_
        refine lv_lload_n hx hb dX10_readsPart_68 rfl (lv_at hl 0 rfl) ?_
        refine tw_last X hR hL hT (k := 23) (by decide) ps.length (by omega) (by show _ < _; simp only [twN]; omega) (by omega) dX10_readsPart_69 (fun t_6 et_7 w_8 hT H locs hR hL => ?_)
        have hE_t_6 := TwE.ast et_7
        have hv_t_6 := tast_v et_7
        refine lv_aload_n hx hb dX10_readsPart_70 rfl (lv_at hl 1 rfl) ?_
        refine lv_dup hx hb dX10_readsPart_71 rfl ?_
        refine tw_get X hR hT 24 (by decide) q2965 (v := .int (iI ((ps.length : Int)))) (congrArg (fun z => some (Value.int (iI z))) ((((hE_t_6 24 (by decide)).1).trans (hE_t_4 24 (by decide)).1).trans hP.1)) dX10_readsPart_72 ?_
        refine h_iconst hx hb dX10_readsPart_75 ?_
        refine h_iadd hx hb dX10_readsPart_76 ?_
        refine tw_puti X hR hL hT 24 (by decide) q2965 rfl rfl rfl twF_s24 (by omega) dX10_readsPart_77 (fun t_9 et_10 w_11 hT H locs hR hL => ?_)
        have hE_t_9 := TwE.put et_10
        have hv_t_9 := tput_v et_10
        refine lv_aload_n hx hb dX10_readsPart_80 rfl (lv_at hl 1 rfl) ?_
        -- call SpokenMarksModel.next
        refine h_kV (h_runV X hR (m_next l G w_11 a ad t_9 hT.1 T (scA s) (hRs.1.mv (TwE.tr (S2 := [23, 24]) (TwE.tr (S2 := [23, 24]) (TwE.rf : TwE [] t_4 t_4) hE_t_6 rfl rfl) hE_t_9 rfl rfl) (by decide) (by decide)) ((((hE_t_9 17 (by decide)).1).trans (hE_t_6 17 (by decide)).1).trans hRs.2.2.2.1.2.1) hWb) pn_yX10_next (hasC.of hT.1.ob rfl) q2744 q2746 qs35 q161 q2747 ⟨by decide, by decide⟩ hl.1 (Nat.le_of_ble_eq_true rfl) dX10_readsPart_81 ⟨by omega, by omega⟩) hL (fun w_13 hp_14 H locs hR hL => ?_)
        obtain ⟨t_15, hT2, hE_t_15, et_16⟩ := hp_14
        have hT := hT.tr hT2
        clear hT2
        have hRn := hRs.nx (TwE.tr (S2 := [17, 18, 19, 20, 23, 24]) (TwE.tr (S2 := [17, 18, 19, 20, 23, 24]) (TwE.tr (S2 := [17, 18, 19, 20, 23, 24]) (TwE.rf : TwE [] t_4 t_4) hE_t_6 rfl rfl) hE_t_9 rfl rfl) hE_t_15 rfl rfl) (by decide) (by decide) (by decide) (by decide) et_16
        exact h_vreturn hx hb hlk hret hR hL ⟨t_15, hT, (TwE.tr (S2 := [1, 2, 17, 18, 19, 20, 21, 22, 23, 24]) (TwE.tr (S2 := [1, 2, 17, 18, 19, 20, 21, 22, 23, 24]) (TwE.tr (S2 := [1, 2, 17, 18, 19, 20, 21, 22, 23, 24]) (TwE.tr (S2 := [1, 2, 17, 18, 19, 20, 21, 22, 23, 24]) (TwE.rf : TwE [] t t) hE_t_4 rfl rfl) hE_t_6 rfl rfl) hE_t_9 rfl rfl) hE_t_15 rfl rfl), (by rw [rPart_w0 c_k hk1 hl8 (by omega)]; exact ⟨hRn, hP.put hxw (by omega) (((hE_t_15 24 (by decide)).1).trans hv_t_9) (by rw [((hE_t_15 23 (by decide)).2).trans (hE_t_9 23 (by decide)).2, hv_t_6, (hE_t_4 23 (by decide)).2])⟩)⟩ (by omega) (by omega) rfl rfl dX10_readsPart_84
      ·
        exact h_vreturn hx hb hlk hret hR hL ⟨t_4, hT, (TwE.tr (S2 := [1, 2, 17, 18, 19, 20, 21, 22, 23, 24]) (TwE.rf : TwE [] t t) hE_t_4 rfl rfl), (by rw [rPart_w1 c_k c_w]; exact ⟨hRl, hP.mv (TwE.tr (S2 := [1, 2, 21, 22]) (TwE.rf : TwE [] t t) hE_t_4 rfl rfl) (by decide) (by decide)⟩)⟩ (by omega) (by omega) rfl rfl dX10_readsPart_59
    ·
      refine lv_aload_n hx hb dX10_readsPart_47 rfl (lv_at hl 1 rfl) ?_
      refine h_iconst hx hb dX10_readsPart_48 ?_
      -- call SpokenMarksModel.errs
      refine h_kV (h_runV X hR (m_errs l G w_2 a ad t_4 hT.1 4 T ((rLook T (.inr s)).1) hRl (by omega)) pn_yX10_errs (hasC.of hT.1.ob rfl) q2772 q2774 qs40 q161 q2775 ⟨by decide, by decide⟩ hl.1 (Nat.le_of_ble_eq_true rfl) dX10_readsPart_49 ⟨by omega, by omega⟩) hL (fun w_18 hp_19 H locs hR hL => ?_)
      obtain ⟨t_20, hT2, hE_t_20, et_21⟩ := hp_19
      have hT := hT.tr hT2
      clear hT2
      have hRe_4 : RdAt t_20 T (rErr 4 (rLook T (.inr s)).1) := et_21
      have hRx_4 : R32 (wrC (rErr 4 (rLook T (.inr s)).1)) := by have h_ := hT.1.ri 21 (by decide) (by decide); rwa [hRe_4.wr] at h_
      refine lv_aload_n hx hb dX10_readsPart_52 rfl (lv_at hl 1 rfl) ?_
      refine tw_get X hR hT 21 (by decide) q2962 (v := .int (iI (wrC (rErr 4 (rLook T (.inr s)).1)))) (congrArg (fun z => some (Value.int (iI z))) (hRe_4.wr)) dX10_readsPart_53 ?_
      refine h_if_eq hx hb 60 dX10_readsPart_56 (by decide) (by omega) (fun c_w => ?_) (fun c_w => ?_)
      ·
        exact absurd c_w (rErr_w hRl (by decide))
      ·
        exact h_vreturn hx hb hlk hret hR hL ⟨t_20, hT, (TwE.tr (S2 := [1, 2, 17, 18, 19, 20, 21, 22, 23, 24]) (TwE.tr (S2 := [1, 2, 17, 18, 19, 20, 21, 22, 23, 24]) (TwE.rf : TwE [] t t) hE_t_4 rfl rfl) hE_t_20 rfl rfl), (by rw [rPart_w5 c_k (by omega)]; exact ⟨hRe_4, hP.mv (TwE.tr (S2 := [1, 2, 21, 22]) (TwE.tr (S2 := [1, 2, 21, 22]) (TwE.rf : TwE [] t t) hE_t_4 rfl rfl) hE_t_20 rfl rfl) (by decide) (by decide)⟩)⟩ (by omega) (by omega) rfl rfl dX10_readsPart_59
  ·
    obtain ⟨hv0, hv1⟩ := hRd.2.2.2.1.2.2.2 (by omega)
    refine lv_aload_n hx hb dX10_readsPart_10 rfl (lv_at hl 1 rfl) ?_
    refine tw_get X hR hT 20 (by decide) q2961 (v := .int (iI (t.1 20))) rfl dX10_readsPart_11 ?_
    have rg_t_20 := hTb.ri 20 (by decide) (by decide)
    refine lv_ldcw (v := iI (99999)) hx hb X.1.2.2.2.1 (X.1.2.2.2.2 _ q2904) dX10_readsPart_14 ?_
    refine h_icmp_le hx hb 25 dX10_readsPart_17 (by decide) (by omega) (by omega) (fun c_v => ?_) (fun c_v => ?_)
    ·
      refine lv_aload_n hx hb dX10_readsPart_25 rfl (lv_at hl 1 rfl) ?_
      refine tw_get X hR hT 20 (by decide) q2961 (v := .int (iI (t.1 20))) rfl dX10_readsPart_26 ?_
      refine h_i2l hx hb dX10_readsPart_29 (by omega) ?_
      refine lv_lstore_n (lv' := [(1, .long (lI (t.1 20))), (0, .ref a)]) hx hb dX10_readsPart_30 rfl hl (by decide) rfl (fun ls hl => ?_)
      refine lv_goto (tgt := 39) hx hb dX10_readsPart_31 (by decide) ?_
      refine lv_aload_n hx hb dX10_readsPart_39 rfl (lv_at hl 1 rfl) ?_
      refine tw_get X hR hT 24 (by decide) q2965 (v := .int (iI ((ps.length : Int)))) (congrArg (fun z => some (Value.int (iI z))) (hP.1)) dX10_readsPart_40 ?_
      refine h_iconst hx hb dX10_readsPart_43 ?_
      refine h_icmp_ne hx hb 52 dX10_readsPart_44 (by decide) (by omega) (by omega) (fun c_5 => ?_) (fun c_5 => ?_)
      ·
        refine lv_aload_n hx hb dX10_readsPart_52 rfl (lv_at hl 1 rfl) ?_
        refine tw_get X hR hT 21 (by decide) q2962 (v := .int (iI (0))) (congrArg (fun z => some (Value.int (iI z))) (hRd.2.1)) dX10_readsPart_53 ?_
        refine h_if_eq hx hb 60 dX10_readsPart_56 (by decide) (by omega) (fun c_w => ?_) (fun c_w => ?_)
        ·
          have hRs := hRd
          have hxw : PrtW (.inl (scV s)) := ⟨by omega, by omega⟩
          have hxr_ := encP_r hxw
          have hl : lv_has ls 3 [(1, .long (lI (encP (.inl (scV s))))), (0, .ref a)] := lv_conv hl (congrArg (fun z_ : Int => ([(1, .long (lI (z_))), (0, .ref a)] : List (Nat × Value))) (show (t.1 20 : Int) = encP (.inl (scV s)) from (by show t.1 20 = scV s; omega)))
          refine lv_aload_n hx hb dX10_readsPart_60 rfl (lv_at hl 1 rfl) ?_
          refine tw_get X hR hT 23 (by decide) q2964 rfl dX10_readsPart_61 ?_
          refine lv_aload_n hx hb dX10_readsPart_64 rfl (lv_at hl 1 rfl) ?_
          refine tw_get X hR hT 24 (by decide) q2965 (v := .int (iI ((ps.length : Int)))) (congrArg (fun z => some (Value.int (iI z))) (hP.1)) dX10_readsPart_65 ?_
          refine lv_lload_n hx hb dX10_readsPart_68 rfl (lv_at hl 0 rfl) ?_
          refine tw_last X hR hL hT (k := 23) (by decide) ps.length (by omega) (by show _ < _; simp only [twN]; omega) (by omega) dX10_readsPart_69 (fun t_22 et_23 w_24 hT H locs hR hL => ?_)
          have hE_t_22 := TwE.ast et_23
          have hv_t_22 := tast_v et_23
          refine lv_aload_n hx hb dX10_readsPart_70 rfl (lv_at hl 1 rfl) ?_
          refine lv_dup hx hb dX10_readsPart_71 rfl ?_
          refine tw_get X hR hT 24 (by decide) q2965 (v := .int (iI ((ps.length : Int)))) (congrArg (fun z => some (Value.int (iI z))) (((hE_t_22 24 (by decide)).1).trans hP.1)) dX10_readsPart_72 ?_
          refine h_iconst hx hb dX10_readsPart_75 ?_
          refine h_iadd hx hb dX10_readsPart_76 ?_
          refine tw_puti X hR hL hT 24 (by decide) q2965 rfl rfl rfl twF_s24 (by omega) dX10_readsPart_77 (fun t_25 et_26 w_27 hT H locs hR hL => ?_)
          have hE_t_25 := TwE.put et_26
          have hv_t_25 := tput_v et_26
          refine lv_aload_n hx hb dX10_readsPart_80 rfl (lv_at hl 1 rfl) ?_
          -- call SpokenMarksModel.next
          refine h_kV (h_runV X hR (m_next l G w_27 a ad t_25 hT.1 T (scA s) (hRs.1.mv (TwE.tr (S2 := [23, 24]) (TwE.tr (S2 := [23, 24]) (TwE.rf : TwE [] t t) hE_t_22 rfl rfl) hE_t_25 rfl rfl) (by decide) (by decide)) ((((hE_t_25 17 (by decide)).1).trans (hE_t_22 17 (by decide)).1).trans hRs.2.2.2.1.2.1) hWb) pn_yX10_next (hasC.of hT.1.ob rfl) q2744 q2746 qs35 q161 q2747 ⟨by decide, by decide⟩ hl.1 (Nat.le_of_ble_eq_true rfl) dX10_readsPart_81 ⟨by omega, by omega⟩) hL (fun w_29 hp_30 H locs hR hL => ?_)
          obtain ⟨t_31, hT2, hE_t_31, et_32⟩ := hp_30
          have hT := hT.tr hT2
          clear hT2
          have hRn := hRs.nx (TwE.tr (S2 := [17, 18, 19, 20, 23, 24]) (TwE.tr (S2 := [17, 18, 19, 20, 23, 24]) (TwE.tr (S2 := [17, 18, 19, 20, 23, 24]) (TwE.rf : TwE [] t t) hE_t_22 rfl rfl) hE_t_25 rfl rfl) hE_t_31 rfl rfl) (by decide) (by decide) (by decide) (by decide) et_32
          exact h_vreturn hx hb hlk hret hR hL ⟨t_31, hT, (TwE.tr (S2 := [1, 2, 17, 18, 19, 20, 21, 22, 23, 24]) (TwE.tr (S2 := [1, 2, 17, 18, 19, 20, 21, 22, 23, 24]) (TwE.tr (S2 := [1, 2, 17, 18, 19, 20, 21, 22, 23, 24]) (TwE.rf : TwE [] t t) hE_t_22 rfl rfl) hE_t_25 rfl rfl) hE_t_31 rfl rfl), (by rw [rPart_n0 c_k (by omega) (by omega)]; exact ⟨hRn, hP.put hxw (by omega) (((hE_t_31 24 (by decide)).1).trans hv_t_25) (by rw [((hE_t_31 23 (by decide)).2).trans (hE_t_25 23 (by decide)).2, hv_t_22])⟩)⟩ (by omega) (by omega) rfl rfl dX10_readsPart_84
        ·
          exact absurd rfl c_w
      ·
        refine lv_aload_n hx hb dX10_readsPart_47 rfl (lv_at hl 1 rfl) ?_
        refine h_iconst hx hb dX10_readsPart_48 ?_
        -- call SpokenMarksModel.errs
        refine h_kV (h_runV X hR (m_errs l G w a ad t hT.1 4 T ((.inr s)) hRd (by omega)) pn_yX10_errs (hasC.of hT.1.ob rfl) q2772 q2774 qs40 q161 q2775 ⟨by decide, by decide⟩ hl.1 (Nat.le_of_ble_eq_true rfl) dX10_readsPart_49 ⟨by omega, by omega⟩) hL (fun w_34 hp_35 H locs hR hL => ?_)
        obtain ⟨t_36, hT2, hE_t_36, et_37⟩ := hp_35
        have hT := hT.tr hT2
        clear hT2
        have hRe_4 : RdAt t_36 T (rErr 4 (.inr s)) := et_37
        have hRx_4 : R32 (wrC (rErr 4 (.inr s))) := by have h_ := hT.1.ri 21 (by decide) (by decide); rwa [hRe_4.wr] at h_
        refine lv_aload_n hx hb dX10_readsPart_52 rfl (lv_at hl 1 rfl) ?_
        refine tw_get X hR hT 21 (by decide) q2962 (v := .int (iI (wrC (rErr 4 (.inr s))))) (congrArg (fun z => some (Value.int (iI z))) (hRe_4.wr)) dX10_readsPart_53 ?_
        refine h_if_eq hx hb 60 dX10_readsPart_56 (by decide) (by omega) (fun c_w => ?_) (fun c_w => ?_)
        ·
          exact absurd (show (4 : Int) = 0 from c_w) (by decide)
        ·
          exact h_vreturn hx hb hlk hret hR hL ⟨t_36, hT, (TwE.tr (S2 := [1, 2, 17, 18, 19, 20, 21, 22, 23, 24]) (TwE.rf : TwE [] t t) hE_t_36 rfl rfl), (by rw [rPart_n5 c_k (by omega) (by omega)]; exact ⟨hRe_4, hP.mv (TwE.tr (S2 := [1, 2, 21, 22]) (TwE.rf : TwE [] t t) hE_t_36 rfl rfl) (by decide) (by decide)⟩)⟩ (by omega) (by omega) rfl rfl dX10_readsPart_59
    ·
      refine lv_aload_n hx hb dX10_readsPart_20 rfl (lv_at hl 1 rfl) ?_
      refine h_iconst hx hb dX10_readsPart_21 ?_
      -- call SpokenMarksModel.errs
      refine h_kV (h_runV X hR (m_errs l G w a ad t hT.1 2 T ((.inr s)) hRd (by omega)) pn_yX10_errs (hasC.of hT.1.ob rfl) q2772 q2774 qs40 q161 q2775 ⟨by decide, by decide⟩ hl.1 (Nat.le_of_ble_eq_true rfl) dX10_readsPart_22 ⟨by omega, by omega⟩) hL (fun w_39 hp_40 H locs hR hL => ?_)
      obtain ⟨t_41, hT2, hE_t_41, et_42⟩ := hp_40
      have hT := hT.tr hT2
      clear hT2
      have hRe_2 : RdAt t_41 T (rErr 2 (.inr s)) := et_42
      have hRx_2 : R32 (wrC (rErr 2 (.inr s))) := by have h_ := hT.1.ri 21 (by decide) (by decide); rwa [hRe_2.wr] at h_
      refine lv_aload_n hx hb dX10_readsPart_25 rfl (lv_at hl 1 rfl) ?_
      refine tw_get X hR hT 20 (by decide) q2961 (v := .int (iI (t.1 20))) (congrArg (fun z => some (Value.int (iI z))) ((hE_t_41 20 (by decide)).1)) dX10_readsPart_26 ?_
      refine h_i2l hx hb dX10_readsPart_29 (by omega) ?_
      refine lv_lstore_n (lv' := [(1, .long (lI (t.1 20))), (0, .ref a)]) hx hb dX10_readsPart_30 rfl hl (by decide) rfl (fun ls hl => ?_)
      refine lv_goto (tgt := 39) hx hb dX10_readsPart_31 (by decide) ?_
      refine lv_aload_n hx hb dX10_readsPart_39 rfl (lv_at hl 1 rfl) ?_
      refine tw_get X hR hT 24 (by decide) q2965 (v := .int (iI ((ps.length : Int)))) (congrArg (fun z => some (Value.int (iI z))) (((hE_t_41 24 (by decide)).1).trans hP.1)) dX10_readsPart_40 ?_
      refine h_iconst hx hb dX10_readsPart_43 ?_
      refine h_icmp_ne hx hb 52 dX10_readsPart_44 (by decide) (by omega) (by omega) (fun c_5 => ?_) (fun c_5 => ?_)
      ·
        refine lv_aload_n hx hb dX10_readsPart_52 rfl (lv_at hl 1 rfl) ?_
        refine tw_get X hR hT 21 (by decide) q2962 (v := .int (iI (wrC (rErr 2 (.inr s))))) (congrArg (fun z => some (Value.int (iI z))) (hRe_2.wr)) dX10_readsPart_53 ?_
        refine h_if_eq hx hb 60 dX10_readsPart_56 (by decide) (by omega) (fun c_w => ?_) (fun c_w => ?_)
        ·
          exact absurd (show (2 : Int) = 0 from c_w) (by decide)
        ·
          exact h_vreturn hx hb hlk hret hR hL ⟨t_41, hT, (TwE.tr (S2 := [1, 2, 17, 18, 19, 20, 21, 22, 23, 24]) (TwE.rf : TwE [] t t) hE_t_41 rfl rfl), (by rw [rPart_n2 c_k (by omega)]; exact ⟨hRe_2, hP.mv (TwE.tr (S2 := [1, 2, 21, 22]) (TwE.rf : TwE [] t t) hE_t_41 rfl rfl) (by decide) (by decide)⟩)⟩ (by omega) (by omega) rfl rfl dX10_readsPart_59
      ·
        refine lv_aload_n hx hb dX10_readsPart_47 rfl (lv_at hl 1 rfl) ?_
        refine h_iconst hx hb dX10_readsPart_48 ?_
        -- call SpokenMarksModel.errs
        refine h_kV (h_runV X hR (m_errs l G w_39 a ad t_41 hT.1 4 T ((rErr 2 (.inr s))) hRe_2 (by omega)) pn_yX10_errs (hasC.of hT.1.ob rfl) q2772 q2774 qs40 q161 q2775 ⟨by decide, by decide⟩ hl.1 (Nat.le_of_ble_eq_true rfl) dX10_readsPart_49 ⟨by omega, by omega⟩) hL (fun w_44 hp_45 H locs hR hL => ?_)
        obtain ⟨t_46, hT2, hE_t_46, et_47⟩ := hp_45
        have hT := hT.tr hT2
        clear hT2
        have hRe_4 : RdAt t_46 T (rErr 4 (rErr 2 (.inr s))) := et_47
        have hRx_4 : R32 (wrC (rErr 4 (rErr 2 (.inr s)))) := by have h_ := hT.1.ri 21 (by decide) (by decide); rwa [hRe_4.wr] at h_
        refine lv_aload_n hx hb dX10_readsPart_52 rfl (lv_at hl 1 rfl) ?_
        refine tw_get X hR hT 21 (by decide) q2962 (v := .int (iI (wrC (rErr 4 (rErr 2 (.inr s)))))) (congrArg (fun z => some (Value.int (iI z))) (hRe_4.wr)) dX10_readsPart_53 ?_
        refine h_if_eq hx hb 60 dX10_readsPart_56 (by decide) (by omega) (fun c_w => ?_) (fun c_w => ?_)
        ·
          exact absurd (show (2 : Int) = 0 from c_w) (by decide)
        ·
          exact h_vreturn hx hb hlk hret hR hL ⟨t_46, hT, (TwE.tr (S2 := [1, 2, 17, 18, 19, 20, 21, 22, 23, 24]) (TwE.tr (S2 := [1, 2, 17, 18, 19, 20, 21, 22, 23, 24]) (TwE.rf : TwE [] t t) hE_t_41 rfl rfl) hE_t_46 rfl rfl), (by rw [rPart_n2 c_k (by omega)]; exact ⟨hRe_4, hP.mv (TwE.tr (S2 := [1, 2, 21, 22]) (TwE.tr (S2 := [1, 2, 21, 22]) (TwE.rf : TwE [] t t) hE_t_41 rfl rfl) hE_t_46 rfl rfl) (by decide) (by decide)⟩)⟩ (by omega) (by omega) rfl rfl dX10_readsPart_59

set_option maxHeartbeats 4000000 in
set_option maxRecDepth 100000 in
/-- readsPart -/
theorem m_readsPartE (l : Launch) (G : Gl) (w : Wd) (a : Nat) (ad : Nat → Nat) (t : Tw) (hT : TwAt G w a ad t)  (T : List Int) (x : Nat × Int) (ps : List Prt) (hRd : RdAt t T (.inl x)) (hP : PsAt t ps) : HM l yX10_readsPart cX10_readsPart 3 none 5 0 0 G [.ref a] w (QV G (fun w_ => ∃ t_ : Tw, TwS G w w_ a ad t_ ∧ TwE [1, 2, 17, 18, 19, 20, 21, 22, 23, 24] t t_ ∧ RdAt t_ T (rPart T (.inl x) ps).1 ∧ PsAt t_ (rPart T (.inl x) ps).2)) := by
  refine HM.mk (by decide +kernel) (Nat.le_of_ble_eq_true rfl) ?_
  intro p9 e9 s9 m9 a9 b9 meth9 c9 ls X hret hlk hnm hl H hR
  have hx := X.1.1
  have hb := X.1.2.1
  have hl : lv_has ls 3 [(0, .ref a)] := hl
  have hL : LK G [] := fun q h => absurd h List.not_mem_nil
  generalize ([] : List Loc) = locs at hL ⊢
  have hTb := hT
  have hT : TwS G w w a ad t := TwS.rf hT
  have hT8 := hRd.1.2.1.1
  have hxr : R32 x.2 := by have := hTb.ri 21 (by decide) (by decide); rwa [hRd.2.1] at this
  have hx0 := hRd.2.2.2.1
  have hx17 := hRd.2.2.2.2.1
  have hx18 := hRd.2.2.2.2.2
  have hp5 := hP.2.1
  refine h_lconst hx hb 0 dX10_readsPart_0 rfl ?_
  refine lv_lstore_n (lv' := [(1, .long (lI (0))), (0, .ref a)]) hx hb dX10_readsPart_1 rfl hl (by decide) rfl (fun ls hl => ?_)
  refine lv_aload_n hx hb dX10_readsPart_2 rfl (lv_at hl 1 rfl) ?_
  refine tw_get X hR hT 19 (by decide) q2960 (v := .int (iI (t.1 19))) rfl dX10_readsPart_3 ?_
  have rg_t_19 := hTb.ri 19 (by decide) (by decide)
  refine h_iconst hx hb dX10_readsPart_6 ?_
  refine h_icmp_ne hx hb 34 dX10_readsPart_7 (by decide) (by omega) (by omega) (fun c_1 => ?_) (fun c_1 => ?_)
  ·
    refine lv_aload_n hx hb dX10_readsPart_34 rfl (lv_at hl 1 rfl) ?_
    -- call SpokenMarksModel.wordHere
    refine h_kL (h_runV X hR (m_wordHere l G w a ad t hT.1 T ((.inl x)) hRd) pn_yX10_wordHere (hasC.of hT.1.ob rfl) q2793 q2795 qs45 q161 q2796 ⟨by decide, by decide⟩ hl.1 (Nat.le_of_ble_eq_true rfl) dX10_readsPart_35 ⟨by omega, by omega⟩) hL (fun z_2 w_3 hp_4 H locs hR hL => ?_)
    obtain ⟨rfl, t_5, hT2, hE_t_5, et_6⟩ := hp_4
    have hT := hT.tr hT2
    clear hT2
    have hRl : RdAt t_5 T (.inl x) := et_6
    refine lv_lstore_n (lv' := [(1, .long (lI (encR (rLook T ((.inl x)))))), (0, .ref a)]) hx hb dX10_readsPart_38 rfl hl (by decide) rfl (fun ls hl => ?_)
    refine lv_aload_n hx hb dX10_readsPart_39 rfl (lv_at hl 1 rfl) ?_
    refine tw_get X hR hT 24 (by decide) q2965 (v := .int (iI ((ps.length : Int)))) (congrArg (fun z => some (Value.int (iI z))) (((hE_t_5 24 (by decide)).1).trans hP.1)) dX10_readsPart_40 ?_
    refine h_iconst hx hb dX10_readsPart_43 ?_
    refine h_icmp_ne hx hb 52 dX10_readsPart_44 (by decide) (by omega) (by omega) (fun c_7 => ?_) (fun c_7 => ?_)
    ·
      refine lv_aload_n hx hb dX10_readsPart_52 rfl (lv_at hl 1 rfl) ?_
      refine tw_get X hR hT 21 (by decide) q2962 (v := .int (iI (x.2))) (congrArg (fun z => some (Value.int (iI z))) (hRl.2.1)) dX10_readsPart_53 ?_
      refine h_if_eq hx hb 60 dX10_readsPart_56 (by decide) (by omega) (fun c_w => ?_) (fun c_w => ?_)
      ·
        first | exact absurd c_w hx0 | exact absurd (Decidable.not_not.mp c_w) hx0
      ·
        exact h_vreturn hx hb hlk hret hR hL ⟨t_5, hT, (TwE.tr (S2 := [1, 2, 17, 18, 19, 20, 21, 22, 23, 24]) (TwE.rf : TwE [] t t) hE_t_5 rfl rfl), ⟨hRl, hP.mv (TwE.tr (S2 := [1, 2, 21, 22]) (TwE.rf : TwE [] t t) hE_t_5 rfl rfl) (by decide) (by decide)⟩⟩ (by omega) (by omega) rfl rfl dX10_readsPart_59
    ·
      refine lv_aload_n hx hb dX10_readsPart_47 rfl (lv_at hl 1 rfl) ?_
      refine h_iconst hx hb dX10_readsPart_48 ?_
      -- call SpokenMarksModel.errs
      refine h_kV (h_runV X hR (m_errs l G w_3 a ad t_5 hT.1 4 T ((.inl x)) hRl (by omega)) pn_yX10_errs (hasC.of hT.1.ob rfl) q2772 q2774 qs40 q161 q2775 ⟨by decide, by decide⟩ hl.1 (Nat.le_of_ble_eq_true rfl) dX10_readsPart_49 ⟨by omega, by omega⟩) hL (fun w_9 hp_10 H locs hR hL => ?_)
      obtain ⟨t_11, hT2, hE_t_11, et_12⟩ := hp_10
      have hT := hT.tr hT2
      clear hT2
      refine lv_aload_n hx hb dX10_readsPart_52 rfl (lv_at hl 1 rfl) ?_
      refine tw_get X hR hT 21 (by decide) q2962 (v := .int (iI (x.2))) (congrArg (fun z => some (Value.int (iI z))) (et_12.2.1)) dX10_readsPart_53 ?_
      refine h_if_eq hx hb 60 dX10_readsPart_56 (by decide) (by omega) (fun c_w => ?_) (fun c_w => ?_)
      ·
        first | exact absurd c_w hx0 | exact absurd (Decidable.not_not.mp c_w) hx0
      ·
        exact h_vreturn hx hb hlk hret hR hL ⟨t_11, hT, (TwE.tr (S2 := [1, 2, 17, 18, 19, 20, 21, 22, 23, 24]) (TwE.tr (S2 := [1, 2, 17, 18, 19, 20, 21, 22, 23, 24]) (TwE.rf : TwE [] t t) hE_t_5 rfl rfl) hE_t_11 rfl rfl), ⟨et_12, hP.mv (TwE.tr (S2 := [1, 2, 21, 22]) (TwE.tr (S2 := [1, 2, 21, 22]) (TwE.rf : TwE [] t t) hE_t_5 rfl rfl) hE_t_11 rfl rfl) (by decide) (by decide)⟩⟩ (by omega) (by omega) rfl rfl dX10_readsPart_59
  ·
    refine lv_aload_n hx hb dX10_readsPart_10 rfl (lv_at hl 1 rfl) ?_
    refine tw_get X hR hT 20 (by decide) q2961 (v := .int (iI (t.1 20))) rfl dX10_readsPart_11 ?_
    have rg_t_20 := hTb.ri 20 (by decide) (by decide)
    refine lv_ldcw (v := iI (99999)) hx hb X.1.2.2.2.1 (X.1.2.2.2.2 _ q2904) dX10_readsPart_14 ?_
    refine h_icmp_le hx hb 25 dX10_readsPart_17 (by decide) (by omega) (by omega) (fun c_13 => ?_) (fun c_13 => ?_)
    ·
      refine lv_aload_n hx hb dX10_readsPart_25 rfl (lv_at hl 1 rfl) ?_
      refine tw_get X hR hT 20 (by decide) q2961 (v := .int (iI (t.1 20))) rfl dX10_readsPart_26 ?_
      refine h_i2l hx hb dX10_readsPart_29 (by omega) ?_
      refine lv_lstore_n (lv' := [(1, .long (lI (t.1 20))), (0, .ref a)]) hx hb dX10_readsPart_30 rfl hl (by decide) rfl (fun ls hl => ?_)
      refine lv_goto (tgt := 39) hx hb dX10_readsPart_31 (by decide) ?_
      refine lv_aload_n hx hb dX10_readsPart_39 rfl (lv_at hl 1 rfl) ?_
      refine tw_get X hR hT 24 (by decide) q2965 (v := .int (iI ((ps.length : Int)))) (congrArg (fun z => some (Value.int (iI z))) (hP.1)) dX10_readsPart_40 ?_
      refine h_iconst hx hb dX10_readsPart_43 ?_
      refine h_icmp_ne hx hb 52 dX10_readsPart_44 (by decide) (by omega) (by omega) (fun c_14 => ?_) (fun c_14 => ?_)
      ·
        refine lv_aload_n hx hb dX10_readsPart_52 rfl (lv_at hl 1 rfl) ?_
        refine tw_get X hR hT 21 (by decide) q2962 (v := .int (iI (x.2))) (congrArg (fun z => some (Value.int (iI z))) (hRd.2.1)) dX10_readsPart_53 ?_
        refine h_if_eq hx hb 60 dX10_readsPart_56 (by decide) (by omega) (fun c_w => ?_) (fun c_w => ?_)
        ·
          first | exact absurd c_w hx0 | exact absurd (Decidable.not_not.mp c_w) hx0
        ·
          exact h_vreturn hx hb hlk hret hR hL ⟨t, hT, (TwE.rf : TwE [1, 2, 17, 18, 19, 20, 21, 22, 23, 24] t t), ⟨hRd, hP.mv (TwE.rf : TwE [1, 2, 21, 22] t t) (by decide) (by decide)⟩⟩ (by omega) (by omega) rfl rfl dX10_readsPart_59
      ·
        refine lv_aload_n hx hb dX10_readsPart_47 rfl (lv_at hl 1 rfl) ?_
        refine h_iconst hx hb dX10_readsPart_48 ?_
        -- call SpokenMarksModel.errs
        refine h_kV (h_runV X hR (m_errs l G w a ad t hT.1 4 T ((.inl x)) hRd (by omega)) pn_yX10_errs (hasC.of hT.1.ob rfl) q2772 q2774 qs40 q161 q2775 ⟨by decide, by decide⟩ hl.1 (Nat.le_of_ble_eq_true rfl) dX10_readsPart_49 ⟨by omega, by omega⟩) hL (fun w_16 hp_17 H locs hR hL => ?_)
        obtain ⟨t_18, hT2, hE_t_18, et_19⟩ := hp_17
        have hT := hT.tr hT2
        clear hT2
        refine lv_aload_n hx hb dX10_readsPart_52 rfl (lv_at hl 1 rfl) ?_
        refine tw_get X hR hT 21 (by decide) q2962 (v := .int (iI (x.2))) (congrArg (fun z => some (Value.int (iI z))) (et_19.2.1)) dX10_readsPart_53 ?_
        refine h_if_eq hx hb 60 dX10_readsPart_56 (by decide) (by omega) (fun c_w => ?_) (fun c_w => ?_)
        ·
          first | exact absurd c_w hx0 | exact absurd (Decidable.not_not.mp c_w) hx0
        ·
          exact h_vreturn hx hb hlk hret hR hL ⟨t_18, hT, (TwE.tr (S2 := [1, 2, 17, 18, 19, 20, 21, 22, 23, 24]) (TwE.rf : TwE [] t t) hE_t_18 rfl rfl), ⟨et_19, hP.mv (TwE.tr (S2 := [1, 2, 21, 22]) (TwE.rf : TwE [] t t) hE_t_18 rfl rfl) (by decide) (by decide)⟩⟩ (by omega) (by omega) rfl rfl dX10_readsPart_59
    ·
      refine lv_aload_n hx hb dX10_readsPart_20 rfl (lv_at hl 1 rfl) ?_
      refine h_iconst hx hb dX10_readsPart_21 ?_
      -- call SpokenMarksModel.errs
      refine h_kV (h_runV X hR (m_errs l G w a ad t hT.1 2 T ((.inl x)) hRd (by omega)) pn_yX10_errs (hasC.of hT.1.ob rfl) q2772 q2774 qs40 q161 q2775 ⟨by decide, by decide⟩ hl.1 (Nat.le_of_ble_eq_true rfl) dX10_readsPart_22 ⟨by omega, by omega⟩) hL (fun w_21 hp_22 H locs hR hL => ?_)
      obtain ⟨t_23, hT2, hE_t_23, et_24⟩ := hp_22
      have hT := hT.tr hT2
      clear hT2
      refine lv_aload_n hx hb dX10_readsPart_25 rfl (lv_at hl 1 rfl) ?_
      refine tw_get X hR hT 20 (by decide) q2961 (v := .int (iI (t.1 20))) (congrArg (fun z => some (Value.int (iI z))) ((hE_t_23 20 (by decide)).1)) dX10_readsPart_26 ?_
      refine h_i2l hx hb dX10_readsPart_29 (by omega) ?_
      refine lv_lstore_n (lv' := [(1, .long (lI (t.1 20))), (0, .ref a)]) hx hb dX10_readsPart_30 rfl hl (by decide) rfl (fun ls hl => ?_)
      refine lv_goto (tgt := 39) hx hb dX10_readsPart_31 (by decide) ?_
      refine lv_aload_n hx hb dX10_readsPart_39 rfl (lv_at hl 1 rfl) ?_
      refine tw_get X hR hT 24 (by decide) q2965 (v := .int (iI ((ps.length : Int)))) (congrArg (fun z => some (Value.int (iI z))) (((hE_t_23 24 (by decide)).1).trans hP.1)) dX10_readsPart_40 ?_
      refine h_iconst hx hb dX10_readsPart_43 ?_
      refine h_icmp_ne hx hb 52 dX10_readsPart_44 (by decide) (by omega) (by omega) (fun c_25 => ?_) (fun c_25 => ?_)
      ·
        refine lv_aload_n hx hb dX10_readsPart_52 rfl (lv_at hl 1 rfl) ?_
        refine tw_get X hR hT 21 (by decide) q2962 (v := .int (iI (x.2))) (congrArg (fun z => some (Value.int (iI z))) (et_24.2.1)) dX10_readsPart_53 ?_
        refine h_if_eq hx hb 60 dX10_readsPart_56 (by decide) (by omega) (fun c_w => ?_) (fun c_w => ?_)
        ·
          first | exact absurd c_w hx0 | exact absurd (Decidable.not_not.mp c_w) hx0
        ·
          exact h_vreturn hx hb hlk hret hR hL ⟨t_23, hT, (TwE.tr (S2 := [1, 2, 17, 18, 19, 20, 21, 22, 23, 24]) (TwE.rf : TwE [] t t) hE_t_23 rfl rfl), ⟨et_24, hP.mv (TwE.tr (S2 := [1, 2, 21, 22]) (TwE.rf : TwE [] t t) hE_t_23 rfl rfl) (by decide) (by decide)⟩⟩ (by omega) (by omega) rfl rfl dX10_readsPart_59
      ·
        refine lv_aload_n hx hb dX10_readsPart_47 rfl (lv_at hl 1 rfl) ?_
        refine h_iconst hx hb dX10_readsPart_48 ?_
        -- call SpokenMarksModel.errs
        refine h_kV (h_runV X hR (m_errs l G w_21 a ad t_23 hT.1 4 T ((.inl x)) et_24 (by omega)) pn_yX10_errs (hasC.of hT.1.ob rfl) q2772 q2774 qs40 q161 q2775 ⟨by decide, by decide⟩ hl.1 (Nat.le_of_ble_eq_true rfl) dX10_readsPart_49 ⟨by omega, by omega⟩) hL (fun w_27 hp_28 H locs hR hL => ?_)
        obtain ⟨t_29, hT2, hE_t_29, et_30⟩ := hp_28
        have hT := hT.tr hT2
        clear hT2
        refine lv_aload_n hx hb dX10_readsPart_52 rfl (lv_at hl 1 rfl) ?_
        refine tw_get X hR hT 21 (by decide) q2962 (v := .int (iI (x.2))) (congrArg (fun z => some (Value.int (iI z))) (et_30.2.1)) dX10_readsPart_53 ?_
        refine h_if_eq hx hb 60 dX10_readsPart_56 (by decide) (by omega) (fun c_w => ?_) (fun c_w => ?_)
        ·
          first | exact absurd c_w hx0 | exact absurd (Decidable.not_not.mp c_w) hx0
        ·
          exact h_vreturn hx hb hlk hret hR hL ⟨t_29, hT, (TwE.tr (S2 := [1, 2, 17, 18, 19, 20, 21, 22, 23, 24]) (TwE.tr (S2 := [1, 2, 17, 18, 19, 20, 21, 22, 23, 24]) (TwE.rf : TwE [] t t) hE_t_23 rfl rfl) hE_t_29 rfl rfl), ⟨et_30, hP.mv (TwE.tr (S2 := [1, 2, 21, 22]) (TwE.tr (S2 := [1, 2, 21, 22]) (TwE.rf : TwE [] t t) hE_t_23 rfl rfl) hE_t_29 rfl rfl) (by decide) (by decide)⟩⟩ (by omega) (by omega) rfl rfl dX10_readsPart_59

theorem m_readsPart (l : Launch) (G : Gl) (w : Wd) (a : Nat) (ad : Nat → Nat) (t : Tw) (hT : TwAt G w a ad t)  (T : List Int) (e : Rd) (ps : List Prt) (hRd : RdAt t T e) (hP : PsAt t ps) : HM l yX10_readsPart cX10_readsPart 3 none 5 0 0 G [.ref a] w (QV G (fun w_ => ∃ t_ : Tw, TwS G w w_ a ad t_ ∧ TwE [1, 2, 17, 18, 19, 20, 21, 22, 23, 24] t t_ ∧ RdAt t_ T (rPart T e ps).1 ∧ PsAt t_ (rPart T e ps).2)) := by
  cases e with
  | inl x => exact m_readsPartE l G w a ad t hT  T x ps hRd hP
  | inr s => exact m_readsPartS l G w a ad t hT  T s ps hRd hP
