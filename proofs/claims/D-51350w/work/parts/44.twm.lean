/-! the twin: the reader's steps -/
set_option maxRecDepth 100000
def wrC (e : Rd) : Int := match e with
  | .inl x => x.2
  | .inr _ => 0
theorem RdAt.tx {t : Tw} {T : List Int} {e : Rd} (h : RdAt t T e) : TxAt t T := h.1
theorem RdAt.wr {t : Tw} {T : List Int} {e : Rd} (h : RdAt t T e) : t.1 21 = wrC e := by
  cases e with
  | inl x => exact h.2.1
  | inr s => exact h.2.1
theorem RdAt.ok {t : Tw} {T : List Int} {e : Rd} (h : RdAt t T e) (h0 : wrC e = 0) : ∃ s, e = .inr s := by
  cases e with
  | inl x => exact absurd h0 h.2.2.2.1
  | inr s => exact ⟨s, rfl⟩
theorem RdAt.wr9 {t : Tw} {T : List Int} {e : Rd} (h : RdAt t T e) : 0 ≤ wrC e ∧ wrC e ≤ 9 := by
  cases e with
  | inl x => have h1 := h.2.2.2.2.2.2.2; exact ⟨by show 0 ≤ x.2; omega, h1.2⟩
  | inr s => exact ⟨Int.le_refl _, by show (0 : Int) ≤ 9; decide⟩
def errP (e : Rd) : Int := match e with
  | .inl x => (x.1 : Int)
  | .inr _ => -1
theorem RdAt.er22 {t : Tw} {T : List Int} {e : Rd} (h : RdAt t T e) : t.1 22 = errP e := by
  cases e with
  | inl x => exact h.2.2.1
  | inr s => exact h.2.2.1
theorem wrC_inl {e : Rd} (h : wrC e ≠ 0) : ∃ x, e = .inl x := by
  cases e with
  | inl x => exact ⟨x, rfl⟩
  | inr s => exact absurd rfl h
theorem rNext_err {T : List Int} {e : Rd} (h : wrC e ≠ 0) : rNext T e = e := by obtain ⟨x, rfl⟩ := wrC_inl h; rfl
theorem RdAt.mv {t t1 : Tw} {T : List Int} {e : Rd} {S : List Nat} (h : RdAt t T e) (hE : TwE S t t1) (h1 : 16 ∉ S) (h2 : 14 ∉ S) (h3 : 17 ∉ S) (h4 : 18 ∉ S) (h5 : 19 ∉ S) (h6 : 20 ∉ S) (h7 : 21 ∉ S) (h8 : 22 ∉ S) : RdAt t1 T e := by
  refine ⟨h.1.mv hE h1 h2, ?_⟩
  cases e with
  | inl x => exact (by rw [(hE 21 h7).1, (hE 22 h8).1, (hE 17 h3).1, (hE 18 h4).1]; exact h.2 : t1.1 21 = x.2 ∧ t1.1 22 = (x.1 : Int) ∧ x.2 ≠ 0 ∧ (0 ≤ t1.1 17 ∧ t1.1 17 ≤ 801) ∧ 0 ≤ t1.1 18 ∧ t1.1 18 ≤ 801 ∧ 1 ≤ x.2 ∧ x.2 ≤ 9)
  | inr s => exact (by unfold ScAt; rw [(hE 21 h7).1, (hE 22 h8).1, (hE 17 h3).1, (hE 18 h4).1, (hE 19 h5).1, (hE 20 h6).1]; exact h.2 : t1.1 21 = 0 ∧ t1.1 22 = -1 ∧ ScAt t1 s ∧ ScW T s)
/-- what 'next' leaves -/
theorem RdAt.nx {t t1 : Tw} {T : List Int} {s : Sc} {S : List Nat} (h : RdAt t T (.inr s)) (hE : TwE S t t1) (h1 : 16 ∉ S) (h2 : 14 ∉ S) (h7 : 21 ∉ S) (h8 : 22 ∉ S) (hs : ScAt t1 (tok T (scA s))) : RdAt t1 T (.inr (tok T (scA s))) :=
  ⟨h.1.mv hE h1 h2, by rw [(hE 21 h7).1]; exact h.2.1, by rw [(hE 22 h8).1]; exact h.2.2.1, hs, tok_w h.2.2.2.2.2.1⟩
theorem RdAt.er {t t1 : Tw} {T : List Int} {s : Sc} {S : List Nat} {c : Int} (h : RdAt t T (.inr s)) (hE : TwE S t t1) (h1 : 16 ∉ S) (h2 : 14 ∉ S) (h3 : 17 ∉ S) (h4 : 18 ∉ S) (hc : 1 ≤ c ∧ c ≤ 9) (e1 : t1.1 21 = c) (e2 : t1.1 22 = (scB s : Int)) : RdAt t1 T (.inl (scB s, c)) := by
  have h8 := h.1.2.1.1
  have hw := h.2.2.2.2
  refine ⟨h.1.mv hE h1 h2, e1, e2, (by show c ≠ 0; omega), ?_, ?_⟩
  · rw [(hE 17 h3).1, h.2.2.2.1.2.1]; have := hw.2.1; omega
  · rw [(hE 18 h4).1, h.2.2.2.1.1]; have := hw.1; have := hw.2.1; exact ⟨by omega, by omega, hc⟩
theorem rNum_1 {T : List Int} {lo hi : Int} {s : Sc} (h : ¬ scK s = 2) : rNum T lo hi (.inr s) = (.inl (scB s, 1), lo) := if_neg h
theorem rNum_2 {T : List Int} {lo hi : Int} {s : Sc} (h : scK s = 2) (h2 : ¬ (lo ≤ scV s ∧ scV s ≤ hi)) : rNum T lo hi (.inr s) = (.inl (scB s, 2), lo) := (if_pos h).trans (if_neg h2)
theorem rNum_3 {T : List Int} {lo hi : Int} {s : Sc} (h : scK s = 2) (h2 : lo ≤ scV s ∧ scV s ≤ hi) : rNum T lo hi (.inr s) = (.inr (tok T (scA s)), scV s) := (if_pos h).trans (if_pos h2)
theorem rLook_1 {T : List Int} {s : Sc} (h : ¬ scK s = 1) : rLook T (.inr s) = (.inl (scB s, 1), []) := if_neg h
theorem rLook_2 {T : List Int} {s : Sc} (h : scK s = 1) (h2 : ¬ scA s - scB s ≤ 8) : rLook T (.inr s) = (.inl (scB s, 3), []) := (if_pos h).trans (if_neg h2)
theorem rLook_3 {T : List Int} {s : Sc} (h : scK s = 1) (h2 : scA s - scB s ≤ 8) : rLook T (.inr s) = (.inr s, scL T s) := (if_pos h).trans (if_pos h2)
def encR (q : Rd × List Int) : Int := match q.1 with
  | .inl _ => 0
  | .inr _ => enc q.2
theorem scL_len (T : List Int) (s : Sc) : (scL T s).length = scA s - scB s := by unfold scL; rw [List.length_map, List.length_range]
theorem scL_at (T : List Int) (s : Sc) {k : Nat} (hk : k < scA s - scB s) : dg (scL T s) k = bat T (scB s + k) - 96 := by
  unfold dg scL; simp [hk]
theorem scL_w {T : List Int} {s : Sc} (h : ScW T s) (h1 : scK s = 1) (h8 : scA s - scB s ≤ 8) : Wrd (scL T s) ∧ scL T s ≠ [] := by
  obtain ⟨ha, hb⟩ := h.2.2.2 h1
  refine ⟨⟨by rw [scL_len]; exact h8, fun c hc => ?_⟩, fun q => ?_⟩
  · obtain ⟨k, hk, rfl⟩ := List.mem_map.mp hc
    have := List.mem_range.mp hk
    exact hb _ (by omega) (by omega)
  · have := scL_len T s; rw [q] at this; simp at this; omega

theorem pn_yX10_errs : ParN yX10_errs 1 := by decide +kernel
theorem pn_yX10_next : ParN yX10_next 0 := by decide +kernel
theorem pn_yX10_wordHere : ParN yX10_wordHere 0 := by decide +kernel

set_option maxHeartbeats 4000000 in
set_option maxRecDepth 100000 in
/-- errs -/
theorem m_errsS (l : Launch) (G : Gl) (w : Wd) (a : Nat) (ad : Nat → Nat) (t : Tw) (hT : TwAt G w a ad t) (cd : Int) (T : List Int) (s : Sc) (hRd : RdAt t T (.inr s)) (hc : 1 ≤ cd ∧ cd ≤ 9) : HM l yX10_errs cX10_errs 2 none 1 0 0 G [.ref a, .int (iI (cd))] w (QV G (fun w_ => ∃ t_ : Tw, TwS G w w_ a ad t_ ∧ TwE [21, 22] t t_ ∧ RdAt t_ T (rErr cd (.inr s)))) := by
  refine HM.mk (by decide +kernel) (Nat.le_of_ble_eq_true rfl) ?_
  intro p9 e9 s9 m9 a9 b9 meth9 c9 ls X hret hlk hnm hl H hR
  have hx := X.1.1
  have hb := X.1.2.1
  have hl : lv_has ls 2 [(0, .ref a), (1, .int (iI (cd)))] := hl
  have hL : LK G [] := fun q h => absurd h List.not_mem_nil
  generalize ([] : List Loc) = locs at hL ⊢
  have hTb := hT
  have hT : TwS G w w a ad t := TwS.rf hT
  have hT8 := hRd.1.2.1.1
  have hW := hRd.2.2.2.2
  have hWa := hW.1
  have hWb := hW.2.1
  have hWk := hW.2.2.1
  refine lv_aload_n hx hb dX10_errs_0 rfl (lv_at hl 0 rfl) ?_
  refine tw_get X hR hT 21 (by decide) q2962 (v := .int (iI (0))) (congrArg (fun z => some (Value.int (iI z))) (hRd.2.1)) dX10_errs_1 ?_
  refine h_if_eq hx hb 8 dX10_errs_4 (by decide) (by decide) (fun _ => ?_) (fun z_ => absurd z_ (by decide))
  refine lv_aload_n hx hb dX10_errs_8 rfl (lv_at hl 0 rfl) ?_
  refine lv_iload_n hx hb dX10_errs_9 rfl (lv_at hl 1 rfl) ?_
  refine tw_puti X hR hL hT 21 (by decide) q2962 rfl rfl rfl twF_s21 (by omega) dX10_errs_10 (fun t_2 et_3 w_4 hT H locs hR hL => ?_)
  have hE_t_2 := TwE.put et_3
  have hv_t_2 := tput_v et_3
  refine lv_aload_n hx hb dX10_errs_13 rfl (lv_at hl 0 rfl) ?_
  refine lv_aload_n hx hb dX10_errs_14 rfl (lv_at hl 0 rfl) ?_
  refine tw_get X hR hT 18 (by decide) q2959 (v := .int (iI ((scB s : Int)))) (congrArg (fun z => some (Value.int (iI z))) (((hE_t_2 18 (by decide)).1).trans hRd.2.2.2.1.1)) dX10_errs_15 ?_
  refine tw_puti X hR hL hT 22 (by decide) q2963 rfl rfl rfl twF_s22 (by omega) dX10_errs_18 (fun t_5 et_6 w_7 hT H locs hR hL => ?_)
  have hE_t_5 := TwE.put et_6
  have hv_t_5 := tput_v et_6
  exact h_vreturn hx hb hlk hret hR hL ⟨t_5, hT, (TwE.tr (S2 := [21, 22]) (TwE.tr (S2 := [21, 22]) (TwE.rf : TwE [] t t) hE_t_2 rfl rfl) hE_t_5 rfl rfl), (hRd.er (TwE.tr (S2 := [21, 22]) (TwE.tr (S2 := [21, 22]) (TwE.rf : TwE [] t t) hE_t_2 rfl rfl) hE_t_5 rfl rfl) (by decide) (by decide) (by decide) (by decide) (by omega) (((hE_t_5 21 (by decide)).1).trans hv_t_2) hv_t_5)⟩ (by omega) (by omega) rfl rfl dX10_errs_21

set_option maxHeartbeats 4000000 in
set_option maxRecDepth 100000 in
/-- errs -/
theorem m_errsE (l : Launch) (G : Gl) (w : Wd) (a : Nat) (ad : Nat → Nat) (t : Tw) (hT : TwAt G w a ad t) (cd : Int) (T : List Int) (x : Nat × Int) (hRd : RdAt t T (.inl x)) (hc : 1 ≤ cd ∧ cd ≤ 9) : HM l yX10_errs cX10_errs 2 none 1 0 0 G [.ref a, .int (iI (cd))] w (QV G (fun w_ => ∃ t_ : Tw, TwS G w w_ a ad t_ ∧ TwE [21, 22] t t_ ∧ RdAt t_ T (rErr cd (.inl x)))) := by
  refine HM.mk (by decide +kernel) (Nat.le_of_ble_eq_true rfl) ?_
  intro p9 e9 s9 m9 a9 b9 meth9 c9 ls X hret hlk hnm hl H hR
  have hx := X.1.1
  have hb := X.1.2.1
  have hl : lv_has ls 2 [(0, .ref a), (1, .int (iI (cd)))] := hl
  have hL : LK G [] := fun q h => absurd h List.not_mem_nil
  generalize ([] : List Loc) = locs at hL ⊢
  have hTb := hT
  have hT : TwS G w w a ad t := TwS.rf hT
  have hT8 := hRd.1.2.1.1
  have hxr : R32 x.2 := by have := hTb.ri 21 (by decide) (by decide); rwa [hRd.2.1] at this
  have hx0 := hRd.2.2.2.1
  have hx17 := hRd.2.2.2.2.1
  have hx18 := hRd.2.2.2.2.2
  refine lv_aload_n hx hb dX10_errs_0 rfl (lv_at hl 0 rfl) ?_
  refine tw_get X hR hT 21 (by decide) q2962 (v := .int (iI (x.2))) (congrArg (fun z => some (Value.int (iI z))) (hRd.2.1)) dX10_errs_1 ?_
  refine h_if_eq hx hb 8 dX10_errs_4 (by decide) (by omega) (fun c_1 => ?_) (fun c_1 => ?_)
  ·
    exact absurd (by assumption) hx0
  ·
    exact h_vreturn hx hb hlk hret hR hL ⟨t, hT, (TwE.rf : TwE [21, 22] t t), hRd⟩ (by omega) (by omega) rfl rfl dX10_errs_7

theorem m_errs (l : Launch) (G : Gl) (w : Wd) (a : Nat) (ad : Nat → Nat) (t : Tw) (hT : TwAt G w a ad t) (cd : Int) (T : List Int) (e : Rd) (hRd : RdAt t T e) (hc : 1 ≤ cd ∧ cd ≤ 9) : HM l yX10_errs cX10_errs 2 none 1 0 0 G [.ref a, .int (iI (cd))] w (QV G (fun w_ => ∃ t_ : Tw, TwS G w w_ a ad t_ ∧ TwE [21, 22] t t_ ∧ RdAt t_ T (rErr cd e))) := by
  cases e with
  | inl x => exact m_errsE l G w a ad t hT cd T x hRd hc
  | inr s => exact m_errsS l G w a ad t hT cd T s hRd hc

set_option maxHeartbeats 4000000 in
set_option maxRecDepth 100000 in
/-- must -/
theorem m_mustS (l : Launch) (G : Gl) (w : Wd) (a : Nat) (ad : Nat → Nat) (t : Tw) (hT : TwAt G w a ad t) (its : Int) (T : List Int) (s : Sc) (hRd : RdAt t T (.inr s)) (hi : R32 its) : HM l yX10_must cX10_must 2 none 4 0 0 G [.ref a, .int (iI (its))] w (QV G (fun w_ => ∃ t_ : Tw, TwS G w w_ a ad t_ ∧ TwE [17, 18, 19, 20, 21, 22] t t_ ∧ RdAt t_ T (rMust T its (.inr s)))) := by
  refine HM.mk (by decide +kernel) (Nat.le_of_ble_eq_true rfl) ?_
  intro p9 e9 s9 m9 a9 b9 meth9 c9 ls X hret hlk hnm hl H hR
  have hx := X.1.1
  have hb := X.1.2.1
  have hl : lv_has ls 2 [(0, .ref a), (1, .int (iI (its)))] := hl
  have hL : LK G [] := fun q h => absurd h List.not_mem_nil
  generalize ([] : List Loc) = locs at hL ⊢
  have hTb := hT
  have hT : TwS G w w a ad t := TwS.rf hT
  have hT8 := hRd.1.2.1.1
  have hW := hRd.2.2.2.2
  have hWa := hW.1
  have hWb := hW.2.1
  have hWk := hW.2.2.1
  refine lv_aload_n hx hb dX10_must_0 rfl (lv_at hl 0 rfl) ?_
  refine tw_get X hR hT 19 (by decide) q2960 (v := .int (iI (scK s))) (congrArg (fun z => some (Value.int (iI z))) (hRd.2.2.2.1.2.2.1)) dX10_must_1 ?_
  refine lv_iload_n hx hb dX10_must_4 rfl (lv_at hl 1 rfl) ?_
  refine h_icmp_eq hx hb 13 dX10_must_5 (by decide) (by omega) (by omega) (fun c_k => ?_) (fun c_k => ?_)
  ·
    refine lv_aload_n hx hb dX10_must_13 rfl (lv_at hl 0 rfl) ?_
    refine tw_get X hR hT 21 (by decide) q2962 (v := .int (iI (0))) (congrArg (fun z => some (Value.int (iI z))) (hRd.2.1)) dX10_must_14 ?_
    refine h_if_ne hx hb 24 dX10_must_17 (by decide) (by omega) (fun c_w => ?_) (fun c_w => ?_)
    ·
      first | exact absurd c_w (by decide) | exact absurd rfl c_w
    ·
      refine lv_aload_n hx hb dX10_must_20 rfl (lv_at hl 0 rfl) ?_
      -- call SpokenMarksModel.next
      refine h_kV (h_runV X hR (m_next l G w a ad t hT.1 T (scA s) (hRd.1.mv (TwE.rf : TwE [17, 18, 19, 20, 21, 22] t t) (by decide) (by decide)) (hRd.2.2.2.1.2.1) hWb) pn_yX10_next (hasC.of hT.1.ob rfl) q2744 q2746 qs35 q161 q2747 ⟨by decide, by decide⟩ hl.1 (Nat.le_of_ble_eq_true rfl) dX10_must_21 ⟨by omega, by omega⟩) hL (fun w_2 hp_3 H locs hR hL => ?_)
      obtain ⟨t_4, hT2, hE_t_4, et_5⟩ := hp_3
      have hT := hT.tr hT2
      clear hT2
      have hRn := hRd.nx (TwE.tr (S2 := [17, 18, 19, 20]) (TwE.rf : TwE [] t t) hE_t_4 rfl rfl) (by decide) (by decide) (by decide) (by decide) et_5
      exact h_vreturn hx hb hlk hret hR hL ⟨t_4, hT, (TwE.tr (S2 := [17, 18, 19, 20, 21, 22]) (TwE.rf : TwE [] t t) hE_t_4 rfl rfl), (by show RdAt _ T (if scK s = its then _ else _); rw [if_pos c_k]; exact hRn)⟩ (by omega) (by omega) rfl rfl dX10_must_24
  ·
    refine lv_aload_n hx hb dX10_must_8 rfl (lv_at hl 0 rfl) ?_
    refine h_iconst hx hb dX10_must_9 ?_
    -- call SpokenMarksModel.errs
    refine h_kV (h_runV X hR (m_errs l G w a ad t hT.1 1 T ((.inr s)) hRd (by omega)) pn_yX10_errs (hasC.of hT.1.ob rfl) q2772 q2774 qs40 q161 q2775 ⟨by decide, by decide⟩ hl.1 (Nat.le_of_ble_eq_true rfl) dX10_must_10 ⟨by omega, by omega⟩) hL (fun w_7 hp_8 H locs hR hL => ?_)
    obtain ⟨t_9, hT2, hE_t_9, et_10⟩ := hp_8
    have hT := hT.tr hT2
    clear hT2
    refine lv_aload_n hx hb dX10_must_13 rfl (lv_at hl 0 rfl) ?_
    refine tw_get X hR hT 21 (by decide) q2962 (v := .int (iI (1))) (congrArg (fun z => some (Value.int (iI z))) (et_10.2.1)) dX10_must_14 ?_
    refine h_if_ne hx hb 24 dX10_must_17 (by decide) (by omega) (fun c_w => ?_) (fun c_w => ?_)
    ·
      exact h_vreturn hx hb hlk hret hR hL ⟨t_9, hT, (TwE.tr (S2 := [17, 18, 19, 20, 21, 22]) (TwE.rf : TwE [] t t) hE_t_9 rfl rfl), (by show RdAt _ T (if scK s = its then _ else _); rw [if_neg c_k]; exact et_10)⟩ (by omega) (by omega) rfl rfl dX10_must_24
    ·
      first | exact absurd c_w (by decide) | exact absurd rfl c_w

set_option maxHeartbeats 4000000 in
set_option maxRecDepth 100000 in
/-- must -/
theorem m_mustE (l : Launch) (G : Gl) (w : Wd) (a : Nat) (ad : Nat → Nat) (t : Tw) (hT : TwAt G w a ad t) (its : Int) (T : List Int) (x : Nat × Int) (hRd : RdAt t T (.inl x)) (hi : R32 its) : HM l yX10_must cX10_must 2 none 4 0 0 G [.ref a, .int (iI (its))] w (QV G (fun w_ => ∃ t_ : Tw, TwS G w w_ a ad t_ ∧ TwE [17, 18, 19, 20, 21, 22] t t_ ∧ RdAt t_ T (rMust T its (.inl x)))) := by
  refine HM.mk (by decide +kernel) (Nat.le_of_ble_eq_true rfl) ?_
  intro p9 e9 s9 m9 a9 b9 meth9 c9 ls X hret hlk hnm hl H hR
  have hx := X.1.1
  have hb := X.1.2.1
  have hl : lv_has ls 2 [(0, .ref a), (1, .int (iI (its)))] := hl
  have hL : LK G [] := fun q h => absurd h List.not_mem_nil
  generalize ([] : List Loc) = locs at hL ⊢
  have hTb := hT
  have hT : TwS G w w a ad t := TwS.rf hT
  have hT8 := hRd.1.2.1.1
  have hxr : R32 x.2 := by have := hTb.ri 21 (by decide) (by decide); rwa [hRd.2.1] at this
  have hx0 := hRd.2.2.2.1
  have hx17 := hRd.2.2.2.2.1
  have hx18 := hRd.2.2.2.2.2
  refine lv_aload_n hx hb dX10_must_0 rfl (lv_at hl 0 rfl) ?_
  refine tw_get X hR hT 19 (by decide) q2960 (v := .int (iI (t.1 19))) rfl dX10_must_1 ?_
  have rg_t_19 := hTb.ri 19 (by decide) (by decide)
  refine lv_iload_n hx hb dX10_must_4 rfl (lv_at hl 1 rfl) ?_
  refine h_icmp_eq hx hb 13 dX10_must_5 (by decide) (by omega) (by omega) (fun c_1 => ?_) (fun c_1 => ?_)
  ·
    refine lv_aload_n hx hb dX10_must_13 rfl (lv_at hl 0 rfl) ?_
    refine tw_get X hR hT 21 (by decide) q2962 (v := .int (iI (x.2))) (congrArg (fun z => some (Value.int (iI z))) (hRd.2.1)) dX10_must_14 ?_
    refine h_if_ne hx hb 24 dX10_must_17 (by decide) (by omega) (fun c_w => ?_) (fun c_w => ?_)
    ·
      exact h_vreturn hx hb hlk hret hR hL ⟨t, hT, (TwE.rf : TwE [17, 18, 19, 20, 21, 22] t t), hRd⟩ (by omega) (by omega) rfl rfl dX10_must_24
    ·
      first | exact absurd c_w hx0 | exact absurd (Decidable.not_not.mp c_w) hx0
  ·
    refine lv_aload_n hx hb dX10_must_8 rfl (lv_at hl 0 rfl) ?_
    refine h_iconst hx hb dX10_must_9 ?_
    -- call SpokenMarksModel.errs
    refine h_kV (h_runV X hR (m_errs l G w a ad t hT.1 1 T ((.inl x)) hRd (by omega)) pn_yX10_errs (hasC.of hT.1.ob rfl) q2772 q2774 qs40 q161 q2775 ⟨by decide, by decide⟩ hl.1 (Nat.le_of_ble_eq_true rfl) dX10_must_10 ⟨by omega, by omega⟩) hL (fun w_3 hp_4 H locs hR hL => ?_)
    obtain ⟨t_5, hT2, hE_t_5, et_6⟩ := hp_4
    have hT := hT.tr hT2
    clear hT2
    refine lv_aload_n hx hb dX10_must_13 rfl (lv_at hl 0 rfl) ?_
    refine tw_get X hR hT 21 (by decide) q2962 (v := .int (iI (x.2))) (congrArg (fun z => some (Value.int (iI z))) (et_6.2.1)) dX10_must_14 ?_
    refine h_if_ne hx hb 24 dX10_must_17 (by decide) (by omega) (fun c_w => ?_) (fun c_w => ?_)
    ·
      exact h_vreturn hx hb hlk hret hR hL ⟨t_5, hT, (TwE.tr (S2 := [17, 18, 19, 20, 21, 22]) (TwE.rf : TwE [] t t) hE_t_5 rfl rfl), et_6⟩ (by omega) (by omega) rfl rfl dX10_must_24
    ·
      first | exact absurd c_w hx0 | exact absurd (Decidable.not_not.mp c_w) hx0

theorem m_must (l : Launch) (G : Gl) (w : Wd) (a : Nat) (ad : Nat → Nat) (t : Tw) (hT : TwAt G w a ad t) (its : Int) (T : List Int) (e : Rd) (hRd : RdAt t T e) (hi : R32 its) : HM l yX10_must cX10_must 2 none 4 0 0 G [.ref a, .int (iI (its))] w (QV G (fun w_ => ∃ t_ : Tw, TwS G w w_ a ad t_ ∧ TwE [17, 18, 19, 20, 21, 22] t t_ ∧ RdAt t_ T (rMust T its e))) := by
  cases e with
  | inl x => exact m_mustE l G w a ad t hT its T x hRd hi
  | inr s => exact m_mustS l G w a ad t hT its T s hRd hi

set_option maxHeartbeats 4000000 in
set_option maxRecDepth 100000 in
/-- number0 -/
theorem m_number0S (l : Launch) (G : Gl) (w : Wd) (a : Nat) (ad : Nat → Nat) (t : Tw) (hT : TwAt G w a ad t) (lo : Int) (hi : Int) (T : List Int) (s : Sc) (hRd : RdAt t T (.inr s)) (hlo : 0 ≤ lo ∧ lo < 1000000) (hhi : 0 ≤ hi ∧ hi < 1000000) : HM l yX10_number0 cX10_number0 4 (some .int) 4 0 0 G [.ref a, .int (iI (lo)), .int (iI (hi))] w (QI G (fun z_ w_ => z_ = (rNum T lo hi (.inr s)).2 ∧ ∃ t_ : Tw, TwS G w w_ a ad t_ ∧ TwE [17, 18, 19, 20, 21, 22] t t_ ∧ RdAt t_ T (rNum T lo hi (.inr s)).1)) := by
  refine HM.mk (by decide +kernel) (Nat.le_of_ble_eq_true rfl) ?_
  intro p9 e9 s9 m9 a9 b9 meth9 c9 ls X hret hlk hnm hl H hR
  have hx := X.1.1
  have hb := X.1.2.1
  have hl : lv_has ls 4 [(0, .ref a), (1, .int (iI (lo))), (2, .int (iI (hi)))] := hl
  have hL : LK G [] := fun q h => absurd h List.not_mem_nil
  generalize ([] : List Loc) = locs at hL ⊢
  have hTb := hT
  have hT : TwS G w w a ad t := TwS.rf hT
  have hT8 := hRd.1.2.1.1
  have hW := hRd.2.2.2.2
  have hWa := hW.1
  have hWb := hW.2.1
  have hWk := hW.2.2.1
  refine lv_aload_n hx hb dX10_number0_0 rfl (lv_at hl 0 rfl) ?_
  refine tw_get X hR hT 19 (by decide) q2960 (v := .int (iI (scK s))) (congrArg (fun z => some (Value.int (iI z))) (hRd.2.2.2.1.2.2.1)) dX10_number0_1 ?_
  refine h_iconst hx hb dX10_number0_4 ?_
  refine h_icmp_eq hx hb 16 dX10_number0_5 (by decide) (by omega) (by omega) (fun c_k => ?_) (fun c_k => ?_)
  ·
    obtain ⟨hv0, hv1⟩ := hRd.2.2.2.1.2.2.2 c_k
    refine lv_aload_n hx hb dX10_number0_16 rfl (lv_at hl 0 rfl) ?_
    refine tw_get X hR hT 20 (by decide) q2961 (v := .int (iI (t.1 20))) rfl dX10_number0_17 ?_
    have rg_t_20 := hTb.ri 20 (by decide) (by decide)
    refine h_i2l hx hb dX10_number0_20 (by omega) ?_
    refine lv_iload_n hx hb dX10_number0_21 rfl (lv_at hl 1 rfl) ?_
    refine h_i2l hx hb dX10_number0_22 (by omega) ?_
    refine lv_iload_n hx hb dX10_number0_23 rfl (lv_at hl 2 rfl) ?_
    refine h_i2l hx hb dX10_number0_24 (by omega) ?_
    -- call SpokenMarksModel.in
    refine h_kIp (h_runS X hR (m_in l G w  (t.1 20) lo hi (by omega) (by omega) (by omega)) pn_yX10_in q2730 q2731 q161 q2732 ⟨by decide, by decide⟩ hl.1 (Nat.le_of_ble_eq_true rfl) dX10_number0_25 ⟨by omega, by omega⟩) hL (fun H locs hR hL => ?_)
    refine h_if_ne hx hb 36 dX10_number0_28 (by decide) (b2i_R _) (fun c_i => ?_) (fun c_i => ?_)
    ·
      have hin := b2i_n1.mp c_i
      have hyes : lo ≤ scV s ∧ scV s ≤ hi := by omega
      refine lv_aload_n hx hb dX10_number0_36 rfl (lv_at hl 0 rfl) ?_
      refine tw_get X hR hT 21 (by decide) q2962 (v := .int (iI (0))) (congrArg (fun z => some (Value.int (iI z))) (hRd.2.1)) dX10_number0_37 ?_
      refine h_if_eq hx hb 45 dX10_number0_40 (by decide) (by omega) (fun c_w => ?_) (fun c_w => ?_)
      ·
        refine lv_aload_n hx hb dX10_number0_45 rfl (lv_at hl 0 rfl) ?_
        refine tw_get X hR hT 20 (by decide) q2961 (v := .int (iI (t.1 20))) rfl dX10_number0_46 ?_
        refine lv_istore_n (lv' := [(3, .int (iI (t.1 20))), (0, .ref a), (1, .int (iI (lo))), (2, .int (iI (hi)))]) hx hb dX10_number0_49 rfl hl (by decide) rfl (fun ls hl => ?_)
        refine lv_aload_n hx hb dX10_number0_50 rfl (lv_at hl 1 rfl) ?_
        -- call SpokenMarksModel.next
        refine h_kV (h_runV X hR (m_next l G w a ad t hT.1 T (scA s) (hRd.1.mv (TwE.rf : TwE [17, 18, 19, 20, 21, 22] t t) (by decide) (by decide)) (hRd.2.2.2.1.2.1) hWb) pn_yX10_next (hasC.of hT.1.ob rfl) q2744 q2746 qs35 q161 q2747 ⟨by decide, by decide⟩ hl.1 (Nat.le_of_ble_eq_true rfl) dX10_number0_51 ⟨by omega, by omega⟩) hL (fun w_5 hp_6 H locs hR hL => ?_)
        obtain ⟨t_7, hT2, hE_t_7, et_8⟩ := hp_6
        have hT := hT.tr hT2
        clear hT2
        have hRn := hRd.nx (TwE.tr (S2 := [17, 18, 19, 20]) (TwE.rf : TwE [] t t) hE_t_7 rfl rfl) (by decide) (by decide) (by decide) (by decide) et_8
        refine lv_iload_n hx hb dX10_number0_54 rfl (lv_at hl 0 rfl) ?_
        exact h_ireturn hx hb hlk hret hR hL rfl ⟨(by rw [rNum_3 c_k hyes]; show _ = scV s; omega), ⟨t_7, hT, (TwE.tr (S2 := [17, 18, 19, 20, 21, 22]) (TwE.rf : TwE [] t t) hE_t_7 rfl rfl), (by rw [rNum_3 c_k hyes]; exact hRn)⟩⟩ (by omega) (by omega) rfl rfl dX10_number0_55
      ·
        first | exact absurd c_w (by decide) | exact absurd rfl c_w
    ·
      have hin := b2i_0.mp c_i
      have hno : ¬ (lo ≤ scV s ∧ scV s ≤ hi) := by omega
      refine lv_aload_n hx hb dX10_number0_31 rfl (lv_at hl 0 rfl) ?_
      refine h_iconst hx hb dX10_number0_32 ?_
      -- call SpokenMarksModel.errs
      refine h_kV (h_runV X hR (m_errs l G w a ad t hT.1 2 T ((.inr s)) hRd (by omega)) pn_yX10_errs (hasC.of hT.1.ob rfl) q2772 q2774 qs40 q161 q2775 ⟨by decide, by decide⟩ hl.1 (Nat.le_of_ble_eq_true rfl) dX10_number0_33 ⟨by omega, by omega⟩) hL (fun w_10 hp_11 H locs hR hL => ?_)
      obtain ⟨t_12, hT2, hE_t_12, et_13⟩ := hp_11
      have hT := hT.tr hT2
      clear hT2
      refine lv_aload_n hx hb dX10_number0_36 rfl (lv_at hl 0 rfl) ?_
      refine tw_get X hR hT 21 (by decide) q2962 (v := .int (iI (2))) (congrArg (fun z => some (Value.int (iI z))) (et_13.2.1)) dX10_number0_37 ?_
      refine h_if_eq hx hb 45 dX10_number0_40 (by decide) (by omega) (fun c_w => ?_) (fun c_w => ?_)
      ·
        first | exact absurd c_w (by decide) | exact absurd rfl c_w
      ·
        refine lv_iload_n hx hb dX10_number0_43 rfl (lv_at hl 1 rfl) ?_
        exact h_ireturn hx hb hlk hret hR hL rfl ⟨(by rw [rNum_2 c_k hno]), ⟨t_12, hT, (TwE.tr (S2 := [17, 18, 19, 20, 21, 22]) (TwE.rf : TwE [] t t) hE_t_12 rfl rfl), (by rw [rNum_2 c_k hno]; exact et_13)⟩⟩ (by omega) (by omega) rfl rfl dX10_number0_44
  ·
    refine lv_aload_n hx hb dX10_number0_8 rfl (lv_at hl 0 rfl) ?_
    refine h_iconst hx hb dX10_number0_9 ?_
    -- call SpokenMarksModel.errs
    refine h_kV (h_runV X hR (m_errs l G w a ad t hT.1 1 T ((.inr s)) hRd (by omega)) pn_yX10_errs (hasC.of hT.1.ob rfl) q2772 q2774 qs40 q161 q2775 ⟨by decide, by decide⟩ hl.1 (Nat.le_of_ble_eq_true rfl) dX10_number0_10 ⟨by omega, by omega⟩) hL (fun w_15 hp_16 H locs hR hL => ?_)
    obtain ⟨t_17, hT2, hE_t_17, et_18⟩ := hp_16
    have hT := hT.tr hT2
    clear hT2
    refine lv_goto (tgt := 36) hx hb dX10_number0_13 (by decide) ?_
    refine lv_aload_n hx hb dX10_number0_36 rfl (lv_at hl 0 rfl) ?_
    refine tw_get X hR hT 21 (by decide) q2962 (v := .int (iI (1))) (congrArg (fun z => some (Value.int (iI z))) (et_18.2.1)) dX10_number0_37 ?_
    refine h_if_eq hx hb 45 dX10_number0_40 (by decide) (by omega) (fun c_w => ?_) (fun c_w => ?_)
    ·
      first | exact absurd c_w (by decide) | exact absurd rfl c_w
    ·
      refine lv_iload_n hx hb dX10_number0_43 rfl (lv_at hl 1 rfl) ?_
      exact h_ireturn hx hb hlk hret hR hL rfl ⟨(by rw [rNum_1 c_k]), ⟨t_17, hT, (TwE.tr (S2 := [17, 18, 19, 20, 21, 22]) (TwE.rf : TwE [] t t) hE_t_17 rfl rfl), (by rw [rNum_1 c_k]; exact et_18)⟩⟩ (by omega) (by omega) rfl rfl dX10_number0_44

set_option maxHeartbeats 4000000 in
set_option maxRecDepth 100000 in
/-- number0 -/
theorem m_number0E (l : Launch) (G : Gl) (w : Wd) (a : Nat) (ad : Nat → Nat) (t : Tw) (hT : TwAt G w a ad t) (lo : Int) (hi : Int) (T : List Int) (x : Nat × Int) (hRd : RdAt t T (.inl x)) (hlo : 0 ≤ lo ∧ lo < 1000000) (hhi : 0 ≤ hi ∧ hi < 1000000) : HM l yX10_number0 cX10_number0 4 (some .int) 4 0 0 G [.ref a, .int (iI (lo)), .int (iI (hi))] w (QI G (fun z_ w_ => z_ = (rNum T lo hi (.inl x)).2 ∧ ∃ t_ : Tw, TwS G w w_ a ad t_ ∧ TwE [17, 18, 19, 20, 21, 22] t t_ ∧ RdAt t_ T (rNum T lo hi (.inl x)).1)) := by
  refine HM.mk (by decide +kernel) (Nat.le_of_ble_eq_true rfl) ?_
  intro p9 e9 s9 m9 a9 b9 meth9 c9 ls X hret hlk hnm hl H hR
  have hx := X.1.1
  have hb := X.1.2.1
  have hl : lv_has ls 4 [(0, .ref a), (1, .int (iI (lo))), (2, .int (iI (hi)))] := hl
  have hL : LK G [] := fun q h => absurd h List.not_mem_nil
  generalize ([] : List Loc) = locs at hL ⊢
  have hTb := hT
  have hT : TwS G w w a ad t := TwS.rf hT
  have hT8 := hRd.1.2.1.1
  have hxr : R32 x.2 := by have := hTb.ri 21 (by decide) (by decide); rwa [hRd.2.1] at this
  have hx0 := hRd.2.2.2.1
  have hx17 := hRd.2.2.2.2.1
  have hx18 := hRd.2.2.2.2.2
  refine lv_aload_n hx hb dX10_number0_0 rfl (lv_at hl 0 rfl) ?_
  refine tw_get X hR hT 19 (by decide) q2960 (v := .int (iI (t.1 19))) rfl dX10_number0_1 ?_
  have rg_t_19 := hTb.ri 19 (by decide) (by decide)
  refine h_iconst hx hb dX10_number0_4 ?_
  refine h_icmp_eq hx hb 16 dX10_number0_5 (by decide) (by omega) (by omega) (fun c_1 => ?_) (fun c_1 => ?_)
  ·
    refine lv_aload_n hx hb dX10_number0_16 rfl (lv_at hl 0 rfl) ?_
    refine tw_get X hR hT 20 (by decide) q2961 (v := .int (iI (t.1 20))) rfl dX10_number0_17 ?_
    have rg_t_20 := hTb.ri 20 (by decide) (by decide)
    refine h_i2l hx hb dX10_number0_20 (by omega) ?_
    refine lv_iload_n hx hb dX10_number0_21 rfl (lv_at hl 1 rfl) ?_
    refine h_i2l hx hb dX10_number0_22 (by omega) ?_
    refine lv_iload_n hx hb dX10_number0_23 rfl (lv_at hl 2 rfl) ?_
    refine h_i2l hx hb dX10_number0_24 (by omega) ?_
    -- call SpokenMarksModel.in
    refine h_kIp (h_runS X hR (m_in l G w  (t.1 20) lo hi (by omega) (by omega) (by omega)) pn_yX10_in q2730 q2731 q161 q2732 ⟨by decide, by decide⟩ hl.1 (Nat.le_of_ble_eq_true rfl) dX10_number0_25 ⟨by omega, by omega⟩) hL (fun H locs hR hL => ?_)
    refine h_if_ne hx hb 36 dX10_number0_28 (by decide) (b2i_R _) (fun c_i => ?_) (fun c_i => ?_)
    ·
      refine lv_aload_n hx hb dX10_number0_36 rfl (lv_at hl 0 rfl) ?_
      refine tw_get X hR hT 21 (by decide) q2962 (v := .int (iI (x.2))) (congrArg (fun z => some (Value.int (iI z))) (hRd.2.1)) dX10_number0_37 ?_
      refine h_if_eq hx hb 45 dX10_number0_40 (by decide) (by omega) (fun c_w => ?_) (fun c_w => ?_)
      ·
        first | exact absurd c_w hx0 | exact absurd (Decidable.not_not.mp c_w) hx0
      ·
        refine lv_iload_n hx hb dX10_number0_43 rfl (lv_at hl 1 rfl) ?_
        exact h_ireturn hx hb hlk hret hR hL rfl ⟨rfl, ⟨t, hT, (TwE.rf : TwE [17, 18, 19, 20, 21, 22] t t), hRd⟩⟩ (by omega) (by omega) rfl rfl dX10_number0_44
    ·
      refine lv_aload_n hx hb dX10_number0_31 rfl (lv_at hl 0 rfl) ?_
      refine h_iconst hx hb dX10_number0_32 ?_
      -- call SpokenMarksModel.errs
      refine h_kV (h_runV X hR (m_errs l G w a ad t hT.1 2 T ((.inl x)) hRd (by omega)) pn_yX10_errs (hasC.of hT.1.ob rfl) q2772 q2774 qs40 q161 q2775 ⟨by decide, by decide⟩ hl.1 (Nat.le_of_ble_eq_true rfl) dX10_number0_33 ⟨by omega, by omega⟩) hL (fun w_6 hp_7 H locs hR hL => ?_)
      obtain ⟨t_8, hT2, hE_t_8, et_9⟩ := hp_7
      have hT := hT.tr hT2
      clear hT2
      refine lv_aload_n hx hb dX10_number0_36 rfl (lv_at hl 0 rfl) ?_
      refine tw_get X hR hT 21 (by decide) q2962 (v := .int (iI (x.2))) (congrArg (fun z => some (Value.int (iI z))) (et_9.2.1)) dX10_number0_37 ?_
      refine h_if_eq hx hb 45 dX10_number0_40 (by decide) (by omega) (fun c_w => ?_) (fun c_w => ?_)
      ·
        first | exact absurd c_w hx0 | exact absurd (Decidable.not_not.mp c_w) hx0
      ·
        refine lv_iload_n hx hb dX10_number0_43 rfl (lv_at hl 1 rfl) ?_
        exact h_ireturn hx hb hlk hret hR hL rfl ⟨rfl, ⟨t_8, hT, (TwE.tr (S2 := [17, 18, 19, 20, 21, 22]) (TwE.rf : TwE [] t t) hE_t_8 rfl rfl), et_9⟩⟩ (by omega) (by omega) rfl rfl dX10_number0_44
  ·
    refine lv_aload_n hx hb dX10_number0_8 rfl (lv_at hl 0 rfl) ?_
    refine h_iconst hx hb dX10_number0_9 ?_
    -- call SpokenMarksModel.errs
    refine h_kV (h_runV X hR (m_errs l G w a ad t hT.1 1 T ((.inl x)) hRd (by omega)) pn_yX10_errs (hasC.of hT.1.ob rfl) q2772 q2774 qs40 q161 q2775 ⟨by decide, by decide⟩ hl.1 (Nat.le_of_ble_eq_true rfl) dX10_number0_10 ⟨by omega, by omega⟩) hL (fun w_11 hp_12 H locs hR hL => ?_)
    obtain ⟨t_13, hT2, hE_t_13, et_14⟩ := hp_12
    have hT := hT.tr hT2
    clear hT2
    refine lv_goto (tgt := 36) hx hb dX10_number0_13 (by decide) ?_
    refine lv_aload_n hx hb dX10_number0_36 rfl (lv_at hl 0 rfl) ?_
    refine tw_get X hR hT 21 (by decide) q2962 (v := .int (iI (x.2))) (congrArg (fun z => some (Value.int (iI z))) (et_14.2.1)) dX10_number0_37 ?_
    refine h_if_eq hx hb 45 dX10_number0_40 (by decide) (by omega) (fun c_w => ?_) (fun c_w => ?_)
    ·
      first | exact absurd c_w hx0 | exact absurd (Decidable.not_not.mp c_w) hx0
    ·
      refine lv_iload_n hx hb dX10_number0_43 rfl (lv_at hl 1 rfl) ?_
      exact h_ireturn hx hb hlk hret hR hL rfl ⟨rfl, ⟨t_13, hT, (TwE.tr (S2 := [17, 18, 19, 20, 21, 22]) (TwE.rf : TwE [] t t) hE_t_13 rfl rfl), et_14⟩⟩ (by omega) (by omega) rfl rfl dX10_number0_44

theorem m_number0 (l : Launch) (G : Gl) (w : Wd) (a : Nat) (ad : Nat → Nat) (t : Tw) (hT : TwAt G w a ad t) (lo : Int) (hi : Int) (T : List Int) (e : Rd) (hRd : RdAt t T e) (hlo : 0 ≤ lo ∧ lo < 1000000) (hhi : 0 ≤ hi ∧ hi < 1000000) : HM l yX10_number0 cX10_number0 4 (some .int) 4 0 0 G [.ref a, .int (iI (lo)), .int (iI (hi))] w (QI G (fun z_ w_ => z_ = (rNum T lo hi e).2 ∧ ∃ t_ : Tw, TwS G w w_ a ad t_ ∧ TwE [17, 18, 19, 20, 21, 22] t t_ ∧ RdAt t_ T (rNum T lo hi e).1)) := by
  cases e with
  | inl x => exact m_number0E l G w a ad t hT lo hi T x hRd hlo hhi
  | inr s => exact m_number0S l G w a ad t hT lo hi T s hRd hlo hhi

set_option maxHeartbeats 4000000 in
set_option maxRecDepth 100000 in
/-- wordHere -/
theorem m_wordHereS (l : Launch) (G : Gl) (w : Wd) (a : Nat) (ad : Nat → Nat) (t : Tw) (hT : TwAt G w a ad t)  (T : List Int) (s : Sc) (hRd : RdAt t T (.inr s)) : HM l yX10_wordHere cX10_wordHere 2 (some .long) 2 0 0 G [.ref a] w (QL G (fun z_ w_ => z_ = encR (rLook T (.inr s)) ∧ ∃ t_ : Tw, TwS G w w_ a ad t_ ∧ TwE [1, 2, 21, 22] t t_ ∧ RdAt t_ T (rLook T (.inr s)).1)) := by
  refine HM.mk (by decide +kernel) (Nat.le_of_ble_eq_true rfl) ?_
  intro p9 e9 s9 m9 a9 b9 meth9 c9 ls X hret hlk hnm hl H hR
  have hx := X.1.1
  have hb := X.1.2.1
  have hl : lv_has ls 2 [(0, .ref a)] := hl
  have hL : LK G [] := fun q h => absurd h List.not_mem_nil
  generalize ([] : List Loc) = locs at hL ⊢
  have hTb := hT
  have hT : TwS G w w a ad t := TwS.rf hT
  have hT8 := hRd.1.2.1.1
  have hW := hRd.2.2.2.2
  have hWa := hW.1
  have hWb := hW.2.1
  have hWk := hW.2.2.1
  refine lv_aload_n hx hb dX10_wordHere_0 rfl (lv_at hl 0 rfl) ?_
  refine tw_get X hR hT 19 (by decide) q2960 (v := .int (iI (scK s))) (congrArg (fun z => some (Value.int (iI z))) (hRd.2.2.2.1.2.2.1)) dX10_wordHere_1 ?_
  refine h_iconst hx hb dX10_wordHere_4 ?_
  refine h_icmp_eq hx hb 16 dX10_wordHere_5 (by decide) (by omega) (by omega) (fun c_k => ?_) (fun c_k => ?_)
  ·
    refine lv_aload_n hx hb dX10_wordHere_16 rfl (lv_at hl 0 rfl) ?_
    refine tw_get X hR hT 17 (by decide) q2958 (v := .int (iI ((scA s : Int)))) (congrArg (fun z => some (Value.int (iI z))) (hRd.2.2.2.1.2.1)) dX10_wordHere_17 ?_
    refine lv_aload_n hx hb dX10_wordHere_20 rfl (lv_at hl 0 rfl) ?_
    refine tw_get X hR hT 18 (by decide) q2959 (v := .int (iI ((scB s : Int)))) (congrArg (fun z => some (Value.int (iI z))) (hRd.2.2.2.1.1)) dX10_wordHere_21 ?_
    refine h_isub hx hb dX10_wordHere_24 ?_
    refine h_bipush hx hb dX10_wordHere_25 (by decide) ?_
    refine h_icmp_le hx hb 35 dX10_wordHere_27 (by decide) (by omega) (by omega) (fun c_8 => ?_) (fun c_8 => ?_)
    ·
      refine lv_aload_n hx hb dX10_wordHere_35 rfl (lv_at hl 0 rfl) ?_
      refine tw_get X hR hT 21 (by decide) q2962 (v := .int (iI (0))) (congrArg (fun z => some (Value.int (iI z))) (hRd.2.1)) dX10_wordHere_36 ?_
      refine h_if_eq hx hb 44 dX10_wordHere_39 (by decide) (by omega) (fun c_w => ?_) (fun c_w => ?_)
      ·
        refine lv_aload_n hx hb dX10_wordHere_44 rfl (lv_at hl 0 rfl) ?_
        refine lv_aload_n hx hb dX10_wordHere_45 rfl (lv_at hl 0 rfl) ?_
        refine tw_get X hR hT 17 (by decide) q2958 (v := .int (iI ((scA s : Int)))) (congrArg (fun z => some (Value.int (iI z))) (hRd.2.2.2.1.2.1)) dX10_wordHere_46 ?_
        refine lv_aload_n hx hb dX10_wordHere_49 rfl (lv_at hl 0 rfl) ?_
        refine tw_get X hR hT 18 (by decide) q2959 (v := .int (iI ((scB s : Int)))) (congrArg (fun z => some (Value.int (iI z))) (hRd.2.2.2.1.1)) dX10_wordHere_50 ?_
        refine h_isub hx hb dX10_wordHere_53 ?_
        refine tw_puti X hR hL hT 2 (by decide) q2943 rfl rfl rfl twF_s2 (by omega) dX10_wordHere_54 (fun t_1 et_2 w_3 hT H locs hR hL => ?_)
        have hE_t_1 := TwE.put et_2
        have hv_t_1 := tput_v et_2
        refine h_iconst hx hb dX10_wordHere_57 ?_
        refine lv_istore_n (lv' := [(1, .int (iI (0))), (0, .ref a)]) hx hb dX10_wordHere_58 rfl hl (by decide) rfl (fun ls hl => ?_)
        have LOOP_6 : ∀ (N_ : Nat) (k : Nat) (t_4 : Tw) (w_5 : Wd), (k ≤ scA s - scB s) → (TwS G w w_5 a ad t_4) → (TwE [1] t_1 t_4) → (∀ j, j < k → t_4.2 1 j = dg (scL T s) j) → (scA s - k) < N_ → ∀ (H : Heap) (locs : List Loc) (ls : Array Slot), Rp G w_5 H → LK G locs → lv_has ls 2 [(0, .ref a), (1, .int (iI ((k : Int))))] → W p9 l e9 (rmk 2 0 0) s9 m9 a9 b9 meth9 c9 H locs 0 0 (MQ b9 (QL G (fun z_ w_ => z_ = encR (rLook T (.inr s)) ∧ ∃ t_ : Tw, TwS G w w_ a ad t_ ∧ TwE [1, 2, 21, 22] t t_ ∧ RdAt t_ T (rLook T (.inr s)).1)) a9 s9 0 0 (frG G)) (F0 m9 59 ls []) := by
          intro N_
          induction N_ with
          | zero => intro _ _ _ _ _ _ _ h_; exact absurd h_ (Nat.not_lt_zero _)
          | succ N_ ih_ =>
            intro k t_4 w_5 hk hT hE_t_4 hs hN_ H locs ls hR hL hl
            have ih_6 := ih_
            clear ih_
            refine lv_iload_n hx hb dX10_wordHere_59 rfl (lv_at hl 1 rfl) ?_
            refine lv_aload_n hx hb dX10_wordHere_60 rfl (lv_at hl 0 rfl) ?_
            refine tw_get X hR hT 2 (by decide) q2943 (v := .int (iI (((scA s : Int)) - ((scB s : Int))))) (congrArg (fun z => some (Value.int (iI z))) (((hE_t_4 2 (by decide)).1).trans hv_t_1)) dX10_wordHere_61 ?_
            refine h_icmp_ge hx hb 95 dX10_wordHere_64 (by decide) (by omega) (by omega) (fun c_7 => ?_) (fun c_7 => ?_)
            ·
              refine lv_aload_n hx hb dX10_wordHere_95 rfl (lv_at hl 0 rfl) ?_
              -- call SpokenMarksModel.spelled
              refine h_kLp (h_runV X hR (m_spelled l G w_5 a ad t_4 hT.1 (scL T s) ⟨(((hE_t_4 2 (by decide)).1).trans hv_t_1).trans (by rw [scL_len]; omega), (scL_w hW c_k (by omega)).1, fun j hj => hs j (by rw [scL_len] at hj; omega)⟩) pn_yX10_spelled (hasC.of hT.1.ob rfl) q2797 q2799 qs46 q161 q2800 ⟨by decide, by decide⟩ hl.1 (Nat.le_of_ble_eq_true rfl) dX10_wordHere_96 ⟨by omega, by omega⟩) hL (fun H locs hR hL => ?_)
              exact h_lreturn hx hb hlk hret hR hL ⟨(by rw [rLook_3 c_k (by omega)]; rfl), ⟨t_4, hT, (TwE.tr (S2 := [1, 2, 21, 22]) (TwE.tr (S2 := [1, 2, 21, 22]) (TwE.rf : TwE [] t t) hE_t_1 rfl rfl) hE_t_4 rfl rfl), (by rw [rLook_3 c_k (by omega)]; exact hRd.mv (TwE.tr (S2 := [1, 2]) (TwE.tr (S2 := [1, 2]) (TwE.rf : TwE [] t t) hE_t_1 rfl rfl) hE_t_4 rfl rfl) (by decide) (by decide) (by decide) (by decide) (by decide) (by decide) (by decide) (by decide))⟩⟩ (by omega) (by omega) rfl rfl dX10_wordHere_99
            ·
              refine lv_aload_n hx hb dX10_wordHere_67 rfl (lv_at hl 0 rfl) ?_
              refine tw_get X hR hT 1 (by decide) q2942 rfl dX10_wordHere_68 ?_
              refine lv_iload_n hx hb dX10_wordHere_71 rfl (lv_at hl 1 rfl) ?_
              refine lv_aload_n hx hb dX10_wordHere_72 rfl (lv_at hl 0 rfl) ?_
              refine tw_get X hR hT 14 (by decide) q2955 rfl dX10_wordHere_73 ?_
              refine lv_aload_n hx hb dX10_wordHere_76 rfl (lv_at hl 0 rfl) ?_
              refine tw_get X hR hT 18 (by decide) q2959 (v := .int (iI ((scB s : Int)))) (congrArg (fun z => some (Value.int (iI z))) ((((hE_t_4 18 (by decide)).1).trans (hE_t_1 18 (by decide)).1).trans hRd.2.2.2.1.1)) dX10_wordHere_77 ?_
              refine lv_iload_n hx hb dX10_wordHere_80 rfl (lv_at hl 1 rfl) ?_
              refine h_iadd hx hb dX10_wordHere_81 ?_
              refine tw_iald X hR hT (k := 14) (by decide) (scB s + k) (by omega) (by show _ < _; simp only [twN]; omega) (v := bat T (scB s + k)) ((congrFun (((hE_t_4 14 (by decide)).2).trans (hE_t_1 14 (by decide)).2) (scB s + k)).trans (hRd.1.bt (by omega))) dX10_wordHere_82 (fun ra_82 => ?_)
              have hbr := bat_r hRd.1.2.1 (scB s + k)
              refine h_bipush hx hb dX10_wordHere_83 (by decide) ?_
              refine h_isub hx hb dX10_wordHere_85 ?_
              refine h_iconst hx hb dX10_wordHere_86 ?_
              refine h_iadd hx hb dX10_wordHere_87 ?_
              refine tw_iast X hR hL hT (k := 1) (by decide) k (by omega) (by show _ < _; simp only [twN]; omega) (by omega) dX10_wordHere_88 (fun t_11 et_12 w_13 hT H locs hR hL => ?_)
              have hE_t_11 := TwE.ast et_12
              have hv_t_11 := tast_v et_12
              refine h_iinc (lv' := [(1, .int (iI ((k : Int) + 1))), (0, .ref a)]) hx hb dX10_wordHere_89 hl (k := 1) rfl (by decide) rfl (fun ls hl => ?_)
              refine lv_goto (tgt := 59) hx hb dX10_wordHere_92 (by decide) ?_
              exact ih_6 (k + 1) t_11 w_13 (by omega) hT (TwE.tr (S2 := [1]) (TwE.tr (S2 := [1]) (TwE.rf : TwE [] t_1 t_1) hE_t_4 rfl rfl) hE_t_11 rfl rfl) (fun j hj => by rw [hv_t_11]; unfold zset; by_cases hjk : j = k; (rw [if_pos hjk, hjk, scL_at T s (by omega)]; omega); (rw [if_neg hjk]; exact hs j (by omega))) (by omega) _ _ _ hR hL (lv_sub hl [1, 0] rfl)
        exact LOOP_6 _ 0 t_1 w_3 (by omega) hT (TwE.rf : TwE [1] t_1 t_1) (fun j hj => absurd hj (Nat.not_lt_zero _)) (Nat.lt_succ_self _) _ _ _ hR hL (lv_sub hl [1, 0] rfl)
      ·
        first | exact absurd c_w (by decide) | exact absurd rfl c_w
    ·
      refine lv_aload_n hx hb dX10_wordHere_30 rfl (lv_at hl 0 rfl) ?_
      refine h_iconst hx hb dX10_wordHere_31 ?_
      -- call SpokenMarksModel.errs
      refine h_kV (h_runV X hR (m_errs l G w a ad t hT.1 3 T ((.inr s)) hRd (by omega)) pn_yX10_errs (hasC.of hT.1.ob rfl) q2772 q2774 qs40 q161 q2775 ⟨by decide, by decide⟩ hl.1 (Nat.le_of_ble_eq_true rfl) dX10_wordHere_32 ⟨by omega, by omega⟩) hL (fun w_15 hp_16 H locs hR hL => ?_)
      obtain ⟨t_17, hT2, hE_t_17, et_18⟩ := hp_16
      have hT := hT.tr hT2
      clear hT2
      refine lv_aload_n hx hb dX10_wordHere_35 rfl (lv_at hl 0 rfl) ?_
      refine tw_get X hR hT 21 (by decide) q2962 (v := .int (iI (3))) (congrArg (fun z => some (Value.int (iI z))) (et_18.2.1)) dX10_wordHere_36 ?_
      refine h_if_eq hx hb 44 dX10_wordHere_39 (by decide) (by omega) (fun c_w => ?_) (fun c_w => ?_)
      ·
        first | exact absurd c_w (by decide) | exact absurd rfl c_w
      ·
        refine h_lconst hx hb 0 dX10_wordHere_42 rfl ?_
        exact h_lreturn hx hb hlk hret hR hL ⟨(by rw [rLook_2 c_k (by omega)]; rfl), ⟨t_17, hT, (TwE.tr (S2 := [1, 2, 21, 22]) (TwE.rf : TwE [] t t) hE_t_17 rfl rfl), (by rw [rLook_2 c_k (by omega)]; exact et_18)⟩⟩ (by omega) (by omega) rfl rfl dX10_wordHere_43
  ·
    refine lv_aload_n hx hb dX10_wordHere_8 rfl (lv_at hl 0 rfl) ?_
    refine h_iconst hx hb dX10_wordHere_9 ?_
    -- call SpokenMarksModel.errs
    refine h_kV (h_runV X hR (m_errs l G w a ad t hT.1 1 T ((.inr s)) hRd (by omega)) pn_yX10_errs (hasC.of hT.1.ob rfl) q2772 q2774 qs40 q161 q2775 ⟨by decide, by decide⟩ hl.1 (Nat.le_of_ble_eq_true rfl) dX10_wordHere_10 ⟨by omega, by omega⟩) hL (fun w_20 hp_21 H locs hR hL => ?_)
    obtain ⟨t_22, hT2, hE_t_22, et_23⟩ := hp_21
    have hT := hT.tr hT2
    clear hT2
    refine lv_goto (tgt := 35) hx hb dX10_wordHere_13 (by decide) ?_
    refine lv_aload_n hx hb dX10_wordHere_35 rfl (lv_at hl 0 rfl) ?_
    refine tw_get X hR hT 21 (by decide) q2962 (v := .int (iI (1))) (congrArg (fun z => some (Value.int (iI z))) (et_23.2.1)) dX10_wordHere_36 ?_
    refine h_if_eq hx hb 44 dX10_wordHere_39 (by decide) (by omega) (fun c_w => ?_) (fun c_w => ?_)
    ·
      first | exact absurd c_w (by decide) | exact absurd rfl c_w
    ·
      refine h_lconst hx hb 0 dX10_wordHere_42 rfl ?_
      exact h_lreturn hx hb hlk hret hR hL ⟨(by rw [rLook_1 c_k]; rfl), ⟨t_22, hT, (TwE.tr (S2 := [1, 2, 21, 22]) (TwE.rf : TwE [] t t) hE_t_22 rfl rfl), (by rw [rLook_1 c_k]; exact et_23)⟩⟩ (by omega) (by omega) rfl rfl dX10_wordHere_43

set_option maxHeartbeats 4000000 in
set_option maxRecDepth 100000 in
/-- wordHere -/
theorem m_wordHereE (l : Launch) (G : Gl) (w : Wd) (a : Nat) (ad : Nat → Nat) (t : Tw) (hT : TwAt G w a ad t)  (T : List Int) (x : Nat × Int) (hRd : RdAt t T (.inl x)) : HM l yX10_wordHere cX10_wordHere 2 (some .long) 2 0 0 G [.ref a] w (QL G (fun z_ w_ => z_ = encR (rLook T (.inl x)) ∧ ∃ t_ : Tw, TwS G w w_ a ad t_ ∧ TwE [1, 2, 21, 22] t t_ ∧ RdAt t_ T (rLook T (.inl x)).1)) := by
  refine HM.mk (by decide +kernel) (Nat.le_of_ble_eq_true rfl) ?_
  intro p9 e9 s9 m9 a9 b9 meth9 c9 ls X hret hlk hnm hl H hR
  have hx := X.1.1
  have hb := X.1.2.1
  have hl : lv_has ls 2 [(0, .ref a)] := hl
  have hL : LK G [] := fun q h => absurd h List.not_mem_nil
  generalize ([] : List Loc) = locs at hL ⊢
  have hTb := hT
  have hT : TwS G w w a ad t := TwS.rf hT
  have hT8 := hRd.1.2.1.1
  have hxr : R32 x.2 := by have := hTb.ri 21 (by decide) (by decide); rwa [hRd.2.1] at this
  have hx0 := hRd.2.2.2.1
  have hx17 := hRd.2.2.2.2.1
  have hx18 := hRd.2.2.2.2.2
  refine lv_aload_n hx hb dX10_wordHere_0 rfl (lv_at hl 0 rfl) ?_
  refine tw_get X hR hT 19 (by decide) q2960 (v := .int (iI (t.1 19))) rfl dX10_wordHere_1 ?_
  have rg_t_19 := hTb.ri 19 (by decide) (by decide)
  refine h_iconst hx hb dX10_wordHere_4 ?_
  refine h_icmp_eq hx hb 16 dX10_wordHere_5 (by decide) (by omega) (by omega) (fun c_1 => ?_) (fun c_1 => ?_)
  ·
    refine lv_aload_n hx hb dX10_wordHere_16 rfl (lv_at hl 0 rfl) ?_
    refine tw_get X hR hT 17 (by decide) q2958 (v := .int (iI (t.1 17))) rfl dX10_wordHere_17 ?_
    have rg_t_17 := hTb.ri 17 (by decide) (by decide)
    refine lv_aload_n hx hb dX10_wordHere_20 rfl (lv_at hl 0 rfl) ?_
    refine tw_get X hR hT 18 (by decide) q2959 (v := .int (iI (t.1 18))) rfl dX10_wordHere_21 ?_
    have rg_t_18 := hTb.ri 18 (by decide) (by decide)
    refine h_isub hx hb dX10_wordHere_24 ?_
    refine h_bipush hx hb dX10_wordHere_25 (by decide) ?_
    refine h_icmp_le hx hb 35 dX10_wordHere_27 (by decide) (by omega) (by omega) (fun c_2 => ?_) (fun c_2 => ?_)
    ·
      refine lv_aload_n hx hb dX10_wordHere_35 rfl (lv_at hl 0 rfl) ?_
      refine tw_get X hR hT 21 (by decide) q2962 (v := .int (iI (x.2))) (congrArg (fun z => some (Value.int (iI z))) (hRd.2.1)) dX10_wordHere_36 ?_
      refine h_if_eq hx hb 44 dX10_wordHere_39 (by decide) (by omega) (fun c_w => ?_) (fun c_w => ?_)
      ·
        first | exact absurd c_w hx0 | exact absurd (Decidable.not_not.mp c_w) hx0
      ·
        refine h_lconst hx hb 0 dX10_wordHere_42 rfl ?_
        exact h_lreturn hx hb hlk hret hR hL ⟨rfl, ⟨t, hT, (TwE.rf : TwE [1, 2, 21, 22] t t), hRd⟩⟩ (by omega) (by omega) rfl rfl dX10_wordHere_43
    ·
      refine lv_aload_n hx hb dX10_wordHere_30 rfl (lv_at hl 0 rfl) ?_
      refine h_iconst hx hb dX10_wordHere_31 ?_
      -- call SpokenMarksModel.errs
      refine h_kV (h_runV X hR (m_errs l G w a ad t hT.1 3 T ((.inl x)) hRd (by omega)) pn_yX10_errs (hasC.of hT.1.ob rfl) q2772 q2774 qs40 q161 q2775 ⟨by decide, by decide⟩ hl.1 (Nat.le_of_ble_eq_true rfl) dX10_wordHere_32 ⟨by omega, by omega⟩) hL (fun w_4 hp_5 H locs hR hL => ?_)
      obtain ⟨t_6, hT2, hE_t_6, et_7⟩ := hp_5
      have hT := hT.tr hT2
      clear hT2
      refine lv_aload_n hx hb dX10_wordHere_35 rfl (lv_at hl 0 rfl) ?_
      refine tw_get X hR hT 21 (by decide) q2962 (v := .int (iI (x.2))) (congrArg (fun z => some (Value.int (iI z))) (et_7.2.1)) dX10_wordHere_36 ?_
      refine h_if_eq hx hb 44 dX10_wordHere_39 (by decide) (by omega) (fun c_w => ?_) (fun c_w => ?_)
      ·
        first | exact absurd c_w hx0 | exact absurd (Decidable.not_not.mp c_w) hx0
      ·
        refine h_lconst hx hb 0 dX10_wordHere_42 rfl ?_
        exact h_lreturn hx hb hlk hret hR hL ⟨rfl, ⟨t_6, hT, (TwE.tr (S2 := [1, 2, 21, 22]) (TwE.rf : TwE [] t t) hE_t_6 rfl rfl), et_7⟩⟩ (by omega) (by omega) rfl rfl dX10_wordHere_43
  ·
    refine lv_aload_n hx hb dX10_wordHere_8 rfl (lv_at hl 0 rfl) ?_
    refine h_iconst hx hb dX10_wordHere_9 ?_
    -- call SpokenMarksModel.errs
    refine h_kV (h_runV X hR (m_errs l G w a ad t hT.1 1 T ((.inl x)) hRd (by omega)) pn_yX10_errs (hasC.of hT.1.ob rfl) q2772 q2774 qs40 q161 q2775 ⟨by decide, by decide⟩ hl.1 (Nat.le_of_ble_eq_true rfl) dX10_wordHere_10 ⟨by omega, by omega⟩) hL (fun w_9 hp_10 H locs hR hL => ?_)
    obtain ⟨t_11, hT2, hE_t_11, et_12⟩ := hp_10
    have hT := hT.tr hT2
    clear hT2
    refine lv_goto (tgt := 35) hx hb dX10_wordHere_13 (by decide) ?_
    refine lv_aload_n hx hb dX10_wordHere_35 rfl (lv_at hl 0 rfl) ?_
    refine tw_get X hR hT 21 (by decide) q2962 (v := .int (iI (x.2))) (congrArg (fun z => some (Value.int (iI z))) (et_12.2.1)) dX10_wordHere_36 ?_
    refine h_if_eq hx hb 44 dX10_wordHere_39 (by decide) (by omega) (fun c_w => ?_) (fun c_w => ?_)
    ·
      first | exact absurd c_w hx0 | exact absurd (Decidable.not_not.mp c_w) hx0
    ·
      refine h_lconst hx hb 0 dX10_wordHere_42 rfl ?_
      exact h_lreturn hx hb hlk hret hR hL ⟨rfl, ⟨t_11, hT, (TwE.tr (S2 := [1, 2, 21, 22]) (TwE.rf : TwE [] t t) hE_t_11 rfl rfl), et_12⟩⟩ (by omega) (by omega) rfl rfl dX10_wordHere_43

theorem m_wordHere (l : Launch) (G : Gl) (w : Wd) (a : Nat) (ad : Nat → Nat) (t : Tw) (hT : TwAt G w a ad t)  (T : List Int) (e : Rd) (hRd : RdAt t T e) : HM l yX10_wordHere cX10_wordHere 2 (some .long) 2 0 0 G [.ref a] w (QL G (fun z_ w_ => z_ = encR (rLook T e) ∧ ∃ t_ : Tw, TwS G w w_ a ad t_ ∧ TwE [1, 2, 21, 22] t t_ ∧ RdAt t_ T (rLook T e).1)) := by
  cases e with
  | inl x => exact m_wordHereE l G w a ad t hT  T x hRd 
  | inr s => exact m_wordHereS l G w a ad t hT  T s hRd 

set_option maxHeartbeats 4000000 in
set_option maxRecDepth 100000 in
/-- takesWord -/
theorem m_takesWord (l : Launch) (G : Gl) (w : Wd) (a : Nat) (ad : Nat → Nat) (t : Tw) (hT : TwAt G w a ad t)  (T : List Int) (e : Rd) (hRd : RdAt t T e) : HM l yX10_takesWord cX10_takesWord 3 (some .long) 4 0 0 G [.ref a] w (QL G (fun z_ w_ => z_ = encR (rLook T e) ∧ ∃ t_ : Tw, TwS G w w_ a ad t_ ∧ TwE [1, 2, 17, 18, 19, 20, 21, 22] t t_ ∧ RdAt t_ T (rWord T e).1)) := by
  refine HM.mk (by decide +kernel) (Nat.le_of_ble_eq_true rfl) ?_
  intro p9 e9 s9 m9 a9 b9 meth9 c9 ls X hret hlk hnm hl H hR
  have hx := X.1.1
  have hb := X.1.2.1
  have hl : lv_has ls 3 [(0, .ref a)] := hl
  have hL : LK G [] := fun q h => absurd h List.not_mem_nil
  generalize ([] : List Loc) = locs at hL ⊢
  have hTb := hT
  have hT : TwS G w w a ad t := TwS.rf hT
  refine lv_aload_n hx hb dX10_takesWord_0 rfl (lv_at hl 0 rfl) ?_
  -- call SpokenMarksModel.wordHere
  refine h_kL (h_runV X hR (m_wordHere l G w a ad t hT.1 T e hRd) pn_yX10_wordHere (hasC.of hT.1.ob rfl) q2793 q2795 qs45 q161 q2796 ⟨by decide, by decide⟩ hl.1 (Nat.le_of_ble_eq_true rfl) dX10_takesWord_1 ⟨by omega, by omega⟩) hL (fun z_1 w_2 hp_3 H locs hR hL => ?_)
  obtain ⟨rfl, t_4, hT2, hE_t_4, et_5⟩ := hp_3
  have hT := hT.tr hT2
  clear hT2
  have hRd2 := et_5
  refine lv_lstore_n (lv' := [(1, .long (lI (encR (rLook T e)))), (0, .ref a)]) hx hb dX10_takesWord_4 rfl hl (by decide) rfl (fun ls hl => ?_)
  refine lv_aload_n hx hb dX10_takesWord_5 rfl (lv_at hl 1 rfl) ?_
  refine tw_get X hR hT 21 (by decide) q2962 (v := .int (iI (t_4.1 21))) rfl dX10_takesWord_6 ?_
  have rg_t_4_21 := hT.1.ri 21 (by decide) (by decide)
  refine W.eq (g2 := F0 m9 9 ls [.int (iI (wrC ((rLook T e).1)))]) (congrArg (fun z_ : Int => F0 m9 9 ls [.int (iI (z_))]) (show (t_4.1 21 : Int) = wrC ((rLook T e).1) from (hRd2.wr))) ?_
  refine h_if_ne hx hb 16 dX10_takesWord_9 (by decide) (by have h_ := hT.1.ri 21 (by decide) (by decide); rwa [hRd2.wr] at h_) (fun c_w => ?_) (fun c_w => ?_)
  ·
    refine lv_lload_n hx hb dX10_takesWord_16 rfl (lv_at hl 0 rfl) ?_
    exact h_lreturn hx hb hlk hret hR hL ⟨rfl, ⟨t_4, hT, (TwE.tr (S2 := [1, 2, 17, 18, 19, 20, 21, 22]) (TwE.rf : TwE [] t t) hE_t_4 rfl rfl), (by unfold rWord; dsimp only; rw [rNext_err c_w]; exact hRd2)⟩⟩ (by omega) (by omega) rfl rfl dX10_takesWord_17
  ·
    obtain ⟨s1, hs1⟩ := hRd2.ok c_w
    have hRd_s1 : RdAt t_4 T (.inr s1) := by have h_ := hRd2; rwa [hs1] at h_
    have hW_s1 := hRd_s1.2.2.2.2
    refine lv_aload_n hx hb dX10_takesWord_12 rfl (lv_at hl 1 rfl) ?_
    -- call SpokenMarksModel.next
    refine h_kV (h_runV X hR (m_next l G w_2 a ad t_4 hT.1 T (scA s1) hRd_s1.1 hRd_s1.2.2.2.1.2.1 hW_s1.2.1) pn_yX10_next (hasC.of hT.1.ob rfl) q2744 q2746 qs35 q161 q2747 ⟨by decide, by decide⟩ hl.1 (Nat.le_of_ble_eq_true rfl) dX10_takesWord_13 ⟨by omega, by omega⟩) hL (fun w_7 hp_8 H locs hR hL => ?_)
    obtain ⟨t_9, hT2, hE_t_9, et_10⟩ := hp_8
    have hT := hT.tr hT2
    clear hT2
    have hRd3 := hRd_s1.nx hE_t_9 (by decide) (by decide) (by decide) (by decide) et_10
    refine lv_lload_n hx hb dX10_takesWord_16 rfl (lv_at hl 0 rfl) ?_
    exact h_lreturn hx hb hlk hret hR hL ⟨rfl, ⟨t_9, hT, (TwE.tr (S2 := [1, 2, 17, 18, 19, 20, 21, 22]) (TwE.tr (S2 := [1, 2, 17, 18, 19, 20, 21, 22]) (TwE.rf : TwE [] t t) hE_t_4 rfl rfl) hE_t_9 rfl rfl), (by unfold rWord; dsimp only; rw [hs1]; exact hRd3)⟩⟩ (by omega) (by omega) rfl rfl dX10_takesWord_17
