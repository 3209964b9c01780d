/-! the twin: ends, operates and the operations -/
set_option maxRecDepth 100000
theorem ordA_r {c : Cat} (h : cN c ≤ 40) : 0 ≤ (ordA c).2 ∧ (ordA c).2 ≤ 40 := by
  unfold ordA
  split
  · dsimp only; omega
  · have h1 := rspN_r (setMk c (srtM (cRl c) (cMk c) (cN c)))
    have h2 : cN (setMk c (srtM (cRl c) (cMk c) (cN c))) = cN c := srtM_len _ _ _
    rw [h2] at h1
    exact ⟨h1.1, by have := h1.2; omega⟩
theorem doA_r {c : Cat} (h : CatS c) (k x y : Int) (hx : k = 5 → 0 ≤ x) : -9 ≤ (doA c k x y).2 ∧ (doA c k x y).2 ≤ 10000 := by
  have hn : cN c ≤ 40 := h.2.2.2.1.1
  unfold doA
  split
  · split
    · have := ordA_r (c := setRl c (remAt (cRl c) x.toNat)) hn
      show -9 ≤ (ordA _).2 ∧ (ordA _).2 ≤ 10000
      omega
    · dsimp only; omega
  split
  · split
    · dsimp only; omega
    · show -9 ≤ (cN c : Int) - 1 ∧ (cN c : Int) - 1 ≤ 10000; omega
  split
  · split
    · dsimp only; omega
    · next q =>
      have hr := rkOf_r c x
      have := mWd_r h (rkOf c x).toNat (by omega)
      show -9 ≤ mWd _ ∧ mWd _ ≤ 10000
      omega
  split
  · split
    · next q5 q =>
      unfold bdA
      split
      · dsimp only; omega
      split
      · dsimp only; omega
      · have := bd_r h x.toNat (by have := hx q5; omega)
        show -9 ≤ bd _ _ ∧ bd _ _ ≤ 10000
        omega
    · dsimp only; omega
  split
  · have h8 : 1 ≤ cSh c ∧ cSh c ≤ 8 := h.1
    have := sumN_bd (f := fun s => b2i (cRm (cBal c) < wdOn (cBal c) s)) (n := (cSh (cBal c)).toNat) 0 1 (fun i _ => b2i_01 _)
    have e : cSh (cBal c) = cSh c := rfl
    rw [e] at this
    show -9 ≤ ovr (cBal c) ∧ ovr (cBal c) ≤ 10000
    unfold ovr
    rw [e]
    omega
  · have := rspN_r c
    show -9 ≤ rspN c ∧ rspN c ≤ 10000
    omega
/-- the system: catalogue, those before, done, refused -/
abbrev Sys : Type := Cat × List Cat × Int × Int
abbrev sC (s : Sys) : Cat := s.1
abbrev sU (s : Sys) : List Cat := s.2.1
abbrev sD (s : Sys) : Int := s.2.2.1
abbrev sR (s : Sys) : Int := s.2.2.2
def SysIs (t : Tw) (s : Sys) : Prop := RowIs (t.2 3) (sC s) ∧ UnIs (t.1 12) (t.2 8) (sU s) ∧ t.1 9 = sD s ∧ t.1 10 = sR s
def endS (s : Sys) (cT : Cat) (z : Int) : List Cat × Int × Int := if z < 0 then (sU s, sD s, sR s + 1) else (pushU (sU s) cT, sD s + 1, sR s)
def opS (s : Sys) (q : Cat × Int) : Sys := (q.1, endS s (sC s) q.2)
/-- what an operation wants -/
def OpW (s : Sys) : Prop := PD (cMk (sC s)) ∧ (∀ k, k < 3 → cAc (sC s) k < 990000) ∧ cNx (sC s) < 990000 ∧ (0 ≤ sD s ∧ sD s < 1000000) ∧ 0 ≤ sR s ∧ sR s < 1000000
theorem SysIs.C {t : Tw} {s : Sys} (h : SysIs t s) : RowIs (t.2 3) (sC s) := h.1
theorem SysIs.mv {t t1 : Tw} {s : Sys} {S : List Nat} (h : SysIs t s) (hE : TwE S t t1) (h3 : 3 ∉ S) (h8 : 8 ∉ S) (h12 : 12 ∉ S) (h9 : 9 ∉ S) (h10 : 10 ∉ S) : SysIs t1 s := by
  unfold SysIs
  rw [(hE 3 h3).2, (hE 8 h8).2, (hE 12 h12).1, (hE 9 h9).1, (hE 10 h10).1]
  exact h

theorem pn_yX10_does : ParN yX10_does 3 := by decide +kernel
theorem pn_yX10_ends : ParN yX10_ends 1 := by decide +kernel
theorem pn_yX10_keeps : ParN yX10_keeps 0 := by decide +kernel

set_option maxHeartbeats 4000000 in
set_option maxRecDepth 100000 in
/-- ends -/
theorem m_ends (l : Launch) (G : Gl) (w : Wd) (a : Nat) (ad : Nat → Nat) (t : Tw) (hT : TwAt G w a ad t) (z : Int) (s : Sys) (cT : Cat) (hS : SysIs t s) (hD : RowIs (t.2 5) cT) (hz : R32 z) (hb9 : 0 ≤ sD s ∧ sD s < 1000000) (hb10 : 0 ≤ sR s ∧ sR s < 1000000) : HM l yX10_ends cX10_ends 2 (some .int) 3 0 0 G [.ref a, .int (iI (z))] w (QI G (fun z_ w_ => z_ = z ∧ ∃ t_ : Tw, TwS G w w_ a ad t_ ∧ TwE [8, 9, 10, 12] t t_ ∧ UnIs (t_.1 12) (t_.2 8) (endS s cT z).1 ∧ t_.1 9 = (endS s cT z).2.1 ∧ t_.1 10 = (endS s cT z).2.2)) := by
  refine HM.mk (by decide +kernel) (Nat.le_of_ble_eq_true rfl) ?_
  intro p9 e9 s9 m9 a9 b9 meth9 c9 ls X hret hlk hnm hl H hR
  have hx := X.1.1
  have hb := X.1.2.1
  have hl : lv_has ls 2 [(0, .ref a), (1, .int (iI (z)))] := hl
  have hL : LK G [] := fun q h => absurd h List.not_mem_nil
  generalize ([] : List Loc) = locs at hL ⊢
  have hTb := hT
  have hT : TwS G w w a ad t := TwS.rf hT
  refine lv_iload_n hx hb dX10_ends_0 rfl (lv_at hl 1 rfl) ?_
  refine h_if_ge hx hb 17 dX10_ends_1 (by decide) (by omega) (fun c_z => ?_) (fun c_z => ?_)
  ·
    refine lv_aload_n hx hb dX10_ends_17 rfl (lv_at hl 0 rfl) ?_
    refine lv_dup hx hb dX10_ends_18 rfl ?_
    refine tw_get X hR hT 9 (by decide) q2950 (v := .int (iI (sD s))) (congrArg (fun z => some (Value.int (iI z))) (hS.2.2.1)) dX10_ends_19 ?_
    refine h_iconst hx hb dX10_ends_22 ?_
    refine h_iadd hx hb dX10_ends_23 ?_
    refine tw_puti X hR hL hT 9 (by decide) q2950 rfl rfl rfl twF_s9 (by omega) dX10_ends_24 (fun t_1 et_2 w_3 hT H locs hR hL => ?_)
    have hE_t_1 := TwE.put et_2
    have hv_t_1 := tput_v et_2
    refine lv_aload_n hx hb dX10_ends_27 rfl (lv_at hl 0 rfl) ?_
    -- call SpokenMarksModel.keeps
    refine h_kV (h_runV X hR (m_keeps l G w_3 a ad t_1 hT.1 (sU s) cT (by rw [(hE_t_1 12 (by decide)).1, (hE_t_1 8 (by decide)).2]; exact hS.2.1) (by rw [(hE_t_1 5 (by decide)).2]; exact hD)) pn_yX10_keeps (hasC.of hT.1.ob rfl) q3246 q3248 qs103 q161 q3249 ⟨by decide, by decide⟩ hl.1 (Nat.le_of_ble_eq_true rfl) dX10_ends_28 ⟨by omega, by omega⟩) hL (fun w_5 hp_6 H locs hR hL => ?_)
    obtain ⟨t_7, hT2, hE_t_7, et_8⟩ := hp_6
    have hT := hT.tr hT2
    clear hT2
    refine lv_iload_n hx hb dX10_ends_31 rfl (lv_at hl 1 rfl) ?_
    exact h_ireturn hx hb hlk hret hR hL rfl ⟨rfl, ⟨t_7, hT, (TwE.tr (S2 := [8, 9, 10, 12]) (TwE.tr (S2 := [8, 9, 10, 12]) (TwE.rf : TwE [] t t) hE_t_1 rfl rfl) hE_t_7 rfl rfl), ⟨by unfold endS; rw [if_neg (by omega)]; exact et_8, by rw [((hE_t_7 9 (by decide)).1).trans hv_t_1]; unfold endS; rw [if_neg (by omega)], by rw [(((hE_t_7 10 (by decide)).1).trans (hE_t_1 10 (by decide)).1).trans hS.2.2.2]; unfold endS; rw [if_neg (by omega)]⟩⟩⟩ (by omega) (by omega) rfl rfl dX10_ends_32
  ·
    refine lv_aload_n hx hb dX10_ends_4 rfl (lv_at hl 0 rfl) ?_
    refine lv_dup hx hb dX10_ends_5 rfl ?_
    refine tw_get X hR hT 10 (by decide) q2951 (v := .int (iI (sR s))) (congrArg (fun z => some (Value.int (iI z))) (hS.2.2.2)) dX10_ends_6 ?_
    refine h_iconst hx hb dX10_ends_9 ?_
    refine h_iadd hx hb dX10_ends_10 ?_
    refine tw_puti X hR hL hT 10 (by decide) q2951 rfl rfl rfl twF_s10 (by omega) dX10_ends_11 (fun t_9 et_10 w_11 hT H locs hR hL => ?_)
    have hE_t_9 := TwE.put et_10
    have hv_t_9 := tput_v et_10
    refine lv_goto (tgt := 31) hx hb dX10_ends_14 (by decide) ?_
    refine lv_iload_n hx hb dX10_ends_31 rfl (lv_at hl 1 rfl) ?_
    exact h_ireturn hx hb hlk hret hR hL rfl ⟨rfl, ⟨t_9, hT, (TwE.tr (S2 := [8, 9, 10, 12]) (TwE.rf : TwE [] t t) hE_t_9 rfl rfl), ⟨by rw [(hE_t_9 12 (by decide)).1, (hE_t_9 8 (by decide)).2]; unfold endS; rw [if_pos (by omega)]; exact hS.2.1, by rw [((hE_t_9 9 (by decide)).1).trans hS.2.2.1]; unfold endS; rw [if_pos (by omega)], by rw [hv_t_9]; unfold endS; rw [if_pos (by omega)]⟩⟩⟩ (by omega) (by omega) rfl rfl dX10_ends_32

set_option maxHeartbeats 4000000 in
set_option maxRecDepth 100000 in
/-- operates -/
theorem m_operates (l : Launch) (G : Gl) (w : Wd) (a : Nat) (ad : Nat → Nat) (t : Tw) (hT : TwAt G w a ad t) (kd : Int) (x : Int) (y : Int) (s : Sys) (hS : SysIs t s) (hkd : 2 ≤ kd ∧ kd ≤ 7) (hxr : R32 x) (hyr : R32 y) (hx0 : kd = 2 ∨ kd = 5 → 0 ≤ x) (hy4 : kd = 4 → 1 ≤ y ∧ y ≤ 20) (hW : OpW s) : HM l yX10_operates cX10_operates 4 (some .int) 9 0 0 G [.ref a, .int (iI (kd)), .int (iI (x)), .int (iI (y))] w (QI G (fun z_ w_ => z_ = (doA (sC s) kd x y).2 ∧ ∃ t_ : Tw, TwS G w w_ a ad t_ ∧ TwE [1, 2, 3, 5, 8, 9, 10, 12] t t_ ∧ SysIs t_ (opS s (doA (sC s) kd x y)))) := by
  refine HM.mk (by decide +kernel) (Nat.le_of_ble_eq_true rfl) ?_
  intro p9 e9 s9 m9 a9 b9 meth9 c9 ls X hret hlk hnm hl H hR
  have hx := X.1.1
  have hb := X.1.2.1
  have hl : lv_has ls 4 [(0, .ref a), (1, .int (iI (kd))), (2, .int (iI (x))), (3, .int (iI (y)))] := hl
  have hL : LK G [] := fun q h => absurd h List.not_mem_nil
  generalize ([] : List Loc) = locs at hL ⊢
  have hTb := hT
  have hT : TwS G w w a ad t := TwS.rf hT
  have hdr := doA_r hS.C.s kd x y (fun q => hx0 (Or.inr q))
  refine lv_aload_n hx hb dX10_operates_0 rfl (lv_at hl 0 rfl) ?_
  refine tw_get X hR hT 3 (by decide) q2944 rfl dX10_operates_1 ?_
  refine h_iconst hx hb dX10_operates_4 ?_
  refine lv_aload_n hx hb dX10_operates_5 rfl (lv_at hl 0 rfl) ?_
  refine tw_get X hR hT 5 (by decide) q2946 rfl dX10_operates_6 ?_
  refine h_iconst hx hb dX10_operates_9 ?_
  refine h_sipush hx hb dX10_operates_10 (by decide) ?_
  -- call SpokenMarksModel.copies
  refine h_kV (h_runS X hR (m_copies l G w a ad t hT.1 3 0 5 0 606 (by decide) (by decide) (by show _ ≤ _; simp only [twN]; omega) (by show _ ≤ _; simp only [twN]; omega) (by first | exact Or.inl (by decide) | exact Or.inr (by omega))) pn_yX10_copies q2737 q2738 q161 q2739 ⟨by decide, by decide⟩ hl.1 (Nat.le_of_ble_eq_true rfl) dX10_operates_13 ⟨by omega, by omega⟩) hL (fun w_2 hp_3 H locs hR hL => ?_)
  obtain ⟨t_4, hT2, e1_, e2_, hc_t_4⟩ := hp_3
  have hE_t_4 : TwE [5] t t_4 := fun k_ hk_ => ⟨by rw [e1_], e2_ k_ (by simpa using hk_)⟩
  have e1_t_4 := e1_
  have hT := hT.tr hT2
  clear hT2 e1_ e2_
  have hTd : RowIs (t_4.2 5) (sC s) := hS.C.mv606 (fun i hi => by rw [hc_t_4]; unfold cpyF; rw [if_pos (by omega)]; congr 1)
  refine lv_aload_n hx hb dX10_operates_16 rfl (lv_at hl 0 rfl) ?_
  refine lv_aload_n hx hb dX10_operates_17 rfl (lv_at hl 0 rfl) ?_
  refine lv_iload_n hx hb dX10_operates_18 rfl (lv_at hl 1 rfl) ?_
  refine lv_iload_n hx hb dX10_operates_19 rfl (lv_at hl 2 rfl) ?_
  refine lv_iload_n hx hb dX10_operates_20 rfl (lv_at hl 3 rfl) ?_
  -- call SpokenMarksModel.does
  refine h_kI (h_runV X hR (m_does l G w_2 a ad t_4 hT.1 kd x y (sC s) (by rw [(hE_t_4 3 (by decide)).2]; exact hS.C) hkd hxr hyr hx0 hy4 hW.1 hW.2.1) pn_yX10_does (hasC.of hT.1.ob rfl) q3258 q3260 qs105 q161 q3261 ⟨by decide, by decide⟩ hl.1 (Nat.le_of_ble_eq_true rfl) dX10_operates_21 ⟨by omega, by omega⟩) hL (fun z_5 w_6 hp_7 H locs hR hL => ?_)
  obtain ⟨rfl, t_8, hT2, hE_t_8, et_9⟩ := hp_7
  have hT := hT.tr hT2
  clear hT2
  have hS2 : SysIs t_8 ((doA (sC s) kd x y).1, sU s, sD s, sR s) := ⟨et_9, by rw [((hE_t_8 12 (by decide)).1).trans (hE_t_4 12 (by decide)).1, ((hE_t_8 8 (by decide)).2).trans (hE_t_4 8 (by decide)).2]; exact hS.2.1, by rw [((hE_t_8 9 (by decide)).1).trans (hE_t_4 9 (by decide)).1]; exact hS.2.2.1, by rw [((hE_t_8 10 (by decide)).1).trans (hE_t_4 10 (by decide)).1]; exact hS.2.2.2⟩
  have hTd2 : RowIs (t_8.2 5) (sC s) := by rw [(hE_t_8 5 (by decide)).2]; exact hTd
  -- call SpokenMarksModel.ends
  refine h_kI (h_runV X hR (m_ends l G w_6 a ad t_8 hT.1 ((doA (sC s) kd x y).2) (((doA (sC s) kd x y).1, sU s, sD s, sR s)) (sC s) hS2 hTd2 ⟨by omega, by omega⟩ hW.2.2.2.1 hW.2.2.2.2) pn_yX10_ends (hasC.of hT.1.ob rfl) q3242 q3244 qs102 q161 q3245 ⟨by decide, by decide⟩ hl.1 (Nat.le_of_ble_eq_true rfl) dX10_operates_24 ⟨by omega, by omega⟩) hL (fun z_10 w_11 hp_12 H locs hR hL => ?_)
  obtain ⟨rfl, t_13, hT2, hE_t_13, et_14⟩ := hp_12
  have hT := hT.tr hT2
  clear hT2
  exact h_ireturn hx hb hlk hret hR hL rfl ⟨rfl, ⟨t_13, hT, (TwE.tr (S2 := [1, 2, 3, 5, 8, 9, 10, 12]) (TwE.tr (S2 := [1, 2, 3, 5, 8, 9, 10, 12]) (TwE.tr (S2 := [1, 2, 3, 5, 8, 9, 10, 12]) (TwE.rf : TwE [] t t) hE_t_4 rfl rfl) hE_t_8 rfl rfl) hE_t_13 rfl rfl), ⟨by rw [(hE_t_13 3 (by decide)).2]; exact hS2.1, et_14.1, et_14.2.1, et_14.2.2⟩⟩⟩ (by omega) (by omega) rfl rfl dX10_operates_27
