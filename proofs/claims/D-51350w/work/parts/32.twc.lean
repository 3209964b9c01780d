/-! the twin: a mark comes, the places are given anew -/
set_option maxRecDepth 100000
theorem letK_len (p : List Prt) : (letK p).length = p.length := List.length_map ..
theorem earK_len (R : Rls) (p : List Prt) : (earK R p).length = p.length := List.length_map ..
theorem letK_at (p : List Prt) {k : Nat} (hk : k < p.length) : (letK p).getD k 0 = encP (p.getD k prt0) := by simp [letK, hk]
theorem earK_at (R : Rls) (p : List Prt) {k : Nat} (hk : k < p.length) : (earK R p).getD k 0 = encP (earP R (p.getD k prt0)) := by simp [earK, hk]
theorem PrtsW.at {p : List Prt} (h : PrtsW p) {k : Nat} (hk : k < p.length) : PrtW (p.getD k prt0) := by
  rw [show p.getD k prt0 = p[k] by simp [hk]]; exact h.2.2 _ (List.getElem_mem hk)
theorem earK_R {R : Rls} {p : List Prt} (hR : RlW R) (h : PrtsW p) (k : Nat) : R64 ((earK R p).getD k 0) := by
  rcases Nat.lt_or_ge k p.length with hk | hk
  · rw [earK_at R p hk]; have := encP_r (earP_w hR (h.at hk)); exact ⟨by omega, by omega⟩
  · rw [show (earK R p).getD k 0 = 0 by simp [earK, hk]]; exact ⟨by decide, by decide⟩
theorem letK_R {p : List Prt} (h : PrtsW p) (k : Nat) : R64 ((letK p).getD k 0) := by
  rcases Nat.lt_or_ge k p.length with hk | hk
  · rw [letK_at p hk]; have := encP_r (h.at hk); exact ⟨by omega, by omega⟩
  · rw [show (letK p).getD k 0 = 0 by simp [letK, hk]]; exact ⟨by decide, by decide⟩
theorem slot_hears {f g : Nat → Int} {r : Nat} {R : Rls} {p : List Prt} (hK : KeyAt f r 4 (letK p)) (hw : PrtsW p) (hRl : RlW R) (h1 : ∀ i, i < 32 + 14 * r + 9 ∨ 32 + 14 * r + 14 ≤ i → g i = f i) (h2 : ∀ j, j < p.length → g (32 + 14 * r + 9 + j) = encP (earP R (p.getD j prt0))) : SlotP g r R p := by
  have h5 := hw.2.1
  refine ⟨⟨by rw [h1 _ (by omega)]; exact hK.1, hK.2.1, fun k hk => by rw [h1 _ (by rw [letK_len] at hk; omega)]; exact hK.2.2.1 k hk, hK.2.2.2⟩, ⟨by rw [h1 _ (by omega), earK_len]; have := hK.1; rwa [letK_len] at this, by rw [earK_len]; omega, fun k hk => ?_, earK_R hRl hw⟩⟩
  rw [earK_len] at hk
  rw [h2 k hk, earK_at R p hk]
theorem RowIs.cm {f g : Nat → Int} {c : Cat} (h : RowIs f c) {m : Mrk} (hn : cN c ≤ 39) (hm : MrkW m) (hx : cNx c + 1 < 1000000) (hg : ∀ i, i ≠ 2 → i ≠ 4 → i < 32 + 14 * cN c → g i = f i) (h2 : g 2 = (cN c : Int) + 1) (h4 : g 4 = cNx c + 1) (hs : SlotM g (cN c) (cRl c) m) : RowIs g (setNx (setMk c (insAt (cMk c) (cN c) m)) (cNx c + 1)) := by
  have hx1 := h.s.2.2.2.2.2.2
  have hlen : (insAt (cMk c) (cN c) m).length = cN c + 1 := insAt_len _ _ _ (Nat.le_refl _)
  have hA := h.nxs (g := zset f 4 (cNx c + 1)) (v := cNx c + 1) ⟨by omega, hx⟩ (fun i hi => by unfold zset; rw [if_neg hi]) (by unfold zset; rw [if_pos rfl])
  refine hA.mks (M := insAt (cMk c) (cN c) m) (by omega) (fun k hk => ?_) (fun i hi hi2 => ?_) (by rw [h2, hlen]; omega) (fun r hr => ?_)
  · have hk2 : k < cN c + 1 := by rw [← hlen]; exact hk
    rw [insAt_at _ _ _ _ (Nat.le_refl _)]
    by_cases q : k < cN c
    · rw [if_pos q]; exact h.mw k q
    · have q2 : k = cN c := by omega
      rw [if_neg q, if_pos q2]; exact hm
  · unfold zset
    split
    · next q => subst q; exact h4
    · next q => exact hg i hi2 q (by omega)
  · have hk2 : r < cN c + 1 := by rw [← hlen]; exact hr
    rw [insAt_at _ _ _ _ (Nat.le_refl _)]
    by_cases q : r < cN c
    · rw [if_pos q]; exact (h.m r q).mv (fun i _ hi => hg i (by omega) (by omega) (by have : 14 * r + 14 ≤ 14 * cN c := by omega
                                                                                      omega))
    · have q2 : r = cN c := by omega
      rw [if_neg q, if_pos q2, q2]; exact hs
theorem RowIs.act {t t1 : Tw} {c : Cat} (h : RowIs (t.2 3) c) {k : Nat} {v : Int} (e : t1 = tast t 3 (5 + k) (t.2 3 (5 + k) + v)) (hk : k < 3) (hv : 0 ≤ cAc c k + v ∧ cAc c k + v < 1000000) : RowIs (t1.2 3) (incAc c k v) :=
  h.acs hk hv (fun i hi => by rw [tast_v e]; unfold zset; rw [if_neg hi]) (by rw [tast_v e]; unfold zset; rw [if_pos rfl])
theorem RowIs.acR {t : Tw} {c : Cat} (h : RowIs (t.2 3) c) {k : Nat} (hk : k < 3) : R32 (t.2 3 (5 + k)) := by have := h.s.2.2.2.2.2.1 k hk; rw [h.ac k hk]; exact ⟨by omega, by omega⟩
def rspN (c : Cat) : Int := sumN (fun k => b2i (spc (k : Int) (cN c) ≠ mPl (mk c k))) (cN c)
def cRsp (c : Cat) : Cat := incAc (incAc (setMk c (rspL (cN c) 0 (cMk c))) 1 1) 2 (rspN c)
theorem rspN_r (c : Cat) : 0 ≤ rspN c ∧ rspN c ≤ (cN c : Int) := by
  have := sumN_bd (f := fun k => b2i (spc (k : Int) (cN c) ≠ mPl (mk c k))) (n := cN c) 0 1 (fun i _ => b2i_01 _)
  unfold rspN
  omega

theorem pn_yX10_counts : ParN yX10_counts 2 := by decide +kernel
theorem pn_yX10_ear : ParN yX10_ear 1 := by decide +kernel
theorem pn_yX10_lays : ParN yX10_lays 3 := by decide +kernel

set_option maxHeartbeats 4000000 in
set_option maxRecDepth 100000 in
/-- hears -/
theorem m_hears (l : Launch) (G : Gl) (w : Wd) (a : Nat) (ad : Nat → Nat) (t : Tw) (hT : TwAt G w a ad t) (r : Nat) (R : Rls) (pp : List Prt) (h1 : r ≤ 40) (hA : RlAt (t.2 3) R) (hK : KeyAt (t.2 3) r 4 (letK pp)) (hpw : PrtsW pp) : HM l yX10_hears cX10_hears 3 none 5 0 0 G [.ref a, .int (iI ((r : Int)))] w (QV G (fun w_ => ∃ t_ : Tw, TwS G w w_ a ad t_ ∧ TwE [1, 2, 3] t t_ ∧ SlotP (t_.2 3) r R pp ∧ ∀ i, i < 32 + 14 * r + 9 ∨ 32 + 14 * r + 14 ≤ i → t_.2 3 i = t.2 3 i)) := by
  refine HM.mk (by decide +kernel) (Nat.le_of_ble_eq_true rfl) ?_
  intro p9 e9 s9 m9 a9 b9 meth9 c9 ls X hret hlk hnm hl H hR
  have hx := X.1.1
  have hb := X.1.2.1
  have hl : lv_has ls 3 [(0, .ref a), (1, .int (iI ((r : Int))))] := hl
  have hL : LK G [] := fun q h => absurd h List.not_mem_nil
  generalize ([] : List Loc) = locs at hL ⊢
  have hTb := hT
  have hT : TwS G w w a ad t := TwS.rf hT
  have hp5 := hpw.2.1
  have hl0 := hK.1
  rw [letK_len] at hl0
  refine h_iconst hx hb dX10_hears_0 ?_
  refine lv_istore_n (lv' := [(2, .int (iI (0))), (0, .ref a), (1, .int (iI ((r : Int))))]) hx hb dX10_hears_1 rfl hl (by decide) rfl (fun ls hl => ?_)
  have LOOP_3 : ∀ (N_ : Nat) (k : Nat) (t_1 : Tw) (w_2 : Wd), (k ≤ pp.length) → (TwS G w w_2 a ad t_1) → (TwE [1, 2, 3] t t_1) → (∀ j, j < k → t_1.2 3 (32 + 14 * r + 9 + j) = encP (earP R (pp.getD j prt0))) → (∀ i, i < 32 + 14 * r + 9 ∨ 32 + 14 * r + 14 ≤ i → t_1.2 3 i = t.2 3 i) → (pp.length - k) < N_ → ∀ (H : Heap) (locs : List Loc) (ls : Array Slot), Rp G w_2 H → LK G locs → lv_has ls 3 [(0, .ref a), (1, .int (iI ((r : Int)))), (2, .int (iI ((k : Int))))] → W p9 l e9 (rmk 5 0 0) s9 m9 a9 b9 meth9 c9 H locs 0 0 (MQ b9 (QV G (fun w_ => ∃ t_ : Tw, TwS G w w_ a ad t_ ∧ TwE [1, 2, 3] t t_ ∧ SlotP (t_.2 3) r R pp ∧ ∀ i, i < 32 + 14 * r + 9 ∨ 32 + 14 * r + 14 ≤ i → t_.2 3 i = t.2 3 i)) a9 s9 0 0 (frG G)) (F0 m9 2 ls []) := by
    intro N_
    induction N_ with
    | zero => intro _ _ _ _ _ _ _ _ h_; exact absurd h_ (Nat.not_lt_zero _)
    | succ N_ ih_ =>
      intro k t_1 w_2 hk hT hE_t_1 hs1 hs2 hN_ H locs ls hR hL hl
      have ih_3 := ih_
      clear ih_
      refine lv_iload_n hx hb dX10_hears_2 rfl (lv_at hl 2 rfl) ?_
      refine lv_aload_n hx hb dX10_hears_3 rfl (lv_at hl 0 rfl) ?_
      refine lv_iload_n hx hb dX10_hears_4 rfl (lv_at hl 1 rfl) ?_
      refine h_iconst hx hb dX10_hears_5 ?_
      -- call SpokenMarksModel.of
      refine h_kIp (h_runV X hR (m_of l G w_2 a ad t_1 hT.1 r 3 (by omega) (by omega)) pn_yX10_of (hasC.of hT.1.ob rfl) q2827 q2829 qs53 q161 q2830 ⟨by decide, by decide⟩ hl.1 (Nat.le_of_ble_eq_true rfl) dX10_hears_6 ⟨by omega, by omega⟩) hL (fun H locs hR hL => ?_)
      refine W.eq (g2 := F0 m9 9 ls [.int (iI ((pp.length : Int))), .int (iI ((k : Int)))]) (congrArg (fun z_ : Int => F0 m9 9 ls [.int (iI (z_)), .int (iI ((k : Int)))]) (show (tof t_1 r 3 : Int) = (pp.length : Int) from ((hs2 _ (by omega)).trans hl0))) ?_
      refine h_icmp_ge hx hb 37 dX10_hears_9 (by decide) (by omega) (by omega) (fun c_7 => ?_) (fun c_7 => ?_)
      ·
        exact h_vreturn hx hb hlk hret hR hL ⟨t_1, hT, (TwE.tr (S2 := [1, 2, 3]) (TwE.rf : TwE [] t t) hE_t_1 rfl rfl), ⟨slot_hears hK hpw hA.2.2 hs2 (fun j hj => hs1 j (by omega)), hs2⟩⟩ (by omega) (by omega) rfl rfl dX10_hears_37
      ·
        refine lv_aload_n hx hb dX10_hears_12 rfl (lv_at hl 0 rfl) ?_
        refine lv_iload_n hx hb dX10_hears_13 rfl (lv_at hl 1 rfl) ?_
        refine h_bipush hx hb dX10_hears_14 (by decide) ?_
        refine lv_iload_n hx hb dX10_hears_16 rfl (lv_at hl 2 rfl) ?_
        refine h_iadd hx hb dX10_hears_17 ?_
        refine lv_aload_n hx hb dX10_hears_18 rfl (lv_at hl 0 rfl) ?_
        refine lv_aload_n hx hb dX10_hears_19 rfl (lv_at hl 0 rfl) ?_
        refine lv_iload_n hx hb dX10_hears_20 rfl (lv_at hl 1 rfl) ?_
        refine lv_iload_n hx hb dX10_hears_21 rfl (lv_at hl 2 rfl) ?_
        -- call SpokenMarksModel.part
        refine h_kLp (h_runV X hR (m_part l G w_2 a ad t_1 hT.1 r k (by omega) (by omega)) pn_yX10_part (hasC.of hT.1.ob rfl) q2831 q2833 qs54 q161 q2834 ⟨by decide, by decide⟩ hl.1 (Nat.le_of_ble_eq_true rfl) dX10_hears_22 ⟨by omega, by omega⟩) hL (fun H locs hR hL => ?_)
        refine W.eq (g2 := F0 m9 25 ls [.long (lI (encP (pp.getD k prt0))), .ref a, .int (iI (9 + ((k : Int)))), .int (iI ((r : Int))), .ref a]) (congrArg (fun z_ : Int => F0 m9 25 ls [.long (lI (z_)), .ref a, .int (iI (9 + ((k : Int)))), .int (iI ((r : Int))), .ref a]) (show (t_1.2 3 (32 + 14 * r + 4 + k) : Int) = encP (pp.getD k prt0) from ((hs2 _ (by omega)).trans ((hK.2.2.1 k (by rw [letK_len]; omega)).trans (letK_at pp (by omega)))))) ?_
        -- call SpokenMarksModel.ear
        refine h_kL (h_runV X hR (m_ear l G w_2 a ad t_1 hT.1 R (pp.getD k prt0) (hA.mv (fun i hi => hs2 i (by omega))) (hpw.at (by omega))) pn_yX10_ear (hasC.of hT.1.ob rfl) q2835 q2837 qs55 q161 q2838 ⟨by decide, by decide⟩ hl.1 (Nat.le_of_ble_eq_true rfl) dX10_hears_25 ⟨by omega, by omega⟩) hL (fun z_11 w_12 hp_13 H locs hR hL => ?_)
        obtain ⟨rfl, t_14, hT2, hE_t_14, et_15⟩ := hp_13
        have hT := hT.tr hT2
        clear hT2
        have her := encP_r (earP_w hA.2.2 (hpw.at (k := k) (by omega)))
        -- call SpokenMarksModel.lays
        refine h_kV (h_runV X hR (m_lays l G w_12 a ad t_14 hT.1 r (9 + (k)) (encP (earP R (pp.getD k prt0))) (by omega) (by omega) (by omega)) pn_yX10_lays (hasC.of hT.1.ob rfl) q2864 q2866 qs60 q161 q2867 ⟨by decide, by decide⟩ hl.1 (Nat.le_of_ble_eq_true rfl) dX10_hears_28 ⟨by omega, by omega⟩) hL (fun w_17 hp_18 H locs hR hL => ?_)
        obtain ⟨t_19, et_20⟩ : ∃ t_ : Tw, t_ = tast t_14 3 (32 + 14 * r + (9 + (k) : Nat)) (encP (earP R (pp.getD k prt0))) := ⟨_, rfl⟩
        have hT2 := hp_18
        rw [← et_20] at hT2
        have hT := hT.tr hT2
        clear hT2
        have hE_t_19 : TwE [3] t_14 t_19 := by rw [et_20]; exact TwE.ast rfl
        refine h_iinc (lv' := [(2, .int (iI ((k : Int) + 1))), (0, .ref a), (1, .int (iI ((r : Int))))]) hx hb dX10_hears_31 hl (k := 2) rfl (by decide) rfl (fun ls hl => ?_)
        refine lv_goto (tgt := 2) hx hb dX10_hears_34 (by decide) ?_
        exact ih_3 (k + 1) t_19 w_17 (by omega) hT (TwE.tr (S2 := [1, 2, 3]) (TwE.tr (S2 := [1, 2, 3]) (TwE.tr (S2 := [1, 2, 3]) (TwE.rf : TwE [] t t) hE_t_1 rfl rfl) hE_t_14 rfl rfl) hE_t_19 rfl rfl) (fun j hj => by rw [tast_v et_20, (hE_t_14 3 (by decide)).2]; unfold zset; by_cases hjk : j = k; (rw [if_pos (by omega), hjk]); (rw [if_neg (by omega)]; exact hs1 j (by omega))) (fun i hi => by rw [tast_v et_20, (hE_t_14 3 (by decide)).2]; unfold zset; rw [if_neg (by omega)]; exact hs2 i hi) (by omega) _ _ _ hR hL (lv_sub hl [1, 2, 0] rfl)
  exact LOOP_3 _ 0 t w (by omega) hT (TwE.rf : TwE [1, 2, 3] t t) (fun j hj => absurd hj (Nat.not_lt_zero _)) (fun _ _ => rfl) (Nat.lt_succ_self _) _ _ _ hR hL (lv_sub hl [1, 2, 0] rfl)

set_option maxHeartbeats 4000000 in
set_option maxRecDepth 100000 in
/-- respaces -/
theorem m_respaces (l : Launch) (G : Gl) (w : Wd) (a : Nat) (ad : Nat → Nat) (t : Tw) (hT : TwAt G w a ad t)  (c0 : Cat) (hC : RowIs (t.2 3) c0) (hac : ∀ k, k < 3 → cAc c0 k < 990000) : HM l yX10_respaces cX10_respaces 3 (some .int) 3 0 0 G [.ref a] w (QI G (fun z_ w_ => z_ = rspN c0 ∧ ∃ t_ : Tw, TwS G w w_ a ad t_ ∧ TwE [3] t t_ ∧ RowIs (t_.2 3) (cRsp c0))) := by
  refine HM.mk (by decide +kernel) (Nat.le_of_ble_eq_true rfl) ?_
  intro p9 e9 s9 m9 a9 b9 meth9 c9 ls X hret hlk hnm hl H hR
  have hx := X.1.1
  have hb := X.1.2.1
  have hl : lv_has ls 3 [(0, .ref a)] := hl
  have hL : LK G [] := fun q h => absurd h List.not_mem_nil
  generalize ([] : List Loc) = locs at hL ⊢
  have hTb := hT
  have hT : TwS G w w a ad t := TwS.rf hT
  have hn40 := hC.n40
  have hsh8 := hC.sh8
  have ha1 := hac 1 (by omega)
  have ha2 := hac 2 (by omega)
  have ha3 := hC.s.2.2.2.2.2.1 1 (by omega)
  have ha4 := hC.s.2.2.2.2.2.1 2 (by omega)
  have hrn := rspN_r c0
  refine h_iconst hx hb dX10_respaces_0 ?_
  refine lv_istore_n (lv' := [(1, .int (iI (0))), (0, .ref a)]) hx hb dX10_respaces_1 rfl hl (by decide) rfl (fun ls hl => ?_)
  refine h_iconst hx hb dX10_respaces_2 ?_
  refine lv_istore_n (lv' := [(2, .int (iI (0))), (1, .int (iI (0))), (0, .ref a)]) hx hb dX10_respaces_3 rfl hl (by decide) rfl (fun ls hl => ?_)
  have LOOP_3 : ∀ (N_ : Nat) (k : Nat) (t_1 : Tw) (w_2 : Wd), (k ≤ cN c0) → (TwS G w w_2 a ad t_1) → (TwE [3] t t_1) → (∀ i, t_1.2 3 i = plcF (t.2 3) (cN c0) k i) → (cN c0 - k) < N_ → ∀ (H : Heap) (locs : List Loc) (ls : Array Slot), Rp G w_2 H → LK G locs → lv_has ls 3 [(0, .ref a), (1, .int (iI (sumN (fun k => b2i (spc (k : Int) (cN c0) ≠ mPl (mk c0 k))) k))), (2, .int (iI ((k : Int))))] → W p9 l e9 (rmk 3 0 0) s9 m9 a9 b9 meth9 c9 H locs 0 0 (MQ b9 (QI G (fun z_ w_ => z_ = rspN c0 ∧ ∃ t_ : Tw, TwS G w w_ a ad t_ ∧ TwE [3] t t_ ∧ RowIs (t_.2 3) (cRsp c0))) a9 s9 0 0 (frG G)) (F0 m9 4 ls []) := by
    intro N_
    induction N_ with
    | zero => intro _ _ _ _ _ _ _ h_; exact absurd h_ (Nat.not_lt_zero _)
    | succ N_ ih_ =>
      intro k t_1 w_2 hk hT hE_t_1 hs hN_ H locs ls hR hL hl
      have ih_3 := ih_
      clear ih_
      refine lv_iload_n hx hb dX10_respaces_4 rfl (lv_at hl 2 rfl) ?_
      refine lv_aload_n hx hb dX10_respaces_5 rfl (lv_at hl 0 rfl) ?_
      refine h_iconst hx hb dX10_respaces_6 ?_
      -- call SpokenMarksModel.head
      refine h_kIp (h_runV X hR (m_head l G w_2 a ad t_1 hT.1 2 (by omega)) pn_yX10_head (hasC.of hT.1.ob rfl) q2789 q2791 qs44 q161 q2792 ⟨by decide, by decide⟩ hl.1 (Nat.le_of_ble_eq_true rfl) dX10_respaces_7 ⟨by omega, by omega⟩) hL (fun H locs hR hL => ?_)
      refine W.eq (g2 := F0 m9 10 ls [.int (iI ((cN c0 : Int))), .int (iI ((k : Int)))]) (congrArg (fun z_ : Int => F0 m9 10 ls [.int (iI (z_)), .int (iI ((k : Int)))]) (show (hd t_1 2 : Int) = (cN c0 : Int) from ((hs 2).trans ((plcF_no (by omega)).trans hC.n)))) ?_
      refine h_icmp_ge hx hb 56 dX10_respaces_10 (by decide) (by omega) (by omega) (fun c_7 => ?_) (fun c_7 => ?_)
      ·
        refine lv_aload_n hx hb dX10_respaces_56 rfl (lv_at hl 0 rfl) ?_
        refine h_iconst hx hb dX10_respaces_57 ?_
        refine h_iconst hx hb dX10_respaces_58 ?_
        have hD0 := hC.plc (g := t_1.2 3) (fun i => by rw [hs i, show k = cN c0 by omega])
        have hl : lv_has ls 3 [(0, .ref a), (1, .int (iI (rspN c0))), (2, .int (iI ((k : Int))))] := lv_conv hl (congrArg (fun z_ : Int => ([(0, .ref a), (1, .int (iI (z_))), (2, .int (iI ((k : Int))))] : List (Nat × Value))) (show (sumN (fun k => b2i (spc (k : Int) (cN c0) ≠ mPl (mk c0 k))) k : Int) = rspN c0 from (by rw [show k = cN c0 by omega] <;> rfl)))
        -- call SpokenMarksModel.counts
        refine h_kV (h_runV X hR (m_counts l G w_2 a ad t_1 hT.1 1 1 (by omega) (by omega) (hD0.acR (by omega))) pn_yX10_counts (hasC.of hT.1.ob rfl) q2887 q2889 qs65 q161 q2890 ⟨by decide, by decide⟩ hl.1 (Nat.le_of_ble_eq_true rfl) dX10_respaces_59 ⟨by omega, by omega⟩) hL (fun w_9 hp_10 H locs hR hL => ?_)
        obtain ⟨t_11, et_12⟩ : ∃ t_ : Tw, t_ = tast t_1 3 (5 + 1) (t_1.2 3 (5 + 1) + 1) := ⟨_, rfl⟩
        have hT2 := hp_10
        rw [← et_12] at hT2
        have hT := hT.tr hT2
        clear hT2
        have hE_t_11 : TwE [3] t_1 t_11 := by rw [et_12]; exact TwE.ast rfl
        have hD1 := hD0.act et_12 (by omega) ⟨by show 0 ≤ cAc c0 1 + 1; omega, by show cAc c0 1 + 1 < _; omega⟩
        refine lv_aload_n hx hb dX10_respaces_62 rfl (lv_at hl 0 rfl) ?_
        refine h_iconst hx hb dX10_respaces_63 ?_
        refine lv_iload_n hx hb dX10_respaces_64 rfl (lv_at hl 1 rfl) ?_
        -- call SpokenMarksModel.counts
        refine h_kV (h_runV X hR (m_counts l G w_9 a ad t_11 hT.1 2 (rspN c0) (by omega) (by omega) (hD1.acR (by omega))) pn_yX10_counts (hasC.of hT.1.ob rfl) q2887 q2889 qs65 q161 q2890 ⟨by decide, by decide⟩ hl.1 (Nat.le_of_ble_eq_true rfl) dX10_respaces_65 ⟨by omega, by omega⟩) hL (fun w_14 hp_15 H locs hR hL => ?_)
        obtain ⟨t_16, et_17⟩ : ∃ t_ : Tw, t_ = tast t_11 3 (5 + 2) (t_11.2 3 (5 + 2) + (rspN c0)) := ⟨_, rfl⟩
        have hT2 := hp_15
        rw [← et_17] at hT2
        have hT := hT.tr hT2
        clear hT2
        have hE_t_16 : TwE [3] t_11 t_16 := by rw [et_17]; exact TwE.ast rfl
        have hD2 := hD1.act et_17 (by omega) ⟨by show 0 ≤ cAc c0 2 + rspN c0; omega, by show cAc c0 2 + rspN c0 < _; omega⟩
        refine lv_iload_n hx hb dX10_respaces_68 rfl (lv_at hl 1 rfl) ?_
        exact h_ireturn hx hb hlk hret hR hL rfl ⟨rfl, ⟨t_16, hT, (TwE.tr (S2 := [3]) (TwE.tr (S2 := [3]) (TwE.tr (S2 := [3]) (TwE.rf : TwE [] t t) hE_t_1 rfl rfl) hE_t_11 rfl rfl) hE_t_16 rfl rfl), hD2⟩⟩ (by omega) (by omega) rfl rfl dX10_respaces_69
      ·
        refine lv_iload_n hx hb dX10_respaces_13 rfl (lv_at hl 2 rfl) ?_
        refine lv_aload_n hx hb dX10_respaces_14 rfl (lv_at hl 0 rfl) ?_
        refine h_iconst hx hb dX10_respaces_15 ?_
        -- call SpokenMarksModel.head
        refine h_kIp (h_runV X hR (m_head l G w_2 a ad t_1 hT.1 2 (by omega)) pn_yX10_head (hasC.of hT.1.ob rfl) q2789 q2791 qs44 q161 q2792 ⟨by decide, by decide⟩ hl.1 (Nat.le_of_ble_eq_true rfl) dX10_respaces_16 ⟨by omega, by omega⟩) hL (fun H locs hR hL => ?_)
        refine W.eq (g2 := F0 m9 19 ls [.int (iI ((cN c0 : Int))), .int (iI ((k : Int)))]) (congrArg (fun z_ : Int => F0 m9 19 ls [.int (iI (z_)), .int (iI ((k : Int)))]) (show (hd t_1 2 : Int) = (cN c0 : Int) from ((hs 2).trans ((plcF_no (by omega)).trans hC.n)))) ?_
        -- call SpokenMarksModel.spaced
        refine h_kIp (h_runS X hR (m_spaced l G w_2  ((k : Int)) ((cN c0 : Int)) (by omega) (by omega)) pn_yX10_spaced q2884 q2885 q161 q2886 ⟨by decide, by decide⟩ hl.1 (Nat.le_of_ble_eq_true rfl) dX10_respaces_19 ⟨by omega, by omega⟩) hL (fun H locs hR hL => ?_)
        have hsp := spc_r (k := (k : Int)) (n := (cN c0 : Int)) (by omega) (by omega) (by omega)
        refine lv_aload_n hx hb dX10_respaces_22 rfl (lv_at hl 0 rfl) ?_
        refine lv_iload_n hx hb dX10_respaces_23 rfl (lv_at hl 2 rfl) ?_
        refine h_iconst hx hb dX10_respaces_24 ?_
        -- call SpokenMarksModel.of
        refine h_kIp (h_runV X hR (m_of l G w_2 a ad t_1 hT.1 k 2 (by omega) (by omega)) pn_yX10_of (hasC.of hT.1.ob rfl) q2827 q2829 qs53 q161 q2830 ⟨by decide, by decide⟩ hl.1 (Nat.le_of_ble_eq_true rfl) dX10_respaces_25 ⟨by omega, by omega⟩) hL (fun H locs hR hL => ?_)
        refine W.eq (g2 := F0 m9 28 ls [.int (iI (mPl (mk c0 k))), .int (iI (spc ((k : Int)) ((cN c0 : Int))))]) (congrArg (fun z_ : Int => F0 m9 28 ls [.int (iI (z_)), .int (iI (spc ((k : Int)) ((cN c0 : Int))))]) (show (tof t_1 k 2 : Int) = mPl (mk c0 k) from ((hs _).trans ((by unfold plcF; rw [if_neg (by omega)] : plcF (t.2 3) (cN c0) k (32 + 14 * k + 2) = t.2 3 (32 + 14 * k + 2)).trans (hC.m k (by omega)).2.2.1)))) ?_
        have hr_pl := mPl_r hC.s k (by omega)
        refine h_icmp_eq hx hb 34 dX10_respaces_28 (by decide) (by omega) (by omega) (fun c_e => ?_) (fun c_e => ?_)
        ·
          refine lv_aload_n hx hb dX10_respaces_34 rfl (lv_at hl 0 rfl) ?_
          refine lv_iload_n hx hb dX10_respaces_35 rfl (lv_at hl 2 rfl) ?_
          refine h_iconst hx hb dX10_respaces_36 ?_
          refine lv_iload_n hx hb dX10_respaces_37 rfl (lv_at hl 2 rfl) ?_
          refine lv_aload_n hx hb dX10_respaces_38 rfl (lv_at hl 0 rfl) ?_
          refine h_iconst hx hb dX10_respaces_39 ?_
          -- call SpokenMarksModel.head
          refine h_kIp (h_runV X hR (m_head l G w_2 a ad t_1 hT.1 2 (by omega)) pn_yX10_head (hasC.of hT.1.ob rfl) q2789 q2791 qs44 q161 q2792 ⟨by decide, by decide⟩ hl.1 (Nat.le_of_ble_eq_true rfl) dX10_respaces_40 ⟨by omega, by omega⟩) hL (fun H locs hR hL => ?_)
          refine W.eq (g2 := F0 m9 43 ls [.int (iI ((cN c0 : Int))), .int (iI ((k : Int))), .int (iI (2)), .int (iI ((k : Int))), .ref a]) (congrArg (fun z_ : Int => F0 m9 43 ls [.int (iI (z_)), .int (iI ((k : Int))), .int (iI (2)), .int (iI ((k : Int))), .ref a]) (show (hd t_1 2 : Int) = (cN c0 : Int) from ((hs 2).trans ((plcF_no (by omega)).trans hC.n)))) ?_
          -- call SpokenMarksModel.spaced
          refine h_kIp (h_runS X hR (m_spaced l G w_2  ((k : Int)) ((cN c0 : Int)) (by omega) (by omega)) pn_yX10_spaced q2884 q2885 q161 q2886 ⟨by decide, by decide⟩ hl.1 (Nat.le_of_ble_eq_true rfl) dX10_respaces_43 ⟨by omega, by omega⟩) hL (fun H locs hR hL => ?_)
          refine h_i2l hx hb dX10_respaces_46 (by omega) ?_
          -- call SpokenMarksModel.lays
          refine h_kV (h_runV X hR (m_lays l G w_2 a ad t_1 hT.1 k 2 (spc ((k : Int)) ((cN c0 : Int))) (by omega) (by omega) (by omega)) pn_yX10_lays (hasC.of hT.1.ob rfl) q2864 q2866 qs60 q161 q2867 ⟨by decide, by decide⟩ hl.1 (Nat.le_of_ble_eq_true rfl) dX10_respaces_47 ⟨by omega, by omega⟩) hL (fun w_34 hp_35 H locs hR hL => ?_)
          obtain ⟨t_36, et_37⟩ : ∃ t_ : Tw, t_ = tast t_1 3 (32 + 14 * k + 2) (spc ((k : Int)) ((cN c0 : Int))) := ⟨_, rfl⟩
          have hT2 := hp_35
          rw [← et_37] at hT2
          have hT := hT.tr hT2
          clear hT2
          have hE_t_36 : TwE [3] t_1 t_36 := by rw [et_37]; exact TwE.ast rfl
          refine h_iinc (lv' := [(2, .int (iI ((k : Int) + 1))), (0, .ref a), (1, .int (iI (sumN (fun k => b2i (spc (k : Int) (cN c0) ≠ mPl (mk c0 k))) k)))]) hx hb dX10_respaces_50 hl (k := 2) rfl (by decide) rfl (fun ls hl => ?_)
          refine lv_goto (tgt := 4) hx hb dX10_respaces_53 (by decide) ?_
          have hl : lv_has ls 3 [(2, .int (iI ((k : Int) + 1))), (0, .ref a), (1, .int (iI (sumN (fun k => b2i (spc (k : Int) (cN c0) ≠ mPl (mk c0 k))) (k + 1))))] := lv_conv hl (congrArg (fun z_ : Int => ([(2, .int (iI ((k : Int) + 1))), (0, .ref a), (1, .int (iI (z_)))] : List (Nat × Value))) (show (sumN (fun k => b2i (spc (k : Int) (cN c0) ≠ mPl (mk c0 k))) k : Int) = sumN (fun k => b2i (spc (k : Int) (cN c0) ≠ mPl (mk c0 k))) (k + 1) from (by rw [sumN_s]; first | (rw [b2i_t c_e]; done) | (rw [b2i_f (fun q => q c_e), Int.add_zero]; done))))
          exact ih_3 (k + 1) t_36 w_34 (by omega) hT (TwE.tr (S2 := [3]) (TwE.tr (S2 := [3]) (TwE.rf : TwE [] t t) hE_t_1 rfl rfl) hE_t_36 rfl rfl) (fun i => by rw [tast_v et_37]; exact plcF_s hs i) (by omega) _ _ _ hR hL (lv_sub hl [1, 2, 0] rfl)
        ·
          refine h_iinc (lv' := [(1, .int (iI (sumN (fun k => b2i (spc (k : Int) (cN c0) ≠ mPl (mk c0 k))) k + 1))), (0, .ref a), (2, .int (iI ((k : Int))))]) hx hb dX10_respaces_31 hl (k := 1) rfl (by decide) rfl (fun ls hl => ?_)
          refine lv_aload_n hx hb dX10_respaces_34 rfl (lv_at hl 1 rfl) ?_
          refine lv_iload_n hx hb dX10_respaces_35 rfl (lv_at hl 2 rfl) ?_
          refine h_iconst hx hb dX10_respaces_36 ?_
          refine lv_iload_n hx hb dX10_respaces_37 rfl (lv_at hl 2 rfl) ?_
          refine lv_aload_n hx hb dX10_respaces_38 rfl (lv_at hl 1 rfl) ?_
          refine h_iconst hx hb dX10_respaces_39 ?_
          -- call SpokenMarksModel.head
          refine h_kIp (h_runV X hR (m_head l G w_2 a ad t_1 hT.1 2 (by omega)) pn_yX10_head (hasC.of hT.1.ob rfl) q2789 q2791 qs44 q161 q2792 ⟨by decide, by decide⟩ hl.1 (Nat.le_of_ble_eq_true rfl) dX10_respaces_40 ⟨by omega, by omega⟩) hL (fun H locs hR hL => ?_)
          refine W.eq (g2 := F0 m9 43 ls [.int (iI ((cN c0 : Int))), .int (iI ((k : Int))), .int (iI (2)), .int (iI ((k : Int))), .ref a]) (congrArg (fun z_ : Int => F0 m9 43 ls [.int (iI (z_)), .int (iI ((k : Int))), .int (iI (2)), .int (iI ((k : Int))), .ref a]) (show (hd t_1 2 : Int) = (cN c0 : Int) from ((hs 2).trans ((plcF_no (by omega)).trans hC.n)))) ?_
          -- call SpokenMarksModel.spaced
          refine h_kIp (h_runS X hR (m_spaced l G w_2  ((k : Int)) ((cN c0 : Int)) (by omega) (by omega)) pn_yX10_spaced q2884 q2885 q161 q2886 ⟨by decide, by decide⟩ hl.1 (Nat.le_of_ble_eq_true rfl) dX10_respaces_43 ⟨by omega, by omega⟩) hL (fun H locs hR hL => ?_)
          refine h_i2l hx hb dX10_respaces_46 (by omega) ?_
          -- call SpokenMarksModel.lays
          refine h_kV (h_runV X hR (m_lays l G w_2 a ad t_1 hT.1 k 2 (spc ((k : Int)) ((cN c0 : Int))) (by omega) (by omega) (by omega)) pn_yX10_lays (hasC.of hT.1.ob rfl) q2864 q2866 qs60 q161 q2867 ⟨by decide, by decide⟩ hl.1 (Nat.le_of_ble_eq_true rfl) dX10_respaces_47 ⟨by omega, by omega⟩) hL (fun w_45 hp_46 H locs hR hL => ?_)
          obtain ⟨t_47, et_48⟩ : ∃ t_ : Tw, t_ = tast t_1 3 (32 + 14 * k + 2) (spc ((k : Int)) ((cN c0 : Int))) := ⟨_, rfl⟩
          have hT2 := hp_46
          rw [← et_48] at hT2
          have hT := hT.tr hT2
          clear hT2
          have hE_t_47 : TwE [3] t_1 t_47 := by rw [et_48]; exact TwE.ast rfl
          refine h_iinc (lv' := [(2, .int (iI ((k : Int) + 1))), (1, .int (iI (sumN (fun k => b2i (spc (k : Int) (cN c0) ≠ mPl (mk c0 k))) k + 1))), (0, .ref a)]) hx hb dX10_respaces_50 hl (k := 2) rfl (by decide) rfl (fun ls hl => ?_)
          refine lv_goto (tgt := 4) hx hb dX10_respaces_53 (by decide) ?_
          have hl : lv_has ls 3 [(2, .int (iI ((k : Int) + 1))), (1, .int (iI (sumN (fun k => b2i (spc (k : Int) (cN c0) ≠ mPl (mk c0 k))) (k + 1)))), (0, .ref a)] := lv_conv hl (congrArg (fun z_ : Int => ([(2, .int (iI ((k : Int) + 1))), (1, .int (iI (z_))), (0, .ref a)] : List (Nat × Value))) (show (sumN (fun k => b2i (spc (k : Int) (cN c0) ≠ mPl (mk c0 k))) k + 1 : Int) = sumN (fun k => b2i (spc (k : Int) (cN c0) ≠ mPl (mk c0 k))) (k + 1) from (by rw [sumN_s]; first | (rw [b2i_t c_e]; done) | (rw [b2i_f (fun q => q c_e), Int.add_zero]; done))))
          exact ih_3 (k + 1) t_47 w_45 (by omega) hT (TwE.tr (S2 := [3]) (TwE.tr (S2 := [3]) (TwE.rf : TwE [] t t) hE_t_1 rfl rfl) hE_t_47 rfl rfl) (fun i => by rw [tast_v et_48]; exact plcF_s hs i) (by omega) _ _ _ hR hL (lv_sub hl [2, 1, 0] rfl)
  exact LOOP_3 _ 0 t w (by omega) hT (TwE.rf : TwE [3] t t) (fun i => (plcF_0 _ _ i).symm) (Nat.lt_succ_self _) _ _ _ hR hL (lv_sub hl [2, 1, 0] rfl)
