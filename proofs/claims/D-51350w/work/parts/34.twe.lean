/-! the twin: laysGuest, adds, drops, widens, bounds, balances -/
set_option maxRecDepth 100000
def remAt {α : Type} (L : List α) (k : Nat) : List α := L.take k ++ L.drop (k + 1)
theorem remAt_len {α : Type} (L : List α) (k : Nat) (hk : k < L.length) : (remAt L k).length = L.length - 1 := by
  unfold remAt; rw [List.length_append, List.length_take, List.length_drop]; omega
theorem remAt_at {α : Type} (L : List α) (k : Nat) (d : α) (hk : k < L.length) (i : Nat) : (remAt L k).getD i d = if i < k then L.getD i d else L.getD (i + 1) d := by
  unfold remAt
  rw [List.getD_eq_getElem?_getD, List.getElem?_append, List.length_take, Nat.min_eq_left (by omega)]
  by_cases h : i < k
  · rw [if_pos h, if_pos h, List.getElem?_take, if_pos h, ← List.getD_eq_getElem?_getD]
  · rw [if_neg h, if_neg h, List.getElem?_drop, ← List.getD_eq_getElem?_getD]; congr 1; omega
def cDrp (c : Cat) (r : Nat) : Cat := setMk c (remAt (cMk c) r)
theorem RowIs.drp {f g : Nat → Int} {c : Cat} (h : RowIs f c) {r : Nat} (hr : r < cN c) (hg : ∀ i, i < 32 → i ≠ 2 → g i = f i) (h2 : g 2 = (cN c : Int) - 1) (h3 : ∀ i, 32 ≤ i → i < 32 + 14 * r → g i = f i) (h4 : ∀ i, 32 + 14 * r ≤ i → i < 32 + 14 * (cN c - 1) → g i = f (i + 14)) : RowIs g (cDrp c r) := by
  have hn := h.n40
  have hlen : (remAt (cMk c) r).length = cN c - 1 := remAt_len _ _ hr
  refine h.mks (by omega) (fun k hk => ?_) hg (by rw [h2, hlen]; omega) (fun k hk => ?_)
  · have hk2 : k < cN c - 1 := by rw [← hlen]; exact hk
    rw [remAt_at _ _ _ hr]
    split
    · exact h.mw k (by omega)
    · exact h.mw (k + 1) (by omega)
  · have hk2 : k < cN c - 1 := by rw [← hlen]; exact hk
    rw [remAt_at _ _ _ hr]
    by_cases q : k < r
    · rw [if_pos q]; exact (h.m k (by omega)).mv (fun i h1 h2 => h3 i (by omega) (by omega))
    · rw [if_neg q]; exact (h.m (k + 1) (by omega)).to (fun j hj => by rw [h4 _ (by omega) (by omega)]; congr 1; omega)
def cWid (c : Cat) (r : Nat) (v : Int) : Cat := setMk c ((cMk c).set r (mId (mk c r), mPs (mk c r), v, mPl (mk c r)))
theorem set_at {α : Type} (L : List α) (k : Nat) (m d : α) (hk : k < L.length) (i : Nat) : (L.set k m).getD i d = if i = k then m else L.getD i d := by
  rw [List.getD_eq_getElem?_getD, List.getElem?_set]
  by_cases h : k = i
  · subst h; rw [if_pos rfl, if_pos hk, if_pos rfl]; rfl
  · rw [if_neg h, if_neg (Ne.symm h), ← List.getD_eq_getElem?_getD]
theorem RowIs.wid {f g : Nat → Int} {c : Cat} (h : RowIs f c) {r : Nat} {v : Int} (hr : r < cN c) (hv : 1 ≤ v ∧ v ≤ 20) (hg : ∀ i, g i = zset f (32 + 14 * r + 1) v i) : RowIs g (cWid c r v) := by
  have hn := h.n40
  have ho : ∀ i, i ≠ 32 + 14 * r + 1 → g i = f i := fun i hi => by rw [hg]; unfold zset; rw [if_neg hi]
  have hlen : ((cMk c).set r (mId (mk c r), mPs (mk c r), v, mPl (mk c r))).length = cN c := List.length_set ..
  refine h.mks (by omega) (fun k hk => ?_) (fun i hi _ => ho i (by omega)) (by rw [ho 2 (by omega), h.n, hlen]) (fun k hk => ?_)
  · have hk2 : k < cN c := by rw [← hlen]; exact hk
    rw [set_at _ _ _ _ hr]
    split
    · exact ⟨(h.mw r hr).1, (h.mw r hr).2.1, hv, (h.mw r hr).2.2.2⟩
    · exact h.mw k hk2
  · have hk2 : k < cN c := by rw [← hlen]; exact hk
    rw [set_at _ _ _ _ hr]
    by_cases q : k = r
    · subst q; rw [if_pos rfl]
      have hm := h.m k hr
      refine ⟨(ho _ (by omega)).trans hm.1, by rw [hg]; unfold zset; rw [if_pos rfl], (ho _ (by omega)).trans hm.2.2.1, ⟨⟨(ho _ (by omega)).trans hm.2.2.2.1.1, hm.2.2.2.1.2.1, fun j hj => (ho _ (by omega)).trans (hm.2.2.2.1.2.2.1 j hj), hm.2.2.2.1.2.2.2⟩, ⟨(ho _ (by omega)).trans hm.2.2.2.2.1, hm.2.2.2.2.2.1, fun j hj => (ho _ (by omega)).trans (hm.2.2.2.2.2.2.1 j hj), hm.2.2.2.2.2.2.2⟩⟩⟩
    · rw [if_neg q]; exact (h.m k hk2).mv (fun i _ _ => ho i (by omega))
theorem RowIs.bds {f g : Nat → Int} {c : Cat} (h : RowIs f c) {B : List Int} (hl : B.length = (cSh c).toNat) (hb : ∀ s, s < B.length → 0 ≤ B.getD s 0 ∧ B.getD s 0 ≤ 10000) (hg : ∀ i, i < 8 ∨ 16 ≤ i → g i = f i) (hv : ∀ s : Nat, (s : Int) < cSh c → g (8 + s) = B.getD s 0) : RowIs g (setBd c B) := by
  have hn := h.n40
  refine ⟨⟨h.s.1, h.s.2.1, ⟨hl, hb⟩, h.s.2.2.2⟩, ?_, ?_, ?_, ?_, fun k hk => ?_, hv, ⟨?_, fun k hk => ?_, h.rl.2.2⟩, fun r hr => (h.m r hr).mv (fun i _ _ => hg i (by omega))⟩
  · rw [hg 0 (by omega)]; exact h.sh
  · rw [hg 1 (by omega)]; exact h.rm
  · rw [hg 2 (by omega)]; exact h.n
  · rw [hg 4 (by omega)]; exact h.nx
  · rw [hg _ (by omega)]; exact h.ac k hk
  · rw [hg 3 (by omega)]; exact h.rl.1
  · rw [hg _ (by omega), hg _ (by omega)]; exact h.rl.2.1 k hk
/-! the answers: (catalogue after, number) -/
def adA (c : Cat) (g : List Prt) (w : Int) : Cat × Int := if twinN c g ≠ -1 then (c, -2) else if cN c = 40 then (c, -3) else (cAdd c g w, cNx c)
def bdA (c : Cat) (s v : Int) : Cat × Int := if s = 0 then (c, -2) else if v < bdX c (s - 1) ∨ bdX c (s + 1) < v then (c, -3) else (setBd c ((cBd c).set s.toNat v), bd c s.toNat)
/-! balance -/
theorem twinN_r (c : Cat) (g : List Prt) : -1 ≤ twinN c g ∧ twinN c g ≤ (cN c : Int) := by
  unfold twinN; split <;> omega
def grd (c : Cat) : Nat → Int → Nat → Nat
  | 0, _, i => i
  | f + 1, s, i => if i < cN c ∧ s + mWd (mk c i) ≤ cRm c then grd c f (s + mWd (mk c i)) (i + 1) else i
def grdS (c : Cat) (i : Nat) : Nat := if i < cN c then grd c (cN c) (mWd (mk c i)) (i + 1) else i
def balI (c : Cat) : Nat → Nat
  | 0 => 0
  | s + 1 => grdS c (balI c s)
def balV (c : Cat) (k : Nat) : Int := if balI c (k + 1) < cN c then mPl (mk c (balI c (k + 1))) else 10000
def balB (c : Cat) : List Int := bd c 0 :: (List.range ((cSh c).toNat - 1)).map (balV c)
def cBal (c : Cat) : Cat := setBd c (balB c)
theorem balB_len {c : Cat} (h : 1 ≤ cSh c) : (balB c).length = (cSh c).toNat := by unfold balB; rw [List.length_cons, List.length_map, List.length_range]; omega
theorem balB_s (c : Cat) {k : Nat} (hk : k < (cSh c).toNat - 1) : (balB c).getD (k + 1) 0 = balV c k := by
  unfold balB; rw [List.getD_cons_succ]; simp [hk]
theorem balV_r {c : Cat} (h : CatS c) (k : Nat) : 0 ≤ balV c k ∧ balV c k ≤ 10000 := by
  unfold balV; split
  · next q => have := mPl_r h _ q; omega
  · omega
def balF (f : Nat → Int) (c : Cat) (s i : Nat) : Int := if 9 ≤ i ∧ i < 9 + s then balV c (i - 9) else f i
theorem balF_no {f : Nat → Int} {c : Cat} {s i : Nat} (h : ¬ (9 ≤ i ∧ i < 9 + s)) : balF f c s i = f i := if_neg h
theorem balF_s {f g : Nat → Int} {c : Cat} {s : Nat} {v : Int} (h : ∀ i, g i = balF f c s i) (hv : v = balV c s) (i : Nat) : zset g (9 + s) v i = balF f c (s + 1) i := by
  unfold zset
  by_cases q : i = 9 + s
  · subst q; rw [if_pos rfl, hv]; unfold balF; rw [if_pos (by omega)]; congr 1; omega
  · rw [if_neg q, h]; unfold balF
    by_cases q2 : 9 ≤ i ∧ i < 9 + s
    · have q3 : 9 ≤ i ∧ i < 9 + (s + 1) := by omega
      rw [if_pos q2, if_pos q3]
    · have q3 : ¬ (9 ≤ i ∧ i < 9 + (s + 1)) := by omega
      rw [if_neg q2, if_neg q3]
theorem RowIs.bal {f g : Nat → Int} {c : Cat} (h : RowIs f c) (hg : ∀ i, g i = balF f c ((cSh c).toNat - 1) i) : RowIs g (cBal c) := by
  have h8 := h.sh8
  refine h.bds (balB_len h8.1) (fun s hs => ?_) (fun i hi => by rw [hg]; exact balF_no (by omega)) (fun s hs => ?_)
  · cases s with
    | zero => exact bd_r h.s 0 (by omega)
    | succ k => rw [balB_len h8.1] at hs; rw [balB_s c (by omega)]; exact balV_r h.s k
  · rw [hg]
    cases s with
    | zero => rw [balF_no (by omega)]; exact h.bd 0 (by omega)
    | succ k => unfold balF; rw [if_pos (by omega), balB_s c (by omega)]; congr 1; omega
theorem RowIs.bdv {f g : Nat → Int} {c : Cat} (h : RowIs f c) {s : Nat} {v : Int} (hs : (s : Int) < cSh c) (hv : 0 ≤ v ∧ v ≤ 10000) (hg : ∀ i, g i = zset f (8 + s) v i) : RowIs g (setBd c ((cBd c).set s v)) := by
  have h8 := h.sh8
  have hl := h.s.2.2.1.1
  have hlen : ((cBd c).set s v).length = (cSh c).toNat := by rw [List.length_set]; exact hl
  refine h.bds hlen (fun k hk => ?_) (fun i hi => by rw [hg]; unfold zset; rw [if_neg (by omega)]) (fun k hk => ?_)
  · rw [set_at _ _ _ _ (by omega)]; split
    · exact hv
    · exact bd_r h.s k (by omega)
  · rw [set_at _ _ _ _ (by omega), hg]; unfold zset
    by_cases q : k = s
    · rw [if_pos q, if_pos (by omega)]
    · rw [if_neg q, if_neg (by omega)]; exact h.bd k hk
theorem grd_stop {c : Cat} {f : Nat} {s : Int} {i : Nat} (h : ¬ (i < cN c ∧ s + mWd (mk c i) ≤ cRm c)) : grd c f s i = i := by
  cases f with
  | zero => rfl
  | succ f => exact if_neg h
theorem grd_le (c : Cat) (f : Nat) (s : Int) (i : Nat) (hi : i ≤ cN c) : grd c f s i ≤ cN c := by
  induction f generalizing s i with
  | zero => exact hi
  | succ f ih => unfold grd; split; (next q => exact ih _ _ (by omega)); exact hi
theorem balI_le (c : Cat) (s : Nat) : balI c s ≤ cN c := by
  induction s with
  | zero => exact Nat.zero_le _
  | succ s ih => unfold balI grdS; split; (next q => exact grd_le _ _ _ _ (by omega)); exact ih

theorem pn_yX10_comes : ParN yX10_comes 1 := by decide +kernel
theorem pn_yX10_hears : ParN yX10_hears 1 := by decide +kernel
theorem pn_yX10_twin : ParN yX10_twin 0 := by decide +kernel

set_option maxHeartbeats 4000000 in
set_option maxRecDepth 100000 in
/-- laysGuest -/
theorem m_laysGuest23 (l : Launch) (G : Gl) (w : Wd) (a : Nat) (ad : Nat → Nat) (t : Tw) (hT : TwAt G w a ad t) (fr : Nat) (R : Rls) (pp : List Prt) (hfr : fr + pp.length ≤ twN 23) (hA : RlAt (t.2 3) R) (hpw : PrtsW pp) (hpa : ∀ j, j < pp.length → t.2 23 (fr + j) = encP (pp.getD j prt0)) : HM l yX10_laysGuest cX10_laysGuest 5 none 6 0 0 G [.ref a, .ref (ad 23), .int (iI ((fr : Int))), .int (iI ((pp.length : Int)))] w (QV G (fun w_ => ∃ t_ : Tw, TwS G w w_ a ad t_ ∧ TwE [1, 2, 3] t t_ ∧ SlotP (t_.2 3) 40 R pp ∧ ∀ i, i < 592 → t_.2 3 i = t.2 3 i)) := by
  refine HM.mk (by decide +kernel) (Nat.le_of_ble_eq_true rfl) ?_
  intro p9 e9 s9 m9 a9 b9 meth9 c9 ls X hret hlk hnm hl H hR
  have hx := X.1.1
  have hb := X.1.2.1
  have hl : lv_has ls 5 [(0, .ref a), (1, .ref (ad 23)), (2, .int (iI ((fr : Int)))), (3, .int (iI ((pp.length : Int))))] := hl
  have hL : LK G [] := fun q h => absurd h List.not_mem_nil
  generalize ([] : List Loc) = locs at hL ⊢
  have hTb := hT
  have hT : TwS G w w a ad t := TwS.rf hT
  have hp5 := hpw.2.1
  have hN : twN 23 ≤ 800 := by decide
  refine lv_aload_n hx hb dX10_laysGuest_0 rfl (lv_at hl 0 rfl) ?_
  refine h_bipush hx hb dX10_laysGuest_1 (by decide) ?_
  refine h_iconst hx hb dX10_laysGuest_3 ?_
  refine lv_iload_n hx hb dX10_laysGuest_4 rfl (lv_at hl 3 rfl) ?_
  refine h_i2l hx hb dX10_laysGuest_5 (by omega) ?_
  -- call SpokenMarksModel.lays
  refine h_kV (h_runV X hR (m_lays l G w a ad t hT.1 40 3 ((pp.length : Int)) (by omega) (by omega) (by omega)) pn_yX10_lays (hasC.of hT.1.ob rfl) q2864 q2866 qs60 q161 q2867 ⟨by decide, by decide⟩ hl.1 (Nat.le_of_ble_eq_true rfl) dX10_laysGuest_6 ⟨by omega, by omega⟩) hL (fun w_2 hp_3 H locs hR hL => ?_)
  obtain ⟨t_4, et_5⟩ : ∃ t_ : Tw, t_ = tast t 3 (32 + 14 * 40 + 3) ((pp.length : Int)) := ⟨_, rfl⟩
  have hT2 := hp_3
  rw [← et_5] at hT2
  have hT := hT.tr hT2
  clear hT2
  have hE_t_4 : TwE [3] t t_4 := by rw [et_5]; exact TwE.ast rfl
  refine h_iconst hx hb dX10_laysGuest_9 ?_
  refine lv_istore (lv' := [(4, .int (iI (0))), (0, .ref a), (1, .ref (ad 23)), (2, .int (iI ((fr : Int)))), (3, .int (iI ((pp.length : Int))))]) hx hb dX10_laysGuest_10 hl (by decide) rfl (fun ls hl => ?_)
  have LOOP_8 : ∀ (N_ : Nat) (k : Nat) (t_6 : Tw) (w_7 : Wd), (k ≤ pp.length) → (TwS G w w_7 a ad t_6) → (TwE [3] t t_6) → (t_6.2 3 (32 + 14 * 40 + 3) = (pp.length : Int)) → (∀ j, j < k → t_6.2 3 (32 + 14 * 40 + 4 + j) = encP (pp.getD j prt0)) → (∀ i, i < 592 → t_6.2 3 i = t.2 3 i) → (pp.length - k) < N_ → ∀ (H : Heap) (locs : List Loc) (ls : Array Slot), Rp G w_7 H → LK G locs → lv_has ls 5 [(0, .ref a), (1, .ref (ad 23)), (2, .int (iI ((fr : Int)))), (3, .int (iI ((pp.length : Int)))), (4, .int (iI ((k : Int))))] → W p9 l e9 (rmk 6 0 0) s9 m9 a9 b9 meth9 c9 H locs 0 0 (MQ b9 (QV G (fun w_ => ∃ t_ : Tw, TwS G w w_ a ad t_ ∧ TwE [1, 2, 3] t t_ ∧ SlotP (t_.2 3) 40 R pp ∧ ∀ i, i < 592 → t_.2 3 i = t.2 3 i)) a9 s9 0 0 (frG G)) (F0 m9 12 ls []) := by
    intro N_
    induction N_ with
    | zero => intro _ _ _ _ _ _ _ _ _ h_; exact absurd h_ (Nat.not_lt_zero _)
    | succ N_ ih_ =>
      intro k t_6 w_7 hk hT hE_t_6 hl_ hs1 hs2 hN_ H locs ls hR hL hl
      have ih_8 := ih_
      clear ih_
      refine lv_iload hx hb dX10_laysGuest_12 (lv_at hl 4 rfl) ?_
      refine lv_iload_n hx hb dX10_laysGuest_14 rfl (lv_at hl 3 rfl) ?_
      refine h_icmp_ge hx hb 40 dX10_laysGuest_15 (by decide) (by omega) (by omega) (fun c_9 => ?_) (fun c_9 => ?_)
      ·
        refine lv_aload_n hx hb dX10_laysGuest_40 rfl (lv_at hl 0 rfl) ?_
        refine h_bipush hx hb dX10_laysGuest_41 (by decide) ?_
        -- call SpokenMarksModel.hears
        refine h_kV (h_runV X hR (m_hears l G w_7 a ad t_6 hT.1 40 R pp (by omega) (hA.mv (fun i hi => hs2 i (by omega))) ⟨hl_.trans (by rw [letK_len]), by rw [letK_len]; omega, fun j hj => by rw [letK_len] at hj; rw [letK_at pp hj]; exact hs1 j (by omega), letK_R hpw⟩ hpw) pn_yX10_hears (hasC.of hT.1.ob rfl) q2823 q2825 qs52 q161 q2826 ⟨by decide, by decide⟩ hl.1 (Nat.le_of_ble_eq_true rfl) dX10_laysGuest_43 ⟨by omega, by omega⟩) hL (fun w_11 hp_12 H locs hR hL => ?_)
        obtain ⟨t_13, hT2, hE_t_13, et_14⟩ := hp_12
        have hT := hT.tr hT2
        clear hT2
        exact h_vreturn hx hb hlk hret hR hL ⟨t_13, hT, (TwE.tr (S2 := [1, 2, 3]) (TwE.tr (S2 := [1, 2, 3]) (TwE.rf : TwE [] t t) hE_t_6 rfl rfl) hE_t_13 rfl rfl), ⟨(et_14).1, fun i hi => ((et_14).2 i (by omega)).trans (hs2 i hi)⟩⟩ (by omega) (by omega) rfl rfl dX10_laysGuest_46
      ·
        refine lv_aload_n hx hb dX10_laysGuest_18 rfl (lv_at hl 0 rfl) ?_
        refine h_bipush hx hb dX10_laysGuest_19 (by decide) ?_
        refine h_iconst hx hb dX10_laysGuest_21 ?_
        refine lv_iload hx hb dX10_laysGuest_22 (lv_at hl 4 rfl) ?_
        refine h_iadd hx hb dX10_laysGuest_24 ?_
        refine lv_aload_n hx hb dX10_laysGuest_25 rfl (lv_at hl 1 rfl) ?_
        refine lv_iload_n hx hb dX10_laysGuest_26 rfl (lv_at hl 2 rfl) ?_
        refine lv_iload hx hb dX10_laysGuest_27 (lv_at hl 4 rfl) ?_
        refine h_iadd hx hb dX10_laysGuest_29 ?_
        refine tw_lald X hR hT (k := 23) (by decide) (fr + k) (by omega) (by omega) (v := encP (pp.getD k prt0)) ((congrFun ((hE_t_6 23 (by decide)).2) (fr + k)).trans (hpa k (by omega))) dX10_laysGuest_30 (fun ra_30 => ?_)
        have hpr := encP_r (hpw.at (k := k) (by omega))
        -- call SpokenMarksModel.lays
        refine h_kV (h_runV X hR (m_lays l G w_7 a ad t_6 hT.1 40 (4 + k) (encP (pp.getD k prt0)) (by omega) (by omega) (by omega)) pn_yX10_lays (hasC.of hT.1.ob rfl) q2864 q2866 qs60 q161 q2867 ⟨by decide, by decide⟩ hl.1 (Nat.le_of_ble_eq_true rfl) dX10_laysGuest_31 ⟨by omega, by omega⟩) hL (fun w_16 hp_17 H locs hR hL => ?_)
        obtain ⟨t_18, et_19⟩ : ∃ t_ : Tw, t_ = tast t_6 3 (32 + 14 * 40 + (4 + k : Nat)) (encP (pp.getD k prt0)) := ⟨_, rfl⟩
        have hT2 := hp_17
        rw [← et_19] at hT2
        have hT := hT.tr hT2
        clear hT2
        have hE_t_18 : TwE [3] t_6 t_18 := by rw [et_19]; exact TwE.ast rfl
        refine h_iinc (lv' := [(4, .int (iI ((k : Int) + 1))), (0, .ref a), (1, .ref (ad 23)), (2, .int (iI ((fr : Int)))), (3, .int (iI ((pp.length : Int))))]) hx hb dX10_laysGuest_34 hl (k := 4) rfl (by decide) rfl (fun ls hl => ?_)
        refine lv_goto (tgt := 12) hx hb dX10_laysGuest_37 (by decide) ?_
        exact ih_8 (k + 1) t_18 w_16 (by omega) hT (TwE.tr (S2 := [3]) (TwE.tr (S2 := [3]) (TwE.rf : TwE [] t t) hE_t_6 rfl rfl) hE_t_18 rfl rfl) (by rw [tast_v et_19]; unfold zset; rw [if_neg (by omega)]; exact hl_) (fun j hj => by rw [tast_v et_19]; unfold zset; by_cases hjk : j = k; (rw [if_pos (by omega), hjk]); (rw [if_neg (by omega)]; exact hs1 j (by omega))) (fun i hi => by rw [tast_v et_19]; unfold zset; rw [if_neg (by omega)]; exact hs2 i hi) (by omega) _ _ _ hR hL (lv_sub hl [1, 2, 3, 4, 0] rfl)
  exact LOOP_8 _ 0 t_4 w_2 (by omega) hT (TwE.tr (S2 := [3]) (TwE.rf : TwE [] t t) hE_t_4 rfl rfl) (by rw [tast_v et_5]; unfold zset; rw [if_pos rfl]) (fun j hj => absurd hj (Nat.not_lt_zero _)) (fun i hi => by rw [tast_v et_5]; unfold zset; rw [if_neg (by omega)]) (Nat.lt_succ_self _) _ _ _ hR hL (lv_sub hl [1, 2, 3, 4, 0] rfl)

set_option maxHeartbeats 4000000 in
set_option maxRecDepth 100000 in
/-- laysGuest -/
theorem m_laysGuest28 (l : Launch) (G : Gl) (w : Wd) (a : Nat) (ad : Nat → Nat) (t : Tw) (hT : TwAt G w a ad t) (fr : Nat) (R : Rls) (pp : List Prt) (hfr : fr + pp.length ≤ twN 28) (hA : RlAt (t.2 3) R) (hpw : PrtsW pp) (hpa : ∀ j, j < pp.length → t.2 28 (fr + j) = encP (pp.getD j prt0)) : HM l yX10_laysGuest cX10_laysGuest 5 none 6 0 0 G [.ref a, .ref (ad 28), .int (iI ((fr : Int))), .int (iI ((pp.length : Int)))] w (QV G (fun w_ => ∃ t_ : Tw, TwS G w w_ a ad t_ ∧ TwE [1, 2, 3] t t_ ∧ SlotP (t_.2 3) 40 R pp ∧ ∀ i, i < 592 → t_.2 3 i = t.2 3 i)) := by
  refine HM.mk (by decide +kernel) (Nat.le_of_ble_eq_true rfl) ?_
  intro p9 e9 s9 m9 a9 b9 meth9 c9 ls X hret hlk hnm hl H hR
  have hx := X.1.1
  have hb := X.1.2.1
  have hl : lv_has ls 5 [(0, .ref a), (1, .ref (ad 28)), (2, .int (iI ((fr : Int)))), (3, .int (iI ((pp.length : Int))))] := hl
  have hL : LK G [] := fun q h => absurd h List.not_mem_nil
  generalize ([] : List Loc) = locs at hL ⊢
  have hTb := hT
  have hT : TwS G w w a ad t := TwS.rf hT
  have hp5 := hpw.2.1
  have hN : twN 28 ≤ 800 := by decide
  refine lv_aload_n hx hb dX10_laysGuest_0 rfl (lv_at hl 0 rfl) ?_
  refine h_bipush hx hb dX10_laysGuest_1 (by decide) ?_
  refine h_iconst hx hb dX10_laysGuest_3 ?_
  refine lv_iload_n hx hb dX10_laysGuest_4 rfl (lv_at hl 3 rfl) ?_
  refine h_i2l hx hb dX10_laysGuest_5 (by omega) ?_
  -- call SpokenMarksModel.lays
  refine h_kV (h_runV X hR (m_lays l G w a ad t hT.1 40 3 ((pp.length : Int)) (by omega) (by omega) (by omega)) pn_yX10_lays (hasC.of hT.1.ob rfl) q2864 q2866 qs60 q161 q2867 ⟨by decide, by decide⟩ hl.1 (Nat.le_of_ble_eq_true rfl) dX10_laysGuest_6 ⟨by omega, by omega⟩) hL (fun w_2 hp_3 H locs hR hL => ?_)
  obtain ⟨t_4, et_5⟩ : ∃ t_ : Tw, t_ = tast t 3 (32 + 14 * 40 + 3) ((pp.length : Int)) := ⟨_, rfl⟩
  have hT2 := hp_3
  rw [← et_5] at hT2
  have hT := hT.tr hT2
  clear hT2
  have hE_t_4 : TwE [3] t t_4 := by rw [et_5]; exact TwE.ast rfl
  refine h_iconst hx hb dX10_laysGuest_9 ?_
  refine lv_istore (lv' := [(4, .int (iI (0))), (0, .ref a), (1, .ref (ad 28)), (2, .int (iI ((fr : Int)))), (3, .int (iI ((pp.length : Int))))]) hx hb dX10_laysGuest_10 hl (by decide) rfl (fun ls hl => ?_)
  have LOOP_8 : ∀ (N_ : Nat) (k : Nat) (t_6 : Tw) (w_7 : Wd), (k ≤ pp.length) → (TwS G w w_7 a ad t_6) → (TwE [3] t t_6) → (t_6.2 3 (32 + 14 * 40 + 3) = (pp.length : Int)) → (∀ j, j < k → t_6.2 3 (32 + 14 * 40 + 4 + j) = encP (pp.getD j prt0)) → (∀ i, i < 592 → t_6.2 3 i = t.2 3 i) → (pp.length - k) < N_ → ∀ (H : Heap) (locs : List Loc) (ls : Array Slot), Rp G w_7 H → LK G locs → lv_has ls 5 [(0, .ref a), (1, .ref (ad 28)), (2, .int (iI ((fr : Int)))), (3, .int (iI ((pp.length : Int)))), (4, .int (iI ((k : Int))))] → W p9 l e9 (rmk 6 0 0) s9 m9 a9 b9 meth9 c9 H locs 0 0 (MQ b9 (QV G (fun w_ => ∃ t_ : Tw, TwS G w w_ a ad t_ ∧ TwE [1, 2, 3] t t_ ∧ SlotP (t_.2 3) 40 R pp ∧ ∀ i, i < 592 → t_.2 3 i = t.2 3 i)) a9 s9 0 0 (frG G)) (F0 m9 12 ls []) := by
    intro N_
    induction N_ with
    | zero => intro _ _ _ _ _ _ _ _ _ h_; exact absurd h_ (Nat.not_lt_zero _)
    | succ N_ ih_ =>
      intro k t_6 w_7 hk hT hE_t_6 hl_ hs1 hs2 hN_ H locs ls hR hL hl
      have ih_8 := ih_
      clear ih_
      refine lv_iload hx hb dX10_laysGuest_12 (lv_at hl 4 rfl) ?_
      refine lv_iload_n hx hb dX10_laysGuest_14 rfl (lv_at hl 3 rfl) ?_
      refine h_icmp_ge hx hb 40 dX10_laysGuest_15 (by decide) (by omega) (by omega) (fun c_9 => ?_) (fun c_9 => ?_)
      ·
        refine lv_aload_n hx hb dX10_laysGuest_40 rfl (lv_at hl 0 rfl) ?_
        refine h_bipush hx hb dX10_laysGuest_41 (by decide) ?_
        -- call SpokenMarksModel.hears
        refine h_kV (h_runV X hR (m_hears l G w_7 a ad t_6 hT.1 40 R pp (by omega) (hA.mv (fun i hi => hs2 i (by omega))) ⟨hl_.trans (by rw [letK_len]), by rw [letK_len]; omega, fun j hj => by rw [letK_len] at hj; rw [letK_at pp hj]; exact hs1 j (by omega), letK_R hpw⟩ hpw) pn_yX10_hears (hasC.of hT.1.ob rfl) q2823 q2825 qs52 q161 q2826 ⟨by decide, by decide⟩ hl.1 (Nat.le_of_ble_eq_true rfl) dX10_laysGuest_43 ⟨by omega, by omega⟩) hL (fun w_11 hp_12 H locs hR hL => ?_)
        obtain ⟨t_13, hT2, hE_t_13, et_14⟩ := hp_12
        have hT := hT.tr hT2
        clear hT2
        exact h_vreturn hx hb hlk hret hR hL ⟨t_13, hT, (TwE.tr (S2 := [1, 2, 3]) (TwE.tr (S2 := [1, 2, 3]) (TwE.rf : TwE [] t t) hE_t_6 rfl rfl) hE_t_13 rfl rfl), ⟨(et_14).1, fun i hi => ((et_14).2 i (by omega)).trans (hs2 i hi)⟩⟩ (by omega) (by omega) rfl rfl dX10_laysGuest_46
      ·
        refine lv_aload_n hx hb dX10_laysGuest_18 rfl (lv_at hl 0 rfl) ?_
        refine h_bipush hx hb dX10_laysGuest_19 (by decide) ?_
        refine h_iconst hx hb dX10_laysGuest_21 ?_
        refine lv_iload hx hb dX10_laysGuest_22 (lv_at hl 4 rfl) ?_
        refine h_iadd hx hb dX10_laysGuest_24 ?_
        refine lv_aload_n hx hb dX10_laysGuest_25 rfl (lv_at hl 1 rfl) ?_
        refine lv_iload_n hx hb dX10_laysGuest_26 rfl (lv_at hl 2 rfl) ?_
        refine lv_iload hx hb dX10_laysGuest_27 (lv_at hl 4 rfl) ?_
        refine h_iadd hx hb dX10_laysGuest_29 ?_
        refine tw_lald X hR hT (k := 28) (by decide) (fr + k) (by omega) (by omega) (v := encP (pp.getD k prt0)) ((congrFun ((hE_t_6 28 (by decide)).2) (fr + k)).trans (hpa k (by omega))) dX10_laysGuest_30 (fun ra_30 => ?_)
        have hpr := encP_r (hpw.at (k := k) (by omega))
        -- call SpokenMarksModel.lays
        refine h_kV (h_runV X hR (m_lays l G w_7 a ad t_6 hT.1 40 (4 + k) (encP (pp.getD k prt0)) (by omega) (by omega) (by omega)) pn_yX10_lays (hasC.of hT.1.ob rfl) q2864 q2866 qs60 q161 q2867 ⟨by decide, by decide⟩ hl.1 (Nat.le_of_ble_eq_true rfl) dX10_laysGuest_31 ⟨by omega, by omega⟩) hL (fun w_16 hp_17 H locs hR hL => ?_)
        obtain ⟨t_18, et_19⟩ : ∃ t_ : Tw, t_ = tast t_6 3 (32 + 14 * 40 + (4 + k : Nat)) (encP (pp.getD k prt0)) := ⟨_, rfl⟩
        have hT2 := hp_17
        rw [← et_19] at hT2
        have hT := hT.tr hT2
        clear hT2
        have hE_t_18 : TwE [3] t_6 t_18 := by rw [et_19]; exact TwE.ast rfl
        refine h_iinc (lv' := [(4, .int (iI ((k : Int) + 1))), (0, .ref a), (1, .ref (ad 28)), (2, .int (iI ((fr : Int)))), (3, .int (iI ((pp.length : Int))))]) hx hb dX10_laysGuest_34 hl (k := 4) rfl (by decide) rfl (fun ls hl => ?_)
        refine lv_goto (tgt := 12) hx hb dX10_laysGuest_37 (by decide) ?_
        exact ih_8 (k + 1) t_18 w_16 (by omega) hT (TwE.tr (S2 := [3]) (TwE.tr (S2 := [3]) (TwE.rf : TwE [] t t) hE_t_6 rfl rfl) hE_t_18 rfl rfl) (by rw [tast_v et_19]; unfold zset; rw [if_neg (by omega)]; exact hl_) (fun j hj => by rw [tast_v et_19]; unfold zset; by_cases hjk : j = k; (rw [if_pos (by omega), hjk]); (rw [if_neg (by omega)]; exact hs1 j (by omega))) (fun i hi => by rw [tast_v et_19]; unfold zset; rw [if_neg (by omega)]; exact hs2 i hi) (by omega) _ _ _ hR hL (lv_sub hl [1, 2, 3, 4, 0] rfl)
  exact LOOP_8 _ 0 t_4 w_2 (by omega) hT (TwE.tr (S2 := [3]) (TwE.rf : TwE [] t t) hE_t_4 rfl rfl) (by rw [tast_v et_5]; unfold zset; rw [if_pos rfl]) (fun j hj => absurd hj (Nat.not_lt_zero _)) (fun i hi => by rw [tast_v et_5]; unfold zset; rw [if_neg (by omega)]) (Nat.lt_succ_self _) _ _ _ hR hL (lv_sub hl [1, 2, 3, 4, 0] rfl)

set_option maxHeartbeats 4000000 in
set_option maxRecDepth 100000 in
/-- adds -/
theorem m_adds (l : Launch) (G : Gl) (w : Wd) (a : Nat) (ad : Nat → Nat) (t : Tw) (hT : TwAt G w a ad t) (v : Int) (c0 : Cat) (g : List Prt) (hC : RowIs (t.2 3) c0) (hG : SlotP (t.2 3) 40 (cRl c0) g) (hgW : PrtsW g) (hv : 1 ≤ v ∧ v ≤ 20) (hac : ∀ k, k < 3 → cAc c0 k < 990000) (hnx : cNx c0 < 990000) : HM l yX10_adds cX10_adds 2 (some .int) 6 0 0 G [.ref a, .int (iI (v))] w (QI G (fun z_ w_ => z_ = (adA c0 g v).2 ∧ ∃ t_ : Tw, TwS G w w_ a ad t_ ∧ TwE [3] t t_ ∧ RowIs (t_.2 3) (adA c0 g v).1)) := by
  refine HM.mk (by decide +kernel) (Nat.le_of_ble_eq_true rfl) ?_
  intro p9 e9 s9 m9 a9 b9 meth9 c9 ls X hret hlk hnm hl H hR
  have hx := X.1.1
  have hb := X.1.2.1
  have hl : lv_has ls 2 [(0, .ref a), (1, .int (iI (v)))] := hl
  have hL : LK G [] := fun q h => absurd h List.not_mem_nil
  generalize ([] : List Loc) = locs at hL ⊢
  have hTb := hT
  have hT : TwS G w w a ad t := TwS.rf hT
  have hn40 := hC.n40
  have hsh8 := hC.sh8
  have htw := twinN_r c0 g
  refine lv_aload_n hx hb dX10_adds_0 rfl (lv_at hl 0 rfl) ?_
  -- call SpokenMarksModel.twin
  refine h_kIp (h_runV X hR (m_twin l G w a ad t hT.1 c0 g hC hG) pn_yX10_twin (hasC.of hT.1.ob rfl) q2909 q2911 qs70 q161 q2912 ⟨by decide, by decide⟩ hl.1 (Nat.le_of_ble_eq_true rfl) dX10_adds_1 ⟨by omega, by omega⟩) hL (fun H locs hR hL => ?_)
  refine h_iconst hx hb dX10_adds_4 ?_
  refine h_icmp_eq hx hb 11 dX10_adds_5 (by decide) (by omega) (by omega) (fun c_t => ?_) (fun c_t => ?_)
  ·
    refine lv_aload_n hx hb dX10_adds_11 rfl (lv_at hl 0 rfl) ?_
    refine h_iconst hx hb dX10_adds_12 ?_
    -- call SpokenMarksModel.head
    refine h_kIp (h_runV X hR (m_head l G w a ad t hT.1 2 (by omega)) pn_yX10_head (hasC.of hT.1.ob rfl) q2789 q2791 qs44 q161 q2792 ⟨by decide, by decide⟩ hl.1 (Nat.le_of_ble_eq_true rfl) dX10_adds_13 ⟨by omega, by omega⟩) hL (fun H locs hR hL => ?_)
    refine W.eq (g2 := F0 m9 16 ls [.int (iI ((cN c0 : Int)))]) (congrArg (fun z_ : Int => F0 m9 16 ls [.int (iI (z_))]) (show (hd t 2 : Int) = (cN c0 : Int) from (by exact hC.n))) ?_
    refine h_bipush hx hb dX10_adds_16 (by decide) ?_
    refine h_icmp_ne hx hb 26 dX10_adds_18 (by decide) (by omega) (by omega) (fun c_n => ?_) (fun c_n => ?_)
    ·
      refine lv_aload_n hx hb dX10_adds_26 rfl (lv_at hl 0 rfl) ?_
      refine lv_iload_n hx hb dX10_adds_27 rfl (lv_at hl 1 rfl) ?_
      -- call SpokenMarksModel.comes
      refine h_kI (h_runV X hR (m_comes l G w a ad t hT.1 v c0 g hC hG hgW (by omega) hv hac hnx) pn_yX10_comes (hasC.of hT.1.ob rfl) q2917 q2919 qs72 q161 q2920 ⟨by decide, by decide⟩ hl.1 (Nat.le_of_ble_eq_true rfl) dX10_adds_28 ⟨by omega, by omega⟩) hL (fun z_7 w_8 hp_9 H locs hR hL => ?_)
      obtain ⟨rfl, t_10, hT2, hE_t_10, et_11⟩ := hp_9
      have hT := hT.tr hT2
      clear hT2
      exact h_ireturn hx hb hlk hret hR hL rfl ⟨(by unfold adA; rw [if_neg (fun q => q c_t)]; rw [if_neg (by omega)]), ⟨t_10, hT, (TwE.tr (S2 := [3]) (TwE.rf : TwE [] t t) hE_t_10 rfl rfl), (by unfold adA; rw [if_neg (fun q => q c_t)]; rw [if_neg (by omega)]; exact et_11)⟩⟩ (by omega) (by omega) rfl rfl dX10_adds_31
    ·
      refine h_bipush hx hb dX10_adds_21 (by decide) ?_
      refine lv_goto (tgt := 31) hx hb dX10_adds_23 (by decide) ?_
      exact h_ireturn hx hb hlk hret hR hL rfl ⟨(by unfold adA; rw [if_neg (fun q => q c_t)]; rw [if_pos (by omega)]), ⟨t, hT, (TwE.rf : TwE [3] t t), (by unfold adA; rw [if_neg (fun q => q c_t)]; rw [if_pos (by omega)]; exact hC)⟩⟩ (by omega) (by omega) rfl rfl dX10_adds_31
  ·
    refine h_bipush hx hb dX10_adds_8 (by decide) ?_
    exact h_ireturn hx hb hlk hret hR hL rfl ⟨(by unfold adA; rw [if_pos c_t]), ⟨t, hT, (TwE.rf : TwE [3] t t), (by unfold adA; rw [if_pos c_t]; exact hC)⟩⟩ (by omega) (by omega) rfl rfl dX10_adds_10

set_option maxHeartbeats 4000000 in
set_option maxRecDepth 100000 in
/-- drops -/
theorem m_drops (l : Launch) (G : Gl) (w : Wd) (a : Nat) (ad : Nat → Nat) (t : Tw) (hT : TwAt G w a ad t) (r : Nat) (c0 : Cat) (hC : RowIs (t.2 3) c0) (hr : r < cN c0) : HM l yX10_drops cX10_drops 2 (some .int) 4 0 0 G [.ref a, .int (iI ((r : Int)))] w (QI G (fun z_ w_ => z_ = (cN c0 : Int) - 1 ∧ ∃ t_ : Tw, TwS G w w_ a ad t_ ∧ TwE [3] t t_ ∧ RowIs (t_.2 3) (cDrp c0 r))) := by
  refine HM.mk (by decide +kernel) (Nat.le_of_ble_eq_true rfl) ?_
  intro p9 e9 s9 m9 a9 b9 meth9 c9 ls X hret hlk hnm hl H hR
  have hx := X.1.1
  have hb := X.1.2.1
  have hl : lv_has ls 2 [(0, .ref a), (1, .int (iI ((r : Int))))] := hl
  have hL : LK G [] := fun q h => absurd h List.not_mem_nil
  generalize ([] : List Loc) = locs at hL ⊢
  have hTb := hT
  have hT : TwS G w w a ad t := TwS.rf hT
  have hn40 := hC.n40
  have hsh8 := hC.sh8
  refine lv_aload_n hx hb dX10_drops_0 rfl (lv_at hl 0 rfl) ?_
  refine tw_get X hR hT 3 (by decide) q2944 rfl dX10_drops_1 ?_
  refine h_iconst hx hb dX10_drops_4 ?_
  refine lv_dup2_11 hx hb dX10_drops_5 rfl rfl ?_
  refine tw_lald X hR hT (k := 3) (by decide) 2 (by omega) (by show _ < _; simp only [twN]; omega) (v := (cN c0 : Int)) hC.n dX10_drops_6 (fun ra_6 => ?_)
  refine h_lconst hx hb 1 dX10_drops_7 rfl ?_
  refine h_lsub hx hb dX10_drops_8 ?_
  refine tw_last X hR hL hT (k := 3) (by decide) 2 (by omega) (by show _ < _; simp only [twN]; omega) (by omega) dX10_drops_9 (fun t_1 et_2 w_3 hT H locs hR hL => ?_)
  have hE_t_1 := TwE.ast et_2
  have hv_t_1 := tast_v et_2
  have hn2 : t_1.2 3 2 = (cN c0 : Int) - 1 ∧ ∀ i, i ≠ 2 → t_1.2 3 i = t.2 3 i := ⟨by rw [hv_t_1]; unfold zset; rw [if_pos rfl], fun i hi => by rw [hv_t_1]; unfold zset; rw [if_neg hi]⟩
  refine lv_aload_n hx hb dX10_drops_10 rfl (lv_at hl 0 rfl) ?_
  refine tw_get X hR hT 3 (by decide) q2944 rfl dX10_drops_11 ?_
  refine h_bipush hx hb dX10_drops_14 (by decide) ?_
  refine h_bipush hx hb dX10_drops_16 (by decide) ?_
  refine lv_iload_n hx hb dX10_drops_18 rfl (lv_at hl 1 rfl) ?_
  refine h_iconst hx hb dX10_drops_19 ?_
  refine h_iadd hx hb dX10_drops_20 ?_
  refine h_imul hx hb dX10_drops_21 ?_
  refine h_iadd hx hb dX10_drops_22 ?_
  refine lv_aload_n hx hb dX10_drops_23 rfl (lv_at hl 0 rfl) ?_
  refine tw_get X hR hT 3 (by decide) q2944 rfl dX10_drops_24 ?_
  refine h_bipush hx hb dX10_drops_27 (by decide) ?_
  refine h_bipush hx hb dX10_drops_29 (by decide) ?_
  refine lv_iload_n hx hb dX10_drops_31 rfl (lv_at hl 1 rfl) ?_
  refine h_imul hx hb dX10_drops_32 ?_
  refine h_iadd hx hb dX10_drops_33 ?_
  refine h_bipush hx hb dX10_drops_34 (by decide) ?_
  refine lv_aload_n hx hb dX10_drops_36 rfl (lv_at hl 0 rfl) ?_
  refine h_iconst hx hb dX10_drops_37 ?_
  -- call SpokenMarksModel.head
  refine h_kIp (h_runV X hR (m_head l G w_3 a ad t_1 hT.1 2 (by omega)) pn_yX10_head (hasC.of hT.1.ob rfl) q2789 q2791 qs44 q161 q2792 ⟨by decide, by decide⟩ hl.1 (Nat.le_of_ble_eq_true rfl) dX10_drops_38 ⟨by omega, by omega⟩) hL (fun H locs hR hL => ?_)
  refine W.eq (g2 := F0 m9 41 ls [.int (iI ((cN c0 : Int) - 1)), .int (iI (14)), .int (iI (32 + (14 * ((r : Int))))), .ref (ad 3), .int (iI (32 + (14 * ((r : Int) + 1)))), .ref (ad 3)]) (congrArg (fun z_ : Int => F0 m9 41 ls [.int (iI (z_)), .int (iI (14)), .int (iI (32 + (14 * ((r : Int))))), .ref (ad 3), .int (iI (32 + (14 * ((r : Int) + 1)))), .ref (ad 3)]) (show (hd t_1 2 : Int) = (cN c0 : Int) - 1 from (hn2.1))) ?_
  refine lv_iload_n hx hb dX10_drops_41 rfl (lv_at hl 1 rfl) ?_
  refine h_isub hx hb dX10_drops_42 ?_
  refine h_imul hx hb dX10_drops_43 ?_
  refine W.eq (g2 := F0 m9 44 ls [.int (iI (((14 * (cN c0 - 1 - r) : Nat) : Int))), .int (iI (32 + (14 * ((r : Int))))), .ref (ad 3), .int (iI (32 + (14 * ((r : Int) + 1)))), .ref (ad 3)]) (congrArg (fun z_ : Int => F0 m9 44 ls [.int (iI (z_)), .int (iI (32 + (14 * ((r : Int))))), .ref (ad 3), .int (iI (32 + (14 * ((r : Int) + 1)))), .ref (ad 3)]) (show (14 * (((cN c0 : Int) - 1) - ((r : Int))) : Int) = ((14 * (cN c0 - 1 - r) : Nat) : Int) from (by omega))) ?_
  refine W.eq (g2 := F0 m9 44 ls [.int (iI (((14 * (cN c0 - 1 - r) : Nat) : Int))), .int (iI (((32 + 14 * r : Nat) : Int))), .ref (ad 3), .int (iI (32 + (14 * ((r : Int) + 1)))), .ref (ad 3)]) (congrArg (fun z_ : Int => F0 m9 44 ls [.int (iI (((14 * (cN c0 - 1 - r) : Nat) : Int))), .int (iI (z_)), .ref (ad 3), .int (iI (32 + (14 * ((r : Int) + 1)))), .ref (ad 3)]) (show (32 + (14 * ((r : Int))) : Int) = ((32 + 14 * r : Nat) : Int) from (by omega))) ?_
  refine W.eq (g2 := F0 m9 44 ls [.int (iI (((14 * (cN c0 - 1 - r) : Nat) : Int))), .int (iI (((32 + 14 * r : Nat) : Int))), .ref (ad 3), .int (iI (((32 + 14 * (r + 1) : Nat) : Int))), .ref (ad 3)]) (congrArg (fun z_ : Int => F0 m9 44 ls [.int (iI (((14 * (cN c0 - 1 - r) : Nat) : Int))), .int (iI (((32 + 14 * r : Nat) : Int))), .ref (ad 3), .int (iI (z_)), .ref (ad 3)]) (show (32 + (14 * ((r : Int) + 1)) : Int) = ((32 + 14 * (r + 1) : Nat) : Int) from (by omega))) ?_
  -- call SpokenMarksModel.copies
  refine h_kV (h_runS X hR (m_copies l G w_3 a ad t_1 hT.1 3 (32 + 14 * (r + 1)) 3 (32 + 14 * r) (14 * (cN c0 - 1 - r)) (by decide) (by decide) (by show _ ≤ _; simp only [twN]; omega) (by show _ ≤ _; simp only [twN]; omega) (by first | exact Or.inl (by decide) | exact Or.inr (by omega))) pn_yX10_copies q2737 q2738 q161 q2739 ⟨by decide, by decide⟩ hl.1 (Nat.le_of_ble_eq_true rfl) dX10_drops_44 ⟨by omega, by omega⟩) hL (fun w_8 hp_9 H locs hR hL => ?_)
  obtain ⟨t_10, hT2, e1_, e2_, hc_t_10⟩ := hp_9
  have hE_t_10 : TwE [3] t_1 t_10 := fun k_ hk_ => ⟨by rw [e1_], e2_ k_ (by simpa using hk_)⟩
  have e1_t_10 := e1_
  have hT := hT.tr hT2
  clear hT2 e1_ e2_
  have hcp : ∀ i, ¬ (32 + 14 * r ≤ i ∧ i < 32 + 14 * r + 14 * (cN c0 - 1 - r)) → t_10.2 3 i = t_1.2 3 i := fun i hi => by rw [hc_t_10]; unfold cpyF; rw [if_neg hi]
  have hcq : ∀ i, 32 + 14 * r ≤ i → i < 32 + 14 * (cN c0 - 1) → t_10.2 3 i = t_1.2 3 (i + 14) := fun i h1 h2 => by rw [hc_t_10]; unfold cpyF; rw [if_pos (by omega), show i - (32 + 14 * r) + (32 + 14 * (r + 1)) = i + 14 by omega]
  have hD : RowIs (t_10.2 3) (cDrp c0 r) := hC.drp hr (fun i h1 h2 => (hcp i (by omega)).trans (hn2.2 i h2)) ((hcp 2 (by omega)).trans hn2.1) (fun i h1 h2 => (hcp i (by omega)).trans (hn2.2 i (by omega))) (fun i h1 h2 => (hcq i h1 h2).trans (hn2.2 _ (by omega)))
  refine lv_aload_n hx hb dX10_drops_47 rfl (lv_at hl 0 rfl) ?_
  refine h_iconst hx hb dX10_drops_48 ?_
  -- call SpokenMarksModel.head
  refine h_kIp (h_runV X hR (m_head l G w_8 a ad t_10 hT.1 2 (by omega)) pn_yX10_head (hasC.of hT.1.ob rfl) q2789 q2791 qs44 q161 q2792 ⟨by decide, by decide⟩ hl.1 (Nat.le_of_ble_eq_true rfl) dX10_drops_49 ⟨by omega, by omega⟩) hL (fun H locs hR hL => ?_)
  refine W.eq (g2 := F0 m9 52 ls [.int (iI ((cN c0 : Int) - 1))]) (congrArg (fun z_ : Int => F0 m9 52 ls [.int (iI (z_))]) (show (hd t_10 2 : Int) = (cN c0 : Int) - 1 from (((hcp 2 (by omega)).trans hn2.1)))) ?_
  exact h_ireturn hx hb hlk hret hR hL rfl ⟨rfl, ⟨t_10, hT, (TwE.tr (S2 := [3]) (TwE.tr (S2 := [3]) (TwE.rf : TwE [] t t) hE_t_1 rfl rfl) hE_t_10 rfl rfl), hD⟩⟩ (by omega) (by omega) rfl rfl dX10_drops_52

set_option maxHeartbeats 4000000 in
set_option maxRecDepth 100000 in
/-- widens -/
theorem m_widens (l : Launch) (G : Gl) (w : Wd) (a : Nat) (ad : Nat → Nat) (t : Tw) (hT : TwAt G w a ad t) (r : Nat) (v : Int) (c0 : Cat) (hC : RowIs (t.2 3) c0) (hr : r < cN c0) (hv : 1 ≤ v ∧ v ≤ 20) : HM l yX10_widens cX10_widens 4 (some .int) 3 0 0 G [.ref a, .int (iI ((r : Int))), .int (iI (v))] w (QI G (fun z_ w_ => z_ = mWd (mk c0 r) ∧ ∃ t_ : Tw, TwS G w w_ a ad t_ ∧ TwE [3] t t_ ∧ RowIs (t_.2 3) (cWid c0 r v))) := by
  refine HM.mk (by decide +kernel) (Nat.le_of_ble_eq_true rfl) ?_
  intro p9 e9 s9 m9 a9 b9 meth9 c9 ls X hret hlk hnm hl H hR
  have hx := X.1.1
  have hb := X.1.2.1
  have hl : lv_has ls 4 [(0, .ref a), (1, .int (iI ((r : Int)))), (2, .int (iI (v)))] := hl
  have hL : LK G [] := fun q h => absurd h List.not_mem_nil
  generalize ([] : List Loc) = locs at hL ⊢
  have hTb := hT
  have hT : TwS G w w a ad t := TwS.rf hT
  have hn40 := hC.n40
  have hsh8 := hC.sh8
  refine lv_aload_n hx hb dX10_widens_0 rfl (lv_at hl 0 rfl) ?_
  refine lv_iload_n hx hb dX10_widens_1 rfl (lv_at hl 1 rfl) ?_
  refine h_iconst hx hb dX10_widens_2 ?_
  -- call SpokenMarksModel.of
  refine h_kIp (h_runV X hR (m_of l G w a ad t hT.1 r 1 (by omega) (by omega)) pn_yX10_of (hasC.of hT.1.ob rfl) q2827 q2829 qs53 q161 q2830 ⟨by decide, by decide⟩ hl.1 (Nat.le_of_ble_eq_true rfl) dX10_widens_3 ⟨by omega, by omega⟩) hL (fun H locs hR hL => ?_)
  refine W.eq (g2 := F0 m9 6 ls [.int (iI (mWd (mk c0 r)))]) (congrArg (fun z_ : Int => F0 m9 6 ls [.int (iI (z_))]) (show (tof t r 1 : Int) = mWd (mk c0 r) from (by exact (hC.m r (by omega)).2.1))) ?_
  have hr_wd := mWd_r hC.s r (by omega)
  refine lv_istore_n (lv' := [(3, .int (iI (mWd (mk c0 r)))), (0, .ref a), (1, .int (iI ((r : Int)))), (2, .int (iI (v)))]) hx hb dX10_widens_6 rfl hl (by decide) rfl (fun ls hl => ?_)
  refine lv_aload_n hx hb dX10_widens_7 rfl (lv_at hl 1 rfl) ?_
  refine lv_iload_n hx hb dX10_widens_8 rfl (lv_at hl 2 rfl) ?_
  refine h_iconst hx hb dX10_widens_9 ?_
  refine lv_iload_n hx hb dX10_widens_10 rfl (lv_at hl 3 rfl) ?_
  refine h_i2l hx hb dX10_widens_11 (by omega) ?_
  -- call SpokenMarksModel.lays
  refine h_kV (h_runV X hR (m_lays l G w a ad t hT.1 r 1 v (by omega) (by omega) (by omega)) pn_yX10_lays (hasC.of hT.1.ob rfl) q2864 q2866 qs60 q161 q2867 ⟨by decide, by decide⟩ hl.1 (Nat.le_of_ble_eq_true rfl) dX10_widens_12 ⟨by omega, by omega⟩) hL (fun w_5 hp_6 H locs hR hL => ?_)
  obtain ⟨t_7, et_8⟩ : ∃ t_ : Tw, t_ = tast t 3 (32 + 14 * r + 1) v := ⟨_, rfl⟩
  have hT2 := hp_6
  rw [← et_8] at hT2
  have hT := hT.tr hT2
  clear hT2
  have hE_t_7 : TwE [3] t t_7 := by rw [et_8]; exact TwE.ast rfl
  refine lv_iload_n hx hb dX10_widens_15 rfl (lv_at hl 0 rfl) ?_
  exact h_ireturn hx hb hlk hret hR hL rfl ⟨rfl, ⟨t_7, hT, (TwE.tr (S2 := [3]) (TwE.rf : TwE [] t t) hE_t_7 rfl rfl), (hC.wid hr hv (fun i => by rw [tast_v et_8]))⟩⟩ (by omega) (by omega) rfl rfl dX10_widens_16

set_option maxHeartbeats 4000000 in
set_option maxRecDepth 100000 in
/-- bounds -/
theorem m_bounds (l : Launch) (G : Gl) (w : Wd) (a : Nat) (ad : Nat → Nat) (t : Tw) (hT : TwAt G w a ad t) (s : Int) (v : Int) (c0 : Cat) (hC : RowIs (t.2 3) c0) (hs : 0 ≤ s ∧ s < cSh c0) (hv : R32 v) : HM l yX10_bounds cX10_bounds 4 (some .int) 3 0 0 G [.ref a, .int (iI (s)), .int (iI (v))] w (QI G (fun z_ w_ => z_ = (bdA c0 s v).2 ∧ ∃ t_ : Tw, TwS G w w_ a ad t_ ∧ TwE [3] t t_ ∧ RowIs (t_.2 3) (bdA c0 s v).1)) := by
  refine HM.mk (by decide +kernel) (Nat.le_of_ble_eq_true rfl) ?_
  intro p9 e9 s9 m9 a9 b9 meth9 c9 ls X hret hlk hnm hl H hR
  have hx := X.1.1
  have hb := X.1.2.1
  have hl : lv_has ls 4 [(0, .ref a), (1, .int (iI (s))), (2, .int (iI (v)))] := hl
  have hL : LK G [] := fun q h => absurd h List.not_mem_nil
  generalize ([] : List Loc) = locs at hL ⊢
  have hTb := hT
  have hT : TwS G w w a ad t := TwS.rf hT
  have hn40 := hC.n40
  have hsh8 := hC.sh8
  refine lv_iload_n hx hb dX10_bounds_0 rfl (lv_at hl 1 rfl) ?_
  refine h_if_ne hx hb 7 dX10_bounds_1 (by decide) (by omega) (fun c_s => ?_) (fun c_s => ?_)
  ·
    refine lv_iload_n hx hb dX10_bounds_7 rfl (lv_at hl 2 rfl) ?_
    refine lv_aload_n hx hb dX10_bounds_8 rfl (lv_at hl 0 rfl) ?_
    refine lv_iload_n hx hb dX10_bounds_9 rfl (lv_at hl 1 rfl) ?_
    refine h_iconst hx hb dX10_bounds_10 ?_
    refine h_isub hx hb dX10_bounds_11 ?_
    -- call SpokenMarksModel.bound
    refine h_kIp (h_runV X hR (m_bound l G w a ad t hT.1 (s - 1) c0 hC (by omega)) pn_yX10_bound (hasC.of hT.1.ob rfl) q3072 q3074 qs82 q161 q3075 ⟨by decide, by decide⟩ hl.1 (Nat.le_of_ble_eq_true rfl) dX10_bounds_12 ⟨by omega, by omega⟩) hL (fun H locs hR hL => ?_)
    have hx1_ := bdX_r hC.s (s - 1) (by omega)
    refine h_icmp_lt hx hb 29 dX10_bounds_15 (by decide) (by omega) (by omega) (fun c_4 => ?_) (fun c_4 => ?_)
    ·
      refine h_bipush hx hb dX10_bounds_29 (by decide) ?_
      exact h_ireturn hx hb hlk hret hR hL rfl ⟨(by unfold bdA; rw [if_neg c_s]; rw [if_pos (by omega)]), ⟨t, hT, (TwE.rf : TwE [3] t t), (by unfold bdA; rw [if_neg c_s]; rw [if_pos (by omega)]; exact hC)⟩⟩ (by omega) (by omega) rfl rfl dX10_bounds_31
    ·
      refine lv_iload_n hx hb dX10_bounds_18 rfl (lv_at hl 2 rfl) ?_
      refine lv_aload_n hx hb dX10_bounds_19 rfl (lv_at hl 0 rfl) ?_
      refine lv_iload_n hx hb dX10_bounds_20 rfl (lv_at hl 1 rfl) ?_
      refine h_iconst hx hb dX10_bounds_21 ?_
      refine h_iadd hx hb dX10_bounds_22 ?_
      -- call SpokenMarksModel.bound
      refine h_kIp (h_runV X hR (m_bound l G w a ad t hT.1 (s + 1) c0 hC (by omega)) pn_yX10_bound (hasC.of hT.1.ob rfl) q3072 q3074 qs82 q161 q3075 ⟨by decide, by decide⟩ hl.1 (Nat.le_of_ble_eq_true rfl) dX10_bounds_23 ⟨by omega, by omega⟩) hL (fun H locs hR hL => ?_)
      have hx2_ := bdX_r hC.s (s + 1) (by omega)
      refine h_icmp_le hx hb 32 dX10_bounds_26 (by decide) (by omega) (by omega) (fun c_8 => ?_) (fun c_8 => ?_)
      ·
        refine lv_aload_n hx hb dX10_bounds_32 rfl (lv_at hl 0 rfl) ?_
        refine lv_iload_n hx hb dX10_bounds_33 rfl (lv_at hl 1 rfl) ?_
        -- call SpokenMarksModel.bound
        refine h_kIp (h_runV X hR (m_bound l G w a ad t hT.1 s c0 hC (by omega)) pn_yX10_bound (hasC.of hT.1.ob rfl) q3072 q3074 qs82 q161 q3075 ⟨by decide, by decide⟩ hl.1 (Nat.le_of_ble_eq_true rfl) dX10_bounds_34 ⟨by omega, by omega⟩) hL (fun H locs hR hL => ?_)
        refine W.eq (g2 := F0 m9 37 ls [.int (iI (bd c0 s.toNat))]) (congrArg (fun z_ : Int => F0 m9 37 ls [.int (iI (z_))]) (show (bdX c0 s : Int) = bd c0 s.toNat from (by unfold bdX; rw [if_neg (by omega)]))) ?_
        refine lv_istore_n (lv' := [(3, .int (iI (bd c0 s.toNat))), (0, .ref a), (1, .int (iI (s))), (2, .int (iI (v)))]) hx hb dX10_bounds_37 rfl hl (by decide) rfl (fun ls hl => ?_)
        refine lv_aload_n hx hb dX10_bounds_38 rfl (lv_at hl 1 rfl) ?_
        refine tw_get X hR hT 3 (by decide) q2944 rfl dX10_bounds_39 ?_
        refine h_bipush hx hb dX10_bounds_42 (by decide) ?_
        refine lv_iload_n hx hb dX10_bounds_44 rfl (lv_at hl 2 rfl) ?_
        refine h_iadd hx hb dX10_bounds_45 ?_
        refine lv_iload_n hx hb dX10_bounds_46 rfl (lv_at hl 3 rfl) ?_
        refine h_i2l hx hb dX10_bounds_47 (by omega) ?_
        refine tw_last X hR hL hT (k := 3) (by decide) (8 + s.toNat) (by omega) (by show _ < _; simp only [twN]; omega) (by omega) dX10_bounds_48 (fun t_12 et_13 w_14 hT H locs hR hL => ?_)
        have hE_t_12 := TwE.ast et_13
        have hv_t_12 := tast_v et_13
        refine lv_iload_n hx hb dX10_bounds_49 rfl (lv_at hl 0 rfl) ?_
        exact h_ireturn hx hb hlk hret hR hL rfl ⟨(by unfold bdA; rw [if_neg c_s, if_neg (by omega)]), ⟨t_12, hT, (TwE.tr (S2 := [3]) (TwE.rf : TwE [] t t) hE_t_12 rfl rfl), (by unfold bdA; rw [if_neg c_s, if_neg (by omega)]; exact hC.bdv (by omega) ⟨by omega, by omega⟩ (fun i => by rw [hv_t_12]))⟩⟩ (by omega) (by omega) rfl rfl dX10_bounds_50
      ·
        refine h_bipush hx hb dX10_bounds_29 (by decide) ?_
        exact h_ireturn hx hb hlk hret hR hL rfl ⟨(by unfold bdA; rw [if_neg c_s]; rw [if_pos (by omega)]), ⟨t, hT, (TwE.rf : TwE [3] t t), (by unfold bdA; rw [if_neg c_s]; rw [if_pos (by omega)]; exact hC)⟩⟩ (by omega) (by omega) rfl rfl dX10_bounds_31
  ·
    refine h_bipush hx hb dX10_bounds_4 (by decide) ?_
    exact h_ireturn hx hb hlk hret hR hL rfl ⟨(by unfold bdA; rw [if_pos c_s]), ⟨t, hT, (TwE.rf : TwE [3] t t), (by unfold bdA; rw [if_pos c_s]; exact hC)⟩⟩ (by omega) (by omega) rfl rfl dX10_bounds_6
