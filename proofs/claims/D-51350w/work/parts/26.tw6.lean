/-! the twin: further readers; answers (what is thrown, the value) -/
set_option maxRecDepth 100000
theorem rkF_le (c : Cat) (g : List Prt) : rkF c g ≤ cN c := (runN_spec _ _).1
theorem fstN_rr (P : Nat → Prop) [DecidablePred P] (n : Nat) : -1 ≤ fstN P n ∧ (fstN P n : Int) < n := fstN_r P n
theorem rkOf_r (c : Cat) (id : Int) : -1 ≤ rkOf c id ∧ rkOf c id < (cN c : Int) := fstN_r _ _
theorem difM_at {R : Rls} {p q : List Prt} {k : Nat} (j : Int) (h1 : k < (earK R p).length) (h2 : k < (earK R q).length) : dfK j ((earK R p).drop k) ((earK R q).drop k) = if (earK R p).getD k 0 = (earK R q).getD k 0 then dfK (j + 1) ((earK R p).drop (k + 1)) ((earK R q).drop (k + 1)) else j := dfK_drop j h1 h2
theorem dfK_r (x y : List Int) (j : Int) (hj : 0 ≤ j) : -1 ≤ dfK j x y ∧ dfK j x y ≤ j + x.length := by
  induction x generalizing y j with
  | nil => cases y <;> simp [dfK] <;> omega
  | cons a x ih => cases y with
    | nil => simp [dfK]; omega
    | cons b y =>
      unfold dfK
      split
      · have := ih y (j + 1) (by omega); simp only [List.length_cons]; omega
      · simp only [List.length_cons]; omega
theorem difM_r (R : Rls) (p q : List Prt) (h : p.length ≤ 5) : -1 ≤ difM R p q ∧ difM R p q ≤ 5 := by
  have := dfK_r (earK R p) (earK R q) 0 (by omega)
  rw [show (earK R p).length = p.length by simp [earK]] at this
  unfold difM
  omega
theorem hasE_s (R : Rls) (p : List Prt) (L : List Int) (k : Nat) : hasE R p L (k + 1) = (hasE R p L k || decide (encP (earP R (p.getD k prt0)) = enc L)) := rfl
theorem wrdN_r (p : List Prt) (h : p.length ≤ 5) : 0 ≤ wrdN p ∧ wrdN p ≤ 5 := by
  have := sumN_bd (f := fun k => b2i (isWP (p.getD k prt0) = true)) (n := p.length) 0 1 (fun i _ => b2i_01 _)
  unfold wrdN
  omega
/-- answers: what is thrown, the value -/
def ans (p : Prop) [Decidable p] (code v : Int) : Int × Int := if p then (0, v) else (code, 0)
theorem ans_t {p : Prop} [Decidable p] {code v : Int} (h : p) : ans p code v = (0, v) := if_pos h
theorem ans_f {p : Prop} [Decidable p] {code v : Int} (h : ¬ p) : ans p code v = (code, 0) := if_neg h
def qSize (c : Cat) (x : Int) : Int × Int := ans (0 ≤ x ∧ x ≤ 7) 1 (if x = 0 then cSh c else if x = 1 then cRm c else if x = 2 then (cN c : Int) else if x = 3 then ((cRl c).length : Int) else if x = 4 then cNx c else if x = 5 then ovr c else if x = 6 then wds c else lsT c (cN c - 1))
def qAt (c : Cat) (r : Int) : Int := if 0 ≤ r ∧ r < (cN c : Int) then mId (mk c r.toNat) else -1
/-- the last shelf whose bound isn't above a place -/
def shN (c : Cat) (p : Int) : Nat → Nat
  | 0 => 0
  | s + 1 => if bd c (s + 1) ≤ p then s + 1 else shN c p s
def shO (c : Cat) (p : Int) : Nat := shN c p ((cSh c).toNat - 1)
theorem shN_le (c : Cat) (p : Int) (n : Nat) : shN c p n ≤ n := by
  induction n with
  | zero => exact Nat.le_refl _
  | succ n ih => unfold shN; split <;> omega
theorem shN_spec {c : Cat} {p : Int} (h0 : bd c 0 ≤ p) : ∀ n, bd c (shN c p n) ≤ p ∧ ∀ j, shN c p n < j → j ≤ n → p < bd c j
  | 0 => ⟨h0, fun j h1 h2 => by unfold shN at h1; omega⟩
  | n + 1 => by
    unfold shN
    split
    · next q => exact ⟨q, fun j h1 h2 => by omega⟩
    · next q =>
      have ih := shN_spec h0 n
      refine ⟨ih.1, fun j h1 h2 => ?_⟩
      rcases Nat.lt_or_ge n j with z | z
      · rw [show j = n + 1 by omega]; omega
      · exact ih.2 j h1 z
theorem bd_mono {c : Cat} (h : CatW c) {i j : Nat} (hij : i ≤ j) (hj : j < (cBd c).length) : bd c i ≤ bd c j := by
  induction j with
  | zero => rw [show i = 0 by omega]; exact Int.le_refl _
  | succ j ih =>
    rcases Nat.lt_or_ge i (j + 1) with q | q
    · exact Int.le_trans (ih (by omega) (by omega)) (h.2.2.2.2 j hj)
    · rw [show i = j + 1 by omega]; exact Int.le_refl _
/-- a mark is on one shelf alone: the last one whose bound isn't above it -/
theorem on_shO {c : Cat} (h : CatW c) {k : Nat} (hk : k < cN c) {s : Nat} (hs : (s : Int) < cSh c) : onB c k s = true ↔ shO c (mPl (mk c k)) = s := by
  have hp := mPl_r h.1 k hk
  have hlen := h.1.2.2.1.1
  have hsh := h.1.1
  have sp := shN_spec (c := c) (p := mPl (mk c k)) (by rw [h.2.2.2.1]; omega) ((cSh c).toNat - 1)
  have hle := shN_le c (mPl (mk c k)) ((cSh c).toNat - 1)
  rw [onB_iff]
  unfold isOn bdX shO
  rw [if_neg (by omega), show ((s : Int)).toNat = s from rfl, show ((s : Int) + 1).toNat = s + 1 by omega]
  constructor
  · intro q
    rcases Nat.lt_trichotomy (shN c (mPl (mk c k)) ((cSh c).toNat - 1)) s with z | z | z
    · exact absurd (sp.2 s z (by omega)) (by omega)
    · exact z
    · have hm := bd_mono h (i := s + 1) (j := shN c (mPl (mk c k)) ((cSh c).toNat - 1)) (by omega) (by omega)
      rw [if_neg (by omega)] at q
      omega
  · intro e
    rw [e] at sp
    refine ⟨sp.1, ?_⟩
    split
    · omega
    · exact sp.2 (s + 1) (by omega) (by omega)
theorem shO_r {c : Cat} (h : CatS c) (p : Int) : (shO c p : Int) < cSh c ∧ shO c p ≤ 8 := by
  have := shN_le c p ((cSh c).toNat - 1)
  have := h.1
  unfold shO
  omega
def qMark (c : Cat) (id x : Int) : Int × Int := if rkOf c id = -1 then (1, 0) else ans (0 ≤ x ∧ x ≤ 5) 2 (if x = 0 then rkOf c id else if x = 1 then mPl (mk c (rkOf c id).toNat) else if x = 2 then mWd (mk c (rkOf c id).toNat) else if x = 3 then ((mPs (mk c (rkOf c id).toNat)).length : Int) else if x = 4 then (shO c (mPl (mk c (rkOf c id).toNat)) : Int) else wrdN (mPs (mk c (rkOf c id).toNat)))
def pAt (c : Cat) (id k : Int) : Prt := (mPs (mk c (rkOf c id).toNat)).getD k.toNat prt0
def noP (c : Cat) (id k : Int) : Prop := rkOf c id = -1 ∨ ¬ (0 ≤ k ∧ k < ((mPs (mk c (rkOf c id).toNat)).length : Int))
def okP (c : Cat) (id k : Int) : Bool := decide (rkOf c id ≠ -1) && (decide (0 ≤ k) && decide (k < ((mPs (mk c (rkOf c id).toNat)).length : Int)))
def numP (x : Prt) : Int := match x with
  | .inl n => n
  | .inr _ => -1
def letP (x : Prt) (i : Int) : Int := match x with
  | .inl _ => -1
  | .inr L => if 0 ≤ i ∧ i < (L.length : Int) then L.getD i.toNat 0 else -1
def qNum (c : Cat) (id k : Int) : Int × Int := ans (okP c id k = true) 1 (numP (pAt c id k))
def qLet (c : Cat) (id k e i : Int) : Int × Int := ans (okP c id k = true) 1 (letP (if e ≠ 0 then earP (cRl c) (pAt c id k) else pAt c id k) i)
def qRul (c : Cat) (r e i : Int) : Int × Int := ans (0 ≤ r ∧ r < ((cRl c).length : Int)) 1 (letP (.inr (if e ≠ 0 then r2 (cRl c) r.toNat else r1 (cRl c) r.toNat)) i)
def qShf (c : Cat) (s x : Int) : Int × Int := if 0 ≤ s ∧ s < cSh c then ans (0 ≤ x ∧ x ≤ 5) 2 (if x = 0 then bd c s.toNat else if x = 1 then mkOn c s else if x = 2 then wdOn c s else if x = 3 then (if cRm c < wdOn c s then wdOn c s - cRm c else 0) else if x = 4 then endA c s ((0 : Int) ≠ 0) (cN c) else endA c s ((1 : Int) ≠ 0) (cN c)) else (1, 0)
def sgn (x : Int) : Int := if x < 0 then -1 else if 0 < x then 1 else 0
def qCmp (c : Cat) (i j : Int) : Int × Int := ans (rkOf c i ≠ -1 ∧ rkOf c j ≠ -1) 1 (sgn (rkOf c i - rkOf c j))
def qDif (c : Cat) (i j : Int) : Int × Int := ans (rkOf c i ≠ -1 ∧ rkOf c j ≠ -1) 1 (difM (cRl c) (mPs (mk c (rkOf c i).toNat)) (mPs (mk c (rkOf c j).toNat)))
def qFre (c : Cat) (i : Int) : Int × Int := ans (rkOf c i ≠ -1) 1 (plA c (rkOf c i + 1) - mPl (mk c (rkOf c i).toNat) - 1)
def qFam (c : Cat) (i : Int) : Int × Int := ans (rkOf c i ≠ -1) 1 (famN c (rkOf c i).toNat)

theorem pn_yX10_compares : ParN yX10_compares 2 := by decide +kernel
theorem pn_yX10_differs : ParN yX10_differs 2 := by decide +kernel
theorem pn_yX10_earOf : ParN yX10_earOf 2 := by decide +kernel
theorem pn_yX10_guestRank : ParN yX10_guestRank 0 := by decide +kernel
theorem pn_yX10_part : ParN yX10_part 2 := by decide +kernel

set_option maxHeartbeats 4000000 in
set_option maxRecDepth 100000 in
/-- rankOf -/
theorem m_rankOf (l : Launch) (G : Gl) (w : Wd) (a : Nat) (ad : Nat → Nat) (t : Tw) (hT : TwAt G w a ad t) (x : Int) (c0 : Cat) (hC : RowIs (t.2 3) c0) (hx : R32 x) : HM l yX10_rankOf cX10_rankOf 3 (some .int) 2 0 0 G [.ref a, .int (iI (x))] w (QI G (fun z_ w_ => z_ = rkOf c0 x ∧ w_ = w)) := by
  refine HM.mk (by decide +kernel) (Nat.le_of_ble_eq_true rfl) ?_
  intro p9 e9 s9 m9 a9 b9 meth9 c9 ls X hret hlk hnm hl H hR
  have hx := X.1.1
  have hb := X.1.2.1
  have hl : lv_has ls 3 [(0, .ref a), (1, .int (iI (x)))] := hl
  have hL : LK G [] := fun q h => absurd h List.not_mem_nil
  generalize ([] : List Loc) = locs at hL ⊢
  have hTb := hT
  have hT : TwS G w w a ad t := TwS.rf hT
  have hn40 := hC.n40
  have hsh8 := hC.sh8
  refine h_iconst hx hb dX10_rankOf_0 ?_
  refine lv_istore_n (lv' := [(2, .int (iI (0))), (0, .ref a), (1, .int (iI (x)))]) hx hb dX10_rankOf_1 rfl hl (by decide) rfl (fun ls hl => ?_)
  have LOOP_1 : ∀ (N_ : Nat) (k : Nat), (k ≤ cN c0) → (∀ j, j < k → ¬ mId (mk c0 j) = x) → (cN c0 - k) < N_ → ∀ (H : Heap) (locs : List Loc) (ls : Array Slot), Rp G w H → LK G locs → lv_has ls 3 [(0, .ref a), (1, .int (iI (x))), (2, .int (iI ((k : Int))))] → W p9 l e9 (rmk 2 0 0) s9 m9 a9 b9 meth9 c9 H locs 0 0 (MQ b9 (QI G (fun z_ w_ => z_ = rkOf c0 x ∧ w_ = w)) a9 s9 0 0 (frG G)) (F0 m9 2 ls []) := by
    intro N_
    induction N_ with
    | zero => intro _ _ _ h_; exact absurd h_ (Nat.not_lt_zero _)
    | succ N_ ih_ =>
      intro k hk hno hN_ H locs ls hR hL hl
      have ih_1 := ih_
      clear ih_
      refine lv_iload_n hx hb dX10_rankOf_2 rfl (lv_at hl 2 rfl) ?_
      refine lv_aload_n hx hb dX10_rankOf_3 rfl (lv_at hl 0 rfl) ?_
      refine h_iconst hx hb dX10_rankOf_4 ?_
      -- call SpokenMarksModel.head
      refine h_kIp (h_runV X hR (m_head l G w a ad t hT.1 2 (by omega)) pn_yX10_head (hasC.of hT.1.ob rfl) q2789 q2791 qs44 q161 q2792 ⟨by decide, by decide⟩ hl.1 (Nat.le_of_ble_eq_true rfl) dX10_rankOf_5 ⟨by omega, by omega⟩) hL (fun H locs hR hL => ?_)
      refine W.eq (g2 := F0 m9 8 ls [.int (iI ((cN c0 : Int))), .int (iI ((k : Int)))]) (congrArg (fun z_ : Int => F0 m9 8 ls [.int (iI (z_)), .int (iI ((k : Int)))]) (show (hd t 2 : Int) = (cN c0 : Int) from (by exact hC.n))) ?_
      refine h_icmp_ge hx hb 29 dX10_rankOf_8 (by decide) (by omega) (by omega) (fun c_5 => ?_) (fun c_5 => ?_)
      ·
        refine h_iconst hx hb dX10_rankOf_29 ?_
        exact h_ireturn hx hb hlk hret hR hL rfl ⟨(fstN_no (P := fun k => mId (mk c0 k) = x) (fun j hj => hno j (by omega))).symm, rfl⟩ (by omega) (by omega) rfl rfl dX10_rankOf_30
      ·
        refine lv_aload_n hx hb dX10_rankOf_11 rfl (lv_at hl 0 rfl) ?_
        refine lv_iload_n hx hb dX10_rankOf_12 rfl (lv_at hl 2 rfl) ?_
        refine h_iconst hx hb dX10_rankOf_13 ?_
        -- call SpokenMarksModel.of
        refine h_kIp (h_runV X hR (m_of l G w a ad t hT.1 k 0 (by omega) (by omega)) pn_yX10_of (hasC.of hT.1.ob rfl) q2827 q2829 qs53 q161 q2830 ⟨by decide, by decide⟩ hl.1 (Nat.le_of_ble_eq_true rfl) dX10_rankOf_14 ⟨by omega, by omega⟩) hL (fun H locs hR hL => ?_)
        refine W.eq (g2 := F0 m9 17 ls [.int (iI (mId (mk c0 k)))]) (congrArg (fun z_ : Int => F0 m9 17 ls [.int (iI (z_))]) (show (tof t k 0 : Int) = mId (mk c0 k) from (by exact (hC.m k (by omega)).1))) ?_
        have hr_id := mId_r hC.s k (by omega)
        refine lv_iload_n hx hb dX10_rankOf_17 rfl (lv_at hl 1 rfl) ?_
        refine h_icmp_ne hx hb 23 dX10_rankOf_18 (by decide) (by omega) (by omega) (fun c_e => ?_) (fun c_e => ?_)
        ·
          refine h_iinc (lv' := [(2, .int (iI ((k : Int) + 1))), (0, .ref a), (1, .int (iI (x)))]) hx hb dX10_rankOf_23 hl (k := 2) rfl (by decide) rfl (fun ls hl => ?_)
          refine lv_goto (tgt := 2) hx hb dX10_rankOf_26 (by decide) ?_
          exact ih_1 (k + 1) (by omega) (fun j hj => (Nat.lt_succ_iff_lt_or_eq.mp hj).elim (fun q => hno j q) (fun q => q ▸ c_e)) (by omega) _ _ _ hR hL (lv_sub hl [1, 2, 0] rfl)
        ·
          refine lv_iload_n hx hb dX10_rankOf_21 rfl (lv_at hl 2 rfl) ?_
          exact h_ireturn hx hb hlk hret hR hL rfl ⟨(fstN_eq (P := fun k => mId (mk c0 k) = x) (by omega) c_e hno).symm, rfl⟩ (by omega) (by omega) rfl rfl dX10_rankOf_22
  exact LOOP_1 _ 0 (by omega) (fun j h => absurd h (Nat.not_lt_zero _)) (Nat.lt_succ_self _) _ _ _ hR hL (lv_sub hl [1, 2, 0] rfl)

set_option maxHeartbeats 4000000 in
set_option maxRecDepth 100000 in
/-- differs -/
theorem m_differs (l : Launch) (G : Gl) (w : Wd) (a : Nat) (ad : Nat → Nat) (t : Tw) (hT : TwAt G w a ad t) (i : Nat) (j : Nat) (R : Rls) (pp : List Prt) (qq : List Prt) (h1 : i ≤ 40) (h2 : j ≤ 40) (hX0 : SlotP (t.2 3) i R pp) (hY0 : SlotP (t.2 3) j R qq) : HM l yX10_differs cX10_differs 6 (some .int) 2 0 0 G [.ref a, .int (iI ((i : Int))), .int (iI ((j : Int)))] w (QI G (fun z_ w_ => z_ = difM R pp qq ∧ w_ = w)) := by
  refine HM.mk (by decide +kernel) (Nat.le_of_ble_eq_true rfl) ?_
  intro p9 e9 s9 m9 a9 b9 meth9 c9 ls X hret hlk hnm hl H hR
  have hx := X.1.1
  have hb := X.1.2.1
  have hl : lv_has ls 6 [(0, .ref a), (1, .int (iI ((i : Int)))), (2, .int (iI ((j : Int))))] := hl
  have hL : LK G [] := fun q h => absurd h List.not_mem_nil
  generalize ([] : List Loc) = locs at hL ⊢
  have hTb := hT
  have hT : TwS G w w a ad t := TwS.rf hT
  have hX := hX0.2
  have hY := hY0.2
  have hx5 := hX.2.1
  have hy5 := hY.2.1
  refine h_iconst hx hb dX10_differs_0 ?_
  refine lv_istore_n (lv' := [(3, .int (iI (0))), (0, .ref a), (1, .int (iI ((i : Int)))), (2, .int (iI ((j : Int))))]) hx hb dX10_differs_1 rfl hl (by decide) rfl (fun ls hl => ?_)
  have LOOP_1 : ∀ (N_ : Nat) (k : Nat), (k ≤ 5) → (difM R pp qq = dfK (k : Int) ((earK R pp).drop k) ((earK R qq).drop k)) → (5 - k) < N_ → ∀ (H : Heap) (locs : List Loc) (ls : Array Slot), Rp G w H → LK G locs → lv_has ls 6 [(0, .ref a), (1, .int (iI ((i : Int)))), (2, .int (iI ((j : Int)))), (3, .int (iI ((k : Int))))] → W p9 l e9 (rmk 2 0 0) s9 m9 a9 b9 meth9 c9 H locs 0 0 (MQ b9 (QI G (fun z_ w_ => z_ = difM R pp qq ∧ w_ = w)) a9 s9 0 0 (frG G)) (F0 m9 2 ls []) := by
    intro N_
    induction N_ with
    | zero => intro _ _ _ h_; exact absurd h_ (Nat.not_lt_zero _)
    | succ N_ ih_ =>
      intro k hk hv hN_ H locs ls hR hL hl
      have ih_1 := ih_
      clear ih_
      refine lv_iload_n hx hb dX10_differs_2 rfl (lv_at hl 3 rfl) ?_
      refine h_iconst hx hb dX10_differs_3 ?_
      refine h_icmp_ge hx hb 87 dX10_differs_4 (by decide) (by omega) (by omega) (fun c_2 => ?_) (fun c_2 => ?_)
      ·
        refine h_iconst hx hb dX10_differs_87 ?_
        exact h_ireturn hx hb hlk hret hR hL rfl ⟨by rw [hv, dfK_end _ (by omega), if_pos ⟨by omega, by omega⟩], rfl⟩ (by omega) (by omega) rfl rfl dX10_differs_88
      ·
        refine lv_iload_n hx hb dX10_differs_7 rfl (lv_at hl 3 rfl) ?_
        refine lv_aload_n hx hb dX10_differs_8 rfl (lv_at hl 0 rfl) ?_
        refine lv_iload_n hx hb dX10_differs_9 rfl (lv_at hl 1 rfl) ?_
        refine h_iconst hx hb dX10_differs_10 ?_
        -- call SpokenMarksModel.of
        refine h_kIp (h_runV X hR (m_of l G w a ad t hT.1 i 3 (by omega) (by omega)) pn_yX10_of (hasC.of hT.1.ob rfl) q2827 q2829 qs53 q161 q2830 ⟨by decide, by decide⟩ hl.1 (Nat.le_of_ble_eq_true rfl) dX10_differs_11 ⟨by omega, by omega⟩) hL (fun H locs hR hL => ?_)
        refine W.eq (g2 := F0 m9 14 ls [.int (iI (((earK R pp).length : Int))), .int (iI ((k : Int)))]) (congrArg (fun z_ : Int => F0 m9 14 ls [.int (iI (z_)), .int (iI ((k : Int)))]) (show (tof t i 3 : Int) = ((earK R pp).length : Int) from (hX.1))) ?_
        refine h_icmp_lt hx hb 21 dX10_differs_14 (by decide) (by omega) (by omega) (fun c_6 => ?_) (fun c_6 => ?_)
        ·
          refine h_iconst hx hb dX10_differs_21 ?_
          refine lv_istore (lv' := [(4, .int (iI (0))), (0, .ref a), (1, .int (iI ((i : Int)))), (2, .int (iI ((j : Int)))), (3, .int (iI ((k : Int))))]) hx hb dX10_differs_22 hl (by decide) rfl (fun ls hl => ?_)
          refine lv_iload_n hx hb dX10_differs_24 rfl (lv_at hl 4 rfl) ?_
          refine lv_aload_n hx hb dX10_differs_25 rfl (lv_at hl 1 rfl) ?_
          refine lv_iload_n hx hb dX10_differs_26 rfl (lv_at hl 3 rfl) ?_
          refine h_iconst hx hb dX10_differs_27 ?_
          -- call SpokenMarksModel.of
          refine h_kIp (h_runV X hR (m_of l G w a ad t hT.1 j 3 (by omega) (by omega)) pn_yX10_of (hasC.of hT.1.ob rfl) q2827 q2829 qs53 q161 q2830 ⟨by decide, by decide⟩ hl.1 (Nat.le_of_ble_eq_true rfl) dX10_differs_28 ⟨by omega, by omega⟩) hL (fun H locs hR hL => ?_)
          refine W.eq (g2 := F0 m9 31 ls [.int (iI (((earK R qq).length : Int))), .int (iI ((k : Int)))]) (congrArg (fun z_ : Int => F0 m9 31 ls [.int (iI (z_)), .int (iI ((k : Int)))]) (show (tof t j 3 : Int) = ((earK R qq).length : Int) from (hY.1))) ?_
          refine h_icmp_lt hx hb 38 dX10_differs_31 (by decide) (by omega) (by omega) (fun c_10 => ?_) (fun c_10 => ?_)
          ·
            refine h_iconst hx hb dX10_differs_38 ?_
            refine lv_istore (lv' := [(5, .int (iI (0))), (4, .int (iI (0))), (0, .ref a), (1, .int (iI ((i : Int)))), (2, .int (iI ((j : Int)))), (3, .int (iI ((k : Int))))]) hx hb dX10_differs_39 hl (by decide) rfl (fun ls hl => ?_)
            refine lv_iload hx hb dX10_differs_41 (lv_at hl 1 rfl) ?_
            refine h_if_eq hx hb 53 dX10_differs_43 (by decide) (by decide) (fun _ => ?_) (fun z_ => absurd z_ (by decide))
            refine lv_iload hx hb dX10_differs_53 (lv_at hl 1 rfl) ?_
            refine h_if_ne hx hb 79 dX10_differs_55 (by decide) (by decide) (fun z_ => absurd z_ (by decide)) (fun _ => ?_)
            refine lv_iload hx hb dX10_differs_58 (lv_at hl 0 rfl) ?_
            refine h_if_ne hx hb 79 dX10_differs_60 (by decide) (by decide) (fun z_ => absurd z_ (by decide)) (fun _ => ?_)
            refine lv_aload_n hx hb dX10_differs_63 rfl (lv_at hl 2 rfl) ?_
            refine lv_iload_n hx hb dX10_differs_64 rfl (lv_at hl 3 rfl) ?_
            refine lv_iload_n hx hb dX10_differs_65 rfl (lv_at hl 5 rfl) ?_
            -- call SpokenMarksModel.earOf
            refine h_kLp (h_runV X hR (m_earOf l G w a ad t hT.1 i k (by omega) (by omega)) pn_yX10_earOf (hasC.of hT.1.ob rfl) q3125 q3127 qs90 q161 q3128 ⟨by decide, by decide⟩ hl.1 (Nat.le_of_ble_eq_true rfl) dX10_differs_66 ⟨by omega, by omega⟩) hL (fun H locs hR hL => ?_)
            refine W.eq (g2 := F0 m9 69 ls [.long (lI ((earK R pp).getD k 0))]) (congrArg (fun z_ : Int => F0 m9 69 ls [.long (lI (z_))]) (show (t.2 3 (32 + 14 * i + 9 + k) : Int) = (earK R pp).getD k 0 from (hX.2.2.1 k (by omega)))) ?_
            have hxr := hX.2.2.2 k
            refine lv_aload_n hx hb dX10_differs_69 rfl (lv_at hl 2 rfl) ?_
            refine lv_iload_n hx hb dX10_differs_70 rfl (lv_at hl 4 rfl) ?_
            refine lv_iload_n hx hb dX10_differs_71 rfl (lv_at hl 5 rfl) ?_
            -- call SpokenMarksModel.earOf
            refine h_kLp (h_runV X hR (m_earOf l G w a ad t hT.1 j k (by omega) (by omega)) pn_yX10_earOf (hasC.of hT.1.ob rfl) q3125 q3127 qs90 q161 q3128 ⟨by decide, by decide⟩ hl.1 (Nat.le_of_ble_eq_true rfl) dX10_differs_72 ⟨by omega, by omega⟩) hL (fun H locs hR hL => ?_)
            refine W.eq (g2 := F0 m9 75 ls [.long (lI ((earK R qq).getD k 0)), .long (lI ((earK R pp).getD k 0))]) (congrArg (fun z_ : Int => F0 m9 75 ls [.long (lI (z_)), .long (lI ((earK R pp).getD k 0))]) (show (t.2 3 (32 + 14 * j + 9 + k) : Int) = (earK R qq).getD k 0 from (hY.2.2.1 k (by omega)))) ?_
            have hyr := hY.2.2.2 k
            refine h_lcmp hx hb dX10_differs_75 (by omega) (by omega) ?_
            refine h_if_eq hx hb 81 dX10_differs_76 (by decide) (by have := cmpZ_r ((earK R pp).getD k 0) ((earK R qq).getD k 0); omega) (fun c_e => ?_) (fun c_e => ?_)
            ·
              refine h_iinc (lv' := [(3, .int (iI ((k : Int) + 1))), (5, .int (iI (0))), (4, .int (iI (0))), (0, .ref a), (1, .int (iI ((i : Int)))), (2, .int (iI ((j : Int))))]) hx hb dX10_differs_81 hl (k := 5) rfl (by decide) rfl (fun ls hl => ?_)
              refine lv_goto (tgt := 2) hx hb dX10_differs_84 (by decide) ?_
              exact ih_1 (k + 1) (by omega) (by rw [hv, difM_at _ (by omega) (by omega), if_pos (cmpZ_0.mp (by omega))]; rfl) (by omega) _ _ _ hR hL (lv_sub hl [3, 4, 5, 0] rfl)
            ·
              refine lv_iload_n hx hb dX10_differs_79 rfl (lv_at hl 5 rfl) ?_
              exact h_ireturn hx hb hlk hret hR hL rfl ⟨by first | (rw [hv, difM_at _ (by omega) (by omega), if_neg (fun q => c_e (cmpZ_0.mpr q))]; done) | (rw [hv, dfK_end _ (by omega), if_neg (by omega)]; done), rfl⟩ (by omega) (by omega) rfl rfl dX10_differs_80
          ·
            refine h_iconst hx hb dX10_differs_34 ?_
            refine lv_goto (tgt := 39) hx hb dX10_differs_35 (by decide) ?_
            refine lv_istore (lv' := [(5, .int (iI (1))), (4, .int (iI (0))), (0, .ref a), (1, .int (iI ((i : Int)))), (2, .int (iI ((j : Int)))), (3, .int (iI ((k : Int))))]) hx hb dX10_differs_39 hl (by decide) rfl (fun ls hl => ?_)
            refine lv_iload hx hb dX10_differs_41 (lv_at hl 1 rfl) ?_
            refine h_if_eq hx hb 53 dX10_differs_43 (by decide) (by decide) (fun _ => ?_) (fun z_ => absurd z_ (by decide))
            refine lv_iload hx hb dX10_differs_53 (lv_at hl 1 rfl) ?_
            refine h_if_ne hx hb 79 dX10_differs_55 (by decide) (by decide) (fun z_ => absurd z_ (by decide)) (fun _ => ?_)
            refine lv_iload hx hb dX10_differs_58 (lv_at hl 0 rfl) ?_
            refine h_if_ne hx hb 79 dX10_differs_60 (by decide) (by decide) (fun _ => ?_) (fun z_ => absurd z_ (by decide))
            refine lv_iload_n hx hb dX10_differs_79 rfl (lv_at hl 5 rfl) ?_
            exact h_ireturn hx hb hlk hret hR hL rfl ⟨by first | (rw [hv, difM_at _ (by omega) (by omega), if_neg (fun q => c_e (cmpZ_0.mpr q))]; done) | (rw [hv, dfK_end _ (by omega), if_neg (by omega)]; done), rfl⟩ (by omega) (by omega) rfl rfl dX10_differs_80
        ·
          refine h_iconst hx hb dX10_differs_17 ?_
          refine lv_goto (tgt := 22) hx hb dX10_differs_18 (by decide) ?_
          refine lv_istore (lv' := [(4, .int (iI (1))), (0, .ref a), (1, .int (iI ((i : Int)))), (2, .int (iI ((j : Int)))), (3, .int (iI ((k : Int))))]) hx hb dX10_differs_22 hl (by decide) rfl (fun ls hl => ?_)
          refine lv_iload_n hx hb dX10_differs_24 rfl (lv_at hl 4 rfl) ?_
          refine lv_aload_n hx hb dX10_differs_25 rfl (lv_at hl 1 rfl) ?_
          refine lv_iload_n hx hb dX10_differs_26 rfl (lv_at hl 3 rfl) ?_
          refine h_iconst hx hb dX10_differs_27 ?_
          -- call SpokenMarksModel.of
          refine h_kIp (h_runV X hR (m_of l G w a ad t hT.1 j 3 (by omega) (by omega)) pn_yX10_of (hasC.of hT.1.ob rfl) q2827 q2829 qs53 q161 q2830 ⟨by decide, by decide⟩ hl.1 (Nat.le_of_ble_eq_true rfl) dX10_differs_28 ⟨by omega, by omega⟩) hL (fun H locs hR hL => ?_)
          refine W.eq (g2 := F0 m9 31 ls [.int (iI (((earK R qq).length : Int))), .int (iI ((k : Int)))]) (congrArg (fun z_ : Int => F0 m9 31 ls [.int (iI (z_)), .int (iI ((k : Int)))]) (show (tof t j 3 : Int) = ((earK R qq).length : Int) from (hY.1))) ?_
          refine h_icmp_lt hx hb 38 dX10_differs_31 (by decide) (by omega) (by omega) (fun c_26 => ?_) (fun c_26 => ?_)
          ·
            refine h_iconst hx hb dX10_differs_38 ?_
            refine lv_istore (lv' := [(5, .int (iI (0))), (4, .int (iI (1))), (0, .ref a), (1, .int (iI ((i : Int)))), (2, .int (iI ((j : Int)))), (3, .int (iI ((k : Int))))]) hx hb dX10_differs_39 hl (by decide) rfl (fun ls hl => ?_)
            refine lv_iload hx hb dX10_differs_41 (lv_at hl 1 rfl) ?_
            refine h_if_eq hx hb 53 dX10_differs_43 (by decide) (by decide) (fun z_ => absurd z_ (by decide)) (fun _ => ?_)
            refine lv_iload hx hb dX10_differs_46 (lv_at hl 0 rfl) ?_
            refine h_if_eq hx hb 53 dX10_differs_48 (by decide) (by decide) (fun _ => ?_) (fun z_ => absurd z_ (by decide))
            refine lv_iload hx hb dX10_differs_53 (lv_at hl 1 rfl) ?_
            refine h_if_ne hx hb 79 dX10_differs_55 (by decide) (by decide) (fun _ => ?_) (fun z_ => absurd z_ (by decide))
            refine lv_iload_n hx hb dX10_differs_79 rfl (lv_at hl 5 rfl) ?_
            exact h_ireturn hx hb hlk hret hR hL rfl ⟨by first | (rw [hv, difM_at _ (by omega) (by omega), if_neg (fun q => c_e (cmpZ_0.mpr q))]; done) | (rw [hv, dfK_end _ (by omega), if_neg (by omega)]; done), rfl⟩ (by omega) (by omega) rfl rfl dX10_differs_80
          ·
            refine h_iconst hx hb dX10_differs_34 ?_
            refine lv_goto (tgt := 39) hx hb dX10_differs_35 (by decide) ?_
            refine lv_istore (lv' := [(5, .int (iI (1))), (4, .int (iI (1))), (0, .ref a), (1, .int (iI ((i : Int)))), (2, .int (iI ((j : Int)))), (3, .int (iI ((k : Int))))]) hx hb dX10_differs_39 hl (by decide) rfl (fun ls hl => ?_)
            refine lv_iload hx hb dX10_differs_41 (lv_at hl 1 rfl) ?_
            refine h_if_eq hx hb 53 dX10_differs_43 (by decide) (by decide) (fun z_ => absurd z_ (by decide)) (fun _ => ?_)
            refine lv_iload hx hb dX10_differs_46 (lv_at hl 0 rfl) ?_
            refine h_if_eq hx hb 53 dX10_differs_48 (by decide) (by decide) (fun z_ => absurd z_ (by decide)) (fun _ => ?_)
            refine h_iconst hx hb dX10_differs_51 ?_
            exact h_ireturn hx hb hlk hret hR hL rfl ⟨by rw [hv, dfK_end _ (by omega), if_pos ⟨by omega, by omega⟩], rfl⟩ (by omega) (by omega) rfl rfl dX10_differs_52
  exact LOOP_1 _ 0 (by omega) rfl (Nat.lt_succ_self _) _ _ _ hR hL (lv_sub hl [1, 2, 3, 0] rfl)

set_option maxHeartbeats 4000000 in
set_option maxRecDepth 100000 in
/-- wordsOf -/
theorem m_wordsOf (l : Launch) (G : Gl) (w : Wd) (a : Nat) (ad : Nat → Nat) (t : Tw) (hT : TwAt G w a ad t) (r : Nat) (c0 : Cat) (hC : RowIs (t.2 3) c0) (hr : r < cN c0) : HM l yX10_wordsOf cX10_wordsOf 4 (some .int) 2 0 0 G [.ref a, .int (iI ((r : Int)))] w (QI G (fun z_ w_ => z_ = wrdN (mPs (mk c0 r)) ∧ w_ = w)) := by
  refine HM.mk (by decide +kernel) (Nat.le_of_ble_eq_true rfl) ?_
  intro p9 e9 s9 m9 a9 b9 meth9 c9 ls X hret hlk hnm hl H hR
  have hx := X.1.1
  have hb := X.1.2.1
  have hl : lv_has ls 4 [(0, .ref a), (1, .int (iI ((r : Int))))] := hl
  have hL : LK G [] := fun q h => absurd h List.not_mem_nil
  generalize ([] : List Loc) = locs at hL ⊢
  have hTb := hT
  have hT : TwS G w w a ad t := TwS.rf hT
  have hn40 := hC.n40
  have hsh8 := hC.sh8
  have hs := (hC.m r hr).2.2.2
  have hl5 := hs.l5
  refine h_iconst hx hb dX10_wordsOf_0 ?_
  refine lv_istore_n (lv' := [(2, .int (iI (0))), (0, .ref a), (1, .int (iI ((r : Int))))]) hx hb dX10_wordsOf_1 rfl hl (by decide) rfl (fun ls hl => ?_)
  refine h_iconst hx hb dX10_wordsOf_2 ?_
  refine lv_istore_n (lv' := [(3, .int (iI (0))), (2, .int (iI (0))), (0, .ref a), (1, .int (iI ((r : Int))))]) hx hb dX10_wordsOf_3 rfl hl (by decide) rfl (fun ls hl => ?_)
  have LOOP_1 : ∀ (N_ : Nat) (k : Nat), (k ≤ (mPs (mk c0 r)).length) → ((mPs (mk c0 r)).length - k) < N_ → ∀ (H : Heap) (locs : List Loc) (ls : Array Slot), Rp G w H → LK G locs → lv_has ls 4 [(0, .ref a), (1, .int (iI ((r : Int)))), (2, .int (iI (sumN (fun k => b2i (isWP ((mPs (mk c0 r)).getD k prt0) = true)) k))), (3, .int (iI ((k : Int))))] → W p9 l e9 (rmk 2 0 0) s9 m9 a9 b9 meth9 c9 H locs 0 0 (MQ b9 (QI G (fun z_ w_ => z_ = wrdN (mPs (mk c0 r)) ∧ w_ = w)) a9 s9 0 0 (frG G)) (F0 m9 4 ls []) := by
    intro N_
    induction N_ with
    | zero => intro _ _ h_; exact absurd h_ (Nat.not_lt_zero _)
    | succ N_ ih_ =>
      intro k hk hN_ H locs ls hR hL hl
      have ih_1 := ih_
      clear ih_
      refine lv_iload_n hx hb dX10_wordsOf_4 rfl (lv_at hl 3 rfl) ?_
      refine lv_aload_n hx hb dX10_wordsOf_5 rfl (lv_at hl 0 rfl) ?_
      refine lv_iload_n hx hb dX10_wordsOf_6 rfl (lv_at hl 1 rfl) ?_
      refine h_iconst hx hb dX10_wordsOf_7 ?_
      -- call SpokenMarksModel.of
      refine h_kIp (h_runV X hR (m_of l G w a ad t hT.1 r 3 (by omega) (by omega)) pn_yX10_of (hasC.of hT.1.ob rfl) q2827 q2829 qs53 q161 q2830 ⟨by decide, by decide⟩ hl.1 (Nat.le_of_ble_eq_true rfl) dX10_wordsOf_8 ⟨by omega, by omega⟩) hL (fun H locs hR hL => ?_)
      refine W.eq (g2 := F0 m9 11 ls [.int (iI (((mPs (mk c0 r)).length : Int))), .int (iI ((k : Int)))]) (congrArg (fun z_ : Int => F0 m9 11 ls [.int (iI (z_)), .int (iI ((k : Int)))]) (show (tof t r 3 : Int) = ((mPs (mk c0 r)).length : Int) from (by exact hs.len))) ?_
      refine h_icmp_ge hx hb 35 dX10_wordsOf_11 (by decide) (by omega) (by omega) (fun c_5 => ?_) (fun c_5 => ?_)
      ·
        refine lv_iload_n hx hb dX10_wordsOf_35 rfl (lv_at hl 2 rfl) ?_
        exact h_ireturn hx hb hlk hret hR hL rfl ⟨by rw [show k = (mPs (mk c0 r)).length by omega] <;> rfl, rfl⟩ (by omega) (by omega) rfl rfl dX10_wordsOf_36
      ·
        refine lv_aload_n hx hb dX10_wordsOf_14 rfl (lv_at hl 0 rfl) ?_
        refine lv_iload_n hx hb dX10_wordsOf_15 rfl (lv_at hl 1 rfl) ?_
        refine lv_iload_n hx hb dX10_wordsOf_16 rfl (lv_at hl 3 rfl) ?_
        -- call SpokenMarksModel.part
        refine h_kLp (h_runV X hR (m_part l G w a ad t hT.1 r k (by omega) (by omega)) pn_yX10_part (hasC.of hT.1.ob rfl) q2831 q2833 qs54 q161 q2834 ⟨by decide, by decide⟩ hl.1 (Nat.le_of_ble_eq_true rfl) dX10_wordsOf_17 ⟨by omega, by omega⟩) hL (fun H locs hR hL => ?_)
        refine W.eq (g2 := F0 m9 20 ls [.long (lI (encP ((mPs (mk c0 r)).getD k prt0)))]) (congrArg (fun z_ : Int => F0 m9 20 ls [.long (lI (z_))]) (show (t.2 3 (32 + 14 * r + 4 + k) : Int) = encP ((mPs (mk c0 r)).getD k prt0) from (by exact hs.pt (by omega)))) ?_
        have hpw := getW hC.s hr (k := k) (by omega)
        have hpr := encP_r hpw
        -- call SpokenMarksModel.isWordPart
        refine h_kIp (h_runS X hR (m_isWordPart l G w  (encP ((mPs (mk c0 r)).getD k prt0)) (by omega)) pn_yX10_isWordPart q2839 q2840 q161 q2841 ⟨by decide, by decide⟩ hl.1 (Nat.le_of_ble_eq_true rfl) dX10_wordsOf_20 ⟨by omega, by omega⟩) hL (fun H locs hR hL => ?_)
        refine h_if_eq hx hb 29 dX10_wordsOf_23 (by decide) (by have := b2i_01 (1000000 ≤ encP ((mPs (mk c0 r)).getD k prt0)); omega) (fun c_on => ?_) (fun c_on => ?_)
        ·
          refine h_iinc (lv' := [(3, .int (iI ((k : Int) + 1))), (0, .ref a), (1, .int (iI ((r : Int)))), (2, .int (iI (sumN (fun k => b2i (isWP ((mPs (mk c0 r)).getD k prt0) = true)) k)))]) hx hb dX10_wordsOf_29 hl (k := 3) rfl (by decide) rfl (fun ls hl => ?_)
          refine lv_goto (tgt := 4) hx hb dX10_wordsOf_32 (by decide) ?_
          have hl : lv_has ls 4 [(3, .int (iI ((k : Int) + 1))), (0, .ref a), (1, .int (iI ((r : Int)))), (2, .int (iI (sumN (fun k => b2i (isWP ((mPs (mk c0 r)).getD k prt0) = true)) (k + 1))))] := lv_conv hl (congrArg (fun z_ : Int => ([(3, .int (iI ((k : Int) + 1))), (0, .ref a), (1, .int (iI ((r : Int)))), (2, .int (iI (z_)))] : List (Nat × Value))) (show (sumN (fun k => b2i (isWP ((mPs (mk c0 r)).getD k prt0) = true)) k : Int) = sumN (fun k => b2i (isWP ((mPs (mk c0 r)).getD k prt0) = true)) (k + 1) from (by rw [sumN_s]; first | (rw [b2i_t ((isWP_enc hpw).mp (b2i_n1.mp c_on))]; done) | (rw [b2i_f (fun q => b2i_0.mp c_on ((isWP_enc hpw).mpr q)), Int.add_zero]; done))))
          exact ih_1 (k + 1) (by omega) (by omega) _ _ _ hR hL (lv_sub hl [1, 2, 3, 0] rfl)
        ·
          refine h_iinc (lv' := [(2, .int (iI (sumN (fun k => b2i (isWP ((mPs (mk c0 r)).getD k prt0) = true)) k + 1))), (0, .ref a), (1, .int (iI ((r : Int)))), (3, .int (iI ((k : Int))))]) hx hb dX10_wordsOf_26 hl (k := 2) rfl (by decide) rfl (fun ls hl => ?_)
          refine h_iinc (lv' := [(3, .int (iI ((k : Int) + 1))), (2, .int (iI (sumN (fun k => b2i (isWP ((mPs (mk c0 r)).getD k prt0) = true)) k + 1))), (0, .ref a), (1, .int (iI ((r : Int))))]) hx hb dX10_wordsOf_29 hl (k := 3) rfl (by decide) rfl (fun ls hl => ?_)
          refine lv_goto (tgt := 4) hx hb dX10_wordsOf_32 (by decide) ?_
          have hl : lv_has ls 4 [(3, .int (iI ((k : Int) + 1))), (2, .int (iI (sumN (fun k => b2i (isWP ((mPs (mk c0 r)).getD k prt0) = true)) (k + 1)))), (0, .ref a), (1, .int (iI ((r : Int))))] := lv_conv hl (congrArg (fun z_ : Int => ([(3, .int (iI ((k : Int) + 1))), (2, .int (iI (z_))), (0, .ref a), (1, .int (iI ((r : Int))))] : List (Nat × Value))) (show (sumN (fun k => b2i (isWP ((mPs (mk c0 r)).getD k prt0) = true)) k + 1 : Int) = sumN (fun k => b2i (isWP ((mPs (mk c0 r)).getD k prt0) = true)) (k + 1) from (by rw [sumN_s]; first | (rw [b2i_t ((isWP_enc hpw).mp (b2i_n1.mp c_on))]; done) | (rw [b2i_f (fun q => b2i_0.mp c_on ((isWP_enc hpw).mpr q)), Int.add_zero]; done))))
          exact ih_1 (k + 1) (by omega) (by omega) _ _ _ hR hL (lv_sub hl [2, 3, 1, 0] rfl)
  exact LOOP_1 _ 0 (by omega) (Nat.lt_succ_self _) _ _ _ hR hL (lv_sub hl [2, 3, 1, 0] rfl)

set_option maxHeartbeats 4000000 in
set_option maxRecDepth 100000 in
/-- guestRank -/
theorem m_guestRank (l : Launch) (G : Gl) (w : Wd) (a : Nat) (ad : Nat → Nat) (t : Tw) (hT : TwAt G w a ad t)  (c0 : Cat) (g : List Prt) (hC : RowIs (t.2 3) c0) (hG : SlotP (t.2 3) 40 (cRl c0) g) : HM l yX10_guestRank cX10_guestRank 2 (some .int) 4 0 0 G [.ref a] w (QI G (fun z_ w_ => z_ = (rkF c0 g : Int) ∧ w_ = w)) := by
  refine HM.mk (by decide +kernel) (Nat.le_of_ble_eq_true rfl) ?_
  intro p9 e9 s9 m9 a9 b9 meth9 c9 ls X hret hlk hnm hl H hR
  have hx := X.1.1
  have hb := X.1.2.1
  have hl : lv_has ls 2 [(0, .ref a)] := hl
  have hL : LK G [] := fun q h => absurd h List.not_mem_nil
  generalize ([] : List Loc) = locs at hL ⊢
  have hTb := hT
  have hT : TwS G w w a ad t := TwS.rf hT
  have hn40 := hC.n40
  have hsh8 := hC.sh8
  refine h_iconst hx hb dX10_guestRank_0 ?_
  refine lv_istore_n (lv' := [(1, .int (iI (0))), (0, .ref a)]) hx hb dX10_guestRank_1 rfl hl (by decide) rfl (fun ls hl => ?_)
  have LOOP_1 : ∀ (N_ : Nat) (k : Nat), (k ≤ cN c0) → (∀ j, j < k → cmpM (cRl c0) (mPs (mk c0 j)) g < 0) → (cN c0 - k) < N_ → ∀ (H : Heap) (locs : List Loc) (ls : Array Slot), Rp G w H → LK G locs → lv_has ls 2 [(0, .ref a), (1, .int (iI ((k : Int))))] → W p9 l e9 (rmk 4 0 0) s9 m9 a9 b9 meth9 c9 H locs 0 0 (MQ b9 (QI G (fun z_ w_ => z_ = (rkF c0 g : Int) ∧ w_ = w)) a9 s9 0 0 (frG G)) (F0 m9 2 ls []) := by
    intro N_
    induction N_ with
    | zero => intro _ _ _ h_; exact absurd h_ (Nat.not_lt_zero _)
    | succ N_ ih_ =>
      intro k hk hno hN_ H locs ls hR hL hl
      have ih_1 := ih_
      clear ih_
      refine lv_iload_n hx hb dX10_guestRank_2 rfl (lv_at hl 1 rfl) ?_
      refine lv_aload_n hx hb dX10_guestRank_3 rfl (lv_at hl 0 rfl) ?_
      refine h_iconst hx hb dX10_guestRank_4 ?_
      -- call SpokenMarksModel.head
      refine h_kIp (h_runV X hR (m_head l G w a ad t hT.1 2 (by omega)) pn_yX10_head (hasC.of hT.1.ob rfl) q2789 q2791 qs44 q161 q2792 ⟨by decide, by decide⟩ hl.1 (Nat.le_of_ble_eq_true rfl) dX10_guestRank_5 ⟨by omega, by omega⟩) hL (fun H locs hR hL => ?_)
      refine W.eq (g2 := F0 m9 8 ls [.int (iI ((cN c0 : Int))), .int (iI ((k : Int)))]) (congrArg (fun z_ : Int => F0 m9 8 ls [.int (iI (z_)), .int (iI ((k : Int)))]) (show (hd t 2 : Int) = (cN c0 : Int) from (by exact hC.n))) ?_
      refine h_icmp_ge hx hb 27 dX10_guestRank_8 (by decide) (by omega) (by omega) (fun c_5 => ?_) (fun c_5 => ?_)
      ·
        refine lv_iload_n hx hb dX10_guestRank_27 rfl (lv_at hl 1 rfl) ?_
        exact h_ireturn hx hb hlk hret hR hL rfl ⟨by congr 1; exact (runN_eq (by omega) hno (by first | exact Or.inl (by omega) | exact Or.inr (by omega))).symm, rfl⟩ (by omega) (by omega) rfl rfl dX10_guestRank_28
      ·
        refine lv_aload_n hx hb dX10_guestRank_11 rfl (lv_at hl 0 rfl) ?_
        refine lv_iload_n hx hb dX10_guestRank_12 rfl (lv_at hl 1 rfl) ?_
        refine h_bipush hx hb dX10_guestRank_13 (by decide) ?_
        -- call SpokenMarksModel.compares
        refine h_kIp (h_runV X hR (m_compares l G w a ad t hT.1 k 40 (cRl c0) (mPs (mk c0 k)) g (by omega) (by omega) (hC.m k (by omega)).2.2.2 hG) pn_yX10_compares (hasC.of hT.1.ob rfl) q2868 q2870 qs61 q161 q2871 ⟨by decide, by decide⟩ hl.1 (Nat.le_of_ble_eq_true rfl) dX10_guestRank_15 ⟨by omega, by omega⟩) hL (fun H locs hR hL => ?_)
        have hcr := cmpM_r (cRl c0) (mPs (mk c0 k)) g
        refine h_if_ge hx hb 27 dX10_guestRank_18 (by decide) (by omega) (fun c_e => ?_) (fun c_e => ?_)
        ·
          refine lv_iload_n hx hb dX10_guestRank_27 rfl (lv_at hl 1 rfl) ?_
          exact h_ireturn hx hb hlk hret hR hL rfl ⟨by congr 1; exact (runN_eq (by omega) hno (by first | exact Or.inl (by omega) | exact Or.inr (by omega))).symm, rfl⟩ (by omega) (by omega) rfl rfl dX10_guestRank_28
        ·
          refine h_iinc (lv' := [(1, .int (iI ((k : Int) + 1))), (0, .ref a)]) hx hb dX10_guestRank_21 hl (k := 1) rfl (by decide) rfl (fun ls hl => ?_)
          refine lv_goto (tgt := 2) hx hb dX10_guestRank_24 (by decide) ?_
          exact ih_1 (k + 1) (by omega) (fun j hj => (Nat.lt_succ_iff_lt_or_eq.mp hj).elim (fun q => hno j q) (fun q => by rw [q]; omega)) (by omega) _ _ _ hR hL (lv_sub hl [1, 0] rfl)
  exact LOOP_1 _ 0 (by omega) (fun j h => absurd h (Nat.not_lt_zero _)) (Nat.lt_succ_self _) _ _ _ hR hL (lv_sub hl [1, 0] rfl)

set_option maxHeartbeats 4000000 in
set_option maxRecDepth 100000 in
/-- twin -/
theorem m_twin (l : Launch) (G : Gl) (w : Wd) (a : Nat) (ad : Nat → Nat) (t : Tw) (hT : TwAt G w a ad t)  (c0 : Cat) (g : List Prt) (hC : RowIs (t.2 3) c0) (hG : SlotP (t.2 3) 40 (cRl c0) g) : HM l yX10_twin cX10_twin 2 (some .int) 5 0 0 G [.ref a] w (QI G (fun z_ w_ => z_ = twinN c0 g ∧ w_ = w)) := by
  refine HM.mk (by decide +kernel) (Nat.le_of_ble_eq_true rfl) ?_
  intro p9 e9 s9 m9 a9 b9 meth9 c9 ls X hret hlk hnm hl H hR
  have hx := X.1.1
  have hb := X.1.2.1
  have hl : lv_has ls 2 [(0, .ref a)] := hl
  have hL : LK G [] := fun q h => absurd h List.not_mem_nil
  generalize ([] : List Loc) = locs at hL ⊢
  have hTb := hT
  have hT : TwS G w w a ad t := TwS.rf hT
  have hn40 := hC.n40
  have hsh8 := hC.sh8
  have hrk := rkF_le c0 g
  refine lv_aload_n hx hb dX10_twin_0 rfl (lv_at hl 0 rfl) ?_
  -- call SpokenMarksModel.guestRank
  refine h_kIp (h_runV X hR (m_guestRank l G w a ad t hT.1 c0 g hC hG) pn_yX10_guestRank (hasC.of hT.1.ob rfl) q2913 q2915 qs71 q161 q2916 ⟨by decide, by decide⟩ hl.1 (Nat.le_of_ble_eq_true rfl) dX10_twin_1 ⟨by omega, by omega⟩) hL (fun H locs hR hL => ?_)
  refine lv_istore_n (lv' := [(1, .int (iI ((rkF c0 g : Int)))), (0, .ref a)]) hx hb dX10_twin_4 rfl hl (by decide) rfl (fun ls hl => ?_)
  refine lv_iload_n hx hb dX10_twin_5 rfl (lv_at hl 0 rfl) ?_
  refine lv_aload_n hx hb dX10_twin_6 rfl (lv_at hl 1 rfl) ?_
  refine h_iconst hx hb dX10_twin_7 ?_
  -- call SpokenMarksModel.head
  refine h_kIp (h_runV X hR (m_head l G w a ad t hT.1 2 (by omega)) pn_yX10_head (hasC.of hT.1.ob rfl) q2789 q2791 qs44 q161 q2792 ⟨by decide, by decide⟩ hl.1 (Nat.le_of_ble_eq_true rfl) dX10_twin_8 ⟨by omega, by omega⟩) hL (fun H locs hR hL => ?_)
  refine W.eq (g2 := F0 m9 11 ls [.int (iI ((cN c0 : Int))), .int (iI ((rkF c0 g : Int)))]) (congrArg (fun z_ : Int => F0 m9 11 ls [.int (iI (z_)), .int (iI ((rkF c0 g : Int)))]) (show (hd t 2 : Int) = (cN c0 : Int) from (by exact hC.n))) ?_
  refine h_icmp_ge hx hb 28 dX10_twin_11 (by decide) (by omega) (by omega) (fun c_7 => ?_) (fun c_7 => ?_)
  ·
    refine h_iconst hx hb dX10_twin_28 ?_
    exact h_ireturn hx hb hlk hret hR hL rfl ⟨by unfold twinN; first | (rw [if_pos ⟨by omega, by assumption⟩]; done) | (rw [if_neg (by omega)]; done), rfl⟩ (by omega) (by omega) rfl rfl dX10_twin_29
  ·
    refine lv_aload_n hx hb dX10_twin_14 rfl (lv_at hl 1 rfl) ?_
    refine lv_iload_n hx hb dX10_twin_15 rfl (lv_at hl 0 rfl) ?_
    refine h_bipush hx hb dX10_twin_16 (by decide) ?_
    -- call SpokenMarksModel.compares
    refine h_kIp (h_runV X hR (m_compares l G w a ad t hT.1 (rkF c0 g) 40 (cRl c0) (mPs (mk c0 (rkF c0 g))) g (by omega) (by omega) (hC.m _ (by omega)).2.2.2 hG) pn_yX10_compares (hasC.of hT.1.ob rfl) q2868 q2870 qs61 q161 q2871 ⟨by decide, by decide⟩ hl.1 (Nat.le_of_ble_eq_true rfl) dX10_twin_18 ⟨by omega, by omega⟩) hL (fun H locs hR hL => ?_)
    have hcr := cmpM_r (cRl c0) (mPs (mk c0 (rkF c0 g))) g
    refine h_if_ne hx hb 28 dX10_twin_21 (by decide) (by omega) (fun c_11 => ?_) (fun c_11 => ?_)
    ·
      refine h_iconst hx hb dX10_twin_28 ?_
      exact h_ireturn hx hb hlk hret hR hL rfl ⟨by unfold twinN; first | (rw [if_pos ⟨by omega, by assumption⟩]; done) | (rw [if_neg (by omega)]; done), rfl⟩ (by omega) (by omega) rfl rfl dX10_twin_29
    ·
      refine lv_iload_n hx hb dX10_twin_24 rfl (lv_at hl 0 rfl) ?_
      refine lv_goto (tgt := 29) hx hb dX10_twin_25 (by decide) ?_
      exact h_ireturn hx hb hlk hret hR hL rfl ⟨by unfold twinN; first | (rw [if_pos ⟨by omega, by assumption⟩]; done) | (rw [if_neg (by omega)]; done), rfl⟩ (by omega) (by omega) rfl rfl dX10_twin_29

set_option maxHeartbeats 4000000 in
set_option maxRecDepth 100000 in
/-- firstAlike -/
theorem m_firstAlike (l : Launch) (G : Gl) (w : Wd) (a : Nat) (ad : Nat → Nat) (t : Tw) (hT : TwAt G w a ad t)  (c0 : Cat) (g : List Prt) (hC : RowIs (t.2 3) c0) (hG : SlotP (t.2 3) 40 (cRl c0) g) : HM l yX10_firstAlike cX10_firstAlike 2 (some .int) 3 0 0 G [.ref a] w (QI G (fun z_ w_ => z_ = frsN c0 g ∧ w_ = w)) := by
  refine HM.mk (by decide +kernel) (Nat.le_of_ble_eq_true rfl) ?_
  intro p9 e9 s9 m9 a9 b9 meth9 c9 ls X hret hlk hnm hl H hR
  have hx := X.1.1
  have hb := X.1.2.1
  have hl : lv_has ls 2 [(0, .ref a)] := hl
  have hL : LK G [] := fun q h => absurd h List.not_mem_nil
  generalize ([] : List Loc) = locs at hL ⊢
  have hTb := hT
  have hT : TwS G w w a ad t := TwS.rf hT
  have hn40 := hC.n40
  have hsh8 := hC.sh8
  refine h_iconst hx hb dX10_firstAlike_0 ?_
  refine lv_istore_n (lv' := [(1, .int (iI (0))), (0, .ref a)]) hx hb dX10_firstAlike_1 rfl hl (by decide) rfl (fun ls hl => ?_)
  have LOOP_1 : ∀ (N_ : Nat) (k : Nat), (k ≤ cN c0) → (∀ j, j < k → ¬ difM (cRl c0) (mPs (mk c0 j)) g = -1) → (cN c0 - k) < N_ → ∀ (H : Heap) (locs : List Loc) (ls : Array Slot), Rp G w H → LK G locs → lv_has ls 2 [(0, .ref a), (1, .int (iI ((k : Int))))] → W p9 l e9 (rmk 3 0 0) s9 m9 a9 b9 meth9 c9 H locs 0 0 (MQ b9 (QI G (fun z_ w_ => z_ = frsN c0 g ∧ w_ = w)) a9 s9 0 0 (frG G)) (F0 m9 2 ls []) := by
    intro N_
    induction N_ with
    | zero => intro _ _ _ h_; exact absurd h_ (Nat.not_lt_zero _)
    | succ N_ ih_ =>
      intro k hk hno hN_ H locs ls hR hL hl
      have ih_1 := ih_
      clear ih_
      refine lv_iload_n hx hb dX10_firstAlike_2 rfl (lv_at hl 1 rfl) ?_
      refine lv_aload_n hx hb dX10_firstAlike_3 rfl (lv_at hl 0 rfl) ?_
      refine h_iconst hx hb dX10_firstAlike_4 ?_
      -- call SpokenMarksModel.head
      refine h_kIp (h_runV X hR (m_head l G w a ad t hT.1 2 (by omega)) pn_yX10_head (hasC.of hT.1.ob rfl) q2789 q2791 qs44 q161 q2792 ⟨by decide, by decide⟩ hl.1 (Nat.le_of_ble_eq_true rfl) dX10_firstAlike_5 ⟨by omega, by omega⟩) hL (fun H locs hR hL => ?_)
      refine W.eq (g2 := F0 m9 8 ls [.int (iI ((cN c0 : Int))), .int (iI ((k : Int)))]) (congrArg (fun z_ : Int => F0 m9 8 ls [.int (iI (z_)), .int (iI ((k : Int)))]) (show (hd t 2 : Int) = (cN c0 : Int) from (by exact hC.n))) ?_
      refine h_icmp_ge hx hb 30 dX10_firstAlike_8 (by decide) (by omega) (by omega) (fun c_5 => ?_) (fun c_5 => ?_)
      ·
        refine h_iconst hx hb dX10_firstAlike_30 ?_
        exact h_ireturn hx hb hlk hret hR hL rfl ⟨(fstN_no (P := fun k => difM (cRl c0) (mPs (mk c0 k)) g = -1) (fun j hj => hno j (by omega))).symm, rfl⟩ (by omega) (by omega) rfl rfl dX10_firstAlike_31
      ·
        refine lv_aload_n hx hb dX10_firstAlike_11 rfl (lv_at hl 0 rfl) ?_
        refine lv_iload_n hx hb dX10_firstAlike_12 rfl (lv_at hl 1 rfl) ?_
        refine h_bipush hx hb dX10_firstAlike_13 (by decide) ?_
        -- call SpokenMarksModel.differs
        refine h_kIp (h_runV X hR (m_differs l G w a ad t hT.1 k 40 (cRl c0) (mPs (mk c0 k)) g (by omega) (by omega) (hC.m k (by omega)).2.2.2 hG) pn_yX10_differs (hasC.of hT.1.ob rfl) q3169 q3171 qs96 q161 q3172 ⟨by decide, by decide⟩ hl.1 (Nat.le_of_ble_eq_true rfl) dX10_firstAlike_15 ⟨by omega, by omega⟩) hL (fun H locs hR hL => ?_)
        refine h_iconst hx hb dX10_firstAlike_18 ?_
        refine h_icmp_ne hx hb 24 dX10_firstAlike_19 (by decide) (by have := difM_r (cRl c0) (mPs (mk c0 k)) g (by have := (hC.m k (by omega)).2.2.2.l5; omega); omega) (by omega) (fun c_e => ?_) (fun c_e => ?_)
        ·
          refine h_iinc (lv' := [(1, .int (iI ((k : Int) + 1))), (0, .ref a)]) hx hb dX10_firstAlike_24 hl (k := 1) rfl (by decide) rfl (fun ls hl => ?_)
          refine lv_goto (tgt := 2) hx hb dX10_firstAlike_27 (by decide) ?_
          exact ih_1 (k + 1) (by omega) (fun j hj => (Nat.lt_succ_iff_lt_or_eq.mp hj).elim (fun q => hno j q) (fun q => q ▸ c_e)) (by omega) _ _ _ hR hL (lv_sub hl [1, 0] rfl)
        ·
          refine lv_iload_n hx hb dX10_firstAlike_22 rfl (lv_at hl 1 rfl) ?_
          exact h_ireturn hx hb hlk hret hR hL rfl ⟨(fstN_eq (P := fun k => difM (cRl c0) (mPs (mk c0 k)) g = -1) (by omega) c_e hno).symm, rfl⟩ (by omega) (by omega) rfl rfl dX10_firstAlike_23
  exact LOOP_1 _ 0 (by omega) (fun j h => absurd h (Nat.not_lt_zero _)) (Nat.lt_succ_self _) _ _ _ hR hL (lv_sub hl [1, 0] rfl)

set_option maxHeartbeats 4000000 in
set_option maxRecDepth 100000 in
/-- sounding -/
theorem m_sounding (l : Launch) (G : Gl) (w : Wd) (a : Nat) (ad : Nat → Nat) (t : Tw) (hT : TwAt G w a ad t)  (c0 : Cat) (L : List Int) (hC : RowIs (t.2 3) c0) (hw : Wrd L) : HM l yX10_sounding cX10_sounding 7 (some .int) 2 0 0 G [.ref a, .long (lI (enc L))] w (QI G (fun z_ w_ => z_ = sndN c0 L ∧ w_ = w)) := by
  refine HM.mk (by decide +kernel) (Nat.le_of_ble_eq_true rfl) ?_
  intro p9 e9 s9 m9 a9 b9 meth9 c9 ls X hret hlk hnm hl H hR
  have hx := X.1.1
  have hb := X.1.2.1
  have hl : lv_has ls 7 [(0, .ref a), (1, .long (lI (enc L)))] := hl
  have hL : LK G [] := fun q h => absurd h List.not_mem_nil
  generalize ([] : List Loc) = locs at hL ⊢
  have hTb := hT
  have hT : TwS G w w a ad t := TwS.rf hT
  have hn40 := hC.n40
  have hsh8 := hC.sh8
  have heL := enc_r hw.2
  refine h_iconst hx hb dX10_sounding_0 ?_
  refine lv_istore_n (lv' := [(3, .int (iI (0))), (0, .ref a), (1, .long (lI (enc L)))]) hx hb dX10_sounding_1 rfl hl (by decide) rfl (fun ls hl => ?_)
  refine h_iconst hx hb dX10_sounding_2 ?_
  refine lv_istore (lv' := [(4, .int (iI (0))), (3, .int (iI (0))), (0, .ref a), (1, .long (lI (enc L)))]) hx hb dX10_sounding_3 hl (by decide) rfl (fun ls hl => ?_)
  have LOOP_1 : ∀ (N_ : Nat) (k : Nat), (k ≤ cN c0) → (cN c0 - k) < N_ → ∀ (H : Heap) (locs : List Loc) (ls : Array Slot), Rp G w H → LK G locs → lv_has ls 7 [(0, .ref a), (1, .long (lI (enc L))), (3, .int (iI (sumN (fun k_ => b2i (hasE (cRl c0) (mPs (mk c0 k_)) L (mPs (mk c0 k_)).length = true)) k))), (4, .int (iI ((k : Int))))] → W p9 l e9 (rmk 2 0 0) s9 m9 a9 b9 meth9 c9 H locs 0 0 (MQ b9 (QI G (fun z_ w_ => z_ = sndN c0 L ∧ w_ = w)) a9 s9 0 0 (frG G)) (F0 m9 5 ls []) := by
    intro N_
    induction N_ with
    | zero => intro _ _ h_; exact absurd h_ (Nat.not_lt_zero _)
    | succ N_ ih_ =>
      intro k hk hN_ H locs ls hR hL hl
      have ih_1 := ih_
      clear ih_
      refine lv_iload hx hb dX10_sounding_5 (lv_at hl 3 rfl) ?_
      refine lv_aload_n hx hb dX10_sounding_7 rfl (lv_at hl 0 rfl) ?_
      refine h_iconst hx hb dX10_sounding_8 ?_
      -- call SpokenMarksModel.head
      refine h_kIp (h_runV X hR (m_head l G w a ad t hT.1 2 (by omega)) pn_yX10_head (hasC.of hT.1.ob rfl) q2789 q2791 qs44 q161 q2792 ⟨by decide, by decide⟩ hl.1 (Nat.le_of_ble_eq_true rfl) dX10_sounding_9 ⟨by omega, by omega⟩) hL (fun H locs hR hL => ?_)
      refine W.eq (g2 := F0 m9 12 ls [.int (iI ((cN c0 : Int))), .int (iI ((k : Int)))]) (congrArg (fun z_ : Int => F0 m9 12 ls [.int (iI (z_)), .int (iI ((k : Int)))]) (show (hd t 2 : Int) = (cN c0 : Int) from (by exact hC.n))) ?_
      refine h_icmp_ge hx hb 78 dX10_sounding_12 (by decide) (by omega) (by omega) (fun c_5 => ?_) (fun c_5 => ?_)
      ·
        refine lv_iload_n hx hb dX10_sounding_78 rfl (lv_at hl 2 rfl) ?_
        exact h_ireturn hx hb hlk hret hR hL rfl ⟨by rw [show k = cN c0 by omega] <;> rfl, rfl⟩ (by omega) (by omega) rfl rfl dX10_sounding_79
      ·
        have hl5 := (hC.m k (by omega)).2.2.2.l5
        refine h_iconst hx hb dX10_sounding_15 ?_
        refine lv_istore (lv' := [(5, .int (iI (0))), (0, .ref a), (1, .long (lI (enc L))), (3, .int (iI (sumN (fun k_ => b2i (hasE (cRl c0) (mPs (mk c0 k_)) L (mPs (mk c0 k_)).length = true)) k))), (4, .int (iI ((k : Int))))]) hx hb dX10_sounding_16 hl (by decide) rfl (fun ls hl => ?_)
        refine h_iconst hx hb dX10_sounding_18 ?_
        refine lv_istore (lv' := [(6, .int (iI (0))), (5, .int (iI (0))), (0, .ref a), (1, .long (lI (enc L))), (3, .int (iI (sumN (fun k_ => b2i (hasE (cRl c0) (mPs (mk c0 k_)) L (mPs (mk c0 k_)).length = true)) k))), (4, .int (iI ((k : Int))))]) hx hb dX10_sounding_19 hl (by decide) rfl (fun ls hl => ?_)
        have LOOP_6 : ∀ (N_ : Nat) (i : Nat), (i ≤ (mPs (mk c0 k)).length) → ((mPs (mk c0 k)).length - i) < N_ → ∀ (H : Heap) (locs : List Loc) (ls : Array Slot), Rp G w H → LK G locs → lv_has ls 7 [(0, .ref a), (1, .long (lI (enc L))), (3, .int (iI (sumN (fun k_ => b2i (hasE (cRl c0) (mPs (mk c0 k_)) L (mPs (mk c0 k_)).length = true)) k))), (4, .int (iI ((k : Int)))), (5, .int (iI (b2i (hasE (cRl c0) (mPs (mk c0 k)) L i = true)))), (6, .int (iI ((i : Int))))] → W p9 l e9 (rmk 2 0 0) s9 m9 a9 b9 meth9 c9 H locs 0 0 (MQ b9 (QI G (fun z_ w_ => z_ = sndN c0 L ∧ w_ = w)) a9 s9 0 0 (frG G)) (F0 m9 21 ls []) := by
          intro N_
          induction N_ with
          | zero => intro _ _ h_; exact absurd h_ (Nat.not_lt_zero _)
          | succ N_ ih_ =>
            intro i hi hN_ H locs ls hR hL hl
            have ih_6 := ih_
            clear ih_
            refine lv_iload hx hb dX10_sounding_21 (lv_at hl 5 rfl) ?_
            refine lv_aload_n hx hb dX10_sounding_23 rfl (lv_at hl 0 rfl) ?_
            refine lv_iload hx hb dX10_sounding_24 (lv_at hl 3 rfl) ?_
            refine h_iconst hx hb dX10_sounding_26 ?_
            -- call SpokenMarksModel.of
            refine h_kIp (h_runV X hR (m_of l G w a ad t hT.1 k 3 (by omega) (by omega)) pn_yX10_of (hasC.of hT.1.ob rfl) q2827 q2829 qs53 q161 q2830 ⟨by decide, by decide⟩ hl.1 (Nat.le_of_ble_eq_true rfl) dX10_sounding_27 ⟨by omega, by omega⟩) hL (fun H locs hR hL => ?_)
            refine W.eq (g2 := F0 m9 30 ls [.int (iI (((mPs (mk c0 k)).length : Int))), .int (iI ((i : Int)))]) (congrArg (fun z_ : Int => F0 m9 30 ls [.int (iI (z_)), .int (iI ((i : Int)))]) (show (tof t k 3 : Int) = ((mPs (mk c0 k)).length : Int) from (by exact (hC.m k (by omega)).2.2.2.len))) ?_
            refine h_icmp_ge hx hb 64 dX10_sounding_30 (by decide) (by omega) (by omega) (fun c_10 => ?_) (fun c_10 => ?_)
            ·
              refine lv_iload hx hb dX10_sounding_64 (lv_at hl 4 rfl) ?_
              refine h_if_eq hx hb 72 dX10_sounding_66 (by decide) (by have := b2i_01 (hasE (cRl c0) (mPs (mk c0 k)) L i = true); omega) (fun c_h => ?_) (fun c_h => ?_)
              ·
                refine h_iinc (lv' := [(4, .int (iI ((k : Int) + 1))), (0, .ref a), (1, .long (lI (enc L))), (3, .int (iI (sumN (fun k_ => b2i (hasE (cRl c0) (mPs (mk c0 k_)) L (mPs (mk c0 k_)).length = true)) k))), (5, .int (iI (b2i (hasE (cRl c0) (mPs (mk c0 k)) L i = true)))), (6, .int (iI ((i : Int))))]) hx hb dX10_sounding_72 hl (k := 3) rfl (by decide) rfl (fun ls hl => ?_)
                refine lv_goto (tgt := 5) hx hb dX10_sounding_75 (by decide) ?_
                have hl : lv_has ls 7 [(4, .int (iI ((k : Int) + 1))), (0, .ref a), (1, .long (lI (enc L))), (3, .int (iI (sumN (fun k_ => b2i (hasE (cRl c0) (mPs (mk c0 k_)) L (mPs (mk c0 k_)).length = true)) (k + 1)))), (5, .int (iI (b2i (hasE (cRl c0) (mPs (mk c0 k)) L i = true)))), (6, .int (iI ((i : Int))))] := lv_conv hl (congrArg (fun z_ : Int => ([(4, .int (iI ((k : Int) + 1))), (0, .ref a), (1, .long (lI (enc L))), (3, .int (iI (z_))), (5, .int (iI (b2i (hasE (cRl c0) (mPs (mk c0 k)) L i = true)))), (6, .int (iI ((i : Int))))] : List (Nat × Value))) (show (sumN (fun k_ => b2i (hasE (cRl c0) (mPs (mk c0 k_)) L (mPs (mk c0 k_)).length = true)) k : Int) = sumN (fun k_ => b2i (hasE (cRl c0) (mPs (mk c0 k_)) L (mPs (mk c0 k_)).length = true)) (k + 1) from (by rw [sumN_s, show (mPs (mk c0 k)).length = i by omega]; first | (rw [b2i_t (b2i_n1.mp c_h)]; done) | (rw [b2i_f (b2i_0.mp c_h), Int.add_zero]; done))))
                exact ih_1 (k + 1) (by omega) (by omega) _ _ _ hR hL (lv_sub hl [1, 2, 3, 0] rfl)
              ·
                refine h_iinc (lv' := [(3, .int (iI (sumN (fun k_ => b2i (hasE (cRl c0) (mPs (mk c0 k_)) L (mPs (mk c0 k_)).length = true)) k + 1))), (0, .ref a), (1, .long (lI (enc L))), (4, .int (iI ((k : Int)))), (5, .int (iI (b2i (hasE (cRl c0) (mPs (mk c0 k)) L i = true)))), (6, .int (iI ((i : Int))))]) hx hb dX10_sounding_69 hl (k := 2) rfl (by decide) rfl (fun ls hl => ?_)
                refine h_iinc (lv' := [(4, .int (iI ((k : Int) + 1))), (3, .int (iI (sumN (fun k_ => b2i (hasE (cRl c0) (mPs (mk c0 k_)) L (mPs (mk c0 k_)).length = true)) k + 1))), (0, .ref a), (1, .long (lI (enc L))), (5, .int (iI (b2i (hasE (cRl c0) (mPs (mk c0 k)) L i = true)))), (6, .int (iI ((i : Int))))]) hx hb dX10_sounding_72 hl (k := 3) rfl (by decide) rfl (fun ls hl => ?_)
                refine lv_goto (tgt := 5) hx hb dX10_sounding_75 (by decide) ?_
                have hl : lv_has ls 7 [(4, .int (iI ((k : Int) + 1))), (3, .int (iI (sumN (fun k_ => b2i (hasE (cRl c0) (mPs (mk c0 k_)) L (mPs (mk c0 k_)).length = true)) (k + 1)))), (0, .ref a), (1, .long (lI (enc L))), (5, .int (iI (b2i (hasE (cRl c0) (mPs (mk c0 k)) L i = true)))), (6, .int (iI ((i : Int))))] := lv_conv hl (congrArg (fun z_ : Int => ([(4, .int (iI ((k : Int) + 1))), (3, .int (iI (z_))), (0, .ref a), (1, .long (lI (enc L))), (5, .int (iI (b2i (hasE (cRl c0) (mPs (mk c0 k)) L i = true)))), (6, .int (iI ((i : Int))))] : List (Nat × Value))) (show (sumN (fun k_ => b2i (hasE (cRl c0) (mPs (mk c0 k_)) L (mPs (mk c0 k_)).length = true)) k + 1 : Int) = sumN (fun k_ => b2i (hasE (cRl c0) (mPs (mk c0 k_)) L (mPs (mk c0 k_)).length = true)) (k + 1) from (by rw [sumN_s, show (mPs (mk c0 k)).length = i by omega]; first | (rw [b2i_t (b2i_n1.mp c_h)]; done) | (rw [b2i_f (b2i_0.mp c_h), Int.add_zero]; done))))
                exact ih_1 (k + 1) (by omega) (by omega) _ _ _ hR hL (lv_sub hl [2, 3, 1, 0] rfl)
            ·
              refine lv_iload hx hb dX10_sounding_33 (lv_at hl 4 rfl) ?_
              refine h_if_ne hx hb 51 dX10_sounding_35 (by decide) (by have := b2i_01 (hasE (cRl c0) (mPs (mk c0 k)) L i = true); omega) (fun c_i => ?_) (fun c_i => ?_)
              ·
                refine h_iconst hx hb dX10_sounding_51 ?_
                refine lv_goto (tgt := 56) hx hb dX10_sounding_52 (by decide) ?_
                refine lv_istore (lv' := [(5, .int (iI (1))), (0, .ref a), (1, .long (lI (enc L))), (3, .int (iI (sumN (fun k_ => b2i (hasE (cRl c0) (mPs (mk c0 k_)) L (mPs (mk c0 k_)).length = true)) k))), (4, .int (iI ((k : Int)))), (6, .int (iI ((i : Int))))]) hx hb dX10_sounding_56 hl (by decide) rfl (fun ls hl => ?_)
                have hl : lv_has ls 7 [(5, .int (iI (b2i (hasE (cRl c0) (mPs (mk c0 k)) L (i + 1) = true)))), (0, .ref a), (1, .long (lI (enc L))), (3, .int (iI (sumN (fun k_ => b2i (hasE (cRl c0) (mPs (mk c0 k_)) L (mPs (mk c0 k_)).length = true)) k))), (4, .int (iI ((k : Int)))), (6, .int (iI ((i : Int))))] := lv_conv hl (congrArg (fun z_ : Int => ([(5, .int (iI (z_))), (0, .ref a), (1, .long (lI (enc L))), (3, .int (iI (sumN (fun k_ => b2i (hasE (cRl c0) (mPs (mk c0 k_)) L (mPs (mk c0 k_)).length = true)) k))), (4, .int (iI ((k : Int)))), (6, .int (iI ((i : Int))))] : List (Nat × Value))) (show (1 : Int) = b2i (hasE (cRl c0) (mPs (mk c0 k)) L (i + 1) = true) from (by symm; first | exact b2i_t (by rw [hasE_s, b2i_n1.mp c_i]; rfl) | exact b2i_t (by rw [hasE_s, decide_eq_true (cmpZ_0.mp c_e), Bool.or_true]) | exact b2i_f (by rw [hasE_s, decide_eq_false (fun q => c_e (cmpZ_0.mpr q)), Bool.or_false]; exact b2i_0.mp c_i))))
                refine h_iinc (lv' := [(6, .int (iI ((i : Int) + 1))), (5, .int (iI (b2i (hasE (cRl c0) (mPs (mk c0 k)) L (i + 1) = true)))), (0, .ref a), (1, .long (lI (enc L))), (3, .int (iI (sumN (fun k_ => b2i (hasE (cRl c0) (mPs (mk c0 k_)) L (mPs (mk c0 k_)).length = true)) k))), (4, .int (iI ((k : Int))))]) hx hb dX10_sounding_58 hl (k := 5) rfl (by decide) rfl (fun ls hl => ?_)
                refine lv_goto (tgt := 21) hx hb dX10_sounding_61 (by decide) ?_
                exact ih_6 (i + 1) (by omega) (by omega) _ _ _ hR hL (lv_sub hl [2, 3, 4, 5, 1, 0] rfl)
              ·
                refine lv_aload_n hx hb dX10_sounding_38 rfl (lv_at hl 0 rfl) ?_
                refine lv_iload hx hb dX10_sounding_39 (lv_at hl 3 rfl) ?_
                refine lv_iload hx hb dX10_sounding_41 (lv_at hl 5 rfl) ?_
                -- call SpokenMarksModel.earOf
                refine h_kLp (h_runV X hR (m_earOf l G w a ad t hT.1 k i (by omega) (by omega)) pn_yX10_earOf (hasC.of hT.1.ob rfl) q3125 q3127 qs90 q161 q3128 ⟨by decide, by decide⟩ hl.1 (Nat.le_of_ble_eq_true rfl) dX10_sounding_43 ⟨by omega, by omega⟩) hL (fun H locs hR hL => ?_)
                refine W.eq (g2 := F0 m9 46 ls [.long (lI (encP (earP (cRl c0) ((mPs (mk c0 k)).getD i prt0))))]) (congrArg (fun z_ : Int => F0 m9 46 ls [.long (lI (z_))]) (show (t.2 3 (32 + 14 * k + 9 + i) : Int) = encP (earP (cRl c0) ((mPs (mk c0 k)).getD i prt0)) from (by exact (hC.m k (by omega)).2.2.2.er (by omega)))) ?_
                have her := encP_r (earP_w hC.s.2.2.2.2.1 (getW hC.s (r := k) (k := i) (by omega) (by omega)))
                refine lv_lload_n hx hb dX10_sounding_46 rfl (lv_at hl 1 rfl) ?_
                refine h_lcmp hx hb dX10_sounding_47 (by omega) (by omega) ?_
                refine h_if_ne hx hb 55 dX10_sounding_48 (by decide) (by have := cmpZ_r (encP (earP (cRl c0) ((mPs (mk c0 k)).getD i prt0))) (enc L); omega) (fun c_e => ?_) (fun c_e => ?_)
                ·
                  refine h_iconst hx hb dX10_sounding_55 ?_
                  refine lv_istore (lv' := [(5, .int (iI (0))), (0, .ref a), (1, .long (lI (enc L))), (3, .int (iI (sumN (fun k_ => b2i (hasE (cRl c0) (mPs (mk c0 k_)) L (mPs (mk c0 k_)).length = true)) k))), (4, .int (iI ((k : Int)))), (6, .int (iI ((i : Int))))]) hx hb dX10_sounding_56 hl (by decide) rfl (fun ls hl => ?_)
                  have hl : lv_has ls 7 [(5, .int (iI (b2i (hasE (cRl c0) (mPs (mk c0 k)) L (i + 1) = true)))), (0, .ref a), (1, .long (lI (enc L))), (3, .int (iI (sumN (fun k_ => b2i (hasE (cRl c0) (mPs (mk c0 k_)) L (mPs (mk c0 k_)).length = true)) k))), (4, .int (iI ((k : Int)))), (6, .int (iI ((i : Int))))] := lv_conv hl (congrArg (fun z_ : Int => ([(5, .int (iI (z_))), (0, .ref a), (1, .long (lI (enc L))), (3, .int (iI (sumN (fun k_ => b2i (hasE (cRl c0) (mPs (mk c0 k_)) L (mPs (mk c0 k_)).length = true)) k))), (4, .int (iI ((k : Int)))), (6, .int (iI ((i : Int))))] : List (Nat × Value))) (show (0 : Int) = b2i (hasE (cRl c0) (mPs (mk c0 k)) L (i + 1) = true) from (by symm; first | exact b2i_t (by rw [hasE_s, b2i_n1.mp c_i]; rfl) | exact b2i_t (by rw [hasE_s, decide_eq_true (cmpZ_0.mp c_e), Bool.or_true]) | exact b2i_f (by rw [hasE_s, decide_eq_false (fun q => c_e (cmpZ_0.mpr q)), Bool.or_false]; exact b2i_0.mp c_i))))
                  refine h_iinc (lv' := [(6, .int (iI ((i : Int) + 1))), (5, .int (iI (b2i (hasE (cRl c0) (mPs (mk c0 k)) L (i + 1) = true)))), (0, .ref a), (1, .long (lI (enc L))), (3, .int (iI (sumN (fun k_ => b2i (hasE (cRl c0) (mPs (mk c0 k_)) L (mPs (mk c0 k_)).length = true)) k))), (4, .int (iI ((k : Int))))]) hx hb dX10_sounding_58 hl (k := 5) rfl (by decide) rfl (fun ls hl => ?_)
                  refine lv_goto (tgt := 21) hx hb dX10_sounding_61 (by decide) ?_
                  exact ih_6 (i + 1) (by omega) (by omega) _ _ _ hR hL (lv_sub hl [2, 3, 4, 5, 1, 0] rfl)
                ·
                  refine h_iconst hx hb dX10_sounding_51 ?_
                  refine lv_goto (tgt := 56) hx hb dX10_sounding_52 (by decide) ?_
                  refine lv_istore (lv' := [(5, .int (iI (1))), (0, .ref a), (1, .long (lI (enc L))), (3, .int (iI (sumN (fun k_ => b2i (hasE (cRl c0) (mPs (mk c0 k_)) L (mPs (mk c0 k_)).length = true)) k))), (4, .int (iI ((k : Int)))), (6, .int (iI ((i : Int))))]) hx hb dX10_sounding_56 hl (by decide) rfl (fun ls hl => ?_)
                  have hl : lv_has ls 7 [(5, .int (iI (b2i (hasE (cRl c0) (mPs (mk c0 k)) L (i + 1) = true)))), (0, .ref a), (1, .long (lI (enc L))), (3, .int (iI (sumN (fun k_ => b2i (hasE (cRl c0) (mPs (mk c0 k_)) L (mPs (mk c0 k_)).length = true)) k))), (4, .int (iI ((k : Int)))), (6, .int (iI ((i : Int))))] := lv_conv hl (congrArg (fun z_ : Int => ([(5, .int (iI (z_))), (0, .ref a), (1, .long (lI (enc L))), (3, .int (iI (sumN (fun k_ => b2i (hasE (cRl c0) (mPs (mk c0 k_)) L (mPs (mk c0 k_)).length = true)) k))), (4, .int (iI ((k : Int)))), (6, .int (iI ((i : Int))))] : List (Nat × Value))) (show (1 : Int) = b2i (hasE (cRl c0) (mPs (mk c0 k)) L (i + 1) = true) from (by symm; first | exact b2i_t (by rw [hasE_s, b2i_n1.mp c_i]; rfl) | exact b2i_t (by rw [hasE_s, decide_eq_true (cmpZ_0.mp c_e), Bool.or_true]) | exact b2i_f (by rw [hasE_s, decide_eq_false (fun q => c_e (cmpZ_0.mpr q)), Bool.or_false]; exact b2i_0.mp c_i))))
                  refine h_iinc (lv' := [(6, .int (iI ((i : Int) + 1))), (5, .int (iI (b2i (hasE (cRl c0) (mPs (mk c0 k)) L (i + 1) = true)))), (0, .ref a), (1, .long (lI (enc L))), (3, .int (iI (sumN (fun k_ => b2i (hasE (cRl c0) (mPs (mk c0 k_)) L (mPs (mk c0 k_)).length = true)) k))), (4, .int (iI ((k : Int))))]) hx hb dX10_sounding_58 hl (k := 5) rfl (by decide) rfl (fun ls hl => ?_)
                  refine lv_goto (tgt := 21) hx hb dX10_sounding_61 (by decide) ?_
                  exact ih_6 (i + 1) (by omega) (by omega) _ _ _ hR hL (lv_sub hl [2, 3, 4, 5, 1, 0] rfl)
        exact LOOP_6 _ 0 (by omega) (Nat.lt_succ_self _) _ _ _ hR hL (lv_sub hl [2, 3, 4, 5, 1, 0] rfl)
  exact LOOP_1 _ 0 (by omega) (Nat.lt_succ_self _) _ _ _ hR hL (lv_sub hl [2, 3, 1, 0] rfl)
