/-! the twin: readers of the catalogue -/
set_option maxRecDepth 100000
theorem plA_r {c : Cat} (h : CatS c) (r : Int) : -1 ≤ plA c r ∧ plA c r ≤ 10000 := by
  unfold plA
  split
  · omega
  · split
    · have := mPl_r h r.toNat (by omega); omega
    · omega
theorem wdOn_r {c : Cat} (h : CatS c) (s : Int) : 0 ≤ wdOn c s ∧ wdOn c s ≤ 800 := by
  have := sumN_bd (f := fun k => if onB c k s = true then mWd (mk c k) else 0) (n := cN c) 0 20 (fun i hi => by
    show 0 ≤ (if onB c i s = true then mWd (mk c i) else 0) ∧ _
    have := mWd_r h i hi
    split <;> omega)
  have hn := h.2.2.2.1.1
  unfold wdOn
  omega
theorem lsT_r {c : Cat} (h : CatS c) : ∀ k, k + 1 ≤ cN c ∨ k = 0 → -10000 ≤ lsT c k ∧ lsT c k ≤ 10000
  | 0, _ => by simp [lsT]
  | k + 1, hk => by
    have h1 := lsT_r h k (by omega)
    have a := mPl_r h k (by omega)
    have b := mPl_r h (k + 1) (by omega)
    unfold lsT
    split <;> omega
theorem endA_r {c : Cat} (h : CatS c) (s : Int) (la : Prop) [Decidable la] : ∀ k, k ≤ cN c → -1 ≤ endA c s la k ∧ endA c s la k < 1000000
  | 0, _ => by simp [endA]
  | k + 1, hk => by
    have h1 := endA_r h s la k (by omega)
    have a := mId_r h k (by omega)
    unfold endA
    split <;> omega
def isWP (x : Prt) : Bool := match x with
  | .inl _ => false
  | .inr _ => true
def prt0 : Prt := .inl 0
def wrdN (p : List Prt) : Int := sumN (fun k => b2i (isWP (p.getD k prt0) = true)) p.length
theorem isWP_enc {x : Prt} (h : PrtW x) : (1000000 ≤ encP x) ↔ isWP x = true := by
  cases x with
  | inl n => have := h.2; simp [isWP, encP]; omega
  | inr L => have := (enc_r h.1.2).1; simp [isWP, encP]; exact this
def twinN (c : Cat) (g : List Prt) : Int := if rkF c g < cN c ∧ cmpM (cRl c) (mPs (mk c (rkF c g))) g = 0 then (rkF c g : Int) else -1
theorem SlotP.len {f : Nat → Int} {r : Nat} {R : Rls} {p : List Prt} (h : SlotP f r R p) : f (32 + 14 * r + 3) = (p.length : Int) := by have := h.1.1; rwa [letK, List.length_map] at this
theorem SlotP.l5 {f : Nat → Int} {r : Nat} {R : Rls} {p : List Prt} (h : SlotP f r R p) : p.length ≤ 5 := by have := h.1.2.1; rwa [letK, List.length_map] at this
theorem SlotP.pt {f : Nat → Int} {r : Nat} {R : Rls} {p : List Prt} (h : SlotP f r R p) {k : Nat} (hk : k < p.length) : f (32 + 14 * r + 4 + k) = encP (p.getD k prt0) := by
  have := h.1.2.2.1 k (by rw [letK, List.length_map]; exact hk)
  rw [this]; simp [letK, hk]
theorem SlotP.er {f : Nat → Int} {r : Nat} {R : Rls} {p : List Prt} (h : SlotP f r R p) {k : Nat} (hk : k < p.length) : f (32 + 14 * r + 9 + k) = encP (earP R (p.getD k prt0)) := by
  have := h.2.2.2.1 k (by rw [earK, List.length_map]; exact hk)
  rw [this]; simp [earK, hk]
def hasE (R : Rls) (p : List Prt) (L : List Int) : Nat → Bool
  | 0 => false
  | k + 1 => hasE R p L k || decide (encP (earP R (p.getD k prt0)) = enc L)
def sndN (c : Cat) (L : List Int) : Int := sumN (fun k => b2i (hasE (cRl c) (mPs (mk c k)) L (mPs (mk c k)).length = true)) (cN c)
def famN (c : Cat) (r : Nat) : Int := sumN (fun k => b2i (encP (earP (cRl c) ((mPs (mk c k)).getD 0 prt0)) = encP (earP (cRl c) ((mPs (mk c r)).getD 0 prt0)))) (cN c)
def frsN (c : Cat) (g : List Prt) : Int := fstN (fun k => difM (cRl c) (mPs (mk c k)) g = -1) (cN c)
theorem getW {c : Cat} (h : CatS c) {r k : Nat} (hr : r < cN c) (hk : k < (mPs (mk c r)).length) : PrtW ((mPs (mk c r)).getD k prt0) := by
  have e : (mPs (mk c r)).getD k prt0 = (mPs (mk c r))[k] := by simp [hk]
  rw [e]
  exact (h.2.2.2.1.2 r hr).2.1.2.2 _ (List.getElem_mem hk)

theorem pn_yX10_bound : ParN yX10_bound 1 := by decide +kernel
theorem pn_yX10_isOn : ParN yX10_isOn 2 := by decide +kernel
theorem pn_yX10_isRoomAt : ParN yX10_isRoomAt 1 := by decide +kernel
theorem pn_yX10_placeAhead : ParN yX10_placeAhead 1 := by decide +kernel
theorem pn_yX10_placeBehind : ParN yX10_placeBehind 1 := by decide +kernel
theorem pn_yX10_spaced : ParN yX10_spaced 2 := by decide +kernel
theorem pn_yX10_widthOn : ParN yX10_widthOn 1 := by decide +kernel

set_option maxHeartbeats 4000000 in
set_option maxRecDepth 100000 in
/-- bound -/
theorem m_bound (l : Launch) (G : Gl) (w : Wd) (a : Nat) (ad : Nat → Nat) (t : Tw) (hT : TwAt G w a ad t) (s : Int) (c0 : Cat) (hC : RowIs (t.2 3) c0) (hs : 0 ≤ s ∧ s ≤ 9) : HM l yX10_bound cX10_bound 2 (some .int) 2 0 0 G [.ref a, .int (iI (s))] w (QI G (fun z_ w_ => z_ = bdX c0 s ∧ w_ = w)) := by
  refine HM.mk (by decide +kernel) (Nat.le_of_ble_eq_true rfl) ?_
  intro p9 e9 s9 m9 a9 b9 meth9 c9 ls X hret hlk hnm hl H hR
  have hx := X.1.1
  have hb := X.1.2.1
  have hl : lv_has ls 2 [(0, .ref a), (1, .int (iI (s)))] := hl
  have hL : LK G [] := fun q h => absurd h List.not_mem_nil
  generalize ([] : List Loc) = locs at hL ⊢
  have hTb := hT
  have hT : TwS G w w a ad t := TwS.rf hT
  have hn40 := hC.n40
  have hsh8 := hC.sh8
  refine lv_iload_n hx hb dX10_bound_0 rfl (lv_at hl 1 rfl) ?_
  refine lv_aload_n hx hb dX10_bound_1 rfl (lv_at hl 0 rfl) ?_
  refine h_iconst hx hb dX10_bound_2 ?_
  -- call SpokenMarksModel.head
  refine h_kIp (h_runV X hR (m_head l G w a ad t hT.1 0 (by omega)) pn_yX10_head (hasC.of hT.1.ob rfl) q2789 q2791 qs44 q161 q2792 ⟨by decide, by decide⟩ hl.1 (Nat.le_of_ble_eq_true rfl) dX10_bound_3 ⟨by omega, by omega⟩) hL (fun H locs hR hL => ?_)
  refine W.eq (g2 := F0 m9 6 ls [.int (iI (cSh c0)), .int (iI (s))]) (congrArg (fun z_ : Int => F0 m9 6 ls [.int (iI (z_)), .int (iI (s))]) (show (hd t 0 : Int) = cSh c0 from (by exact hC.sh))) ?_
  refine h_icmp_lt hx hb 15 dX10_bound_6 (by decide) (by omega) (by omega) (fun c_4 => ?_) (fun c_4 => ?_)
  ·
    refine lv_aload_n hx hb dX10_bound_15 rfl (lv_at hl 0 rfl) ?_
    refine h_bipush hx hb dX10_bound_16 (by decide) ?_
    refine lv_iload_n hx hb dX10_bound_18 rfl (lv_at hl 1 rfl) ?_
    refine h_iadd hx hb dX10_bound_19 ?_
    refine W.eq (g2 := F0 m9 20 ls [.int (iI (((8 + s.toNat : Nat) : Int))), .ref a]) (congrArg (fun z_ : Int => F0 m9 20 ls [.int (iI (z_)), .ref a]) (show (8 + s : Int) = ((8 + s.toNat : Nat) : Int) from (by omega))) ?_
    -- call SpokenMarksModel.head
    refine h_kIp (h_runV X hR (m_head l G w a ad t hT.1 (8 + s.toNat) (by omega)) pn_yX10_head (hasC.of hT.1.ob rfl) q2789 q2791 qs44 q161 q2792 ⟨by decide, by decide⟩ hl.1 (Nat.le_of_ble_eq_true rfl) dX10_bound_20 ⟨by omega, by omega⟩) hL (fun H locs hR hL => ?_)
    refine W.eq (g2 := F0 m9 23 ls [.int (iI (bd c0 s.toNat))]) (congrArg (fun z_ : Int => F0 m9 23 ls [.int (iI (z_))]) (show (hd t (8 + s.toNat : Nat) : Int) = bd c0 s.toNat from (hC.bd s.toNat (by omega)))) ?_
    exact h_ireturn hx hb hlk hret hR hL rfl ⟨by unfold bdX; first | rw [if_pos (by omega)] | rw [if_neg (by omega)], rfl⟩ (by omega) (by omega) rfl rfl dX10_bound_23
  ·
    refine h_sipush hx hb dX10_bound_9 (by decide) ?_
    refine lv_goto (tgt := 23) hx hb dX10_bound_12 (by decide) ?_
    exact h_ireturn hx hb hlk hret hR hL rfl ⟨by unfold bdX; first | rw [if_pos (by omega)] | rw [if_neg (by omega)], rfl⟩ (by omega) (by omega) rfl rfl dX10_bound_23

set_option maxHeartbeats 4000000 in
set_option maxRecDepth 100000 in
/-- isOn -/
theorem m_isOn (l : Launch) (G : Gl) (w : Wd) (a : Nat) (ad : Nat → Nat) (t : Tw) (hT : TwAt G w a ad t) (k : Nat) (s : Int) (c0 : Cat) (hC : RowIs (t.2 3) c0) (hk : k < cN c0) (hs : 0 ≤ s ∧ s ≤ 8) : HM l yX10_isOn cX10_isOn 3 (some .boolean) 3 0 0 G [.ref a, .int (iI ((k : Int))), .int (iI (s))] w (QI G (fun z_ w_ => z_ = b2i (onB c0 k s = true) ∧ w_ = w)) := by
  refine HM.mk (by decide +kernel) (Nat.le_of_ble_eq_true rfl) ?_
  intro p9 e9 s9 m9 a9 b9 meth9 c9 ls X hret hlk hnm hl H hR
  have hx := X.1.1
  have hb := X.1.2.1
  have hl : lv_has ls 3 [(0, .ref a), (1, .int (iI ((k : Int)))), (2, .int (iI (s)))] := hl
  have hL : LK G [] := fun q h => absurd h List.not_mem_nil
  generalize ([] : List Loc) = locs at hL ⊢
  have hTb := hT
  have hT : TwS G w w a ad t := TwS.rf hT
  have hn40 := hC.n40
  have hsh8 := hC.sh8
  have hb1 := bdX_r hC.s s (by omega)
  have hb2 := bdX_r hC.s (s + 1) (by omega)
  refine lv_aload_n hx hb dX10_isOn_0 rfl (lv_at hl 0 rfl) ?_
  refine lv_iload_n hx hb dX10_isOn_1 rfl (lv_at hl 1 rfl) ?_
  refine h_iconst hx hb dX10_isOn_2 ?_
  -- call SpokenMarksModel.of
  refine h_kIp (h_runV X hR (m_of l G w a ad t hT.1 k 2 (by omega) (by omega)) pn_yX10_of (hasC.of hT.1.ob rfl) q2827 q2829 qs53 q161 q2830 ⟨by decide, by decide⟩ hl.1 (Nat.le_of_ble_eq_true rfl) dX10_isOn_3 ⟨by omega, by omega⟩) hL (fun H locs hR hL => ?_)
  refine W.eq (g2 := F0 m9 6 ls [.int (iI (mPl (mk c0 k)))]) (congrArg (fun z_ : Int => F0 m9 6 ls [.int (iI (z_))]) (show (tof t k 2 : Int) = mPl (mk c0 k) from (by exact (hC.m k (by omega)).2.2.1))) ?_
  have hr_pl := mPl_r hC.s k (by omega)
  refine lv_aload_n hx hb dX10_isOn_6 rfl (lv_at hl 0 rfl) ?_
  refine lv_iload_n hx hb dX10_isOn_7 rfl (lv_at hl 2 rfl) ?_
  -- call SpokenMarksModel.bound
  refine h_kIp (h_runV X hR (m_bound l G w a ad t hT.1 s c0 hC (by omega)) pn_yX10_bound (hasC.of hT.1.ob rfl) q3072 q3074 qs82 q161 q3075 ⟨by decide, by decide⟩ hl.1 (Nat.le_of_ble_eq_true rfl) dX10_isOn_8 ⟨by omega, by omega⟩) hL (fun H locs hR hL => ?_)
  refine h_icmp_lt hx hb 34 dX10_isOn_11 (by decide) (by omega) (by omega) (fun c_7 => ?_) (fun c_7 => ?_)
  ·
    refine h_iconst hx hb dX10_isOn_34 ?_
    exact h_ireturn hx hb hlk hret hR hL (nar01 (by omega)) ⟨by first | rw [b2i_t ((onB_iff c0 k s).mpr ⟨by omega, by omega⟩)] | rw [b2i_f (fun q => by have q2 := (onB_iff c0 k s).mp q; unfold isOn at q2; omega)], rfl⟩ (by omega) (by omega) rfl rfl dX10_isOn_35
  ·
    refine lv_aload_n hx hb dX10_isOn_14 rfl (lv_at hl 0 rfl) ?_
    refine lv_iload_n hx hb dX10_isOn_15 rfl (lv_at hl 1 rfl) ?_
    refine h_iconst hx hb dX10_isOn_16 ?_
    -- call SpokenMarksModel.of
    refine h_kIp (h_runV X hR (m_of l G w a ad t hT.1 k 2 (by omega) (by omega)) pn_yX10_of (hasC.of hT.1.ob rfl) q2827 q2829 qs53 q161 q2830 ⟨by decide, by decide⟩ hl.1 (Nat.le_of_ble_eq_true rfl) dX10_isOn_17 ⟨by omega, by omega⟩) hL (fun H locs hR hL => ?_)
    refine W.eq (g2 := F0 m9 20 ls [.int (iI (mPl (mk c0 k)))]) (congrArg (fun z_ : Int => F0 m9 20 ls [.int (iI (z_))]) (show (tof t k 2 : Int) = mPl (mk c0 k) from (by exact (hC.m k (by omega)).2.2.1))) ?_
    have hr_pl := mPl_r hC.s k (by omega)
    refine lv_aload_n hx hb dX10_isOn_20 rfl (lv_at hl 0 rfl) ?_
    refine lv_iload_n hx hb dX10_isOn_21 rfl (lv_at hl 2 rfl) ?_
    refine h_iconst hx hb dX10_isOn_22 ?_
    refine h_iadd hx hb dX10_isOn_23 ?_
    -- call SpokenMarksModel.bound
    refine h_kIp (h_runV X hR (m_bound l G w a ad t hT.1 (s + 1) c0 hC (by omega)) pn_yX10_bound (hasC.of hT.1.ob rfl) q3072 q3074 qs82 q161 q3075 ⟨by decide, by decide⟩ hl.1 (Nat.le_of_ble_eq_true rfl) dX10_isOn_24 ⟨by omega, by omega⟩) hL (fun H locs hR hL => ?_)
    refine h_icmp_ge hx hb 34 dX10_isOn_27 (by decide) (by omega) (by omega) (fun c_14 => ?_) (fun c_14 => ?_)
    ·
      refine h_iconst hx hb dX10_isOn_34 ?_
      exact h_ireturn hx hb hlk hret hR hL (nar01 (by omega)) ⟨by first | rw [b2i_t ((onB_iff c0 k s).mpr ⟨by omega, by omega⟩)] | rw [b2i_f (fun q => by have q2 := (onB_iff c0 k s).mp q; unfold isOn at q2; omega)], rfl⟩ (by omega) (by omega) rfl rfl dX10_isOn_35
    ·
      refine h_iconst hx hb dX10_isOn_30 ?_
      refine lv_goto (tgt := 35) hx hb dX10_isOn_31 (by decide) ?_
      exact h_ireturn hx hb hlk hret hR hL (nar01 (by omega)) ⟨by first | rw [b2i_t ((onB_iff c0 k s).mpr ⟨by omega, by omega⟩)] | rw [b2i_f (fun q => by have q2 := (onB_iff c0 k s).mp q; unfold isOn at q2; omega)], rfl⟩ (by omega) (by omega) rfl rfl dX10_isOn_35

set_option maxHeartbeats 4000000 in
set_option maxRecDepth 100000 in
/-- widthOn -/
theorem m_widthOn (l : Launch) (G : Gl) (w : Wd) (a : Nat) (ad : Nat → Nat) (t : Tw) (hT : TwAt G w a ad t) (s : Int) (c0 : Cat) (hC : RowIs (t.2 3) c0) (hs : 0 ≤ s ∧ s ≤ 8) : HM l yX10_widthOn cX10_widthOn 4 (some .int) 4 0 0 G [.ref a, .int (iI (s))] w (QI G (fun z_ w_ => z_ = wdOn c0 s ∧ w_ = w)) := by
  refine HM.mk (by decide +kernel) (Nat.le_of_ble_eq_true rfl) ?_
  intro p9 e9 s9 m9 a9 b9 meth9 c9 ls X hret hlk hnm hl H hR
  have hx := X.1.1
  have hb := X.1.2.1
  have hl : lv_has ls 4 [(0, .ref a), (1, .int (iI (s)))] := hl
  have hL : LK G [] := fun q h => absurd h List.not_mem_nil
  generalize ([] : List Loc) = locs at hL ⊢
  have hTb := hT
  have hT : TwS G w w a ad t := TwS.rf hT
  have hn40 := hC.n40
  have hsh8 := hC.sh8
  refine h_iconst hx hb dX10_widthOn_0 ?_
  refine lv_istore_n (lv' := [(2, .int (iI (0))), (0, .ref a), (1, .int (iI (s)))]) hx hb dX10_widthOn_1 rfl hl (by decide) rfl (fun ls hl => ?_)
  refine h_iconst hx hb dX10_widthOn_2 ?_
  refine lv_istore_n (lv' := [(3, .int (iI (0))), (2, .int (iI (0))), (0, .ref a), (1, .int (iI (s)))]) hx hb dX10_widthOn_3 rfl hl (by decide) rfl (fun ls hl => ?_)
  have LOOP_1 : ∀ (N_ : Nat) (k : Nat), (k ≤ cN c0) → (cN c0 - k) < N_ → ∀ (H : Heap) (locs : List Loc) (ls : Array Slot), Rp G w H → LK G locs → lv_has ls 4 [(0, .ref a), (1, .int (iI (s))), (2, .int (iI (sumN (fun k_ => if onB c0 k_ s = true then mWd (mk c0 k_) else 0) k))), (3, .int (iI ((k : Int))))] → W p9 l e9 (rmk 4 0 0) s9 m9 a9 b9 meth9 c9 H locs 0 0 (MQ b9 (QI G (fun z_ w_ => z_ = wdOn c0 s ∧ w_ = w)) a9 s9 0 0 (frG G)) (F0 m9 4 ls []) := by
    intro N_
    induction N_ with
    | zero => intro _ _ h_; exact absurd h_ (Nat.not_lt_zero _)
    | succ N_ ih_ =>
      intro k hk hN_ H locs ls hR hL hl
      have ih_1 := ih_
      clear ih_
      refine lv_iload_n hx hb dX10_widthOn_4 rfl (lv_at hl 3 rfl) ?_
      refine lv_aload_n hx hb dX10_widthOn_5 rfl (lv_at hl 0 rfl) ?_
      refine h_iconst hx hb dX10_widthOn_6 ?_
      -- call SpokenMarksModel.head
      refine h_kIp (h_runV X hR (m_head l G w a ad t hT.1 2 (by omega)) pn_yX10_head (hasC.of hT.1.ob rfl) q2789 q2791 qs44 q161 q2792 ⟨by decide, by decide⟩ hl.1 (Nat.le_of_ble_eq_true rfl) dX10_widthOn_7 ⟨by omega, by omega⟩) hL (fun H locs hR hL => ?_)
      refine W.eq (g2 := F0 m9 10 ls [.int (iI ((cN c0 : Int))), .int (iI ((k : Int)))]) (congrArg (fun z_ : Int => F0 m9 10 ls [.int (iI (z_)), .int (iI ((k : Int)))]) (show (hd t 2 : Int) = (cN c0 : Int) from (by exact hC.n))) ?_
      refine h_icmp_ge hx hb 37 dX10_widthOn_10 (by decide) (by omega) (by omega) (fun c_5 => ?_) (fun c_5 => ?_)
      ·
        refine lv_iload_n hx hb dX10_widthOn_37 rfl (lv_at hl 2 rfl) ?_
        exact h_ireturn hx hb hlk hret hR hL rfl ⟨by rw [show k = cN c0 by omega] <;> rfl, rfl⟩ (by omega) (by omega) rfl rfl dX10_widthOn_38
      ·
        refine lv_aload_n hx hb dX10_widthOn_13 rfl (lv_at hl 0 rfl) ?_
        refine lv_iload_n hx hb dX10_widthOn_14 rfl (lv_at hl 3 rfl) ?_
        refine lv_iload_n hx hb dX10_widthOn_15 rfl (lv_at hl 1 rfl) ?_
        -- call SpokenMarksModel.isOn
        refine h_kIp (h_runV X hR (m_isOn l G w a ad t hT.1 k s c0 hC (by omega) hs) pn_yX10_isOn (hasC.of hT.1.ob rfl) q3068 q3070 qs81 q161 q3071 ⟨by decide, by decide⟩ hl.1 (Nat.le_of_ble_eq_true rfl) dX10_widthOn_16 ⟨by omega, by omega⟩) hL (fun H locs hR hL => ?_)
        refine h_if_eq hx hb 31 dX10_widthOn_19 (by decide) (by have := b2i_01 (onB c0 k s = true); omega) (fun c_on => ?_) (fun c_on => ?_)
        ·
          refine h_iinc (lv' := [(3, .int (iI ((k : Int) + 1))), (0, .ref a), (1, .int (iI (s))), (2, .int (iI (sumN (fun k_ => if onB c0 k_ s = true then mWd (mk c0 k_) else 0) k)))]) hx hb dX10_widthOn_31 hl (k := 3) rfl (by decide) rfl (fun ls hl => ?_)
          refine lv_goto (tgt := 4) hx hb dX10_widthOn_34 (by decide) ?_
          have hl : lv_has ls 4 [(3, .int (iI ((k : Int) + 1))), (0, .ref a), (1, .int (iI (s))), (2, .int (iI (sumN (fun k_ => if onB c0 k_ s = true then mWd (mk c0 k_) else 0) (k + 1))))] := lv_conv hl (congrArg (fun z_ : Int => ([(3, .int (iI ((k : Int) + 1))), (0, .ref a), (1, .int (iI (s))), (2, .int (iI (z_)))] : List (Nat × Value))) (show (sumN (fun k_ => if onB c0 k_ s = true then mWd (mk c0 k_) else 0) k : Int) = sumN (fun k_ => if onB c0 k_ s = true then mWd (mk c0 k_) else 0) (k + 1) from (by rw [sumN_s]; first | (rw [if_pos (b2i_n1.mp c_on)]; done) | (rw [if_neg (b2i_0.mp c_on), Int.add_zero]; done) | (rw [b2i_t (b2i_n1.mp c_on)]; done) | (rw [b2i_f (b2i_0.mp c_on), Int.add_zero]; done) | rfl)))
          exact ih_1 (k + 1) (by omega) (by omega) _ _ _ hR hL (lv_sub hl [1, 2, 3, 0] rfl)
        ·
          refine lv_iload_n hx hb dX10_widthOn_22 rfl (lv_at hl 2 rfl) ?_
          refine lv_aload_n hx hb dX10_widthOn_23 rfl (lv_at hl 0 rfl) ?_
          refine lv_iload_n hx hb dX10_widthOn_24 rfl (lv_at hl 3 rfl) ?_
          refine h_iconst hx hb dX10_widthOn_25 ?_
          -- call SpokenMarksModel.of
          refine h_kIp (h_runV X hR (m_of l G w a ad t hT.1 k 1 (by omega) (by omega)) pn_yX10_of (hasC.of hT.1.ob rfl) q2827 q2829 qs53 q161 q2830 ⟨by decide, by decide⟩ hl.1 (Nat.le_of_ble_eq_true rfl) dX10_widthOn_26 ⟨by omega, by omega⟩) hL (fun H locs hR hL => ?_)
          refine W.eq (g2 := F0 m9 29 ls [.int (iI (mWd (mk c0 k))), .int (iI (sumN (fun k_ => if onB c0 k_ s = true then mWd (mk c0 k_) else 0) k))]) (congrArg (fun z_ : Int => F0 m9 29 ls [.int (iI (z_)), .int (iI (sumN (fun k_ => if onB c0 k_ s = true then mWd (mk c0 k_) else 0) k))]) (show (tof t k 1 : Int) = mWd (mk c0 k) from (by exact (hC.m k (by omega)).2.1))) ?_
          have hr_wd := mWd_r hC.s k (by omega)
          refine h_iadd hx hb dX10_widthOn_29 ?_
          refine lv_istore_n (lv' := [(2, .int (iI ((sumN (fun k_ => if onB c0 k_ s = true then mWd (mk c0 k_) else 0) k) + (mWd (mk c0 k))))), (0, .ref a), (1, .int (iI (s))), (3, .int (iI ((k : Int))))]) hx hb dX10_widthOn_30 rfl hl (by decide) rfl (fun ls hl => ?_)
          refine h_iinc (lv' := [(3, .int (iI ((k : Int) + 1))), (2, .int (iI ((sumN (fun k_ => if onB c0 k_ s = true then mWd (mk c0 k_) else 0) k) + (mWd (mk c0 k))))), (0, .ref a), (1, .int (iI (s)))]) hx hb dX10_widthOn_31 hl (k := 3) rfl (by decide) rfl (fun ls hl => ?_)
          refine lv_goto (tgt := 4) hx hb dX10_widthOn_34 (by decide) ?_
          have hl : lv_has ls 4 [(3, .int (iI ((k : Int) + 1))), (2, .int (iI (sumN (fun k_ => if onB c0 k_ s = true then mWd (mk c0 k_) else 0) (k + 1)))), (0, .ref a), (1, .int (iI (s)))] := lv_conv hl (congrArg (fun z_ : Int => ([(3, .int (iI ((k : Int) + 1))), (2, .int (iI (z_))), (0, .ref a), (1, .int (iI (s)))] : List (Nat × Value))) (show ((sumN (fun k_ => if onB c0 k_ s = true then mWd (mk c0 k_) else 0) k) + (mWd (mk c0 k)) : Int) = sumN (fun k_ => if onB c0 k_ s = true then mWd (mk c0 k_) else 0) (k + 1) from (by rw [sumN_s]; first | (rw [if_pos (b2i_n1.mp c_on)]; done) | (rw [if_neg (b2i_0.mp c_on), Int.add_zero]; done) | (rw [b2i_t (b2i_n1.mp c_on)]; done) | (rw [b2i_f (b2i_0.mp c_on), Int.add_zero]; done) | rfl)))
          exact ih_1 (k + 1) (by omega) (by omega) _ _ _ hR hL (lv_sub hl [2, 3, 1, 0] rfl)
  exact LOOP_1 _ 0 (by omega) (Nat.lt_succ_self _) _ _ _ hR hL (lv_sub hl [2, 3, 1, 0] rfl)

set_option maxHeartbeats 4000000 in
set_option maxRecDepth 100000 in
/-- marksOn -/
theorem m_marksOn (l : Launch) (G : Gl) (w : Wd) (a : Nat) (ad : Nat → Nat) (t : Tw) (hT : TwAt G w a ad t) (s : Int) (c0 : Cat) (hC : RowIs (t.2 3) c0) (hs : 0 ≤ s ∧ s ≤ 8) : HM l yX10_marksOn cX10_marksOn 4 (some .int) 4 0 0 G [.ref a, .int (iI (s))] w (QI G (fun z_ w_ => z_ = mkOn c0 s ∧ w_ = w)) := by
  refine HM.mk (by decide +kernel) (Nat.le_of_ble_eq_true rfl) ?_
  intro p9 e9 s9 m9 a9 b9 meth9 c9 ls X hret hlk hnm hl H hR
  have hx := X.1.1
  have hb := X.1.2.1
  have hl : lv_has ls 4 [(0, .ref a), (1, .int (iI (s)))] := hl
  have hL : LK G [] := fun q h => absurd h List.not_mem_nil
  generalize ([] : List Loc) = locs at hL ⊢
  have hTb := hT
  have hT : TwS G w w a ad t := TwS.rf hT
  have hn40 := hC.n40
  have hsh8 := hC.sh8
  refine h_iconst hx hb dX10_marksOn_0 ?_
  refine lv_istore_n (lv' := [(2, .int (iI (0))), (0, .ref a), (1, .int (iI (s)))]) hx hb dX10_marksOn_1 rfl hl (by decide) rfl (fun ls hl => ?_)
  refine h_iconst hx hb dX10_marksOn_2 ?_
  refine lv_istore_n (lv' := [(3, .int (iI (0))), (2, .int (iI (0))), (0, .ref a), (1, .int (iI (s)))]) hx hb dX10_marksOn_3 rfl hl (by decide) rfl (fun ls hl => ?_)
  have LOOP_1 : ∀ (N_ : Nat) (k : Nat), (k ≤ cN c0) → (cN c0 - k) < N_ → ∀ (H : Heap) (locs : List Loc) (ls : Array Slot), Rp G w H → LK G locs → lv_has ls 4 [(0, .ref a), (1, .int (iI (s))), (2, .int (iI (sumN (fun k_ => b2i (onB c0 k_ s = true)) k))), (3, .int (iI ((k : Int))))] → W p9 l e9 (rmk 4 0 0) s9 m9 a9 b9 meth9 c9 H locs 0 0 (MQ b9 (QI G (fun z_ w_ => z_ = mkOn c0 s ∧ w_ = w)) a9 s9 0 0 (frG G)) (F0 m9 4 ls []) := by
    intro N_
    induction N_ with
    | zero => intro _ _ h_; exact absurd h_ (Nat.not_lt_zero _)
    | succ N_ ih_ =>
      intro k hk hN_ H locs ls hR hL hl
      have ih_1 := ih_
      clear ih_
      refine lv_iload_n hx hb dX10_marksOn_4 rfl (lv_at hl 3 rfl) ?_
      refine lv_aload_n hx hb dX10_marksOn_5 rfl (lv_at hl 0 rfl) ?_
      refine h_iconst hx hb dX10_marksOn_6 ?_
      -- call SpokenMarksModel.head
      refine h_kIp (h_runV X hR (m_head l G w a ad t hT.1 2 (by omega)) pn_yX10_head (hasC.of hT.1.ob rfl) q2789 q2791 qs44 q161 q2792 ⟨by decide, by decide⟩ hl.1 (Nat.le_of_ble_eq_true rfl) dX10_marksOn_7 ⟨by omega, by omega⟩) hL (fun H locs hR hL => ?_)
      refine W.eq (g2 := F0 m9 10 ls [.int (iI ((cN c0 : Int))), .int (iI ((k : Int)))]) (congrArg (fun z_ : Int => F0 m9 10 ls [.int (iI (z_)), .int (iI ((k : Int)))]) (show (hd t 2 : Int) = (cN c0 : Int) from (by exact hC.n))) ?_
      refine h_icmp_ge hx hb 31 dX10_marksOn_10 (by decide) (by omega) (by omega) (fun c_5 => ?_) (fun c_5 => ?_)
      ·
        refine lv_iload_n hx hb dX10_marksOn_31 rfl (lv_at hl 2 rfl) ?_
        exact h_ireturn hx hb hlk hret hR hL rfl ⟨by rw [show k = cN c0 by omega] <;> rfl, rfl⟩ (by omega) (by omega) rfl rfl dX10_marksOn_32
      ·
        refine lv_aload_n hx hb dX10_marksOn_13 rfl (lv_at hl 0 rfl) ?_
        refine lv_iload_n hx hb dX10_marksOn_14 rfl (lv_at hl 3 rfl) ?_
        refine lv_iload_n hx hb dX10_marksOn_15 rfl (lv_at hl 1 rfl) ?_
        -- call SpokenMarksModel.isOn
        refine h_kIp (h_runV X hR (m_isOn l G w a ad t hT.1 k s c0 hC (by omega) hs) pn_yX10_isOn (hasC.of hT.1.ob rfl) q3068 q3070 qs81 q161 q3071 ⟨by decide, by decide⟩ hl.1 (Nat.le_of_ble_eq_true rfl) dX10_marksOn_16 ⟨by omega, by omega⟩) hL (fun H locs hR hL => ?_)
        refine h_if_eq hx hb 25 dX10_marksOn_19 (by decide) (by have := b2i_01 (onB c0 k s = true); omega) (fun c_on => ?_) (fun c_on => ?_)
        ·
          refine h_iinc (lv' := [(3, .int (iI ((k : Int) + 1))), (0, .ref a), (1, .int (iI (s))), (2, .int (iI (sumN (fun k_ => b2i (onB c0 k_ s = true)) k)))]) hx hb dX10_marksOn_25 hl (k := 3) rfl (by decide) rfl (fun ls hl => ?_)
          refine lv_goto (tgt := 4) hx hb dX10_marksOn_28 (by decide) ?_
          have hl : lv_has ls 4 [(3, .int (iI ((k : Int) + 1))), (0, .ref a), (1, .int (iI (s))), (2, .int (iI (sumN (fun k_ => b2i (onB c0 k_ s = true)) (k + 1))))] := lv_conv hl (congrArg (fun z_ : Int => ([(3, .int (iI ((k : Int) + 1))), (0, .ref a), (1, .int (iI (s))), (2, .int (iI (z_)))] : List (Nat × Value))) (show (sumN (fun k_ => b2i (onB c0 k_ s = true)) k : Int) = sumN (fun k_ => b2i (onB c0 k_ s = true)) (k + 1) from (by rw [sumN_s]; first | (rw [if_pos (b2i_n1.mp c_on)]; done) | (rw [if_neg (b2i_0.mp c_on), Int.add_zero]; done) | (rw [b2i_t (b2i_n1.mp c_on)]; done) | (rw [b2i_f (b2i_0.mp c_on), Int.add_zero]; done) | rfl)))
          exact ih_1 (k + 1) (by omega) (by omega) _ _ _ hR hL (lv_sub hl [1, 2, 3, 0] rfl)
        ·
          refine h_iinc (lv' := [(2, .int (iI (sumN (fun k_ => b2i (onB c0 k_ s = true)) k + 1))), (0, .ref a), (1, .int (iI (s))), (3, .int (iI ((k : Int))))]) hx hb dX10_marksOn_22 hl (k := 2) rfl (by decide) rfl (fun ls hl => ?_)
          refine h_iinc (lv' := [(3, .int (iI ((k : Int) + 1))), (2, .int (iI (sumN (fun k_ => b2i (onB c0 k_ s = true)) k + 1))), (0, .ref a), (1, .int (iI (s)))]) hx hb dX10_marksOn_25 hl (k := 3) rfl (by decide) rfl (fun ls hl => ?_)
          refine lv_goto (tgt := 4) hx hb dX10_marksOn_28 (by decide) ?_
          have hl : lv_has ls 4 [(3, .int (iI ((k : Int) + 1))), (2, .int (iI (sumN (fun k_ => b2i (onB c0 k_ s = true)) (k + 1)))), (0, .ref a), (1, .int (iI (s)))] := lv_conv hl (congrArg (fun z_ : Int => ([(3, .int (iI ((k : Int) + 1))), (2, .int (iI (z_))), (0, .ref a), (1, .int (iI (s)))] : List (Nat × Value))) (show (sumN (fun k_ => b2i (onB c0 k_ s = true)) k + 1 : Int) = sumN (fun k_ => b2i (onB c0 k_ s = true)) (k + 1) from (by rw [sumN_s]; first | (rw [if_pos (b2i_n1.mp c_on)]; done) | (rw [if_neg (b2i_0.mp c_on), Int.add_zero]; done) | (rw [b2i_t (b2i_n1.mp c_on)]; done) | (rw [b2i_f (b2i_0.mp c_on), Int.add_zero]; done) | rfl)))
          exact ih_1 (k + 1) (by omega) (by omega) _ _ _ hR hL (lv_sub hl [2, 3, 1, 0] rfl)
  exact LOOP_1 _ 0 (by omega) (Nat.lt_succ_self _) _ _ _ hR hL (lv_sub hl [2, 3, 1, 0] rfl)

set_option maxHeartbeats 4000000 in
set_option maxRecDepth 100000 in
/-- over -/
theorem m_over (l : Launch) (G : Gl) (w : Wd) (a : Nat) (ad : Nat → Nat) (t : Tw) (hT : TwAt G w a ad t)  (c0 : Cat) (hC : RowIs (t.2 3) c0) : HM l yX10_over cX10_over 3 (some .int) 5 0 0 G [.ref a] w (QI G (fun z_ w_ => z_ = ovr c0 ∧ w_ = w)) := by
  refine HM.mk (by decide +kernel) (Nat.le_of_ble_eq_true rfl) ?_
  intro p9 e9 s9 m9 a9 b9 meth9 c9 ls X hret hlk hnm hl H hR
  have hx := X.1.1
  have hb := X.1.2.1
  have hl : lv_has ls 3 [(0, .ref a)] := hl
  have hL : LK G [] := fun q h => absurd h List.not_mem_nil
  generalize ([] : List Loc) = locs at hL ⊢
  have hTb := hT
  have hT : TwS G w w a ad t := TwS.rf hT
  have hn40 := hC.n40
  have hsh8 := hC.sh8
  have hrm := hC.s.2.1
  refine h_iconst hx hb dX10_over_0 ?_
  refine lv_istore_n (lv' := [(1, .int (iI (0))), (0, .ref a)]) hx hb dX10_over_1 rfl hl (by decide) rfl (fun ls hl => ?_)
  refine h_iconst hx hb dX10_over_2 ?_
  refine lv_istore_n (lv' := [(2, .int (iI (0))), (1, .int (iI (0))), (0, .ref a)]) hx hb dX10_over_3 rfl hl (by decide) rfl (fun ls hl => ?_)
  have LOOP_1 : ∀ (N_ : Nat) (k : Nat), ((k : Int) ≤ cSh c0) → ((cSh c0).toNat - k) < N_ → ∀ (H : Heap) (locs : List Loc) (ls : Array Slot), Rp G w H → LK G locs → lv_has ls 3 [(0, .ref a), (1, .int (iI (sumN (fun k_ => b2i (cRm c0 < wdOn c0 k_)) k))), (2, .int (iI ((k : Int))))] → W p9 l e9 (rmk 5 0 0) s9 m9 a9 b9 meth9 c9 H locs 0 0 (MQ b9 (QI G (fun z_ w_ => z_ = ovr c0 ∧ w_ = w)) a9 s9 0 0 (frG G)) (F0 m9 4 ls []) := by
    intro N_
    induction N_ with
    | zero => intro _ _ h_; exact absurd h_ (Nat.not_lt_zero _)
    | succ N_ ih_ =>
      intro k hk hN_ H locs ls hR hL hl
      have ih_1 := ih_
      clear ih_
      refine lv_iload_n hx hb dX10_over_4 rfl (lv_at hl 2 rfl) ?_
      refine lv_aload_n hx hb dX10_over_5 rfl (lv_at hl 0 rfl) ?_
      refine h_iconst hx hb dX10_over_6 ?_
      -- call SpokenMarksModel.head
      refine h_kIp (h_runV X hR (m_head l G w a ad t hT.1 0 (by omega)) pn_yX10_head (hasC.of hT.1.ob rfl) q2789 q2791 qs44 q161 q2792 ⟨by decide, by decide⟩ hl.1 (Nat.le_of_ble_eq_true rfl) dX10_over_7 ⟨by omega, by omega⟩) hL (fun H locs hR hL => ?_)
      refine W.eq (g2 := F0 m9 10 ls [.int (iI (cSh c0)), .int (iI ((k : Int)))]) (congrArg (fun z_ : Int => F0 m9 10 ls [.int (iI (z_)), .int (iI ((k : Int)))]) (show (hd t 0 : Int) = cSh c0 from (by exact hC.sh))) ?_
      refine h_icmp_ge hx hb 35 dX10_over_10 (by decide) (by omega) (by omega) (fun c_5 => ?_) (fun c_5 => ?_)
      ·
        refine lv_iload_n hx hb dX10_over_35 rfl (lv_at hl 1 rfl) ?_
        exact h_ireturn hx hb hlk hret hR hL rfl ⟨by rw [show k = (cSh c0).toNat by omega]; rfl, rfl⟩ (by omega) (by omega) rfl rfl dX10_over_36
      ·
        refine lv_aload_n hx hb dX10_over_13 rfl (lv_at hl 0 rfl) ?_
        refine lv_iload_n hx hb dX10_over_14 rfl (lv_at hl 2 rfl) ?_
        -- call SpokenMarksModel.widthOn
        refine h_kIp (h_runV X hR (m_widthOn l G w a ad t hT.1 ((k : Int)) c0 hC (by omega)) pn_yX10_widthOn (hasC.of hT.1.ob rfl) q3064 q3066 qs80 q161 q3067 ⟨by decide, by decide⟩ hl.1 (Nat.le_of_ble_eq_true rfl) dX10_over_15 ⟨by omega, by omega⟩) hL (fun H locs hR hL => ?_)
        have hwr := wdOn_r hC.s (k : Int)
        refine lv_aload_n hx hb dX10_over_18 rfl (lv_at hl 0 rfl) ?_
        refine h_iconst hx hb dX10_over_19 ?_
        -- call SpokenMarksModel.head
        refine h_kIp (h_runV X hR (m_head l G w a ad t hT.1 1 (by omega)) pn_yX10_head (hasC.of hT.1.ob rfl) q2789 q2791 qs44 q161 q2792 ⟨by decide, by decide⟩ hl.1 (Nat.le_of_ble_eq_true rfl) dX10_over_20 ⟨by omega, by omega⟩) hL (fun H locs hR hL => ?_)
        refine W.eq (g2 := F0 m9 23 ls [.int (iI (cRm c0)), .int (iI (wdOn c0 ((k : Int))))]) (congrArg (fun z_ : Int => F0 m9 23 ls [.int (iI (z_)), .int (iI (wdOn c0 ((k : Int))))]) (show (hd t 1 : Int) = cRm c0 from (hC.rm))) ?_
        refine h_icmp_le hx hb 29 dX10_over_23 (by decide) (by omega) (by omega) (fun c_w => ?_) (fun c_w => ?_)
        ·
          refine h_iinc (lv' := [(2, .int (iI ((k : Int) + 1))), (0, .ref a), (1, .int (iI (sumN (fun k_ => b2i (cRm c0 < wdOn c0 k_)) k)))]) hx hb dX10_over_29 hl (k := 2) rfl (by decide) rfl (fun ls hl => ?_)
          refine lv_goto (tgt := 4) hx hb dX10_over_32 (by decide) ?_
          have hl : lv_has ls 3 [(2, .int (iI ((k : Int) + 1))), (0, .ref a), (1, .int (iI (sumN (fun k_ => b2i (cRm c0 < wdOn c0 k_)) (k + 1))))] := lv_conv hl (congrArg (fun z_ : Int => ([(2, .int (iI ((k : Int) + 1))), (0, .ref a), (1, .int (iI (z_)))] : List (Nat × Value))) (show (sumN (fun k_ => b2i (cRm c0 < wdOn c0 k_)) k : Int) = sumN (fun k_ => b2i (cRm c0 < wdOn c0 k_)) (k + 1) from (by rw [sumN_s]; first | (rw [b2i_t (show cRm c0 < wdOn c0 k by omega)]; done) | (rw [b2i_f (show ¬ cRm c0 < wdOn c0 k by omega), Int.add_zero]; done))))
          exact ih_1 (k + 1) (by omega) (by omega) _ _ _ hR hL (lv_sub hl [1, 2, 0] rfl)
        ·
          refine h_iinc (lv' := [(1, .int (iI (sumN (fun k_ => b2i (cRm c0 < wdOn c0 k_)) k + 1))), (0, .ref a), (2, .int (iI ((k : Int))))]) hx hb dX10_over_26 hl (k := 1) rfl (by decide) rfl (fun ls hl => ?_)
          refine h_iinc (lv' := [(2, .int (iI ((k : Int) + 1))), (1, .int (iI (sumN (fun k_ => b2i (cRm c0 < wdOn c0 k_)) k + 1))), (0, .ref a)]) hx hb dX10_over_29 hl (k := 2) rfl (by decide) rfl (fun ls hl => ?_)
          refine lv_goto (tgt := 4) hx hb dX10_over_32 (by decide) ?_
          have hl : lv_has ls 3 [(2, .int (iI ((k : Int) + 1))), (1, .int (iI (sumN (fun k_ => b2i (cRm c0 < wdOn c0 k_)) (k + 1)))), (0, .ref a)] := lv_conv hl (congrArg (fun z_ : Int => ([(2, .int (iI ((k : Int) + 1))), (1, .int (iI (z_))), (0, .ref a)] : List (Nat × Value))) (show (sumN (fun k_ => b2i (cRm c0 < wdOn c0 k_)) k + 1 : Int) = sumN (fun k_ => b2i (cRm c0 < wdOn c0 k_)) (k + 1) from (by rw [sumN_s]; first | (rw [b2i_t (show cRm c0 < wdOn c0 k by omega)]; done) | (rw [b2i_f (show ¬ cRm c0 < wdOn c0 k by omega), Int.add_zero]; done))))
          exact ih_1 (k + 1) (by omega) (by omega) _ _ _ hR hL (lv_sub hl [2, 1, 0] rfl)
  exact LOOP_1 _ 0 (by omega) (Nat.lt_succ_self _) _ _ _ hR hL (lv_sub hl [2, 1, 0] rfl)

set_option maxHeartbeats 4000000 in
set_option maxRecDepth 100000 in
/-- allWidths -/
theorem m_allWidths (l : Launch) (G : Gl) (w : Wd) (a : Nat) (ad : Nat → Nat) (t : Tw) (hT : TwAt G w a ad t)  (c0 : Cat) (hC : RowIs (t.2 3) c0) : HM l yX10_allWidths cX10_allWidths 3 (some .int) 2 0 0 G [.ref a] w (QI G (fun z_ w_ => z_ = wds c0 ∧ w_ = w)) := by
  refine HM.mk (by decide +kernel) (Nat.le_of_ble_eq_true rfl) ?_
  intro p9 e9 s9 m9 a9 b9 meth9 c9 ls X hret hlk hnm hl H hR
  have hx := X.1.1
  have hb := X.1.2.1
  have hl : lv_has ls 3 [(0, .ref a)] := hl
  have hL : LK G [] := fun q h => absurd h List.not_mem_nil
  generalize ([] : List Loc) = locs at hL ⊢
  have hTb := hT
  have hT : TwS G w w a ad t := TwS.rf hT
  have hn40 := hC.n40
  have hsh8 := hC.sh8
  refine h_iconst hx hb dX10_allWidths_0 ?_
  refine lv_istore_n (lv' := [(1, .int (iI (0))), (0, .ref a)]) hx hb dX10_allWidths_1 rfl hl (by decide) rfl (fun ls hl => ?_)
  refine h_iconst hx hb dX10_allWidths_2 ?_
  refine lv_istore_n (lv' := [(2, .int (iI (0))), (1, .int (iI (0))), (0, .ref a)]) hx hb dX10_allWidths_3 rfl hl (by decide) rfl (fun ls hl => ?_)
  have LOOP_1 : ∀ (N_ : Nat) (k : Nat), (k ≤ cN c0) → (cN c0 - k) < N_ → ∀ (H : Heap) (locs : List Loc) (ls : Array Slot), Rp G w H → LK G locs → lv_has ls 3 [(0, .ref a), (1, .int (iI (sumN (fun k_ => mWd (mk c0 k_)) k))), (2, .int (iI ((k : Int))))] → W p9 l e9 (rmk 2 0 0) s9 m9 a9 b9 meth9 c9 H locs 0 0 (MQ b9 (QI G (fun z_ w_ => z_ = wds c0 ∧ w_ = w)) a9 s9 0 0 (frG G)) (F0 m9 4 ls []) := by
    intro N_
    induction N_ with
    | zero => intro _ _ h_; exact absurd h_ (Nat.not_lt_zero _)
    | succ N_ ih_ =>
      intro k hk hN_ H locs ls hR hL hl
      have ih_1 := ih_
      clear ih_
      refine lv_iload_n hx hb dX10_allWidths_4 rfl (lv_at hl 2 rfl) ?_
      refine lv_aload_n hx hb dX10_allWidths_5 rfl (lv_at hl 0 rfl) ?_
      refine h_iconst hx hb dX10_allWidths_6 ?_
      -- call SpokenMarksModel.head
      refine h_kIp (h_runV X hR (m_head l G w a ad t hT.1 2 (by omega)) pn_yX10_head (hasC.of hT.1.ob rfl) q2789 q2791 qs44 q161 q2792 ⟨by decide, by decide⟩ hl.1 (Nat.le_of_ble_eq_true rfl) dX10_allWidths_7 ⟨by omega, by omega⟩) hL (fun H locs hR hL => ?_)
      refine W.eq (g2 := F0 m9 10 ls [.int (iI ((cN c0 : Int))), .int (iI ((k : Int)))]) (congrArg (fun z_ : Int => F0 m9 10 ls [.int (iI (z_)), .int (iI ((k : Int)))]) (show (hd t 2 : Int) = (cN c0 : Int) from (by exact hC.n))) ?_
      refine h_icmp_ge hx hb 28 dX10_allWidths_10 (by decide) (by omega) (by omega) (fun c_5 => ?_) (fun c_5 => ?_)
      ·
        refine lv_iload_n hx hb dX10_allWidths_28 rfl (lv_at hl 1 rfl) ?_
        exact h_ireturn hx hb hlk hret hR hL rfl ⟨by rw [show k = cN c0 by omega] <;> rfl, rfl⟩ (by omega) (by omega) rfl rfl dX10_allWidths_29
      ·
        refine lv_iload_n hx hb dX10_allWidths_13 rfl (lv_at hl 1 rfl) ?_
        refine lv_aload_n hx hb dX10_allWidths_14 rfl (lv_at hl 0 rfl) ?_
        refine lv_iload_n hx hb dX10_allWidths_15 rfl (lv_at hl 2 rfl) ?_
        refine h_iconst hx hb dX10_allWidths_16 ?_
        -- call SpokenMarksModel.of
        refine h_kIp (h_runV X hR (m_of l G w a ad t hT.1 k 1 (by omega) (by omega)) pn_yX10_of (hasC.of hT.1.ob rfl) q2827 q2829 qs53 q161 q2830 ⟨by decide, by decide⟩ hl.1 (Nat.le_of_ble_eq_true rfl) dX10_allWidths_17 ⟨by omega, by omega⟩) hL (fun H locs hR hL => ?_)
        refine W.eq (g2 := F0 m9 20 ls [.int (iI (mWd (mk c0 k))), .int (iI (sumN (fun k_ => mWd (mk c0 k_)) k))]) (congrArg (fun z_ : Int => F0 m9 20 ls [.int (iI (z_)), .int (iI (sumN (fun k_ => mWd (mk c0 k_)) k))]) (show (tof t k 1 : Int) = mWd (mk c0 k) from (by exact (hC.m k (by omega)).2.1))) ?_
        have hr_wd := mWd_r hC.s k (by omega)
        refine h_iadd hx hb dX10_allWidths_20 ?_
        refine lv_istore_n (lv' := [(1, .int (iI ((sumN (fun k_ => mWd (mk c0 k_)) k) + (mWd (mk c0 k))))), (0, .ref a), (2, .int (iI ((k : Int))))]) hx hb dX10_allWidths_21 rfl hl (by decide) rfl (fun ls hl => ?_)
        refine h_iinc (lv' := [(2, .int (iI ((k : Int) + 1))), (1, .int (iI ((sumN (fun k_ => mWd (mk c0 k_)) k) + (mWd (mk c0 k))))), (0, .ref a)]) hx hb dX10_allWidths_22 hl (k := 2) rfl (by decide) rfl (fun ls hl => ?_)
        refine lv_goto (tgt := 4) hx hb dX10_allWidths_25 (by decide) ?_
        have hl : lv_has ls 3 [(2, .int (iI ((k : Int) + 1))), (1, .int (iI (sumN (fun k_ => mWd (mk c0 k_)) (k + 1)))), (0, .ref a)] := lv_conv hl (congrArg (fun z_ : Int => ([(2, .int (iI ((k : Int) + 1))), (1, .int (iI (z_))), (0, .ref a)] : List (Nat × Value))) (show ((sumN (fun k_ => mWd (mk c0 k_)) k) + (mWd (mk c0 k)) : Int) = sumN (fun k_ => mWd (mk c0 k_)) (k + 1) from (rfl)))
        exact ih_1 (k + 1) (by omega) (by omega) _ _ _ hR hL (lv_sub hl [2, 1, 0] rfl)
  exact LOOP_1 _ 0 (by omega) (Nat.lt_succ_self _) _ _ _ hR hL (lv_sub hl [2, 1, 0] rfl)

set_option maxHeartbeats 4000000 in
set_option maxRecDepth 100000 in
/-- closest -/
theorem m_closest (l : Launch) (G : Gl) (w : Wd) (a : Nat) (ad : Nat → Nat) (t : Tw) (hT : TwAt G w a ad t)  (c0 : Cat) (hC : RowIs (t.2 3) c0) : HM l yX10_closest cX10_closest 4 (some .int) 2 0 0 G [.ref a] w (QI G (fun z_ w_ => z_ = lsT c0 (cN c0 - 1) ∧ w_ = w)) := by
  refine HM.mk (by decide +kernel) (Nat.le_of_ble_eq_true rfl) ?_
  intro p9 e9 s9 m9 a9 b9 meth9 c9 ls X hret hlk hnm hl H hR
  have hx := X.1.1
  have hb := X.1.2.1
  have hl : lv_has ls 4 [(0, .ref a)] := hl
  have hL : LK G [] := fun q h => absurd h List.not_mem_nil
  generalize ([] : List Loc) = locs at hL ⊢
  have hTb := hT
  have hT : TwS G w w a ad t := TwS.rf hT
  have hn40 := hC.n40
  have hsh8 := hC.sh8
  refine h_iconst hx hb dX10_closest_0 ?_
  refine lv_istore_n (lv' := [(1, .int (iI (0))), (0, .ref a)]) hx hb dX10_closest_1 rfl hl (by decide) rfl (fun ls hl => ?_)
  refine h_iconst hx hb dX10_closest_2 ?_
  refine lv_istore_n (lv' := [(2, .int (iI (1))), (1, .int (iI (0))), (0, .ref a)]) hx hb dX10_closest_3 rfl hl (by decide) rfl (fun ls hl => ?_)
  have LOOP_1 : ∀ (N_ : Nat) (j : Nat), (j = 0 ∨ j + 1 ≤ cN c0) → (cN c0 - j) < N_ → ∀ (H : Heap) (locs : List Loc) (ls : Array Slot), Rp G w H → LK G locs → lv_has ls 4 [(0, .ref a), (1, .int (iI (lsT c0 j))), (2, .int (iI ((j : Int) + 1)))] → W p9 l e9 (rmk 2 0 0) s9 m9 a9 b9 meth9 c9 H locs 0 0 (MQ b9 (QI G (fun z_ w_ => z_ = lsT c0 (cN c0 - 1) ∧ w_ = w)) a9 s9 0 0 (frG G)) (F0 m9 4 ls []) := by
    intro N_
    induction N_ with
    | zero => intro _ _ h_; exact absurd h_ (Nat.not_lt_zero _)
    | succ N_ ih_ =>
      intro j hj hN_ H locs ls hR hL hl
      have ih_1 := ih_
      clear ih_
      refine lv_iload_n hx hb dX10_closest_4 rfl (lv_at hl 2 rfl) ?_
      refine lv_aload_n hx hb dX10_closest_5 rfl (lv_at hl 0 rfl) ?_
      refine h_iconst hx hb dX10_closest_6 ?_
      -- call SpokenMarksModel.head
      refine h_kIp (h_runV X hR (m_head l G w a ad t hT.1 2 (by omega)) pn_yX10_head (hasC.of hT.1.ob rfl) q2789 q2791 qs44 q161 q2792 ⟨by decide, by decide⟩ hl.1 (Nat.le_of_ble_eq_true rfl) dX10_closest_7 ⟨by omega, by omega⟩) hL (fun H locs hR hL => ?_)
      refine W.eq (g2 := F0 m9 10 ls [.int (iI ((cN c0 : Int))), .int (iI ((j : Int) + 1))]) (congrArg (fun z_ : Int => F0 m9 10 ls [.int (iI (z_)), .int (iI ((j : Int) + 1))]) (show (hd t 2 : Int) = (cN c0 : Int) from (by exact hC.n))) ?_
      refine h_icmp_ge hx hb 50 dX10_closest_10 (by decide) (by omega) (by omega) (fun c_5 => ?_) (fun c_5 => ?_)
      ·
        refine lv_iload_n hx hb dX10_closest_50 rfl (lv_at hl 1 rfl) ?_
        exact h_ireturn hx hb hlk hret hR hL rfl ⟨by rw [show cN c0 - 1 = j by omega], rfl⟩ (by omega) (by omega) rfl rfl dX10_closest_51
      ·
        refine lv_aload_n hx hb dX10_closest_13 rfl (lv_at hl 0 rfl) ?_
        refine lv_iload_n hx hb dX10_closest_14 rfl (lv_at hl 2 rfl) ?_
        refine h_iconst hx hb dX10_closest_15 ?_
        -- call SpokenMarksModel.of
        refine h_kIp (h_runV X hR (m_of l G w a ad t hT.1 (j + 1) 2 (by omega) (by omega)) pn_yX10_of (hasC.of hT.1.ob rfl) q2827 q2829 qs53 q161 q2830 ⟨by decide, by decide⟩ hl.1 (Nat.le_of_ble_eq_true rfl) dX10_closest_16 ⟨by omega, by omega⟩) hL (fun H locs hR hL => ?_)
        refine W.eq (g2 := F0 m9 19 ls [.int (iI (mPl (mk c0 (j + 1))))]) (congrArg (fun z_ : Int => F0 m9 19 ls [.int (iI (z_))]) (show (tof t (j + 1 : Nat) 2 : Int) = mPl (mk c0 (j + 1)) from (by exact (hC.m (j + 1) (by omega)).2.2.1))) ?_
        have hr_p1 := mPl_r hC.s (j + 1) (by omega)
        refine lv_aload_n hx hb dX10_closest_19 rfl (lv_at hl 0 rfl) ?_
        refine lv_iload_n hx hb dX10_closest_20 rfl (lv_at hl 2 rfl) ?_
        refine h_iconst hx hb dX10_closest_21 ?_
        refine h_isub hx hb dX10_closest_22 ?_
        refine h_iconst hx hb dX10_closest_23 ?_
        refine W.eq (g2 := F0 m9 24 ls [.int (iI (2)), .int (iI ((j : Int))), .ref a, .int (iI (mPl (mk c0 (j + 1))))]) (congrArg (fun z_ : Int => F0 m9 24 ls [.int (iI (2)), .int (iI (z_)), .ref a, .int (iI (mPl (mk c0 (j + 1))))]) (show (((j : Int) + 1) - 1 : Int) = (j : Int) from (by omega))) ?_
        -- call SpokenMarksModel.of
        refine h_kIp (h_runV X hR (m_of l G w a ad t hT.1 j 2 (by omega) (by omega)) pn_yX10_of (hasC.of hT.1.ob rfl) q2827 q2829 qs53 q161 q2830 ⟨by decide, by decide⟩ hl.1 (Nat.le_of_ble_eq_true rfl) dX10_closest_24 ⟨by omega, by omega⟩) hL (fun H locs hR hL => ?_)
        refine W.eq (g2 := F0 m9 27 ls [.int (iI (mPl (mk c0 j))), .int (iI (mPl (mk c0 (j + 1))))]) (congrArg (fun z_ : Int => F0 m9 27 ls [.int (iI (z_)), .int (iI (mPl (mk c0 (j + 1))))]) (show (tof t j 2 : Int) = mPl (mk c0 j) from ((hC.m j (by omega)).2.2.1))) ?_
        have hr_p0 := mPl_r hC.s j (by omega)
        refine h_isub hx hb dX10_closest_27 ?_
        refine lv_istore_n (lv' := [(3, .int (iI ((mPl (mk c0 (j + 1))) - (mPl (mk c0 j))))), (0, .ref a), (1, .int (iI (lsT c0 j))), (2, .int (iI ((j : Int) + 1)))]) hx hb dX10_closest_28 rfl hl (by decide) rfl (fun ls hl => ?_)
        refine lv_iload_n hx hb dX10_closest_29 rfl (lv_at hl 2 rfl) ?_
        have hl_r := lsT_r hC.s j (by omega)
        refine h_if_eq hx hb 38 dX10_closest_30 (by decide) (by omega) (fun c_z => ?_) (fun c_z => ?_)
        ·
          refine lv_iload_n hx hb dX10_closest_38 rfl (lv_at hl 0 rfl) ?_
          refine lv_goto (tgt := 43) hx hb dX10_closest_39 (by decide) ?_
          refine lv_istore_n (lv' := [(1, .int (iI ((mPl (mk c0 (j + 1))) - (mPl (mk c0 j))))), (3, .int (iI ((mPl (mk c0 (j + 1))) - (mPl (mk c0 j))))), (0, .ref a), (2, .int (iI ((j : Int) + 1)))]) hx hb dX10_closest_43 rfl hl (by decide) rfl (fun ls hl => ?_)
          refine h_iinc (lv' := [(2, .int (iI ((j : Int) + 1 + 1))), (1, .int (iI ((mPl (mk c0 (j + 1))) - (mPl (mk c0 j))))), (3, .int (iI ((mPl (mk c0 (j + 1))) - (mPl (mk c0 j))))), (0, .ref a)]) hx hb dX10_closest_44 hl (k := 3) rfl (by decide) rfl (fun ls hl => ?_)
          refine lv_goto (tgt := 4) hx hb dX10_closest_47 (by decide) ?_
          have hl : lv_has ls 4 [(2, .int (iI ((j : Int) + 1 + 1))), (1, .int (iI (lsT c0 (j + 1)))), (3, .int (iI ((mPl (mk c0 (j + 1))) - (mPl (mk c0 j))))), (0, .ref a)] := lv_conv hl (congrArg (fun z_ : Int => ([(2, .int (iI ((j : Int) + 1 + 1))), (1, .int (iI (z_))), (3, .int (iI ((mPl (mk c0 (j + 1))) - (mPl (mk c0 j))))), (0, .ref a)] : List (Nat × Value))) (show ((mPl (mk c0 (j + 1))) - (mPl (mk c0 j)) : Int) = lsT c0 (j + 1) from (by rw [lsT]; first | (rw [if_pos (by omega)]; done) | (rw [if_neg (by omega)]; done))))
          exact ih_1 (j + 1) (by omega) (by omega) _ _ _ hR hL (lv_sub hl [3, 1, 0] rfl)
        ·
          refine lv_iload_n hx hb dX10_closest_33 rfl (lv_at hl 0 rfl) ?_
          refine lv_iload_n hx hb dX10_closest_34 rfl (lv_at hl 2 rfl) ?_
          refine h_icmp_ge hx hb 42 dX10_closest_35 (by decide) (by omega) (by omega) (fun c_w => ?_) (fun c_w => ?_)
          ·
            refine lv_iload_n hx hb dX10_closest_42 rfl (lv_at hl 2 rfl) ?_
            refine lv_istore_n (lv' := [(1, .int (iI (lsT c0 j))), (3, .int (iI ((mPl (mk c0 (j + 1))) - (mPl (mk c0 j))))), (0, .ref a), (2, .int (iI ((j : Int) + 1)))]) hx hb dX10_closest_43 rfl hl (by decide) rfl (fun ls hl => ?_)
            refine h_iinc (lv' := [(2, .int (iI ((j : Int) + 1 + 1))), (1, .int (iI (lsT c0 j))), (3, .int (iI ((mPl (mk c0 (j + 1))) - (mPl (mk c0 j))))), (0, .ref a)]) hx hb dX10_closest_44 hl (k := 3) rfl (by decide) rfl (fun ls hl => ?_)
            refine lv_goto (tgt := 4) hx hb dX10_closest_47 (by decide) ?_
            have hl : lv_has ls 4 [(2, .int (iI ((j : Int) + 1 + 1))), (1, .int (iI (lsT c0 (j + 1)))), (3, .int (iI ((mPl (mk c0 (j + 1))) - (mPl (mk c0 j))))), (0, .ref a)] := lv_conv hl (congrArg (fun z_ : Int => ([(2, .int (iI ((j : Int) + 1 + 1))), (1, .int (iI (z_))), (3, .int (iI ((mPl (mk c0 (j + 1))) - (mPl (mk c0 j))))), (0, .ref a)] : List (Nat × Value))) (show (lsT c0 j : Int) = lsT c0 (j + 1) from (by rw [lsT]; first | (rw [if_pos (by omega)]; done) | (rw [if_neg (by omega)]; done))))
            exact ih_1 (j + 1) (by omega) (by omega) _ _ _ hR hL (lv_sub hl [3, 1, 0] rfl)
          ·
            refine lv_iload_n hx hb dX10_closest_38 rfl (lv_at hl 0 rfl) ?_
            refine lv_goto (tgt := 43) hx hb dX10_closest_39 (by decide) ?_
            refine lv_istore_n (lv' := [(1, .int (iI ((mPl (mk c0 (j + 1))) - (mPl (mk c0 j))))), (3, .int (iI ((mPl (mk c0 (j + 1))) - (mPl (mk c0 j))))), (0, .ref a), (2, .int (iI ((j : Int) + 1)))]) hx hb dX10_closest_43 rfl hl (by decide) rfl (fun ls hl => ?_)
            refine h_iinc (lv' := [(2, .int (iI ((j : Int) + 1 + 1))), (1, .int (iI ((mPl (mk c0 (j + 1))) - (mPl (mk c0 j))))), (3, .int (iI ((mPl (mk c0 (j + 1))) - (mPl (mk c0 j))))), (0, .ref a)]) hx hb dX10_closest_44 hl (k := 3) rfl (by decide) rfl (fun ls hl => ?_)
            refine lv_goto (tgt := 4) hx hb dX10_closest_47 (by decide) ?_
            have hl : lv_has ls 4 [(2, .int (iI ((j : Int) + 1 + 1))), (1, .int (iI (lsT c0 (j + 1)))), (3, .int (iI ((mPl (mk c0 (j + 1))) - (mPl (mk c0 j))))), (0, .ref a)] := lv_conv hl (congrArg (fun z_ : Int => ([(2, .int (iI ((j : Int) + 1 + 1))), (1, .int (iI (z_))), (3, .int (iI ((mPl (mk c0 (j + 1))) - (mPl (mk c0 j))))), (0, .ref a)] : List (Nat × Value))) (show ((mPl (mk c0 (j + 1))) - (mPl (mk c0 j)) : Int) = lsT c0 (j + 1) from (by rw [lsT]; first | (rw [if_pos (by omega)]; done) | (rw [if_neg (by omega)]; done))))
            exact ih_1 (j + 1) (by omega) (by omega) _ _ _ hR hL (lv_sub hl [3, 1, 0] rfl)
  exact LOOP_1 _ 0 (by omega) (Nat.lt_succ_self _) _ _ _ hR hL (lv_sub hl [2, 1, 0] rfl)

set_option maxHeartbeats 4000000 in
set_option maxRecDepth 100000 in
/-- endOf -/
theorem m_endOf (l : Launch) (G : Gl) (w : Wd) (a : Nat) (ad : Nat → Nat) (t : Tw) (hT : TwAt G w a ad t) (s : Int) (la : Int) (c0 : Cat) (hC : RowIs (t.2 3) c0) (hs : 0 ≤ s ∧ s ≤ 8) (hla : la = 0 ∨ la = 1) : HM l yX10_endOf cX10_endOf 5 (some .int) 4 0 0 G [.ref a, .int (iI (s)), .int (iI (la))] w (QI G (fun z_ w_ => z_ = endA c0 s (la ≠ 0) (cN c0) ∧ w_ = w)) := by
  refine HM.mk (by decide +kernel) (Nat.le_of_ble_eq_true rfl) ?_
  intro p9 e9 s9 m9 a9 b9 meth9 c9 ls X hret hlk hnm hl H hR
  have hx := X.1.1
  have hb := X.1.2.1
  have hl : lv_has ls 5 [(0, .ref a), (1, .int (iI (s))), (2, .int (iI (la)))] := hl
  have hL : LK G [] := fun q h => absurd h List.not_mem_nil
  generalize ([] : List Loc) = locs at hL ⊢
  have hTb := hT
  have hT : TwS G w w a ad t := TwS.rf hT
  have hn40 := hC.n40
  have hsh8 := hC.sh8
  refine h_iconst hx hb dX10_endOf_0 ?_
  refine lv_istore_n (lv' := [(3, .int (iI (-1))), (0, .ref a), (1, .int (iI (s))), (2, .int (iI (la)))]) hx hb dX10_endOf_1 rfl hl (by decide) rfl (fun ls hl => ?_)
  refine h_iconst hx hb dX10_endOf_2 ?_
  refine lv_istore (lv' := [(4, .int (iI (0))), (3, .int (iI (-1))), (0, .ref a), (1, .int (iI (s))), (2, .int (iI (la)))]) hx hb dX10_endOf_3 hl (by decide) rfl (fun ls hl => ?_)
  have LOOP_1 : ∀ (N_ : Nat) (k : Nat), (k ≤ cN c0) → (cN c0 - k) < N_ → ∀ (H : Heap) (locs : List Loc) (ls : Array Slot), Rp G w H → LK G locs → lv_has ls 5 [(0, .ref a), (1, .int (iI (s))), (2, .int (iI (la))), (3, .int (iI (endA c0 s (la ≠ 0) k))), (4, .int (iI ((k : Int))))] → W p9 l e9 (rmk 4 0 0) s9 m9 a9 b9 meth9 c9 H locs 0 0 (MQ b9 (QI G (fun z_ w_ => z_ = endA c0 s (la ≠ 0) (cN c0) ∧ w_ = w)) a9 s9 0 0 (frG G)) (F0 m9 5 ls []) := by
    intro N_
    induction N_ with
    | zero => intro _ _ h_; exact absurd h_ (Nat.not_lt_zero _)
    | succ N_ ih_ =>
      intro k hk hN_ H locs ls hR hL hl
      have ih_1 := ih_
      clear ih_
      refine lv_iload hx hb dX10_endOf_5 (lv_at hl 4 rfl) ?_
      refine lv_aload_n hx hb dX10_endOf_7 rfl (lv_at hl 0 rfl) ?_
      refine h_iconst hx hb dX10_endOf_8 ?_
      -- call SpokenMarksModel.head
      refine h_kIp (h_runV X hR (m_head l G w a ad t hT.1 2 (by omega)) pn_yX10_head (hasC.of hT.1.ob rfl) q2789 q2791 qs44 q161 q2792 ⟨by decide, by decide⟩ hl.1 (Nat.le_of_ble_eq_true rfl) dX10_endOf_9 ⟨by omega, by omega⟩) hL (fun H locs hR hL => ?_)
      refine W.eq (g2 := F0 m9 12 ls [.int (iI ((cN c0 : Int))), .int (iI ((k : Int)))]) (congrArg (fun z_ : Int => F0 m9 12 ls [.int (iI (z_)), .int (iI ((k : Int)))]) (show (hd t 2 : Int) = (cN c0 : Int) from (by exact hC.n))) ?_
      refine h_icmp_ge hx hb 48 dX10_endOf_12 (by decide) (by omega) (by omega) (fun c_5 => ?_) (fun c_5 => ?_)
      ·
        refine lv_iload_n hx hb dX10_endOf_48 rfl (lv_at hl 3 rfl) ?_
        exact h_ireturn hx hb hlk hret hR hL rfl ⟨by rw [show k = cN c0 by omega] <;> rfl, rfl⟩ (by omega) (by omega) rfl rfl dX10_endOf_49
      ·
        refine lv_aload_n hx hb dX10_endOf_15 rfl (lv_at hl 0 rfl) ?_
        refine lv_iload hx hb dX10_endOf_16 (lv_at hl 4 rfl) ?_
        refine lv_iload_n hx hb dX10_endOf_18 rfl (lv_at hl 1 rfl) ?_
        -- call SpokenMarksModel.isOn
        refine h_kIp (h_runV X hR (m_isOn l G w a ad t hT.1 k s c0 hC (by omega) hs) pn_yX10_isOn (hasC.of hT.1.ob rfl) q3068 q3070 qs81 q161 q3071 ⟨by decide, by decide⟩ hl.1 (Nat.le_of_ble_eq_true rfl) dX10_endOf_19 ⟨by omega, by omega⟩) hL (fun H locs hR hL => ?_)
        refine h_if_eq hx hb 42 dX10_endOf_22 (by decide) (by have := b2i_01 (onB c0 k s = true); omega) (fun c_on => ?_) (fun c_on => ?_)
        ·
          refine h_iinc (lv' := [(4, .int (iI ((k : Int) + 1))), (0, .ref a), (1, .int (iI (s))), (2, .int (iI (la))), (3, .int (iI (endA c0 s (la ≠ 0) k)))]) hx hb dX10_endOf_42 hl (k := 4) rfl (by decide) rfl (fun ls hl => ?_)
          refine lv_goto (tgt := 5) hx hb dX10_endOf_45 (by decide) ?_
          have hl : lv_has ls 5 [(4, .int (iI ((k : Int) + 1))), (0, .ref a), (1, .int (iI (s))), (2, .int (iI (la))), (3, .int (iI (endA c0 s (la ≠ 0) (k + 1))))] := lv_conv hl (congrArg (fun z_ : Int => ([(4, .int (iI ((k : Int) + 1))), (0, .ref a), (1, .int (iI (s))), (2, .int (iI (la))), (3, .int (iI (z_)))] : List (Nat × Value))) (show (endA c0 s (la ≠ 0) k : Int) = endA c0 s (la ≠ 0) (k + 1) from (by rw [endA]; first | (rw [if_pos ⟨b2i_n1.mp c_on, by first | exact Or.inl c_l | exact Or.inr c_m⟩]; done) | (rw [if_neg (fun q => b2i_0.mp c_on q.1)]; done) | (rw [if_neg (fun q => by rcases q.2 with q | q; exact q c_l; exact c_m q)]; done))))
          exact ih_1 (k + 1) (by omega) (by omega) _ _ _ hR hL (lv_sub hl [1, 2, 3, 4, 0] rfl)
        ·
          refine lv_iload_n hx hb dX10_endOf_25 rfl (lv_at hl 2 rfl) ?_
          refine h_if_ne hx hb 34 dX10_endOf_26 (by decide) (by omega) (fun c_l => ?_) (fun c_l => ?_)
          ·
            refine lv_aload_n hx hb dX10_endOf_34 rfl (lv_at hl 0 rfl) ?_
            refine lv_iload hx hb dX10_endOf_35 (lv_at hl 4 rfl) ?_
            refine h_iconst hx hb dX10_endOf_37 ?_
            -- call SpokenMarksModel.of
            refine h_kIp (h_runV X hR (m_of l G w a ad t hT.1 k 0 (by omega) (by omega)) pn_yX10_of (hasC.of hT.1.ob rfl) q2827 q2829 qs53 q161 q2830 ⟨by decide, by decide⟩ hl.1 (Nat.le_of_ble_eq_true rfl) dX10_endOf_38 ⟨by omega, by omega⟩) hL (fun H locs hR hL => ?_)
            refine W.eq (g2 := F0 m9 41 ls [.int (iI (mId (mk c0 k)))]) (congrArg (fun z_ : Int => F0 m9 41 ls [.int (iI (z_))]) (show (tof t k 0 : Int) = mId (mk c0 k) from (by exact (hC.m k (by omega)).1))) ?_
            have hr_id := mId_r hC.s k (by omega)
            refine lv_istore_n (lv' := [(3, .int (iI (mId (mk c0 k)))), (0, .ref a), (1, .int (iI (s))), (2, .int (iI (la))), (4, .int (iI ((k : Int))))]) hx hb dX10_endOf_41 rfl hl (by decide) rfl (fun ls hl => ?_)
            refine h_iinc (lv' := [(4, .int (iI ((k : Int) + 1))), (3, .int (iI (mId (mk c0 k)))), (0, .ref a), (1, .int (iI (s))), (2, .int (iI (la)))]) hx hb dX10_endOf_42 hl (k := 4) rfl (by decide) rfl (fun ls hl => ?_)
            refine lv_goto (tgt := 5) hx hb dX10_endOf_45 (by decide) ?_
            have hl : lv_has ls 5 [(4, .int (iI ((k : Int) + 1))), (3, .int (iI (endA c0 s (la ≠ 0) (k + 1)))), (0, .ref a), (1, .int (iI (s))), (2, .int (iI (la)))] := lv_conv hl (congrArg (fun z_ : Int => ([(4, .int (iI ((k : Int) + 1))), (3, .int (iI (z_))), (0, .ref a), (1, .int (iI (s))), (2, .int (iI (la)))] : List (Nat × Value))) (show (mId (mk c0 k) : Int) = endA c0 s (la ≠ 0) (k + 1) from (by rw [endA]; first | (rw [if_pos ⟨b2i_n1.mp c_on, by first | exact Or.inl c_l | exact Or.inr c_m⟩]; done) | (rw [if_neg (fun q => b2i_0.mp c_on q.1)]; done) | (rw [if_neg (fun q => by rcases q.2 with q | q; exact q c_l; exact c_m q)]; done))))
            exact ih_1 (k + 1) (by omega) (by omega) _ _ _ hR hL (lv_sub hl [2, 3, 4, 1, 0] rfl)
          ·
            refine lv_iload_n hx hb dX10_endOf_29 rfl (lv_at hl 3 rfl) ?_
            refine h_iconst hx hb dX10_endOf_30 ?_
            refine h_icmp_ne hx hb 42 dX10_endOf_31 (by decide) (by have := endA_r hC.s s (la ≠ 0) k (by omega); omega) (by omega) (fun c_m => ?_) (fun c_m => ?_)
            ·
              refine h_iinc (lv' := [(4, .int (iI ((k : Int) + 1))), (0, .ref a), (1, .int (iI (s))), (2, .int (iI (la))), (3, .int (iI (endA c0 s (la ≠ 0) k)))]) hx hb dX10_endOf_42 hl (k := 4) rfl (by decide) rfl (fun ls hl => ?_)
              refine lv_goto (tgt := 5) hx hb dX10_endOf_45 (by decide) ?_
              have hl : lv_has ls 5 [(4, .int (iI ((k : Int) + 1))), (0, .ref a), (1, .int (iI (s))), (2, .int (iI (la))), (3, .int (iI (endA c0 s (la ≠ 0) (k + 1))))] := lv_conv hl (congrArg (fun z_ : Int => ([(4, .int (iI ((k : Int) + 1))), (0, .ref a), (1, .int (iI (s))), (2, .int (iI (la))), (3, .int (iI (z_)))] : List (Nat × Value))) (show (endA c0 s (la ≠ 0) k : Int) = endA c0 s (la ≠ 0) (k + 1) from (by rw [endA]; first | (rw [if_pos ⟨b2i_n1.mp c_on, by first | exact Or.inl c_l | exact Or.inr c_m⟩]; done) | (rw [if_neg (fun q => b2i_0.mp c_on q.1)]; done) | (rw [if_neg (fun q => by rcases q.2 with q | q; exact q c_l; exact c_m q)]; done))))
              exact ih_1 (k + 1) (by omega) (by omega) _ _ _ hR hL (lv_sub hl [1, 2, 3, 4, 0] rfl)
            ·
              refine lv_aload_n hx hb dX10_endOf_34 rfl (lv_at hl 0 rfl) ?_
              refine lv_iload hx hb dX10_endOf_35 (lv_at hl 4 rfl) ?_
              refine h_iconst hx hb dX10_endOf_37 ?_
              -- call SpokenMarksModel.of
              refine h_kIp (h_runV X hR (m_of l G w a ad t hT.1 k 0 (by omega) (by omega)) pn_yX10_of (hasC.of hT.1.ob rfl) q2827 q2829 qs53 q161 q2830 ⟨by decide, by decide⟩ hl.1 (Nat.le_of_ble_eq_true rfl) dX10_endOf_38 ⟨by omega, by omega⟩) hL (fun H locs hR hL => ?_)
              refine W.eq (g2 := F0 m9 41 ls [.int (iI (mId (mk c0 k)))]) (congrArg (fun z_ : Int => F0 m9 41 ls [.int (iI (z_))]) (show (tof t k 0 : Int) = mId (mk c0 k) from (by exact (hC.m k (by omega)).1))) ?_
              have hr_id := mId_r hC.s k (by omega)
              refine lv_istore_n (lv' := [(3, .int (iI (mId (mk c0 k)))), (0, .ref a), (1, .int (iI (s))), (2, .int (iI (la))), (4, .int (iI ((k : Int))))]) hx hb dX10_endOf_41 rfl hl (by decide) rfl (fun ls hl => ?_)
              refine h_iinc (lv' := [(4, .int (iI ((k : Int) + 1))), (3, .int (iI (mId (mk c0 k)))), (0, .ref a), (1, .int (iI (s))), (2, .int (iI (la)))]) hx hb dX10_endOf_42 hl (k := 4) rfl (by decide) rfl (fun ls hl => ?_)
              refine lv_goto (tgt := 5) hx hb dX10_endOf_45 (by decide) ?_
              have hl : lv_has ls 5 [(4, .int (iI ((k : Int) + 1))), (3, .int (iI (endA c0 s (la ≠ 0) (k + 1)))), (0, .ref a), (1, .int (iI (s))), (2, .int (iI (la)))] := lv_conv hl (congrArg (fun z_ : Int => ([(4, .int (iI ((k : Int) + 1))), (3, .int (iI (z_))), (0, .ref a), (1, .int (iI (s))), (2, .int (iI (la)))] : List (Nat × Value))) (show (mId (mk c0 k) : Int) = endA c0 s (la ≠ 0) (k + 1) from (by rw [endA]; first | (rw [if_pos ⟨b2i_n1.mp c_on, by first | exact Or.inl c_l | exact Or.inr c_m⟩]; done) | (rw [if_neg (fun q => b2i_0.mp c_on q.1)]; done) | (rw [if_neg (fun q => by rcases q.2 with q | q; exact q c_l; exact c_m q)]; done))))
              exact ih_1 (k + 1) (by omega) (by omega) _ _ _ hR hL (lv_sub hl [2, 3, 4, 1, 0] rfl)
  exact LOOP_1 _ 0 (by omega) (Nat.lt_succ_self _) _ _ _ hR hL (lv_sub hl [2, 3, 4, 1, 0] rfl)

set_option maxHeartbeats 4000000 in
set_option maxRecDepth 100000 in
/-- shelfOf -/
theorem m_shelfOf (l : Launch) (G : Gl) (w : Wd) (a : Nat) (ad : Nat → Nat) (t : Tw) (hT : TwAt G w a ad t) (r : Nat) (c0 : Cat) (s0 : Nat) (hC : RowIs (t.2 3) c0) (hr : r < cN c0) (hs0 : s0 ≤ 8) (h1 : onB c0 r s0 = true) (h2 : ∀ j : Nat, j < s0 → ¬ onB c0 r j = true) : HM l yX10_shelfOf cX10_shelfOf 3 (some .int) 4 0 0 G [.ref a, .int (iI ((r : Int)))] w (QI G (fun z_ w_ => z_ = (s0 : Int) ∧ w_ = w)) := by
  refine HM.mk (by decide +kernel) (Nat.le_of_ble_eq_true rfl) ?_
  intro p9 e9 s9 m9 a9 b9 meth9 c9 ls X hret hlk hnm hl H hR
  have hx := X.1.1
  have hb := X.1.2.1
  have hl : lv_has ls 3 [(0, .ref a), (1, .int (iI ((r : Int))))] := hl
  have hL : LK G [] := fun q h => absurd h List.not_mem_nil
  generalize ([] : List Loc) = locs at hL ⊢
  have hTb := hT
  have hT : TwS G w w a ad t := TwS.rf hT
  have hn40 := hC.n40
  have hsh8 := hC.sh8
  refine h_iconst hx hb dX10_shelfOf_0 ?_
  refine lv_istore_n (lv' := [(2, .int (iI (0))), (0, .ref a), (1, .int (iI ((r : Int))))]) hx hb dX10_shelfOf_1 rfl hl (by decide) rfl (fun ls hl => ?_)
  have LOOP_1 : ∀ (N_ : Nat) (j : Nat), (j ≤ s0) → (s0 - j) < N_ → ∀ (H : Heap) (locs : List Loc) (ls : Array Slot), Rp G w H → LK G locs → lv_has ls 3 [(0, .ref a), (1, .int (iI ((r : Int)))), (2, .int (iI ((j : Int))))] → W p9 l e9 (rmk 4 0 0) s9 m9 a9 b9 meth9 c9 H locs 0 0 (MQ b9 (QI G (fun z_ w_ => z_ = (s0 : Int) ∧ w_ = w)) a9 s9 0 0 (frG G)) (F0 m9 2 ls []) := by
    intro N_
    induction N_ with
    | zero => intro _ _ h_; exact absurd h_ (Nat.not_lt_zero _)
    | succ N_ ih_ =>
      intro j hj hN_ H locs ls hR hL hl
      have ih_1 := ih_
      clear ih_
      refine lv_aload_n hx hb dX10_shelfOf_2 rfl (lv_at hl 0 rfl) ?_
      refine lv_iload_n hx hb dX10_shelfOf_3 rfl (lv_at hl 1 rfl) ?_
      refine lv_iload_n hx hb dX10_shelfOf_4 rfl (lv_at hl 2 rfl) ?_
      -- call SpokenMarksModel.isOn
      refine h_kIp (h_runV X hR (m_isOn l G w a ad t hT.1 r ((j : Int)) c0 hC (by omega) (by omega)) pn_yX10_isOn (hasC.of hT.1.ob rfl) q3068 q3070 qs81 q161 q3071 ⟨by decide, by decide⟩ hl.1 (Nat.le_of_ble_eq_true rfl) dX10_shelfOf_5 ⟨by omega, by omega⟩) hL (fun H locs hR hL => ?_)
      refine h_if_ne hx hb 17 dX10_shelfOf_8 (by decide) (by have := b2i_01 (onB c0 r j = true); omega) (fun c_on => ?_) (fun c_on => ?_)
      ·
        refine lv_iload_n hx hb dX10_shelfOf_17 rfl (lv_at hl 2 rfl) ?_
        exact h_ireturn hx hb hlk hret hR hL rfl ⟨by rw [show j = s0 from by rcases Nat.lt_or_ge j s0 with q | q; exact absurd (b2i_n1.mp c_on) (h2 j q); omega], rfl⟩ (by omega) (by omega) rfl rfl dX10_shelfOf_18
      ·
        refine h_iinc (lv' := [(2, .int (iI ((j : Int) + 1))), (0, .ref a), (1, .int (iI ((r : Int))))]) hx hb dX10_shelfOf_11 hl (k := 2) rfl (by decide) rfl (fun ls hl => ?_)
        refine lv_goto (tgt := 2) hx hb dX10_shelfOf_14 (by decide) ?_
        have hjs : j < s0 := by rcases Nat.lt_or_ge j s0 with q | q; exact q; exact absurd h1 (by rw [show s0 = j by omega]; exact b2i_0.mp c_on)
        exact ih_1 (j + 1) (by rcases Nat.lt_or_ge j s0 with q | q; omega; exact absurd h1 (by rw [show s0 = j by omega]; exact b2i_0.mp c_on)) (by omega) _ _ _ hR hL (lv_sub hl [1, 2, 0] rfl)
  exact LOOP_1 _ 0 (by omega) (Nat.lt_succ_self _) _ _ _ hR hL (lv_sub hl [1, 2, 0] rfl)

set_option maxHeartbeats 4000000 in
set_option maxRecDepth 100000 in
/-- placeBehind -/
theorem m_placeBehind (l : Launch) (G : Gl) (w : Wd) (a : Nat) (ad : Nat → Nat) (t : Tw) (hT : TwAt G w a ad t) (r : Nat) (c0 : Cat) (hC : RowIs (t.2 3) c0) (hr : r ≤ 41) : HM l yX10_placeBehind cX10_placeBehind 2 (some .int) 2 0 0 G [.ref a, .int (iI ((r : Int)))] w (QI G (fun z_ w_ => z_ = plA c0 (r : Int) ∧ w_ = w)) := by
  refine HM.mk (by decide +kernel) (Nat.le_of_ble_eq_true rfl) ?_
  intro p9 e9 s9 m9 a9 b9 meth9 c9 ls X hret hlk hnm hl H hR
  have hx := X.1.1
  have hb := X.1.2.1
  have hl : lv_has ls 2 [(0, .ref a), (1, .int (iI ((r : Int))))] := hl
  have hL : LK G [] := fun q h => absurd h List.not_mem_nil
  generalize ([] : List Loc) = locs at hL ⊢
  have hTb := hT
  have hT : TwS G w w a ad t := TwS.rf hT
  have hn40 := hC.n40
  have hsh8 := hC.sh8
  refine lv_iload_n hx hb dX10_placeBehind_0 rfl (lv_at hl 1 rfl) ?_
  refine lv_aload_n hx hb dX10_placeBehind_1 rfl (lv_at hl 0 rfl) ?_
  refine h_iconst hx hb dX10_placeBehind_2 ?_
  -- call SpokenMarksModel.head
  refine h_kIp (h_runV X hR (m_head l G w a ad t hT.1 2 (by omega)) pn_yX10_head (hasC.of hT.1.ob rfl) q2789 q2791 qs44 q161 q2792 ⟨by decide, by decide⟩ hl.1 (Nat.le_of_ble_eq_true rfl) dX10_placeBehind_3 ⟨by omega, by omega⟩) hL (fun H locs hR hL => ?_)
  refine W.eq (g2 := F0 m9 6 ls [.int (iI ((cN c0 : Int))), .int (iI ((r : Int)))]) (congrArg (fun z_ : Int => F0 m9 6 ls [.int (iI (z_)), .int (iI ((r : Int)))]) (show (hd t 2 : Int) = (cN c0 : Int) from (by exact hC.n))) ?_
  refine h_icmp_lt hx hb 15 dX10_placeBehind_6 (by decide) (by omega) (by omega) (fun c_4 => ?_) (fun c_4 => ?_)
  ·
    refine lv_aload_n hx hb dX10_placeBehind_15 rfl (lv_at hl 0 rfl) ?_
    refine lv_iload_n hx hb dX10_placeBehind_16 rfl (lv_at hl 1 rfl) ?_
    refine h_iconst hx hb dX10_placeBehind_17 ?_
    -- call SpokenMarksModel.of
    refine h_kIp (h_runV X hR (m_of l G w a ad t hT.1 r 2 (by omega) (by omega)) pn_yX10_of (hasC.of hT.1.ob rfl) q2827 q2829 qs53 q161 q2830 ⟨by decide, by decide⟩ hl.1 (Nat.le_of_ble_eq_true rfl) dX10_placeBehind_18 ⟨by omega, by omega⟩) hL (fun H locs hR hL => ?_)
    refine W.eq (g2 := F0 m9 21 ls [.int (iI (mPl (mk c0 r)))]) (congrArg (fun z_ : Int => F0 m9 21 ls [.int (iI (z_))]) (show (tof t r 2 : Int) = mPl (mk c0 r) from (by exact (hC.m r (by omega)).2.2.1))) ?_
    have hr_pl := mPl_r hC.s r (by omega)
    exact h_ireturn hx hb hlk hret hR hL rfl ⟨by unfold plA; first | (rw [if_neg (by omega), if_pos (by omega)]; rfl) | (rw [if_neg (by omega), if_neg (by omega)]; done), rfl⟩ (by omega) (by omega) rfl rfl dX10_placeBehind_21
  ·
    refine h_sipush hx hb dX10_placeBehind_9 (by decide) ?_
    refine lv_goto (tgt := 21) hx hb dX10_placeBehind_12 (by decide) ?_
    exact h_ireturn hx hb hlk hret hR hL rfl ⟨by unfold plA; first | (rw [if_neg (by omega), if_pos (by omega)]; rfl) | (rw [if_neg (by omega), if_neg (by omega)]; done), rfl⟩ (by omega) (by omega) rfl rfl dX10_placeBehind_21

set_option maxHeartbeats 4000000 in
set_option maxRecDepth 100000 in
/-- placeAhead -/
theorem m_placeAhead (l : Launch) (G : Gl) (w : Wd) (a : Nat) (ad : Nat → Nat) (t : Tw) (hT : TwAt G w a ad t) (r : Nat) (c0 : Cat) (hC : RowIs (t.2 3) c0) (hr : r ≤ cN c0) : HM l yX10_placeAhead cX10_placeAhead 2 (some .int) 2 0 0 G [.ref a, .int (iI ((r : Int)))] w (QI G (fun z_ w_ => z_ = plA c0 ((r : Int) - 1) ∧ w_ = w)) := by
  refine HM.mk (by decide +kernel) (Nat.le_of_ble_eq_true rfl) ?_
  intro p9 e9 s9 m9 a9 b9 meth9 c9 ls X hret hlk hnm hl H hR
  have hx := X.1.1
  have hb := X.1.2.1
  have hl : lv_has ls 2 [(0, .ref a), (1, .int (iI ((r : Int))))] := hl
  have hL : LK G [] := fun q h => absurd h List.not_mem_nil
  generalize ([] : List Loc) = locs at hL ⊢
  have hTb := hT
  have hT : TwS G w w a ad t := TwS.rf hT
  have hn40 := hC.n40
  have hsh8 := hC.sh8
  refine lv_iload_n hx hb dX10_placeAhead_0 rfl (lv_at hl 1 rfl) ?_
  refine h_if_ne hx hb 8 dX10_placeAhead_1 (by decide) (by omega) (fun c_1 => ?_) (fun c_1 => ?_)
  ·
    refine lv_aload_n hx hb dX10_placeAhead_8 rfl (lv_at hl 0 rfl) ?_
    refine lv_iload_n hx hb dX10_placeAhead_9 rfl (lv_at hl 1 rfl) ?_
    refine h_iconst hx hb dX10_placeAhead_10 ?_
    refine h_isub hx hb dX10_placeAhead_11 ?_
    refine h_iconst hx hb dX10_placeAhead_12 ?_
    refine W.eq (g2 := F0 m9 13 ls [.int (iI (2)), .int (iI (((r - 1 : Nat) : Int))), .ref a]) (congrArg (fun z_ : Int => F0 m9 13 ls [.int (iI (2)), .int (iI (z_)), .ref a]) (show (((r : Int)) - 1 : Int) = ((r - 1 : Nat) : Int) from (by omega))) ?_
    -- call SpokenMarksModel.of
    refine h_kIp (h_runV X hR (m_of l G w a ad t hT.1 (r - 1) 2 (by omega) (by omega)) pn_yX10_of (hasC.of hT.1.ob rfl) q2827 q2829 qs53 q161 q2830 ⟨by decide, by decide⟩ hl.1 (Nat.le_of_ble_eq_true rfl) dX10_placeAhead_13 ⟨by omega, by omega⟩) hL (fun H locs hR hL => ?_)
    refine W.eq (g2 := F0 m9 16 ls [.int (iI (mPl (mk c0 (r - 1))))]) (congrArg (fun z_ : Int => F0 m9 16 ls [.int (iI (z_))]) (show (tof t (r - 1 : Nat) 2 : Int) = mPl (mk c0 (r - 1)) from ((hC.m (r - 1) (by omega)).2.2.1))) ?_
    exact h_ireturn hx hb hlk hret hR hL rfl ⟨by unfold plA; first | (rw [if_pos (by omega)]; done) | (rw [if_neg (by omega), if_pos (by omega)]; exact congrArg (fun i => mPl (mk c0 i)) (by omega)), rfl⟩ (by omega) (by omega) rfl rfl dX10_placeAhead_16
  ·
    refine h_iconst hx hb dX10_placeAhead_4 ?_
    refine lv_goto (tgt := 16) hx hb dX10_placeAhead_5 (by decide) ?_
    exact h_ireturn hx hb hlk hret hR hL rfl ⟨by unfold plA; first | (rw [if_pos (by omega)]; done) | (rw [if_neg (by omega), if_pos (by omega)]; exact congrArg (fun i => mPl (mk c0 i)) (by omega)), rfl⟩ (by omega) (by omega) rfl rfl dX10_placeAhead_16

set_option maxHeartbeats 4000000 in
set_option maxRecDepth 100000 in
/-- isRoomAt -/
theorem m_isRoomAt (l : Launch) (G : Gl) (w : Wd) (a : Nat) (ad : Nat → Nat) (t : Tw) (hT : TwAt G w a ad t) (r : Nat) (c0 : Cat) (hC : RowIs (t.2 3) c0) (hr : r ≤ cN c0) : HM l yX10_isRoomAt cX10_isRoomAt 2 (some .boolean) 3 0 0 G [.ref a, .int (iI ((r : Int)))] w (QI G (fun z_ w_ => z_ = b2i ¬ plA c0 (r : Int) - plA c0 ((r : Int) - 1) < 2 ∧ w_ = w)) := by
  refine HM.mk (by decide +kernel) (Nat.le_of_ble_eq_true rfl) ?_
  intro p9 e9 s9 m9 a9 b9 meth9 c9 ls X hret hlk hnm hl H hR
  have hx := X.1.1
  have hb := X.1.2.1
  have hl : lv_has ls 2 [(0, .ref a), (1, .int (iI ((r : Int))))] := hl
  have hL : LK G [] := fun q h => absurd h List.not_mem_nil
  generalize ([] : List Loc) = locs at hL ⊢
  have hTb := hT
  have hT : TwS G w w a ad t := TwS.rf hT
  have hn40 := hC.n40
  have hsh8 := hC.sh8
  have hp1 := plA_r hC.s (r : Int)
  have hp2 := plA_r hC.s ((r : Int) - 1)
  refine lv_aload_n hx hb dX10_isRoomAt_0 rfl (lv_at hl 0 rfl) ?_
  refine lv_iload_n hx hb dX10_isRoomAt_1 rfl (lv_at hl 1 rfl) ?_
  -- call SpokenMarksModel.placeBehind
  refine h_kIp (h_runV X hR (m_placeBehind l G w a ad t hT.1 r c0 hC (by omega)) pn_yX10_placeBehind (hasC.of hT.1.ob rfl) q2925 q2927 qs74 q161 q2928 ⟨by decide, by decide⟩ hl.1 (Nat.le_of_ble_eq_true rfl) dX10_isRoomAt_2 ⟨by omega, by omega⟩) hL (fun H locs hR hL => ?_)
  refine lv_aload_n hx hb dX10_isRoomAt_5 rfl (lv_at hl 0 rfl) ?_
  refine lv_iload_n hx hb dX10_isRoomAt_6 rfl (lv_at hl 1 rfl) ?_
  -- call SpokenMarksModel.placeAhead
  refine h_kIp (h_runV X hR (m_placeAhead l G w a ad t hT.1 r c0 hC hr) pn_yX10_placeAhead (hasC.of hT.1.ob rfl) q2929 q2931 qs75 q161 q2932 ⟨by decide, by decide⟩ hl.1 (Nat.le_of_ble_eq_true rfl) dX10_isRoomAt_7 ⟨by omega, by omega⟩) hL (fun H locs hR hL => ?_)
  refine h_isub hx hb dX10_isRoomAt_10 ?_
  refine h_iconst hx hb dX10_isRoomAt_11 ?_
  refine h_icmp_lt hx hb 19 dX10_isRoomAt_12 (by decide) (by omega) (by omega) (fun c_7 => ?_) (fun c_7 => ?_)
  ·
    refine h_iconst hx hb dX10_isRoomAt_19 ?_
    exact h_ireturn hx hb hlk hret hR hL (nar01 (by omega)) ⟨by first | rw [b2i_t (by omega)] | rw [b2i_f (by omega)], rfl⟩ (by omega) (by omega) rfl rfl dX10_isRoomAt_20
  ·
    refine h_iconst hx hb dX10_isRoomAt_15 ?_
    refine lv_goto (tgt := 20) hx hb dX10_isRoomAt_16 (by decide) ?_
    exact h_ireturn hx hb hlk hret hR hL (nar01 (by omega)) ⟨by first | rw [b2i_t (by omega)] | rw [b2i_f (by omega)], rfl⟩ (by omega) (by omega) rfl rfl dX10_isRoomAt_20

set_option maxHeartbeats 4000000 in
set_option maxRecDepth 100000 in
/-- spaced -/
theorem m_spaced (l : Launch) (G : Gl) (w : Wd) (r : Int) (n : Int)  (h1 : 0 ≤ r ∧ r ≤ 100) (h2 : 0 ≤ n ∧ n ≤ 100) : HM l yX10_spaced cX10_spaced 2 (some .int) 1 0 0 G [.int (iI (r)), .int (iI (n))] w (QI G (fun z_ w_ => z_ = spc r n ∧ w_ = w)) := by
  refine HM.mk (by decide +kernel) (Nat.le_of_ble_eq_true rfl) ?_
  intro p9 e9 s9 m9 a9 b9 meth9 c9 ls X hret hlk hnm hl H hR
  have hx := X.1.1
  have hb := X.1.2.1
  have hl : lv_has ls 2 [(0, .int (iI (r))), (1, .int (iI (n)))] := hl
  have hL : LK G [] := fun q h => absurd h List.not_mem_nil
  generalize ([] : List Loc) = locs at hL ⊢
  refine lv_iload_n hx hb dX10_spaced_0 rfl (lv_at hl 0 rfl) ?_
  refine h_iconst hx hb dX10_spaced_1 ?_
  refine h_iadd hx hb dX10_spaced_2 ?_
  refine h_sipush hx hb dX10_spaced_3 (by decide) ?_
  refine h_imul hx hb dX10_spaced_6 ?_
  refine lv_iload_n hx hb dX10_spaced_7 rfl (lv_at hl 1 rfl) ?_
  refine h_iconst hx hb dX10_spaced_8 ?_
  refine h_iadd hx hb dX10_spaced_9 ?_
  refine h_idiv hx hb dX10_spaced_10 (by omega) ?_
  exact h_ireturn hx hb hlk hret hR hL rfl ⟨rfl, rfl⟩ (by omega) (by omega) rfl rfl dX10_spaced_11

set_option maxHeartbeats 4000000 in
set_option maxRecDepth 100000 in
/-- guestPlace -/
theorem m_guestPlace (l : Launch) (G : Gl) (w : Wd) (a : Nat) (ad : Nat → Nat) (t : Tw) (hT : TwAt G w a ad t) (r : Nat) (c0 : Cat) (hC : RowIs (t.2 3) c0) (hr : r ≤ cN c0) : HM l yX10_guestPlace cX10_guestPlace 2 (some .int) 4 0 0 G [.ref a, .int (iI ((r : Int)))] w (QI G (fun z_ w_ => z_ = plF c0 (r : Int) ∧ w_ = w)) := by
  refine HM.mk (by decide +kernel) (Nat.le_of_ble_eq_true rfl) ?_
  intro p9 e9 s9 m9 a9 b9 meth9 c9 ls X hret hlk hnm hl H hR
  have hx := X.1.1
  have hb := X.1.2.1
  have hl : lv_has ls 2 [(0, .ref a), (1, .int (iI ((r : Int))))] := hl
  have hL : LK G [] := fun q h => absurd h List.not_mem_nil
  generalize ([] : List Loc) = locs at hL ⊢
  have hTb := hT
  have hT : TwS G w w a ad t := TwS.rf hT
  have hn40 := hC.n40
  have hsh8 := hC.sh8
  have hp1 := plA_r hC.s (r : Int)
  have hp2 := plA_r hC.s ((r : Int) - 1)
  refine lv_aload_n hx hb dX10_guestPlace_0 rfl (lv_at hl 0 rfl) ?_
  refine lv_iload_n hx hb dX10_guestPlace_1 rfl (lv_at hl 1 rfl) ?_
  -- call SpokenMarksModel.isRoomAt
  refine h_kIp (h_runV X hR (m_isRoomAt l G w a ad t hT.1 r c0 hC hr) pn_yX10_isRoomAt (hasC.of hT.1.ob rfl) q2921 q2923 qs73 q161 q2924 ⟨by decide, by decide⟩ hl.1 (Nat.le_of_ble_eq_true rfl) dX10_guestPlace_2 ⟨by omega, by omega⟩) hL (fun H locs hR hL => ?_)
  refine h_if_eq hx hb 24 dX10_guestPlace_5 (by decide) (by have := b2i_01 (¬ plA c0 (r : Int) - plA c0 ((r : Int) - 1) < 2); omega) (fun c_on => ?_) (fun c_on => ?_)
  ·
    refine lv_iload_n hx hb dX10_guestPlace_24 rfl (lv_at hl 1 rfl) ?_
    refine lv_aload_n hx hb dX10_guestPlace_25 rfl (lv_at hl 0 rfl) ?_
    refine h_iconst hx hb dX10_guestPlace_26 ?_
    -- call SpokenMarksModel.head
    refine h_kIp (h_runV X hR (m_head l G w a ad t hT.1 2 (by omega)) pn_yX10_head (hasC.of hT.1.ob rfl) q2789 q2791 qs44 q161 q2792 ⟨by decide, by decide⟩ hl.1 (Nat.le_of_ble_eq_true rfl) dX10_guestPlace_27 ⟨by omega, by omega⟩) hL (fun H locs hR hL => ?_)
    refine W.eq (g2 := F0 m9 30 ls [.int (iI ((cN c0 : Int))), .int (iI ((r : Int)))]) (congrArg (fun z_ : Int => F0 m9 30 ls [.int (iI (z_)), .int (iI ((r : Int)))]) (show (hd t 2 : Int) = (cN c0 : Int) from (by exact hC.n))) ?_
    refine h_iconst hx hb dX10_guestPlace_30 ?_
    refine h_iadd hx hb dX10_guestPlace_31 ?_
    -- call SpokenMarksModel.spaced
    refine h_kIp (h_runS X hR (m_spaced l G w  ((r : Int)) ((cN c0 : Int) + 1) (by omega) (by omega)) pn_yX10_spaced q2884 q2885 q161 q2886 ⟨by decide, by decide⟩ hl.1 (Nat.le_of_ble_eq_true rfl) dX10_guestPlace_32 ⟨by omega, by omega⟩) hL (fun H locs hR hL => ?_)
    exact h_ireturn hx hb hlk hret hR hL rfl ⟨by unfold plF; first | (rw [if_neg (b2i_n1.mp c_on), Int.add_comm]; done) | (rw [if_pos (Decidable.not_not.mp (b2i_0.mp c_on))]; done), rfl⟩ (by omega) (by omega) rfl rfl dX10_guestPlace_35
  ·
    refine lv_aload_n hx hb dX10_guestPlace_8 rfl (lv_at hl 0 rfl) ?_
    refine lv_iload_n hx hb dX10_guestPlace_9 rfl (lv_at hl 1 rfl) ?_
    -- call SpokenMarksModel.placeAhead
    refine h_kIp (h_runV X hR (m_placeAhead l G w a ad t hT.1 r c0 hC hr) pn_yX10_placeAhead (hasC.of hT.1.ob rfl) q2929 q2931 qs75 q161 q2932 ⟨by decide, by decide⟩ hl.1 (Nat.le_of_ble_eq_true rfl) dX10_guestPlace_10 ⟨by omega, by omega⟩) hL (fun H locs hR hL => ?_)
    refine lv_aload_n hx hb dX10_guestPlace_13 rfl (lv_at hl 0 rfl) ?_
    refine lv_iload_n hx hb dX10_guestPlace_14 rfl (lv_at hl 1 rfl) ?_
    -- call SpokenMarksModel.placeBehind
    refine h_kIp (h_runV X hR (m_placeBehind l G w a ad t hT.1 r c0 hC (by omega)) pn_yX10_placeBehind (hasC.of hT.1.ob rfl) q2925 q2927 qs74 q161 q2928 ⟨by decide, by decide⟩ hl.1 (Nat.le_of_ble_eq_true rfl) dX10_guestPlace_15 ⟨by omega, by omega⟩) hL (fun H locs hR hL => ?_)
    refine h_iadd hx hb dX10_guestPlace_18 ?_
    refine h_iconst hx hb dX10_guestPlace_19 ?_
    have hge := b2i_n1.mp c_on
    refine h_idiv hx hb dX10_guestPlace_20 (by omega) ?_
    refine lv_goto (tgt := 35) hx hb dX10_guestPlace_21 (by decide) ?_
    exact h_ireturn hx hb hlk hret hR hL rfl ⟨by unfold plF; first | (rw [if_neg (b2i_n1.mp c_on), Int.add_comm]; done) | (rw [if_pos (Decidable.not_not.mp (b2i_0.mp c_on))]; done), rfl⟩ (by omega) (by omega) rfl rfl dX10_guestPlace_35

set_option maxHeartbeats 4000000 in
set_option maxRecDepth 100000 in
/-- movedBy -/
theorem m_movedBy (l : Launch) (G : Gl) (w : Wd) (a : Nat) (ad : Nat → Nat) (t : Tw) (hT : TwAt G w a ad t) (r : Nat) (c0 : Cat) (hC : RowIs (t.2 3) c0) (hr : r ≤ cN c0) : HM l yX10_movedBy cX10_movedBy 5 (some .int) 2 0 0 G [.ref a, .int (iI ((r : Int)))] w (QI G (fun z_ w_ => z_ = mvN c0 (r : Int) ∧ w_ = w)) := by
  refine HM.mk (by decide +kernel) (Nat.le_of_ble_eq_true rfl) ?_
  intro p9 e9 s9 m9 a9 b9 meth9 c9 ls X hret hlk hnm hl H hR
  have hx := X.1.1
  have hb := X.1.2.1
  have hl : lv_has ls 5 [(0, .ref a), (1, .int (iI ((r : Int))))] := hl
  have hL : LK G [] := fun q h => absurd h List.not_mem_nil
  generalize ([] : List Loc) = locs at hL ⊢
  have hTb := hT
  have hT : TwS G w w a ad t := TwS.rf hT
  have hn40 := hC.n40
  have hsh8 := hC.sh8
  refine lv_aload_n hx hb dX10_movedBy_0 rfl (lv_at hl 0 rfl) ?_
  refine h_iconst hx hb dX10_movedBy_1 ?_
  -- call SpokenMarksModel.head
  refine h_kIp (h_runV X hR (m_head l G w a ad t hT.1 2 (by omega)) pn_yX10_head (hasC.of hT.1.ob rfl) q2789 q2791 qs44 q161 q2792 ⟨by decide, by decide⟩ hl.1 (Nat.le_of_ble_eq_true rfl) dX10_movedBy_2 ⟨by omega, by omega⟩) hL (fun H locs hR hL => ?_)
  refine W.eq (g2 := F0 m9 5 ls [.int (iI ((cN c0 : Int)))]) (congrArg (fun z_ : Int => F0 m9 5 ls [.int (iI (z_))]) (show (hd t 2 : Int) = (cN c0 : Int) from (by exact hC.n))) ?_
  refine lv_istore_n (lv' := [(2, .int (iI ((cN c0 : Int)))), (0, .ref a), (1, .int (iI ((r : Int))))]) hx hb dX10_movedBy_5 rfl hl (by decide) rfl (fun ls hl => ?_)
  refine h_iconst hx hb dX10_movedBy_6 ?_
  refine lv_istore_n (lv' := [(3, .int (iI (0))), (2, .int (iI ((cN c0 : Int)))), (0, .ref a), (1, .int (iI ((r : Int))))]) hx hb dX10_movedBy_7 rfl hl (by decide) rfl (fun ls hl => ?_)
  refine h_iconst hx hb dX10_movedBy_8 ?_
  refine lv_istore (lv' := [(4, .int (iI (0))), (3, .int (iI (0))), (2, .int (iI ((cN c0 : Int)))), (0, .ref a), (1, .int (iI ((r : Int))))]) hx hb dX10_movedBy_9 hl (by decide) rfl (fun ls hl => ?_)
  have LOOP_4 : ∀ (N_ : Nat) (k : Nat), (k ≤ cN c0) → (cN c0 - k) < N_ → ∀ (H : Heap) (locs : List Loc) (ls : Array Slot), Rp G w H → LK G locs → lv_has ls 5 [(0, .ref a), (1, .int (iI ((r : Int)))), (2, .int (iI ((cN c0 : Int)))), (3, .int (iI (sumN (fun k_ => b2i (mPl (mk c0 k_) ≠ spc (if (k_ : Int) < (r : Int) then (k_ : Int) else (k_ : Int) + 1) ((cN c0 : Int) + 1))) k))), (4, .int (iI ((k : Int))))] → W p9 l e9 (rmk 2 0 0) s9 m9 a9 b9 meth9 c9 H locs 0 0 (MQ b9 (QI G (fun z_ w_ => z_ = mvN c0 (r : Int) ∧ w_ = w)) a9 s9 0 0 (frG G)) (F0 m9 11 ls []) := by
    intro N_
    induction N_ with
    | zero => intro _ _ h_; exact absurd h_ (Nat.not_lt_zero _)
    | succ N_ ih_ =>
      intro k hk hN_ H locs ls hR hL hl
      have ih_4 := ih_
      clear ih_
      refine lv_iload hx hb dX10_movedBy_11 (lv_at hl 4 rfl) ?_
      refine lv_iload_n hx hb dX10_movedBy_13 rfl (lv_at hl 2 rfl) ?_
      refine h_icmp_ge hx hb 57 dX10_movedBy_14 (by decide) (by omega) (by omega) (fun c_5 => ?_) (fun c_5 => ?_)
      ·
        refine lv_iload_n hx hb dX10_movedBy_57 rfl (lv_at hl 3 rfl) ?_
        exact h_ireturn hx hb hlk hret hR hL rfl ⟨by rw [show k = cN c0 by omega] <;> rfl, rfl⟩ (by omega) (by omega) rfl rfl dX10_movedBy_58
      ·
        refine lv_iload hx hb dX10_movedBy_17 (lv_at hl 4 rfl) ?_
        refine lv_iload_n hx hb dX10_movedBy_19 rfl (lv_at hl 1 rfl) ?_
        refine h_icmp_ge hx hb 28 dX10_movedBy_20 (by decide) (by omega) (by omega) (fun c_k => ?_) (fun c_k => ?_)
        ·
          refine lv_iload hx hb dX10_movedBy_28 (lv_at hl 4 rfl) ?_
          refine h_iconst hx hb dX10_movedBy_30 ?_
          refine h_iadd hx hb dX10_movedBy_31 ?_
          refine lv_iload_n hx hb dX10_movedBy_32 rfl (lv_at hl 2 rfl) ?_
          refine h_iconst hx hb dX10_movedBy_33 ?_
          refine h_iadd hx hb dX10_movedBy_34 ?_
          -- call SpokenMarksModel.spaced
          refine h_kIp (h_runS X hR (m_spaced l G w  ((k : Int) + 1) ((cN c0 : Int) + 1) (by omega) (by omega)) pn_yX10_spaced q2884 q2885 q161 q2886 ⟨by decide, by decide⟩ hl.1 (Nat.le_of_ble_eq_true rfl) dX10_movedBy_35 ⟨by omega, by omega⟩) hL (fun H locs hR hL => ?_)
          refine lv_aload_n hx hb dX10_movedBy_38 rfl (lv_at hl 0 rfl) ?_
          refine lv_iload hx hb dX10_movedBy_39 (lv_at hl 4 rfl) ?_
          refine h_iconst hx hb dX10_movedBy_41 ?_
          -- call SpokenMarksModel.of
          refine h_kIp (h_runV X hR (m_of l G w a ad t hT.1 k 2 (by omega) (by omega)) pn_yX10_of (hasC.of hT.1.ob rfl) q2827 q2829 qs53 q161 q2830 ⟨by decide, by decide⟩ hl.1 (Nat.le_of_ble_eq_true rfl) dX10_movedBy_42 ⟨by omega, by omega⟩) hL (fun H locs hR hL => ?_)
          refine W.eq (g2 := F0 m9 45 ls [.int (iI (mPl (mk c0 k))), .int (iI (spc ((k : Int) + 1) ((cN c0 : Int) + 1)))]) (congrArg (fun z_ : Int => F0 m9 45 ls [.int (iI (z_)), .int (iI (spc ((k : Int) + 1) ((cN c0 : Int) + 1)))]) (show (tof t k 2 : Int) = mPl (mk c0 k) from (by exact (hC.m k (by omega)).2.2.1))) ?_
          have hr_pl := mPl_r hC.s k (by omega)
          refine h_icmp_eq hx hb 51 dX10_movedBy_45 (by decide) (by unfold spc; exact ⟨Int.le_trans (by decide) (Int.ediv_nonneg (by omega) (by omega)), Int.lt_of_le_of_lt (Int.ediv_le_self _ (by omega)) (by omega)⟩) (by omega) (fun c_e => ?_) (fun c_e => ?_)
          ·
            refine h_iinc (lv' := [(4, .int (iI ((k : Int) + 1))), (0, .ref a), (1, .int (iI ((r : Int)))), (2, .int (iI ((cN c0 : Int)))), (3, .int (iI (sumN (fun k_ => b2i (mPl (mk c0 k_) ≠ spc (if (k_ : Int) < (r : Int) then (k_ : Int) else (k_ : Int) + 1) ((cN c0 : Int) + 1))) k)))]) hx hb dX10_movedBy_51 hl (k := 4) rfl (by decide) rfl (fun ls hl => ?_)
            refine lv_goto (tgt := 11) hx hb dX10_movedBy_54 (by decide) ?_
            have hl : lv_has ls 5 [(4, .int (iI ((k : Int) + 1))), (0, .ref a), (1, .int (iI ((r : Int)))), (2, .int (iI ((cN c0 : Int)))), (3, .int (iI (sumN (fun k_ => b2i (mPl (mk c0 k_) ≠ spc (if (k_ : Int) < (r : Int) then (k_ : Int) else (k_ : Int) + 1) ((cN c0 : Int) + 1))) (k + 1))))] := lv_conv hl (congrArg (fun z_ : Int => ([(4, .int (iI ((k : Int) + 1))), (0, .ref a), (1, .int (iI ((r : Int)))), (2, .int (iI ((cN c0 : Int)))), (3, .int (iI (z_)))] : List (Nat × Value))) (show (sumN (fun k_ => b2i (mPl (mk c0 k_) ≠ spc (if (k_ : Int) < (r : Int) then (k_ : Int) else (k_ : Int) + 1) ((cN c0 : Int) + 1))) k : Int) = sumN (fun k_ => b2i (mPl (mk c0 k_) ≠ spc (if (k_ : Int) < (r : Int) then (k_ : Int) else (k_ : Int) + 1) ((cN c0 : Int) + 1))) (k + 1) from (by rw [sumN_s]; first | (rw [if_pos (by omega), b2i_t (Ne.symm c_e)]; done) | (rw [if_neg (by omega), b2i_t (Ne.symm c_e)]; done) | (rw [if_pos (by omega), b2i_f (fun q => q c_e.symm), Int.add_zero]; done) | (rw [if_neg (by omega), b2i_f (fun q => q c_e.symm), Int.add_zero]; done))))
            exact ih_4 (k + 1) (by omega) (by omega) _ _ _ hR hL (lv_sub hl [1, 2, 3, 4, 0] rfl)
          ·
            refine h_iinc (lv' := [(3, .int (iI (sumN (fun k_ => b2i (mPl (mk c0 k_) ≠ spc (if (k_ : Int) < (r : Int) then (k_ : Int) else (k_ : Int) + 1) ((cN c0 : Int) + 1))) k + 1))), (0, .ref a), (1, .int (iI ((r : Int)))), (2, .int (iI ((cN c0 : Int)))), (4, .int (iI ((k : Int))))]) hx hb dX10_movedBy_48 hl (k := 3) rfl (by decide) rfl (fun ls hl => ?_)
            refine h_iinc (lv' := [(4, .int (iI ((k : Int) + 1))), (3, .int (iI (sumN (fun k_ => b2i (mPl (mk c0 k_) ≠ spc (if (k_ : Int) < (r : Int) then (k_ : Int) else (k_ : Int) + 1) ((cN c0 : Int) + 1))) k + 1))), (0, .ref a), (1, .int (iI ((r : Int)))), (2, .int (iI ((cN c0 : Int))))]) hx hb dX10_movedBy_51 hl (k := 4) rfl (by decide) rfl (fun ls hl => ?_)
            refine lv_goto (tgt := 11) hx hb dX10_movedBy_54 (by decide) ?_
            have hl : lv_has ls 5 [(4, .int (iI ((k : Int) + 1))), (3, .int (iI (sumN (fun k_ => b2i (mPl (mk c0 k_) ≠ spc (if (k_ : Int) < (r : Int) then (k_ : Int) else (k_ : Int) + 1) ((cN c0 : Int) + 1))) (k + 1)))), (0, .ref a), (1, .int (iI ((r : Int)))), (2, .int (iI ((cN c0 : Int))))] := lv_conv hl (congrArg (fun z_ : Int => ([(4, .int (iI ((k : Int) + 1))), (3, .int (iI (z_))), (0, .ref a), (1, .int (iI ((r : Int)))), (2, .int (iI ((cN c0 : Int))))] : List (Nat × Value))) (show (sumN (fun k_ => b2i (mPl (mk c0 k_) ≠ spc (if (k_ : Int) < (r : Int) then (k_ : Int) else (k_ : Int) + 1) ((cN c0 : Int) + 1))) k + 1 : Int) = sumN (fun k_ => b2i (mPl (mk c0 k_) ≠ spc (if (k_ : Int) < (r : Int) then (k_ : Int) else (k_ : Int) + 1) ((cN c0 : Int) + 1))) (k + 1) from (by rw [sumN_s]; first | (rw [if_pos (by omega), b2i_t (Ne.symm c_e)]; done) | (rw [if_neg (by omega), b2i_t (Ne.symm c_e)]; done) | (rw [if_pos (by omega), b2i_f (fun q => q c_e.symm), Int.add_zero]; done) | (rw [if_neg (by omega), b2i_f (fun q => q c_e.symm), Int.add_zero]; done))))
            exact ih_4 (k + 1) (by omega) (by omega) _ _ _ hR hL (lv_sub hl [2, 3, 4, 1, 0] rfl)
        ·
          refine lv_iload hx hb dX10_movedBy_23 (lv_at hl 4 rfl) ?_
          refine lv_goto (tgt := 32) hx hb dX10_movedBy_25 (by decide) ?_
          refine lv_iload_n hx hb dX10_movedBy_32 rfl (lv_at hl 2 rfl) ?_
          refine h_iconst hx hb dX10_movedBy_33 ?_
          refine h_iadd hx hb dX10_movedBy_34 ?_
          -- call SpokenMarksModel.spaced
          refine h_kIp (h_runS X hR (m_spaced l G w  ((k : Int)) ((cN c0 : Int) + 1) (by omega) (by omega)) pn_yX10_spaced q2884 q2885 q161 q2886 ⟨by decide, by decide⟩ hl.1 (Nat.le_of_ble_eq_true rfl) dX10_movedBy_35 ⟨by omega, by omega⟩) hL (fun H locs hR hL => ?_)
          refine lv_aload_n hx hb dX10_movedBy_38 rfl (lv_at hl 0 rfl) ?_
          refine lv_iload hx hb dX10_movedBy_39 (lv_at hl 4 rfl) ?_
          refine h_iconst hx hb dX10_movedBy_41 ?_
          -- call SpokenMarksModel.of
          refine h_kIp (h_runV X hR (m_of l G w a ad t hT.1 k 2 (by omega) (by omega)) pn_yX10_of (hasC.of hT.1.ob rfl) q2827 q2829 qs53 q161 q2830 ⟨by decide, by decide⟩ hl.1 (Nat.le_of_ble_eq_true rfl) dX10_movedBy_42 ⟨by omega, by omega⟩) hL (fun H locs hR hL => ?_)
          refine W.eq (g2 := F0 m9 45 ls [.int (iI (mPl (mk c0 k))), .int (iI (spc ((k : Int)) ((cN c0 : Int) + 1)))]) (congrArg (fun z_ : Int => F0 m9 45 ls [.int (iI (z_)), .int (iI (spc ((k : Int)) ((cN c0 : Int) + 1)))]) (show (tof t k 2 : Int) = mPl (mk c0 k) from (by exact (hC.m k (by omega)).2.2.1))) ?_
          have hr_pl := mPl_r hC.s k (by omega)
          refine h_icmp_eq hx hb 51 dX10_movedBy_45 (by decide) (by unfold spc; exact ⟨Int.le_trans (by decide) (Int.ediv_nonneg (by omega) (by omega)), Int.lt_of_le_of_lt (Int.ediv_le_self _ (by omega)) (by omega)⟩) (by omega) (fun c_e => ?_) (fun c_e => ?_)
          ·
            refine h_iinc (lv' := [(4, .int (iI ((k : Int) + 1))), (0, .ref a), (1, .int (iI ((r : Int)))), (2, .int (iI ((cN c0 : Int)))), (3, .int (iI (sumN (fun k_ => b2i (mPl (mk c0 k_) ≠ spc (if (k_ : Int) < (r : Int) then (k_ : Int) else (k_ : Int) + 1) ((cN c0 : Int) + 1))) k)))]) hx hb dX10_movedBy_51 hl (k := 4) rfl (by decide) rfl (fun ls hl => ?_)
            refine lv_goto (tgt := 11) hx hb dX10_movedBy_54 (by decide) ?_
            have hl : lv_has ls 5 [(4, .int (iI ((k : Int) + 1))), (0, .ref a), (1, .int (iI ((r : Int)))), (2, .int (iI ((cN c0 : Int)))), (3, .int (iI (sumN (fun k_ => b2i (mPl (mk c0 k_) ≠ spc (if (k_ : Int) < (r : Int) then (k_ : Int) else (k_ : Int) + 1) ((cN c0 : Int) + 1))) (k + 1))))] := lv_conv hl (congrArg (fun z_ : Int => ([(4, .int (iI ((k : Int) + 1))), (0, .ref a), (1, .int (iI ((r : Int)))), (2, .int (iI ((cN c0 : Int)))), (3, .int (iI (z_)))] : List (Nat × Value))) (show (sumN (fun k_ => b2i (mPl (mk c0 k_) ≠ spc (if (k_ : Int) < (r : Int) then (k_ : Int) else (k_ : Int) + 1) ((cN c0 : Int) + 1))) k : Int) = sumN (fun k_ => b2i (mPl (mk c0 k_) ≠ spc (if (k_ : Int) < (r : Int) then (k_ : Int) else (k_ : Int) + 1) ((cN c0 : Int) + 1))) (k + 1) from (by rw [sumN_s]; first | (rw [if_pos (by omega), b2i_t (Ne.symm c_e)]; done) | (rw [if_neg (by omega), b2i_t (Ne.symm c_e)]; done) | (rw [if_pos (by omega), b2i_f (fun q => q c_e.symm), Int.add_zero]; done) | (rw [if_neg (by omega), b2i_f (fun q => q c_e.symm), Int.add_zero]; done))))
            exact ih_4 (k + 1) (by omega) (by omega) _ _ _ hR hL (lv_sub hl [1, 2, 3, 4, 0] rfl)
          ·
            refine h_iinc (lv' := [(3, .int (iI (sumN (fun k_ => b2i (mPl (mk c0 k_) ≠ spc (if (k_ : Int) < (r : Int) then (k_ : Int) else (k_ : Int) + 1) ((cN c0 : Int) + 1))) k + 1))), (0, .ref a), (1, .int (iI ((r : Int)))), (2, .int (iI ((cN c0 : Int)))), (4, .int (iI ((k : Int))))]) hx hb dX10_movedBy_48 hl (k := 3) rfl (by decide) rfl (fun ls hl => ?_)
            refine h_iinc (lv' := [(4, .int (iI ((k : Int) + 1))), (3, .int (iI (sumN (fun k_ => b2i (mPl (mk c0 k_) ≠ spc (if (k_ : Int) < (r : Int) then (k_ : Int) else (k_ : Int) + 1) ((cN c0 : Int) + 1))) k + 1))), (0, .ref a), (1, .int (iI ((r : Int)))), (2, .int (iI ((cN c0 : Int))))]) hx hb dX10_movedBy_51 hl (k := 4) rfl (by decide) rfl (fun ls hl => ?_)
            refine lv_goto (tgt := 11) hx hb dX10_movedBy_54 (by decide) ?_
            have hl : lv_has ls 5 [(4, .int (iI ((k : Int) + 1))), (3, .int (iI (sumN (fun k_ => b2i (mPl (mk c0 k_) ≠ spc (if (k_ : Int) < (r : Int) then (k_ : Int) else (k_ : Int) + 1) ((cN c0 : Int) + 1))) (k + 1)))), (0, .ref a), (1, .int (iI ((r : Int)))), (2, .int (iI ((cN c0 : Int))))] := lv_conv hl (congrArg (fun z_ : Int => ([(4, .int (iI ((k : Int) + 1))), (3, .int (iI (z_))), (0, .ref a), (1, .int (iI ((r : Int)))), (2, .int (iI ((cN c0 : Int))))] : List (Nat × Value))) (show (sumN (fun k_ => b2i (mPl (mk c0 k_) ≠ spc (if (k_ : Int) < (r : Int) then (k_ : Int) else (k_ : Int) + 1) ((cN c0 : Int) + 1))) k + 1 : Int) = sumN (fun k_ => b2i (mPl (mk c0 k_) ≠ spc (if (k_ : Int) < (r : Int) then (k_ : Int) else (k_ : Int) + 1) ((cN c0 : Int) + 1))) (k + 1) from (by rw [sumN_s]; first | (rw [if_pos (by omega), b2i_t (Ne.symm c_e)]; done) | (rw [if_neg (by omega), b2i_t (Ne.symm c_e)]; done) | (rw [if_pos (by omega), b2i_f (fun q => q c_e.symm), Int.add_zero]; done) | (rw [if_neg (by omega), b2i_f (fun q => q c_e.symm), Int.add_zero]; done))))
            exact ih_4 (k + 1) (by omega) (by omega) _ _ _ hR hL (lv_sub hl [2, 3, 4, 1, 0] rfl)
  exact LOOP_4 _ 0 (by omega) (Nat.lt_succ_self _) _ _ _ hR hL (lv_sub hl [3, 4, 2, 1, 0] rfl)
