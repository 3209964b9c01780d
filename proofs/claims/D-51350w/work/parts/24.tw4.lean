/-! the twin: the row as a catalogue; its readers -/
set_option maxRecDepth 100000
def KeyAt (f : Nat → Int) (r fr : Nat) (x : List Int) : Prop := f (32 + 14 * r + 3) = (x.length : Int) ∧ x.length ≤ 5 ∧ (∀ k, k < x.length → f (32 + 14 * r + fr + k) = x.getD k 0) ∧ ∀ k, R64 (x.getD k 0)
def SlotP (f : Nat → Int) (r : Nat) (R : Rls) (p : List Prt) : Prop := KeyAt f r 4 (letK p) ∧ KeyAt f r 9 (earK R p)
def SlotM (f : Nat → Int) (r : Nat) (R : Rls) (m : Mrk) : Prop := f (32 + 14 * r) = mId m ∧ f (32 + 14 * r + 1) = mWd m ∧ f (32 + 14 * r + 2) = mPl m ∧ SlotP f r R (mPs m)
def RowIs (f : Nat → Int) (c : Cat) : Prop := CatS c ∧ f 0 = cSh c ∧ f 1 = cRm c ∧ f 2 = (cN c : Int) ∧ f 4 = cNx c ∧ (∀ k, k < 3 → f (5 + k) = cAc c k) ∧ (∀ s : Nat, (s : Int) < cSh c → f (8 + s) = bd c s) ∧ RlAt f (cRl c) ∧ ∀ r, r < cN c → SlotM f r (cRl c) (mk c r)
theorem RowIs.s {f : Nat → Int} {c : Cat} (h : RowIs f c) : CatS c := h.1
theorem RowIs.sh {f : Nat → Int} {c : Cat} (h : RowIs f c) : f 0 = cSh c := h.2.1
theorem RowIs.rm {f : Nat → Int} {c : Cat} (h : RowIs f c) : f 1 = cRm c := h.2.2.1
theorem RowIs.n {f : Nat → Int} {c : Cat} (h : RowIs f c) : f 2 = (cN c : Int) := h.2.2.2.1
theorem RowIs.nx {f : Nat → Int} {c : Cat} (h : RowIs f c) : f 4 = cNx c := h.2.2.2.2.1
theorem RowIs.ac {f : Nat → Int} {c : Cat} (h : RowIs f c) (k : Nat) (hk : k < 3) : f (5 + k) = cAc c k := h.2.2.2.2.2.1 k hk
theorem RowIs.bd {f : Nat → Int} {c : Cat} (h : RowIs f c) (s : Nat) (hs : (s : Int) < cSh c) : f (8 + s) = bd c s := h.2.2.2.2.2.2.1 s hs
theorem RowIs.rl {f : Nat → Int} {c : Cat} (h : RowIs f c) : RlAt f (cRl c) := h.2.2.2.2.2.2.2.1
theorem RowIs.m {f : Nat → Int} {c : Cat} (h : RowIs f c) (r : Nat) (hr : r < cN c) : SlotM f r (cRl c) (mk c r) := h.2.2.2.2.2.2.2.2 r hr
theorem RowIs.n40 {f : Nat → Int} {c : Cat} (h : RowIs f c) : cN c ≤ 40 := h.1.2.2.2.1.1
theorem RowIs.mw {f : Nat → Int} {c : Cat} (h : RowIs f c) (r : Nat) (hr : r < cN c) : MrkW (mk c r) := h.1.2.2.2.1.2 r hr
theorem RowIs.sh8 {f : Nat → Int} {c : Cat} (h : RowIs f c) : 1 ≤ cSh c ∧ cSh c ≤ 8 := h.1.1
theorem bd_r {c : Cat} (h : CatS c) (s : Nat) (hs : (s : Int) < cSh c) : 0 ≤ bd c s ∧ bd c s ≤ 10000 := h.2.2.1.2 s (by have := h.2.2.1.1; have := h.1; omega)
theorem bdX_r {c : Cat} (h : CatS c) (s : Int) (hs : 0 ≤ s) : 0 ≤ bdX c s ∧ bdX c s ≤ 10000 := by
  unfold bdX
  split
  · omega
  · exact bd_r h s.toNat (by omega)
theorem mPl_r {c : Cat} (h : CatS c) (k : Nat) (hk : k < cN c) : 0 ≤ mPl (mk c k) ∧ mPl (mk c k) < 10000 := (h.2.2.2.1.2 k hk).2.2.2
theorem mWd_r {c : Cat} (h : CatS c) (k : Nat) (hk : k < cN c) : 1 ≤ mWd (mk c k) ∧ mWd (mk c k) ≤ 20 := (h.2.2.2.1.2 k hk).2.2.1
theorem mId_r {c : Cat} (h : CatS c) (k : Nat) (hk : k < cN c) : 1 ≤ mId (mk c k) ∧ mId (mk c k) < 1000000 := (h.2.2.2.1.2 k hk).1
theorem cmpL_drop {x y : List Int} {k : Nat} (h1 : k < x.length) (h2 : k < y.length) : cmpL (x.drop k) (y.drop k) = if x.getD k 0 = y.getD k 0 then cmpL (x.drop (k + 1)) (y.drop (k + 1)) else if x.getD k 0 < y.getD k 0 then -1 else 1 := by
  rw [List.drop_eq_getElem_cons h1, List.drop_eq_getElem_cons h2, cmpL]
  simp [h1, h2]
theorem cmpL_end {x y : List Int} {k : Nat} (h : x.length ≤ k ∨ y.length ≤ k) : cmpL (x.drop k) (y.drop k) = if x.length ≤ k then (if y.length ≤ k then 0 else -1) else 1 := by
  by_cases hx : x.length ≤ k
  · rw [List.drop_of_length_le hx, if_pos hx]
    by_cases hy : y.length ≤ k
    · rw [List.drop_of_length_le hy, if_pos hy]; rfl
    · rw [List.drop_eq_getElem_cons (by omega : k < y.length), if_neg hy]; rfl
  · rw [if_neg hx, List.drop_of_length_le (by omega : y.length ≤ k), List.drop_eq_getElem_cons (by omega : k < x.length)]; rfl
theorem dfK_drop {x y : List Int} {k : Nat} (j : Int) (h1 : k < x.length) (h2 : k < y.length) : dfK j (x.drop k) (y.drop k) = if x.getD k 0 = y.getD k 0 then dfK (j + 1) (x.drop (k + 1)) (y.drop (k + 1)) else j := by
  rw [List.drop_eq_getElem_cons h1, List.drop_eq_getElem_cons h2, dfK]
  simp [h1, h2]
theorem dfK_end {x y : List Int} {k : Nat} (j : Int) (h : x.length ≤ k ∨ y.length ≤ k) : dfK j (x.drop k) (y.drop k) = if x.length ≤ k ∧ y.length ≤ k then -1 else j := by
  by_cases hx : x.length ≤ k
  · rw [List.drop_of_length_le hx]
    by_cases hy : y.length ≤ k
    · rw [List.drop_of_length_le hy, if_pos ⟨hx, hy⟩]; rfl
    · rw [List.drop_eq_getElem_cons (by omega : k < y.length), if_neg (fun q => hy q.2)]; rfl
  · rw [if_neg (fun q => hx q.1), List.drop_of_length_le (by omega : y.length ≤ k), List.drop_eq_getElem_cons (by omega : k < x.length)]; rfl

theorem pn_yX10_of : ParN yX10_of 2 := by decide +kernel
theorem pn_yX10_sign : ParN yX10_sign 3 := by decide +kernel

set_option maxHeartbeats 4000000 in
set_option maxRecDepth 100000 in
/-- sign -/
theorem m_sign (l : Launch) (G : Gl) (w : Wd) (a : Nat) (ad : Nat → Nat) (t : Tw) (hT : TwAt G w a ad t) (i : Nat) (j : Nat) (fr : Nat) (x : List Int) (y : List Int) (h1 : i ≤ 40) (h2 : j ≤ 40) (h3 : fr = 4 ∨ fr = 9) (hX : KeyAt (t.2 3) i fr x) (hY : KeyAt (t.2 3) j fr y) : HM l yX10_sign cX10_sign 11 (some .int) 2 0 0 G [.ref a, .int (iI ((i : Int))), .int (iI ((j : Int))), .int (iI ((fr : Int)))] w (QI G (fun z_ w_ => z_ = cmpL x y ∧ w_ = w)) := by
  refine HM.mk (by decide +kernel) (Nat.le_of_ble_eq_true rfl) ?_
  intro p9 e9 s9 m9 a9 b9 meth9 c9 ls X hret hlk hnm hl H hR
  have hx := X.1.1
  have hb := X.1.2.1
  have hl : lv_has ls 11 [(0, .ref a), (1, .int (iI ((i : Int)))), (2, .int (iI ((j : Int)))), (3, .int (iI ((fr : Int))))] := hl
  have hL : LK G [] := fun q h => absurd h List.not_mem_nil
  generalize ([] : List Loc) = locs at hL ⊢
  have hTb := hT
  have hT : TwS G w w a ad t := TwS.rf hT
  have hx5 := hX.2.1
  have hy5 := hY.2.1
  refine h_iconst hx hb dX10_sign_0 ?_
  refine lv_istore (lv' := [(4, .int (iI (0))), (0, .ref a), (1, .int (iI ((i : Int)))), (2, .int (iI ((j : Int)))), (3, .int (iI ((fr : Int))))]) hx hb dX10_sign_1 hl (by decide) rfl (fun ls hl => ?_)
  have LOOP_1 : ∀ (N_ : Nat) (k : Nat), (k ≤ 5) → (cmpL x y = cmpL (x.drop k) (y.drop k)) → (5 - k) < N_ → ∀ (H : Heap) (locs : List Loc) (ls : Array Slot), Rp G w H → LK G locs → lv_has ls 11 [(0, .ref a), (1, .int (iI ((i : Int)))), (2, .int (iI ((j : Int)))), (3, .int (iI ((fr : Int)))), (4, .int (iI ((k : Int))))] → W p9 l e9 (rmk 2 0 0) s9 m9 a9 b9 meth9 c9 H locs 0 0 (MQ b9 (QI G (fun z_ w_ => z_ = cmpL x y ∧ w_ = w)) a9 s9 0 0 (frG G)) (F0 m9 3 ls []) := by
    intro N_
    induction N_ with
    | zero => intro _ _ _ h_; exact absurd h_ (Nat.not_lt_zero _)
    | succ N_ ih_ =>
      intro k hk hv hN_ H locs ls hR hL hl
      have ih_1 := ih_
      clear ih_
      refine lv_iload hx hb dX10_sign_3 (lv_at hl 4 rfl) ?_
      refine h_iconst hx hb dX10_sign_5 ?_
      refine h_icmp_ge hx hb 143 dX10_sign_6 (by decide) (by omega) (by omega) (fun c_2 => ?_) (fun c_2 => ?_)
      ·
        refine h_iconst hx hb dX10_sign_143 ?_
        exact h_ireturn hx hb hlk hret hR hL rfl ⟨by rw [hv, cmpL_end (by omega), if_pos (by omega), if_pos (by omega)], rfl⟩ (by omega) (by omega) rfl rfl dX10_sign_144
      ·
        refine lv_iload hx hb dX10_sign_9 (lv_at hl 4 rfl) ?_
        refine lv_aload_n hx hb dX10_sign_11 rfl (lv_at hl 0 rfl) ?_
        refine lv_iload_n hx hb dX10_sign_12 rfl (lv_at hl 1 rfl) ?_
        refine h_iconst hx hb dX10_sign_13 ?_
        -- call SpokenMarksModel.of
        refine h_kIp (h_runV X hR (m_of l G w a ad t hT.1 i 3 (by omega) (by omega)) pn_yX10_of (hasC.of hT.1.ob rfl) q2827 q2829 qs53 q161 q2830 ⟨by decide, by decide⟩ hl.1 (Nat.le_of_ble_eq_true rfl) dX10_sign_14 ⟨by omega, by omega⟩) hL (fun H locs hR hL => ?_)
        refine W.eq (g2 := F0 m9 17 ls [.int (iI ((x.length : Int))), .int (iI ((k : Int)))]) (congrArg (fun z_ : Int => F0 m9 17 ls [.int (iI (z_)), .int (iI ((k : Int)))]) (show (tof t i 3 : Int) = (x.length : Int) from (hX.1))) ?_
        refine h_icmp_lt hx hb 24 dX10_sign_17 (by decide) (by omega) (by omega) (fun c_x => ?_) (fun c_x => ?_)
        ·
          refine h_iconst hx hb dX10_sign_24 ?_
          refine lv_istore (lv' := [(5, .int (iI (0))), (0, .ref a), (1, .int (iI ((i : Int)))), (2, .int (iI ((j : Int)))), (3, .int (iI ((fr : Int)))), (4, .int (iI ((k : Int))))]) hx hb dX10_sign_25 hl (by decide) rfl (fun ls hl => ?_)
          refine lv_iload hx hb dX10_sign_27 (lv_at hl 5 rfl) ?_
          refine lv_aload_n hx hb dX10_sign_29 rfl (lv_at hl 1 rfl) ?_
          refine lv_iload_n hx hb dX10_sign_30 rfl (lv_at hl 3 rfl) ?_
          refine h_iconst hx hb dX10_sign_31 ?_
          -- call SpokenMarksModel.of
          refine h_kIp (h_runV X hR (m_of l G w a ad t hT.1 j 3 (by omega) (by omega)) pn_yX10_of (hasC.of hT.1.ob rfl) q2827 q2829 qs53 q161 q2830 ⟨by decide, by decide⟩ hl.1 (Nat.le_of_ble_eq_true rfl) dX10_sign_32 ⟨by omega, by omega⟩) hL (fun H locs hR hL => ?_)
          refine W.eq (g2 := F0 m9 35 ls [.int (iI ((y.length : Int))), .int (iI ((k : Int)))]) (congrArg (fun z_ : Int => F0 m9 35 ls [.int (iI (z_)), .int (iI ((k : Int)))]) (show (tof t j 3 : Int) = (y.length : Int) from (hY.1))) ?_
          refine h_icmp_lt hx hb 42 dX10_sign_35 (by decide) (by omega) (by omega) (fun c_y => ?_) (fun c_y => ?_)
          ·
            refine h_iconst hx hb dX10_sign_42 ?_
            refine lv_istore (lv' := [(6, .int (iI (0))), (5, .int (iI (0))), (0, .ref a), (1, .int (iI ((i : Int)))), (2, .int (iI ((j : Int)))), (3, .int (iI ((fr : Int)))), (4, .int (iI ((k : Int))))]) hx hb dX10_sign_43 hl (by decide) rfl (fun ls hl => ?_)
            refine lv_iload hx hb dX10_sign_45 (lv_at hl 1 rfl) ?_
            refine h_if_ne hx hb 55 dX10_sign_47 (by decide) (by decide) (fun z_ => absurd z_ (by decide)) (fun _ => ?_)
            refine lv_iload hx hb dX10_sign_50 (lv_at hl 0 rfl) ?_
            refine h_if_eq hx hb 77 dX10_sign_52 (by decide) (by decide) (fun _ => ?_) (fun z_ => absurd z_ (by decide))
            refine lv_aload_n hx hb dX10_sign_77 rfl (lv_at hl 2 rfl) ?_
            refine tw_get X hR hT 3 (by decide) q2944 rfl dX10_sign_78 ?_
            refine h_bipush hx hb dX10_sign_81 (by decide) ?_
            refine h_bipush hx hb dX10_sign_83 (by decide) ?_
            refine lv_iload_n hx hb dX10_sign_85 rfl (lv_at hl 3 rfl) ?_
            refine h_imul hx hb dX10_sign_86 ?_
            refine h_iadd hx hb dX10_sign_87 ?_
            refine lv_iload_n hx hb dX10_sign_88 rfl (lv_at hl 5 rfl) ?_
            refine h_iadd hx hb dX10_sign_89 ?_
            refine lv_iload hx hb dX10_sign_90 (lv_at hl 6 rfl) ?_
            refine h_iadd hx hb dX10_sign_92 ?_
            refine tw_lald X hR hT (k := 3) (by decide) (32 + 14 * i + fr + k) (by omega) (by show _ < _; simp only [twN]; omega) (v := x.getD k 0) (hX.2.2.1 k (by omega)) dX10_sign_93 (fun ra_93 => ?_)
            have hxr := hX.2.2.2 k
            refine lv_lstore (lv' := [(7, .long (lI (x.getD k 0))), (6, .int (iI (0))), (5, .int (iI (0))), (0, .ref a), (1, .int (iI ((i : Int)))), (2, .int (iI ((j : Int)))), (3, .int (iI ((fr : Int)))), (4, .int (iI ((k : Int))))]) hx hb dX10_sign_94 hl (by decide) rfl (fun ls hl => ?_)
            refine lv_aload_n hx hb dX10_sign_96 rfl (lv_at hl 3 rfl) ?_
            refine tw_get X hR hT 3 (by decide) q2944 rfl dX10_sign_97 ?_
            refine h_bipush hx hb dX10_sign_100 (by decide) ?_
            refine h_bipush hx hb dX10_sign_102 (by decide) ?_
            refine lv_iload_n hx hb dX10_sign_104 rfl (lv_at hl 5 rfl) ?_
            refine h_imul hx hb dX10_sign_105 ?_
            refine h_iadd hx hb dX10_sign_106 ?_
            refine lv_iload_n hx hb dX10_sign_107 rfl (lv_at hl 6 rfl) ?_
            refine h_iadd hx hb dX10_sign_108 ?_
            refine lv_iload hx hb dX10_sign_109 (lv_at hl 7 rfl) ?_
            refine h_iadd hx hb dX10_sign_111 ?_
            refine tw_lald X hR hT (k := 3) (by decide) (32 + 14 * j + fr + k) (by omega) (by show _ < _; simp only [twN]; omega) (v := y.getD k 0) (hY.2.2.1 k (by omega)) dX10_sign_112 (fun ra_112 => ?_)
            have hyr := hY.2.2.2 k
            refine lv_lstore (lv' := [(9, .long (lI (y.getD k 0))), (7, .long (lI (x.getD k 0))), (6, .int (iI (0))), (5, .int (iI (0))), (0, .ref a), (1, .int (iI ((i : Int)))), (2, .int (iI ((j : Int)))), (3, .int (iI ((fr : Int)))), (4, .int (iI ((k : Int))))]) hx hb dX10_sign_113 hl (by decide) rfl (fun ls hl => ?_)
            refine lv_lload hx hb dX10_sign_115 (lv_at hl 1 rfl) ?_
            refine lv_lload hx hb dX10_sign_117 (lv_at hl 0 rfl) ?_
            refine h_lcmp hx hb dX10_sign_119 (by omega) (by omega) ?_
            refine h_if_eq hx hb 137 dX10_sign_120 (by decide) (by have := cmpZ_r (x.getD k 0) (y.getD k 0); omega) (fun c_e => ?_) (fun c_e => ?_)
            ·
              refine h_iinc (lv' := [(4, .int (iI ((k : Int) + 1))), (9, .long (lI (y.getD k 0))), (7, .long (lI (x.getD k 0))), (6, .int (iI (0))), (5, .int (iI (0))), (0, .ref a), (1, .int (iI ((i : Int)))), (2, .int (iI ((j : Int)))), (3, .int (iI ((fr : Int))))]) hx hb dX10_sign_137 hl (k := 8) rfl (by decide) rfl (fun ls hl => ?_)
              refine lv_goto (tgt := 3) hx hb dX10_sign_140 (by decide) ?_
              exact ih_1 (k + 1) (by omega) (by rw [hv, cmpL_drop (by omega) (by omega), if_pos (cmpZ_0.mp (by omega))]) (by omega) _ _ _ hR hL (lv_sub hl [5, 6, 7, 8, 0] rfl)
            ·
              refine lv_lload hx hb dX10_sign_123 (lv_at hl 1 rfl) ?_
              refine lv_lload hx hb dX10_sign_125 (lv_at hl 0 rfl) ?_
              refine h_lcmp hx hb dX10_sign_127 (by omega) (by omega) ?_
              refine h_if_ge hx hb 135 dX10_sign_128 (by decide) (by have := cmpZ_r (x.getD k 0) (y.getD k 0); omega) (fun c_l => ?_) (fun c_l => ?_)
              ·
                refine h_iconst hx hb dX10_sign_135 ?_
                exact h_ireturn hx hb hlk hret hR hL rfl ⟨by rw [hv, cmpL_drop (by omega) (by omega), if_neg (fun q => c_e (cmpZ_0.mpr q))]; have hq := @cmpZ_lt (x.getD k 0) (y.getD k 0); split <;> first | rfl | omega, rfl⟩ (by omega) (by omega) rfl rfl dX10_sign_136
              ·
                refine h_iconst hx hb dX10_sign_131 ?_
                refine lv_goto (tgt := 136) hx hb dX10_sign_132 (by decide) ?_
                exact h_ireturn hx hb hlk hret hR hL rfl ⟨by rw [hv, cmpL_drop (by omega) (by omega), if_neg (fun q => c_e (cmpZ_0.mpr q))]; have hq := @cmpZ_lt (x.getD k 0) (y.getD k 0); split <;> first | rfl | omega, rfl⟩ (by omega) (by omega) rfl rfl dX10_sign_136
          ·
            refine h_iconst hx hb dX10_sign_38 ?_
            refine lv_goto (tgt := 43) hx hb dX10_sign_39 (by decide) ?_
            refine lv_istore (lv' := [(6, .int (iI (1))), (5, .int (iI (0))), (0, .ref a), (1, .int (iI ((i : Int)))), (2, .int (iI ((j : Int)))), (3, .int (iI ((fr : Int)))), (4, .int (iI ((k : Int))))]) hx hb dX10_sign_43 hl (by decide) rfl (fun ls hl => ?_)
            refine lv_iload hx hb dX10_sign_45 (lv_at hl 1 rfl) ?_
            refine h_if_ne hx hb 55 dX10_sign_47 (by decide) (by decide) (fun z_ => absurd z_ (by decide)) (fun _ => ?_)
            refine lv_iload hx hb dX10_sign_50 (lv_at hl 0 rfl) ?_
            refine h_if_eq hx hb 77 dX10_sign_52 (by decide) (by decide) (fun z_ => absurd z_ (by decide)) (fun _ => ?_)
            refine lv_iload hx hb dX10_sign_55 (lv_at hl 1 rfl) ?_
            refine lv_iload hx hb dX10_sign_57 (lv_at hl 0 rfl) ?_
            refine h_icmp_ne hx hb 66 dX10_sign_59 (by decide) (by decide) (by decide) (fun _ => ?_) (fun z_ => absurd z_ (by decide))
            refine lv_iload hx hb dX10_sign_66 (lv_at hl 1 rfl) ?_
            refine h_if_eq hx hb 75 dX10_sign_68 (by decide) (by decide) (fun _ => ?_) (fun z_ => absurd z_ (by decide))
            refine h_iconst hx hb dX10_sign_75 ?_
            exact h_ireturn hx hb hlk hret hR hL rfl ⟨by rw [hv, cmpL_end (by omega)]; repeat' split <;> first | rfl | omega, rfl⟩ (by omega) (by omega) rfl rfl dX10_sign_76
        ·
          refine h_iconst hx hb dX10_sign_20 ?_
          refine lv_goto (tgt := 25) hx hb dX10_sign_21 (by decide) ?_
          refine lv_istore (lv' := [(5, .int (iI (1))), (0, .ref a), (1, .int (iI ((i : Int)))), (2, .int (iI ((j : Int)))), (3, .int (iI ((fr : Int)))), (4, .int (iI ((k : Int))))]) hx hb dX10_sign_25 hl (by decide) rfl (fun ls hl => ?_)
          refine lv_iload hx hb dX10_sign_27 (lv_at hl 5 rfl) ?_
          refine lv_aload_n hx hb dX10_sign_29 rfl (lv_at hl 1 rfl) ?_
          refine lv_iload_n hx hb dX10_sign_30 rfl (lv_at hl 3 rfl) ?_
          refine h_iconst hx hb dX10_sign_31 ?_
          -- call SpokenMarksModel.of
          refine h_kIp (h_runV X hR (m_of l G w a ad t hT.1 j 3 (by omega) (by omega)) pn_yX10_of (hasC.of hT.1.ob rfl) q2827 q2829 qs53 q161 q2830 ⟨by decide, by decide⟩ hl.1 (Nat.le_of_ble_eq_true rfl) dX10_sign_32 ⟨by omega, by omega⟩) hL (fun H locs hR hL => ?_)
          refine W.eq (g2 := F0 m9 35 ls [.int (iI ((y.length : Int))), .int (iI ((k : Int)))]) (congrArg (fun z_ : Int => F0 m9 35 ls [.int (iI (z_)), .int (iI ((k : Int)))]) (show (tof t j 3 : Int) = (y.length : Int) from (hY.1))) ?_
          refine h_icmp_lt hx hb 42 dX10_sign_35 (by decide) (by omega) (by omega) (fun c_y => ?_) (fun c_y => ?_)
          ·
            refine h_iconst hx hb dX10_sign_42 ?_
            refine lv_istore (lv' := [(6, .int (iI (0))), (5, .int (iI (1))), (0, .ref a), (1, .int (iI ((i : Int)))), (2, .int (iI ((j : Int)))), (3, .int (iI ((fr : Int)))), (4, .int (iI ((k : Int))))]) hx hb dX10_sign_43 hl (by decide) rfl (fun ls hl => ?_)
            refine lv_iload hx hb dX10_sign_45 (lv_at hl 1 rfl) ?_
            refine h_if_ne hx hb 55 dX10_sign_47 (by decide) (by decide) (fun _ => ?_) (fun z_ => absurd z_ (by decide))
            refine lv_iload hx hb dX10_sign_55 (lv_at hl 1 rfl) ?_
            refine lv_iload hx hb dX10_sign_57 (lv_at hl 0 rfl) ?_
            refine h_icmp_ne hx hb 66 dX10_sign_59 (by decide) (by decide) (by decide) (fun _ => ?_) (fun z_ => absurd z_ (by decide))
            refine lv_iload hx hb dX10_sign_66 (lv_at hl 1 rfl) ?_
            refine h_if_eq hx hb 75 dX10_sign_68 (by decide) (by decide) (fun z_ => absurd z_ (by decide)) (fun _ => ?_)
            refine h_iconst hx hb dX10_sign_71 ?_
            refine lv_goto (tgt := 76) hx hb dX10_sign_72 (by decide) ?_
            exact h_ireturn hx hb hlk hret hR hL rfl ⟨by rw [hv, cmpL_end (by omega)]; repeat' split <;> first | rfl | omega, rfl⟩ (by omega) (by omega) rfl rfl dX10_sign_76
          ·
            refine h_iconst hx hb dX10_sign_38 ?_
            refine lv_goto (tgt := 43) hx hb dX10_sign_39 (by decide) ?_
            refine lv_istore (lv' := [(6, .int (iI (1))), (5, .int (iI (1))), (0, .ref a), (1, .int (iI ((i : Int)))), (2, .int (iI ((j : Int)))), (3, .int (iI ((fr : Int)))), (4, .int (iI ((k : Int))))]) hx hb dX10_sign_43 hl (by decide) rfl (fun ls hl => ?_)
            refine lv_iload hx hb dX10_sign_45 (lv_at hl 1 rfl) ?_
            refine h_if_ne hx hb 55 dX10_sign_47 (by decide) (by decide) (fun _ => ?_) (fun z_ => absurd z_ (by decide))
            refine lv_iload hx hb dX10_sign_55 (lv_at hl 1 rfl) ?_
            refine lv_iload hx hb dX10_sign_57 (lv_at hl 0 rfl) ?_
            refine h_icmp_ne hx hb 66 dX10_sign_59 (by decide) (by decide) (by decide) (fun z_ => absurd z_ (by decide)) (fun _ => ?_)
            refine h_iconst hx hb dX10_sign_62 ?_
            refine lv_goto (tgt := 76) hx hb dX10_sign_63 (by decide) ?_
            exact h_ireturn hx hb hlk hret hR hL rfl ⟨by rw [hv, cmpL_end (by omega)]; repeat' split <;> first | rfl | omega, rfl⟩ (by omega) (by omega) rfl rfl dX10_sign_76
  exact LOOP_1 _ 0 (by omega) rfl (Nat.lt_succ_self _) _ _ _ hR hL (lv_sub hl [1, 2, 3, 4, 0] rfl)

set_option maxHeartbeats 4000000 in
set_option maxRecDepth 100000 in
/-- compares -/
theorem m_compares (l : Launch) (G : Gl) (w : Wd) (a : Nat) (ad : Nat → Nat) (t : Tw) (hT : TwAt G w a ad t) (i : Nat) (j : Nat) (R : Rls) (pp : List Prt) (qq : List Prt) (h1 : i ≤ 40) (h2 : j ≤ 40) (hX : SlotP (t.2 3) i R pp) (hY : SlotP (t.2 3) j R qq) : HM l yX10_compares cX10_compares 4 (some .int) 3 0 0 G [.ref a, .int (iI ((i : Int))), .int (iI ((j : Int)))] w (QI G (fun z_ w_ => z_ = cmpM R pp qq ∧ w_ = w)) := by
  refine HM.mk (by decide +kernel) (Nat.le_of_ble_eq_true rfl) ?_
  intro p9 e9 s9 m9 a9 b9 meth9 c9 ls X hret hlk hnm hl H hR
  have hx := X.1.1
  have hb := X.1.2.1
  have hl : lv_has ls 4 [(0, .ref a), (1, .int (iI ((i : Int)))), (2, .int (iI ((j : Int))))] := hl
  have hL : LK G [] := fun q h => absurd h List.not_mem_nil
  generalize ([] : List Loc) = locs at hL ⊢
  have hTb := hT
  have hT : TwS G w w a ad t := TwS.rf hT
  refine lv_aload_n hx hb dX10_compares_0 rfl (lv_at hl 0 rfl) ?_
  refine lv_iload_n hx hb dX10_compares_1 rfl (lv_at hl 1 rfl) ?_
  refine lv_iload_n hx hb dX10_compares_2 rfl (lv_at hl 2 rfl) ?_
  refine h_bipush hx hb dX10_compares_3 (by decide) ?_
  -- call SpokenMarksModel.sign
  refine h_kIp (h_runV X hR (m_sign l G w a ad t hT.1 i j 9 (earK R pp) (earK R qq) h1 h2 (Or.inr rfl) hX.2 hY.2) pn_yX10_sign (hasC.of hT.1.ob rfl) q2872 q2874 qs62 q161 q2875 ⟨by decide, by decide⟩ hl.1 (Nat.le_of_ble_eq_true rfl) dX10_compares_5 ⟨by omega, by omega⟩) hL (fun H locs hR hL => ?_)
  refine lv_istore_n (lv' := [(3, .int (iI (cmpL (earK R pp) (earK R qq)))), (0, .ref a), (1, .int (iI ((i : Int)))), (2, .int (iI ((j : Int))))]) hx hb dX10_compares_8 rfl hl (by decide) rfl (fun ls hl => ?_)
  refine lv_iload_n hx hb dX10_compares_9 rfl (lv_at hl 0 rfl) ?_
  refine h_if_eq hx hb 17 dX10_compares_10 (by decide) (by have := cmpL_r (earK R pp) (earK R qq); omega) (fun c_e => ?_) (fun c_e => ?_)
  ·
    refine lv_aload_n hx hb dX10_compares_17 rfl (lv_at hl 1 rfl) ?_
    refine lv_iload_n hx hb dX10_compares_18 rfl (lv_at hl 2 rfl) ?_
    refine lv_iload_n hx hb dX10_compares_19 rfl (lv_at hl 3 rfl) ?_
    refine h_iconst hx hb dX10_compares_20 ?_
    -- call SpokenMarksModel.sign
    refine h_kIp (h_runV X hR (m_sign l G w a ad t hT.1 i j 4 (letK pp) (letK qq) h1 h2 (Or.inl rfl) hX.1 hY.1) pn_yX10_sign (hasC.of hT.1.ob rfl) q2872 q2874 qs62 q161 q2875 ⟨by decide, by decide⟩ hl.1 (Nat.le_of_ble_eq_true rfl) dX10_compares_21 ⟨by omega, by omega⟩) hL (fun H locs hR hL => ?_)
    exact h_ireturn hx hb hlk hret hR hL rfl ⟨by unfold cmpM; first | rw [if_pos c_e] | rw [if_neg c_e], rfl⟩ (by omega) (by omega) rfl rfl dX10_compares_24
  ·
    refine lv_iload_n hx hb dX10_compares_13 rfl (lv_at hl 0 rfl) ?_
    refine lv_goto (tgt := 24) hx hb dX10_compares_14 (by decide) ?_
    exact h_ireturn hx hb hlk hret hR hL rfl ⟨by unfold cmpM; first | rw [if_pos c_e] | rw [if_neg c_e], rfl⟩ (by omega) (by omega) rfl rfl dX10_compares_24
