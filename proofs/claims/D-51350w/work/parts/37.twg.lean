/-! the twin: ordersAnew, says, unsays -/
set_option maxRecDepth 100000
theorem SlotL.mv {f g : Nat → Int} {r : Nat} {m : Mrk} (h : SlotL f r m) (hfg : ∀ i, 32 + 14 * r ≤ i → i < 46 + 14 * r → g i = f i) : SlotL g r m :=
  ⟨by rw [hfg _ (by omega) (by omega)]; exact h.1, by rw [hfg _ (by omega) (by omega)]; exact h.2.1, by rw [hfg _ (by omega) (by omega)]; exact h.2.2.1, h.2.2.2.mv (Or.inl rfl) hfg⟩
theorem RowL.is {f g : Nat → Int} {c : Cat} (h : RowL f c) (hO : ∀ i, i < 32 → g i = f i) (hs : ∀ r, r < cN c → SlotM g r (cRl c) (mk c r)) : RowIs g c := by
  obtain ⟨h1, h2, h3, h4, h5, h6, h7, h8, _⟩ := h
  have hsh := h1.1
  exact ⟨h1, by rw [hO 0 (by omega)]; exact h2, by rw [hO 1 (by omega)]; exact h3, by rw [hO 2 (by omega)]; exact h4, by rw [hO 4 (by omega)]; exact h5, fun k hk => by rw [hO _ (by omega)]; exact h6 k hk, fun s hs => by rw [hO _ (by omega)]; exact h7 s hs, h8.mv hO, hs⟩
theorem SlotL.hrd {f g : Nat → Int} {r : Nat} {m : Mrk} {R : Rls} (h : SlotL f r m) (hp : SlotP g r R (mPs m)) (hfg : ∀ i, i < 32 + 14 * r + 9 ∨ 32 + 14 * r + 14 ≤ i → g i = f i) : SlotM g r R m :=
  ⟨(hfg _ (by omega)).trans h.1, (hfg _ (by omega)).trans h.2.1, (hfg _ (by omega)).trans h.2.2.1, hp⟩
theorem RowIs.mid {f g : Nat → Int} {c : Cat} {k j : Nat} (hk : k < cN c) (h0 : 0 < j) (hj : j ≤ k) (h : RowIs f (setMk c (midM (cRl c) (cMk c) k j))) (hg : ∀ i, g i = swpF f j (j - 1) i) : RowIs g (setMk c (midM (cRl c) (cMk c) k (j - 1))) := by
  obtain ⟨q, rfl⟩ : ∃ q, j = q + 1 := ⟨j - 1, by omega⟩
  have hl : (midM (cRl c) (cMk c) k (q + 1)).length = cN c := midM_len _ _ hk hj
  have hn : cN (setMk c (midM (cRl c) (cMk c) k (q + 1))) = cN c := hl
  refine h.swp (a := q + 1) (b := q) (by omega) (by omega) hg (M := midM (cRl c) (cMk c) k q) (by rw [hn]; exact midM_len _ _ hk (by omega)) (fun r hr => ?_)
  exact insAt_swp (srtM (cRl c) (cMk c) k ++ (cMk c).drop (k + 1)) (gM (cMk c) k) mrk0 (by rw [List.length_append, srtM_len]; omega) r

theorem pn_yX10_respaces : ParN yX10_respaces 0 := by decide +kernel

set_option maxHeartbeats 4000000 in
set_option maxRecDepth 100000 in
/-- ordersAnew -/
theorem m_ordersAnew (l : Launch) (G : Gl) (w : Wd) (a : Nat) (ad : Nat → Nat) (t : Tw) (hT : TwAt G w a ad t)  (c0 : Cat) (hL0 : RowL (t.2 3) c0) (hdst : Dst (cRl c0) (cMk c0)) (hac : ∀ k, k < 3 → cAc c0 k < 990000) : HM l yX10_ordersAnew cX10_ordersAnew 4 (some .int) 6 0 0 G [.ref a] w (QI G (fun z_ w_ => z_ = (ordA c0).2 ∧ ∃ t_ : Tw, TwS G w w_ a ad t_ ∧ TwE [1, 2, 3] t t_ ∧ RowIs (t_.2 3) (ordA c0).1)) := by
  refine HM.mk (by decide +kernel) (Nat.le_of_ble_eq_true rfl) ?_
  intro p9 e9 s9 m9 a9 b9 meth9 c9 ls X hret hlk hnm hl H hR
  have hx := X.1.1
  have hb := X.1.2.1
  have hl : lv_has ls 4 [(0, .ref a)] := hl
  have hL : LK G [] := fun q h => absurd h List.not_mem_nil
  generalize ([] : List Loc) = locs at hL ⊢
  have hTb := hT
  have hT : TwS G w w a ad t := TwS.rf hT
  have hn40 := hL0.1.2.2.2.1.1
  refine h_iconst hx hb dX10_ordersAnew_0 ?_
  refine lv_istore_n (lv' := [(1, .int (iI (0))), (0, .ref a)]) hx hb dX10_ordersAnew_1 rfl hl (by decide) rfl (fun ls hl => ?_)
  have LOOP_3 : ∀ (N_ : Nat) (k : Nat) (t_1 : Tw) (w_2 : Wd), (k ≤ cN c0) → (TwS G w w_2 a ad t_1) → (TwE [1, 2, 3] t t_1) → (∀ i, i < 32 → t_1.2 3 i = t.2 3 i) → (∀ r, r < k → SlotM (t_1.2 3) r (cRl c0) (mk c0 r)) → (∀ r, k ≤ r → r < cN c0 → SlotL (t_1.2 3) r (mk c0 r)) → (cN c0 - k) < N_ → ∀ (H : Heap) (locs : List Loc) (ls : Array Slot), Rp G w_2 H → LK G locs → lv_has ls 4 [(0, .ref a), (1, .int (iI ((k : Int))))] → W p9 l e9 (rmk 6 0 0) s9 m9 a9 b9 meth9 c9 H locs 0 0 (MQ b9 (QI G (fun z_ w_ => z_ = (ordA c0).2 ∧ ∃ t_ : Tw, TwS G w w_ a ad t_ ∧ TwE [1, 2, 3] t t_ ∧ RowIs (t_.2 3) (ordA c0).1)) a9 s9 0 0 (frG G)) (F0 m9 2 ls []) := by
    intro N_
    induction N_ with
    | zero => intro _ _ _ _ _ _ _ _ _ h_; exact absurd h_ (Nat.not_lt_zero _)
    | succ N_ ih_ =>
      intro k t_1 w_2 hk hT hE_t_1 hO hS1 hS2 hN_ H locs ls hR hL hl
      have ih_3 := ih_
      clear ih_
      refine lv_iload_n hx hb dX10_ordersAnew_2 rfl (lv_at hl 1 rfl) ?_
      refine lv_aload_n hx hb dX10_ordersAnew_3 rfl (lv_at hl 0 rfl) ?_
      refine h_iconst hx hb dX10_ordersAnew_4 ?_
      -- call SpokenMarksModel.head
      refine h_kIp (h_runV X hR (m_head l G w_2 a ad t_1 hT.1 2 (by omega)) pn_yX10_head (hasC.of hT.1.ob rfl) q2789 q2791 qs44 q161 q2792 ⟨by decide, by decide⟩ hl.1 (Nat.le_of_ble_eq_true rfl) dX10_ordersAnew_5 ⟨by omega, by omega⟩) hL (fun H locs hR hL => ?_)
      refine W.eq (g2 := F0 m9 8 ls [.int (iI ((cN c0 : Int))), .int (iI ((k : Int)))]) (congrArg (fun z_ : Int => F0 m9 8 ls [.int (iI (z_)), .int (iI ((k : Int)))]) (show (hd t_1 2 : Int) = (cN c0 : Int) from ((hO 2 (by omega)).trans hL0.2.2.2.1))) ?_
      refine h_icmp_ge hx hb 22 dX10_ordersAnew_8 (by decide) (by omega) (by omega) (fun c_7 => ?_) (fun c_7 => ?_)
      ·
        have hD0 : RowIs (t_1.2 3) c0 := hL0.is hO (fun r hr => hS1 r (by omega))
        refine h_iconst hx hb dX10_ordersAnew_22 ?_
        refine lv_istore_n (lv' := [(1, .int (iI (0))), (0, .ref a)]) hx hb dX10_ordersAnew_23 rfl hl (by decide) rfl (fun ls hl => ?_)
        refine h_iconst hx hb dX10_ordersAnew_24 ?_
        refine lv_istore_n (lv' := [(2, .int (iI (1))), (1, .int (iI (0))), (0, .ref a)]) hx hb dX10_ordersAnew_25 rfl hl (by decide) rfl (fun ls hl => ?_)
        have LOOP_10 : ∀ (N_ : Nat) (k : Nat) (t_8 : Tw) (w_9 : Wd), (1 ≤ k ∧ (k = 1 ∨ k ≤ cN c0)) → (TwS G w w_9 a ad t_8) → (TwE [1, 2, 3] t t_8) → (RowIs (t_8.2 3) (setMk c0 (begM (cRl c0) (cMk c0) (min k (cN c0))))) → (cN c0 - k) < N_ → ∀ (H : Heap) (locs : List Loc) (ls : Array Slot), Rp G w_9 H → LK G locs → lv_has ls 4 [(0, .ref a), (1, .int (iI (mvd (cRl c0) (cMk c0) (min k (cN c0))))), (2, .int (iI ((k : Int))))] → W p9 l e9 (rmk 6 0 0) s9 m9 a9 b9 meth9 c9 H locs 0 0 (MQ b9 (QI G (fun z_ w_ => z_ = (ordA c0).2 ∧ ∃ t_ : Tw, TwS G w w_ a ad t_ ∧ TwE [1, 2, 3] t t_ ∧ RowIs (t_.2 3) (ordA c0).1)) a9 s9 0 0 (frG G)) (F0 m9 26 ls []) := by
          intro N_
          induction N_ with
          | zero => intro _ _ _ _ _ _ _ h_; exact absurd h_ (Nat.not_lt_zero _)
          | succ N_ ih_ =>
            intro k t_8 w_9 hk hT hE_t_8 hD hN_ H locs ls hR hL hl
            have ih_10 := ih_
            clear ih_
            refine lv_iload_n hx hb dX10_ordersAnew_26 rfl (lv_at hl 2 rfl) ?_
            refine lv_aload_n hx hb dX10_ordersAnew_27 rfl (lv_at hl 0 rfl) ?_
            refine h_iconst hx hb dX10_ordersAnew_28 ?_
            -- call SpokenMarksModel.head
            refine h_kIp (h_runV X hR (m_head l G w_9 a ad t_8 hT.1 2 (by omega)) pn_yX10_head (hasC.of hT.1.ob rfl) q2789 q2791 qs44 q161 q2792 ⟨by decide, by decide⟩ hl.1 (Nat.le_of_ble_eq_true rfl) dX10_ordersAnew_29 ⟨by omega, by omega⟩) hL (fun H locs hR hL => ?_)
            refine W.eq (g2 := F0 m9 32 ls [.int (iI ((cN c0 : Int))), .int (iI ((k : Int)))]) (congrArg (fun z_ : Int => F0 m9 32 ls [.int (iI (z_)), .int (iI ((k : Int)))]) (show (hd t_8 2 : Int) = (cN c0 : Int) from ((hD.n.trans (congrArg Int.ofNat (begM_len (cRl c0) (cMk c0) (Nat.min_le_right k (cN c0)))))))) ?_
            refine h_icmp_ge hx hb 74 dX10_ordersAnew_32 (by decide) (by omega) (by omega) (fun c_14 => ?_) (fun c_14 => ?_)
            ·
              refine lv_iload_n hx hb dX10_ordersAnew_74 rfl (lv_at hl 1 rfl) ?_
              refine h_if_eq hx hb 85 dX10_ordersAnew_75 (by decide) (by have := mvd_r (cRl c0) (cMk c0) (min k (cN c0)); omega) (fun c_m => ?_) (fun c_m => ?_)
              ·
                refine h_iconst hx hb dX10_ordersAnew_85 ?_
                exact h_ireturn hx hb hlk hret hR hL rfl ⟨(by unfold ordA; rw [if_pos (by rw [Nat.min_eq_right (show cN c0 ≤ k by omega)] at c_m; exact c_m)]), ⟨t_8, hT, (TwE.tr (S2 := [1, 2, 3]) (TwE.rf : TwE [] t t) hE_t_8 rfl rfl), (by unfold ordA; rw [Nat.min_eq_right (show cN c0 ≤ k by omega)] at c_m hD; rw [if_pos c_m]; rw [mvd_0 (Nat.le_refl _) c_m] at hD; exact hD)⟩⟩ (by omega) (by omega) rfl rfl dX10_ordersAnew_86
              ·
                refine lv_aload_n hx hb dX10_ordersAnew_78 rfl (lv_at hl 0 rfl) ?_
                -- call SpokenMarksModel.respaces
                refine h_kI (h_runV X hR (m_respaces l G w_9 a ad t_8 hT.1 (setMk c0 (srtM (cRl c0) (cMk c0) (cN c0))) (by have := hD; rwa [Nat.min_eq_right (show cN c0 ≤ k by omega), begM_end] at this) hac) pn_yX10_respaces (hasC.of hT.1.ob rfl) q2880 q2882 qs64 q161 q2883 ⟨by decide, by decide⟩ hl.1 (Nat.le_of_ble_eq_true rfl) dX10_ordersAnew_79 ⟨by omega, by omega⟩) hL (fun z_15 w_16 hp_17 H locs hR hL => ?_)
                obtain ⟨rfl, t_18, hT2, hE_t_18, et_19⟩ := hp_17
                have hT := hT.tr hT2
                clear hT2
                refine lv_goto (tgt := 86) hx hb dX10_ordersAnew_82 (by decide) ?_
                exact h_ireturn hx hb hlk hret hR hL rfl ⟨(by unfold ordA; rw [if_neg (by rw [Nat.min_eq_right (show cN c0 ≤ k by omega)] at c_m; exact c_m)]), ⟨t_18, hT, (TwE.tr (S2 := [1, 2, 3]) (TwE.tr (S2 := [1, 2, 3]) (TwE.rf : TwE [] t t) hE_t_8 rfl rfl) hE_t_18 rfl rfl), (by unfold ordA; rw [if_neg (by rw [Nat.min_eq_right (show cN c0 ≤ k by omega)] at c_m; exact c_m)]; exact et_19)⟩⟩ (by omega) (by omega) rfl rfl dX10_ordersAnew_86
            ·
              refine lv_iload_n hx hb dX10_ordersAnew_35 rfl (lv_at hl 2 rfl) ?_
              refine lv_istore_n (lv' := [(3, .int (iI ((k : Int)))), (0, .ref a), (1, .int (iI (mvd (cRl c0) (cMk c0) (min k (cN c0))))), (2, .int (iI ((k : Int))))]) hx hb dX10_ordersAnew_36 rfl hl (by decide) rfl (fun ls hl => ?_)
              have LOOP_22 : ∀ (N_ : Nat) (j : Nat) (t_20 : Tw) (w_21 : Wd), (j ≤ k) → (∀ i, j ≤ i → i < k → cmpM (cRl c0) (mPs (gM (cMk c0) k)) (mPs (gM (srtM (cRl c0) (cMk c0) k) i)) < 0) → (TwS G w w_21 a ad t_20) → (TwE [1, 2, 3] t t_20) → (cN (setMk c0 (midM (cRl c0) (cMk c0) k j)) = cN c0) → (RowIs (t_20.2 3) (setMk c0 (midM (cRl c0) (cMk c0) k j))) → j < N_ → ∀ (H : Heap) (locs : List Loc) (ls : Array Slot), Rp G w_21 H → LK G locs → lv_has ls 4 [(0, .ref a), (1, .int (iI (if j = k then mvd (cRl c0) (cMk c0) k else 1))), (2, .int (iI ((k : Int)))), (3, .int (iI ((j : Int))))] → W p9 l e9 (rmk 6 0 0) s9 m9 a9 b9 meth9 c9 H locs 0 0 (MQ b9 (QI G (fun z_ w_ => z_ = (ordA c0).2 ∧ ∃ t_ : Tw, TwS G w w_ a ad t_ ∧ TwE [1, 2, 3] t t_ ∧ RowIs (t_.2 3) (ordA c0).1)) a9 s9 0 0 (frG G)) (F0 m9 37 ls []) := by
                intro N_
                induction N_ with
                | zero => intro _ _ _ _ _ _ _ _ _ h_; exact absurd h_ (Nat.not_lt_zero _)
                | succ N_ ih_ =>
                  intro j t_20 w_21 hj hlt hT hE_t_20 hDn hD2 hN_ H locs ls hR hL hl
                  have ih_22 := ih_
                  clear ih_
                  refine lv_iload_n hx hb dX10_ordersAnew_37 rfl (lv_at hl 3 rfl) ?_
                  refine h_if_le hx hb 68 dX10_ordersAnew_38 (by decide) (by omega) (fun c_23 => ?_) (fun c_23 => ?_)
                  ·
                    have hrk := rk_exit hdst (show k < cN c0 by omega) hj hlt (by first | exact Or.inl (by omega) | exact Or.inr (by omega))
                    refine h_iinc (lv' := [(2, .int (iI ((k : Int) + 1))), (0, .ref a), (1, .int (iI (if j = k then mvd (cRl c0) (cMk c0) k else 1))), (3, .int (iI ((j : Int))))]) hx hb dX10_ordersAnew_68 hl (k := 2) rfl (by decide) rfl (fun ls hl => ?_)
                    refine lv_goto (tgt := 26) hx hb dX10_ordersAnew_71 (by decide) ?_
                    have hl : lv_has ls 4 [(2, .int (iI ((k : Int) + 1))), (0, .ref a), (1, .int (iI (mvd (cRl c0) (cMk c0) (min (k + 1) (cN c0))))), (3, .int (iI ((j : Int))))] := lv_conv hl (congrArg (fun z_ : Int => ([(2, .int (iI ((k : Int) + 1))), (0, .ref a), (1, .int (iI (z_))), (3, .int (iI ((j : Int))))] : List (Nat × Value))) (show (if j = k then mvd (cRl c0) (cMk c0) k else 1 : Int) = mvd (cRl c0) (cMk c0) (min (k + 1) (cN c0)) from (by rw [Nat.min_eq_left (show k + 1 ≤ cN c0 by omega), mvd_step hrk])))
                    exact ih_10 (k + 1) t_20 w_21 (by omega) hT (TwE.tr (S2 := [1, 2, 3]) (TwE.rf : TwE [] t t) hE_t_20 rfl rfl) (by rw [Nat.min_eq_left (show k + 1 ≤ cN c0 by omega), ← midM_end _ _ hrk]; exact hD2) (by omega) _ _ _ hR hL (lv_sub hl [1, 2, 0] rfl)
                  ·
                    refine lv_aload_n hx hb dX10_ordersAnew_41 rfl (lv_at hl 0 rfl) ?_
                    refine lv_iload_n hx hb dX10_ordersAnew_42 rfl (lv_at hl 3 rfl) ?_
                    refine lv_iload_n hx hb dX10_ordersAnew_43 rfl (lv_at hl 3 rfl) ?_
                    refine h_iconst hx hb dX10_ordersAnew_44 ?_
                    refine h_isub hx hb dX10_ordersAnew_45 ?_
                    refine W.eq (g2 := F0 m9 46 ls [.int (iI (((j - 1 : Nat) : Int))), .int (iI ((j : Int))), .ref a]) (congrArg (fun z_ : Int => F0 m9 46 ls [.int (iI (z_)), .int (iI ((j : Int))), .ref a]) (show (((j : Int)) - 1 : Int) = ((j - 1 : Nat) : Int) from (by omega))) ?_
                    -- call SpokenMarksModel.compares
                    refine h_kIp (h_runV X hR (m_compares l G w_21 a ad t_20 hT.1 j (j - 1) (cRl c0) (mPs (gM (cMk c0) k)) (mPs (gM (srtM (cRl c0) (cMk c0) k) (j - 1))) (by omega) (by omega) (by have := (hD2.m j (by rw [hDn]; omega)).2.2.2; rwa [show mk (setMk c0 (midM (cRl c0) (cMk c0) k j)) j = gM (cMk c0) k from midM_j _ _ hj] at this) (by have := (hD2.m (j - 1) (by rw [hDn]; omega)).2.2.2; rwa [show mk (setMk c0 (midM (cRl c0) (cMk c0) k j)) (j - 1) = gM (srtM (cRl c0) (cMk c0) k) (j - 1) from midM_p _ _ (by omega) hj] at this)) pn_yX10_compares (hasC.of hT.1.ob rfl) q2868 q2870 qs61 q161 q2871 ⟨by decide, by decide⟩ hl.1 (Nat.le_of_ble_eq_true rfl) dX10_ordersAnew_46 ⟨by omega, by omega⟩) hL (fun H locs hR hL => ?_)
                    have hcr := cmpM_r (cRl c0) (mPs (gM (cMk c0) k)) (mPs (gM (srtM (cRl c0) (cMk c0) k) (j - 1)))
                    refine h_if_ge hx hb 68 dX10_ordersAnew_49 (by decide) (by omega) (fun c_27 => ?_) (fun c_27 => ?_)
                    ·
                      have hrk := rk_exit hdst (show k < cN c0 by omega) hj hlt (by first | exact Or.inl (by omega) | exact Or.inr (by omega))
                      refine h_iinc (lv' := [(2, .int (iI ((k : Int) + 1))), (0, .ref a), (1, .int (iI (if j = k then mvd (cRl c0) (cMk c0) k else 1))), (3, .int (iI ((j : Int))))]) hx hb dX10_ordersAnew_68 hl (k := 2) rfl (by decide) rfl (fun ls hl => ?_)
                      refine lv_goto (tgt := 26) hx hb dX10_ordersAnew_71 (by decide) ?_
                      have hl : lv_has ls 4 [(2, .int (iI ((k : Int) + 1))), (0, .ref a), (1, .int (iI (mvd (cRl c0) (cMk c0) (min (k + 1) (cN c0))))), (3, .int (iI ((j : Int))))] := lv_conv hl (congrArg (fun z_ : Int => ([(2, .int (iI ((k : Int) + 1))), (0, .ref a), (1, .int (iI (z_))), (3, .int (iI ((j : Int))))] : List (Nat × Value))) (show (if j = k then mvd (cRl c0) (cMk c0) k else 1 : Int) = mvd (cRl c0) (cMk c0) (min (k + 1) (cN c0)) from (by rw [Nat.min_eq_left (show k + 1 ≤ cN c0 by omega), mvd_step hrk])))
                      exact ih_10 (k + 1) t_20 w_21 (by omega) hT (TwE.tr (S2 := [1, 2, 3]) (TwE.rf : TwE [] t t) hE_t_20 rfl rfl) (by rw [Nat.min_eq_left (show k + 1 ≤ cN c0 by omega), ← midM_end _ _ hrk]; exact hD2) (by omega) _ _ _ hR hL (lv_sub hl [1, 2, 0] rfl)
                    ·
                      refine lv_aload_n hx hb dX10_ordersAnew_52 rfl (lv_at hl 0 rfl) ?_
                      refine lv_iload_n hx hb dX10_ordersAnew_53 rfl (lv_at hl 3 rfl) ?_
                      refine lv_iload_n hx hb dX10_ordersAnew_54 rfl (lv_at hl 3 rfl) ?_
                      refine h_iconst hx hb dX10_ordersAnew_55 ?_
                      refine h_isub hx hb dX10_ordersAnew_56 ?_
                      refine W.eq (g2 := F0 m9 57 ls [.int (iI (((j - 1 : Nat) : Int))), .int (iI ((j : Int))), .ref a]) (congrArg (fun z_ : Int => F0 m9 57 ls [.int (iI (z_)), .int (iI ((j : Int))), .ref a]) (show (((j : Int)) - 1 : Int) = ((j - 1 : Nat) : Int) from (by omega))) ?_
                      -- call SpokenMarksModel.swaps
                      refine h_kV (h_runV X hR (m_swaps l G w_21 a ad t_20 hT.1 j (j - 1) (by omega) (by omega) (by omega)) pn_yX10_swaps (hasC.of hT.1.ob rfl) q2876 q2878 qs63 q161 q2879 ⟨by decide, by decide⟩ hl.1 (Nat.le_of_ble_eq_true rfl) dX10_ordersAnew_57 ⟨by omega, by omega⟩) hL (fun w_29 hp_30 H locs hR hL => ?_)
                      obtain ⟨t_31, hT2, hE_t_31, et_32⟩ := hp_30
                      have hT := hT.tr hT2
                      clear hT2
                      refine h_iconst hx hb dX10_ordersAnew_60 ?_
                      refine lv_istore_n (lv' := [(1, .int (iI (1))), (0, .ref a), (2, .int (iI ((k : Int)))), (3, .int (iI ((j : Int))))]) hx hb dX10_ordersAnew_61 rfl hl (by decide) rfl (fun ls hl => ?_)
                      refine h_iinc (lv' := [(3, .int (iI ((j : Int) + (-1)))), (1, .int (iI (1))), (0, .ref a), (2, .int (iI ((k : Int))))]) hx hb dX10_ordersAnew_62 hl (k := 3) rfl (by decide) rfl (fun ls hl => ?_)
                      refine lv_goto (tgt := 37) hx hb dX10_ordersAnew_65 (by decide) ?_
                      have hl : lv_has ls 4 [(3, .int (iI ((j : Int) + (-1)))), (1, .int (iI (if j - 1 = k then mvd (cRl c0) (cMk c0) k else 1))), (0, .ref a), (2, .int (iI ((k : Int))))] := lv_conv hl (congrArg (fun z_ : Int => ([(3, .int (iI ((j : Int) + (-1)))), (1, .int (iI (z_))), (0, .ref a), (2, .int (iI ((k : Int))))] : List (Nat × Value))) (show (1 : Int) = if j - 1 = k then mvd (cRl c0) (cMk c0) k else 1 from (by rw [if_neg (by omega)])))
                      have hl : lv_has ls 4 [(3, .int (iI (((j - 1 : Nat) : Int)))), (1, .int (iI (if j - 1 = k then mvd (cRl c0) (cMk c0) k else 1))), (0, .ref a), (2, .int (iI ((k : Int))))] := lv_conv hl (congrArg (fun z_ : Int => ([(3, .int (iI (z_))), (1, .int (iI (if j - 1 = k then mvd (cRl c0) (cMk c0) k else 1))), (0, .ref a), (2, .int (iI ((k : Int))))] : List (Nat × Value))) (show ((j : Int) + (-1) : Int) = ((j - 1 : Nat) : Int) from (by omega)))
                      exact ih_22 (j - 1) t_31 w_29 (by omega) (fun i h1 h2 => by by_cases q_ : j ≤ i; exact hlt i q_ h2; (rw [show i = j - 1 by omega]; omega)) hT (TwE.tr (S2 := [1, 2, 3]) (TwE.tr (S2 := [1, 2, 3]) (TwE.rf : TwE [] t t) hE_t_20 rfl rfl) hE_t_31 rfl rfl) (midM_len _ _ (show k < cN c0 by omega) (by omega)) (RowIs.mid (show k < cN c0 by omega) (by omega) hj hD2 et_32) (by omega) _ _ _ hR hL (lv_sub hl [2, 1, 3, 0] rfl)
              have hl : lv_has ls 4 [(3, .int (iI ((k : Int)))), (0, .ref a), (1, .int (iI (if k = k then mvd (cRl c0) (cMk c0) k else 1))), (2, .int (iI ((k : Int))))] := lv_conv hl (congrArg (fun z_ : Int => ([(3, .int (iI ((k : Int)))), (0, .ref a), (1, .int (iI (z_))), (2, .int (iI ((k : Int))))] : List (Nat × Value))) (show (mvd (cRl c0) (cMk c0) (min k (cN c0)) : Int) = if k = k then mvd (cRl c0) (cMk c0) k else 1 from (by rw [if_pos rfl, Nat.min_eq_left (show k ≤ cN c0 by omega)])))
              exact LOOP_22 _ k t_8 w_9 (Nat.le_refl _) (fun i h1 h2 => absurd h2 (by omega)) hT (TwE.tr (S2 := [1, 2, 3]) (TwE.rf : TwE [] t t) hE_t_8 rfl rfl) (midM_len _ _ (show k < cN c0 by omega) (Nat.le_refl _)) (by rw [midM_k _ _ (show k < cN c0 by omega)]; have := hD; rwa [Nat.min_eq_left (show k ≤ cN c0 by omega)] at this) (Nat.lt_succ_self _) _ _ _ hR hL (lv_sub hl [1, 2, 3, 0] rfl)
        have hl : lv_has ls 4 [(2, .int (iI (1))), (1, .int (iI (mvd (cRl c0) (cMk c0) (min 1 (cN c0))))), (0, .ref a)] := lv_conv hl (congrArg (fun z_ : Int => ([(2, .int (iI (1))), (1, .int (iI (z_))), (0, .ref a)] : List (Nat × Value))) (show (0 : Int) = mvd (cRl c0) (cMk c0) (min 1 (cN c0)) from (by rcases Nat.eq_zero_or_pos (cN c0) with q | q; (rw [q]; rfl); (rw [Nat.min_eq_left q, mvd, if_pos (show rkL (cRl c0) (srtM (cRl c0) (cMk c0) 0) (mPs (gM (cMk c0) 0)) = 0 from Nat.le_zero.mp (rkL_le (cRl c0) [] _))]; rfl))))
        exact LOOP_10 _ 1 t_1 w_2 (by omega) hT (TwE.tr (S2 := [1, 2, 3]) (TwE.rf : TwE [] t t) hE_t_1 rfl rfl) (by rw [show begM (cRl c0) (cMk c0) (min 1 (cN c0)) = cMk c0 from begM_0 _ _]; exact hD0) (Nat.lt_succ_self _) _ _ _ hR hL (lv_sub hl [2, 1, 0] rfl)
      ·
        refine lv_aload_n hx hb dX10_ordersAnew_11 rfl (lv_at hl 0 rfl) ?_
        refine lv_iload_n hx hb dX10_ordersAnew_12 rfl (lv_at hl 1 rfl) ?_
        -- call SpokenMarksModel.hears
        refine h_kV (h_runV X hR (m_hears l G w_2 a ad t_1 hT.1 k (cRl c0) (mPs (mk c0 k)) (by omega) (hL0.2.2.2.2.2.2.2.1.mv hO) (hS2 k (Nat.le_refl _) (by omega)).2.2.2 (hL0.1.2.2.2.1.2 k (by omega)).2.1) pn_yX10_hears (hasC.of hT.1.ob rfl) q2823 q2825 qs52 q161 q2826 ⟨by decide, by decide⟩ hl.1 (Nat.le_of_ble_eq_true rfl) dX10_ordersAnew_13 ⟨by omega, by omega⟩) hL (fun w_34 hp_35 H locs hR hL => ?_)
        obtain ⟨t_36, hT2, hE_t_36, et_37⟩ := hp_35
        have hT := hT.tr hT2
        clear hT2
        refine h_iinc (lv' := [(1, .int (iI ((k : Int) + 1))), (0, .ref a)]) hx hb dX10_ordersAnew_16 hl (k := 1) rfl (by decide) rfl (fun ls hl => ?_)
        refine lv_goto (tgt := 2) hx hb dX10_ordersAnew_19 (by decide) ?_
        exact ih_3 (k + 1) t_36 w_34 (by omega) hT (TwE.tr (S2 := [1, 2, 3]) (TwE.tr (S2 := [1, 2, 3]) (TwE.rf : TwE [] t t) hE_t_1 rfl rfl) hE_t_36 rfl rfl) (fun i hi => (et_37.2 i (by omega)).trans (hO i hi)) (fun r hr => by by_cases q_ : r = k; (subst q_; exact (hS2 r (Nat.le_refl _) (by omega)).hrd et_37.1 et_37.2); exact (hS1 r (by omega)).mv (fun i h1 h2 => et_37.2 i (by omega))) (fun r h1 h2 => (hS2 r (by omega) h2).mv (fun i h3 h4 => et_37.2 i (by omega))) (by omega) _ _ _ hR hL (lv_sub hl [1, 0] rfl)
  exact LOOP_3 _ 0 t w (by omega) hT (TwE.rf : TwE [1, 2, 3] t t) (fun _ _ => rfl) (fun r hr => absurd hr (Nat.not_lt_zero _)) (fun r _ hr => hL0.2.2.2.2.2.2.2.2 r hr) (Nat.lt_succ_self _) _ _ _ hR hL (lv_sub hl [1, 0] rfl)
