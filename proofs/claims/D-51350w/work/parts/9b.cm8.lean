/-! the component: respace, add -/
set_option maxRecDepth 100000
theorem MksF.g {G : Gl} {R : Rls} {w : Wd} {r : Nat} {M : List Nat} {n : Nat} {f : Nat → Mrk} (h : MksF G R w r M n f) {k : Nat} (hk : k < n) {m : Mrk} (e : f k = m) : MkAt G R w r (M.getD k 0) m := e ▸ h.2 k hk
theorem MksF.to {G : Gl} {R : Rls} {w : Wd} {r : Nat} {M : List Nat} {n : Nat} {f g : Nat → Mrk} (h : MksF G R w r M n f) (e : f = g) : MksF G R w r M n g := e ▸ h
theorem RDs.eq {R R' : Rls} (h : RDs R) (e : R' = R) : RDs R' := e ▸ h
theorem ac_rsp {c : Cat} {fa : Nat → Int} {v : Int} (h : ∀ j, j < 3 → fa j = cAc c j) : ∀ j, j < 3 → zset (zset fa 1 (fa 1 + 1)) 2 (zset fa 1 (fa 1 + 1) 2 + v) j = cAc (rspC c v) j := fun j hj => by
  have h0 := h 0 (by decide); have h1 := h 1 (by decide); have h2 := h 2 (by decide)
  rcases (show j = 0 ∨ j = 1 ∨ j = 2 by omega) with rfl | rfl | rfl
  · exact h0
  · show fa 1 + 1 = cAc c 1 + 1; rw [h1]
  · show fa 2 + v = cAc c 2 + v; rw [h2]
theorem ac_ins {c : Cat} {fa : Nat → Int} {g : List Prt} {w : Int} (h : ∀ j, j < 3 → fa j = cAc c j) : ∀ j, j < 3 → zset fa 0 (fa 0 + 1) j = cAc (cIns c g w) j := fun j hj => by
  have h0 := h 0 (by decide); have h1 := h 1 (by decide); have h2 := h 2 (by decide)
  rcases (show j = 0 ∨ j = 1 ∨ j = 2 by omega) with rfl | rfl | rfl
  · show fa 0 + 1 = cAc c 0 + 1; rw [h0]
  · exact h1
  · exact h2
theorem nn_mem {M : List Nat} {w : Wd} {q : Nat} (h : ∀ k, k < M.length → ∃ y, w (M.getD k 0) = some y) (hq : w q = none) : q ∉ M := fun hm => by
  obtain ⟨k, hk, e⟩ := getD_mem hm
  obtain ⟨y, hy⟩ := h k hk
  rw [e, hq] at hy; cases hy
theorem MksAt.nm {G : Gl} {R : Rls} {w : Wd} {r : Nat} {M : List Nat} {ms : List Mrk} {q : Nat} (h : MksAt G R w r M ms) (hq : w q = none) : q ∉ M := nn_mem (fun k hk => (h.2 k (by rw [← h.1]; exact hk)).sm) hq


theorem cnt_b (c : Cat) (but : Int) (k : Nat) : 0 ≤ sumN (fun k_ => b2i (mPl (mk c k_) ≠ spc (k_ : Int) (cN c) ∧ mId (mk c k_) ≠ but)) k ∧ sumN (fun k_ => b2i (mPl (mk c k_) ≠ spc (k_ : Int) (cN c) ∧ mId (mk c k_) ≠ but)) k ≤ k := by
  have := sumN_bd (f := fun k_ => b2i (mPl (mk c k_) ≠ spc (k_ : Int) (cN c) ∧ mId (mk c k_) ≠ but)) (n := k) 0 1 (fun i _ => b2i_01 _)
  omega

set_option maxHeartbeats 4000000 in
set_option maxRecDepth 100000 in
/-- SpokenMarks$Catalogue.respace -/
theorem ct_rsp (l : Launch) (G : Gl) (w : Wd) (a lm lr hm : Nat) (c : Cat) (hC : CatAt G w a lm lr hm c) (hS : CatS c) (but : Int) (hbt : R32 but) (hG : RegW w) : HM l yX2_respace cX2_respace 6 (some .int) 5 0 0 G [.ref a, .int (iI (but))] w (QI G (fun z_ w_ => z_ = rsV c but ∧ CatAt G w_ a lm lr hm (rspC c (rsV c but)) ∧ KpI a w w_ ∧ Up (fun q_ => q_ = a + 1) w w_)) := by
  refine HM.mk (by decide +kernel) (Nat.le_of_ble_eq_true rfl) ?_
  intro p9 e9 s9 m9 a9 b9 meth9 c9 ls X hret hlk hnm hl H hR
  have hx := X.1.1
  have hb := X.1.2.1
  have hl : lv_has ls 6 [(0, .ref a), (1, .int (iI (but)))] := hl
  have hL : LK G [] := fun q h => absurd h List.not_mem_nil
  generalize ([] : List Loc) = locs at hL ⊢
  have hU : Up (fun q_ => q_ = a + 1) w w := Up.rf hG
  have hC0 := hC
  obtain ⟨bda, aca, so, fb, fa, Lm, Lr, mp, hCt, ⟨hbd, hbx⟩, ⟨hac, hax⟩, hso, ⟨⟨mo1, hm1, hlm⟩, hmk, hnd⟩, ⟨⟨mo2, hm2, hlr⟩, hru⟩, ⟨hhm, hmp⟩, hrd, hid, hba, hll⟩ := hC
  have hCt : w a = some (a + 1, oE 2 [.int (iI (cSh c)), .int (iI (cRm c)), .ref bda, .ref lm, .ref lr, .ref hm, .ref so, .ref aca, .int (iI (cNx c))]) := hCt
  have s1 := hS.1
  have s2 := hS.2.1
  have s3 := hS.2.2.1
  have s4 := hS.2.2.2.1.1
  have hRW := hS.2.2.2.2.1
  have s5 := hRW.1
  have s6 := hS.2.2.2.2.2
  have hml : Lm.length = cN c := hmk.1
  have hrl := hru.1
  have nla : lm ≠ a := hasC_ne hlm.c hC0.c (by decide)
  have nra : lr ≠ a := hasC_ne hlr.c hC0.c (by decide)
  have nha : hm ≠ a := hasC_ne hhm.c hC0.c (by decide)
  have nhl : hm ≠ lm := hasC_ne hhm.c hlm.c (by decide)
  have ne_bda_aca : bda ≠ aca := hba
  have nhr : hm ≠ lr := hasC_ne hhm.c hlr.c (by decide)
  have hmf0 : MksF G (cRl c) w (a + 1) Lm (cN c) (rsF c 0) := by rw [rsF_0]; exact hmk
  refine h_iconst hx hb dX2_respace_0 ?_
  refine lv_istore_n (lv' := [(2, .int (iI (0))), (0, .ref a), (1, .int (iI (but)))]) hx hb dX2_respace_1 rfl hl (by decide) rfl (fun ls hl => ?_)
  refine h_iconst hx hb dX2_respace_2 ?_
  refine lv_istore_n (lv' := [(3, .int (iI (0))), (2, .int (iI (0))), (0, .ref a), (1, .int (iI (but)))]) hx hb dX2_respace_3 rfl hl (by decide) rfl (fun ls hl => ?_)
  have LOOP_2 : ∀ (N_ : Nat) (k : Nat)(w_1 : Wd) , (k ≤ cN c) → (w_1 a = some (a + 1, oE 2 [.int (iI (cSh c)), .int (iI (cRm c)), .ref bda, .ref lm, .ref lr, .ref hm, .ref so, .ref aca, .int (iI (cNx c))])) → (w_1 bda = some (a + 1, iE G 0 ((cSh c).toNat) fb)) → (w_1 aca = some (a + 1, iE G 0 3 fa)) → (w_1 so = some (0, oE 7 [])) → (LsAt G w_1 (lm + 1) lm 40 mo1 Lm) → (LsAt G w_1 (lr + 1) lr 8 mo2 Lr) → (HmAt G w_1 (hm + 1) hm ((cRl c).length) mp) → (KpI a w w_1) → (RusAt G w_1 Lr (cRl c)) → (MpAt G w_1 mp (cRl c)) → (MksF G (cRl c) w_1 (a + 1) Lm (cN c) (rsF c k)) → (Up (fun q_ => q_ = a + 1) w w_1) → (42 - k) < N_ → ∀ (H : Heap) (locs : List Loc) (ls : Array Slot), Rp G w_1 H → LK G locs → lv_has ls 6 [(0, .ref a), (1, .int (iI (but))), (2, .int (iI ((sumN (fun k_ => b2i (mPl (mk c k_) ≠ spc (k_ : Int) (cN c) ∧ mId (mk c k_) ≠ but)) k)))), (3, .int (iI ((k : Int))))] → W p9 l e9 (rmk 5 0 0) s9 m9 a9 b9 meth9 c9 H locs 0 0 (MQ b9 (QI G (fun z_ w_ => z_ = rsV c but ∧ CatAt G w_ a lm lr hm (rspC c (rsV c but)) ∧ KpI a w w_ ∧ Up (fun q_ => q_ = a + 1) w w_)) a9 s9 0 0 (frG G)) (F0 m9 4 ls []) := by
    intro N_
    induction N_ with
    | zero => intro _ _ _ _ _ _ _ _ _ _ _ _ _ _ _ h_; exact absurd h_ (Nat.not_lt_zero _)
    | succ N_ ih_ =>
      intro k w_1 hk hI_a_w_1 hI_bda_w_1 hI_aca_w_1 hI_so_w_1 hI_lm_w_1 hI_lr_w_1 hI_hm_w_1 hI__kp_w_1 hI__ru_w_1 hI__mp_w_1 hI__mks_w_1 hU hN_ H locs ls hR hL hl
      have ih_2 := ih_
      clear ih_
      have hcb := cnt_b c but k
      refine lv_iload_n hx hb dX2_respace_4 rfl (lv_at hl 3 rfl) ?_
      refine lv_aload_n hx hb dX2_respace_5 rfl (lv_at hl 0 rfl) ?_
      refine h_get X hR hI_a_w_1 rfl in_X2 3 (by decide) q597 rfl dX2_respace_6 ?_
      -- call java/util/ArrayList.size
      refine h_k5Ip (h_runF (x := ⟨"java/util/List", "size", "()I"⟩) X hR (ls_size l G w_1 (lm + 1) lm 40 mo1 Lm hI_lm_w_1) pn_i_java_util_List_size_0 (hI_lm_w_1.c) (kk_face X.2 (by decide +kernel) q1566 q1565 q1570 q1568 q664) q1564 q1569 q1567 q125 q1571 ⟨by decide, by decide⟩ hl.1 (Nat.le_of_ble_eq_true rfl) dX2_respace_9 ⟨by omega, by omega⟩) hL (fun H locs hR hL => ?_)
      refine W.eq (g2 := F0 m9 14 ls [.int (iI ((cN c : Int))), .int (iI ((k : Int)))]) (congrArg (fun z_ : Int => F0 m9 14 ls [.int (iI (z_)), .int (iI ((k : Int)))]) (show ((Lm.length : Int) : Int) = (cN c : Int) from (by rw [hml]))) ?_
      refine h_icmp_ge hx hb 90 dX2_respace_14 (by decide) (by omega) (by omega) (fun c_k => ?_) (fun c_k => ?_)
      ·
        refine lv_aload_n hx hb dX2_respace_90 rfl (lv_at hl 0 rfl) ?_
        refine h_get X hR hI_a_w_1 rfl in_X2 7 (by decide) q611 rfl dX2_respace_91 ?_
        refine h_iconst hx hb dX2_respace_94 ?_
        refine lv_dup2_11 hx hb dX2_respace_95 rfl rfl ?_
        refine h_iald X hR hI_aca_w_1 (by omega) (by omega) dX2_respace_96 ?_
        refine h_iconst hx hb dX2_respace_97 ?_
        refine h_iadd hx hb dX2_respace_98 ?_
        refine h_iast X hR hL hI_aca_w_1 (Nat.succ_ne_zero _) (by omega) (by omega) dX2_respace_99 (fun w_6 ew_7 H locs hR hL => ?_)
        have hU : Up (fun q_ => q_ = a + 1) w w_6 := by rw [ew_7]; exact hU.set hI_aca_w_1 (by first | exact Or.inl rfl | exact Or.inl (by omega) | exact Or.inr ⟨Nat.succ_ne_zero _, by rw [Nat.add_sub_cancel]; assumption⟩ | exact Or.inr ⟨by omega, by assumption⟩) hG _
        have hF_aca_w_6 : w_6 aca = some (a + 1, iE G 0 3 (zset fa (Int.toNat 1) (fa (Int.toNat 1) + 1))) := by rw [ew_7]; exact wset_eq _ _ _
        have hF_a_w_6 : w_6 a = some (a + 1, oE 2 [.int (iI (cSh c)), .int (iI (cRm c)), .ref bda, .ref lm, .ref lr, .ref hm, .ref so, .ref aca, .int (iI (cNx c))]) := by rw [ew_7]; exact (wset_ne _ (by first | exact ne_a_aca | exact Ne.symm ne_aca_a | exact w_neR hI_a_w_1 hI_aca_w_1 (by omega) | exact w_ne hI_a_w_1 hI_aca_w_1 (by intro h; cases h))).trans hI_a_w_1
        have hF_bda_w_6 : w_6 bda = some (a + 1, iE G 0 ((cSh c).toNat) fb) := by rw [ew_7]; exact (wset_ne _ (by first | exact ne_bda_aca | exact Ne.symm ne_aca_bda | exact w_neR hI_bda_w_1 hI_aca_w_1 (by omega) | exact w_ne hI_bda_w_1 hI_aca_w_1 (by intro h; cases h))).trans hI_bda_w_1
        have hF_so_w_6 : w_6 so = some (0, oE 7 []) := by rw [ew_7]; exact (wset_ne _ (by first | exact ne_so_aca | exact Ne.symm ne_aca_so | exact w_neR hI_so_w_1 hI_aca_w_1 (by omega) | exact w_ne hI_so_w_1 hI_aca_w_1 (by intro h; cases h))).trans hI_so_w_1
        have hP_lm_w_6 := hI_lm_w_1.mv (w1 := w_6) (S := fun q_ => q_ = a + 1) (by rw [ew_7]; exact Fr.one hI_aca_w_1 _) (by first | exact id | exact fun q_ => absurd (Nat.succ.inj q_) (by assumption) | exact fun q_ => absurd q_.symm (Nat.succ_ne_zero _) | exact fun q_ => absurd (Nat.succ.inj q_).symm (by assumption) | (intro q_; (try dsimp only at q_); omega))
        have hP_lr_w_6 := hI_lr_w_1.mv (w1 := w_6) (S := fun q_ => q_ = a + 1) (by rw [ew_7]; exact Fr.one hI_aca_w_1 _) (by first | exact id | exact fun q_ => absurd (Nat.succ.inj q_) (by assumption) | exact fun q_ => absurd q_.symm (Nat.succ_ne_zero _) | exact fun q_ => absurd (Nat.succ.inj q_).symm (by assumption) | (intro q_; (try dsimp only at q_); omega))
        have hP_hm_w_6 := hI_hm_w_1.mv (w1 := w_6) (S := fun q_ => q_ = a + 1) (by rw [ew_7]; exact Fr.one hI_aca_w_1 _) ⟨(by first | exact id | (intro q_; (try dsimp only at q_); omega)), (by first | exact id | (intro q_; (try dsimp only at q_); omega))⟩
        have hKp_8 : KpI a w w_6 := by rw [ew_7]; exact hI__kp_w_1.oth hI_aca_w_1 (by intro fs_ h_; cases h_) _
        have hFm_9 := hI__ru_w_1.mv (w1 := w_6) (S := fun q_ => q_ = a + 1) (by rw [ew_7]; exact Fr.one hI_aca_w_1 _) (by first | exact id | exact fun q_ => absurd (Nat.succ.inj q_) (by assumption) | exact fun q_ => absurd q_.symm (Nat.succ_ne_zero _) | exact fun q_ => absurd (Nat.succ.inj q_).symm (by assumption) | (intro q_; (try dsimp only at q_); omega))
        have hFm_10 := hI__mp_w_1.mv (w1 := w_6) (S := fun q_ => q_ = a + 1) (by rw [ew_7]; exact Fr.one hI_aca_w_1 _) (by first | exact id | exact fun q_ => absurd (Nat.succ.inj q_) (by assumption) | exact fun q_ => absurd q_.symm (Nat.succ_ne_zero _) | exact fun q_ => absurd (Nat.succ.inj q_).symm (by assumption) | (intro q_; (try dsimp only at q_); omega))
        have hFm_11 : MksF G (cRl c) w_6 (a + 1) Lm (cN c) (rsF c k) := by rw [ew_7]; exact MksF.oth hI__mks_w_1 (Nat.succ_ne_zero _) hI_aca_w_1 (by intro fs_ h_; cases h_) _
        refine lv_aload_n hx hb dX2_respace_100 rfl (lv_at hl 0 rfl) ?_
        refine h_get X hR hF_a_w_6 rfl in_X2 7 (by decide) q611 rfl dX2_respace_101 ?_
        refine h_iconst hx hb dX2_respace_104 ?_
        refine lv_dup2_11 hx hb dX2_respace_105 rfl rfl ?_
        refine h_iald X hR hF_aca_w_6 (by omega) (by omega) dX2_respace_106 ?_
        refine lv_iload_n hx hb dX2_respace_107 rfl (lv_at hl 2 rfl) ?_
        refine h_iadd hx hb dX2_respace_108 ?_
        refine h_iast X hR hL hF_aca_w_6 (Nat.succ_ne_zero _) (by omega) (by omega) dX2_respace_109 (fun w_12 ew_13 H locs hR hL => ?_)
        have hU : Up (fun q_ => q_ = a + 1) w w_12 := by rw [ew_13]; exact hU.set hF_aca_w_6 (by first | exact Or.inl rfl | exact Or.inl (by omega) | exact Or.inr ⟨Nat.succ_ne_zero _, by rw [Nat.add_sub_cancel]; assumption⟩ | exact Or.inr ⟨by omega, by assumption⟩) hG _
        have hF_aca_w_12 : w_12 aca = some (a + 1, iE G 0 3 (zset (zset fa (Int.toNat 1) (fa (Int.toNat 1) + 1)) (Int.toNat 2) ((zset fa (Int.toNat 1) (fa (Int.toNat 1) + 1)) (Int.toNat 2) + ((sumN (fun k_ => b2i (mPl (mk c k_) ≠ spc (k_ : Int) (cN c) ∧ mId (mk c k_) ≠ but)) k))))) := by rw [ew_13]; exact wset_eq _ _ _
        have hF_a_w_12 : w_12 a = some (a + 1, oE 2 [.int (iI (cSh c)), .int (iI (cRm c)), .ref bda, .ref lm, .ref lr, .ref hm, .ref so, .ref aca, .int (iI (cNx c))]) := by rw [ew_13]; exact (wset_ne _ (by first | exact ne_a_aca | exact Ne.symm ne_aca_a | exact w_neR hF_a_w_6 hF_aca_w_6 (by omega) | exact w_ne hF_a_w_6 hF_aca_w_6 (by intro h; cases h))).trans hF_a_w_6
        have hF_bda_w_12 : w_12 bda = some (a + 1, iE G 0 ((cSh c).toNat) fb) := by rw [ew_13]; exact (wset_ne _ (by first | exact ne_bda_aca | exact Ne.symm ne_aca_bda | exact w_neR hF_bda_w_6 hF_aca_w_6 (by omega) | exact w_ne hF_bda_w_6 hF_aca_w_6 (by intro h; cases h))).trans hF_bda_w_6
        have hF_so_w_12 : w_12 so = some (0, oE 7 []) := by rw [ew_13]; exact (wset_ne _ (by first | exact ne_so_aca | exact Ne.symm ne_aca_so | exact w_neR hF_so_w_6 hF_aca_w_6 (by omega) | exact w_ne hF_so_w_6 hF_aca_w_6 (by intro h; cases h))).trans hF_so_w_6
        have hP_lm_w_12 := hP_lm_w_6.mv (w1 := w_12) (S := fun q_ => q_ = a + 1) (by rw [ew_13]; exact Fr.one hF_aca_w_6 _) (by first | exact id | exact fun q_ => absurd (Nat.succ.inj q_) (by assumption) | exact fun q_ => absurd q_.symm (Nat.succ_ne_zero _) | exact fun q_ => absurd (Nat.succ.inj q_).symm (by assumption) | (intro q_; (try dsimp only at q_); omega))
        have hP_lr_w_12 := hP_lr_w_6.mv (w1 := w_12) (S := fun q_ => q_ = a + 1) (by rw [ew_13]; exact Fr.one hF_aca_w_6 _) (by first | exact id | exact fun q_ => absurd (Nat.succ.inj q_) (by assumption) | exact fun q_ => absurd q_.symm (Nat.succ_ne_zero _) | exact fun q_ => absurd (Nat.succ.inj q_).symm (by assumption) | (intro q_; (try dsimp only at q_); omega))
        have hP_hm_w_12 := hP_hm_w_6.mv (w1 := w_12) (S := fun q_ => q_ = a + 1) (by rw [ew_13]; exact Fr.one hF_aca_w_6 _) ⟨(by first | exact id | (intro q_; (try dsimp only at q_); omega)), (by first | exact id | (intro q_; (try dsimp only at q_); omega))⟩
        have hKp_14 : KpI a w w_12 := by rw [ew_13]; exact hKp_8.oth hF_aca_w_6 (by intro fs_ h_; cases h_) _
        have hFm_15 := hFm_9.mv (w1 := w_12) (S := fun q_ => q_ = a + 1) (by rw [ew_13]; exact Fr.one hF_aca_w_6 _) (by first | exact id | exact fun q_ => absurd (Nat.succ.inj q_) (by assumption) | exact fun q_ => absurd q_.symm (Nat.succ_ne_zero _) | exact fun q_ => absurd (Nat.succ.inj q_).symm (by assumption) | (intro q_; (try dsimp only at q_); omega))
        have hFm_16 := hFm_10.mv (w1 := w_12) (S := fun q_ => q_ = a + 1) (by rw [ew_13]; exact Fr.one hF_aca_w_6 _) (by first | exact id | exact fun q_ => absurd (Nat.succ.inj q_) (by assumption) | exact fun q_ => absurd q_.symm (Nat.succ_ne_zero _) | exact fun q_ => absurd (Nat.succ.inj q_).symm (by assumption) | (intro q_; (try dsimp only at q_); omega))
        have hFm_17 : MksF G (cRl c) w_12 (a + 1) Lm (cN c) (rsF c k) := by rw [ew_13]; exact MksF.oth hFm_11 (Nat.succ_ne_zero _) hF_aca_w_6 (by intro fs_ h_; cases h_) _
        refine lv_iload_n hx hb dX2_respace_110 rfl (lv_at hl 2 rfl) ?_
        have hkn : k = cN c := by omega
        subst hkn
        have hmsE : MksAt G (cRl c) w_12 (a + 1) Lm (cMk (rspC c (rsV c but))) := MksF.at hFm_17 (rspL_len _ _ _).symm (fun j_ hj_ => rsF_f c j_ hj_)
        have hcat_18 : CatAt G w_12 a lm lr hm (rspC c (rsV c but)) := ⟨bda, aca, so, fb, _, Lm, Lr, mp, hF_a_w_12, ⟨hF_bda_w_12, hbx⟩, ⟨hF_aca_w_12, ac_rsp (v := rsV c but) hax⟩, hF_so_w_12, ⟨⟨mo1, hm1, hP_lm_w_12⟩, hmsE, hnd⟩, ⟨⟨mo2, hm2, hP_lr_w_12⟩, hFm_15⟩, ⟨hP_hm_w_12, hFm_16⟩, hrd, hid.rsp _, hba, hll⟩
        exact h_ireturn hx hb hlk hret hR hL rfl ⟨rfl, hcat_18, hKp_14, hU⟩ (by omega) (by omega) rfl rfl dX2_respace_111
      ·
        refine lv_aload_n hx hb dX2_respace_17 rfl (lv_at hl 0 rfl) ?_
        refine h_get X hR hI_a_w_1 rfl in_X2 3 (by decide) q597 rfl dX2_respace_18 ?_
        refine lv_iload_n hx hb dX2_respace_21 rfl (lv_at hl 3 rfl) ?_
        -- call java/util/ArrayList.get
        refine h_k5Rp (h_runF (x := ⟨"java/util/List", "get", "(I)Ljava/lang/Object;"⟩) X hR (ls_get l G w_1 (lm + 1) lm 40 mo1 Lm hI_lm_w_1 k (by omega)) pn_i_java_util_List_get_1 (hI_lm_w_1.c) (kk_face X.2 (by decide +kernel) q1575 q1574 q1579 q1577 q664) q1573 q1578 q1576 q125 q1580 ⟨by decide, by decide⟩ hl.1 (Nat.le_of_ble_eq_true rfl) dX2_respace_22 ⟨by omega, by omega⟩) hL (fun H locs hR hL => ?_)
        obtain ⟨pl, hm_221, hm_222⟩ := MksF.g hI__mks_w_1 (show k < cN c by omega) (rsF_k c k)
        have hmw := hS.mw (k := k) (by omega)
        have hmi := hmw.1
        have hmp := hmw.2.2.2
        refine h_castS X hR (hasC.of hm_221 rfl) q1385 dX2_respace_27 ?_
        refine lv_astore (lv' := [(4, .ref (Lm.getD k 0)), (0, .ref a), (1, .int (iI (but))), (2, .int (iI ((sumN (fun k_ => b2i (mPl (mk c k_) ≠ spc (k_ : Int) (cN c) ∧ mId (mk c k_) ≠ but)) k)))), (3, .int (iI ((k : Int))))]) hx hb dX2_respace_30 hl (by decide) rfl (fun ls hl => ?_)
        refine lv_iload_n hx hb dX2_respace_32 rfl (lv_at hl 4 rfl) ?_
        refine lv_aload_n hx hb dX2_respace_33 rfl (lv_at hl 1 rfl) ?_
        refine h_get X hR hI_a_w_1 rfl in_X2 3 (by decide) q597 rfl dX2_respace_34 ?_
        -- call java/util/ArrayList.size
        refine h_k5Ip (h_runF (x := ⟨"java/util/List", "size", "()I"⟩) X hR (ls_size l G w_1 (lm + 1) lm 40 mo1 Lm hI_lm_w_1) pn_i_java_util_List_size_0 (hI_lm_w_1.c) (kk_face X.2 (by decide +kernel) q1566 q1565 q1570 q1568 q664) q1564 q1569 q1567 q125 q1571 ⟨by decide, by decide⟩ hl.1 (Nat.le_of_ble_eq_true rfl) dX2_respace_37 ⟨by omega, by omega⟩) hL (fun H locs hR hL => ?_)
        refine W.eq (g2 := F0 m9 42 ls [.int (iI ((cN c : Int))), .int (iI ((k : Int)))]) (congrArg (fun z_ : Int => F0 m9 42 ls [.int (iI (z_)), .int (iI ((k : Int)))]) (show ((Lm.length : Int) : Int) = (cN c : Int) from (by rw [hml]))) ?_
        -- call SpokenMarks$Catalogue.spaced
        refine h_kIp (h_runS X hR (ct_spc l G w_1 ((k : Int)) ((cN c : Int)) (by omega) (by omega)) pn_yX2_spaced q1640 q1641 q123 q1642 ⟨by decide, by decide⟩ hl.1 (Nat.le_of_ble_eq_true rfl) dX2_respace_42 ⟨by omega, by omega⟩) hL (fun H locs hR hL => ?_)
        have hsp := spc_r (k := (k : Int)) (n := (cN c : Int)) (by omega) (by omega) (by omega)
        refine lv_istore (lv' := [(5, .int (iI (spc ((k : Int)) ((cN c : Int))))), (4, .ref (Lm.getD k 0)), (0, .ref a), (1, .int (iI (but))), (2, .int (iI ((sumN (fun k_ => b2i (mPl (mk c k_) ≠ spc (k_ : Int) (cN c) ∧ mId (mk c k_) ≠ but)) k)))), (3, .int (iI ((k : Int))))]) hx hb dX2_respace_45 hl (by decide) rfl (fun ls hl => ?_)
        refine lv_iload_n hx hb dX2_respace_47 rfl (lv_at hl 4 rfl) ?_
        refine lv_aload hx hb dX2_respace_48 (lv_at hl 1 rfl) ?_
        refine h_getN X hR hm_221 rfl in_X5 3 (by decide) q1548 rfl dX2_respace_50 ?_
        refine lv_iload hx hb dX2_respace_53 (lv_at hl 0 rfl) ?_
        refine h_icmp_eq hx hb 71 dX2_respace_55 (by decide) (by omega) (by omega) (fun c_p => ?_) (fun c_p => ?_)
        ·
          refine h_iconst hx hb dX2_respace_71 ?_
          refine W.eq (g2 := F0 m9 72 ls [.int (iI (b2i (mPl (mk c k) ≠ spc (k : Int) (cN c) ∧ mId (mk c k) ≠ but))), .int (iI ((sumN (fun k_ => b2i (mPl (mk c k_) ≠ spc (k_ : Int) (cN c) ∧ mId (mk c k_) ≠ but)) k)))]) (congrArg (fun z_ : Int => F0 m9 72 ls [.int (iI (z_)), .int (iI ((sumN (fun k_ => b2i (mPl (mk c k_) ≠ spc (k_ : Int) (cN c) ∧ mId (mk c k_) ≠ but)) k)))]) (show (0 : Int) = b2i (mPl (mk c k) ≠ spc (k : Int) (cN c) ∧ mId (mk c k) ≠ but) from (by unfold b2i; split <;> omega))) ?_
          -- call SpokenMarks.bit
          refine h_kIp (h_runSN X hR (c_bit l G w_1 (b2i (mPl (mk c k) ≠ spc (k : Int) (cN c) ∧ mId (mk c k) ≠ but)) (by first | exact b2i_01 _ | omega)) pn_yX1_bit q1643 q1644 q120 q1645 ⟨by decide, by decide⟩ hl.1 (Nat.le_of_ble_eq_true rfl) dX2_respace_72 ⟨by omega, by omega⟩) hL (fun H locs hR hL => ?_)
          refine h_iadd hx hb dX2_respace_75 ?_
          refine W.eq (g2 := F0 m9 76 ls [.int (iI ((sumN (fun k_ => b2i (mPl (mk c k_) ≠ spc (k_ : Int) (cN c) ∧ mId (mk c k_) ≠ but)) (k + 1))))]) (congrArg (fun z_ : Int => F0 m9 76 ls [.int (iI (z_))]) (show (((sumN (fun k_ => b2i (mPl (mk c k_) ≠ spc (k_ : Int) (cN c) ∧ mId (mk c k_) ≠ but)) k)) + (b2i (mPl (mk c k) ≠ spc (k : Int) (cN c) ∧ mId (mk c k) ≠ but)) : Int) = (sumN (fun k_ => b2i (mPl (mk c k_) ≠ spc (k_ : Int) (cN c) ∧ mId (mk c k_) ≠ but)) (k + 1)) from (by rfl))) ?_
          refine lv_istore_n (lv' := [(2, .int (iI ((sumN (fun k_ => b2i (mPl (mk c k_) ≠ spc (k_ : Int) (cN c) ∧ mId (mk c k_) ≠ but)) (k + 1))))), (5, .int (iI (spc ((k : Int)) ((cN c : Int))))), (4, .ref (Lm.getD k 0)), (0, .ref a), (1, .int (iI (but))), (3, .int (iI ((k : Int))))]) hx hb dX2_respace_76 rfl hl (by decide) rfl (fun ls hl => ?_)
          refine lv_aload hx hb dX2_respace_77 (lv_at hl 2 rfl) ?_
          refine lv_iload hx hb dX2_respace_79 (lv_at hl 1 rfl) ?_
          refine h_putN X hR hL hm_221 (Nat.succ_ne_zero _) rfl in_X5 tyX5_ok nmX5 3 (by decide) q1548 rfl rfl rfl (Nat.le_of_ble_eq_true rfl) dX2_respace_81 (fun w_32 ew_33 H locs hR hL => ?_)
          have hU : Up (fun q_ => q_ = a + 1) w w_32 := by rw [ew_33]; exact hU.set hm_221 (by first | exact Or.inl rfl | exact Or.inl (by omega) | exact Or.inr ⟨Nat.succ_ne_zero _, by rw [Nat.add_sub_cancel]; assumption⟩ | exact Or.inr ⟨by omega, by assumption⟩) hG _
          have hF_Lm_getD_k_0_w_32 : w_32 (Lm.getD k 0) = some (a + 1, oE 3 [.int (iI (mId (mk c k))), .ref pl, .int (iI (mWd (mk c k))), .int (iI (spc ((k : Int)) ((cN c : Int))))]) := by rw [ew_33]; exact wset_eq _ _ _
          have hF_a_w_32 : w_32 a = some (a + 1, oE 2 [.int (iI (cSh c)), .int (iI (cRm c)), .ref bda, .ref lm, .ref lr, .ref hm, .ref so, .ref aca, .int (iI (cNx c))]) := by rw [ew_33]; exact (wset_ne _ (by first | exact ne_a_Lm_getD_k_0 | exact Ne.symm ne_Lm_getD_k_0_a | exact w_neR hI_a_w_1 hm_221 (by omega) | exact w_ne hI_a_w_1 hm_221 (by intro h; cases h))).trans hI_a_w_1
          have hF_bda_w_32 : w_32 bda = some (a + 1, iE G 0 ((cSh c).toNat) fb) := by rw [ew_33]; exact (wset_ne _ (by first | exact ne_bda_Lm_getD_k_0 | exact Ne.symm ne_Lm_getD_k_0_bda | exact w_neR hI_bda_w_1 hm_221 (by omega) | exact w_ne hI_bda_w_1 hm_221 (by intro h; cases h))).trans hI_bda_w_1
          have hF_aca_w_32 : w_32 aca = some (a + 1, iE G 0 3 fa) := by rw [ew_33]; exact (wset_ne _ (by first | exact ne_aca_Lm_getD_k_0 | exact Ne.symm ne_Lm_getD_k_0_aca | exact w_neR hI_aca_w_1 hm_221 (by omega) | exact w_ne hI_aca_w_1 hm_221 (by intro h; cases h))).trans hI_aca_w_1
          have hF_so_w_32 : w_32 so = some (0, oE 7 []) := by rw [ew_33]; exact (wset_ne _ (by first | exact ne_so_Lm_getD_k_0 | exact Ne.symm ne_Lm_getD_k_0_so | exact w_neR hI_so_w_1 hm_221 (by omega) | exact w_ne hI_so_w_1 hm_221 (by intro h; cases h))).trans hI_so_w_1
          have hP_lm_w_32 := hI_lm_w_1.mv (w1 := w_32) (S := fun q_ => q_ = a + 1) (by rw [ew_33]; exact Fr.one hm_221 _) (by first | exact id | exact fun q_ => absurd (Nat.succ.inj q_) (by assumption) | exact fun q_ => absurd q_.symm (Nat.succ_ne_zero _) | exact fun q_ => absurd (Nat.succ.inj q_).symm (by assumption) | (intro q_; (try dsimp only at q_); omega))
          have hP_lr_w_32 := hI_lr_w_1.mv (w1 := w_32) (S := fun q_ => q_ = a + 1) (by rw [ew_33]; exact Fr.one hm_221 _) (by first | exact id | exact fun q_ => absurd (Nat.succ.inj q_) (by assumption) | exact fun q_ => absurd q_.symm (Nat.succ_ne_zero _) | exact fun q_ => absurd (Nat.succ.inj q_).symm (by assumption) | (intro q_; (try dsimp only at q_); omega))
          have hP_hm_w_32 := hI_hm_w_1.mv (w1 := w_32) (S := fun q_ => q_ = a + 1) (by rw [ew_33]; exact Fr.one hm_221 _) ⟨(by first | exact id | (intro q_; (try dsimp only at q_); omega)), (by first | exact id | (intro q_; (try dsimp only at q_); omega))⟩
          have hKp_34 : KpI a w w_32 := by rw [ew_33]; exact hI__kp_w_1.put hm_221 _
          have hFm_35 := hI__ru_w_1.mv (w1 := w_32) (S := fun q_ => q_ = a + 1) (by rw [ew_33]; exact Fr.one hm_221 _) (by first | exact id | exact fun q_ => absurd (Nat.succ.inj q_) (by assumption) | exact fun q_ => absurd q_.symm (Nat.succ_ne_zero _) | exact fun q_ => absurd (Nat.succ.inj q_).symm (by assumption) | (intro q_; (try dsimp only at q_); omega))
          have hFm_36 := hI__mp_w_1.mv (w1 := w_32) (S := fun q_ => q_ = a + 1) (by rw [ew_33]; exact Fr.one hm_221 _) (by first | exact id | exact fun q_ => absurd (Nat.succ.inj q_) (by assumption) | exact fun q_ => absurd q_.symm (Nat.succ_ne_zero _) | exact fun q_ => absurd (Nat.succ.inj q_).symm (by assumption) | (intro q_; (try dsimp only at q_); omega))
          have hFm_37 : MksF G (cRl c) w_32 (a + 1) Lm (cN c) (rsF c (k + 1)) := by rw [ew_33]; exact (MksF.put (m := (mId (mk c k), mPs (mk c k), mWd (mk c k), spc (k : Int) (cN c))) hI__mks_w_1 hnd (show k < cN c by omega) (Nat.succ_ne_zero _) hm_221 hm_222).to (rsF_s c k)
          have hP_pl_w_32 := hm_222.mv (w1 := w_32) (S := fun q_ => q_ = a + 1) (by rw [ew_33]; exact Fr.one hm_221 _) (by first | exact id | exact fun q_ => absurd (Nat.succ.inj q_) (by assumption) | exact fun q_ => absurd q_.symm (Nat.succ_ne_zero _) | exact fun q_ => absurd (Nat.succ.inj q_).symm (by assumption) | (intro q_; (try dsimp only at q_); omega))
          refine h_iinc (lv' := [(3, .int (iI ((k : Int) + 1))), (2, .int (iI ((sumN (fun k_ => b2i (mPl (mk c k_) ≠ spc (k_ : Int) (cN c) ∧ mId (mk c k_) ≠ but)) (k + 1))))), (5, .int (iI (spc ((k : Int)) ((cN c : Int))))), (4, .ref (Lm.getD k 0)), (0, .ref a), (1, .int (iI (but)))]) hx hb dX2_respace_84 hl (k := 5) rfl (by decide) rfl (fun ls hl => ?_)
          refine lv_goto (tgt := 4) hx hb dX2_respace_87 (by decide) ?_
          exact ih_2 (k + 1) w_32 (by omega) hF_a_w_32 hF_bda_w_32 hF_aca_w_32 hF_so_w_32 hP_lm_w_32 hP_lr_w_32 hP_hm_w_32 hKp_34 hFm_35 hFm_36 hFm_37 hU (by omega) _ _ _ hR hL (lv_sub hl [4, 5, 1, 0] rfl)
        ·
          refine lv_aload hx hb dX2_respace_58 (lv_at hl 1 rfl) ?_
          refine h_getN X hR hm_221 rfl in_X5 0 (by decide) q1537 rfl dX2_respace_60 ?_
          refine lv_iload_n hx hb dX2_respace_63 rfl (lv_at hl 3 rfl) ?_
          refine h_icmp_eq hx hb 71 dX2_respace_64 (by decide) (by omega) (by omega) (fun c_i => ?_) (fun c_i => ?_)
          ·
            refine h_iconst hx hb dX2_respace_71 ?_
            refine W.eq (g2 := F0 m9 72 ls [.int (iI (b2i (mPl (mk c k) ≠ spc (k : Int) (cN c) ∧ mId (mk c k) ≠ but))), .int (iI ((sumN (fun k_ => b2i (mPl (mk c k_) ≠ spc (k_ : Int) (cN c) ∧ mId (mk c k_) ≠ but)) k)))]) (congrArg (fun z_ : Int => F0 m9 72 ls [.int (iI (z_)), .int (iI ((sumN (fun k_ => b2i (mPl (mk c k_) ≠ spc (k_ : Int) (cN c) ∧ mId (mk c k_) ≠ but)) k)))]) (show (0 : Int) = b2i (mPl (mk c k) ≠ spc (k : Int) (cN c) ∧ mId (mk c k) ≠ but) from (by unfold b2i; split <;> omega))) ?_
            -- call SpokenMarks.bit
            refine h_kIp (h_runSN X hR (c_bit l G w_1 (b2i (mPl (mk c k) ≠ spc (k : Int) (cN c) ∧ mId (mk c k) ≠ but)) (by first | exact b2i_01 _ | omega)) pn_yX1_bit q1643 q1644 q120 q1645 ⟨by decide, by decide⟩ hl.1 (Nat.le_of_ble_eq_true rfl) dX2_respace_72 ⟨by omega, by omega⟩) hL (fun H locs hR hL => ?_)
            refine h_iadd hx hb dX2_respace_75 ?_
            refine W.eq (g2 := F0 m9 76 ls [.int (iI ((sumN (fun k_ => b2i (mPl (mk c k_) ≠ spc (k_ : Int) (cN c) ∧ mId (mk c k_) ≠ but)) (k + 1))))]) (congrArg (fun z_ : Int => F0 m9 76 ls [.int (iI (z_))]) (show (((sumN (fun k_ => b2i (mPl (mk c k_) ≠ spc (k_ : Int) (cN c) ∧ mId (mk c k_) ≠ but)) k)) + (b2i (mPl (mk c k) ≠ spc (k : Int) (cN c) ∧ mId (mk c k) ≠ but)) : Int) = (sumN (fun k_ => b2i (mPl (mk c k_) ≠ spc (k_ : Int) (cN c) ∧ mId (mk c k_) ≠ but)) (k + 1)) from (by rfl))) ?_
            refine lv_istore_n (lv' := [(2, .int (iI ((sumN (fun k_ => b2i (mPl (mk c k_) ≠ spc (k_ : Int) (cN c) ∧ mId (mk c k_) ≠ but)) (k + 1))))), (5, .int (iI (spc ((k : Int)) ((cN c : Int))))), (4, .ref (Lm.getD k 0)), (0, .ref a), (1, .int (iI (but))), (3, .int (iI ((k : Int))))]) hx hb dX2_respace_76 rfl hl (by decide) rfl (fun ls hl => ?_)
            refine lv_aload hx hb dX2_respace_77 (lv_at hl 2 rfl) ?_
            refine lv_iload hx hb dX2_respace_79 (lv_at hl 1 rfl) ?_
            refine h_putN X hR hL hm_221 (Nat.succ_ne_zero _) rfl in_X5 tyX5_ok nmX5 3 (by decide) q1548 rfl rfl rfl (Nat.le_of_ble_eq_true rfl) dX2_respace_81 (fun w_42 ew_43 H locs hR hL => ?_)
            have hU : Up (fun q_ => q_ = a + 1) w w_42 := by rw [ew_43]; exact hU.set hm_221 (by first | exact Or.inl rfl | exact Or.inl (by omega) | exact Or.inr ⟨Nat.succ_ne_zero _, by rw [Nat.add_sub_cancel]; assumption⟩ | exact Or.inr ⟨by omega, by assumption⟩) hG _
            have hF_Lm_getD_k_0_w_42 : w_42 (Lm.getD k 0) = some (a + 1, oE 3 [.int (iI (mId (mk c k))), .ref pl, .int (iI (mWd (mk c k))), .int (iI (spc ((k : Int)) ((cN c : Int))))]) := by rw [ew_43]; exact wset_eq _ _ _
            have hF_a_w_42 : w_42 a = some (a + 1, oE 2 [.int (iI (cSh c)), .int (iI (cRm c)), .ref bda, .ref lm, .ref lr, .ref hm, .ref so, .ref aca, .int (iI (cNx c))]) := by rw [ew_43]; exact (wset_ne _ (by first | exact ne_a_Lm_getD_k_0 | exact Ne.symm ne_Lm_getD_k_0_a | exact w_neR hI_a_w_1 hm_221 (by omega) | exact w_ne hI_a_w_1 hm_221 (by intro h; cases h))).trans hI_a_w_1
            have hF_bda_w_42 : w_42 bda = some (a + 1, iE G 0 ((cSh c).toNat) fb) := by rw [ew_43]; exact (wset_ne _ (by first | exact ne_bda_Lm_getD_k_0 | exact Ne.symm ne_Lm_getD_k_0_bda | exact w_neR hI_bda_w_1 hm_221 (by omega) | exact w_ne hI_bda_w_1 hm_221 (by intro h; cases h))).trans hI_bda_w_1
            have hF_aca_w_42 : w_42 aca = some (a + 1, iE G 0 3 fa) := by rw [ew_43]; exact (wset_ne _ (by first | exact ne_aca_Lm_getD_k_0 | exact Ne.symm ne_Lm_getD_k_0_aca | exact w_neR hI_aca_w_1 hm_221 (by omega) | exact w_ne hI_aca_w_1 hm_221 (by intro h; cases h))).trans hI_aca_w_1
            have hF_so_w_42 : w_42 so = some (0, oE 7 []) := by rw [ew_43]; exact (wset_ne _ (by first | exact ne_so_Lm_getD_k_0 | exact Ne.symm ne_Lm_getD_k_0_so | exact w_neR hI_so_w_1 hm_221 (by omega) | exact w_ne hI_so_w_1 hm_221 (by intro h; cases h))).trans hI_so_w_1
            have hP_lm_w_42 := hI_lm_w_1.mv (w1 := w_42) (S := fun q_ => q_ = a + 1) (by rw [ew_43]; exact Fr.one hm_221 _) (by first | exact id | exact fun q_ => absurd (Nat.succ.inj q_) (by assumption) | exact fun q_ => absurd q_.symm (Nat.succ_ne_zero _) | exact fun q_ => absurd (Nat.succ.inj q_).symm (by assumption) | (intro q_; (try dsimp only at q_); omega))
            have hP_lr_w_42 := hI_lr_w_1.mv (w1 := w_42) (S := fun q_ => q_ = a + 1) (by rw [ew_43]; exact Fr.one hm_221 _) (by first | exact id | exact fun q_ => absurd (Nat.succ.inj q_) (by assumption) | exact fun q_ => absurd q_.symm (Nat.succ_ne_zero _) | exact fun q_ => absurd (Nat.succ.inj q_).symm (by assumption) | (intro q_; (try dsimp only at q_); omega))
            have hP_hm_w_42 := hI_hm_w_1.mv (w1 := w_42) (S := fun q_ => q_ = a + 1) (by rw [ew_43]; exact Fr.one hm_221 _) ⟨(by first | exact id | (intro q_; (try dsimp only at q_); omega)), (by first | exact id | (intro q_; (try dsimp only at q_); omega))⟩
            have hKp_44 : KpI a w w_42 := by rw [ew_43]; exact hI__kp_w_1.put hm_221 _
            have hFm_45 := hI__ru_w_1.mv (w1 := w_42) (S := fun q_ => q_ = a + 1) (by rw [ew_43]; exact Fr.one hm_221 _) (by first | exact id | exact fun q_ => absurd (Nat.succ.inj q_) (by assumption) | exact fun q_ => absurd q_.symm (Nat.succ_ne_zero _) | exact fun q_ => absurd (Nat.succ.inj q_).symm (by assumption) | (intro q_; (try dsimp only at q_); omega))
            have hFm_46 := hI__mp_w_1.mv (w1 := w_42) (S := fun q_ => q_ = a + 1) (by rw [ew_43]; exact Fr.one hm_221 _) (by first | exact id | exact fun q_ => absurd (Nat.succ.inj q_) (by assumption) | exact fun q_ => absurd q_.symm (Nat.succ_ne_zero _) | exact fun q_ => absurd (Nat.succ.inj q_).symm (by assumption) | (intro q_; (try dsimp only at q_); omega))
            have hFm_47 : MksF G (cRl c) w_42 (a + 1) Lm (cN c) (rsF c (k + 1)) := by rw [ew_43]; exact (MksF.put (m := (mId (mk c k), mPs (mk c k), mWd (mk c k), spc (k : Int) (cN c))) hI__mks_w_1 hnd (show k < cN c by omega) (Nat.succ_ne_zero _) hm_221 hm_222).to (rsF_s c k)
            have hP_pl_w_42 := hm_222.mv (w1 := w_42) (S := fun q_ => q_ = a + 1) (by rw [ew_43]; exact Fr.one hm_221 _) (by first | exact id | exact fun q_ => absurd (Nat.succ.inj q_) (by assumption) | exact fun q_ => absurd q_.symm (Nat.succ_ne_zero _) | exact fun q_ => absurd (Nat.succ.inj q_).symm (by assumption) | (intro q_; (try dsimp only at q_); omega))
            refine h_iinc (lv' := [(3, .int (iI ((k : Int) + 1))), (2, .int (iI ((sumN (fun k_ => b2i (mPl (mk c k_) ≠ spc (k_ : Int) (cN c) ∧ mId (mk c k_) ≠ but)) (k + 1))))), (5, .int (iI (spc ((k : Int)) ((cN c : Int))))), (4, .ref (Lm.getD k 0)), (0, .ref a), (1, .int (iI (but)))]) hx hb dX2_respace_84 hl (k := 5) rfl (by decide) rfl (fun ls hl => ?_)
            refine lv_goto (tgt := 4) hx hb dX2_respace_87 (by decide) ?_
            exact ih_2 (k + 1) w_42 (by omega) hF_a_w_42 hF_bda_w_42 hF_aca_w_42 hF_so_w_42 hP_lm_w_42 hP_lr_w_42 hP_hm_w_42 hKp_44 hFm_45 hFm_46 hFm_47 hU (by omega) _ _ _ hR hL (lv_sub hl [4, 5, 1, 0] rfl)
          ·
            refine h_iconst hx hb dX2_respace_67 ?_
            refine lv_goto (tgt := 72) hx hb dX2_respace_68 (by decide) ?_
            refine W.eq (g2 := F0 m9 72 ls [.int (iI (b2i (mPl (mk c k) ≠ spc (k : Int) (cN c) ∧ mId (mk c k) ≠ but))), .int (iI ((sumN (fun k_ => b2i (mPl (mk c k_) ≠ spc (k_ : Int) (cN c) ∧ mId (mk c k_) ≠ but)) k)))]) (congrArg (fun z_ : Int => F0 m9 72 ls [.int (iI (z_)), .int (iI ((sumN (fun k_ => b2i (mPl (mk c k_) ≠ spc (k_ : Int) (cN c) ∧ mId (mk c k_) ≠ but)) k)))]) (show (1 : Int) = b2i (mPl (mk c k) ≠ spc (k : Int) (cN c) ∧ mId (mk c k) ≠ but) from (by unfold b2i; split <;> omega))) ?_
            -- call SpokenMarks.bit
            refine h_kIp (h_runSN X hR (c_bit l G w_1 (b2i (mPl (mk c k) ≠ spc (k : Int) (cN c) ∧ mId (mk c k) ≠ but)) (by first | exact b2i_01 _ | omega)) pn_yX1_bit q1643 q1644 q120 q1645 ⟨by decide, by decide⟩ hl.1 (Nat.le_of_ble_eq_true rfl) dX2_respace_72 ⟨by omega, by omega⟩) hL (fun H locs hR hL => ?_)
            refine h_iadd hx hb dX2_respace_75 ?_
            refine W.eq (g2 := F0 m9 76 ls [.int (iI ((sumN (fun k_ => b2i (mPl (mk c k_) ≠ spc (k_ : Int) (cN c) ∧ mId (mk c k_) ≠ but)) (k + 1))))]) (congrArg (fun z_ : Int => F0 m9 76 ls [.int (iI (z_))]) (show (((sumN (fun k_ => b2i (mPl (mk c k_) ≠ spc (k_ : Int) (cN c) ∧ mId (mk c k_) ≠ but)) k)) + (b2i (mPl (mk c k) ≠ spc (k : Int) (cN c) ∧ mId (mk c k) ≠ but)) : Int) = (sumN (fun k_ => b2i (mPl (mk c k_) ≠ spc (k_ : Int) (cN c) ∧ mId (mk c k_) ≠ but)) (k + 1)) from (by rfl))) ?_
            refine lv_istore_n (lv' := [(2, .int (iI ((sumN (fun k_ => b2i (mPl (mk c k_) ≠ spc (k_ : Int) (cN c) ∧ mId (mk c k_) ≠ but)) (k + 1))))), (5, .int (iI (spc ((k : Int)) ((cN c : Int))))), (4, .ref (Lm.getD k 0)), (0, .ref a), (1, .int (iI (but))), (3, .int (iI ((k : Int))))]) hx hb dX2_respace_76 rfl hl (by decide) rfl (fun ls hl => ?_)
            refine lv_aload hx hb dX2_respace_77 (lv_at hl 2 rfl) ?_
            refine lv_iload hx hb dX2_respace_79 (lv_at hl 1 rfl) ?_
            refine h_putN X hR hL hm_221 (Nat.succ_ne_zero _) rfl in_X5 tyX5_ok nmX5 3 (by decide) q1548 rfl rfl rfl (Nat.le_of_ble_eq_true rfl) dX2_respace_81 (fun w_52 ew_53 H locs hR hL => ?_)
            have hU : Up (fun q_ => q_ = a + 1) w w_52 := by rw [ew_53]; exact hU.set hm_221 (by first | exact Or.inl rfl | exact Or.inl (by omega) | exact Or.inr ⟨Nat.succ_ne_zero _, by rw [Nat.add_sub_cancel]; assumption⟩ | exact Or.inr ⟨by omega, by assumption⟩) hG _
            have hF_Lm_getD_k_0_w_52 : w_52 (Lm.getD k 0) = some (a + 1, oE 3 [.int (iI (mId (mk c k))), .ref pl, .int (iI (mWd (mk c k))), .int (iI (spc ((k : Int)) ((cN c : Int))))]) := by rw [ew_53]; exact wset_eq _ _ _
            have hF_a_w_52 : w_52 a = some (a + 1, oE 2 [.int (iI (cSh c)), .int (iI (cRm c)), .ref bda, .ref lm, .ref lr, .ref hm, .ref so, .ref aca, .int (iI (cNx c))]) := by rw [ew_53]; exact (wset_ne _ (by first | exact ne_a_Lm_getD_k_0 | exact Ne.symm ne_Lm_getD_k_0_a | exact w_neR hI_a_w_1 hm_221 (by omega) | exact w_ne hI_a_w_1 hm_221 (by intro h; cases h))).trans hI_a_w_1
            have hF_bda_w_52 : w_52 bda = some (a + 1, iE G 0 ((cSh c).toNat) fb) := by rw [ew_53]; exact (wset_ne _ (by first | exact ne_bda_Lm_getD_k_0 | exact Ne.symm ne_Lm_getD_k_0_bda | exact w_neR hI_bda_w_1 hm_221 (by omega) | exact w_ne hI_bda_w_1 hm_221 (by intro h; cases h))).trans hI_bda_w_1
            have hF_aca_w_52 : w_52 aca = some (a + 1, iE G 0 3 fa) := by rw [ew_53]; exact (wset_ne _ (by first | exact ne_aca_Lm_getD_k_0 | exact Ne.symm ne_Lm_getD_k_0_aca | exact w_neR hI_aca_w_1 hm_221 (by omega) | exact w_ne hI_aca_w_1 hm_221 (by intro h; cases h))).trans hI_aca_w_1
            have hF_so_w_52 : w_52 so = some (0, oE 7 []) := by rw [ew_53]; exact (wset_ne _ (by first | exact ne_so_Lm_getD_k_0 | exact Ne.symm ne_Lm_getD_k_0_so | exact w_neR hI_so_w_1 hm_221 (by omega) | exact w_ne hI_so_w_1 hm_221 (by intro h; cases h))).trans hI_so_w_1
            have hP_lm_w_52 := hI_lm_w_1.mv (w1 := w_52) (S := fun q_ => q_ = a + 1) (by rw [ew_53]; exact Fr.one hm_221 _) (by first | exact id | exact fun q_ => absurd (Nat.succ.inj q_) (by assumption) | exact fun q_ => absurd q_.symm (Nat.succ_ne_zero _) | exact fun q_ => absurd (Nat.succ.inj q_).symm (by assumption) | (intro q_; (try dsimp only at q_); omega))
            have hP_lr_w_52 := hI_lr_w_1.mv (w1 := w_52) (S := fun q_ => q_ = a + 1) (by rw [ew_53]; exact Fr.one hm_221 _) (by first | exact id | exact fun q_ => absurd (Nat.succ.inj q_) (by assumption) | exact fun q_ => absurd q_.symm (Nat.succ_ne_zero _) | exact fun q_ => absurd (Nat.succ.inj q_).symm (by assumption) | (intro q_; (try dsimp only at q_); omega))
            have hP_hm_w_52 := hI_hm_w_1.mv (w1 := w_52) (S := fun q_ => q_ = a + 1) (by rw [ew_53]; exact Fr.one hm_221 _) ⟨(by first | exact id | (intro q_; (try dsimp only at q_); omega)), (by first | exact id | (intro q_; (try dsimp only at q_); omega))⟩
            have hKp_54 : KpI a w w_52 := by rw [ew_53]; exact hI__kp_w_1.put hm_221 _
            have hFm_55 := hI__ru_w_1.mv (w1 := w_52) (S := fun q_ => q_ = a + 1) (by rw [ew_53]; exact Fr.one hm_221 _) (by first | exact id | exact fun q_ => absurd (Nat.succ.inj q_) (by assumption) | exact fun q_ => absurd q_.symm (Nat.succ_ne_zero _) | exact fun q_ => absurd (Nat.succ.inj q_).symm (by assumption) | (intro q_; (try dsimp only at q_); omega))
            have hFm_56 := hI__mp_w_1.mv (w1 := w_52) (S := fun q_ => q_ = a + 1) (by rw [ew_53]; exact Fr.one hm_221 _) (by first | exact id | exact fun q_ => absurd (Nat.succ.inj q_) (by assumption) | exact fun q_ => absurd q_.symm (Nat.succ_ne_zero _) | exact fun q_ => absurd (Nat.succ.inj q_).symm (by assumption) | (intro q_; (try dsimp only at q_); omega))
            have hFm_57 : MksF G (cRl c) w_52 (a + 1) Lm (cN c) (rsF c (k + 1)) := by rw [ew_53]; exact (MksF.put (m := (mId (mk c k), mPs (mk c k), mWd (mk c k), spc (k : Int) (cN c))) hI__mks_w_1 hnd (show k < cN c by omega) (Nat.succ_ne_zero _) hm_221 hm_222).to (rsF_s c k)
            have hP_pl_w_52 := hm_222.mv (w1 := w_52) (S := fun q_ => q_ = a + 1) (by rw [ew_53]; exact Fr.one hm_221 _) (by first | exact id | exact fun q_ => absurd (Nat.succ.inj q_) (by assumption) | exact fun q_ => absurd q_.symm (Nat.succ_ne_zero _) | exact fun q_ => absurd (Nat.succ.inj q_).symm (by assumption) | (intro q_; (try dsimp only at q_); omega))
            refine h_iinc (lv' := [(3, .int (iI ((k : Int) + 1))), (2, .int (iI ((sumN (fun k_ => b2i (mPl (mk c k_) ≠ spc (k_ : Int) (cN c) ∧ mId (mk c k_) ≠ but)) (k + 1))))), (5, .int (iI (spc ((k : Int)) ((cN c : Int))))), (4, .ref (Lm.getD k 0)), (0, .ref a), (1, .int (iI (but)))]) hx hb dX2_respace_84 hl (k := 5) rfl (by decide) rfl (fun ls hl => ?_)
            refine lv_goto (tgt := 4) hx hb dX2_respace_87 (by decide) ?_
            exact ih_2 (k + 1) w_52 (by omega) hF_a_w_52 hF_bda_w_52 hF_aca_w_52 hF_so_w_52 hP_lm_w_52 hP_lr_w_52 hP_hm_w_52 hKp_54 hFm_55 hFm_56 hFm_57 hU (by omega) _ _ _ hR hL (lv_sub hl [4, 5, 1, 0] rfl)
  exact LOOP_2 _ 0 w (by omega) hCt hbd hac hso hlm hlr hhm (KpI.rf (a := a) (w := w)) hru hmp hmf0 hU (Nat.lt_succ_self _) _ _ _ hR hL (lv_sub hl [2, 3, 1, 0] rfl)
