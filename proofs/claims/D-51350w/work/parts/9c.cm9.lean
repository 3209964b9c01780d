/-! the component: add, hearAnew -/
set_option maxRecDepth 100000
def Lo (c : Cat) : Prop := (∀ k, k < 3 → cAc c k < 990000) ∧ cNx c < 990000
theorem CatS.ins {c : Cat} {g : List Prt} {w : Int} (h : CatS c) (hg : PrtsW g) (hw : 1 ≤ w ∧ w ≤ 20) (hn : cN c < 40) (hL : Lo c) : CatS (cIns c g w) := by
  have hr := rkF_le c g
  have hp := plF_r h hr
  have hx := h.2.2.2.2.2.2
  have hx2 := hL.2
  have h0 := h.2.2.2.2.2.1 0 (by decide)
  have h1 := hL.1 0 (by decide)
  have hcn : (cMk c).length = cN c := rfl
  have hlen : (insAt (cMk c) (rkF c g) (newM c g w)).length = cN c + 1 := insAt_len _ _ _ hr
  have hmw : ∀ k, k < (insAt (cMk c) (rkF c g) (newM c g w)).length → MrkW (gM (insAt (cMk c) (rkF c g) (newM c g w)) k) := fun k hk => by
    have e : gM (insAt (cMk c) (rkF c g) (newM c g w)) k = _ := insAt_at (cMk c) (rkF c g) (newM c g w) mrk0 hr k
    rw [hlen] at hk
    rw [e]
    split
    · exact h.2.2.2.1.2 k (by omega)
    · split
      · exact ⟨⟨hx.1, by show cNx c < _; omega⟩, hg, hw, hp⟩
      · exact h.2.2.2.1.2 (k - 1) (by omega)
  exact ((h.mks (M := insAt (cMk c) (rkF c g) (newM c g w)) (by omega) hmw).nxs (v := cNx c + 1) ⟨by omega, by omega⟩).acs (fun _ => ⟨by show 0 ≤ cAc c 0 + 1; omega, by show cAc c 0 + 1 < _; omega⟩)
theorem MksF.ls {G : Gl} {R : Rls} {w : Wd} {r : Nat} {M : List Nat} {n : Nat} {f : Nat → Mrk} (h : MksF G R w r M n f) : LsE w M := fun y hy => by
  obtain ⟨k, hk, rfl⟩ := getD_mem hy
  exact ⟨_, (h.2 k (by rw [← h.1]; exact hk)).c, q3448⟩
theorem MksF.nm {G : Gl} {R : Rls} {w : Wd} {r : Nat} {M : List Nat} {n : Nat} {f : Nat → Mrk} {q : Nat} (h : MksF G R w r M n f) (hq : w q = none) : q ∉ M := nn_mem (fun k hk => (h.2 k (by rw [← h.1]; exact hk)).sm) hq

theorem pn_yX2_placeFor : ParN yX2_placeFor 1 := by decide +kernel
theorem pn_yX2_respace : ParN yX2_respace 1 := by decide +kernel
theorem pn_yJ3_add_3 : ParN yJ3_add_3 2 := by decide +kernel
theorem pn_i_java_util_List_add_2 : ParN ⟨"java/util/List", "add", "(ILjava/lang/Object;)V"⟩ 2 := by decide +kernel

set_option maxHeartbeats 4000000 in
set_option maxRecDepth 100000 in
/-- SpokenMarks$Catalogue.add -/
theorem ct_add (l : Launch) (G : Gl) (w : Wd) (a lm lr hm : Nat) (c : Cat) (hC : CatAt G w a lm lr hm c) (hS : CatS c) (pl : Nat) (ps : List Prt) (wd : Int) (hQ : PlAt G (cRl c) w pl ps) (hP : PrtsW ps) (hw2 : 1 ≤ wd ∧ wd ≤ 20) (hn4 : cN c < 40) (hLo : Lo c) (hG : RegW w) : HM l yX2_add cX2_add 7 (some .int) 15 1 4 G [.ref a, .ref pl, .int (iI (wd))] w (QI G (fun z_ w_ => z_ = cNx c ∧ CatAt G w_ a lm lr hm (cAdd c ps wd) ∧ Up (fun q_ => q_ = a + 1 ∨ q_ = lm + 1) w w_)) := by
  refine HM.mk (by decide +kernel) (Nat.le_of_ble_eq_true rfl) ?_
  intro p9 e9 s9 m9 a9 b9 meth9 c9 ls X hret hlk hnm hl H hR
  have hx := X.1.1
  have hb := X.1.2.1
  have hl : lv_has ls 7 [(0, .ref a), (1, .ref pl), (2, .int (iI (wd)))] := hl
  have hL : LK G [] := fun q h => absurd h List.not_mem_nil
  generalize ([] : List Loc) = locs at hL ⊢
  have hU : Up (fun q_ => q_ = a + 1 ∨ q_ = lm + 1) w w := Up.rf hG
  have hC0 := hC
  obtain ⟨bda, aca, so, fb, fa, Lm, Lr, mp, hCt, ⟨hbd, hbx⟩, ⟨hac, hax⟩, hso, ⟨⟨mo1, hm1, hlm⟩, hmk, hnd⟩, ⟨⟨mo2, hm2, hlr⟩, hru⟩, ⟨hhm, hmp⟩, hrd, hid, hba, hll⟩ := hC
  have hCt : w a = some (a + 1, oE 2 [.int (iI (cSh c)), .int (iI (cRm c)), .ref bda, .ref lm, .ref lr, .ref hm, .ref so, .ref aca, .int (iI (cNx c))]) := hCt
  have s1 := hS.1
  have s2 := hS.2.1
  have s3 := hS.2.2.1
  have s4 := hS.2.2.2.1.1
  have hRW := hS.2.2.2.2.1
  have s5 := hRW.1
  have s6 := hS.2.2.2.2.2
  have hml : Lm.length = cN c := hmk.1
  have hrl := hru.1
  have nla : lm ≠ a := hasC_ne hlm.c hC0.c (by decide)
  have nra : lr ≠ a := hasC_ne hlr.c hC0.c (by decide)
  have nha : hm ≠ a := hasC_ne hhm.c hC0.c (by decide)
  have nhl : hm ≠ lm := hasC_ne hhm.c hlm.c (by decide)
  have ne_bda_aca : bda ≠ aca := hba
  have nhr : hm ≠ lr := hasC_ne hhm.c hlr.c (by decide)
  have hmf0 : MksF G (cRl c) w (a + 1) Lm (cN c) (mk c) := hmk
  have hS1 := hS.nx (by have := hLo.2; omega)
  have hS2 := hS.ins hP hw2 hn4 hLo
  have hlx := hLo.2
  have hrk := rkF_le c ps
  have hpr := plF_r hS hrk
  refine h_new X hR (ci := 3) (fun q => q + 1) rfl in_X5 tyX5_ok q1385 q1386 q154 [.int (iI (0)), .null, .int (iI (0)), .int (iI (0))] (by intro j hj; rcases (show j = 0 ∨ j = 1 ∨ j = 2 ∨ j = 3 by omega) with rfl | rfl | rfl | rfl <;> rfl) (by omega) (by omega) dX2_add_0 (fun q hq w_1 ew_2 H hR => ?_)
  have hn_q : w q = none := hU.2.1 _ hq
  have hU : Up (fun q_ => q_ = a + 1 ∨ q_ = lm + 1) w w_1 := by rw [ew_2]; exact hU.new hq (by first | exact Or.inr (Or.inl rfl) | exact Or.inl rfl | exact Or.inr (Or.inr (by assumption)))
  have hF_q_w_1 : w_1 q = some (q + 1, oE 3 [.int (iI (0)), .null, .int (iI (0)), .int (iI (0))]) := by rw [ew_2]; exact wset_eq _ _ _
  have ne_a_q : a ≠ q := w_neN hCt hq
  have hF_a_w_1 : w_1 a = some (a + 1, oE 2 [.int (iI (cSh c)), .int (iI (cRm c)), .ref bda, .ref lm, .ref lr, .ref hm, .ref so, .ref aca, .int (iI (cNx c))]) := by rw [ew_2]; exact (wset_ne _ (w_neN hCt hq)).trans hCt
  have ne_bda_q : bda ≠ q := w_neN hbd hq
  have hF_bda_w_1 : w_1 bda = some (a + 1, iE G 0 ((cSh c).toNat) fb) := by rw [ew_2]; exact (wset_ne _ (w_neN hbd hq)).trans hbd
  have ne_aca_q : aca ≠ q := w_neN hac hq
  have hF_aca_w_1 : w_1 aca = some (a + 1, iE G 0 3 fa) := by rw [ew_2]; exact (wset_ne _ (w_neN hac hq)).trans hac
  have ne_so_q : so ≠ q := w_neN hso hq
  have hF_so_w_1 : w_1 so = some (0, oE 7 []) := by rw [ew_2]; exact (wset_ne _ (w_neN hso hq)).trans hso
  have ne_lm_q : lm ≠ q := sm_ne hlm.sm hq
  have hP_lm_w_1 := hlm.mv (w1 := w_1) (S := fun _ => False) (by rw [ew_2]; exact Fr.add hq _) id
  have ne_lr_q : lr ≠ q := sm_ne hlr.sm hq
  have hP_lr_w_1 := hlr.mv (w1 := w_1) (S := fun _ => False) (by rw [ew_2]; exact Fr.add hq _) id
  have ne_hm_q : hm ≠ q := sm_ne hhm.sm hq
  have hP_hm_w_1 := hhm.mv (w1 := w_1) (S := fun _ => False) (by rw [ew_2]; exact Fr.add hq _) ⟨id, id⟩
  have hFm_3 := hmf0.mv (w1 := w_1) (S := fun _ => False) (by rw [ew_2]; exact Fr.add hq _) id id
  have hFm_4 := hru.mv (w1 := w_1) (S := fun _ => False) (by rw [ew_2]; exact Fr.add hq _) id
  have hFm_5 := hmp.mv (w1 := w_1) (S := fun _ => False) (by rw [ew_2]; exact Fr.add hq _) id
  have ne_pl_q : pl ≠ q := sm_ne hQ.sm hq
  have hP_pl_w_1 := hQ.mv (w1 := w_1) (S := fun _ => False) (by rw [ew_2]; exact Fr.add hq _) id
  refine lv_dup hx hb dX2_add_3 rfl ?_
  refine lv_aload_n hx hb dX2_add_4 rfl (lv_at hl 0 rfl) ?_
  refine h_get X hR hF_a_w_1 rfl in_X2 8 (by decide) q613 rfl dX2_add_5 ?_
  refine lv_aload_n hx hb dX2_add_8 rfl (lv_at hl 1 rfl) ?_
  refine lv_iload_n hx hb dX2_add_9 rfl (lv_at hl 2 rfl) ?_
  refine h_iconst hx hb dX2_add_10 ?_
  -- call SpokenMarks$Mark.<init>
  refine h_kV (h_runI X hR (mk_init l G w_1 (q + 1) (by omega) q (cNx c) pl wd (-1) hF_q_w_1 hU.2.2.1) pn_yX5_init rfl q1532 q1533 q154 q1534 ⟨by decide, by decide⟩ hl.1 (Nat.le_of_ble_eq_true rfl) dX2_add_11 ⟨by omega, by omega⟩) hL (fun w_7 hp_8 H locs hR hL => ?_)
  obtain ⟨hO__10, u_9⟩ := hp_8
  have hF_a_w_7 : w_7 a = some (a + 1, oE 2 [.int (iI (cSh c)), .int (iI (cRm c)), .ref bda, .ref lm, .ref lr, .ref hm, .ref so, .ref aca, .int (iI (cNx c))]) := u_9.1 _ _ _ hF_a_w_1 (by first | exact id | exact fun q_ => absurd (Nat.succ.inj q_) (by assumption) | exact fun q_ => absurd q_.symm (Nat.succ_ne_zero _) | exact fun q_ => absurd (Nat.succ.inj q_).symm (by assumption) | (intro q_; (try dsimp only at q_); omega))
  have hF_bda_w_7 : w_7 bda = some (a + 1, iE G 0 ((cSh c).toNat) fb) := u_9.1 _ _ _ hF_bda_w_1 (by first | exact id | exact fun q_ => absurd (Nat.succ.inj q_) (by assumption) | exact fun q_ => absurd q_.symm (Nat.succ_ne_zero _) | exact fun q_ => absurd (Nat.succ.inj q_).symm (by assumption) | (intro q_; (try dsimp only at q_); omega))
  have hF_aca_w_7 : w_7 aca = some (a + 1, iE G 0 3 fa) := u_9.1 _ _ _ hF_aca_w_1 (by first | exact id | exact fun q_ => absurd (Nat.succ.inj q_) (by assumption) | exact fun q_ => absurd q_.symm (Nat.succ_ne_zero _) | exact fun q_ => absurd (Nat.succ.inj q_).symm (by assumption) | (intro q_; (try dsimp only at q_); omega))
  have hF_so_w_7 : w_7 so = some (0, oE 7 []) := u_9.1 _ _ _ hF_so_w_1 (by first | exact id | exact fun q_ => absurd (Nat.succ.inj q_) (by assumption) | exact fun q_ => absurd q_.symm (Nat.succ_ne_zero _) | exact fun q_ => absurd (Nat.succ.inj q_).symm (by assumption) | (intro q_; (try dsimp only at q_); omega))
  have hP_lm_w_7 := hP_lm_w_1.mv (u_9.1) (by first | exact id | exact fun q_ => absurd (Nat.succ.inj q_) (by assumption) | exact fun q_ => absurd q_.symm (Nat.succ_ne_zero _) | exact fun q_ => absurd (Nat.succ.inj q_).symm (by assumption) | (intro q_; (try dsimp only at q_); omega))
  have hP_lr_w_7 := hP_lr_w_1.mv (u_9.1) (by first | exact id | exact fun q_ => absurd (Nat.succ.inj q_) (by assumption) | exact fun q_ => absurd q_.symm (Nat.succ_ne_zero _) | exact fun q_ => absurd (Nat.succ.inj q_).symm (by assumption) | (intro q_; (try dsimp only at q_); omega))
  have hP_hm_w_7 := hP_hm_w_1.mv (u_9.1) ⟨(by first | exact id | (intro q_; (try dsimp only at q_); omega)), (by first | exact id | (intro q_; (try dsimp only at q_); omega))⟩
  have hFm_11 := hFm_3.mv (w1 := w_7) (u_9.1) (by first | exact id | exact fun q_ => absurd (Nat.succ.inj q_) (by assumption) | exact fun q_ => absurd q_.symm (Nat.succ_ne_zero _) | exact fun q_ => absurd (Nat.succ.inj q_).symm (by assumption) | (intro q_; (try dsimp only at q_); omega)) (by first | exact id | exact fun q_ => absurd (Nat.succ.inj q_) (by assumption) | exact fun q_ => absurd q_.symm (Nat.succ_ne_zero _) | exact fun q_ => absurd (Nat.succ.inj q_).symm (by assumption) | (intro q_; (try dsimp only at q_); omega))
  have hFm_12 := hFm_4.mv (w1 := w_7) (u_9.1) (by first | exact id | exact fun q_ => absurd (Nat.succ.inj q_) (by assumption) | exact fun q_ => absurd q_.symm (Nat.succ_ne_zero _) | exact fun q_ => absurd (Nat.succ.inj q_).symm (by assumption) | (intro q_; (try dsimp only at q_); omega))
  have hFm_13 := hFm_5.mv (w1 := w_7) (u_9.1) (by first | exact id | exact fun q_ => absurd (Nat.succ.inj q_) (by assumption) | exact fun q_ => absurd q_.symm (Nat.succ_ne_zero _) | exact fun q_ => absurd (Nat.succ.inj q_).symm (by assumption) | (intro q_; (try dsimp only at q_); omega))
  have hP_pl_w_7 := hP_pl_w_1.mv (u_9.1) (by first | exact id | exact fun q_ => absurd (Nat.succ.inj q_) (by assumption) | exact fun q_ => absurd q_.symm (Nat.succ_ne_zero _) | exact fun q_ => absurd (Nat.succ.inj q_).symm (by assumption) | (intro q_; (try dsimp only at q_); omega))
  have hU : Up (fun q_ => q_ = a + 1 ∨ q_ = lm + 1) w w_7 := hU.tr u_9 (fun q_ h_ => by first | exact absurd h_ id | exact Or.inl h_ | exact Or.inr (up_nw h_ (by assumption)) | exact Or.inl (Or.inl h_) | exact Or.inl (Or.inr h_) | exact Or.inl (Or.inr (Or.inl h_)) | exact Or.inl (Or.inr (Or.inr h_)) | exact Or.inl (Or.inr (Or.inr (Or.inl h_))) | exact Or.inl (Or.inr (Or.inr (Or.inr h_))) | exact Or.inl (h_.elim Or.inl (fun h_ => Or.inr (Or.inl h_))) | ((try dsimp only at h_); first | exact Or.inl (by omega) | exact Or.inr ⟨by omega, by subst h_; rw [Nat.add_sub_cancel]; assumption⟩)) hG
  refine lv_astore_n (lv' := [(3, .ref q), (0, .ref a), (1, .ref pl), (2, .int (iI (wd)))]) hx hb dX2_add_14 rfl hl (by decide) rfl (fun ls hl => ?_)
  refine lv_aload_n hx hb dX2_add_15 rfl (lv_at hl 1 rfl) ?_
  refine lv_dup hx hb dX2_add_16 rfl ?_
  refine h_get X hR hF_a_w_7 rfl in_X2 8 (by decide) q613 rfl dX2_add_17 ?_
  refine h_iconst hx hb dX2_add_20 ?_
  refine h_iadd hx hb dX2_add_21 ?_
  refine h_put X hR hL hF_a_w_7 (Nat.succ_ne_zero _) rfl in_X2 tyX2_ok nmX2 8 (by decide) q613 rfl rfl rfl (Nat.le_of_ble_eq_true rfl) dX2_add_22 (fun w_14 ew_15 H locs hR hL => ?_)
  have hU : Up (fun q_ => q_ = a + 1 ∨ q_ = lm + 1) w w_14 := by rw [ew_15]; exact hU.set hF_a_w_7 (by first | exact Or.inl rfl | exact Or.inl (Or.inl rfl) | exact Or.inl (Or.inr rfl) | exact Or.inl (Or.inr (Or.inl rfl)) | exact Or.inl (Or.inr (Or.inr rfl)) | exact Or.inr ⟨Nat.succ_ne_zero _, by rw [Nat.add_sub_cancel]; assumption⟩ | exact Or.inr ⟨by omega, by assumption⟩) hG _
  have hF_a_w_14 : w_14 a = some (a + 1, oE 2 [.int (iI (cSh c)), .int (iI (cRm c)), .ref bda, .ref lm, .ref lr, .ref hm, .ref so, .ref aca, .int (iI (cNx c + 1))]) := by rw [ew_15]; exact wset_eq _ _ _
  have hF_bda_w_14 : w_14 bda = some (a + 1, iE G 0 ((cSh c).toNat) fb) := by rw [ew_15]; exact (wset_ne _ (by first | exact ne_bda_a | exact Ne.symm ne_a_bda | exact w_neR hF_bda_w_7 hF_a_w_7 (by omega) | exact w_ne hF_bda_w_7 hF_a_w_7 (by intro h; cases h))).trans hF_bda_w_7
  have hF_aca_w_14 : w_14 aca = some (a + 1, iE G 0 3 fa) := by rw [ew_15]; exact (wset_ne _ (by first | exact ne_aca_a | exact Ne.symm ne_a_aca | exact w_neR hF_aca_w_7 hF_a_w_7 (by omega) | exact w_ne hF_aca_w_7 hF_a_w_7 (by intro h; cases h))).trans hF_aca_w_7
  have hF_so_w_14 : w_14 so = some (0, oE 7 []) := by rw [ew_15]; exact (wset_ne _ (by first | exact ne_so_a | exact Ne.symm ne_a_so | exact w_neR hF_so_w_7 hF_a_w_7 (by omega) | exact w_ne hF_so_w_7 hF_a_w_7 (by intro h; cases h))).trans hF_so_w_7
  have hP_lm_w_14 := hP_lm_w_7.mv (w1 := w_14) (S := fun q_ => q_ = a + 1) (by rw [ew_15]; exact Fr.one hF_a_w_7 _) (by first | exact id | exact fun q_ => absurd (Nat.succ.inj q_) (by assumption) | exact fun q_ => absurd q_.symm (Nat.succ_ne_zero _) | exact fun q_ => absurd (Nat.succ.inj q_).symm (by assumption) | (intro q_; (try dsimp only at q_); omega))
  have hP_lr_w_14 := hP_lr_w_7.mv (w1 := w_14) (S := fun q_ => q_ = a + 1) (by rw [ew_15]; exact Fr.one hF_a_w_7 _) (by first | exact id | exact fun q_ => absurd (Nat.succ.inj q_) (by assumption) | exact fun q_ => absurd q_.symm (Nat.succ_ne_zero _) | exact fun q_ => absurd (Nat.succ.inj q_).symm (by assumption) | (intro q_; (try dsimp only at q_); omega))
  have hP_hm_w_14 := hP_hm_w_7.mv (w1 := w_14) (S := fun q_ => q_ = a + 1) (by rw [ew_15]; exact Fr.one hF_a_w_7 _) ⟨(by first | exact id | (intro q_; (try dsimp only at q_); omega)), (by first | exact id | (intro q_; (try dsimp only at q_); omega))⟩
  have hFm_16 : MksF G (cRl c) w_14 (a + 1) Lm (cN c) (mk c) := by rw [ew_15]; exact MksF.oth hFm_11 (Nat.succ_ne_zero _) hF_a_w_7 (by intro fs_ h_; cases h_) _
  have hFm_17 := hFm_12.mv (w1 := w_14) (S := fun q_ => q_ = a + 1) (by rw [ew_15]; exact Fr.one hF_a_w_7 _) (by first | exact id | exact fun q_ => absurd (Nat.succ.inj q_) (by assumption) | exact fun q_ => absurd q_.symm (Nat.succ_ne_zero _) | exact fun q_ => absurd (Nat.succ.inj q_).symm (by assumption) | (intro q_; (try dsimp only at q_); omega))
  have hFm_18 := hFm_13.mv (w1 := w_14) (S := fun q_ => q_ = a + 1) (by rw [ew_15]; exact Fr.one hF_a_w_7 _) (by first | exact id | exact fun q_ => absurd (Nat.succ.inj q_) (by assumption) | exact fun q_ => absurd q_.symm (Nat.succ_ne_zero _) | exact fun q_ => absurd (Nat.succ.inj q_).symm (by assumption) | (intro q_; (try dsimp only at q_); omega))
  have hP_pl_w_14 := hP_pl_w_7.mv (w1 := w_14) (S := fun q_ => q_ = a + 1) (by rw [ew_15]; exact Fr.one hF_a_w_7 _) (by first | exact id | exact fun q_ => absurd (Nat.succ.inj q_) (by assumption) | exact fun q_ => absurd q_.symm (Nat.succ_ne_zero _) | exact fun q_ => absurd (Nat.succ.inj q_).symm (by assumption) | (intro q_; (try dsimp only at q_); omega))
  have hF_q_w_14 : w_14 q = some (q + 1, oE 3 [.int (iI (cNx c)), .ref pl, .int (iI (wd)), .int (iI (-1))]) := by rw [ew_15]; exact (wset_ne _ (by first | exact ne_q_a | exact Ne.symm ne_a_q | exact w_neR hO__10 hF_a_w_7 (by omega) | exact w_ne hO__10 hF_a_w_7 (by intro h; cases h))).trans hO__10
  refine lv_aload_n hx hb dX2_add_25 rfl (lv_at hl 1 rfl) ?_
  refine lv_aload_n hx hb dX2_add_26 rfl (lv_at hl 0 rfl) ?_
  have hmq_20 : MkAt G (cRl c) w_14 (q + 1) q (cNx c, ps, wd, -1) := ⟨pl, hF_q_w_14, hP_pl_w_14⟩
  have hcl_19 : CatAt G w_14 a lm lr hm (setNx c (cNx c + 1)) := ⟨bda, aca, so, fb, fa, Lm, Lr, mp, hF_a_w_14, ⟨hF_bda_w_14, hbx⟩, ⟨hF_aca_w_14, hax⟩, hF_so_w_14, ⟨⟨mo1, hm1, hP_lm_w_14⟩, hFm_16, hnd⟩, ⟨⟨mo2, hm2, hP_lr_w_14⟩, hFm_17⟩, ⟨hP_hm_w_14, hFm_18⟩, hrd, fun k_ hk_ => Int.lt_trans (hid k_ hk_) (Int.lt_succ _), hba, hll⟩
  -- call SpokenMarks$Catalogue.rankFor
  refine h_kIp (h_runV X hR (ct_rkF l G w_14 a lm lr hm (setNx c (cNx c + 1)) hcl_19 hS1 q (q + 1) ((cNx c, ps, wd, -1)) hmq_20 hP) pn_yX2_rankFor (hcl_19.c) q1559 q1560 q1561 q123 q1562 ⟨by decide, by decide⟩ hl.1 (Nat.le_of_ble_eq_true rfl) dX2_add_27 ⟨by omega, by omega⟩) hL (fun H locs hR hL => ?_)
  refine W.eq (g2 := F0 m9 30 ls [.int (iI (((rkF c ps : Nat) : Int)))]) (congrArg (fun z_ : Int => F0 m9 30 ls [.int (iI (z_))]) (show ((rkF (setNx c (cNx c + 1)) (mPs ((cNx c, ps, wd, -1))) : Int) : Int) = ((rkF c ps : Nat) : Int) from (by rfl))) ?_
  refine lv_istore (lv' := [(4, .int (iI (((rkF c ps : Nat) : Int)))), (3, .ref q), (0, .ref a), (1, .ref pl), (2, .int (iI (wd)))]) hx hb dX2_add_30 hl (by decide) rfl (fun ls hl => ?_)
  refine lv_aload_n hx hb dX2_add_32 rfl (lv_at hl 2 rfl) ?_
  refine lv_iload hx hb dX2_add_33 (lv_at hl 0 rfl) ?_
  have hmq_26 : MkAt G (cRl c) w_14 (q + 1) q (cNx c, ps, wd, -1) := ⟨pl, hF_q_w_14, hP_pl_w_14⟩
  have hcl_25 : CatAt G w_14 a lm lr hm (setNx c (cNx c + 1)) := ⟨bda, aca, so, fb, fa, Lm, Lr, mp, hF_a_w_14, ⟨hF_bda_w_14, hbx⟩, ⟨hF_aca_w_14, hax⟩, hF_so_w_14, ⟨⟨mo1, hm1, hP_lm_w_14⟩, hFm_16, hnd⟩, ⟨⟨mo2, hm2, hP_lr_w_14⟩, hFm_17⟩, ⟨hP_hm_w_14, hFm_18⟩, hrd, fun k_ hk_ => Int.lt_trans (hid k_ hk_) (Int.lt_succ _), hba, hll⟩
  -- call SpokenMarks$Catalogue.isTight
  refine h_kIp (h_runV X hR (ct_tight l G w_14 a lm lr hm (setNx c (cNx c + 1)) hcl_25 hS1 (((rkF c ps : Nat) : Int)) ⟨by omega, by omega⟩) pn_yX2_isTight (hcl_25.c) q1677 q1678 q1679 q123 q1680 ⟨by decide, by decide⟩ hl.1 (Nat.le_of_ble_eq_true rfl) dX2_add_35 ⟨by omega, by omega⟩) hL (fun H locs hR hL => ?_)
  refine W.eq (g2 := F0 m9 38 ls [.int (iI (b2i (plA c (rkF c ps : Int) - plA c ((rkF c ps : Int) - 1) < 2)))]) (congrArg (fun z_ : Int => F0 m9 38 ls [.int (iI (z_))]) (show (b2i (plA (setNx c (cNx c + 1)) (((rkF c ps : Nat) : Int)) - plA (setNx c (cNx c + 1)) (((rkF c ps : Nat) : Int) - 1) < 2) : Int) = b2i (plA c (rkF c ps : Int) - plA c ((rkF c ps : Int) - 1) < 2) from (by rfl))) ?_
  refine lv_istore (lv' := [(5, .int (iI (b2i (plA c (rkF c ps : Int) - plA c ((rkF c ps : Int) - 1) < 2)))), (4, .int (iI (((rkF c ps : Nat) : Int)))), (3, .ref q), (0, .ref a), (1, .ref pl), (2, .int (iI (wd)))]) hx hb dX2_add_38 hl (by decide) rfl (fun ls hl => ?_)
  refine lv_aload_n hx hb dX2_add_40 rfl (lv_at hl 2 rfl) ?_
  refine lv_aload_n hx hb dX2_add_41 rfl (lv_at hl 3 rfl) ?_
  refine lv_iload hx hb dX2_add_42 (lv_at hl 1 rfl) ?_
  have hmq_32 : MkAt G (cRl c) w_14 (q + 1) q (cNx c, ps, wd, -1) := ⟨pl, hF_q_w_14, hP_pl_w_14⟩
  have hcl_31 : CatAt G w_14 a lm lr hm (setNx c (cNx c + 1)) := ⟨bda, aca, so, fb, fa, Lm, Lr, mp, hF_a_w_14, ⟨hF_bda_w_14, hbx⟩, ⟨hF_aca_w_14, hax⟩, hF_so_w_14, ⟨⟨mo1, hm1, hP_lm_w_14⟩, hFm_16, hnd⟩, ⟨⟨mo2, hm2, hP_lr_w_14⟩, hFm_17⟩, ⟨hP_hm_w_14, hFm_18⟩, hrd, fun k_ hk_ => Int.lt_trans (hid k_ hk_) (Int.lt_succ _), hba, hll⟩
  -- call SpokenMarks$Catalogue.placeFor
  refine h_kIp (h_runV X hR (ct_plF l G w_14 a lm lr hm (setNx c (cNx c + 1)) hcl_31 hS1 (((rkF c ps : Nat) : Int)) ⟨by omega, by show ((rkF c ps : Nat) : Int) ≤ (cN c : Int); omega⟩) pn_yX2_placeFor (hcl_31.c) q1685 q1686 q1687 q123 q1688 ⟨by decide, by decide⟩ hl.1 (Nat.le_of_ble_eq_true rfl) dX2_add_44 ⟨by omega, by omega⟩) hL (fun H locs hR hL => ?_)
  refine W.eq (g2 := F0 m9 47 ls [.int (iI (plF c (rkF c ps : Int))), .ref q]) (congrArg (fun z_ : Int => F0 m9 47 ls [.int (iI (z_)), .ref q]) (show (plF (setNx c (cNx c + 1)) (((rkF c ps : Nat) : Int)) : Int) = plF c (rkF c ps : Int) from (by rfl))) ?_
  refine h_putN X hR hL hF_q_w_14 (by omega) rfl in_X5 tyX5_ok nmX5 3 (by decide) q1548 rfl rfl rfl (Nat.le_of_ble_eq_true rfl) dX2_add_47 (fun w_37 ew_38 H locs hR hL => ?_)
  have hU : Up (fun q_ => q_ = a + 1 ∨ q_ = lm + 1) w w_37 := by rw [ew_38]; exact hU.set hF_q_w_14 (by first | exact Or.inl rfl | exact Or.inl (Or.inl rfl) | exact Or.inl (Or.inr rfl) | exact Or.inl (Or.inr (Or.inl rfl)) | exact Or.inl (Or.inr (Or.inr rfl)) | exact Or.inr ⟨Nat.succ_ne_zero _, by rw [Nat.add_sub_cancel]; assumption⟩ | exact Or.inr ⟨by omega, by assumption⟩) hG _
  have hF_q_w_37 : w_37 q = some (q + 1, oE 3 [.int (iI (cNx c)), .ref pl, .int (iI (wd)), .int (iI (plF c (rkF c ps : Int)))]) := by rw [ew_38]; exact wset_eq _ _ _
  have hF_a_w_37 : w_37 a = some (a + 1, oE 2 [.int (iI (cSh c)), .int (iI (cRm c)), .ref bda, .ref lm, .ref lr, .ref hm, .ref so, .ref aca, .int (iI (cNx c + 1))]) := by rw [ew_38]; exact (wset_ne _ (by first | exact ne_a_q | exact Ne.symm ne_q_a | exact w_neR hF_a_w_14 hF_q_w_14 (by omega) | exact w_ne hF_a_w_14 hF_q_w_14 (by intro h; cases h))).trans hF_a_w_14
  have hF_bda_w_37 : w_37 bda = some (a + 1, iE G 0 ((cSh c).toNat) fb) := by rw [ew_38]; exact (wset_ne _ (by first | exact ne_bda_q | exact Ne.symm ne_q_bda | exact w_neR hF_bda_w_14 hF_q_w_14 (by omega) | exact w_ne hF_bda_w_14 hF_q_w_14 (by intro h; cases h))).trans hF_bda_w_14
  have hF_aca_w_37 : w_37 aca = some (a + 1, iE G 0 3 fa) := by rw [ew_38]; exact (wset_ne _ (by first | exact ne_aca_q | exact Ne.symm ne_q_aca | exact w_neR hF_aca_w_14 hF_q_w_14 (by omega) | exact w_ne hF_aca_w_14 hF_q_w_14 (by intro h; cases h))).trans hF_aca_w_14
  have hF_so_w_37 : w_37 so = some (0, oE 7 []) := by rw [ew_38]; exact (wset_ne _ (by first | exact ne_so_q | exact Ne.symm ne_q_so | exact w_neR hF_so_w_14 hF_q_w_14 (by omega) | exact w_ne hF_so_w_14 hF_q_w_14 (by intro h; cases h))).trans hF_so_w_14
  have hP_lm_w_37 := hP_lm_w_14.mv (w1 := w_37) (S := fun q_ => q_ = q + 1) (by rw [ew_38]; exact Fr.one hF_q_w_14 _) (by first | exact id | exact fun q_ => absurd (Nat.succ.inj q_) (by assumption) | exact fun q_ => absurd q_.symm (Nat.succ_ne_zero _) | exact fun q_ => absurd (Nat.succ.inj q_).symm (by assumption) | (intro q_; (try dsimp only at q_); omega))
  have hP_lr_w_37 := hP_lr_w_14.mv (w1 := w_37) (S := fun q_ => q_ = q + 1) (by rw [ew_38]; exact Fr.one hF_q_w_14 _) (by first | exact id | exact fun q_ => absurd (Nat.succ.inj q_) (by assumption) | exact fun q_ => absurd q_.symm (Nat.succ_ne_zero _) | exact fun q_ => absurd (Nat.succ.inj q_).symm (by assumption) | (intro q_; (try dsimp only at q_); omega))
  have hP_hm_w_37 := hP_hm_w_14.mv (w1 := w_37) (S := fun q_ => q_ = q + 1) (by rw [ew_38]; exact Fr.one hF_q_w_14 _) ⟨(by first | exact id | (intro q_; (try dsimp only at q_); omega)), (by first | exact id | (intro q_; (try dsimp only at q_); omega))⟩
  have hFm_39 := hFm_16.mv (w1 := w_37) (S := fun q_ => q_ = q + 1) (by rw [ew_38]; exact Fr.one hF_q_w_14 _) (by first | exact id | exact fun q_ => absurd (Nat.succ.inj q_) (by assumption) | exact fun q_ => absurd q_.symm (Nat.succ_ne_zero _) | exact fun q_ => absurd (Nat.succ.inj q_).symm (by assumption) | (intro q_; (try dsimp only at q_); omega)) (by first | exact id | exact fun q_ => absurd (Nat.succ.inj q_) (by assumption) | exact fun q_ => absurd q_.symm (Nat.succ_ne_zero _) | exact fun q_ => absurd (Nat.succ.inj q_).symm (by assumption) | (intro q_; (try dsimp only at q_); omega))
  have hFm_40 := hFm_17.mv (w1 := w_37) (S := fun q_ => q_ = q + 1) (by rw [ew_38]; exact Fr.one hF_q_w_14 _) (by first | exact id | exact fun q_ => absurd (Nat.succ.inj q_) (by assumption) | exact fun q_ => absurd q_.symm (Nat.succ_ne_zero _) | exact fun q_ => absurd (Nat.succ.inj q_).symm (by assumption) | (intro q_; (try dsimp only at q_); omega))
  have hFm_41 := hFm_18.mv (w1 := w_37) (S := fun q_ => q_ = q + 1) (by rw [ew_38]; exact Fr.one hF_q_w_14 _) (by first | exact id | exact fun q_ => absurd (Nat.succ.inj q_) (by assumption) | exact fun q_ => absurd q_.symm (Nat.succ_ne_zero _) | exact fun q_ => absurd (Nat.succ.inj q_).symm (by assumption) | (intro q_; (try dsimp only at q_); omega))
  have hP_pl_w_37 := hP_pl_w_14.mv (w1 := w_37) (S := fun q_ => q_ = q + 1) (by rw [ew_38]; exact Fr.one hF_q_w_14 _) (by first | exact id | exact fun q_ => absurd (Nat.succ.inj q_) (by assumption) | exact fun q_ => absurd q_.symm (Nat.succ_ne_zero _) | exact fun q_ => absurd (Nat.succ.inj q_).symm (by assumption) | (intro q_; (try dsimp only at q_); omega))
  refine lv_aload_n hx hb dX2_add_50 rfl (lv_at hl 3 rfl) ?_
  refine h_get X hR hF_a_w_37 rfl in_X2 3 (by decide) q597 rfl dX2_add_51 ?_
  refine lv_iload hx hb dX2_add_54 (lv_at hl 1 rfl) ?_
  refine lv_aload_n hx hb dX2_add_56 rfl (lv_at hl 2 rfl) ?_
  have hqn : q ∉ Lm := hmf0.nm hn_q
  have hR := hR.retag (a + 1) hF_q_w_37 (Nat.succ_ne_zero _)
  obtain ⟨w_42, ew_43⟩ : ∃ w_ : Wd, w_ = wset w_37 q (a + 1, oE 3 [.int (iI (cNx c)), .ref pl, .int (iI (wd)), .int (iI (plF c (rkF c ps : Int)))]) := ⟨_, rfl⟩
  rw [← ew_43] at hR
  have hU : Up (fun q_ => q_ = a + 1 ∨ q_ = lm + 1) w w_42 := by rw [ew_43]; exact hU.tag hF_q_w_37 hn_q (Or.inr (RegW.som hF_a_w_37))
  have hF_q_w_42 : w_42 q = some (a + 1, oE 3 [.int (iI (cNx c)), .ref pl, .int (iI (wd)), .int (iI (plF c (rkF c ps : Int)))]) := by rw [ew_43]; exact wset_eq _ _ _
  have hF_a_w_42 : w_42 a = some (a + 1, oE 2 [.int (iI (cSh c)), .int (iI (cRm c)), .ref bda, .ref lm, .ref lr, .ref hm, .ref so, .ref aca, .int (iI (cNx c + 1))]) := by rw [ew_43]; exact (wset_ne _ (by first | exact ne_a_q | exact Ne.symm ne_q_a | exact w_neR hF_a_w_37 hF_q_w_37 (by omega) | exact w_ne hF_a_w_37 hF_q_w_37 (by intro h; cases h))).trans hF_a_w_37
  have hF_bda_w_42 : w_42 bda = some (a + 1, iE G 0 ((cSh c).toNat) fb) := by rw [ew_43]; exact (wset_ne _ (by first | exact ne_bda_q | exact Ne.symm ne_q_bda | exact w_neR hF_bda_w_37 hF_q_w_37 (by omega) | exact w_ne hF_bda_w_37 hF_q_w_37 (by intro h; cases h))).trans hF_bda_w_37
  have hF_aca_w_42 : w_42 aca = some (a + 1, iE G 0 3 fa) := by rw [ew_43]; exact (wset_ne _ (by first | exact ne_aca_q | exact Ne.symm ne_q_aca | exact w_neR hF_aca_w_37 hF_q_w_37 (by omega) | exact w_ne hF_aca_w_37 hF_q_w_37 (by intro h; cases h))).trans hF_aca_w_37
  have hF_so_w_42 : w_42 so = some (0, oE 7 []) := by rw [ew_43]; exact (wset_ne _ (by first | exact ne_so_q | exact Ne.symm ne_q_so | exact w_neR hF_so_w_37 hF_q_w_37 (by omega) | exact w_ne hF_so_w_37 hF_q_w_37 (by intro h; cases h))).trans hF_so_w_37
  have hP_lm_w_42 := hP_lm_w_37.mv (w1 := w_42) (S := fun q_ => q_ = q + 1) (by rw [ew_43]; exact Fr.one hF_q_w_37 _) (by first | exact id | exact fun q_ => absurd (Nat.succ.inj q_) (by assumption) | exact fun q_ => absurd q_.symm (Nat.succ_ne_zero _) | exact fun q_ => absurd (Nat.succ.inj q_).symm (by assumption) | (intro q_; (try dsimp only at q_); omega))
  have hP_lr_w_42 := hP_lr_w_37.mv (w1 := w_42) (S := fun q_ => q_ = q + 1) (by rw [ew_43]; exact Fr.one hF_q_w_37 _) (by first | exact id | exact fun q_ => absurd (Nat.succ.inj q_) (by assumption) | exact fun q_ => absurd q_.symm (Nat.succ_ne_zero _) | exact fun q_ => absurd (Nat.succ.inj q_).symm (by assumption) | (intro q_; (try dsimp only at q_); omega))
  have hP_hm_w_42 := hP_hm_w_37.mv (w1 := w_42) (S := fun q_ => q_ = q + 1) (by rw [ew_43]; exact Fr.one hF_q_w_37 _) ⟨(by first | exact id | (intro q_; (try dsimp only at q_); omega)), (by first | exact id | (intro q_; (try dsimp only at q_); omega))⟩
  have hFm_44 := hFm_39.mv (w1 := w_42) (S := fun q_ => q_ = q + 1) (by rw [ew_43]; exact Fr.one hF_q_w_37 _) (by first | exact id | exact fun q_ => absurd (Nat.succ.inj q_) (by assumption) | exact fun q_ => absurd q_.symm (Nat.succ_ne_zero _) | exact fun q_ => absurd (Nat.succ.inj q_).symm (by assumption) | (intro q_; (try dsimp only at q_); omega)) (by first | exact id | exact fun q_ => absurd (Nat.succ.inj q_) (by assumption) | exact fun q_ => absurd q_.symm (Nat.succ_ne_zero _) | exact fun q_ => absurd (Nat.succ.inj q_).symm (by assumption) | (intro q_; (try dsimp only at q_); omega))
  have hFm_45 := hFm_40.mv (w1 := w_42) (S := fun q_ => q_ = q + 1) (by rw [ew_43]; exact Fr.one hF_q_w_37 _) (by first | exact id | exact fun q_ => absurd (Nat.succ.inj q_) (by assumption) | exact fun q_ => absurd q_.symm (Nat.succ_ne_zero _) | exact fun q_ => absurd (Nat.succ.inj q_).symm (by assumption) | (intro q_; (try dsimp only at q_); omega))
  have hFm_46 := hFm_41.mv (w1 := w_42) (S := fun q_ => q_ = q + 1) (by rw [ew_43]; exact Fr.one hF_q_w_37 _) (by first | exact id | exact fun q_ => absurd (Nat.succ.inj q_) (by assumption) | exact fun q_ => absurd q_.symm (Nat.succ_ne_zero _) | exact fun q_ => absurd (Nat.succ.inj q_).symm (by assumption) | (intro q_; (try dsimp only at q_); omega))
  have hP_pl_w_42 := hP_pl_w_37.mv (w1 := w_42) (S := fun q_ => q_ = q + 1) (by rw [ew_43]; exact Fr.one hF_q_w_37 _) (by first | exact id | exact fun q_ => absurd (Nat.succ.inj q_) (by assumption) | exact fun q_ => absurd q_.symm (Nat.succ_ne_zero _) | exact fun q_ => absurd (Nat.succ.inj q_).symm (by assumption) | (intro q_; (try dsimp only at q_); omega))
  have hmfE := hFm_44
  -- call java/util/ArrayList.add
  refine h_k5V (h_runF (x := ⟨"java/util/List", "add", "(ILjava/lang/Object;)V"⟩) X hR (ls_addAt l G w_42 (lm + 1) lm 40 mo1 Lm hP_lm_w_42 (rkF c ps) (by omega) hU.2.2.1 (Nat.succ_ne_zero _) q "SpokenMarks$Mark" q3448 (by omega) (fun w1_ u_ => hasC.of (u_.1 _ _ _ hF_q_w_42 (by intro q_; (try dsimp only at q_); omega)) rfl) (fun w1_ u_ => (MksF.ls (hmfE.mv u_.1 (by first | exact id | exact fun q_ => absurd (Nat.succ.inj q_) (by assumption) | exact fun q_ => absurd q_.symm (Nat.succ_ne_zero _) | exact fun q_ => absurd (Nat.succ.inj q_).symm (by assumption) | (intro q_; (try dsimp only at q_); omega)) (by first | exact id | exact fun q_ => absurd (Nat.succ.inj q_) (by assumption) | exact fun q_ => absurd q_.symm (Nat.succ_ne_zero _) | exact fun q_ => absurd (Nat.succ.inj q_).symm (by assumption) | (intro q_; (try dsimp only at q_); omega)))))) pn_i_java_util_List_add_2 (hP_lm_w_42.c) (kk_face X.2 (by decide +kernel) q1625 q1624 q1629 q1627 q664) q1623 q1628 q1626 q125 q1630 ⟨by decide, by decide⟩ hl.1 (Nat.le_of_ble_eq_true rfl) dX2_add_57 ⟨by omega, by omega⟩) hL (fun w_48 hp_49 H locs hR hL => ?_)
  obtain ⟨hL__51, u_50⟩ := hp_49
  have hF_q_w_48 : w_48 q = some (a + 1, oE 3 [.int (iI (cNx c)), .ref pl, .int (iI (wd)), .int (iI (plF c (rkF c ps : Int)))]) := u_50.1 _ _ _ hF_q_w_42 (by first | exact id | exact fun q_ => absurd (Nat.succ.inj q_) (by assumption) | exact fun q_ => absurd q_.symm (Nat.succ_ne_zero _) | exact fun q_ => absurd (Nat.succ.inj q_).symm (by assumption) | (intro q_; (try dsimp only at q_); omega))
  have hF_a_w_48 : w_48 a = some (a + 1, oE 2 [.int (iI (cSh c)), .int (iI (cRm c)), .ref bda, .ref lm, .ref lr, .ref hm, .ref so, .ref aca, .int (iI (cNx c + 1))]) := u_50.1 _ _ _ hF_a_w_42 (by first | exact id | exact fun q_ => absurd (Nat.succ.inj q_) (by assumption) | exact fun q_ => absurd q_.symm (Nat.succ_ne_zero _) | exact fun q_ => absurd (Nat.succ.inj q_).symm (by assumption) | (intro q_; (try dsimp only at q_); omega))
  have hF_bda_w_48 : w_48 bda = some (a + 1, iE G 0 ((cSh c).toNat) fb) := u_50.1 _ _ _ hF_bda_w_42 (by first | exact id | exact fun q_ => absurd (Nat.succ.inj q_) (by assumption) | exact fun q_ => absurd q_.symm (Nat.succ_ne_zero _) | exact fun q_ => absurd (Nat.succ.inj q_).symm (by assumption) | (intro q_; (try dsimp only at q_); omega))
  have hF_aca_w_48 : w_48 aca = some (a + 1, iE G 0 3 fa) := u_50.1 _ _ _ hF_aca_w_42 (by first | exact id | exact fun q_ => absurd (Nat.succ.inj q_) (by assumption) | exact fun q_ => absurd q_.symm (Nat.succ_ne_zero _) | exact fun q_ => absurd (Nat.succ.inj q_).symm (by assumption) | (intro q_; (try dsimp only at q_); omega))
  have hF_so_w_48 : w_48 so = some (0, oE 7 []) := u_50.1 _ _ _ hF_so_w_42 (by first | exact id | exact fun q_ => absurd (Nat.succ.inj q_) (by assumption) | exact fun q_ => absurd q_.symm (Nat.succ_ne_zero _) | exact fun q_ => absurd (Nat.succ.inj q_).symm (by assumption) | (intro q_; (try dsimp only at q_); omega))
  have hP_lr_w_48 := hP_lr_w_42.mv (u_50.1) (by first | exact id | exact fun q_ => absurd (Nat.succ.inj q_) (by assumption) | exact fun q_ => absurd q_.symm (Nat.succ_ne_zero _) | exact fun q_ => absurd (Nat.succ.inj q_).symm (by assumption) | (intro q_; (try dsimp only at q_); omega))
  have hP_hm_w_48 := hP_hm_w_42.mv (u_50.1) ⟨(by first | exact id | (intro q_; (try dsimp only at q_); omega)), (by first | exact id | (intro q_; (try dsimp only at q_); omega))⟩
  have hFm_52 := hFm_44.mv (w1 := w_48) (u_50.1) (by first | exact id | exact fun q_ => absurd (Nat.succ.inj q_) (by assumption) | exact fun q_ => absurd q_.symm (Nat.succ_ne_zero _) | exact fun q_ => absurd (Nat.succ.inj q_).symm (by assumption) | (intro q_; (try dsimp only at q_); omega)) (by first | exact id | exact fun q_ => absurd (Nat.succ.inj q_) (by assumption) | exact fun q_ => absurd q_.symm (Nat.succ_ne_zero _) | exact fun q_ => absurd (Nat.succ.inj q_).symm (by assumption) | (intro q_; (try dsimp only at q_); omega))
  have hFm_53 := hFm_45.mv (w1 := w_48) (u_50.1) (by first | exact id | exact fun q_ => absurd (Nat.succ.inj q_) (by assumption) | exact fun q_ => absurd q_.symm (Nat.succ_ne_zero _) | exact fun q_ => absurd (Nat.succ.inj q_).symm (by assumption) | (intro q_; (try dsimp only at q_); omega))
  have hFm_54 := hFm_46.mv (w1 := w_48) (u_50.1) (by first | exact id | exact fun q_ => absurd (Nat.succ.inj q_) (by assumption) | exact fun q_ => absurd q_.symm (Nat.succ_ne_zero _) | exact fun q_ => absurd (Nat.succ.inj q_).symm (by assumption) | (intro q_; (try dsimp only at q_); omega))
  have hP_pl_w_48 := hP_pl_w_42.mv (u_50.1) (by first | exact id | exact fun q_ => absurd (Nat.succ.inj q_) (by assumption) | exact fun q_ => absurd q_.symm (Nat.succ_ne_zero _) | exact fun q_ => absurd (Nat.succ.inj q_).symm (by assumption) | (intro q_; (try dsimp only at q_); omega))
  have hU : Up (fun q_ => q_ = a + 1 ∨ q_ = lm + 1) w w_48 := hU.tr u_50 (fun q_ h_ => by first | exact absurd h_ id | exact Or.inl h_ | exact Or.inr (up_nw h_ (by assumption)) | exact Or.inl (Or.inl h_) | exact Or.inl (Or.inr h_) | exact Or.inl (Or.inr (Or.inl h_)) | exact Or.inl (Or.inr (Or.inr h_)) | exact Or.inl (Or.inr (Or.inr (Or.inl h_))) | exact Or.inl (Or.inr (Or.inr (Or.inr h_))) | exact Or.inl (h_.elim Or.inl (fun h_ => Or.inr (Or.inl h_))) | ((try dsimp only at h_); first | exact Or.inl (by omega) | exact Or.inr ⟨by omega, by subst h_; rw [Nat.add_sub_cancel]; assumption⟩)) hG
  refine lv_aload_n hx hb dX2_add_62 rfl (lv_at hl 3 rfl) ?_
  refine h_get X hR hF_a_w_48 rfl in_X2 7 (by decide) q611 rfl dX2_add_63 ?_
  refine h_iconst hx hb dX2_add_66 ?_
  refine lv_dup2_11 hx hb dX2_add_67 rfl rfl ?_
  refine h_iald X hR hF_aca_w_48 (by omega) (by omega) dX2_add_68 ?_
  refine h_iconst hx hb dX2_add_69 ?_
  refine h_iadd hx hb dX2_add_70 ?_
  refine h_iast X hR hL hF_aca_w_48 (Nat.succ_ne_zero _) (by omega) (by omega) dX2_add_71 (fun w_55 ew_56 H locs hR hL => ?_)
  have hU : Up (fun q_ => q_ = a + 1 ∨ q_ = lm + 1) w w_55 := by rw [ew_56]; exact hU.set hF_aca_w_48 (by first | exact Or.inl rfl | exact Or.inl (Or.inl rfl) | exact Or.inl (Or.inr rfl) | exact Or.inl (Or.inr (Or.inl rfl)) | exact Or.inl (Or.inr (Or.inr rfl)) | exact Or.inr ⟨Nat.succ_ne_zero _, by rw [Nat.add_sub_cancel]; assumption⟩ | exact Or.inr ⟨by omega, by assumption⟩) hG _
  have hF_aca_w_55 : w_55 aca = some (a + 1, iE G 0 3 (zset fa (Int.toNat 0) (fa (Int.toNat 0) + 1))) := by rw [ew_56]; exact wset_eq _ _ _
  have hF_q_w_55 : w_55 q = some (a + 1, oE 3 [.int (iI (cNx c)), .ref pl, .int (iI (wd)), .int (iI (plF c (rkF c ps : Int)))]) := by rw [ew_56]; exact (wset_ne _ (by first | exact ne_q_aca | exact Ne.symm ne_aca_q | exact w_neR hF_q_w_48 hF_aca_w_48 (by omega) | exact w_ne hF_q_w_48 hF_aca_w_48 (by intro h; cases h))).trans hF_q_w_48
  have hF_a_w_55 : w_55 a = some (a + 1, oE 2 [.int (iI (cSh c)), .int (iI (cRm c)), .ref bda, .ref lm, .ref lr, .ref hm, .ref so, .ref aca, .int (iI (cNx c + 1))]) := by rw [ew_56]; exact (wset_ne _ (by first | exact ne_a_aca | exact Ne.symm ne_aca_a | exact w_neR hF_a_w_48 hF_aca_w_48 (by omega) | exact w_ne hF_a_w_48 hF_aca_w_48 (by intro h; cases h))).trans hF_a_w_48
  have hF_bda_w_55 : w_55 bda = some (a + 1, iE G 0 ((cSh c).toNat) fb) := by rw [ew_56]; exact (wset_ne _ (by first | exact ne_bda_aca | exact Ne.symm ne_aca_bda | exact w_neR hF_bda_w_48 hF_aca_w_48 (by omega) | exact w_ne hF_bda_w_48 hF_aca_w_48 (by intro h; cases h))).trans hF_bda_w_48
  have hF_so_w_55 : w_55 so = some (0, oE 7 []) := by rw [ew_56]; exact (wset_ne _ (by first | exact ne_so_aca | exact Ne.symm ne_aca_so | exact w_neR hF_so_w_48 hF_aca_w_48 (by omega) | exact w_ne hF_so_w_48 hF_aca_w_48 (by intro h; cases h))).trans hF_so_w_48
  have hP_lr_w_55 := hP_lr_w_48.mv (w1 := w_55) (S := fun q_ => q_ = a + 1) (by rw [ew_56]; exact Fr.one hF_aca_w_48 _) (by first | exact id | exact fun q_ => absurd (Nat.succ.inj q_) (by assumption) | exact fun q_ => absurd q_.symm (Nat.succ_ne_zero _) | exact fun q_ => absurd (Nat.succ.inj q_).symm (by assumption) | (intro q_; (try dsimp only at q_); omega))
  have hP_hm_w_55 := hP_hm_w_48.mv (w1 := w_55) (S := fun q_ => q_ = a + 1) (by rw [ew_56]; exact Fr.one hF_aca_w_48 _) ⟨(by first | exact id | (intro q_; (try dsimp only at q_); omega)), (by first | exact id | (intro q_; (try dsimp only at q_); omega))⟩
  have hFm_57 : MksF G (cRl c) w_55 (a + 1) Lm (cN c) (mk c) := by rw [ew_56]; exact MksF.oth hFm_52 (Nat.succ_ne_zero _) hF_aca_w_48 (by intro fs_ h_; cases h_) _
  have hFm_58 := hFm_53.mv (w1 := w_55) (S := fun q_ => q_ = a + 1) (by rw [ew_56]; exact Fr.one hF_aca_w_48 _) (by first | exact id | exact fun q_ => absurd (Nat.succ.inj q_) (by assumption) | exact fun q_ => absurd q_.symm (Nat.succ_ne_zero _) | exact fun q_ => absurd (Nat.succ.inj q_).symm (by assumption) | (intro q_; (try dsimp only at q_); omega))
  have hFm_59 := hFm_54.mv (w1 := w_55) (S := fun q_ => q_ = a + 1) (by rw [ew_56]; exact Fr.one hF_aca_w_48 _) (by first | exact id | exact fun q_ => absurd (Nat.succ.inj q_) (by assumption) | exact fun q_ => absurd q_.symm (Nat.succ_ne_zero _) | exact fun q_ => absurd (Nat.succ.inj q_).symm (by assumption) | (intro q_; (try dsimp only at q_); omega))
  have hP_pl_w_55 := hP_pl_w_48.mv (w1 := w_55) (S := fun q_ => q_ = a + 1) (by rw [ew_56]; exact Fr.one hF_aca_w_48 _) (by first | exact id | exact fun q_ => absurd (Nat.succ.inj q_) (by assumption) | exact fun q_ => absurd q_.symm (Nat.succ_ne_zero _) | exact fun q_ => absurd (Nat.succ.inj q_).symm (by assumption) | (intro q_; (try dsimp only at q_); omega))
  have hP_lm_w_55 := hL__51.mv (w1 := w_55) (S := fun q_ => q_ = a + 1) (by rw [ew_56]; exact Fr.one hF_aca_w_48 _) (by first | exact id | exact fun q_ => absurd (Nat.succ.inj q_) (by assumption) | exact fun q_ => absurd q_.symm (Nat.succ_ne_zero _) | exact fun q_ => absurd (Nat.succ.inj q_).symm (by assumption) | (intro q_; (try dsimp only at q_); omega))
  refine lv_iload hx hb dX2_add_72 (lv_at hl 0 rfl) ?_
  refine h_if_eq hx hb 87 dX2_add_74 (by decide) (by have := b2i_01 (plA c (rkF c ps : Int) - plA c ((rkF c ps : Int) - 1) < 2); omega) (fun c_t => ?_) (fun c_t => ?_)
  ·
    have c_n := b2i_0.mp c_t
    refine lv_aload_n hx hb dX2_add_87 rfl (lv_at hl 2 rfl) ?_
    refine h_getN X hR hF_q_w_55 rfl in_X5 0 (by decide) q1537 rfl dX2_add_88 ?_
    have hmi_61 : MksAt G (cRl c) w_55 (a + 1) (insAt Lm (rkF c ps) q) (cMk (cIns c ps wd)) := MksAt.ins (ms := cMk c) (m := (cNx c, ps, wd, plF c (rkF c ps : Int))) hFm_57 ⟨pl, hF_q_w_55, hP_pl_w_55⟩ (rkF_le c ps)
    have hcat_60 : CatAt G w_55 a lm lr hm (cIns c ps wd) := ⟨bda, aca, so, fb, _, insAt Lm (rkF c ps) q, Lr, mp, hF_a_w_55, ⟨hF_bda_w_55, hbx⟩, ⟨hF_aca_w_55, ac_ins hax⟩, hF_so_w_55, ⟨LsAt.e hP_lm_w_55, hmi_61, nd_ins hnd hqn⟩, ⟨⟨mo2, hm2, hP_lr_w_55⟩, hFm_58⟩, ⟨hP_hm_w_55, hFm_59⟩, hrd, hid.ins ps wd, hba, hll⟩
    exact h_ireturn hx hb hlk hret hR hL rfl ⟨rfl, by rw [cAdd_n c_n]; exact hcat_60, hU⟩ (by omega) (by omega) rfl rfl dX2_add_91
  ·
    have c_n := b2i_n1.mp c_t
    refine lv_aload_n hx hb dX2_add_77 rfl (lv_at hl 3 rfl) ?_
    refine lv_aload_n hx hb dX2_add_78 rfl (lv_at hl 2 rfl) ?_
    refine h_getN X hR hF_q_w_55 rfl in_X5 0 (by decide) q1537 rfl dX2_add_79 ?_
    have hmi_63 : MksAt G (cRl c) w_55 (a + 1) (insAt Lm (rkF c ps) q) (cMk (cIns c ps wd)) := MksAt.ins (ms := cMk c) (m := (cNx c, ps, wd, plF c (rkF c ps : Int))) hFm_57 ⟨pl, hF_q_w_55, hP_pl_w_55⟩ (rkF_le c ps)
    have hcat_62 : CatAt G w_55 a lm lr hm (cIns c ps wd) := ⟨bda, aca, so, fb, _, insAt Lm (rkF c ps) q, Lr, mp, hF_a_w_55, ⟨hF_bda_w_55, hbx⟩, ⟨hF_aca_w_55, ac_ins hax⟩, hF_so_w_55, ⟨LsAt.e hP_lm_w_55, hmi_63, nd_ins hnd hqn⟩, ⟨⟨mo2, hm2, hP_lr_w_55⟩, hFm_58⟩, ⟨hP_hm_w_55, hFm_59⟩, hrd, hid.ins ps wd, hba, hll⟩
    -- call SpokenMarks$Catalogue.respace
    refine h_kI (h_runV X hR (ct_rsp l G w_55 a lm lr hm (cIns c ps wd) hcat_62 hS2 (cNx c) ⟨by omega, by omega⟩ hU.2.2.1) pn_yX2_respace (hcat_62.c) q1636 q1637 q1638 q123 q1639 ⟨by decide, by decide⟩ hl.1 (Nat.le_of_ble_eq_true rfl) dX2_add_82 ⟨by omega, by omega⟩) hL (fun z_64 w_65 hp_66 H locs hR hL => ?_)
    obtain ⟨rfl, hC__68, hKp_69, u_67⟩ := hp_66
    have hP_pl_w_65 := hP_pl_w_55.mv (u_67.1) (by first | exact id | exact fun q_ => absurd (Nat.succ.inj q_) (by assumption) | exact fun q_ => absurd q_.symm (Nat.succ_ne_zero _) | exact fun q_ => absurd (Nat.succ.inj q_).symm (by assumption) | (intro q_; (try dsimp only at q_); omega))
    have hU : Up (fun q_ => q_ = a + 1 ∨ q_ = lm + 1) w w_65 := hU.tr u_67 (fun q_ h_ => by first | exact absurd h_ id | exact Or.inl h_ | exact Or.inr (up_nw h_ (by assumption)) | exact Or.inl (Or.inl h_) | exact Or.inl (Or.inr h_) | exact Or.inl (Or.inr (Or.inl h_)) | exact Or.inl (Or.inr (Or.inr h_)) | exact Or.inl (Or.inr (Or.inr (Or.inl h_))) | exact Or.inl (Or.inr (Or.inr (Or.inr h_))) | exact Or.inl (h_.elim Or.inl (fun h_ => Or.inr (Or.inl h_))) | ((try dsimp only at h_); first | exact Or.inl (by omega) | exact Or.inr ⟨by omega, by subst h_; rw [Nat.add_sub_cancel]; assumption⟩)) hG
    obtain ⟨p9_, hq9⟩ := hKp_69 q _ _ _ _ hF_q_w_55
    refine lv_istore (lv' := [(6, .int (iI (rsV (cIns c ps wd) (cNx c)))), (5, .int (iI (b2i (plA c (rkF c ps : Int) - plA c ((rkF c ps : Int) - 1) < 2)))), (4, .int (iI (((rkF c ps : Nat) : Int)))), (3, .ref q), (0, .ref a), (1, .ref pl), (2, .int (iI (wd)))]) hx hb dX2_add_85 hl (by decide) rfl (fun ls hl => ?_)
    refine lv_aload_n hx hb dX2_add_87 rfl (lv_at hl 3 rfl) ?_
    refine h_getN X hR hq9 rfl in_X5 0 (by decide) q1537 rfl dX2_add_88 ?_
    exact h_ireturn hx hb hlk hret hR hL rfl ⟨rfl, by rw [cAdd_t hid ps wd c_n]; exact hC__68, hU⟩ (by omega) (by omega) rfl rfl dX2_add_91
