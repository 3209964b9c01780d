/-! the component: the catalogue changed: heardAnew, respace, add -/
set_option maxRecDepth 100000
theorem up_nw {w : Wd} {z q : Nat} (h : q = z + 1) (hn : w z = none) : q ≠ 0 ∧ w (q - 1) = none := by
  subst h
  exact ⟨Nat.succ_ne_zero _, by rw [Nat.add_sub_cancel]; exact hn⟩
/-- parts made so far -/
def PasAt (G : Gl) (R : Rls) (w : Wd) (P : List Nat) (ps : List Prt) (i : Nat) : Prop := P.length = i ∧ ∀ k, k < i → PtAt G R w (P.getD k 0) (ps.getD k prt0)
theorem PasAt.mv {G : Gl} {R : Rls} {w w1 : Wd} {P : List Nat} {ps : List Prt} {i : Nat} {S : Nat → Prop} (h : PasAt G R w P ps i) (hF : Fr S w w1) (h0 : ¬ S 0) : PasAt G R w1 P ps i := ⟨h.1, fun k hk => (h.2 k hk).mv hF h0⟩
theorem PasAt.put {G : Gl} {R : Rls} {w : Wd} {P : List Nat} {ps : List Prt} {i q : Nat} (h : PasAt G R w P ps i) (hq : PtAt G R w q (ps.getD i prt0)) : PasAt G R w (P ++ [q]) ps (i + 1) := by
  have h1 := h.1
  refine ⟨by rw [List.length_append, List.length_singleton, h1], fun k hk => ?_⟩
  rw [app_atn P q k (by omega)]
  by_cases z : k = P.length
  · rw [if_pos z, z, h1]; exact hq
  · rw [if_neg z]; exact h.2 k (by omega)
theorem PtAt.obj {G : Gl} {R : Rls} {w : Wd} {a : Nat} {x : Prt} (h : PtAt G R w a x) : ∃ C e, w a = some (0, e) ∧ entC e = some C ∧ Cond.castable C "java/lang/Object" ∈ lw_tbl := by
  cases x with
  | inl n => exact ⟨_, _, h, rfl, q3455⟩
  | inr L => obtain ⟨la, ea, h1, -⟩ := h; exact ⟨_, _, h1, rfl, q3449⟩

theorem pn_yX2_heard : ParN yX2_heard 1 := by decide +kernel
theorem pn_yJ3_init : ParN yJ3_init 1 := by decide +kernel
theorem pn_yJ3_add : ParN yJ3_add 1 := by decide +kernel
theorem pn_i_java_util_List_add_1 : ParN ⟨"java/util/List", "add", "(Ljava/lang/Object;)Z"⟩ 1 := by decide +kernel

set_option maxHeartbeats 4000000 in
set_option maxRecDepth 100000 in
/-- SpokenMarks$Catalogue.heardAnew -/
theorem ct_ha (l : Launch) (G : Gl) (w : Wd) (a lm lr hm : Nat) (c : Cat) (hC : CatAt G w a lm lr hm c) (hS : CatS c) (R0 : Rls) (pl : Nat) (ps : List Prt) (hQ : PlAt G R0 w pl ps) (hP : PrtsW ps) (hG : RegW w) : HM l yX2_heardAnew cX2_heardAnew 6 (some (.object "java/util/List")) 12 (3 + 22 * 5) (12 + 127 * 5) G [.ref a, .ref pl] w (QR G (fun z_ w_ => w z_ = none ∧ PlAt G (cRl c) w_ z_ ps ∧ Up (fun _ => False) w w_)) := by
  refine HM.mk (by decide +kernel) (Nat.le_of_ble_eq_true rfl) ?_
  intro p9 e9 s9 m9 a9 b9 meth9 c9 ls X hret hlk hnm hl H hR
  have hx := X.1.1
  have hb := X.1.2.1
  have hl : lv_has ls 6 [(0, .ref a), (1, .ref pl)] := hl
  have hL : LK G [] := fun q h => absurd h List.not_mem_nil
  generalize ([] : List Loc) = locs at hL ⊢
  have hU : Up (fun _ => False) w w := Up.rf hG
  have hQ0 := hQ
  obtain ⟨mo9, P0, hm9, hP0, hP0l, hP0x⟩ := hQ
  have hP1 : PasAt G R0 w P0 ps ps.length := ⟨hP0l, hP0x⟩
  have l5 := hP.2.1
  refine h_new X hR (ci := 21) (fun q => q + 1) rfl in_J3 tyJ3_ok q210 q211 q125 [.int (iI (0)), .null, .int (iI (0))] (by intro j hj; rcases (show j = 0 ∨ j = 1 ∨ j = 2 by omega) with rfl | rfl | rfl <;> rfl) (by omega) (by omega) dX2_heardAnew_0 (fun q hq w_1 ew_2 H hR => ?_)
  have hn_q : w q = none := hU.2.1 _ hq
  have hU : Up (fun _ => False) w w_1 := by rw [ew_2]; exact hU.new hq (by first | exact Or.inr (Or.inl rfl) | exact Or.inl rfl | exact Or.inr (Or.inr (by assumption)))
  have hF_q_w_1 : w_1 q = some (q + 1, oE 21 [.int (iI (0)), .null, .int (iI (0))]) := by rw [ew_2]; exact wset_eq _ _ _
  have ne_lm_q : lm ≠ q := sm_ne ((hC.s2).1) hq
  have ne_lr_q : lr ≠ q := sm_ne ((hC.s2).2.1) hq
  have ne_hm_q : hm ≠ q := sm_ne ((hC.s2).2.2) hq
  have ne_a_q : a ≠ q := sm_ne hC.sm hq
  have hP_a_w_1 := hC.mv (w1 := w_1) (S := fun _ => False) (by rw [ew_2]; exact Fr.add hq _) ⟨id, id, id, id, id⟩
  have ne_pl_q : pl ≠ q := sm_ne hP0.sm hq
  have hP_pl_w_1 := hP0.mv (w1 := w_1) (S := fun _ => False) (by rw [ew_2]; exact Fr.add hq _) id
  have hFm_3 := hP1.mv (w1 := w_1) (S := fun _ => False) (by rw [ew_2]; exact Fr.add hq _) id
  refine lv_dup hx hb dX2_heardAnew_3 rfl ?_
  refine h_iconst hx hb dX2_heardAnew_4 ?_
  -- call java/util/ArrayList.<init>
  refine h_kV (h_runI X hR (ls_init l G w_1 (q + 1) q 5 hU.2.2.1 (by omega) hF_q_w_1 (by omega) (by omega)) pn_yJ3_init rfl q212 q213 q125 q214 ⟨by decide, by decide⟩ hl.1 (Nat.le_of_ble_eq_true rfl) dX2_heardAnew_5 ⟨by omega, by omega⟩) hL (fun w_5 hp_6 H locs hR hL => ?_)
  obtain ⟨hL__8, u_7⟩ := hp_6
  have hP_a_w_5 := hP_a_w_1.mv (u_7.1) ⟨(by first | exact id | exact fun q_ => absurd (Nat.succ.inj q_) (by assumption) | exact fun q_ => absurd q_.symm (Nat.succ_ne_zero _) | exact fun q_ => absurd (Nat.succ.inj q_).symm (by assumption) | (intro q_; (try dsimp only at q_); omega)), (by first | exact id | exact fun q_ => absurd (Nat.succ.inj q_) (by assumption) | exact fun q_ => absurd q_.symm (Nat.succ_ne_zero _) | exact fun q_ => absurd (Nat.succ.inj q_).symm (by assumption) | (intro q_; (try dsimp only at q_); omega)), (by first | exact id | exact fun q_ => absurd (Nat.succ.inj q_) (by assumption) | exact fun q_ => absurd q_.symm (Nat.succ_ne_zero _) | exact fun q_ => absurd (Nat.succ.inj q_).symm (by assumption) | (intro q_; (try dsimp only at q_); omega)), (by first | exact id | exact fun q_ => absurd (Nat.succ.inj q_) (by assumption) | exact fun q_ => absurd q_.symm (Nat.succ_ne_zero _) | exact fun q_ => absurd (Nat.succ.inj q_).symm (by assumption) | (intro q_; (try dsimp only at q_); omega)), (by first | exact id | exact fun q_ => absurd (Nat.succ.inj q_) (by assumption) | exact fun q_ => absurd q_.symm (Nat.succ_ne_zero _) | exact fun q_ => absurd (Nat.succ.inj q_).symm (by assumption) | (intro q_; (try dsimp only at q_); omega))⟩
  have hP_pl_w_5 := hP_pl_w_1.mv (u_7.1) (by first | exact id | exact fun q_ => absurd (Nat.succ.inj q_) (by assumption) | exact fun q_ => absurd q_.symm (Nat.succ_ne_zero _) | exact fun q_ => absurd (Nat.succ.inj q_).symm (by assumption) | (intro q_; (try dsimp only at q_); omega))
  have hFm_9 := hFm_3.mv (w1 := w_5) (u_7.1) (by first | exact id | exact fun q_ => absurd (Nat.succ.inj q_) (by assumption) | exact fun q_ => absurd q_.symm (Nat.succ_ne_zero _) | exact fun q_ => absurd (Nat.succ.inj q_).symm (by assumption) | (intro q_; (try dsimp only at q_); omega))
  have hU : Up (fun _ => False) w w_5 := hU.tr u_7 (fun q_ h_ => by first | exact absurd h_ id | exact Or.inl h_ | exact Or.inr (up_nw h_ (by assumption)) | ((try dsimp only at h_); first | exact Or.inl (by omega) | exact Or.inr ⟨by omega, by subst h_; rw [Nat.add_sub_cancel]; assumption⟩)) hG
  refine lv_astore_n (lv' := [(2, .ref q), (0, .ref a), (1, .ref pl)]) hx hb dX2_heardAnew_8 rfl hl (by decide) rfl (fun ls hl => ?_)
  refine lv_aload_n hx hb dX2_heardAnew_9 rfl (lv_at hl 2 rfl) ?_
  -- call java/util/ArrayList.iterator
  refine h_k5R (h_runF (x := ⟨"java/util/List", "iterator", "()Ljava/util/Iterator;"⟩) X hR (ls_iter l G w_5 0 pl mo9 P0 hP_pl_w_5.z hU.2.2.1) pn_i_java_util_List_iterator_0 (hP_pl_w_5.z.c) (kk_face X.2 (by decide +kernel) q1316 q1315 q1320 q1318 q664) q1314 q1319 q1317 q125 q1321 ⟨by decide, by decide⟩ hl.1 (Nat.le_of_ble_eq_true rfl) dX2_heardAnew_10 ⟨by omega, by omega⟩) hL (fun it w_10 hp_11 H locs hR hL => ?_)
  obtain ⟨hz_13, hf_14, u_12⟩ := hp_11
  have ne_lm_it : lm ≠ it := sm_ne ((hP_a_w_5.s2).1) hz_13
  have ne_lr_it : lr ≠ it := sm_ne ((hP_a_w_5.s2).2.1) hz_13
  have ne_hm_it : hm ≠ it := sm_ne ((hP_a_w_5.s2).2.2) hz_13
  have ne_a_it : a ≠ it := sm_ne hP_a_w_5.sm hz_13
  have ne_pl_it : pl ≠ it := sm_ne hP_pl_w_5.sm hz_13
  have ne_q_it : q ≠ it := sm_ne hL__8.sm hz_13
  have hn_it : w it = none := hU.2.1 _ hz_13
  have hP_a_w_10 := hP_a_w_5.mv (u_12.1) ⟨(by first | exact id | exact fun q_ => absurd (Nat.succ.inj q_) (by assumption) | exact fun q_ => absurd q_.symm (Nat.succ_ne_zero _) | exact fun q_ => absurd (Nat.succ.inj q_).symm (by assumption) | (intro q_; (try dsimp only at q_); omega)), (by first | exact id | exact fun q_ => absurd (Nat.succ.inj q_) (by assumption) | exact fun q_ => absurd q_.symm (Nat.succ_ne_zero _) | exact fun q_ => absurd (Nat.succ.inj q_).symm (by assumption) | (intro q_; (try dsimp only at q_); omega)), (by first | exact id | exact fun q_ => absurd (Nat.succ.inj q_) (by assumption) | exact fun q_ => absurd q_.symm (Nat.succ_ne_zero _) | exact fun q_ => absurd (Nat.succ.inj q_).symm (by assumption) | (intro q_; (try dsimp only at q_); omega)), (by first | exact id | exact fun q_ => absurd (Nat.succ.inj q_) (by assumption) | exact fun q_ => absurd q_.symm (Nat.succ_ne_zero _) | exact fun q_ => absurd (Nat.succ.inj q_).symm (by assumption) | (intro q_; (try dsimp only at q_); omega)), (by first | exact id | exact fun q_ => absurd (Nat.succ.inj q_) (by assumption) | exact fun q_ => absurd q_.symm (Nat.succ_ne_zero _) | exact fun q_ => absurd (Nat.succ.inj q_).symm (by assumption) | (intro q_; (try dsimp only at q_); omega))⟩
  have hP_pl_w_10 := hP_pl_w_5.mv (u_12.1) (by first | exact id | exact fun q_ => absurd (Nat.succ.inj q_) (by assumption) | exact fun q_ => absurd q_.symm (Nat.succ_ne_zero _) | exact fun q_ => absurd (Nat.succ.inj q_).symm (by assumption) | (intro q_; (try dsimp only at q_); omega))
  have hFm_15 := hFm_9.mv (w1 := w_10) (u_12.1) (by first | exact id | exact fun q_ => absurd (Nat.succ.inj q_) (by assumption) | exact fun q_ => absurd q_.symm (Nat.succ_ne_zero _) | exact fun q_ => absurd (Nat.succ.inj q_).symm (by assumption) | (intro q_; (try dsimp only at q_); omega))
  have hP_q_w_10 := hL__8.mv (u_12.1) (by first | exact id | exact fun q_ => absurd (Nat.succ.inj q_) (by assumption) | exact fun q_ => absurd q_.symm (Nat.succ_ne_zero _) | exact fun q_ => absurd (Nat.succ.inj q_).symm (by assumption) | (intro q_; (try dsimp only at q_); omega))
  have hU : Up (fun _ => False) w w_10 := hU.tr u_12 (fun q_ h_ => by first | exact absurd h_ id | exact Or.inl h_ | exact Or.inr (up_nw h_ (by assumption)) | ((try dsimp only at h_); first | exact Or.inl (by omega) | exact Or.inr ⟨by omega, by subst h_; rw [Nat.add_sub_cancel]; assumption⟩)) hG
  have hpas0 : PasAt G (cRl c) w_10 [] ps 0 := ⟨rfl, fun k_ hk_ => absurd hk_ (Nat.not_lt_zero _)⟩
  refine lv_astore_n (lv' := [(3, .ref it), (2, .ref q), (0, .ref a), (1, .ref pl)]) hx hb dX2_heardAnew_15 rfl hl (by decide) rfl (fun ls hl => ?_)
  have LOOP_17 : ∀ (N_ : Nat) (i : Nat) (P : List Nat) (mo : Int) (la : Int)(w_16 : Wd) , (i ≤ ps.length) → (CatAt G w_16 a lm lr hm c) → (LsAt G w_16 0 pl 5 mo9 P0) → (PasAt G R0 w_16 P0 ps ps.length) → (LsAt G w_16 (q + 1) q 5 mo P) → (PasAt G (cRl c) w_16 P ps i) → (w_16 it = some (it + 1, oE 22 [.int (iI (((i : Nat) : Int))), .int (iI (la)), .int (iI (mo9)), .ref pl])) → (Up (fun _ => False) w w_16) → (6 - i) < N_ → ∀ (H : Heap) (locs : List Loc) (ls : Array Slot), Rp G w_16 H → LK G locs → lv_has ls 6 [(0, .ref a), (1, .ref pl), (2, .ref q), (3, .ref it)] → W p9 l e9 (rmk 12 (3 + 22 * 5) (12 + 127 * 5)) s9 m9 a9 b9 meth9 c9 H locs (3 + 22 * i) (12 + 127 * i) (MQ b9 (QR G (fun z_ w_ => w z_ = none ∧ PlAt G (cRl c) w_ z_ ps ∧ Up (fun _ => False) w w_)) a9 s9 (3 + 22 * 5) (12 + 127 * 5) (frG G)) (F0 m9 16 ls []) := by
    intro N_
    induction N_ with
    | zero => intro _ _ _ _ _ _ _ _ _ _ _ _ _ h_; exact absurd h_ (Nat.not_lt_zero _)
    | succ N_ ih_ =>
      intro i P mo la w_16 hi hI_a_w_16 hI_pl_w_16 hI__P_w_16 hI_q_w_16 hI__pas_w_16 hI_it_w_16 hU hN_ H locs ls hR hL hl
      have ih_17 := ih_
      clear ih_
      have hPl := hI__pas_w_16.1
      refine lv_aload_n hx hb dX2_heardAnew_16 rfl (lv_at hl 3 rfl) ?_
      -- call java/util/ArrayList$Itr.hasNext
      refine h_k5Ip (h_runF (x := ⟨"java/util/Iterator", "hasNext", "()Z"⟩) X hR (it_has l G w_16 0 pl mo9 P0 hI_pl_w_16.z it ((i)) la hI_it_w_16 (by omega)) pn_i_java_util_Iterator_hasNext_0 (hasC.of hI_it_w_16 rfl) (kk_face X.2 (by decide +kernel) q1344 q1343 q1349 q1347 q1345) q1342 q1348 q1346 q152 q1350 ⟨by decide, by decide⟩ hl.1 (Nat.le_of_ble_eq_true rfl) dX2_heardAnew_17 ⟨by omega, by omega⟩) hL (fun H locs hR hL => ?_)
      refine h_if_eq hx hb 75 dX2_heardAnew_22 (by decide) (by have := b2i_01 (i < P0.length); omega) (fun c_k => ?_) (fun c_k => ?_)
      ·
        have c_n := b2i_0.mp c_k
        refine lv_aload_n hx hb dX2_heardAnew_75 rfl (lv_at hl 2 rfl) ?_
        obtain ⟨arr, f_21, g1__22, g2__23, g3__24⟩ := hI_q_w_16
        have hn_arr : w arr = none := hU.nw hG hn_q g2__23
        have ne_q_arr : q ≠ arr := w_ne g1__22 g2__23 (by intro h_; cases h_)
        have hR := hR.retag (0) g2__23 (Nat.succ_ne_zero _)
        obtain ⟨w_25, ew_26⟩ : ∃ w_ : Wd, w_ = wset w_16 arr (0, rE G 4 5 f_21) := ⟨_, rfl⟩
        rw [← ew_26] at hR
        have hU : Up (fun _ => False) w w_25 := by rw [ew_26]; exact hU.tag g2__23 hn_arr (Or.inl rfl)
        have hF_arr_w_25 : w_25 arr = some (0, rE G 4 5 f_21) := by rw [ew_26]; exact wset_eq _ _ _
        have hP_a_w_25 := hI_a_w_16.mv (w1 := w_25) (S := fun q_ => q_ = q + 1) (by rw [ew_26]; exact Fr.one g2__23 _) ⟨(by first | exact id | exact fun q_ => absurd (Nat.succ.inj q_) (by assumption) | exact fun q_ => absurd q_.symm (Nat.succ_ne_zero _) | exact fun q_ => absurd (Nat.succ.inj q_).symm (by assumption) | (intro q_; (try dsimp only at q_); omega)), (by first | exact id | exact fun q_ => absurd (Nat.succ.inj q_) (by assumption) | exact fun q_ => absurd q_.symm (Nat.succ_ne_zero _) | exact fun q_ => absurd (Nat.succ.inj q_).symm (by assumption) | (intro q_; (try dsimp only at q_); omega)), (by first | exact id | exact fun q_ => absurd (Nat.succ.inj q_) (by assumption) | exact fun q_ => absurd q_.symm (Nat.succ_ne_zero _) | exact fun q_ => absurd (Nat.succ.inj q_).symm (by assumption) | (intro q_; (try dsimp only at q_); omega)), (by first | exact id | exact fun q_ => absurd (Nat.succ.inj q_) (by assumption) | exact fun q_ => absurd q_.symm (Nat.succ_ne_zero _) | exact fun q_ => absurd (Nat.succ.inj q_).symm (by assumption) | (intro q_; (try dsimp only at q_); omega)), (by first | exact id | exact fun q_ => absurd (Nat.succ.inj q_) (by assumption) | exact fun q_ => absurd q_.symm (Nat.succ_ne_zero _) | exact fun q_ => absurd (Nat.succ.inj q_).symm (by assumption) | (intro q_; (try dsimp only at q_); omega))⟩
        have hP_pl_w_25 := hI_pl_w_16.mv (w1 := w_25) (S := fun q_ => q_ = q + 1) (by rw [ew_26]; exact Fr.one g2__23 _) (by first | exact id | exact fun q_ => absurd (Nat.succ.inj q_) (by assumption) | exact fun q_ => absurd q_.symm (Nat.succ_ne_zero _) | exact fun q_ => absurd (Nat.succ.inj q_).symm (by assumption) | (intro q_; (try dsimp only at q_); omega))
        have hFm_27 := hI__P_w_16.mv (w1 := w_25) (S := fun q_ => q_ = q + 1) (by rw [ew_26]; exact Fr.one g2__23 _) (by first | exact id | exact fun q_ => absurd (Nat.succ.inj q_) (by assumption) | exact fun q_ => absurd q_.symm (Nat.succ_ne_zero _) | exact fun q_ => absurd (Nat.succ.inj q_).symm (by assumption) | (intro q_; (try dsimp only at q_); omega))
        have hF_q_w_25 : w_25 q = some (q + 1, oE 21 [.int (iI (mo)), .ref arr, .int (iI ((P.length : Int)))]) := by rw [ew_26]; exact (wset_ne _ (by first | exact ne_q_arr | exact Ne.symm ne_arr_q | exact w_neR g1__22 g2__23 (by omega) | exact w_ne g1__22 g2__23 (by intro h; cases h))).trans g1__22
        have hFm_28 := hI__pas_w_16.mv (w1 := w_25) (S := fun q_ => q_ = q + 1) (by rw [ew_26]; exact Fr.one g2__23 _) (by first | exact id | exact fun q_ => absurd (Nat.succ.inj q_) (by assumption) | exact fun q_ => absurd q_.symm (Nat.succ_ne_zero _) | exact fun q_ => absurd (Nat.succ.inj q_).symm (by assumption) | (intro q_; (try dsimp only at q_); omega))
        have hF_it_w_25 : w_25 it = some (it + 1, oE 22 [.int (iI (((i : Nat) : Int))), .int (iI (la)), .int (iI (mo9)), .ref pl]) := by rw [ew_26]; exact (wset_ne _ (by first | exact ne_it_arr | exact Ne.symm ne_arr_it | exact w_neR hI_it_w_16 g2__23 (by omega) | exact w_ne hI_it_w_16 g2__23 (by intro h; cases h))).trans hI_it_w_16
        have hR := hR.retag (0) hF_q_w_25 (Nat.succ_ne_zero _)
        obtain ⟨w_29, ew_30⟩ : ∃ w_ : Wd, w_ = wset w_25 q (0, oE 21 [.int (iI (mo)), .ref arr, .int (iI ((P.length : Int)))]) := ⟨_, rfl⟩
        rw [← ew_30] at hR
        have hU : Up (fun _ => False) w w_29 := by rw [ew_30]; exact hU.tag hF_q_w_25 hn_q (Or.inl rfl)
        have hF_q_w_29 : w_29 q = some (0, oE 21 [.int (iI (mo)), .ref arr, .int (iI ((P.length : Int)))]) := by rw [ew_30]; exact wset_eq _ _ _
        have hF_arr_w_29 : w_29 arr = some (0, rE G 4 5 f_21) := by rw [ew_30]; exact (wset_ne _ (by first | exact ne_arr_q | exact Ne.symm ne_q_arr | exact w_neR hF_arr_w_25 hF_q_w_25 (by omega) | exact w_ne hF_arr_w_25 hF_q_w_25 (by intro h; cases h))).trans hF_arr_w_25
        have hP_a_w_29 := hP_a_w_25.mv (w1 := w_29) (S := fun q_ => q_ = q + 1) (by rw [ew_30]; exact Fr.one hF_q_w_25 _) ⟨(by first | exact id | exact fun q_ => absurd (Nat.succ.inj q_) (by assumption) | exact fun q_ => absurd q_.symm (Nat.succ_ne_zero _) | exact fun q_ => absurd (Nat.succ.inj q_).symm (by assumption) | (intro q_; (try dsimp only at q_); omega)), (by first | exact id | exact fun q_ => absurd (Nat.succ.inj q_) (by assumption) | exact fun q_ => absurd q_.symm (Nat.succ_ne_zero _) | exact fun q_ => absurd (Nat.succ.inj q_).symm (by assumption) | (intro q_; (try dsimp only at q_); omega)), (by first | exact id | exact fun q_ => absurd (Nat.succ.inj q_) (by assumption) | exact fun q_ => absurd q_.symm (Nat.succ_ne_zero _) | exact fun q_ => absurd (Nat.succ.inj q_).symm (by assumption) | (intro q_; (try dsimp only at q_); omega)), (by first | exact id | exact fun q_ => absurd (Nat.succ.inj q_) (by assumption) | exact fun q_ => absurd q_.symm (Nat.succ_ne_zero _) | exact fun q_ => absurd (Nat.succ.inj q_).symm (by assumption) | (intro q_; (try dsimp only at q_); omega)), (by first | exact id | exact fun q_ => absurd (Nat.succ.inj q_) (by assumption) | exact fun q_ => absurd q_.symm (Nat.succ_ne_zero _) | exact fun q_ => absurd (Nat.succ.inj q_).symm (by assumption) | (intro q_; (try dsimp only at q_); omega))⟩
        have hP_pl_w_29 := hP_pl_w_25.mv (w1 := w_29) (S := fun q_ => q_ = q + 1) (by rw [ew_30]; exact Fr.one hF_q_w_25 _) (by first | exact id | exact fun q_ => absurd (Nat.succ.inj q_) (by assumption) | exact fun q_ => absurd q_.symm (Nat.succ_ne_zero _) | exact fun q_ => absurd (Nat.succ.inj q_).symm (by assumption) | (intro q_; (try dsimp only at q_); omega))
        have hFm_31 := hFm_27.mv (w1 := w_29) (S := fun q_ => q_ = q + 1) (by rw [ew_30]; exact Fr.one hF_q_w_25 _) (by first | exact id | exact fun q_ => absurd (Nat.succ.inj q_) (by assumption) | exact fun q_ => absurd q_.symm (Nat.succ_ne_zero _) | exact fun q_ => absurd (Nat.succ.inj q_).symm (by assumption) | (intro q_; (try dsimp only at q_); omega))
        have hFm_32 := hFm_28.mv (w1 := w_29) (S := fun q_ => q_ = q + 1) (by rw [ew_30]; exact Fr.one hF_q_w_25 _) (by first | exact id | exact fun q_ => absurd (Nat.succ.inj q_) (by assumption) | exact fun q_ => absurd q_.symm (Nat.succ_ne_zero _) | exact fun q_ => absurd (Nat.succ.inj q_).symm (by assumption) | (intro q_; (try dsimp only at q_); omega))
        have hF_it_w_29 : w_29 it = some (it + 1, oE 22 [.int (iI (((i : Nat) : Int))), .int (iI (la)), .int (iI (mo9)), .ref pl]) := by rw [ew_30]; exact (wset_ne _ (by first | exact ne_it_q | exact Ne.symm ne_q_it | exact w_neR hF_it_w_25 hF_q_w_25 (by omega) | exact w_ne hF_it_w_25 hF_q_w_25 (by intro h; cases h))).trans hF_it_w_25
        have hLs_33 : LsAt G w_29 0 q 5 mo P := ⟨arr, f_21, hF_q_w_29, hF_arr_w_29, g3__24⟩
        have hie : i = ps.length := by omega
        obtain ⟨mo_, hmo_, hlsq⟩ := LsAt.e hLs_33
        exact h_areturn hx hb hlk hret (by first | exact Or.inl ⟨_, rfl⟩ | exact Or.inr ⟨_, rfl⟩) hR hL ⟨hn_q, ⟨mo_, P, hmo_, hlsq, hFm_32.1.trans hie, fun k_ hk_ => hFm_32.2 k_ (by omega)⟩, hU⟩ (by omega) (by omega) rfl rfl dX2_heardAnew_76
      ·
        have c_n := b2i_n1.mp c_k
        refine lv_aload_n hx hb dX2_heardAnew_25 rfl (lv_at hl 3 rfl) ?_
        -- call java/util/ArrayList$Itr.next
        refine h_k5R (h_runF (x := ⟨"java/util/Iterator", "next", "()Ljava/lang/Object;"⟩) X hR (it_next l G w_16 0 pl mo9 P0 hI_pl_w_16.z it ((i)) la hI_it_w_16 hU.2.2.1 c_n hm9 (by omega)) pn_i_java_util_Iterator_next_0 (hasC.of hI_it_w_16 rfl) (kk_face X.2 (by decide +kernel) q1354 q1353 q1358 q1356 q1345) q1352 q1357 q1355 q152 q1359 ⟨by decide, by decide⟩ hl.1 (Nat.le_of_ble_eq_true rfl) dX2_heardAnew_26 ⟨by omega, by omega⟩) hL (fun z_34 w_35 hp_36 H locs hR hL => ?_)
        obtain ⟨rfl, hI__38, u_37⟩ := hp_36
        have hP_a_w_35 := hI_a_w_16.mv (u_37.1) ⟨(by first | exact id | exact fun q_ => absurd (Nat.succ.inj q_) (by assumption) | exact fun q_ => absurd q_.symm (Nat.succ_ne_zero _) | exact fun q_ => absurd (Nat.succ.inj q_).symm (by assumption) | (intro q_; (try dsimp only at q_); omega)), (by first | exact id | exact fun q_ => absurd (Nat.succ.inj q_) (by assumption) | exact fun q_ => absurd q_.symm (Nat.succ_ne_zero _) | exact fun q_ => absurd (Nat.succ.inj q_).symm (by assumption) | (intro q_; (try dsimp only at q_); omega)), (by first | exact id | exact fun q_ => absurd (Nat.succ.inj q_) (by assumption) | exact fun q_ => absurd q_.symm (Nat.succ_ne_zero _) | exact fun q_ => absurd (Nat.succ.inj q_).symm (by assumption) | (intro q_; (try dsimp only at q_); omega)), (by first | exact id | exact fun q_ => absurd (Nat.succ.inj q_) (by assumption) | exact fun q_ => absurd q_.symm (Nat.succ_ne_zero _) | exact fun q_ => absurd (Nat.succ.inj q_).symm (by assumption) | (intro q_; (try dsimp only at q_); omega)), (by first | exact id | exact fun q_ => absurd (Nat.succ.inj q_) (by assumption) | exact fun q_ => absurd q_.symm (Nat.succ_ne_zero _) | exact fun q_ => absurd (Nat.succ.inj q_).symm (by assumption) | (intro q_; (try dsimp only at q_); omega))⟩
        have hP_pl_w_35 := hI_pl_w_16.mv (u_37.1) (by first | exact id | exact fun q_ => absurd (Nat.succ.inj q_) (by assumption) | exact fun q_ => absurd q_.symm (Nat.succ_ne_zero _) | exact fun q_ => absurd (Nat.succ.inj q_).symm (by assumption) | (intro q_; (try dsimp only at q_); omega))
        have hFm_39 := hI__P_w_16.mv (w1 := w_35) (u_37.1) (by first | exact id | exact fun q_ => absurd (Nat.succ.inj q_) (by assumption) | exact fun q_ => absurd q_.symm (Nat.succ_ne_zero _) | exact fun q_ => absurd (Nat.succ.inj q_).symm (by assumption) | (intro q_; (try dsimp only at q_); omega))
        have hP_q_w_35 := hI_q_w_16.mv (u_37.1) (by first | exact id | exact fun q_ => absurd (Nat.succ.inj q_) (by assumption) | exact fun q_ => absurd q_.symm (Nat.succ_ne_zero _) | exact fun q_ => absurd (Nat.succ.inj q_).symm (by assumption) | (intro q_; (try dsimp only at q_); omega))
        have hFm_40 := hI__pas_w_16.mv (w1 := w_35) (u_37.1) (by first | exact id | exact fun q_ => absurd (Nat.succ.inj q_) (by assumption) | exact fun q_ => absurd q_.symm (Nat.succ_ne_zero _) | exact fun q_ => absurd (Nat.succ.inj q_).symm (by assumption) | (intro q_; (try dsimp only at q_); omega))
        have hU : Up (fun _ => False) w w_35 := hU.tr u_37 (fun q_ h_ => by first | exact absurd h_ id | exact Or.inl h_ | exact Or.inr (up_nw h_ (by assumption)) | ((try dsimp only at h_); first | exact Or.inl (by omega) | exact Or.inr ⟨by omega, by subst h_; rw [Nat.add_sub_cancel]; assumption⟩)) hG
        have hx_41 : PtAt G R0 w_35 (P0.getD ((i)) 0) (ps.getD i prt0) := hFm_39.2 i (by omega)
        obtain ⟨C__42, hC__43, hK__44⟩ := hx_41.part
        refine h_castY X hR hC__43 hK__44 q1391 dX2_heardAnew_31 ?_
        refine lv_astore (lv' := [(4, .ref (P0.getD ((i)) 0)), (0, .ref a), (1, .ref pl), (2, .ref q), (3, .ref it)]) hx hb dX2_heardAnew_34 hl (by decide) rfl (fun ls hl => ?_)
        refine lv_aload_n hx hb dX2_heardAnew_36 rfl (lv_at hl 3 rfl) ?_
        refine lv_aload hx hb dX2_heardAnew_37 (lv_at hl 0 rfl) ?_
        refine h_instW X hR hx_41 q1392 dX2_heardAnew_39 ?_
        refine h_if_eq hx hb 64 dX2_heardAnew_42 (by decide) (by have := b2i_01 (isWP (ps.getD i prt0) = true); omega) (fun c_i => ?_) (fun c_i => ?_)
        ·
          have c_i0 := b2i_0.mp c_i
          obtain ⟨n_, hqf⟩ := isWP_l c_i0
          have hx_45 : PtAt G (cRl c) w_35 (P0.getD ((i)) 0) (ps.getD i prt0) := by have h_ := hx_41; rw [hqf] at h_ ⊢; exact h_
          refine lv_aload hx hb dX2_heardAnew_64 (lv_at hl 0 rfl) ?_
          have hx_46 : PtAt G (cRl c) w_35 (P0.getD ((i)) 0) (ps.getD i prt0) := hx_45
          obtain ⟨C_, e_, hE_, hC_, hK_⟩ := hx_46.obj
          -- call java/util/ArrayList.add
          refine h_k5I (h_runF (x := ⟨"java/util/List", "add", "(Ljava/lang/Object;)Z"⟩) X hR (ls_add l G w_35 (q + 1) q 5 mo P hP_q_w_35 hU.2.2.1 (Nat.succ_ne_zero _) (P0.getD ((i)) 0) C_ (fun w1_ u_ => hasC.of (u_.1 _ _ _ hE_ (by intro q_; (try dsimp only at q_); omega)) hC_) hK_ (by rw [hFm_40.1]; omega)) pn_i_java_util_List_add_1 (hP_q_w_35.c) (kk_face X.2 (by decide +kernel) q663 q662 q668 q666 q664) q661 q667 q665 q125 q669 ⟨by decide, by decide⟩ hl.1 (Nat.le_of_ble_eq_true rfl) dX2_heardAnew_66 ⟨by omega, by omega⟩) hL (fun z_47 w_48 hp_49 H locs hR hL => ?_)
          obtain ⟨rfl, hL__51, u_50⟩ := hp_49
          have hP_a_w_48 := hP_a_w_35.mv (u_50.1) ⟨(by first | exact id | exact fun q_ => absurd (Nat.succ.inj q_) (by assumption) | exact fun q_ => absurd q_.symm (Nat.succ_ne_zero _) | exact fun q_ => absurd (Nat.succ.inj q_).symm (by assumption) | (intro q_; (try dsimp only at q_); omega)), (by first | exact id | exact fun q_ => absurd (Nat.succ.inj q_) (by assumption) | exact fun q_ => absurd q_.symm (Nat.succ_ne_zero _) | exact fun q_ => absurd (Nat.succ.inj q_).symm (by assumption) | (intro q_; (try dsimp only at q_); omega)), (by first | exact id | exact fun q_ => absurd (Nat.succ.inj q_) (by assumption) | exact fun q_ => absurd q_.symm (Nat.succ_ne_zero _) | exact fun q_ => absurd (Nat.succ.inj q_).symm (by assumption) | (intro q_; (try dsimp only at q_); omega)), (by first | exact id | exact fun q_ => absurd (Nat.succ.inj q_) (by assumption) | exact fun q_ => absurd q_.symm (Nat.succ_ne_zero _) | exact fun q_ => absurd (Nat.succ.inj q_).symm (by assumption) | (intro q_; (try dsimp only at q_); omega)), (by first | exact id | exact fun q_ => absurd (Nat.succ.inj q_) (by assumption) | exact fun q_ => absurd q_.symm (Nat.succ_ne_zero _) | exact fun q_ => absurd (Nat.succ.inj q_).symm (by assumption) | (intro q_; (try dsimp only at q_); omega))⟩
          have hP_pl_w_48 := hP_pl_w_35.mv (u_50.1) (by first | exact id | exact fun q_ => absurd (Nat.succ.inj q_) (by assumption) | exact fun q_ => absurd q_.symm (Nat.succ_ne_zero _) | exact fun q_ => absurd (Nat.succ.inj q_).symm (by assumption) | (intro q_; (try dsimp only at q_); omega))
          have hFm_52 := hFm_39.mv (w1 := w_48) (u_50.1) (by first | exact id | exact fun q_ => absurd (Nat.succ.inj q_) (by assumption) | exact fun q_ => absurd q_.symm (Nat.succ_ne_zero _) | exact fun q_ => absurd (Nat.succ.inj q_).symm (by assumption) | (intro q_; (try dsimp only at q_); omega))
          have hFm_53 := hFm_40.mv (w1 := w_48) (u_50.1) (by first | exact id | exact fun q_ => absurd (Nat.succ.inj q_) (by assumption) | exact fun q_ => absurd q_.symm (Nat.succ_ne_zero _) | exact fun q_ => absurd (Nat.succ.inj q_).symm (by assumption) | (intro q_; (try dsimp only at q_); omega))
          have hF_it_w_48 : w_48 it = some (it + 1, oE 22 [.int (iI ((((i) : Nat) : Int) + 1)), .int (iI ((((i) : Nat) : Int))), .int (iI (mo9)), .ref pl]) := u_50.1 _ _ _ hI__38 (by first | exact id | exact fun q_ => absurd (Nat.succ.inj q_) (by assumption) | exact fun q_ => absurd q_.symm (Nat.succ_ne_zero _) | exact fun q_ => absurd (Nat.succ.inj q_).symm (by assumption) | (intro q_; (try dsimp only at q_); omega))
          have hP_P0_getD___i___0_w_48 := hx_46.mv (u_50.1) (by first | exact id | exact fun q_ => absurd (Nat.succ.inj q_) (by assumption) | exact fun q_ => absurd q_.symm (Nat.succ_ne_zero _) | exact fun q_ => absurd (Nat.succ.inj q_).symm (by assumption) | (intro q_; (try dsimp only at q_); omega))
          have hU : Up (fun _ => False) w w_48 := hU.tr u_50 (fun q_ h_ => by first | exact absurd h_ id | exact Or.inl h_ | exact Or.inr (up_nw h_ (by assumption)) | ((try dsimp only at h_); first | exact Or.inl (by omega) | exact Or.inr ⟨by omega, by subst h_; rw [Nat.add_sub_cancel]; assumption⟩)) hG
          have hpa_54 := hFm_53.put hP_P0_getD___i___0_w_48
          refine lv_pop hx hb dX2_heardAnew_71 rfl ?_
          refine lv_goto (tgt := 16) hx hb dX2_heardAnew_72 (by decide) ?_
          refine W.widen (k := 3 + 22 * (i + 1)) (n := 12 + 127 * (i + 1)) (by omega) (by omega) ?_
          exact ih_17 (i + 1) (P ++ [P0.getD ((i)) 0]) (mo + 1) ((i : Int)) w_48 (by omega) hP_a_w_48 hP_pl_w_48 hFm_52 hL__51 hpa_54 hF_it_w_48 hU (by omega) _ _ _ hR hL (lv_sub hl [1, 2, 3, 4] rfl)
        ·
          have c_i1 := b2i_n1.mp c_i
          obtain ⟨L, hq_61⟩ := isWP_r c_i1
          have hW_58 := hx_41
          rw [hq_61] at hW_58
          obtain ⟨la_56, ea_57, hW_58, hS_59, hT_60⟩ := hW_58
          have hLw : Wrd L ∧ L ≠ [] := by have h_ := hP.gd i; rw [hq_61] at h_; exact h_
          refine lv_aload hx hb dX2_heardAnew_45 (lv_at hl 0 rfl) ?_
          refine h_castS X hR (hasC.of hW_58 rfl) q1392 dX2_heardAnew_47 ?_
          refine lv_astore (lv' := [(5, .ref (P0.getD ((i)) 0)), (4, .ref (P0.getD ((i)) 0)), (0, .ref a), (1, .ref pl), (2, .ref q), (3, .ref it)]) hx hb dX2_heardAnew_50 hl (by decide) rfl (fun ls hl => ?_)
          refine lv_aload_n hx hb dX2_heardAnew_52 rfl (lv_at hl 2 rfl) ?_
          refine lv_aload hx hb dX2_heardAnew_53 (lv_at hl 0 rfl) ?_
          refine h_getN X hR hW_58 rfl in_X6 0 (by decide) q1521 rfl dX2_heardAnew_55 ?_
          -- call SpokenMarks$Catalogue.heard
          refine h_kR (h_runV X hR (ct_heard l G w_35 a lm lr hm c hP_a_w_35 hS la_56 L hS_59 hLw hU.2.2.1) pn_yX2_heard (hP_a_w_35.c) q1393 q1394 q1395 q123 q1396 ⟨by decide, by decide⟩ hl.1 (Nat.le_of_ble_eq_true rfl) dX2_heardAnew_58 ⟨by omega, by omega⟩) hL (fun z_62 w_63 hp_64 H locs hR hL => ?_)
          obtain ⟨hz_67, hP__66, u_65⟩ := hp_64
          have ne_lm_z_62 : lm ≠ z_62 := sm_ne ((hP_a_w_35.s2).1) hz_67
          have ne_lr_z_62 : lr ≠ z_62 := sm_ne ((hP_a_w_35.s2).2.1) hz_67
          have ne_hm_z_62 : hm ≠ z_62 := sm_ne ((hP_a_w_35.s2).2.2) hz_67
          have ne_a_z_62 : a ≠ z_62 := sm_ne hP_a_w_35.sm hz_67
          have ne_pl_z_62 : pl ≠ z_62 := sm_ne hP_pl_w_35.sm hz_67
          have ne_q_z_62 : q ≠ z_62 := sm_ne hP_q_w_35.sm hz_67
          have ne_it_z_62 : it ≠ z_62 := w_neN hI__38 hz_67
          have ne_P0_getD___i___0_z_62 : (P0.getD ((i)) 0) ≠ z_62 := w_neN hW_58 hz_67
          have ne_la_56_z_62 : la_56 ≠ z_62 := sm_ne hS_59.sm hz_67
          have ne_ea_57_z_62 : ea_57 ≠ z_62 := sm_ne hT_60.sm hz_67
          have hn_z_62 : w z_62 = none := hU.2.1 _ hz_67
          have hP_a_w_63 := hP_a_w_35.mv (u_65.1) ⟨(by first | exact id | exact fun q_ => absurd (Nat.succ.inj q_) (by assumption) | exact fun q_ => absurd q_.symm (Nat.succ_ne_zero _) | exact fun q_ => absurd (Nat.succ.inj q_).symm (by assumption) | (intro q_; (try dsimp only at q_); omega)), (by first | exact id | exact fun q_ => absurd (Nat.succ.inj q_) (by assumption) | exact fun q_ => absurd q_.symm (Nat.succ_ne_zero _) | exact fun q_ => absurd (Nat.succ.inj q_).symm (by assumption) | (intro q_; (try dsimp only at q_); omega)), (by first | exact id | exact fun q_ => absurd (Nat.succ.inj q_) (by assumption) | exact fun q_ => absurd q_.symm (Nat.succ_ne_zero _) | exact fun q_ => absurd (Nat.succ.inj q_).symm (by assumption) | (intro q_; (try dsimp only at q_); omega)), (by first | exact id | exact fun q_ => absurd (Nat.succ.inj q_) (by assumption) | exact fun q_ => absurd q_.symm (Nat.succ_ne_zero _) | exact fun q_ => absurd (Nat.succ.inj q_).symm (by assumption) | (intro q_; (try dsimp only at q_); omega)), (by first | exact id | exact fun q_ => absurd (Nat.succ.inj q_) (by assumption) | exact fun q_ => absurd q_.symm (Nat.succ_ne_zero _) | exact fun q_ => absurd (Nat.succ.inj q_).symm (by assumption) | (intro q_; (try dsimp only at q_); omega))⟩
          have hP_pl_w_63 := hP_pl_w_35.mv (u_65.1) (by first | exact id | exact fun q_ => absurd (Nat.succ.inj q_) (by assumption) | exact fun q_ => absurd q_.symm (Nat.succ_ne_zero _) | exact fun q_ => absurd (Nat.succ.inj q_).symm (by assumption) | (intro q_; (try dsimp only at q_); omega))
          have hFm_68 := hFm_39.mv (w1 := w_63) (u_65.1) (by first | exact id | exact fun q_ => absurd (Nat.succ.inj q_) (by assumption) | exact fun q_ => absurd q_.symm (Nat.succ_ne_zero _) | exact fun q_ => absurd (Nat.succ.inj q_).symm (by assumption) | (intro q_; (try dsimp only at q_); omega))
          have hP_q_w_63 := hP_q_w_35.mv (u_65.1) (by first | exact id | exact fun q_ => absurd (Nat.succ.inj q_) (by assumption) | exact fun q_ => absurd q_.symm (Nat.succ_ne_zero _) | exact fun q_ => absurd (Nat.succ.inj q_).symm (by assumption) | (intro q_; (try dsimp only at q_); omega))
          have hFm_69 := hFm_40.mv (w1 := w_63) (u_65.1) (by first | exact id | exact fun q_ => absurd (Nat.succ.inj q_) (by assumption) | exact fun q_ => absurd q_.symm (Nat.succ_ne_zero _) | exact fun q_ => absurd (Nat.succ.inj q_).symm (by assumption) | (intro q_; (try dsimp only at q_); omega))
          have hF_it_w_63 : w_63 it = some (it + 1, oE 22 [.int (iI ((((i) : Nat) : Int) + 1)), .int (iI ((((i) : Nat) : Int))), .int (iI (mo9)), .ref pl]) := u_65.1 _ _ _ hI__38 (by first | exact id | exact fun q_ => absurd (Nat.succ.inj q_) (by assumption) | exact fun q_ => absurd q_.symm (Nat.succ_ne_zero _) | exact fun q_ => absurd (Nat.succ.inj q_).symm (by assumption) | (intro q_; (try dsimp only at q_); omega))
          have hF_P0_getD___i___0_w_63 : w_63 (P0.getD ((i)) 0) = some (0, oE 4 [.ref la_56, .ref ea_57]) := u_65.1 _ _ _ hW_58 (by first | exact id | exact fun q_ => absurd (Nat.succ.inj q_) (by assumption) | exact fun q_ => absurd q_.symm (Nat.succ_ne_zero _) | exact fun q_ => absurd (Nat.succ.inj q_).symm (by assumption) | (intro q_; (try dsimp only at q_); omega))
          have hP_la_56_w_63 := hS_59.mv (u_65.1) (by first | exact id | exact fun q_ => absurd (Nat.succ.inj q_) (by assumption) | exact fun q_ => absurd q_.symm (Nat.succ_ne_zero _) | exact fun q_ => absurd (Nat.succ.inj q_).symm (by assumption) | (intro q_; (try dsimp only at q_); omega))
          have hP_ea_57_w_63 := hT_60.mv (u_65.1) (by first | exact id | exact fun q_ => absurd (Nat.succ.inj q_) (by assumption) | exact fun q_ => absurd q_.symm (Nat.succ_ne_zero _) | exact fun q_ => absurd (Nat.succ.inj q_).symm (by assumption) | (intro q_; (try dsimp only at q_); omega))
          have hU : Up (fun _ => False) w w_63 := hU.tr u_65 (fun q_ h_ => by first | exact absurd h_ id | exact Or.inl h_ | exact Or.inr (up_nw h_ (by assumption)) | ((try dsimp only at h_); first | exact Or.inl (by omega) | exact Or.inr ⟨by omega, by subst h_; rw [Nat.add_sub_cancel]; assumption⟩)) hG
          refine lv_goto (tgt := 66) hx hb dX2_heardAnew_61 (by decide) ?_
          have hx_70 : PtAt G (cRl c) w_63 z_62 (ps.getD i prt0) := by rw [hq_61]; exact hP__66
          obtain ⟨C_, e_, hE_, hC_, hK_⟩ := hx_70.obj
          -- call java/util/ArrayList.add
          refine h_k5I (h_runF (x := ⟨"java/util/List", "add", "(Ljava/lang/Object;)Z"⟩) X hR (ls_add l G w_63 (q + 1) q 5 mo P hP_q_w_63 hU.2.2.1 (Nat.succ_ne_zero _) z_62 C_ (fun w1_ u_ => hasC.of (u_.1 _ _ _ hE_ (by intro q_; (try dsimp only at q_); omega)) hC_) hK_ (by rw [hFm_69.1]; omega)) pn_i_java_util_List_add_1 (hP_q_w_63.c) (kk_face X.2 (by decide +kernel) q663 q662 q668 q666 q664) q661 q667 q665 q125 q669 ⟨by decide, by decide⟩ hl.1 (Nat.le_of_ble_eq_true rfl) dX2_heardAnew_66 ⟨by omega, by omega⟩) hL (fun z_71 w_72 hp_73 H locs hR hL => ?_)
          obtain ⟨rfl, hL__75, u_74⟩ := hp_73
          have hP_a_w_72 := hP_a_w_63.mv (u_74.1) ⟨(by first | exact id | exact fun q_ => absurd (Nat.succ.inj q_) (by assumption) | exact fun q_ => absurd q_.symm (Nat.succ_ne_zero _) | exact fun q_ => absurd (Nat.succ.inj q_).symm (by assumption) | (intro q_; (try dsimp only at q_); omega)), (by first | exact id | exact fun q_ => absurd (Nat.succ.inj q_) (by assumption) | exact fun q_ => absurd q_.symm (Nat.succ_ne_zero _) | exact fun q_ => absurd (Nat.succ.inj q_).symm (by assumption) | (intro q_; (try dsimp only at q_); omega)), (by first | exact id | exact fun q_ => absurd (Nat.succ.inj q_) (by assumption) | exact fun q_ => absurd q_.symm (Nat.succ_ne_zero _) | exact fun q_ => absurd (Nat.succ.inj q_).symm (by assumption) | (intro q_; (try dsimp only at q_); omega)), (by first | exact id | exact fun q_ => absurd (Nat.succ.inj q_) (by assumption) | exact fun q_ => absurd q_.symm (Nat.succ_ne_zero _) | exact fun q_ => absurd (Nat.succ.inj q_).symm (by assumption) | (intro q_; (try dsimp only at q_); omega)), (by first | exact id | exact fun q_ => absurd (Nat.succ.inj q_) (by assumption) | exact fun q_ => absurd q_.symm (Nat.succ_ne_zero _) | exact fun q_ => absurd (Nat.succ.inj q_).symm (by assumption) | (intro q_; (try dsimp only at q_); omega))⟩
          have hP_pl_w_72 := hP_pl_w_63.mv (u_74.1) (by first | exact id | exact fun q_ => absurd (Nat.succ.inj q_) (by assumption) | exact fun q_ => absurd q_.symm (Nat.succ_ne_zero _) | exact fun q_ => absurd (Nat.succ.inj q_).symm (by assumption) | (intro q_; (try dsimp only at q_); omega))
          have hFm_76 := hFm_68.mv (w1 := w_72) (u_74.1) (by first | exact id | exact fun q_ => absurd (Nat.succ.inj q_) (by assumption) | exact fun q_ => absurd q_.symm (Nat.succ_ne_zero _) | exact fun q_ => absurd (Nat.succ.inj q_).symm (by assumption) | (intro q_; (try dsimp only at q_); omega))
          have hFm_77 := hFm_69.mv (w1 := w_72) (u_74.1) (by first | exact id | exact fun q_ => absurd (Nat.succ.inj q_) (by assumption) | exact fun q_ => absurd q_.symm (Nat.succ_ne_zero _) | exact fun q_ => absurd (Nat.succ.inj q_).symm (by assumption) | (intro q_; (try dsimp only at q_); omega))
          have hF_it_w_72 : w_72 it = some (it + 1, oE 22 [.int (iI ((((i) : Nat) : Int) + 1)), .int (iI ((((i) : Nat) : Int))), .int (iI (mo9)), .ref pl]) := u_74.1 _ _ _ hF_it_w_63 (by first | exact id | exact fun q_ => absurd (Nat.succ.inj q_) (by assumption) | exact fun q_ => absurd q_.symm (Nat.succ_ne_zero _) | exact fun q_ => absurd (Nat.succ.inj q_).symm (by assumption) | (intro q_; (try dsimp only at q_); omega))
          have hF_P0_getD___i___0_w_72 : w_72 (P0.getD ((i)) 0) = some (0, oE 4 [.ref la_56, .ref ea_57]) := u_74.1 _ _ _ hF_P0_getD___i___0_w_63 (by first | exact id | exact fun q_ => absurd (Nat.succ.inj q_) (by assumption) | exact fun q_ => absurd q_.symm (Nat.succ_ne_zero _) | exact fun q_ => absurd (Nat.succ.inj q_).symm (by assumption) | (intro q_; (try dsimp only at q_); omega))
          have hP_la_56_w_72 := hP_la_56_w_63.mv (u_74.1) (by first | exact id | exact fun q_ => absurd (Nat.succ.inj q_) (by assumption) | exact fun q_ => absurd q_.symm (Nat.succ_ne_zero _) | exact fun q_ => absurd (Nat.succ.inj q_).symm (by assumption) | (intro q_; (try dsimp only at q_); omega))
          have hP_ea_57_w_72 := hP_ea_57_w_63.mv (u_74.1) (by first | exact id | exact fun q_ => absurd (Nat.succ.inj q_) (by assumption) | exact fun q_ => absurd q_.symm (Nat.succ_ne_zero _) | exact fun q_ => absurd (Nat.succ.inj q_).symm (by assumption) | (intro q_; (try dsimp only at q_); omega))
          have hP_z_62_w_72 := hx_70.mv (u_74.1) (by first | exact id | exact fun q_ => absurd (Nat.succ.inj q_) (by assumption) | exact fun q_ => absurd q_.symm (Nat.succ_ne_zero _) | exact fun q_ => absurd (Nat.succ.inj q_).symm (by assumption) | (intro q_; (try dsimp only at q_); omega))
          have hU : Up (fun _ => False) w w_72 := hU.tr u_74 (fun q_ h_ => by first | exact absurd h_ id | exact Or.inl h_ | exact Or.inr (up_nw h_ (by assumption)) | ((try dsimp only at h_); first | exact Or.inl (by omega) | exact Or.inr ⟨by omega, by subst h_; rw [Nat.add_sub_cancel]; assumption⟩)) hG
          have hpa_78 := hFm_77.put hP_z_62_w_72
          refine lv_pop hx hb dX2_heardAnew_71 rfl ?_
          refine lv_goto (tgt := 16) hx hb dX2_heardAnew_72 (by decide) ?_
          refine W.widen (k := 3 + 22 * (i + 1)) (n := 12 + 127 * (i + 1)) (by omega) (by omega) ?_
          exact ih_17 (i + 1) (P ++ [z_62]) (mo + 1) ((i : Int)) w_72 (by omega) hP_a_w_72 hP_pl_w_72 hFm_76 hL__75 hpa_78 hF_it_w_72 hU (by omega) _ _ _ hR hL (lv_sub hl [2, 3, 4, 5] rfl)
  refine W.widen (k := 3 + 22 * 0) (n := 12 + 127 * 0) (by omega) (by omega) ?_
  exact LOOP_17 _ 0 ([]) 0 (-1) w_10 (Nat.zero_le _) hP_a_w_10 hP_pl_w_10 hFm_15 hP_q_w_10 hpas0 hf_14 hU (Nat.lt_succ_self _) _ _ _ hR hL (lv_sub hl [2, 3, 1, 0] rfl)
