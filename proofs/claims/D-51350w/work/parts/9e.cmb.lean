/-! the component: say, unsay -/
set_option maxRecDepth 100000
theorem CatG.sm {G : Gl} {w : Wd} {a lm lr hm : Nat} {R0 : Rls} {c : Cat} (h : CatG G w a lm lr hm R0 c) : ∃ y, w a = some y := by
  obtain ⟨bda, aca, so, fb, fa, Lm, Lr, mp, h1, -⟩ := h
  exact ⟨_, h1⟩
theorem CatG.c {G : Gl} {w : Wd} {a lm lr hm : Nat} {R0 : Rls} {c : Cat} (h : CatG G w a lm lr hm R0 c) : hasC w a "SpokenMarks$Catalogue" := by
  obtain ⟨bda, aca, so, fb, fa, Lm, Lr, mp, h1, -⟩ := h
  exact hasC.of h1 rfl
theorem gR_app (R : Rls) (q : List Int × List Int) (k : Nat) : gR (R ++ [q]) k = if k = R.length then q else gR R k := by
  unfold gR
  by_cases h : k = R.length
  · rw [if_pos h, h]; simp
  · rw [if_neg h]
    by_cases h2 : k < R.length
    · rw [List.getD_eq_getElem?_getD, List.getElem?_append_left h2, ← List.getD_eq_getElem?_getD]
    · rw [List.getD_eq_getElem?_getD, List.getD_eq_getElem?_getD, List.getElem?_eq_none (by rw [List.length_append, List.length_singleton]; omega), List.getElem?_eq_none (by omega)]
theorem r1_app (R : Rls) (q : List Int × List Int) (k : Nat) : r1 (R ++ [q]) k = if k = R.length then q.1 else r1 R k := by
  show (gR (R ++ [q]) k).1 = _
  rw [gR_app]; split <;> rfl
theorem r2_app (R : Rls) (q : List Int × List Int) (k : Nat) : r2 (R ++ [q]) k = if k = R.length then q.2 else r2 R k := by
  show (gR (R ++ [q]) k).2 = _
  rw [gR_app]; split <;> rfl
theorem RusAt.app {G : Gl} {w : Wd} {A : List Nat} {R : Rls} {a : Nat} {q : List Int × List Int} (h : RusAt G w A R) (ha : RuAt G w a q) : RusAt G w (A ++ [a]) (R ++ [q]) := by
  have h1 := h.1
  refine ⟨by simp [h1], fun k hk => ?_⟩
  rw [List.length_append, List.length_singleton] at hk
  rw [gR_app, app_atn A a k (by omega)]
  by_cases z : k = R.length
  · rw [if_pos (by omega), if_pos z]; exact ha
  · rw [if_neg (by omega), if_neg z]; exact h.2 k (by omega)
theorem RusAt.ls {G : Gl} {w : Wd} {A : List Nat} {R : Rls} (h : RusAt G w A R) : LsE w A := fun y hy => by
  obtain ⟨k, hk, rfl⟩ := getD_mem hy
  exact ⟨_, (h.2 k (by rw [← h.1]; exact hk)).c, q3442⟩
theorem rlF_no {R : Rls} {L : List Int} : rlF R L = -1 ↔ ∀ j, j < R.length → r1 R j ≠ L := by
  unfold rlF
  rcases fstN_cases (fun k => r1 R k = L) R.length with ⟨e, h⟩ | ⟨k, hk, e, h, -⟩
  · exact ⟨fun _ => h, fun _ => e⟩
  · exact ⟨fun q => absurd (e.symm.trans q) (by omega), fun q => absurd h (q k hk)⟩
theorem rlF_at {R : Rls} (hd : RDs R) {j : Nat} (hj : j < R.length) : rlF R (r1 R j) = (j : Int) := fstN_eq (P := fun k => r1 R k = r1 R j) hj rfl (fun i hi q => by have := hd i j (by omega) hj q; omega)
theorem spk_at {R : Rls} (hd : RDs R) {j : Nat} (hj : j < R.length) : spk R (r1 R j) = r2 R j := by
  unfold spk
  rw [rlF_at hd hj, if_neg (by omega), Int.toNat_natCast]
theorem rlF_yes {R : Rls} {L : List Int} (h : rlF R L ≠ -1) : ∃ j, j < R.length ∧ r1 R j = L := by
  rcases fstN_cases (fun k => r1 R k = L) R.length with ⟨e, _⟩ | ⟨k, hk, _, h2, _⟩
  · exact absurd e h
  · exact ⟨k, hk, h2⟩
theorem RDs.app {R : Rls} {L M : List Int} (h : RDs R) (hn : rlF R L = -1) : RDs (R ++ [(L, M)]) := fun i j hi hj e => by
  rw [List.length_append, List.length_singleton] at hi hj
  rw [r1_app, r1_app] at e
  have hno := rlF_no.mp hn
  by_cases a : i = R.length
  · by_cases b : j = R.length
    · omega
    · rw [if_pos a, if_neg b] at e; exact absurd e.symm (hno j (by omega))
  · by_cases b : j = R.length
    · rw [if_neg a, if_pos b] at e; exact absurd e (hno i (by omega))
    · rw [if_neg a, if_neg b] at e; exact h i j (by omega) (by omega) e
theorem MpAt.app {G : Gl} {w : Wd} {mp : List Int → Option Nat} {R : Rls} {L M : List Int} {va : Nat} (h : MpAt G w mp R) (hd : RDs R) (hn : rlF R L = -1) (hv : StrAt G w va M) : MpAt G w (fun X => if X = L then some va else mp X) (R ++ [(L, M)]) := fun X => by
  have hD := hd.app (M := M) hn
  have hlen : (R ++ [(L, M)]).length = R.length + 1 := by rw [List.length_append, List.length_singleton]
  by_cases q : X = L
  · have e1 : r1 (R ++ [(L, M)]) R.length = L := by rw [r1_app, if_pos rfl]
    have e2 : r2 (R ++ [(L, M)]) R.length = M := by rw [r2_app, if_pos rfl]
    have h5 := spk_at hD (j := R.length) (by omega)
    have h6 := rlF_at hD (j := R.length) (by omega)
    rw [e1, e2] at h5
    rw [e1] at h6
    exact Or.inr ⟨va, if_pos q, by rw [q, h5]; exact hv, by rw [q, h6]; omega⟩
  · rcases h X with ⟨z1, z2⟩ | ⟨v, z1, z2, z3⟩
    · refine Or.inl ⟨(if_neg q).trans z1, rlF_no.mpr (fun j hj e => ?_)⟩
      rw [hlen] at hj
      rw [r1_app] at e
      by_cases b : j = R.length
      · rw [if_pos b] at e; exact q e.symm
      · rw [if_neg b] at e; exact rlF_no.mp z2 j (by omega) e
    · obtain ⟨j, hj, e⟩ := rlF_yes z3
      have e1 : r1 (R ++ [(L, M)]) j = X := by rw [r1_app, if_neg (by omega)]; exact e
      have e2 : r2 (R ++ [(L, M)]) j = r2 R j := by rw [r2_app, if_neg (by omega)]
      have h5 := spk_at hD (j := j) (by omega)
      have h6 := spk_at hd hj
      rw [e1, e2] at h5
      rw [e] at h6
      exact Or.inr ⟨v, (if_neg q).trans z1, by rw [h5, ← h6]; exact z2, fun z => rlF_no.mp z j (by omega) e1⟩
theorem r1_rem (R : Rls) {k : Nat} (hk : k < R.length) (j : Nat) : r1 (remAt R k) j = if j < k then r1 R j else r1 R (j + 1) := by
  have e : gR (remAt R k) j = _ := remAt_at R k ([], []) hk j
  show (gR (remAt R k) j).1 = _
  rw [e]; split <;> rfl
theorem r2_rem (R : Rls) {k : Nat} (hk : k < R.length) (j : Nat) : r2 (remAt R k) j = if j < k then r2 R j else r2 R (j + 1) := by
  have e : gR (remAt R k) j = _ := remAt_at R k ([], []) hk j
  show (gR (remAt R k) j).2 = _
  rw [e]; split <;> rfl
theorem RusAt.rem {G : Gl} {w : Wd} {A : List Nat} {R : Rls} {k : Nat} (h : RusAt G w A R) (hk : k < R.length) : RusAt G w (remAt A k) (remAt R k) := by
  have h1 := h.1
  refine ⟨by rw [remAt_len _ _ (by omega), remAt_len _ _ hk, h1], fun i hi => ?_⟩
  rw [remAt_len _ _ hk] at hi
  have e : gR (remAt R k) i = _ := remAt_at R k ([], []) hk i
  rw [e, remAt_at A k 0 (by omega) i]
  split
  · exact h.2 i (by omega)
  · exact h.2 (i + 1) (by omega)
theorem RDs.rem {R : Rls} {k : Nat} (h : RDs R) (hk : k < R.length) : RDs (remAt R k) := fun i j hi hj e => by
  rw [remAt_len _ _ hk] at hi hj
  rw [r1_rem R hk, r1_rem R hk] at e
  by_cases a : i < k
  · by_cases b : j < k
    · rw [if_pos a, if_pos b] at e; exact h i j (by omega) (by omega) e
    · rw [if_pos a, if_neg b] at e; have := h i (j + 1) (by omega) (by omega) e; omega
  · by_cases b : j < k
    · rw [if_neg a, if_pos b] at e; have := h (i + 1) j (by omega) (by omega) e; omega
    · rw [if_neg a, if_neg b] at e; have := h (i + 1) (j + 1) (by omega) (by omega) e; omega
theorem MpAt.rem {G : Gl} {w : Wd} {mp : List Int → Option Nat} {R : Rls} {k : Nat} (h : MpAt G w mp R) (hd : RDs R) (hk : k < R.length) : MpAt G w (fun X => if X = r1 R k then none else mp X) (remAt R k) := fun X => by
  have hD := hd.rem hk
  have hlen := remAt_len R k hk
  by_cases q : X = r1 R k
  · refine Or.inl ⟨if_pos q, rlF_no.mpr (fun j hj e => ?_)⟩
    rw [hlen] at hj
    rw [r1_rem R hk, q] at e
    by_cases b : j < k
    · rw [if_pos b] at e; have := hd j k (by omega) hk e; omega
    · rw [if_neg b] at e; have := hd (j + 1) k (by omega) hk e; omega
  · rcases h X with ⟨z1, z2⟩ | ⟨v, z1, z2, z3⟩
    · refine Or.inl ⟨(if_neg q).trans z1, rlF_no.mpr (fun j hj e => ?_)⟩
      rw [hlen] at hj
      rw [r1_rem R hk] at e
      by_cases b : j < k
      · rw [if_pos b] at e; exact rlF_no.mp z2 j (by omega) e
      · rw [if_neg b] at e; exact rlF_no.mp z2 (j + 1) (by omega) e
    · obtain ⟨j, hj, e⟩ := rlF_yes z3
      have hjk : j ≠ k := fun z => q (by rw [← e, z])
      obtain ⟨i, hi, e1, e2⟩ : ∃ i, i < (remAt R k).length ∧ r1 (remAt R k) i = X ∧ r2 (remAt R k) i = r2 R j := by
        rw [hlen]
        by_cases b : j < k
        · exact ⟨j, by omega, by rw [r1_rem R hk, if_pos b]; exact e, by rw [r2_rem R hk, if_pos b]⟩
        · exact ⟨j - 1, by omega, by rw [r1_rem R hk, if_neg (by omega), show j - 1 + 1 = j by omega]; exact e, by rw [r2_rem R hk, if_neg (by omega), show j - 1 + 1 = j by omega]⟩
      have h5 := spk_at hD hi
      have h6 := spk_at hd hj
      rw [e1, e2] at h5
      rw [e] at h6
      exact Or.inr ⟨v, (if_neg q).trans z1, by rw [h5, ← h6]; exact z2, fun z => rlF_no.mp z i hi e1⟩
theorem RlW.app {R : Rls} {L M : List Int} (hR : RlW R) (h8 : R.length < 8) (hL : Wrd L ∧ L ≠ []) (hM : Wrd M ∧ M ≠ []) : RlW (R ++ [(L, M)]) := by
  refine ⟨by rw [List.length_append, List.length_singleton]; omega, fun q hq => ?_⟩
  rcases List.mem_append.mp hq with z | z
  · exact hR.2 q z
  · rw [List.mem_singleton.mp z]; exact ⟨hL, hM⟩
theorem RlW.rem {R : Rls} {k : Nat} (hR : RlW R) (hk : k < R.length) : RlW (remAt R k) := ⟨by rw [remAt_len _ _ hk]; have := hR.1; omega, fun q hq => hR.2 q (mem_remAt hq)⟩

theorem pn_yX2_hearAnew : ParN yX2_hearAnew 0 := by decide +kernel
theorem pn_yJ3_remove : ParN yJ3_remove 1 := by decide +kernel
theorem pn_yJ19_put : ParN yJ19_put 2 := by decide +kernel
theorem pn_yJ19_remove : ParN yJ19_remove 1 := by decide +kernel
theorem pn_i_java_util_List_remove_1 : ParN ⟨"java/util/List", "remove", "(I)Ljava/lang/Object;"⟩ 1 := by decide +kernel
theorem pn_i_java_util_Map_put_2 : ParN ⟨"java/util/Map", "put", "(Ljava/lang/Object;Ljava/lang/Object;)Ljava/lang/Object;"⟩ 2 := by decide +kernel
theorem pn_i_java_util_Map_remove_1 : ParN ⟨"java/util/Map", "remove", "(Ljava/lang/Object;)Ljava/lang/Object;"⟩ 1 := by decide +kernel

set_option maxHeartbeats 4000000 in
set_option maxRecDepth 100000 in
/-- SpokenMarks$Catalogue.say -/
theorem ct_say (l : Launch) (G : Gl) (w : Wd) (a lm lr hm : Nat) (c : Cat) (hC : CatAt G w a lm lr hm c) (hS : CatS c) (rr : Nat) (L M : List Int) (hQ : RuAt G w rr (L, M)) (hLw : Wrd L ∧ L ≠ []) (hMw : Wrd M ∧ M ≠ []) (hno : rlF (cRl c) L = -1) (hn8 : (cRl c).length < 8) (hG : RegW w) : HM l yX2_say cX2_say 2 (some .int) 17 (2 + (3 + 114 * 40)) (20 + (47 + 651 * 40)) G [.ref a, .ref rr] w (QI G (fun z_ w_ => z_ = (ordA (setRl c (cRl c ++ [(L, M)]))).2 ∧ CatAt G w_ a lm lr hm (ordA (setRl c (cRl c ++ [(L, M)]))).1 ∧ Up (fun q_ => q_ = a + 1 ∨ q_ = lm + 1 ∨ q_ = lr + 1 ∨ q_ = hm + 1) w w_)) := by
  refine HM.mk (by decide +kernel) (Nat.le_of_ble_eq_true rfl) ?_
  intro p9 e9 s9 m9 a9 b9 meth9 c9 ls X hret hlk hnm hl H hR
  have hx := X.1.1
  have hb := X.1.2.1
  have hl : lv_has ls 2 [(0, .ref a), (1, .ref rr)] := hl
  have hL : LK G [] := fun q h => absurd h List.not_mem_nil
  generalize ([] : List Loc) = locs at hL ⊢
  have hU : Up (fun q_ => q_ = a + 1 ∨ q_ = lm + 1 ∨ q_ = lr + 1 ∨ q_ = hm + 1) w w := Up.rf hG
  have hC0 := hC
  obtain ⟨bda, aca, so, fb, fa, Lm, Lr, mp, hCt, ⟨hbd, hbx⟩, ⟨hac, hax⟩, hso, ⟨⟨mo1, hm1, hlm⟩, hmk, hnd⟩, ⟨⟨mo2, hm2, hlr⟩, hru⟩, ⟨hhm, hmp⟩, hrd, hid, hba, hll⟩ := hC
  have hCt : w a = some (a + 1, oE 2 [.int (iI (cSh c)), .int (iI (cRm c)), .ref bda, .ref lm, .ref lr, .ref hm, .ref so, .ref aca, .int (iI (cNx c))]) := hCt
  have s1 := hS.1
  have s2 := hS.2.1
  have s3 := hS.2.2.1
  have s4 := hS.2.2.2.1.1
  have hRW := hS.2.2.2.2.1
  have s5 := hRW.1
  have s6 := hS.2.2.2.2.2
  have hml : Lm.length = cN c := hmk.1
  have hrl := hru.1
  have nla : lm ≠ a := hasC_ne hlm.c hC0.c (by decide)
  have nra : lr ≠ a := hasC_ne hlr.c hC0.c (by decide)
  have nha : hm ≠ a := hasC_ne hhm.c hC0.c (by decide)
  have nhl : hm ≠ lm := hasC_ne hhm.c hlm.c (by decide)
  have ne_bda_aca : bda ≠ aca := hba
  have nhr : hm ≠ lr := hasC_ne hhm.c hlr.c (by decide)
  obtain ⟨fs, ss, hQ1, hQ2, hQ3⟩ := hQ
  have hQ2 : StrAt G w fs L := hQ2
  have hQ3 : StrAt G w ss M := hQ3
  have hmn : mp L = none := by rcases hmp L with ⟨q_, -⟩ | ⟨va_, -, -, q_⟩; exact q_; exact absurd hno q_
  have hSa : CatS (setRl c (cRl c ++ [(L, M)])) := hS.rls (hRW.app hn8 hLw hMw)
  refine lv_aload_n hx hb dX2_say_0 rfl (lv_at hl 0 rfl) ?_
  refine h_get X hR hCt rfl in_X2 4 (by decide) q603 rfl dX2_say_1 ?_
  refine lv_aload_n hx hb dX2_say_4 rfl (lv_at hl 1 rfl) ?_
  -- call java/util/ArrayList.add
  refine h_k5I (h_runF (x := ⟨"java/util/List", "add", "(Ljava/lang/Object;)Z"⟩) X hR (ls_add l G w (lr + 1) lr 8 mo2 Lr hlr hU.2.2.1 (Nat.succ_ne_zero _) rr "SpokenMarks$Rule" (fun w1_ u_ => hasC.of (u_.1 _ _ _ hQ1 (by first | exact id | exact fun q_ => absurd (Nat.succ.inj q_) (by assumption) | exact fun q_ => absurd q_.symm (Nat.succ_ne_zero _) | exact fun q_ => absurd (Nat.succ.inj q_).symm (by assumption) | (intro q_; (try dsimp only at q_); omega))) rfl) q3442 (by rw [hrl]; exact hn8)) pn_i_java_util_List_add_1 (hlr.c) (kk_face X.2 (by decide +kernel) q663 q662 q668 q666 q664) q661 q667 q665 q125 q669 ⟨by decide, by decide⟩ hl.1 (Nat.le_of_ble_eq_true rfl) dX2_say_5 ⟨by omega, by omega⟩) hL (fun z_1 w_2 hp_3 H locs hR hL => ?_)
  obtain ⟨rfl, hL__5, u_4⟩ := hp_3
  have hF_a_w_2 : w_2 a = some (a + 1, oE 2 [.int (iI (cSh c)), .int (iI (cRm c)), .ref bda, .ref lm, .ref lr, .ref hm, .ref so, .ref aca, .int (iI (cNx c))]) := u_4.1 _ _ _ hCt (by first | exact id | exact fun q_ => absurd (Nat.succ.inj q_) (by assumption) | exact fun q_ => absurd q_.symm (Nat.succ_ne_zero _) | exact fun q_ => absurd (Nat.succ.inj q_).symm (by assumption) | (intro q_; (try dsimp only at q_); omega))
  have hF_bda_w_2 : w_2 bda = some (a + 1, iE G 0 ((cSh c).toNat) fb) := u_4.1 _ _ _ hbd (by first | exact id | exact fun q_ => absurd (Nat.succ.inj q_) (by assumption) | exact fun q_ => absurd q_.symm (Nat.succ_ne_zero _) | exact fun q_ => absurd (Nat.succ.inj q_).symm (by assumption) | (intro q_; (try dsimp only at q_); omega))
  have hF_aca_w_2 : w_2 aca = some (a + 1, iE G 0 3 fa) := u_4.1 _ _ _ hac (by first | exact id | exact fun q_ => absurd (Nat.succ.inj q_) (by assumption) | exact fun q_ => absurd q_.symm (Nat.succ_ne_zero _) | exact fun q_ => absurd (Nat.succ.inj q_).symm (by assumption) | (intro q_; (try dsimp only at q_); omega))
  have hF_so_w_2 : w_2 so = some (0, oE 7 []) := u_4.1 _ _ _ hso (by first | exact id | exact fun q_ => absurd (Nat.succ.inj q_) (by assumption) | exact fun q_ => absurd q_.symm (Nat.succ_ne_zero _) | exact fun q_ => absurd (Nat.succ.inj q_).symm (by assumption) | (intro q_; (try dsimp only at q_); omega))
  have hP_lm_w_2 := hlm.mv (u_4.1) (by first | exact id | exact fun q_ => absurd (Nat.succ.inj q_) (by assumption) | exact fun q_ => absurd q_.symm (Nat.succ_ne_zero _) | exact fun q_ => absurd (Nat.succ.inj q_).symm (by assumption) | (intro q_; (try dsimp only at q_); omega))
  have hP_hm_w_2 := hhm.mv (u_4.1) ⟨(by first | exact id | (intro q_; (try dsimp only at q_); omega)), (by first | exact id | (intro q_; (try dsimp only at q_); omega))⟩
  have hFm_6 := hmk.mv (w1 := w_2) (u_4.1) (by first | exact id | exact fun q_ => absurd (Nat.succ.inj q_) (by assumption) | exact fun q_ => absurd q_.symm (Nat.succ_ne_zero _) | exact fun q_ => absurd (Nat.succ.inj q_).symm (by assumption) | (intro q_; (try dsimp only at q_); omega)) (by first | exact id | exact fun q_ => absurd (Nat.succ.inj q_) (by assumption) | exact fun q_ => absurd q_.symm (Nat.succ_ne_zero _) | exact fun q_ => absurd (Nat.succ.inj q_).symm (by assumption) | (intro q_; (try dsimp only at q_); omega))
  have hFm_7 := hru.mv (w1 := w_2) (u_4.1) (by first | exact id | exact fun q_ => absurd (Nat.succ.inj q_) (by assumption) | exact fun q_ => absurd q_.symm (Nat.succ_ne_zero _) | exact fun q_ => absurd (Nat.succ.inj q_).symm (by assumption) | (intro q_; (try dsimp only at q_); omega))
  have hFm_8 := hmp.mv (w1 := w_2) (u_4.1) (by first | exact id | exact fun q_ => absurd (Nat.succ.inj q_) (by assumption) | exact fun q_ => absurd q_.symm (Nat.succ_ne_zero _) | exact fun q_ => absurd (Nat.succ.inj q_).symm (by assumption) | (intro q_; (try dsimp only at q_); omega))
  have hF_rr_w_2 : w_2 rr = some (0, oE 6 [.ref fs, .ref ss]) := u_4.1 _ _ _ hQ1 (by first | exact id | exact fun q_ => absurd (Nat.succ.inj q_) (by assumption) | exact fun q_ => absurd q_.symm (Nat.succ_ne_zero _) | exact fun q_ => absurd (Nat.succ.inj q_).symm (by assumption) | (intro q_; (try dsimp only at q_); omega))
  have hP_fs_w_2 := hQ2.mv (u_4.1) (by first | exact id | exact fun q_ => absurd (Nat.succ.inj q_) (by assumption) | exact fun q_ => absurd q_.symm (Nat.succ_ne_zero _) | exact fun q_ => absurd (Nat.succ.inj q_).symm (by assumption) | (intro q_; (try dsimp only at q_); omega))
  have hP_ss_w_2 := hQ3.mv (u_4.1) (by first | exact id | exact fun q_ => absurd (Nat.succ.inj q_) (by assumption) | exact fun q_ => absurd q_.symm (Nat.succ_ne_zero _) | exact fun q_ => absurd (Nat.succ.inj q_).symm (by assumption) | (intro q_; (try dsimp only at q_); omega))
  have hU : Up (fun q_ => q_ = a + 1 ∨ q_ = lm + 1 ∨ q_ = lr + 1 ∨ q_ = hm + 1) w w_2 := hU.tr u_4 (fun q_ h_ => by first | exact absurd h_ id | exact Or.inl h_ | exact Or.inr (up_nw h_ (by assumption)) | exact Or.inl (Or.inl h_) | exact Or.inl (Or.inr h_) | exact Or.inl (Or.inr (Or.inl h_)) | exact Or.inl (Or.inr (Or.inr h_)) | exact Or.inl (Or.inr (Or.inr (Or.inl h_))) | exact Or.inl (Or.inr (Or.inr (Or.inr h_))) | exact Or.inl (h_.elim Or.inl (fun h_ => Or.inr (Or.inl h_))) | ((try dsimp only at h_); first | exact Or.inl (by omega) | exact Or.inr ⟨by omega, by subst h_; rw [Nat.add_sub_cancel]; assumption⟩)) hG
  refine lv_pop hx hb dX2_say_10 rfl ?_
  refine lv_aload_n hx hb dX2_say_11 rfl (lv_at hl 0 rfl) ?_
  refine h_get X hR hF_a_w_2 rfl in_X2 5 (by decide) q608 rfl dX2_say_12 ?_
  refine lv_aload_n hx hb dX2_say_15 rfl (lv_at hl 1 rfl) ?_
  refine h_getN X hR hF_rr_w_2 rfl in_X4 0 (by decide) q646 rfl dX2_say_16 ?_
  refine lv_aload_n hx hb dX2_say_19 rfl (lv_at hl 1 rfl) ?_
  refine h_getN X hR hF_rr_w_2 rfl in_X4 1 (by decide) q649 rfl dX2_say_20 ?_
  -- call java/util/HashMap.put
  refine h_k5N (h_runF (x := ⟨"java/util/Map", "put", "(Ljava/lang/Object;Ljava/lang/Object;)Ljava/lang/Object;"⟩) X hR (hm_put l G w_2 (hm + 1) hm ((cRl c).length) mp hP_hm_w_2 (Nat.le_of_lt_succ hn8) hU.2.2.1 (Nat.succ_ne_zero _) fs ss L hP_fs_w_2 hP_ss_w_2.sm hmn) pn_i_java_util_Map_put_2 (hP_hm_w_2.c) (kk_face X.2 (by decide +kernel) q737 q736 q742 q740 q738) q735 q741 q739 q143 q743 ⟨by decide, by decide⟩ hl.1 (Nat.le_of_ble_eq_true rfl) dX2_say_23 ⟨by omega, by omega⟩) hL (fun z_9 w_10 hp_11 H locs hR hL => ?_)
  obtain ⟨rfl, hM__13, u_12⟩ := hp_11
  have hF_a_w_10 : w_10 a = some (a + 1, oE 2 [.int (iI (cSh c)), .int (iI (cRm c)), .ref bda, .ref lm, .ref lr, .ref hm, .ref so, .ref aca, .int (iI (cNx c))]) := u_12.1 _ _ _ hF_a_w_2 (by first | exact id | exact fun q_ => absurd (Nat.succ.inj q_) (by assumption) | exact fun q_ => absurd q_.symm (Nat.succ_ne_zero _) | exact fun q_ => absurd (Nat.succ.inj q_).symm (by assumption) | (intro q_; (try dsimp only at q_); omega))
  have hF_bda_w_10 : w_10 bda = some (a + 1, iE G 0 ((cSh c).toNat) fb) := u_12.1 _ _ _ hF_bda_w_2 (by first | exact id | exact fun q_ => absurd (Nat.succ.inj q_) (by assumption) | exact fun q_ => absurd q_.symm (Nat.succ_ne_zero _) | exact fun q_ => absurd (Nat.succ.inj q_).symm (by assumption) | (intro q_; (try dsimp only at q_); omega))
  have hF_aca_w_10 : w_10 aca = some (a + 1, iE G 0 3 fa) := u_12.1 _ _ _ hF_aca_w_2 (by first | exact id | exact fun q_ => absurd (Nat.succ.inj q_) (by assumption) | exact fun q_ => absurd q_.symm (Nat.succ_ne_zero _) | exact fun q_ => absurd (Nat.succ.inj q_).symm (by assumption) | (intro q_; (try dsimp only at q_); omega))
  have hF_so_w_10 : w_10 so = some (0, oE 7 []) := u_12.1 _ _ _ hF_so_w_2 (by first | exact id | exact fun q_ => absurd (Nat.succ.inj q_) (by assumption) | exact fun q_ => absurd q_.symm (Nat.succ_ne_zero _) | exact fun q_ => absurd (Nat.succ.inj q_).symm (by assumption) | (intro q_; (try dsimp only at q_); omega))
  have hP_lm_w_10 := hP_lm_w_2.mv (u_12.1) (by first | exact id | exact fun q_ => absurd (Nat.succ.inj q_) (by assumption) | exact fun q_ => absurd q_.symm (Nat.succ_ne_zero _) | exact fun q_ => absurd (Nat.succ.inj q_).symm (by assumption) | (intro q_; (try dsimp only at q_); omega))
  have hFm_14 := hFm_6.mv (w1 := w_10) (u_12.1) (by first | exact id | exact fun q_ => absurd (Nat.succ.inj q_) (by assumption) | exact fun q_ => absurd q_.symm (Nat.succ_ne_zero _) | exact fun q_ => absurd (Nat.succ.inj q_).symm (by assumption) | (intro q_; (try dsimp only at q_); omega)) (by first | exact id | exact fun q_ => absurd (Nat.succ.inj q_) (by assumption) | exact fun q_ => absurd q_.symm (Nat.succ_ne_zero _) | exact fun q_ => absurd (Nat.succ.inj q_).symm (by assumption) | (intro q_; (try dsimp only at q_); omega))
  have hFm_15 := hFm_7.mv (w1 := w_10) (u_12.1) (by first | exact id | exact fun q_ => absurd (Nat.succ.inj q_) (by assumption) | exact fun q_ => absurd q_.symm (Nat.succ_ne_zero _) | exact fun q_ => absurd (Nat.succ.inj q_).symm (by assumption) | (intro q_; (try dsimp only at q_); omega))
  have hFm_16 := hFm_8.mv (w1 := w_10) (u_12.1) (by first | exact id | exact fun q_ => absurd (Nat.succ.inj q_) (by assumption) | exact fun q_ => absurd q_.symm (Nat.succ_ne_zero _) | exact fun q_ => absurd (Nat.succ.inj q_).symm (by assumption) | (intro q_; (try dsimp only at q_); omega))
  have hF_rr_w_10 : w_10 rr = some (0, oE 6 [.ref fs, .ref ss]) := u_12.1 _ _ _ hF_rr_w_2 (by first | exact id | exact fun q_ => absurd (Nat.succ.inj q_) (by assumption) | exact fun q_ => absurd q_.symm (Nat.succ_ne_zero _) | exact fun q_ => absurd (Nat.succ.inj q_).symm (by assumption) | (intro q_; (try dsimp only at q_); omega))
  have hP_fs_w_10 := hP_fs_w_2.mv (u_12.1) (by first | exact id | exact fun q_ => absurd (Nat.succ.inj q_) (by assumption) | exact fun q_ => absurd q_.symm (Nat.succ_ne_zero _) | exact fun q_ => absurd (Nat.succ.inj q_).symm (by assumption) | (intro q_; (try dsimp only at q_); omega))
  have hP_ss_w_10 := hP_ss_w_2.mv (u_12.1) (by first | exact id | exact fun q_ => absurd (Nat.succ.inj q_) (by assumption) | exact fun q_ => absurd q_.symm (Nat.succ_ne_zero _) | exact fun q_ => absurd (Nat.succ.inj q_).symm (by assumption) | (intro q_; (try dsimp only at q_); omega))
  have hP_lr_w_10 := hL__5.mv (u_12.1) (by first | exact id | exact fun q_ => absurd (Nat.succ.inj q_) (by assumption) | exact fun q_ => absurd q_.symm (Nat.succ_ne_zero _) | exact fun q_ => absurd (Nat.succ.inj q_).symm (by assumption) | (intro q_; (try dsimp only at q_); omega))
  have hU : Up (fun q_ => q_ = a + 1 ∨ q_ = lm + 1 ∨ q_ = lr + 1 ∨ q_ = hm + 1) w w_10 := hU.tr u_12 (fun q_ h_ => by first | exact absurd h_ id | exact Or.inl h_ | exact Or.inr (up_nw h_ (by assumption)) | exact Or.inl (Or.inl h_) | exact Or.inl (Or.inr h_) | exact Or.inl (Or.inr (Or.inl h_)) | exact Or.inl (Or.inr (Or.inr h_)) | exact Or.inl (Or.inr (Or.inr (Or.inl h_))) | exact Or.inl (Or.inr (Or.inr (Or.inr h_))) | exact Or.inl (h_.elim Or.inl (fun h_ => Or.inr (Or.inl h_))) | ((try dsimp only at h_); first | exact Or.inl (by omega) | exact Or.inr ⟨by omega, by subst h_; rw [Nat.add_sub_cancel]; assumption⟩)) hG
  refine lv_pop hx hb dX2_say_28 rfl ?_
  refine lv_aload_n hx hb dX2_say_29 rfl (lv_at hl 0 rfl) ?_
  have hlen2 : (cRl c ++ [(L, M)]).length = (cRl c).length + 1 := by rw [List.length_append, List.length_singleton]
  have hru2 : RusAt G w_10 (Lr ++ [rr]) (cRl c ++ [(L, M)]) := RusAt.app hFm_15 ⟨fs, ss, hF_rr_w_10, hP_fs_w_10, hP_ss_w_10⟩
  have hmp2 : MpAt G w_10 (fun M => if M = L then some ss else (mp) M) (cRl c ++ [(L, M)]) := MpAt.app hFm_16 hrd hno hP_ss_w_10
  have hhm2 : HmAt G w_10 (hm + 1) hm (cRl c ++ [(L, M)]).length (fun M => if M = L then some ss else (mp) M) := by rw [hlen2]; exact hM__13
  have hcg : CatG G w_10 a lm lr hm (cRl c) (setRl c (cRl c ++ [(L, M)])) := ⟨bda, aca, so, fb, fa, Lm, Lr ++ [rr], _, hF_a_w_10, ⟨hF_bda_w_10, hbx⟩, ⟨hF_aca_w_10, hax⟩, hF_so_w_10, ⟨⟨mo1, hm1, hP_lm_w_10⟩, hFm_14, hnd⟩, ⟨LsAt.e hP_lr_w_10, hru2⟩, ⟨hhm2, hmp2⟩, hrd.app hno, hid, hba, hll⟩
  -- call SpokenMarks$Catalogue.hearAnew
  refine h_kI (h_runV X hR (ct_hea l G w_10 a lm lr hm (setRl c (cRl c ++ [(L, M)])) (cRl c) hcg hSa hU.2.2.1) pn_yX2_hearAnew (hcg.c) q1262 q1264 qs4 q123 q1265 ⟨by decide, by decide⟩ hl.1 (Nat.le_of_ble_eq_true rfl) dX2_say_30 ⟨by omega, by omega⟩) hL (fun z_17 w_18 hp_19 H locs hR hL => ?_)
  obtain ⟨rfl, hC__21, u_20⟩ := hp_19
  have hU : Up (fun q_ => q_ = a + 1 ∨ q_ = lm + 1 ∨ q_ = lr + 1 ∨ q_ = hm + 1) w w_18 := hU.tr u_20 (fun q_ h_ => by first | exact absurd h_ id | exact Or.inl h_ | exact Or.inr (up_nw h_ (by assumption)) | exact Or.inl (Or.inl h_) | exact Or.inl (Or.inr h_) | exact Or.inl (Or.inr (Or.inl h_)) | exact Or.inl (Or.inr (Or.inr h_)) | exact Or.inl (Or.inr (Or.inr (Or.inl h_))) | exact Or.inl (Or.inr (Or.inr (Or.inr h_))) | exact Or.inl (h_.elim Or.inl (fun h_ => Or.inr (Or.inl h_))) | ((try dsimp only at h_); first | exact Or.inl (by omega) | exact Or.inr ⟨by omega, by subst h_; rw [Nat.add_sub_cancel]; assumption⟩)) hG
  exact h_ireturn hx hb hlk hret hR hL rfl ⟨rfl, hC__21, hU⟩ (by omega) (by omega) rfl rfl dX2_say_33

set_option maxHeartbeats 4000000 in
set_option maxRecDepth 100000 in
/-- SpokenMarks$Catalogue.unsay -/
theorem ct_uns (l : Launch) (G : Gl) (w : Wd) (a lm lr hm : Nat) (c : Cat) (hC : CatAt G w a lm lr hm c) (hS : CatS c) (r : Nat) (hr : r < (cRl c).length) (hG : RegW w) : HM l yX2_unsay cX2_unsay 4 (some .int) 17 (3 + 114 * 40) (47 + 651 * 40) G [.ref a, .int (iI ((r : Int)))] w (QI G (fun z_ w_ => z_ = (ordA (setRl c (remAt (cRl c) r))).2 ∧ CatAt G w_ a lm lr hm (ordA (setRl c (remAt (cRl c) r))).1 ∧ Up (fun q_ => q_ = a + 1 ∨ q_ = lm + 1 ∨ q_ = lr + 1 ∨ q_ = hm + 1) w w_)) := by
  refine HM.mk (by decide +kernel) (Nat.le_of_ble_eq_true rfl) ?_
  intro p9 e9 s9 m9 a9 b9 meth9 c9 ls X hret hlk hnm hl H hR
  have hx := X.1.1
  have hb := X.1.2.1
  have hl : lv_has ls 4 [(0, .ref a), (1, .int (iI ((r : Int))))] := hl
  have hL : LK G [] := fun q h => absurd h List.not_mem_nil
  generalize ([] : List Loc) = locs at hL ⊢
  have hU : Up (fun q_ => q_ = a + 1 ∨ q_ = lm + 1 ∨ q_ = lr + 1 ∨ q_ = hm + 1) w w := Up.rf hG
  have hC0 := hC
  obtain ⟨bda, aca, so, fb, fa, Lm, Lr, mp, hCt, ⟨hbd, hbx⟩, ⟨hac, hax⟩, hso, ⟨⟨mo1, hm1, hlm⟩, hmk, hnd⟩, ⟨⟨mo2, hm2, hlr⟩, hru⟩, ⟨hhm, hmp⟩, hrd, hid, hba, hll⟩ := hC
  have hCt : w a = some (a + 1, oE 2 [.int (iI (cSh c)), .int (iI (cRm c)), .ref bda, .ref lm, .ref lr, .ref hm, .ref so, .ref aca, .int (iI (cNx c))]) := hCt
  have s1 := hS.1
  have s2 := hS.2.1
  have s3 := hS.2.2.1
  have s4 := hS.2.2.2.1.1
  have hRW := hS.2.2.2.2.1
  have s5 := hRW.1
  have s6 := hS.2.2.2.2.2
  have hml : Lm.length = cN c := hmk.1
  have hrl := hru.1
  have nla : lm ≠ a := hasC_ne hlm.c hC0.c (by decide)
  have nra : lr ≠ a := hasC_ne hlr.c hC0.c (by decide)
  have nha : hm ≠ a := hasC_ne hhm.c hC0.c (by decide)
  have nhl : hm ≠ lm := hasC_ne hhm.c hlm.c (by decide)
  have ne_bda_aca : bda ≠ aca := hba
  have nhr : hm ≠ lr := hasC_ne hhm.c hlr.c (by decide)
  have hSa : CatS (setRl c (remAt (cRl c) r)) := hS.rls (hRW.rem hr)
  refine lv_aload_n hx hb dX2_unsay_0 rfl (lv_at hl 0 rfl) ?_
  refine h_get X hR hCt rfl in_X2 4 (by decide) q603 rfl dX2_unsay_1 ?_
  refine lv_iload_n hx hb dX2_unsay_4 rfl (lv_at hl 1 rfl) ?_
  -- call java/util/ArrayList.remove
  refine h_k5R (h_runF (x := ⟨"java/util/List", "remove", "(I)Ljava/lang/Object;"⟩) X hR (ls_remove l G w (lr + 1) lr 8 mo2 Lr hlr r (by rw [hrl]; exact hr) hU.2.2.1 (Nat.succ_ne_zero _) (fun w1_ u_ => RusAt.ls (hru.mv u_.1 (by first | exact id | exact fun q_ => absurd (Nat.succ.inj q_) (by assumption) | exact fun q_ => absurd q_.symm (Nat.succ_ne_zero _) | exact fun q_ => absurd (Nat.succ.inj q_).symm (by assumption) | (intro q_; (try dsimp only at q_); omega))))) pn_i_java_util_List_remove_1 (hlr.c) (kk_face X.2 (by decide +kernel) q1871 q1870 q1875 q1873 q664) q1905 q1874 q1872 q125 q1876 ⟨by decide, by decide⟩ hl.1 (Nat.le_of_ble_eq_true rfl) dX2_unsay_5 ⟨by omega, by omega⟩) hL (fun z_1 w_2 hp_3 H locs hR hL => ?_)
  obtain ⟨rfl, hL__5, u_4⟩ := hp_3
  have hF_a_w_2 : w_2 a = some (a + 1, oE 2 [.int (iI (cSh c)), .int (iI (cRm c)), .ref bda, .ref lm, .ref lr, .ref hm, .ref so, .ref aca, .int (iI (cNx c))]) := u_4.1 _ _ _ hCt (by first | exact id | exact fun q_ => absurd (Nat.succ.inj q_) (by assumption) | exact fun q_ => absurd q_.symm (Nat.succ_ne_zero _) | exact fun q_ => absurd (Nat.succ.inj q_).symm (by assumption) | (intro q_; (try dsimp only at q_); omega))
  have hF_bda_w_2 : w_2 bda = some (a + 1, iE G 0 ((cSh c).toNat) fb) := u_4.1 _ _ _ hbd (by first | exact id | exact fun q_ => absurd (Nat.succ.inj q_) (by assumption) | exact fun q_ => absurd q_.symm (Nat.succ_ne_zero _) | exact fun q_ => absurd (Nat.succ.inj q_).symm (by assumption) | (intro q_; (try dsimp only at q_); omega))
  have hF_aca_w_2 : w_2 aca = some (a + 1, iE G 0 3 fa) := u_4.1 _ _ _ hac (by first | exact id | exact fun q_ => absurd (Nat.succ.inj q_) (by assumption) | exact fun q_ => absurd q_.symm (Nat.succ_ne_zero _) | exact fun q_ => absurd (Nat.succ.inj q_).symm (by assumption) | (intro q_; (try dsimp only at q_); omega))
  have hF_so_w_2 : w_2 so = some (0, oE 7 []) := u_4.1 _ _ _ hso (by first | exact id | exact fun q_ => absurd (Nat.succ.inj q_) (by assumption) | exact fun q_ => absurd q_.symm (Nat.succ_ne_zero _) | exact fun q_ => absurd (Nat.succ.inj q_).symm (by assumption) | (intro q_; (try dsimp only at q_); omega))
  have hP_lm_w_2 := hlm.mv (u_4.1) (by first | exact id | exact fun q_ => absurd (Nat.succ.inj q_) (by assumption) | exact fun q_ => absurd q_.symm (Nat.succ_ne_zero _) | exact fun q_ => absurd (Nat.succ.inj q_).symm (by assumption) | (intro q_; (try dsimp only at q_); omega))
  have hP_hm_w_2 := hhm.mv (u_4.1) ⟨(by first | exact id | (intro q_; (try dsimp only at q_); omega)), (by first | exact id | (intro q_; (try dsimp only at q_); omega))⟩
  have hFm_6 := hmk.mv (w1 := w_2) (u_4.1) (by first | exact id | exact fun q_ => absurd (Nat.succ.inj q_) (by assumption) | exact fun q_ => absurd q_.symm (Nat.succ_ne_zero _) | exact fun q_ => absurd (Nat.succ.inj q_).symm (by assumption) | (intro q_; (try dsimp only at q_); omega)) (by first | exact id | exact fun q_ => absurd (Nat.succ.inj q_) (by assumption) | exact fun q_ => absurd q_.symm (Nat.succ_ne_zero _) | exact fun q_ => absurd (Nat.succ.inj q_).symm (by assumption) | (intro q_; (try dsimp only at q_); omega))
  have hFm_7 := hru.mv (w1 := w_2) (u_4.1) (by first | exact id | exact fun q_ => absurd (Nat.succ.inj q_) (by assumption) | exact fun q_ => absurd q_.symm (Nat.succ_ne_zero _) | exact fun q_ => absurd (Nat.succ.inj q_).symm (by assumption) | (intro q_; (try dsimp only at q_); omega))
  have hFm_8 := hmp.mv (w1 := w_2) (u_4.1) (by first | exact id | exact fun q_ => absurd (Nat.succ.inj q_) (by assumption) | exact fun q_ => absurd q_.symm (Nat.succ_ne_zero _) | exact fun q_ => absurd (Nat.succ.inj q_).symm (by assumption) | (intro q_; (try dsimp only at q_); omega))
  have hU : Up (fun q_ => q_ = a + 1 ∨ q_ = lm + 1 ∨ q_ = lr + 1 ∨ q_ = hm + 1) w w_2 := hU.tr u_4 (fun q_ h_ => by first | exact absurd h_ id | exact Or.inl h_ | exact Or.inr (up_nw h_ (by assumption)) | exact Or.inl (Or.inl h_) | exact Or.inl (Or.inr h_) | exact Or.inl (Or.inr (Or.inl h_)) | exact Or.inl (Or.inr (Or.inr h_)) | exact Or.inl (Or.inr (Or.inr (Or.inl h_))) | exact Or.inl (Or.inr (Or.inr (Or.inr h_))) | exact Or.inl (h_.elim Or.inl (fun h_ => Or.inr (Or.inl h_))) | ((try dsimp only at h_); first | exact Or.inl (by omega) | exact Or.inr ⟨by omega, by subst h_; rw [Nat.add_sub_cancel]; assumption⟩)) hG
  obtain ⟨fs, ss, hQ1, hQ2, hQ3⟩ : RuAt G w_2 (Lr.getD r 0) (gR (cRl c) r) := RusAt.g hFm_7 hr
  have hQ2 : StrAt G w_2 fs (r1 (cRl c) r) := hQ2
  obtain ⟨va9, hmv, hvs⟩ : ∃ va_, mp (r1 (cRl c) r) = some va_ ∧ StrAt G w_2 va_ (spk (cRl c) (r1 (cRl c) r)) := by rcases hFm_8 (r1 (cRl c) r) with ⟨-, q_⟩ | ⟨va_, h1_, h2_, -⟩; exact absurd (q_.symm.trans (rlF_at hrd hr)) (by omega); exact ⟨va_, h1_, h2_⟩
  refine h_castS X hR (hasC.of hQ1 rfl) q1806 dX2_unsay_10 ?_
  refine lv_astore_n (lv' := [(2, .ref (Lr.getD r 0)), (0, .ref a), (1, .int (iI ((r : Int))))]) hx hb dX2_unsay_13 rfl hl (by decide) rfl (fun ls hl => ?_)
  refine lv_aload_n hx hb dX2_unsay_14 rfl (lv_at hl 1 rfl) ?_
  refine h_get X hR hF_a_w_2 rfl in_X2 5 (by decide) q608 rfl dX2_unsay_15 ?_
  refine lv_aload_n hx hb dX2_unsay_18 rfl (lv_at hl 0 rfl) ?_
  refine h_getN X hR hQ1 rfl in_X4 0 (by decide) q646 rfl dX2_unsay_19 ?_
  -- call java/util/HashMap.remove
  refine h_k5N (h_runF (x := ⟨"java/util/Map", "remove", "(Ljava/lang/Object;)Ljava/lang/Object;"⟩) X hR (hm_rm l G w_2 (hm + 1) hm ((cRl c).length) mp hP_hm_w_2 (by omega) hU.2.2.1 (Nat.succ_ne_zero _) fs va9 (r1 (cRl c) r) hQ2 hmv) pn_i_java_util_Map_remove_1 (hP_hm_w_2.c) (kk_face X.2 (by decide +kernel) q1909 q1908 q1913 q1911 q738) q1907 q1912 q1910 q143 q1914 ⟨by decide, by decide⟩ hl.1 (Nat.le_of_ble_eq_true rfl) dX2_unsay_22 ⟨by omega, by omega⟩) hL (fun z_9 w_10 hp_11 H locs hR hL => ?_)
  obtain ⟨rfl, hM__13, u_12⟩ := hp_11
  have hF_a_w_10 : w_10 a = some (a + 1, oE 2 [.int (iI (cSh c)), .int (iI (cRm c)), .ref bda, .ref lm, .ref lr, .ref hm, .ref so, .ref aca, .int (iI (cNx c))]) := u_12.1 _ _ _ hF_a_w_2 (by first | exact id | exact fun q_ => absurd (Nat.succ.inj q_) (by assumption) | exact fun q_ => absurd q_.symm (Nat.succ_ne_zero _) | exact fun q_ => absurd (Nat.succ.inj q_).symm (by assumption) | (intro q_; (try dsimp only at q_); omega))
  have hF_bda_w_10 : w_10 bda = some (a + 1, iE G 0 ((cSh c).toNat) fb) := u_12.1 _ _ _ hF_bda_w_2 (by first | exact id | exact fun q_ => absurd (Nat.succ.inj q_) (by assumption) | exact fun q_ => absurd q_.symm (Nat.succ_ne_zero _) | exact fun q_ => absurd (Nat.succ.inj q_).symm (by assumption) | (intro q_; (try dsimp only at q_); omega))
  have hF_aca_w_10 : w_10 aca = some (a + 1, iE G 0 3 fa) := u_12.1 _ _ _ hF_aca_w_2 (by first | exact id | exact fun q_ => absurd (Nat.succ.inj q_) (by assumption) | exact fun q_ => absurd q_.symm (Nat.succ_ne_zero _) | exact fun q_ => absurd (Nat.succ.inj q_).symm (by assumption) | (intro q_; (try dsimp only at q_); omega))
  have hF_so_w_10 : w_10 so = some (0, oE 7 []) := u_12.1 _ _ _ hF_so_w_2 (by first | exact id | exact fun q_ => absurd (Nat.succ.inj q_) (by assumption) | exact fun q_ => absurd q_.symm (Nat.succ_ne_zero _) | exact fun q_ => absurd (Nat.succ.inj q_).symm (by assumption) | (intro q_; (try dsimp only at q_); omega))
  have hP_lm_w_10 := hP_lm_w_2.mv (u_12.1) (by first | exact id | exact fun q_ => absurd (Nat.succ.inj q_) (by assumption) | exact fun q_ => absurd q_.symm (Nat.succ_ne_zero _) | exact fun q_ => absurd (Nat.succ.inj q_).symm (by assumption) | (intro q_; (try dsimp only at q_); omega))
  have hFm_14 := hFm_6.mv (w1 := w_10) (u_12.1) (by first | exact id | exact fun q_ => absurd (Nat.succ.inj q_) (by assumption) | exact fun q_ => absurd q_.symm (Nat.succ_ne_zero _) | exact fun q_ => absurd (Nat.succ.inj q_).symm (by assumption) | (intro q_; (try dsimp only at q_); omega)) (by first | exact id | exact fun q_ => absurd (Nat.succ.inj q_) (by assumption) | exact fun q_ => absurd q_.symm (Nat.succ_ne_zero _) | exact fun q_ => absurd (Nat.succ.inj q_).symm (by assumption) | (intro q_; (try dsimp only at q_); omega))
  have hFm_15 := hFm_7.mv (w1 := w_10) (u_12.1) (by first | exact id | exact fun q_ => absurd (Nat.succ.inj q_) (by assumption) | exact fun q_ => absurd q_.symm (Nat.succ_ne_zero _) | exact fun q_ => absurd (Nat.succ.inj q_).symm (by assumption) | (intro q_; (try dsimp only at q_); omega))
  have hFm_16 := hFm_8.mv (w1 := w_10) (u_12.1) (by first | exact id | exact fun q_ => absurd (Nat.succ.inj q_) (by assumption) | exact fun q_ => absurd q_.symm (Nat.succ_ne_zero _) | exact fun q_ => absurd (Nat.succ.inj q_).symm (by assumption) | (intro q_; (try dsimp only at q_); omega))
  have hP_lr_w_10 := hL__5.mv (u_12.1) (by first | exact id | exact fun q_ => absurd (Nat.succ.inj q_) (by assumption) | exact fun q_ => absurd q_.symm (Nat.succ_ne_zero _) | exact fun q_ => absurd (Nat.succ.inj q_).symm (by assumption) | (intro q_; (try dsimp only at q_); omega))
  have hF_Lr_getD_r_0_w_10 : w_10 (Lr.getD r 0) = some (0, oE 6 [.ref fs, .ref ss]) := u_12.1 _ _ _ hQ1 (by first | exact id | exact fun q_ => absurd (Nat.succ.inj q_) (by assumption) | exact fun q_ => absurd q_.symm (Nat.succ_ne_zero _) | exact fun q_ => absurd (Nat.succ.inj q_).symm (by assumption) | (intro q_; (try dsimp only at q_); omega))
  have hP_fs_w_10 := hQ2.mv (u_12.1) (by first | exact id | exact fun q_ => absurd (Nat.succ.inj q_) (by assumption) | exact fun q_ => absurd q_.symm (Nat.succ_ne_zero _) | exact fun q_ => absurd (Nat.succ.inj q_).symm (by assumption) | (intro q_; (try dsimp only at q_); omega))
  have hP_va9_w_10 := hvs.mv (u_12.1) (by first | exact id | exact fun q_ => absurd (Nat.succ.inj q_) (by assumption) | exact fun q_ => absurd q_.symm (Nat.succ_ne_zero _) | exact fun q_ => absurd (Nat.succ.inj q_).symm (by assumption) | (intro q_; (try dsimp only at q_); omega))
  have hU : Up (fun q_ => q_ = a + 1 ∨ q_ = lm + 1 ∨ q_ = lr + 1 ∨ q_ = hm + 1) w w_10 := hU.tr u_12 (fun q_ h_ => by first | exact absurd h_ id | exact Or.inl h_ | exact Or.inr (up_nw h_ (by assumption)) | exact Or.inl (Or.inl h_) | exact Or.inl (Or.inr h_) | exact Or.inl (Or.inr (Or.inl h_)) | exact Or.inl (Or.inr (Or.inr h_)) | exact Or.inl (Or.inr (Or.inr (Or.inl h_))) | exact Or.inl (Or.inr (Or.inr (Or.inr h_))) | exact Or.inl (h_.elim Or.inl (fun h_ => Or.inr (Or.inl h_))) | ((try dsimp only at h_); first | exact Or.inl (by omega) | exact Or.inr ⟨by omega, by subst h_; rw [Nat.add_sub_cancel]; assumption⟩)) hG
  refine h_castS X hR (hP_va9_w_10.c) q1419 dX2_unsay_27 ?_
  refine lv_astore_n (lv' := [(3, .ref va9), (2, .ref (Lr.getD r 0)), (0, .ref a), (1, .int (iI ((r : Int))))]) hx hb dX2_unsay_30 rfl hl (by decide) rfl (fun ls hl => ?_)
  refine lv_aload_n hx hb dX2_unsay_31 rfl (lv_at hl 2 rfl) ?_
  have hlen2 : (remAt (cRl c) r).length = (cRl c).length - 1 := remAt_len _ _ hr
  have hru2 : RusAt G w_10 (remAt Lr r) (remAt (cRl c) r) := RusAt.rem hFm_15 hr
  have hmp2 : MpAt G w_10 (fun M => if M = r1 (cRl c) r then none else (mp) M) (remAt (cRl c) r) := MpAt.rem hFm_16 hrd hr
  have hhm2 : HmAt G w_10 (hm + 1) hm (remAt (cRl c) r).length (fun M => if M = r1 (cRl c) r then none else (mp) M) := by rw [hlen2]; exact hM__13
  have hcg : CatG G w_10 a lm lr hm (cRl c) (setRl c (remAt (cRl c) r)) := ⟨bda, aca, so, fb, fa, Lm, remAt Lr r, _, hF_a_w_10, ⟨hF_bda_w_10, hbx⟩, ⟨hF_aca_w_10, hax⟩, hF_so_w_10, ⟨⟨mo1, hm1, hP_lm_w_10⟩, hFm_14, hnd⟩, ⟨LsAt.e hP_lr_w_10, hru2⟩, ⟨hhm2, hmp2⟩, hrd.rem hr, hid, hba, hll⟩
  -- call SpokenMarks$Catalogue.hearAnew
  refine h_kI (h_runV X hR (ct_hea l G w_10 a lm lr hm (setRl c (remAt (cRl c) r)) (cRl c) hcg hSa hU.2.2.1) pn_yX2_hearAnew (hcg.c) q1262 q1264 qs4 q123 q1265 ⟨by decide, by decide⟩ hl.1 (Nat.le_of_ble_eq_true rfl) dX2_unsay_32 ⟨by omega, by omega⟩) hL (fun z_17 w_18 hp_19 H locs hR hL => ?_)
  obtain ⟨rfl, hC__21, u_20⟩ := hp_19
  have hU : Up (fun q_ => q_ = a + 1 ∨ q_ = lm + 1 ∨ q_ = lr + 1 ∨ q_ = hm + 1) w w_18 := hU.tr u_20 (fun q_ h_ => by first | exact absurd h_ id | exact Or.inl h_ | exact Or.inr (up_nw h_ (by assumption)) | exact Or.inl (Or.inl h_) | exact Or.inl (Or.inr h_) | exact Or.inl (Or.inr (Or.inl h_)) | exact Or.inl (Or.inr (Or.inr h_)) | exact Or.inl (Or.inr (Or.inr (Or.inl h_))) | exact Or.inl (Or.inr (Or.inr (Or.inr h_))) | exact Or.inl (h_.elim Or.inl (fun h_ => Or.inr (Or.inl h_))) | ((try dsimp only at h_); first | exact Or.inl (by omega) | exact Or.inr ⟨by omega, by subst h_; rw [Nat.add_sub_cancel]; assumption⟩)) hG
  exact h_ireturn hx hb hlk hret hR hL rfl ⟨rfl, hC__21, hU⟩ (by omega) (by omega) rfl rfl dX2_unsay_35
