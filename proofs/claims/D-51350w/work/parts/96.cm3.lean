/-! the component: the steps to an ear -/
set_option maxRecDepth 100000
theorem prs_go {a b c : Int} {L : List Int} {k : Nat} (hk : k + 2 ≤ L.length) (h1 : L.getD k 0 = a) (h2 : L.getD (k + 1) 0 = b) : prs a b c (L.drop k) = c :: prs a b c (L.drop (k + 2)) := by
  rw [List.drop_eq_getElem_cons (show k < L.length by omega), List.drop_eq_getElem_cons (show k + 1 < L.length by omega)]
  have e1 : L.getD k 0 = L[k] := by simp [show k < L.length by omega]
  have e2 : L.getD (k + 1) 0 = L[k + 1] := by simp [show k + 1 < L.length by omega]
  rw [e1] at h1; rw [e2] at h2
  conv => lhs; unfold prs
  rw [if_pos ⟨h1, h2⟩]
theorem prs_no {a b c : Int} {L : List Int} {k : Nat} (hk : k < L.length) (h : ¬ (k + 2 ≤ L.length ∧ L.getD k 0 = a ∧ L.getD (k + 1) 0 = b)) : prs a b c (L.drop k) = L.getD k 0 :: prs a b c (L.drop (k + 1)) := by
  have e1 : L.getD k 0 = L[k] := by simp [hk]
  rw [List.drop_eq_getElem_cons hk, e1]
  by_cases q : k + 1 < L.length
  · have e2 : L.getD (k + 1) 0 = L[k + 1] := by simp [q]
    rw [List.drop_eq_getElem_cons q]
    conv => lhs; unfold prs
    rw [if_neg (fun z => h ⟨by omega, by rw [e1]; exact z.1, by rw [e2]; exact z.2⟩)]
  · rw [List.drop_eq_nil_of_le (show L.length ≤ k + 1 by omega)]; rfl
theorem stW2 {L : List Int} {a b : Int} {k : Nat} : stW L [a, b] k ↔ (k + 2 ≤ L.length ∧ L.getD k 0 = a ∧ L.getD (k + 1) 0 = b) := by
  constructor
  · intro h
    refine ⟨h.1, ?_⟩
    rcases fstN_cases (fun j => L.getD (k + j) 0 ≠ [a, b].getD j 0) 2 with ⟨-, hn⟩ | ⟨j, hj, e, -⟩
    · exact ⟨Decidable.not_not.mp (hn 0 (by omega)), Decidable.not_not.mp (hn 1 (by omega))⟩
    · have h2 : fstN (fun j => L.getD (k + j) 0 ≠ [a, b].getD j 0) 2 = -1 := h.2
      omega
  · intro h
    refine ⟨h.1, dfN_n (fun j hj => ?_)⟩
    have hj2 : j < 2 := hj
    rcases (show j = 0 ∨ j = 1 by omega) with rfl | rfl
    · exact h.2.1
    · exact h.2.2
theorem map_go {f : Int → Int} {L : List Int} {k : Nat} (hk : k < L.length) : (L.drop k).map f = f (L.getD k 0) :: (L.drop (k + 1)).map f := by
  rw [List.drop_eq_getElem_cons hk, List.map_cons]; simp [hk]
def silA (L : List Int) (k : Nat) : List Int := if k = 0 then sil L else (L.drop k).filter (fun c => decide (c ≠ 104))
theorem sil_y {L : List Int} {k : Nat} (hk : k < L.length) (h : k = 0 ∨ L.getD k 0 ≠ 104) : silA L k = L.getD k 0 :: silA L (k + 1) := by
  have e1 : L.getD k 0 = L[k] := by simp [hk]
  unfold silA
  rw [if_neg (Nat.succ_ne_zero k)]
  by_cases q : k = 0
  · subst q
    rw [if_pos rfl, e1]
    cases L with
    | nil => simp at hk
    | cons x r => rfl
  · rw [if_neg q, List.drop_eq_getElem_cons hk, List.filter_cons, if_pos (by rw [decide_eq_true_iff, ← e1]; exact h.resolve_left q), e1]
theorem sil_n {L : List Int} {k : Nat} (hk : k < L.length) (h : ¬ (k = 0 ∨ L.getD k 0 ≠ 104)) : silA L k = silA L (k + 1) := by
  have e1 : L.getD k 0 = L[k] := by simp [hk]
  unfold silA
  rw [if_neg (Nat.succ_ne_zero k), if_neg (fun q => h (Or.inl q)), List.drop_eq_getElem_cons hk, List.filter_cons, if_neg (by rw [decide_eq_true_iff, ← e1]; exact fun q => h (Or.inr q))]
theorem sil_e {L : List Int} {k : Nat} (hk : L.length ≤ k) : silA L k = [] := by
  unfold silA
  split
  · next q => rw [List.length_eq_zero_iff.mp (show L.length = 0 by omega)]; rfl
  · rw [List.drop_eq_nil_of_le hk]; rfl
def rnsA (L : List Int) (k : Nat) : List Int := if k = 0 then rns L else rnA (L.getD (k - 1) 0) (L.drop k)
theorem rns_y {L : List Int} {k : Nat} (hk : k < L.length) (h : k = 0 ∨ L.getD k 0 ≠ L.getD (k - 1) 0) : rnsA L k = L.getD k 0 :: rnsA L (k + 1) := by
  have e1 : L.getD k 0 = L[k] := by simp [hk]
  unfold rnsA
  rw [if_neg (Nat.succ_ne_zero k), Nat.add_sub_cancel]
  by_cases q : k = 0
  · subst q
    rw [if_pos rfl, e1]
    cases L with
    | nil => simp at hk
    | cons x r => rfl
  · rw [if_neg q, List.drop_eq_getElem_cons hk]
    conv => lhs; unfold rnA
    rw [← e1, if_neg (h.resolve_left q)]
theorem rns_n {L : List Int} {k : Nat} (hk : k < L.length) (h : ¬ (k = 0 ∨ L.getD k 0 ≠ L.getD (k - 1) 0)) : rnsA L k = rnsA L (k + 1) := by
  have e1 : L.getD k 0 = L[k] := by simp [hk]
  have e2 : L.getD k 0 = L.getD (k - 1) 0 := Decidable.not_not.mp (fun q => h (Or.inr q))
  unfold rnsA
  rw [if_neg (Nat.succ_ne_zero k), if_neg (fun q => h (Or.inl q)), Nat.add_sub_cancel, List.drop_eq_getElem_cons hk]
  conv => lhs; unfold rnA
  rw [← e1, if_pos e2]
theorem rns_e {L : List Int} {k : Nat} (hk : L.length ≤ k) : rnsA L k = [] := by
  unfold rnsA
  split
  · next q => rw [List.length_eq_zero_iff.mp (show L.length = 0 by omega)]; rfl
  · rw [List.drop_eq_nil_of_le hk]; rfl
theorem wrd_c {L : List Int} (h : Wrd L) {k : Nat} (hk : k < L.length) : 97 ≤ L.getD k 0 ∧ L.getD k 0 ≤ 122 := by
  rw [show L.getD k 0 = L[k] by simp [hk]]; exact h.2 _ (List.getElem_mem hk)
theorem fit_R {G : Gl} {k n : Nat} {f : Nat → Option Nat} {C : String} : ∀ (i : Nat) (v : Value), (vp_cell (gA G k) (n, .inr (.inr (.inr (.inr f))))).slots[i]? = some v → fits (.object C) v = true := by
  intro i v hv
  have hsz : (vp_cell (gA G k) (n, .inr (.inr (.inr (.inr f))))).slots.size = n := arrV_size _ _ _
  have hi : i < n := by
    have := (Array.getElem?_eq_some_iff.mp hv).1
    omega
  have h1 : (arrV (gA G k) n (fun j => va_rf (f j))).slots[i]? = some v := hv
  rw [arrV_read _ _ hi] at h1
  cases h1
  cases f i <;> rfl
theorem fit_I {G : Gl} {n : Nat} {f : Nat → Int} : ∀ (i : Nat) (v : Value), (vp_cell (gA G 0) (n, .inl (fun j => iI (f j)))).slots[i]? = some v → fits .int v = true := by
  intro i v hv
  have hsz : (vp_cell (gA G 0) (n, .inl (fun j => iI (f j)))).slots.size = n := arrV_size _ _ _
  have hi : i < n := by
    have := (Array.getElem?_eq_some_iff.mp hv).1
    omega
  have h1 : (arrV (gA G 0) n (fun j => .int (iI (f j)))).slots[i]? = some v := hv
  rw [arrV_read _ _ hi] at h1
  cases h1
  rfl
theorem app_eq {C D E F : List Int} (h : C ++ D = F) (e : D = E) : C ++ E = F := e ▸ h
theorem app_cons {C E F : List Int} {x : Int} (h : C ++ (x :: E) = F) : (C ++ [x]) ++ E = F := by rw [List.append_assoc]; exact h

theorem pn_yX7_pairs : ParN yX7_pairs 4 := by decide +kernel
theorem pn_yX7_values : ParN yX7_values 0 := by decide +kernel
theorem pn_yX23_hear : ParN yX23_hear 2 := by decide +kernel
theorem pn_yX24_hear : ParN yX24_hear 2 := by decide +kernel
theorem pn_yX25_hear : ParN yX25_hear 2 := by decide +kernel
theorem pn_yX26_hear : ParN yX26_hear 2 := by decide +kernel
theorem pn_yX27_hear : ParN yX27_hear 2 := by decide +kernel
theorem pn_yJ10_startsWith : ParN yJ10_startsWith 2 := by decide +kernel
theorem pn_yJ9_init_2 : ParN yJ9_init_2 1 := by decide +kernel
theorem pn_yJ9_append_3 : ParN yJ9_append_3 1 := by decide +kernel
theorem pn_yJ9_toString : ParN yJ9_toString 0 := by decide +kernel
theorem pn_i_SpokenMarks_Step_hear_2 : ParN ⟨"SpokenMarks$Step", "hear", "(Ljava/lang/String;Ljava/lang/StringBuilder;)V"⟩ 2 := by decide +kernel

set_option maxHeartbeats 4000000 in
set_option maxRecDepth 100000 in
/-- SpokenMarks$Step.pairs -/
theorem st_pairs (l : Launch) (G : Gl) (w : Wd) (fa b : Nat) (L : List Int) (hS : StrAt G w fa L) (hW : Wrd L) (hB : SbAt G w (b + 1) b 8 []) (pa : Nat) (p0 p1 ch : Int) (hP : StrAt G w pa [p0, p1]) (hch : 97 ≤ ch ∧ ch ≤ 122) (hG : RegW w) : HM l yX7_pairs cX7_pairs 6 none 6 0 0 G [.ref fa, .ref b, .ref pa, .int (iI (ch))] w (QV G (fun w_ => SbAt G w_ (b + 1) b 8 (prs p0 p1 ch L) ∧ Up (fun q_ => q_ = b + 1) w w_)) := by
  refine HM.mk (by decide +kernel) (Nat.le_of_ble_eq_true rfl) ?_
  intro p9 e9 s9 m9 a9 b9 meth9 c9 ls X hret hlk hnm hl H hR
  have hx := X.1.1
  have hb := X.1.2.1
  have hl : lv_has ls 6 [(0, .ref fa), (1, .ref b), (2, .ref pa), (3, .int (iI (ch)))] := hl
  have hL : LK G [] := fun q h => absurd h List.not_mem_nil
  generalize ([] : List Loc) = locs at hL ⊢
  have hU : Up (fun q_ => q_ = b + 1) w w := Up.rf hG
  have h8 := hW.1
  refine h_iconst hx hb dX7_pairs_0 ?_
  refine lv_istore (lv' := [(4, .int (iI (0))), (0, .ref fa), (1, .ref b), (2, .ref pa), (3, .int (iI (ch)))]) hx hb dX7_pairs_1 hl (by decide) rfl (fun ls hl => ?_)
  have LOOP_2 : ∀ (N_ : Nat) (k : Nat) (C : List Int)(w_1 : Wd) , (k ≤ L.length) → (C.length ≤ k) → (C ++ prs p0 p1 ch (L.drop k) = prs p0 p1 ch L) → (StrAt G w_1 fa L) → (StrAt G w_1 pa ([p0, p1])) → (SbAt G w_1 (b + 1) b 8 C) → (Up (fun q_ => q_ = b + 1) w w_1) → (9 - k) < N_ → ∀ (H : Heap) (locs : List Loc) (ls : Array Slot), Rp G w_1 H → LK G locs → lv_has ls 6 [(0, .ref fa), (1, .ref b), (2, .ref pa), (3, .int (iI (ch))), (4, .int (iI ((k : Int))))] → W p9 l e9 (rmk 6 0 0) s9 m9 a9 b9 meth9 c9 H locs 0 0 (MQ b9 (QV G (fun w_ => SbAt G w_ (b + 1) b 8 (prs p0 p1 ch L) ∧ Up (fun q_ => q_ = b + 1) w w_)) a9 s9 0 0 (frG G)) (F0 m9 3 ls []) := by
    intro N_
    induction N_ with
    | zero => intro _ _ _ _ _ _ _ _ _ _ h_; exact absurd h_ (Nat.not_lt_zero _)
    | succ N_ ih_ =>
      intro k C w_1 hk hc he hI_fa_w_1 hI_pa_w_1 hI_b_w_1 hU hN_ H locs ls hR hL hl
      have ih_2 := ih_
      clear ih_
      have hWk := fun hk_ => wrd_c hW (k := k) hk_
      refine lv_iload hx hb dX7_pairs_3 (lv_at hl 4 rfl) ?_
      refine lv_aload_n hx hb dX7_pairs_5 rfl (lv_at hl 0 rfl) ?_
      -- call java/lang/String.length
      refine h_kIp (h_runV X hR (s_length l G w_1 fa L hI_fa_w_1) pn_yJ10_length (hI_fa_w_1.c) q1448 q373 q374 q132 q375 ⟨by decide, by decide⟩ hl.1 (Nat.le_of_ble_eq_true rfl) dX7_pairs_6 ⟨by omega, by omega⟩) hL (fun H locs hR hL => ?_)
      refine h_icmp_ge hx hb 59 dX7_pairs_9 (by decide) (by omega) (by omega) (fun c_k => ?_) (fun c_k => ?_)
      ·
        have hkk : k = L.length := by omega
        have hfin : C = prs p0 p1 ch L := by rw [← he, hkk, List.drop_length]; exact (List.append_nil _).symm
        exact h_vreturn hx hb hlk hret hR hL ⟨by rw [← hfin]; exact hI_b_w_1, hU⟩ (by omega) (by omega) rfl rfl dX7_pairs_59
      ·
        refine lv_aload_n hx hb dX7_pairs_12 rfl (lv_at hl 0 rfl) ?_
        refine lv_aload_n hx hb dX7_pairs_13 rfl (lv_at hl 2 rfl) ?_
        refine lv_iload hx hb dX7_pairs_14 (lv_at hl 4 rfl) ?_
        -- call java/lang/String.startsWith
        refine h_kIp (h_runV X hR (s_stw l G w_1 fa pa L ([p0, p1]) hI_fa_w_1 hI_pa_w_1 k (by omega) (by show 2 ≤ 7; decide)) pn_yJ10_startsWith (hI_fa_w_1.c) q1449 q1450 q1451 q132 q1452 ⟨by decide, by decide⟩ hl.1 (Nat.le_of_ble_eq_true rfl) dX7_pairs_16 ⟨by omega, by omega⟩) hL (fun H locs hR hL => ?_)
        refine lv_istore (lv' := [(5, .int (iI (b2i (stW L ([p0, p1]) k)))), (0, .ref fa), (1, .ref b), (2, .ref pa), (3, .int (iI (ch))), (4, .int (iI ((k : Int))))]) hx hb dX7_pairs_19 hl (by decide) rfl (fun ls hl => ?_)
        refine lv_aload_n hx hb dX7_pairs_21 rfl (lv_at hl 2 rfl) ?_
        refine lv_iload hx hb dX7_pairs_22 (lv_at hl 0 rfl) ?_
        by_cases hst : k + 2 ≤ L.length ∧ L.getD k 0 = p0 ∧ L.getD (k + 1) 0 = p1
        ·
          refine W.eq (g2 := F0 m9 24 ls [.int (iI (1)), .ref b]) (congrArg (fun z_ : Int => F0 m9 24 ls [.int (iI (z_)), .ref b]) (show (b2i (stW L ([p0, p1]) k) : Int) = 1 from (by exact b2i_t (stW2.mpr hst)))) ?_
          have hl : lv_has ls 6 [(5, .int (iI (1))), (0, .ref fa), (1, .ref b), (2, .ref pa), (3, .int (iI (ch))), (4, .int (iI ((k : Int))))] := lv_conv hl (congrArg (fun z_ : Int => ([(5, .int (iI (z_))), (0, .ref fa), (1, .ref b), (2, .ref pa), (3, .int (iI (ch))), (4, .int (iI ((k : Int))))] : List (Nat × Value))) (show (b2i (stW L ([p0, p1]) k) : Int) = 1 from (by exact b2i_t (stW2.mpr hst))))
          refine h_if_eq hx hb 31 dX7_pairs_24 (by decide) (by decide) (fun z_ => absurd z_ (by decide)) (fun _ => ?_)
          refine lv_iload_n hx hb dX7_pairs_27 rfl (lv_at hl 4 rfl) ?_
          refine lv_goto (tgt := 37) hx hb dX7_pairs_28 (by decide) ?_
          -- call java/lang/StringBuilder.append
          refine h_kR (h_runV X hR (sbb_c0 l G w_1 (b + 1) b 8 C hI_b_w_1 hU.2.2.1 (Nat.succ_ne_zero _) ch (by first | omega | (have := hWk (by omega); omega)) (by omega)) pn_yJ9_append_3 (hI_b_w_1.c) q1478 q1479 q1480 q131 q1481 ⟨by decide, by decide⟩ hl.1 (Nat.le_of_ble_eq_true rfl) dX7_pairs_37 ⟨by omega, by omega⟩) hL (fun z_10 w_11 hp_12 H locs hR hL => ?_)
          obtain ⟨hzq_15, hB__14, u_13⟩ := hp_12
          have hzq_15 := hzq_15.symm
          subst hzq_15
          have hP_fa_w_11 := hI_fa_w_1.mv (u_13.1) (by first | exact id | (intro q_; (try dsimp only at q_); omega))
          have hP_pa_w_11 := hI_pa_w_1.mv (u_13.1) (by first | exact id | (intro q_; (try dsimp only at q_); omega))
          have hU : Up (fun q_ => q_ = b + 1) w w_11 := hU.tr u_13 (fun q_ h_ => by first | exact absurd h_ id | exact Or.inl h_ | ((try dsimp only at h_); first | exact Or.inl (by omega) | exact Or.inr ⟨by omega, by subst h_; rw [Nat.add_sub_cancel]; assumption⟩)) hG
          refine lv_pop hx hb dX7_pairs_40 rfl ?_
          refine lv_iload hx hb dX7_pairs_41 (lv_at hl 5 rfl) ?_
          refine lv_iload hx hb dX7_pairs_43 (lv_at hl 0 rfl) ?_
          refine h_if_eq hx hb 52 dX7_pairs_45 (by decide) (by decide) (fun z_ => absurd z_ (by decide)) (fun _ => ?_)
          refine h_iconst hx hb dX7_pairs_48 ?_
          refine lv_goto (tgt := 53) hx hb dX7_pairs_49 (by decide) ?_
          refine h_iadd hx hb dX7_pairs_53 ?_
          refine lv_istore (lv' := [(4, .int (iI ((k : Int) + 2))), (5, .int (iI (1))), (0, .ref fa), (1, .ref b), (2, .ref pa), (3, .int (iI (ch)))]) hx hb dX7_pairs_54 hl (by decide) rfl (fun ls hl => ?_)
          refine lv_goto (tgt := 3) hx hb dX7_pairs_56 (by decide) ?_
          exact ih_2 (k + 2) (C ++ [ch]) w_11 (by omega) (by first | omega | (rw [List.length_append, List.length_singleton]; omega)) (app_cons (app_eq he (prs_go (by omega) hst.2.1 hst.2.2))) hP_fa_w_11 hP_pa_w_11 hB__14 hU (by omega) _ _ _ hR hL (lv_sub hl [2, 3, 4, 5, 0] rfl)
        ·
          refine W.eq (g2 := F0 m9 24 ls [.int (iI (0)), .ref b]) (congrArg (fun z_ : Int => F0 m9 24 ls [.int (iI (z_)), .ref b]) (show (b2i (stW L ([p0, p1]) k) : Int) = 0 from (by exact b2i_f (fun q_ => hst (stW2.mp q_))))) ?_
          have hl : lv_has ls 6 [(5, .int (iI (0))), (0, .ref fa), (1, .ref b), (2, .ref pa), (3, .int (iI (ch))), (4, .int (iI ((k : Int))))] := lv_conv hl (congrArg (fun z_ : Int => ([(5, .int (iI (z_))), (0, .ref fa), (1, .ref b), (2, .ref pa), (3, .int (iI (ch))), (4, .int (iI ((k : Int))))] : List (Nat × Value))) (show (b2i (stW L ([p0, p1]) k) : Int) = 0 from (by exact b2i_f (fun q_ => hst (stW2.mp q_)))))
          refine h_if_eq hx hb 31 dX7_pairs_24 (by decide) (by decide) (fun _ => ?_) (fun z_ => absurd z_ (by decide))
          refine lv_aload_n hx hb dX7_pairs_31 rfl (lv_at hl 1 rfl) ?_
          refine lv_iload hx hb dX7_pairs_32 (lv_at hl 5 rfl) ?_
          -- call java/lang/String.charAt
          refine h_kIp (h_runV X hR (s_charAt l G w_1 fa L hI_fa_w_1 k (by omega)) pn_yJ10_charAt (hI_fa_w_1.c) q1458 q1459 q1460 q132 q1461 ⟨by decide, by decide⟩ hl.1 (Nat.le_of_ble_eq_true rfl) dX7_pairs_34 ⟨by omega, by omega⟩) hL (fun H locs hR hL => ?_)
          -- call java/lang/StringBuilder.append
          refine h_kR (h_runV X hR (sbb_c0 l G w_1 (b + 1) b 8 C hI_b_w_1 hU.2.2.1 (Nat.succ_ne_zero _) (L.getD k 0) (by first | omega | (have := hWk (by omega); omega)) (by omega)) pn_yJ9_append_3 (hI_b_w_1.c) q1478 q1479 q1480 q131 q1481 ⟨by decide, by decide⟩ hl.1 (Nat.le_of_ble_eq_true rfl) dX7_pairs_37 ⟨by omega, by omega⟩) hL (fun z_22 w_23 hp_24 H locs hR hL => ?_)
          obtain ⟨hzq_27, hB__26, u_25⟩ := hp_24
          have hzq_27 := hzq_27.symm
          subst hzq_27
          have hP_fa_w_23 := hI_fa_w_1.mv (u_25.1) (by first | exact id | (intro q_; (try dsimp only at q_); omega))
          have hP_pa_w_23 := hI_pa_w_1.mv (u_25.1) (by first | exact id | (intro q_; (try dsimp only at q_); omega))
          have hU : Up (fun q_ => q_ = b + 1) w w_23 := hU.tr u_25 (fun q_ h_ => by first | exact absurd h_ id | exact Or.inl h_ | ((try dsimp only at h_); first | exact Or.inl (by omega) | exact Or.inr ⟨by omega, by subst h_; rw [Nat.add_sub_cancel]; assumption⟩)) hG
          refine lv_pop hx hb dX7_pairs_40 rfl ?_
          refine lv_iload hx hb dX7_pairs_41 (lv_at hl 5 rfl) ?_
          refine lv_iload hx hb dX7_pairs_43 (lv_at hl 0 rfl) ?_
          refine h_if_eq hx hb 52 dX7_pairs_45 (by decide) (by decide) (fun _ => ?_) (fun z_ => absurd z_ (by decide))
          refine h_iconst hx hb dX7_pairs_52 ?_
          refine h_iadd hx hb dX7_pairs_53 ?_
          refine lv_istore (lv' := [(4, .int (iI ((k : Int) + 1))), (5, .int (iI (0))), (0, .ref fa), (1, .ref b), (2, .ref pa), (3, .int (iI (ch)))]) hx hb dX7_pairs_54 hl (by decide) rfl (fun ls hl => ?_)
          refine lv_goto (tgt := 3) hx hb dX7_pairs_56 (by decide) ?_
          exact ih_2 (k + 1) (C ++ [L.getD k 0]) w_23 (by omega) (by first | omega | (rw [List.length_append, List.length_singleton]; omega)) (app_cons (app_eq he (prs_no (by omega) hst))) hP_fa_w_23 hP_pa_w_23 hB__26 hU (by omega) _ _ _ hR hL (lv_sub hl [2, 3, 4, 5, 0] rfl)
  exact LOOP_2 _ 0 ([]) w (Nat.zero_le _) (Nat.zero_le _) rfl hS hP hB hU (Nat.lt_succ_self _) _ _ _ hR hL (lv_sub hl [1, 2, 3, 4, 0] rfl)

set_option maxHeartbeats 4000000 in
set_option maxRecDepth 100000 in
/-- SpokenMarks$Step$1.hear -/
theorem st_1 (l : Launch) (G : Gl) (w : Wd) (a : Nat) (fa b : Nat) (L : List Int) (hS : StrAt G w fa L) (hW : Wrd L) (hB : SbAt G w (b + 1) b 8 []) (hG : RegW w) : HMN l yX23_hear cX23_hear 3 none 7 0 0 G [.ref a, .ref fa, .ref b] w (QV G (fun w_ => SbAt G w_ (b + 1) b 8 (prs 112 104 102 L) ∧ Up (fun q_ => q_ = b + 1) w w_)) := by
  refine HMN.mk (by decide +kernel) (Nat.le_of_ble_eq_true rfl) ?_
  intro p9 e9 s9 m9 a9 b9 meth9 c9 ls X hret hlk hnm hl H hR
  have hx := X.1.1
  have hb := X.1.2.1
  have hl : lv_has ls 3 [(0, .ref a), (1, .ref fa), (2, .ref b)] := hl
  have hL : LK G [] := fun q h => absurd h List.not_mem_nil
  generalize ([] : List Loc) = locs at hL ⊢
  have hU : Up (fun q_ => q_ = b + 1) w w := Up.rf hG
  refine lv_aload_n hx hb dX23_hear_0 rfl (lv_at hl 1 rfl) ?_
  refine lv_aload_n hx hb dX23_hear_1 rfl (lv_at hl 2 rfl) ?_
  refine h_ldcS X 21 rfl q1444 dX23_hear_2 ?_
  have hcn_1 : StrAt G w (gC G 21) [112, 104] := StrAt.con hR X.2 21 (by decide) (by decide) (by decide +kernel)
  refine h_bipush hx hb dX23_hear_4 (by decide) ?_
  -- call SpokenMarks$Step.pairs
  refine h_kV (h_runSN X hR (st_pairs l G w fa b L hS hW hB (gC G 21) 112 104 102 hcn_1 (by decide) hU.2.2.1) pn_yX7_pairs q1445 q1446 q157 q1447 ⟨by decide, by decide⟩ hl.1 (Nat.le_of_ble_eq_true rfl) dX23_hear_6 ⟨by omega, by omega⟩) hL (fun w_3 hp_4 H locs hR hL => ?_)
  obtain ⟨hB__6, u_5⟩ := hp_4
  have hP_fa_w_3 := hS.mv (u_5.1) (by first | exact id | (intro q_; (try dsimp only at q_); omega))
  have hP_gC_G_21_w_3 := hcn_1.mv (u_5.1) (by first | exact id | (intro q_; (try dsimp only at q_); omega))
  have hU : Up (fun q_ => q_ = b + 1) w w_3 := hU.tr u_5 (fun q_ h_ => by first | exact absurd h_ id | exact Or.inl h_ | ((try dsimp only at h_); first | exact Or.inl (by omega) | exact Or.inr ⟨by omega, by subst h_; rw [Nat.add_sub_cancel]; assumption⟩)) hG
  exact h_vreturn hx hb hlk hret hR hL ⟨hB__6, hU⟩ (by omega) (by omega) rfl rfl dX23_hear_9

set_option maxHeartbeats 4000000 in
set_option maxRecDepth 100000 in
/-- SpokenMarks$Step$2.hear -/
theorem st_2 (l : Launch) (G : Gl) (w : Wd) (a : Nat) (fa b : Nat) (L : List Int) (hS : StrAt G w fa L) (hW : Wrd L) (hB : SbAt G w (b + 1) b 8 []) (hG : RegW w) : HMN l yX24_hear cX24_hear 3 none 7 0 0 G [.ref a, .ref fa, .ref b] w (QV G (fun w_ => SbAt G w_ (b + 1) b 8 (prs 99 107 107 L) ∧ Up (fun q_ => q_ = b + 1) w w_)) := by
  refine HMN.mk (by decide +kernel) (Nat.le_of_ble_eq_true rfl) ?_
  intro p9 e9 s9 m9 a9 b9 meth9 c9 ls X hret hlk hnm hl H hR
  have hx := X.1.1
  have hb := X.1.2.1
  have hl : lv_has ls 3 [(0, .ref a), (1, .ref fa), (2, .ref b)] := hl
  have hL : LK G [] := fun q h => absurd h List.not_mem_nil
  generalize ([] : List Loc) = locs at hL ⊢
  have hU : Up (fun q_ => q_ = b + 1) w w := Up.rf hG
  refine lv_aload_n hx hb dX24_hear_0 rfl (lv_at hl 1 rfl) ?_
  refine lv_aload_n hx hb dX24_hear_1 rfl (lv_at hl 2 rfl) ?_
  refine h_ldcS X 22 rfl q1494 dX24_hear_2 ?_
  have hcn_1 : StrAt G w (gC G 22) [99, 107] := StrAt.con hR X.2 22 (by decide) (by decide) (by decide +kernel)
  refine h_bipush hx hb dX24_hear_4 (by decide) ?_
  -- call SpokenMarks$Step.pairs
  refine h_kV (h_runSN X hR (st_pairs l G w fa b L hS hW hB (gC G 22) 99 107 107 hcn_1 (by decide) hU.2.2.1) pn_yX7_pairs q1495 q1446 q157 q1447 ⟨by decide, by decide⟩ hl.1 (Nat.le_of_ble_eq_true rfl) dX24_hear_6 ⟨by omega, by omega⟩) hL (fun w_3 hp_4 H locs hR hL => ?_)
  obtain ⟨hB__6, u_5⟩ := hp_4
  have hP_fa_w_3 := hS.mv (u_5.1) (by first | exact id | (intro q_; (try dsimp only at q_); omega))
  have hP_gC_G_22_w_3 := hcn_1.mv (u_5.1) (by first | exact id | (intro q_; (try dsimp only at q_); omega))
  have hU : Up (fun q_ => q_ = b + 1) w w_3 := hU.tr u_5 (fun q_ h_ => by first | exact absurd h_ id | exact Or.inl h_ | ((try dsimp only at h_); first | exact Or.inl (by omega) | exact Or.inr ⟨by omega, by subst h_; rw [Nat.add_sub_cancel]; assumption⟩)) hG
  exact h_vreturn hx hb hlk hret hR hL ⟨hB__6, hU⟩ (by omega) (by omega) rfl rfl dX24_hear_9

set_option maxHeartbeats 4000000 in
set_option maxRecDepth 100000 in
/-- SpokenMarks$Step$3.hear -/
theorem st_3 (l : Launch) (G : Gl) (w : Wd) (a : Nat) (fa b : Nat) (L : List Int) (hS : StrAt G w fa L) (hW : Wrd L) (hB : SbAt G w (b + 1) b 8 []) (hG : RegW w) : HMN l yX25_hear cX25_hear 4 none 7 0 0 G [.ref a, .ref fa, .ref b] w (QV G (fun w_ => SbAt G w_ (b + 1) b 8 (L.map hrd) ∧ Up (fun q_ => q_ = b + 1) w w_)) := by
  refine HMN.mk (by decide +kernel) (Nat.le_of_ble_eq_true rfl) ?_
  intro p9 e9 s9 m9 a9 b9 meth9 c9 ls X hret hlk hnm hl H hR
  have hx := X.1.1
  have hb := X.1.2.1
  have hl : lv_has ls 4 [(0, .ref a), (1, .ref fa), (2, .ref b)] := hl
  have hL : LK G [] := fun q h => absurd h List.not_mem_nil
  generalize ([] : List Loc) = locs at hL ⊢
  have hU : Up (fun q_ => q_ = b + 1) w w := Up.rf hG
  have h8 := hW.1
  refine h_iconst hx hb dX25_hear_0 ?_
  refine lv_istore_n (lv' := [(3, .int (iI (0))), (0, .ref a), (1, .ref fa), (2, .ref b)]) hx hb dX25_hear_1 rfl hl (by decide) rfl (fun ls hl => ?_)
  have LOOP_2 : ∀ (N_ : Nat) (k : Nat) (C : List Int)(w_1 : Wd) , (k ≤ L.length) → (C.length ≤ k) → (C ++ (L.drop k).map hrd = L.map hrd) → (StrAt G w_1 fa L) → (SbAt G w_1 (b + 1) b 8 C) → (Up (fun q_ => q_ = b + 1) w w_1) → (9 - k) < N_ → ∀ (H : Heap) (locs : List Loc) (ls : Array Slot), Rp G w_1 H → LK G locs → lv_has ls 4 [(0, .ref a), (1, .ref fa), (2, .ref b), (3, .int (iI ((k : Int))))] → W p9 l e9 (rmk 7 0 0) s9 m9 a9 b9 meth9 c9 H locs 0 0 (MQ b9 (QV G (fun w_ => SbAt G w_ (b + 1) b 8 (L.map hrd) ∧ Up (fun q_ => q_ = b + 1) w w_)) a9 s9 0 0 (frG G)) (F0 m9 2 ls []) := by
    intro N_
    induction N_ with
    | zero => intro _ _ _ _ _ _ _ _ _ h_; exact absurd h_ (Nat.not_lt_zero _)
    | succ N_ ih_ =>
      intro k C w_1 hk hc he hI_fa_w_1 hI_b_w_1 hU hN_ H locs ls hR hL hl
      have ih_2 := ih_
      clear ih_
      have hWk := fun hk_ => wrd_c hW (k := k) hk_
      refine lv_iload_n hx hb dX25_hear_2 rfl (lv_at hl 3 rfl) ?_
      refine lv_aload_n hx hb dX25_hear_3 rfl (lv_at hl 1 rfl) ?_
      -- call java/lang/String.length
      refine h_kIp (h_runV X hR (s_length l G w_1 fa L hI_fa_w_1) pn_yJ10_length (hI_fa_w_1.c) q1499 q373 q374 q132 q375 ⟨by decide, by decide⟩ hl.1 (Nat.le_of_ble_eq_true rfl) dX25_hear_4 ⟨by omega, by omega⟩) hL (fun H locs hR hL => ?_)
      refine h_icmp_ge hx hb 95 dX25_hear_7 (by decide) (by omega) (by omega) (fun c_k => ?_) (fun c_k => ?_)
      ·
        have hkk : k = L.length := by omega
        have hfin : C = L.map hrd := by rw [← he, hkk, List.drop_length]; exact (List.append_nil _).symm
        exact h_vreturn hx hb hlk hret hR hL ⟨by rw [← hfin]; exact hI_b_w_1, hU⟩ (by omega) (by omega) rfl rfl dX25_hear_95
      ·
        refine lv_aload_n hx hb dX25_hear_10 rfl (lv_at hl 2 rfl) ?_
        refine lv_aload_n hx hb dX25_hear_11 rfl (lv_at hl 1 rfl) ?_
        refine lv_iload_n hx hb dX25_hear_12 rfl (lv_at hl 3 rfl) ?_
        -- call java/lang/String.charAt
        refine h_kIp (h_runV X hR (s_charAt l G w_1 fa L hI_fa_w_1 k (by omega)) pn_yJ10_charAt (hI_fa_w_1.c) q1500 q1459 q1460 q132 q1461 ⟨by decide, by decide⟩ hl.1 (Nat.le_of_ble_eq_true rfl) dX25_hear_13 ⟨by omega, by omega⟩) hL (fun H locs hR hL => ?_)
        obtain ⟨v, hv⟩ : ∃ v : Int, v = L.getD k 0 := ⟨_, rfl⟩
        refine W.eq (g2 := F0 m9 16 ls [.int (iI (v)), .ref b]) (congrArg (fun z_ : Int => F0 m9 16 ls [.int (iI (z_)), .ref b]) (show (L.getD k 0 : Int) = v from (by exact hv.symm))) ?_
        by_cases c_9 : v = 99
        ·
          refine h_lookup hx hb 60 dX25_hear_16 (by have := hWk (by omega); omega) (by decide) (by rw [c_9] <;> rfl) (by decide) ?_
          refine h_bipush hx hb dX25_hear_60 (by decide) ?_
          refine lv_goto (tgt := 85) hx hb dX25_hear_62 (by decide) ?_
          refine W.eq (g2 := F0 m9 85 ls [.int (iI (hrd (L.getD k 0))), .ref b]) (congrArg (fun z_ : Int => F0 m9 85 ls [.int (iI (z_)), .ref b]) (show (107 : Int) = hrd (L.getD k 0) from (by unfold hrd; (repeat' split) <;> omega))) ?_
          -- call java/lang/StringBuilder.append
          refine h_kR (h_runV X hR (sbb_c0 l G w_1 (b + 1) b 8 C hI_b_w_1 hU.2.2.1 (Nat.succ_ne_zero _) (hrd (L.getD k 0)) (by have := hrd_ltr (hWk (by omega)); omega) (by omega)) pn_yJ9_append_3 (hI_b_w_1.c) q1501 q1479 q1480 q131 q1481 ⟨by decide, by decide⟩ hl.1 (Nat.le_of_ble_eq_true rfl) dX25_hear_85 ⟨by omega, by omega⟩) hL (fun z_10 w_11 hp_12 H locs hR hL => ?_)
          obtain ⟨hzq_15, hB__14, u_13⟩ := hp_12
          have hzq_15 := hzq_15.symm
          subst hzq_15
          have hP_fa_w_11 := hI_fa_w_1.mv (u_13.1) (by first | exact id | (intro q_; (try dsimp only at q_); omega))
          have hU : Up (fun q_ => q_ = b + 1) w w_11 := hU.tr u_13 (fun q_ h_ => by first | exact absurd h_ id | exact Or.inl h_ | ((try dsimp only at h_); first | exact Or.inl (by omega) | exact Or.inr ⟨by omega, by subst h_; rw [Nat.add_sub_cancel]; assumption⟩)) hG
          refine lv_pop hx hb dX25_hear_88 rfl ?_
          refine h_iinc (lv' := [(3, .int (iI ((k : Int) + 1))), (0, .ref a), (1, .ref fa), (2, .ref b)]) hx hb dX25_hear_89 hl (k := 3) rfl (by decide) rfl (fun ls hl => ?_)
          refine lv_goto (tgt := 2) hx hb dX25_hear_92 (by decide) ?_
          exact ih_2 (k + 1) (C ++ [hrd (L.getD k 0)]) w_11 (by omega) (by first | omega | (rw [List.length_append, List.length_singleton]; omega)) (app_cons (app_eq he (map_go (by omega)))) hP_fa_w_11 hB__14 hU (by omega) _ _ _ hR hL (lv_sub hl [1, 2, 3, 0] rfl)
        ·
          by_cases c_17 : v = 119
          ·
            refine h_lookup hx hb 75 dX25_hear_16 (by have := hWk (by omega); omega) (by decide) (by rw [c_17] <;> rfl) (by decide) ?_
            refine h_bipush hx hb dX25_hear_75 (by decide) ?_
            refine lv_goto (tgt := 85) hx hb dX25_hear_77 (by decide) ?_
            refine W.eq (g2 := F0 m9 85 ls [.int (iI (hrd (L.getD k 0))), .ref b]) (congrArg (fun z_ : Int => F0 m9 85 ls [.int (iI (z_)), .ref b]) (show (118 : Int) = hrd (L.getD k 0) from (by unfold hrd; (repeat' split) <;> omega))) ?_
            -- call java/lang/StringBuilder.append
            refine h_kR (h_runV X hR (sbb_c0 l G w_1 (b + 1) b 8 C hI_b_w_1 hU.2.2.1 (Nat.succ_ne_zero _) (hrd (L.getD k 0)) (by have := hrd_ltr (hWk (by omega)); omega) (by omega)) pn_yJ9_append_3 (hI_b_w_1.c) q1501 q1479 q1480 q131 q1481 ⟨by decide, by decide⟩ hl.1 (Nat.le_of_ble_eq_true rfl) dX25_hear_85 ⟨by omega, by omega⟩) hL (fun z_18 w_19 hp_20 H locs hR hL => ?_)
            obtain ⟨hzq_23, hB__22, u_21⟩ := hp_20
            have hzq_23 := hzq_23.symm
            subst hzq_23
            have hP_fa_w_19 := hI_fa_w_1.mv (u_21.1) (by first | exact id | (intro q_; (try dsimp only at q_); omega))
            have hU : Up (fun q_ => q_ = b + 1) w w_19 := hU.tr u_21 (fun q_ h_ => by first | exact absurd h_ id | exact Or.inl h_ | ((try dsimp only at h_); first | exact Or.inl (by omega) | exact Or.inr ⟨by omega, by subst h_; rw [Nat.add_sub_cancel]; assumption⟩)) hG
            refine lv_pop hx hb dX25_hear_88 rfl ?_
            refine h_iinc (lv' := [(3, .int (iI ((k : Int) + 1))), (0, .ref a), (1, .ref fa), (2, .ref b)]) hx hb dX25_hear_89 hl (k := 3) rfl (by decide) rfl (fun ls hl => ?_)
            refine lv_goto (tgt := 2) hx hb dX25_hear_92 (by decide) ?_
            exact ih_2 (k + 1) (C ++ [hrd (L.getD k 0)]) w_19 (by omega) (by first | omega | (rw [List.length_append, List.length_singleton]; omega)) (app_cons (app_eq he (map_go (by omega)))) hP_fa_w_19 hB__22 hU (by omega) _ _ _ hR hL (lv_sub hl [1, 2, 3, 0] rfl)
          ·
            by_cases c_25 : v = 121
            ·
              refine h_lookup hx hb 70 dX25_hear_16 (by have := hWk (by omega); omega) (by decide) (by rw [c_25] <;> rfl) (by decide) ?_
              refine h_bipush hx hb dX25_hear_70 (by decide) ?_
              refine lv_goto (tgt := 85) hx hb dX25_hear_72 (by decide) ?_
              refine W.eq (g2 := F0 m9 85 ls [.int (iI (hrd (L.getD k 0))), .ref b]) (congrArg (fun z_ : Int => F0 m9 85 ls [.int (iI (z_)), .ref b]) (show (105 : Int) = hrd (L.getD k 0) from (by unfold hrd; (repeat' split) <;> omega))) ?_
              -- call java/lang/StringBuilder.append
              refine h_kR (h_runV X hR (sbb_c0 l G w_1 (b + 1) b 8 C hI_b_w_1 hU.2.2.1 (Nat.succ_ne_zero _) (hrd (L.getD k 0)) (by have := hrd_ltr (hWk (by omega)); omega) (by omega)) pn_yJ9_append_3 (hI_b_w_1.c) q1501 q1479 q1480 q131 q1481 ⟨by decide, by decide⟩ hl.1 (Nat.le_of_ble_eq_true rfl) dX25_hear_85 ⟨by omega, by omega⟩) hL (fun z_26 w_27 hp_28 H locs hR hL => ?_)
              obtain ⟨hzq_31, hB__30, u_29⟩ := hp_28
              have hzq_31 := hzq_31.symm
              subst hzq_31
              have hP_fa_w_27 := hI_fa_w_1.mv (u_29.1) (by first | exact id | (intro q_; (try dsimp only at q_); omega))
              have hU : Up (fun q_ => q_ = b + 1) w w_27 := hU.tr u_29 (fun q_ h_ => by first | exact absurd h_ id | exact Or.inl h_ | ((try dsimp only at h_); first | exact Or.inl (by omega) | exact Or.inr ⟨by omega, by subst h_; rw [Nat.add_sub_cancel]; assumption⟩)) hG
              refine lv_pop hx hb dX25_hear_88 rfl ?_
              refine h_iinc (lv' := [(3, .int (iI ((k : Int) + 1))), (0, .ref a), (1, .ref fa), (2, .ref b)]) hx hb dX25_hear_89 hl (k := 3) rfl (by decide) rfl (fun ls hl => ?_)
              refine lv_goto (tgt := 2) hx hb dX25_hear_92 (by decide) ?_
              exact ih_2 (k + 1) (C ++ [hrd (L.getD k 0)]) w_27 (by omega) (by first | omega | (rw [List.length_append, List.length_singleton]; omega)) (app_cons (app_eq he (map_go (by omega)))) hP_fa_w_27 hB__30 hU (by omega) _ _ _ hR hL (lv_sub hl [1, 2, 3, 0] rfl)
            ·
              by_cases c_33 : v = 122
              ·
                refine h_lookup hx hb 65 dX25_hear_16 (by have := hWk (by omega); omega) (by decide) (by rw [c_33] <;> rfl) (by decide) ?_
                refine h_bipush hx hb dX25_hear_65 (by decide) ?_
                refine lv_goto (tgt := 85) hx hb dX25_hear_67 (by decide) ?_
                refine W.eq (g2 := F0 m9 85 ls [.int (iI (hrd (L.getD k 0))), .ref b]) (congrArg (fun z_ : Int => F0 m9 85 ls [.int (iI (z_)), .ref b]) (show (115 : Int) = hrd (L.getD k 0) from (by unfold hrd; (repeat' split) <;> omega))) ?_
                -- call java/lang/StringBuilder.append
                refine h_kR (h_runV X hR (sbb_c0 l G w_1 (b + 1) b 8 C hI_b_w_1 hU.2.2.1 (Nat.succ_ne_zero _) (hrd (L.getD k 0)) (by have := hrd_ltr (hWk (by omega)); omega) (by omega)) pn_yJ9_append_3 (hI_b_w_1.c) q1501 q1479 q1480 q131 q1481 ⟨by decide, by decide⟩ hl.1 (Nat.le_of_ble_eq_true rfl) dX25_hear_85 ⟨by omega, by omega⟩) hL (fun z_34 w_35 hp_36 H locs hR hL => ?_)
                obtain ⟨hzq_39, hB__38, u_37⟩ := hp_36
                have hzq_39 := hzq_39.symm
                subst hzq_39
                have hP_fa_w_35 := hI_fa_w_1.mv (u_37.1) (by first | exact id | (intro q_; (try dsimp only at q_); omega))
                have hU : Up (fun q_ => q_ = b + 1) w w_35 := hU.tr u_37 (fun q_ h_ => by first | exact absurd h_ id | exact Or.inl h_ | ((try dsimp only at h_); first | exact Or.inl (by omega) | exact Or.inr ⟨by omega, by subst h_; rw [Nat.add_sub_cancel]; assumption⟩)) hG
                refine lv_pop hx hb dX25_hear_88 rfl ?_
                refine h_iinc (lv' := [(3, .int (iI ((k : Int) + 1))), (0, .ref a), (1, .ref fa), (2, .ref b)]) hx hb dX25_hear_89 hl (k := 3) rfl (by decide) rfl (fun ls hl => ?_)
                refine lv_goto (tgt := 2) hx hb dX25_hear_92 (by decide) ?_
                exact ih_2 (k + 1) (C ++ [hrd (L.getD k 0)]) w_35 (by omega) (by first | omega | (rw [List.length_append, List.length_singleton]; omega)) (app_cons (app_eq he (map_go (by omega)))) hP_fa_w_35 hB__38 hU (by omega) _ _ _ hR hL (lv_sub hl [1, 2, 3, 0] rfl)
              ·
                refine h_lookup (off := 64) hx hb 80 dX25_hear_16 (by have := hWk (by omega); omega) (by decide) (by simp [Op.lookupswitch.offset]; (repeat' split) <;> omega) (by decide) ?_
                refine lv_aload_n hx hb dX25_hear_80 rfl (lv_at hl 1 rfl) ?_
                refine lv_iload_n hx hb dX25_hear_81 rfl (lv_at hl 3 rfl) ?_
                -- call java/lang/String.charAt
                refine h_kIp (h_runV X hR (s_charAt l G w_1 fa L hI_fa_w_1 k (by omega)) pn_yJ10_charAt (hI_fa_w_1.c) q1500 q1459 q1460 q132 q1461 ⟨by decide, by decide⟩ hl.1 (Nat.le_of_ble_eq_true rfl) dX25_hear_82 ⟨by omega, by omega⟩) hL (fun H locs hR hL => ?_)
                refine W.eq (g2 := F0 m9 85 ls [.int (iI (hrd (L.getD k 0))), .ref b]) (congrArg (fun z_ : Int => F0 m9 85 ls [.int (iI (z_)), .ref b]) (show (L.getD k 0 : Int) = hrd (L.getD k 0) from (by unfold hrd; (repeat' split) <;> omega))) ?_
                -- call java/lang/StringBuilder.append
                refine h_kR (h_runV X hR (sbb_c0 l G w_1 (b + 1) b 8 C hI_b_w_1 hU.2.2.1 (Nat.succ_ne_zero _) (hrd (L.getD k 0)) (by have := hrd_ltr (hWk (by omega)); omega) (by omega)) pn_yJ9_append_3 (hI_b_w_1.c) q1501 q1479 q1480 q131 q1481 ⟨by decide, by decide⟩ hl.1 (Nat.le_of_ble_eq_true rfl) dX25_hear_85 ⟨by omega, by omega⟩) hL (fun z_45 w_46 hp_47 H locs hR hL => ?_)
                obtain ⟨hzq_50, hB__49, u_48⟩ := hp_47
                have hzq_50 := hzq_50.symm
                subst hzq_50
                have hP_fa_w_46 := hI_fa_w_1.mv (u_48.1) (by first | exact id | (intro q_; (try dsimp only at q_); omega))
                have hU : Up (fun q_ => q_ = b + 1) w w_46 := hU.tr u_48 (fun q_ h_ => by first | exact absurd h_ id | exact Or.inl h_ | ((try dsimp only at h_); first | exact Or.inl (by omega) | exact Or.inr ⟨by omega, by subst h_; rw [Nat.add_sub_cancel]; assumption⟩)) hG
                refine lv_pop hx hb dX25_hear_88 rfl ?_
                refine h_iinc (lv' := [(3, .int (iI ((k : Int) + 1))), (0, .ref a), (1, .ref fa), (2, .ref b)]) hx hb dX25_hear_89 hl (k := 3) rfl (by decide) rfl (fun ls hl => ?_)
                refine lv_goto (tgt := 2) hx hb dX25_hear_92 (by decide) ?_
                exact ih_2 (k + 1) (C ++ [hrd (L.getD k 0)]) w_46 (by omega) (by first | omega | (rw [List.length_append, List.length_singleton]; omega)) (app_cons (app_eq he (map_go (by omega)))) hP_fa_w_46 hB__49 hU (by omega) _ _ _ hR hL (lv_sub hl [1, 2, 3, 0] rfl)
  exact LOOP_2 _ 0 ([]) w (Nat.zero_le _) (Nat.zero_le _) rfl hS hB hU (Nat.lt_succ_self _) _ _ _ hR hL (lv_sub hl [1, 2, 3, 0] rfl)

set_option maxHeartbeats 4000000 in
set_option maxRecDepth 100000 in
/-- SpokenMarks$Step$4.hear -/
theorem st_4 (l : Launch) (G : Gl) (w : Wd) (a : Nat) (fa b : Nat) (L : List Int) (hS : StrAt G w fa L) (hW : Wrd L) (hB : SbAt G w (b + 1) b 8 []) (hG : RegW w) : HMN l yX26_hear cX26_hear 4 none 7 0 0 G [.ref a, .ref fa, .ref b] w (QV G (fun w_ => SbAt G w_ (b + 1) b 8 (sil L) ∧ Up (fun q_ => q_ = b + 1) w w_)) := by
  refine HMN.mk (by decide +kernel) (Nat.le_of_ble_eq_true rfl) ?_
  intro p9 e9 s9 m9 a9 b9 meth9 c9 ls X hret hlk hnm hl H hR
  have hx := X.1.1
  have hb := X.1.2.1
  have hl : lv_has ls 4 [(0, .ref a), (1, .ref fa), (2, .ref b)] := hl
  have hL : LK G [] := fun q h => absurd h List.not_mem_nil
  generalize ([] : List Loc) = locs at hL ⊢
  have hU : Up (fun q_ => q_ = b + 1) w w := Up.rf hG
  have h8 := hW.1
  refine h_iconst hx hb dX26_hear_0 ?_
  refine lv_istore_n (lv' := [(3, .int (iI (0))), (0, .ref a), (1, .ref fa), (2, .ref b)]) hx hb dX26_hear_1 rfl hl (by decide) rfl (fun ls hl => ?_)
  have LOOP_2 : ∀ (N_ : Nat) (k : Nat) (C : List Int)(w_1 : Wd) , (k ≤ L.length) → (C.length ≤ k) → (C ++ silA L k = sil L) → (StrAt G w_1 fa L) → (SbAt G w_1 (b + 1) b 8 C) → (Up (fun q_ => q_ = b + 1) w w_1) → (9 - k) < N_ → ∀ (H : Heap) (locs : List Loc) (ls : Array Slot), Rp G w_1 H → LK G locs → lv_has ls 4 [(0, .ref a), (1, .ref fa), (2, .ref b), (3, .int (iI ((k : Int))))] → W p9 l e9 (rmk 7 0 0) s9 m9 a9 b9 meth9 c9 H locs 0 0 (MQ b9 (QV G (fun w_ => SbAt G w_ (b + 1) b 8 (sil L) ∧ Up (fun q_ => q_ = b + 1) w w_)) a9 s9 0 0 (frG G)) (F0 m9 2 ls []) := by
    intro N_
    induction N_ with
    | zero => intro _ _ _ _ _ _ _ _ _ h_; exact absurd h_ (Nat.not_lt_zero _)
    | succ N_ ih_ =>
      intro k C w_1 hk hc he hI_fa_w_1 hI_b_w_1 hU hN_ H locs ls hR hL hl
      have ih_2 := ih_
      clear ih_
      have hWk := fun hk_ => wrd_c hW (k := k) hk_
      refine lv_iload_n hx hb dX26_hear_2 rfl (lv_at hl 3 rfl) ?_
      refine lv_aload_n hx hb dX26_hear_3 rfl (lv_at hl 1 rfl) ?_
      -- call java/lang/String.length
      refine h_kIp (h_runV X hR (s_length l G w_1 fa L hI_fa_w_1) pn_yJ10_length (hI_fa_w_1.c) q1505 q373 q374 q132 q375 ⟨by decide, by decide⟩ hl.1 (Nat.le_of_ble_eq_true rfl) dX26_hear_4 ⟨by omega, by omega⟩) hL (fun H locs hR hL => ?_)
      refine h_icmp_ge hx hb 40 dX26_hear_7 (by decide) (by omega) (by omega) (fun c_k => ?_) (fun c_k => ?_)
      ·
        have hfin : C = sil L := by rw [← he, sil_e (by omega)]; exact (List.append_nil _).symm
        exact h_vreturn hx hb hlk hret hR hL ⟨by rw [← hfin]; exact hI_b_w_1, hU⟩ (by omega) (by omega) rfl rfl dX26_hear_40
      ·
        refine lv_iload_n hx hb dX26_hear_10 rfl (lv_at hl 3 rfl) ?_
        refine h_if_eq hx hb 24 dX26_hear_11 (by decide) (by omega) (fun c_0 => ?_) (fun c_0 => ?_)
        ·
          have hyy : k = 0 ∨ L.getD k 0 ≠ 104 := by first | exact Or.inr c_1 | exact Or.inl (by omega)
          refine lv_aload_n hx hb dX26_hear_24 rfl (lv_at hl 2 rfl) ?_
          refine lv_aload_n hx hb dX26_hear_25 rfl (lv_at hl 1 rfl) ?_
          refine lv_iload_n hx hb dX26_hear_26 rfl (lv_at hl 3 rfl) ?_
          -- call java/lang/String.charAt
          refine h_kIp (h_runV X hR (s_charAt l G w_1 fa L hI_fa_w_1 k (by omega)) pn_yJ10_charAt (hI_fa_w_1.c) q1506 q1459 q1460 q132 q1461 ⟨by decide, by decide⟩ hl.1 (Nat.le_of_ble_eq_true rfl) dX26_hear_27 ⟨by omega, by omega⟩) hL (fun H locs hR hL => ?_)
          -- call java/lang/StringBuilder.append
          refine h_kR (h_runV X hR (sbb_c0 l G w_1 (b + 1) b 8 C hI_b_w_1 hU.2.2.1 (Nat.succ_ne_zero _) (L.getD k 0) (by have := hWk (by omega); omega) (by omega)) pn_yJ9_append_3 (hI_b_w_1.c) q1507 q1479 q1480 q131 q1481 ⟨by decide, by decide⟩ hl.1 (Nat.le_of_ble_eq_true rfl) dX26_hear_30 ⟨by omega, by omega⟩) hL (fun z_9 w_10 hp_11 H locs hR hL => ?_)
          obtain ⟨hzq_14, hB__13, u_12⟩ := hp_11
          have hzq_14 := hzq_14.symm
          subst hzq_14
          have hP_fa_w_10 := hI_fa_w_1.mv (u_12.1) (by first | exact id | (intro q_; (try dsimp only at q_); omega))
          have hU : Up (fun q_ => q_ = b + 1) w w_10 := hU.tr u_12 (fun q_ h_ => by first | exact absurd h_ id | exact Or.inl h_ | ((try dsimp only at h_); first | exact Or.inl (by omega) | exact Or.inr ⟨by omega, by subst h_; rw [Nat.add_sub_cancel]; assumption⟩)) hG
          refine lv_pop hx hb dX26_hear_33 rfl ?_
          refine h_iinc (lv' := [(3, .int (iI ((k : Int) + 1))), (0, .ref a), (1, .ref fa), (2, .ref b)]) hx hb dX26_hear_34 hl (k := 3) rfl (by decide) rfl (fun ls hl => ?_)
          refine lv_goto (tgt := 2) hx hb dX26_hear_37 (by decide) ?_
          exact ih_2 (k + 1) (C ++ [L.getD k 0]) w_10 (by omega) (by first | omega | (rw [List.length_append, List.length_singleton]; omega)) (app_cons (app_eq he (sil_y (by omega) hyy))) hP_fa_w_10 hB__13 hU (by omega) _ _ _ hR hL (lv_sub hl [1, 2, 3, 0] rfl)
        ·
          refine lv_aload_n hx hb dX26_hear_14 rfl (lv_at hl 1 rfl) ?_
          refine lv_iload_n hx hb dX26_hear_15 rfl (lv_at hl 3 rfl) ?_
          -- call java/lang/String.charAt
          refine h_kIp (h_runV X hR (s_charAt l G w_1 fa L hI_fa_w_1 k (by omega)) pn_yJ10_charAt (hI_fa_w_1.c) q1506 q1459 q1460 q132 q1461 ⟨by decide, by decide⟩ hl.1 (Nat.le_of_ble_eq_true rfl) dX26_hear_16 ⟨by omega, by omega⟩) hL (fun H locs hR hL => ?_)
          refine h_bipush hx hb dX26_hear_19 (by decide) ?_
          refine h_icmp_eq hx hb 34 dX26_hear_21 (by decide) (by have := hWk (by omega); omega) (by decide) (fun c_1 => ?_) (fun c_1 => ?_)
          ·
            have hyy : ¬ (k = 0 ∨ L.getD k 0 ≠ 104) := fun q_ => by rcases q_ with q_ | q_; omega; exact q_ c_1
            refine h_iinc (lv' := [(3, .int (iI ((k : Int) + 1))), (0, .ref a), (1, .ref fa), (2, .ref b)]) hx hb dX26_hear_34 hl (k := 3) rfl (by decide) rfl (fun ls hl => ?_)
            refine lv_goto (tgt := 2) hx hb dX26_hear_37 (by decide) ?_
            exact ih_2 (k + 1) C w_1 (by omega) (by first | omega | (rw [List.length_append, List.length_singleton]; omega)) (app_eq he (sil_n (by omega) hyy)) hI_fa_w_1 hI_b_w_1 hU (by omega) _ _ _ hR hL (lv_sub hl [1, 2, 3, 0] rfl)
          ·
            have hyy : k = 0 ∨ L.getD k 0 ≠ 104 := by first | exact Or.inr c_1 | exact Or.inl (by omega)
            refine lv_aload_n hx hb dX26_hear_24 rfl (lv_at hl 2 rfl) ?_
            refine lv_aload_n hx hb dX26_hear_25 rfl (lv_at hl 1 rfl) ?_
            refine lv_iload_n hx hb dX26_hear_26 rfl (lv_at hl 3 rfl) ?_
            -- call java/lang/String.charAt
            refine h_kIp (h_runV X hR (s_charAt l G w_1 fa L hI_fa_w_1 k (by omega)) pn_yJ10_charAt (hI_fa_w_1.c) q1506 q1459 q1460 q132 q1461 ⟨by decide, by decide⟩ hl.1 (Nat.le_of_ble_eq_true rfl) dX26_hear_27 ⟨by omega, by omega⟩) hL (fun H locs hR hL => ?_)
            -- call java/lang/StringBuilder.append
            refine h_kR (h_runV X hR (sbb_c0 l G w_1 (b + 1) b 8 C hI_b_w_1 hU.2.2.1 (Nat.succ_ne_zero _) (L.getD k 0) (by have := hWk (by omega); omega) (by omega)) pn_yJ9_append_3 (hI_b_w_1.c) q1507 q1479 q1480 q131 q1481 ⟨by decide, by decide⟩ hl.1 (Nat.le_of_ble_eq_true rfl) dX26_hear_30 ⟨by omega, by omega⟩) hL (fun z_23 w_24 hp_25 H locs hR hL => ?_)
            obtain ⟨hzq_28, hB__27, u_26⟩ := hp_25
            have hzq_28 := hzq_28.symm
            subst hzq_28
            have hP_fa_w_24 := hI_fa_w_1.mv (u_26.1) (by first | exact id | (intro q_; (try dsimp only at q_); omega))
            have hU : Up (fun q_ => q_ = b + 1) w w_24 := hU.tr u_26 (fun q_ h_ => by first | exact absurd h_ id | exact Or.inl h_ | ((try dsimp only at h_); first | exact Or.inl (by omega) | exact Or.inr ⟨by omega, by subst h_; rw [Nat.add_sub_cancel]; assumption⟩)) hG
            refine lv_pop hx hb dX26_hear_33 rfl ?_
            refine h_iinc (lv' := [(3, .int (iI ((k : Int) + 1))), (0, .ref a), (1, .ref fa), (2, .ref b)]) hx hb dX26_hear_34 hl (k := 3) rfl (by decide) rfl (fun ls hl => ?_)
            refine lv_goto (tgt := 2) hx hb dX26_hear_37 (by decide) ?_
            exact ih_2 (k + 1) (C ++ [L.getD k 0]) w_24 (by omega) (by first | omega | (rw [List.length_append, List.length_singleton]; omega)) (app_cons (app_eq he (sil_y (by omega) hyy))) hP_fa_w_24 hB__27 hU (by omega) _ _ _ hR hL (lv_sub hl [1, 2, 3, 0] rfl)
  exact LOOP_2 _ 0 ([]) w (Nat.zero_le _) (Nat.zero_le _) (show [] ++ silA L 0 = sil L from rfl) hS hB hU (Nat.lt_succ_self _) _ _ _ hR hL (lv_sub hl [1, 2, 3, 0] rfl)

set_option maxHeartbeats 4000000 in
set_option maxRecDepth 100000 in
/-- SpokenMarks$Step$5.hear -/
theorem st_5 (l : Launch) (G : Gl) (w : Wd) (a : Nat) (fa b : Nat) (L : List Int) (hS : StrAt G w fa L) (hW : Wrd L) (hB : SbAt G w (b + 1) b 8 []) (hG : RegW w) : HMN l yX27_hear cX27_hear 4 none 7 0 0 G [.ref a, .ref fa, .ref b] w (QV G (fun w_ => SbAt G w_ (b + 1) b 8 (rns L) ∧ Up (fun q_ => q_ = b + 1) w w_)) := by
  refine HMN.mk (by decide +kernel) (Nat.le_of_ble_eq_true rfl) ?_
  intro p9 e9 s9 m9 a9 b9 meth9 c9 ls X hret hlk hnm hl H hR
  have hx := X.1.1
  have hb := X.1.2.1
  have hl : lv_has ls 4 [(0, .ref a), (1, .ref fa), (2, .ref b)] := hl
  have hL : LK G [] := fun q h => absurd h List.not_mem_nil
  generalize ([] : List Loc) = locs at hL ⊢
  have hU : Up (fun q_ => q_ = b + 1) w w := Up.rf hG
  have h8 := hW.1
  refine h_iconst hx hb dX27_hear_0 ?_
  refine lv_istore_n (lv' := [(3, .int (iI (0))), (0, .ref a), (1, .ref fa), (2, .ref b)]) hx hb dX27_hear_1 rfl hl (by decide) rfl (fun ls hl => ?_)
  have LOOP_2 : ∀ (N_ : Nat) (k : Nat) (C : List Int)(w_1 : Wd) , (k ≤ L.length) → (C.length ≤ k) → (C ++ rnsA L k = rns L) → (StrAt G w_1 fa L) → (SbAt G w_1 (b + 1) b 8 C) → (Up (fun q_ => q_ = b + 1) w w_1) → (9 - k) < N_ → ∀ (H : Heap) (locs : List Loc) (ls : Array Slot), Rp G w_1 H → LK G locs → lv_has ls 4 [(0, .ref a), (1, .ref fa), (2, .ref b), (3, .int (iI ((k : Int))))] → W p9 l e9 (rmk 7 0 0) s9 m9 a9 b9 meth9 c9 H locs 0 0 (MQ b9 (QV G (fun w_ => SbAt G w_ (b + 1) b 8 (rns L) ∧ Up (fun q_ => q_ = b + 1) w w_)) a9 s9 0 0 (frG G)) (F0 m9 2 ls []) := by
    intro N_
    induction N_ with
    | zero => intro _ _ _ _ _ _ _ _ _ h_; exact absurd h_ (Nat.not_lt_zero _)
    | succ N_ ih_ =>
      intro k C w_1 hk hc he hI_fa_w_1 hI_b_w_1 hU hN_ H locs ls hR hL hl
      have ih_2 := ih_
      clear ih_
      have hWk := fun hk_ => wrd_c hW (k := k) hk_
      refine lv_iload_n hx hb dX27_hear_2 rfl (lv_at hl 3 rfl) ?_
      refine lv_aload_n hx hb dX27_hear_3 rfl (lv_at hl 1 rfl) ?_
      -- call java/lang/String.length
      refine h_kIp (h_runV X hR (s_length l G w_1 fa L hI_fa_w_1) pn_yJ10_length (hI_fa_w_1.c) q1511 q373 q374 q132 q375 ⟨by decide, by decide⟩ hl.1 (Nat.le_of_ble_eq_true rfl) dX27_hear_4 ⟨by omega, by omega⟩) hL (fun H locs hR hL => ?_)
      refine h_icmp_ge hx hb 45 dX27_hear_7 (by decide) (by omega) (by omega) (fun c_k => ?_) (fun c_k => ?_)
      ·
        have hfin : C = rns L := by rw [← he, rns_e (by omega)]; exact (List.append_nil _).symm
        exact h_vreturn hx hb hlk hret hR hL ⟨by rw [← hfin]; exact hI_b_w_1, hU⟩ (by omega) (by omega) rfl rfl dX27_hear_45
      ·
        refine lv_iload_n hx hb dX27_hear_10 rfl (lv_at hl 3 rfl) ?_
        refine h_if_eq hx hb 29 dX27_hear_11 (by decide) (by omega) (fun c_0 => ?_) (fun c_0 => ?_)
        ·
          have hyy : k = 0 ∨ L.getD k 0 ≠ L.getD (k - 1) 0 := by first | exact Or.inr c_1 | exact Or.inl (by omega)
          refine lv_aload_n hx hb dX27_hear_29 rfl (lv_at hl 2 rfl) ?_
          refine lv_aload_n hx hb dX27_hear_30 rfl (lv_at hl 1 rfl) ?_
          refine lv_iload_n hx hb dX27_hear_31 rfl (lv_at hl 3 rfl) ?_
          -- call java/lang/String.charAt
          refine h_kIp (h_runV X hR (s_charAt l G w_1 fa L hI_fa_w_1 k (by omega)) pn_yJ10_charAt (hI_fa_w_1.c) q1512 q1459 q1460 q132 q1461 ⟨by decide, by decide⟩ hl.1 (Nat.le_of_ble_eq_true rfl) dX27_hear_32 ⟨by omega, by omega⟩) hL (fun H locs hR hL => ?_)
          -- call java/lang/StringBuilder.append
          refine h_kR (h_runV X hR (sbb_c0 l G w_1 (b + 1) b 8 C hI_b_w_1 hU.2.2.1 (Nat.succ_ne_zero _) (L.getD k 0) (by have := hWk (by omega); omega) (by omega)) pn_yJ9_append_3 (hI_b_w_1.c) q1513 q1479 q1480 q131 q1481 ⟨by decide, by decide⟩ hl.1 (Nat.le_of_ble_eq_true rfl) dX27_hear_35 ⟨by omega, by omega⟩) hL (fun z_9 w_10 hp_11 H locs hR hL => ?_)
          obtain ⟨hzq_14, hB__13, u_12⟩ := hp_11
          have hzq_14 := hzq_14.symm
          subst hzq_14
          have hP_fa_w_10 := hI_fa_w_1.mv (u_12.1) (by first | exact id | (intro q_; (try dsimp only at q_); omega))
          have hU : Up (fun q_ => q_ = b + 1) w w_10 := hU.tr u_12 (fun q_ h_ => by first | exact absurd h_ id | exact Or.inl h_ | ((try dsimp only at h_); first | exact Or.inl (by omega) | exact Or.inr ⟨by omega, by subst h_; rw [Nat.add_sub_cancel]; assumption⟩)) hG
          refine lv_pop hx hb dX27_hear_38 rfl ?_
          refine h_iinc (lv' := [(3, .int (iI ((k : Int) + 1))), (0, .ref a), (1, .ref fa), (2, .ref b)]) hx hb dX27_hear_39 hl (k := 3) rfl (by decide) rfl (fun ls hl => ?_)
          refine lv_goto (tgt := 2) hx hb dX27_hear_42 (by decide) ?_
          exact ih_2 (k + 1) (C ++ [L.getD k 0]) w_10 (by omega) (by first | omega | (rw [List.length_append, List.length_singleton]; omega)) (app_cons (app_eq he (rns_y (by omega) hyy))) hP_fa_w_10 hB__13 hU (by omega) _ _ _ hR hL (lv_sub hl [1, 2, 3, 0] rfl)
        ·
          refine lv_aload_n hx hb dX27_hear_14 rfl (lv_at hl 1 rfl) ?_
          refine lv_iload_n hx hb dX27_hear_15 rfl (lv_at hl 3 rfl) ?_
          -- call java/lang/String.charAt
          refine h_kIp (h_runV X hR (s_charAt l G w_1 fa L hI_fa_w_1 k (by omega)) pn_yJ10_charAt (hI_fa_w_1.c) q1512 q1459 q1460 q132 q1461 ⟨by decide, by decide⟩ hl.1 (Nat.le_of_ble_eq_true rfl) dX27_hear_16 ⟨by omega, by omega⟩) hL (fun H locs hR hL => ?_)
          refine lv_aload_n hx hb dX27_hear_19 rfl (lv_at hl 1 rfl) ?_
          refine lv_iload_n hx hb dX27_hear_20 rfl (lv_at hl 3 rfl) ?_
          refine h_iconst hx hb dX27_hear_21 ?_
          refine h_isub hx hb dX27_hear_22 ?_
          refine W.eq (g2 := F0 m9 23 ls [.int (iI (((k - 1 : Nat) : Int))), .ref fa, .int (iI (L.getD k 0))]) (congrArg (fun z_ : Int => F0 m9 23 ls [.int (iI (z_)), .ref fa, .int (iI (L.getD k 0))]) (show (((k : Int)) - 1 : Int) = ((k - 1 : Nat) : Int) from (by omega))) ?_
          -- call java/lang/String.charAt
          refine h_kIp (h_runV X hR (s_charAt l G w_1 fa L hI_fa_w_1 (k - 1) (by omega)) pn_yJ10_charAt (hI_fa_w_1.c) q1512 q1459 q1460 q132 q1461 ⟨by decide, by decide⟩ hl.1 (Nat.le_of_ble_eq_true rfl) dX27_hear_23 ⟨by omega, by omega⟩) hL (fun H locs hR hL => ?_)
          refine h_icmp_eq hx hb 39 dX27_hear_26 (by decide) (by have := hWk (by omega); omega) (by have := wrd_c hW (k := k - 1) (by omega); omega) (fun c_1 => ?_) (fun c_1 => ?_)
          ·
            have hyy : ¬ (k = 0 ∨ L.getD k 0 ≠ L.getD (k - 1) 0) := fun q_ => by rcases q_ with q_ | q_; omega; exact q_ c_1
            refine h_iinc (lv' := [(3, .int (iI ((k : Int) + 1))), (0, .ref a), (1, .ref fa), (2, .ref b)]) hx hb dX27_hear_39 hl (k := 3) rfl (by decide) rfl (fun ls hl => ?_)
            refine lv_goto (tgt := 2) hx hb dX27_hear_42 (by decide) ?_
            exact ih_2 (k + 1) C w_1 (by omega) (by first | omega | (rw [List.length_append, List.length_singleton]; omega)) (app_eq he (rns_n (by omega) hyy)) hI_fa_w_1 hI_b_w_1 hU (by omega) _ _ _ hR hL (lv_sub hl [1, 2, 3, 0] rfl)
          ·
            have hyy : k = 0 ∨ L.getD k 0 ≠ L.getD (k - 1) 0 := by first | exact Or.inr c_1 | exact Or.inl (by omega)
            refine lv_aload_n hx hb dX27_hear_29 rfl (lv_at hl 2 rfl) ?_
            refine lv_aload_n hx hb dX27_hear_30 rfl (lv_at hl 1 rfl) ?_
            refine lv_iload_n hx hb dX27_hear_31 rfl (lv_at hl 3 rfl) ?_
            -- call java/lang/String.charAt
            refine h_kIp (h_runV X hR (s_charAt l G w_1 fa L hI_fa_w_1 k (by omega)) pn_yJ10_charAt (hI_fa_w_1.c) q1512 q1459 q1460 q132 q1461 ⟨by decide, by decide⟩ hl.1 (Nat.le_of_ble_eq_true rfl) dX27_hear_32 ⟨by omega, by omega⟩) hL (fun H locs hR hL => ?_)
            -- call java/lang/StringBuilder.append
            refine h_kR (h_runV X hR (sbb_c0 l G w_1 (b + 1) b 8 C hI_b_w_1 hU.2.2.1 (Nat.succ_ne_zero _) (L.getD k 0) (by have := hWk (by omega); omega) (by omega)) pn_yJ9_append_3 (hI_b_w_1.c) q1513 q1479 q1480 q131 q1481 ⟨by decide, by decide⟩ hl.1 (Nat.le_of_ble_eq_true rfl) dX27_hear_35 ⟨by omega, by omega⟩) hL (fun z_26 w_27 hp_28 H locs hR hL => ?_)
            obtain ⟨hzq_31, hB__30, u_29⟩ := hp_28
            have hzq_31 := hzq_31.symm
            subst hzq_31
            have hP_fa_w_27 := hI_fa_w_1.mv (u_29.1) (by first | exact id | (intro q_; (try dsimp only at q_); omega))
            have hU : Up (fun q_ => q_ = b + 1) w w_27 := hU.tr u_29 (fun q_ h_ => by first | exact absurd h_ id | exact Or.inl h_ | ((try dsimp only at h_); first | exact Or.inl (by omega) | exact Or.inr ⟨by omega, by subst h_; rw [Nat.add_sub_cancel]; assumption⟩)) hG
            refine lv_pop hx hb dX27_hear_38 rfl ?_
            refine h_iinc (lv' := [(3, .int (iI ((k : Int) + 1))), (0, .ref a), (1, .ref fa), (2, .ref b)]) hx hb dX27_hear_39 hl (k := 3) rfl (by decide) rfl (fun ls hl => ?_)
            refine lv_goto (tgt := 2) hx hb dX27_hear_42 (by decide) ?_
            exact ih_2 (k + 1) (C ++ [L.getD k 0]) w_27 (by omega) (by first | omega | (rw [List.length_append, List.length_singleton]; omega)) (app_cons (app_eq he (rns_y (by omega) hyy))) hP_fa_w_27 hB__30 hU (by omega) _ _ _ hR hL (lv_sub hl [1, 2, 3, 0] rfl)
  exact LOOP_2 _ 0 ([]) w (Nat.zero_le _) (Nat.zero_le _) (show [] ++ rnsA L 0 = rns L from rfl) hS hB hU (Nat.lt_succ_self _) _ _ _ hR hL (lv_sub hl [1, 2, 3, 0] rfl)

set_option maxHeartbeats 4000000 in
set_option maxRecDepth 100000 in
/-- SpokenMarks$Step.values -/
theorem st_values (l : Launch) (G : Gl) (w : Wd) (hG : RegW w) : HM l yX7_values cX7_values 0 (some (.array (.object "SpokenMarks$Step"))) 2 1 5 G [] w (QR G (fun z_ w_ => w z_ = none ∧ w_ z_ = some (z_ + 1, rE G 6 5 (fun j => if j < 5 then some (gC G (77 + j)) else none)) ∧ Up (fun _ => False) w w_)) := by
  refine HM.mk (by decide +kernel) (Nat.le_of_ble_eq_true rfl) ?_
  intro p9 e9 s9 m9 a9 b9 meth9 c9 ls X hret hlk hnm hl H hR
  have hx := X.1.1
  have hb := X.1.2.1
  have hl : lv_has ls 0 [] := hl
  have hL : LK G [] := fun q h => absurd h List.not_mem_nil
  generalize ([] : List Loc) = locs at hL ⊢
  have hU : Up (fun _ => False) w w := Up.rf hG
  refine h_getsR X hR 76 (by decide) q1427 q157 q1426 dX7_values_0 ?_
  have hV : w (gC G 76) = some (0, rE G 6 5 (fun j => if j < 5 then some (gC G (77 + j)) else none)) := hR.con (X.2.2.2.2.2.2 76 (by decide))
  refine h_clone X hR hl.1 (fun q => q + 1) hV rfl (arr_nm X.2 (k := 6) rfl (nm := "[LSpokenMarks$Step;") (by decide)) (fit_R (C := "SpokenMarks$Step")) q1428 q1429 q330 q331 q1430 q1431 ⟨by decide, Nat.le_of_ble_eq_true rfl⟩ (by omega) (by omega) dX7_values_3 (fun q hq w_1 ew_2 H hR => ?_)
  have hn_q : w q = none := hU.2.1 _ hq
  have hU : Up (fun _ => False) w w_1 := by rw [ew_2]; exact hU.new hq (by first | exact Or.inr (Or.inl rfl) | exact Or.inl rfl | exact Or.inr (Or.inr (by assumption)))
  have hF_q_w_1 : w_1 q = some (q + 1, rE G 6 5 (fun j => if j < 5 then some (gC G (77 + j)) else none)) := by rw [ew_2]; exact wset_eq _ _ _
  have ne_gC_G_76_q : (gC G 76) ≠ q := w_neN hV hq
  have hF_gC_G_76_w_1 : w_1 (gC G 76) = some (0, rE G 6 5 (fun j => if j < 5 then some (gC G (77 + j)) else none)) := by rw [ew_2]; exact (wset_ne _ (w_neN hV hq)).trans hV
  refine h_castA X hR hF_q_w_1 (arr_nm X.2 (k := 6) rfl (nm := "[LSpokenMarks$Step;") (by decide)) q1433 dX7_values_6 ?_
  exact h_areturn hx hb hlk hret (by first | exact Or.inl ⟨_, rfl⟩ | exact Or.inr ⟨_, rfl⟩) hR hL ⟨hn_q, hF_q_w_1, hU⟩ (by omega) (by omega) rfl rfl dX7_values_9

set_option maxHeartbeats 4000000 in
set_option maxRecDepth 100000 in
/-- SpokenMarks$Step.earOf -/
theorem st_ear (l : Launch) (G : Gl) (w : Wd) (fa : Nat) (L : List Int) (hS : StrAt G w fa L) (hW : Wrd L) (hG : RegW w) : HM l yX7_earOf cX7_earOf 7 (some (.object "java/lang/String")) 9 21 125 G [.ref fa] w (QR G (fun z_ w_ => StrAt G w_ z_ (earL L) ∧ Up (fun _ => False) w w_)) := by
  refine HM.mk (by decide +kernel) (Nat.le_of_ble_eq_true rfl) ?_
  intro p9 e9 s9 m9 a9 b9 meth9 c9 ls X hret hlk hnm hl H hR
  have hx := X.1.1
  have hb := X.1.2.1
  have hl : lv_has ls 7 [(0, .ref fa)] := hl
  have hL : LK G [] := fun q h => absurd h List.not_mem_nil
  generalize ([] : List Loc) = locs at hL ⊢
  have hU : Up (fun _ => False) w w := Up.rf hG
  have h8 := hW.1
  refine lv_aload_n hx hb dX7_earOf_0 rfl (lv_at hl 0 rfl) ?_
  refine lv_astore_n (lv' := [(1, .ref fa), (0, .ref fa)]) hx hb dX7_earOf_1 rfl hl (by decide) rfl (fun ls hl => ?_)
  -- call SpokenMarks$Step.values
  refine h_kR (h_runS X hR (st_values l G w hU.2.2.1) pn_yX7_values q1423 q1424 q157 q1425 ⟨by decide, by decide⟩ hl.1 (Nat.le_of_ble_eq_true rfl) dX7_earOf_2 ⟨by omega, by omega⟩) hL (fun z_1 w_2 hp_3 H locs hR hL => ?_)
  obtain ⟨hz_5, hf_6, u_4⟩ := hp_3
  have ne_fa_z_1 : fa ≠ z_1 := sm_ne hS.sm hz_5
  have hn_z_1 : w z_1 = none := hU.2.1 _ hz_5
  have hP_fa_w_2 := hS.mv (u_4.1) (by first | exact id | (intro q_; (try dsimp only at q_); omega))
  have hU : Up (fun _ => False) w w_2 := hU.tr u_4 (fun q_ h_ => by first | exact absurd h_ id | exact Or.inl h_ | ((try dsimp only at h_); first | exact Or.inl (by omega) | exact Or.inr ⟨by omega, by subst h_; rw [Nat.add_sub_cancel]; assumption⟩)) hG
  refine lv_astore_n (lv' := [(2, .ref z_1), (1, .ref fa), (0, .ref fa)]) hx hb dX7_earOf_5 rfl hl (by decide) rfl (fun ls hl => ?_)
  refine lv_aload_n hx hb dX7_earOf_6 rfl (lv_at hl 0 rfl) ?_
  refine h_alenR X hR hf_6 rfl dX7_earOf_7 ?_
  refine W.eq (g2 := F0 m9 8 ls [.int (iI (5))]) (congrArg (fun z_ : Int => F0 m9 8 ls [.int (iI (z_))]) (show (((5 : Nat) : Int) : Int) = 5 from (by rfl))) ?_
  refine lv_istore_n (lv' := [(3, .int (iI (5))), (2, .ref z_1), (1, .ref fa), (0, .ref fa)]) hx hb dX7_earOf_8 rfl hl (by decide) rfl (fun ls hl => ?_)
  refine h_iconst hx hb dX7_earOf_9 ?_
  refine lv_istore (lv' := [(4, .int (iI (0))), (3, .int (iI (5))), (2, .ref z_1), (1, .ref fa), (0, .ref fa)]) hx hb dX7_earOf_10 hl (by decide) rfl (fun ls hl => ?_)
  refine lv_iload hx hb dX7_earOf_12 (lv_at hl 0 rfl) ?_
  refine lv_iload_n hx hb dX7_earOf_14 rfl (lv_at hl 1 rfl) ?_
  refine h_icmp_ge hx hb 55 dX7_earOf_15 (by decide) (by decide) (by decide) (fun z_ => absurd z_ (by decide)) (fun _ => ?_)
  refine lv_aload_n hx hb dX7_earOf_18 rfl (lv_at hl 2 rfl) ?_
  refine lv_iload hx hb dX7_earOf_19 (lv_at hl 0 rfl) ?_
  refine h_aald X hR hf_6 rfl (by omega) (by omega) dX7_earOf_21 ?_
  refine W.eq (g2 := F0 m9 22 ls [.ref (gC G 77)]) (by rw [show (if ((0 : Int)).toNat < 5 then some (gC G (77 + ((0 : Int)).toNat)) else none) = some (gC G 77) from rfl]; rfl) ?_
  have hst_8 : w_2 (gC G 77) = some (0, oE 26 []) := hR.con (X.2.2.2.2.2.2 77 (by decide))
  refine lv_astore (lv' := [(5, .ref (gC G 77)), (4, .int (iI (0))), (3, .int (iI (5))), (2, .ref z_1), (1, .ref fa), (0, .ref fa)]) hx hb dX7_earOf_22 hl (by decide) rfl (fun ls hl => ?_)
  refine h_new X hR (ci := 20) (fun q => q + 1) rfl in_J9 tyJ9_ok q1434 q264 q131 [.null, .int (iI (0)), .int (iI (0)), .int (iI (0))] (by intro j hj; rcases (show j = 0 ∨ j = 1 ∨ j = 2 ∨ j = 3 by omega) with rfl | rfl | rfl | rfl <;> rfl) (by omega) (by omega) dX7_earOf_24 (fun q_9 hq_9 w_10 ew_11 H hR => ?_)
  have hn_q_9 : w q_9 = none := hU.2.1 _ hq_9
  have hU : Up (fun _ => False) w w_10 := by rw [ew_11]; exact hU.new hq_9 (by first | exact Or.inr (Or.inl rfl) | exact Or.inl rfl | exact Or.inr (Or.inr (by assumption)))
  have hF_q_9_w_10 : w_10 q_9 = some (q_9 + 1, oE 20 [.null, .int (iI (0)), .int (iI (0)), .int (iI (0))]) := by rw [ew_11]; exact wset_eq _ _ _
  have ne_fa_q_9 : fa ≠ q_9 := sm_ne hP_fa_w_2.sm hq_9
  have hP_fa_w_10 := hP_fa_w_2.mv (w1 := w_10) (S := fun _ => False) (by rw [ew_11]; exact Fr.add hq_9 _) id
  have ne_z_1_q_9 : z_1 ≠ q_9 := w_neN hf_6 hq_9
  have hF_z_1_w_10 : w_10 z_1 = some (z_1 + 1, rE G 6 5 (fun j => if j < 5 then some (gC G (77 + j)) else none)) := by rw [ew_11]; exact (wset_ne _ (w_neN hf_6 hq_9)).trans hf_6
  have ne_gC_G_77_q_9 : (gC G 77) ≠ q_9 := w_neN hst_8 hq_9
  have hF_gC_G_77_w_10 : w_10 (gC G 77) = some (0, oE 26 []) := by rw [ew_11]; exact (wset_ne _ (w_neN hst_8 hq_9)).trans hst_8
  refine lv_dup hx hb dX7_earOf_27 rfl ?_
  refine h_bipush hx hb dX7_earOf_28 (by decide) ?_
  -- call java/lang/StringBuilder.<init>
  refine h_kV (h_runI X hR (sbb_init l G w_10 (q_9 + 1) q_9 8 hU.2.2.1 (by omega) hF_q_9_w_10 (by omega)) pn_yJ9_init_2 rfl q1435 q1436 q131 q1437 ⟨by decide, by decide⟩ hl.1 (Nat.le_of_ble_eq_true rfl) dX7_earOf_30 ⟨by omega, by omega⟩) hL (fun w_13 hp_14 H locs hR hL => ?_)
  obtain ⟨hB__16, u_15⟩ := hp_14
  have hP_fa_w_13 := hP_fa_w_10.mv (u_15.1) (by first | exact id | (intro q_; (try dsimp only at q_); omega))
  have hF_z_1_w_13 : w_13 z_1 = some (z_1 + 1, rE G 6 5 (fun j => if j < 5 then some (gC G (77 + j)) else none)) := u_15.1 _ _ _ hF_z_1_w_10 (by first | exact id | (intro q_; (try dsimp only at q_); omega))
  have hF_gC_G_77_w_13 : w_13 (gC G 77) = some (0, oE 26 []) := u_15.1 _ _ _ hF_gC_G_77_w_10 (by first | exact id | (intro q_; (try dsimp only at q_); omega))
  have hU : Up (fun _ => False) w w_13 := hU.tr u_15 (fun q_ h_ => by first | exact absurd h_ id | exact Or.inl h_ | ((try dsimp only at h_); first | exact Or.inl (by omega) | exact Or.inr ⟨by omega, by subst h_; rw [Nat.add_sub_cancel]; assumption⟩)) hG
  refine lv_astore (lv' := [(6, .ref q_9), (5, .ref (gC G 77)), (4, .int (iI (0))), (3, .int (iI (5))), (2, .ref z_1), (1, .ref fa), (0, .ref fa)]) hx hb dX7_earOf_33 hl (by decide) rfl (fun ls hl => ?_)
  refine lv_aload hx hb dX7_earOf_35 (lv_at hl 1 rfl) ?_
  refine lv_aload_n hx hb dX7_earOf_37 rfl (lv_at hl 5 rfl) ?_
  refine lv_aload hx hb dX7_earOf_38 (lv_at hl 0 rfl) ?_
  -- call SpokenMarks$Step$1.hear
  refine h_kV (h_runUN (x := ⟨"SpokenMarks$Step", "hear", "(Ljava/lang/String;Ljava/lang/StringBuilder;)V"⟩) (owner := "SpokenMarks$Step") X hR (st_1 l G w_13 (gC G 77) fa q_9 L hP_fa_w_13 hW hB__16 hU.2.2.1) (by decide) pn_i_SpokenMarks_Step_hear_2 (hasC.of hF_gC_G_77_w_13 rfl) q1438 q1440 (kk_abs X.2 q1439) (X.1.2.2.2.2 _ q1441) q1442 q1443 ⟨by decide, by decide⟩ hl.1 (Nat.le_of_ble_eq_true rfl) dX7_earOf_40 ⟨by omega, by omega⟩) hL (fun w_18 hp_19 H locs hR hL => ?_)
  obtain ⟨hB__21, u_20⟩ := hp_19
  have hP_fa_w_18 := hP_fa_w_13.mv (u_20.1) (by first | exact id | (intro q_; (try dsimp only at q_); omega))
  have hF_z_1_w_18 : w_18 z_1 = some (z_1 + 1, rE G 6 5 (fun j => if j < 5 then some (gC G (77 + j)) else none)) := u_20.1 _ _ _ hF_z_1_w_13 (by first | exact id | (intro q_; (try dsimp only at q_); omega))
  have hF_gC_G_77_w_18 : w_18 (gC G 77) = some (0, oE 26 []) := u_20.1 _ _ _ hF_gC_G_77_w_13 (by first | exact id | (intro q_; (try dsimp only at q_); omega))
  have hU : Up (fun _ => False) w w_18 := hU.tr u_20 (fun q_ h_ => by first | exact absurd h_ id | exact Or.inl h_ | ((try dsimp only at h_); first | exact Or.inl (by omega) | exact Or.inr ⟨by omega, by subst h_; rw [Nat.add_sub_cancel]; assumption⟩)) hG
  have hW_22 : Wrd (prs 112 104 102 L) := (wrd_prs (by decide) hW)
  have hW_22_8 := hW_22.1
  refine lv_aload hx hb dX7_earOf_43 (lv_at hl 0 rfl) ?_
  -- call java/lang/StringBuilder.toString
  refine h_kR (h_runV X hR (sbb_str l G w_18 q_9 8 (prs 112 104 102 L) hB__21 hU.2.2.1) pn_yJ9_toString (hB__21.c) q1514 q441 q442 q131 q443 ⟨by decide, by decide⟩ hl.1 (Nat.le_of_ble_eq_true rfl) dX7_earOf_45 ⟨by omega, by omega⟩) hL (fun z_23 w_24 hp_25 H locs hR hL => ?_)
  obtain ⟨hz_27, hS__28, u_26⟩ := hp_25
  have ne_fa_z_23 : fa ≠ z_23 := sm_ne hP_fa_w_18.sm hz_27
  have ne_z_1_z_23 : z_1 ≠ z_23 := w_neN hF_z_1_w_18 hz_27
  have ne_gC_G_77_z_23 : (gC G 77) ≠ z_23 := w_neN hF_gC_G_77_w_18 hz_27
  have ne_q_9_z_23 : q_9 ≠ z_23 := sm_ne hB__21.sm hz_27
  have hn_z_23 : w z_23 = none := hU.2.1 _ hz_27
  have hP_fa_w_24 := hP_fa_w_18.mv (u_26.1) (by first | exact id | (intro q_; (try dsimp only at q_); omega))
  have hF_z_1_w_24 : w_24 z_1 = some (z_1 + 1, rE G 6 5 (fun j => if j < 5 then some (gC G (77 + j)) else none)) := u_26.1 _ _ _ hF_z_1_w_18 (by first | exact id | (intro q_; (try dsimp only at q_); omega))
  have hF_gC_G_77_w_24 : w_24 (gC G 77) = some (0, oE 26 []) := u_26.1 _ _ _ hF_gC_G_77_w_18 (by first | exact id | (intro q_; (try dsimp only at q_); omega))
  have hP_q_9_w_24 := hB__21.mv (u_26.1) (by first | exact id | (intro q_; (try dsimp only at q_); omega))
  have hU : Up (fun _ => False) w w_24 := hU.tr u_26 (fun q_ h_ => by first | exact absurd h_ id | exact Or.inl h_ | ((try dsimp only at h_); first | exact Or.inl (by omega) | exact Or.inr ⟨by omega, by subst h_; rw [Nat.add_sub_cancel]; assumption⟩)) hG
  refine lv_astore_n (lv' := [(1, .ref z_23), (6, .ref q_9), (5, .ref (gC G 77)), (4, .int (iI (0))), (3, .int (iI (5))), (2, .ref z_1), (0, .ref fa)]) hx hb dX7_earOf_48 rfl hl (by decide) rfl (fun ls hl => ?_)
  refine h_iinc (lv' := [(4, .int (iI (0 + 1))), (1, .ref z_23), (6, .ref q_9), (5, .ref (gC G 77)), (3, .int (iI (5))), (2, .ref z_1), (0, .ref fa)]) hx hb dX7_earOf_49 hl (k := 3) rfl (by decide) rfl (fun ls hl => ?_)
  have hl : lv_has ls 7 [(4, .int (iI (1))), (1, .ref z_23), (6, .ref q_9), (5, .ref (gC G 77)), (3, .int (iI (5))), (2, .ref z_1), (0, .ref fa)] := lv_conv hl (congrArg (fun z_ : Int => ([(4, .int (iI (z_))), (1, .ref z_23), (6, .ref q_9), (5, .ref (gC G 77)), (3, .int (iI (5))), (2, .ref z_1), (0, .ref fa)] : List (Nat × Value))) (show (0 + 1 : Int) = 1 from (by decide)))
  refine lv_goto (tgt := 12) hx hb dX7_earOf_52 (by decide) ?_
  refine lv_iload hx hb dX7_earOf_12 (lv_at hl 0 rfl) ?_
  refine lv_iload_n hx hb dX7_earOf_14 rfl (lv_at hl 4 rfl) ?_
  refine h_icmp_ge hx hb 55 dX7_earOf_15 (by decide) (by decide) (by decide) (fun z_ => absurd z_ (by decide)) (fun _ => ?_)
  refine lv_aload_n hx hb dX7_earOf_18 rfl (lv_at hl 5 rfl) ?_
  refine lv_iload hx hb dX7_earOf_19 (lv_at hl 0 rfl) ?_
  refine h_aald X hR hF_z_1_w_24 rfl (by omega) (by omega) dX7_earOf_21 ?_
  refine W.eq (g2 := F0 m9 22 ls [.ref (gC G 78)]) (by rw [show (if ((1 : Int)).toNat < 5 then some (gC G (77 + ((1 : Int)).toNat)) else none) = some (gC G 78) from rfl]; rfl) ?_
  have hst_30 : w_24 (gC G 78) = some (0, oE 27 []) := hR.con (X.2.2.2.2.2.2 78 (by decide))
  refine lv_astore (lv' := [(5, .ref (gC G 78)), (4, .int (iI (1))), (1, .ref z_23), (6, .ref q_9), (3, .int (iI (5))), (2, .ref z_1), (0, .ref fa)]) hx hb dX7_earOf_22 hl (by decide) rfl (fun ls hl => ?_)
  refine h_new X hR (ci := 20) (fun q => q + 1) rfl in_J9 tyJ9_ok q1434 q264 q131 [.null, .int (iI (0)), .int (iI (0)), .int (iI (0))] (by intro j hj; rcases (show j = 0 ∨ j = 1 ∨ j = 2 ∨ j = 3 by omega) with rfl | rfl | rfl | rfl <;> rfl) (by omega) (by omega) dX7_earOf_24 (fun q_31 hq_31 w_32 ew_33 H hR => ?_)
  have hn_q_31 : w q_31 = none := hU.2.1 _ hq_31
  have hU : Up (fun _ => False) w w_32 := by rw [ew_33]; exact hU.new hq_31 (by first | exact Or.inr (Or.inl rfl) | exact Or.inl rfl | exact Or.inr (Or.inr (by assumption)))
  have hF_q_31_w_32 : w_32 q_31 = some (q_31 + 1, oE 20 [.null, .int (iI (0)), .int (iI (0)), .int (iI (0))]) := by rw [ew_33]; exact wset_eq _ _ _
  have ne_fa_q_31 : fa ≠ q_31 := sm_ne hP_fa_w_24.sm hq_31
  have hP_fa_w_32 := hP_fa_w_24.mv (w1 := w_32) (S := fun _ => False) (by rw [ew_33]; exact Fr.add hq_31 _) id
  have ne_z_1_q_31 : z_1 ≠ q_31 := w_neN hF_z_1_w_24 hq_31
  have hF_z_1_w_32 : w_32 z_1 = some (z_1 + 1, rE G 6 5 (fun j => if j < 5 then some (gC G (77 + j)) else none)) := by rw [ew_33]; exact (wset_ne _ (w_neN hF_z_1_w_24 hq_31)).trans hF_z_1_w_24
  have ne_gC_G_77_q_31 : (gC G 77) ≠ q_31 := w_neN hF_gC_G_77_w_24 hq_31
  have hF_gC_G_77_w_32 : w_32 (gC G 77) = some (0, oE 26 []) := by rw [ew_33]; exact (wset_ne _ (w_neN hF_gC_G_77_w_24 hq_31)).trans hF_gC_G_77_w_24
  have ne_q_9_q_31 : q_9 ≠ q_31 := sm_ne hP_q_9_w_24.sm hq_31
  have hP_q_9_w_32 := hP_q_9_w_24.mv (w1 := w_32) (S := fun _ => False) (by rw [ew_33]; exact Fr.add hq_31 _) id
  have ne_z_23_q_31 : z_23 ≠ q_31 := sm_ne hS__28.sm hq_31
  have hP_z_23_w_32 := hS__28.mv (w1 := w_32) (S := fun _ => False) (by rw [ew_33]; exact Fr.add hq_31 _) id
  have ne_gC_G_78_q_31 : (gC G 78) ≠ q_31 := w_neN hst_30 hq_31
  have hF_gC_G_78_w_32 : w_32 (gC G 78) = some (0, oE 27 []) := by rw [ew_33]; exact (wset_ne _ (w_neN hst_30 hq_31)).trans hst_30
  refine lv_dup hx hb dX7_earOf_27 rfl ?_
  refine h_bipush hx hb dX7_earOf_28 (by decide) ?_
  -- call java/lang/StringBuilder.<init>
  refine h_kV (h_runI X hR (sbb_init l G w_32 (q_31 + 1) q_31 8 hU.2.2.1 (by omega) hF_q_31_w_32 (by omega)) pn_yJ9_init_2 rfl q1435 q1436 q131 q1437 ⟨by decide, by decide⟩ hl.1 (Nat.le_of_ble_eq_true rfl) dX7_earOf_30 ⟨by omega, by omega⟩) hL (fun w_35 hp_36 H locs hR hL => ?_)
  obtain ⟨hB__38, u_37⟩ := hp_36
  have hP_fa_w_35 := hP_fa_w_32.mv (u_37.1) (by first | exact id | (intro q_; (try dsimp only at q_); omega))
  have hF_z_1_w_35 : w_35 z_1 = some (z_1 + 1, rE G 6 5 (fun j => if j < 5 then some (gC G (77 + j)) else none)) := u_37.1 _ _ _ hF_z_1_w_32 (by first | exact id | (intro q_; (try dsimp only at q_); omega))
  have hF_gC_G_77_w_35 : w_35 (gC G 77) = some (0, oE 26 []) := u_37.1 _ _ _ hF_gC_G_77_w_32 (by first | exact id | (intro q_; (try dsimp only at q_); omega))
  have hP_q_9_w_35 := hP_q_9_w_32.mv (u_37.1) (by first | exact id | (intro q_; (try dsimp only at q_); omega))
  have hP_z_23_w_35 := hP_z_23_w_32.mv (u_37.1) (by first | exact id | (intro q_; (try dsimp only at q_); omega))
  have hF_gC_G_78_w_35 : w_35 (gC G 78) = some (0, oE 27 []) := u_37.1 _ _ _ hF_gC_G_78_w_32 (by first | exact id | (intro q_; (try dsimp only at q_); omega))
  have hU : Up (fun _ => False) w w_35 := hU.tr u_37 (fun q_ h_ => by first | exact absurd h_ id | exact Or.inl h_ | ((try dsimp only at h_); first | exact Or.inl (by omega) | exact Or.inr ⟨by omega, by subst h_; rw [Nat.add_sub_cancel]; assumption⟩)) hG
  refine lv_astore (lv' := [(6, .ref q_31), (5, .ref (gC G 78)), (4, .int (iI (1))), (1, .ref z_23), (3, .int (iI (5))), (2, .ref z_1), (0, .ref fa)]) hx hb dX7_earOf_33 hl (by decide) rfl (fun ls hl => ?_)
  refine lv_aload hx hb dX7_earOf_35 (lv_at hl 1 rfl) ?_
  refine lv_aload_n hx hb dX7_earOf_37 rfl (lv_at hl 3 rfl) ?_
  refine lv_aload hx hb dX7_earOf_38 (lv_at hl 0 rfl) ?_
  -- call SpokenMarks$Step$2.hear
  refine h_kV (h_runUN (x := ⟨"SpokenMarks$Step", "hear", "(Ljava/lang/String;Ljava/lang/StringBuilder;)V"⟩) (owner := "SpokenMarks$Step") X hR (st_2 l G w_35 (gC G 78) z_23 q_31 (prs 112 104 102 L) hP_z_23_w_35 hW_22 hB__38 hU.2.2.1) (by decide) pn_i_SpokenMarks_Step_hear_2 (hasC.of hF_gC_G_78_w_35 rfl) q1438 q1440 (kk_abs X.2 q1439) (X.1.2.2.2.2 _ q1491) q1492 q1493 ⟨by decide, by decide⟩ hl.1 (Nat.le_of_ble_eq_true rfl) dX7_earOf_40 ⟨by omega, by omega⟩) hL (fun w_40 hp_41 H locs hR hL => ?_)
  obtain ⟨hB__43, u_42⟩ := hp_41
  have hP_fa_w_40 := hP_fa_w_35.mv (u_42.1) (by first | exact id | (intro q_; (try dsimp only at q_); omega))
  have hF_z_1_w_40 : w_40 z_1 = some (z_1 + 1, rE G 6 5 (fun j => if j < 5 then some (gC G (77 + j)) else none)) := u_42.1 _ _ _ hF_z_1_w_35 (by first | exact id | (intro q_; (try dsimp only at q_); omega))
  have hF_gC_G_77_w_40 : w_40 (gC G 77) = some (0, oE 26 []) := u_42.1 _ _ _ hF_gC_G_77_w_35 (by first | exact id | (intro q_; (try dsimp only at q_); omega))
  have hP_q_9_w_40 := hP_q_9_w_35.mv (u_42.1) (by first | exact id | (intro q_; (try dsimp only at q_); omega))
  have hP_z_23_w_40 := hP_z_23_w_35.mv (u_42.1) (by first | exact id | (intro q_; (try dsimp only at q_); omega))
  have hF_gC_G_78_w_40 : w_40 (gC G 78) = some (0, oE 27 []) := u_42.1 _ _ _ hF_gC_G_78_w_35 (by first | exact id | (intro q_; (try dsimp only at q_); omega))
  have hU : Up (fun _ => False) w w_40 := hU.tr u_42 (fun q_ h_ => by first | exact absurd h_ id | exact Or.inl h_ | ((try dsimp only at h_); first | exact Or.inl (by omega) | exact Or.inr ⟨by omega, by subst h_; rw [Nat.add_sub_cancel]; assumption⟩)) hG
  have hW_44 : Wrd (prs 99 107 107 (prs 112 104 102 L)) := (wrd_prs (by decide) hW_22)
  have hW_44_8 := hW_44.1
  refine lv_aload hx hb dX7_earOf_43 (lv_at hl 0 rfl) ?_
  -- call java/lang/StringBuilder.toString
  refine h_kR (h_runV X hR (sbb_str l G w_40 q_31 8 (prs 99 107 107 (prs 112 104 102 L)) hB__43 hU.2.2.1) pn_yJ9_toString (hB__43.c) q1514 q441 q442 q131 q443 ⟨by decide, by decide⟩ hl.1 (Nat.le_of_ble_eq_true rfl) dX7_earOf_45 ⟨by omega, by omega⟩) hL (fun z_45 w_46 hp_47 H locs hR hL => ?_)
  obtain ⟨hz_49, hS__50, u_48⟩ := hp_47
  have ne_fa_z_45 : fa ≠ z_45 := sm_ne hP_fa_w_40.sm hz_49
  have ne_z_1_z_45 : z_1 ≠ z_45 := w_neN hF_z_1_w_40 hz_49
  have ne_gC_G_77_z_45 : (gC G 77) ≠ z_45 := w_neN hF_gC_G_77_w_40 hz_49
  have ne_q_9_z_45 : q_9 ≠ z_45 := sm_ne hP_q_9_w_40.sm hz_49
  have ne_z_23_z_45 : z_23 ≠ z_45 := sm_ne hP_z_23_w_40.sm hz_49
  have ne_gC_G_78_z_45 : (gC G 78) ≠ z_45 := w_neN hF_gC_G_78_w_40 hz_49
  have ne_q_31_z_45 : q_31 ≠ z_45 := sm_ne hB__43.sm hz_49
  have hn_z_45 : w z_45 = none := hU.2.1 _ hz_49
  have hP_fa_w_46 := hP_fa_w_40.mv (u_48.1) (by first | exact id | (intro q_; (try dsimp only at q_); omega))
  have hF_z_1_w_46 : w_46 z_1 = some (z_1 + 1, rE G 6 5 (fun j => if j < 5 then some (gC G (77 + j)) else none)) := u_48.1 _ _ _ hF_z_1_w_40 (by first | exact id | (intro q_; (try dsimp only at q_); omega))
  have hF_gC_G_77_w_46 : w_46 (gC G 77) = some (0, oE 26 []) := u_48.1 _ _ _ hF_gC_G_77_w_40 (by first | exact id | (intro q_; (try dsimp only at q_); omega))
  have hP_q_9_w_46 := hP_q_9_w_40.mv (u_48.1) (by first | exact id | (intro q_; (try dsimp only at q_); omega))
  have hP_z_23_w_46 := hP_z_23_w_40.mv (u_48.1) (by first | exact id | (intro q_; (try dsimp only at q_); omega))
  have hF_gC_G_78_w_46 : w_46 (gC G 78) = some (0, oE 27 []) := u_48.1 _ _ _ hF_gC_G_78_w_40 (by first | exact id | (intro q_; (try dsimp only at q_); omega))
  have hP_q_31_w_46 := hB__43.mv (u_48.1) (by first | exact id | (intro q_; (try dsimp only at q_); omega))
  have hU : Up (fun _ => False) w w_46 := hU.tr u_48 (fun q_ h_ => by first | exact absurd h_ id | exact Or.inl h_ | ((try dsimp only at h_); first | exact Or.inl (by omega) | exact Or.inr ⟨by omega, by subst h_; rw [Nat.add_sub_cancel]; assumption⟩)) hG
  refine lv_astore_n (lv' := [(1, .ref z_45), (6, .ref q_31), (5, .ref (gC G 78)), (4, .int (iI (1))), (3, .int (iI (5))), (2, .ref z_1), (0, .ref fa)]) hx hb dX7_earOf_48 rfl hl (by decide) rfl (fun ls hl => ?_)
  refine h_iinc (lv' := [(4, .int (iI (1 + 1))), (1, .ref z_45), (6, .ref q_31), (5, .ref (gC G 78)), (3, .int (iI (5))), (2, .ref z_1), (0, .ref fa)]) hx hb dX7_earOf_49 hl (k := 3) rfl (by decide) rfl (fun ls hl => ?_)
  have hl : lv_has ls 7 [(4, .int (iI (2))), (1, .ref z_45), (6, .ref q_31), (5, .ref (gC G 78)), (3, .int (iI (5))), (2, .ref z_1), (0, .ref fa)] := lv_conv hl (congrArg (fun z_ : Int => ([(4, .int (iI (z_))), (1, .ref z_45), (6, .ref q_31), (5, .ref (gC G 78)), (3, .int (iI (5))), (2, .ref z_1), (0, .ref fa)] : List (Nat × Value))) (show (1 + 1 : Int) = 2 from (by decide)))
  refine lv_goto (tgt := 12) hx hb dX7_earOf_52 (by decide) ?_
  refine lv_iload hx hb dX7_earOf_12 (lv_at hl 0 rfl) ?_
  refine lv_iload_n hx hb dX7_earOf_14 rfl (lv_at hl 4 rfl) ?_
  refine h_icmp_ge hx hb 55 dX7_earOf_15 (by decide) (by decide) (by decide) (fun z_ => absurd z_ (by decide)) (fun _ => ?_)
  refine lv_aload_n hx hb dX7_earOf_18 rfl (lv_at hl 5 rfl) ?_
  refine lv_iload hx hb dX7_earOf_19 (lv_at hl 0 rfl) ?_
  refine h_aald X hR hF_z_1_w_46 rfl (by omega) (by omega) dX7_earOf_21 ?_
  refine W.eq (g2 := F0 m9 22 ls [.ref (gC G 79)]) (by rw [show (if ((2 : Int)).toNat < 5 then some (gC G (77 + ((2 : Int)).toNat)) else none) = some (gC G 79) from rfl]; rfl) ?_
  have hst_52 : w_46 (gC G 79) = some (0, oE 28 []) := hR.con (X.2.2.2.2.2.2 79 (by decide))
  refine lv_astore (lv' := [(5, .ref (gC G 79)), (4, .int (iI (2))), (1, .ref z_45), (6, .ref q_31), (3, .int (iI (5))), (2, .ref z_1), (0, .ref fa)]) hx hb dX7_earOf_22 hl (by decide) rfl (fun ls hl => ?_)
  refine h_new X hR (ci := 20) (fun q => q + 1) rfl in_J9 tyJ9_ok q1434 q264 q131 [.null, .int (iI (0)), .int (iI (0)), .int (iI (0))] (by intro j hj; rcases (show j = 0 ∨ j = 1 ∨ j = 2 ∨ j = 3 by omega) with rfl | rfl | rfl | rfl <;> rfl) (by omega) (by omega) dX7_earOf_24 (fun q_53 hq_53 w_54 ew_55 H hR => ?_)
  have hn_q_53 : w q_53 = none := hU.2.1 _ hq_53
  have hU : Up (fun _ => False) w w_54 := by rw [ew_55]; exact hU.new hq_53 (by first | exact Or.inr (Or.inl rfl) | exact Or.inl rfl | exact Or.inr (Or.inr (by assumption)))
  have hF_q_53_w_54 : w_54 q_53 = some (q_53 + 1, oE 20 [.null, .int (iI (0)), .int (iI (0)), .int (iI (0))]) := by rw [ew_55]; exact wset_eq _ _ _
  have ne_fa_q_53 : fa ≠ q_53 := sm_ne hP_fa_w_46.sm hq_53
  have hP_fa_w_54 := hP_fa_w_46.mv (w1 := w_54) (S := fun _ => False) (by rw [ew_55]; exact Fr.add hq_53 _) id
  have ne_z_1_q_53 : z_1 ≠ q_53 := w_neN hF_z_1_w_46 hq_53
  have hF_z_1_w_54 : w_54 z_1 = some (z_1 + 1, rE G 6 5 (fun j => if j < 5 then some (gC G (77 + j)) else none)) := by rw [ew_55]; exact (wset_ne _ (w_neN hF_z_1_w_46 hq_53)).trans hF_z_1_w_46
  have ne_gC_G_77_q_53 : (gC G 77) ≠ q_53 := w_neN hF_gC_G_77_w_46 hq_53
  have hF_gC_G_77_w_54 : w_54 (gC G 77) = some (0, oE 26 []) := by rw [ew_55]; exact (wset_ne _ (w_neN hF_gC_G_77_w_46 hq_53)).trans hF_gC_G_77_w_46
  have ne_q_9_q_53 : q_9 ≠ q_53 := sm_ne hP_q_9_w_46.sm hq_53
  have hP_q_9_w_54 := hP_q_9_w_46.mv (w1 := w_54) (S := fun _ => False) (by rw [ew_55]; exact Fr.add hq_53 _) id
  have ne_z_23_q_53 : z_23 ≠ q_53 := sm_ne hP_z_23_w_46.sm hq_53
  have hP_z_23_w_54 := hP_z_23_w_46.mv (w1 := w_54) (S := fun _ => False) (by rw [ew_55]; exact Fr.add hq_53 _) id
  have ne_gC_G_78_q_53 : (gC G 78) ≠ q_53 := w_neN hF_gC_G_78_w_46 hq_53
  have hF_gC_G_78_w_54 : w_54 (gC G 78) = some (0, oE 27 []) := by rw [ew_55]; exact (wset_ne _ (w_neN hF_gC_G_78_w_46 hq_53)).trans hF_gC_G_78_w_46
  have ne_q_31_q_53 : q_31 ≠ q_53 := sm_ne hP_q_31_w_46.sm hq_53
  have hP_q_31_w_54 := hP_q_31_w_46.mv (w1 := w_54) (S := fun _ => False) (by rw [ew_55]; exact Fr.add hq_53 _) id
  have ne_z_45_q_53 : z_45 ≠ q_53 := sm_ne hS__50.sm hq_53
  have hP_z_45_w_54 := hS__50.mv (w1 := w_54) (S := fun _ => False) (by rw [ew_55]; exact Fr.add hq_53 _) id
  have ne_gC_G_79_q_53 : (gC G 79) ≠ q_53 := w_neN hst_52 hq_53
  have hF_gC_G_79_w_54 : w_54 (gC G 79) = some (0, oE 28 []) := by rw [ew_55]; exact (wset_ne _ (w_neN hst_52 hq_53)).trans hst_52
  refine lv_dup hx hb dX7_earOf_27 rfl ?_
  refine h_bipush hx hb dX7_earOf_28 (by decide) ?_
  -- call java/lang/StringBuilder.<init>
  refine h_kV (h_runI X hR (sbb_init l G w_54 (q_53 + 1) q_53 8 hU.2.2.1 (by omega) hF_q_53_w_54 (by omega)) pn_yJ9_init_2 rfl q1435 q1436 q131 q1437 ⟨by decide, by decide⟩ hl.1 (Nat.le_of_ble_eq_true rfl) dX7_earOf_30 ⟨by omega, by omega⟩) hL (fun w_57 hp_58 H locs hR hL => ?_)
  obtain ⟨hB__60, u_59⟩ := hp_58
  have hP_fa_w_57 := hP_fa_w_54.mv (u_59.1) (by first | exact id | (intro q_; (try dsimp only at q_); omega))
  have hF_z_1_w_57 : w_57 z_1 = some (z_1 + 1, rE G 6 5 (fun j => if j < 5 then some (gC G (77 + j)) else none)) := u_59.1 _ _ _ hF_z_1_w_54 (by first | exact id | (intro q_; (try dsimp only at q_); omega))
  have hF_gC_G_77_w_57 : w_57 (gC G 77) = some (0, oE 26 []) := u_59.1 _ _ _ hF_gC_G_77_w_54 (by first | exact id | (intro q_; (try dsimp only at q_); omega))
  have hP_q_9_w_57 := hP_q_9_w_54.mv (u_59.1) (by first | exact id | (intro q_; (try dsimp only at q_); omega))
  have hP_z_23_w_57 := hP_z_23_w_54.mv (u_59.1) (by first | exact id | (intro q_; (try dsimp only at q_); omega))
  have hF_gC_G_78_w_57 : w_57 (gC G 78) = some (0, oE 27 []) := u_59.1 _ _ _ hF_gC_G_78_w_54 (by first | exact id | (intro q_; (try dsimp only at q_); omega))
  have hP_q_31_w_57 := hP_q_31_w_54.mv (u_59.1) (by first | exact id | (intro q_; (try dsimp only at q_); omega))
  have hP_z_45_w_57 := hP_z_45_w_54.mv (u_59.1) (by first | exact id | (intro q_; (try dsimp only at q_); omega))
  have hF_gC_G_79_w_57 : w_57 (gC G 79) = some (0, oE 28 []) := u_59.1 _ _ _ hF_gC_G_79_w_54 (by first | exact id | (intro q_; (try dsimp only at q_); omega))
  have hU : Up (fun _ => False) w w_57 := hU.tr u_59 (fun q_ h_ => by first | exact absurd h_ id | exact Or.inl h_ | ((try dsimp only at h_); first | exact Or.inl (by omega) | exact Or.inr ⟨by omega, by subst h_; rw [Nat.add_sub_cancel]; assumption⟩)) hG
  refine lv_astore (lv' := [(6, .ref q_53), (5, .ref (gC G 79)), (4, .int (iI (2))), (1, .ref z_45), (3, .int (iI (5))), (2, .ref z_1), (0, .ref fa)]) hx hb dX7_earOf_33 hl (by decide) rfl (fun ls hl => ?_)
  refine lv_aload hx hb dX7_earOf_35 (lv_at hl 1 rfl) ?_
  refine lv_aload_n hx hb dX7_earOf_37 rfl (lv_at hl 3 rfl) ?_
  refine lv_aload hx hb dX7_earOf_38 (lv_at hl 0 rfl) ?_
  -- call SpokenMarks$Step$3.hear
  refine h_kV (h_runUN (x := ⟨"SpokenMarks$Step", "hear", "(Ljava/lang/String;Ljava/lang/StringBuilder;)V"⟩) (owner := "SpokenMarks$Step") X hR (st_3 l G w_57 (gC G 79) z_45 q_53 (prs 99 107 107 (prs 112 104 102 L)) hP_z_45_w_57 hW_44 hB__60 hU.2.2.1) (by decide) pn_i_SpokenMarks_Step_hear_2 (hasC.of hF_gC_G_79_w_57 rfl) q1438 q1440 (kk_abs X.2 q1439) (X.1.2.2.2.2 _ q1496) q1497 q1498 ⟨by decide, by decide⟩ hl.1 (Nat.le_of_ble_eq_true rfl) dX7_earOf_40 ⟨by omega, by omega⟩) hL (fun w_62 hp_63 H locs hR hL => ?_)
  obtain ⟨hB__65, u_64⟩ := hp_63
  have hP_fa_w_62 := hP_fa_w_57.mv (u_64.1) (by first | exact id | (intro q_; (try dsimp only at q_); omega))
  have hF_z_1_w_62 : w_62 z_1 = some (z_1 + 1, rE G 6 5 (fun j => if j < 5 then some (gC G (77 + j)) else none)) := u_64.1 _ _ _ hF_z_1_w_57 (by first | exact id | (intro q_; (try dsimp only at q_); omega))
  have hF_gC_G_77_w_62 : w_62 (gC G 77) = some (0, oE 26 []) := u_64.1 _ _ _ hF_gC_G_77_w_57 (by first | exact id | (intro q_; (try dsimp only at q_); omega))
  have hP_q_9_w_62 := hP_q_9_w_57.mv (u_64.1) (by first | exact id | (intro q_; (try dsimp only at q_); omega))
  have hP_z_23_w_62 := hP_z_23_w_57.mv (u_64.1) (by first | exact id | (intro q_; (try dsimp only at q_); omega))
  have hF_gC_G_78_w_62 : w_62 (gC G 78) = some (0, oE 27 []) := u_64.1 _ _ _ hF_gC_G_78_w_57 (by first | exact id | (intro q_; (try dsimp only at q_); omega))
  have hP_q_31_w_62 := hP_q_31_w_57.mv (u_64.1) (by first | exact id | (intro q_; (try dsimp only at q_); omega))
  have hP_z_45_w_62 := hP_z_45_w_57.mv (u_64.1) (by first | exact id | (intro q_; (try dsimp only at q_); omega))
  have hF_gC_G_79_w_62 : w_62 (gC G 79) = some (0, oE 28 []) := u_64.1 _ _ _ hF_gC_G_79_w_57 (by first | exact id | (intro q_; (try dsimp only at q_); omega))
  have hU : Up (fun _ => False) w w_62 := hU.tr u_64 (fun q_ h_ => by first | exact absurd h_ id | exact Or.inl h_ | ((try dsimp only at h_); first | exact Or.inl (by omega) | exact Or.inr ⟨by omega, by subst h_; rw [Nat.add_sub_cancel]; assumption⟩)) hG
  have hW_66 : Wrd ((prs 99 107 107 (prs 112 104 102 L)).map hrd) := (wrd_map hW_44)
  have hW_66_8 := hW_66.1
  refine lv_aload hx hb dX7_earOf_43 (lv_at hl 0 rfl) ?_
  -- call java/lang/StringBuilder.toString
  refine h_kR (h_runV X hR (sbb_str l G w_62 q_53 8 ((prs 99 107 107 (prs 112 104 102 L)).map hrd) hB__65 hU.2.2.1) pn_yJ9_toString (hB__65.c) q1514 q441 q442 q131 q443 ⟨by decide, by decide⟩ hl.1 (Nat.le_of_ble_eq_true rfl) dX7_earOf_45 ⟨by omega, by omega⟩) hL (fun z_67 w_68 hp_69 H locs hR hL => ?_)
  obtain ⟨hz_71, hS__72, u_70⟩ := hp_69
  have ne_fa_z_67 : fa ≠ z_67 := sm_ne hP_fa_w_62.sm hz_71
  have ne_z_1_z_67 : z_1 ≠ z_67 := w_neN hF_z_1_w_62 hz_71
  have ne_gC_G_77_z_67 : (gC G 77) ≠ z_67 := w_neN hF_gC_G_77_w_62 hz_71
  have ne_q_9_z_67 : q_9 ≠ z_67 := sm_ne hP_q_9_w_62.sm hz_71
  have ne_z_23_z_67 : z_23 ≠ z_67 := sm_ne hP_z_23_w_62.sm hz_71
  have ne_gC_G_78_z_67 : (gC G 78) ≠ z_67 := w_neN hF_gC_G_78_w_62 hz_71
  have ne_q_31_z_67 : q_31 ≠ z_67 := sm_ne hP_q_31_w_62.sm hz_71
  have ne_z_45_z_67 : z_45 ≠ z_67 := sm_ne hP_z_45_w_62.sm hz_71
  have ne_gC_G_79_z_67 : (gC G 79) ≠ z_67 := w_neN hF_gC_G_79_w_62 hz_71
  have ne_q_53_z_67 : q_53 ≠ z_67 := sm_ne hB__65.sm hz_71
  have hn_z_67 : w z_67 = none := hU.2.1 _ hz_71
  have hP_fa_w_68 := hP_fa_w_62.mv (u_70.1) (by first | exact id | (intro q_; (try dsimp only at q_); omega))
  have hF_z_1_w_68 : w_68 z_1 = some (z_1 + 1, rE G 6 5 (fun j => if j < 5 then some (gC G (77 + j)) else none)) := u_70.1 _ _ _ hF_z_1_w_62 (by first | exact id | (intro q_; (try dsimp only at q_); omega))
  have hF_gC_G_77_w_68 : w_68 (gC G 77) = some (0, oE 26 []) := u_70.1 _ _ _ hF_gC_G_77_w_62 (by first | exact id | (intro q_; (try dsimp only at q_); omega))
  have hP_q_9_w_68 := hP_q_9_w_62.mv (u_70.1) (by first | exact id | (intro q_; (try dsimp only at q_); omega))
  have hP_z_23_w_68 := hP_z_23_w_62.mv (u_70.1) (by first | exact id | (intro q_; (try dsimp only at q_); omega))
  have hF_gC_G_78_w_68 : w_68 (gC G 78) = some (0, oE 27 []) := u_70.1 _ _ _ hF_gC_G_78_w_62 (by first | exact id | (intro q_; (try dsimp only at q_); omega))
  have hP_q_31_w_68 := hP_q_31_w_62.mv (u_70.1) (by first | exact id | (intro q_; (try dsimp only at q_); omega))
  have hP_z_45_w_68 := hP_z_45_w_62.mv (u_70.1) (by first | exact id | (intro q_; (try dsimp only at q_); omega))
  have hF_gC_G_79_w_68 : w_68 (gC G 79) = some (0, oE 28 []) := u_70.1 _ _ _ hF_gC_G_79_w_62 (by first | exact id | (intro q_; (try dsimp only at q_); omega))
  have hP_q_53_w_68 := hB__65.mv (u_70.1) (by first | exact id | (intro q_; (try dsimp only at q_); omega))
  have hU : Up (fun _ => False) w w_68 := hU.tr u_70 (fun q_ h_ => by first | exact absurd h_ id | exact Or.inl h_ | ((try dsimp only at h_); first | exact Or.inl (by omega) | exact Or.inr ⟨by omega, by subst h_; rw [Nat.add_sub_cancel]; assumption⟩)) hG
  refine lv_astore_n (lv' := [(1, .ref z_67), (6, .ref q_53), (5, .ref (gC G 79)), (4, .int (iI (2))), (3, .int (iI (5))), (2, .ref z_1), (0, .ref fa)]) hx hb dX7_earOf_48 rfl hl (by decide) rfl (fun ls hl => ?_)
  refine h_iinc (lv' := [(4, .int (iI (2 + 1))), (1, .ref z_67), (6, .ref q_53), (5, .ref (gC G 79)), (3, .int (iI (5))), (2, .ref z_1), (0, .ref fa)]) hx hb dX7_earOf_49 hl (k := 3) rfl (by decide) rfl (fun ls hl => ?_)
  have hl : lv_has ls 7 [(4, .int (iI (3))), (1, .ref z_67), (6, .ref q_53), (5, .ref (gC G 79)), (3, .int (iI (5))), (2, .ref z_1), (0, .ref fa)] := lv_conv hl (congrArg (fun z_ : Int => ([(4, .int (iI (z_))), (1, .ref z_67), (6, .ref q_53), (5, .ref (gC G 79)), (3, .int (iI (5))), (2, .ref z_1), (0, .ref fa)] : List (Nat × Value))) (show (2 + 1 : Int) = 3 from (by decide)))
  refine lv_goto (tgt := 12) hx hb dX7_earOf_52 (by decide) ?_
  refine lv_iload hx hb dX7_earOf_12 (lv_at hl 0 rfl) ?_
  refine lv_iload_n hx hb dX7_earOf_14 rfl (lv_at hl 4 rfl) ?_
  refine h_icmp_ge hx hb 55 dX7_earOf_15 (by decide) (by decide) (by decide) (fun z_ => absurd z_ (by decide)) (fun _ => ?_)
  refine lv_aload_n hx hb dX7_earOf_18 rfl (lv_at hl 5 rfl) ?_
  refine lv_iload hx hb dX7_earOf_19 (lv_at hl 0 rfl) ?_
  refine h_aald X hR hF_z_1_w_68 rfl (by omega) (by omega) dX7_earOf_21 ?_
  refine W.eq (g2 := F0 m9 22 ls [.ref (gC G 80)]) (by rw [show (if ((3 : Int)).toNat < 5 then some (gC G (77 + ((3 : Int)).toNat)) else none) = some (gC G 80) from rfl]; rfl) ?_
  have hst_74 : w_68 (gC G 80) = some (0, oE 29 []) := hR.con (X.2.2.2.2.2.2 80 (by decide))
  refine lv_astore (lv' := [(5, .ref (gC G 80)), (4, .int (iI (3))), (1, .ref z_67), (6, .ref q_53), (3, .int (iI (5))), (2, .ref z_1), (0, .ref fa)]) hx hb dX7_earOf_22 hl (by decide) rfl (fun ls hl => ?_)
  refine h_new X hR (ci := 20) (fun q => q + 1) rfl in_J9 tyJ9_ok q1434 q264 q131 [.null, .int (iI (0)), .int (iI (0)), .int (iI (0))] (by intro j hj; rcases (show j = 0 ∨ j = 1 ∨ j = 2 ∨ j = 3 by omega) with rfl | rfl | rfl | rfl <;> rfl) (by omega) (by omega) dX7_earOf_24 (fun q_75 hq_75 w_76 ew_77 H hR => ?_)
  have hn_q_75 : w q_75 = none := hU.2.1 _ hq_75
  have hU : Up (fun _ => False) w w_76 := by rw [ew_77]; exact hU.new hq_75 (by first | exact Or.inr (Or.inl rfl) | exact Or.inl rfl | exact Or.inr (Or.inr (by assumption)))
  have hF_q_75_w_76 : w_76 q_75 = some (q_75 + 1, oE 20 [.null, .int (iI (0)), .int (iI (0)), .int (iI (0))]) := by rw [ew_77]; exact wset_eq _ _ _
  have ne_fa_q_75 : fa ≠ q_75 := sm_ne hP_fa_w_68.sm hq_75
  have hP_fa_w_76 := hP_fa_w_68.mv (w1 := w_76) (S := fun _ => False) (by rw [ew_77]; exact Fr.add hq_75 _) id
  have ne_z_1_q_75 : z_1 ≠ q_75 := w_neN hF_z_1_w_68 hq_75
  have hF_z_1_w_76 : w_76 z_1 = some (z_1 + 1, rE G 6 5 (fun j => if j < 5 then some (gC G (77 + j)) else none)) := by rw [ew_77]; exact (wset_ne _ (w_neN hF_z_1_w_68 hq_75)).trans hF_z_1_w_68
  have ne_gC_G_77_q_75 : (gC G 77) ≠ q_75 := w_neN hF_gC_G_77_w_68 hq_75
  have hF_gC_G_77_w_76 : w_76 (gC G 77) = some (0, oE 26 []) := by rw [ew_77]; exact (wset_ne _ (w_neN hF_gC_G_77_w_68 hq_75)).trans hF_gC_G_77_w_68
  have ne_q_9_q_75 : q_9 ≠ q_75 := sm_ne hP_q_9_w_68.sm hq_75
  have hP_q_9_w_76 := hP_q_9_w_68.mv (w1 := w_76) (S := fun _ => False) (by rw [ew_77]; exact Fr.add hq_75 _) id
  have ne_z_23_q_75 : z_23 ≠ q_75 := sm_ne hP_z_23_w_68.sm hq_75
  have hP_z_23_w_76 := hP_z_23_w_68.mv (w1 := w_76) (S := fun _ => False) (by rw [ew_77]; exact Fr.add hq_75 _) id
  have ne_gC_G_78_q_75 : (gC G 78) ≠ q_75 := w_neN hF_gC_G_78_w_68 hq_75
  have hF_gC_G_78_w_76 : w_76 (gC G 78) = some (0, oE 27 []) := by rw [ew_77]; exact (wset_ne _ (w_neN hF_gC_G_78_w_68 hq_75)).trans hF_gC_G_78_w_68
  have ne_q_31_q_75 : q_31 ≠ q_75 := sm_ne hP_q_31_w_68.sm hq_75
  have hP_q_31_w_76 := hP_q_31_w_68.mv (w1 := w_76) (S := fun _ => False) (by rw [ew_77]; exact Fr.add hq_75 _) id
  have ne_z_45_q_75 : z_45 ≠ q_75 := sm_ne hP_z_45_w_68.sm hq_75
  have hP_z_45_w_76 := hP_z_45_w_68.mv (w1 := w_76) (S := fun _ => False) (by rw [ew_77]; exact Fr.add hq_75 _) id
  have ne_gC_G_79_q_75 : (gC G 79) ≠ q_75 := w_neN hF_gC_G_79_w_68 hq_75
  have hF_gC_G_79_w_76 : w_76 (gC G 79) = some (0, oE 28 []) := by rw [ew_77]; exact (wset_ne _ (w_neN hF_gC_G_79_w_68 hq_75)).trans hF_gC_G_79_w_68
  have ne_q_53_q_75 : q_53 ≠ q_75 := sm_ne hP_q_53_w_68.sm hq_75
  have hP_q_53_w_76 := hP_q_53_w_68.mv (w1 := w_76) (S := fun _ => False) (by rw [ew_77]; exact Fr.add hq_75 _) id
  have ne_z_67_q_75 : z_67 ≠ q_75 := sm_ne hS__72.sm hq_75
  have hP_z_67_w_76 := hS__72.mv (w1 := w_76) (S := fun _ => False) (by rw [ew_77]; exact Fr.add hq_75 _) id
  have ne_gC_G_80_q_75 : (gC G 80) ≠ q_75 := w_neN hst_74 hq_75
  have hF_gC_G_80_w_76 : w_76 (gC G 80) = some (0, oE 29 []) := by rw [ew_77]; exact (wset_ne _ (w_neN hst_74 hq_75)).trans hst_74
  refine lv_dup hx hb dX7_earOf_27 rfl ?_
  refine h_bipush hx hb dX7_earOf_28 (by decide) ?_
  -- call java/lang/StringBuilder.<init>
  refine h_kV (h_runI X hR (sbb_init l G w_76 (q_75 + 1) q_75 8 hU.2.2.1 (by omega) hF_q_75_w_76 (by omega)) pn_yJ9_init_2 rfl q1435 q1436 q131 q1437 ⟨by decide, by decide⟩ hl.1 (Nat.le_of_ble_eq_true rfl) dX7_earOf_30 ⟨by omega, by omega⟩) hL (fun w_79 hp_80 H locs hR hL => ?_)
  obtain ⟨hB__82, u_81⟩ := hp_80
  have hP_fa_w_79 := hP_fa_w_76.mv (u_81.1) (by first | exact id | (intro q_; (try dsimp only at q_); omega))
  have hF_z_1_w_79 : w_79 z_1 = some (z_1 + 1, rE G 6 5 (fun j => if j < 5 then some (gC G (77 + j)) else none)) := u_81.1 _ _ _ hF_z_1_w_76 (by first | exact id | (intro q_; (try dsimp only at q_); omega))
  have hF_gC_G_77_w_79 : w_79 (gC G 77) = some (0, oE 26 []) := u_81.1 _ _ _ hF_gC_G_77_w_76 (by first | exact id | (intro q_; (try dsimp only at q_); omega))
  have hP_q_9_w_79 := hP_q_9_w_76.mv (u_81.1) (by first | exact id | (intro q_; (try dsimp only at q_); omega))
  have hP_z_23_w_79 := hP_z_23_w_76.mv (u_81.1) (by first | exact id | (intro q_; (try dsimp only at q_); omega))
  have hF_gC_G_78_w_79 : w_79 (gC G 78) = some (0, oE 27 []) := u_81.1 _ _ _ hF_gC_G_78_w_76 (by first | exact id | (intro q_; (try dsimp only at q_); omega))
  have hP_q_31_w_79 := hP_q_31_w_76.mv (u_81.1) (by first | exact id | (intro q_; (try dsimp only at q_); omega))
  have hP_z_45_w_79 := hP_z_45_w_76.mv (u_81.1) (by first | exact id | (intro q_; (try dsimp only at q_); omega))
  have hF_gC_G_79_w_79 : w_79 (gC G 79) = some (0, oE 28 []) := u_81.1 _ _ _ hF_gC_G_79_w_76 (by first | exact id | (intro q_; (try dsimp only at q_); omega))
  have hP_q_53_w_79 := hP_q_53_w_76.mv (u_81.1) (by first | exact id | (intro q_; (try dsimp only at q_); omega))
  have hP_z_67_w_79 := hP_z_67_w_76.mv (u_81.1) (by first | exact id | (intro q_; (try dsimp only at q_); omega))
  have hF_gC_G_80_w_79 : w_79 (gC G 80) = some (0, oE 29 []) := u_81.1 _ _ _ hF_gC_G_80_w_76 (by first | exact id | (intro q_; (try dsimp only at q_); omega))
  have hU : Up (fun _ => False) w w_79 := hU.tr u_81 (fun q_ h_ => by first | exact absurd h_ id | exact Or.inl h_ | ((try dsimp only at h_); first | exact Or.inl (by omega) | exact Or.inr ⟨by omega, by subst h_; rw [Nat.add_sub_cancel]; assumption⟩)) hG
  refine lv_astore (lv' := [(6, .ref q_75), (5, .ref (gC G 80)), (4, .int (iI (3))), (1, .ref z_67), (3, .int (iI (5))), (2, .ref z_1), (0, .ref fa)]) hx hb dX7_earOf_33 hl (by decide) rfl (fun ls hl => ?_)
  refine lv_aload hx hb dX7_earOf_35 (lv_at hl 1 rfl) ?_
  refine lv_aload_n hx hb dX7_earOf_37 rfl (lv_at hl 3 rfl) ?_
  refine lv_aload hx hb dX7_earOf_38 (lv_at hl 0 rfl) ?_
  -- call SpokenMarks$Step$4.hear
  refine h_kV (h_runUN (x := ⟨"SpokenMarks$Step", "hear", "(Ljava/lang/String;Ljava/lang/StringBuilder;)V"⟩) (owner := "SpokenMarks$Step") X hR (st_4 l G w_79 (gC G 80) z_67 q_75 ((prs 99 107 107 (prs 112 104 102 L)).map hrd) hP_z_67_w_79 hW_66 hB__82 hU.2.2.1) (by decide) pn_i_SpokenMarks_Step_hear_2 (hasC.of hF_gC_G_80_w_79 rfl) q1438 q1440 (kk_abs X.2 q1439) (X.1.2.2.2.2 _ q1502) q1503 q1504 ⟨by decide, by decide⟩ hl.1 (Nat.le_of_ble_eq_true rfl) dX7_earOf_40 ⟨by omega, by omega⟩) hL (fun w_84 hp_85 H locs hR hL => ?_)
  obtain ⟨hB__87, u_86⟩ := hp_85
  have hP_fa_w_84 := hP_fa_w_79.mv (u_86.1) (by first | exact id | (intro q_; (try dsimp only at q_); omega))
  have hF_z_1_w_84 : w_84 z_1 = some (z_1 + 1, rE G 6 5 (fun j => if j < 5 then some (gC G (77 + j)) else none)) := u_86.1 _ _ _ hF_z_1_w_79 (by first | exact id | (intro q_; (try dsimp only at q_); omega))
  have hF_gC_G_77_w_84 : w_84 (gC G 77) = some (0, oE 26 []) := u_86.1 _ _ _ hF_gC_G_77_w_79 (by first | exact id | (intro q_; (try dsimp only at q_); omega))
  have hP_q_9_w_84 := hP_q_9_w_79.mv (u_86.1) (by first | exact id | (intro q_; (try dsimp only at q_); omega))
  have hP_z_23_w_84 := hP_z_23_w_79.mv (u_86.1) (by first | exact id | (intro q_; (try dsimp only at q_); omega))
  have hF_gC_G_78_w_84 : w_84 (gC G 78) = some (0, oE 27 []) := u_86.1 _ _ _ hF_gC_G_78_w_79 (by first | exact id | (intro q_; (try dsimp only at q_); omega))
  have hP_q_31_w_84 := hP_q_31_w_79.mv (u_86.1) (by first | exact id | (intro q_; (try dsimp only at q_); omega))
  have hP_z_45_w_84 := hP_z_45_w_79.mv (u_86.1) (by first | exact id | (intro q_; (try dsimp only at q_); omega))
  have hF_gC_G_79_w_84 : w_84 (gC G 79) = some (0, oE 28 []) := u_86.1 _ _ _ hF_gC_G_79_w_79 (by first | exact id | (intro q_; (try dsimp only at q_); omega))
  have hP_q_53_w_84 := hP_q_53_w_79.mv (u_86.1) (by first | exact id | (intro q_; (try dsimp only at q_); omega))
  have hP_z_67_w_84 := hP_z_67_w_79.mv (u_86.1) (by first | exact id | (intro q_; (try dsimp only at q_); omega))
  have hF_gC_G_80_w_84 : w_84 (gC G 80) = some (0, oE 29 []) := u_86.1 _ _ _ hF_gC_G_80_w_79 (by first | exact id | (intro q_; (try dsimp only at q_); omega))
  have hU : Up (fun _ => False) w w_84 := hU.tr u_86 (fun q_ h_ => by first | exact absurd h_ id | exact Or.inl h_ | ((try dsimp only at h_); first | exact Or.inl (by omega) | exact Or.inr ⟨by omega, by subst h_; rw [Nat.add_sub_cancel]; assumption⟩)) hG
  have hW_88 : Wrd (sil ((prs 99 107 107 (prs 112 104 102 L)).map hrd)) := (wrd_sil hW_66)
  have hW_88_8 := hW_88.1
  refine lv_aload hx hb dX7_earOf_43 (lv_at hl 0 rfl) ?_
  -- call java/lang/StringBuilder.toString
  refine h_kR (h_runV X hR (sbb_str l G w_84 q_75 8 (sil ((prs 99 107 107 (prs 112 104 102 L)).map hrd)) hB__87 hU.2.2.1) pn_yJ9_toString (hB__87.c) q1514 q441 q442 q131 q443 ⟨by decide, by decide⟩ hl.1 (Nat.le_of_ble_eq_true rfl) dX7_earOf_45 ⟨by omega, by omega⟩) hL (fun z_89 w_90 hp_91 H locs hR hL => ?_)
  obtain ⟨hz_93, hS__94, u_92⟩ := hp_91
  have ne_fa_z_89 : fa ≠ z_89 := sm_ne hP_fa_w_84.sm hz_93
  have ne_z_1_z_89 : z_1 ≠ z_89 := w_neN hF_z_1_w_84 hz_93
  have ne_gC_G_77_z_89 : (gC G 77) ≠ z_89 := w_neN hF_gC_G_77_w_84 hz_93
  have ne_q_9_z_89 : q_9 ≠ z_89 := sm_ne hP_q_9_w_84.sm hz_93
  have ne_z_23_z_89 : z_23 ≠ z_89 := sm_ne hP_z_23_w_84.sm hz_93
  have ne_gC_G_78_z_89 : (gC G 78) ≠ z_89 := w_neN hF_gC_G_78_w_84 hz_93
  have ne_q_31_z_89 : q_31 ≠ z_89 := sm_ne hP_q_31_w_84.sm hz_93
  have ne_z_45_z_89 : z_45 ≠ z_89 := sm_ne hP_z_45_w_84.sm hz_93
  have ne_gC_G_79_z_89 : (gC G 79) ≠ z_89 := w_neN hF_gC_G_79_w_84 hz_93
  have ne_q_53_z_89 : q_53 ≠ z_89 := sm_ne hP_q_53_w_84.sm hz_93
  have ne_z_67_z_89 : z_67 ≠ z_89 := sm_ne hP_z_67_w_84.sm hz_93
  have ne_gC_G_80_z_89 : (gC G 80) ≠ z_89 := w_neN hF_gC_G_80_w_84 hz_93
  have ne_q_75_z_89 : q_75 ≠ z_89 := sm_ne hB__87.sm hz_93
  have hn_z_89 : w z_89 = none := hU.2.1 _ hz_93
  have hP_fa_w_90 := hP_fa_w_84.mv (u_92.1) (by first | exact id | (intro q_; (try dsimp only at q_); omega))
  have hF_z_1_w_90 : w_90 z_1 = some (z_1 + 1, rE G 6 5 (fun j => if j < 5 then some (gC G (77 + j)) else none)) := u_92.1 _ _ _ hF_z_1_w_84 (by first | exact id | (intro q_; (try dsimp only at q_); omega))
  have hF_gC_G_77_w_90 : w_90 (gC G 77) = some (0, oE 26 []) := u_92.1 _ _ _ hF_gC_G_77_w_84 (by first | exact id | (intro q_; (try dsimp only at q_); omega))
  have hP_q_9_w_90 := hP_q_9_w_84.mv (u_92.1) (by first | exact id | (intro q_; (try dsimp only at q_); omega))
  have hP_z_23_w_90 := hP_z_23_w_84.mv (u_92.1) (by first | exact id | (intro q_; (try dsimp only at q_); omega))
  have hF_gC_G_78_w_90 : w_90 (gC G 78) = some (0, oE 27 []) := u_92.1 _ _ _ hF_gC_G_78_w_84 (by first | exact id | (intro q_; (try dsimp only at q_); omega))
  have hP_q_31_w_90 := hP_q_31_w_84.mv (u_92.1) (by first | exact id | (intro q_; (try dsimp only at q_); omega))
  have hP_z_45_w_90 := hP_z_45_w_84.mv (u_92.1) (by first | exact id | (intro q_; (try dsimp only at q_); omega))
  have hF_gC_G_79_w_90 : w_90 (gC G 79) = some (0, oE 28 []) := u_92.1 _ _ _ hF_gC_G_79_w_84 (by first | exact id | (intro q_; (try dsimp only at q_); omega))
  have hP_q_53_w_90 := hP_q_53_w_84.mv (u_92.1) (by first | exact id | (intro q_; (try dsimp only at q_); omega))
  have hP_z_67_w_90 := hP_z_67_w_84.mv (u_92.1) (by first | exact id | (intro q_; (try dsimp only at q_); omega))
  have hF_gC_G_80_w_90 : w_90 (gC G 80) = some (0, oE 29 []) := u_92.1 _ _ _ hF_gC_G_80_w_84 (by first | exact id | (intro q_; (try dsimp only at q_); omega))
  have hP_q_75_w_90 := hB__87.mv (u_92.1) (by first | exact id | (intro q_; (try dsimp only at q_); omega))
  have hU : Up (fun _ => False) w w_90 := hU.tr u_92 (fun q_ h_ => by first | exact absurd h_ id | exact Or.inl h_ | ((try dsimp only at h_); first | exact Or.inl (by omega) | exact Or.inr ⟨by omega, by subst h_; rw [Nat.add_sub_cancel]; assumption⟩)) hG
  refine lv_astore_n (lv' := [(1, .ref z_89), (6, .ref q_75), (5, .ref (gC G 80)), (4, .int (iI (3))), (3, .int (iI (5))), (2, .ref z_1), (0, .ref fa)]) hx hb dX7_earOf_48 rfl hl (by decide) rfl (fun ls hl => ?_)
  refine h_iinc (lv' := [(4, .int (iI (3 + 1))), (1, .ref z_89), (6, .ref q_75), (5, .ref (gC G 80)), (3, .int (iI (5))), (2, .ref z_1), (0, .ref fa)]) hx hb dX7_earOf_49 hl (k := 3) rfl (by decide) rfl (fun ls hl => ?_)
  have hl : lv_has ls 7 [(4, .int (iI (4))), (1, .ref z_89), (6, .ref q_75), (5, .ref (gC G 80)), (3, .int (iI (5))), (2, .ref z_1), (0, .ref fa)] := lv_conv hl (congrArg (fun z_ : Int => ([(4, .int (iI (z_))), (1, .ref z_89), (6, .ref q_75), (5, .ref (gC G 80)), (3, .int (iI (5))), (2, .ref z_1), (0, .ref fa)] : List (Nat × Value))) (show (3 + 1 : Int) = 4 from (by decide)))
  refine lv_goto (tgt := 12) hx hb dX7_earOf_52 (by decide) ?_
  refine lv_iload hx hb dX7_earOf_12 (lv_at hl 0 rfl) ?_
  refine lv_iload_n hx hb dX7_earOf_14 rfl (lv_at hl 4 rfl) ?_
  refine h_icmp_ge hx hb 55 dX7_earOf_15 (by decide) (by decide) (by decide) (fun z_ => absurd z_ (by decide)) (fun _ => ?_)
  refine lv_aload_n hx hb dX7_earOf_18 rfl (lv_at hl 5 rfl) ?_
  refine lv_iload hx hb dX7_earOf_19 (lv_at hl 0 rfl) ?_
  refine h_aald X hR hF_z_1_w_90 rfl (by omega) (by omega) dX7_earOf_21 ?_
  refine W.eq (g2 := F0 m9 22 ls [.ref (gC G 81)]) (by rw [show (if ((4 : Int)).toNat < 5 then some (gC G (77 + ((4 : Int)).toNat)) else none) = some (gC G 81) from rfl]; rfl) ?_
  have hst_96 : w_90 (gC G 81) = some (0, oE 30 []) := hR.con (X.2.2.2.2.2.2 81 (by decide))
  refine lv_astore (lv' := [(5, .ref (gC G 81)), (4, .int (iI (4))), (1, .ref z_89), (6, .ref q_75), (3, .int (iI (5))), (2, .ref z_1), (0, .ref fa)]) hx hb dX7_earOf_22 hl (by decide) rfl (fun ls hl => ?_)
  refine h_new X hR (ci := 20) (fun q => q + 1) rfl in_J9 tyJ9_ok q1434 q264 q131 [.null, .int (iI (0)), .int (iI (0)), .int (iI (0))] (by intro j hj; rcases (show j = 0 ∨ j = 1 ∨ j = 2 ∨ j = 3 by omega) with rfl | rfl | rfl | rfl <;> rfl) (by omega) (by omega) dX7_earOf_24 (fun q_97 hq_97 w_98 ew_99 H hR => ?_)
  have hn_q_97 : w q_97 = none := hU.2.1 _ hq_97
  have hU : Up (fun _ => False) w w_98 := by rw [ew_99]; exact hU.new hq_97 (by first | exact Or.inr (Or.inl rfl) | exact Or.inl rfl | exact Or.inr (Or.inr (by assumption)))
  have hF_q_97_w_98 : w_98 q_97 = some (q_97 + 1, oE 20 [.null, .int (iI (0)), .int (iI (0)), .int (iI (0))]) := by rw [ew_99]; exact wset_eq _ _ _
  have ne_fa_q_97 : fa ≠ q_97 := sm_ne hP_fa_w_90.sm hq_97
  have hP_fa_w_98 := hP_fa_w_90.mv (w1 := w_98) (S := fun _ => False) (by rw [ew_99]; exact Fr.add hq_97 _) id
  have ne_z_1_q_97 : z_1 ≠ q_97 := w_neN hF_z_1_w_90 hq_97
  have hF_z_1_w_98 : w_98 z_1 = some (z_1 + 1, rE G 6 5 (fun j => if j < 5 then some (gC G (77 + j)) else none)) := by rw [ew_99]; exact (wset_ne _ (w_neN hF_z_1_w_90 hq_97)).trans hF_z_1_w_90
  have ne_gC_G_77_q_97 : (gC G 77) ≠ q_97 := w_neN hF_gC_G_77_w_90 hq_97
  have hF_gC_G_77_w_98 : w_98 (gC G 77) = some (0, oE 26 []) := by rw [ew_99]; exact (wset_ne _ (w_neN hF_gC_G_77_w_90 hq_97)).trans hF_gC_G_77_w_90
  have ne_q_9_q_97 : q_9 ≠ q_97 := sm_ne hP_q_9_w_90.sm hq_97
  have hP_q_9_w_98 := hP_q_9_w_90.mv (w1 := w_98) (S := fun _ => False) (by rw [ew_99]; exact Fr.add hq_97 _) id
  have ne_z_23_q_97 : z_23 ≠ q_97 := sm_ne hP_z_23_w_90.sm hq_97
  have hP_z_23_w_98 := hP_z_23_w_90.mv (w1 := w_98) (S := fun _ => False) (by rw [ew_99]; exact Fr.add hq_97 _) id
  have ne_gC_G_78_q_97 : (gC G 78) ≠ q_97 := w_neN hF_gC_G_78_w_90 hq_97
  have hF_gC_G_78_w_98 : w_98 (gC G 78) = some (0, oE 27 []) := by rw [ew_99]; exact (wset_ne _ (w_neN hF_gC_G_78_w_90 hq_97)).trans hF_gC_G_78_w_90
  have ne_q_31_q_97 : q_31 ≠ q_97 := sm_ne hP_q_31_w_90.sm hq_97
  have hP_q_31_w_98 := hP_q_31_w_90.mv (w1 := w_98) (S := fun _ => False) (by rw [ew_99]; exact Fr.add hq_97 _) id
  have ne_z_45_q_97 : z_45 ≠ q_97 := sm_ne hP_z_45_w_90.sm hq_97
  have hP_z_45_w_98 := hP_z_45_w_90.mv (w1 := w_98) (S := fun _ => False) (by rw [ew_99]; exact Fr.add hq_97 _) id
  have ne_gC_G_79_q_97 : (gC G 79) ≠ q_97 := w_neN hF_gC_G_79_w_90 hq_97
  have hF_gC_G_79_w_98 : w_98 (gC G 79) = some (0, oE 28 []) := by rw [ew_99]; exact (wset_ne _ (w_neN hF_gC_G_79_w_90 hq_97)).trans hF_gC_G_79_w_90
  have ne_q_53_q_97 : q_53 ≠ q_97 := sm_ne hP_q_53_w_90.sm hq_97
  have hP_q_53_w_98 := hP_q_53_w_90.mv (w1 := w_98) (S := fun _ => False) (by rw [ew_99]; exact Fr.add hq_97 _) id
  have ne_z_67_q_97 : z_67 ≠ q_97 := sm_ne hP_z_67_w_90.sm hq_97
  have hP_z_67_w_98 := hP_z_67_w_90.mv (w1 := w_98) (S := fun _ => False) (by rw [ew_99]; exact Fr.add hq_97 _) id
  have ne_gC_G_80_q_97 : (gC G 80) ≠ q_97 := w_neN hF_gC_G_80_w_90 hq_97
  have hF_gC_G_80_w_98 : w_98 (gC G 80) = some (0, oE 29 []) := by rw [ew_99]; exact (wset_ne _ (w_neN hF_gC_G_80_w_90 hq_97)).trans hF_gC_G_80_w_90
  have ne_q_75_q_97 : q_75 ≠ q_97 := sm_ne hP_q_75_w_90.sm hq_97
  have hP_q_75_w_98 := hP_q_75_w_90.mv (w1 := w_98) (S := fun _ => False) (by rw [ew_99]; exact Fr.add hq_97 _) id
  have ne_z_89_q_97 : z_89 ≠ q_97 := sm_ne hS__94.sm hq_97
  have hP_z_89_w_98 := hS__94.mv (w1 := w_98) (S := fun _ => False) (by rw [ew_99]; exact Fr.add hq_97 _) id
  have ne_gC_G_81_q_97 : (gC G 81) ≠ q_97 := w_neN hst_96 hq_97
  have hF_gC_G_81_w_98 : w_98 (gC G 81) = some (0, oE 30 []) := by rw [ew_99]; exact (wset_ne _ (w_neN hst_96 hq_97)).trans hst_96
  refine lv_dup hx hb dX7_earOf_27 rfl ?_
  refine h_bipush hx hb dX7_earOf_28 (by decide) ?_
  -- call java/lang/StringBuilder.<init>
  refine h_kV (h_runI X hR (sbb_init l G w_98 (q_97 + 1) q_97 8 hU.2.2.1 (by omega) hF_q_97_w_98 (by omega)) pn_yJ9_init_2 rfl q1435 q1436 q131 q1437 ⟨by decide, by decide⟩ hl.1 (Nat.le_of_ble_eq_true rfl) dX7_earOf_30 ⟨by omega, by omega⟩) hL (fun w_101 hp_102 H locs hR hL => ?_)
  obtain ⟨hB__104, u_103⟩ := hp_102
  have hP_fa_w_101 := hP_fa_w_98.mv (u_103.1) (by first | exact id | (intro q_; (try dsimp only at q_); omega))
  have hF_z_1_w_101 : w_101 z_1 = some (z_1 + 1, rE G 6 5 (fun j => if j < 5 then some (gC G (77 + j)) else none)) := u_103.1 _ _ _ hF_z_1_w_98 (by first | exact id | (intro q_; (try dsimp only at q_); omega))
  have hF_gC_G_77_w_101 : w_101 (gC G 77) = some (0, oE 26 []) := u_103.1 _ _ _ hF_gC_G_77_w_98 (by first | exact id | (intro q_; (try dsimp only at q_); omega))
  have hP_q_9_w_101 := hP_q_9_w_98.mv (u_103.1) (by first | exact id | (intro q_; (try dsimp only at q_); omega))
  have hP_z_23_w_101 := hP_z_23_w_98.mv (u_103.1) (by first | exact id | (intro q_; (try dsimp only at q_); omega))
  have hF_gC_G_78_w_101 : w_101 (gC G 78) = some (0, oE 27 []) := u_103.1 _ _ _ hF_gC_G_78_w_98 (by first | exact id | (intro q_; (try dsimp only at q_); omega))
  have hP_q_31_w_101 := hP_q_31_w_98.mv (u_103.1) (by first | exact id | (intro q_; (try dsimp only at q_); omega))
  have hP_z_45_w_101 := hP_z_45_w_98.mv (u_103.1) (by first | exact id | (intro q_; (try dsimp only at q_); omega))
  have hF_gC_G_79_w_101 : w_101 (gC G 79) = some (0, oE 28 []) := u_103.1 _ _ _ hF_gC_G_79_w_98 (by first | exact id | (intro q_; (try dsimp only at q_); omega))
  have hP_q_53_w_101 := hP_q_53_w_98.mv (u_103.1) (by first | exact id | (intro q_; (try dsimp only at q_); omega))
  have hP_z_67_w_101 := hP_z_67_w_98.mv (u_103.1) (by first | exact id | (intro q_; (try dsimp only at q_); omega))
  have hF_gC_G_80_w_101 : w_101 (gC G 80) = some (0, oE 29 []) := u_103.1 _ _ _ hF_gC_G_80_w_98 (by first | exact id | (intro q_; (try dsimp only at q_); omega))
  have hP_q_75_w_101 := hP_q_75_w_98.mv (u_103.1) (by first | exact id | (intro q_; (try dsimp only at q_); omega))
  have hP_z_89_w_101 := hP_z_89_w_98.mv (u_103.1) (by first | exact id | (intro q_; (try dsimp only at q_); omega))
  have hF_gC_G_81_w_101 : w_101 (gC G 81) = some (0, oE 30 []) := u_103.1 _ _ _ hF_gC_G_81_w_98 (by first | exact id | (intro q_; (try dsimp only at q_); omega))
  have hU : Up (fun _ => False) w w_101 := hU.tr u_103 (fun q_ h_ => by first | exact absurd h_ id | exact Or.inl h_ | ((try dsimp only at h_); first | exact Or.inl (by omega) | exact Or.inr ⟨by omega, by subst h_; rw [Nat.add_sub_cancel]; assumption⟩)) hG
  refine lv_astore (lv' := [(6, .ref q_97), (5, .ref (gC G 81)), (4, .int (iI (4))), (1, .ref z_89), (3, .int (iI (5))), (2, .ref z_1), (0, .ref fa)]) hx hb dX7_earOf_33 hl (by decide) rfl (fun ls hl => ?_)
  refine lv_aload hx hb dX7_earOf_35 (lv_at hl 1 rfl) ?_
  refine lv_aload_n hx hb dX7_earOf_37 rfl (lv_at hl 3 rfl) ?_
  refine lv_aload hx hb dX7_earOf_38 (lv_at hl 0 rfl) ?_
  -- call SpokenMarks$Step$5.hear
  refine h_kV (h_runUN (x := ⟨"SpokenMarks$Step", "hear", "(Ljava/lang/String;Ljava/lang/StringBuilder;)V"⟩) (owner := "SpokenMarks$Step") X hR (st_5 l G w_101 (gC G 81) z_89 q_97 (sil ((prs 99 107 107 (prs 112 104 102 L)).map hrd)) hP_z_89_w_101 hW_88 hB__104 hU.2.2.1) (by decide) pn_i_SpokenMarks_Step_hear_2 (hasC.of hF_gC_G_81_w_101 rfl) q1438 q1440 (kk_abs X.2 q1439) (X.1.2.2.2.2 _ q1508) q1509 q1510 ⟨by decide, by decide⟩ hl.1 (Nat.le_of_ble_eq_true rfl) dX7_earOf_40 ⟨by omega, by omega⟩) hL (fun w_106 hp_107 H locs hR hL => ?_)
  obtain ⟨hB__109, u_108⟩ := hp_107
  have hP_fa_w_106 := hP_fa_w_101.mv (u_108.1) (by first | exact id | (intro q_; (try dsimp only at q_); omega))
  have hF_z_1_w_106 : w_106 z_1 = some (z_1 + 1, rE G 6 5 (fun j => if j < 5 then some (gC G (77 + j)) else none)) := u_108.1 _ _ _ hF_z_1_w_101 (by first | exact id | (intro q_; (try dsimp only at q_); omega))
  have hF_gC_G_77_w_106 : w_106 (gC G 77) = some (0, oE 26 []) := u_108.1 _ _ _ hF_gC_G_77_w_101 (by first | exact id | (intro q_; (try dsimp only at q_); omega))
  have hP_q_9_w_106 := hP_q_9_w_101.mv (u_108.1) (by first | exact id | (intro q_; (try dsimp only at q_); omega))
  have hP_z_23_w_106 := hP_z_23_w_101.mv (u_108.1) (by first | exact id | (intro q_; (try dsimp only at q_); omega))
  have hF_gC_G_78_w_106 : w_106 (gC G 78) = some (0, oE 27 []) := u_108.1 _ _ _ hF_gC_G_78_w_101 (by first | exact id | (intro q_; (try dsimp only at q_); omega))
  have hP_q_31_w_106 := hP_q_31_w_101.mv (u_108.1) (by first | exact id | (intro q_; (try dsimp only at q_); omega))
  have hP_z_45_w_106 := hP_z_45_w_101.mv (u_108.1) (by first | exact id | (intro q_; (try dsimp only at q_); omega))
  have hF_gC_G_79_w_106 : w_106 (gC G 79) = some (0, oE 28 []) := u_108.1 _ _ _ hF_gC_G_79_w_101 (by first | exact id | (intro q_; (try dsimp only at q_); omega))
  have hP_q_53_w_106 := hP_q_53_w_101.mv (u_108.1) (by first | exact id | (intro q_; (try dsimp only at q_); omega))
  have hP_z_67_w_106 := hP_z_67_w_101.mv (u_108.1) (by first | exact id | (intro q_; (try dsimp only at q_); omega))
  have hF_gC_G_80_w_106 : w_106 (gC G 80) = some (0, oE 29 []) := u_108.1 _ _ _ hF_gC_G_80_w_101 (by first | exact id | (intro q_; (try dsimp only at q_); omega))
  have hP_q_75_w_106 := hP_q_75_w_101.mv (u_108.1) (by first | exact id | (intro q_; (try dsimp only at q_); omega))
  have hP_z_89_w_106 := hP_z_89_w_101.mv (u_108.1) (by first | exact id | (intro q_; (try dsimp only at q_); omega))
  have hF_gC_G_81_w_106 : w_106 (gC G 81) = some (0, oE 30 []) := u_108.1 _ _ _ hF_gC_G_81_w_101 (by first | exact id | (intro q_; (try dsimp only at q_); omega))
  have hU : Up (fun _ => False) w w_106 := hU.tr u_108 (fun q_ h_ => by first | exact absurd h_ id | exact Or.inl h_ | ((try dsimp only at h_); first | exact Or.inl (by omega) | exact Or.inr ⟨by omega, by subst h_; rw [Nat.add_sub_cancel]; assumption⟩)) hG
  have hW_110 : Wrd (rns (sil ((prs 99 107 107 (prs 112 104 102 L)).map hrd))) := (wrd_rns hW_88)
  have hW_110_8 := hW_110.1
  refine lv_aload hx hb dX7_earOf_43 (lv_at hl 0 rfl) ?_
  -- call java/lang/StringBuilder.toString
  refine h_kR (h_runV X hR (sbb_str l G w_106 q_97 8 (rns (sil ((prs 99 107 107 (prs 112 104 102 L)).map hrd))) hB__109 hU.2.2.1) pn_yJ9_toString (hB__109.c) q1514 q441 q442 q131 q443 ⟨by decide, by decide⟩ hl.1 (Nat.le_of_ble_eq_true rfl) dX7_earOf_45 ⟨by omega, by omega⟩) hL (fun z_111 w_112 hp_113 H locs hR hL => ?_)
  obtain ⟨hz_115, hS__116, u_114⟩ := hp_113
  have ne_fa_z_111 : fa ≠ z_111 := sm_ne hP_fa_w_106.sm hz_115
  have ne_z_1_z_111 : z_1 ≠ z_111 := w_neN hF_z_1_w_106 hz_115
  have ne_gC_G_77_z_111 : (gC G 77) ≠ z_111 := w_neN hF_gC_G_77_w_106 hz_115
  have ne_q_9_z_111 : q_9 ≠ z_111 := sm_ne hP_q_9_w_106.sm hz_115
  have ne_z_23_z_111 : z_23 ≠ z_111 := sm_ne hP_z_23_w_106.sm hz_115
  have ne_gC_G_78_z_111 : (gC G 78) ≠ z_111 := w_neN hF_gC_G_78_w_106 hz_115
  have ne_q_31_z_111 : q_31 ≠ z_111 := sm_ne hP_q_31_w_106.sm hz_115
  have ne_z_45_z_111 : z_45 ≠ z_111 := sm_ne hP_z_45_w_106.sm hz_115
  have ne_gC_G_79_z_111 : (gC G 79) ≠ z_111 := w_neN hF_gC_G_79_w_106 hz_115
  have ne_q_53_z_111 : q_53 ≠ z_111 := sm_ne hP_q_53_w_106.sm hz_115
  have ne_z_67_z_111 : z_67 ≠ z_111 := sm_ne hP_z_67_w_106.sm hz_115
  have ne_gC_G_80_z_111 : (gC G 80) ≠ z_111 := w_neN hF_gC_G_80_w_106 hz_115
  have ne_q_75_z_111 : q_75 ≠ z_111 := sm_ne hP_q_75_w_106.sm hz_115
  have ne_z_89_z_111 : z_89 ≠ z_111 := sm_ne hP_z_89_w_106.sm hz_115
  have ne_gC_G_81_z_111 : (gC G 81) ≠ z_111 := w_neN hF_gC_G_81_w_106 hz_115
  have ne_q_97_z_111 : q_97 ≠ z_111 := sm_ne hB__109.sm hz_115
  have hn_z_111 : w z_111 = none := hU.2.1 _ hz_115
  have hP_fa_w_112 := hP_fa_w_106.mv (u_114.1) (by first | exact id | (intro q_; (try dsimp only at q_); omega))
  have hF_z_1_w_112 : w_112 z_1 = some (z_1 + 1, rE G 6 5 (fun j => if j < 5 then some (gC G (77 + j)) else none)) := u_114.1 _ _ _ hF_z_1_w_106 (by first | exact id | (intro q_; (try dsimp only at q_); omega))
  have hF_gC_G_77_w_112 : w_112 (gC G 77) = some (0, oE 26 []) := u_114.1 _ _ _ hF_gC_G_77_w_106 (by first | exact id | (intro q_; (try dsimp only at q_); omega))
  have hP_q_9_w_112 := hP_q_9_w_106.mv (u_114.1) (by first | exact id | (intro q_; (try dsimp only at q_); omega))
  have hP_z_23_w_112 := hP_z_23_w_106.mv (u_114.1) (by first | exact id | (intro q_; (try dsimp only at q_); omega))
  have hF_gC_G_78_w_112 : w_112 (gC G 78) = some (0, oE 27 []) := u_114.1 _ _ _ hF_gC_G_78_w_106 (by first | exact id | (intro q_; (try dsimp only at q_); omega))
  have hP_q_31_w_112 := hP_q_31_w_106.mv (u_114.1) (by first | exact id | (intro q_; (try dsimp only at q_); omega))
  have hP_z_45_w_112 := hP_z_45_w_106.mv (u_114.1) (by first | exact id | (intro q_; (try dsimp only at q_); omega))
  have hF_gC_G_79_w_112 : w_112 (gC G 79) = some (0, oE 28 []) := u_114.1 _ _ _ hF_gC_G_79_w_106 (by first | exact id | (intro q_; (try dsimp only at q_); omega))
  have hP_q_53_w_112 := hP_q_53_w_106.mv (u_114.1) (by first | exact id | (intro q_; (try dsimp only at q_); omega))
  have hP_z_67_w_112 := hP_z_67_w_106.mv (u_114.1) (by first | exact id | (intro q_; (try dsimp only at q_); omega))
  have hF_gC_G_80_w_112 : w_112 (gC G 80) = some (0, oE 29 []) := u_114.1 _ _ _ hF_gC_G_80_w_106 (by first | exact id | (intro q_; (try dsimp only at q_); omega))
  have hP_q_75_w_112 := hP_q_75_w_106.mv (u_114.1) (by first | exact id | (intro q_; (try dsimp only at q_); omega))
  have hP_z_89_w_112 := hP_z_89_w_106.mv (u_114.1) (by first | exact id | (intro q_; (try dsimp only at q_); omega))
  have hF_gC_G_81_w_112 : w_112 (gC G 81) = some (0, oE 30 []) := u_114.1 _ _ _ hF_gC_G_81_w_106 (by first | exact id | (intro q_; (try dsimp only at q_); omega))
  have hP_q_97_w_112 := hB__109.mv (u_114.1) (by first | exact id | (intro q_; (try dsimp only at q_); omega))
  have hU : Up (fun _ => False) w w_112 := hU.tr u_114 (fun q_ h_ => by first | exact absurd h_ id | exact Or.inl h_ | ((try dsimp only at h_); first | exact Or.inl (by omega) | exact Or.inr ⟨by omega, by subst h_; rw [Nat.add_sub_cancel]; assumption⟩)) hG
  refine lv_astore_n (lv' := [(1, .ref z_111), (6, .ref q_97), (5, .ref (gC G 81)), (4, .int (iI (4))), (3, .int (iI (5))), (2, .ref z_1), (0, .ref fa)]) hx hb dX7_earOf_48 rfl hl (by decide) rfl (fun ls hl => ?_)
  refine h_iinc (lv' := [(4, .int (iI (4 + 1))), (1, .ref z_111), (6, .ref q_97), (5, .ref (gC G 81)), (3, .int (iI (5))), (2, .ref z_1), (0, .ref fa)]) hx hb dX7_earOf_49 hl (k := 3) rfl (by decide) rfl (fun ls hl => ?_)
  have hl : lv_has ls 7 [(4, .int (iI (5))), (1, .ref z_111), (6, .ref q_97), (5, .ref (gC G 81)), (3, .int (iI (5))), (2, .ref z_1), (0, .ref fa)] := lv_conv hl (congrArg (fun z_ : Int => ([(4, .int (iI (z_))), (1, .ref z_111), (6, .ref q_97), (5, .ref (gC G 81)), (3, .int (iI (5))), (2, .ref z_1), (0, .ref fa)] : List (Nat × Value))) (show (4 + 1 : Int) = 5 from (by decide)))
  refine lv_goto (tgt := 12) hx hb dX7_earOf_52 (by decide) ?_
  refine lv_iload hx hb dX7_earOf_12 (lv_at hl 0 rfl) ?_
  refine lv_iload_n hx hb dX7_earOf_14 rfl (lv_at hl 4 rfl) ?_
  refine h_icmp_ge hx hb 55 dX7_earOf_15 (by decide) (by decide) (by decide) (fun _ => ?_) (fun z_ => absurd z_ (by decide))
  refine lv_aload_n hx hb dX7_earOf_55 rfl (lv_at hl 1 rfl) ?_
  exact h_areturn hx hb hlk hret (by first | exact Or.inl ⟨_, rfl⟩ | exact Or.inr ⟨_, rfl⟩) hR hL ⟨hS__116, hU⟩ (by omega) (by omega) rfl rfl dX7_earOf_56
