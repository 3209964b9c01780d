/-! the component: what a scanner reads -/
set_option maxRecDepth 100000
theorem TxE.tr {S S2 : Nat → Prop} {w w1 w2 : Wd} {p : Nat} {c : Int} {q : Nat} {E : String} (hU : Up S w w1) (h : TxE S2 w1 p c q E w2) (hS : ∀ q, S2 q → S q ∨ q ≠ 0 ∧ w (q - 1) = none) (hG : RegW w) : TxE S w p c q E w2 := ⟨h.1, hU.2.1 _ h.2.1, h.2.2.1, hU.tr h.2.2.2 hS hG⟩
theorem rNm_1 {T : List Int} {lo hi : Int} {s : Sc} (h : ¬ scK s = 2) : (rNum T lo hi (.inr s)).1 = .inl (scB s, 1) := congrArg Prod.fst (if_neg h)
theorem rNm_2 {T : List Int} {lo hi : Int} {s : Sc} (h : scK s = 2) (h2 : ¬ (lo ≤ scV s ∧ scV s ≤ hi)) : (rNum T lo hi (.inr s)).1 = .inl (scB s, 2) := congrArg Prod.fst ((if_pos h).trans (if_neg h2))
theorem rWord_3 {T : List Int} {s : Sc} {L : List Int} (h : rLook T (.inr s) = (.inr s, L)) : rWord T (.inr s) = (.inr (tok T (scA s)), L) := by unfold rWord; rw [h]; rfl
theorem rWord_x {T : List Int} {s : Sc} {x : Nat × Int} (h : (rLook T (.inr s)).1 = .inl x) : (rWord T (.inr s)).1 = .inl x := by unfold rWord; rw [h]; rfl
theorem scW_len {T : List Int} {s : Sc} (h : scK s = 1) : ((scW T s).length : Int) = (if scA s - scB s ≤ 8 then ((scA s - scB s : Nat) : Int) else 9) := by
  unfold scW; rw [if_pos h, lw_len]; split <;> omega
theorem scW_L {T : List Int} {s : Sc} (h : scK s = 1) (h8 : scA s - scB s ≤ 8) : scW T s = scL T s := by
  unfold scW lw; rw [if_pos h, List.take_of_length_le (by rw [List.length_map, List.length_range]; omega)]; rfl
theorem rSay_1 {T : List Int} {e : Rd} {x : Nat × Int} (h : (rWord T e).1 = .inl x) : (rSay T e).1 = .inl x := by unfold rSay; rw [h]; rfl
theorem rSay_2 {T : List Int} {e : Rd} {s1 : Sc} {L : List Int} {x : Nat × Int} (h : rWord T e = (.inr s1, L)) (h2 : rMust T 4 (.inr s1) = .inl x) : (rSay T e).1 = .inl x := by unfold rSay; rw [h]; show (rWord T (rMust T 4 (.inr s1))).1 = _; rw [h2]; rfl
theorem rSay_3 {T : List Int} {e : Rd} {s1 s2 : Sc} {L : List Int} {x : Nat × Int} (h : rWord T e = (.inr s1, L)) (h2 : rMust T 4 (.inr s1) = .inr s2) (h3 : (rWord T (.inr s2)).1 = .inl x) : (rSay T e).1 = .inl x := by unfold rSay; rw [h]; show (rWord T (rMust T 4 (.inr s1))).1 = _; rw [h2]; exact h3
theorem rSay_4 {T : List Int} {e : Rd} {s1 s2 s3 : Sc} {L M : List Int} (h : rWord T e = (.inr s1, L)) (h2 : rMust T 4 (.inr s1) = .inr s2) (h3 : rWord T (.inr s2) = (.inr s3, M)) : rSay T e = (.inr s3, L, M) := by unfold rSay; rw [h]; show ((rWord T (rMust T 4 (.inr s1))).1, L, (rWord T (rMust T 4 (.inr s1))).2) = _; rw [h2, h3]
theorem rPt_2 {T : List Int} {s s1 : Sc} {v : Int} (h : scK s = 2) (hn : rNum T 0 99999 (.inr s) = (.inr s1, v)) (hv : v ≤ 99999) : rPart T (.inr s) [] = (.inr s1, [.inl v]) := by
  by_cases q : 0 ≤ scV s ∧ scV s ≤ 99999
  · rw [rNum_3 h q] at hn; cases hn
    exact ((if_pos h).trans (if_pos q.2)).trans (if_neg (by decide))
  · have h1 := congrArg Prod.fst hn; rw [rNm_2 h q] at h1; cases h1
theorem rPt_2x {T : List Int} {s : Sc} {x : Nat × Int} (h : scK s = 2) (hv0 : 0 ≤ scV s) (hn : (rNum T 0 99999 (.inr s)).1 = .inl x) : (rPart T (.inr s) []).1 = .inl x := by
  by_cases q : 0 ≤ scV s ∧ scV s ≤ 99999
  · rw [rNum_3 h q] at hn; cases hn
  · rw [rNm_2 h q] at hn; rw [← hn]
    exact congrArg Prod.fst ((if_pos h).trans (if_neg (fun z => q ⟨hv0, z⟩)))
theorem rPt_1 {T : List Int} {s s1 : Sc} {L : List Int} (h : ¬ scK s = 2) (hn : rWord T (.inr s) = (.inr s1, L)) : rPart T (.inr s) [] = (.inr s1, [.inr L]) := by
  by_cases h1 : scK s = 1
  · by_cases h8 : scA s - scB s ≤ 8
    · rw [rWord_3 (rLook_3 h1 h8)] at hn; cases hn; exact rPart_w0 h h1 h8 (by decide)
    · have h2 := congrArg Prod.fst hn; rw [rWord_x (congrArg Prod.fst (rLook_2 h1 h8))] at h2; cases h2
  · have h2 := congrArg Prod.fst hn; rw [rWord_x (congrArg Prod.fst (rLook_1 h1))] at h2; cases h2
theorem rPt_1x {T : List Int} {s : Sc} {x : Nat × Int} (h : ¬ scK s = 2) (hn : (rWord T (.inr s)).1 = .inl x) : (rPart T (.inr s) []).1 = .inl x := by
  by_cases h1 : scK s = 1
  · by_cases h8 : scA s - scB s ≤ 8
    · rw [rWord_3 (rLook_3 h1 h8)] at hn; cases hn
    · rw [rWord_x (congrArg Prod.fst (rLook_2 h1 h8))] at hn; rw [← hn]
      exact congrArg Prod.fst (((if_neg h).trans (if_pos h1)).trans (if_neg h8))
  · rw [rWord_x (congrArg Prod.fst (rLook_1 h1))] at hn; rw [← hn]
    exact congrArg Prod.fst ((if_neg h).trans (if_neg h1))
theorem rPut_at {T : List Int} {s s1 : Sc} {ps : List Prt} {x y : Prt} (h : rPut T s [] y = (.inr s1, [x])) (h5 : ¬ ps.length = 5) : rPut T s ps y = (.inr s1, ps ++ [x]) := by
  have e : rPut T s [] y = (.inr (tok T (scA s)), [y]) := if_neg (by decide)
  rw [e] at h; cases h
  exact if_neg h5
theorem rPart_at {T : List Int} {s s1 : Sc} {ps : List Prt} {x : Prt} (h : rPart T (.inr s) [] = (.inr s1, [x])) (h5 : ¬ ps.length = 5) : rPart T (.inr s) ps = (.inr s1, ps ++ [x]) := by
  by_cases k2 : scK s = 2
  · by_cases v9 : scV s ≤ 99999
    · have e : rPart T (.inr s) [] = rPut T s [] (.inl (scV s)) := (if_pos k2).trans (if_pos v9)
      rw [e] at h
      exact ((if_pos k2).trans (if_pos v9)).trans (rPut_at h h5)
    · have e : rPart T (.inr s) [] = (.inl (scB s, 2), []) := (if_pos k2).trans (if_neg v9)
      rw [e] at h; cases h
  · by_cases k1 : scK s = 1
    · by_cases h8 : scA s - scB s ≤ 8
      · have e : rPart T (.inr s) [] = rPut T s [] (.inr (scL T s)) := ((if_neg k2).trans (if_pos k1)).trans (if_pos h8)
        rw [e] at h
        exact (((if_neg k2).trans (if_pos k1)).trans (if_pos h8)).trans (rPut_at h h5)
      · have e : rPart T (.inr s) [] = (.inl (scB s, 3), []) := ((if_neg k2).trans (if_pos k1)).trans (if_neg h8)
        rw [e] at h; cases h
    · have e : rPart T (.inr s) [] = (.inl (scB s, 1), []) := (if_neg k2).trans (if_neg k1)
      rw [e] at h; cases h
theorem tok_v9 {T : List Int} (hT : TxW T) (p : Nat) : 0 ≤ scV (tok T p) := by
  unfold tok
  split
  · exact Int.le_refl 0
  split
  · exact Int.le_refl 0
  split
  · show 0 ≤ nmV T (skp T p)
    have h3 := runA_le (P := fun j => 48 ≤ bat T j ∧ bat T j ≤ 57) (T.length - skp T p) (skp T p)
    change skp T p ≤ fgE T (skp T p) ∧ fgE T (skp T p) ≤ _ ∧ _ at h3
    unfold nmV
    have key : ∀ n, n ≤ fgE T (skp T p) - skp T p → 0 ≤ nmF T (skp T p) n := by
      intro n
      induction n with
      | zero => intro _; exact Int.le_refl 0
      | succ n ih =>
        intro hn
        have a := ih (by omega)
        have b := h3.2.2 (skp T p + n) (by omega) (show skp T p + n < fgE T (skp T p) by omega)
        show 0 ≤ min 1000000 (10 * nmF T (skp T p) n + bat T (skp T p + n) - 48)
        omega
    exact key _ (Nat.le_refl _)
  · exact Int.le_refl 0

theorem pn_yX4_init : ParN yX4_init 2 := by decide +kernel
theorem pn_yX11_advance : ParN yX11_advance 0 := by decide +kernel
theorem pn_yX11_check : ParN yX11_check 2 := by decide +kernel
theorem pn_yX11_lookWord : ParN yX11_lookWord 0 := by decide +kernel
theorem pn_yX11_symbol : ParN yX11_symbol 1 := by decide +kernel
theorem pn_yX11_word : ParN yX11_word 0 := by decide +kernel
theorem pn_yX13_init : ParN yX13_init 2 := by decide +kernel

set_option maxHeartbeats 4000000 in
set_option maxRecDepth 100000 in
/-- SpokenMarks$Scanner.check -/
theorem sc_chk1 (l : Launch) (G : Gl) (w : Wd) (q : Nat) (x : Int) : HM l yX11_check cX11_check 3 none 1 0 0 G [.ref q, .int (iI (1)), .int (iI (x))] w (QV G (fun w_ => w_ = w)) := by
  refine HM.mk (by decide +kernel) (Nat.le_of_ble_eq_true rfl) ?_
  intro p9 e9 s9 m9 a9 b9 meth9 c9 ls X hret hlk hnm hl H hR
  have hx := X.1.1
  have hb := X.1.2.1
  have hl : lv_has ls 3 [(0, .ref q), (1, .int (iI (1))), (2, .int (iI (x)))] := hl
  have hL : LK G [] := fun q h => absurd h List.not_mem_nil
  generalize ([] : List Loc) = locs at hL ⊢
  refine lv_iload_n hx hb dX11_check_0 rfl (lv_at hl 1 rfl) ?_
  refine h_if_ne hx hb 17 dX11_check_1 (by decide) (by decide) (fun _ => ?_) (fun z_ => absurd z_ (by decide))
  exact h_vreturn hx hb hlk hret hR hL (by rfl) (by omega) (by omega) rfl rfl dX11_check_17

set_option maxHeartbeats 4000000 in
set_option maxRecDepth 100000 in
/-- SpokenMarks$Scanner.check -/
theorem sc_chk0 (l : Launch) (G : Gl) (w : Wd) (q : Nat) (bf : Nat) (T : List Int) (s : Sc) (hK : TkAt G w 8 [] q bf T s) (x : Int) (hG : RegW w) : HMX l yX11_check cX11_check 3 none 4 1 8 G [.ref q, .int (iI (0)), .int (iI (x))] w (QV G (fun w_ => False)) (TxE (fun _ => False) w (scB s) x) := by
  refine HMX.mk (by decide +kernel) (Nat.le_of_ble_eq_true rfl) ?_
  intro p9 e9 s9 m9 a9 b9 meth9 c9 ls X hret hlk hnm htab hl H hR
  have hx := X.1.1
  have hb := X.1.2.1
  have hl : lv_has ls 3 [(0, .ref q), (1, .int (iI (0))), (2, .int (iI (x)))] := hl
  have hL : LK G [] := fun q h => absurd h List.not_mem_nil
  generalize ([] : List Loc) = locs at hL ⊢
  have hU : Up (fun _ => False) w w := Up.rf hG
  obtain ⟨va_k_1, wa_k_1, hKo_k_1, hKs_k_1, hKr_k_1, hKv_k_1⟩ := hK
  refine lv_iload_n hx hb dX11_check_0 rfl (lv_at hl 1 rfl) ?_
  refine h_if_ne hx hb 17 dX11_check_1 (by decide) (by decide) (fun z_ => absurd z_ (by decide)) (fun _ => ?_)
  refine h_new X hR (ci := 11) (fun q => q + 1) rfl in_X13 tyX13_ok q2132 q2133 q164 [.null, .null, .null, .null, .null, .int (iI (0)), .int (iI (0)), .int (iI (0))] (by intro j hj; rcases (show j = 0 ∨ j = 1 ∨ j = 2 ∨ j = 3 ∨ j = 4 ∨ j = 5 ∨ j = 6 ∨ j = 7 by omega) with rfl | rfl | rfl | rfl | rfl | rfl | rfl | rfl <;> rfl) (by omega) (by omega) dX11_check_4 (fun q9 hq9 w_3 ew_4 H hR => ?_)
  have hn_q9 : w q9 = none := hU.2.1 _ hq9
  have hU : Up (fun _ => False) w w_3 := by rw [ew_4]; exact hU.new hq9 (by first | exact Or.inr (Or.inl rfl) | exact Or.inl rfl | exact Or.inr (Or.inr (by assumption)))
  have hF_q9_w_3 : w_3 q9 = some (q9 + 1, oE 11 [.null, .null, .null, .null, .null, .int (iI (0)), .int (iI (0)), .int (iI (0))]) := by rw [ew_4]; exact wset_eq _ _ _
  have ne_q_q9 : Ne9 q q9 := w_neN hKo_k_1 hq9
  have hF_q_w_3 : w_3 q = some (q + 1, oE 8 [.ref bf, .int (iI ((T.length : Int))), .int (iI ((scB s : Int))), .int (iI ((scA s : Int))), .int (iI (va_k_1)), .int (iI (scK s)), .ref wa_k_1]) := by rw [ew_4]; exact (wset_ne _ (w_neN hKo_k_1 hq9)).trans hKo_k_1
  have ne_wa_k_1_q9 : Ne9 wa_k_1 q9 := sm_ne hKs_k_1.sm hq9
  have hP_wa_k_1_w_3 := hKs_k_1.mv (w1 := w_3) (S := fun _ => False) (by rw [ew_4]; exact Fr.add hq9 _) id
  refine lv_dup hx hb dX11_check_7 rfl ?_
  refine lv_aload_n hx hb dX11_check_8 rfl (lv_at hl 0 rfl) ?_
  refine h_get X hR hF_q_w_3 rfl in_X11 2 (by decide) q2092 rfl dX11_check_9 ?_
  refine lv_iload_n hx hb dX11_check_12 rfl (lv_at hl 2 rfl) ?_
  -- call SpokenMarks$TextException.<init>
  refine h_kV (h_runI X hR (tx_init l G w_3 q9 ((scB s : Int)) x hF_q9_w_3 hU.2.2.1) pn_yX13_init rfl q2141 q2142 q164 q2143 ⟨by decide, by decide⟩ hl.1 (Nat.le_of_ble_eq_true rfl) dX11_check_13 ⟨by omega, by omega⟩) hL (fun w_6 hp_7 H locs hR hL => ?_)
  obtain ⟨hO__9, u_8⟩ := hp_7
  have hF_q_w_6 : w_6 q = some (q + 1, oE 8 [.ref bf, .int (iI ((T.length : Int))), .int (iI ((scB s : Int))), .int (iI ((scA s : Int))), .int (iI (va_k_1)), .int (iI (scK s)), .ref wa_k_1]) := u_8.1 _ _ _ hF_q_w_3 (by first | exact id | exact fun q_ => absurd q_ (by first | assumption | exact Ne9.p (by assumption)) | exact fun q_ => absurd (Nat.succ.inj q_) (by first | assumption | exact Ne9.p (by assumption)) | exact fun q_ => absurd q_.symm (Nat.succ_ne_zero _) | exact fun q_ => absurd (Nat.succ.inj q_).symm (by first | assumption | exact Ne9.p (by assumption)) | (intro q_; (try dsimp only at q_); rcases q_ with q_ | q_ | q_ | q_ | q_ <;> first | exact absurd q_ (by first | assumption | exact Ne9.p (by assumption)) | exact absurd (Nat.succ.inj q_) (by first | assumption | exact Ne9.p (by assumption)) | exact absurd q_.symm (Nat.succ_ne_zero _) | exact absurd (Nat.succ.inj q_).symm (by first | assumption | exact Ne9.p (by assumption))) | (intro q_; (try dsimp only at q_); rcases q_ with q_ | q_ | q_ | q_ <;> first | exact absurd q_ (by first | assumption | exact Ne9.p (by assumption)) | exact absurd (Nat.succ.inj q_) (by first | assumption | exact Ne9.p (by assumption)) | exact absurd q_.symm (Nat.succ_ne_zero _) | exact absurd (Nat.succ.inj q_).symm (by first | assumption | exact Ne9.p (by assumption))) | (intro q_; (try dsimp only at q_); rcases q_ with q_ | q_ <;> first | exact absurd q_ (by first | assumption | exact Ne9.p (by assumption)) | exact absurd (Nat.succ.inj q_) (by first | assumption | exact Ne9.p (by assumption)) | exact absurd q_.symm (Nat.succ_ne_zero _) | exact absurd (Nat.succ.inj q_).symm (by first | assumption | exact Ne9.p (by assumption))) | (intro q_; (try dsimp only at q_); omega))
  have hP_wa_k_1_w_6 := hP_wa_k_1_w_3.mv (u_8.1) (by first | exact id | exact fun q_ => absurd q_ (by first | assumption | exact Ne9.p (by assumption)) | exact fun q_ => absurd (Nat.succ.inj q_) (by first | assumption | exact Ne9.p (by assumption)) | exact fun q_ => absurd q_.symm (Nat.succ_ne_zero _) | exact fun q_ => absurd (Nat.succ.inj q_).symm (by first | assumption | exact Ne9.p (by assumption)) | (intro q_; (try dsimp only at q_); rcases q_ with q_ | q_ | q_ | q_ | q_ <;> first | exact absurd q_ (by first | assumption | exact Ne9.p (by assumption)) | exact absurd (Nat.succ.inj q_) (by first | assumption | exact Ne9.p (by assumption)) | exact absurd q_.symm (Nat.succ_ne_zero _) | exact absurd (Nat.succ.inj q_).symm (by first | assumption | exact Ne9.p (by assumption))) | (intro q_; (try dsimp only at q_); rcases q_ with q_ | q_ | q_ | q_ <;> first | exact absurd q_ (by first | assumption | exact Ne9.p (by assumption)) | exact absurd (Nat.succ.inj q_) (by first | assumption | exact Ne9.p (by assumption)) | exact absurd q_.symm (Nat.succ_ne_zero _) | exact absurd (Nat.succ.inj q_).symm (by first | assumption | exact Ne9.p (by assumption))) | (intro q_; (try dsimp only at q_); rcases q_ with q_ | q_ <;> first | exact absurd q_ (by first | assumption | exact Ne9.p (by assumption)) | exact absurd (Nat.succ.inj q_) (by first | assumption | exact Ne9.p (by assumption)) | exact absurd q_.symm (Nat.succ_ne_zero _) | exact absurd (Nat.succ.inj q_).symm (by first | assumption | exact Ne9.p (by assumption))) | (intro q_; (try dsimp only at q_); omega))
  have hU : Up (fun _ => False) w w_6 := hU.tr u_8 (fun q_ h_ => by first | exact absurd h_ id | exact Or.inl h_ | exact Or.inr (up_nw h_ (by assumption)) | exact Or.inl (Or.inl h_) | exact Or.inl (Or.inr h_) | exact Or.inl (Or.inr (Or.inl h_)) | exact Or.inl (Or.inr (Or.inr h_)) | exact Or.inl (Or.inr (Or.inr (Or.inl h_))) | exact Or.inl (Or.inr (Or.inr (Or.inr h_))) | exact Or.inl (h_.elim Or.inl (fun h_ => Or.inr (Or.inl h_))) | ((try dsimp only at h_); first | exact Or.inl (by omega) | exact Or.inr ⟨by omega, by subst h_; rw [Nat.add_sub_cancel]; assumption⟩)) hG
  refine h_athrow X hR hO__9 (by omega) rfl dX11_check_16 (fun ce_ hce_ hcv_ hcl_ => ?_)
  exact h_xout (fun x_ hx_ => htab x_ hx_ _) hlk hce_ hcv_ hcl_ hR hL ⟨rfl, hn_q9, hO__9, hU⟩ (by omega) (by omega) rfl rfl

set_option maxHeartbeats 4000000 in
set_option maxRecDepth 100000 in
/-- SpokenMarks$Scanner.check -/
theorem sc_chk1r (l : Launch) (G : Gl) (w : Wd) (q : Nat) (x : Int) : HM l yX11_check cX11_check 3 none 1 0 0 G [.ref q, .int (iI (1)), .int (iI (x))] w (QV G (fun w_ => w_ = w)) := by
  refine HM.mk (by decide +kernel) (Nat.le_of_ble_eq_true rfl) ?_
  intro p9 e9 s9 m9 a9 b9 meth9 c9 ls X hret hlk hnm hl H hR
  have hx := X.1.1
  have hb := X.1.2.1
  have hl : lv_has ls 3 [(0, .ref q), (1, .int (iI (1))), (2, .int (iI (x)))] := hl
  have hL : LK G [] := fun q h => absurd h List.not_mem_nil
  generalize ([] : List Loc) = locs at hL ⊢
  refine lv_iload_n hx hb dX11_check_0 rfl (lv_at hl 1 rfl) ?_
  refine h_if_ne hx hb 17 dX11_check_1 (by decide) (by decide) (fun _ => ?_) (fun z_ => absurd z_ (by decide))
  exact h_vreturn hx hb hlk hret hR hL (by rfl) (by omega) (by omega) rfl rfl dX11_check_17

set_option maxHeartbeats 4000000 in
set_option maxRecDepth 100000 in
/-- SpokenMarks$Scanner.check -/
theorem sc_chk0r (l : Launch) (G : Gl) (w : Wd) (q : Nat) (bf : Nat) (T : List Int) (s : Sc) (hK : TkAt G w 9 [] q bf T s) (x : Int) (hG : RegW w) : HMX l yX11_check cX11_check 3 none 4 1 8 G [.ref q, .int (iI (0)), .int (iI (x))] w (QV G (fun w_ => False)) (TxE (fun _ => False) w (scB s) x) := by
  refine HMX.mk (by decide +kernel) (Nat.le_of_ble_eq_true rfl) ?_
  intro p9 e9 s9 m9 a9 b9 meth9 c9 ls X hret hlk hnm htab hl H hR
  have hx := X.1.1
  have hb := X.1.2.1
  have hl : lv_has ls 3 [(0, .ref q), (1, .int (iI (0))), (2, .int (iI (x)))] := hl
  have hL : LK G [] := fun q h => absurd h List.not_mem_nil
  generalize ([] : List Loc) = locs at hL ⊢
  have hU : Up (fun _ => False) w w := Up.rf hG
  obtain ⟨va_k_1, wa_k_1, hKo_k_1, hKs_k_1, hKr_k_1, hKv_k_1⟩ := hK
  refine lv_iload_n hx hb dX11_check_0 rfl (lv_at hl 1 rfl) ?_
  refine h_if_ne hx hb 17 dX11_check_1 (by decide) (by decide) (fun z_ => absurd z_ (by decide)) (fun _ => ?_)
  refine h_new X hR (ci := 11) (fun q => q + 1) rfl in_X13 tyX13_ok q2132 q2133 q164 [.null, .null, .null, .null, .null, .int (iI (0)), .int (iI (0)), .int (iI (0))] (by intro j hj; rcases (show j = 0 ∨ j = 1 ∨ j = 2 ∨ j = 3 ∨ j = 4 ∨ j = 5 ∨ j = 6 ∨ j = 7 by omega) with rfl | rfl | rfl | rfl | rfl | rfl | rfl | rfl <;> rfl) (by omega) (by omega) dX11_check_4 (fun q9 hq9 w_3 ew_4 H hR => ?_)
  have hn_q9 : w q9 = none := hU.2.1 _ hq9
  have hU : Up (fun _ => False) w w_3 := by rw [ew_4]; exact hU.new hq9 (by first | exact Or.inr (Or.inl rfl) | exact Or.inl rfl | exact Or.inr (Or.inr (by assumption)))
  have hF_q9_w_3 : w_3 q9 = some (q9 + 1, oE 11 [.null, .null, .null, .null, .null, .int (iI (0)), .int (iI (0)), .int (iI (0))]) := by rw [ew_4]; exact wset_eq _ _ _
  have ne_q_q9 : Ne9 q q9 := w_neN hKo_k_1 hq9
  have hF_q_w_3 : w_3 q = some (q + 1, oE 9 [.ref bf, .int (iI ((T.length : Int))), .int (iI ((scB s : Int))), .int (iI ((scA s : Int))), .int (iI (va_k_1)), .int (iI (scK s)), .ref wa_k_1]) := by rw [ew_4]; exact (wset_ne _ (w_neN hKo_k_1 hq9)).trans hKo_k_1
  have ne_wa_k_1_q9 : Ne9 wa_k_1 q9 := sm_ne hKs_k_1.sm hq9
  have hP_wa_k_1_w_3 := hKs_k_1.mv (w1 := w_3) (S := fun _ => False) (by rw [ew_4]; exact Fr.add hq9 _) id
  refine lv_dup hx hb dX11_check_7 rfl ?_
  refine lv_aload_n hx hb dX11_check_8 rfl (lv_at hl 0 rfl) ?_
  refine h_get X hR hF_q_w_3 rfl in_X12 2 (by decide) q2092 rfl dX11_check_9 ?_
  refine lv_iload_n hx hb dX11_check_12 rfl (lv_at hl 2 rfl) ?_
  -- call SpokenMarks$TextException.<init>
  refine h_kV (h_runI X hR (tx_init l G w_3 q9 ((scB s : Int)) x hF_q9_w_3 hU.2.2.1) pn_yX13_init rfl q2141 q2142 q164 q2143 ⟨by decide, by decide⟩ hl.1 (Nat.le_of_ble_eq_true rfl) dX11_check_13 ⟨by omega, by omega⟩) hL (fun w_6 hp_7 H locs hR hL => ?_)
  obtain ⟨hO__9, u_8⟩ := hp_7
  have hF_q_w_6 : w_6 q = some (q + 1, oE 9 [.ref bf, .int (iI ((T.length : Int))), .int (iI ((scB s : Int))), .int (iI ((scA s : Int))), .int (iI (va_k_1)), .int (iI (scK s)), .ref wa_k_1]) := u_8.1 _ _ _ hF_q_w_3 (by first | exact id | exact fun q_ => absurd q_ (by first | assumption | exact Ne9.p (by assumption)) | exact fun q_ => absurd (Nat.succ.inj q_) (by first | assumption | exact Ne9.p (by assumption)) | exact fun q_ => absurd q_.symm (Nat.succ_ne_zero _) | exact fun q_ => absurd (Nat.succ.inj q_).symm (by first | assumption | exact Ne9.p (by assumption)) | (intro q_; (try dsimp only at q_); rcases q_ with q_ | q_ | q_ | q_ | q_ <;> first | exact absurd q_ (by first | assumption | exact Ne9.p (by assumption)) | exact absurd (Nat.succ.inj q_) (by first | assumption | exact Ne9.p (by assumption)) | exact absurd q_.symm (Nat.succ_ne_zero _) | exact absurd (Nat.succ.inj q_).symm (by first | assumption | exact Ne9.p (by assumption))) | (intro q_; (try dsimp only at q_); rcases q_ with q_ | q_ | q_ | q_ <;> first | exact absurd q_ (by first | assumption | exact Ne9.p (by assumption)) | exact absurd (Nat.succ.inj q_) (by first | assumption | exact Ne9.p (by assumption)) | exact absurd q_.symm (Nat.succ_ne_zero _) | exact absurd (Nat.succ.inj q_).symm (by first | assumption | exact Ne9.p (by assumption))) | (intro q_; (try dsimp only at q_); rcases q_ with q_ | q_ <;> first | exact absurd q_ (by first | assumption | exact Ne9.p (by assumption)) | exact absurd (Nat.succ.inj q_) (by first | assumption | exact Ne9.p (by assumption)) | exact absurd q_.symm (Nat.succ_ne_zero _) | exact absurd (Nat.succ.inj q_).symm (by first | assumption | exact Ne9.p (by assumption))) | (intro q_; (try dsimp only at q_); omega))
  have hP_wa_k_1_w_6 := hP_wa_k_1_w_3.mv (u_8.1) (by first | exact id | exact fun q_ => absurd q_ (by first | assumption | exact Ne9.p (by assumption)) | exact fun q_ => absurd (Nat.succ.inj q_) (by first | assumption | exact Ne9.p (by assumption)) | exact fun q_ => absurd q_.symm (Nat.succ_ne_zero _) | exact fun q_ => absurd (Nat.succ.inj q_).symm (by first | assumption | exact Ne9.p (by assumption)) | (intro q_; (try dsimp only at q_); rcases q_ with q_ | q_ | q_ | q_ | q_ <;> first | exact absurd q_ (by first | assumption | exact Ne9.p (by assumption)) | exact absurd (Nat.succ.inj q_) (by first | assumption | exact Ne9.p (by assumption)) | exact absurd q_.symm (Nat.succ_ne_zero _) | exact absurd (Nat.succ.inj q_).symm (by first | assumption | exact Ne9.p (by assumption))) | (intro q_; (try dsimp only at q_); rcases q_ with q_ | q_ | q_ | q_ <;> first | exact absurd q_ (by first | assumption | exact Ne9.p (by assumption)) | exact absurd (Nat.succ.inj q_) (by first | assumption | exact Ne9.p (by assumption)) | exact absurd q_.symm (Nat.succ_ne_zero _) | exact absurd (Nat.succ.inj q_).symm (by first | assumption | exact Ne9.p (by assumption))) | (intro q_; (try dsimp only at q_); rcases q_ with q_ | q_ <;> first | exact absurd q_ (by first | assumption | exact Ne9.p (by assumption)) | exact absurd (Nat.succ.inj q_) (by first | assumption | exact Ne9.p (by assumption)) | exact absurd q_.symm (Nat.succ_ne_zero _) | exact absurd (Nat.succ.inj q_).symm (by first | assumption | exact Ne9.p (by assumption))) | (intro q_; (try dsimp only at q_); omega))
  have hU : Up (fun _ => False) w w_6 := hU.tr u_8 (fun q_ h_ => by first | exact absurd h_ id | exact Or.inl h_ | exact Or.inr (up_nw h_ (by assumption)) | exact Or.inl (Or.inl h_) | exact Or.inl (Or.inr h_) | exact Or.inl (Or.inr (Or.inl h_)) | exact Or.inl (Or.inr (Or.inr h_)) | exact Or.inl (Or.inr (Or.inr (Or.inl h_))) | exact Or.inl (Or.inr (Or.inr (Or.inr h_))) | exact Or.inl (h_.elim Or.inl (fun h_ => Or.inr (Or.inl h_))) | ((try dsimp only at h_); first | exact Or.inl (by omega) | exact Or.inr ⟨by omega, by subst h_; rw [Nat.add_sub_cancel]; assumption⟩)) hG
  refine h_athrow X hR hO__9 (by omega) rfl dX11_check_16 (fun ce_ hce_ hcv_ hcl_ => ?_)
  exact h_xout (fun x_ hx_ => htab x_ hx_ _) hlk hce_ hcv_ hcl_ hR hL ⟨rfl, hn_q9, hO__9, hU⟩ (by omega) (by omega) rfl rfl

set_option maxHeartbeats 4000000 in
set_option maxRecDepth 100000 in
/-- SpokenMarks$Scanner.check -/
theorem sc_chk1s (l : Launch) (G : Gl) (w : Wd) (q : Nat) (x : Int) : HM l yX11_check cX11_check 3 none 1 0 0 G [.ref q, .int (iI (1)), .int (iI (x))] w (QV G (fun w_ => w_ = w)) := by
  refine HM.mk (by decide +kernel) (Nat.le_of_ble_eq_true rfl) ?_
  intro p9 e9 s9 m9 a9 b9 meth9 c9 ls X hret hlk hnm hl H hR
  have hx := X.1.1
  have hb := X.1.2.1
  have hl : lv_has ls 3 [(0, .ref q), (1, .int (iI (1))), (2, .int (iI (x)))] := hl
  have hL : LK G [] := fun q h => absurd h List.not_mem_nil
  generalize ([] : List Loc) = locs at hL ⊢
  refine lv_iload_n hx hb dX11_check_0 rfl (lv_at hl 1 rfl) ?_
  refine h_if_ne hx hb 17 dX11_check_1 (by decide) (by decide) (fun _ => ?_) (fun z_ => absurd z_ (by decide))
  exact h_vreturn hx hb hlk hret hR hL (by rfl) (by omega) (by omega) rfl rfl dX11_check_17

set_option maxHeartbeats 4000000 in
set_option maxRecDepth 100000 in
/-- SpokenMarks$Scanner.check -/
theorem sc_chk0s (l : Launch) (G : Gl) (w : Wd) (q : Nat) (ol ca : Value) (bf : Nat) (T : List Int) (s : Sc) (hK : TkAt G w 10 [ol, ca] q bf T s) (x : Int) (hG : RegW w) : HMX l yX11_check cX11_check 3 none 4 1 8 G [.ref q, .int (iI (0)), .int (iI (x))] w (QV G (fun w_ => False)) (TxE (fun _ => False) w (scB s) x) := by
  refine HMX.mk (by decide +kernel) (Nat.le_of_ble_eq_true rfl) ?_
  intro p9 e9 s9 m9 a9 b9 meth9 c9 ls X hret hlk hnm htab hl H hR
  have hx := X.1.1
  have hb := X.1.2.1
  have hl : lv_has ls 3 [(0, .ref q), (1, .int (iI (0))), (2, .int (iI (x)))] := hl
  have hL : LK G [] := fun q h => absurd h List.not_mem_nil
  generalize ([] : List Loc) = locs at hL ⊢
  have hU : Up (fun _ => False) w w := Up.rf hG
  obtain ⟨va_k_1, wa_k_1, hKo_k_1, hKs_k_1, hKr_k_1, hKv_k_1⟩ := hK
  refine lv_iload_n hx hb dX11_check_0 rfl (lv_at hl 1 rfl) ?_
  refine h_if_ne hx hb 17 dX11_check_1 (by decide) (by decide) (fun z_ => absurd z_ (by decide)) (fun _ => ?_)
  refine h_new X hR (ci := 11) (fun q => q + 1) rfl in_X13 tyX13_ok q2132 q2133 q164 [.null, .null, .null, .null, .null, .int (iI (0)), .int (iI (0)), .int (iI (0))] (by intro j hj; rcases (show j = 0 ∨ j = 1 ∨ j = 2 ∨ j = 3 ∨ j = 4 ∨ j = 5 ∨ j = 6 ∨ j = 7 by omega) with rfl | rfl | rfl | rfl | rfl | rfl | rfl | rfl <;> rfl) (by omega) (by omega) dX11_check_4 (fun q9 hq9 w_3 ew_4 H hR => ?_)
  have hn_q9 : w q9 = none := hU.2.1 _ hq9
  have hU : Up (fun _ => False) w w_3 := by rw [ew_4]; exact hU.new hq9 (by first | exact Or.inr (Or.inl rfl) | exact Or.inl rfl | exact Or.inr (Or.inr (by assumption)))
  have hF_q9_w_3 : w_3 q9 = some (q9 + 1, oE 11 [.null, .null, .null, .null, .null, .int (iI (0)), .int (iI (0)), .int (iI (0))]) := by rw [ew_4]; exact wset_eq _ _ _
  have ne_q_q9 : Ne9 q q9 := w_neN hKo_k_1 hq9
  have hF_q_w_3 : w_3 q = some (q + 1, oE 10 [.ref bf, .int (iI ((T.length : Int))), .int (iI ((scB s : Int))), .int (iI ((scA s : Int))), .int (iI (va_k_1)), .int (iI (scK s)), .ref wa_k_1, ol, ca]) := by rw [ew_4]; exact (wset_ne _ (w_neN hKo_k_1 hq9)).trans hKo_k_1
  have ne_wa_k_1_q9 : Ne9 wa_k_1 q9 := sm_ne hKs_k_1.sm hq9
  have hP_wa_k_1_w_3 := hKs_k_1.mv (w1 := w_3) (S := fun _ => False) (by rw [ew_4]; exact Fr.add hq9 _) id
  refine lv_dup hx hb dX11_check_7 rfl ?_
  refine lv_aload_n hx hb dX11_check_8 rfl (lv_at hl 0 rfl) ?_
  refine h_get X hR hF_q_w_3 rfl in_X22 2 (by decide) q2092 rfl dX11_check_9 ?_
  refine lv_iload_n hx hb dX11_check_12 rfl (lv_at hl 2 rfl) ?_
  -- call SpokenMarks$TextException.<init>
  refine h_kV (h_runI X hR (tx_init l G w_3 q9 ((scB s : Int)) x hF_q9_w_3 hU.2.2.1) pn_yX13_init rfl q2141 q2142 q164 q2143 ⟨by decide, by decide⟩ hl.1 (Nat.le_of_ble_eq_true rfl) dX11_check_13 ⟨by omega, by omega⟩) hL (fun w_6 hp_7 H locs hR hL => ?_)
  obtain ⟨hO__9, u_8⟩ := hp_7
  have hF_q_w_6 : w_6 q = some (q + 1, oE 10 [.ref bf, .int (iI ((T.length : Int))), .int (iI ((scB s : Int))), .int (iI ((scA s : Int))), .int (iI (va_k_1)), .int (iI (scK s)), .ref wa_k_1, ol, ca]) := u_8.1 _ _ _ hF_q_w_3 (by first | exact id | exact fun q_ => absurd q_ (by first | assumption | exact Ne9.p (by assumption)) | exact fun q_ => absurd (Nat.succ.inj q_) (by first | assumption | exact Ne9.p (by assumption)) | exact fun q_ => absurd q_.symm (Nat.succ_ne_zero _) | exact fun q_ => absurd (Nat.succ.inj q_).symm (by first | assumption | exact Ne9.p (by assumption)) | (intro q_; (try dsimp only at q_); rcases q_ with q_ | q_ | q_ | q_ | q_ <;> first | exact absurd q_ (by first | assumption | exact Ne9.p (by assumption)) | exact absurd (Nat.succ.inj q_) (by first | assumption | exact Ne9.p (by assumption)) | exact absurd q_.symm (Nat.succ_ne_zero _) | exact absurd (Nat.succ.inj q_).symm (by first | assumption | exact Ne9.p (by assumption))) | (intro q_; (try dsimp only at q_); rcases q_ with q_ | q_ | q_ | q_ <;> first | exact absurd q_ (by first | assumption | exact Ne9.p (by assumption)) | exact absurd (Nat.succ.inj q_) (by first | assumption | exact Ne9.p (by assumption)) | exact absurd q_.symm (Nat.succ_ne_zero _) | exact absurd (Nat.succ.inj q_).symm (by first | assumption | exact Ne9.p (by assumption))) | (intro q_; (try dsimp only at q_); rcases q_ with q_ | q_ <;> first | exact absurd q_ (by first | assumption | exact Ne9.p (by assumption)) | exact absurd (Nat.succ.inj q_) (by first | assumption | exact Ne9.p (by assumption)) | exact absurd q_.symm (Nat.succ_ne_zero _) | exact absurd (Nat.succ.inj q_).symm (by first | assumption | exact Ne9.p (by assumption))) | (intro q_; (try dsimp only at q_); omega))
  have hP_wa_k_1_w_6 := hP_wa_k_1_w_3.mv (u_8.1) (by first | exact id | exact fun q_ => absurd q_ (by first | assumption | exact Ne9.p (by assumption)) | exact fun q_ => absurd (Nat.succ.inj q_) (by first | assumption | exact Ne9.p (by assumption)) | exact fun q_ => absurd q_.symm (Nat.succ_ne_zero _) | exact fun q_ => absurd (Nat.succ.inj q_).symm (by first | assumption | exact Ne9.p (by assumption)) | (intro q_; (try dsimp only at q_); rcases q_ with q_ | q_ | q_ | q_ | q_ <;> first | exact absurd q_ (by first | assumption | exact Ne9.p (by assumption)) | exact absurd (Nat.succ.inj q_) (by first | assumption | exact Ne9.p (by assumption)) | exact absurd q_.symm (Nat.succ_ne_zero _) | exact absurd (Nat.succ.inj q_).symm (by first | assumption | exact Ne9.p (by assumption))) | (intro q_; (try dsimp only at q_); rcases q_ with q_ | q_ | q_ | q_ <;> first | exact absurd q_ (by first | assumption | exact Ne9.p (by assumption)) | exact absurd (Nat.succ.inj q_) (by first | assumption | exact Ne9.p (by assumption)) | exact absurd q_.symm (Nat.succ_ne_zero _) | exact absurd (Nat.succ.inj q_).symm (by first | assumption | exact Ne9.p (by assumption))) | (intro q_; (try dsimp only at q_); rcases q_ with q_ | q_ <;> first | exact absurd q_ (by first | assumption | exact Ne9.p (by assumption)) | exact absurd (Nat.succ.inj q_) (by first | assumption | exact Ne9.p (by assumption)) | exact absurd q_.symm (Nat.succ_ne_zero _) | exact absurd (Nat.succ.inj q_).symm (by first | assumption | exact Ne9.p (by assumption))) | (intro q_; (try dsimp only at q_); omega))
  have hU : Up (fun _ => False) w w_6 := hU.tr u_8 (fun q_ h_ => by first | exact absurd h_ id | exact Or.inl h_ | exact Or.inr (up_nw h_ (by assumption)) | exact Or.inl (Or.inl h_) | exact Or.inl (Or.inr h_) | exact Or.inl (Or.inr (Or.inl h_)) | exact Or.inl (Or.inr (Or.inr h_)) | exact Or.inl (Or.inr (Or.inr (Or.inl h_))) | exact Or.inl (Or.inr (Or.inr (Or.inr h_))) | exact Or.inl (h_.elim Or.inl (fun h_ => Or.inr (Or.inl h_))) | ((try dsimp only at h_); first | exact Or.inl (by omega) | exact Or.inr ⟨by omega, by subst h_; rw [Nat.add_sub_cancel]; assumption⟩)) hG
  refine h_athrow X hR hO__9 (by omega) rfl dX11_check_16 (fun ce_ hce_ hcv_ hcl_ => ?_)
  exact h_xout (fun x_ hx_ => htab x_ hx_ _) hlk hce_ hcv_ hcl_ hR hL ⟨rfl, hn_q9, hO__9, hU⟩ (by omega) (by omega) rfl rfl

set_option maxHeartbeats 4000000 in
set_option maxRecDepth 100000 in
/-- SpokenMarks$Scanner.symbol -/
theorem sc_sym (l : Launch) (G : Gl) (w : Wd) (q : Nat) (bf rb : Nat) (T : List Int) (s : Sc) (hK : TkAt G w 8 [] q bf T s) (k : Int) (hk : 0 ≤ k ∧ k ≤ 5) (hB : BufAt G w bf rb T) (hqb : rb ≠ q + 1) (hsw : ScW T s) (hG : RegW w) : HMX l yX11_symbol cX11_symbol 2 none 10 4 33 G [.ref q, .int (iI (k))] w (QV G (fun w_ => ∃ s_ : Sc, rMust T k (.inr s) = .inr s_ ∧ TkAt G w_ 8 [] q bf T s_ ∧ ScW T s_ ∧ Up (fun q_ => q_ = q + 1) w w_)) (fun q_ E_ w_ => ∃ x_ : Nat × Int, rMust T k (.inr s) = .inl x_ ∧ TxE (fun q_ => q_ = q + 1) w x_.1 x_.2 q_ E_ w_) := by
  refine HMX.mk (by decide +kernel) (Nat.le_of_ble_eq_true rfl) ?_
  intro p9 e9 s9 m9 a9 b9 meth9 c9 ls X hret hlk hnm htab hl H hR
  have hx := X.1.1
  have hb := X.1.2.1
  have hl : lv_has ls 2 [(0, .ref q), (1, .int (iI (k)))] := hl
  have hL : LK G [] := fun q h => absurd h List.not_mem_nil
  generalize ([] : List Loc) = locs at hL ⊢
  have hU : Up (fun q_ => q_ = q + 1) w w := Up.rf hG
  have hkr := hsw.2.2.1
  obtain ⟨va_k_1, wa_k_1, hKo_k_1, hKs_k_1, hKr_k_1, hKv_k_1⟩ := hK
  refine lv_aload_n hx hb dX11_symbol_0 rfl (lv_at hl 0 rfl) ?_
  refine lv_aload_n hx hb dX11_symbol_1 rfl (lv_at hl 0 rfl) ?_
  refine h_get X hR hKo_k_1 rfl in_X11 5 (by decide) q2099 rfl dX11_symbol_2 ?_
  refine lv_iload_n hx hb dX11_symbol_5 rfl (lv_at hl 1 rfl) ?_
  refine h_icmp_ne hx hb 13 dX11_symbol_6 (by decide) (by omega) (by omega) (fun c_k => ?_) (fun c_k => ?_)
  ·
    refine h_iconst hx hb dX11_symbol_13 ?_
    refine h_iconst hx hb dX11_symbol_14 ?_
    -- call SpokenMarks$Scanner.check
    refine h_xV (h_xrunV X hR (sc_chk0 l G w q bf T s ⟨va_k_1, wa_k_1, hKo_k_1, hKs_k_1, hKr_k_1, hKv_k_1⟩ 1 hU.2.2.1) pn_yX11_check (hasC.of hKo_k_1 rfl) q2170 q2130 q3392 q162 q2131 ⟨by decide, by decide⟩ hl.1 (Nat.le_of_ble_eq_true rfl) dX11_symbol_15 ⟨by omega, by omega⟩) hL (fun xq_5 E_6 ce_ w_7 hx__8 H locs hR hL hce_ hcv_ hcl_ => ?_) (fun w_3 hp_4 H locs hR hL => ?_)
    ·
      exact h_xout (fun x_ hx_ => htab x_ hx_ _) hlk hce_ hcv_ hcl_ hR hL ⟨(scB s, 1), if_neg c_k, TxE.tr hU hx__8 (fun q_ h_ => by first | exact absurd h_ id | exact Or.inl h_ | exact Or.inr (up_nw h_ (by assumption)) | exact Or.inl (Or.inl h_) | exact Or.inl (Or.inr h_) | exact Or.inl (Or.inr (Or.inl h_)) | exact Or.inl (Or.inr (Or.inr h_)) | exact Or.inl (Or.inr (Or.inr (Or.inl h_))) | exact Or.inl (Or.inr (Or.inr (Or.inr h_))) | exact Or.inl (h_.elim Or.inl (fun h_ => Or.inr (Or.inl h_))) | ((try dsimp only at h_); first | exact Or.inl (by omega) | exact Or.inr ⟨by omega, by subst h_; rw [Nat.add_sub_cancel]; assumption⟩)) hG⟩ (by omega) (by omega) rfl rfl
    ·
      exact hp_4.elim
  ·
    refine h_iconst hx hb dX11_symbol_9 ?_
    refine lv_goto (tgt := 14) hx hb dX11_symbol_10 (by decide) ?_
    refine h_iconst hx hb dX11_symbol_14 ?_
    -- call SpokenMarks$Scanner.check
    refine h_kVp (h_runV X hR (sc_chk1 l G w q 1) pn_yX11_check (hasC.of hKo_k_1 rfl) q2170 q2130 q3392 q162 q2131 ⟨by decide, by decide⟩ hl.1 (Nat.le_of_ble_eq_true rfl) dX11_symbol_15 ⟨by omega, by omega⟩) hL (fun H locs hR hL => ?_)
    refine lv_aload_n hx hb dX11_symbol_18 rfl (lv_at hl 0 rfl) ?_
    have hK_12 : TkAt G w 8 [] q bf T s := ⟨va_k_1, wa_k_1, hKo_k_1, hKs_k_1, hKr_k_1, hKv_k_1⟩
    -- call SpokenMarks$Scanner.advance
    refine h_kV (h_runV X hR (sc_advT l G w q bf rb T s hK_12 hB hsw.2.1 hqb hU.2.2.1) pn_yX11_advance (hK_12.c rfl) q2063 q2064 q2065 q162 q2069 ⟨by decide, by decide⟩ hl.1 (Nat.le_of_ble_eq_true rfl) dX11_symbol_19 ⟨by omega, by omega⟩) hL (fun w_14 hp_15 H locs hR hL => ?_)
    obtain ⟨hK__16, u_17⟩ := hp_15
    have hP_bf_w_14 := hB.mv (u_17.1) (by first | exact id | exact fun q_ => absurd q_ (by first | assumption | exact Ne9.p (by assumption)) | exact fun q_ => absurd (Nat.succ.inj q_) (by first | assumption | exact Ne9.p (by assumption)) | exact fun q_ => absurd q_.symm (Nat.succ_ne_zero _) | exact fun q_ => absurd (Nat.succ.inj q_).symm (by first | assumption | exact Ne9.p (by assumption)) | (intro q_; (try dsimp only at q_); rcases q_ with q_ | q_ | q_ | q_ | q_ <;> first | exact absurd q_ (by first | assumption | exact Ne9.p (by assumption)) | exact absurd (Nat.succ.inj q_) (by first | assumption | exact Ne9.p (by assumption)) | exact absurd q_.symm (Nat.succ_ne_zero _) | exact absurd (Nat.succ.inj q_).symm (by first | assumption | exact Ne9.p (by assumption))) | (intro q_; (try dsimp only at q_); rcases q_ with q_ | q_ | q_ | q_ <;> first | exact absurd q_ (by first | assumption | exact Ne9.p (by assumption)) | exact absurd (Nat.succ.inj q_) (by first | assumption | exact Ne9.p (by assumption)) | exact absurd q_.symm (Nat.succ_ne_zero _) | exact absurd (Nat.succ.inj q_).symm (by first | assumption | exact Ne9.p (by assumption))) | (intro q_; (try dsimp only at q_); rcases q_ with q_ | q_ <;> first | exact absurd q_ (by first | assumption | exact Ne9.p (by assumption)) | exact absurd (Nat.succ.inj q_) (by first | assumption | exact Ne9.p (by assumption)) | exact absurd q_.symm (Nat.succ_ne_zero _) | exact absurd (Nat.succ.inj q_).symm (by first | assumption | exact Ne9.p (by assumption))) | (intro q_; (try dsimp only at q_); omega))
    have hP_wa_k_1_w_14 := hKs_k_1.mv (u_17.1) (by first | exact id | exact fun q_ => absurd q_ (by first | assumption | exact Ne9.p (by assumption)) | exact fun q_ => absurd (Nat.succ.inj q_) (by first | assumption | exact Ne9.p (by assumption)) | exact fun q_ => absurd q_.symm (Nat.succ_ne_zero _) | exact fun q_ => absurd (Nat.succ.inj q_).symm (by first | assumption | exact Ne9.p (by assumption)) | (intro q_; (try dsimp only at q_); rcases q_ with q_ | q_ | q_ | q_ | q_ <;> first | exact absurd q_ (by first | assumption | exact Ne9.p (by assumption)) | exact absurd (Nat.succ.inj q_) (by first | assumption | exact Ne9.p (by assumption)) | exact absurd q_.symm (Nat.succ_ne_zero _) | exact absurd (Nat.succ.inj q_).symm (by first | assumption | exact Ne9.p (by assumption))) | (intro q_; (try dsimp only at q_); rcases q_ with q_ | q_ | q_ | q_ <;> first | exact absurd q_ (by first | assumption | exact Ne9.p (by assumption)) | exact absurd (Nat.succ.inj q_) (by first | assumption | exact Ne9.p (by assumption)) | exact absurd q_.symm (Nat.succ_ne_zero _) | exact absurd (Nat.succ.inj q_).symm (by first | assumption | exact Ne9.p (by assumption))) | (intro q_; (try dsimp only at q_); rcases q_ with q_ | q_ <;> first | exact absurd q_ (by first | assumption | exact Ne9.p (by assumption)) | exact absurd (Nat.succ.inj q_) (by first | assumption | exact Ne9.p (by assumption)) | exact absurd q_.symm (Nat.succ_ne_zero _) | exact absurd (Nat.succ.inj q_).symm (by first | assumption | exact Ne9.p (by assumption))) | (intro q_; (try dsimp only at q_); omega))
    have hU : Up (fun q_ => q_ = q + 1) w w_14 := hU.tr u_17 (fun q_ h_ => by first | exact absurd h_ id | exact Or.inl h_ | exact Or.inr (up_nw h_ (by assumption)) | exact Or.inl (Or.inl h_) | exact Or.inl (Or.inr h_) | exact Or.inl (Or.inr (Or.inl h_)) | exact Or.inl (Or.inr (Or.inr h_)) | exact Or.inl (Or.inr (Or.inr (Or.inl h_))) | exact Or.inl (Or.inr (Or.inr (Or.inr h_))) | exact Or.inl (h_.elim Or.inl (fun h_ => Or.inr (Or.inl h_))) | ((try dsimp only at h_); first | exact Or.inl (by omega) | exact Or.inr ⟨by omega, by subst h_; rw [Nat.add_sub_cancel]; assumption⟩)) hG
    refine vx_ret ?_
    exact h_vreturn hx hb hlk hret hR hL ⟨tok T (scA s), if_pos c_k, hK__16, tok_w hsw.2.1, hU⟩ (by omega) (by omega) rfl rfl dX11_symbol_22

set_option maxHeartbeats 4000000 in
set_option maxRecDepth 100000 in
/-- SpokenMarks$Scanner.symbol -/
theorem sc_symr (l : Launch) (G : Gl) (w : Wd) (q : Nat) (bf rb : Nat) (T : List Int) (s : Sc) (hK : TkAt G w 9 [] q bf T s) (k : Int) (hk : 0 ≤ k ∧ k ≤ 5) (hB : BufAt G w bf rb T) (hqb : rb ≠ q + 1) (hsw : ScW T s) (hG : RegW w) : HMX l yX11_symbol cX11_symbol 2 none 10 4 33 G [.ref q, .int (iI (k))] w (QV G (fun w_ => ∃ s_ : Sc, rMust T k (.inr s) = .inr s_ ∧ TkAt G w_ 9 [] q bf T s_ ∧ ScW T s_ ∧ Up (fun q_ => q_ = q + 1) w w_)) (fun q_ E_ w_ => ∃ x_ : Nat × Int, rMust T k (.inr s) = .inl x_ ∧ TxE (fun q_ => q_ = q + 1) w x_.1 x_.2 q_ E_ w_) := by
  refine HMX.mk (by decide +kernel) (Nat.le_of_ble_eq_true rfl) ?_
  intro p9 e9 s9 m9 a9 b9 meth9 c9 ls X hret hlk hnm htab hl H hR
  have hx := X.1.1
  have hb := X.1.2.1
  have hl : lv_has ls 2 [(0, .ref q), (1, .int (iI (k)))] := hl
  have hL : LK G [] := fun q h => absurd h List.not_mem_nil
  generalize ([] : List Loc) = locs at hL ⊢
  have hU : Up (fun q_ => q_ = q + 1) w w := Up.rf hG
  have hkr := hsw.2.2.1
  obtain ⟨va_k_1, wa_k_1, hKo_k_1, hKs_k_1, hKr_k_1, hKv_k_1⟩ := hK
  refine lv_aload_n hx hb dX11_symbol_0 rfl (lv_at hl 0 rfl) ?_
  refine lv_aload_n hx hb dX11_symbol_1 rfl (lv_at hl 0 rfl) ?_
  refine h_get X hR hKo_k_1 rfl in_X12 5 (by decide) q2099 rfl dX11_symbol_2 ?_
  refine lv_iload_n hx hb dX11_symbol_5 rfl (lv_at hl 1 rfl) ?_
  refine h_icmp_ne hx hb 13 dX11_symbol_6 (by decide) (by omega) (by omega) (fun c_k => ?_) (fun c_k => ?_)
  ·
    refine h_iconst hx hb dX11_symbol_13 ?_
    refine h_iconst hx hb dX11_symbol_14 ?_
    -- call SpokenMarks$Scanner.check
    refine h_xV (h_xrunU (x := ⟨"SpokenMarks$Scanner", "check", "(ZI)V"⟩) (owner := "SpokenMarks$Scanner") X hR (sc_chk0r l G w q bf T s ⟨va_k_1, wa_k_1, hKo_k_1, hKs_k_1, hKr_k_1, hKv_k_1⟩ 1 hU.2.2.1) (by decide) pn_yX11_check (hasC.of hKo_k_1 rfl) q2170 q3390 (h_declC X q2130 q2131) (X.1.2.2.2.2 _ q3391) q2130 q162 q2131 ⟨by decide, by decide⟩ hl.1 (Nat.le_of_ble_eq_true rfl) dX11_symbol_15 ⟨by omega, by omega⟩) hL (fun xq_5 E_6 ce_ w_7 hx__8 H locs hR hL hce_ hcv_ hcl_ => ?_) (fun w_3 hp_4 H locs hR hL => ?_)
    ·
      exact h_xout (fun x_ hx_ => htab x_ hx_ _) hlk hce_ hcv_ hcl_ hR hL ⟨(scB s, 1), if_neg c_k, TxE.tr hU hx__8 (fun q_ h_ => by first | exact absurd h_ id | exact Or.inl h_ | exact Or.inr (up_nw h_ (by assumption)) | exact Or.inl (Or.inl h_) | exact Or.inl (Or.inr h_) | exact Or.inl (Or.inr (Or.inl h_)) | exact Or.inl (Or.inr (Or.inr h_)) | exact Or.inl (Or.inr (Or.inr (Or.inl h_))) | exact Or.inl (Or.inr (Or.inr (Or.inr h_))) | exact Or.inl (h_.elim Or.inl (fun h_ => Or.inr (Or.inl h_))) | ((try dsimp only at h_); first | exact Or.inl (by omega) | exact Or.inr ⟨by omega, by subst h_; rw [Nat.add_sub_cancel]; assumption⟩)) hG⟩ (by omega) (by omega) rfl rfl
    ·
      exact hp_4.elim
  ·
    refine h_iconst hx hb dX11_symbol_9 ?_
    refine lv_goto (tgt := 14) hx hb dX11_symbol_10 (by decide) ?_
    refine h_iconst hx hb dX11_symbol_14 ?_
    -- call SpokenMarks$Scanner.check
    refine h_kVp (h_runU (x := ⟨"SpokenMarks$Scanner", "check", "(ZI)V"⟩) (owner := "SpokenMarks$Scanner") X hR (sc_chk1r l G w q 1) (by decide) pn_yX11_check (hasC.of hKo_k_1 rfl) q2170 q3390 (h_declC X q2130 q2131) (X.1.2.2.2.2 _ q3391) q2130 q162 q2131 ⟨by decide, by decide⟩ hl.1 (Nat.le_of_ble_eq_true rfl) dX11_symbol_15 ⟨by omega, by omega⟩) hL (fun H locs hR hL => ?_)
    refine lv_aload_n hx hb dX11_symbol_18 rfl (lv_at hl 0 rfl) ?_
    have hK_12 : TkAt G w 9 [] q bf T s := ⟨va_k_1, wa_k_1, hKo_k_1, hKs_k_1, hKr_k_1, hKv_k_1⟩
    -- call SpokenMarks$Scanner.advance
    refine h_kV (h_runU (x := ⟨"SpokenMarks$Scanner", "advance", "()V"⟩) (owner := "SpokenMarks$Scanner") X hR (sc_advTr l G w q bf rb T s hK_12 hB hsw.2.1 hqb hU.2.2.1) (by decide) pn_yX11_advance (hK_12.c rfl) q2063 q2066 (h_declC X q2064 q2069) (X.1.2.2.2.2 _ q2067) q2064 q162 q2069 ⟨by decide, by decide⟩ hl.1 (Nat.le_of_ble_eq_true rfl) dX11_symbol_19 ⟨by omega, by omega⟩) hL (fun w_14 hp_15 H locs hR hL => ?_)
    obtain ⟨hK__16, u_17⟩ := hp_15
    have hP_bf_w_14 := hB.mv (u_17.1) (by first | exact id | exact fun q_ => absurd q_ (by first | assumption | exact Ne9.p (by assumption)) | exact fun q_ => absurd (Nat.succ.inj q_) (by first | assumption | exact Ne9.p (by assumption)) | exact fun q_ => absurd q_.symm (Nat.succ_ne_zero _) | exact fun q_ => absurd (Nat.succ.inj q_).symm (by first | assumption | exact Ne9.p (by assumption)) | (intro q_; (try dsimp only at q_); rcases q_ with q_ | q_ | q_ | q_ | q_ <;> first | exact absurd q_ (by first | assumption | exact Ne9.p (by assumption)) | exact absurd (Nat.succ.inj q_) (by first | assumption | exact Ne9.p (by assumption)) | exact absurd q_.symm (Nat.succ_ne_zero _) | exact absurd (Nat.succ.inj q_).symm (by first | assumption | exact Ne9.p (by assumption))) | (intro q_; (try dsimp only at q_); rcases q_ with q_ | q_ | q_ | q_ <;> first | exact absurd q_ (by first | assumption | exact Ne9.p (by assumption)) | exact absurd (Nat.succ.inj q_) (by first | assumption | exact Ne9.p (by assumption)) | exact absurd q_.symm (Nat.succ_ne_zero _) | exact absurd (Nat.succ.inj q_).symm (by first | assumption | exact Ne9.p (by assumption))) | (intro q_; (try dsimp only at q_); rcases q_ with q_ | q_ <;> first | exact absurd q_ (by first | assumption | exact Ne9.p (by assumption)) | exact absurd (Nat.succ.inj q_) (by first | assumption | exact Ne9.p (by assumption)) | exact absurd q_.symm (Nat.succ_ne_zero _) | exact absurd (Nat.succ.inj q_).symm (by first | assumption | exact Ne9.p (by assumption))) | (intro q_; (try dsimp only at q_); omega))
    have hP_wa_k_1_w_14 := hKs_k_1.mv (u_17.1) (by first | exact id | exact fun q_ => absurd q_ (by first | assumption | exact Ne9.p (by assumption)) | exact fun q_ => absurd (Nat.succ.inj q_) (by first | assumption | exact Ne9.p (by assumption)) | exact fun q_ => absurd q_.symm (Nat.succ_ne_zero _) | exact fun q_ => absurd (Nat.succ.inj q_).symm (by first | assumption | exact Ne9.p (by assumption)) | (intro q_; (try dsimp only at q_); rcases q_ with q_ | q_ | q_ | q_ | q_ <;> first | exact absurd q_ (by first | assumption | exact Ne9.p (by assumption)) | exact absurd (Nat.succ.inj q_) (by first | assumption | exact Ne9.p (by assumption)) | exact absurd q_.symm (Nat.succ_ne_zero _) | exact absurd (Nat.succ.inj q_).symm (by first | assumption | exact Ne9.p (by assumption))) | (intro q_; (try dsimp only at q_); rcases q_ with q_ | q_ | q_ | q_ <;> first | exact absurd q_ (by first | assumption | exact Ne9.p (by assumption)) | exact absurd (Nat.succ.inj q_) (by first | assumption | exact Ne9.p (by assumption)) | exact absurd q_.symm (Nat.succ_ne_zero _) | exact absurd (Nat.succ.inj q_).symm (by first | assumption | exact Ne9.p (by assumption))) | (intro q_; (try dsimp only at q_); rcases q_ with q_ | q_ <;> first | exact absurd q_ (by first | assumption | exact Ne9.p (by assumption)) | exact absurd (Nat.succ.inj q_) (by first | assumption | exact Ne9.p (by assumption)) | exact absurd q_.symm (Nat.succ_ne_zero _) | exact absurd (Nat.succ.inj q_).symm (by first | assumption | exact Ne9.p (by assumption))) | (intro q_; (try dsimp only at q_); omega))
    have hU : Up (fun q_ => q_ = q + 1) w w_14 := hU.tr u_17 (fun q_ h_ => by first | exact absurd h_ id | exact Or.inl h_ | exact Or.inr (up_nw h_ (by assumption)) | exact Or.inl (Or.inl h_) | exact Or.inl (Or.inr h_) | exact Or.inl (Or.inr (Or.inl h_)) | exact Or.inl (Or.inr (Or.inr h_)) | exact Or.inl (Or.inr (Or.inr (Or.inl h_))) | exact Or.inl (Or.inr (Or.inr (Or.inr h_))) | exact Or.inl (h_.elim Or.inl (fun h_ => Or.inr (Or.inl h_))) | ((try dsimp only at h_); first | exact Or.inl (by omega) | exact Or.inr ⟨by omega, by subst h_; rw [Nat.add_sub_cancel]; assumption⟩)) hG
    refine vx_ret ?_
    exact h_vreturn hx hb hlk hret hR hL ⟨tok T (scA s), if_pos c_k, hK__16, tok_w hsw.2.1, hU⟩ (by omega) (by omega) rfl rfl dX11_symbol_22

set_option maxHeartbeats 4000000 in
set_option maxRecDepth 100000 in
/-- SpokenMarks$Scanner.symbol -/
theorem sc_syms (l : Launch) (G : Gl) (w : Wd) (q : Nat) (ol ca : Value) (bf rb : Nat) (T : List Int) (s : Sc) (hK : TkAt G w 10 [ol, ca] q bf T s) (k : Int) (hk : 0 ≤ k ∧ k ≤ 5) (hB : BufAt G w bf rb T) (hqb : rb ≠ q + 1) (hsw : ScW T s) (hG : RegW w) : HMX l yX11_symbol cX11_symbol 2 none 10 4 33 G [.ref q, .int (iI (k))] w (QV G (fun w_ => ∃ s_ : Sc, rMust T k (.inr s) = .inr s_ ∧ TkAt G w_ 10 [ol, ca] q bf T s_ ∧ ScW T s_ ∧ Up (fun q_ => q_ = q + 1) w w_)) (fun q_ E_ w_ => ∃ x_ : Nat × Int, rMust T k (.inr s) = .inl x_ ∧ TxE (fun q_ => q_ = q + 1) w x_.1 x_.2 q_ E_ w_) := by
  refine HMX.mk (by decide +kernel) (Nat.le_of_ble_eq_true rfl) ?_
  intro p9 e9 s9 m9 a9 b9 meth9 c9 ls X hret hlk hnm htab hl H hR
  have hx := X.1.1
  have hb := X.1.2.1
  have hl : lv_has ls 2 [(0, .ref q), (1, .int (iI (k)))] := hl
  have hL : LK G [] := fun q h => absurd h List.not_mem_nil
  generalize ([] : List Loc) = locs at hL ⊢
  have hU : Up (fun q_ => q_ = q + 1) w w := Up.rf hG
  have hkr := hsw.2.2.1
  obtain ⟨va_k_1, wa_k_1, hKo_k_1, hKs_k_1, hKr_k_1, hKv_k_1⟩ := hK
  refine lv_aload_n hx hb dX11_symbol_0 rfl (lv_at hl 0 rfl) ?_
  refine lv_aload_n hx hb dX11_symbol_1 rfl (lv_at hl 0 rfl) ?_
  refine h_get X hR hKo_k_1 rfl in_X22 5 (by decide) q2099 rfl dX11_symbol_2 ?_
  refine lv_iload_n hx hb dX11_symbol_5 rfl (lv_at hl 1 rfl) ?_
  refine h_icmp_ne hx hb 13 dX11_symbol_6 (by decide) (by omega) (by omega) (fun c_k => ?_) (fun c_k => ?_)
  ·
    refine h_iconst hx hb dX11_symbol_13 ?_
    refine h_iconst hx hb dX11_symbol_14 ?_
    -- call SpokenMarks$Scanner.check
    refine h_xV (h_xrunU (x := ⟨"SpokenMarks$Scanner", "check", "(ZI)V"⟩) (owner := "SpokenMarks$Scanner") X hR (sc_chk0s l G w q ol ca bf T s ⟨va_k_1, wa_k_1, hKo_k_1, hKs_k_1, hKr_k_1, hKv_k_1⟩ 1 hU.2.2.1) (by decide) pn_yX11_check (hasC.of hKo_k_1 rfl) q2170 q3390 (h_declC X q2130 q2131) (X.1.2.2.2.2 _ q3393) q2130 q162 q2131 ⟨by decide, by decide⟩ hl.1 (Nat.le_of_ble_eq_true rfl) dX11_symbol_15 ⟨by omega, by omega⟩) hL (fun xq_5 E_6 ce_ w_7 hx__8 H locs hR hL hce_ hcv_ hcl_ => ?_) (fun w_3 hp_4 H locs hR hL => ?_)
    ·
      exact h_xout (fun x_ hx_ => htab x_ hx_ _) hlk hce_ hcv_ hcl_ hR hL ⟨(scB s, 1), if_neg c_k, TxE.tr hU hx__8 (fun q_ h_ => by first | exact absurd h_ id | exact Or.inl h_ | exact Or.inr (up_nw h_ (by assumption)) | exact Or.inl (Or.inl h_) | exact Or.inl (Or.inr h_) | exact Or.inl (Or.inr (Or.inl h_)) | exact Or.inl (Or.inr (Or.inr h_)) | exact Or.inl (Or.inr (Or.inr (Or.inl h_))) | exact Or.inl (Or.inr (Or.inr (Or.inr h_))) | exact Or.inl (h_.elim Or.inl (fun h_ => Or.inr (Or.inl h_))) | ((try dsimp only at h_); first | exact Or.inl (by omega) | exact Or.inr ⟨by omega, by subst h_; rw [Nat.add_sub_cancel]; assumption⟩)) hG⟩ (by omega) (by omega) rfl rfl
    ·
      exact hp_4.elim
  ·
    refine h_iconst hx hb dX11_symbol_9 ?_
    refine lv_goto (tgt := 14) hx hb dX11_symbol_10 (by decide) ?_
    refine h_iconst hx hb dX11_symbol_14 ?_
    -- call SpokenMarks$Scanner.check
    refine h_kVp (h_runU (x := ⟨"SpokenMarks$Scanner", "check", "(ZI)V"⟩) (owner := "SpokenMarks$Scanner") X hR (sc_chk1s l G w q 1) (by decide) pn_yX11_check (hasC.of hKo_k_1 rfl) q2170 q3390 (h_declC X q2130 q2131) (X.1.2.2.2.2 _ q3393) q2130 q162 q2131 ⟨by decide, by decide⟩ hl.1 (Nat.le_of_ble_eq_true rfl) dX11_symbol_15 ⟨by omega, by omega⟩) hL (fun H locs hR hL => ?_)
    refine lv_aload_n hx hb dX11_symbol_18 rfl (lv_at hl 0 rfl) ?_
    have hK_12 : TkAt G w 10 [ol, ca] q bf T s := ⟨va_k_1, wa_k_1, hKo_k_1, hKs_k_1, hKr_k_1, hKv_k_1⟩
    -- call SpokenMarks$Scanner.advance
    refine h_kV (h_runU (x := ⟨"SpokenMarks$Scanner", "advance", "()V"⟩) (owner := "SpokenMarks$Scanner") X hR (sc_advTs l G w q ol ca bf rb T s hK_12 hB hsw.2.1 hqb hU.2.2.1) (by decide) pn_yX11_advance (hK_12.c rfl) q2063 q2066 (h_declC X q2064 q2069) (X.1.2.2.2.2 _ q2068) q2064 q162 q2069 ⟨by decide, by decide⟩ hl.1 (Nat.le_of_ble_eq_true rfl) dX11_symbol_19 ⟨by omega, by omega⟩) hL (fun w_14 hp_15 H locs hR hL => ?_)
    obtain ⟨hK__16, u_17⟩ := hp_15
    have hP_bf_w_14 := hB.mv (u_17.1) (by first | exact id | exact fun q_ => absurd q_ (by first | assumption | exact Ne9.p (by assumption)) | exact fun q_ => absurd (Nat.succ.inj q_) (by first | assumption | exact Ne9.p (by assumption)) | exact fun q_ => absurd q_.symm (Nat.succ_ne_zero _) | exact fun q_ => absurd (Nat.succ.inj q_).symm (by first | assumption | exact Ne9.p (by assumption)) | (intro q_; (try dsimp only at q_); rcases q_ with q_ | q_ | q_ | q_ | q_ <;> first | exact absurd q_ (by first | assumption | exact Ne9.p (by assumption)) | exact absurd (Nat.succ.inj q_) (by first | assumption | exact Ne9.p (by assumption)) | exact absurd q_.symm (Nat.succ_ne_zero _) | exact absurd (Nat.succ.inj q_).symm (by first | assumption | exact Ne9.p (by assumption))) | (intro q_; (try dsimp only at q_); rcases q_ with q_ | q_ | q_ | q_ <;> first | exact absurd q_ (by first | assumption | exact Ne9.p (by assumption)) | exact absurd (Nat.succ.inj q_) (by first | assumption | exact Ne9.p (by assumption)) | exact absurd q_.symm (Nat.succ_ne_zero _) | exact absurd (Nat.succ.inj q_).symm (by first | assumption | exact Ne9.p (by assumption))) | (intro q_; (try dsimp only at q_); rcases q_ with q_ | q_ <;> first | exact absurd q_ (by first | assumption | exact Ne9.p (by assumption)) | exact absurd (Nat.succ.inj q_) (by first | assumption | exact Ne9.p (by assumption)) | exact absurd q_.symm (Nat.succ_ne_zero _) | exact absurd (Nat.succ.inj q_).symm (by first | assumption | exact Ne9.p (by assumption))) | (intro q_; (try dsimp only at q_); omega))
    have hP_wa_k_1_w_14 := hKs_k_1.mv (u_17.1) (by first | exact id | exact fun q_ => absurd q_ (by first | assumption | exact Ne9.p (by assumption)) | exact fun q_ => absurd (Nat.succ.inj q_) (by first | assumption | exact Ne9.p (by assumption)) | exact fun q_ => absurd q_.symm (Nat.succ_ne_zero _) | exact fun q_ => absurd (Nat.succ.inj q_).symm (by first | assumption | exact Ne9.p (by assumption)) | (intro q_; (try dsimp only at q_); rcases q_ with q_ | q_ | q_ | q_ | q_ <;> first | exact absurd q_ (by first | assumption | exact Ne9.p (by assumption)) | exact absurd (Nat.succ.inj q_) (by first | assumption | exact Ne9.p (by assumption)) | exact absurd q_.symm (Nat.succ_ne_zero _) | exact absurd (Nat.succ.inj q_).symm (by first | assumption | exact Ne9.p (by assumption))) | (intro q_; (try dsimp only at q_); rcases q_ with q_ | q_ | q_ | q_ <;> first | exact absurd q_ (by first | assumption | exact Ne9.p (by assumption)) | exact absurd (Nat.succ.inj q_) (by first | assumption | exact Ne9.p (by assumption)) | exact absurd q_.symm (Nat.succ_ne_zero _) | exact absurd (Nat.succ.inj q_).symm (by first | assumption | exact Ne9.p (by assumption))) | (intro q_; (try dsimp only at q_); rcases q_ with q_ | q_ <;> first | exact absurd q_ (by first | assumption | exact Ne9.p (by assumption)) | exact absurd (Nat.succ.inj q_) (by first | assumption | exact Ne9.p (by assumption)) | exact absurd q_.symm (Nat.succ_ne_zero _) | exact absurd (Nat.succ.inj q_).symm (by first | assumption | exact Ne9.p (by assumption))) | (intro q_; (try dsimp only at q_); omega))
    have hU : Up (fun q_ => q_ = q + 1) w w_14 := hU.tr u_17 (fun q_ h_ => by first | exact absurd h_ id | exact Or.inl h_ | exact Or.inr (up_nw h_ (by assumption)) | exact Or.inl (Or.inl h_) | exact Or.inl (Or.inr h_) | exact Or.inl (Or.inr (Or.inl h_)) | exact Or.inl (Or.inr (Or.inr h_)) | exact Or.inl (Or.inr (Or.inr (Or.inl h_))) | exact Or.inl (Or.inr (Or.inr (Or.inr h_))) | exact Or.inl (h_.elim Or.inl (fun h_ => Or.inr (Or.inl h_))) | ((try dsimp only at h_); first | exact Or.inl (by omega) | exact Or.inr ⟨by omega, by subst h_; rw [Nat.add_sub_cancel]; assumption⟩)) hG
    refine vx_ret ?_
    exact h_vreturn hx hb hlk hret hR hL ⟨tok T (scA s), if_pos c_k, hK__16, tok_w hsw.2.1, hU⟩ (by omega) (by omega) rfl rfl dX11_symbol_22

set_option maxHeartbeats 4000000 in
set_option maxRecDepth 100000 in
/-- SpokenMarks$Scanner.number -/
theorem sc_num (l : Launch) (G : Gl) (w : Wd) (q : Nat) (bf rb : Nat) (T : List Int) (s : Sc) (hK : TkAt G w 8 [] q bf T s) (lo hi : Int) (h1 : R32 lo) (h2 : R32 hi) (hB : BufAt G w bf rb T) (hqb : rb ≠ q + 1) (hsw : ScW T s) (hG : RegW w) : HMX l yX11_number cX11_number 4 (some .int) 10 4 33 G [.ref q, .int (iI (lo)), .int (iI (hi))] w (QI G (fun z_ w_ => ∃ s_ : Sc, rNum T lo hi (.inr s) = (.inr s_, z_) ∧ (lo ≤ z_ ∧ z_ ≤ hi) ∧ TkAt G w_ 8 [] q bf T s_ ∧ ScW T s_ ∧ Up (fun q_ => q_ = q + 1) w w_)) (fun q_ E_ w_ => ∃ x_ : Nat × Int, (rNum T lo hi (.inr s)).1 = .inl x_ ∧ TxE (fun q_ => q_ = q + 1) w x_.1 x_.2 q_ E_ w_) := by
  refine HMX.mk (by decide +kernel) (Nat.le_of_ble_eq_true rfl) ?_
  intro p9 e9 s9 m9 a9 b9 meth9 c9 ls X hret hlk hnm htab hl H hR
  have hx := X.1.1
  have hb := X.1.2.1
  have hl : lv_has ls 4 [(0, .ref q), (1, .int (iI (lo))), (2, .int (iI (hi)))] := hl
  have hL : LK G [] := fun q h => absurd h List.not_mem_nil
  generalize ([] : List Loc) = locs at hL ⊢
  have hU : Up (fun q_ => q_ = q + 1) w w := Up.rf hG
  have hkr := hsw.2.2.1
  obtain ⟨va_k_1, wa_k_1, hKo_k_1, hKs_k_1, hKr_k_1, hKv_k_1⟩ := hK
  refine lv_aload_n hx hb dX11_number_0 rfl (lv_at hl 0 rfl) ?_
  refine lv_aload_n hx hb dX11_number_1 rfl (lv_at hl 0 rfl) ?_
  refine h_get X hR hKo_k_1 rfl in_X11 5 (by decide) q2099 rfl dX11_number_2 ?_
  refine h_iconst hx hb dX11_number_5 ?_
  refine h_icmp_ne hx hb 13 dX11_number_6 (by decide) (by omega) (by omega) (fun c_k => ?_) (fun c_k => ?_)
  ·
    refine h_iconst hx hb dX11_number_13 ?_
    refine h_iconst hx hb dX11_number_14 ?_
    -- call SpokenMarks$Scanner.check
    refine h_xV (h_xrunV X hR (sc_chk0 l G w q bf T s ⟨va_k_1, wa_k_1, hKo_k_1, hKs_k_1, hKr_k_1, hKv_k_1⟩ 1 hU.2.2.1) pn_yX11_check (hasC.of hKo_k_1 rfl) q2170 q2130 q3392 q162 q2131 ⟨by decide, by decide⟩ hl.1 (Nat.le_of_ble_eq_true rfl) dX11_number_15 ⟨by omega, by omega⟩) hL (fun xq_5 E_6 ce_ w_7 hx__8 H locs hR hL hce_ hcv_ hcl_ => ?_) (fun w_3 hp_4 H locs hR hL => ?_)
    ·
      exact h_xout (fun x_ hx_ => htab x_ hx_ _) hlk hce_ hcv_ hcl_ hR hL ⟨(scB s, 1), rNm_1 c_k, TxE.tr hU hx__8 (fun q_ h_ => by first | exact absurd h_ id | exact Or.inl h_ | exact Or.inr (up_nw h_ (by assumption)) | exact Or.inl (Or.inl h_) | exact Or.inl (Or.inr h_) | exact Or.inl (Or.inr (Or.inl h_)) | exact Or.inl (Or.inr (Or.inr h_)) | exact Or.inl (Or.inr (Or.inr (Or.inl h_))) | exact Or.inl (Or.inr (Or.inr (Or.inr h_))) | exact Or.inl (h_.elim Or.inl (fun h_ => Or.inr (Or.inl h_))) | ((try dsimp only at h_); first | exact Or.inl (by omega) | exact Or.inr ⟨by omega, by subst h_; rw [Nat.add_sub_cancel]; assumption⟩)) hG⟩ (by omega) (by omega) rfl rfl
    ·
      exact hp_4.elim
  ·
    refine h_iconst hx hb dX11_number_9 ?_
    refine lv_goto (tgt := 14) hx hb dX11_number_10 (by decide) ?_
    refine h_iconst hx hb dX11_number_14 ?_
    -- call SpokenMarks$Scanner.check
    refine h_kVp (h_runV X hR (sc_chk1 l G w q 1) pn_yX11_check (hasC.of hKo_k_1 rfl) q2170 q2130 q3392 q162 q2131 ⟨by decide, by decide⟩ hl.1 (Nat.le_of_ble_eq_true rfl) dX11_number_15 ⟨by omega, by omega⟩) hL (fun H locs hR hL => ?_)
    refine lv_aload_n hx hb dX11_number_18 rfl (lv_at hl 0 rfl) ?_
    refine lv_aload_n hx hb dX11_number_19 rfl (lv_at hl 0 rfl) ?_
    refine h_get X hR hKo_k_1 rfl in_X11 4 (by decide) q2094 rfl dX11_number_20 ?_
    refine lv_iload_n hx hb dX11_number_23 rfl (lv_at hl 1 rfl) ?_
    refine lv_iload_n hx hb dX11_number_24 rfl (lv_at hl 2 rfl) ?_
    -- call SpokenMarks.inRange
    refine h_kIp (h_runSN X hR (c_inr l G w va_k_1 lo hi hKr_k_1 h1 h2) pn_yX1_inRange q2171 q1741 q120 q1742 ⟨by decide, by decide⟩ hl.1 (Nat.le_of_ble_eq_true rfl) dX11_number_25 ⟨by omega, by omega⟩) hL (fun H locs hR hL => ?_)
    refine h_iconst hx hb dX11_number_28 ?_
    have hve : va_k_1 = scV s := hKv_k_1 c_k
    by_cases c_r : lo ≤ scV s ∧ scV s ≤ hi
    ·
      refine W.eq (g2 := F0 m9 29 ls [.int (iI (2)), .int (iI (1)), .ref q]) (congrArg (fun z_ : Int => F0 m9 29 ls [.int (iI (2)), .int (iI (z_)), .ref q]) (show (b2i (lo ≤ va_k_1 ∧ va_k_1 ≤ hi) : Int) = 1 from (by rw [hve]; exact b2i_t c_r))) ?_
      -- call SpokenMarks$Scanner.check
      refine h_kVp (h_runV X hR (sc_chk1 l G w q 2) pn_yX11_check (hasC.of hKo_k_1 rfl) q2170 q2130 q3392 q162 q2131 ⟨by decide, by decide⟩ hl.1 (Nat.le_of_ble_eq_true rfl) dX11_number_29 ⟨by omega, by omega⟩) hL (fun H locs hR hL => ?_)
      refine lv_aload_n hx hb dX11_number_32 rfl (lv_at hl 0 rfl) ?_
      refine h_get X hR hKo_k_1 rfl in_X11 4 (by decide) q2094 rfl dX11_number_33 ?_
      refine W.eq (g2 := F0 m9 36 ls [.int (iI (scV s))]) (congrArg (fun z_ : Int => F0 m9 36 ls [.int (iI (z_))]) (show (va_k_1 : Int) = scV s from (by exact hve))) ?_
      refine lv_istore_n (lv' := [(3, .int (iI (scV s))), (0, .ref q), (1, .int (iI (lo))), (2, .int (iI (hi)))]) hx hb dX11_number_36 rfl hl (by decide) rfl (fun ls hl => ?_)
      refine lv_aload_n hx hb dX11_number_37 rfl (lv_at hl 1 rfl) ?_
      have hK_18 : TkAt G w 8 [] q bf T s := ⟨va_k_1, wa_k_1, hKo_k_1, hKs_k_1, hKr_k_1, hKv_k_1⟩
      -- call SpokenMarks$Scanner.advance
      refine h_kV (h_runV X hR (sc_advT l G w q bf rb T s hK_18 hB hsw.2.1 hqb hU.2.2.1) pn_yX11_advance (hK_18.c rfl) q2063 q2064 q2065 q162 q2069 ⟨by decide, by decide⟩ hl.1 (Nat.le_of_ble_eq_true rfl) dX11_number_38 ⟨by omega, by omega⟩) hL (fun w_20 hp_21 H locs hR hL => ?_)
      obtain ⟨hK__22, u_23⟩ := hp_21
      have hP_bf_w_20 := hB.mv (u_23.1) (by first | exact id | exact fun q_ => absurd q_ (by first | assumption | exact Ne9.p (by assumption)) | exact fun q_ => absurd (Nat.succ.inj q_) (by first | assumption | exact Ne9.p (by assumption)) | exact fun q_ => absurd q_.symm (Nat.succ_ne_zero _) | exact fun q_ => absurd (Nat.succ.inj q_).symm (by first | assumption | exact Ne9.p (by assumption)) | (intro q_; (try dsimp only at q_); rcases q_ with q_ | q_ | q_ | q_ | q_ <;> first | exact absurd q_ (by first | assumption | exact Ne9.p (by assumption)) | exact absurd (Nat.succ.inj q_) (by first | assumption | exact Ne9.p (by assumption)) | exact absurd q_.symm (Nat.succ_ne_zero _) | exact absurd (Nat.succ.inj q_).symm (by first | assumption | exact Ne9.p (by assumption))) | (intro q_; (try dsimp only at q_); rcases q_ with q_ | q_ | q_ | q_ <;> first | exact absurd q_ (by first | assumption | exact Ne9.p (by assumption)) | exact absurd (Nat.succ.inj q_) (by first | assumption | exact Ne9.p (by assumption)) | exact absurd q_.symm (Nat.succ_ne_zero _) | exact absurd (Nat.succ.inj q_).symm (by first | assumption | exact Ne9.p (by assumption))) | (intro q_; (try dsimp only at q_); rcases q_ with q_ | q_ <;> first | exact absurd q_ (by first | assumption | exact Ne9.p (by assumption)) | exact absurd (Nat.succ.inj q_) (by first | assumption | exact Ne9.p (by assumption)) | exact absurd q_.symm (Nat.succ_ne_zero _) | exact absurd (Nat.succ.inj q_).symm (by first | assumption | exact Ne9.p (by assumption))) | (intro q_; (try dsimp only at q_); omega))
      have hP_wa_k_1_w_20 := hKs_k_1.mv (u_23.1) (by first | exact id | exact fun q_ => absurd q_ (by first | assumption | exact Ne9.p (by assumption)) | exact fun q_ => absurd (Nat.succ.inj q_) (by first | assumption | exact Ne9.p (by assumption)) | exact fun q_ => absurd q_.symm (Nat.succ_ne_zero _) | exact fun q_ => absurd (Nat.succ.inj q_).symm (by first | assumption | exact Ne9.p (by assumption)) | (intro q_; (try dsimp only at q_); rcases q_ with q_ | q_ | q_ | q_ | q_ <;> first | exact absurd q_ (by first | assumption | exact Ne9.p (by assumption)) | exact absurd (Nat.succ.inj q_) (by first | assumption | exact Ne9.p (by assumption)) | exact absurd q_.symm (Nat.succ_ne_zero _) | exact absurd (Nat.succ.inj q_).symm (by first | assumption | exact Ne9.p (by assumption))) | (intro q_; (try dsimp only at q_); rcases q_ with q_ | q_ | q_ | q_ <;> first | exact absurd q_ (by first | assumption | exact Ne9.p (by assumption)) | exact absurd (Nat.succ.inj q_) (by first | assumption | exact Ne9.p (by assumption)) | exact absurd q_.symm (Nat.succ_ne_zero _) | exact absurd (Nat.succ.inj q_).symm (by first | assumption | exact Ne9.p (by assumption))) | (intro q_; (try dsimp only at q_); rcases q_ with q_ | q_ <;> first | exact absurd q_ (by first | assumption | exact Ne9.p (by assumption)) | exact absurd (Nat.succ.inj q_) (by first | assumption | exact Ne9.p (by assumption)) | exact absurd q_.symm (Nat.succ_ne_zero _) | exact absurd (Nat.succ.inj q_).symm (by first | assumption | exact Ne9.p (by assumption))) | (intro q_; (try dsimp only at q_); omega))
      have hU : Up (fun q_ => q_ = q + 1) w w_20 := hU.tr u_23 (fun q_ h_ => by first | exact absurd h_ id | exact Or.inl h_ | exact Or.inr (up_nw h_ (by assumption)) | exact Or.inl (Or.inl h_) | exact Or.inl (Or.inr h_) | exact Or.inl (Or.inr (Or.inl h_)) | exact Or.inl (Or.inr (Or.inr h_)) | exact Or.inl (Or.inr (Or.inr (Or.inl h_))) | exact Or.inl (Or.inr (Or.inr (Or.inr h_))) | exact Or.inl (h_.elim Or.inl (fun h_ => Or.inr (Or.inl h_))) | ((try dsimp only at h_); first | exact Or.inl (by omega) | exact Or.inr ⟨by omega, by subst h_; rw [Nat.add_sub_cancel]; assumption⟩)) hG
      refine lv_iload_n hx hb dX11_number_41 rfl (lv_at hl 0 rfl) ?_
      refine vx_ret ?_
      exact h_ireturn hx hb hlk hret hR hL rfl ⟨tok T (scA s), rNum_3 c_k c_r, c_r, hK__22, tok_w hsw.2.1, hU⟩ (by omega) (by omega) rfl rfl dX11_number_42
    ·
      refine W.eq (g2 := F0 m9 29 ls [.int (iI (2)), .int (iI (0)), .ref q]) (congrArg (fun z_ : Int => F0 m9 29 ls [.int (iI (2)), .int (iI (z_)), .ref q]) (show (b2i (lo ≤ va_k_1 ∧ va_k_1 ≤ hi) : Int) = 0 from (by rw [hve]; exact b2i_f c_r))) ?_
      -- call SpokenMarks$Scanner.check
      refine h_xV (h_xrunV X hR (sc_chk0 l G w q bf T s ⟨va_k_1, wa_k_1, hKo_k_1, hKs_k_1, hKr_k_1, hKv_k_1⟩ 2 hU.2.2.1) pn_yX11_check (hasC.of hKo_k_1 rfl) q2170 q2130 q3392 q162 q2131 ⟨by decide, by decide⟩ hl.1 (Nat.le_of_ble_eq_true rfl) dX11_number_29 ⟨by omega, by omega⟩) hL (fun xq_27 E_28 ce_ w_29 hx__30 H locs hR hL hce_ hcv_ hcl_ => ?_) (fun w_25 hp_26 H locs hR hL => ?_)
      ·
        exact h_xout (fun x_ hx_ => htab x_ hx_ _) hlk hce_ hcv_ hcl_ hR hL ⟨(scB s, 2), rNm_2 c_k c_r, TxE.tr hU hx__30 (fun q_ h_ => by first | exact absurd h_ id | exact Or.inl h_ | exact Or.inr (up_nw h_ (by assumption)) | exact Or.inl (Or.inl h_) | exact Or.inl (Or.inr h_) | exact Or.inl (Or.inr (Or.inl h_)) | exact Or.inl (Or.inr (Or.inr h_)) | exact Or.inl (Or.inr (Or.inr (Or.inl h_))) | exact Or.inl (Or.inr (Or.inr (Or.inr h_))) | exact Or.inl (h_.elim Or.inl (fun h_ => Or.inr (Or.inl h_))) | ((try dsimp only at h_); first | exact Or.inl (by omega) | exact Or.inr ⟨by omega, by subst h_; rw [Nat.add_sub_cancel]; assumption⟩)) hG⟩ (by omega) (by omega) rfl rfl
      ·
        exact hp_26.elim

set_option maxHeartbeats 4000000 in
set_option maxRecDepth 100000 in
/-- SpokenMarks$Scanner.number -/
theorem sc_numr (l : Launch) (G : Gl) (w : Wd) (q : Nat) (bf rb : Nat) (T : List Int) (s : Sc) (hK : TkAt G w 9 [] q bf T s) (lo hi : Int) (h1 : R32 lo) (h2 : R32 hi) (hB : BufAt G w bf rb T) (hqb : rb ≠ q + 1) (hsw : ScW T s) (hG : RegW w) : HMX l yX11_number cX11_number 4 (some .int) 10 4 33 G [.ref q, .int (iI (lo)), .int (iI (hi))] w (QI G (fun z_ w_ => ∃ s_ : Sc, rNum T lo hi (.inr s) = (.inr s_, z_) ∧ (lo ≤ z_ ∧ z_ ≤ hi) ∧ TkAt G w_ 9 [] q bf T s_ ∧ ScW T s_ ∧ Up (fun q_ => q_ = q + 1) w w_)) (fun q_ E_ w_ => ∃ x_ : Nat × Int, (rNum T lo hi (.inr s)).1 = .inl x_ ∧ TxE (fun q_ => q_ = q + 1) w x_.1 x_.2 q_ E_ w_) := by
  refine HMX.mk (by decide +kernel) (Nat.le_of_ble_eq_true rfl) ?_
  intro p9 e9 s9 m9 a9 b9 meth9 c9 ls X hret hlk hnm htab hl H hR
  have hx := X.1.1
  have hb := X.1.2.1
  have hl : lv_has ls 4 [(0, .ref q), (1, .int (iI (lo))), (2, .int (iI (hi)))] := hl
  have hL : LK G [] := fun q h => absurd h List.not_mem_nil
  generalize ([] : List Loc) = locs at hL ⊢
  have hU : Up (fun q_ => q_ = q + 1) w w := Up.rf hG
  have hkr := hsw.2.2.1
  obtain ⟨va_k_1, wa_k_1, hKo_k_1, hKs_k_1, hKr_k_1, hKv_k_1⟩ := hK
  refine lv_aload_n hx hb dX11_number_0 rfl (lv_at hl 0 rfl) ?_
  refine lv_aload_n hx hb dX11_number_1 rfl (lv_at hl 0 rfl) ?_
  refine h_get X hR hKo_k_1 rfl in_X12 5 (by decide) q2099 rfl dX11_number_2 ?_
  refine h_iconst hx hb dX11_number_5 ?_
  refine h_icmp_ne hx hb 13 dX11_number_6 (by decide) (by omega) (by omega) (fun c_k => ?_) (fun c_k => ?_)
  ·
    refine h_iconst hx hb dX11_number_13 ?_
    refine h_iconst hx hb dX11_number_14 ?_
    -- call SpokenMarks$Scanner.check
    refine h_xV (h_xrunU (x := ⟨"SpokenMarks$Scanner", "check", "(ZI)V"⟩) (owner := "SpokenMarks$Scanner") X hR (sc_chk0r l G w q bf T s ⟨va_k_1, wa_k_1, hKo_k_1, hKs_k_1, hKr_k_1, hKv_k_1⟩ 1 hU.2.2.1) (by decide) pn_yX11_check (hasC.of hKo_k_1 rfl) q2170 q3390 (h_declC X q2130 q2131) (X.1.2.2.2.2 _ q3391) q2130 q162 q2131 ⟨by decide, by decide⟩ hl.1 (Nat.le_of_ble_eq_true rfl) dX11_number_15 ⟨by omega, by omega⟩) hL (fun xq_5 E_6 ce_ w_7 hx__8 H locs hR hL hce_ hcv_ hcl_ => ?_) (fun w_3 hp_4 H locs hR hL => ?_)
    ·
      exact h_xout (fun x_ hx_ => htab x_ hx_ _) hlk hce_ hcv_ hcl_ hR hL ⟨(scB s, 1), rNm_1 c_k, TxE.tr hU hx__8 (fun q_ h_ => by first | exact absurd h_ id | exact Or.inl h_ | exact Or.inr (up_nw h_ (by assumption)) | exact Or.inl (Or.inl h_) | exact Or.inl (Or.inr h_) | exact Or.inl (Or.inr (Or.inl h_)) | exact Or.inl (Or.inr (Or.inr h_)) | exact Or.inl (Or.inr (Or.inr (Or.inl h_))) | exact Or.inl (Or.inr (Or.inr (Or.inr h_))) | exact Or.inl (h_.elim Or.inl (fun h_ => Or.inr (Or.inl h_))) | ((try dsimp only at h_); first | exact Or.inl (by omega) | exact Or.inr ⟨by omega, by subst h_; rw [Nat.add_sub_cancel]; assumption⟩)) hG⟩ (by omega) (by omega) rfl rfl
    ·
      exact hp_4.elim
  ·
    refine h_iconst hx hb dX11_number_9 ?_
    refine lv_goto (tgt := 14) hx hb dX11_number_10 (by decide) ?_
    refine h_iconst hx hb dX11_number_14 ?_
    -- call SpokenMarks$Scanner.check
    refine h_kVp (h_runU (x := ⟨"SpokenMarks$Scanner", "check", "(ZI)V"⟩) (owner := "SpokenMarks$Scanner") X hR (sc_chk1r l G w q 1) (by decide) pn_yX11_check (hasC.of hKo_k_1 rfl) q2170 q3390 (h_declC X q2130 q2131) (X.1.2.2.2.2 _ q3391) q2130 q162 q2131 ⟨by decide, by decide⟩ hl.1 (Nat.le_of_ble_eq_true rfl) dX11_number_15 ⟨by omega, by omega⟩) hL (fun H locs hR hL => ?_)
    refine lv_aload_n hx hb dX11_number_18 rfl (lv_at hl 0 rfl) ?_
    refine lv_aload_n hx hb dX11_number_19 rfl (lv_at hl 0 rfl) ?_
    refine h_get X hR hKo_k_1 rfl in_X12 4 (by decide) q2094 rfl dX11_number_20 ?_
    refine lv_iload_n hx hb dX11_number_23 rfl (lv_at hl 1 rfl) ?_
    refine lv_iload_n hx hb dX11_number_24 rfl (lv_at hl 2 rfl) ?_
    -- call SpokenMarks.inRange
    refine h_kIp (h_runSN X hR (c_inr l G w va_k_1 lo hi hKr_k_1 h1 h2) pn_yX1_inRange q2171 q1741 q120 q1742 ⟨by decide, by decide⟩ hl.1 (Nat.le_of_ble_eq_true rfl) dX11_number_25 ⟨by omega, by omega⟩) hL (fun H locs hR hL => ?_)
    refine h_iconst hx hb dX11_number_28 ?_
    have hve : va_k_1 = scV s := hKv_k_1 c_k
    by_cases c_r : lo ≤ scV s ∧ scV s ≤ hi
    ·
      refine W.eq (g2 := F0 m9 29 ls [.int (iI (2)), .int (iI (1)), .ref q]) (congrArg (fun z_ : Int => F0 m9 29 ls [.int (iI (2)), .int (iI (z_)), .ref q]) (show (b2i (lo ≤ va_k_1 ∧ va_k_1 ≤ hi) : Int) = 1 from (by rw [hve]; exact b2i_t c_r))) ?_
      -- call SpokenMarks$Scanner.check
      refine h_kVp (h_runU (x := ⟨"SpokenMarks$Scanner", "check", "(ZI)V"⟩) (owner := "SpokenMarks$Scanner") X hR (sc_chk1r l G w q 2) (by decide) pn_yX11_check (hasC.of hKo_k_1 rfl) q2170 q3390 (h_declC X q2130 q2131) (X.1.2.2.2.2 _ q3391) q2130 q162 q2131 ⟨by decide, by decide⟩ hl.1 (Nat.le_of_ble_eq_true rfl) dX11_number_29 ⟨by omega, by omega⟩) hL (fun H locs hR hL => ?_)
      refine lv_aload_n hx hb dX11_number_32 rfl (lv_at hl 0 rfl) ?_
      refine h_get X hR hKo_k_1 rfl in_X12 4 (by decide) q2094 rfl dX11_number_33 ?_
      refine W.eq (g2 := F0 m9 36 ls [.int (iI (scV s))]) (congrArg (fun z_ : Int => F0 m9 36 ls [.int (iI (z_))]) (show (va_k_1 : Int) = scV s from (by exact hve))) ?_
      refine lv_istore_n (lv' := [(3, .int (iI (scV s))), (0, .ref q), (1, .int (iI (lo))), (2, .int (iI (hi)))]) hx hb dX11_number_36 rfl hl (by decide) rfl (fun ls hl => ?_)
      refine lv_aload_n hx hb dX11_number_37 rfl (lv_at hl 1 rfl) ?_
      have hK_18 : TkAt G w 9 [] q bf T s := ⟨va_k_1, wa_k_1, hKo_k_1, hKs_k_1, hKr_k_1, hKv_k_1⟩
      -- call SpokenMarks$Scanner.advance
      refine h_kV (h_runU (x := ⟨"SpokenMarks$Scanner", "advance", "()V"⟩) (owner := "SpokenMarks$Scanner") X hR (sc_advTr l G w q bf rb T s hK_18 hB hsw.2.1 hqb hU.2.2.1) (by decide) pn_yX11_advance (hK_18.c rfl) q2063 q2066 (h_declC X q2064 q2069) (X.1.2.2.2.2 _ q2067) q2064 q162 q2069 ⟨by decide, by decide⟩ hl.1 (Nat.le_of_ble_eq_true rfl) dX11_number_38 ⟨by omega, by omega⟩) hL (fun w_20 hp_21 H locs hR hL => ?_)
      obtain ⟨hK__22, u_23⟩ := hp_21
      have hP_bf_w_20 := hB.mv (u_23.1) (by first | exact id | exact fun q_ => absurd q_ (by first | assumption | exact Ne9.p (by assumption)) | exact fun q_ => absurd (Nat.succ.inj q_) (by first | assumption | exact Ne9.p (by assumption)) | exact fun q_ => absurd q_.symm (Nat.succ_ne_zero _) | exact fun q_ => absurd (Nat.succ.inj q_).symm (by first | assumption | exact Ne9.p (by assumption)) | (intro q_; (try dsimp only at q_); rcases q_ with q_ | q_ | q_ | q_ | q_ <;> first | exact absurd q_ (by first | assumption | exact Ne9.p (by assumption)) | exact absurd (Nat.succ.inj q_) (by first | assumption | exact Ne9.p (by assumption)) | exact absurd q_.symm (Nat.succ_ne_zero _) | exact absurd (Nat.succ.inj q_).symm (by first | assumption | exact Ne9.p (by assumption))) | (intro q_; (try dsimp only at q_); rcases q_ with q_ | q_ | q_ | q_ <;> first | exact absurd q_ (by first | assumption | exact Ne9.p (by assumption)) | exact absurd (Nat.succ.inj q_) (by first | assumption | exact Ne9.p (by assumption)) | exact absurd q_.symm (Nat.succ_ne_zero _) | exact absurd (Nat.succ.inj q_).symm (by first | assumption | exact Ne9.p (by assumption))) | (intro q_; (try dsimp only at q_); rcases q_ with q_ | q_ <;> first | exact absurd q_ (by first | assumption | exact Ne9.p (by assumption)) | exact absurd (Nat.succ.inj q_) (by first | assumption | exact Ne9.p (by assumption)) | exact absurd q_.symm (Nat.succ_ne_zero _) | exact absurd (Nat.succ.inj q_).symm (by first | assumption | exact Ne9.p (by assumption))) | (intro q_; (try dsimp only at q_); omega))
      have hP_wa_k_1_w_20 := hKs_k_1.mv (u_23.1) (by first | exact id | exact fun q_ => absurd q_ (by first | assumption | exact Ne9.p (by assumption)) | exact fun q_ => absurd (Nat.succ.inj q_) (by first | assumption | exact Ne9.p (by assumption)) | exact fun q_ => absurd q_.symm (Nat.succ_ne_zero _) | exact fun q_ => absurd (Nat.succ.inj q_).symm (by first | assumption | exact Ne9.p (by assumption)) | (intro q_; (try dsimp only at q_); rcases q_ with q_ | q_ | q_ | q_ | q_ <;> first | exact absurd q_ (by first | assumption | exact Ne9.p (by assumption)) | exact absurd (Nat.succ.inj q_) (by first | assumption | exact Ne9.p (by assumption)) | exact absurd q_.symm (Nat.succ_ne_zero _) | exact absurd (Nat.succ.inj q_).symm (by first | assumption | exact Ne9.p (by assumption))) | (intro q_; (try dsimp only at q_); rcases q_ with q_ | q_ | q_ | q_ <;> first | exact absurd q_ (by first | assumption | exact Ne9.p (by assumption)) | exact absurd (Nat.succ.inj q_) (by first | assumption | exact Ne9.p (by assumption)) | exact absurd q_.symm (Nat.succ_ne_zero _) | exact absurd (Nat.succ.inj q_).symm (by first | assumption | exact Ne9.p (by assumption))) | (intro q_; (try dsimp only at q_); rcases q_ with q_ | q_ <;> first | exact absurd q_ (by first | assumption | exact Ne9.p (by assumption)) | exact absurd (Nat.succ.inj q_) (by first | assumption | exact Ne9.p (by assumption)) | exact absurd q_.symm (Nat.succ_ne_zero _) | exact absurd (Nat.succ.inj q_).symm (by first | assumption | exact Ne9.p (by assumption))) | (intro q_; (try dsimp only at q_); omega))
      have hU : Up (fun q_ => q_ = q + 1) w w_20 := hU.tr u_23 (fun q_ h_ => by first | exact absurd h_ id | exact Or.inl h_ | exact Or.inr (up_nw h_ (by assumption)) | exact Or.inl (Or.inl h_) | exact Or.inl (Or.inr h_) | exact Or.inl (Or.inr (Or.inl h_)) | exact Or.inl (Or.inr (Or.inr h_)) | exact Or.inl (Or.inr (Or.inr (Or.inl h_))) | exact Or.inl (Or.inr (Or.inr (Or.inr h_))) | exact Or.inl (h_.elim Or.inl (fun h_ => Or.inr (Or.inl h_))) | ((try dsimp only at h_); first | exact Or.inl (by omega) | exact Or.inr ⟨by omega, by subst h_; rw [Nat.add_sub_cancel]; assumption⟩)) hG
      refine lv_iload_n hx hb dX11_number_41 rfl (lv_at hl 0 rfl) ?_
      refine vx_ret ?_
      exact h_ireturn hx hb hlk hret hR hL rfl ⟨tok T (scA s), rNum_3 c_k c_r, c_r, hK__22, tok_w hsw.2.1, hU⟩ (by omega) (by omega) rfl rfl dX11_number_42
    ·
      refine W.eq (g2 := F0 m9 29 ls [.int (iI (2)), .int (iI (0)), .ref q]) (congrArg (fun z_ : Int => F0 m9 29 ls [.int (iI (2)), .int (iI (z_)), .ref q]) (show (b2i (lo ≤ va_k_1 ∧ va_k_1 ≤ hi) : Int) = 0 from (by rw [hve]; exact b2i_f c_r))) ?_
      -- call SpokenMarks$Scanner.check
      refine h_xV (h_xrunU (x := ⟨"SpokenMarks$Scanner", "check", "(ZI)V"⟩) (owner := "SpokenMarks$Scanner") X hR (sc_chk0r l G w q bf T s ⟨va_k_1, wa_k_1, hKo_k_1, hKs_k_1, hKr_k_1, hKv_k_1⟩ 2 hU.2.2.1) (by decide) pn_yX11_check (hasC.of hKo_k_1 rfl) q2170 q3390 (h_declC X q2130 q2131) (X.1.2.2.2.2 _ q3391) q2130 q162 q2131 ⟨by decide, by decide⟩ hl.1 (Nat.le_of_ble_eq_true rfl) dX11_number_29 ⟨by omega, by omega⟩) hL (fun xq_27 E_28 ce_ w_29 hx__30 H locs hR hL hce_ hcv_ hcl_ => ?_) (fun w_25 hp_26 H locs hR hL => ?_)
      ·
        exact h_xout (fun x_ hx_ => htab x_ hx_ _) hlk hce_ hcv_ hcl_ hR hL ⟨(scB s, 2), rNm_2 c_k c_r, TxE.tr hU hx__30 (fun q_ h_ => by first | exact absurd h_ id | exact Or.inl h_ | exact Or.inr (up_nw h_ (by assumption)) | exact Or.inl (Or.inl h_) | exact Or.inl (Or.inr h_) | exact Or.inl (Or.inr (Or.inl h_)) | exact Or.inl (Or.inr (Or.inr h_)) | exact Or.inl (Or.inr (Or.inr (Or.inl h_))) | exact Or.inl (Or.inr (Or.inr (Or.inr h_))) | exact Or.inl (h_.elim Or.inl (fun h_ => Or.inr (Or.inl h_))) | ((try dsimp only at h_); first | exact Or.inl (by omega) | exact Or.inr ⟨by omega, by subst h_; rw [Nat.add_sub_cancel]; assumption⟩)) hG⟩ (by omega) (by omega) rfl rfl
      ·
        exact hp_26.elim

set_option maxHeartbeats 4000000 in
set_option maxRecDepth 100000 in
/-- SpokenMarks$Scanner.number -/
theorem sc_nums (l : Launch) (G : Gl) (w : Wd) (q : Nat) (ol ca : Value) (bf rb : Nat) (T : List Int) (s : Sc) (hK : TkAt G w 10 [ol, ca] q bf T s) (lo hi : Int) (h1 : R32 lo) (h2 : R32 hi) (hB : BufAt G w bf rb T) (hqb : rb ≠ q + 1) (hsw : ScW T s) (hG : RegW w) : HMX l yX11_number cX11_number 4 (some .int) 10 4 33 G [.ref q, .int (iI (lo)), .int (iI (hi))] w (QI G (fun z_ w_ => ∃ s_ : Sc, rNum T lo hi (.inr s) = (.inr s_, z_) ∧ (lo ≤ z_ ∧ z_ ≤ hi) ∧ TkAt G w_ 10 [ol, ca] q bf T s_ ∧ ScW T s_ ∧ Up (fun q_ => q_ = q + 1) w w_)) (fun q_ E_ w_ => ∃ x_ : Nat × Int, (rNum T lo hi (.inr s)).1 = .inl x_ ∧ TxE (fun q_ => q_ = q + 1) w x_.1 x_.2 q_ E_ w_) := by
  refine HMX.mk (by decide +kernel) (Nat.le_of_ble_eq_true rfl) ?_
  intro p9 e9 s9 m9 a9 b9 meth9 c9 ls X hret hlk hnm htab hl H hR
  have hx := X.1.1
  have hb := X.1.2.1
  have hl : lv_has ls 4 [(0, .ref q), (1, .int (iI (lo))), (2, .int (iI (hi)))] := hl
  have hL : LK G [] := fun q h => absurd h List.not_mem_nil
  generalize ([] : List Loc) = locs at hL ⊢
  have hU : Up (fun q_ => q_ = q + 1) w w := Up.rf hG
  have hkr := hsw.2.2.1
  obtain ⟨va_k_1, wa_k_1, hKo_k_1, hKs_k_1, hKr_k_1, hKv_k_1⟩ := hK
  refine lv_aload_n hx hb dX11_number_0 rfl (lv_at hl 0 rfl) ?_
  refine lv_aload_n hx hb dX11_number_1 rfl (lv_at hl 0 rfl) ?_
  refine h_get X hR hKo_k_1 rfl in_X22 5 (by decide) q2099 rfl dX11_number_2 ?_
  refine h_iconst hx hb dX11_number_5 ?_
  refine h_icmp_ne hx hb 13 dX11_number_6 (by decide) (by omega) (by omega) (fun c_k => ?_) (fun c_k => ?_)
  ·
    refine h_iconst hx hb dX11_number_13 ?_
    refine h_iconst hx hb dX11_number_14 ?_
    -- call SpokenMarks$Scanner.check
    refine h_xV (h_xrunU (x := ⟨"SpokenMarks$Scanner", "check", "(ZI)V"⟩) (owner := "SpokenMarks$Scanner") X hR (sc_chk0s l G w q ol ca bf T s ⟨va_k_1, wa_k_1, hKo_k_1, hKs_k_1, hKr_k_1, hKv_k_1⟩ 1 hU.2.2.1) (by decide) pn_yX11_check (hasC.of hKo_k_1 rfl) q2170 q3390 (h_declC X q2130 q2131) (X.1.2.2.2.2 _ q3393) q2130 q162 q2131 ⟨by decide, by decide⟩ hl.1 (Nat.le_of_ble_eq_true rfl) dX11_number_15 ⟨by omega, by omega⟩) hL (fun xq_5 E_6 ce_ w_7 hx__8 H locs hR hL hce_ hcv_ hcl_ => ?_) (fun w_3 hp_4 H locs hR hL => ?_)
    ·
      exact h_xout (fun x_ hx_ => htab x_ hx_ _) hlk hce_ hcv_ hcl_ hR hL ⟨(scB s, 1), rNm_1 c_k, TxE.tr hU hx__8 (fun q_ h_ => by first | exact absurd h_ id | exact Or.inl h_ | exact Or.inr (up_nw h_ (by assumption)) | exact Or.inl (Or.inl h_) | exact Or.inl (Or.inr h_) | exact Or.inl (Or.inr (Or.inl h_)) | exact Or.inl (Or.inr (Or.inr h_)) | exact Or.inl (Or.inr (Or.inr (Or.inl h_))) | exact Or.inl (Or.inr (Or.inr (Or.inr h_))) | exact Or.inl (h_.elim Or.inl (fun h_ => Or.inr (Or.inl h_))) | ((try dsimp only at h_); first | exact Or.inl (by omega) | exact Or.inr ⟨by omega, by subst h_; rw [Nat.add_sub_cancel]; assumption⟩)) hG⟩ (by omega) (by omega) rfl rfl
    ·
      exact hp_4.elim
  ·
    refine h_iconst hx hb dX11_number_9 ?_
    refine lv_goto (tgt := 14) hx hb dX11_number_10 (by decide) ?_
    refine h_iconst hx hb dX11_number_14 ?_
    -- call SpokenMarks$Scanner.check
    refine h_kVp (h_runU (x := ⟨"SpokenMarks$Scanner", "check", "(ZI)V"⟩) (owner := "SpokenMarks$Scanner") X hR (sc_chk1s l G w q 1) (by decide) pn_yX11_check (hasC.of hKo_k_1 rfl) q2170 q3390 (h_declC X q2130 q2131) (X.1.2.2.2.2 _ q3393) q2130 q162 q2131 ⟨by decide, by decide⟩ hl.1 (Nat.le_of_ble_eq_true rfl) dX11_number_15 ⟨by omega, by omega⟩) hL (fun H locs hR hL => ?_)
    refine lv_aload_n hx hb dX11_number_18 rfl (lv_at hl 0 rfl) ?_
    refine lv_aload_n hx hb dX11_number_19 rfl (lv_at hl 0 rfl) ?_
    refine h_get X hR hKo_k_1 rfl in_X22 4 (by decide) q2094 rfl dX11_number_20 ?_
    refine lv_iload_n hx hb dX11_number_23 rfl (lv_at hl 1 rfl) ?_
    refine lv_iload_n hx hb dX11_number_24 rfl (lv_at hl 2 rfl) ?_
    -- call SpokenMarks.inRange
    refine h_kIp (h_runSN X hR (c_inr l G w va_k_1 lo hi hKr_k_1 h1 h2) pn_yX1_inRange q2171 q1741 q120 q1742 ⟨by decide, by decide⟩ hl.1 (Nat.le_of_ble_eq_true rfl) dX11_number_25 ⟨by omega, by omega⟩) hL (fun H locs hR hL => ?_)
    refine h_iconst hx hb dX11_number_28 ?_
    have hve : va_k_1 = scV s := hKv_k_1 c_k
    by_cases c_r : lo ≤ scV s ∧ scV s ≤ hi
    ·
      refine W.eq (g2 := F0 m9 29 ls [.int (iI (2)), .int (iI (1)), .ref q]) (congrArg (fun z_ : Int => F0 m9 29 ls [.int (iI (2)), .int (iI (z_)), .ref q]) (show (b2i (lo ≤ va_k_1 ∧ va_k_1 ≤ hi) : Int) = 1 from (by rw [hve]; exact b2i_t c_r))) ?_
      -- call SpokenMarks$Scanner.check
      refine h_kVp (h_runU (x := ⟨"SpokenMarks$Scanner", "check", "(ZI)V"⟩) (owner := "SpokenMarks$Scanner") X hR (sc_chk1s l G w q 2) (by decide) pn_yX11_check (hasC.of hKo_k_1 rfl) q2170 q3390 (h_declC X q2130 q2131) (X.1.2.2.2.2 _ q3393) q2130 q162 q2131 ⟨by decide, by decide⟩ hl.1 (Nat.le_of_ble_eq_true rfl) dX11_number_29 ⟨by omega, by omega⟩) hL (fun H locs hR hL => ?_)
      refine lv_aload_n hx hb dX11_number_32 rfl (lv_at hl 0 rfl) ?_
      refine h_get X hR hKo_k_1 rfl in_X22 4 (by decide) q2094 rfl dX11_number_33 ?_
      refine W.eq (g2 := F0 m9 36 ls [.int (iI (scV s))]) (congrArg (fun z_ : Int => F0 m9 36 ls [.int (iI (z_))]) (show (va_k_1 : Int) = scV s from (by exact hve))) ?_
      refine lv_istore_n (lv' := [(3, .int (iI (scV s))), (0, .ref q), (1, .int (iI (lo))), (2, .int (iI (hi)))]) hx hb dX11_number_36 rfl hl (by decide) rfl (fun ls hl => ?_)
      refine lv_aload_n hx hb dX11_number_37 rfl (lv_at hl 1 rfl) ?_
      have hK_18 : TkAt G w 10 [ol, ca] q bf T s := ⟨va_k_1, wa_k_1, hKo_k_1, hKs_k_1, hKr_k_1, hKv_k_1⟩
      -- call SpokenMarks$Scanner.advance
      refine h_kV (h_runU (x := ⟨"SpokenMarks$Scanner", "advance", "()V"⟩) (owner := "SpokenMarks$Scanner") X hR (sc_advTs l G w q ol ca bf rb T s hK_18 hB hsw.2.1 hqb hU.2.2.1) (by decide) pn_yX11_advance (hK_18.c rfl) q2063 q2066 (h_declC X q2064 q2069) (X.1.2.2.2.2 _ q2068) q2064 q162 q2069 ⟨by decide, by decide⟩ hl.1 (Nat.le_of_ble_eq_true rfl) dX11_number_38 ⟨by omega, by omega⟩) hL (fun w_20 hp_21 H locs hR hL => ?_)
      obtain ⟨hK__22, u_23⟩ := hp_21
      have hP_bf_w_20 := hB.mv (u_23.1) (by first | exact id | exact fun q_ => absurd q_ (by first | assumption | exact Ne9.p (by assumption)) | exact fun q_ => absurd (Nat.succ.inj q_) (by first | assumption | exact Ne9.p (by assumption)) | exact fun q_ => absurd q_.symm (Nat.succ_ne_zero _) | exact fun q_ => absurd (Nat.succ.inj q_).symm (by first | assumption | exact Ne9.p (by assumption)) | (intro q_; (try dsimp only at q_); rcases q_ with q_ | q_ | q_ | q_ | q_ <;> first | exact absurd q_ (by first | assumption | exact Ne9.p (by assumption)) | exact absurd (Nat.succ.inj q_) (by first | assumption | exact Ne9.p (by assumption)) | exact absurd q_.symm (Nat.succ_ne_zero _) | exact absurd (Nat.succ.inj q_).symm (by first | assumption | exact Ne9.p (by assumption))) | (intro q_; (try dsimp only at q_); rcases q_ with q_ | q_ | q_ | q_ <;> first | exact absurd q_ (by first | assumption | exact Ne9.p (by assumption)) | exact absurd (Nat.succ.inj q_) (by first | assumption | exact Ne9.p (by assumption)) | exact absurd q_.symm (Nat.succ_ne_zero _) | exact absurd (Nat.succ.inj q_).symm (by first | assumption | exact Ne9.p (by assumption))) | (intro q_; (try dsimp only at q_); rcases q_ with q_ | q_ <;> first | exact absurd q_ (by first | assumption | exact Ne9.p (by assumption)) | exact absurd (Nat.succ.inj q_) (by first | assumption | exact Ne9.p (by assumption)) | exact absurd q_.symm (Nat.succ_ne_zero _) | exact absurd (Nat.succ.inj q_).symm (by first | assumption | exact Ne9.p (by assumption))) | (intro q_; (try dsimp only at q_); omega))
      have hP_wa_k_1_w_20 := hKs_k_1.mv (u_23.1) (by first | exact id | exact fun q_ => absurd q_ (by first | assumption | exact Ne9.p (by assumption)) | exact fun q_ => absurd (Nat.succ.inj q_) (by first | assumption | exact Ne9.p (by assumption)) | exact fun q_ => absurd q_.symm (Nat.succ_ne_zero _) | exact fun q_ => absurd (Nat.succ.inj q_).symm (by first | assumption | exact Ne9.p (by assumption)) | (intro q_; (try dsimp only at q_); rcases q_ with q_ | q_ | q_ | q_ | q_ <;> first | exact absurd q_ (by first | assumption | exact Ne9.p (by assumption)) | exact absurd (Nat.succ.inj q_) (by first | assumption | exact Ne9.p (by assumption)) | exact absurd q_.symm (Nat.succ_ne_zero _) | exact absurd (Nat.succ.inj q_).symm (by first | assumption | exact Ne9.p (by assumption))) | (intro q_; (try dsimp only at q_); rcases q_ with q_ | q_ | q_ | q_ <;> first | exact absurd q_ (by first | assumption | exact Ne9.p (by assumption)) | exact absurd (Nat.succ.inj q_) (by first | assumption | exact Ne9.p (by assumption)) | exact absurd q_.symm (Nat.succ_ne_zero _) | exact absurd (Nat.succ.inj q_).symm (by first | assumption | exact Ne9.p (by assumption))) | (intro q_; (try dsimp only at q_); rcases q_ with q_ | q_ <;> first | exact absurd q_ (by first | assumption | exact Ne9.p (by assumption)) | exact absurd (Nat.succ.inj q_) (by first | assumption | exact Ne9.p (by assumption)) | exact absurd q_.symm (Nat.succ_ne_zero _) | exact absurd (Nat.succ.inj q_).symm (by first | assumption | exact Ne9.p (by assumption))) | (intro q_; (try dsimp only at q_); omega))
      have hU : Up (fun q_ => q_ = q + 1) w w_20 := hU.tr u_23 (fun q_ h_ => by first | exact absurd h_ id | exact Or.inl h_ | exact Or.inr (up_nw h_ (by assumption)) | exact Or.inl (Or.inl h_) | exact Or.inl (Or.inr h_) | exact Or.inl (Or.inr (Or.inl h_)) | exact Or.inl (Or.inr (Or.inr h_)) | exact Or.inl (Or.inr (Or.inr (Or.inl h_))) | exact Or.inl (Or.inr (Or.inr (Or.inr h_))) | exact Or.inl (h_.elim Or.inl (fun h_ => Or.inr (Or.inl h_))) | ((try dsimp only at h_); first | exact Or.inl (by omega) | exact Or.inr ⟨by omega, by subst h_; rw [Nat.add_sub_cancel]; assumption⟩)) hG
      refine lv_iload_n hx hb dX11_number_41 rfl (lv_at hl 0 rfl) ?_
      refine vx_ret ?_
      exact h_ireturn hx hb hlk hret hR hL rfl ⟨tok T (scA s), rNum_3 c_k c_r, c_r, hK__22, tok_w hsw.2.1, hU⟩ (by omega) (by omega) rfl rfl dX11_number_42
    ·
      refine W.eq (g2 := F0 m9 29 ls [.int (iI (2)), .int (iI (0)), .ref q]) (congrArg (fun z_ : Int => F0 m9 29 ls [.int (iI (2)), .int (iI (z_)), .ref q]) (show (b2i (lo ≤ va_k_1 ∧ va_k_1 ≤ hi) : Int) = 0 from (by rw [hve]; exact b2i_f c_r))) ?_
      -- call SpokenMarks$Scanner.check
      refine h_xV (h_xrunU (x := ⟨"SpokenMarks$Scanner", "check", "(ZI)V"⟩) (owner := "SpokenMarks$Scanner") X hR (sc_chk0s l G w q ol ca bf T s ⟨va_k_1, wa_k_1, hKo_k_1, hKs_k_1, hKr_k_1, hKv_k_1⟩ 2 hU.2.2.1) (by decide) pn_yX11_check (hasC.of hKo_k_1 rfl) q2170 q3390 (h_declC X q2130 q2131) (X.1.2.2.2.2 _ q3393) q2130 q162 q2131 ⟨by decide, by decide⟩ hl.1 (Nat.le_of_ble_eq_true rfl) dX11_number_29 ⟨by omega, by omega⟩) hL (fun xq_27 E_28 ce_ w_29 hx__30 H locs hR hL hce_ hcv_ hcl_ => ?_) (fun w_25 hp_26 H locs hR hL => ?_)
      ·
        exact h_xout (fun x_ hx_ => htab x_ hx_ _) hlk hce_ hcv_ hcl_ hR hL ⟨(scB s, 2), rNm_2 c_k c_r, TxE.tr hU hx__30 (fun q_ h_ => by first | exact absurd h_ id | exact Or.inl h_ | exact Or.inr (up_nw h_ (by assumption)) | exact Or.inl (Or.inl h_) | exact Or.inl (Or.inr h_) | exact Or.inl (Or.inr (Or.inl h_)) | exact Or.inl (Or.inr (Or.inr h_)) | exact Or.inl (Or.inr (Or.inr (Or.inl h_))) | exact Or.inl (Or.inr (Or.inr (Or.inr h_))) | exact Or.inl (h_.elim Or.inl (fun h_ => Or.inr (Or.inl h_))) | ((try dsimp only at h_); first | exact Or.inl (by omega) | exact Or.inr ⟨by omega, by subst h_; rw [Nat.add_sub_cancel]; assumption⟩)) hG⟩ (by omega) (by omega) rfl rfl
      ·
        exact hp_26.elim

set_option maxHeartbeats 4000000 in
set_option maxRecDepth 100000 in
/-- SpokenMarks$Scanner.lookWord -/
theorem sc_lkw (l : Launch) (G : Gl) (w : Wd) (q : Nat) (bf rb : Nat) (T : List Int) (s : Sc) (hK : TkAt G w 8 [] q bf T s) (hsw : ScW T s) (hG : RegW w) : HMX l yX11_lookWord cX11_lookWord 1 (some (.object "java/lang/String")) 5 1 8 G [.ref q] w (QR G (fun z_ w_ => rLook T (.inr s) = (.inr s, scL T s) ∧ (Wrd (scL T s) ∧ scL T s ≠ []) ∧ StrAt G w z_ (scL T s) ∧ w = w_)) (fun q_ E_ w_ => ∃ x_ : Nat × Int, (rLook T (.inr s)).1 = .inl x_ ∧ TxE (fun _ => False) w x_.1 x_.2 q_ E_ w_) := by
  refine HMX.mk (by decide +kernel) (Nat.le_of_ble_eq_true rfl) ?_
  intro p9 e9 s9 m9 a9 b9 meth9 c9 ls X hret hlk hnm htab hl H hR
  have hx := X.1.1
  have hb := X.1.2.1
  have hl : lv_has ls 1 [(0, .ref q)] := hl
  have hL : LK G [] := fun q h => absurd h List.not_mem_nil
  generalize ([] : List Loc) = locs at hL ⊢
  have hU : Up (fun _ => False) w w := Up.rf hG
  have hkr := hsw.2.2.1
  obtain ⟨va_k_1, wa_k_1, hKo_k_1, hKs_k_1, hKr_k_1, hKv_k_1⟩ := hK
  refine lv_aload_n hx hb dX11_lookWord_0 rfl (lv_at hl 0 rfl) ?_
  refine lv_aload_n hx hb dX11_lookWord_1 rfl (lv_at hl 0 rfl) ?_
  refine h_get X hR hKo_k_1 rfl in_X11 5 (by decide) q2099 rfl dX11_lookWord_2 ?_
  refine h_iconst hx hb dX11_lookWord_5 ?_
  refine h_icmp_ne hx hb 13 dX11_lookWord_6 (by decide) (by omega) (by omega) (fun c_k => ?_) (fun c_k => ?_)
  ·
    refine h_iconst hx hb dX11_lookWord_13 ?_
    refine h_iconst hx hb dX11_lookWord_14 ?_
    -- call SpokenMarks$Scanner.check
    refine h_xV (h_xrunV X hR (sc_chk0 l G w q bf T s ⟨va_k_1, wa_k_1, hKo_k_1, hKs_k_1, hKr_k_1, hKv_k_1⟩ 1 hU.2.2.1) pn_yX11_check (hasC.of hKo_k_1 rfl) q2170 q2130 q3392 q162 q2131 ⟨by decide, by decide⟩ hl.1 (Nat.le_of_ble_eq_true rfl) dX11_lookWord_15 ⟨by omega, by omega⟩) hL (fun xq_5 E_6 ce_ w_7 hx__8 H locs hR hL hce_ hcv_ hcl_ => ?_) (fun w_3 hp_4 H locs hR hL => ?_)
    ·
      exact h_xout (fun x_ hx_ => htab x_ hx_ _) hlk hce_ hcv_ hcl_ hR hL ⟨(scB s, 1), congrArg Prod.fst (rLook_1 c_k), TxE.tr hU hx__8 (fun q_ h_ => by first | exact absurd h_ id | exact Or.inl h_ | exact Or.inr (up_nw h_ (by assumption)) | exact Or.inl (Or.inl h_) | exact Or.inl (Or.inr h_) | exact Or.inl (Or.inr (Or.inl h_)) | exact Or.inl (Or.inr (Or.inr h_)) | exact Or.inl (Or.inr (Or.inr (Or.inl h_))) | exact Or.inl (Or.inr (Or.inr (Or.inr h_))) | exact Or.inl (h_.elim Or.inl (fun h_ => Or.inr (Or.inl h_))) | ((try dsimp only at h_); first | exact Or.inl (by omega) | exact Or.inr ⟨by omega, by subst h_; rw [Nat.add_sub_cancel]; assumption⟩)) hG⟩ (by omega) (by omega) rfl rfl
    ·
      exact hp_4.elim
  ·
    refine h_iconst hx hb dX11_lookWord_9 ?_
    refine lv_goto (tgt := 14) hx hb dX11_lookWord_10 (by decide) ?_
    refine h_iconst hx hb dX11_lookWord_14 ?_
    -- call SpokenMarks$Scanner.check
    refine h_kVp (h_runV X hR (sc_chk1 l G w q 1) pn_yX11_check (hasC.of hKo_k_1 rfl) q2170 q2130 q3392 q162 q2131 ⟨by decide, by decide⟩ hl.1 (Nat.le_of_ble_eq_true rfl) dX11_lookWord_15 ⟨by omega, by omega⟩) hL (fun H locs hR hL => ?_)
    refine lv_aload_n hx hb dX11_lookWord_18 rfl (lv_at hl 0 rfl) ?_
    refine lv_aload_n hx hb dX11_lookWord_19 rfl (lv_at hl 0 rfl) ?_
    refine h_get X hR hKo_k_1 rfl in_X11 6 (by decide) q2100 rfl dX11_lookWord_20 ?_
    -- call java/lang/String.length
    refine h_kIp (h_runV X hR (s_length l G w wa_k_1 (scW T s) hKs_k_1) pn_yJ10_length (hKs_k_1.c) q2193 q373 q374 q132 q375 ⟨by decide, by decide⟩ hl.1 (Nat.le_of_ble_eq_true rfl) dX11_lookWord_23 ⟨by omega, by omega⟩) hL (fun H locs hR hL => ?_)
    have hwl := scW_len (T := T) c_k
    refine h_bipush hx hb dX11_lookWord_26 (by decide) ?_
    refine h_icmp_gt hx hb 35 dX11_lookWord_28 (by decide) (by split at hwl <;> omega) (by decide) (fun c_g => ?_) (fun c_g => ?_)
    ·
      have c_8 : ¬ scA s - scB s ≤ 8 := fun q_ => by rw [if_pos q_] at hwl; omega
      refine h_iconst hx hb dX11_lookWord_35 ?_
      refine h_iconst hx hb dX11_lookWord_36 ?_
      -- call SpokenMarks$Scanner.check
      refine h_xV (h_xrunV X hR (sc_chk0 l G w q bf T s ⟨va_k_1, wa_k_1, hKo_k_1, hKs_k_1, hKr_k_1, hKv_k_1⟩ 3 hU.2.2.1) pn_yX11_check (hasC.of hKo_k_1 rfl) q2170 q2130 q3392 q162 q2131 ⟨by decide, by decide⟩ hl.1 (Nat.le_of_ble_eq_true rfl) dX11_lookWord_37 ⟨by omega, by omega⟩) hL (fun xq_18 E_19 ce_ w_20 hx__21 H locs hR hL hce_ hcv_ hcl_ => ?_) (fun w_16 hp_17 H locs hR hL => ?_)
      ·
        exact h_xout (fun x_ hx_ => htab x_ hx_ _) hlk hce_ hcv_ hcl_ hR hL ⟨(scB s, 3), congrArg Prod.fst (rLook_2 c_k c_8), TxE.tr hU hx__21 (fun q_ h_ => by first | exact absurd h_ id | exact Or.inl h_ | exact Or.inr (up_nw h_ (by assumption)) | exact Or.inl (Or.inl h_) | exact Or.inl (Or.inr h_) | exact Or.inl (Or.inr (Or.inl h_)) | exact Or.inl (Or.inr (Or.inr h_)) | exact Or.inl (Or.inr (Or.inr (Or.inl h_))) | exact Or.inl (Or.inr (Or.inr (Or.inr h_))) | exact Or.inl (h_.elim Or.inl (fun h_ => Or.inr (Or.inl h_))) | ((try dsimp only at h_); first | exact Or.inl (by omega) | exact Or.inr ⟨by omega, by subst h_; rw [Nat.add_sub_cancel]; assumption⟩)) hG⟩ (by omega) (by omega) rfl rfl
      ·
        exact hp_17.elim
    ·
      have c_8 : scA s - scB s ≤ 8 := Decidable.byContradiction (fun q_ => by rw [if_neg q_] at hwl; omega)
      refine h_iconst hx hb dX11_lookWord_31 ?_
      refine lv_goto (tgt := 36) hx hb dX11_lookWord_32 (by decide) ?_
      refine h_iconst hx hb dX11_lookWord_36 ?_
      -- call SpokenMarks$Scanner.check
      refine h_kVp (h_runV X hR (sc_chk1 l G w q 3) pn_yX11_check (hasC.of hKo_k_1 rfl) q2170 q2130 q3392 q162 q2131 ⟨by decide, by decide⟩ hl.1 (Nat.le_of_ble_eq_true rfl) dX11_lookWord_37 ⟨by omega, by omega⟩) hL (fun H locs hR hL => ?_)
      refine lv_aload_n hx hb dX11_lookWord_40 rfl (lv_at hl 0 rfl) ?_
      refine h_get X hR hKo_k_1 rfl in_X11 6 (by decide) q2100 rfl dX11_lookWord_41 ?_
      refine vx_ret ?_
      exact h_areturn hx hb hlk hret (by first | exact Or.inl ⟨_, rfl⟩ | exact Or.inr ⟨_, rfl⟩) hR hL ⟨rLook_3 c_k c_8, scL_w hsw c_k c_8, by rw [← scW_L c_k c_8]; exact hKs_k_1, rfl⟩ (by omega) (by omega) rfl rfl dX11_lookWord_44

set_option maxHeartbeats 4000000 in
set_option maxRecDepth 100000 in
/-- SpokenMarks$Scanner.lookWord -/
theorem sc_lkwr (l : Launch) (G : Gl) (w : Wd) (q : Nat) (bf rb : Nat) (T : List Int) (s : Sc) (hK : TkAt G w 9 [] q bf T s) (hsw : ScW T s) (hG : RegW w) : HMX l yX11_lookWord cX11_lookWord 1 (some (.object "java/lang/String")) 5 1 8 G [.ref q] w (QR G (fun z_ w_ => rLook T (.inr s) = (.inr s, scL T s) ∧ (Wrd (scL T s) ∧ scL T s ≠ []) ∧ StrAt G w z_ (scL T s) ∧ w = w_)) (fun q_ E_ w_ => ∃ x_ : Nat × Int, (rLook T (.inr s)).1 = .inl x_ ∧ TxE (fun _ => False) w x_.1 x_.2 q_ E_ w_) := by
  refine HMX.mk (by decide +kernel) (Nat.le_of_ble_eq_true rfl) ?_
  intro p9 e9 s9 m9 a9 b9 meth9 c9 ls X hret hlk hnm htab hl H hR
  have hx := X.1.1
  have hb := X.1.2.1
  have hl : lv_has ls 1 [(0, .ref q)] := hl
  have hL : LK G [] := fun q h => absurd h List.not_mem_nil
  generalize ([] : List Loc) = locs at hL ⊢
  have hU : Up (fun _ => False) w w := Up.rf hG
  have hkr := hsw.2.2.1
  obtain ⟨va_k_1, wa_k_1, hKo_k_1, hKs_k_1, hKr_k_1, hKv_k_1⟩ := hK
  refine lv_aload_n hx hb dX11_lookWord_0 rfl (lv_at hl 0 rfl) ?_
  refine lv_aload_n hx hb dX11_lookWord_1 rfl (lv_at hl 0 rfl) ?_
  refine h_get X hR hKo_k_1 rfl in_X12 5 (by decide) q2099 rfl dX11_lookWord_2 ?_
  refine h_iconst hx hb dX11_lookWord_5 ?_
  refine h_icmp_ne hx hb 13 dX11_lookWord_6 (by decide) (by omega) (by omega) (fun c_k => ?_) (fun c_k => ?_)
  ·
    refine h_iconst hx hb dX11_lookWord_13 ?_
    refine h_iconst hx hb dX11_lookWord_14 ?_
    -- call SpokenMarks$Scanner.check
    refine h_xV (h_xrunU (x := ⟨"SpokenMarks$Scanner", "check", "(ZI)V"⟩) (owner := "SpokenMarks$Scanner") X hR (sc_chk0r l G w q bf T s ⟨va_k_1, wa_k_1, hKo_k_1, hKs_k_1, hKr_k_1, hKv_k_1⟩ 1 hU.2.2.1) (by decide) pn_yX11_check (hasC.of hKo_k_1 rfl) q2170 q3390 (h_declC X q2130 q2131) (X.1.2.2.2.2 _ q3391) q2130 q162 q2131 ⟨by decide, by decide⟩ hl.1 (Nat.le_of_ble_eq_true rfl) dX11_lookWord_15 ⟨by omega, by omega⟩) hL (fun xq_5 E_6 ce_ w_7 hx__8 H locs hR hL hce_ hcv_ hcl_ => ?_) (fun w_3 hp_4 H locs hR hL => ?_)
    ·
      exact h_xout (fun x_ hx_ => htab x_ hx_ _) hlk hce_ hcv_ hcl_ hR hL ⟨(scB s, 1), congrArg Prod.fst (rLook_1 c_k), TxE.tr hU hx__8 (fun q_ h_ => by first | exact absurd h_ id | exact Or.inl h_ | exact Or.inr (up_nw h_ (by assumption)) | exact Or.inl (Or.inl h_) | exact Or.inl (Or.inr h_) | exact Or.inl (Or.inr (Or.inl h_)) | exact Or.inl (Or.inr (Or.inr h_)) | exact Or.inl (Or.inr (Or.inr (Or.inl h_))) | exact Or.inl (Or.inr (Or.inr (Or.inr h_))) | exact Or.inl (h_.elim Or.inl (fun h_ => Or.inr (Or.inl h_))) | ((try dsimp only at h_); first | exact Or.inl (by omega) | exact Or.inr ⟨by omega, by subst h_; rw [Nat.add_sub_cancel]; assumption⟩)) hG⟩ (by omega) (by omega) rfl rfl
    ·
      exact hp_4.elim
  ·
    refine h_iconst hx hb dX11_lookWord_9 ?_
    refine lv_goto (tgt := 14) hx hb dX11_lookWord_10 (by decide) ?_
    refine h_iconst hx hb dX11_lookWord_14 ?_
    -- call SpokenMarks$Scanner.check
    refine h_kVp (h_runU (x := ⟨"SpokenMarks$Scanner", "check", "(ZI)V"⟩) (owner := "SpokenMarks$Scanner") X hR (sc_chk1r l G w q 1) (by decide) pn_yX11_check (hasC.of hKo_k_1 rfl) q2170 q3390 (h_declC X q2130 q2131) (X.1.2.2.2.2 _ q3391) q2130 q162 q2131 ⟨by decide, by decide⟩ hl.1 (Nat.le_of_ble_eq_true rfl) dX11_lookWord_15 ⟨by omega, by omega⟩) hL (fun H locs hR hL => ?_)
    refine lv_aload_n hx hb dX11_lookWord_18 rfl (lv_at hl 0 rfl) ?_
    refine lv_aload_n hx hb dX11_lookWord_19 rfl (lv_at hl 0 rfl) ?_
    refine h_get X hR hKo_k_1 rfl in_X12 6 (by decide) q2100 rfl dX11_lookWord_20 ?_
    -- call java/lang/String.length
    refine h_kIp (h_runV X hR (s_length l G w wa_k_1 (scW T s) hKs_k_1) pn_yJ10_length (hKs_k_1.c) q2193 q373 q374 q132 q375 ⟨by decide, by decide⟩ hl.1 (Nat.le_of_ble_eq_true rfl) dX11_lookWord_23 ⟨by omega, by omega⟩) hL (fun H locs hR hL => ?_)
    have hwl := scW_len (T := T) c_k
    refine h_bipush hx hb dX11_lookWord_26 (by decide) ?_
    refine h_icmp_gt hx hb 35 dX11_lookWord_28 (by decide) (by split at hwl <;> omega) (by decide) (fun c_g => ?_) (fun c_g => ?_)
    ·
      have c_8 : ¬ scA s - scB s ≤ 8 := fun q_ => by rw [if_pos q_] at hwl; omega
      refine h_iconst hx hb dX11_lookWord_35 ?_
      refine h_iconst hx hb dX11_lookWord_36 ?_
      -- call SpokenMarks$Scanner.check
      refine h_xV (h_xrunU (x := ⟨"SpokenMarks$Scanner", "check", "(ZI)V"⟩) (owner := "SpokenMarks$Scanner") X hR (sc_chk0r l G w q bf T s ⟨va_k_1, wa_k_1, hKo_k_1, hKs_k_1, hKr_k_1, hKv_k_1⟩ 3 hU.2.2.1) (by decide) pn_yX11_check (hasC.of hKo_k_1 rfl) q2170 q3390 (h_declC X q2130 q2131) (X.1.2.2.2.2 _ q3391) q2130 q162 q2131 ⟨by decide, by decide⟩ hl.1 (Nat.le_of_ble_eq_true rfl) dX11_lookWord_37 ⟨by omega, by omega⟩) hL (fun xq_18 E_19 ce_ w_20 hx__21 H locs hR hL hce_ hcv_ hcl_ => ?_) (fun w_16 hp_17 H locs hR hL => ?_)
      ·
        exact h_xout (fun x_ hx_ => htab x_ hx_ _) hlk hce_ hcv_ hcl_ hR hL ⟨(scB s, 3), congrArg Prod.fst (rLook_2 c_k c_8), TxE.tr hU hx__21 (fun q_ h_ => by first | exact absurd h_ id | exact Or.inl h_ | exact Or.inr (up_nw h_ (by assumption)) | exact Or.inl (Or.inl h_) | exact Or.inl (Or.inr h_) | exact Or.inl (Or.inr (Or.inl h_)) | exact Or.inl (Or.inr (Or.inr h_)) | exact Or.inl (Or.inr (Or.inr (Or.inl h_))) | exact Or.inl (Or.inr (Or.inr (Or.inr h_))) | exact Or.inl (h_.elim Or.inl (fun h_ => Or.inr (Or.inl h_))) | ((try dsimp only at h_); first | exact Or.inl (by omega) | exact Or.inr ⟨by omega, by subst h_; rw [Nat.add_sub_cancel]; assumption⟩)) hG⟩ (by omega) (by omega) rfl rfl
      ·
        exact hp_17.elim
    ·
      have c_8 : scA s - scB s ≤ 8 := Decidable.byContradiction (fun q_ => by rw [if_neg q_] at hwl; omega)
      refine h_iconst hx hb dX11_lookWord_31 ?_
      refine lv_goto (tgt := 36) hx hb dX11_lookWord_32 (by decide) ?_
      refine h_iconst hx hb dX11_lookWord_36 ?_
      -- call SpokenMarks$Scanner.check
      refine h_kVp (h_runU (x := ⟨"SpokenMarks$Scanner", "check", "(ZI)V"⟩) (owner := "SpokenMarks$Scanner") X hR (sc_chk1r l G w q 3) (by decide) pn_yX11_check (hasC.of hKo_k_1 rfl) q2170 q3390 (h_declC X q2130 q2131) (X.1.2.2.2.2 _ q3391) q2130 q162 q2131 ⟨by decide, by decide⟩ hl.1 (Nat.le_of_ble_eq_true rfl) dX11_lookWord_37 ⟨by omega, by omega⟩) hL (fun H locs hR hL => ?_)
      refine lv_aload_n hx hb dX11_lookWord_40 rfl (lv_at hl 0 rfl) ?_
      refine h_get X hR hKo_k_1 rfl in_X12 6 (by decide) q2100 rfl dX11_lookWord_41 ?_
      refine vx_ret ?_
      exact h_areturn hx hb hlk hret (by first | exact Or.inl ⟨_, rfl⟩ | exact Or.inr ⟨_, rfl⟩) hR hL ⟨rLook_3 c_k c_8, scL_w hsw c_k c_8, by rw [← scW_L c_k c_8]; exact hKs_k_1, rfl⟩ (by omega) (by omega) rfl rfl dX11_lookWord_44

set_option maxHeartbeats 4000000 in
set_option maxRecDepth 100000 in
/-- SpokenMarks$Scanner.lookWord -/
theorem sc_lkws (l : Launch) (G : Gl) (w : Wd) (q : Nat) (ol ca : Value) (bf rb : Nat) (T : List Int) (s : Sc) (hK : TkAt G w 10 [ol, ca] q bf T s) (hsw : ScW T s) (hG : RegW w) : HMX l yX11_lookWord cX11_lookWord 1 (some (.object "java/lang/String")) 5 1 8 G [.ref q] w (QR G (fun z_ w_ => rLook T (.inr s) = (.inr s, scL T s) ∧ (Wrd (scL T s) ∧ scL T s ≠ []) ∧ StrAt G w z_ (scL T s) ∧ w = w_)) (fun q_ E_ w_ => ∃ x_ : Nat × Int, (rLook T (.inr s)).1 = .inl x_ ∧ TxE (fun _ => False) w x_.1 x_.2 q_ E_ w_) := by
  refine HMX.mk (by decide +kernel) (Nat.le_of_ble_eq_true rfl) ?_
  intro p9 e9 s9 m9 a9 b9 meth9 c9 ls X hret hlk hnm htab hl H hR
  have hx := X.1.1
  have hb := X.1.2.1
  have hl : lv_has ls 1 [(0, .ref q)] := hl
  have hL : LK G [] := fun q h => absurd h List.not_mem_nil
  generalize ([] : List Loc) = locs at hL ⊢
  have hU : Up (fun _ => False) w w := Up.rf hG
  have hkr := hsw.2.2.1
  obtain ⟨va_k_1, wa_k_1, hKo_k_1, hKs_k_1, hKr_k_1, hKv_k_1⟩ := hK
  refine lv_aload_n hx hb dX11_lookWord_0 rfl (lv_at hl 0 rfl) ?_
  refine lv_aload_n hx hb dX11_lookWord_1 rfl (lv_at hl 0 rfl) ?_
  refine h_get X hR hKo_k_1 rfl in_X22 5 (by decide) q2099 rfl dX11_lookWord_2 ?_
  refine h_iconst hx hb dX11_lookWord_5 ?_
  refine h_icmp_ne hx hb 13 dX11_lookWord_6 (by decide) (by omega) (by omega) (fun c_k => ?_) (fun c_k => ?_)
  ·
    refine h_iconst hx hb dX11_lookWord_13 ?_
    refine h_iconst hx hb dX11_lookWord_14 ?_
    -- call SpokenMarks$Scanner.check
    refine h_xV (h_xrunU (x := ⟨"SpokenMarks$Scanner", "check", "(ZI)V"⟩) (owner := "SpokenMarks$Scanner") X hR (sc_chk0s l G w q ol ca bf T s ⟨va_k_1, wa_k_1, hKo_k_1, hKs_k_1, hKr_k_1, hKv_k_1⟩ 1 hU.2.2.1) (by decide) pn_yX11_check (hasC.of hKo_k_1 rfl) q2170 q3390 (h_declC X q2130 q2131) (X.1.2.2.2.2 _ q3393) q2130 q162 q2131 ⟨by decide, by decide⟩ hl.1 (Nat.le_of_ble_eq_true rfl) dX11_lookWord_15 ⟨by omega, by omega⟩) hL (fun xq_5 E_6 ce_ w_7 hx__8 H locs hR hL hce_ hcv_ hcl_ => ?_) (fun w_3 hp_4 H locs hR hL => ?_)
    ·
      exact h_xout (fun x_ hx_ => htab x_ hx_ _) hlk hce_ hcv_ hcl_ hR hL ⟨(scB s, 1), congrArg Prod.fst (rLook_1 c_k), TxE.tr hU hx__8 (fun q_ h_ => by first | exact absurd h_ id | exact Or.inl h_ | exact Or.inr (up_nw h_ (by assumption)) | exact Or.inl (Or.inl h_) | exact Or.inl (Or.inr h_) | exact Or.inl (Or.inr (Or.inl h_)) | exact Or.inl (Or.inr (Or.inr h_)) | exact Or.inl (Or.inr (Or.inr (Or.inl h_))) | exact Or.inl (Or.inr (Or.inr (Or.inr h_))) | exact Or.inl (h_.elim Or.inl (fun h_ => Or.inr (Or.inl h_))) | ((try dsimp only at h_); first | exact Or.inl (by omega) | exact Or.inr ⟨by omega, by subst h_; rw [Nat.add_sub_cancel]; assumption⟩)) hG⟩ (by omega) (by omega) rfl rfl
    ·
      exact hp_4.elim
  ·
    refine h_iconst hx hb dX11_lookWord_9 ?_
    refine lv_goto (tgt := 14) hx hb dX11_lookWord_10 (by decide) ?_
    refine h_iconst hx hb dX11_lookWord_14 ?_
    -- call SpokenMarks$Scanner.check
    refine h_kVp (h_runU (x := ⟨"SpokenMarks$Scanner", "check", "(ZI)V"⟩) (owner := "SpokenMarks$Scanner") X hR (sc_chk1s l G w q 1) (by decide) pn_yX11_check (hasC.of hKo_k_1 rfl) q2170 q3390 (h_declC X q2130 q2131) (X.1.2.2.2.2 _ q3393) q2130 q162 q2131 ⟨by decide, by decide⟩ hl.1 (Nat.le_of_ble_eq_true rfl) dX11_lookWord_15 ⟨by omega, by omega⟩) hL (fun H locs hR hL => ?_)
    refine lv_aload_n hx hb dX11_lookWord_18 rfl (lv_at hl 0 rfl) ?_
    refine lv_aload_n hx hb dX11_lookWord_19 rfl (lv_at hl 0 rfl) ?_
    refine h_get X hR hKo_k_1 rfl in_X22 6 (by decide) q2100 rfl dX11_lookWord_20 ?_
    -- call java/lang/String.length
    refine h_kIp (h_runV X hR (s_length l G w wa_k_1 (scW T s) hKs_k_1) pn_yJ10_length (hKs_k_1.c) q2193 q373 q374 q132 q375 ⟨by decide, by decide⟩ hl.1 (Nat.le_of_ble_eq_true rfl) dX11_lookWord_23 ⟨by omega, by omega⟩) hL (fun H locs hR hL => ?_)
    have hwl := scW_len (T := T) c_k
    refine h_bipush hx hb dX11_lookWord_26 (by decide) ?_
    refine h_icmp_gt hx hb 35 dX11_lookWord_28 (by decide) (by split at hwl <;> omega) (by decide) (fun c_g => ?_) (fun c_g => ?_)
    ·
      have c_8 : ¬ scA s - scB s ≤ 8 := fun q_ => by rw [if_pos q_] at hwl; omega
      refine h_iconst hx hb dX11_lookWord_35 ?_
      refine h_iconst hx hb dX11_lookWord_36 ?_
      -- call SpokenMarks$Scanner.check
      refine h_xV (h_xrunU (x := ⟨"SpokenMarks$Scanner", "check", "(ZI)V"⟩) (owner := "SpokenMarks$Scanner") X hR (sc_chk0s l G w q ol ca bf T s ⟨va_k_1, wa_k_1, hKo_k_1, hKs_k_1, hKr_k_1, hKv_k_1⟩ 3 hU.2.2.1) (by decide) pn_yX11_check (hasC.of hKo_k_1 rfl) q2170 q3390 (h_declC X q2130 q2131) (X.1.2.2.2.2 _ q3393) q2130 q162 q2131 ⟨by decide, by decide⟩ hl.1 (Nat.le_of_ble_eq_true rfl) dX11_lookWord_37 ⟨by omega, by omega⟩) hL (fun xq_18 E_19 ce_ w_20 hx__21 H locs hR hL hce_ hcv_ hcl_ => ?_) (fun w_16 hp_17 H locs hR hL => ?_)
      ·
        exact h_xout (fun x_ hx_ => htab x_ hx_ _) hlk hce_ hcv_ hcl_ hR hL ⟨(scB s, 3), congrArg Prod.fst (rLook_2 c_k c_8), TxE.tr hU hx__21 (fun q_ h_ => by first | exact absurd h_ id | exact Or.inl h_ | exact Or.inr (up_nw h_ (by assumption)) | exact Or.inl (Or.inl h_) | exact Or.inl (Or.inr h_) | exact Or.inl (Or.inr (Or.inl h_)) | exact Or.inl (Or.inr (Or.inr h_)) | exact Or.inl (Or.inr (Or.inr (Or.inl h_))) | exact Or.inl (Or.inr (Or.inr (Or.inr h_))) | exact Or.inl (h_.elim Or.inl (fun h_ => Or.inr (Or.inl h_))) | ((try dsimp only at h_); first | exact Or.inl (by omega) | exact Or.inr ⟨by omega, by subst h_; rw [Nat.add_sub_cancel]; assumption⟩)) hG⟩ (by omega) (by omega) rfl rfl
      ·
        exact hp_17.elim
    ·
      have c_8 : scA s - scB s ≤ 8 := Decidable.byContradiction (fun q_ => by rw [if_neg q_] at hwl; omega)
      refine h_iconst hx hb dX11_lookWord_31 ?_
      refine lv_goto (tgt := 36) hx hb dX11_lookWord_32 (by decide) ?_
      refine h_iconst hx hb dX11_lookWord_36 ?_
      -- call SpokenMarks$Scanner.check
      refine h_kVp (h_runU (x := ⟨"SpokenMarks$Scanner", "check", "(ZI)V"⟩) (owner := "SpokenMarks$Scanner") X hR (sc_chk1s l G w q 3) (by decide) pn_yX11_check (hasC.of hKo_k_1 rfl) q2170 q3390 (h_declC X q2130 q2131) (X.1.2.2.2.2 _ q3393) q2130 q162 q2131 ⟨by decide, by decide⟩ hl.1 (Nat.le_of_ble_eq_true rfl) dX11_lookWord_37 ⟨by omega, by omega⟩) hL (fun H locs hR hL => ?_)
      refine lv_aload_n hx hb dX11_lookWord_40 rfl (lv_at hl 0 rfl) ?_
      refine h_get X hR hKo_k_1 rfl in_X22 6 (by decide) q2100 rfl dX11_lookWord_41 ?_
      refine vx_ret ?_
      exact h_areturn hx hb hlk hret (by first | exact Or.inl ⟨_, rfl⟩ | exact Or.inr ⟨_, rfl⟩) hR hL ⟨rLook_3 c_k c_8, scL_w hsw c_k c_8, by rw [← scW_L c_k c_8]; exact hKs_k_1, rfl⟩ (by omega) (by omega) rfl rfl dX11_lookWord_44

set_option maxHeartbeats 4000000 in
set_option maxRecDepth 100000 in
/-- SpokenMarks$Scanner.word -/
theorem sc_wrd (l : Launch) (G : Gl) (w : Wd) (q : Nat) (bf rb : Nat) (T : List Int) (s : Sc) (hK : TkAt G w 8 [] q bf T s) (hB : BufAt G w bf rb T) (hqb : rb ≠ q + 1) (hsw : ScW T s) (hG : RegW w) : HMX l yX11_word cX11_word 2 (some (.object "java/lang/String")) 10 5 41 G [.ref q] w (QR G (fun z_ w_ => ∃ (s_ : Sc) (L : List Int), rWord T (.inr s) = (.inr s_, L) ∧ (Wrd L ∧ L ≠ []) ∧ StrAt G w_ z_ L ∧ TkAt G w_ 8 [] q bf T s_ ∧ ScW T s_ ∧ Up (fun q_ => q_ = q + 1) w w_)) (fun q_ E_ w_ => ∃ x_ : Nat × Int, (rWord T (.inr s)).1 = .inl x_ ∧ TxE (fun q_ => q_ = q + 1) w x_.1 x_.2 q_ E_ w_) := by
  refine HMX.mk (by decide +kernel) (Nat.le_of_ble_eq_true rfl) ?_
  intro p9 e9 s9 m9 a9 b9 meth9 c9 ls X hret hlk hnm htab hl H hR
  have hx := X.1.1
  have hb := X.1.2.1
  have hl : lv_has ls 2 [(0, .ref q)] := hl
  have hL : LK G [] := fun q h => absurd h List.not_mem_nil
  generalize ([] : List Loc) = locs at hL ⊢
  have hU : Up (fun q_ => q_ = q + 1) w w := Up.rf hG
  refine lv_aload_n hx hb dX11_word_0 rfl (lv_at hl 0 rfl) ?_
  -- call SpokenMarks$Scanner.lookWord
  refine h_xR (h_xrunV X hR (sc_lkw l G w q bf rb T s hK hsw hU.2.2.1) pn_yX11_lookWord (hK.c rfl) q2208 q2191 q3396 q162 q2192 ⟨by decide, by decide⟩ hl.1 (Nat.le_of_ble_eq_true rfl) dX11_word_1 ⟨by omega, by omega⟩) hL (fun xq_4 E_5 ce_ w_6 hx__7 H locs hR hL hce_ hcv_ hcl_ => ?_) (fun z_1 w_2 hp_3 H locs hR hL => ?_)
  ·
    obtain ⟨x_8, hrd_9, hxx_10⟩ := hx__7
    exact h_xout (fun x_ hx_ => htab x_ hx_ _) hlk hce_ hcv_ hcl_ hR hL ⟨x_8, rWord_x hrd_9, TxE.tr hU hxx_10 (fun q_ h_ => by first | exact absurd h_ id | exact Or.inl h_ | exact Or.inr (up_nw h_ (by assumption)) | exact Or.inl (Or.inl h_) | exact Or.inl (Or.inr h_) | exact Or.inl (Or.inr (Or.inl h_)) | exact Or.inl (Or.inr (Or.inr h_)) | exact Or.inl (Or.inr (Or.inr (Or.inl h_))) | exact Or.inl (Or.inr (Or.inr (Or.inr h_))) | exact Or.inl (h_.elim Or.inl (fun h_ => Or.inr (Or.inl h_))) | ((try dsimp only at h_); first | exact Or.inl (by omega) | exact Or.inr ⟨by omega, by subst h_; rw [Nat.add_sub_cancel]; assumption⟩)) hG⟩ (by omega) (by omega) rfl rfl
  ·
    obtain ⟨hlkw, hwd, hS__11, rfl⟩ := hp_3
    refine lv_astore_n (lv' := [(1, .ref z_1), (0, .ref q)]) hx hb dX11_word_4 rfl hl (by decide) rfl (fun ls hl => ?_)
    refine lv_aload_n hx hb dX11_word_5 rfl (lv_at hl 1 rfl) ?_
    -- call SpokenMarks$Scanner.advance
    refine h_kV (h_runV X hR (sc_advT l G w q bf rb T s hK hB hsw.2.1 hqb hU.2.2.1) pn_yX11_advance (hK.c rfl) q2063 q2064 q2065 q162 q2069 ⟨by decide, by decide⟩ hl.1 (Nat.le_of_ble_eq_true rfl) dX11_word_6 ⟨by omega, by omega⟩) hL (fun w_13 hp_14 H locs hR hL => ?_)
    obtain ⟨hK__15, u_16⟩ := hp_14
    have hP_bf_w_13 := hB.mv (u_16.1) (by first | exact id | exact fun q_ => absurd q_ (by first | assumption | exact Ne9.p (by assumption)) | exact fun q_ => absurd (Nat.succ.inj q_) (by first | assumption | exact Ne9.p (by assumption)) | exact fun q_ => absurd q_.symm (Nat.succ_ne_zero _) | exact fun q_ => absurd (Nat.succ.inj q_).symm (by first | assumption | exact Ne9.p (by assumption)) | (intro q_; (try dsimp only at q_); rcases q_ with q_ | q_ | q_ | q_ | q_ <;> first | exact absurd q_ (by first | assumption | exact Ne9.p (by assumption)) | exact absurd (Nat.succ.inj q_) (by first | assumption | exact Ne9.p (by assumption)) | exact absurd q_.symm (Nat.succ_ne_zero _) | exact absurd (Nat.succ.inj q_).symm (by first | assumption | exact Ne9.p (by assumption))) | (intro q_; (try dsimp only at q_); rcases q_ with q_ | q_ | q_ | q_ <;> first | exact absurd q_ (by first | assumption | exact Ne9.p (by assumption)) | exact absurd (Nat.succ.inj q_) (by first | assumption | exact Ne9.p (by assumption)) | exact absurd q_.symm (Nat.succ_ne_zero _) | exact absurd (Nat.succ.inj q_).symm (by first | assumption | exact Ne9.p (by assumption))) | (intro q_; (try dsimp only at q_); rcases q_ with q_ | q_ <;> first | exact absurd q_ (by first | assumption | exact Ne9.p (by assumption)) | exact absurd (Nat.succ.inj q_) (by first | assumption | exact Ne9.p (by assumption)) | exact absurd q_.symm (Nat.succ_ne_zero _) | exact absurd (Nat.succ.inj q_).symm (by first | assumption | exact Ne9.p (by assumption))) | (intro q_; (try dsimp only at q_); omega))
    have hP_z_1_w_13 := hS__11.mv (u_16.1) (by first | exact id | exact fun q_ => absurd q_ (by first | assumption | exact Ne9.p (by assumption)) | exact fun q_ => absurd (Nat.succ.inj q_) (by first | assumption | exact Ne9.p (by assumption)) | exact fun q_ => absurd q_.symm (Nat.succ_ne_zero _) | exact fun q_ => absurd (Nat.succ.inj q_).symm (by first | assumption | exact Ne9.p (by assumption)) | (intro q_; (try dsimp only at q_); rcases q_ with q_ | q_ | q_ | q_ | q_ <;> first | exact absurd q_ (by first | assumption | exact Ne9.p (by assumption)) | exact absurd (Nat.succ.inj q_) (by first | assumption | exact Ne9.p (by assumption)) | exact absurd q_.symm (Nat.succ_ne_zero _) | exact absurd (Nat.succ.inj q_).symm (by first | assumption | exact Ne9.p (by assumption))) | (intro q_; (try dsimp only at q_); rcases q_ with q_ | q_ | q_ | q_ <;> first | exact absurd q_ (by first | assumption | exact Ne9.p (by assumption)) | exact absurd (Nat.succ.inj q_) (by first | assumption | exact Ne9.p (by assumption)) | exact absurd q_.symm (Nat.succ_ne_zero _) | exact absurd (Nat.succ.inj q_).symm (by first | assumption | exact Ne9.p (by assumption))) | (intro q_; (try dsimp only at q_); rcases q_ with q_ | q_ <;> first | exact absurd q_ (by first | assumption | exact Ne9.p (by assumption)) | exact absurd (Nat.succ.inj q_) (by first | assumption | exact Ne9.p (by assumption)) | exact absurd q_.symm (Nat.succ_ne_zero _) | exact absurd (Nat.succ.inj q_).symm (by first | assumption | exact Ne9.p (by assumption))) | (intro q_; (try dsimp only at q_); omega))
    have hU : Up (fun q_ => q_ = q + 1) w w_13 := hU.tr u_16 (fun q_ h_ => by first | exact absurd h_ id | exact Or.inl h_ | exact Or.inr (up_nw h_ (by assumption)) | exact Or.inl (Or.inl h_) | exact Or.inl (Or.inr h_) | exact Or.inl (Or.inr (Or.inl h_)) | exact Or.inl (Or.inr (Or.inr h_)) | exact Or.inl (Or.inr (Or.inr (Or.inl h_))) | exact Or.inl (Or.inr (Or.inr (Or.inr h_))) | exact Or.inl (h_.elim Or.inl (fun h_ => Or.inr (Or.inl h_))) | ((try dsimp only at h_); first | exact Or.inl (by omega) | exact Or.inr ⟨by omega, by subst h_; rw [Nat.add_sub_cancel]; assumption⟩)) hG
    refine lv_aload_n hx hb dX11_word_9 rfl (lv_at hl 0 rfl) ?_
    refine vx_ret ?_
    exact h_areturn hx hb hlk hret (by first | exact Or.inl ⟨_, rfl⟩ | exact Or.inr ⟨_, rfl⟩) hR hL ⟨tok T (scA s), scL T s, rWord_3 hlkw, hwd, hP_z_1_w_13, hK__15, tok_w hsw.2.1, hU⟩ (by omega) (by omega) rfl rfl dX11_word_10

set_option maxHeartbeats 4000000 in
set_option maxRecDepth 100000 in
/-- SpokenMarks$Scanner.word -/
theorem sc_wrdr (l : Launch) (G : Gl) (w : Wd) (q : Nat) (bf rb : Nat) (T : List Int) (s : Sc) (hK : TkAt G w 9 [] q bf T s) (hB : BufAt G w bf rb T) (hqb : rb ≠ q + 1) (hsw : ScW T s) (hG : RegW w) : HMX l yX11_word cX11_word 2 (some (.object "java/lang/String")) 10 5 41 G [.ref q] w (QR G (fun z_ w_ => ∃ (s_ : Sc) (L : List Int), rWord T (.inr s) = (.inr s_, L) ∧ (Wrd L ∧ L ≠ []) ∧ StrAt G w_ z_ L ∧ TkAt G w_ 9 [] q bf T s_ ∧ ScW T s_ ∧ Up (fun q_ => q_ = q + 1) w w_)) (fun q_ E_ w_ => ∃ x_ : Nat × Int, (rWord T (.inr s)).1 = .inl x_ ∧ TxE (fun q_ => q_ = q + 1) w x_.1 x_.2 q_ E_ w_) := by
  refine HMX.mk (by decide +kernel) (Nat.le_of_ble_eq_true rfl) ?_
  intro p9 e9 s9 m9 a9 b9 meth9 c9 ls X hret hlk hnm htab hl H hR
  have hx := X.1.1
  have hb := X.1.2.1
  have hl : lv_has ls 2 [(0, .ref q)] := hl
  have hL : LK G [] := fun q h => absurd h List.not_mem_nil
  generalize ([] : List Loc) = locs at hL ⊢
  have hU : Up (fun q_ => q_ = q + 1) w w := Up.rf hG
  refine lv_aload_n hx hb dX11_word_0 rfl (lv_at hl 0 rfl) ?_
  -- call SpokenMarks$Scanner.lookWord
  refine h_xR (h_xrunU (x := ⟨"SpokenMarks$Scanner", "lookWord", "()Ljava/lang/String;"⟩) (owner := "SpokenMarks$Scanner") X hR (sc_lkwr l G w q bf rb T s hK hsw hU.2.2.1) (by decide) pn_yX11_lookWord (hK.c rfl) q2208 q3394 (h_declC X q2191 q2192) (X.1.2.2.2.2 _ q3395) q2191 q162 q2192 ⟨by decide, by decide⟩ hl.1 (Nat.le_of_ble_eq_true rfl) dX11_word_1 ⟨by omega, by omega⟩) hL (fun xq_4 E_5 ce_ w_6 hx__7 H locs hR hL hce_ hcv_ hcl_ => ?_) (fun z_1 w_2 hp_3 H locs hR hL => ?_)
  ·
    obtain ⟨x_8, hrd_9, hxx_10⟩ := hx__7
    exact h_xout (fun x_ hx_ => htab x_ hx_ _) hlk hce_ hcv_ hcl_ hR hL ⟨x_8, rWord_x hrd_9, TxE.tr hU hxx_10 (fun q_ h_ => by first | exact absurd h_ id | exact Or.inl h_ | exact Or.inr (up_nw h_ (by assumption)) | exact Or.inl (Or.inl h_) | exact Or.inl (Or.inr h_) | exact Or.inl (Or.inr (Or.inl h_)) | exact Or.inl (Or.inr (Or.inr h_)) | exact Or.inl (Or.inr (Or.inr (Or.inl h_))) | exact Or.inl (Or.inr (Or.inr (Or.inr h_))) | exact Or.inl (h_.elim Or.inl (fun h_ => Or.inr (Or.inl h_))) | ((try dsimp only at h_); first | exact Or.inl (by omega) | exact Or.inr ⟨by omega, by subst h_; rw [Nat.add_sub_cancel]; assumption⟩)) hG⟩ (by omega) (by omega) rfl rfl
  ·
    obtain ⟨hlkw, hwd, hS__11, rfl⟩ := hp_3
    refine lv_astore_n (lv' := [(1, .ref z_1), (0, .ref q)]) hx hb dX11_word_4 rfl hl (by decide) rfl (fun ls hl => ?_)
    refine lv_aload_n hx hb dX11_word_5 rfl (lv_at hl 1 rfl) ?_
    -- call SpokenMarks$Scanner.advance
    refine h_kV (h_runU (x := ⟨"SpokenMarks$Scanner", "advance", "()V"⟩) (owner := "SpokenMarks$Scanner") X hR (sc_advTr l G w q bf rb T s hK hB hsw.2.1 hqb hU.2.2.1) (by decide) pn_yX11_advance (hK.c rfl) q2063 q2066 (h_declC X q2064 q2069) (X.1.2.2.2.2 _ q2067) q2064 q162 q2069 ⟨by decide, by decide⟩ hl.1 (Nat.le_of_ble_eq_true rfl) dX11_word_6 ⟨by omega, by omega⟩) hL (fun w_13 hp_14 H locs hR hL => ?_)
    obtain ⟨hK__15, u_16⟩ := hp_14
    have hP_bf_w_13 := hB.mv (u_16.1) (by first | exact id | exact fun q_ => absurd q_ (by first | assumption | exact Ne9.p (by assumption)) | exact fun q_ => absurd (Nat.succ.inj q_) (by first | assumption | exact Ne9.p (by assumption)) | exact fun q_ => absurd q_.symm (Nat.succ_ne_zero _) | exact fun q_ => absurd (Nat.succ.inj q_).symm (by first | assumption | exact Ne9.p (by assumption)) | (intro q_; (try dsimp only at q_); rcases q_ with q_ | q_ | q_ | q_ | q_ <;> first | exact absurd q_ (by first | assumption | exact Ne9.p (by assumption)) | exact absurd (Nat.succ.inj q_) (by first | assumption | exact Ne9.p (by assumption)) | exact absurd q_.symm (Nat.succ_ne_zero _) | exact absurd (Nat.succ.inj q_).symm (by first | assumption | exact Ne9.p (by assumption))) | (intro q_; (try dsimp only at q_); rcases q_ with q_ | q_ | q_ | q_ <;> first | exact absurd q_ (by first | assumption | exact Ne9.p (by assumption)) | exact absurd (Nat.succ.inj q_) (by first | assumption | exact Ne9.p (by assumption)) | exact absurd q_.symm (Nat.succ_ne_zero _) | exact absurd (Nat.succ.inj q_).symm (by first | assumption | exact Ne9.p (by assumption))) | (intro q_; (try dsimp only at q_); rcases q_ with q_ | q_ <;> first | exact absurd q_ (by first | assumption | exact Ne9.p (by assumption)) | exact absurd (Nat.succ.inj q_) (by first | assumption | exact Ne9.p (by assumption)) | exact absurd q_.symm (Nat.succ_ne_zero _) | exact absurd (Nat.succ.inj q_).symm (by first | assumption | exact Ne9.p (by assumption))) | (intro q_; (try dsimp only at q_); omega))
    have hP_z_1_w_13 := hS__11.mv (u_16.1) (by first | exact id | exact fun q_ => absurd q_ (by first | assumption | exact Ne9.p (by assumption)) | exact fun q_ => absurd (Nat.succ.inj q_) (by first | assumption | exact Ne9.p (by assumption)) | exact fun q_ => absurd q_.symm (Nat.succ_ne_zero _) | exact fun q_ => absurd (Nat.succ.inj q_).symm (by first | assumption | exact Ne9.p (by assumption)) | (intro q_; (try dsimp only at q_); rcases q_ with q_ | q_ | q_ | q_ | q_ <;> first | exact absurd q_ (by first | assumption | exact Ne9.p (by assumption)) | exact absurd (Nat.succ.inj q_) (by first | assumption | exact Ne9.p (by assumption)) | exact absurd q_.symm (Nat.succ_ne_zero _) | exact absurd (Nat.succ.inj q_).symm (by first | assumption | exact Ne9.p (by assumption))) | (intro q_; (try dsimp only at q_); rcases q_ with q_ | q_ | q_ | q_ <;> first | exact absurd q_ (by first | assumption | exact Ne9.p (by assumption)) | exact absurd (Nat.succ.inj q_) (by first | assumption | exact Ne9.p (by assumption)) | exact absurd q_.symm (Nat.succ_ne_zero _) | exact absurd (Nat.succ.inj q_).symm (by first | assumption | exact Ne9.p (by assumption))) | (intro q_; (try dsimp only at q_); rcases q_ with q_ | q_ <;> first | exact absurd q_ (by first | assumption | exact Ne9.p (by assumption)) | exact absurd (Nat.succ.inj q_) (by first | assumption | exact Ne9.p (by assumption)) | exact absurd q_.symm (Nat.succ_ne_zero _) | exact absurd (Nat.succ.inj q_).symm (by first | assumption | exact Ne9.p (by assumption))) | (intro q_; (try dsimp only at q_); omega))
    have hU : Up (fun q_ => q_ = q + 1) w w_13 := hU.tr u_16 (fun q_ h_ => by first | exact absurd h_ id | exact Or.inl h_ | exact Or.inr (up_nw h_ (by assumption)) | exact Or.inl (Or.inl h_) | exact Or.inl (Or.inr h_) | exact Or.inl (Or.inr (Or.inl h_)) | exact Or.inl (Or.inr (Or.inr h_)) | exact Or.inl (Or.inr (Or.inr (Or.inl h_))) | exact Or.inl (Or.inr (Or.inr (Or.inr h_))) | exact Or.inl (h_.elim Or.inl (fun h_ => Or.inr (Or.inl h_))) | ((try dsimp only at h_); first | exact Or.inl (by omega) | exact Or.inr ⟨by omega, by subst h_; rw [Nat.add_sub_cancel]; assumption⟩)) hG
    refine lv_aload_n hx hb dX11_word_9 rfl (lv_at hl 0 rfl) ?_
    refine vx_ret ?_
    exact h_areturn hx hb hlk hret (by first | exact Or.inl ⟨_, rfl⟩ | exact Or.inr ⟨_, rfl⟩) hR hL ⟨tok T (scA s), scL T s, rWord_3 hlkw, hwd, hP_z_1_w_13, hK__15, tok_w hsw.2.1, hU⟩ (by omega) (by omega) rfl rfl dX11_word_10

set_option maxHeartbeats 4000000 in
set_option maxRecDepth 100000 in
/-- SpokenMarks$Scanner.word -/
theorem sc_wrds (l : Launch) (G : Gl) (w : Wd) (q : Nat) (ol ca : Value) (bf rb : Nat) (T : List Int) (s : Sc) (hK : TkAt G w 10 [ol, ca] q bf T s) (hB : BufAt G w bf rb T) (hqb : rb ≠ q + 1) (hsw : ScW T s) (hG : RegW w) : HMX l yX11_word cX11_word 2 (some (.object "java/lang/String")) 10 5 41 G [.ref q] w (QR G (fun z_ w_ => ∃ (s_ : Sc) (L : List Int), rWord T (.inr s) = (.inr s_, L) ∧ (Wrd L ∧ L ≠ []) ∧ StrAt G w_ z_ L ∧ TkAt G w_ 10 [ol, ca] q bf T s_ ∧ ScW T s_ ∧ Up (fun q_ => q_ = q + 1) w w_)) (fun q_ E_ w_ => ∃ x_ : Nat × Int, (rWord T (.inr s)).1 = .inl x_ ∧ TxE (fun q_ => q_ = q + 1) w x_.1 x_.2 q_ E_ w_) := by
  refine HMX.mk (by decide +kernel) (Nat.le_of_ble_eq_true rfl) ?_
  intro p9 e9 s9 m9 a9 b9 meth9 c9 ls X hret hlk hnm htab hl H hR
  have hx := X.1.1
  have hb := X.1.2.1
  have hl : lv_has ls 2 [(0, .ref q)] := hl
  have hL : LK G [] := fun q h => absurd h List.not_mem_nil
  generalize ([] : List Loc) = locs at hL ⊢
  have hU : Up (fun q_ => q_ = q + 1) w w := Up.rf hG
  refine lv_aload_n hx hb dX11_word_0 rfl (lv_at hl 0 rfl) ?_
  -- call SpokenMarks$Scanner.lookWord
  refine h_xR (h_xrunU (x := ⟨"SpokenMarks$Scanner", "lookWord", "()Ljava/lang/String;"⟩) (owner := "SpokenMarks$Scanner") X hR (sc_lkws l G w q ol ca bf rb T s hK hsw hU.2.2.1) (by decide) pn_yX11_lookWord (hK.c rfl) q2208 q3394 (h_declC X q2191 q2192) (X.1.2.2.2.2 _ q3397) q2191 q162 q2192 ⟨by decide, by decide⟩ hl.1 (Nat.le_of_ble_eq_true rfl) dX11_word_1 ⟨by omega, by omega⟩) hL (fun xq_4 E_5 ce_ w_6 hx__7 H locs hR hL hce_ hcv_ hcl_ => ?_) (fun z_1 w_2 hp_3 H locs hR hL => ?_)
  ·
    obtain ⟨x_8, hrd_9, hxx_10⟩ := hx__7
    exact h_xout (fun x_ hx_ => htab x_ hx_ _) hlk hce_ hcv_ hcl_ hR hL ⟨x_8, rWord_x hrd_9, TxE.tr hU hxx_10 (fun q_ h_ => by first | exact absurd h_ id | exact Or.inl h_ | exact Or.inr (up_nw h_ (by assumption)) | exact Or.inl (Or.inl h_) | exact Or.inl (Or.inr h_) | exact Or.inl (Or.inr (Or.inl h_)) | exact Or.inl (Or.inr (Or.inr h_)) | exact Or.inl (Or.inr (Or.inr (Or.inl h_))) | exact Or.inl (Or.inr (Or.inr (Or.inr h_))) | exact Or.inl (h_.elim Or.inl (fun h_ => Or.inr (Or.inl h_))) | ((try dsimp only at h_); first | exact Or.inl (by omega) | exact Or.inr ⟨by omega, by subst h_; rw [Nat.add_sub_cancel]; assumption⟩)) hG⟩ (by omega) (by omega) rfl rfl
  ·
    obtain ⟨hlkw, hwd, hS__11, rfl⟩ := hp_3
    refine lv_astore_n (lv' := [(1, .ref z_1), (0, .ref q)]) hx hb dX11_word_4 rfl hl (by decide) rfl (fun ls hl => ?_)
    refine lv_aload_n hx hb dX11_word_5 rfl (lv_at hl 1 rfl) ?_
    -- call SpokenMarks$Scanner.advance
    refine h_kV (h_runU (x := ⟨"SpokenMarks$Scanner", "advance", "()V"⟩) (owner := "SpokenMarks$Scanner") X hR (sc_advTs l G w q ol ca bf rb T s hK hB hsw.2.1 hqb hU.2.2.1) (by decide) pn_yX11_advance (hK.c rfl) q2063 q2066 (h_declC X q2064 q2069) (X.1.2.2.2.2 _ q2068) q2064 q162 q2069 ⟨by decide, by decide⟩ hl.1 (Nat.le_of_ble_eq_true rfl) dX11_word_6 ⟨by omega, by omega⟩) hL (fun w_13 hp_14 H locs hR hL => ?_)
    obtain ⟨hK__15, u_16⟩ := hp_14
    have hP_bf_w_13 := hB.mv (u_16.1) (by first | exact id | exact fun q_ => absurd q_ (by first | assumption | exact Ne9.p (by assumption)) | exact fun q_ => absurd (Nat.succ.inj q_) (by first | assumption | exact Ne9.p (by assumption)) | exact fun q_ => absurd q_.symm (Nat.succ_ne_zero _) | exact fun q_ => absurd (Nat.succ.inj q_).symm (by first | assumption | exact Ne9.p (by assumption)) | (intro q_; (try dsimp only at q_); rcases q_ with q_ | q_ | q_ | q_ | q_ <;> first | exact absurd q_ (by first | assumption | exact Ne9.p (by assumption)) | exact absurd (Nat.succ.inj q_) (by first | assumption | exact Ne9.p (by assumption)) | exact absurd q_.symm (Nat.succ_ne_zero _) | exact absurd (Nat.succ.inj q_).symm (by first | assumption | exact Ne9.p (by assumption))) | (intro q_; (try dsimp only at q_); rcases q_ with q_ | q_ | q_ | q_ <;> first | exact absurd q_ (by first | assumption | exact Ne9.p (by assumption)) | exact absurd (Nat.succ.inj q_) (by first | assumption | exact Ne9.p (by assumption)) | exact absurd q_.symm (Nat.succ_ne_zero _) | exact absurd (Nat.succ.inj q_).symm (by first | assumption | exact Ne9.p (by assumption))) | (intro q_; (try dsimp only at q_); rcases q_ with q_ | q_ <;> first | exact absurd q_ (by first | assumption | exact Ne9.p (by assumption)) | exact absurd (Nat.succ.inj q_) (by first | assumption | exact Ne9.p (by assumption)) | exact absurd q_.symm (Nat.succ_ne_zero _) | exact absurd (Nat.succ.inj q_).symm (by first | assumption | exact Ne9.p (by assumption))) | (intro q_; (try dsimp only at q_); omega))
    have hP_z_1_w_13 := hS__11.mv (u_16.1) (by first | exact id | exact fun q_ => absurd q_ (by first | assumption | exact Ne9.p (by assumption)) | exact fun q_ => absurd (Nat.succ.inj q_) (by first | assumption | exact Ne9.p (by assumption)) | exact fun q_ => absurd q_.symm (Nat.succ_ne_zero _) | exact fun q_ => absurd (Nat.succ.inj q_).symm (by first | assumption | exact Ne9.p (by assumption)) | (intro q_; (try dsimp only at q_); rcases q_ with q_ | q_ | q_ | q_ | q_ <;> first | exact absurd q_ (by first | assumption | exact Ne9.p (by assumption)) | exact absurd (Nat.succ.inj q_) (by first | assumption | exact Ne9.p (by assumption)) | exact absurd q_.symm (Nat.succ_ne_zero _) | exact absurd (Nat.succ.inj q_).symm (by first | assumption | exact Ne9.p (by assumption))) | (intro q_; (try dsimp only at q_); rcases q_ with q_ | q_ | q_ | q_ <;> first | exact absurd q_ (by first | assumption | exact Ne9.p (by assumption)) | exact absurd (Nat.succ.inj q_) (by first | assumption | exact Ne9.p (by assumption)) | exact absurd q_.symm (Nat.succ_ne_zero _) | exact absurd (Nat.succ.inj q_).symm (by first | assumption | exact Ne9.p (by assumption))) | (intro q_; (try dsimp only at q_); rcases q_ with q_ | q_ <;> first | exact absurd q_ (by first | assumption | exact Ne9.p (by assumption)) | exact absurd (Nat.succ.inj q_) (by first | assumption | exact Ne9.p (by assumption)) | exact absurd q_.symm (Nat.succ_ne_zero _) | exact absurd (Nat.succ.inj q_).symm (by first | assumption | exact Ne9.p (by assumption))) | (intro q_; (try dsimp only at q_); omega))
    have hU : Up (fun q_ => q_ = q + 1) w w_13 := hU.tr u_16 (fun q_ h_ => by first | exact absurd h_ id | exact Or.inl h_ | exact Or.inr (up_nw h_ (by assumption)) | exact Or.inl (Or.inl h_) | exact Or.inl (Or.inr h_) | exact Or.inl (Or.inr (Or.inl h_)) | exact Or.inl (Or.inr (Or.inr h_)) | exact Or.inl (Or.inr (Or.inr (Or.inl h_))) | exact Or.inl (Or.inr (Or.inr (Or.inr h_))) | exact Or.inl (h_.elim Or.inl (fun h_ => Or.inr (Or.inl h_))) | ((try dsimp only at h_); first | exact Or.inl (by omega) | exact Or.inr ⟨by omega, by subst h_; rw [Nat.add_sub_cancel]; assumption⟩)) hG
    refine lv_aload_n hx hb dX11_word_9 rfl (lv_at hl 0 rfl) ?_
    refine vx_ret ?_
    exact h_areturn hx hb hlk hret (by first | exact Or.inl ⟨_, rfl⟩ | exact Or.inr ⟨_, rfl⟩) hR hL ⟨tok T (scA s), scL T s, rWord_3 hlkw, hwd, hP_z_1_w_13, hK__15, tok_w hsw.2.1, hU⟩ (by omega) (by omega) rfl rfl dX11_word_10

set_option maxHeartbeats 4000000 in
set_option maxRecDepth 100000 in
/-- SpokenMarks$Scanner.rule -/
theorem sc_rul (l : Launch) (G : Gl) (w : Wd) (q : Nat) (bf rb : Nat) (T : List Int) (s : Sc) (hK : TkAt G w 8 [] q bf T s) (hB : BufAt G w bf rb T) (hqb : rb ≠ q + 1) (hsw : ScW T s) (hG : RegW w) : HMX l yX11_rule cX11_rule 2 (some (.object "SpokenMarks$Rule")) 11 16 120 G [.ref q] w (QR G (fun z_ w_ => ∃ (s_ : Sc) (L M : List Int), rSay T (.inr s) = (.inr s_, L, M) ∧ (Wrd L ∧ L ≠ []) ∧ (Wrd M ∧ M ≠ []) ∧ RuAt G w_ z_ (L, M) ∧ w z_ = none ∧ TkAt G w_ 8 [] q bf T s_ ∧ ScW T s_ ∧ Up (fun q_ => q_ = q + 1) w w_)) (fun q_ E_ w_ => ∃ x_ : Nat × Int, (rSay T (.inr s)).1 = .inl x_ ∧ TxE (fun q_ => q_ = q + 1) w x_.1 x_.2 q_ E_ w_) := by
  refine HMX.mk (by decide +kernel) (Nat.le_of_ble_eq_true rfl) ?_
  intro p9 e9 s9 m9 a9 b9 meth9 c9 ls X hret hlk hnm htab hl H hR
  have hx := X.1.1
  have hb := X.1.2.1
  have hl : lv_has ls 2 [(0, .ref q)] := hl
  have hL : LK G [] := fun q h => absurd h List.not_mem_nil
  generalize ([] : List Loc) = locs at hL ⊢
  have hU : Up (fun q_ => q_ = q + 1) w w := Up.rf hG
  refine lv_aload_n hx hb dX11_rule_0 rfl (lv_at hl 0 rfl) ?_
  -- call SpokenMarks$Scanner.word
  refine h_xR (h_xrunV X hR (sc_wrd l G w q bf rb T s hK hB hqb hsw hU.2.2.1) pn_yX11_word (hK.c rfl) q2201 q2202 q2203 q162 q2207 ⟨by decide, by decide⟩ hl.1 (Nat.le_of_ble_eq_true rfl) dX11_rule_1 ⟨by omega, by omega⟩) hL (fun xq_3 E_4 ce_ w_5 hx__6 H locs hR hL hce_ hcv_ hcl_ => ?_) (fun fs w_1 hp_2 H locs hR hL => ?_)
  ·
    obtain ⟨x_7, hrd_8, hxx_9⟩ := hx__6
    exact h_xout (fun x_ hx_ => htab x_ hx_ _) hlk hce_ hcv_ hcl_ hR hL ⟨x_7, rSay_1 hrd_8, TxE.tr hU hxx_9 (fun q_ h_ => by first | exact absurd h_ id | exact Or.inl h_ | exact Or.inr (up_nw h_ (by assumption)) | exact Or.inl (Or.inl h_) | exact Or.inl (Or.inr h_) | exact Or.inl (Or.inr (Or.inl h_)) | exact Or.inl (Or.inr (Or.inr h_)) | exact Or.inl (Or.inr (Or.inr (Or.inl h_))) | exact Or.inl (Or.inr (Or.inr (Or.inr h_))) | exact Or.inl (h_.elim Or.inl (fun h_ => Or.inr (Or.inl h_))) | ((try dsimp only at h_); first | exact Or.inl (by omega) | exact Or.inr ⟨by omega, by subst h_; rw [Nat.add_sub_cancel]; assumption⟩)) hG⟩ (by omega) (by omega) rfl rfl
  ·
    obtain ⟨s1, L, hr1, hwd1, hS__10, hK__11, hsw1, u_12⟩ := hp_2
    have hP_bf_w_1 := hB.mv (u_12.1) (by first | exact id | exact fun q_ => absurd q_ (by first | assumption | exact Ne9.p (by assumption)) | exact fun q_ => absurd (Nat.succ.inj q_) (by first | assumption | exact Ne9.p (by assumption)) | exact fun q_ => absurd q_.symm (Nat.succ_ne_zero _) | exact fun q_ => absurd (Nat.succ.inj q_).symm (by first | assumption | exact Ne9.p (by assumption)) | (intro q_; (try dsimp only at q_); rcases q_ with q_ | q_ | q_ | q_ | q_ <;> first | exact absurd q_ (by first | assumption | exact Ne9.p (by assumption)) | exact absurd (Nat.succ.inj q_) (by first | assumption | exact Ne9.p (by assumption)) | exact absurd q_.symm (Nat.succ_ne_zero _) | exact absurd (Nat.succ.inj q_).symm (by first | assumption | exact Ne9.p (by assumption))) | (intro q_; (try dsimp only at q_); rcases q_ with q_ | q_ | q_ | q_ <;> first | exact absurd q_ (by first | assumption | exact Ne9.p (by assumption)) | exact absurd (Nat.succ.inj q_) (by first | assumption | exact Ne9.p (by assumption)) | exact absurd q_.symm (Nat.succ_ne_zero _) | exact absurd (Nat.succ.inj q_).symm (by first | assumption | exact Ne9.p (by assumption))) | (intro q_; (try dsimp only at q_); rcases q_ with q_ | q_ <;> first | exact absurd q_ (by first | assumption | exact Ne9.p (by assumption)) | exact absurd (Nat.succ.inj q_) (by first | assumption | exact Ne9.p (by assumption)) | exact absurd q_.symm (Nat.succ_ne_zero _) | exact absurd (Nat.succ.inj q_).symm (by first | assumption | exact Ne9.p (by assumption))) | (intro q_; (try dsimp only at q_); omega))
    have hU : Up (fun q_ => q_ = q + 1) w w_1 := hU.tr u_12 (fun q_ h_ => by first | exact absurd h_ id | exact Or.inl h_ | exact Or.inr (up_nw h_ (by assumption)) | exact Or.inl (Or.inl h_) | exact Or.inl (Or.inr h_) | exact Or.inl (Or.inr (Or.inl h_)) | exact Or.inl (Or.inr (Or.inr h_)) | exact Or.inl (Or.inr (Or.inr (Or.inl h_))) | exact Or.inl (Or.inr (Or.inr (Or.inr h_))) | exact Or.inl (h_.elim Or.inl (fun h_ => Or.inr (Or.inl h_))) | ((try dsimp only at h_); first | exact Or.inl (by omega) | exact Or.inr ⟨by omega, by subst h_; rw [Nat.add_sub_cancel]; assumption⟩)) hG
    refine lv_astore_n (lv' := [(1, .ref fs), (0, .ref q)]) hx hb dX11_rule_4 rfl hl (by decide) rfl (fun ls hl => ?_)
    refine lv_aload_n hx hb dX11_rule_5 rfl (lv_at hl 1 rfl) ?_
    refine h_iconst hx hb dX11_rule_6 ?_
    -- call SpokenMarks$Scanner.symbol
    refine h_xV (h_xrunV X hR (sc_sym l G w_1 q bf rb T s1 hK__11 4 (by omega) hP_bf_w_1 hqb hsw1 hU.2.2.1) pn_yX11_symbol (hK__11.c rfl) q2209 q2178 q3400 q162 q2179 ⟨by decide, by decide⟩ hl.1 (Nat.le_of_ble_eq_true rfl) dX11_rule_7 ⟨by omega, by omega⟩) hL (fun xq_16 E_17 ce_ w_18 hx__19 H locs hR hL hce_ hcv_ hcl_ => ?_) (fun w_14 hp_15 H locs hR hL => ?_)
    ·
      obtain ⟨x_20, hrd_21, hxx_22⟩ := hx__19
      exact h_xout (fun x_ hx_ => htab x_ hx_ _) hlk hce_ hcv_ hcl_ hR hL ⟨x_20, rSay_2 hr1 hrd_21, TxE.tr hU hxx_22 (fun q_ h_ => by first | exact absurd h_ id | exact Or.inl h_ | exact Or.inr (up_nw h_ (by assumption)) | exact Or.inl (Or.inl h_) | exact Or.inl (Or.inr h_) | exact Or.inl (Or.inr (Or.inl h_)) | exact Or.inl (Or.inr (Or.inr h_)) | exact Or.inl (Or.inr (Or.inr (Or.inl h_))) | exact Or.inl (Or.inr (Or.inr (Or.inr h_))) | exact Or.inl (h_.elim Or.inl (fun h_ => Or.inr (Or.inl h_))) | ((try dsimp only at h_); first | exact Or.inl (by omega) | exact Or.inr ⟨by omega, by subst h_; rw [Nat.add_sub_cancel]; assumption⟩)) hG⟩ (by omega) (by omega) rfl rfl
    ·
      obtain ⟨s2, hr2, hK__23, hsw2, u_24⟩ := hp_15
      have hP_bf_w_14 := hP_bf_w_1.mv (u_24.1) (by first | exact id | exact fun q_ => absurd q_ (by first | assumption | exact Ne9.p (by assumption)) | exact fun q_ => absurd (Nat.succ.inj q_) (by first | assumption | exact Ne9.p (by assumption)) | exact fun q_ => absurd q_.symm (Nat.succ_ne_zero _) | exact fun q_ => absurd (Nat.succ.inj q_).symm (by first | assumption | exact Ne9.p (by assumption)) | (intro q_; (try dsimp only at q_); rcases q_ with q_ | q_ | q_ | q_ | q_ <;> first | exact absurd q_ (by first | assumption | exact Ne9.p (by assumption)) | exact absurd (Nat.succ.inj q_) (by first | assumption | exact Ne9.p (by assumption)) | exact absurd q_.symm (Nat.succ_ne_zero _) | exact absurd (Nat.succ.inj q_).symm (by first | assumption | exact Ne9.p (by assumption))) | (intro q_; (try dsimp only at q_); rcases q_ with q_ | q_ | q_ | q_ <;> first | exact absurd q_ (by first | assumption | exact Ne9.p (by assumption)) | exact absurd (Nat.succ.inj q_) (by first | assumption | exact Ne9.p (by assumption)) | exact absurd q_.symm (Nat.succ_ne_zero _) | exact absurd (Nat.succ.inj q_).symm (by first | assumption | exact Ne9.p (by assumption))) | (intro q_; (try dsimp only at q_); rcases q_ with q_ | q_ <;> first | exact absurd q_ (by first | assumption | exact Ne9.p (by assumption)) | exact absurd (Nat.succ.inj q_) (by first | assumption | exact Ne9.p (by assumption)) | exact absurd q_.symm (Nat.succ_ne_zero _) | exact absurd (Nat.succ.inj q_).symm (by first | assumption | exact Ne9.p (by assumption))) | (intro q_; (try dsimp only at q_); omega))
      have hP_fs_w_14 := hS__10.mv (u_24.1) (by first | exact id | exact fun q_ => absurd q_ (by first | assumption | exact Ne9.p (by assumption)) | exact fun q_ => absurd (Nat.succ.inj q_) (by first | assumption | exact Ne9.p (by assumption)) | exact fun q_ => absurd q_.symm (Nat.succ_ne_zero _) | exact fun q_ => absurd (Nat.succ.inj q_).symm (by first | assumption | exact Ne9.p (by assumption)) | (intro q_; (try dsimp only at q_); rcases q_ with q_ | q_ | q_ | q_ | q_ <;> first | exact absurd q_ (by first | assumption | exact Ne9.p (by assumption)) | exact absurd (Nat.succ.inj q_) (by first | assumption | exact Ne9.p (by assumption)) | exact absurd q_.symm (Nat.succ_ne_zero _) | exact absurd (Nat.succ.inj q_).symm (by first | assumption | exact Ne9.p (by assumption))) | (intro q_; (try dsimp only at q_); rcases q_ with q_ | q_ | q_ | q_ <;> first | exact absurd q_ (by first | assumption | exact Ne9.p (by assumption)) | exact absurd (Nat.succ.inj q_) (by first | assumption | exact Ne9.p (by assumption)) | exact absurd q_.symm (Nat.succ_ne_zero _) | exact absurd (Nat.succ.inj q_).symm (by first | assumption | exact Ne9.p (by assumption))) | (intro q_; (try dsimp only at q_); rcases q_ with q_ | q_ <;> first | exact absurd q_ (by first | assumption | exact Ne9.p (by assumption)) | exact absurd (Nat.succ.inj q_) (by first | assumption | exact Ne9.p (by assumption)) | exact absurd q_.symm (Nat.succ_ne_zero _) | exact absurd (Nat.succ.inj q_).symm (by first | assumption | exact Ne9.p (by assumption))) | (intro q_; (try dsimp only at q_); omega))
      have hU : Up (fun q_ => q_ = q + 1) w w_14 := hU.tr u_24 (fun q_ h_ => by first | exact absurd h_ id | exact Or.inl h_ | exact Or.inr (up_nw h_ (by assumption)) | exact Or.inl (Or.inl h_) | exact Or.inl (Or.inr h_) | exact Or.inl (Or.inr (Or.inl h_)) | exact Or.inl (Or.inr (Or.inr h_)) | exact Or.inl (Or.inr (Or.inr (Or.inl h_))) | exact Or.inl (Or.inr (Or.inr (Or.inr h_))) | exact Or.inl (h_.elim Or.inl (fun h_ => Or.inr (Or.inl h_))) | ((try dsimp only at h_); first | exact Or.inl (by omega) | exact Or.inr ⟨by omega, by subst h_; rw [Nat.add_sub_cancel]; assumption⟩)) hG
      refine h_new X hR (ci := 6) (fun q => q + 1) rfl in_X4 tyX4_ok q2210 q637 q145 [.null, .null] (by intro j hj; rcases (show j = 0 ∨ j = 1 by omega) with rfl | rfl <;> rfl) (by omega) (by omega) dX11_rule_10 (fun q9 hq9 w_25 ew_26 H hR => ?_)
      have hn_q9 : w q9 = none := hU.2.1 _ hq9
      have hU : Up (fun q_ => q_ = q + 1) w w_25 := by rw [ew_26]; exact hU.new hq9 (by first | exact Or.inr (Or.inl rfl) | exact Or.inl rfl | exact Or.inr (Or.inr (by assumption)))
      have hF_q9_w_25 : w_25 q9 = some (q9 + 1, oE 6 [.null, .null]) := by rw [ew_26]; exact wset_eq _ _ _
      have ne_bf_q9 : Ne9 bf q9 := sm_ne hP_bf_w_14.sm hq9
      have hP_bf_w_25 := hP_bf_w_14.mv (w1 := w_25) (S := fun _ => False) (by rw [ew_26]; exact Fr.add hq9 _) id
      have ne_fs_q9 : Ne9 fs q9 := sm_ne hP_fs_w_14.sm hq9
      have hP_fs_w_25 := hP_fs_w_14.mv (w1 := w_25) (S := fun _ => False) (by rw [ew_26]; exact Fr.add hq9 _) id
      have ne_q_q9 : Ne9 q q9 := sm_ne hK__23.sm hq9
      have hP_q_w_25 := hK__23.mv (w1 := w_25) (S := fun _ => False) (by rw [ew_26]; exact Fr.add hq9 _) ⟨id, id⟩
      have hbr_q9 : Ne9 rb (q9 + 1) := hB.nr hG hn_q9
      refine lv_dup hx hb dX11_rule_13 rfl ?_
      refine lv_aload_n hx hb dX11_rule_14 rfl (lv_at hl 0 rfl) ?_
      refine lv_aload_n hx hb dX11_rule_15 rfl (lv_at hl 1 rfl) ?_
      -- call SpokenMarks$Scanner.word
      refine h_xR (h_xrunV X hR (sc_wrd l G w_25 q bf rb T s2 hP_q_w_25 hP_bf_w_25 hqb hsw2 hU.2.2.1) pn_yX11_word (hP_q_w_25.c rfl) q2201 q2202 q2203 q162 q2207 ⟨by decide, by decide⟩ hl.1 (Nat.le_of_ble_eq_true rfl) dX11_rule_16 ⟨by omega, by omega⟩) hL (fun xq_29 E_30 ce_ w_31 hx__32 H locs hR hL hce_ hcv_ hcl_ => ?_) (fun ss w_27 hp_28 H locs hR hL => ?_)
      ·
        obtain ⟨x_33, hrd_34, hxx_35⟩ := hx__32
        exact h_xout (fun x_ hx_ => htab x_ hx_ _) hlk hce_ hcv_ hcl_ hR hL ⟨x_33, rSay_3 hr1 hr2 hrd_34, TxE.tr hU hxx_35 (fun q_ h_ => by first | exact absurd h_ id | exact Or.inl h_ | exact Or.inr (up_nw h_ (by assumption)) | exact Or.inl (Or.inl h_) | exact Or.inl (Or.inr h_) | exact Or.inl (Or.inr (Or.inl h_)) | exact Or.inl (Or.inr (Or.inr h_)) | exact Or.inl (Or.inr (Or.inr (Or.inl h_))) | exact Or.inl (Or.inr (Or.inr (Or.inr h_))) | exact Or.inl (h_.elim Or.inl (fun h_ => Or.inr (Or.inl h_))) | ((try dsimp only at h_); first | exact Or.inl (by omega) | exact Or.inr ⟨by omega, by subst h_; rw [Nat.add_sub_cancel]; assumption⟩)) hG⟩ (by omega) (by omega) rfl rfl
      ·
        obtain ⟨s3, M, hr3, hwd3, hS__36, hK__37, hsw3, u_38⟩ := hp_28
        have hF_q9_w_27 : w_27 q9 = some (q9 + 1, oE 6 [.null, .null]) := u_38.1 _ _ _ hF_q9_w_25 (by first | exact id | exact fun q_ => absurd q_ (by first | assumption | exact Ne9.p (by assumption)) | exact fun q_ => absurd (Nat.succ.inj q_) (by first | assumption | exact Ne9.p (by assumption)) | exact fun q_ => absurd q_.symm (Nat.succ_ne_zero _) | exact fun q_ => absurd (Nat.succ.inj q_).symm (by first | assumption | exact Ne9.p (by assumption)) | (intro q_; (try dsimp only at q_); rcases q_ with q_ | q_ | q_ | q_ | q_ <;> first | exact absurd q_ (by first | assumption | exact Ne9.p (by assumption)) | exact absurd (Nat.succ.inj q_) (by first | assumption | exact Ne9.p (by assumption)) | exact absurd q_.symm (Nat.succ_ne_zero _) | exact absurd (Nat.succ.inj q_).symm (by first | assumption | exact Ne9.p (by assumption))) | (intro q_; (try dsimp only at q_); rcases q_ with q_ | q_ | q_ | q_ <;> first | exact absurd q_ (by first | assumption | exact Ne9.p (by assumption)) | exact absurd (Nat.succ.inj q_) (by first | assumption | exact Ne9.p (by assumption)) | exact absurd q_.symm (Nat.succ_ne_zero _) | exact absurd (Nat.succ.inj q_).symm (by first | assumption | exact Ne9.p (by assumption))) | (intro q_; (try dsimp only at q_); rcases q_ with q_ | q_ <;> first | exact absurd q_ (by first | assumption | exact Ne9.p (by assumption)) | exact absurd (Nat.succ.inj q_) (by first | assumption | exact Ne9.p (by assumption)) | exact absurd q_.symm (Nat.succ_ne_zero _) | exact absurd (Nat.succ.inj q_).symm (by first | assumption | exact Ne9.p (by assumption))) | (intro q_; (try dsimp only at q_); omega))
        have hP_bf_w_27 := hP_bf_w_25.mv (u_38.1) (by first | exact id | exact fun q_ => absurd q_ (by first | assumption | exact Ne9.p (by assumption)) | exact fun q_ => absurd (Nat.succ.inj q_) (by first | assumption | exact Ne9.p (by assumption)) | exact fun q_ => absurd q_.symm (Nat.succ_ne_zero _) | exact fun q_ => absurd (Nat.succ.inj q_).symm (by first | assumption | exact Ne9.p (by assumption)) | (intro q_; (try dsimp only at q_); rcases q_ with q_ | q_ | q_ | q_ | q_ <;> first | exact absurd q_ (by first | assumption | exact Ne9.p (by assumption)) | exact absurd (Nat.succ.inj q_) (by first | assumption | exact Ne9.p (by assumption)) | exact absurd q_.symm (Nat.succ_ne_zero _) | exact absurd (Nat.succ.inj q_).symm (by first | assumption | exact Ne9.p (by assumption))) | (intro q_; (try dsimp only at q_); rcases q_ with q_ | q_ | q_ | q_ <;> first | exact absurd q_ (by first | assumption | exact Ne9.p (by assumption)) | exact absurd (Nat.succ.inj q_) (by first | assumption | exact Ne9.p (by assumption)) | exact absurd q_.symm (Nat.succ_ne_zero _) | exact absurd (Nat.succ.inj q_).symm (by first | assumption | exact Ne9.p (by assumption))) | (intro q_; (try dsimp only at q_); rcases q_ with q_ | q_ <;> first | exact absurd q_ (by first | assumption | exact Ne9.p (by assumption)) | exact absurd (Nat.succ.inj q_) (by first | assumption | exact Ne9.p (by assumption)) | exact absurd q_.symm (Nat.succ_ne_zero _) | exact absurd (Nat.succ.inj q_).symm (by first | assumption | exact Ne9.p (by assumption))) | (intro q_; (try dsimp only at q_); omega))
        have hP_fs_w_27 := hP_fs_w_25.mv (u_38.1) (by first | exact id | exact fun q_ => absurd q_ (by first | assumption | exact Ne9.p (by assumption)) | exact fun q_ => absurd (Nat.succ.inj q_) (by first | assumption | exact Ne9.p (by assumption)) | exact fun q_ => absurd q_.symm (Nat.succ_ne_zero _) | exact fun q_ => absurd (Nat.succ.inj q_).symm (by first | assumption | exact Ne9.p (by assumption)) | (intro q_; (try dsimp only at q_); rcases q_ with q_ | q_ | q_ | q_ | q_ <;> first | exact absurd q_ (by first | assumption | exact Ne9.p (by assumption)) | exact absurd (Nat.succ.inj q_) (by first | assumption | exact Ne9.p (by assumption)) | exact absurd q_.symm (Nat.succ_ne_zero _) | exact absurd (Nat.succ.inj q_).symm (by first | assumption | exact Ne9.p (by assumption))) | (intro q_; (try dsimp only at q_); rcases q_ with q_ | q_ | q_ | q_ <;> first | exact absurd q_ (by first | assumption | exact Ne9.p (by assumption)) | exact absurd (Nat.succ.inj q_) (by first | assumption | exact Ne9.p (by assumption)) | exact absurd q_.symm (Nat.succ_ne_zero _) | exact absurd (Nat.succ.inj q_).symm (by first | assumption | exact Ne9.p (by assumption))) | (intro q_; (try dsimp only at q_); rcases q_ with q_ | q_ <;> first | exact absurd q_ (by first | assumption | exact Ne9.p (by assumption)) | exact absurd (Nat.succ.inj q_) (by first | assumption | exact Ne9.p (by assumption)) | exact absurd q_.symm (Nat.succ_ne_zero _) | exact absurd (Nat.succ.inj q_).symm (by first | assumption | exact Ne9.p (by assumption))) | (intro q_; (try dsimp only at q_); omega))
        have hU : Up (fun q_ => q_ = q + 1) w w_27 := hU.tr u_38 (fun q_ h_ => by first | exact absurd h_ id | exact Or.inl h_ | exact Or.inr (up_nw h_ (by assumption)) | exact Or.inl (Or.inl h_) | exact Or.inl (Or.inr h_) | exact Or.inl (Or.inr (Or.inl h_)) | exact Or.inl (Or.inr (Or.inr h_)) | exact Or.inl (Or.inr (Or.inr (Or.inl h_))) | exact Or.inl (Or.inr (Or.inr (Or.inr h_))) | exact Or.inl (h_.elim Or.inl (fun h_ => Or.inr (Or.inl h_))) | ((try dsimp only at h_); first | exact Or.inl (by omega) | exact Or.inr ⟨by omega, by subst h_; rw [Nat.add_sub_cancel]; assumption⟩)) hG
        -- call SpokenMarks$Rule.<init>
        refine h_kV (h_runI X hR (ru_init l G w_27 (q9 + 1) (by omega) q9 fs ss hF_q9_w_27 hU.2.2.1) pn_yX4_init rfl q2211 q641 q145 q642 ⟨by decide, by decide⟩ hl.1 (Nat.le_of_ble_eq_true rfl) dX11_rule_19 ⟨by omega, by omega⟩) hL (fun w_40 hp_41 H locs hR hL => ?_)
        obtain ⟨hO__43, u_42⟩ := hp_41
        have hP_bf_w_40 := hP_bf_w_27.mv (u_42.1) (by first | exact id | exact fun q_ => absurd q_ (by first | assumption | exact Ne9.p (by assumption)) | exact fun q_ => absurd (Nat.succ.inj q_) (by first | assumption | exact Ne9.p (by assumption)) | exact fun q_ => absurd q_.symm (Nat.succ_ne_zero _) | exact fun q_ => absurd (Nat.succ.inj q_).symm (by first | assumption | exact Ne9.p (by assumption)) | (intro q_; (try dsimp only at q_); rcases q_ with q_ | q_ | q_ | q_ | q_ <;> first | exact absurd q_ (by first | assumption | exact Ne9.p (by assumption)) | exact absurd (Nat.succ.inj q_) (by first | assumption | exact Ne9.p (by assumption)) | exact absurd q_.symm (Nat.succ_ne_zero _) | exact absurd (Nat.succ.inj q_).symm (by first | assumption | exact Ne9.p (by assumption))) | (intro q_; (try dsimp only at q_); rcases q_ with q_ | q_ | q_ | q_ <;> first | exact absurd q_ (by first | assumption | exact Ne9.p (by assumption)) | exact absurd (Nat.succ.inj q_) (by first | assumption | exact Ne9.p (by assumption)) | exact absurd q_.symm (Nat.succ_ne_zero _) | exact absurd (Nat.succ.inj q_).symm (by first | assumption | exact Ne9.p (by assumption))) | (intro q_; (try dsimp only at q_); rcases q_ with q_ | q_ <;> first | exact absurd q_ (by first | assumption | exact Ne9.p (by assumption)) | exact absurd (Nat.succ.inj q_) (by first | assumption | exact Ne9.p (by assumption)) | exact absurd q_.symm (Nat.succ_ne_zero _) | exact absurd (Nat.succ.inj q_).symm (by first | assumption | exact Ne9.p (by assumption))) | (intro q_; (try dsimp only at q_); omega))
        have hP_fs_w_40 := hP_fs_w_27.mv (u_42.1) (by first | exact id | exact fun q_ => absurd q_ (by first | assumption | exact Ne9.p (by assumption)) | exact fun q_ => absurd (Nat.succ.inj q_) (by first | assumption | exact Ne9.p (by assumption)) | exact fun q_ => absurd q_.symm (Nat.succ_ne_zero _) | exact fun q_ => absurd (Nat.succ.inj q_).symm (by first | assumption | exact Ne9.p (by assumption)) | (intro q_; (try dsimp only at q_); rcases q_ with q_ | q_ | q_ | q_ | q_ <;> first | exact absurd q_ (by first | assumption | exact Ne9.p (by assumption)) | exact absurd (Nat.succ.inj q_) (by first | assumption | exact Ne9.p (by assumption)) | exact absurd q_.symm (Nat.succ_ne_zero _) | exact absurd (Nat.succ.inj q_).symm (by first | assumption | exact Ne9.p (by assumption))) | (intro q_; (try dsimp only at q_); rcases q_ with q_ | q_ | q_ | q_ <;> first | exact absurd q_ (by first | assumption | exact Ne9.p (by assumption)) | exact absurd (Nat.succ.inj q_) (by first | assumption | exact Ne9.p (by assumption)) | exact absurd q_.symm (Nat.succ_ne_zero _) | exact absurd (Nat.succ.inj q_).symm (by first | assumption | exact Ne9.p (by assumption))) | (intro q_; (try dsimp only at q_); rcases q_ with q_ | q_ <;> first | exact absurd q_ (by first | assumption | exact Ne9.p (by assumption)) | exact absurd (Nat.succ.inj q_) (by first | assumption | exact Ne9.p (by assumption)) | exact absurd q_.symm (Nat.succ_ne_zero _) | exact absurd (Nat.succ.inj q_).symm (by first | assumption | exact Ne9.p (by assumption))) | (intro q_; (try dsimp only at q_); omega))
        have hP_q_w_40 := hK__37.mv (u_42.1) ⟨(by first | exact id | exact fun q_ => absurd q_ (by first | assumption | exact Ne9.p (by assumption)) | exact fun q_ => absurd (Nat.succ.inj q_) (by first | assumption | exact Ne9.p (by assumption)) | exact fun q_ => absurd q_.symm (Nat.succ_ne_zero _) | exact fun q_ => absurd (Nat.succ.inj q_).symm (by first | assumption | exact Ne9.p (by assumption)) | (intro q_; (try dsimp only at q_); rcases q_ with q_ | q_ | q_ | q_ | q_ <;> first | exact absurd q_ (by first | assumption | exact Ne9.p (by assumption)) | exact absurd (Nat.succ.inj q_) (by first | assumption | exact Ne9.p (by assumption)) | exact absurd q_.symm (Nat.succ_ne_zero _) | exact absurd (Nat.succ.inj q_).symm (by first | assumption | exact Ne9.p (by assumption))) | (intro q_; (try dsimp only at q_); rcases q_ with q_ | q_ | q_ | q_ <;> first | exact absurd q_ (by first | assumption | exact Ne9.p (by assumption)) | exact absurd (Nat.succ.inj q_) (by first | assumption | exact Ne9.p (by assumption)) | exact absurd q_.symm (Nat.succ_ne_zero _) | exact absurd (Nat.succ.inj q_).symm (by first | assumption | exact Ne9.p (by assumption))) | (intro q_; (try dsimp only at q_); rcases q_ with q_ | q_ <;> first | exact absurd q_ (by first | assumption | exact Ne9.p (by assumption)) | exact absurd (Nat.succ.inj q_) (by first | assumption | exact Ne9.p (by assumption)) | exact absurd q_.symm (Nat.succ_ne_zero _) | exact absurd (Nat.succ.inj q_).symm (by first | assumption | exact Ne9.p (by assumption))) | (intro q_; (try dsimp only at q_); omega)), (by first | exact id | exact fun q_ => absurd q_ (by first | assumption | exact Ne9.p (by assumption)) | exact fun q_ => absurd (Nat.succ.inj q_) (by first | assumption | exact Ne9.p (by assumption)) | exact fun q_ => absurd q_.symm (Nat.succ_ne_zero _) | exact fun q_ => absurd (Nat.succ.inj q_).symm (by first | assumption | exact Ne9.p (by assumption)) | (intro q_; (try dsimp only at q_); rcases q_ with q_ | q_ | q_ | q_ | q_ <;> first | exact absurd q_ (by first | assumption | exact Ne9.p (by assumption)) | exact absurd (Nat.succ.inj q_) (by first | assumption | exact Ne9.p (by assumption)) | exact absurd q_.symm (Nat.succ_ne_zero _) | exact absurd (Nat.succ.inj q_).symm (by first | assumption | exact Ne9.p (by assumption))) | (intro q_; (try dsimp only at q_); rcases q_ with q_ | q_ | q_ | q_ <;> first | exact absurd q_ (by first | assumption | exact Ne9.p (by assumption)) | exact absurd (Nat.succ.inj q_) (by first | assumption | exact Ne9.p (by assumption)) | exact absurd q_.symm (Nat.succ_ne_zero _) | exact absurd (Nat.succ.inj q_).symm (by first | assumption | exact Ne9.p (by assumption))) | (intro q_; (try dsimp only at q_); rcases q_ with q_ | q_ <;> first | exact absurd q_ (by first | assumption | exact Ne9.p (by assumption)) | exact absurd (Nat.succ.inj q_) (by first | assumption | exact Ne9.p (by assumption)) | exact absurd q_.symm (Nat.succ_ne_zero _) | exact absurd (Nat.succ.inj q_).symm (by first | assumption | exact Ne9.p (by assumption))) | (intro q_; (try dsimp only at q_); omega))⟩
        have hP_ss_w_40 := hS__36.mv (u_42.1) (by first | exact id | exact fun q_ => absurd q_ (by first | assumption | exact Ne9.p (by assumption)) | exact fun q_ => absurd (Nat.succ.inj q_) (by first | assumption | exact Ne9.p (by assumption)) | exact fun q_ => absurd q_.symm (Nat.succ_ne_zero _) | exact fun q_ => absurd (Nat.succ.inj q_).symm (by first | assumption | exact Ne9.p (by assumption)) | (intro q_; (try dsimp only at q_); rcases q_ with q_ | q_ | q_ | q_ | q_ <;> first | exact absurd q_ (by first | assumption | exact Ne9.p (by assumption)) | exact absurd (Nat.succ.inj q_) (by first | assumption | exact Ne9.p (by assumption)) | exact absurd q_.symm (Nat.succ_ne_zero _) | exact absurd (Nat.succ.inj q_).symm (by first | assumption | exact Ne9.p (by assumption))) | (intro q_; (try dsimp only at q_); rcases q_ with q_ | q_ | q_ | q_ <;> first | exact absurd q_ (by first | assumption | exact Ne9.p (by assumption)) | exact absurd (Nat.succ.inj q_) (by first | assumption | exact Ne9.p (by assumption)) | exact absurd q_.symm (Nat.succ_ne_zero _) | exact absurd (Nat.succ.inj q_).symm (by first | assumption | exact Ne9.p (by assumption))) | (intro q_; (try dsimp only at q_); rcases q_ with q_ | q_ <;> first | exact absurd q_ (by first | assumption | exact Ne9.p (by assumption)) | exact absurd (Nat.succ.inj q_) (by first | assumption | exact Ne9.p (by assumption)) | exact absurd q_.symm (Nat.succ_ne_zero _) | exact absurd (Nat.succ.inj q_).symm (by first | assumption | exact Ne9.p (by assumption))) | (intro q_; (try dsimp only at q_); omega))
        have hU : Up (fun q_ => q_ = q + 1) w w_40 := hU.tr u_42 (fun q_ h_ => by first | exact absurd h_ id | exact Or.inl h_ | exact Or.inr (up_nw h_ (by assumption)) | exact Or.inl (Or.inl h_) | exact Or.inl (Or.inr h_) | exact Or.inl (Or.inr (Or.inl h_)) | exact Or.inl (Or.inr (Or.inr h_)) | exact Or.inl (Or.inr (Or.inr (Or.inl h_))) | exact Or.inl (Or.inr (Or.inr (Or.inr h_))) | exact Or.inl (h_.elim Or.inl (fun h_ => Or.inr (Or.inl h_))) | ((try dsimp only at h_); first | exact Or.inl (by omega) | exact Or.inr ⟨by omega, by subst h_; rw [Nat.add_sub_cancel]; assumption⟩)) hG
        have hR := hR.retag (0) hO__43 (Nat.succ_ne_zero _)
        obtain ⟨w_44, ew_45⟩ : ∃ w_ : Wd, w_ = wset w_40 q9 (0, oE 6 [.ref fs, .ref ss]) := ⟨_, rfl⟩
        rw [← ew_45] at hR
        have hU : Up (fun q_ => q_ = q + 1) w w_44 := by rw [ew_45]; exact hU.tag hO__43 hn_q9 (Or.inl rfl)
        have hF_q9_w_44 : w_44 q9 = some (0, oE 6 [.ref fs, .ref ss]) := by rw [ew_45]; exact wset_eq _ _ _
        have hP_bf_w_44 := hP_bf_w_40.mv (w1 := w_44) (S := fun q_ => q_ = q9 + 1) (by rw [ew_45]; exact Fr.one hO__43 _) (by first | exact id | exact fun q_ => absurd q_ (by first | assumption | exact Ne9.p (by assumption)) | exact fun q_ => absurd (Nat.succ.inj q_) (by first | assumption | exact Ne9.p (by assumption)) | exact fun q_ => absurd q_.symm (Nat.succ_ne_zero _) | exact fun q_ => absurd (Nat.succ.inj q_).symm (by first | assumption | exact Ne9.p (by assumption)) | (intro q_; (try dsimp only at q_); rcases q_ with q_ | q_ | q_ | q_ | q_ <;> first | exact absurd q_ (by first | assumption | exact Ne9.p (by assumption)) | exact absurd (Nat.succ.inj q_) (by first | assumption | exact Ne9.p (by assumption)) | exact absurd q_.symm (Nat.succ_ne_zero _) | exact absurd (Nat.succ.inj q_).symm (by first | assumption | exact Ne9.p (by assumption))) | (intro q_; (try dsimp only at q_); rcases q_ with q_ | q_ | q_ | q_ <;> first | exact absurd q_ (by first | assumption | exact Ne9.p (by assumption)) | exact absurd (Nat.succ.inj q_) (by first | assumption | exact Ne9.p (by assumption)) | exact absurd q_.symm (Nat.succ_ne_zero _) | exact absurd (Nat.succ.inj q_).symm (by first | assumption | exact Ne9.p (by assumption))) | (intro q_; (try dsimp only at q_); rcases q_ with q_ | q_ <;> first | exact absurd q_ (by first | assumption | exact Ne9.p (by assumption)) | exact absurd (Nat.succ.inj q_) (by first | assumption | exact Ne9.p (by assumption)) | exact absurd q_.symm (Nat.succ_ne_zero _) | exact absurd (Nat.succ.inj q_).symm (by first | assumption | exact Ne9.p (by assumption))) | (intro q_; (try dsimp only at q_); omega))
        have hP_fs_w_44 := hP_fs_w_40.mv (w1 := w_44) (S := fun q_ => q_ = q9 + 1) (by rw [ew_45]; exact Fr.one hO__43 _) (by first | exact id | exact fun q_ => absurd q_ (by first | assumption | exact Ne9.p (by assumption)) | exact fun q_ => absurd (Nat.succ.inj q_) (by first | assumption | exact Ne9.p (by assumption)) | exact fun q_ => absurd q_.symm (Nat.succ_ne_zero _) | exact fun q_ => absurd (Nat.succ.inj q_).symm (by first | assumption | exact Ne9.p (by assumption)) | (intro q_; (try dsimp only at q_); rcases q_ with q_ | q_ | q_ | q_ | q_ <;> first | exact absurd q_ (by first | assumption | exact Ne9.p (by assumption)) | exact absurd (Nat.succ.inj q_) (by first | assumption | exact Ne9.p (by assumption)) | exact absurd q_.symm (Nat.succ_ne_zero _) | exact absurd (Nat.succ.inj q_).symm (by first | assumption | exact Ne9.p (by assumption))) | (intro q_; (try dsimp only at q_); rcases q_ with q_ | q_ | q_ | q_ <;> first | exact absurd q_ (by first | assumption | exact Ne9.p (by assumption)) | exact absurd (Nat.succ.inj q_) (by first | assumption | exact Ne9.p (by assumption)) | exact absurd q_.symm (Nat.succ_ne_zero _) | exact absurd (Nat.succ.inj q_).symm (by first | assumption | exact Ne9.p (by assumption))) | (intro q_; (try dsimp only at q_); rcases q_ with q_ | q_ <;> first | exact absurd q_ (by first | assumption | exact Ne9.p (by assumption)) | exact absurd (Nat.succ.inj q_) (by first | assumption | exact Ne9.p (by assumption)) | exact absurd q_.symm (Nat.succ_ne_zero _) | exact absurd (Nat.succ.inj q_).symm (by first | assumption | exact Ne9.p (by assumption))) | (intro q_; (try dsimp only at q_); omega))
        have hP_q_w_44 := hP_q_w_40.mv (w1 := w_44) (S := fun q_ => q_ = q9 + 1) (by rw [ew_45]; exact Fr.one hO__43 _) ⟨(by first | exact id | exact fun q_ => absurd q_ (by first | assumption | exact Ne9.p (by assumption)) | exact fun q_ => absurd (Nat.succ.inj q_) (by first | assumption | exact Ne9.p (by assumption)) | exact fun q_ => absurd q_.symm (Nat.succ_ne_zero _) | exact fun q_ => absurd (Nat.succ.inj q_).symm (by first | assumption | exact Ne9.p (by assumption)) | (intro q_; (try dsimp only at q_); rcases q_ with q_ | q_ | q_ | q_ | q_ <;> first | exact absurd q_ (by first | assumption | exact Ne9.p (by assumption)) | exact absurd (Nat.succ.inj q_) (by first | assumption | exact Ne9.p (by assumption)) | exact absurd q_.symm (Nat.succ_ne_zero _) | exact absurd (Nat.succ.inj q_).symm (by first | assumption | exact Ne9.p (by assumption))) | (intro q_; (try dsimp only at q_); rcases q_ with q_ | q_ | q_ | q_ <;> first | exact absurd q_ (by first | assumption | exact Ne9.p (by assumption)) | exact absurd (Nat.succ.inj q_) (by first | assumption | exact Ne9.p (by assumption)) | exact absurd q_.symm (Nat.succ_ne_zero _) | exact absurd (Nat.succ.inj q_).symm (by first | assumption | exact Ne9.p (by assumption))) | (intro q_; (try dsimp only at q_); rcases q_ with q_ | q_ <;> first | exact absurd q_ (by first | assumption | exact Ne9.p (by assumption)) | exact absurd (Nat.succ.inj q_) (by first | assumption | exact Ne9.p (by assumption)) | exact absurd q_.symm (Nat.succ_ne_zero _) | exact absurd (Nat.succ.inj q_).symm (by first | assumption | exact Ne9.p (by assumption))) | (intro q_; (try dsimp only at q_); omega)), (by first | exact id | exact fun q_ => absurd q_ (by first | assumption | exact Ne9.p (by assumption)) | exact fun q_ => absurd (Nat.succ.inj q_) (by first | assumption | exact Ne9.p (by assumption)) | exact fun q_ => absurd q_.symm (Nat.succ_ne_zero _) | exact fun q_ => absurd (Nat.succ.inj q_).symm (by first | assumption | exact Ne9.p (by assumption)) | (intro q_; (try dsimp only at q_); rcases q_ with q_ | q_ | q_ | q_ | q_ <;> first | exact absurd q_ (by first | assumption | exact Ne9.p (by assumption)) | exact absurd (Nat.succ.inj q_) (by first | assumption | exact Ne9.p (by assumption)) | exact absurd q_.symm (Nat.succ_ne_zero _) | exact absurd (Nat.succ.inj q_).symm (by first | assumption | exact Ne9.p (by assumption))) | (intro q_; (try dsimp only at q_); rcases q_ with q_ | q_ | q_ | q_ <;> first | exact absurd q_ (by first | assumption | exact Ne9.p (by assumption)) | exact absurd (Nat.succ.inj q_) (by first | assumption | exact Ne9.p (by assumption)) | exact absurd q_.symm (Nat.succ_ne_zero _) | exact absurd (Nat.succ.inj q_).symm (by first | assumption | exact Ne9.p (by assumption))) | (intro q_; (try dsimp only at q_); rcases q_ with q_ | q_ <;> first | exact absurd q_ (by first | assumption | exact Ne9.p (by assumption)) | exact absurd (Nat.succ.inj q_) (by first | assumption | exact Ne9.p (by assumption)) | exact absurd q_.symm (Nat.succ_ne_zero _) | exact absurd (Nat.succ.inj q_).symm (by first | assumption | exact Ne9.p (by assumption))) | (intro q_; (try dsimp only at q_); omega))⟩
        have hP_ss_w_44 := hP_ss_w_40.mv (w1 := w_44) (S := fun q_ => q_ = q9 + 1) (by rw [ew_45]; exact Fr.one hO__43 _) (by first | exact id | exact fun q_ => absurd q_ (by first | assumption | exact Ne9.p (by assumption)) | exact fun q_ => absurd (Nat.succ.inj q_) (by first | assumption | exact Ne9.p (by assumption)) | exact fun q_ => absurd q_.symm (Nat.succ_ne_zero _) | exact fun q_ => absurd (Nat.succ.inj q_).symm (by first | assumption | exact Ne9.p (by assumption)) | (intro q_; (try dsimp only at q_); rcases q_ with q_ | q_ | q_ | q_ | q_ <;> first | exact absurd q_ (by first | assumption | exact Ne9.p (by assumption)) | exact absurd (Nat.succ.inj q_) (by first | assumption | exact Ne9.p (by assumption)) | exact absurd q_.symm (Nat.succ_ne_zero _) | exact absurd (Nat.succ.inj q_).symm (by first | assumption | exact Ne9.p (by assumption))) | (intro q_; (try dsimp only at q_); rcases q_ with q_ | q_ | q_ | q_ <;> first | exact absurd q_ (by first | assumption | exact Ne9.p (by assumption)) | exact absurd (Nat.succ.inj q_) (by first | assumption | exact Ne9.p (by assumption)) | exact absurd q_.symm (Nat.succ_ne_zero _) | exact absurd (Nat.succ.inj q_).symm (by first | assumption | exact Ne9.p (by assumption))) | (intro q_; (try dsimp only at q_); rcases q_ with q_ | q_ <;> first | exact absurd q_ (by first | assumption | exact Ne9.p (by assumption)) | exact absurd (Nat.succ.inj q_) (by first | assumption | exact Ne9.p (by assumption)) | exact absurd q_.symm (Nat.succ_ne_zero _) | exact absurd (Nat.succ.inj q_).symm (by first | assumption | exact Ne9.p (by assumption))) | (intro q_; (try dsimp only at q_); omega))
        refine vx_ret ?_
        exact h_areturn hx hb hlk hret (by first | exact Or.inl ⟨_, rfl⟩ | exact Or.inr ⟨_, rfl⟩) hR hL ⟨s3, L, M, rSay_4 hr1 hr2 hr3, hwd1, hwd3, ⟨fs, ss, hF_q9_w_44, hP_fs_w_44, hP_ss_w_44⟩, hn_q9, hP_q_w_44, hsw3, hU⟩ (by omega) (by omega) rfl rfl dX11_rule_22

set_option maxHeartbeats 4000000 in
set_option maxRecDepth 100000 in
/-- SpokenMarks$Scanner.rule -/
theorem sc_rulr (l : Launch) (G : Gl) (w : Wd) (q : Nat) (bf rb : Nat) (T : List Int) (s : Sc) (hK : TkAt G w 9 [] q bf T s) (hB : BufAt G w bf rb T) (hqb : rb ≠ q + 1) (hsw : ScW T s) (hG : RegW w) : HMX l yX11_rule cX11_rule 2 (some (.object "SpokenMarks$Rule")) 11 16 120 G [.ref q] w (QR G (fun z_ w_ => ∃ (s_ : Sc) (L M : List Int), rSay T (.inr s) = (.inr s_, L, M) ∧ (Wrd L ∧ L ≠ []) ∧ (Wrd M ∧ M ≠ []) ∧ RuAt G w_ z_ (L, M) ∧ w z_ = none ∧ TkAt G w_ 9 [] q bf T s_ ∧ ScW T s_ ∧ Up (fun q_ => q_ = q + 1) w w_)) (fun q_ E_ w_ => ∃ x_ : Nat × Int, (rSay T (.inr s)).1 = .inl x_ ∧ TxE (fun q_ => q_ = q + 1) w x_.1 x_.2 q_ E_ w_) := by
  refine HMX.mk (by decide +kernel) (Nat.le_of_ble_eq_true rfl) ?_
  intro p9 e9 s9 m9 a9 b9 meth9 c9 ls X hret hlk hnm htab hl H hR
  have hx := X.1.1
  have hb := X.1.2.1
  have hl : lv_has ls 2 [(0, .ref q)] := hl
  have hL : LK G [] := fun q h => absurd h List.not_mem_nil
  generalize ([] : List Loc) = locs at hL ⊢
  have hU : Up (fun q_ => q_ = q + 1) w w := Up.rf hG
  refine lv_aload_n hx hb dX11_rule_0 rfl (lv_at hl 0 rfl) ?_
  -- call SpokenMarks$Scanner.word
  refine h_xR (h_xrunU (x := ⟨"SpokenMarks$Scanner", "word", "()Ljava/lang/String;"⟩) (owner := "SpokenMarks$Scanner") X hR (sc_wrdr l G w q bf rb T s hK hB hqb hsw hU.2.2.1) (by decide) pn_yX11_word (hK.c rfl) q2201 q2204 (h_declC X q2202 q2207) (X.1.2.2.2.2 _ q2205) q2202 q162 q2207 ⟨by decide, by decide⟩ hl.1 (Nat.le_of_ble_eq_true rfl) dX11_rule_1 ⟨by omega, by omega⟩) hL (fun xq_3 E_4 ce_ w_5 hx__6 H locs hR hL hce_ hcv_ hcl_ => ?_) (fun fs w_1 hp_2 H locs hR hL => ?_)
  ·
    obtain ⟨x_7, hrd_8, hxx_9⟩ := hx__6
    exact h_xout (fun x_ hx_ => htab x_ hx_ _) hlk hce_ hcv_ hcl_ hR hL ⟨x_7, rSay_1 hrd_8, TxE.tr hU hxx_9 (fun q_ h_ => by first | exact absurd h_ id | exact Or.inl h_ | exact Or.inr (up_nw h_ (by assumption)) | exact Or.inl (Or.inl h_) | exact Or.inl (Or.inr h_) | exact Or.inl (Or.inr (Or.inl h_)) | exact Or.inl (Or.inr (Or.inr h_)) | exact Or.inl (Or.inr (Or.inr (Or.inl h_))) | exact Or.inl (Or.inr (Or.inr (Or.inr h_))) | exact Or.inl (h_.elim Or.inl (fun h_ => Or.inr (Or.inl h_))) | ((try dsimp only at h_); first | exact Or.inl (by omega) | exact Or.inr ⟨by omega, by subst h_; rw [Nat.add_sub_cancel]; assumption⟩)) hG⟩ (by omega) (by omega) rfl rfl
  ·
    obtain ⟨s1, L, hr1, hwd1, hS__10, hK__11, hsw1, u_12⟩ := hp_2
    have hP_bf_w_1 := hB.mv (u_12.1) (by first | exact id | exact fun q_ => absurd q_ (by first | assumption | exact Ne9.p (by assumption)) | exact fun q_ => absurd (Nat.succ.inj q_) (by first | assumption | exact Ne9.p (by assumption)) | exact fun q_ => absurd q_.symm (Nat.succ_ne_zero _) | exact fun q_ => absurd (Nat.succ.inj q_).symm (by first | assumption | exact Ne9.p (by assumption)) | (intro q_; (try dsimp only at q_); rcases q_ with q_ | q_ | q_ | q_ | q_ <;> first | exact absurd q_ (by first | assumption | exact Ne9.p (by assumption)) | exact absurd (Nat.succ.inj q_) (by first | assumption | exact Ne9.p (by assumption)) | exact absurd q_.symm (Nat.succ_ne_zero _) | exact absurd (Nat.succ.inj q_).symm (by first | assumption | exact Ne9.p (by assumption))) | (intro q_; (try dsimp only at q_); rcases q_ with q_ | q_ | q_ | q_ <;> first | exact absurd q_ (by first | assumption | exact Ne9.p (by assumption)) | exact absurd (Nat.succ.inj q_) (by first | assumption | exact Ne9.p (by assumption)) | exact absurd q_.symm (Nat.succ_ne_zero _) | exact absurd (Nat.succ.inj q_).symm (by first | assumption | exact Ne9.p (by assumption))) | (intro q_; (try dsimp only at q_); rcases q_ with q_ | q_ <;> first | exact absurd q_ (by first | assumption | exact Ne9.p (by assumption)) | exact absurd (Nat.succ.inj q_) (by first | assumption | exact Ne9.p (by assumption)) | exact absurd q_.symm (Nat.succ_ne_zero _) | exact absurd (Nat.succ.inj q_).symm (by first | assumption | exact Ne9.p (by assumption))) | (intro q_; (try dsimp only at q_); omega))
    have hU : Up (fun q_ => q_ = q + 1) w w_1 := hU.tr u_12 (fun q_ h_ => by first | exact absurd h_ id | exact Or.inl h_ | exact Or.inr (up_nw h_ (by assumption)) | exact Or.inl (Or.inl h_) | exact Or.inl (Or.inr h_) | exact Or.inl (Or.inr (Or.inl h_)) | exact Or.inl (Or.inr (Or.inr h_)) | exact Or.inl (Or.inr (Or.inr (Or.inl h_))) | exact Or.inl (Or.inr (Or.inr (Or.inr h_))) | exact Or.inl (h_.elim Or.inl (fun h_ => Or.inr (Or.inl h_))) | ((try dsimp only at h_); first | exact Or.inl (by omega) | exact Or.inr ⟨by omega, by subst h_; rw [Nat.add_sub_cancel]; assumption⟩)) hG
    refine lv_astore_n (lv' := [(1, .ref fs), (0, .ref q)]) hx hb dX11_rule_4 rfl hl (by decide) rfl (fun ls hl => ?_)
    refine lv_aload_n hx hb dX11_rule_5 rfl (lv_at hl 1 rfl) ?_
    refine h_iconst hx hb dX11_rule_6 ?_
    -- call SpokenMarks$Scanner.symbol
    refine h_xV (h_xrunU (x := ⟨"SpokenMarks$Scanner", "symbol", "(I)V"⟩) (owner := "SpokenMarks$Scanner") X hR (sc_symr l G w_1 q bf rb T s1 hK__11 4 (by omega) hP_bf_w_1 hqb hsw1 hU.2.2.1) (by decide) pn_yX11_symbol (hK__11.c rfl) q2209 q3398 (h_declC X q2178 q2179) (X.1.2.2.2.2 _ q3399) q2178 q162 q2179 ⟨by decide, by decide⟩ hl.1 (Nat.le_of_ble_eq_true rfl) dX11_rule_7 ⟨by omega, by omega⟩) hL (fun xq_16 E_17 ce_ w_18 hx__19 H locs hR hL hce_ hcv_ hcl_ => ?_) (fun w_14 hp_15 H locs hR hL => ?_)
    ·
      obtain ⟨x_20, hrd_21, hxx_22⟩ := hx__19
      exact h_xout (fun x_ hx_ => htab x_ hx_ _) hlk hce_ hcv_ hcl_ hR hL ⟨x_20, rSay_2 hr1 hrd_21, TxE.tr hU hxx_22 (fun q_ h_ => by first | exact absurd h_ id | exact Or.inl h_ | exact Or.inr (up_nw h_ (by assumption)) | exact Or.inl (Or.inl h_) | exact Or.inl (Or.inr h_) | exact Or.inl (Or.inr (Or.inl h_)) | exact Or.inl (Or.inr (Or.inr h_)) | exact Or.inl (Or.inr (Or.inr (Or.inl h_))) | exact Or.inl (Or.inr (Or.inr (Or.inr h_))) | exact Or.inl (h_.elim Or.inl (fun h_ => Or.inr (Or.inl h_))) | ((try dsimp only at h_); first | exact Or.inl (by omega) | exact Or.inr ⟨by omega, by subst h_; rw [Nat.add_sub_cancel]; assumption⟩)) hG⟩ (by omega) (by omega) rfl rfl
    ·
      obtain ⟨s2, hr2, hK__23, hsw2, u_24⟩ := hp_15
      have hP_bf_w_14 := hP_bf_w_1.mv (u_24.1) (by first | exact id | exact fun q_ => absurd q_ (by first | assumption | exact Ne9.p (by assumption)) | exact fun q_ => absurd (Nat.succ.inj q_) (by first | assumption | exact Ne9.p (by assumption)) | exact fun q_ => absurd q_.symm (Nat.succ_ne_zero _) | exact fun q_ => absurd (Nat.succ.inj q_).symm (by first | assumption | exact Ne9.p (by assumption)) | (intro q_; (try dsimp only at q_); rcases q_ with q_ | q_ | q_ | q_ | q_ <;> first | exact absurd q_ (by first | assumption | exact Ne9.p (by assumption)) | exact absurd (Nat.succ.inj q_) (by first | assumption | exact Ne9.p (by assumption)) | exact absurd q_.symm (Nat.succ_ne_zero _) | exact absurd (Nat.succ.inj q_).symm (by first | assumption | exact Ne9.p (by assumption))) | (intro q_; (try dsimp only at q_); rcases q_ with q_ | q_ | q_ | q_ <;> first | exact absurd q_ (by first | assumption | exact Ne9.p (by assumption)) | exact absurd (Nat.succ.inj q_) (by first | assumption | exact Ne9.p (by assumption)) | exact absurd q_.symm (Nat.succ_ne_zero _) | exact absurd (Nat.succ.inj q_).symm (by first | assumption | exact Ne9.p (by assumption))) | (intro q_; (try dsimp only at q_); rcases q_ with q_ | q_ <;> first | exact absurd q_ (by first | assumption | exact Ne9.p (by assumption)) | exact absurd (Nat.succ.inj q_) (by first | assumption | exact Ne9.p (by assumption)) | exact absurd q_.symm (Nat.succ_ne_zero _) | exact absurd (Nat.succ.inj q_).symm (by first | assumption | exact Ne9.p (by assumption))) | (intro q_; (try dsimp only at q_); omega))
      have hP_fs_w_14 := hS__10.mv (u_24.1) (by first | exact id | exact fun q_ => absurd q_ (by first | assumption | exact Ne9.p (by assumption)) | exact fun q_ => absurd (Nat.succ.inj q_) (by first | assumption | exact Ne9.p (by assumption)) | exact fun q_ => absurd q_.symm (Nat.succ_ne_zero _) | exact fun q_ => absurd (Nat.succ.inj q_).symm (by first | assumption | exact Ne9.p (by assumption)) | (intro q_; (try dsimp only at q_); rcases q_ with q_ | q_ | q_ | q_ | q_ <;> first | exact absurd q_ (by first | assumption | exact Ne9.p (by assumption)) | exact absurd (Nat.succ.inj q_) (by first | assumption | exact Ne9.p (by assumption)) | exact absurd q_.symm (Nat.succ_ne_zero _) | exact absurd (Nat.succ.inj q_).symm (by first | assumption | exact Ne9.p (by assumption))) | (intro q_; (try dsimp only at q_); rcases q_ with q_ | q_ | q_ | q_ <;> first | exact absurd q_ (by first | assumption | exact Ne9.p (by assumption)) | exact absurd (Nat.succ.inj q_) (by first | assumption | exact Ne9.p (by assumption)) | exact absurd q_.symm (Nat.succ_ne_zero _) | exact absurd (Nat.succ.inj q_).symm (by first | assumption | exact Ne9.p (by assumption))) | (intro q_; (try dsimp only at q_); rcases q_ with q_ | q_ <;> first | exact absurd q_ (by first | assumption | exact Ne9.p (by assumption)) | exact absurd (Nat.succ.inj q_) (by first | assumption | exact Ne9.p (by assumption)) | exact absurd q_.symm (Nat.succ_ne_zero _) | exact absurd (Nat.succ.inj q_).symm (by first | assumption | exact Ne9.p (by assumption))) | (intro q_; (try dsimp only at q_); omega))
      have hU : Up (fun q_ => q_ = q + 1) w w_14 := hU.tr u_24 (fun q_ h_ => by first | exact absurd h_ id | exact Or.inl h_ | exact Or.inr (up_nw h_ (by assumption)) | exact Or.inl (Or.inl h_) | exact Or.inl (Or.inr h_) | exact Or.inl (Or.inr (Or.inl h_)) | exact Or.inl (Or.inr (Or.inr h_)) | exact Or.inl (Or.inr (Or.inr (Or.inl h_))) | exact Or.inl (Or.inr (Or.inr (Or.inr h_))) | exact Or.inl (h_.elim Or.inl (fun h_ => Or.inr (Or.inl h_))) | ((try dsimp only at h_); first | exact Or.inl (by omega) | exact Or.inr ⟨by omega, by subst h_; rw [Nat.add_sub_cancel]; assumption⟩)) hG
      refine h_new X hR (ci := 6) (fun q => q + 1) rfl in_X4 tyX4_ok q2210 q637 q145 [.null, .null] (by intro j hj; rcases (show j = 0 ∨ j = 1 by omega) with rfl | rfl <;> rfl) (by omega) (by omega) dX11_rule_10 (fun q9 hq9 w_25 ew_26 H hR => ?_)
      have hn_q9 : w q9 = none := hU.2.1 _ hq9
      have hU : Up (fun q_ => q_ = q + 1) w w_25 := by rw [ew_26]; exact hU.new hq9 (by first | exact Or.inr (Or.inl rfl) | exact Or.inl rfl | exact Or.inr (Or.inr (by assumption)))
      have hF_q9_w_25 : w_25 q9 = some (q9 + 1, oE 6 [.null, .null]) := by rw [ew_26]; exact wset_eq _ _ _
      have ne_bf_q9 : Ne9 bf q9 := sm_ne hP_bf_w_14.sm hq9
      have hP_bf_w_25 := hP_bf_w_14.mv (w1 := w_25) (S := fun _ => False) (by rw [ew_26]; exact Fr.add hq9 _) id
      have ne_fs_q9 : Ne9 fs q9 := sm_ne hP_fs_w_14.sm hq9
      have hP_fs_w_25 := hP_fs_w_14.mv (w1 := w_25) (S := fun _ => False) (by rw [ew_26]; exact Fr.add hq9 _) id
      have ne_q_q9 : Ne9 q q9 := sm_ne hK__23.sm hq9
      have hP_q_w_25 := hK__23.mv (w1 := w_25) (S := fun _ => False) (by rw [ew_26]; exact Fr.add hq9 _) ⟨id, id⟩
      have hbr_q9 : Ne9 rb (q9 + 1) := hB.nr hG hn_q9
      refine lv_dup hx hb dX11_rule_13 rfl ?_
      refine lv_aload_n hx hb dX11_rule_14 rfl (lv_at hl 0 rfl) ?_
      refine lv_aload_n hx hb dX11_rule_15 rfl (lv_at hl 1 rfl) ?_
      -- call SpokenMarks$Scanner.word
      refine h_xR (h_xrunU (x := ⟨"SpokenMarks$Scanner", "word", "()Ljava/lang/String;"⟩) (owner := "SpokenMarks$Scanner") X hR (sc_wrdr l G w_25 q bf rb T s2 hP_q_w_25 hP_bf_w_25 hqb hsw2 hU.2.2.1) (by decide) pn_yX11_word (hP_q_w_25.c rfl) q2201 q2204 (h_declC X q2202 q2207) (X.1.2.2.2.2 _ q2205) q2202 q162 q2207 ⟨by decide, by decide⟩ hl.1 (Nat.le_of_ble_eq_true rfl) dX11_rule_16 ⟨by omega, by omega⟩) hL (fun xq_29 E_30 ce_ w_31 hx__32 H locs hR hL hce_ hcv_ hcl_ => ?_) (fun ss w_27 hp_28 H locs hR hL => ?_)
      ·
        obtain ⟨x_33, hrd_34, hxx_35⟩ := hx__32
        exact h_xout (fun x_ hx_ => htab x_ hx_ _) hlk hce_ hcv_ hcl_ hR hL ⟨x_33, rSay_3 hr1 hr2 hrd_34, TxE.tr hU hxx_35 (fun q_ h_ => by first | exact absurd h_ id | exact Or.inl h_ | exact Or.inr (up_nw h_ (by assumption)) | exact Or.inl (Or.inl h_) | exact Or.inl (Or.inr h_) | exact Or.inl (Or.inr (Or.inl h_)) | exact Or.inl (Or.inr (Or.inr h_)) | exact Or.inl (Or.inr (Or.inr (Or.inl h_))) | exact Or.inl (Or.inr (Or.inr (Or.inr h_))) | exact Or.inl (h_.elim Or.inl (fun h_ => Or.inr (Or.inl h_))) | ((try dsimp only at h_); first | exact Or.inl (by omega) | exact Or.inr ⟨by omega, by subst h_; rw [Nat.add_sub_cancel]; assumption⟩)) hG⟩ (by omega) (by omega) rfl rfl
      ·
        obtain ⟨s3, M, hr3, hwd3, hS__36, hK__37, hsw3, u_38⟩ := hp_28
        have hF_q9_w_27 : w_27 q9 = some (q9 + 1, oE 6 [.null, .null]) := u_38.1 _ _ _ hF_q9_w_25 (by first | exact id | exact fun q_ => absurd q_ (by first | assumption | exact Ne9.p (by assumption)) | exact fun q_ => absurd (Nat.succ.inj q_) (by first | assumption | exact Ne9.p (by assumption)) | exact fun q_ => absurd q_.symm (Nat.succ_ne_zero _) | exact fun q_ => absurd (Nat.succ.inj q_).symm (by first | assumption | exact Ne9.p (by assumption)) | (intro q_; (try dsimp only at q_); rcases q_ with q_ | q_ | q_ | q_ | q_ <;> first | exact absurd q_ (by first | assumption | exact Ne9.p (by assumption)) | exact absurd (Nat.succ.inj q_) (by first | assumption | exact Ne9.p (by assumption)) | exact absurd q_.symm (Nat.succ_ne_zero _) | exact absurd (Nat.succ.inj q_).symm (by first | assumption | exact Ne9.p (by assumption))) | (intro q_; (try dsimp only at q_); rcases q_ with q_ | q_ | q_ | q_ <;> first | exact absurd q_ (by first | assumption | exact Ne9.p (by assumption)) | exact absurd (Nat.succ.inj q_) (by first | assumption | exact Ne9.p (by assumption)) | exact absurd q_.symm (Nat.succ_ne_zero _) | exact absurd (Nat.succ.inj q_).symm (by first | assumption | exact Ne9.p (by assumption))) | (intro q_; (try dsimp only at q_); rcases q_ with q_ | q_ <;> first | exact absurd q_ (by first | assumption | exact Ne9.p (by assumption)) | exact absurd (Nat.succ.inj q_) (by first | assumption | exact Ne9.p (by assumption)) | exact absurd q_.symm (Nat.succ_ne_zero _) | exact absurd (Nat.succ.inj q_).symm (by first | assumption | exact Ne9.p (by assumption))) | (intro q_; (try dsimp only at q_); omega))
        have hP_bf_w_27 := hP_bf_w_25.mv (u_38.1) (by first | exact id | exact fun q_ => absurd q_ (by first | assumption | exact Ne9.p (by assumption)) | exact fun q_ => absurd (Nat.succ.inj q_) (by first | assumption | exact Ne9.p (by assumption)) | exact fun q_ => absurd q_.symm (Nat.succ_ne_zero _) | exact fun q_ => absurd (Nat.succ.inj q_).symm (by first | assumption | exact Ne9.p (by assumption)) | (intro q_; (try dsimp only at q_); rcases q_ with q_ | q_ | q_ | q_ | q_ <;> first | exact absurd q_ (by first | assumption | exact Ne9.p (by assumption)) | exact absurd (Nat.succ.inj q_) (by first | assumption | exact Ne9.p (by assumption)) | exact absurd q_.symm (Nat.succ_ne_zero _) | exact absurd (Nat.succ.inj q_).symm (by first | assumption | exact Ne9.p (by assumption))) | (intro q_; (try dsimp only at q_); rcases q_ with q_ | q_ | q_ | q_ <;> first | exact absurd q_ (by first | assumption | exact Ne9.p (by assumption)) | exact absurd (Nat.succ.inj q_) (by first | assumption | exact Ne9.p (by assumption)) | exact absurd q_.symm (Nat.succ_ne_zero _) | exact absurd (Nat.succ.inj q_).symm (by first | assumption | exact Ne9.p (by assumption))) | (intro q_; (try dsimp only at q_); rcases q_ with q_ | q_ <;> first | exact absurd q_ (by first | assumption | exact Ne9.p (by assumption)) | exact absurd (Nat.succ.inj q_) (by first | assumption | exact Ne9.p (by assumption)) | exact absurd q_.symm (Nat.succ_ne_zero _) | exact absurd (Nat.succ.inj q_).symm (by first | assumption | exact Ne9.p (by assumption))) | (intro q_; (try dsimp only at q_); omega))
        have hP_fs_w_27 := hP_fs_w_25.mv (u_38.1) (by first | exact id | exact fun q_ => absurd q_ (by first | assumption | exact Ne9.p (by assumption)) | exact fun q_ => absurd (Nat.succ.inj q_) (by first | assumption | exact Ne9.p (by assumption)) | exact fun q_ => absurd q_.symm (Nat.succ_ne_zero _) | exact fun q_ => absurd (Nat.succ.inj q_).symm (by first | assumption | exact Ne9.p (by assumption)) | (intro q_; (try dsimp only at q_); rcases q_ with q_ | q_ | q_ | q_ | q_ <;> first | exact absurd q_ (by first | assumption | exact Ne9.p (by assumption)) | exact absurd (Nat.succ.inj q_) (by first | assumption | exact Ne9.p (by assumption)) | exact absurd q_.symm (Nat.succ_ne_zero _) | exact absurd (Nat.succ.inj q_).symm (by first | assumption | exact Ne9.p (by assumption))) | (intro q_; (try dsimp only at q_); rcases q_ with q_ | q_ | q_ | q_ <;> first | exact absurd q_ (by first | assumption | exact Ne9.p (by assumption)) | exact absurd (Nat.succ.inj q_) (by first | assumption | exact Ne9.p (by assumption)) | exact absurd q_.symm (Nat.succ_ne_zero _) | exact absurd (Nat.succ.inj q_).symm (by first | assumption | exact Ne9.p (by assumption))) | (intro q_; (try dsimp only at q_); rcases q_ with q_ | q_ <;> first | exact absurd q_ (by first | assumption | exact Ne9.p (by assumption)) | exact absurd (Nat.succ.inj q_) (by first | assumption | exact Ne9.p (by assumption)) | exact absurd q_.symm (Nat.succ_ne_zero _) | exact absurd (Nat.succ.inj q_).symm (by first | assumption | exact Ne9.p (by assumption))) | (intro q_; (try dsimp only at q_); omega))
        have hU : Up (fun q_ => q_ = q + 1) w w_27 := hU.tr u_38 (fun q_ h_ => by first | exact absurd h_ id | exact Or.inl h_ | exact Or.inr (up_nw h_ (by assumption)) | exact Or.inl (Or.inl h_) | exact Or.inl (Or.inr h_) | exact Or.inl (Or.inr (Or.inl h_)) | exact Or.inl (Or.inr (Or.inr h_)) | exact Or.inl (Or.inr (Or.inr (Or.inl h_))) | exact Or.inl (Or.inr (Or.inr (Or.inr h_))) | exact Or.inl (h_.elim Or.inl (fun h_ => Or.inr (Or.inl h_))) | ((try dsimp only at h_); first | exact Or.inl (by omega) | exact Or.inr ⟨by omega, by subst h_; rw [Nat.add_sub_cancel]; assumption⟩)) hG
        -- call SpokenMarks$Rule.<init>
        refine h_kV (h_runI X hR (ru_init l G w_27 (q9 + 1) (by omega) q9 fs ss hF_q9_w_27 hU.2.2.1) pn_yX4_init rfl q2211 q641 q145 q642 ⟨by decide, by decide⟩ hl.1 (Nat.le_of_ble_eq_true rfl) dX11_rule_19 ⟨by omega, by omega⟩) hL (fun w_40 hp_41 H locs hR hL => ?_)
        obtain ⟨hO__43, u_42⟩ := hp_41
        have hP_bf_w_40 := hP_bf_w_27.mv (u_42.1) (by first | exact id | exact fun q_ => absurd q_ (by first | assumption | exact Ne9.p (by assumption)) | exact fun q_ => absurd (Nat.succ.inj q_) (by first | assumption | exact Ne9.p (by assumption)) | exact fun q_ => absurd q_.symm (Nat.succ_ne_zero _) | exact fun q_ => absurd (Nat.succ.inj q_).symm (by first | assumption | exact Ne9.p (by assumption)) | (intro q_; (try dsimp only at q_); rcases q_ with q_ | q_ | q_ | q_ | q_ <;> first | exact absurd q_ (by first | assumption | exact Ne9.p (by assumption)) | exact absurd (Nat.succ.inj q_) (by first | assumption | exact Ne9.p (by assumption)) | exact absurd q_.symm (Nat.succ_ne_zero _) | exact absurd (Nat.succ.inj q_).symm (by first | assumption | exact Ne9.p (by assumption))) | (intro q_; (try dsimp only at q_); rcases q_ with q_ | q_ | q_ | q_ <;> first | exact absurd q_ (by first | assumption | exact Ne9.p (by assumption)) | exact absurd (Nat.succ.inj q_) (by first | assumption | exact Ne9.p (by assumption)) | exact absurd q_.symm (Nat.succ_ne_zero _) | exact absurd (Nat.succ.inj q_).symm (by first | assumption | exact Ne9.p (by assumption))) | (intro q_; (try dsimp only at q_); rcases q_ with q_ | q_ <;> first | exact absurd q_ (by first | assumption | exact Ne9.p (by assumption)) | exact absurd (Nat.succ.inj q_) (by first | assumption | exact Ne9.p (by assumption)) | exact absurd q_.symm (Nat.succ_ne_zero _) | exact absurd (Nat.succ.inj q_).symm (by first | assumption | exact Ne9.p (by assumption))) | (intro q_; (try dsimp only at q_); omega))
        have hP_fs_w_40 := hP_fs_w_27.mv (u_42.1) (by first | exact id | exact fun q_ => absurd q_ (by first | assumption | exact Ne9.p (by assumption)) | exact fun q_ => absurd (Nat.succ.inj q_) (by first | assumption | exact Ne9.p (by assumption)) | exact fun q_ => absurd q_.symm (Nat.succ_ne_zero _) | exact fun q_ => absurd (Nat.succ.inj q_).symm (by first | assumption | exact Ne9.p (by assumption)) | (intro q_; (try dsimp only at q_); rcases q_ with q_ | q_ | q_ | q_ | q_ <;> first | exact absurd q_ (by first | assumption | exact Ne9.p (by assumption)) | exact absurd (Nat.succ.inj q_) (by first | assumption | exact Ne9.p (by assumption)) | exact absurd q_.symm (Nat.succ_ne_zero _) | exact absurd (Nat.succ.inj q_).symm (by first | assumption | exact Ne9.p (by assumption))) | (intro q_; (try dsimp only at q_); rcases q_ with q_ | q_ | q_ | q_ <;> first | exact absurd q_ (by first | assumption | exact Ne9.p (by assumption)) | exact absurd (Nat.succ.inj q_) (by first | assumption | exact Ne9.p (by assumption)) | exact absurd q_.symm (Nat.succ_ne_zero _) | exact absurd (Nat.succ.inj q_).symm (by first | assumption | exact Ne9.p (by assumption))) | (intro q_; (try dsimp only at q_); rcases q_ with q_ | q_ <;> first | exact absurd q_ (by first | assumption | exact Ne9.p (by assumption)) | exact absurd (Nat.succ.inj q_) (by first | assumption | exact Ne9.p (by assumption)) | exact absurd q_.symm (Nat.succ_ne_zero _) | exact absurd (Nat.succ.inj q_).symm (by first | assumption | exact Ne9.p (by assumption))) | (intro q_; (try dsimp only at q_); omega))
        have hP_q_w_40 := hK__37.mv (u_42.1) ⟨(by first | exact id | exact fun q_ => absurd q_ (by first | assumption | exact Ne9.p (by assumption)) | exact fun q_ => absurd (Nat.succ.inj q_) (by first | assumption | exact Ne9.p (by assumption)) | exact fun q_ => absurd q_.symm (Nat.succ_ne_zero _) | exact fun q_ => absurd (Nat.succ.inj q_).symm (by first | assumption | exact Ne9.p (by assumption)) | (intro q_; (try dsimp only at q_); rcases q_ with q_ | q_ | q_ | q_ | q_ <;> first | exact absurd q_ (by first | assumption | exact Ne9.p (by assumption)) | exact absurd (Nat.succ.inj q_) (by first | assumption | exact Ne9.p (by assumption)) | exact absurd q_.symm (Nat.succ_ne_zero _) | exact absurd (Nat.succ.inj q_).symm (by first | assumption | exact Ne9.p (by assumption))) | (intro q_; (try dsimp only at q_); rcases q_ with q_ | q_ | q_ | q_ <;> first | exact absurd q_ (by first | assumption | exact Ne9.p (by assumption)) | exact absurd (Nat.succ.inj q_) (by first | assumption | exact Ne9.p (by assumption)) | exact absurd q_.symm (Nat.succ_ne_zero _) | exact absurd (Nat.succ.inj q_).symm (by first | assumption | exact Ne9.p (by assumption))) | (intro q_; (try dsimp only at q_); rcases q_ with q_ | q_ <;> first | exact absurd q_ (by first | assumption | exact Ne9.p (by assumption)) | exact absurd (Nat.succ.inj q_) (by first | assumption | exact Ne9.p (by assumption)) | exact absurd q_.symm (Nat.succ_ne_zero _) | exact absurd (Nat.succ.inj q_).symm (by first | assumption | exact Ne9.p (by assumption))) | (intro q_; (try dsimp only at q_); omega)), (by first | exact id | exact fun q_ => absurd q_ (by first | assumption | exact Ne9.p (by assumption)) | exact fun q_ => absurd (Nat.succ.inj q_) (by first | assumption | exact Ne9.p (by assumption)) | exact fun q_ => absurd q_.symm (Nat.succ_ne_zero _) | exact fun q_ => absurd (Nat.succ.inj q_).symm (by first | assumption | exact Ne9.p (by assumption)) | (intro q_; (try dsimp only at q_); rcases q_ with q_ | q_ | q_ | q_ | q_ <;> first | exact absurd q_ (by first | assumption | exact Ne9.p (by assumption)) | exact absurd (Nat.succ.inj q_) (by first | assumption | exact Ne9.p (by assumption)) | exact absurd q_.symm (Nat.succ_ne_zero _) | exact absurd (Nat.succ.inj q_).symm (by first | assumption | exact Ne9.p (by assumption))) | (intro q_; (try dsimp only at q_); rcases q_ with q_ | q_ | q_ | q_ <;> first | exact absurd q_ (by first | assumption | exact Ne9.p (by assumption)) | exact absurd (Nat.succ.inj q_) (by first | assumption | exact Ne9.p (by assumption)) | exact absurd q_.symm (Nat.succ_ne_zero _) | exact absurd (Nat.succ.inj q_).symm (by first | assumption | exact Ne9.p (by assumption))) | (intro q_; (try dsimp only at q_); rcases q_ with q_ | q_ <;> first | exact absurd q_ (by first | assumption | exact Ne9.p (by assumption)) | exact absurd (Nat.succ.inj q_) (by first | assumption | exact Ne9.p (by assumption)) | exact absurd q_.symm (Nat.succ_ne_zero _) | exact absurd (Nat.succ.inj q_).symm (by first | assumption | exact Ne9.p (by assumption))) | (intro q_; (try dsimp only at q_); omega))⟩
        have hP_ss_w_40 := hS__36.mv (u_42.1) (by first | exact id | exact fun q_ => absurd q_ (by first | assumption | exact Ne9.p (by assumption)) | exact fun q_ => absurd (Nat.succ.inj q_) (by first | assumption | exact Ne9.p (by assumption)) | exact fun q_ => absurd q_.symm (Nat.succ_ne_zero _) | exact fun q_ => absurd (Nat.succ.inj q_).symm (by first | assumption | exact Ne9.p (by assumption)) | (intro q_; (try dsimp only at q_); rcases q_ with q_ | q_ | q_ | q_ | q_ <;> first | exact absurd q_ (by first | assumption | exact Ne9.p (by assumption)) | exact absurd (Nat.succ.inj q_) (by first | assumption | exact Ne9.p (by assumption)) | exact absurd q_.symm (Nat.succ_ne_zero _) | exact absurd (Nat.succ.inj q_).symm (by first | assumption | exact Ne9.p (by assumption))) | (intro q_; (try dsimp only at q_); rcases q_ with q_ | q_ | q_ | q_ <;> first | exact absurd q_ (by first | assumption | exact Ne9.p (by assumption)) | exact absurd (Nat.succ.inj q_) (by first | assumption | exact Ne9.p (by assumption)) | exact absurd q_.symm (Nat.succ_ne_zero _) | exact absurd (Nat.succ.inj q_).symm (by first | assumption | exact Ne9.p (by assumption))) | (intro q_; (try dsimp only at q_); rcases q_ with q_ | q_ <;> first | exact absurd q_ (by first | assumption | exact Ne9.p (by assumption)) | exact absurd (Nat.succ.inj q_) (by first | assumption | exact Ne9.p (by assumption)) | exact absurd q_.symm (Nat.succ_ne_zero _) | exact absurd (Nat.succ.inj q_).symm (by first | assumption | exact Ne9.p (by assumption))) | (intro q_; (try dsimp only at q_); omega))
        have hU : Up (fun q_ => q_ = q + 1) w w_40 := hU.tr u_42 (fun q_ h_ => by first | exact absurd h_ id | exact Or.inl h_ | exact Or.inr (up_nw h_ (by assumption)) | exact Or.inl (Or.inl h_) | exact Or.inl (Or.inr h_) | exact Or.inl (Or.inr (Or.inl h_)) | exact Or.inl (Or.inr (Or.inr h_)) | exact Or.inl (Or.inr (Or.inr (Or.inl h_))) | exact Or.inl (Or.inr (Or.inr (Or.inr h_))) | exact Or.inl (h_.elim Or.inl (fun h_ => Or.inr (Or.inl h_))) | ((try dsimp only at h_); first | exact Or.inl (by omega) | exact Or.inr ⟨by omega, by subst h_; rw [Nat.add_sub_cancel]; assumption⟩)) hG
        have hR := hR.retag (0) hO__43 (Nat.succ_ne_zero _)
        obtain ⟨w_44, ew_45⟩ : ∃ w_ : Wd, w_ = wset w_40 q9 (0, oE 6 [.ref fs, .ref ss]) := ⟨_, rfl⟩
        rw [← ew_45] at hR
        have hU : Up (fun q_ => q_ = q + 1) w w_44 := by rw [ew_45]; exact hU.tag hO__43 hn_q9 (Or.inl rfl)
        have hF_q9_w_44 : w_44 q9 = some (0, oE 6 [.ref fs, .ref ss]) := by rw [ew_45]; exact wset_eq _ _ _
        have hP_bf_w_44 := hP_bf_w_40.mv (w1 := w_44) (S := fun q_ => q_ = q9 + 1) (by rw [ew_45]; exact Fr.one hO__43 _) (by first | exact id | exact fun q_ => absurd q_ (by first | assumption | exact Ne9.p (by assumption)) | exact fun q_ => absurd (Nat.succ.inj q_) (by first | assumption | exact Ne9.p (by assumption)) | exact fun q_ => absurd q_.symm (Nat.succ_ne_zero _) | exact fun q_ => absurd (Nat.succ.inj q_).symm (by first | assumption | exact Ne9.p (by assumption)) | (intro q_; (try dsimp only at q_); rcases q_ with q_ | q_ | q_ | q_ | q_ <;> first | exact absurd q_ (by first | assumption | exact Ne9.p (by assumption)) | exact absurd (Nat.succ.inj q_) (by first | assumption | exact Ne9.p (by assumption)) | exact absurd q_.symm (Nat.succ_ne_zero _) | exact absurd (Nat.succ.inj q_).symm (by first | assumption | exact Ne9.p (by assumption))) | (intro q_; (try dsimp only at q_); rcases q_ with q_ | q_ | q_ | q_ <;> first | exact absurd q_ (by first | assumption | exact Ne9.p (by assumption)) | exact absurd (Nat.succ.inj q_) (by first | assumption | exact Ne9.p (by assumption)) | exact absurd q_.symm (Nat.succ_ne_zero _) | exact absurd (Nat.succ.inj q_).symm (by first | assumption | exact Ne9.p (by assumption))) | (intro q_; (try dsimp only at q_); rcases q_ with q_ | q_ <;> first | exact absurd q_ (by first | assumption | exact Ne9.p (by assumption)) | exact absurd (Nat.succ.inj q_) (by first | assumption | exact Ne9.p (by assumption)) | exact absurd q_.symm (Nat.succ_ne_zero _) | exact absurd (Nat.succ.inj q_).symm (by first | assumption | exact Ne9.p (by assumption))) | (intro q_; (try dsimp only at q_); omega))
        have hP_fs_w_44 := hP_fs_w_40.mv (w1 := w_44) (S := fun q_ => q_ = q9 + 1) (by rw [ew_45]; exact Fr.one hO__43 _) (by first | exact id | exact fun q_ => absurd q_ (by first | assumption | exact Ne9.p (by assumption)) | exact fun q_ => absurd (Nat.succ.inj q_) (by first | assumption | exact Ne9.p (by assumption)) | exact fun q_ => absurd q_.symm (Nat.succ_ne_zero _) | exact fun q_ => absurd (Nat.succ.inj q_).symm (by first | assumption | exact Ne9.p (by assumption)) | (intro q_; (try dsimp only at q_); rcases q_ with q_ | q_ | q_ | q_ | q_ <;> first | exact absurd q_ (by first | assumption | exact Ne9.p (by assumption)) | exact absurd (Nat.succ.inj q_) (by first | assumption | exact Ne9.p (by assumption)) | exact absurd q_.symm (Nat.succ_ne_zero _) | exact absurd (Nat.succ.inj q_).symm (by first | assumption | exact Ne9.p (by assumption))) | (intro q_; (try dsimp only at q_); rcases q_ with q_ | q_ | q_ | q_ <;> first | exact absurd q_ (by first | assumption | exact Ne9.p (by assumption)) | exact absurd (Nat.succ.inj q_) (by first | assumption | exact Ne9.p (by assumption)) | exact absurd q_.symm (Nat.succ_ne_zero _) | exact absurd (Nat.succ.inj q_).symm (by first | assumption | exact Ne9.p (by assumption))) | (intro q_; (try dsimp only at q_); rcases q_ with q_ | q_ <;> first | exact absurd q_ (by first | assumption | exact Ne9.p (by assumption)) | exact absurd (Nat.succ.inj q_) (by first | assumption | exact Ne9.p (by assumption)) | exact absurd q_.symm (Nat.succ_ne_zero _) | exact absurd (Nat.succ.inj q_).symm (by first | assumption | exact Ne9.p (by assumption))) | (intro q_; (try dsimp only at q_); omega))
        have hP_q_w_44 := hP_q_w_40.mv (w1 := w_44) (S := fun q_ => q_ = q9 + 1) (by rw [ew_45]; exact Fr.one hO__43 _) ⟨(by first | exact id | exact fun q_ => absurd q_ (by first | assumption | exact Ne9.p (by assumption)) | exact fun q_ => absurd (Nat.succ.inj q_) (by first | assumption | exact Ne9.p (by assumption)) | exact fun q_ => absurd q_.symm (Nat.succ_ne_zero _) | exact fun q_ => absurd (Nat.succ.inj q_).symm (by first | assumption | exact Ne9.p (by assumption)) | (intro q_; (try dsimp only at q_); rcases q_ with q_ | q_ | q_ | q_ | q_ <;> first | exact absurd q_ (by first | assumption | exact Ne9.p (by assumption)) | exact absurd (Nat.succ.inj q_) (by first | assumption | exact Ne9.p (by assumption)) | exact absurd q_.symm (Nat.succ_ne_zero _) | exact absurd (Nat.succ.inj q_).symm (by first | assumption | exact Ne9.p (by assumption))) | (intro q_; (try dsimp only at q_); rcases q_ with q_ | q_ | q_ | q_ <;> first | exact absurd q_ (by first | assumption | exact Ne9.p (by assumption)) | exact absurd (Nat.succ.inj q_) (by first | assumption | exact Ne9.p (by assumption)) | exact absurd q_.symm (Nat.succ_ne_zero _) | exact absurd (Nat.succ.inj q_).symm (by first | assumption | exact Ne9.p (by assumption))) | (intro q_; (try dsimp only at q_); rcases q_ with q_ | q_ <;> first | exact absurd q_ (by first | assumption | exact Ne9.p (by assumption)) | exact absurd (Nat.succ.inj q_) (by first | assumption | exact Ne9.p (by assumption)) | exact absurd q_.symm (Nat.succ_ne_zero _) | exact absurd (Nat.succ.inj q_).symm (by first | assumption | exact Ne9.p (by assumption))) | (intro q_; (try dsimp only at q_); omega)), (by first | exact id | exact fun q_ => absurd q_ (by first | assumption | exact Ne9.p (by assumption)) | exact fun q_ => absurd (Nat.succ.inj q_) (by first | assumption | exact Ne9.p (by assumption)) | exact fun q_ => absurd q_.symm (Nat.succ_ne_zero _) | exact fun q_ => absurd (Nat.succ.inj q_).symm (by first | assumption | exact Ne9.p (by assumption)) | (intro q_; (try dsimp only at q_); rcases q_ with q_ | q_ | q_ | q_ | q_ <;> first | exact absurd q_ (by first | assumption | exact Ne9.p (by assumption)) | exact absurd (Nat.succ.inj q_) (by first | assumption | exact Ne9.p (by assumption)) | exact absurd q_.symm (Nat.succ_ne_zero _) | exact absurd (Nat.succ.inj q_).symm (by first | assumption | exact Ne9.p (by assumption))) | (intro q_; (try dsimp only at q_); rcases q_ with q_ | q_ | q_ | q_ <;> first | exact absurd q_ (by first | assumption | exact Ne9.p (by assumption)) | exact absurd (Nat.succ.inj q_) (by first | assumption | exact Ne9.p (by assumption)) | exact absurd q_.symm (Nat.succ_ne_zero _) | exact absurd (Nat.succ.inj q_).symm (by first | assumption | exact Ne9.p (by assumption))) | (intro q_; (try dsimp only at q_); rcases q_ with q_ | q_ <;> first | exact absurd q_ (by first | assumption | exact Ne9.p (by assumption)) | exact absurd (Nat.succ.inj q_) (by first | assumption | exact Ne9.p (by assumption)) | exact absurd q_.symm (Nat.succ_ne_zero _) | exact absurd (Nat.succ.inj q_).symm (by first | assumption | exact Ne9.p (by assumption))) | (intro q_; (try dsimp only at q_); omega))⟩
        have hP_ss_w_44 := hP_ss_w_40.mv (w1 := w_44) (S := fun q_ => q_ = q9 + 1) (by rw [ew_45]; exact Fr.one hO__43 _) (by first | exact id | exact fun q_ => absurd q_ (by first | assumption | exact Ne9.p (by assumption)) | exact fun q_ => absurd (Nat.succ.inj q_) (by first | assumption | exact Ne9.p (by assumption)) | exact fun q_ => absurd q_.symm (Nat.succ_ne_zero _) | exact fun q_ => absurd (Nat.succ.inj q_).symm (by first | assumption | exact Ne9.p (by assumption)) | (intro q_; (try dsimp only at q_); rcases q_ with q_ | q_ | q_ | q_ | q_ <;> first | exact absurd q_ (by first | assumption | exact Ne9.p (by assumption)) | exact absurd (Nat.succ.inj q_) (by first | assumption | exact Ne9.p (by assumption)) | exact absurd q_.symm (Nat.succ_ne_zero _) | exact absurd (Nat.succ.inj q_).symm (by first | assumption | exact Ne9.p (by assumption))) | (intro q_; (try dsimp only at q_); rcases q_ with q_ | q_ | q_ | q_ <;> first | exact absurd q_ (by first | assumption | exact Ne9.p (by assumption)) | exact absurd (Nat.succ.inj q_) (by first | assumption | exact Ne9.p (by assumption)) | exact absurd q_.symm (Nat.succ_ne_zero _) | exact absurd (Nat.succ.inj q_).symm (by first | assumption | exact Ne9.p (by assumption))) | (intro q_; (try dsimp only at q_); rcases q_ with q_ | q_ <;> first | exact absurd q_ (by first | assumption | exact Ne9.p (by assumption)) | exact absurd (Nat.succ.inj q_) (by first | assumption | exact Ne9.p (by assumption)) | exact absurd q_.symm (Nat.succ_ne_zero _) | exact absurd (Nat.succ.inj q_).symm (by first | assumption | exact Ne9.p (by assumption))) | (intro q_; (try dsimp only at q_); omega))
        refine vx_ret ?_
        exact h_areturn hx hb hlk hret (by first | exact Or.inl ⟨_, rfl⟩ | exact Or.inr ⟨_, rfl⟩) hR hL ⟨s3, L, M, rSay_4 hr1 hr2 hr3, hwd1, hwd3, ⟨fs, ss, hF_q9_w_44, hP_fs_w_44, hP_ss_w_44⟩, hn_q9, hP_q_w_44, hsw3, hU⟩ (by omega) (by omega) rfl rfl dX11_rule_22

set_option maxHeartbeats 4000000 in
set_option maxRecDepth 100000 in
/-- SpokenMarks$Scanner.rule -/
theorem sc_ruls (l : Launch) (G : Gl) (w : Wd) (q : Nat) (ol ca : Value) (bf rb : Nat) (T : List Int) (s : Sc) (hK : TkAt G w 10 [ol, ca] q bf T s) (hB : BufAt G w bf rb T) (hqb : rb ≠ q + 1) (hsw : ScW T s) (hG : RegW w) : HMX l yX11_rule cX11_rule 2 (some (.object "SpokenMarks$Rule")) 11 16 120 G [.ref q] w (QR G (fun z_ w_ => ∃ (s_ : Sc) (L M : List Int), rSay T (.inr s) = (.inr s_, L, M) ∧ (Wrd L ∧ L ≠ []) ∧ (Wrd M ∧ M ≠ []) ∧ RuAt G w_ z_ (L, M) ∧ w z_ = none ∧ TkAt G w_ 10 [ol, ca] q bf T s_ ∧ ScW T s_ ∧ Up (fun q_ => q_ = q + 1) w w_)) (fun q_ E_ w_ => ∃ x_ : Nat × Int, (rSay T (.inr s)).1 = .inl x_ ∧ TxE (fun q_ => q_ = q + 1) w x_.1 x_.2 q_ E_ w_) := by
  refine HMX.mk (by decide +kernel) (Nat.le_of_ble_eq_true rfl) ?_
  intro p9 e9 s9 m9 a9 b9 meth9 c9 ls X hret hlk hnm htab hl H hR
  have hx := X.1.1
  have hb := X.1.2.1
  have hl : lv_has ls 2 [(0, .ref q)] := hl
  have hL : LK G [] := fun q h => absurd h List.not_mem_nil
  generalize ([] : List Loc) = locs at hL ⊢
  have hU : Up (fun q_ => q_ = q + 1) w w := Up.rf hG
  refine lv_aload_n hx hb dX11_rule_0 rfl (lv_at hl 0 rfl) ?_
  -- call SpokenMarks$Scanner.word
  refine h_xR (h_xrunU (x := ⟨"SpokenMarks$Scanner", "word", "()Ljava/lang/String;"⟩) (owner := "SpokenMarks$Scanner") X hR (sc_wrds l G w q ol ca bf rb T s hK hB hqb hsw hU.2.2.1) (by decide) pn_yX11_word (hK.c rfl) q2201 q2204 (h_declC X q2202 q2207) (X.1.2.2.2.2 _ q2206) q2202 q162 q2207 ⟨by decide, by decide⟩ hl.1 (Nat.le_of_ble_eq_true rfl) dX11_rule_1 ⟨by omega, by omega⟩) hL (fun xq_3 E_4 ce_ w_5 hx__6 H locs hR hL hce_ hcv_ hcl_ => ?_) (fun fs w_1 hp_2 H locs hR hL => ?_)
  ·
    obtain ⟨x_7, hrd_8, hxx_9⟩ := hx__6
    exact h_xout (fun x_ hx_ => htab x_ hx_ _) hlk hce_ hcv_ hcl_ hR hL ⟨x_7, rSay_1 hrd_8, TxE.tr hU hxx_9 (fun q_ h_ => by first | exact absurd h_ id | exact Or.inl h_ | exact Or.inr (up_nw h_ (by assumption)) | exact Or.inl (Or.inl h_) | exact Or.inl (Or.inr h_) | exact Or.inl (Or.inr (Or.inl h_)) | exact Or.inl (Or.inr (Or.inr h_)) | exact Or.inl (Or.inr (Or.inr (Or.inl h_))) | exact Or.inl (Or.inr (Or.inr (Or.inr h_))) | exact Or.inl (h_.elim Or.inl (fun h_ => Or.inr (Or.inl h_))) | ((try dsimp only at h_); first | exact Or.inl (by omega) | exact Or.inr ⟨by omega, by subst h_; rw [Nat.add_sub_cancel]; assumption⟩)) hG⟩ (by omega) (by omega) rfl rfl
  ·
    obtain ⟨s1, L, hr1, hwd1, hS__10, hK__11, hsw1, u_12⟩ := hp_2
    have hP_bf_w_1 := hB.mv (u_12.1) (by first | exact id | exact fun q_ => absurd q_ (by first | assumption | exact Ne9.p (by assumption)) | exact fun q_ => absurd (Nat.succ.inj q_) (by first | assumption | exact Ne9.p (by assumption)) | exact fun q_ => absurd q_.symm (Nat.succ_ne_zero _) | exact fun q_ => absurd (Nat.succ.inj q_).symm (by first | assumption | exact Ne9.p (by assumption)) | (intro q_; (try dsimp only at q_); rcases q_ with q_ | q_ | q_ | q_ | q_ <;> first | exact absurd q_ (by first | assumption | exact Ne9.p (by assumption)) | exact absurd (Nat.succ.inj q_) (by first | assumption | exact Ne9.p (by assumption)) | exact absurd q_.symm (Nat.succ_ne_zero _) | exact absurd (Nat.succ.inj q_).symm (by first | assumption | exact Ne9.p (by assumption))) | (intro q_; (try dsimp only at q_); rcases q_ with q_ | q_ | q_ | q_ <;> first | exact absurd q_ (by first | assumption | exact Ne9.p (by assumption)) | exact absurd (Nat.succ.inj q_) (by first | assumption | exact Ne9.p (by assumption)) | exact absurd q_.symm (Nat.succ_ne_zero _) | exact absurd (Nat.succ.inj q_).symm (by first | assumption | exact Ne9.p (by assumption))) | (intro q_; (try dsimp only at q_); rcases q_ with q_ | q_ <;> first | exact absurd q_ (by first | assumption | exact Ne9.p (by assumption)) | exact absurd (Nat.succ.inj q_) (by first | assumption | exact Ne9.p (by assumption)) | exact absurd q_.symm (Nat.succ_ne_zero _) | exact absurd (Nat.succ.inj q_).symm (by first | assumption | exact Ne9.p (by assumption))) | (intro q_; (try dsimp only at q_); omega))
    have hU : Up (fun q_ => q_ = q + 1) w w_1 := hU.tr u_12 (fun q_ h_ => by first | exact absurd h_ id | exact Or.inl h_ | exact Or.inr (up_nw h_ (by assumption)) | exact Or.inl (Or.inl h_) | exact Or.inl (Or.inr h_) | exact Or.inl (Or.inr (Or.inl h_)) | exact Or.inl (Or.inr (Or.inr h_)) | exact Or.inl (Or.inr (Or.inr (Or.inl h_))) | exact Or.inl (Or.inr (Or.inr (Or.inr h_))) | exact Or.inl (h_.elim Or.inl (fun h_ => Or.inr (Or.inl h_))) | ((try dsimp only at h_); first | exact Or.inl (by omega) | exact Or.inr ⟨by omega, by subst h_; rw [Nat.add_sub_cancel]; assumption⟩)) hG
    refine lv_astore_n (lv' := [(1, .ref fs), (0, .ref q)]) hx hb dX11_rule_4 rfl hl (by decide) rfl (fun ls hl => ?_)
    refine lv_aload_n hx hb dX11_rule_5 rfl (lv_at hl 1 rfl) ?_
    refine h_iconst hx hb dX11_rule_6 ?_
    -- call SpokenMarks$Scanner.symbol
    refine h_xV (h_xrunU (x := ⟨"SpokenMarks$Scanner", "symbol", "(I)V"⟩) (owner := "SpokenMarks$Scanner") X hR (sc_syms l G w_1 q ol ca bf rb T s1 hK__11 4 (by omega) hP_bf_w_1 hqb hsw1 hU.2.2.1) (by decide) pn_yX11_symbol (hK__11.c rfl) q2209 q3398 (h_declC X q2178 q2179) (X.1.2.2.2.2 _ q3401) q2178 q162 q2179 ⟨by decide, by decide⟩ hl.1 (Nat.le_of_ble_eq_true rfl) dX11_rule_7 ⟨by omega, by omega⟩) hL (fun xq_16 E_17 ce_ w_18 hx__19 H locs hR hL hce_ hcv_ hcl_ => ?_) (fun w_14 hp_15 H locs hR hL => ?_)
    ·
      obtain ⟨x_20, hrd_21, hxx_22⟩ := hx__19
      exact h_xout (fun x_ hx_ => htab x_ hx_ _) hlk hce_ hcv_ hcl_ hR hL ⟨x_20, rSay_2 hr1 hrd_21, TxE.tr hU hxx_22 (fun q_ h_ => by first | exact absurd h_ id | exact Or.inl h_ | exact Or.inr (up_nw h_ (by assumption)) | exact Or.inl (Or.inl h_) | exact Or.inl (Or.inr h_) | exact Or.inl (Or.inr (Or.inl h_)) | exact Or.inl (Or.inr (Or.inr h_)) | exact Or.inl (Or.inr (Or.inr (Or.inl h_))) | exact Or.inl (Or.inr (Or.inr (Or.inr h_))) | exact Or.inl (h_.elim Or.inl (fun h_ => Or.inr (Or.inl h_))) | ((try dsimp only at h_); first | exact Or.inl (by omega) | exact Or.inr ⟨by omega, by subst h_; rw [Nat.add_sub_cancel]; assumption⟩)) hG⟩ (by omega) (by omega) rfl rfl
    ·
      obtain ⟨s2, hr2, hK__23, hsw2, u_24⟩ := hp_15
      have hP_bf_w_14 := hP_bf_w_1.mv (u_24.1) (by first | exact id | exact fun q_ => absurd q_ (by first | assumption | exact Ne9.p (by assumption)) | exact fun q_ => absurd (Nat.succ.inj q_) (by first | assumption | exact Ne9.p (by assumption)) | exact fun q_ => absurd q_.symm (Nat.succ_ne_zero _) | exact fun q_ => absurd (Nat.succ.inj q_).symm (by first | assumption | exact Ne9.p (by assumption)) | (intro q_; (try dsimp only at q_); rcases q_ with q_ | q_ | q_ | q_ | q_ <;> first | exact absurd q_ (by first | assumption | exact Ne9.p (by assumption)) | exact absurd (Nat.succ.inj q_) (by first | assumption | exact Ne9.p (by assumption)) | exact absurd q_.symm (Nat.succ_ne_zero _) | exact absurd (Nat.succ.inj q_).symm (by first | assumption | exact Ne9.p (by assumption))) | (intro q_; (try dsimp only at q_); rcases q_ with q_ | q_ | q_ | q_ <;> first | exact absurd q_ (by first | assumption | exact Ne9.p (by assumption)) | exact absurd (Nat.succ.inj q_) (by first | assumption | exact Ne9.p (by assumption)) | exact absurd q_.symm (Nat.succ_ne_zero _) | exact absurd (Nat.succ.inj q_).symm (by first | assumption | exact Ne9.p (by assumption))) | (intro q_; (try dsimp only at q_); rcases q_ with q_ | q_ <;> first | exact absurd q_ (by first | assumption | exact Ne9.p (by assumption)) | exact absurd (Nat.succ.inj q_) (by first | assumption | exact Ne9.p (by assumption)) | exact absurd q_.symm (Nat.succ_ne_zero _) | exact absurd (Nat.succ.inj q_).symm (by first | assumption | exact Ne9.p (by assumption))) | (intro q_; (try dsimp only at q_); omega))
      have hP_fs_w_14 := hS__10.mv (u_24.1) (by first | exact id | exact fun q_ => absurd q_ (by first | assumption | exact Ne9.p (by assumption)) | exact fun q_ => absurd (Nat.succ.inj q_) (by first | assumption | exact Ne9.p (by assumption)) | exact fun q_ => absurd q_.symm (Nat.succ_ne_zero _) | exact fun q_ => absurd (Nat.succ.inj q_).symm (by first | assumption | exact Ne9.p (by assumption)) | (intro q_; (try dsimp only at q_); rcases q_ with q_ | q_ | q_ | q_ | q_ <;> first | exact absurd q_ (by first | assumption | exact Ne9.p (by assumption)) | exact absurd (Nat.succ.inj q_) (by first | assumption | exact Ne9.p (by assumption)) | exact absurd q_.symm (Nat.succ_ne_zero _) | exact absurd (Nat.succ.inj q_).symm (by first | assumption | exact Ne9.p (by assumption))) | (intro q_; (try dsimp only at q_); rcases q_ with q_ | q_ | q_ | q_ <;> first | exact absurd q_ (by first | assumption | exact Ne9.p (by assumption)) | exact absurd (Nat.succ.inj q_) (by first | assumption | exact Ne9.p (by assumption)) | exact absurd q_.symm (Nat.succ_ne_zero _) | exact absurd (Nat.succ.inj q_).symm (by first | assumption | exact Ne9.p (by assumption))) | (intro q_; (try dsimp only at q_); rcases q_ with q_ | q_ <;> first | exact absurd q_ (by first | assumption | exact Ne9.p (by assumption)) | exact absurd (Nat.succ.inj q_) (by first | assumption | exact Ne9.p (by assumption)) | exact absurd q_.symm (Nat.succ_ne_zero _) | exact absurd (Nat.succ.inj q_).symm (by first | assumption | exact Ne9.p (by assumption))) | (intro q_; (try dsimp only at q_); omega))
      have hU : Up (fun q_ => q_ = q + 1) w w_14 := hU.tr u_24 (fun q_ h_ => by first | exact absurd h_ id | exact Or.inl h_ | exact Or.inr (up_nw h_ (by assumption)) | exact Or.inl (Or.inl h_) | exact Or.inl (Or.inr h_) | exact Or.inl (Or.inr (Or.inl h_)) | exact Or.inl (Or.inr (Or.inr h_)) | exact Or.inl (Or.inr (Or.inr (Or.inl h_))) | exact Or.inl (Or.inr (Or.inr (Or.inr h_))) | exact Or.inl (h_.elim Or.inl (fun h_ => Or.inr (Or.inl h_))) | ((try dsimp only at h_); first | exact Or.inl (by omega) | exact Or.inr ⟨by omega, by subst h_; rw [Nat.add_sub_cancel]; assumption⟩)) hG
      refine h_new X hR (ci := 6) (fun q => q + 1) rfl in_X4 tyX4_ok q2210 q637 q145 [.null, .null] (by intro j hj; rcases (show j = 0 ∨ j = 1 by omega) with rfl | rfl <;> rfl) (by omega) (by omega) dX11_rule_10 (fun q9 hq9 w_25 ew_26 H hR => ?_)
      have hn_q9 : w q9 = none := hU.2.1 _ hq9
      have hU : Up (fun q_ => q_ = q + 1) w w_25 := by rw [ew_26]; exact hU.new hq9 (by first | exact Or.inr (Or.inl rfl) | exact Or.inl rfl | exact Or.inr (Or.inr (by assumption)))
      have hF_q9_w_25 : w_25 q9 = some (q9 + 1, oE 6 [.null, .null]) := by rw [ew_26]; exact wset_eq _ _ _
      have ne_bf_q9 : Ne9 bf q9 := sm_ne hP_bf_w_14.sm hq9
      have hP_bf_w_25 := hP_bf_w_14.mv (w1 := w_25) (S := fun _ => False) (by rw [ew_26]; exact Fr.add hq9 _) id
      have ne_fs_q9 : Ne9 fs q9 := sm_ne hP_fs_w_14.sm hq9
      have hP_fs_w_25 := hP_fs_w_14.mv (w1 := w_25) (S := fun _ => False) (by rw [ew_26]; exact Fr.add hq9 _) id
      have ne_q_q9 : Ne9 q q9 := sm_ne hK__23.sm hq9
      have hP_q_w_25 := hK__23.mv (w1 := w_25) (S := fun _ => False) (by rw [ew_26]; exact Fr.add hq9 _) ⟨id, id⟩
      have hbr_q9 : Ne9 rb (q9 + 1) := hB.nr hG hn_q9
      refine lv_dup hx hb dX11_rule_13 rfl ?_
      refine lv_aload_n hx hb dX11_rule_14 rfl (lv_at hl 0 rfl) ?_
      refine lv_aload_n hx hb dX11_rule_15 rfl (lv_at hl 1 rfl) ?_
      -- call SpokenMarks$Scanner.word
      refine h_xR (h_xrunU (x := ⟨"SpokenMarks$Scanner", "word", "()Ljava/lang/String;"⟩) (owner := "SpokenMarks$Scanner") X hR (sc_wrds l G w_25 q ol ca bf rb T s2 hP_q_w_25 hP_bf_w_25 hqb hsw2 hU.2.2.1) (by decide) pn_yX11_word (hP_q_w_25.c rfl) q2201 q2204 (h_declC X q2202 q2207) (X.1.2.2.2.2 _ q2206) q2202 q162 q2207 ⟨by decide, by decide⟩ hl.1 (Nat.le_of_ble_eq_true rfl) dX11_rule_16 ⟨by omega, by omega⟩) hL (fun xq_29 E_30 ce_ w_31 hx__32 H locs hR hL hce_ hcv_ hcl_ => ?_) (fun ss w_27 hp_28 H locs hR hL => ?_)
      ·
        obtain ⟨x_33, hrd_34, hxx_35⟩ := hx__32
        exact h_xout (fun x_ hx_ => htab x_ hx_ _) hlk hce_ hcv_ hcl_ hR hL ⟨x_33, rSay_3 hr1 hr2 hrd_34, TxE.tr hU hxx_35 (fun q_ h_ => by first | exact absurd h_ id | exact Or.inl h_ | exact Or.inr (up_nw h_ (by assumption)) | exact Or.inl (Or.inl h_) | exact Or.inl (Or.inr h_) | exact Or.inl (Or.inr (Or.inl h_)) | exact Or.inl (Or.inr (Or.inr h_)) | exact Or.inl (Or.inr (Or.inr (Or.inl h_))) | exact Or.inl (Or.inr (Or.inr (Or.inr h_))) | exact Or.inl (h_.elim Or.inl (fun h_ => Or.inr (Or.inl h_))) | ((try dsimp only at h_); first | exact Or.inl (by omega) | exact Or.inr ⟨by omega, by subst h_; rw [Nat.add_sub_cancel]; assumption⟩)) hG⟩ (by omega) (by omega) rfl rfl
      ·
        obtain ⟨s3, M, hr3, hwd3, hS__36, hK__37, hsw3, u_38⟩ := hp_28
        have hF_q9_w_27 : w_27 q9 = some (q9 + 1, oE 6 [.null, .null]) := u_38.1 _ _ _ hF_q9_w_25 (by first | exact id | exact fun q_ => absurd q_ (by first | assumption | exact Ne9.p (by assumption)) | exact fun q_ => absurd (Nat.succ.inj q_) (by first | assumption | exact Ne9.p (by assumption)) | exact fun q_ => absurd q_.symm (Nat.succ_ne_zero _) | exact fun q_ => absurd (Nat.succ.inj q_).symm (by first | assumption | exact Ne9.p (by assumption)) | (intro q_; (try dsimp only at q_); rcases q_ with q_ | q_ | q_ | q_ | q_ <;> first | exact absurd q_ (by first | assumption | exact Ne9.p (by assumption)) | exact absurd (Nat.succ.inj q_) (by first | assumption | exact Ne9.p (by assumption)) | exact absurd q_.symm (Nat.succ_ne_zero _) | exact absurd (Nat.succ.inj q_).symm (by first | assumption | exact Ne9.p (by assumption))) | (intro q_; (try dsimp only at q_); rcases q_ with q_ | q_ | q_ | q_ <;> first | exact absurd q_ (by first | assumption | exact Ne9.p (by assumption)) | exact absurd (Nat.succ.inj q_) (by first | assumption | exact Ne9.p (by assumption)) | exact absurd q_.symm (Nat.succ_ne_zero _) | exact absurd (Nat.succ.inj q_).symm (by first | assumption | exact Ne9.p (by assumption))) | (intro q_; (try dsimp only at q_); rcases q_ with q_ | q_ <;> first | exact absurd q_ (by first | assumption | exact Ne9.p (by assumption)) | exact absurd (Nat.succ.inj q_) (by first | assumption | exact Ne9.p (by assumption)) | exact absurd q_.symm (Nat.succ_ne_zero _) | exact absurd (Nat.succ.inj q_).symm (by first | assumption | exact Ne9.p (by assumption))) | (intro q_; (try dsimp only at q_); omega))
        have hP_bf_w_27 := hP_bf_w_25.mv (u_38.1) (by first | exact id | exact fun q_ => absurd q_ (by first | assumption | exact Ne9.p (by assumption)) | exact fun q_ => absurd (Nat.succ.inj q_) (by first | assumption | exact Ne9.p (by assumption)) | exact fun q_ => absurd q_.symm (Nat.succ_ne_zero _) | exact fun q_ => absurd (Nat.succ.inj q_).symm (by first | assumption | exact Ne9.p (by assumption)) | (intro q_; (try dsimp only at q_); rcases q_ with q_ | q_ | q_ | q_ | q_ <;> first | exact absurd q_ (by first | assumption | exact Ne9.p (by assumption)) | exact absurd (Nat.succ.inj q_) (by first | assumption | exact Ne9.p (by assumption)) | exact absurd q_.symm (Nat.succ_ne_zero _) | exact absurd (Nat.succ.inj q_).symm (by first | assumption | exact Ne9.p (by assumption))) | (intro q_; (try dsimp only at q_); rcases q_ with q_ | q_ | q_ | q_ <;> first | exact absurd q_ (by first | assumption | exact Ne9.p (by assumption)) | exact absurd (Nat.succ.inj q_) (by first | assumption | exact Ne9.p (by assumption)) | exact absurd q_.symm (Nat.succ_ne_zero _) | exact absurd (Nat.succ.inj q_).symm (by first | assumption | exact Ne9.p (by assumption))) | (intro q_; (try dsimp only at q_); rcases q_ with q_ | q_ <;> first | exact absurd q_ (by first | assumption | exact Ne9.p (by assumption)) | exact absurd (Nat.succ.inj q_) (by first | assumption | exact Ne9.p (by assumption)) | exact absurd q_.symm (Nat.succ_ne_zero _) | exact absurd (Nat.succ.inj q_).symm (by first | assumption | exact Ne9.p (by assumption))) | (intro q_; (try dsimp only at q_); omega))
        have hP_fs_w_27 := hP_fs_w_25.mv (u_38.1) (by first | exact id | exact fun q_ => absurd q_ (by first | assumption | exact Ne9.p (by assumption)) | exact fun q_ => absurd (Nat.succ.inj q_) (by first | assumption | exact Ne9.p (by assumption)) | exact fun q_ => absurd q_.symm (Nat.succ_ne_zero _) | exact fun q_ => absurd (Nat.succ.inj q_).symm (by first | assumption | exact Ne9.p (by assumption)) | (intro q_; (try dsimp only at q_); rcases q_ with q_ | q_ | q_ | q_ | q_ <;> first | exact absurd q_ (by first | assumption | exact Ne9.p (by assumption)) | exact absurd (Nat.succ.inj q_) (by first | assumption | exact Ne9.p (by assumption)) | exact absurd q_.symm (Nat.succ_ne_zero _) | exact absurd (Nat.succ.inj q_).symm (by first | assumption | exact Ne9.p (by assumption))) | (intro q_; (try dsimp only at q_); rcases q_ with q_ | q_ | q_ | q_ <;> first | exact absurd q_ (by first | assumption | exact Ne9.p (by assumption)) | exact absurd (Nat.succ.inj q_) (by first | assumption | exact Ne9.p (by assumption)) | exact absurd q_.symm (Nat.succ_ne_zero _) | exact absurd (Nat.succ.inj q_).symm (by first | assumption | exact Ne9.p (by assumption))) | (intro q_; (try dsimp only at q_); rcases q_ with q_ | q_ <;> first | exact absurd q_ (by first | assumption | exact Ne9.p (by assumption)) | exact absurd (Nat.succ.inj q_) (by first | assumption | exact Ne9.p (by assumption)) | exact absurd q_.symm (Nat.succ_ne_zero _) | exact absurd (Nat.succ.inj q_).symm (by first | assumption | exact Ne9.p (by assumption))) | (intro q_; (try dsimp only at q_); omega))
        have hU : Up (fun q_ => q_ = q + 1) w w_27 := hU.tr u_38 (fun q_ h_ => by first | exact absurd h_ id | exact Or.inl h_ | exact Or.inr (up_nw h_ (by assumption)) | exact Or.inl (Or.inl h_) | exact Or.inl (Or.inr h_) | exact Or.inl (Or.inr (Or.inl h_)) | exact Or.inl (Or.inr (Or.inr h_)) | exact Or.inl (Or.inr (Or.inr (Or.inl h_))) | exact Or.inl (Or.inr (Or.inr (Or.inr h_))) | exact Or.inl (h_.elim Or.inl (fun h_ => Or.inr (Or.inl h_))) | ((try dsimp only at h_); first | exact Or.inl (by omega) | exact Or.inr ⟨by omega, by subst h_; rw [Nat.add_sub_cancel]; assumption⟩)) hG
        -- call SpokenMarks$Rule.<init>
        refine h_kV (h_runI X hR (ru_init l G w_27 (q9 + 1) (by omega) q9 fs ss hF_q9_w_27 hU.2.2.1) pn_yX4_init rfl q2211 q641 q145 q642 ⟨by decide, by decide⟩ hl.1 (Nat.le_of_ble_eq_true rfl) dX11_rule_19 ⟨by omega, by omega⟩) hL (fun w_40 hp_41 H locs hR hL => ?_)
        obtain ⟨hO__43, u_42⟩ := hp_41
        have hP_bf_w_40 := hP_bf_w_27.mv (u_42.1) (by first | exact id | exact fun q_ => absurd q_ (by first | assumption | exact Ne9.p (by assumption)) | exact fun q_ => absurd (Nat.succ.inj q_) (by first | assumption | exact Ne9.p (by assumption)) | exact fun q_ => absurd q_.symm (Nat.succ_ne_zero _) | exact fun q_ => absurd (Nat.succ.inj q_).symm (by first | assumption | exact Ne9.p (by assumption)) | (intro q_; (try dsimp only at q_); rcases q_ with q_ | q_ | q_ | q_ | q_ <;> first | exact absurd q_ (by first | assumption | exact Ne9.p (by assumption)) | exact absurd (Nat.succ.inj q_) (by first | assumption | exact Ne9.p (by assumption)) | exact absurd q_.symm (Nat.succ_ne_zero _) | exact absurd (Nat.succ.inj q_).symm (by first | assumption | exact Ne9.p (by assumption))) | (intro q_; (try dsimp only at q_); rcases q_ with q_ | q_ | q_ | q_ <;> first | exact absurd q_ (by first | assumption | exact Ne9.p (by assumption)) | exact absurd (Nat.succ.inj q_) (by first | assumption | exact Ne9.p (by assumption)) | exact absurd q_.symm (Nat.succ_ne_zero _) | exact absurd (Nat.succ.inj q_).symm (by first | assumption | exact Ne9.p (by assumption))) | (intro q_; (try dsimp only at q_); rcases q_ with q_ | q_ <;> first | exact absurd q_ (by first | assumption | exact Ne9.p (by assumption)) | exact absurd (Nat.succ.inj q_) (by first | assumption | exact Ne9.p (by assumption)) | exact absurd q_.symm (Nat.succ_ne_zero _) | exact absurd (Nat.succ.inj q_).symm (by first | assumption | exact Ne9.p (by assumption))) | (intro q_; (try dsimp only at q_); omega))
        have hP_fs_w_40 := hP_fs_w_27.mv (u_42.1) (by first | exact id | exact fun q_ => absurd q_ (by first | assumption | exact Ne9.p (by assumption)) | exact fun q_ => absurd (Nat.succ.inj q_) (by first | assumption | exact Ne9.p (by assumption)) | exact fun q_ => absurd q_.symm (Nat.succ_ne_zero _) | exact fun q_ => absurd (Nat.succ.inj q_).symm (by first | assumption | exact Ne9.p (by assumption)) | (intro q_; (try dsimp only at q_); rcases q_ with q_ | q_ | q_ | q_ | q_ <;> first | exact absurd q_ (by first | assumption | exact Ne9.p (by assumption)) | exact absurd (Nat.succ.inj q_) (by first | assumption | exact Ne9.p (by assumption)) | exact absurd q_.symm (Nat.succ_ne_zero _) | exact absurd (Nat.succ.inj q_).symm (by first | assumption | exact Ne9.p (by assumption))) | (intro q_; (try dsimp only at q_); rcases q_ with q_ | q_ | q_ | q_ <;> first | exact absurd q_ (by first | assumption | exact Ne9.p (by assumption)) | exact absurd (Nat.succ.inj q_) (by first | assumption | exact Ne9.p (by assumption)) | exact absurd q_.symm (Nat.succ_ne_zero _) | exact absurd (Nat.succ.inj q_).symm (by first | assumption | exact Ne9.p (by assumption))) | (intro q_; (try dsimp only at q_); rcases q_ with q_ | q_ <;> first | exact absurd q_ (by first | assumption | exact Ne9.p (by assumption)) | exact absurd (Nat.succ.inj q_) (by first | assumption | exact Ne9.p (by assumption)) | exact absurd q_.symm (Nat.succ_ne_zero _) | exact absurd (Nat.succ.inj q_).symm (by first | assumption | exact Ne9.p (by assumption))) | (intro q_; (try dsimp only at q_); omega))
        have hP_q_w_40 := hK__37.mv (u_42.1) ⟨(by first | exact id | exact fun q_ => absurd q_ (by first | assumption | exact Ne9.p (by assumption)) | exact fun q_ => absurd (Nat.succ.inj q_) (by first | assumption | exact Ne9.p (by assumption)) | exact fun q_ => absurd q_.symm (Nat.succ_ne_zero _) | exact fun q_ => absurd (Nat.succ.inj q_).symm (by first | assumption | exact Ne9.p (by assumption)) | (intro q_; (try dsimp only at q_); rcases q_ with q_ | q_ | q_ | q_ | q_ <;> first | exact absurd q_ (by first | assumption | exact Ne9.p (by assumption)) | exact absurd (Nat.succ.inj q_) (by first | assumption | exact Ne9.p (by assumption)) | exact absurd q_.symm (Nat.succ_ne_zero _) | exact absurd (Nat.succ.inj q_).symm (by first | assumption | exact Ne9.p (by assumption))) | (intro q_; (try dsimp only at q_); rcases q_ with q_ | q_ | q_ | q_ <;> first | exact absurd q_ (by first | assumption | exact Ne9.p (by assumption)) | exact absurd (Nat.succ.inj q_) (by first | assumption | exact Ne9.p (by assumption)) | exact absurd q_.symm (Nat.succ_ne_zero _) | exact absurd (Nat.succ.inj q_).symm (by first | assumption | exact Ne9.p (by assumption))) | (intro q_; (try dsimp only at q_); rcases q_ with q_ | q_ <;> first | exact absurd q_ (by first | assumption | exact Ne9.p (by assumption)) | exact absurd (Nat.succ.inj q_) (by first | assumption | exact Ne9.p (by assumption)) | exact absurd q_.symm (Nat.succ_ne_zero _) | exact absurd (Nat.succ.inj q_).symm (by first | assumption | exact Ne9.p (by assumption))) | (intro q_; (try dsimp only at q_); omega)), (by first | exact id | exact fun q_ => absurd q_ (by first | assumption | exact Ne9.p (by assumption)) | exact fun q_ => absurd (Nat.succ.inj q_) (by first | assumption | exact Ne9.p (by assumption)) | exact fun q_ => absurd q_.symm (Nat.succ_ne_zero _) | exact fun q_ => absurd (Nat.succ.inj q_).symm (by first | assumption | exact Ne9.p (by assumption)) | (intro q_; (try dsimp only at q_); rcases q_ with q_ | q_ | q_ | q_ | q_ <;> first | exact absurd q_ (by first | assumption | exact Ne9.p (by assumption)) | exact absurd (Nat.succ.inj q_) (by first | assumption | exact Ne9.p (by assumption)) | exact absurd q_.symm (Nat.succ_ne_zero _) | exact absurd (Nat.succ.inj q_).symm (by first | assumption | exact Ne9.p (by assumption))) | (intro q_; (try dsimp only at q_); rcases q_ with q_ | q_ | q_ | q_ <;> first | exact absurd q_ (by first | assumption | exact Ne9.p (by assumption)) | exact absurd (Nat.succ.inj q_) (by first | assumption | exact Ne9.p (by assumption)) | exact absurd q_.symm (Nat.succ_ne_zero _) | exact absurd (Nat.succ.inj q_).symm (by first | assumption | exact Ne9.p (by assumption))) | (intro q_; (try dsimp only at q_); rcases q_ with q_ | q_ <;> first | exact absurd q_ (by first | assumption | exact Ne9.p (by assumption)) | exact absurd (Nat.succ.inj q_) (by first | assumption | exact Ne9.p (by assumption)) | exact absurd q_.symm (Nat.succ_ne_zero _) | exact absurd (Nat.succ.inj q_).symm (by first | assumption | exact Ne9.p (by assumption))) | (intro q_; (try dsimp only at q_); omega))⟩
        have hP_ss_w_40 := hS__36.mv (u_42.1) (by first | exact id | exact fun q_ => absurd q_ (by first | assumption | exact Ne9.p (by assumption)) | exact fun q_ => absurd (Nat.succ.inj q_) (by first | assumption | exact Ne9.p (by assumption)) | exact fun q_ => absurd q_.symm (Nat.succ_ne_zero _) | exact fun q_ => absurd (Nat.succ.inj q_).symm (by first | assumption | exact Ne9.p (by assumption)) | (intro q_; (try dsimp only at q_); rcases q_ with q_ | q_ | q_ | q_ | q_ <;> first | exact absurd q_ (by first | assumption | exact Ne9.p (by assumption)) | exact absurd (Nat.succ.inj q_) (by first | assumption | exact Ne9.p (by assumption)) | exact absurd q_.symm (Nat.succ_ne_zero _) | exact absurd (Nat.succ.inj q_).symm (by first | assumption | exact Ne9.p (by assumption))) | (intro q_; (try dsimp only at q_); rcases q_ with q_ | q_ | q_ | q_ <;> first | exact absurd q_ (by first | assumption | exact Ne9.p (by assumption)) | exact absurd (Nat.succ.inj q_) (by first | assumption | exact Ne9.p (by assumption)) | exact absurd q_.symm (Nat.succ_ne_zero _) | exact absurd (Nat.succ.inj q_).symm (by first | assumption | exact Ne9.p (by assumption))) | (intro q_; (try dsimp only at q_); rcases q_ with q_ | q_ <;> first | exact absurd q_ (by first | assumption | exact Ne9.p (by assumption)) | exact absurd (Nat.succ.inj q_) (by first | assumption | exact Ne9.p (by assumption)) | exact absurd q_.symm (Nat.succ_ne_zero _) | exact absurd (Nat.succ.inj q_).symm (by first | assumption | exact Ne9.p (by assumption))) | (intro q_; (try dsimp only at q_); omega))
        have hU : Up (fun q_ => q_ = q + 1) w w_40 := hU.tr u_42 (fun q_ h_ => by first | exact absurd h_ id | exact Or.inl h_ | exact Or.inr (up_nw h_ (by assumption)) | exact Or.inl (Or.inl h_) | exact Or.inl (Or.inr h_) | exact Or.inl (Or.inr (Or.inl h_)) | exact Or.inl (Or.inr (Or.inr h_)) | exact Or.inl (Or.inr (Or.inr (Or.inl h_))) | exact Or.inl (Or.inr (Or.inr (Or.inr h_))) | exact Or.inl (h_.elim Or.inl (fun h_ => Or.inr (Or.inl h_))) | ((try dsimp only at h_); first | exact Or.inl (by omega) | exact Or.inr ⟨by omega, by subst h_; rw [Nat.add_sub_cancel]; assumption⟩)) hG
        have hR := hR.retag (0) hO__43 (Nat.succ_ne_zero _)
        obtain ⟨w_44, ew_45⟩ : ∃ w_ : Wd, w_ = wset w_40 q9 (0, oE 6 [.ref fs, .ref ss]) := ⟨_, rfl⟩
        rw [← ew_45] at hR
        have hU : Up (fun q_ => q_ = q + 1) w w_44 := by rw [ew_45]; exact hU.tag hO__43 hn_q9 (Or.inl rfl)
        have hF_q9_w_44 : w_44 q9 = some (0, oE 6 [.ref fs, .ref ss]) := by rw [ew_45]; exact wset_eq _ _ _
        have hP_bf_w_44 := hP_bf_w_40.mv (w1 := w_44) (S := fun q_ => q_ = q9 + 1) (by rw [ew_45]; exact Fr.one hO__43 _) (by first | exact id | exact fun q_ => absurd q_ (by first | assumption | exact Ne9.p (by assumption)) | exact fun q_ => absurd (Nat.succ.inj q_) (by first | assumption | exact Ne9.p (by assumption)) | exact fun q_ => absurd q_.symm (Nat.succ_ne_zero _) | exact fun q_ => absurd (Nat.succ.inj q_).symm (by first | assumption | exact Ne9.p (by assumption)) | (intro q_; (try dsimp only at q_); rcases q_ with q_ | q_ | q_ | q_ | q_ <;> first | exact absurd q_ (by first | assumption | exact Ne9.p (by assumption)) | exact absurd (Nat.succ.inj q_) (by first | assumption | exact Ne9.p (by assumption)) | exact absurd q_.symm (Nat.succ_ne_zero _) | exact absurd (Nat.succ.inj q_).symm (by first | assumption | exact Ne9.p (by assumption))) | (intro q_; (try dsimp only at q_); rcases q_ with q_ | q_ | q_ | q_ <;> first | exact absurd q_ (by first | assumption | exact Ne9.p (by assumption)) | exact absurd (Nat.succ.inj q_) (by first | assumption | exact Ne9.p (by assumption)) | exact absurd q_.symm (Nat.succ_ne_zero _) | exact absurd (Nat.succ.inj q_).symm (by first | assumption | exact Ne9.p (by assumption))) | (intro q_; (try dsimp only at q_); rcases q_ with q_ | q_ <;> first | exact absurd q_ (by first | assumption | exact Ne9.p (by assumption)) | exact absurd (Nat.succ.inj q_) (by first | assumption | exact Ne9.p (by assumption)) | exact absurd q_.symm (Nat.succ_ne_zero _) | exact absurd (Nat.succ.inj q_).symm (by first | assumption | exact Ne9.p (by assumption))) | (intro q_; (try dsimp only at q_); omega))
        have hP_fs_w_44 := hP_fs_w_40.mv (w1 := w_44) (S := fun q_ => q_ = q9 + 1) (by rw [ew_45]; exact Fr.one hO__43 _) (by first | exact id | exact fun q_ => absurd q_ (by first | assumption | exact Ne9.p (by assumption)) | exact fun q_ => absurd (Nat.succ.inj q_) (by first | assumption | exact Ne9.p (by assumption)) | exact fun q_ => absurd q_.symm (Nat.succ_ne_zero _) | exact fun q_ => absurd (Nat.succ.inj q_).symm (by first | assumption | exact Ne9.p (by assumption)) | (intro q_; (try dsimp only at q_); rcases q_ with q_ | q_ | q_ | q_ | q_ <;> first | exact absurd q_ (by first | assumption | exact Ne9.p (by assumption)) | exact absurd (Nat.succ.inj q_) (by first | assumption | exact Ne9.p (by assumption)) | exact absurd q_.symm (Nat.succ_ne_zero _) | exact absurd (Nat.succ.inj q_).symm (by first | assumption | exact Ne9.p (by assumption))) | (intro q_; (try dsimp only at q_); rcases q_ with q_ | q_ | q_ | q_ <;> first | exact absurd q_ (by first | assumption | exact Ne9.p (by assumption)) | exact absurd (Nat.succ.inj q_) (by first | assumption | exact Ne9.p (by assumption)) | exact absurd q_.symm (Nat.succ_ne_zero _) | exact absurd (Nat.succ.inj q_).symm (by first | assumption | exact Ne9.p (by assumption))) | (intro q_; (try dsimp only at q_); rcases q_ with q_ | q_ <;> first | exact absurd q_ (by first | assumption | exact Ne9.p (by assumption)) | exact absurd (Nat.succ.inj q_) (by first | assumption | exact Ne9.p (by assumption)) | exact absurd q_.symm (Nat.succ_ne_zero _) | exact absurd (Nat.succ.inj q_).symm (by first | assumption | exact Ne9.p (by assumption))) | (intro q_; (try dsimp only at q_); omega))
        have hP_q_w_44 := hP_q_w_40.mv (w1 := w_44) (S := fun q_ => q_ = q9 + 1) (by rw [ew_45]; exact Fr.one hO__43 _) ⟨(by first | exact id | exact fun q_ => absurd q_ (by first | assumption | exact Ne9.p (by assumption)) | exact fun q_ => absurd (Nat.succ.inj q_) (by first | assumption | exact Ne9.p (by assumption)) | exact fun q_ => absurd q_.symm (Nat.succ_ne_zero _) | exact fun q_ => absurd (Nat.succ.inj q_).symm (by first | assumption | exact Ne9.p (by assumption)) | (intro q_; (try dsimp only at q_); rcases q_ with q_ | q_ | q_ | q_ | q_ <;> first | exact absurd q_ (by first | assumption | exact Ne9.p (by assumption)) | exact absurd (Nat.succ.inj q_) (by first | assumption | exact Ne9.p (by assumption)) | exact absurd q_.symm (Nat.succ_ne_zero _) | exact absurd (Nat.succ.inj q_).symm (by first | assumption | exact Ne9.p (by assumption))) | (intro q_; (try dsimp only at q_); rcases q_ with q_ | q_ | q_ | q_ <;> first | exact absurd q_ (by first | assumption | exact Ne9.p (by assumption)) | exact absurd (Nat.succ.inj q_) (by first | assumption | exact Ne9.p (by assumption)) | exact absurd q_.symm (Nat.succ_ne_zero _) | exact absurd (Nat.succ.inj q_).symm (by first | assumption | exact Ne9.p (by assumption))) | (intro q_; (try dsimp only at q_); rcases q_ with q_ | q_ <;> first | exact absurd q_ (by first | assumption | exact Ne9.p (by assumption)) | exact absurd (Nat.succ.inj q_) (by first | assumption | exact Ne9.p (by assumption)) | exact absurd q_.symm (Nat.succ_ne_zero _) | exact absurd (Nat.succ.inj q_).symm (by first | assumption | exact Ne9.p (by assumption))) | (intro q_; (try dsimp only at q_); omega)), (by first | exact id | exact fun q_ => absurd q_ (by first | assumption | exact Ne9.p (by assumption)) | exact fun q_ => absurd (Nat.succ.inj q_) (by first | assumption | exact Ne9.p (by assumption)) | exact fun q_ => absurd q_.symm (Nat.succ_ne_zero _) | exact fun q_ => absurd (Nat.succ.inj q_).symm (by first | assumption | exact Ne9.p (by assumption)) | (intro q_; (try dsimp only at q_); rcases q_ with q_ | q_ | q_ | q_ | q_ <;> first | exact absurd q_ (by first | assumption | exact Ne9.p (by assumption)) | exact absurd (Nat.succ.inj q_) (by first | assumption | exact Ne9.p (by assumption)) | exact absurd q_.symm (Nat.succ_ne_zero _) | exact absurd (Nat.succ.inj q_).symm (by first | assumption | exact Ne9.p (by assumption))) | (intro q_; (try dsimp only at q_); rcases q_ with q_ | q_ | q_ | q_ <;> first | exact absurd q_ (by first | assumption | exact Ne9.p (by assumption)) | exact absurd (Nat.succ.inj q_) (by first | assumption | exact Ne9.p (by assumption)) | exact absurd q_.symm (Nat.succ_ne_zero _) | exact absurd (Nat.succ.inj q_).symm (by first | assumption | exact Ne9.p (by assumption))) | (intro q_; (try dsimp only at q_); rcases q_ with q_ | q_ <;> first | exact absurd q_ (by first | assumption | exact Ne9.p (by assumption)) | exact absurd (Nat.succ.inj q_) (by first | assumption | exact Ne9.p (by assumption)) | exact absurd q_.symm (Nat.succ_ne_zero _) | exact absurd (Nat.succ.inj q_).symm (by first | assumption | exact Ne9.p (by assumption))) | (intro q_; (try dsimp only at q_); omega))⟩
        have hP_ss_w_44 := hP_ss_w_40.mv (w1 := w_44) (S := fun q_ => q_ = q9 + 1) (by rw [ew_45]; exact Fr.one hO__43 _) (by first | exact id | exact fun q_ => absurd q_ (by first | assumption | exact Ne9.p (by assumption)) | exact fun q_ => absurd (Nat.succ.inj q_) (by first | assumption | exact Ne9.p (by assumption)) | exact fun q_ => absurd q_.symm (Nat.succ_ne_zero _) | exact fun q_ => absurd (Nat.succ.inj q_).symm (by first | assumption | exact Ne9.p (by assumption)) | (intro q_; (try dsimp only at q_); rcases q_ with q_ | q_ | q_ | q_ | q_ <;> first | exact absurd q_ (by first | assumption | exact Ne9.p (by assumption)) | exact absurd (Nat.succ.inj q_) (by first | assumption | exact Ne9.p (by assumption)) | exact absurd q_.symm (Nat.succ_ne_zero _) | exact absurd (Nat.succ.inj q_).symm (by first | assumption | exact Ne9.p (by assumption))) | (intro q_; (try dsimp only at q_); rcases q_ with q_ | q_ | q_ | q_ <;> first | exact absurd q_ (by first | assumption | exact Ne9.p (by assumption)) | exact absurd (Nat.succ.inj q_) (by first | assumption | exact Ne9.p (by assumption)) | exact absurd q_.symm (Nat.succ_ne_zero _) | exact absurd (Nat.succ.inj q_).symm (by first | assumption | exact Ne9.p (by assumption))) | (intro q_; (try dsimp only at q_); rcases q_ with q_ | q_ <;> first | exact absurd q_ (by first | assumption | exact Ne9.p (by assumption)) | exact absurd (Nat.succ.inj q_) (by first | assumption | exact Ne9.p (by assumption)) | exact absurd q_.symm (Nat.succ_ne_zero _) | exact absurd (Nat.succ.inj q_).symm (by first | assumption | exact Ne9.p (by assumption))) | (intro q_; (try dsimp only at q_); omega))
        refine vx_ret ?_
        exact h_areturn hx hb hlk hret (by first | exact Or.inl ⟨_, rfl⟩ | exact Or.inr ⟨_, rfl⟩) hR hL ⟨s3, L, M, rSay_4 hr1 hr2 hr3, hwd1, hwd3, ⟨fs, ss, hF_q9_w_44, hP_fs_w_44, hP_ss_w_44⟩, hn_q9, hP_q_w_44, hsw3, hU⟩ (by omega) (by omega) rfl rfl dX11_rule_22

set_option maxHeartbeats 4000000 in
set_option maxRecDepth 100000 in
/-- SpokenMarks$Scanner.end -/
theorem sc_end (l : Launch) (G : Gl) (w : Wd) (q : Nat) (bf rb : Nat) (T : List Int) (s : Sc) (hK : TkAt G w 8 [] q bf T s) (hsw : ScW T s) (hG : RegW w) : HMX l yX11_end cX11_end 1 none 5 1 8 G [.ref q] w (QV G (fun w_ => rEnd (.inr s) = .inr s ∧ w = w_)) (fun q_ E_ w_ => ∃ x_ : Nat × Int, rEnd (.inr s) = .inl x_ ∧ TxE (fun _ => False) w x_.1 x_.2 q_ E_ w_) := by
  refine HMX.mk (by decide +kernel) (Nat.le_of_ble_eq_true rfl) ?_
  intro p9 e9 s9 m9 a9 b9 meth9 c9 ls X hret hlk hnm htab hl H hR
  have hx := X.1.1
  have hb := X.1.2.1
  have hl : lv_has ls 1 [(0, .ref q)] := hl
  have hL : LK G [] := fun q h => absurd h List.not_mem_nil
  generalize ([] : List Loc) = locs at hL ⊢
  have hU : Up (fun _ => False) w w := Up.rf hG
  have hkr := hsw.2.2.1
  obtain ⟨va_k_1, wa_k_1, hKo_k_1, hKs_k_1, hKr_k_1, hKv_k_1⟩ := hK
  refine lv_aload_n hx hb dX11_end_0 rfl (lv_at hl 0 rfl) ?_
  refine lv_aload_n hx hb dX11_end_1 rfl (lv_at hl 0 rfl) ?_
  refine h_get X hR hKo_k_1 rfl in_X11 5 (by decide) q2099 rfl dX11_end_2 ?_
  refine h_if_ne hx hb 12 dX11_end_5 (by decide) (by omega) (fun c_k => ?_) (fun c_k => ?_)
  ·
    refine h_iconst hx hb dX11_end_12 ?_
    refine h_iconst hx hb dX11_end_13 ?_
    -- call SpokenMarks$Scanner.check
    refine h_xV (h_xrunV X hR (sc_chk0 l G w q bf T s ⟨va_k_1, wa_k_1, hKo_k_1, hKs_k_1, hKr_k_1, hKv_k_1⟩ 1 hU.2.2.1) pn_yX11_check (hasC.of hKo_k_1 rfl) q2170 q2130 q3392 q162 q2131 ⟨by decide, by decide⟩ hl.1 (Nat.le_of_ble_eq_true rfl) dX11_end_14 ⟨by omega, by omega⟩) hL (fun xq_5 E_6 ce_ w_7 hx__8 H locs hR hL hce_ hcv_ hcl_ => ?_) (fun w_3 hp_4 H locs hR hL => ?_)
    ·
      exact h_xout (fun x_ hx_ => htab x_ hx_ _) hlk hce_ hcv_ hcl_ hR hL ⟨(scB s, 1), if_neg c_k, TxE.tr hU hx__8 (fun q_ h_ => by first | exact absurd h_ id | exact Or.inl h_ | exact Or.inr (up_nw h_ (by assumption)) | exact Or.inl (Or.inl h_) | exact Or.inl (Or.inr h_) | exact Or.inl (Or.inr (Or.inl h_)) | exact Or.inl (Or.inr (Or.inr h_)) | exact Or.inl (Or.inr (Or.inr (Or.inl h_))) | exact Or.inl (Or.inr (Or.inr (Or.inr h_))) | exact Or.inl (h_.elim Or.inl (fun h_ => Or.inr (Or.inl h_))) | ((try dsimp only at h_); first | exact Or.inl (by omega) | exact Or.inr ⟨by omega, by subst h_; rw [Nat.add_sub_cancel]; assumption⟩)) hG⟩ (by omega) (by omega) rfl rfl
    ·
      exact hp_4.elim
  ·
    refine h_iconst hx hb dX11_end_8 ?_
    refine lv_goto (tgt := 13) hx hb dX11_end_9 (by decide) ?_
    refine h_iconst hx hb dX11_end_13 ?_
    -- call SpokenMarks$Scanner.check
    refine h_kVp (h_runV X hR (sc_chk1 l G w q 1) pn_yX11_check (hasC.of hKo_k_1 rfl) q2170 q2130 q3392 q162 q2131 ⟨by decide, by decide⟩ hl.1 (Nat.le_of_ble_eq_true rfl) dX11_end_14 ⟨by omega, by omega⟩) hL (fun H locs hR hL => ?_)
    refine vx_ret ?_
    exact h_vreturn hx hb hlk hret hR hL ⟨if_pos c_k, rfl⟩ (by omega) (by omega) rfl rfl dX11_end_17

set_option maxHeartbeats 4000000 in
set_option maxRecDepth 100000 in
/-- SpokenMarks$Scanner.end -/
theorem sc_endr (l : Launch) (G : Gl) (w : Wd) (q : Nat) (bf rb : Nat) (T : List Int) (s : Sc) (hK : TkAt G w 9 [] q bf T s) (hsw : ScW T s) (hG : RegW w) : HMX l yX11_end cX11_end 1 none 5 1 8 G [.ref q] w (QV G (fun w_ => rEnd (.inr s) = .inr s ∧ w = w_)) (fun q_ E_ w_ => ∃ x_ : Nat × Int, rEnd (.inr s) = .inl x_ ∧ TxE (fun _ => False) w x_.1 x_.2 q_ E_ w_) := by
  refine HMX.mk (by decide +kernel) (Nat.le_of_ble_eq_true rfl) ?_
  intro p9 e9 s9 m9 a9 b9 meth9 c9 ls X hret hlk hnm htab hl H hR
  have hx := X.1.1
  have hb := X.1.2.1
  have hl : lv_has ls 1 [(0, .ref q)] := hl
  have hL : LK G [] := fun q h => absurd h List.not_mem_nil
  generalize ([] : List Loc) = locs at hL ⊢
  have hU : Up (fun _ => False) w w := Up.rf hG
  have hkr := hsw.2.2.1
  obtain ⟨va_k_1, wa_k_1, hKo_k_1, hKs_k_1, hKr_k_1, hKv_k_1⟩ := hK
  refine lv_aload_n hx hb dX11_end_0 rfl (lv_at hl 0 rfl) ?_
  refine lv_aload_n hx hb dX11_end_1 rfl (lv_at hl 0 rfl) ?_
  refine h_get X hR hKo_k_1 rfl in_X12 5 (by decide) q2099 rfl dX11_end_2 ?_
  refine h_if_ne hx hb 12 dX11_end_5 (by decide) (by omega) (fun c_k => ?_) (fun c_k => ?_)
  ·
    refine h_iconst hx hb dX11_end_12 ?_
    refine h_iconst hx hb dX11_end_13 ?_
    -- call SpokenMarks$Scanner.check
    refine h_xV (h_xrunU (x := ⟨"SpokenMarks$Scanner", "check", "(ZI)V"⟩) (owner := "SpokenMarks$Scanner") X hR (sc_chk0r l G w q bf T s ⟨va_k_1, wa_k_1, hKo_k_1, hKs_k_1, hKr_k_1, hKv_k_1⟩ 1 hU.2.2.1) (by decide) pn_yX11_check (hasC.of hKo_k_1 rfl) q2170 q3390 (h_declC X q2130 q2131) (X.1.2.2.2.2 _ q3391) q2130 q162 q2131 ⟨by decide, by decide⟩ hl.1 (Nat.le_of_ble_eq_true rfl) dX11_end_14 ⟨by omega, by omega⟩) hL (fun xq_5 E_6 ce_ w_7 hx__8 H locs hR hL hce_ hcv_ hcl_ => ?_) (fun w_3 hp_4 H locs hR hL => ?_)
    ·
      exact h_xout (fun x_ hx_ => htab x_ hx_ _) hlk hce_ hcv_ hcl_ hR hL ⟨(scB s, 1), if_neg c_k, TxE.tr hU hx__8 (fun q_ h_ => by first | exact absurd h_ id | exact Or.inl h_ | exact Or.inr (up_nw h_ (by assumption)) | exact Or.inl (Or.inl h_) | exact Or.inl (Or.inr h_) | exact Or.inl (Or.inr (Or.inl h_)) | exact Or.inl (Or.inr (Or.inr h_)) | exact Or.inl (Or.inr (Or.inr (Or.inl h_))) | exact Or.inl (Or.inr (Or.inr (Or.inr h_))) | exact Or.inl (h_.elim Or.inl (fun h_ => Or.inr (Or.inl h_))) | ((try dsimp only at h_); first | exact Or.inl (by omega) | exact Or.inr ⟨by omega, by subst h_; rw [Nat.add_sub_cancel]; assumption⟩)) hG⟩ (by omega) (by omega) rfl rfl
    ·
      exact hp_4.elim
  ·
    refine h_iconst hx hb dX11_end_8 ?_
    refine lv_goto (tgt := 13) hx hb dX11_end_9 (by decide) ?_
    refine h_iconst hx hb dX11_end_13 ?_
    -- call SpokenMarks$Scanner.check
    refine h_kVp (h_runU (x := ⟨"SpokenMarks$Scanner", "check", "(ZI)V"⟩) (owner := "SpokenMarks$Scanner") X hR (sc_chk1r l G w q 1) (by decide) pn_yX11_check (hasC.of hKo_k_1 rfl) q2170 q3390 (h_declC X q2130 q2131) (X.1.2.2.2.2 _ q3391) q2130 q162 q2131 ⟨by decide, by decide⟩ hl.1 (Nat.le_of_ble_eq_true rfl) dX11_end_14 ⟨by omega, by omega⟩) hL (fun H locs hR hL => ?_)
    refine vx_ret ?_
    exact h_vreturn hx hb hlk hret hR hL ⟨if_pos c_k, rfl⟩ (by omega) (by omega) rfl rfl dX11_end_17

set_option maxHeartbeats 4000000 in
set_option maxRecDepth 100000 in
/-- SpokenMarks$Scanner.end -/
theorem sc_ends (l : Launch) (G : Gl) (w : Wd) (q : Nat) (ol ca : Value) (bf rb : Nat) (T : List Int) (s : Sc) (hK : TkAt G w 10 [ol, ca] q bf T s) (hsw : ScW T s) (hG : RegW w) : HMX l yX11_end cX11_end 1 none 5 1 8 G [.ref q] w (QV G (fun w_ => rEnd (.inr s) = .inr s ∧ w = w_)) (fun q_ E_ w_ => ∃ x_ : Nat × Int, rEnd (.inr s) = .inl x_ ∧ TxE (fun _ => False) w x_.1 x_.2 q_ E_ w_) := by
  refine HMX.mk (by decide +kernel) (Nat.le_of_ble_eq_true rfl) ?_
  intro p9 e9 s9 m9 a9 b9 meth9 c9 ls X hret hlk hnm htab hl H hR
  have hx := X.1.1
  have hb := X.1.2.1
  have hl : lv_has ls 1 [(0, .ref q)] := hl
  have hL : LK G [] := fun q h => absurd h List.not_mem_nil
  generalize ([] : List Loc) = locs at hL ⊢
  have hU : Up (fun _ => False) w w := Up.rf hG
  have hkr := hsw.2.2.1
  obtain ⟨va_k_1, wa_k_1, hKo_k_1, hKs_k_1, hKr_k_1, hKv_k_1⟩ := hK
  refine lv_aload_n hx hb dX11_end_0 rfl (lv_at hl 0 rfl) ?_
  refine lv_aload_n hx hb dX11_end_1 rfl (lv_at hl 0 rfl) ?_
  refine h_get X hR hKo_k_1 rfl in_X22 5 (by decide) q2099 rfl dX11_end_2 ?_
  refine h_if_ne hx hb 12 dX11_end_5 (by decide) (by omega) (fun c_k => ?_) (fun c_k => ?_)
  ·
    refine h_iconst hx hb dX11_end_12 ?_
    refine h_iconst hx hb dX11_end_13 ?_
    -- call SpokenMarks$Scanner.check
    refine h_xV (h_xrunU (x := ⟨"SpokenMarks$Scanner", "check", "(ZI)V"⟩) (owner := "SpokenMarks$Scanner") X hR (sc_chk0s l G w q ol ca bf T s ⟨va_k_1, wa_k_1, hKo_k_1, hKs_k_1, hKr_k_1, hKv_k_1⟩ 1 hU.2.2.1) (by decide) pn_yX11_check (hasC.of hKo_k_1 rfl) q2170 q3390 (h_declC X q2130 q2131) (X.1.2.2.2.2 _ q3393) q2130 q162 q2131 ⟨by decide, by decide⟩ hl.1 (Nat.le_of_ble_eq_true rfl) dX11_end_14 ⟨by omega, by omega⟩) hL (fun xq_5 E_6 ce_ w_7 hx__8 H locs hR hL hce_ hcv_ hcl_ => ?_) (fun w_3 hp_4 H locs hR hL => ?_)
    ·
      exact h_xout (fun x_ hx_ => htab x_ hx_ _) hlk hce_ hcv_ hcl_ hR hL ⟨(scB s, 1), if_neg c_k, TxE.tr hU hx__8 (fun q_ h_ => by first | exact absurd h_ id | exact Or.inl h_ | exact Or.inr (up_nw h_ (by assumption)) | exact Or.inl (Or.inl h_) | exact Or.inl (Or.inr h_) | exact Or.inl (Or.inr (Or.inl h_)) | exact Or.inl (Or.inr (Or.inr h_)) | exact Or.inl (Or.inr (Or.inr (Or.inl h_))) | exact Or.inl (Or.inr (Or.inr (Or.inr h_))) | exact Or.inl (h_.elim Or.inl (fun h_ => Or.inr (Or.inl h_))) | ((try dsimp only at h_); first | exact Or.inl (by omega) | exact Or.inr ⟨by omega, by subst h_; rw [Nat.add_sub_cancel]; assumption⟩)) hG⟩ (by omega) (by omega) rfl rfl
    ·
      exact hp_4.elim
  ·
    refine h_iconst hx hb dX11_end_8 ?_
    refine lv_goto (tgt := 13) hx hb dX11_end_9 (by decide) ?_
    refine h_iconst hx hb dX11_end_13 ?_
    -- call SpokenMarks$Scanner.check
    refine h_kVp (h_runU (x := ⟨"SpokenMarks$Scanner", "check", "(ZI)V"⟩) (owner := "SpokenMarks$Scanner") X hR (sc_chk1s l G w q 1) (by decide) pn_yX11_check (hasC.of hKo_k_1 rfl) q2170 q3390 (h_declC X q2130 q2131) (X.1.2.2.2.2 _ q3393) q2130 q162 q2131 ⟨by decide, by decide⟩ hl.1 (Nat.le_of_ble_eq_true rfl) dX11_end_14 ⟨by omega, by omega⟩) hL (fun H locs hR hL => ?_)
    refine vx_ret ?_
    exact h_vreturn hx hb hlk hret hR hL ⟨if_pos c_k, rfl⟩ (by omega) (by omega) rfl rfl dX11_end_17
