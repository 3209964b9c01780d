/-! the twin: what an order wants is read -/
set_option maxRecDepth 100000
def rRst (T : List Int) (its : Int) (e : Rd) : Rd × Ord_ :=
  if its = 0 then ((rNum T 1 20 (rMust T 4 (rParts T e).1)).1, (0, (rNum T 1 20 (rMust T 4 (rParts T e).1)).2, 0, (rParts T e).2, [], []))
  else if its = 1 then ((rSay T e).1, (1, 0, 0, [], (rSay T e).2.1, (rSay T e).2.2))
  else if its = 2 then ((rNum T 0 7 e).1, (2, (rNum T 0 7 e).2, 0, [], [], []))
  else if its = 3 then ((rNum T 1 9999 e).1, (3, (rNum T 1 9999 e).2, 0, [], [], []))
  else if its = 4 then ((rNum T 1 20 (rNum T 1 9999 e).1).1, (4, (rNum T 1 9999 e).2, (rNum T 1 20 (rNum T 1 9999 e).1).2, [], [], []))
  else if its = 5 then ((rNum T 0 10000 (rNum T 1 7 e).1).1, (5, (rNum T 1 7 e).2, (rNum T 0 10000 (rNum T 1 7 e).1).2, [], [], []))
  else (e, (its, 0, 0, [], [], []))
theorem rNum_r {T : List Int} {lo hi : Int} {e : Rd} (h : lo ≤ hi) : lo ≤ (rNum T lo hi e).2 ∧ (rNum T lo hi e).2 ≤ hi := by
  cases e with
  | inl x => exact ⟨Int.le_refl _, h⟩
  | inr s =>
    by_cases h1 : scK s = 2
    · by_cases h2 : lo ≤ scV s ∧ scV s ≤ hi
      · rw [rNum_3 h1 h2]; exact h2
      · rw [rNum_2 h1 h2]; exact ⟨Int.le_refl _, h⟩
    · rw [rNum_1 h1]; exact ⟨Int.le_refl _, h⟩
theorem RdAt.dw {t : Tw} {T : List Int} {e : Rd} (h : RdAt t T e) : RdW T e := fun s hs => by subst hs; exact h.2.2.2.2
theorem rNum_ok {T : List Int} {lo hi : Int} {e : Rd} (hw : wrC (rNum T lo hi e).1 = 0) (he : ∀ x, e = .inl x → x.2 ≠ 0) : ∃ s, e = .inr s := by
  cases e with
  | inl x => exact absurd hw (he x rfl)
  | inr s => exact ⟨s, rfl⟩
theorem rMust_ok {T : List Int} {k : Int} {e : Rd} {s : Sc} (h : rMust T k e = .inr s) : ∃ s1, e = .inr s1 := by
  cases e with
  | inl x => cases h
  | inr s1 => exact ⟨s1, rfl⟩
theorem OrdAt.mk0 {f : Nat → Int} {k : Nat} {w : Int} {ps : List Prt} (h0 : f (9 * k) = 0) (h1 : f (9 * k + 1) = w) (h3 : f (9 * k + 3) = (ps.length : Int)) (h4 : ∀ j, j < ps.length → f (9 * k + 4 + j) = encP (ps.getD j prt0)) : OrdAt f k (0, w, 0, ps, [], []) :=
  ⟨h0, fun _ _ => h1, fun q => absurd q (show ¬ ((0 : Int) = 4 ∨ (0 : Int) = 5) by decide), fun _ => ⟨h3, h4⟩, fun q => absurd q (show ¬ (0 : Int) = 1 by decide)⟩
theorem OrdAt.mk1 {f : Nat → Int} {k : Nat} {W S : List Int} (h0 : f (9 * k) = 1) (h4 : f (9 * k + 4) = enc W) (h5 : f (9 * k + 5) = enc S) : OrdAt f k (1, 0, 0, [], W, S) :=
  ⟨h0, fun q => absurd rfl q, fun q => absurd q (show ¬ ((1 : Int) = 4 ∨ (1 : Int) = 5) by decide), fun q => absurd q (show ¬ (1 : Int) = 0 by decide), fun _ => ⟨h4, h5⟩⟩
theorem OrdAt.mk2 {f : Nat → Int} {k : Nat} {d x y : Int} (h0 : f (9 * k) = d) (hd : 2 ≤ d) (h1 : d ≤ 5 → f (9 * k + 1) = x) (h2 : d = 4 ∨ d = 5 → f (9 * k + 2) = y) : OrdAt f k (d, x, y, [], [], []) :=
  ⟨h0, fun _ q => h1 q, h2, fun q => absurd q (show ¬ d = 0 by omega), fun q => absurd q (show ¬ d = 1 by omega)⟩
theorem OrdOk.mk2 {d x y : Int} (hd : 2 ≤ d ∧ d ≤ 7) (h1 : d ≤ 5 → 0 ≤ x ∧ x ≤ 9999) (h4 : d = 4 → 1 ≤ y ∧ y ≤ 20) (h5 : d = 5 → 0 ≤ y ∧ y ≤ 10000) : OrdOk (d, x, y, [], [], []) :=
  ⟨⟨by show 0 ≤ d; omega, hd.2⟩, fun q => absurd q (show ¬ d = 0 by omega), fun q => absurd q (show ¬ d = 1 by omega), fun _ q => h1 q, h4, h5⟩
theorem CelR.put {f : Nat → Int} (h : CelR f) {i : Nat} {v : Int} (hv : R32 v ∨ (i % 9 ≠ 1 ∧ i % 9 ≠ 2)) : CelR (zset f i v) := by
  intro k
  have hk := h k
  unfold zset
  constructor
  · split
    · next q => rcases hv with hv | hv
                · exact hv
                · omega
    · exact hk.1
  · split
    · next q => rcases hv with hv | hv
                · exact hv
                · omega
    · exact hk.2

theorem pn_yX10_number0 : ParN yX10_number0 2 := by decide +kernel

theorem getmem {α : Type} {L : List α} {j : Nat} {d : α} (h : j < L.length) : L.getD j d ∈ L := by
  rw [show L.getD j d = L[j] by simp [h]]; exact List.getElem_mem h
theorem encR_r2 {T : List Int} {e : Rd} (h : RdW T e) : 0 ≤ encR (rLook T e) ∧ encR (rLook T e) < 282430536481 := by
  cases e with
  | inl x => exact ⟨Int.le_refl _, by show (0 : Int) < _; decide⟩
  | inr s =>
    have hW := h s rfl
    by_cases h1 : scK s = 1
    · by_cases h2 : scA s - scB s ≤ 8
      · rw [rLook_3 h1 h2]
        exact encP_r (x := .inr (scL T s)) (scL_w hW h1 h2)
      · rw [rLook_2 h1 h2]; exact ⟨Int.le_refl _, by show (0 : Int) < _; decide⟩
    · rw [rLook_1 h1]; exact ⟨Int.le_refl _, by show (0 : Int) < _; decide⟩

set_option maxHeartbeats 4000000 in
set_option maxRecDepth 100000 in
/-- readsRest -/
theorem m_readsRest (l : Launch) (G : Gl) (w : Wd) (a : Nat) (ad : Nat → Nat) (t : Tw) (hT : TwAt G w a ad t) (its : Int) (T : List Int) (e : Rd) (k : Nat) (hRd : RdAt t T e) (hk : k < 20) (hits : 0 ≤ its ∧ its ≤ 7) (hc : t.2 28 (9 * k) = its) (hcr : CelR (t.2 28)) : HM l yX10_readsRest cX10_readsRest 4 none 7 0 0 G [.ref a, .int (iI (((9 * k : Nat) : Int))), .int (iI (its))] w (QV G (fun w_ => ∃ t_ : Tw, TwS G w w_ a ad t_ ∧ TwE [1, 2, 17, 18, 19, 20, 21, 22, 23, 24, 26, 27, 28] t t_ ∧ RdAt t_ T (rRst T its e).1 ∧ (∀ i, i < 9 * k ∨ 9 * k + 9 ≤ i → t_.2 28 i = t.2 28 i) ∧ t_.2 28 (9 * k) = t.2 28 (9 * k) ∧ CelR (t_.2 28) ∧ (wrC (rRst T its e).1 = 0 → OrdAt (t_.2 28) k (rRst T its e).2 ∧ OrdOk (rRst T its e).2))) := by
  refine HM.mk (by decide +kernel) (Nat.le_of_ble_eq_true rfl) ?_
  intro p9 e9 s9 m9 a9 b9 meth9 c9 ls X hret hlk hnm hl H hR
  have hx := X.1.1
  have hb := X.1.2.1
  have hl : lv_has ls 4 [(0, .ref a), (1, .int (iI (((9 * k : Nat) : Int)))), (2, .int (iI (its)))] := hl
  have hL : LK G [] := fun q h => absurd h List.not_mem_nil
  generalize ([] : List Loc) = locs at hL ⊢
  have hTb := hT
  have hT : TwS G w w a ad t := TwS.rf hT
  refine lv_iload_n hx hb dX10_readsRest_0 rfl (lv_at hl 2 rfl) ?_
  by_cases c_s_in : (0 : Int) ≤ its ∧ its ≤ 5
  ·
    have c_s : its = 0 ∨ its = 1 ∨ its = 2 ∨ its = 3 ∨ its = 4 ∨ its = 5 := by omega
    rcases c_s with c_s | c_s | c_s | c_s | c_s | c_s
    ·
      refine h_tabIn hx hb 40 dX10_readsRest_1 ⟨by omega, by omega⟩ (by omega) (by rw [c_s]; rfl) (by decide) ?_
      refine lv_aload_n hx hb dX10_readsRest_40 rfl (lv_at hl 0 rfl) ?_
      -- call SpokenMarksModel.readsParts
      refine h_kV (h_runV X hR (m_readsParts l G w a ad t hT.1 T e hRd) pn_yX10_readsParts (hasC.of hT.1.ob rfl) q2896 q2898 qs67 q161 q2899 ⟨by decide, by decide⟩ hl.1 (Nat.le_of_ble_eq_true rfl) dX10_readsRest_41 ⟨by omega, by omega⟩) hL (fun w_2 hp_3 H locs hR hL => ?_)
      obtain ⟨t_4, hT2, hE_t_4, et_5⟩ := hp_3
      have hT := hT.tr hT2
      clear hT2
      have hR1 := et_5.1
      have hP1 := et_5.2
      have hp5 := hP1.2.1
      refine lv_aload_n hx hb dX10_readsRest_44 rfl (lv_at hl 0 rfl) ?_
      refine h_iconst hx hb dX10_readsRest_45 ?_
      -- call SpokenMarksModel.must
      refine h_kV (h_runV X hR (m_must l G w_2 a ad t_4 hT.1 4 T ((rParts T e).1) hR1 ⟨by decide, by decide⟩) pn_yX10_must (hasC.of hT.1.ob rfl) q2780 q2782 qs42 q161 q2783 ⟨by decide, by decide⟩ hl.1 (Nat.le_of_ble_eq_true rfl) dX10_readsRest_46 ⟨by omega, by omega⟩) hL (fun w_7 hp_8 H locs hR hL => ?_)
      obtain ⟨t_9, hT2, hE_t_9, et_10⟩ := hp_8
      have hT := hT.tr hT2
      clear hT2
      have hR2 := et_10
      refine lv_aload_n hx hb dX10_readsRest_49 rfl (lv_at hl 0 rfl) ?_
      refine tw_get X hR hT 28 (by decide) q2969 rfl dX10_readsRest_50 ?_
      refine lv_iload_n hx hb dX10_readsRest_53 rfl (lv_at hl 1 rfl) ?_
      refine h_iconst hx hb dX10_readsRest_54 ?_
      refine h_iadd hx hb dX10_readsRest_55 ?_
      refine lv_aload_n hx hb dX10_readsRest_56 rfl (lv_at hl 0 rfl) ?_
      refine h_iconst hx hb dX10_readsRest_57 ?_
      refine h_bipush hx hb dX10_readsRest_58 (by decide) ?_
      -- call SpokenMarksModel.number0
      refine h_kI (h_runV X hR (m_number0 l G w_7 a ad t_9 hT.1 1 20 T ((rMust T 4 (rParts T e).1)) hR2 (by omega) (by omega)) pn_yX10_number0 (hasC.of hT.1.ob rfl) q2776 q2778 qs41 q161 q2779 ⟨by decide, by decide⟩ hl.1 (Nat.le_of_ble_eq_true rfl) dX10_readsRest_60 ⟨by omega, by omega⟩) hL (fun z_11 w_12 hp_13 H locs hR hL => ?_)
      obtain ⟨rfl, t_14, hT2, hE_t_14, et_15⟩ := hp_13
      have hT := hT.tr hT2
      clear hT2
      have hR3 := et_15
      have hnr := rNum_r (T := T) (lo := 1) (hi := 20) (e := (rMust T 4 (rParts T e).1)) (by decide)
      refine h_i2l hx hb dX10_readsRest_63 (by omega) ?_
      refine tw_last X hR hL hT (k := 28) (by decide) (9 * k + 1) (by omega) (by show _ < _; simp only [twN]; omega) (by omega) dX10_readsRest_64 (fun t_16 et_17 w_18 hT H locs hR hL => ?_)
      have hE_t_16 := TwE.ast et_17
      have hv_t_16 := tast_v et_17
      refine lv_aload_n hx hb dX10_readsRest_65 rfl (lv_at hl 0 rfl) ?_
      refine tw_get X hR hT 28 (by decide) q2969 rfl dX10_readsRest_66 ?_
      refine lv_iload_n hx hb dX10_readsRest_69 rfl (lv_at hl 1 rfl) ?_
      refine h_iconst hx hb dX10_readsRest_70 ?_
      refine h_iadd hx hb dX10_readsRest_71 ?_
      refine lv_aload_n hx hb dX10_readsRest_72 rfl (lv_at hl 0 rfl) ?_
      refine tw_get X hR hT 24 (by decide) q2965 (v := .int (iI (((rParts T e).2.length : Int)))) (congrArg (fun z => some (Value.int (iI z))) (((((hE_t_16 24 (by decide)).1).trans (hE_t_14 24 (by decide)).1).trans (hE_t_9 24 (by decide)).1).trans hP1.1)) dX10_readsRest_73 ?_
      refine h_i2l hx hb dX10_readsRest_76 (by omega) ?_
      refine tw_last X hR hL hT (k := 28) (by decide) (9 * k + 3) (by omega) (by show _ < _; simp only [twN]; omega) (by omega) dX10_readsRest_77 (fun t_19 et_20 w_21 hT H locs hR hL => ?_)
      have hE_t_19 := TwE.ast et_20
      have hv_t_19 := tast_v et_20
      refine h_iconst hx hb dX10_readsRest_78 ?_
      refine lv_istore_n (lv' := [(3, .int (iI (0))), (0, .ref a), (1, .int (iI (((9 * k : Nat) : Int)))), (2, .int (iI (its)))]) hx hb dX10_readsRest_79 rfl hl (by decide) rfl (fun ls hl => ?_)
      have LOOP_24 : ∀ (N_ : Nat) (n : Nat) (t_22 : Tw) (w_23 : Wd), (n ≤ (rParts T e).2.length) → (TwS G w w_23 a ad t_22) → (TwE [28] t_19 t_22) → (∀ j, j < n → t_22.2 28 (9 * k + 4 + j) = encP ((rParts T e).2.getD j prt0)) → (∀ i, i < 9 * k + 4 ∨ 9 * k + 9 ≤ i → t_22.2 28 i = t_19.2 28 i) → (CelR (t_22.2 28)) → ((rParts T e).2.length - n) < N_ → ∀ (H : Heap) (locs : List Loc) (ls : Array Slot), Rp G w_23 H → LK G locs → lv_has ls 4 [(0, .ref a), (1, .int (iI (((9 * k : Nat) : Int)))), (2, .int (iI (its))), (3, .int (iI ((n : Int))))] → W p9 l e9 (rmk 7 0 0) s9 m9 a9 b9 meth9 c9 H locs 0 0 (MQ b9 (QV G (fun w_ => ∃ t_ : Tw, TwS G w w_ a ad t_ ∧ TwE [1, 2, 17, 18, 19, 20, 21, 22, 23, 24, 26, 27, 28] t t_ ∧ RdAt t_ T (rRst T its e).1 ∧ (∀ i, i < 9 * k ∨ 9 * k + 9 ≤ i → t_.2 28 i = t.2 28 i) ∧ t_.2 28 (9 * k) = t.2 28 (9 * k) ∧ CelR (t_.2 28) ∧ (wrC (rRst T its e).1 = 0 → OrdAt (t_.2 28) k (rRst T its e).2 ∧ OrdOk (rRst T its e).2))) a9 s9 0 0 (frG G)) (F0 m9 80 ls []) := by
        intro N_
        induction N_ with
        | zero => intro _ _ _ _ _ _ _ _ _ h_; exact absurd h_ (Nat.not_lt_zero _)
        | succ N_ ih_ =>
          intro n t_22 w_23 hn hT hE_t_22 hq1 hq2 hq3 hN_ H locs ls hR hL hl
          have ih_24 := ih_
          clear ih_
          refine lv_iload_n hx hb dX10_readsRest_80 rfl (lv_at hl 3 rfl) ?_
          refine lv_aload_n hx hb dX10_readsRest_81 rfl (lv_at hl 0 rfl) ?_
          refine tw_get X hR hT 24 (by decide) q2965 (v := .int (iI (((rParts T e).2.length : Int)))) (congrArg (fun z => some (Value.int (iI z))) (((((((hE_t_22 24 (by decide)).1).trans (hE_t_19 24 (by decide)).1).trans (hE_t_16 24 (by decide)).1).trans (hE_t_14 24 (by decide)).1).trans (hE_t_9 24 (by decide)).1).trans hP1.1)) dX10_readsRest_82 ?_
          refine h_icmp_ge hx hb 110 dX10_readsRest_85 (by decide) (by omega) (by omega) (fun c_25 => ?_) (fun c_25 => ?_)
          ·
            refine lv_goto (tgt := 255) hx hb dX10_readsRest_110 (by decide) ?_
            have hre : rRst T its e = ((rNum T 1 20 (rMust T 4 (rParts T e).1)).1, (0, (rNum T 1 20 (rMust T 4 (rParts T e).1)).2, 0, (rParts T e).2, [], [])) := by unfold rRst;  rw [if_pos (by omega)]
            have hpw : wrC (rNum T 1 20 (rMust T 4 (rParts T e).1)).1 = 0 → PrtsW (rParts T e).2 := fun hw => by obtain ⟨s1, hs1⟩ := rNum_ok hw hR2.ne0; obtain ⟨s2, hs2⟩ := rMust_ok hs1; exact ⟨rParts_len hs2, hP1.2.1, hP1.2.2.2⟩
            exact h_vreturn hx hb hlk hret hR hL ⟨t_22, hT, (TwE.tr (S2 := [1, 2, 17, 18, 19, 20, 21, 22, 23, 24, 26, 27, 28]) (TwE.tr (S2 := [1, 2, 17, 18, 19, 20, 21, 22, 23, 24, 26, 27, 28]) (TwE.tr (S2 := [1, 2, 17, 18, 19, 20, 21, 22, 23, 24, 26, 27, 28]) (TwE.tr (S2 := [1, 2, 17, 18, 19, 20, 21, 22, 23, 24, 26, 27, 28]) (TwE.tr (S2 := [1, 2, 17, 18, 19, 20, 21, 22, 23, 24, 26, 27, 28]) (TwE.tr (S2 := [1, 2, 17, 18, 19, 20, 21, 22, 23, 24, 26, 27, 28]) (TwE.rf : TwE [] t t) hE_t_4 rfl rfl) hE_t_9 rfl rfl) hE_t_14 rfl rfl) hE_t_16 rfl rfl) hE_t_19 rfl rfl) hE_t_22 rfl rfl), (by rw [hre]; exact ⟨(hR3.mv (TwE.tr (S2 := [28]) (TwE.tr (S2 := [28]) (TwE.tr (S2 := [28]) (TwE.rf : TwE [] t_14 t_14) hE_t_16 rfl rfl) hE_t_19 rfl rfl) hE_t_22 rfl rfl) (by decide) (by decide) (by decide) (by decide) (by decide) (by decide) (by decide) (by decide)), (fun i hi => ((hq2 i (by omega)).trans (by rw [hv_t_19, hv_t_16, (hE_t_14 28 (by decide)).2, (hE_t_9 28 (by decide)).2, (hE_t_4 28 (by decide)).2]; unfold zset; rw [if_neg (by omega), if_neg (by omega)]))), ((hq2 (9 * k) (by omega)).trans (by rw [hv_t_19, hv_t_16, (hE_t_14 28 (by decide)).2, (hE_t_9 28 (by decide)).2, (hE_t_4 28 (by decide)).2]; unfold zset; rw [if_neg (by omega), if_neg (by omega)])), hq3, (fun hw => ⟨OrdAt.mk0 (Eq.trans ((hq2 (9 * k) (by omega)).trans (by rw [hv_t_19, hv_t_16, (hE_t_14 28 (by decide)).2, (hE_t_9 28 (by decide)).2, (hE_t_4 28 (by decide)).2]; unfold zset; rw [if_neg (by omega), if_neg (by omega)])) (hc.trans (by omega))) ((hq2 (9 * k + 1) (by omega)).trans (by rw [hv_t_19, hv_t_16, (hE_t_14 28 (by decide)).2, (hE_t_9 28 (by decide)).2, (hE_t_4 28 (by decide)).2]; unfold zset; rw [if_neg (by omega), if_pos rfl])) ((hq2 (9 * k + 3) (by omega)).trans (by rw [hv_t_19, hv_t_16, (hE_t_14 28 (by decide)).2, (hE_t_9 28 (by decide)).2, (hE_t_4 28 (by decide)).2]; unfold zset; rw [if_pos rfl])) (fun j hj => hq1 j (by omega)), ⟨(show (0 : Int) ≤ 0 ∧ (0 : Int) ≤ 7 by decide), fun _ => ⟨hpw hw, hnr⟩, fun q => absurd q (show ¬ (0 : Int) = 1 by decide), fun q => absurd q (show ¬ (2 : Int) ≤ 0 by decide), fun q => absurd q (show ¬ (0 : Int) = 4 by decide), fun q => absurd q (show ¬ (0 : Int) = 5 by decide)⟩⟩)⟩)⟩ (by omega) (by omega) rfl rfl dX10_readsRest_255
          ·
            refine lv_aload_n hx hb dX10_readsRest_88 rfl (lv_at hl 0 rfl) ?_
            refine tw_get X hR hT 28 (by decide) q2969 rfl dX10_readsRest_89 ?_
            refine lv_iload_n hx hb dX10_readsRest_92 rfl (lv_at hl 1 rfl) ?_
            refine h_iconst hx hb dX10_readsRest_93 ?_
            refine h_iadd hx hb dX10_readsRest_94 ?_
            refine lv_iload_n hx hb dX10_readsRest_95 rfl (lv_at hl 3 rfl) ?_
            refine h_iadd hx hb dX10_readsRest_96 ?_
            refine lv_aload_n hx hb dX10_readsRest_97 rfl (lv_at hl 0 rfl) ?_
            refine tw_get X hR hT 23 (by decide) q2964 rfl dX10_readsRest_98 ?_
            refine lv_iload_n hx hb dX10_readsRest_101 rfl (lv_at hl 3 rfl) ?_
            refine tw_lald X hR hT (k := 23) (by decide) n (by omega) (by show _ < _; simp only [twN]; omega) (v := encP ((rParts T e).2.getD n prt0)) ((congrFun ((((((hE_t_22 23 (by decide)).2).trans (hE_t_19 23 (by decide)).2).trans (hE_t_16 23 (by decide)).2).trans (hE_t_14 23 (by decide)).2).trans (hE_t_9 23 (by decide)).2) n).trans (hP1.2.2.1 n (by omega))) dX10_readsRest_102 (fun ra_102 => ?_)
            refine tw_last X hR hL hT (k := 28) (by decide) (9 * k + 4 + n) (by omega) (by show _ < _; simp only [twN]; omega) (by have := encP_r (hP1.2.2.2 _ (getmem (L := (rParts T e).2) (d := prt0) (j := n) (by omega))); exact ⟨by omega, by omega⟩) dX10_readsRest_103 (fun t_26 et_27 w_28 hT H locs hR hL => ?_)
            have hE_t_26 := TwE.ast et_27
            have hv_t_26 := tast_v et_27
            refine h_iinc (lv' := [(3, .int (iI ((n : Int) + 1))), (0, .ref a), (1, .int (iI (((9 * k : Nat) : Int)))), (2, .int (iI (its)))]) hx hb dX10_readsRest_104 hl (k := 3) rfl (by decide) rfl (fun ls hl => ?_)
            refine lv_goto (tgt := 80) hx hb dX10_readsRest_107 (by decide) ?_
            exact ih_24 (n + 1) t_26 w_28 (by omega) hT (TwE.tr (S2 := [28]) (TwE.tr (S2 := [28]) (TwE.rf : TwE [] t_19 t_19) hE_t_22 rfl rfl) hE_t_26 rfl rfl) (fun j hj => by rw [tast_v et_27]; unfold zset; by_cases hjk : j = n; (rw [if_pos (by omega), hjk]); (rw [if_neg (by omega)]; exact hq1 j (by omega))) (fun i hi => by rw [tast_v et_27]; unfold zset; rw [if_neg (by omega)]; exact hq2 i hi) (by rw [tast_v et_27]; exact CelR.put hq3 (Or.inr ⟨by omega, by omega⟩)) (by omega) _ _ _ hR hL (lv_sub hl [1, 2, 3, 0] rfl)
      exact LOOP_24 _ 0 t_19 w_21 (by omega) hT (TwE.rf : TwE [28] t_19 t_19) (fun j hj => absurd hj (Nat.not_lt_zero _)) (fun i hi => rfl) (by rw [hv_t_19]; exact CelR.put (by rw [hv_t_16]; exact CelR.put (by rw [(hE_t_14 28 (by decide)).2]; exact (by rw [(hE_t_9 28 (by decide)).2]; exact (by rw [(hE_t_4 28 (by decide)).2]; exact hcr))) (by first | exact Or.inl ⟨by omega, by omega⟩ | exact Or.inr ⟨by omega, by omega⟩)) (by first | exact Or.inl ⟨by omega, by omega⟩ | exact Or.inr ⟨by omega, by omega⟩)) (Nat.lt_succ_self _) _ _ _ hR hL (lv_sub hl [1, 2, 3, 0] rfl)
    ·
      refine h_tabIn hx hb 113 dX10_readsRest_1 ⟨by omega, by omega⟩ (by omega) (by rw [c_s]; rfl) (by decide) ?_
      refine lv_aload_n hx hb dX10_readsRest_113 rfl (lv_at hl 0 rfl) ?_
      -- call SpokenMarksModel.readsSay
      refine h_kV (h_runV X hR (m_readsSay l G w a ad t hT.1 T e hRd) pn_yX10_readsSay (hasC.of hT.1.ob rfl) q3287 q3289 qs111 q161 q3290 ⟨by decide, by decide⟩ hl.1 (Nat.le_of_ble_eq_true rfl) dX10_readsRest_114 ⟨by omega, by omega⟩) hL (fun w_30 hp_31 H locs hR hL => ?_)
      obtain ⟨t_32, hT2, hE_t_32, et_33⟩ := hp_31
      have hT := hT.tr hT2
      clear hT2
      have hR1 := et_33.1
      have h26_ := et_33.2.1
      have h27_ := et_33.2.2
      have hr1_ := encR_r hRd
      refine lv_aload_n hx hb dX10_readsRest_117 rfl (lv_at hl 0 rfl) ?_
      refine tw_get X hR hT 28 (by decide) q2969 rfl dX10_readsRest_118 ?_
      refine lv_iload_n hx hb dX10_readsRest_121 rfl (lv_at hl 1 rfl) ?_
      refine h_iconst hx hb dX10_readsRest_122 ?_
      refine h_iadd hx hb dX10_readsRest_123 ?_
      refine lv_aload_n hx hb dX10_readsRest_124 rfl (lv_at hl 0 rfl) ?_
      refine tw_get X hR hT 26 (by decide) q2967 (v := .long (lI (encR (rLook T e)))) (congrArg (fun z => some (Value.long (lI z))) (h26_)) dX10_readsRest_125 ?_
      refine tw_last X hR hL hT (k := 28) (by decide) (9 * k + 4) (by omega) (by show _ < _; simp only [twN]; omega) (by omega) dX10_readsRest_128 (fun t_34 et_35 w_36 hT H locs hR hL => ?_)
      have hE_t_34 := TwE.ast et_35
      have hv_t_34 := tast_v et_35
      refine lv_aload_n hx hb dX10_readsRest_129 rfl (lv_at hl 0 rfl) ?_
      refine tw_get X hR hT 28 (by decide) q2969 rfl dX10_readsRest_130 ?_
      refine lv_iload_n hx hb dX10_readsRest_133 rfl (lv_at hl 1 rfl) ?_
      refine h_iconst hx hb dX10_readsRest_134 ?_
      refine h_iadd hx hb dX10_readsRest_135 ?_
      refine lv_aload_n hx hb dX10_readsRest_136 rfl (lv_at hl 0 rfl) ?_
      refine tw_get X hR hT 27 (by decide) q2968 (v := .long (lI (encR (rLook T (rMust T 4 (rWord T e).1))))) (congrArg (fun z => some (Value.long (lI z))) (((hE_t_34 27 (by decide)).1).trans h27_)) dX10_readsRest_137 ?_
      refine tw_last X hR hL hT (k := 28) (by decide) (9 * k + 5) (by omega) (by show _ < _; simp only [twN]; omega) (by have := encR_r2 (rMust_w (k := 4) (rWord_w hRd.dw)); omega) dX10_readsRest_140 (fun t_37 et_38 w_39 hT H locs hR hL => ?_)
      have hE_t_37 := TwE.ast et_38
      have hv_t_37 := tast_v et_38
      refine lv_goto (tgt := 255) hx hb dX10_readsRest_141 (by decide) ?_
      have hre : rRst T its e = ((rSay T e).1, (1, 0, 0, [], (rSay T e).2.1, (rSay T e).2.2)) := by unfold rRst; rw [if_neg (by omega)]; rw [if_pos (by omega)]
      exact h_vreturn hx hb hlk hret hR hL ⟨t_37, hT, (TwE.tr (S2 := [1, 2, 17, 18, 19, 20, 21, 22, 23, 24, 26, 27, 28]) (TwE.tr (S2 := [1, 2, 17, 18, 19, 20, 21, 22, 23, 24, 26, 27, 28]) (TwE.tr (S2 := [1, 2, 17, 18, 19, 20, 21, 22, 23, 24, 26, 27, 28]) (TwE.rf : TwE [] t t) hE_t_32 rfl rfl) hE_t_34 rfl rfl) hE_t_37 rfl rfl), (by rw [hre]; exact ⟨(hR1.mv (TwE.tr (S2 := [28]) (TwE.tr (S2 := [28]) (TwE.rf : TwE [] t_32 t_32) hE_t_34 rfl rfl) hE_t_37 rfl rfl) (by decide) (by decide) (by decide) (by decide) (by decide) (by decide) (by decide) (by decide)), (fun i hi => by rw [hv_t_37, hv_t_34, (hE_t_32 28 (by decide)).2]; unfold zset; rw [if_neg (by omega), if_neg (by omega)]), (by rw [hv_t_37, hv_t_34, (hE_t_32 28 (by decide)).2]; unfold zset; rw [if_neg (by omega), if_neg (by omega)]), (by rw [hv_t_37]; exact CelR.put (by rw [hv_t_34]; exact CelR.put (by rw [(hE_t_32 28 (by decide)).2]; exact hcr) (by first | exact Or.inl ⟨by omega, by omega⟩ | exact Or.inr ⟨by omega, by omega⟩)) (by first | exact Or.inl ⟨by omega, by omega⟩ | exact Or.inr ⟨by omega, by omega⟩)), (fun hw => by obtain ⟨s1, hs1⟩ := hR1.ok hw; obtain ⟨⟨e1_, e2_⟩, w1_, w2_⟩ := rSay_ok hRd.dw hs1; exact ⟨OrdAt.mk1 (Eq.trans (by rw [hv_t_37, hv_t_34, (hE_t_32 28 (by decide)).2]; unfold zset; rw [if_neg (by omega), if_neg (by omega)]) (hc.trans (by omega))) (Eq.trans (by rw [hv_t_37, hv_t_34, (hE_t_32 28 (by decide)).2]; unfold zset; rw [if_neg (by omega), if_pos rfl]) e1_) (Eq.trans (by rw [hv_t_37, hv_t_34, (hE_t_32 28 (by decide)).2]; unfold zset; rw [if_pos rfl]) e2_), ⟨(show (0 : Int) ≤ 1 ∧ (1 : Int) ≤ 7 by decide), fun q => absurd q (show ¬ (1 : Int) = 0 by decide), fun _ => ⟨w1_, w2_⟩, fun q => absurd q (show ¬ (2 : Int) ≤ 1 by decide), fun q => absurd q (show ¬ (1 : Int) = 4 by decide), fun q => absurd q (show ¬ (1 : Int) = 5 by decide)⟩⟩)⟩)⟩ (by omega) (by omega) rfl rfl dX10_readsRest_255
    ·
      refine h_tabIn hx hb 144 dX10_readsRest_1 ⟨by omega, by omega⟩ (by omega) (by rw [c_s]; rfl) (by decide) ?_
      refine lv_aload_n hx hb dX10_readsRest_144 rfl (lv_at hl 0 rfl) ?_
      refine tw_get X hR hT 28 (by decide) q2969 rfl dX10_readsRest_145 ?_
      refine lv_iload_n hx hb dX10_readsRest_148 rfl (lv_at hl 1 rfl) ?_
      refine h_iconst hx hb dX10_readsRest_149 ?_
      refine h_iadd hx hb dX10_readsRest_150 ?_
      refine lv_aload_n hx hb dX10_readsRest_151 rfl (lv_at hl 0 rfl) ?_
      refine h_iconst hx hb dX10_readsRest_152 ?_
      refine h_bipush hx hb dX10_readsRest_153 (by decide) ?_
      -- call SpokenMarksModel.number0
      refine h_kI (h_runV X hR (m_number0 l G w a ad t hT.1 0 7 T e hRd (by omega) (by omega)) pn_yX10_number0 (hasC.of hT.1.ob rfl) q2776 q2778 qs41 q161 q2779 ⟨by decide, by decide⟩ hl.1 (Nat.le_of_ble_eq_true rfl) dX10_readsRest_155 ⟨by omega, by omega⟩) hL (fun z_40 w_41 hp_42 H locs hR hL => ?_)
      obtain ⟨rfl, t_43, hT2, hE_t_43, et_44⟩ := hp_42
      have hT := hT.tr hT2
      clear hT2
      have hR1 := et_44
      have hnr := rNum_r (T := T) (lo := 0) (hi := 7) (e := e) (by decide)
      refine h_i2l hx hb dX10_readsRest_158 (by omega) ?_
      refine tw_last X hR hL hT (k := 28) (by decide) (9 * k + 1) (by omega) (by show _ < _; simp only [twN]; omega) (by omega) dX10_readsRest_159 (fun t_45 et_46 w_47 hT H locs hR hL => ?_)
      have hE_t_45 := TwE.ast et_46
      have hv_t_45 := tast_v et_46
      refine lv_goto (tgt := 255) hx hb dX10_readsRest_160 (by decide) ?_
      have hre : rRst T its e = ((rNum T 0 7 e).1, (2, (rNum T 0 7 e).2, 0, [], [], [])) := by unfold rRst; rw [if_neg (by omega)]; rw [if_neg (by omega)]; rw [if_pos (by omega)]
      exact h_vreturn hx hb hlk hret hR hL ⟨t_45, hT, (TwE.tr (S2 := [1, 2, 17, 18, 19, 20, 21, 22, 23, 24, 26, 27, 28]) (TwE.tr (S2 := [1, 2, 17, 18, 19, 20, 21, 22, 23, 24, 26, 27, 28]) (TwE.rf : TwE [] t t) hE_t_43 rfl rfl) hE_t_45 rfl rfl), (by rw [hre]; exact ⟨(hR1.mv (TwE.tr (S2 := [28]) (TwE.rf : TwE [] t_43 t_43) hE_t_45 rfl rfl) (by decide) (by decide) (by decide) (by decide) (by decide) (by decide) (by decide) (by decide)), (fun i hi => by rw [hv_t_45, (hE_t_43 28 (by decide)).2]; unfold zset; rw [if_neg (by omega)]), (by rw [hv_t_45, (hE_t_43 28 (by decide)).2]; unfold zset; rw [if_neg (by omega)]), (by rw [hv_t_45]; exact CelR.put (by rw [(hE_t_43 28 (by decide)).2]; exact hcr) (by first | exact Or.inl ⟨by omega, by omega⟩ | exact Or.inr ⟨by omega, by omega⟩)), (fun hw => ⟨OrdAt.mk2 (Eq.trans (by rw [hv_t_45, (hE_t_43 28 (by decide)).2]; unfold zset; rw [if_neg (by omega)]) (hc.trans (by omega))) (by decide) (fun _ => (by rw [hv_t_45, (hE_t_43 28 (by decide)).2]; unfold zset; rw [if_pos rfl])) (fun q => by omega), OrdOk.mk2 (by decide) (fun _ => ⟨by omega, by omega⟩) (fun q => by omega) (fun q => by omega)⟩)⟩)⟩ (by omega) (by omega) rfl rfl dX10_readsRest_255
    ·
      refine h_tabIn hx hb 163 dX10_readsRest_1 ⟨by omega, by omega⟩ (by omega) (by rw [c_s]; rfl) (by decide) ?_
      refine lv_aload_n hx hb dX10_readsRest_163 rfl (lv_at hl 0 rfl) ?_
      refine tw_get X hR hT 28 (by decide) q2969 rfl dX10_readsRest_164 ?_
      refine lv_iload_n hx hb dX10_readsRest_167 rfl (lv_at hl 1 rfl) ?_
      refine h_iconst hx hb dX10_readsRest_168 ?_
      refine h_iadd hx hb dX10_readsRest_169 ?_
      refine lv_aload_n hx hb dX10_readsRest_170 rfl (lv_at hl 0 rfl) ?_
      refine h_iconst hx hb dX10_readsRest_171 ?_
      refine h_sipush hx hb dX10_readsRest_172 (by decide) ?_
      -- call SpokenMarksModel.number0
      refine h_kI (h_runV X hR (m_number0 l G w a ad t hT.1 1 9999 T e hRd (by omega) (by omega)) pn_yX10_number0 (hasC.of hT.1.ob rfl) q2776 q2778 qs41 q161 q2779 ⟨by decide, by decide⟩ hl.1 (Nat.le_of_ble_eq_true rfl) dX10_readsRest_175 ⟨by omega, by omega⟩) hL (fun z_48 w_49 hp_50 H locs hR hL => ?_)
      obtain ⟨rfl, t_51, hT2, hE_t_51, et_52⟩ := hp_50
      have hT := hT.tr hT2
      clear hT2
      have hR1 := et_52
      have hnr := rNum_r (T := T) (lo := 1) (hi := 9999) (e := e) (by decide)
      refine h_i2l hx hb dX10_readsRest_178 (by omega) ?_
      refine tw_last X hR hL hT (k := 28) (by decide) (9 * k + 1) (by omega) (by show _ < _; simp only [twN]; omega) (by omega) dX10_readsRest_179 (fun t_53 et_54 w_55 hT H locs hR hL => ?_)
      have hE_t_53 := TwE.ast et_54
      have hv_t_53 := tast_v et_54
      refine lv_goto (tgt := 255) hx hb dX10_readsRest_180 (by decide) ?_
      have hre : rRst T its e = ((rNum T 1 9999 e).1, (3, (rNum T 1 9999 e).2, 0, [], [], [])) := by unfold rRst; rw [if_neg (by omega)]; rw [if_neg (by omega)]; rw [if_neg (by omega)]; rw [if_pos (by omega)]
      exact h_vreturn hx hb hlk hret hR hL ⟨t_53, hT, (TwE.tr (S2 := [1, 2, 17, 18, 19, 20, 21, 22, 23, 24, 26, 27, 28]) (TwE.tr (S2 := [1, 2, 17, 18, 19, 20, 21, 22, 23, 24, 26, 27, 28]) (TwE.rf : TwE [] t t) hE_t_51 rfl rfl) hE_t_53 rfl rfl), (by rw [hre]; exact ⟨(hR1.mv (TwE.tr (S2 := [28]) (TwE.rf : TwE [] t_51 t_51) hE_t_53 rfl rfl) (by decide) (by decide) (by decide) (by decide) (by decide) (by decide) (by decide) (by decide)), (fun i hi => by rw [hv_t_53, (hE_t_51 28 (by decide)).2]; unfold zset; rw [if_neg (by omega)]), (by rw [hv_t_53, (hE_t_51 28 (by decide)).2]; unfold zset; rw [if_neg (by omega)]), (by rw [hv_t_53]; exact CelR.put (by rw [(hE_t_51 28 (by decide)).2]; exact hcr) (by first | exact Or.inl ⟨by omega, by omega⟩ | exact Or.inr ⟨by omega, by omega⟩)), (fun hw => ⟨OrdAt.mk2 (Eq.trans (by rw [hv_t_53, (hE_t_51 28 (by decide)).2]; unfold zset; rw [if_neg (by omega)]) (hc.trans (by omega))) (by decide) (fun _ => (by rw [hv_t_53, (hE_t_51 28 (by decide)).2]; unfold zset; rw [if_pos rfl])) (fun q => by omega), OrdOk.mk2 (by decide) (fun _ => ⟨by omega, by omega⟩) (fun q => by omega) (fun q => by omega)⟩)⟩)⟩ (by omega) (by omega) rfl rfl dX10_readsRest_255
    ·
      refine h_tabIn hx hb 183 dX10_readsRest_1 ⟨by omega, by omega⟩ (by omega) (by rw [c_s]; rfl) (by decide) ?_
      refine lv_aload_n hx hb dX10_readsRest_183 rfl (lv_at hl 0 rfl) ?_
      refine tw_get X hR hT 28 (by decide) q2969 rfl dX10_readsRest_184 ?_
      refine lv_iload_n hx hb dX10_readsRest_187 rfl (lv_at hl 1 rfl) ?_
      refine h_iconst hx hb dX10_readsRest_188 ?_
      refine h_iadd hx hb dX10_readsRest_189 ?_
      refine lv_aload_n hx hb dX10_readsRest_190 rfl (lv_at hl 0 rfl) ?_
      refine h_iconst hx hb dX10_readsRest_191 ?_
      refine h_sipush hx hb dX10_readsRest_192 (by decide) ?_
      -- call SpokenMarksModel.number0
      refine h_kI (h_runV X hR (m_number0 l G w a ad t hT.1 1 9999 T e hRd (by omega) (by omega)) pn_yX10_number0 (hasC.of hT.1.ob rfl) q2776 q2778 qs41 q161 q2779 ⟨by decide, by decide⟩ hl.1 (Nat.le_of_ble_eq_true rfl) dX10_readsRest_195 ⟨by omega, by omega⟩) hL (fun z_56 w_57 hp_58 H locs hR hL => ?_)
      obtain ⟨rfl, t_59, hT2, hE_t_59, et_60⟩ := hp_58
      have hT := hT.tr hT2
      clear hT2
      have hR1 := et_60
      have hnr := rNum_r (T := T) (lo := 1) (hi := 9999) (e := e) (by decide)
      refine h_i2l hx hb dX10_readsRest_198 (by omega) ?_
      refine tw_last X hR hL hT (k := 28) (by decide) (9 * k + 1) (by omega) (by show _ < _; simp only [twN]; omega) (by omega) dX10_readsRest_199 (fun t_61 et_62 w_63 hT H locs hR hL => ?_)
      have hE_t_61 := TwE.ast et_62
      have hv_t_61 := tast_v et_62
      refine lv_aload_n hx hb dX10_readsRest_200 rfl (lv_at hl 0 rfl) ?_
      refine tw_get X hR hT 28 (by decide) q2969 rfl dX10_readsRest_201 ?_
      refine lv_iload_n hx hb dX10_readsRest_204 rfl (lv_at hl 1 rfl) ?_
      refine h_iconst hx hb dX10_readsRest_205 ?_
      refine h_iadd hx hb dX10_readsRest_206 ?_
      refine lv_aload_n hx hb dX10_readsRest_207 rfl (lv_at hl 0 rfl) ?_
      refine h_iconst hx hb dX10_readsRest_208 ?_
      refine h_bipush hx hb dX10_readsRest_209 (by decide) ?_
      -- call SpokenMarksModel.number0
      refine h_kI (h_runV X hR (m_number0 l G w_63 a ad t_61 hT.1 1 20 T ((rNum T 1 9999 e).1) (hR1.mv hE_t_61 (by decide) (by decide) (by decide) (by decide) (by decide) (by decide) (by decide) (by decide)) (by omega) (by omega)) pn_yX10_number0 (hasC.of hT.1.ob rfl) q2776 q2778 qs41 q161 q2779 ⟨by decide, by decide⟩ hl.1 (Nat.le_of_ble_eq_true rfl) dX10_readsRest_211 ⟨by omega, by omega⟩) hL (fun z_64 w_65 hp_66 H locs hR hL => ?_)
      obtain ⟨rfl, t_67, hT2, hE_t_67, et_68⟩ := hp_66
      have hT := hT.tr hT2
      clear hT2
      have hR2 := et_68
      have hnr2 := rNum_r (T := T) (lo := 1) (hi := 20) (e := (rNum T 1 9999 e).1) (by decide)
      refine h_i2l hx hb dX10_readsRest_214 (by omega) ?_
      refine tw_last X hR hL hT (k := 28) (by decide) (9 * k + 2) (by omega) (by show _ < _; simp only [twN]; omega) (by omega) dX10_readsRest_215 (fun t_69 et_70 w_71 hT H locs hR hL => ?_)
      have hE_t_69 := TwE.ast et_70
      have hv_t_69 := tast_v et_70
      refine lv_goto (tgt := 255) hx hb dX10_readsRest_216 (by decide) ?_
      have hre : rRst T its e = ((rNum T 1 20 (rNum T 1 9999 e).1).1, (4, (rNum T 1 9999 e).2, (rNum T 1 20 (rNum T 1 9999 e).1).2, [], [], [])) := by unfold rRst; rw [if_neg (by omega)]; rw [if_neg (by omega)]; rw [if_neg (by omega)]; rw [if_neg (by omega)]; rw [if_pos (by omega)]
      exact h_vreturn hx hb hlk hret hR hL ⟨t_69, hT, (TwE.tr (S2 := [1, 2, 17, 18, 19, 20, 21, 22, 23, 24, 26, 27, 28]) (TwE.tr (S2 := [1, 2, 17, 18, 19, 20, 21, 22, 23, 24, 26, 27, 28]) (TwE.tr (S2 := [1, 2, 17, 18, 19, 20, 21, 22, 23, 24, 26, 27, 28]) (TwE.tr (S2 := [1, 2, 17, 18, 19, 20, 21, 22, 23, 24, 26, 27, 28]) (TwE.rf : TwE [] t t) hE_t_59 rfl rfl) hE_t_61 rfl rfl) hE_t_67 rfl rfl) hE_t_69 rfl rfl), (by rw [hre]; exact ⟨(hR2.mv (TwE.tr (S2 := [28]) (TwE.rf : TwE [] t_67 t_67) hE_t_69 rfl rfl) (by decide) (by decide) (by decide) (by decide) (by decide) (by decide) (by decide) (by decide)), (fun i hi => by rw [hv_t_69, (hE_t_67 28 (by decide)).2, hv_t_61, (hE_t_59 28 (by decide)).2]; unfold zset; rw [if_neg (by omega), if_neg (by omega)]), (by rw [hv_t_69, (hE_t_67 28 (by decide)).2, hv_t_61, (hE_t_59 28 (by decide)).2]; unfold zset; rw [if_neg (by omega), if_neg (by omega)]), (by rw [hv_t_69]; exact CelR.put (by rw [(hE_t_67 28 (by decide)).2]; exact (by rw [hv_t_61]; exact CelR.put (by rw [(hE_t_59 28 (by decide)).2]; exact hcr) (by first | exact Or.inl ⟨by omega, by omega⟩ | exact Or.inr ⟨by omega, by omega⟩))) (by first | exact Or.inl ⟨by omega, by omega⟩ | exact Or.inr ⟨by omega, by omega⟩)), (fun hw => ⟨OrdAt.mk2 (Eq.trans (by rw [hv_t_69, (hE_t_67 28 (by decide)).2, hv_t_61, (hE_t_59 28 (by decide)).2]; unfold zset; rw [if_neg (by omega), if_neg (by omega)]) (hc.trans (by omega))) (by decide) (fun _ => (by rw [hv_t_69, (hE_t_67 28 (by decide)).2, hv_t_61, (hE_t_59 28 (by decide)).2]; unfold zset; rw [if_neg (by omega), if_pos rfl])) (fun _ => (by rw [hv_t_69, (hE_t_67 28 (by decide)).2, hv_t_61, (hE_t_59 28 (by decide)).2]; unfold zset; rw [if_pos rfl])), OrdOk.mk2 (by decide) (fun _ => ⟨by omega, by omega⟩) (fun q => ⟨by omega, by omega⟩) (fun q => ⟨by omega, by omega⟩)⟩)⟩)⟩ (by omega) (by omega) rfl rfl dX10_readsRest_255
    ·
      refine h_tabIn hx hb 219 dX10_readsRest_1 ⟨by omega, by omega⟩ (by omega) (by rw [c_s]; rfl) (by decide) ?_
      refine lv_aload_n hx hb dX10_readsRest_219 rfl (lv_at hl 0 rfl) ?_
      refine tw_get X hR hT 28 (by decide) q2969 rfl dX10_readsRest_220 ?_
      refine lv_iload_n hx hb dX10_readsRest_223 rfl (lv_at hl 1 rfl) ?_
      refine h_iconst hx hb dX10_readsRest_224 ?_
      refine h_iadd hx hb dX10_readsRest_225 ?_
      refine lv_aload_n hx hb dX10_readsRest_226 rfl (lv_at hl 0 rfl) ?_
      refine h_iconst hx hb dX10_readsRest_227 ?_
      refine h_bipush hx hb dX10_readsRest_228 (by decide) ?_
      -- call SpokenMarksModel.number0
      refine h_kI (h_runV X hR (m_number0 l G w a ad t hT.1 1 7 T e hRd (by omega) (by omega)) pn_yX10_number0 (hasC.of hT.1.ob rfl) q2776 q2778 qs41 q161 q2779 ⟨by decide, by decide⟩ hl.1 (Nat.le_of_ble_eq_true rfl) dX10_readsRest_230 ⟨by omega, by omega⟩) hL (fun z_72 w_73 hp_74 H locs hR hL => ?_)
      obtain ⟨rfl, t_75, hT2, hE_t_75, et_76⟩ := hp_74
      have hT := hT.tr hT2
      clear hT2
      have hR1 := et_76
      have hnr := rNum_r (T := T) (lo := 1) (hi := 7) (e := e) (by decide)
      refine h_i2l hx hb dX10_readsRest_233 (by omega) ?_
      refine tw_last X hR hL hT (k := 28) (by decide) (9 * k + 1) (by omega) (by show _ < _; simp only [twN]; omega) (by omega) dX10_readsRest_234 (fun t_77 et_78 w_79 hT H locs hR hL => ?_)
      have hE_t_77 := TwE.ast et_78
      have hv_t_77 := tast_v et_78
      refine lv_aload_n hx hb dX10_readsRest_235 rfl (lv_at hl 0 rfl) ?_
      refine tw_get X hR hT 28 (by decide) q2969 rfl dX10_readsRest_236 ?_
      refine lv_iload_n hx hb dX10_readsRest_239 rfl (lv_at hl 1 rfl) ?_
      refine h_iconst hx hb dX10_readsRest_240 ?_
      refine h_iadd hx hb dX10_readsRest_241 ?_
      refine lv_aload_n hx hb dX10_readsRest_242 rfl (lv_at hl 0 rfl) ?_
      refine h_iconst hx hb dX10_readsRest_243 ?_
      refine h_sipush hx hb dX10_readsRest_244 (by decide) ?_
      -- call SpokenMarksModel.number0
      refine h_kI (h_runV X hR (m_number0 l G w_79 a ad t_77 hT.1 0 10000 T ((rNum T 1 7 e).1) (hR1.mv hE_t_77 (by decide) (by decide) (by decide) (by decide) (by decide) (by decide) (by decide) (by decide)) (by omega) (by omega)) pn_yX10_number0 (hasC.of hT.1.ob rfl) q2776 q2778 qs41 q161 q2779 ⟨by decide, by decide⟩ hl.1 (Nat.le_of_ble_eq_true rfl) dX10_readsRest_247 ⟨by omega, by omega⟩) hL (fun z_80 w_81 hp_82 H locs hR hL => ?_)
      obtain ⟨rfl, t_83, hT2, hE_t_83, et_84⟩ := hp_82
      have hT := hT.tr hT2
      clear hT2
      have hR2 := et_84
      have hnr2 := rNum_r (T := T) (lo := 0) (hi := 10000) (e := (rNum T 1 7 e).1) (by decide)
      refine h_i2l hx hb dX10_readsRest_250 (by omega) ?_
      refine tw_last X hR hL hT (k := 28) (by decide) (9 * k + 2) (by omega) (by show _ < _; simp only [twN]; omega) (by omega) dX10_readsRest_251 (fun t_85 et_86 w_87 hT H locs hR hL => ?_)
      have hE_t_85 := TwE.ast et_86
      have hv_t_85 := tast_v et_86
      refine lv_goto (tgt := 255) hx hb dX10_readsRest_252 (by decide) ?_
      have hre : rRst T its e = ((rNum T 0 10000 (rNum T 1 7 e).1).1, (5, (rNum T 1 7 e).2, (rNum T 0 10000 (rNum T 1 7 e).1).2, [], [], [])) := by unfold rRst; rw [if_neg (by omega)]; rw [if_neg (by omega)]; rw [if_neg (by omega)]; rw [if_neg (by omega)]; rw [if_neg (by omega)]; rw [if_pos (by omega)]
      exact h_vreturn hx hb hlk hret hR hL ⟨t_85, hT, (TwE.tr (S2 := [1, 2, 17, 18, 19, 20, 21, 22, 23, 24, 26, 27, 28]) (TwE.tr (S2 := [1, 2, 17, 18, 19, 20, 21, 22, 23, 24, 26, 27, 28]) (TwE.tr (S2 := [1, 2, 17, 18, 19, 20, 21, 22, 23, 24, 26, 27, 28]) (TwE.tr (S2 := [1, 2, 17, 18, 19, 20, 21, 22, 23, 24, 26, 27, 28]) (TwE.rf : TwE [] t t) hE_t_75 rfl rfl) hE_t_77 rfl rfl) hE_t_83 rfl rfl) hE_t_85 rfl rfl), (by rw [hre]; exact ⟨(hR2.mv (TwE.tr (S2 := [28]) (TwE.rf : TwE [] t_83 t_83) hE_t_85 rfl rfl) (by decide) (by decide) (by decide) (by decide) (by decide) (by decide) (by decide) (by decide)), (fun i hi => by rw [hv_t_85, (hE_t_83 28 (by decide)).2, hv_t_77, (hE_t_75 28 (by decide)).2]; unfold zset; rw [if_neg (by omega), if_neg (by omega)]), (by rw [hv_t_85, (hE_t_83 28 (by decide)).2, hv_t_77, (hE_t_75 28 (by decide)).2]; unfold zset; rw [if_neg (by omega), if_neg (by omega)]), (by rw [hv_t_85]; exact CelR.put (by rw [(hE_t_83 28 (by decide)).2]; exact (by rw [hv_t_77]; exact CelR.put (by rw [(hE_t_75 28 (by decide)).2]; exact hcr) (by first | exact Or.inl ⟨by omega, by omega⟩ | exact Or.inr ⟨by omega, by omega⟩))) (by first | exact Or.inl ⟨by omega, by omega⟩ | exact Or.inr ⟨by omega, by omega⟩)), (fun hw => ⟨OrdAt.mk2 (Eq.trans (by rw [hv_t_85, (hE_t_83 28 (by decide)).2, hv_t_77, (hE_t_75 28 (by decide)).2]; unfold zset; rw [if_neg (by omega), if_neg (by omega)]) (hc.trans (by omega))) (by decide) (fun _ => (by rw [hv_t_85, (hE_t_83 28 (by decide)).2, hv_t_77, (hE_t_75 28 (by decide)).2]; unfold zset; rw [if_neg (by omega), if_pos rfl])) (fun _ => (by rw [hv_t_85, (hE_t_83 28 (by decide)).2, hv_t_77, (hE_t_75 28 (by decide)).2]; unfold zset; rw [if_pos rfl])), OrdOk.mk2 (by decide) (fun _ => ⟨by omega, by omega⟩) (fun q => ⟨by omega, by omega⟩) (fun q => ⟨by omega, by omega⟩)⟩)⟩)⟩ (by omega) (by omega) rfl rfl dX10_readsRest_255
  ·
    refine h_tabOut hx hb 255 dX10_readsRest_1 ⟨by omega, by omega⟩ (by omega) (by decide) ?_
    have hre : rRst T its e = (e, (its, 0, 0, [], [], [])) := by unfold rRst; rw [if_neg (by omega)]; rw [if_neg (by omega)]; rw [if_neg (by omega)]; rw [if_neg (by omega)]; rw [if_neg (by omega)]; rw [if_neg (by omega)];
    exact h_vreturn hx hb hlk hret hR hL ⟨t, hT, (TwE.rf : TwE [1, 2, 17, 18, 19, 20, 21, 22, 23, 24, 26, 27, 28] t t), (by rw [hre]; exact ⟨hRd, (fun i hi => rfl), rfl, hcr, (fun hw => ⟨OrdAt.mk2 hc (by omega) (fun q => by omega) (fun q => by omega), OrdOk.mk2 (by omega) (fun q => by omega) (fun q => by omega) (fun q => by omega)⟩)⟩)⟩ (by omega) (by omega) rfl rfl dX10_readsRest_255
