/-! the twin: say -/
set_option maxRecDepth 100000
def RdW (T : List Int) (e : Rd) : Prop := ∀ s, e = .inr s → ScW T s
theorem RdW.tok {T : List Int} {p : Nat} (hp : p ≤ T.length) : RdW T (.inr (tok T p)) := fun s hs => by cases hs; exact tok_w hp
theorem rNext_w {T : List Int} {e : Rd} (h : RdW T e) : RdW T (rNext T e) := by
  cases e with
  | inl x => intro s hs; cases hs
  | inr s0 => exact RdW.tok (h s0 rfl).2.1
theorem rMust_w {T : List Int} {k : Int} {e : Rd} (h : RdW T e) : RdW T (rMust T k e) := by
  cases e with
  | inl x => intro s hs; cases hs
  | inr s0 =>
    intro s hs
    by_cases q : scK s0 = k
    · have e1 : rMust T k (.inr s0) = .inr (tok T (scA s0)) := if_pos q
      rw [e1] at hs; cases hs; exact tok_w (h s0 rfl).2.1
    · have e1 : rMust T k (.inr s0) = .inl (scB s0, 1) := if_neg q
      rw [e1] at hs; cases hs
theorem rLook_w {T : List Int} {e : Rd} (h : RdW T e) : RdW T (rLook T e).1 := by
  cases e with
  | inl x => intro s hs; cases hs
  | inr s0 =>
    by_cases h1 : scK s0 = 1
    · by_cases h2 : scA s0 - scB s0 ≤ 8
      · rw [rLook_3 h1 h2]; exact h
      · rw [rLook_2 h1 h2]; intro s hs; cases hs
    · rw [rLook_1 h1]; intro s hs; cases hs
theorem rWord_w {T : List Int} {e : Rd} (h : RdW T e) : RdW T (rWord T e).1 := rNext_w (rLook_w h)
theorem rWord_k {T : List Int} {e : Rd} {s1 : Sc} (hW : RdW T e) (h : (rWord T e).1 = .inr s1) : encR (rLook T e) = enc (rWord T e).2 ∧ Wrd (rWord T e).2 ∧ (rWord T e).2 ≠ [] := by
  cases e with
  | inl x => cases h
  | inr s => exact rWord_ok (hW s rfl) h
theorem rSay_ok {T : List Int} {e : Rd} {s1 : Sc} (hW : RdW T e) (h : (rSay T e).1 = .inr s1) : (encR (rLook T e) = enc (rSay T e).2.1 ∧ encR (rLook T (rMust T 4 (rWord T e).1)) = enc (rSay T e).2.2) ∧ (Wrd (rSay T e).2.1 ∧ (rSay T e).2.1 ≠ []) ∧ Wrd (rSay T e).2.2 ∧ (rSay T e).2.2 ≠ [] := by
  have h2 : (rWord T (rMust T 4 (rWord T e).1)).1 = .inr s1 := h
  have hb := rWord_k (rMust_w (rWord_w hW)) h2
  obtain ⟨s3, hq⟩ : ∃ s3, (rWord T e).1 = .inr s3 := by
    cases hq : (rWord T e).1 with
    | inl x => rw [hq] at h2; cases h2
    | inr s3 => exact ⟨s3, rfl⟩
  have ha := rWord_k hW hq
  exact ⟨⟨ha.1, hb.1⟩, ha.2, hb.2⟩
def rSy (T : List Int) : Rd × List Int × List Int := (rEnd (rSay T (.inr (tok T 0))).1, (rSay T (.inr (tok T 0))).2)
def yst (B : List Int) (n : Int) : Rd × List Int × List Int := rSy (B.take n.toNat)
theorem yst_ok {B : List Int} {n : Int} {s1 : Sc} (h : (rSay (B.take n.toNat) (.inr (tok (B.take n.toNat) 0))).1 = .inr s1) : (encR (rLook (B.take n.toNat) (.inr (tok (B.take n.toNat) 0))) = enc (yst B n).2.1 ∧ encR (rLook (B.take n.toNat) (rMust (B.take n.toNat) 4 (rWord (B.take n.toNat) (.inr (tok (B.take n.toNat) 0))).1)) = enc (yst B n).2.2) ∧ (Wrd (yst B n).2.1 ∧ (yst B n).2.1 ≠ []) ∧ Wrd (yst B n).2.2 ∧ (yst B n).2.2 ≠ [] := rSay_ok (RdW.tok (Nat.zero_le _)) h
def sayA (s : Sys) (B : List Int) (n : Int) : Cat × Int := if wrC (yst B n).1 = 0 then syA (sC s) (yst B n).2.1 (yst B n).2.2 else (sC s, -10 - wrC (yst B n).1)
theorem syA_r {c : Cat} {L M : List Int} (h : CatS c) : -3 ≤ (syA c L M).2 ∧ (syA c L M).2 ≤ 40 := by
  have hn : cN c ≤ 40 := h.2.2.2.1.1
  unfold syA
  split
  · dsimp only; omega
  split
  · dsimp only; omega
  · have := ordA_r (c := setRl c (cRl c ++ [(L, M)])) hn
    omega

theorem pn_yX10_readsSay : ParN yX10_readsSay 0 := by decide +kernel
theorem pn_yX10_says : ParN yX10_says 2 := by decide +kernel

set_option maxHeartbeats 4000000 in
set_option maxRecDepth 100000 in
/-- say -/
theorem m_say (l : Launch) (G : Gl) (w : Wd) (a : Nat) (ad : Nat → Nat) (t : Tw) (hT : TwAt G w a ad t) (n : Int) (s : Sys) (B : List Int) (hS : SysIs t s) (hx_n : R32 n) (hB : BfAt t B) (hb15 : t.1 15 = (B.length : Int)) (hW : OpW s) : HM l yX10_say cX10_say 2 (some .int) 10 0 0 G [.ref a, .int (iI (n))] w (QI G (fun z_ w_ => z_ = (if gOk B n then (sayA s B n).2 else 0) ∧ ∃ t_ : Tw, TwS G w w_ a ad t_ ∧ TwE [0, 1, 2, 3, 5, 8, 9, 10, 12, 15, 16, 17, 18, 19, 20, 21, 22, 26, 27] t t_ ∧ t_.1 0 = (if gOk B n then 0 else 1) ∧ t_.1 22 = (if gOk B n then errP (yst B n).1 else t.1 22) ∧ t_.1 15 = (if gOk B n then 0 else t.1 15) ∧ SysIs t_ (if gOk B n then opS s (sayA s B n) else s))) := by
  refine HM.mk (by decide +kernel) (Nat.le_of_ble_eq_true rfl) ?_
  intro p9 e9 s9 m9 a9 b9 meth9 c9 ls X hret hlk hnm hl H hR
  have hx := X.1.1
  have hb := X.1.2.1
  have hl : lv_has ls 2 [(0, .ref a), (1, .int (iI (n)))] := hl
  have hL : LK G [] := fun q h => absurd h List.not_mem_nil
  generalize ([] : List Loc) = locs at hL ⊢
  have hTb := hT
  have hT : TwS G w w a ad t := TwS.rf hT
  have hB8 := hB.1.1
  refine lv_aload_n hx hb dX10_say_0 rfl (lv_at hl 0 rfl) ?_
  refine h_iconst hx hb dX10_say_1 ?_
  refine tw_puti X hR hL hT 0 (by decide) q2941 rfl rfl rfl twF_s0 (by omega) dX10_say_2 (fun t_1 et_2 w_3 hT H locs hR hL => ?_)
  have hE_t_1 := TwE.put et_2
  have hv_t_1 := tput_v et_2
  refine lv_aload_n hx hb dX10_say_5 rfl (lv_at hl 0 rfl) ?_
  refine lv_iload_n hx hb dX10_say_6 rfl (lv_at hl 1 rfl) ?_
  refine h_i2l hx hb dX10_say_7 (by omega) ?_
  refine h_lconst hx hb 0 dX10_say_8 rfl ?_
  refine lv_aload_n hx hb dX10_say_9 rfl (lv_at hl 0 rfl) ?_
  refine tw_get X hR hT 15 (by decide) q2956 (v := .int (iI ((B.length : Int)))) (congrArg (fun z => some (Value.int (iI z))) (((hE_t_1 15 (by decide)).1).trans hb15)) dX10_say_10 ?_
  refine h_i2l hx hb dX10_say_13 (by omega) ?_
  -- call SpokenMarksModel.in
  refine h_kIp (h_runS X hR (m_in l G w_3  n 0 ((B.length : Int)) (by omega) (by omega) (by omega)) pn_yX10_in q2730 q2731 q161 q2732 ⟨by decide, by decide⟩ hl.1 (Nat.le_of_ble_eq_true rfl) dX10_say_14 ⟨by omega, by omega⟩) hL (fun H locs hR hL => ?_)
  refine h_iconst hx hb dX10_say_17 ?_
  -- call SpokenMarksModel.fails
  refine h_kI (h_runV X hR (m_fails l G w_3 a ad t_1 hT.1 (b2i (0 ≤ n ∧ n ≤ ((B.length : Int)))) 1 (b2i_R _) ⟨by decide, by decide⟩ hv_t_1) pn_yX10_fails (hasC.of hT.1.ob rfl) q2733 q2735 qs33 q161 q2736 ⟨by decide, by decide⟩ hl.1 (Nat.le_of_ble_eq_true rfl) dX10_say_18 ⟨by omega, by omega⟩) hL (fun z_7 w_8 hp_9 H locs hR hL => ?_)
  obtain ⟨rfl, t_10, hT2, hE_t_10, et_11⟩ := hp_9
  have hT := hT.tr hT2
  clear hT2
  refine h_if_eq hx hb 26 dX10_say_21 (by decide) (b2i_R _) (fun c_f => ?_) (fun c_f => ?_)
  ·
    have hok := b2i_n1.mp (b2i_0.mp c_f)
    have hth : t_10.1 0 = 0 := (et_11).trans (if_neg (b2i_0.mp c_f))
    refine lv_aload_n hx hb dX10_say_26 rfl (lv_at hl 0 rfl) ?_
    refine lv_iload_n hx hb dX10_say_27 rfl (lv_at hl 1 rfl) ?_
    refine W.eq (g2 := F0 m9 28 ls [.int (iI (((B.take n.toNat).length : Int))), .ref a]) (congrArg (fun z_ : Int => F0 m9 28 ls [.int (iI (z_)), .ref a]) (show (n : Int) = ((B.take n.toNat).length : Int) from (by rw [List.length_take]; have := hok; omega))) ?_
    -- call SpokenMarksModel.starts
    refine h_kV (h_runV X hR (m_starts l G w_8 a ad t_10 hT.1 (B.take n.toNat) (hB.tk n.toNat (((hE_t_10 14 (by decide)).2).trans (hE_t_1 14 (by decide)).2))) pn_yX10_starts (hasC.of hT.1.ob rfl) q2740 q2742 qs34 q161 q2743 ⟨by decide, by decide⟩ hl.1 (Nat.le_of_ble_eq_true rfl) dX10_say_28 ⟨by omega, by omega⟩) hL (fun w_13 hp_14 H locs hR hL => ?_)
    obtain ⟨t_15, hT2, hE_t_15, et_16⟩ := hp_14
    have hT := hT.tr hT2
    clear hT2
    have h15 := et_16.2
    have hR0 := et_16.1
    refine lv_aload_n hx hb dX10_say_31 rfl (lv_at hl 0 rfl) ?_
    -- call SpokenMarksModel.readsSay
    refine h_kV (h_runV X hR (m_readsSay l G w_13 a ad t_15 hT.1 (B.take n.toNat) (.inr (tok (B.take n.toNat) 0)) hR0) pn_yX10_readsSay (hasC.of hT.1.ob rfl) q3287 q3289 qs111 q161 q3290 ⟨by decide, by decide⟩ hl.1 (Nat.le_of_ble_eq_true rfl) dX10_say_32 ⟨by omega, by omega⟩) hL (fun w_18 hp_19 H locs hR hL => ?_)
    obtain ⟨t_20, hT2, hE_t_20, et_21⟩ := hp_19
    have hT := hT.tr hT2
    clear hT2
    have hRq : RdAt t_20 (B.take n.toNat) (rSay (B.take n.toNat) (.inr (tok (B.take n.toNat) 0))).1 := et_21.1
    have h26 := et_21.2.1
    have h27 := et_21.2.2
    refine lv_aload_n hx hb dX10_say_35 rfl (lv_at hl 0 rfl) ?_
    refine tw_get X hR hT 19 (by decide) q2960 (v := .int (iI (t_20.1 19))) rfl dX10_say_36 ?_
    have rg_t_20_19 := hT.1.ri 19 (by decide) (by decide)
    refine h_if_eq hx hb 47 dX10_say_39 (by decide) (by omega) (fun c_k => ?_) (fun c_k => ?_)
    ·
      have hRz : RdAt t_20 (B.take n.toNat) (yst B n).1 := by show RdAt _ _ (rEnd (rSay (B.take n.toNat) (.inr (tok (B.take n.toNat) 0))).1); rw [hRq.end0 c_k]; exact hRq
      have hw9 := hRz.wr9
      refine lv_aload_n hx hb dX10_say_47 rfl (lv_at hl 0 rfl) ?_
      refine tw_get X hR hT 3 (by decide) q2944 rfl dX10_say_48 ?_
      refine h_iconst hx hb dX10_say_51 ?_
      refine lv_aload_n hx hb dX10_say_52 rfl (lv_at hl 0 rfl) ?_
      refine tw_get X hR hT 5 (by decide) q2946 rfl dX10_say_53 ?_
      refine h_iconst hx hb dX10_say_56 ?_
      refine h_sipush hx hb dX10_say_57 (by decide) ?_
      -- call SpokenMarksModel.copies
      refine h_kV (h_runS X hR (m_copies l G w_18 a ad t_20 hT.1 3 0 5 0 606 (by decide) (by decide) (by show _ ≤ _; simp only [twN]; omega) (by show _ ≤ _; simp only [twN]; omega) (by first | exact Or.inl (by decide) | exact Or.inr (by omega))) pn_yX10_copies q2737 q2738 q161 q2739 ⟨by decide, by decide⟩ hl.1 (Nat.le_of_ble_eq_true rfl) dX10_say_60 ⟨by omega, by omega⟩) hL (fun w_23 hp_24 H locs hR hL => ?_)
      obtain ⟨t_25, hT2, e1_, e2_, hc_t_25⟩ := hp_24
      have hE_t_25 : TwE [5] t_20 t_25 := fun k_ hk_ => ⟨by rw [e1_], e2_ k_ (by simpa using hk_)⟩
      have e1_t_25 := e1_
      have hT := hT.tr hT2
      clear hT2 e1_ e2_
      have hTd : RowIs (t_25.2 5) (sC s) := hS.C.mv606 (fun i hi => by rw [hc_t_25]; unfold cpyF; rw [if_pos (by omega), ((((hE_t_20 3 (by decide)).2).trans (hE_t_15 3 (by decide)).2).trans (hE_t_10 3 (by decide)).2).trans (hE_t_1 3 (by decide)).2]; congr 1)
      refine lv_aload_n hx hb dX10_say_63 rfl (lv_at hl 0 rfl) ?_
      refine lv_aload_n hx hb dX10_say_64 rfl (lv_at hl 0 rfl) ?_
      refine tw_get X hR hT 21 (by decide) q2962 (v := .int (iI (wrC (yst B n).1))) (congrArg (fun z => some (Value.int (iI z))) (((hE_t_25 21 (by decide)).1).trans hRz.wr)) dX10_say_65 ?_
      refine h_if_eq hx hb 81 dX10_say_68 (by decide) (by omega) (fun c_w => ?_) (fun c_w => ?_)
      ·
        obtain ⟨s1, hs1, hs2⟩ := rEnd_ok (show wrC (rEnd (rSay (B.take n.toNat) (.inr (tok (B.take n.toNat) 0))).1) = 0 from c_w) hRq.ne0
        obtain ⟨⟨hen1, hen2⟩, hLw, hMw⟩ := yst_ok (B := B) (n := n) hs1
        refine lv_aload_n hx hb dX10_say_81 rfl (lv_at hl 0 rfl) ?_
        refine lv_aload_n hx hb dX10_say_82 rfl (lv_at hl 0 rfl) ?_
        refine tw_get X hR hT 26 (by decide) q2967 (v := .long (lI (encR (rLook (B.take n.toNat) (.inr (tok (B.take n.toNat) 0)))))) (congrArg (fun z => some (Value.long (lI z))) (((hE_t_25 26 (by decide)).1).trans h26)) dX10_say_83 ?_
        refine W.eq (g2 := F0 m9 86 ls [.long (lI (enc (yst B n).2.1)), .ref a, .ref a]) (congrArg (fun z_ : Int => F0 m9 86 ls [.long (lI (z_)), .ref a, .ref a]) (show (encR (rLook (B.take n.toNat) (.inr (tok (B.take n.toNat) 0))) : Int) = enc (yst B n).2.1 from (hen1))) ?_
        refine lv_aload_n hx hb dX10_say_86 rfl (lv_at hl 0 rfl) ?_
        refine tw_get X hR hT 27 (by decide) q2968 (v := .long (lI (encR (rLook (B.take n.toNat) (rMust (B.take n.toNat) 4 (rWord (B.take n.toNat) (.inr (tok (B.take n.toNat) 0))).1))))) (congrArg (fun z => some (Value.long (lI z))) (((hE_t_25 27 (by decide)).1).trans h27)) dX10_say_87 ?_
        refine W.eq (g2 := F0 m9 90 ls [.long (lI (enc (yst B n).2.2)), .long (lI (enc (yst B n).2.1)), .ref a, .ref a]) (congrArg (fun z_ : Int => F0 m9 90 ls [.long (lI (z_)), .long (lI (enc (yst B n).2.1)), .ref a, .ref a]) (show (encR (rLook (B.take n.toNat) (rMust (B.take n.toNat) 4 (rWord (B.take n.toNat) (.inr (tok (B.take n.toNat) 0))).1)) : Int) = enc (yst B n).2.2 from (hen2))) ?_
        -- call SpokenMarksModel.says
        refine h_kI (h_runV X hR (m_says l G w_23 a ad t_25 hT.1 (sC s) ((yst B n).2.1) ((yst B n).2.2) (by rw [(((((hE_t_25 3 (by decide)).2).trans (hE_t_20 3 (by decide)).2).trans (hE_t_15 3 (by decide)).2).trans (hE_t_10 3 (by decide)).2).trans (hE_t_1 3 (by decide)).2]; exact hS.C) hLw hMw hW.1 hW.2.1) pn_yX10_says (hasC.of hT.1.ob rfl) q2815 q2817 qs50 q161 q2818 ⟨by decide, by decide⟩ hl.1 (Nat.le_of_ble_eq_true rfl) dX10_say_90 ⟨by omega, by omega⟩) hL (fun z_26 w_27 hp_28 H locs hR hL => ?_)
        obtain ⟨rfl, t_29, hT2, hE_t_29, et_30⟩ := hp_28
        have hT := hT.tr hT2
        clear hT2
        have hC3 := et_30
        have har := syA_r (L := (yst B n).2.1) (M := (yst B n).2.2) hS.C.s
        have hS2 : SysIs t_29 ((syA (sC s) (yst B n).2.1 (yst B n).2.2).1, sU s, sD s, sR s) := hS.row (TwE.tr (S2 := [0, 1, 2, 3, 5, 15, 16, 17, 18, 19, 20, 21, 22, 26, 27]) (TwE.tr (S2 := [0, 1, 2, 3, 5, 15, 16, 17, 18, 19, 20, 21, 22, 26, 27]) (TwE.tr (S2 := [0, 1, 2, 3, 5, 15, 16, 17, 18, 19, 20, 21, 22, 26, 27]) (TwE.tr (S2 := [0, 1, 2, 3, 5, 15, 16, 17, 18, 19, 20, 21, 22, 26, 27]) (TwE.tr (S2 := [0, 1, 2, 3, 5, 15, 16, 17, 18, 19, 20, 21, 22, 26, 27]) (TwE.tr (S2 := [0, 1, 2, 3, 5, 15, 16, 17, 18, 19, 20, 21, 22, 26, 27]) (TwE.rf : TwE [] t t) hE_t_1 rfl rfl) hE_t_10 rfl rfl) hE_t_15 rfl rfl) hE_t_20 rfl rfl) hE_t_25 rfl rfl) hE_t_29 rfl rfl) (by decide) (by decide) (by decide) (by decide) hC3
        have hTd3 : RowIs (t_29.2 5) (sC s) := by rw [(hE_t_29 5 (by decide)).2]; exact hTd
        -- call SpokenMarksModel.ends
        refine h_kI (h_runV X hR (m_ends l G w_27 a ad t_29 hT.1 ((syA (sC s) ((yst B n).2.1) ((yst B n).2.2)).2) (((syA (sC s) (yst B n).2.1 (yst B n).2.2).1, sU s, sD s, sR s)) (sC s) hS2 hTd3 ⟨by omega, by omega⟩ hW.2.2.2.1 hW.2.2.2.2) pn_yX10_ends (hasC.of hT.1.ob rfl) q3242 q3244 qs102 q161 q3245 ⟨by decide, by decide⟩ hl.1 (Nat.le_of_ble_eq_true rfl) dX10_say_93 ⟨by omega, by omega⟩) hL (fun z_31 w_32 hp_33 H locs hR hL => ?_)
        obtain ⟨rfl, t_34, hT2, hE_t_34, et_35⟩ := hp_33
        have hT := hT.tr hT2
        clear hT2
        exact h_ireturn hx hb hlk hret hR hL rfl ⟨(by rw [if_pos hok, sayA, if_pos c_w]), ⟨t_34, hT, (TwE.tr (S2 := [0, 1, 2, 3, 5, 8, 9, 10, 12, 15, 16, 17, 18, 19, 20, 21, 22, 26, 27]) (TwE.tr (S2 := [0, 1, 2, 3, 5, 8, 9, 10, 12, 15, 16, 17, 18, 19, 20, 21, 22, 26, 27]) (TwE.tr (S2 := [0, 1, 2, 3, 5, 8, 9, 10, 12, 15, 16, 17, 18, 19, 20, 21, 22, 26, 27]) (TwE.tr (S2 := [0, 1, 2, 3, 5, 8, 9, 10, 12, 15, 16, 17, 18, 19, 20, 21, 22, 26, 27]) (TwE.tr (S2 := [0, 1, 2, 3, 5, 8, 9, 10, 12, 15, 16, 17, 18, 19, 20, 21, 22, 26, 27]) (TwE.tr (S2 := [0, 1, 2, 3, 5, 8, 9, 10, 12, 15, 16, 17, 18, 19, 20, 21, 22, 26, 27]) (TwE.tr (S2 := [0, 1, 2, 3, 5, 8, 9, 10, 12, 15, 16, 17, 18, 19, 20, 21, 22, 26, 27]) (TwE.rf : TwE [] t t) hE_t_1 rfl rfl) hE_t_10 rfl rfl) hE_t_15 rfl rfl) hE_t_20 rfl rfl) hE_t_25 rfl rfl) hE_t_29 rfl rfl) hE_t_34 rfl rfl), ⟨by rw [if_pos hok]; exact ((((((hE_t_34 0 (by decide)).1).trans (hE_t_29 0 (by decide)).1).trans (hE_t_25 0 (by decide)).1).trans (hE_t_20 0 (by decide)).1).trans (hE_t_15 0 (by decide)).1).trans hth, by rw [if_pos hok]; exact ((((hE_t_34 22 (by decide)).1).trans (hE_t_29 22 (by decide)).1).trans (hE_t_25 22 (by decide)).1).trans hRz.er22, by rw [if_pos hok]; exact (((((hE_t_34 15 (by decide)).1).trans (hE_t_29 15 (by decide)).1).trans (hE_t_25 15 (by decide)).1).trans (hE_t_20 15 (by decide)).1).trans h15, by rw [if_pos hok, sayA, if_pos c_w]; exact ⟨by rw [(hE_t_34 3 (by decide)).2]; exact hS2.1, et_35.1, et_35.2.1, et_35.2.2⟩⟩⟩⟩ (by omega) (by omega) rfl rfl dX10_say_96
      ·
        refine h_bipush hx hb dX10_say_71 (by decide) ?_
        refine lv_aload_n hx hb dX10_say_73 rfl (lv_at hl 0 rfl) ?_
        refine tw_get X hR hT 21 (by decide) q2962 (v := .int (iI (wrC (yst B n).1))) (congrArg (fun z => some (Value.int (iI z))) (((hE_t_25 21 (by decide)).1).trans hRz.wr)) dX10_say_74 ?_
        refine h_isub hx hb dX10_say_77 ?_
        refine lv_goto (tgt := 93) hx hb dX10_say_78 (by decide) ?_
        have har := syA_r (L := (yst B n).2.1) (M := (yst B n).2.2) hS.C.s
        have hS2 : SysIs t_25 (sC s, sU s, sD s, sR s) := hS.row (TwE.tr (S2 := [0, 1, 2, 3, 5, 15, 16, 17, 18, 19, 20, 21, 22, 26, 27]) (TwE.tr (S2 := [0, 1, 2, 3, 5, 15, 16, 17, 18, 19, 20, 21, 22, 26, 27]) (TwE.tr (S2 := [0, 1, 2, 3, 5, 15, 16, 17, 18, 19, 20, 21, 22, 26, 27]) (TwE.tr (S2 := [0, 1, 2, 3, 5, 15, 16, 17, 18, 19, 20, 21, 22, 26, 27]) (TwE.tr (S2 := [0, 1, 2, 3, 5, 15, 16, 17, 18, 19, 20, 21, 22, 26, 27]) (TwE.rf : TwE [] t t) hE_t_1 rfl rfl) hE_t_10 rfl rfl) hE_t_15 rfl rfl) hE_t_20 rfl rfl) hE_t_25 rfl rfl) (by decide) (by decide) (by decide) (by decide) (by rw [(((((hE_t_25 3 (by decide)).2).trans (hE_t_20 3 (by decide)).2).trans (hE_t_15 3 (by decide)).2).trans (hE_t_10 3 (by decide)).2).trans (hE_t_1 3 (by decide)).2]; exact hS.C)
        have hTd3 : RowIs (t_25.2 5) (sC s) := hTd
        -- call SpokenMarksModel.ends
        refine h_kI (h_runV X hR (m_ends l G w_23 a ad t_25 hT.1 ((-10) - (wrC (yst B n).1)) ((sC s, sU s, sD s, sR s)) (sC s) hS2 hTd3 ⟨by omega, by omega⟩ hW.2.2.2.1 hW.2.2.2.2) pn_yX10_ends (hasC.of hT.1.ob rfl) q3242 q3244 qs102 q161 q3245 ⟨by decide, by decide⟩ hl.1 (Nat.le_of_ble_eq_true rfl) dX10_say_93 ⟨by omega, by omega⟩) hL (fun z_36 w_37 hp_38 H locs hR hL => ?_)
        obtain ⟨rfl, t_39, hT2, hE_t_39, et_40⟩ := hp_38
        have hT := hT.tr hT2
        clear hT2
        exact h_ireturn hx hb hlk hret hR hL rfl ⟨(by rw [if_pos hok, sayA, if_neg c_w]), ⟨t_39, hT, (TwE.tr (S2 := [0, 1, 2, 3, 5, 8, 9, 10, 12, 15, 16, 17, 18, 19, 20, 21, 22, 26, 27]) (TwE.tr (S2 := [0, 1, 2, 3, 5, 8, 9, 10, 12, 15, 16, 17, 18, 19, 20, 21, 22, 26, 27]) (TwE.tr (S2 := [0, 1, 2, 3, 5, 8, 9, 10, 12, 15, 16, 17, 18, 19, 20, 21, 22, 26, 27]) (TwE.tr (S2 := [0, 1, 2, 3, 5, 8, 9, 10, 12, 15, 16, 17, 18, 19, 20, 21, 22, 26, 27]) (TwE.tr (S2 := [0, 1, 2, 3, 5, 8, 9, 10, 12, 15, 16, 17, 18, 19, 20, 21, 22, 26, 27]) (TwE.tr (S2 := [0, 1, 2, 3, 5, 8, 9, 10, 12, 15, 16, 17, 18, 19, 20, 21, 22, 26, 27]) (TwE.rf : TwE [] t t) hE_t_1 rfl rfl) hE_t_10 rfl rfl) hE_t_15 rfl rfl) hE_t_20 rfl rfl) hE_t_25 rfl rfl) hE_t_39 rfl rfl), ⟨by rw [if_pos hok]; exact (((((hE_t_39 0 (by decide)).1).trans (hE_t_25 0 (by decide)).1).trans (hE_t_20 0 (by decide)).1).trans (hE_t_15 0 (by decide)).1).trans hth, by rw [if_pos hok]; exact (((hE_t_39 22 (by decide)).1).trans (hE_t_25 22 (by decide)).1).trans hRz.er22, by rw [if_pos hok]; exact ((((hE_t_39 15 (by decide)).1).trans (hE_t_25 15 (by decide)).1).trans (hE_t_20 15 (by decide)).1).trans h15, by rw [if_pos hok, sayA, if_neg c_w]; exact ⟨by rw [(hE_t_39 3 (by decide)).2]; exact hS2.1, et_40.1, et_40.2.1, et_40.2.2⟩⟩⟩⟩ (by omega) (by omega) rfl rfl dX10_say_96
    ·
      refine lv_aload_n hx hb dX10_say_42 rfl (lv_at hl 0 rfl) ?_
      refine h_iconst hx hb dX10_say_43 ?_
      -- call SpokenMarksModel.errs
      refine h_kV (h_runV X hR (m_errs l G w_18 a ad t_20 hT.1 1 (B.take n.toNat) ((rSay (B.take n.toNat) (.inr (tok (B.take n.toNat) 0))).1) hRq (by omega)) pn_yX10_errs (hasC.of hT.1.ob rfl) q2772 q2774 qs40 q161 q2775 ⟨by decide, by decide⟩ hl.1 (Nat.le_of_ble_eq_true rfl) dX10_say_44 ⟨by omega, by omega⟩) hL (fun w_42 hp_43 H locs hR hL => ?_)
      obtain ⟨t_44, hT2, hE_t_44, et_45⟩ := hp_43
      have hT := hT.tr hT2
      clear hT2
      have hRz : RdAt t_44 (B.take n.toNat) (yst B n).1 := by show RdAt _ _ (rEnd (rSay (B.take n.toNat) (.inr (tok (B.take n.toNat) 0))).1); rw [← hRq.end1 c_k]; exact et_45
      have hw9 := hRz.wr9
      refine lv_aload_n hx hb dX10_say_47 rfl (lv_at hl 0 rfl) ?_
      refine tw_get X hR hT 3 (by decide) q2944 rfl dX10_say_48 ?_
      refine h_iconst hx hb dX10_say_51 ?_
      refine lv_aload_n hx hb dX10_say_52 rfl (lv_at hl 0 rfl) ?_
      refine tw_get X hR hT 5 (by decide) q2946 rfl dX10_say_53 ?_
      refine h_iconst hx hb dX10_say_56 ?_
      refine h_sipush hx hb dX10_say_57 (by decide) ?_
      -- call SpokenMarksModel.copies
      refine h_kV (h_runS X hR (m_copies l G w_42 a ad t_44 hT.1 3 0 5 0 606 (by decide) (by decide) (by show _ ≤ _; simp only [twN]; omega) (by show _ ≤ _; simp only [twN]; omega) (by first | exact Or.inl (by decide) | exact Or.inr (by omega))) pn_yX10_copies q2737 q2738 q161 q2739 ⟨by decide, by decide⟩ hl.1 (Nat.le_of_ble_eq_true rfl) dX10_say_60 ⟨by omega, by omega⟩) hL (fun w_47 hp_48 H locs hR hL => ?_)
      obtain ⟨t_49, hT2, e1_, e2_, hc_t_49⟩ := hp_48
      have hE_t_49 : TwE [5] t_44 t_49 := fun k_ hk_ => ⟨by rw [e1_], e2_ k_ (by simpa using hk_)⟩
      have e1_t_49 := e1_
      have hT := hT.tr hT2
      clear hT2 e1_ e2_
      have hTd : RowIs (t_49.2 5) (sC s) := hS.C.mv606 (fun i hi => by rw [hc_t_49]; unfold cpyF; rw [if_pos (by omega), (((((hE_t_44 3 (by decide)).2).trans (hE_t_20 3 (by decide)).2).trans (hE_t_15 3 (by decide)).2).trans (hE_t_10 3 (by decide)).2).trans (hE_t_1 3 (by decide)).2]; congr 1)
      refine lv_aload_n hx hb dX10_say_63 rfl (lv_at hl 0 rfl) ?_
      refine lv_aload_n hx hb dX10_say_64 rfl (lv_at hl 0 rfl) ?_
      refine tw_get X hR hT 21 (by decide) q2962 (v := .int (iI (wrC (yst B n).1))) (congrArg (fun z => some (Value.int (iI z))) (((hE_t_49 21 (by decide)).1).trans hRz.wr)) dX10_say_65 ?_
      refine h_if_eq hx hb 81 dX10_say_68 (by decide) (by omega) (fun c_w => ?_) (fun c_w => ?_)
      ·
        obtain ⟨s1, hs1, hs2⟩ := rEnd_ok (show wrC (rEnd (rSay (B.take n.toNat) (.inr (tok (B.take n.toNat) 0))).1) = 0 from c_w) hRq.ne0
        obtain ⟨⟨hen1, hen2⟩, hLw, hMw⟩ := yst_ok (B := B) (n := n) hs1
        refine lv_aload_n hx hb dX10_say_81 rfl (lv_at hl 0 rfl) ?_
        refine lv_aload_n hx hb dX10_say_82 rfl (lv_at hl 0 rfl) ?_
        refine tw_get X hR hT 26 (by decide) q2967 (v := .long (lI (encR (rLook (B.take n.toNat) (.inr (tok (B.take n.toNat) 0)))))) (congrArg (fun z => some (Value.long (lI z))) ((((hE_t_49 26 (by decide)).1).trans (hE_t_44 26 (by decide)).1).trans h26)) dX10_say_83 ?_
        refine W.eq (g2 := F0 m9 86 ls [.long (lI (enc (yst B n).2.1)), .ref a, .ref a]) (congrArg (fun z_ : Int => F0 m9 86 ls [.long (lI (z_)), .ref a, .ref a]) (show (encR (rLook (B.take n.toNat) (.inr (tok (B.take n.toNat) 0))) : Int) = enc (yst B n).2.1 from (hen1))) ?_
        refine lv_aload_n hx hb dX10_say_86 rfl (lv_at hl 0 rfl) ?_
        refine tw_get X hR hT 27 (by decide) q2968 (v := .long (lI (encR (rLook (B.take n.toNat) (rMust (B.take n.toNat) 4 (rWord (B.take n.toNat) (.inr (tok (B.take n.toNat) 0))).1))))) (congrArg (fun z => some (Value.long (lI z))) ((((hE_t_49 27 (by decide)).1).trans (hE_t_44 27 (by decide)).1).trans h27)) dX10_say_87 ?_
        refine W.eq (g2 := F0 m9 90 ls [.long (lI (enc (yst B n).2.2)), .long (lI (enc (yst B n).2.1)), .ref a, .ref a]) (congrArg (fun z_ : Int => F0 m9 90 ls [.long (lI (z_)), .long (lI (enc (yst B n).2.1)), .ref a, .ref a]) (show (encR (rLook (B.take n.toNat) (rMust (B.take n.toNat) 4 (rWord (B.take n.toNat) (.inr (tok (B.take n.toNat) 0))).1)) : Int) = enc (yst B n).2.2 from (hen2))) ?_
        -- call SpokenMarksModel.says
        refine h_kI (h_runV X hR (m_says l G w_47 a ad t_49 hT.1 (sC s) ((yst B n).2.1) ((yst B n).2.2) (by rw [((((((hE_t_49 3 (by decide)).2).trans (hE_t_44 3 (by decide)).2).trans (hE_t_20 3 (by decide)).2).trans (hE_t_15 3 (by decide)).2).trans (hE_t_10 3 (by decide)).2).trans (hE_t_1 3 (by decide)).2]; exact hS.C) hLw hMw hW.1 hW.2.1) pn_yX10_says (hasC.of hT.1.ob rfl) q2815 q2817 qs50 q161 q2818 ⟨by decide, by decide⟩ hl.1 (Nat.le_of_ble_eq_true rfl) dX10_say_90 ⟨by omega, by omega⟩) hL (fun z_50 w_51 hp_52 H locs hR hL => ?_)
        obtain ⟨rfl, t_53, hT2, hE_t_53, et_54⟩ := hp_52
        have hT := hT.tr hT2
        clear hT2
        have hC3 := et_54
        have har := syA_r (L := (yst B n).2.1) (M := (yst B n).2.2) hS.C.s
        have hS2 : SysIs t_53 ((syA (sC s) (yst B n).2.1 (yst B n).2.2).1, sU s, sD s, sR s) := hS.row (TwE.tr (S2 := [0, 1, 2, 3, 5, 15, 16, 17, 18, 19, 20, 21, 22, 26, 27]) (TwE.tr (S2 := [0, 1, 2, 3, 5, 15, 16, 17, 18, 19, 20, 21, 22, 26, 27]) (TwE.tr (S2 := [0, 1, 2, 3, 5, 15, 16, 17, 18, 19, 20, 21, 22, 26, 27]) (TwE.tr (S2 := [0, 1, 2, 3, 5, 15, 16, 17, 18, 19, 20, 21, 22, 26, 27]) (TwE.tr (S2 := [0, 1, 2, 3, 5, 15, 16, 17, 18, 19, 20, 21, 22, 26, 27]) (TwE.tr (S2 := [0, 1, 2, 3, 5, 15, 16, 17, 18, 19, 20, 21, 22, 26, 27]) (TwE.tr (S2 := [0, 1, 2, 3, 5, 15, 16, 17, 18, 19, 20, 21, 22, 26, 27]) (TwE.rf : TwE [] t t) hE_t_1 rfl rfl) hE_t_10 rfl rfl) hE_t_15 rfl rfl) hE_t_20 rfl rfl) hE_t_44 rfl rfl) hE_t_49 rfl rfl) hE_t_53 rfl rfl) (by decide) (by decide) (by decide) (by decide) hC3
        have hTd3 : RowIs (t_53.2 5) (sC s) := by rw [(hE_t_53 5 (by decide)).2]; exact hTd
        -- call SpokenMarksModel.ends
        refine h_kI (h_runV X hR (m_ends l G w_51 a ad t_53 hT.1 ((syA (sC s) ((yst B n).2.1) ((yst B n).2.2)).2) (((syA (sC s) (yst B n).2.1 (yst B n).2.2).1, sU s, sD s, sR s)) (sC s) hS2 hTd3 ⟨by omega, by omega⟩ hW.2.2.2.1 hW.2.2.2.2) pn_yX10_ends (hasC.of hT.1.ob rfl) q3242 q3244 qs102 q161 q3245 ⟨by decide, by decide⟩ hl.1 (Nat.le_of_ble_eq_true rfl) dX10_say_93 ⟨by omega, by omega⟩) hL (fun z_55 w_56 hp_57 H locs hR hL => ?_)
        obtain ⟨rfl, t_58, hT2, hE_t_58, et_59⟩ := hp_57
        have hT := hT.tr hT2
        clear hT2
        exact h_ireturn hx hb hlk hret hR hL rfl ⟨(by rw [if_pos hok, sayA, if_pos c_w]), ⟨t_58, hT, (TwE.tr (S2 := [0, 1, 2, 3, 5, 8, 9, 10, 12, 15, 16, 17, 18, 19, 20, 21, 22, 26, 27]) (TwE.tr (S2 := [0, 1, 2, 3, 5, 8, 9, 10, 12, 15, 16, 17, 18, 19, 20, 21, 22, 26, 27]) (TwE.tr (S2 := [0, 1, 2, 3, 5, 8, 9, 10, 12, 15, 16, 17, 18, 19, 20, 21, 22, 26, 27]) (TwE.tr (S2 := [0, 1, 2, 3, 5, 8, 9, 10, 12, 15, 16, 17, 18, 19, 20, 21, 22, 26, 27]) (TwE.tr (S2 := [0, 1, 2, 3, 5, 8, 9, 10, 12, 15, 16, 17, 18, 19, 20, 21, 22, 26, 27]) (TwE.tr (S2 := [0, 1, 2, 3, 5, 8, 9, 10, 12, 15, 16, 17, 18, 19, 20, 21, 22, 26, 27]) (TwE.tr (S2 := [0, 1, 2, 3, 5, 8, 9, 10, 12, 15, 16, 17, 18, 19, 20, 21, 22, 26, 27]) (TwE.tr (S2 := [0, 1, 2, 3, 5, 8, 9, 10, 12, 15, 16, 17, 18, 19, 20, 21, 22, 26, 27]) (TwE.rf : TwE [] t t) hE_t_1 rfl rfl) hE_t_10 rfl rfl) hE_t_15 rfl rfl) hE_t_20 rfl rfl) hE_t_44 rfl rfl) hE_t_49 rfl rfl) hE_t_53 rfl rfl) hE_t_58 rfl rfl), ⟨by rw [if_pos hok]; exact (((((((hE_t_58 0 (by decide)).1).trans (hE_t_53 0 (by decide)).1).trans (hE_t_49 0 (by decide)).1).trans (hE_t_44 0 (by decide)).1).trans (hE_t_20 0 (by decide)).1).trans (hE_t_15 0 (by decide)).1).trans hth, by rw [if_pos hok]; exact ((((hE_t_58 22 (by decide)).1).trans (hE_t_53 22 (by decide)).1).trans (hE_t_49 22 (by decide)).1).trans hRz.er22, by rw [if_pos hok]; exact ((((((hE_t_58 15 (by decide)).1).trans (hE_t_53 15 (by decide)).1).trans (hE_t_49 15 (by decide)).1).trans (hE_t_44 15 (by decide)).1).trans (hE_t_20 15 (by decide)).1).trans h15, by rw [if_pos hok, sayA, if_pos c_w]; exact ⟨by rw [(hE_t_58 3 (by decide)).2]; exact hS2.1, et_59.1, et_59.2.1, et_59.2.2⟩⟩⟩⟩ (by omega) (by omega) rfl rfl dX10_say_96
      ·
        refine h_bipush hx hb dX10_say_71 (by decide) ?_
        refine lv_aload_n hx hb dX10_say_73 rfl (lv_at hl 0 rfl) ?_
        refine tw_get X hR hT 21 (by decide) q2962 (v := .int (iI (wrC (yst B n).1))) (congrArg (fun z => some (Value.int (iI z))) (((hE_t_49 21 (by decide)).1).trans hRz.wr)) dX10_say_74 ?_
        refine h_isub hx hb dX10_say_77 ?_
        refine lv_goto (tgt := 93) hx hb dX10_say_78 (by decide) ?_
        have har := syA_r (L := (yst B n).2.1) (M := (yst B n).2.2) hS.C.s
        have hS2 : SysIs t_49 (sC s, sU s, sD s, sR s) := hS.row (TwE.tr (S2 := [0, 1, 2, 3, 5, 15, 16, 17, 18, 19, 20, 21, 22, 26, 27]) (TwE.tr (S2 := [0, 1, 2, 3, 5, 15, 16, 17, 18, 19, 20, 21, 22, 26, 27]) (TwE.tr (S2 := [0, 1, 2, 3, 5, 15, 16, 17, 18, 19, 20, 21, 22, 26, 27]) (TwE.tr (S2 := [0, 1, 2, 3, 5, 15, 16, 17, 18, 19, 20, 21, 22, 26, 27]) (TwE.tr (S2 := [0, 1, 2, 3, 5, 15, 16, 17, 18, 19, 20, 21, 22, 26, 27]) (TwE.tr (S2 := [0, 1, 2, 3, 5, 15, 16, 17, 18, 19, 20, 21, 22, 26, 27]) (TwE.rf : TwE [] t t) hE_t_1 rfl rfl) hE_t_10 rfl rfl) hE_t_15 rfl rfl) hE_t_20 rfl rfl) hE_t_44 rfl rfl) hE_t_49 rfl rfl) (by decide) (by decide) (by decide) (by decide) (by rw [((((((hE_t_49 3 (by decide)).2).trans (hE_t_44 3 (by decide)).2).trans (hE_t_20 3 (by decide)).2).trans (hE_t_15 3 (by decide)).2).trans (hE_t_10 3 (by decide)).2).trans (hE_t_1 3 (by decide)).2]; exact hS.C)
        have hTd3 : RowIs (t_49.2 5) (sC s) := hTd
        -- call SpokenMarksModel.ends
        refine h_kI (h_runV X hR (m_ends l G w_47 a ad t_49 hT.1 ((-10) - (wrC (yst B n).1)) ((sC s, sU s, sD s, sR s)) (sC s) hS2 hTd3 ⟨by omega, by omega⟩ hW.2.2.2.1 hW.2.2.2.2) pn_yX10_ends (hasC.of hT.1.ob rfl) q3242 q3244 qs102 q161 q3245 ⟨by decide, by decide⟩ hl.1 (Nat.le_of_ble_eq_true rfl) dX10_say_93 ⟨by omega, by omega⟩) hL (fun z_60 w_61 hp_62 H locs hR hL => ?_)
        obtain ⟨rfl, t_63, hT2, hE_t_63, et_64⟩ := hp_62
        have hT := hT.tr hT2
        clear hT2
        exact h_ireturn hx hb hlk hret hR hL rfl ⟨(by rw [if_pos hok, sayA, if_neg c_w]), ⟨t_63, hT, (TwE.tr (S2 := [0, 1, 2, 3, 5, 8, 9, 10, 12, 15, 16, 17, 18, 19, 20, 21, 22, 26, 27]) (TwE.tr (S2 := [0, 1, 2, 3, 5, 8, 9, 10, 12, 15, 16, 17, 18, 19, 20, 21, 22, 26, 27]) (TwE.tr (S2 := [0, 1, 2, 3, 5, 8, 9, 10, 12, 15, 16, 17, 18, 19, 20, 21, 22, 26, 27]) (TwE.tr (S2 := [0, 1, 2, 3, 5, 8, 9, 10, 12, 15, 16, 17, 18, 19, 20, 21, 22, 26, 27]) (TwE.tr (S2 := [0, 1, 2, 3, 5, 8, 9, 10, 12, 15, 16, 17, 18, 19, 20, 21, 22, 26, 27]) (TwE.tr (S2 := [0, 1, 2, 3, 5, 8, 9, 10, 12, 15, 16, 17, 18, 19, 20, 21, 22, 26, 27]) (TwE.tr (S2 := [0, 1, 2, 3, 5, 8, 9, 10, 12, 15, 16, 17, 18, 19, 20, 21, 22, 26, 27]) (TwE.rf : TwE [] t t) hE_t_1 rfl rfl) hE_t_10 rfl rfl) hE_t_15 rfl rfl) hE_t_20 rfl rfl) hE_t_44 rfl rfl) hE_t_49 rfl rfl) hE_t_63 rfl rfl), ⟨by rw [if_pos hok]; exact ((((((hE_t_63 0 (by decide)).1).trans (hE_t_49 0 (by decide)).1).trans (hE_t_44 0 (by decide)).1).trans (hE_t_20 0 (by decide)).1).trans (hE_t_15 0 (by decide)).1).trans hth, by rw [if_pos hok]; exact (((hE_t_63 22 (by decide)).1).trans (hE_t_49 22 (by decide)).1).trans hRz.er22, by rw [if_pos hok]; exact (((((hE_t_63 15 (by decide)).1).trans (hE_t_49 15 (by decide)).1).trans (hE_t_44 15 (by decide)).1).trans (hE_t_20 15 (by decide)).1).trans h15, by rw [if_pos hok, sayA, if_neg c_w]; exact ⟨by rw [(hE_t_63 3 (by decide)).2]; exact hS2.1, et_64.1, et_64.2.1, et_64.2.2⟩⟩⟩⟩ (by omega) (by omega) rfl rfl dX10_say_96
  ·
    have hno := b2i_0.mp (b2i_n1.mp c_f)
    have hth : t_10.1 0 = _ := (et_11).trans (if_pos (b2i_n1.mp c_f))
    refine h_iconst hx hb dX10_say_24 ?_
    exact h_ireturn hx hb hlk hret hR hL rfl ⟨(by rw [if_neg hno]), ⟨t_10, hT, (TwE.tr (S2 := [0, 1, 2, 3, 5, 8, 9, 10, 12, 15, 16, 17, 18, 19, 20, 21, 22, 26, 27]) (TwE.tr (S2 := [0, 1, 2, 3, 5, 8, 9, 10, 12, 15, 16, 17, 18, 19, 20, 21, 22, 26, 27]) (TwE.rf : TwE [] t t) hE_t_1 rfl rfl) hE_t_10 rfl rfl), ⟨by rw [if_neg hno]; exact hth, by rw [if_neg hno]; exact ((hE_t_10 22 (by decide)).1).trans (hE_t_1 22 (by decide)).1, by rw [if_neg hno]; exact ((((hE_t_10 15 (by decide)).1).trans (hE_t_1 15 (by decide)).1).trans hb15).trans hb15.symm, by rw [if_neg hno]; exact hS.mv (TwE.tr (S2 := [0]) (TwE.tr (S2 := [0]) (TwE.rf : TwE [] t t) hE_t_1 rfl rfl) hE_t_10 rfl rfl) (by decide) (by decide) (by decide) (by decide) (by decide)⟩⟩⟩ (by omega) (by omega) rfl rfl dX10_say_25
