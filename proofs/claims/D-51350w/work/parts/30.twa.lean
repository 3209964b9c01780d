/-! the twin: rows are written: swaps, copies, hears, laysGuest -/
set_option maxRecDepth 100000
def swpF (f : Nat → Int) (a b : Nat) (i : Nat) : Int := if 32 + 14 * a ≤ i ∧ i < 46 + 14 * a then f (i - 14 * a + 14 * b) else if 32 + 14 * b ≤ i ∧ i < 46 + 14 * b then f (i - 14 * b + 14 * a) else f i
def swpK (f : Nat → Int) (a b n : Nat) (i : Nat) : Int := if 32 + 14 * a ≤ i ∧ i < 32 + 14 * a + n then f (i - 14 * a + 14 * b) else if 32 + 14 * b ≤ i ∧ i < 32 + 14 * b + n then f (i - 14 * b + 14 * a) else f i
theorem swpK_0 (f : Nat → Int) (a b i : Nat) : swpK f a b 0 i = f i := by unfold swpK; rw [if_neg (by omega), if_neg (by omega)]
theorem swpK_14 (f : Nat → Int) (a b i : Nat) : swpK f a b 14 i = swpF f a b i := by
  unfold swpK swpF
  rw [show 46 + 14 * a = 32 + 14 * a + 14 by omega, show 46 + 14 * b = 32 + 14 * b + 14 by omega]
theorem swpK_s {f g : Nat → Int} {a b k : Nat} (hab : a ≠ b) (hk : k < 14) (hg : ∀ i, g i = swpK f a b k i) (i : Nat) :
    zset (zset g (32 + 14 * a + k) (g (32 + 14 * b + k))) (32 + 14 * b + k) (g (32 + 14 * a + k)) i = swpK f a b (k + 1) i := by
  have e1 : g (32 + 14 * a + k) = f (32 + 14 * a + k) := by rw [hg]; unfold swpK; rw [if_neg (by omega), if_neg (by omega)]
  have e2 : g (32 + 14 * b + k) = f (32 + 14 * b + k) := by rw [hg]; unfold swpK; rw [if_neg (by omega), if_neg (by omega)]
  unfold zset
  rw [e1, e2]
  by_cases h1 : i = 32 + 14 * b + k
  · subst h1; rw [if_pos rfl]; unfold swpK; rw [if_neg (by omega), if_pos (by omega)]; congr 1; omega
  · rw [if_neg h1]
    by_cases h2 : i = 32 + 14 * a + k
    · subst h2; rw [if_pos rfl]; unfold swpK; rw [if_pos (by omega)]; congr 1; omega
    · rw [if_neg h2, hg]
      unfold swpK
      by_cases h3 : 32 + 14 * a ≤ i ∧ i < 32 + 14 * a + k
      · rw [if_pos h3, if_pos (by omega)]
      · have q3 : ¬ (32 + 14 * a ≤ i ∧ i < 32 + 14 * a + (k + 1)) := by omega
        rw [if_neg h3, if_neg q3]
        by_cases h4 : 32 + 14 * b ≤ i ∧ i < 32 + 14 * b + k
        · have q4 : 32 + 14 * b ≤ i ∧ i < 32 + 14 * b + (k + 1) := by omega
          rw [if_pos h4, if_pos q4]
        · have q4 : ¬ (32 + 14 * b ≤ i ∧ i < 32 + 14 * b + (k + 1)) := by omega
          rw [if_neg h4, if_neg q4]
def cpyF (f g : Nat → Int) (at0 at1 n : Nat) (i : Nat) : Int := if at1 ≤ i ∧ i < at1 + n then f (i - at1 + at0) else g i
theorem cpyF_s {f g h : Nat → Int} {at0 at1 k : Nat} (hh : ∀ i, h i = cpyF f g at0 at1 k i) (i : Nat) : zset h (at1 + k) (f (at0 + k)) i = cpyF f g at0 at1 (k + 1) i := by
  unfold zset
  by_cases h1 : i = at1 + k
  · subst h1; rw [if_pos rfl]; unfold cpyF; rw [if_pos (by omega)]; congr 1; omega
  · rw [if_neg h1, hh]
    unfold cpyF
    by_cases h2 : at1 ≤ i ∧ i < at1 + k
    · rw [if_pos h2, if_pos (by omega)]
    · rw [if_neg h2, if_neg (by omega)]
theorem KeyAt.mv {f g : Nat → Int} {r fr : Nat} {x : List Int} (h : KeyAt f r fr x) (hfr : fr = 4 ∨ fr = 9) (hfg : ∀ i, 32 + 14 * r ≤ i → i < 46 + 14 * r → g i = f i) : KeyAt g r fr x := by
  refine ⟨?_, h.2.1, fun k hk => ?_, h.2.2.2⟩
  · rw [hfg _ (by omega) (by omega)]; exact h.1
  · rw [hfg _ (by omega) (by have := h.2.1; omega)]; exact h.2.2.1 k hk
theorem SlotP.mv {f g : Nat → Int} {r : Nat} {R : Rls} {p : List Prt} (h : SlotP f r R p) (hfg : ∀ i, 32 + 14 * r ≤ i → i < 46 + 14 * r → g i = f i) : SlotP g r R p := ⟨h.1.mv (Or.inl rfl) hfg, h.2.mv (Or.inr rfl) hfg⟩
theorem SlotM.mv {f g : Nat → Int} {r : Nat} {R : Rls} {m : Mrk} (h : SlotM f r R m) (hfg : ∀ i, 32 + 14 * r ≤ i → i < 46 + 14 * r → g i = f i) : SlotM g r R m :=
  ⟨by rw [hfg _ (by omega) (by omega)]; exact h.1, by rw [hfg _ (by omega) (by omega)]; exact h.2.1, by rw [hfg _ (by omega) (by omega)]; exact h.2.2.1, h.2.2.2.mv hfg⟩
/-- a slot at another place -/
theorem KeyAt.to {f g : Nat → Int} {r r' fr : Nat} {x : List Int} (h : KeyAt f r fr x) (hfr : fr = 4 ∨ fr = 9) (hfg : ∀ j, j < 14 → g (32 + 14 * r' + j) = f (32 + 14 * r + j)) : KeyAt g r' fr x := by
  refine ⟨(hfg 3 (by omega)).trans h.1, h.2.1, fun k hk => ?_, h.2.2.2⟩
  have := h.2.1
  have e := hfg (fr + k) (by omega)
  rw [show 32 + 14 * r' + fr + k = 32 + 14 * r' + (fr + k) by omega, e, show 32 + 14 * r + (fr + k) = 32 + 14 * r + fr + k by omega]
  exact h.2.2.1 k hk
theorem SlotP.to {f g : Nat → Int} {r r' : Nat} {R : Rls} {p : List Prt} (h : SlotP f r R p) (hfg : ∀ j, j < 14 → g (32 + 14 * r' + j) = f (32 + 14 * r + j)) : SlotP g r' R p := ⟨h.1.to (Or.inl rfl) hfg, h.2.to (Or.inr rfl) hfg⟩
theorem SlotM.to {f g : Nat → Int} {r r' : Nat} {R : Rls} {m : Mrk} (h : SlotM f r R m) (hfg : ∀ j, j < 14 → g (32 + 14 * r' + j) = f (32 + 14 * r + j)) : SlotM g r' R m :=
  ⟨(hfg 0 (by omega)).trans h.1, (hfg 1 (by omega)).trans h.2.1, (hfg 2 (by omega)).trans h.2.2.1, h.2.2.2.to hfg⟩
theorem RlAt.mv {f g : Nat → Int} {R : Rls} (h : RlAt f R) (hfg : ∀ i, i < 32 → g i = f i) : RlAt g R :=
  ⟨by rw [hfg 3 (by omega)]; exact h.1, fun k hk => ⟨by rw [hfg _ (by have := h.2.2.1; omega)]; exact (h.2.1 k hk).1, by rw [hfg _ (by have := h.2.2.1; omega)]; exact (h.2.1 k hk).2⟩, h.2.2⟩
theorem RowIs.mv {f g : Nat → Int} {c : Cat} (h : RowIs f c) (hfg : ∀ i, i < 32 + 14 * cN c → g i = f i) : RowIs g c := by
  have hn := h.n40
  refine ⟨h.s, ?_, ?_, ?_, ?_, fun k hk => ?_, fun s hs => ?_, h.rl.mv (fun i hi => hfg i (by omega)), fun r hr => (h.m r hr).mv (fun i _ hi => hfg i (by omega))⟩
  · rw [hfg 0 (by omega)]; exact h.sh
  · rw [hfg 1 (by omega)]; exact h.rm
  · rw [hfg 2 (by omega)]; exact h.n
  · rw [hfg 4 (by omega)]; exact h.nx
  · rw [hfg _ (by omega)]; exact h.ac k hk
  · rw [hfg _ (by have := h.sh8; omega)]; exact h.bd s hs
/-- the row but the ears -/
def SlotL (f : Nat → Int) (r : Nat) (m : Mrk) : Prop := f (32 + 14 * r) = mId m ∧ f (32 + 14 * r + 1) = mWd m ∧ f (32 + 14 * r + 2) = mPl m ∧ KeyAt f r 4 (letK (mPs m))
def RowL (f : Nat → Int) (c : Cat) : Prop := CatS c ∧ f 0 = cSh c ∧ f 1 = cRm c ∧ f 2 = (cN c : Int) ∧ f 4 = cNx c ∧ (∀ k, k < 3 → f (5 + k) = cAc c k) ∧ (∀ s : Nat, (s : Int) < cSh c → f (8 + s) = bd c s) ∧ RlAt f (cRl c) ∧ ∀ r, r < cN c → SlotL f r (mk c r)
theorem letK_0 (p : List Prt) : letK p = p.map encP := rfl


set_option maxHeartbeats 4000000 in
set_option maxRecDepth 100000 in
/-- swaps -/
theorem m_swaps (l : Launch) (G : Gl) (w : Wd) (a : Nat) (ad : Nat → Nat) (t : Tw) (hT : TwAt G w a ad t) (i : Nat) (j : Nat)  (h1 : i ≤ 40) (h2 : j ≤ 40) (hij : i ≠ j) : HM l yX10_swaps cX10_swaps 6 none 1 0 0 G [.ref a, .int (iI ((i : Int))), .int (iI ((j : Int)))] w (QV G (fun w_ => ∃ t_ : Tw, TwS G w w_ a ad t_ ∧ TwE [3] t t_ ∧ ∀ i_, t_.2 3 i_ = swpF (t.2 3) i j i_)) := by
  refine HM.mk (by decide +kernel) (Nat.le_of_ble_eq_true rfl) ?_
  intro p9 e9 s9 m9 a9 b9 meth9 c9 ls X hret hlk hnm hl H hR
  have hx := X.1.1
  have hb := X.1.2.1
  have hl : lv_has ls 6 [(0, .ref a), (1, .int (iI ((i : Int)))), (2, .int (iI ((j : Int))))] := hl
  have hL : LK G [] := fun q h => absurd h List.not_mem_nil
  generalize ([] : List Loc) = locs at hL ⊢
  have hTb := hT
  have hT : TwS G w w a ad t := TwS.rf hT
  refine h_iconst hx hb dX10_swaps_0 ?_
  refine lv_istore_n (lv' := [(3, .int (iI (0))), (0, .ref a), (1, .int (iI ((i : Int)))), (2, .int (iI ((j : Int))))]) hx hb dX10_swaps_1 rfl hl (by decide) rfl (fun ls hl => ?_)
  have LOOP_3 : ∀ (N_ : Nat) (k : Nat) (t_1 : Tw) (w_2 : Wd), (k ≤ 14) → (TwS G w w_2 a ad t_1) → (TwE [3] t t_1) → (∀ i_, t_1.2 3 i_ = swpK (t.2 3) i j k i_) → (14 - k) < N_ → ∀ (H : Heap) (locs : List Loc) (ls : Array Slot), Rp G w_2 H → LK G locs → lv_has ls 6 [(0, .ref a), (1, .int (iI ((i : Int)))), (2, .int (iI ((j : Int)))), (3, .int (iI ((k : Int))))] → W p9 l e9 (rmk 1 0 0) s9 m9 a9 b9 meth9 c9 H locs 0 0 (MQ b9 (QV G (fun w_ => ∃ t_ : Tw, TwS G w w_ a ad t_ ∧ TwE [3] t t_ ∧ ∀ i_, t_.2 3 i_ = swpF (t.2 3) i j i_)) a9 s9 0 0 (frG G)) (F0 m9 2 ls []) := by
    intro N_
    induction N_ with
    | zero => intro _ _ _ _ _ _ _ h_; exact absurd h_ (Nat.not_lt_zero _)
    | succ N_ ih_ =>
      intro k t_1 w_2 hk hT hE_t_1 hs hN_ H locs ls hR hL hl
      have ih_3 := ih_
      clear ih_
      refine lv_iload_n hx hb dX10_swaps_2 rfl (lv_at hl 3 rfl) ?_
      refine h_bipush hx hb dX10_swaps_3 (by decide) ?_
      refine h_icmp_ge hx hb 74 dX10_swaps_5 (by decide) (by omega) (by omega) (fun c_4 => ?_) (fun c_4 => ?_)
      ·
        exact h_vreturn hx hb hlk hret hR hL ⟨t_1, hT, (TwE.tr (S2 := [3]) (TwE.rf : TwE [] t t) hE_t_1 rfl rfl), (fun i_ => by rw [hs, show k = 14 by omega, swpK_14])⟩ (by omega) (by omega) rfl rfl dX10_swaps_74
      ·
        refine lv_aload_n hx hb dX10_swaps_8 rfl (lv_at hl 0 rfl) ?_
        refine tw_get X hR hT 3 (by decide) q2944 rfl dX10_swaps_9 ?_
        refine h_bipush hx hb dX10_swaps_12 (by decide) ?_
        refine h_bipush hx hb dX10_swaps_14 (by decide) ?_
        refine lv_iload_n hx hb dX10_swaps_16 rfl (lv_at hl 1 rfl) ?_
        refine h_imul hx hb dX10_swaps_17 ?_
        refine h_iadd hx hb dX10_swaps_18 ?_
        refine lv_iload_n hx hb dX10_swaps_19 rfl (lv_at hl 3 rfl) ?_
        refine h_iadd hx hb dX10_swaps_20 ?_
        refine tw_lald X hR hT (k := 3) (by decide) (32 + (14 * (i)) + (k)) (by omega) (by show _ < _; simp only [twN]; omega) (v := t_1.2 3 (32 + (14 * (i)) + (k))) rfl dX10_swaps_21 (fun ra_21 => ?_)
        refine lv_lstore (lv' := [(4, .long (lI (t_1.2 3 (32 + (14 * (i)) + (k))))), (0, .ref a), (1, .int (iI ((i : Int)))), (2, .int (iI ((j : Int)))), (3, .int (iI ((k : Int))))]) hx hb dX10_swaps_22 hl (by decide) rfl (fun ls hl => ?_)
        refine lv_aload_n hx hb dX10_swaps_24 rfl (lv_at hl 1 rfl) ?_
        refine tw_get X hR hT 3 (by decide) q2944 rfl dX10_swaps_25 ?_
        refine h_bipush hx hb dX10_swaps_28 (by decide) ?_
        refine h_bipush hx hb dX10_swaps_30 (by decide) ?_
        refine lv_iload_n hx hb dX10_swaps_32 rfl (lv_at hl 2 rfl) ?_
        refine h_imul hx hb dX10_swaps_33 ?_
        refine h_iadd hx hb dX10_swaps_34 ?_
        refine lv_iload_n hx hb dX10_swaps_35 rfl (lv_at hl 4 rfl) ?_
        refine h_iadd hx hb dX10_swaps_36 ?_
        refine lv_aload_n hx hb dX10_swaps_37 rfl (lv_at hl 1 rfl) ?_
        refine tw_get X hR hT 3 (by decide) q2944 rfl dX10_swaps_38 ?_
        refine h_bipush hx hb dX10_swaps_41 (by decide) ?_
        refine h_bipush hx hb dX10_swaps_43 (by decide) ?_
        refine lv_iload_n hx hb dX10_swaps_45 rfl (lv_at hl 3 rfl) ?_
        refine h_imul hx hb dX10_swaps_46 ?_
        refine h_iadd hx hb dX10_swaps_47 ?_
        refine lv_iload_n hx hb dX10_swaps_48 rfl (lv_at hl 4 rfl) ?_
        refine h_iadd hx hb dX10_swaps_49 ?_
        refine tw_lald X hR hT (k := 3) (by decide) (32 + (14 * (j)) + (k)) (by omega) (by show _ < _; simp only [twN]; omega) (v := t_1.2 3 (32 + (14 * (j)) + (k))) rfl dX10_swaps_50 (fun ra_50 => ?_)
        refine tw_last X hR hL hT (k := 3) (by decide) (32 + 14 * i + k) (by omega) (by show _ < _; simp only [twN]; omega) (by omega) dX10_swaps_51 (fun t_5 et_6 w_7 hT H locs hR hL => ?_)
        have hE_t_5 := TwE.ast et_6
        have hv_t_5 := tast_v et_6
        refine lv_aload_n hx hb dX10_swaps_52 rfl (lv_at hl 1 rfl) ?_
        refine tw_get X hR hT 3 (by decide) q2944 rfl dX10_swaps_53 ?_
        refine h_bipush hx hb dX10_swaps_56 (by decide) ?_
        refine h_bipush hx hb dX10_swaps_58 (by decide) ?_
        refine lv_iload_n hx hb dX10_swaps_60 rfl (lv_at hl 3 rfl) ?_
        refine h_imul hx hb dX10_swaps_61 ?_
        refine h_iadd hx hb dX10_swaps_62 ?_
        refine lv_iload_n hx hb dX10_swaps_63 rfl (lv_at hl 4 rfl) ?_
        refine h_iadd hx hb dX10_swaps_64 ?_
        refine lv_lload hx hb dX10_swaps_65 (lv_at hl 0 rfl) ?_
        refine tw_last X hR hL hT (k := 3) (by decide) (32 + 14 * j + k) (by omega) (by show _ < _; simp only [twN]; omega) (by omega) dX10_swaps_67 (fun t_8 et_9 w_10 hT H locs hR hL => ?_)
        have hE_t_8 := TwE.ast et_9
        have hv_t_8 := tast_v et_9
        refine h_iinc (lv' := [(3, .int (iI ((k : Int) + 1))), (4, .long (lI (t_1.2 3 (32 + (14 * (i)) + (k))))), (0, .ref a), (1, .int (iI ((i : Int)))), (2, .int (iI ((j : Int))))]) hx hb dX10_swaps_68 hl (k := 4) rfl (by decide) rfl (fun ls hl => ?_)
        refine lv_goto (tgt := 2) hx hb dX10_swaps_71 (by decide) ?_
        exact ih_3 (k + 1) t_8 w_10 (by omega) hT (TwE.tr (S2 := [3]) (TwE.tr (S2 := [3]) (TwE.tr (S2 := [3]) (TwE.rf : TwE [] t t) hE_t_1 rfl rfl) hE_t_5 rfl rfl) hE_t_8 rfl rfl) (fun i_ => by rw [hv_t_8, hv_t_5]; exact swpK_s hij (by omega) hs i_) (by omega) _ _ _ hR hL (lv_sub hl [2, 3, 4, 0] rfl)
  exact LOOP_3 _ 0 t w (by omega) hT (TwE.rf : TwE [3] t t) (fun i_ => (swpK_0 _ _ _ _).symm) (Nat.lt_succ_self _) _ _ _ hR hL (lv_sub hl [1, 2, 3, 0] rfl)

set_option maxHeartbeats 4000000 in
set_option maxRecDepth 100000 in
/-- copies -/
theorem m_copies (l : Launch) (G : Gl) (w : Wd) (a : Nat) (ad : Nat → Nat) (t : Tw) (hT : TwAt G w a ad t) (k1 at0 k2 at1 n : Nat) (hk1 : k1 ∈ twLA) (hk2 : k2 ∈ twLA) (h1 : at0 + n ≤ twN k1) (h2 : at1 + n ≤ twN k2) (h3 : k1 ≠ k2 ∨ at1 ≤ at0) : HM l yX10_copies cX10_copies 6 none 1 0 0 G [.ref (ad k1), .int (iI ((at0 : Int))), .ref (ad k2), .int (iI ((at1 : Int))), .int (iI ((n : Int)))] w (QV G (fun w_ => ∃ t_ : Tw, TwS G w w_ a ad t_ ∧ t_.1 = t.1 ∧ (∀ j, j ≠ k2 → t_.2 j = t.2 j) ∧ ∀ i_, t_.2 k2 i_ = cpyF (t.2 k1) (t.2 k2) at0 at1 n i_)) := by
  refine HM.mk (by decide +kernel) (Nat.le_of_ble_eq_true rfl) ?_
  intro p9 e9 s9 m9 a9 b9 meth9 c9 ls X hret hlk hnm hl H hR
  have hx := X.1.1
  have hb := X.1.2.1
  have hl : lv_has ls 6 [(0, .ref (ad k1)), (1, .int (iI ((at0 : Int)))), (2, .ref (ad k2)), (3, .int (iI ((at1 : Int)))), (4, .int (iI ((n : Int))))] := hl
  have hL : LK G [] := fun q h => absurd h List.not_mem_nil
  generalize ([] : List Loc) = locs at hL ⊢
  have hT : TwS G w w a ad t := TwS.rf hT
  have hN2 : twN k1 < 5000 := by rcases (show k1 = 3 ∨ k1 = 4 ∨ k1 = 5 ∨ k1 = 6 ∨ k1 = 7 ∨ k1 = 8 ∨ k1 = 23 ∨ k1 = 28 by simpa [twLA] using hk1) with q | q | q | q | q | q | q | q <;> subst q <;> decide
  refine h_iconst hx hb dX10_copies_0 ?_
  refine lv_istore (lv' := [(5, .int (iI (0))), (0, .ref (ad k1)), (1, .int (iI ((at0 : Int)))), (2, .ref (ad k2)), (3, .int (iI ((at1 : Int)))), (4, .int (iI ((n : Int))))]) hx hb dX10_copies_1 hl (by decide) rfl (fun ls hl => ?_)
  have LOOP_1 : ∀ (N_ : Nat) (k : Nat) (t1 : Tw) (w1 : Wd), (k ≤ n) → (TwS G w w1 a ad t1) → (t1.1 = t.1) → (∀ j, j ≠ k2 → t1.2 j = t.2 j) → (∀ i_, t1.2 k2 i_ = cpyF (t.2 k1) (t.2 k2) at0 at1 k i_) → (n - k) < N_ → ∀ (H : Heap) (locs : List Loc) (ls : Array Slot), Rp G w1 H → LK G locs → lv_has ls 6 [(0, .ref (ad k1)), (1, .int (iI ((at0 : Int)))), (2, .ref (ad k2)), (3, .int (iI ((at1 : Int)))), (4, .int (iI ((n : Int)))), (5, .int (iI ((k : Int))))] → W p9 l e9 (rmk 1 0 0) s9 m9 a9 b9 meth9 c9 H locs 0 0 (MQ b9 (QV G (fun w_ => ∃ t_ : Tw, TwS G w w_ a ad t_ ∧ t_.1 = t.1 ∧ (∀ j, j ≠ k2 → t_.2 j = t.2 j) ∧ ∀ i_, t_.2 k2 i_ = cpyF (t.2 k1) (t.2 k2) at0 at1 n i_)) a9 s9 0 0 (frG G)) (F0 m9 3 ls []) := by
    intro N_
    induction N_ with
    | zero => intro _ _ _ _ _ _ _ _ h_; exact absurd h_ (Nat.not_lt_zero _)
    | succ N_ ih_ =>
      intro k t1 w1 hk hT e1 e2 hs hN_ H locs ls hR hL hl
      have ih_1 := ih_
      clear ih_
      refine lv_iload hx hb dX10_copies_3 (lv_at hl 5 rfl) ?_
      refine lv_iload hx hb dX10_copies_5 (lv_at hl 4 rfl) ?_
      refine h_icmp_ge hx hb 28 dX10_copies_7 (by decide) (by omega) (by omega) (fun c_2 => ?_) (fun c_2 => ?_)
      ·
        exact h_vreturn hx hb hlk hret hR hL ⟨t1, hT, e1, e2, fun i_ => by rw [hs, show k = n by omega]⟩ (by omega) (by omega) rfl rfl dX10_copies_28
      ·
        have hrd : t1.2 k1 (at0 + k) = t.2 k1 (at0 + k) := by
          by_cases q : k1 = k2
          · subst q; rw [hs]; unfold cpyF; rw [if_neg (by omega)]
          · rw [e2 k1 q]
        have hN1 : twN k1 < 5000 := by rcases (show k1 = 3 ∨ k1 = 4 ∨ k1 = 5 ∨ k1 = 6 ∨ k1 = 7 ∨ k1 = 8 ∨ k1 = 23 ∨ k1 = 28 by simpa [twLA] using hk1) with q | q | q | q | q | q | q | q <;> subst q <;> decide
        refine lv_aload_n hx hb dX10_copies_10 rfl (lv_at hl 2 rfl) ?_
        refine lv_iload_n hx hb dX10_copies_11 rfl (lv_at hl 3 rfl) ?_
        refine lv_iload hx hb dX10_copies_12 (lv_at hl 5 rfl) ?_
        refine h_iadd hx hb dX10_copies_14 ?_
        refine lv_aload_n hx hb dX10_copies_15 rfl (lv_at hl 0 rfl) ?_
        refine lv_iload_n hx hb dX10_copies_16 rfl (lv_at hl 1 rfl) ?_
        refine lv_iload hx hb dX10_copies_17 (lv_at hl 5 rfl) ?_
        refine h_iadd hx hb dX10_copies_19 ?_
        refine tw_lald X hR hT (k := k1) hk1 (at0 + k) (by omega) (by omega) (v := t.2 k1 (at0 + k)) hrd dX10_copies_20 (fun ra_ => ?_)
        refine tw_last X hR hL hT (k := k2) hk2 (at1 + k) (by omega) (by omega) ra_ dX10_copies_21 (fun t3 et3 w3 hT H locs hR hL => ?_)
        refine h_iinc (lv' := [(5, .int (iI ((k : Int) + 1))), (0, .ref (ad k1)), (1, .int (iI ((at0 : Int)))), (2, .ref (ad k2)), (3, .int (iI ((at1 : Int)))), (4, .int (iI ((n : Int))))]) hx hb dX10_copies_22 hl (k := 5) rfl (by decide) rfl (fun ls hl => ?_)
        refine lv_goto (tgt := 3) hx hb dX10_copies_25 (by decide) ?_
        exact ih_1 (k + 1) t3 w3 (by omega) hT (by rw [et3]; exact e1) (fun j hj => by rw [et3, tast_2, if_neg hj]; exact e2 j hj) (fun i_ => by rw [et3, tast_2, if_pos rfl]; exact cpyF_s hs i_) (by omega) _ _ _ hR hL (lv_sub hl [1, 2, 3, 4, 5, 0] rfl)
  exact LOOP_1 _ 0 t w (by omega) hT rfl (fun _ _ => rfl) (fun i_ => by unfold cpyF; rw [if_neg (by omega)]) (Nat.lt_succ_self _) _ _ _ hR hL (lv_sub hl [1, 2, 3, 4, 5, 0] rfl)
