/-! the law: the twin's calls, as a whole -/
set_option maxRecDepth 100000
def SnT (t : Tw) : Option Cat → Prop
  | none => t.1 13 = 0
  | some c => t.1 13 = 1 ∧ RowIs (t.2 7) c
/-- the twin's state tells the whole -/
def TzI (t : Tw) (z : LSt) : Prop := SysIs t (zS z) ∧ (BfAt t (zB z) ∧ t.1 15 = ((zB z).length : Int)) ∧ t.1 22 = zE z ∧ t.1 25 = zC z ∧ t.1 11 = zU z ∧ LineAt t (zF z) ∧ CelR (t.2 28) ∧ SnT t (zN z)
def TwZ (G : Gl) (w : Wd) (a : Nat) (k : Int) (z : LSt) : Prop := ∃ (ad : Nat → Nat) (t : Tw), TwAt G w a ad t ∧ TzI t z ∧ t.1 0 = k
def TRet (G : Gl) (w : Wd) (a : Nat) (r : Ans) (v : Int) (w1 : Wd) : Prop := v = r.2.1 ∧ TwZ G w1 a r.1 r.2.2 ∧ Fr (fun q => q = a + 1) w w1 ∧ Ol w w1
/-- .. where the code isn't told -/
def TRetN (G : Gl) (w : Wd) (a : Nat) (r : Ans) (v : Int) (w1 : Wd) : Prop := v = r.2.1 ∧ (∃ k, TwZ G w1 a k r.2.2) ∧ Fr (fun q => q = a + 1) w w1 ∧ Ol w w1
theorem BfAt.mv {t t1 : Tw} {B : List Int} (h : BfAt t B) (h14 : t1.2 14 = t.2 14) : BfAt t1 B := ⟨h.1, fun k hk => by rw [h14]; exact h.2 k hk⟩
theorem BfAt.nil {t : Tw} : BfAt t [] := ⟨⟨Nat.zero_le _, fun k hk => absurd hk (Nat.not_lt_zero _)⟩, fun k hk => absurd hk (Nat.not_lt_zero _)⟩
theorem SnT.mv {t t1 : Tw} {S : List Nat} {o : Option Cat} (h : SnT t o) (hE : TwE S t t1) (h13 : 13 ∉ S) (h7 : 7 ∉ S) : SnT t1 o := by
  cases o with
  | none => exact ((hE 13 h13).1).trans h
  | some c => exact ⟨((hE 13 h13).1).trans h.1, by rw [(hE 7 h7).2]; exact h.2⟩
theorem TzI.mv {t t1 : Tw} {S : List Nat} {z : LSt} (h : TzI t z) (hE : TwE S t t1) (hs : ([3, 7, 8, 9, 10, 11, 12, 13, 14, 15, 22, 25, 28, 30, 32].all fun k => !S.contains k) = true) : TzI t1 z := by
  have hn : ∀ k, k ∈ [3, 7, 8, 9, 10, 11, 12, 13, 14, 15, 22, 25, 28, 30, 32] → k ∉ S := fun k hk hk2 => by
    have h1 := List.all_eq_true.mp hs k hk
    rw [List.contains_iff_mem.mpr hk2] at h1
    cases h1
  obtain ⟨a1, ⟨a2, a3⟩, a4, a5, a6, a7, a8, a9⟩ := h
  exact ⟨a1.mv hE (hn 3 (by decide)) (hn 8 (by decide)) (hn 12 (by decide)) (hn 9 (by decide)) (hn 10 (by decide)), ⟨a2.mv (hE 14 (hn 14 (by decide))).2, ((hE 15 (hn 15 (by decide))).1).trans a3⟩, ((hE 22 (hn 22 (by decide))).1).trans a4, ((hE 25 (hn 25 (by decide))).1).trans a5, ((hE 11 (hn 11 (by decide))).1).trans a6, a7.mv hE (hn 32 (by decide)) (hn 30 (by decide)), by rw [(hE 28 (hn 28 (by decide))).2]; exact a8, a9.mv hE (hn 13 (by decide)) (hn 7 (by decide))⟩

theorem tt_size (l : Launch) (G : Gl) (w : Wd) (a : Nat) (z : LSt) (k0 b : Int) (h : TwZ G w a k0 z) (hok : LOk b z) (hb : b < 890000) (v1 : Int) (h0 : R32 v1) : HM l yX10_size cX10_size 2 (some .int) 6 0 0 G [.ref a, .int (iI (v1))] w (QI G (TRet G w a (aSiz z v1))) := by
  obtain ⟨ad, t, hT, hZ, hk⟩ := h
  obtain ⟨z1, ⟨z2, z3⟩, z4, z5, z6, z7, z8, z9⟩ := id hZ
  refine HM.imp (m_size l G w a ad t hT v1 (sC (zS z)) z1.1 h0) (QI.imp fun v w1 hp => ?_)
  obtain ⟨e, t1, hS, hE, hc⟩ := hp
  exact ⟨e, ⟨ad, t1, hS.1, hZ.mv hE rfl, hc⟩, hS.2⟩

theorem tt_account (l : Launch) (G : Gl) (w : Wd) (a : Nat) (z : LSt) (k0 b : Int) (h : TwZ G w a k0 z) (hok : LOk b z) (hb : b < 890000) (v1 : Int) (h0 : R32 v1) : HM l yX10_account cX10_account 2 (some .int) 4 0 0 G [.ref a, .int (iI (v1))] w (QI G (TRet G w a (aAcc z v1))) := by
  obtain ⟨ad, t, hT, hZ, hk⟩ := h
  obtain ⟨z1, ⟨z2, z3⟩, z4, z5, z6, z7, z8, z9⟩ := id hZ
  refine HM.imp (m_account l G w a ad t hT v1 (sC (zS z)) z1.1 h0) (QI.imp fun v w1 hp => ?_)
  rw [z1.2.2.1, z1.2.2.2, z6] at hp
  obtain ⟨e, t1, hS, hE, hc⟩ := hp
  exact ⟨e, ⟨ad, t1, hS.1, hZ.mv hE rfl, hc⟩, hS.2⟩

theorem tt_at (l : Launch) (G : Gl) (w : Wd) (a : Nat) (z : LSt) (k0 b : Int) (h : TwZ G w a k0 z) (hok : LOk b z) (hb : b < 890000) (v1 : Int) (h0 : R32 v1) : HM l yX10_at cX10_at 2 (some .int) 2 0 0 G [.ref a, .int (iI (v1))] w (QI G (TRetN G w a (aAt z v1))) := by
  obtain ⟨ad, t, hT, hZ, hk⟩ := h
  obtain ⟨z1, ⟨z2, z3⟩, z4, z5, z6, z7, z8, z9⟩ := id hZ
  refine HM.imp (m_at l G w a ad t hT v1 (sC (zS z)) z1.1 h0) (QI.imp fun v w1 hp => ?_)
  obtain ⟨e, t1, hS, hE, -⟩ := hp
  exact ⟨e, ⟨_, ad, t1, hS.1, hZ.mv hE rfl, rfl⟩, hS.2⟩

theorem tt_mark (l : Launch) (G : Gl) (w : Wd) (a : Nat) (z : LSt) (k0 b : Int) (h : TwZ G w a k0 z) (hok : LOk b z) (hb : b < 890000) (v1 : Int) (v2 : Int) (h0 : R32 v1) (h1 : R32 v2) : HM l yX10_mark cX10_mark 4 (some .int) 5 0 0 G [.ref a, .int (iI (v1)), .int (iI (v2))] w (QI G (TRet G w a (aMrk z v1 v2))) := by
  obtain ⟨ad, t, hT, hZ, hk⟩ := h
  obtain ⟨z1, ⟨z2, z3⟩, z4, z5, z6, z7, z8, z9⟩ := id hZ
  refine HM.imp (m_mark l G w a ad t hT v1 v2 (sC (zS z)) z1.1 h0 h1 hok.w) (QI.imp fun v w1 hp => ?_)
  obtain ⟨e, t1, hS, hE, hc⟩ := hp
  exact ⟨e, ⟨ad, t1, hS.1, hZ.mv hE rfl, hc⟩, hS.2⟩

theorem tt_number (l : Launch) (G : Gl) (w : Wd) (a : Nat) (z : LSt) (k0 b : Int) (h : TwZ G w a k0 z) (hok : LOk b z) (hb : b < 890000) (v1 : Int) (v2 : Int) (h0 : R32 v1) (h1 : R32 v2) : HM l yX10_number cX10_number 5 (some .int) 5 0 0 G [.ref a, .int (iI (v1)), .int (iI (v2))] w (QI G (TRet G w a (aNum z v1 v2))) := by
  obtain ⟨ad, t, hT, hZ, hk⟩ := h
  obtain ⟨z1, ⟨z2, z3⟩, z4, z5, z6, z7, z8, z9⟩ := id hZ
  refine HM.imp (m_number l G w a ad t hT v1 v2 (sC (zS z)) z1.1 h0 h1) (QI.imp fun v w1 hp => ?_)
  obtain ⟨e, t1, hS, hE, hc⟩ := hp
  exact ⟨e, ⟨ad, t1, hS.1, hZ.mv hE rfl, hc⟩, hS.2⟩

theorem tt_letter (l : Launch) (G : Gl) (w : Wd) (a : Nat) (z : LSt) (k0 b : Int) (h : TwZ G w a k0 z) (hok : LOk b z) (hb : b < 890000) (v1 : Int) (v2 : Int) (v3 : Int) (v4 : Int) (h0 : R32 v1) (h1 : R32 v2) (h2 : 0 ≤ v3 ∧ v3 ≤ 1) (h3 : R32 v4) : HM l yX10_letter_2 cX10_letter_2 5 (some .int) 5 0 0 G [.ref a, .int (iI (v1)), .int (iI (v2)), .int (iI (v3)), .int (iI (v4))] w (QI G (TRet G w a (aLet z v1 v2 v3 v4))) := by
  obtain ⟨ad, t, hT, hZ, hk⟩ := h
  obtain ⟨z1, ⟨z2, z3⟩, z4, z5, z6, z7, z8, z9⟩ := id hZ
  refine HM.imp (m_letterQ l G w a ad t hT v1 v2 v3 v4 (sC (zS z)) z1.1 h0 h1 ⟨by omega, by omega⟩ h3) (QI.imp fun v w1 hp => ?_)
  obtain ⟨e, t1, hS, hE, hc⟩ := hp
  exact ⟨e, ⟨ad, t1, hS.1, hZ.mv hE rfl, hc⟩, hS.2⟩

theorem tt_ruleLetter (l : Launch) (G : Gl) (w : Wd) (a : Nat) (z : LSt) (k0 b : Int) (h : TwZ G w a k0 z) (hok : LOk b z) (hb : b < 890000) (v1 : Int) (v2 : Int) (v3 : Int) (h0 : R32 v1) (h1 : 0 ≤ v2 ∧ v2 ≤ 1) (h2 : R32 v3) : HM l yX10_ruleLetter cX10_ruleLetter 4 (some .int) 4 0 0 G [.ref a, .int (iI (v1)), .int (iI (v2)), .int (iI (v3))] w (QI G (TRet G w a (aRul z v1 v2 v3))) := by
  obtain ⟨ad, t, hT, hZ, hk⟩ := h
  obtain ⟨z1, ⟨z2, z3⟩, z4, z5, z6, z7, z8, z9⟩ := id hZ
  refine HM.imp (m_ruleLetter l G w a ad t hT v1 v2 v3 (sC (zS z)) z1.1 h0 ⟨by omega, by omega⟩ h2) (QI.imp fun v w1 hp => ?_)
  obtain ⟨e, t1, hS, hE, hc⟩ := hp
  exact ⟨e, ⟨ad, t1, hS.1, hZ.mv hE rfl, hc⟩, hS.2⟩

theorem tt_shelf (l : Launch) (G : Gl) (w : Wd) (a : Nat) (z : LSt) (k0 b : Int) (h : TwZ G w a k0 z) (hok : LOk b z) (hb : b < 890000) (v1 : Int) (v2 : Int) (h0 : R32 v1) (h1 : R32 v2) : HM l yX10_shelf cX10_shelf 3 (some .int) 5 0 0 G [.ref a, .int (iI (v1)), .int (iI (v2))] w (QI G (TRet G w a (aShf z v1 v2))) := by
  obtain ⟨ad, t, hT, hZ, hk⟩ := h
  obtain ⟨z1, ⟨z2, z3⟩, z4, z5, z6, z7, z8, z9⟩ := id hZ
  refine HM.imp (m_shelf l G w a ad t hT v1 v2 (sC (zS z)) z1.1 h0 h1) (QI.imp fun v w1 hp => ?_)
  obtain ⟨e, t1, hS, hE, hc⟩ := hp
  exact ⟨e, ⟨ad, t1, hS.1, hZ.mv hE rfl, hc⟩, hS.2⟩

theorem tt_gap (l : Launch) (G : Gl) (w : Wd) (a : Nat) (z : LSt) (k0 b : Int) (h : TwZ G w a k0 z) (hok : LOk b z) (hb : b < 890000)   : HM l yX10_gap cX10_gap 3 (some .int) 4 0 0 G [.ref a] w (QI G (TRetN G w a (aGap z))) := by
  obtain ⟨ad, t, hT, hZ, hk⟩ := h
  obtain ⟨z1, ⟨z2, z3⟩, z4, z5, z6, z7, z8, z9⟩ := id hZ
  refine HM.imp (m_gap l G w a ad t hT  (sC (zS z)) z1.1 ) (QI.imp fun v w1 hp => ?_)
  obtain ⟨e, t1, hS, hE, -⟩ := hp
  exact ⟨e, ⟨_, ad, t1, hS.1, hZ.mv hE rfl, rfl⟩, hS.2⟩

theorem tt_alike (l : Launch) (G : Gl) (w : Wd) (a : Nat) (z : LSt) (k0 b : Int) (h : TwZ G w a k0 z) (hok : LOk b z) (hb : b < 890000)   : HM l yX10_alike cX10_alike 4 (some .int) 4 0 0 G [.ref a] w (QI G (TRetN G w a (aAlk z))) := by
  obtain ⟨ad, t, hT, hZ, hk⟩ := h
  obtain ⟨z1, ⟨z2, z3⟩, z4, z5, z6, z7, z8, z9⟩ := id hZ
  refine HM.imp (m_alike l G w a ad t hT  (sC (zS z)) z1.1 ) (QI.imp fun v w1 hp => ?_)
  obtain ⟨e, t1, hS, hE, -⟩ := hp
  exact ⟨e, ⟨_, ad, t1, hS.1, hZ.mv hE rfl, rfl⟩, hS.2⟩

theorem tt_compare (l : Launch) (G : Gl) (w : Wd) (a : Nat) (z : LSt) (k0 b : Int) (h : TwZ G w a k0 z) (hok : LOk b z) (hb : b < 890000) (v1 : Int) (v2 : Int) (h0 : R32 v1) (h1 : R32 v2) : HM l yX10_compare cX10_compare 4 (some .int) 4 0 0 G [.ref a, .int (iI (v1)), .int (iI (v2))] w (QI G (TRet G w a (aCmp z v1 v2))) := by
  obtain ⟨ad, t, hT, hZ, hk⟩ := h
  obtain ⟨z1, ⟨z2, z3⟩, z4, z5, z6, z7, z8, z9⟩ := id hZ
  refine HM.imp (m_compare l G w a ad t hT v1 v2 (sC (zS z)) z1.1 h0 h1) (QI.imp fun v w1 hp => ?_)
  obtain ⟨e, t1, hS, hE, hc⟩ := hp
  exact ⟨e, ⟨ad, t1, hS.1, hZ.mv hE rfl, hc⟩, hS.2⟩

theorem tt_differ (l : Launch) (G : Gl) (w : Wd) (a : Nat) (z : LSt) (k0 b : Int) (h : TwZ G w a k0 z) (hok : LOk b z) (hb : b < 890000) (v1 : Int) (v2 : Int) (h0 : R32 v1) (h1 : R32 v2) : HM l yX10_differ cX10_differ 3 (some .int) 4 0 0 G [.ref a, .int (iI (v1)), .int (iI (v2))] w (QI G (TRet G w a (aDif z v1 v2))) := by
  obtain ⟨ad, t, hT, hZ, hk⟩ := h
  obtain ⟨z1, ⟨z2, z3⟩, z4, z5, z6, z7, z8, z9⟩ := id hZ
  refine HM.imp (m_differ l G w a ad t hT v1 v2 (sC (zS z)) z1.1 h0 h1) (QI.imp fun v w1 hp => ?_)
  obtain ⟨e, t1, hS, hE, hc⟩ := hp
  exact ⟨e, ⟨ad, t1, hS.1, hZ.mv hE rfl, hc⟩, hS.2⟩

theorem tt_free (l : Launch) (G : Gl) (w : Wd) (a : Nat) (z : LSt) (k0 b : Int) (h : TwZ G w a k0 z) (hok : LOk b z) (hb : b < 890000) (v1 : Int) (h0 : R32 v1) : HM l yX10_free cX10_free 3 (some .int) 4 0 0 G [.ref a, .int (iI (v1))] w (QI G (TRet G w a (aFre z v1))) := by
  obtain ⟨ad, t, hT, hZ, hk⟩ := h
  obtain ⟨z1, ⟨z2, z3⟩, z4, z5, z6, z7, z8, z9⟩ := id hZ
  refine HM.imp (m_free l G w a ad t hT v1 (sC (zS z)) z1.1 h0) (QI.imp fun v w1 hp => ?_)
  obtain ⟨e, t1, hS, hE, hc⟩ := hp
  exact ⟨e, ⟨ad, t1, hS.1, hZ.mv hE rfl, hc⟩, hS.2⟩

theorem tt_family (l : Launch) (G : Gl) (w : Wd) (a : Nat) (z : LSt) (k0 b : Int) (h : TwZ G w a k0 z) (hok : LOk b z) (hb : b < 890000) (v1 : Int) (h0 : R32 v1) : HM l yX10_family cX10_family 4 (some .int) 4 0 0 G [.ref a, .int (iI (v1))] w (QI G (TRet G w a (aFam z v1))) := by
  obtain ⟨ad, t, hT, hZ, hk⟩ := h
  obtain ⟨z1, ⟨z2, z3⟩, z4, z5, z6, z7, z8, z9⟩ := id hZ
  refine HM.imp (m_family l G w a ad t hT v1 (sC (zS z)) z1.1 h0) (QI.imp fun v w1 hp => ?_)
  obtain ⟨e, t1, hS, hE, hc⟩ := hp
  exact ⟨e, ⟨ad, t1, hS.1, hZ.mv hE rfl, hc⟩, hS.2⟩

theorem tt_errorPosition (l : Launch) (G : Gl) (w : Wd) (a : Nat) (z : LSt) (k0 b : Int) (h : TwZ G w a k0 z) (hok : LOk b z) (hb : b < 890000)   : HM l yX10_errorPosition cX10_errorPosition 1 (some .int) 1 0 0 G [.ref a] w (QI G (TRet G w a (aErr z))) := by
  obtain ⟨ad, t, hT, hZ, hk⟩ := h
  obtain ⟨z1, ⟨z2, z3⟩, z4, z5, z6, z7, z8, z9⟩ := id hZ
  refine HM.imp (m_errorPosition l G w a ad t hT ) (QI.imp fun v w1 hp => ?_)
  obtain ⟨e, t1, hS, hE, hc⟩ := hp
  exact ⟨e.trans z4, ⟨ad, t1, hS.1, hZ.mv hE rfl, hc⟩, hS.2⟩

theorem tt_cause (l : Launch) (G : Gl) (w : Wd) (a : Nat) (z : LSt) (k0 b : Int) (h : TwZ G w a k0 z) (hok : LOk b z) (hb : b < 890000)   : HM l yX10_cause cX10_cause 1 (some .int) 1 0 0 G [.ref a] w (QI G (TRet G w a (aCau z))) := by
  obtain ⟨ad, t, hT, hZ, hk⟩ := h
  obtain ⟨z1, ⟨z2, z3⟩, z4, z5, z6, z7, z8, z9⟩ := id hZ
  refine HM.imp (m_cause l G w a ad t hT ) (QI.imp fun v w1 hp => ?_)
  obtain ⟨e, t1, hS, hE, hc⟩ := hp
  exact ⟨e.trans z5, ⟨ad, t1, hS.1, hZ.mv hE rfl, hc⟩, hS.2⟩

theorem tt_undoCount (l : Launch) (G : Gl) (w : Wd) (a : Nat) (z : LSt) (k0 b : Int) (h : TwZ G w a k0 z) (hok : LOk b z) (hb : b < 890000)   : HM l yX10_undoCount cX10_undoCount 1 (some .int) 1 0 0 G [.ref a] w (QI G (TRet G w a (aUnc z))) := by
  obtain ⟨ad, t, hT, hZ, hk⟩ := h
  obtain ⟨z1, ⟨z2, z3⟩, z4, z5, z6, z7, z8, z9⟩ := id hZ
  refine HM.imp (m_undoCount l G w a ad t hT ) (QI.imp fun v w1 hp => ?_)
  obtain ⟨e, t1, hS, hE, hc⟩ := hp
  exact ⟨e.trans z1.2.1.2.1, ⟨ad, t1, hS.1, hZ.mv hE rfl, hc⟩, hS.2⟩

theorem tt_formattedByte (l : Launch) (G : Gl) (w : Wd) (a : Nat) (z : LSt) (k0 b : Int) (h : TwZ G w a k0 z) (hok : LOk b z) (hb : b < 890000) (v1 : Int) (h0 : R32 v1) : HM l yX10_formattedByte cX10_formattedByte 2 (some .int) 2 0 0 G [.ref a, .int (iI (v1))] w (QI G (TRet G w a (aFmb z v1))) := by
  obtain ⟨ad, t, hT, hZ, hk⟩ := h
  obtain ⟨z1, ⟨z2, z3⟩, z4, z5, z6, z7, z8, z9⟩ := id hZ
  refine HM.imp (m_formattedByte l G w a ad t hT v1 (zF z) h0 z7) (QI.imp fun v w1 hp => ?_)
  obtain ⟨e, t1, hS, hE, hc⟩ := hp
  exact ⟨e, ⟨ad, t1, hS.1, hZ.mv hE rfl, hc⟩, hS.2⟩

theorem tt_soundsLike (l : Launch) (G : Gl) (w : Wd) (a : Nat) (z : LSt) (k0 b : Int) (h : TwZ G w a k0 z) (hok : LOk b z) (hb : b < 890000) (v1 : Int) (h0 : R32 v1) : HM l yX10_soundsLike cX10_soundsLike 4 (some .int) 9 0 0 G [.ref a, .int (iI (v1))] w (QI G (TRet G w a (aSnd z v1))) := by
  obtain ⟨ad, t, hT, hZ, hk⟩ := h
  obtain ⟨z1, ⟨z2, z3⟩, z4, z5, z6, z7, z8, z9⟩ := id hZ
  refine HM.imp (m_soundsLike l G w a ad t hT v1 (zB z) (sC (zS z)) h0 z2 z3 z1.1) (QI.imp fun v w1 hp => ?_)
  obtain ⟨e, t1, hS, hE, hc, h22, h15, hr⟩ := hp
  refine ⟨e, ⟨ad, t1, hS.1, ⟨⟨(z1.1.mv (fun i hi => hr i)), by rw [(hE 12 (by decide)).1, (hE 8 (by decide)).2]; exact z1.2.1, ((hE 9 (by decide)).1).trans z1.2.2.1, ((hE 10 (by decide)).1).trans z1.2.2.2⟩, ⟨(by show BfAt t1 (if gOk (zB z) v1 then [] else zB z); split; exact BfAt.nil; exact z2.mv (hE 14 (by decide)).2), by show t1.1 15 = ((zTB z v1).length : Int); rw [h15, z3]; unfold zTB; split <;> rfl⟩, ?_, ?_, ((hE 11 (by decide)).1).trans z6, z7.mv hE (by decide) (by decide), by rw [(hE 28 (by decide)).2]; exact z8, z9.mv hE (by decide) (by decide)⟩, hc⟩, hS.2⟩
  · rw [h22, z4]
  · exact ((hE 25 (by decide)).1).trans z5

theorem tt_rankIf (l : Launch) (G : Gl) (w : Wd) (a : Nat) (z : LSt) (k0 b : Int) (h : TwZ G w a k0 z) (hok : LOk b z) (hb : b < 890000) (v1 : Int) (h0 : R32 v1) : HM l yX10_rankIf cX10_rankIf 2 (some .int) 9 0 0 G [.ref a, .int (iI (v1))] w (QI G (TRet G w a (aRnk z v1))) := by
  obtain ⟨ad, t, hT, hZ, hk⟩ := h
  obtain ⟨z1, ⟨z2, z3⟩, z4, z5, z6, z7, z8, z9⟩ := id hZ
  refine HM.imp (m_rankIf l G w a ad t hT v1 (zB z) (sC (zS z)) h0 z2 z3 z1.1) (QI.imp fun v w1 hp => ?_)
  obtain ⟨e, t1, hS, hE, hc, h22, h15, hr⟩ := hp
  refine ⟨e, ⟨ad, t1, hS.1, ⟨⟨(z1.1.mv (fun i hi => hr i (by have := z1.1.n40; omega))), by rw [(hE 12 (by decide)).1, (hE 8 (by decide)).2]; exact z1.2.1, ((hE 9 (by decide)).1).trans z1.2.2.1, ((hE 10 (by decide)).1).trans z1.2.2.2⟩, ⟨(by show BfAt t1 (if gOk (zB z) v1 then [] else zB z); split; exact BfAt.nil; exact z2.mv (hE 14 (by decide)).2), by show t1.1 15 = ((zTB z v1).length : Int); rw [h15, z3]; unfold zTB; split <;> rfl⟩, ?_, ?_, ((hE 11 (by decide)).1).trans z6, z7.mv hE (by decide) (by decide), by rw [(hE 28 (by decide)).2]; exact z8, z9.mv hE (by decide) (by decide)⟩, hc⟩, hS.2⟩
  · rw [h22, z4]
  · exact ((hE 25 (by decide)).1).trans z5

theorem tt_placeIf (l : Launch) (G : Gl) (w : Wd) (a : Nat) (z : LSt) (k0 b : Int) (h : TwZ G w a k0 z) (hok : LOk b z) (hb : b < 890000) (v1 : Int) (h0 : R32 v1) : HM l yX10_placeIf cX10_placeIf 2 (some .int) 9 0 0 G [.ref a, .int (iI (v1))] w (QI G (TRet G w a (aPlc z v1))) := by
  obtain ⟨ad, t, hT, hZ, hk⟩ := h
  obtain ⟨z1, ⟨z2, z3⟩, z4, z5, z6, z7, z8, z9⟩ := id hZ
  refine HM.imp (m_placeIf l G w a ad t hT v1 (zB z) (sC (zS z)) h0 z2 z3 z1.1) (QI.imp fun v w1 hp => ?_)
  obtain ⟨e, t1, hS, hE, hc, h22, h15, hr⟩ := hp
  refine ⟨e, ⟨ad, t1, hS.1, ⟨⟨(z1.1.mv (fun i hi => hr i (by have := z1.1.n40; omega))), by rw [(hE 12 (by decide)).1, (hE 8 (by decide)).2]; exact z1.2.1, ((hE 9 (by decide)).1).trans z1.2.2.1, ((hE 10 (by decide)).1).trans z1.2.2.2⟩, ⟨(by show BfAt t1 (if gOk (zB z) v1 then [] else zB z); split; exact BfAt.nil; exact z2.mv (hE 14 (by decide)).2), by show t1.1 15 = ((zTB z v1).length : Int); rw [h15, z3]; unfold zTB; split <;> rfl⟩, ?_, ?_, ((hE 11 (by decide)).1).trans z6, z7.mv hE (by decide) (by decide), by rw [(hE 28 (by decide)).2]; exact z8, z9.mv hE (by decide) (by decide)⟩, hc⟩, hS.2⟩
  · rw [h22, z4]
  · exact ((hE 25 (by decide)).1).trans z5

theorem tt_movesIf (l : Launch) (G : Gl) (w : Wd) (a : Nat) (z : LSt) (k0 b : Int) (h : TwZ G w a k0 z) (hok : LOk b z) (hb : b < 890000) (v1 : Int) (h0 : R32 v1) : HM l yX10_movesIf cX10_movesIf 2 (some .int) 9 0 0 G [.ref a, .int (iI (v1))] w (QI G (TRet G w a (aMov z v1))) := by
  obtain ⟨ad, t, hT, hZ, hk⟩ := h
  obtain ⟨z1, ⟨z2, z3⟩, z4, z5, z6, z7, z8, z9⟩ := id hZ
  refine HM.imp (m_movesIf l G w a ad t hT v1 (zB z) (sC (zS z)) h0 z2 z3 z1.1) (QI.imp fun v w1 hp => ?_)
  obtain ⟨e, t1, hS, hE, hc, h22, h15, hr⟩ := hp
  refine ⟨e, ⟨ad, t1, hS.1, ⟨⟨(z1.1.mv (fun i hi => hr i (by have := z1.1.n40; omega))), by rw [(hE 12 (by decide)).1, (hE 8 (by decide)).2]; exact z1.2.1, ((hE 9 (by decide)).1).trans z1.2.2.1, ((hE 10 (by decide)).1).trans z1.2.2.2⟩, ⟨(by show BfAt t1 (if gOk (zB z) v1 then [] else zB z); split; exact BfAt.nil; exact z2.mv (hE 14 (by decide)).2), by show t1.1 15 = ((zTB z v1).length : Int); rw [h15, z3]; unfold zTB; split <;> rfl⟩, ?_, ?_, ((hE 11 (by decide)).1).trans z6, z7.mv hE (by decide) (by decide), by rw [(hE 28 (by decide)).2]; exact z8, z9.mv hE (by decide) (by decide)⟩, hc⟩, hS.2⟩
  · rw [h22, z4]
  · exact ((hE 25 (by decide)).1).trans z5

theorem tt_why (l : Launch) (G : Gl) (w : Wd) (a : Nat) (z : LSt) (k0 b : Int) (h : TwZ G w a k0 z) (hok : LOk b z) (hb : b < 890000) (v1 : Int) (h0 : R32 v1) : HM l yX10_why cX10_why 2 (some .int) 9 0 0 G [.ref a, .int (iI (v1))] w (QI G (TRet G w a (aWhy z v1))) := by
  obtain ⟨ad, t, hT, hZ, hk⟩ := h
  obtain ⟨z1, ⟨z2, z3⟩, z4, z5, z6, z7, z8, z9⟩ := id hZ
  refine HM.imp (m_why l G w a ad t hT v1 (zB z) (sC (zS z)) h0 z2 z3 z1.1) (QI.imp fun v w1 hp => ?_)
  obtain ⟨e, t1, hS, hE, hc, h22, h15, hr, h25⟩ := hp
  refine ⟨e, ⟨ad, t1, hS.1, ⟨⟨(z1.1.mv (fun i hi => hr i (by have := z1.1.n40; omega))), by rw [(hE 12 (by decide)).1, (hE 8 (by decide)).2]; exact z1.2.1, ((hE 9 (by decide)).1).trans z1.2.2.1, ((hE 10 (by decide)).1).trans z1.2.2.2⟩, ⟨(by show BfAt t1 (if gOk (zB z) v1 then [] else zB z); split; exact BfAt.nil; exact z2.mv (hE 14 (by decide)).2), by show t1.1 15 = ((zTB z v1).length : Int); rw [h15, z3]; unfold zTB; split <;> rfl⟩, ?_, ?_, ((hE 11 (by decide)).1).trans z6, z7.mv hE (by decide) (by decide), by rw [(hE 28 (by decide)).2]; exact z8, z9.mv hE (by decide) (by decide)⟩, hc⟩, hS.2⟩
  · rw [h22, z4]
  · rw [h25, z5]

theorem tt_drop (l : Launch) (G : Gl) (w : Wd) (a : Nat) (z : LSt) (k0 b : Int) (h : TwZ G w a k0 z) (hok : LOk b z) (hb : b < 890000) (v1 : Int) (h0 : R32 v1) : HM l yX10_drop cX10_drop 2 (some .int) 10 0 0 G [.ref a, .int (iI (v1))] w (QI G (TRet G w a (aDrp z v1))) := by
  obtain ⟨ad, t, hT, hZ, hk⟩ := h
  obtain ⟨z1, ⟨z2, z3⟩, z4, z5, z6, z7, z8, z9⟩ := id hZ
  refine HM.imp (m_drop l G w a ad t hT v1 (zS z) z1 h0 (hok.opw (by omega))) (QI.imp fun v w1 hp => ?_)
  obtain ⟨e, t1, hS, hE, hc, hs1⟩ := hp
  exact ⟨e, ⟨ad, t1, hS.1, ⟨hs1, ⟨z2.mv (hE 14 (by decide)).2, ((hE 15 (by decide)).1).trans z3⟩, ((hE 22 (by decide)).1).trans z4, ((hE 25 (by decide)).1).trans z5, ((hE 11 (by decide)).1).trans z6, z7.mv hE (by decide) (by decide), by rw [(hE 28 (by decide)).2]; exact z8, z9.mv hE (by decide) (by decide)⟩, hc⟩, hS.2⟩

theorem tt_unsay (l : Launch) (G : Gl) (w : Wd) (a : Nat) (z : LSt) (k0 b : Int) (h : TwZ G w a k0 z) (hok : LOk b z) (hb : b < 890000) (v1 : Int) (h0 : R32 v1) : HM l yX10_unsay cX10_unsay 2 (some .int) 10 0 0 G [.ref a, .int (iI (v1))] w (QI G (TRet G w a (aUns z v1))) := by
  obtain ⟨ad, t, hT, hZ, hk⟩ := h
  obtain ⟨z1, ⟨z2, z3⟩, z4, z5, z6, z7, z8, z9⟩ := id hZ
  refine HM.imp (m_unsay l G w a ad t hT v1 (zS z) z1 h0 (hok.opw (by omega))) (QI.imp fun v w1 hp => ?_)
  obtain ⟨e, t1, hS, hE, hc, hs1⟩ := hp
  exact ⟨e, ⟨ad, t1, hS.1, ⟨hs1, ⟨z2.mv (hE 14 (by decide)).2, ((hE 15 (by decide)).1).trans z3⟩, ((hE 22 (by decide)).1).trans z4, ((hE 25 (by decide)).1).trans z5, ((hE 11 (by decide)).1).trans z6, z7.mv hE (by decide) (by decide), by rw [(hE 28 (by decide)).2]; exact z8, z9.mv hE (by decide) (by decide)⟩, hc⟩, hS.2⟩

theorem tt_setWidth (l : Launch) (G : Gl) (w : Wd) (a : Nat) (z : LSt) (k0 b : Int) (h : TwZ G w a k0 z) (hok : LOk b z) (hb : b < 890000) (v1 : Int) (v2 : Int) (h0 : R32 v1) (h1 : R32 v2) : HM l yX10_setWidth cX10_setWidth 3 (some .int) 10 0 0 G [.ref a, .int (iI (v1)), .int (iI (v2))] w (QI G (TRet G w a (aWid z v1 v2))) := by
  obtain ⟨ad, t, hT, hZ, hk⟩ := h
  obtain ⟨z1, ⟨z2, z3⟩, z4, z5, z6, z7, z8, z9⟩ := id hZ
  refine HM.imp (m_setWidth l G w a ad t hT v1 v2 (zS z) z1 h0 h1 (hok.opw (by omega))) (QI.imp fun v w1 hp => ?_)
  obtain ⟨e, t1, hS, hE, hc, hs1⟩ := hp
  exact ⟨e, ⟨ad, t1, hS.1, ⟨hs1, ⟨z2.mv (hE 14 (by decide)).2, ((hE 15 (by decide)).1).trans z3⟩, ((hE 22 (by decide)).1).trans z4, ((hE 25 (by decide)).1).trans z5, ((hE 11 (by decide)).1).trans z6, z7.mv hE (by decide) (by decide), by rw [(hE 28 (by decide)).2]; exact z8, z9.mv hE (by decide) (by decide)⟩, hc⟩, hS.2⟩

theorem tt_setBound (l : Launch) (G : Gl) (w : Wd) (a : Nat) (z : LSt) (k0 b : Int) (h : TwZ G w a k0 z) (hok : LOk b z) (hb : b < 890000) (v1 : Int) (v2 : Int) (h0 : R32 v1) (h1 : R32 v2) : HM l yX10_setBound cX10_setBound 3 (some .int) 10 0 0 G [.ref a, .int (iI (v1)), .int (iI (v2))] w (QI G (TRet G w a (aBnd z v1 v2))) := by
  obtain ⟨ad, t, hT, hZ, hk⟩ := h
  obtain ⟨z1, ⟨z2, z3⟩, z4, z5, z6, z7, z8, z9⟩ := id hZ
  refine HM.imp (m_setBound l G w a ad t hT v1 v2 (zS z) z1 h0 h1 (hok.opw (by omega))) (QI.imp fun v w1 hp => ?_)
  obtain ⟨e, t1, hS, hE, hc, hs1⟩ := hp
  exact ⟨e, ⟨ad, t1, hS.1, ⟨hs1, ⟨z2.mv (hE 14 (by decide)).2, ((hE 15 (by decide)).1).trans z3⟩, ((hE 22 (by decide)).1).trans z4, ((hE 25 (by decide)).1).trans z5, ((hE 11 (by decide)).1).trans z6, z7.mv hE (by decide) (by decide), by rw [(hE 28 (by decide)).2]; exact z8, z9.mv hE (by decide) (by decide)⟩, hc⟩, hS.2⟩

theorem tt_balance (l : Launch) (G : Gl) (w : Wd) (a : Nat) (z : LSt) (k0 b : Int) (h : TwZ G w a k0 z) (hok : LOk b z) (hb : b < 890000)   : HM l yX10_balance cX10_balance 1 (some .int) 10 0 0 G [.ref a] w (QI G (TRet G w a (aBal z))) := by
  obtain ⟨ad, t, hT, hZ, hk⟩ := h
  obtain ⟨z1, ⟨z2, z3⟩, z4, z5, z6, z7, z8, z9⟩ := id hZ
  refine HM.imp (m_balance l G w a ad t hT  (zS z) z1  (hok.opw (by omega))) (QI.imp fun v w1 hp => ?_)
  obtain ⟨e, t1, hS, hE, hc, hs1⟩ := hp
  exact ⟨e, ⟨ad, t1, hS.1, ⟨hs1, ⟨z2.mv (hE 14 (by decide)).2, ((hE 15 (by decide)).1).trans z3⟩, ((hE 22 (by decide)).1).trans z4, ((hE 25 (by decide)).1).trans z5, ((hE 11 (by decide)).1).trans z6, z7.mv hE (by decide) (by decide), by rw [(hE 28 (by decide)).2]; exact z8, z9.mv hE (by decide) (by decide)⟩, hc⟩, hS.2⟩

theorem tt_respace (l : Launch) (G : Gl) (w : Wd) (a : Nat) (z : LSt) (k0 b : Int) (h : TwZ G w a k0 z) (hok : LOk b z) (hb : b < 890000)   : HM l yX10_respace cX10_respace 1 (some .int) 10 0 0 G [.ref a] w (QI G (TRet G w a (aRsp z))) := by
  obtain ⟨ad, t, hT, hZ, hk⟩ := h
  obtain ⟨z1, ⟨z2, z3⟩, z4, z5, z6, z7, z8, z9⟩ := id hZ
  refine HM.imp (m_respace l G w a ad t hT  (zS z) z1  (hok.opw (by omega))) (QI.imp fun v w1 hp => ?_)
  obtain ⟨e, t1, hS, hE, hc, hs1⟩ := hp
  exact ⟨e, ⟨ad, t1, hS.1, ⟨hs1, ⟨z2.mv (hE 14 (by decide)).2, ((hE 15 (by decide)).1).trans z3⟩, ((hE 22 (by decide)).1).trans z4, ((hE 25 (by decide)).1).trans z5, ((hE 11 (by decide)).1).trans z6, z7.mv hE (by decide) (by decide), by rw [(hE 28 (by decide)).2]; exact z8, z9.mv hE (by decide) (by decide)⟩, hc⟩, hS.2⟩

theorem tt_add (l : Launch) (G : Gl) (w : Wd) (a : Nat) (z : LSt) (k0 b : Int) (h : TwZ G w a k0 z) (hok : LOk b z) (hb : b < 890000) (v1 : Int) (v2 : Int) (h0 : R32 v1) (h1 : R32 v2) : HM l yX10_add cX10_add 3 (some .int) 10 0 0 G [.ref a, .int (iI (v1)), .int (iI (v2))] w (QI G (TRet G w a (aAdd z v1 v2))) := by
  obtain ⟨ad, t, hT, hZ, hk⟩ := h
  obtain ⟨z1, ⟨z2, z3⟩, z4, z5, z6, z7, z8, z9⟩ := id hZ
  refine HM.imp (m_add l G w a ad t hT v1 v2 (zS z) (zB z) z1 h0 h1 z2 z3 (hok.opw (by omega))) (QI.imp fun v w1 hp => ?_)
  obtain ⟨e, t1, hS, hE, hc, h22, h15, hs1⟩ := hp
  by_cases hg : (1 ≤ v1 ∧ v1 ≤ 20) ∧ gOk (zB z) v2
  · rw [if_pos hg] at e hc h22 h15 hs1
    have ha : aAdd z v1 v2 = (0, (addA (zS z) (zB z) v1 v2).2, zTx z [] (errP (gst (zB z) v2).1) (opS (zS z) (addA (zS z) (zB z) v1 v2))) := if_pos hg
    rw [ha]
    exact ⟨e, ⟨ad, t1, hS.1, ⟨hs1, ⟨BfAt.nil, h15⟩, h22, ((hE 25 (by decide)).1).trans z5, ((hE 11 (by decide)).1).trans z6, z7.mv hE (by decide) (by decide), by rw [(hE 28 (by decide)).2]; exact z8, z9.mv hE (by decide) (by decide)⟩, hc⟩, hS.2⟩
  · rw [if_neg hg] at e hc h22 h15 hs1
    have ha : aAdd z v1 v2 = (1, 0, z) := if_neg hg
    rw [ha]
    exact ⟨e, ⟨ad, t1, hS.1, ⟨hs1, ⟨z2.mv (hE 14 (by decide)).2, h15.trans z3⟩, h22.trans z4, ((hE 25 (by decide)).1).trans z5, ((hE 11 (by decide)).1).trans z6, z7.mv hE (by decide) (by decide), by rw [(hE 28 (by decide)).2]; exact z8, z9.mv hE (by decide) (by decide)⟩, hc⟩, hS.2⟩

theorem tt_say (l : Launch) (G : Gl) (w : Wd) (a : Nat) (z : LSt) (k0 b : Int) (h : TwZ G w a k0 z) (hok : LOk b z) (hb : b < 890000) (v1 : Int) (h0 : R32 v1) : HM l yX10_say cX10_say 2 (some .int) 10 0 0 G [.ref a, .int (iI (v1))] w (QI G (TRet G w a (aSay z v1))) := by
  obtain ⟨ad, t, hT, hZ, hk⟩ := h
  obtain ⟨z1, ⟨z2, z3⟩, z4, z5, z6, z7, z8, z9⟩ := id hZ
  refine HM.imp (m_say l G w a ad t hT v1 (zS z) (zB z) z1 h0 z2 z3 (hok.opw (by omega))) (QI.imp fun v w1 hp => ?_)
  obtain ⟨e, t1, hS, hE, hc, h22, h15, hs1⟩ := hp
  by_cases hg : gOk (zB z) v1
  · rw [if_pos hg] at e hc h22 h15 hs1
    have ha : aSay z v1 = (0, (sayA (zS z) (zB z) v1).2, zTx z [] (errP (yst (zB z) v1).1) (opS (zS z) (sayA (zS z) (zB z) v1))) := if_pos hg
    rw [ha]
    exact ⟨e, ⟨ad, t1, hS.1, ⟨hs1, ⟨BfAt.nil, h15⟩, h22, ((hE 25 (by decide)).1).trans z5, ((hE 11 (by decide)).1).trans z6, z7.mv hE (by decide) (by decide), by rw [(hE 28 (by decide)).2]; exact z8, z9.mv hE (by decide) (by decide)⟩, hc⟩, hS.2⟩
  · rw [if_neg hg] at e hc h22 h15 hs1
    have ha : aSay z v1 = (1, 0, z) := if_neg hg
    rw [ha]
    exact ⟨e, ⟨ad, t1, hS.1, ⟨hs1, ⟨z2.mv (hE 14 (by decide)).2, h15.trans z3⟩, h22.trans z4, ((hE 25 (by decide)).1).trans z5, ((hE 11 (by decide)).1).trans z6, z7.mv hE (by decide) (by decide), by rw [(hE 28 (by decide)).2]; exact z8, z9.mv hE (by decide) (by decide)⟩, hc⟩, hS.2⟩

theorem tt_play (l : Launch) (G : Gl) (w : Wd) (a : Nat) (z : LSt) (k0 b : Int) (h : TwZ G w a k0 z) (hok : LOk b z) (hb : b < 890000) (v1 : Int) (h0 : R32 v1) : HM l yX10_play cX10_play 3 (some .int) 11 0 0 G [.ref a, .int (iI (v1))] w (QI G (TRet G w a (aPla z v1))) := by
  obtain ⟨ad, t, hT, hZ, hk⟩ := h
  obtain ⟨z1, ⟨z2, z3⟩, z4, z5, z6, z7, z8, z9⟩ := id hZ
  refine HM.imp (m_play l G w a ad t hT v1 (zS z) (zB z) b z1 h0 z2 z3 z8 hok.1 (by omega)) (QI.imp fun v w1 hp => ?_)
  obtain ⟨e, t1, hS, hE, hc, h22, h15, hs1, hcel⟩ := hp
  by_cases hg : gOk (zB z) v1
  · rw [if_pos hg] at e hc h22 h15 hs1
    have ha : aPla z v1 = (0, (playA (zS z) (zB z) v1).1, zTx z [] (errP (pst (zB z) v1).1) (playA (zS z) (zB z) v1).2) := if_pos hg
    rw [ha]
    exact ⟨e, ⟨ad, t1, hS.1, ⟨hs1, ⟨BfAt.nil, h15⟩, h22, ((hE 25 (by decide)).1).trans z5, ((hE 11 (by decide)).1).trans z6, z7.mv hE (by decide) (by decide), hcel, z9.mv hE (by decide) (by decide)⟩, hc⟩, hS.2⟩
  · rw [if_neg hg] at e hc h22 h15 hs1
    have ha : aPla z v1 = (1, 0, z) := if_neg hg
    rw [ha]
    exact ⟨e, ⟨ad, t1, hS.1, ⟨hs1, ⟨z2.mv (hE 14 (by decide)).2, h15.trans z3⟩, h22.trans z4, ((hE 25 (by decide)).1).trans z5, ((hE 11 (by decide)).1).trans z6, z7.mv hE (by decide) (by decide), hcel, z9.mv hE (by decide) (by decide)⟩, hc⟩, hS.2⟩

theorem SnT.eq {t t1 : Tw} {o : Option Cat} (h : SnT t o) (h13 : t1.1 13 = t.1 13) (h7 : t1.2 7 = t.2 7) : SnT t1 o := by
  cases o with
  | none => exact h13.trans h
  | some c => exact ⟨h13.trans h.1, by rw [h7]; exact h.2⟩

theorem tt_load (l : Launch) (G : Gl) (w : Wd) (a : Nat) (z : LSt) (k0 b : Int) (h : TwZ G w a k0 z) (hok : LOk b z) (hb : b < 890000) (v1 : Int) (h0 : R32 v1) : HM l yX10_load cX10_load 2 (some .int) 10 0 0 G [.ref a, .int (iI (v1))] w (QI G (TRet G w a (aLod z v1))) := by
  obtain ⟨ad, t, hT, hZ, hk⟩ := h
  obtain ⟨z1, ⟨z2, z3⟩, z4, z5, z6, z7, z8, z9⟩ := id hZ
  refine HM.imp (m_load l G w a ad t hT v1 (zS z) (zB z) z1 h0 z2 z3) (QI.imp fun v w1 hp => ?_)
  obtain ⟨e, t1, hS, hE, hc, h22, h15, hs1, h13⟩ := hp
  by_cases hg : gOk (zB z) v1
  · rw [if_pos hg] at e hc h22 h15 hs1
    have ha : aLod z v1 = (0, lodA (zB z) v1, ([], errP (lst (zB z) v1).1, zC z, zU z, zF z, lodS (zS z) (zB z) v1, if wrC (lst (zB z) v1).1 = 0 then none else zN z)) := if_pos hg
    rw [ha]
    exact ⟨e, ⟨ad, t1, hS.1, ⟨hs1, ⟨BfAt.nil, h15⟩, h22, ((hE 25 (by decide)).1).trans z5, ((hE 11 (by decide)).1).trans z6, z7.mv hE (by decide) (by decide), by rw [(hE 28 (by decide)).2]; exact z8, (by show SnT t1 (if wrC (lst (zB z) v1).1 = 0 then none else zN z); by_cases hw0 : wrC (lst (zB z) v1).1 = 0; rw [if_pos hw0]; rw [if_pos ⟨hg, hw0⟩] at h13; exact h13; rw [if_neg hw0]; rw [if_neg (fun q_ => hw0 q_.2)] at h13; exact SnT.eq z9 h13 (hE 7 (by decide)).2)⟩, hc⟩, hS.2⟩
  · rw [if_neg hg] at e hc h22 h15 hs1
    have ha : aLod z v1 = (1, 0, z) := if_neg hg
    rw [ha]
    exact ⟨e, ⟨ad, t1, hS.1, ⟨hs1, ⟨z2.mv (hE 14 (by decide)).2, h15.trans z3⟩, h22.trans z4, ((hE 25 (by decide)).1).trans z5, ((hE 11 (by decide)).1).trans z6, z7.mv hE (by decide) (by decide), by rw [(hE 28 (by decide)).2]; exact z8, SnT.eq z9 (h13.trans (if_neg (fun q_ => hg q_.1))) (hE 7 (by decide)).2⟩, hc⟩, hS.2⟩

theorem tt_feed (l : Launch) (G : Gl) (w : Wd) (a : Nat) (z : LSt) (k0 b : Int) (h : TwZ G w a k0 z) (hok : LOk b z) (hb : b < 890000) (v1 : Int) (v2 : Int) (v3 : Int) (v4 : Int) (v5 : Int) (h0 : R32 v1) (h1 : R32 v2) (h2 : R32 v3) (h3 : R32 v4) (h4 : R32 v5) : HM l yX10_feed cX10_feed 6 (some .int) 2 0 0 G [.ref a, .int (iI (v1)), .int (iI (v2)), .int (iI (v3)), .int (iI (v4)), .int (iI (v5))] w (QI G (TRet G w a (aFee z v1 v2 v3 v4 v5))) := by
  obtain ⟨ad, t, hT, hZ, hk⟩ := h
  obtain ⟨z1, ⟨z2, z3⟩, z4, z5, z6, z7, z8, z9⟩ := id hZ
  refine HM.imp (m_feed l G w a ad t hT v1 v2 v3 v4 v5 (zB z) h0 h1 h2 h3 h4 z2 z3) (QI.imp fun v w1 hp => ?_)
  obtain ⟨e, t1, hS, hE, hc, hb1, h15⟩ := hp
  exact ⟨e, ⟨ad, t1, hS.1, ⟨z1.mv hE (by decide) (by decide) (by decide) (by decide) (by decide), ⟨hb1, h15⟩, ((hE 22 (by decide)).1).trans z4, ((hE 25 (by decide)).1).trans z5, ((hE 11 (by decide)).1).trans z6, z7.mv hE (by decide) (by decide), by rw [(hE 28 (by decide)).2]; exact z8, z9.mv hE (by decide) (by decide)⟩, hc⟩, hS.2⟩

theorem tt_format (l : Launch) (G : Gl) (w : Wd) (a : Nat) (z : LSt) (k0 b : Int) (h : TwZ G w a k0 z) (hok : LOk b z) (hb : b < 890000) (v1 : Int) (h0 : R32 v1) : HM l yX10_format cX10_format 4 (some .int) 4 0 0 G [.ref a, .int (iI (v1))] w (QI G (TRet G w a (aFmt z v1))) := by
  obtain ⟨ad, t, hT, hZ, hk⟩ := h
  obtain ⟨z1, ⟨z2, z3⟩, z4, z5, z6, z7, z8, z9⟩ := id hZ
  refine HM.imp (m_format l G w a ad t hT v1 (sC (zS z)) (zF z) z1.1 h0 z7) (QI.imp fun v w1 hp => ?_)
  obtain ⟨e, t1, hS, hE, hc, hl1⟩ := hp
  unfold aFmt
  by_cases hg : rkOf (sC (zS z)) v1 = -1
  · rw [if_pos hg] at e hc hl1 ⊢
    exact ⟨e, ⟨ad, t1, hS.1, ⟨z1.mv hE (by decide) (by decide) (by decide) (by decide) (by decide), ⟨z2.mv (hE 14 (by decide)).2, ((hE 15 (by decide)).1).trans z3⟩, ((hE 22 (by decide)).1).trans z4, ((hE 25 (by decide)).1).trans z5, ((hE 11 (by decide)).1).trans z6, hl1, by rw [(hE 28 (by decide)).2]; exact z8, z9.mv hE (by decide) (by decide)⟩, hc⟩, hS.2⟩
  · rw [if_neg hg] at e hc hl1 ⊢
    exact ⟨e, ⟨ad, t1, hS.1, ⟨z1.mv hE (by decide) (by decide) (by decide) (by decide) (by decide), ⟨z2.mv (hE 14 (by decide)).2, ((hE 15 (by decide)).1).trans z3⟩, ((hE 22 (by decide)).1).trans z4, ((hE 25 (by decide)).1).trans z5, ((hE 11 (by decide)).1).trans z6, hl1, by rw [(hE 28 (by decide)).2]; exact z8, z9.mv hE (by decide) (by decide)⟩, hc⟩, hS.2⟩

theorem tt_undo (l : Launch) (G : Gl) (w : Wd) (a : Nat) (z : LSt) (k0 b : Int) (h : TwZ G w a k0 z) (hok : LOk b z) (hb : b < 890000)   : HM l yX10_undo cX10_undo 1 (some .int) 3 0 0 G [.ref a] w (QI G (TRet G w a (aUnd z))) := by
  obtain ⟨ad, t, hT, hZ, hk⟩ := h
  obtain ⟨z1, ⟨z2, z3⟩, z4, z5, z6, z7, z8, z9⟩ := id hZ
  refine HM.imp (m_undo l G w a ad t hT (zS z) z1 (by rw [z6]; have := hok.2.2; omega)) (QI.imp fun v w1 hp => ?_)
  obtain ⟨e, t1, hS, hE, hc, hs1, h11⟩ := hp
  exact ⟨e, ⟨ad, t1, hS.1, ⟨hs1, ⟨z2.mv (hE 14 (by decide)).2, ((hE 15 (by decide)).1).trans z3⟩, ((hE 22 (by decide)).1).trans z4, ((hE 25 (by decide)).1).trans z5, by rw [h11, z6], z7.mv hE (by decide) (by decide), by rw [(hE 28 (by decide)).2]; exact z8, z9.mv hE (by decide) (by decide)⟩, hc⟩, hS.2⟩

theorem tt_saveSnapshot (l : Launch) (G : Gl) (w : Wd) (a : Nat) (z : LSt) (k0 b : Int) (h : TwZ G w a k0 z) (hok : LOk b z) (hb : b < 890000)   : HM l yX10_saveSnapshot cX10_saveSnapshot 1 none 2 0 0 G [.ref a] w (QV G (TRet G w a (aSav z) 0)) := by
  obtain ⟨ad, t, hT, hZ, hk⟩ := h
  obtain ⟨z1, ⟨z2, z3⟩, z4, z5, z6, z7, z8, z9⟩ := id hZ
  refine HM.imp (m_saveSnapshot l G w a ad t hT (zS z) z1) (QV.imp fun w1 hp => ?_)
  obtain ⟨t1, hS, hE, hc, h13, h7⟩ := hp
  exact ⟨rfl, ⟨ad, t1, hS.1, ⟨z1.mv hE (by decide) (by decide) (by decide) (by decide) (by decide), ⟨z2.mv (hE 14 (by decide)).2, ((hE 15 (by decide)).1).trans z3⟩, ((hE 22 (by decide)).1).trans z4, ((hE 25 (by decide)).1).trans z5, ((hE 11 (by decide)).1).trans z6, z7.mv hE (by decide) (by decide), by rw [(hE 28 (by decide)).2]; exact z8, ⟨h13, h7⟩⟩, hc⟩, hS.2⟩

theorem tt_restoreSnapshot (l : Launch) (G : Gl) (w : Wd) (a : Nat) (z : LSt) (k0 b : Int) (h : TwZ G w a k0 z) (hok : LOk b z) (hb : b < 890000)   : HM l yX10_restoreSnapshot cX10_restoreSnapshot 1 (some .boolean) 2 0 0 G [.ref a] w (QI G (TRet G w a (aRst z))) := by
  obtain ⟨ad, t, hT, hZ, hk⟩ := h
  obtain ⟨z1, ⟨z2, z3⟩, z4, z5, z6, z7, z8, z9⟩ := id hZ
  refine HM.imp (m_restoreSnapshot l G w a ad t hT (zS z) ((zN z).getD (sC (zS z))) z1 (by cases hq : zN z with | none => rw [hq] at z9; exact Or.inl z9 | some c => rw [hq] at z9; exact Or.inr z9)) (QI.imp fun v w1 hp => ?_)
  obtain ⟨e, t1, hS, hE, hc, hs1⟩ := hp
  unfold aRst
  cases hq : zN z with
  | none =>
    rw [hq] at z9
    have z0 : t.1 13 = 0 := z9
    rw [if_pos z0] at hs1
    exact ⟨e.trans z0, ⟨ad, t1, hS.1, ⟨hs1, ⟨z2.mv (hE 14 (by decide)).2, ((hE 15 (by decide)).1).trans z3⟩, ((hE 22 (by decide)).1).trans z4, ((hE 25 (by decide)).1).trans z5, ((hE 11 (by decide)).1).trans z6, z7.mv hE (by decide) (by decide), by rw [(hE 28 (by decide)).2]; exact z8, by rw [hq]; exact ((hE 13 (by decide)).1).trans z0⟩, hc⟩, hS.2⟩
  | some c =>
    rw [hq] at z9 hs1
    have z0 : ¬ t.1 13 = 0 := by rw [z9.1]; decide
    rw [if_neg z0] at hs1
    exact ⟨e.trans z9.1, ⟨ad, t1, hS.1, ⟨hs1, ⟨z2.mv (hE 14 (by decide)).2, ((hE 15 (by decide)).1).trans z3⟩, ((hE 22 (by decide)).1).trans z4, ((hE 25 (by decide)).1).trans z5, ((hE 11 (by decide)).1).trans z6, z7.mv hE (by decide) (by decide), by rw [(hE 28 (by decide)).2]; exact z8, by show SnT t1 (zN z); rw [hq]; exact SnT.mv z9 hE (by decide) (by decide)⟩, hc⟩, hS.2⟩

theorem tt_filled (l : Launch) (G : Gl) (w : Wd) (a : Nat) (z : LSt) (k0 b : Int) (h : TwZ G w a k0 z) (hok : LOk b z) (hb : b < 890000) (v1 : Int) (h0 : R32 v1) : HM l yX10_filled cX10_filled 2 (some .float) 6 0 0 G [.ref a, .int (iI (v1))] w (QF G (fun v w1 => v = qFil (sC (zS z)) v1 ∧ TwZ G w1 a (if 0 ≤ v1 ∧ v1 < cSh (sC (zS z)) then 0 else 1) z ∧ Fr (fun q => q = a + 1) w w1 ∧ Ol w w1)) := by
  obtain ⟨ad, t, hT, hZ, hk⟩ := h
  refine HM.imp (m_filled l G w a ad t hT v1 (sC (zS z)) hZ.1.1 h0) (QF.imp fun v w1 hp => ?_)
  obtain ⟨e, t1, hS, hE, hc⟩ := hp
  exact ⟨e, ⟨ad, t1, hS.1, hZ.mv hE rfl, hc⟩, hS.2⟩
theorem tt_meanMoves (l : Launch) (G : Gl) (w : Wd) (a : Nat) (z : LSt) (k0 b : Int) (h : TwZ G w a k0 z) (hok : LOk b z) (hb : b < 890000) : HM l yX10_meanMoves cX10_meanMoves 1 (some .double) 3 0 0 G [.ref a] w (QD G (fun v w1 => v = qMea (sC (zS z)) ∧ TwZ G w1 a 0 z ∧ Fr (fun q => q = a + 1) w w1 ∧ Ol w w1)) := by
  obtain ⟨ad, t, hT, hZ, hk⟩ := h
  refine HM.imp (m_meanMoves l G w a ad t hT (sC (zS z)) hZ.1.1) (QD.imp fun v w1 hp => ?_)
  obtain ⟨e, t1, hS, hE, hc⟩ := hp
  exact ⟨e, ⟨ad, t1, hS.1, hZ.mv hE rfl, hc⟩, hS.2⟩
theorem tt_thrown (l : Launch) (G : Gl) (w : Wd) (a : Nat) (z : LSt) (k : Int) (h : TwZ G w a k z) : HM l yX10_thrown cX10_thrown 1 (some .int) 1 0 0 G [.ref a] w (QI G (fun z_ w_ => z_ = k ∧ w_ = w)) := by
  obtain ⟨ad, t, hT, hZ, hk⟩ := h
  rw [← hk]
  exact m_thrown l G w a ad t hT
theorem erP0 : errP (rText tx0).1 = -1 := by decide +kernel
theorem tt_init (l : Launch) (G : Gl) (w : Wd) (a : Nat) (hob : w a = some (a + 1, oE 1 [.int (iI (0)), .null, .int (iI (0)), .null, .null, .null, .null, .null, .null, .int (iI (0)), .int (iI (0)), .int (iI (0)), .int (iI (0)), .int (iI (0)), .null, .int (iI (0)), .int (iI (0)), .int (iI (0)), .int (iI (0)), .int (iI (0)), .int (iI (0)), .int (iI (0)), .int (iI (0)), .null, .int (iI (0)), .int (iI (0)), .long (lI (0)), .long (lI (0)), .null, .int (iI (0)), .null, .null, .int (iI (0))])) : HM l yX10_init cX10_init 3 none 12 13 8997 G [.ref a] w (QV G (fun w1 => TwZ G w1 a 0 z00 ∧ Fr (fun q => q = a + 1) w w1 ∧ Ol w w1)) := by
  refine HM.imp (m_init l G w a hob) (QV.imp fun w1 hp => ?_)
  obtain ⟨ad, t, hS, h1, h0, h22, h15, h13, ⟨h11, h25, h32⟩, h28, hB⟩ := hp
  exact ⟨⟨ad, t, hS.1, ⟨h1, ⟨BfAt.nil, h15⟩, h22.trans erP0, h25, h11, LineAt.nil h32, h28, h13⟩, h0⟩, hS.2⟩
theorem cc_init (l : Launch) (G : Gl) (w : Wd) (x : Nat) (hA : w x = some (x + 1, oE 0 [.null, .null, .int (iI (0)), .int (iI (0)), .int (iI (0)), .int (iI (0)), .int (iI (0)), .int (iI (0)), .null, .null, .null])) (hG : RegW w) : HM l yX1_init cX1_init 6 none 18 5000 29000 G [.ref x] w (QV G (fun w1 => CmA G w1 x z00 ∧ Fr (fun q => q = x + 1) w w1 ∧ RegW w1)) := by
  refine HM.imp (sm_init l G w x hA hG) (QV.imp fun w1 hp => ?_)
  obtain ⟨bf, hq, a, lm, lr, hm, hx1, hB, hD, hC, hF, u⟩ := hp
  exact ⟨⟨bf, hq, gC G 1, (a, lm, lr, hm), .null, [], [], ⟨hx1, hB, hD, hC, hF, fun y hy => absurd hy List.not_mem_nil, rfl, Nat.zero_le _, List.pairwise_singleton _ _⟩, Or.inl ⟨rfl, rfl, rfl⟩⟩, u.1, u.2.2.1⟩

theorem cc_filled (l : Launch) (G : Gl) (w : Wd) (hSt : l.stackTraces = false) (x : Nat) (z : LSt) (b : Int) (h : CmA G w x z) (hok : LOk b z) (hb2 : 2200 ≤ b) (hb : b < 890000) (hG : RegW w) (v1 : Int) (h0 : R32 v1) : HMX l yX1_filled cX1_filled 2 (some .float) 10 1 6 G [.ref x, .int (iI (v1))] w (QF G (fun v w1 => (0 ≤ v1 ∧ v1 < cSh (sC (zS z))) ∧ v = qFil (sC (zS z)) v1 ∧ CmA G w1 x z ∧ Kp G w w1 ∧ RegW w1)) (fun _ E w1 => ¬ (0 ≤ v1 ∧ v1 < cSh (sC (zS z))) ∧ E = "java/util/NoSuchElementException" ∧ CmA G w1 x z ∧ Kp G w w1 ∧ RegW w1) := by
  obtain ⟨bf, hq, fs, q, sv, hist, sn, hX, hN⟩ := id h
  refine vx_imp (sm_fil l G w hSt q.1 q.2.1 q.2.2.1 q.2.2.2 (sC (zS z)) hX.2.2.2.1 hok.s hok.w x bf hq fs _ _ _ _ _ _ _ hX.1 v1 h0 hG) (QF.imp fun v w1 hp => ?_) (fun q_ E_ w1 hp => ?_)
  · obtain ⟨p1, p2, u⟩ := hp
    exact ⟨p1, p2, h.still u, Kp.still u, u.2.2.1⟩
  · obtain ⟨⟨p1, p2⟩, u⟩ := hp
    exact ⟨p1, p2, h.still u, Kp.still u, u.2.2.1⟩
theorem cc_meanMoves (l : Launch) (G : Gl) (w : Wd) (hSt : l.stackTraces = false) (x : Nat) (z : LSt) (b : Int) (h : CmA G w x z) (hok : LOk b z) (hb2 : 2200 ≤ b) (hb : b < 890000) (hG : RegW w) : HM l yX1_meanMoves cX1_meanMoves 2 (some .double) 3 0 0 G [.ref x] w (QD G (fun v w1 => v = qMea (sC (zS z)) ∧ w1 = w)) := by
  obtain ⟨bf, hq, fs, q, sv, hist, sn, hX, hN⟩ := id h
  exact sm_mea l G w q.1 q.2.1 q.2.2.1 q.2.2.2 (sC (zS z)) hX.2.2.2.1 hok.s x bf hq fs _ _ _ _ _ _ _ hX.1
