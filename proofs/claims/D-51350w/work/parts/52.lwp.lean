/-! what every operation keeps: pure -/
set_option maxRecDepth 100000
def PlcL (L : List Mrk) : Prop := ∀ k, k + 1 < L.length → mPl (gM L k) < mPl (gM L (k + 1))
def OrdL (R : Rls) (L : List Mrk) : Prop := ∀ k, k + 1 < L.length → cmpM R (mPs (gM L k)) (mPs (gM L (k + 1))) < 0
def BdL (B : List Int) : Prop := B.getD 0 0 = 0 ∧ ∀ s, s + 1 < B.length → B.getD s 0 ≤ B.getD (s + 1) 0
theorem CatW.s {c : Cat} (h : CatW c) : CatS c := h.1
theorem CatW.pl {c : Cat} (h : CatW c) : PlcL (cMk c) := h.2.1
theorem CatW.or {c : Cat} (h : CatW c) : OrdL (cRl c) (cMk c) := h.2.2.1
theorem CatW.bs {c : Cat} (h : CatW c) : BdL (cBd c) := h.2.2.2
theorem cmpM_rf (R : Rls) (p : List Prt) : cmpM R p p = 0 := by
  unfold cmpM; rw [if_pos (cmpL_0.mpr rfl)]; exact cmpL_0.mpr rfl
theorem OrdL.srt {R : Rls} {L : List Mrk} (h : OrdL R L) : Srt R L := by
  intro i j hij
  induction j with
  | zero => exact absurd hij (Nat.not_lt_zero _)
  | succ j ih =>
    intro hj
    rcases Nat.lt_or_eq_of_le (Nat.le_of_lt_succ hij) with q | q
    · exact cmpM_tr (ih q (by omega)) (h j hj)
    · subst q; exact h i hj
theorem Srt.ord {R : Rls} {L : List Mrk} (h : Srt R L) : OrdL R L := fun k hk => h k (k + 1) (by omega) hk
theorem OrdL.pd {R : Rls} {L : List Mrk} (h : OrdL R L) : PD L := by
  intro i j hi hj hij q
  rcases Nat.lt_or_gt_of_ne hij with z | z
  · have := h.srt i j z hj; rw [q, cmpM_rf] at this; omega
  · have := h.srt j i z hi; rw [q, cmpM_rf] at this; omega
theorem PlcL.le {L : List Mrk} (h : PlcL L) {i j : Nat} (hij : i ≤ j) (hj : j < L.length) : mPl (gM L i) ≤ mPl (gM L j) := by
  induction j with
  | zero => rw [show i = 0 by omega]; exact Int.le_refl _
  | succ j ih =>
    rcases Nat.lt_or_eq_of_le hij with q | q
    · have := ih (by omega) (by omega); have := h j hj; omega
    · rw [q]; exact Int.le_refl _
theorem CatS.acs {c : Cat} (h : CatS c) {k : Nat} {v : Int} (hv : k < 3 → 0 ≤ cAc c k + v ∧ cAc c k + v < 1000000) : CatS (incAc c k v) := by
  refine ⟨h.1, h.2.1, h.2.2.1, h.2.2.2.1, h.2.2.2.2.1, fun j hj => ?_, h.2.2.2.2.2.2⟩
  show 0 ≤ zset (cAc c) k _ j ∧ zset (cAc c) k _ j < 1000000
  unfold zset; split
  · next q => subst q; exact hv hj
  · exact h.2.2.2.2.2.1 j hj
theorem CatS.nxs {c : Cat} (h : CatS c) {v : Int} (hv : 1 ≤ v ∧ v < 1000000) : CatS (setNx c v) := ⟨h.1, h.2.1, h.2.2.1, h.2.2.2.1, h.2.2.2.2.1, h.2.2.2.2.2.1, hv⟩
theorem CatS.rls {c : Cat} (h : CatS c) {R : Rls} (hR : RlW R) : CatS (setRl c R) := ⟨h.1, h.2.1, h.2.2.1, h.2.2.2.1, hR, h.2.2.2.2.2⟩
theorem CatS.bds {c : Cat} (h : CatS c) {B : List Int} (hl : B.length = (cSh c).toNat) (hb : ∀ s, s < B.length → 0 ≤ B.getD s 0 ∧ B.getD s 0 ≤ 10000) : CatS (setBd c B) := ⟨h.1, h.2.1, ⟨hl, hb⟩, h.2.2.2⟩
theorem spc_lt {k : Nat} {n : Int} (h0 : 0 ≤ n) (h1 : n ≤ 100) : spc (k : Int) n < spc ((k + 1 : Nat) : Int) n := by
  unfold spc
  have h2 : ((k : Int) + 1) * 10000 + 1 * (n + 1) ≤ (((k + 1 : Nat) : Int) + 1) * 10000 := by omega
  have h3 := Int.ediv_le_ediv (a := ((k : Int) + 1) * 10000 + 1 * (n + 1)) (b := (((k + 1 : Nat) : Int) + 1) * 10000) (c := n + 1) (by omega) h2
  rw [Int.add_mul_ediv_right _ _ (by omega)] at h3
  omega
theorem rspL_ps (n : Int) (L : List Mrk) (i : Nat) : mPs (gM (rspL n 0 L) i) = mPs (gM L i) := by
  rcases Nat.lt_or_ge i L.length with h | h
  · unfold gM; rw [rspL_at n 0 L i h]
  · have e : ∀ (A : List Mrk), A.length ≤ i → A.getD i mrk0 = mrk0 := fun A hA => by simp [List.getD_eq_getElem?_getD, List.getElem?_eq_none hA]
    unfold gM; rw [e _ (by rw [rspL_len]; exact h), e _ h]
theorem rspL_pl {n : Int} (h0 : 0 ≤ n) (h1 : n ≤ 100) (L : List Mrk) : PlcL (rspL n 0 L) := by
  intro k hk
  rw [rspL_len] at hk
  unfold gM
  rw [rspL_at n 0 L k (by omega), rspL_at n 0 L (k + 1) hk]
  show spc _ n < spc _ n
  rw [Nat.zero_add, Nat.zero_add]
  exact spc_lt h0 h1
theorem rspL_or {R : Rls} {n : Int} {L : List Mrk} (h : OrdL R L) : OrdL R (rspL n 0 L) := by
  intro k hk
  rw [rspL_len] at hk
  rw [rspL_ps, rspL_ps]; exact h k hk
theorem rspL_w {n : Int} {L : List Mrk} (hn : (L.length : Int) ≤ n) (hn2 : n ≤ 100) (h : ∀ k, k < L.length → MrkW (gM L k)) : ∀ k, k < (rspL n 0 L).length → MrkW (gM (rspL n 0 L) k) := by
  intro k hk
  rw [rspL_len] at hk
  have hw := h k hk
  unfold gM
  rw [rspL_at n 0 L k hk]
  exact ⟨hw.1, hw.2.1, hw.2.2.1, spc_r (by omega) (by omega) (by omega)⟩
/-- the accounts and the next id are b at most -/
def AcB (c : Cat) (b : Int) : Prop := (∀ k, k < 3 → cAc c k ≤ b) ∧ cNx c ≤ b
theorem AcB.mono {c : Cat} {b b1 : Int} (h : AcB c b) (hb : b ≤ b1) : AcB c b1 := ⟨fun k hk => by have := h.1 k hk; omega, by have := h.2; omega⟩
theorem AcB.acs {c : Cat} {b v : Int} {k : Nat} (h : AcB c b) (h0 : 0 ≤ v) : AcB (incAc c k v) (b + v) := by
  refine ⟨fun j hj => ?_, by have := h.2; show cNx c ≤ _; omega⟩
  show zset (cAc c) k _ j ≤ _
  have := h.1 j hj
  unfold zset; split
  · next q => subst q; omega
  · omega
theorem ins_pl {L : List Mrk} {r : Nat} {m : Mrk} (hr : r ≤ L.length) (h : PlcL L) (h1 : 0 < r → mPl (gM L (r - 1)) < mPl m) (h2 : r < L.length → mPl m < mPl (gM L r)) : PlcL (insAt L r m) := by
  intro k hk
  rw [insAt_len _ _ _ hr] at hk
  have e : ∀ i, gM (insAt L r m) i = _ := fun i => insAt_at L r m mrk0 hr i
  rw [e, e]
  by_cases q1 : k + 1 < r
  · rw [if_pos (by omega), if_pos q1]; exact h k (by omega)
  · by_cases q2 : k + 1 = r
    · rw [if_pos (by omega), if_neg q1, if_pos q2]; subst q2; exact h1 (by omega)
    · by_cases q3 : k = r
      · rw [if_neg (by omega), if_pos q3, if_neg q1, if_neg q2]; subst q3; exact h2 (by omega)
      · rw [if_neg (by omega), if_neg q3, if_neg q1, if_neg q2]
        have := h (k - 1) (by omega)
        rw [show k - 1 + 1 = k by omega] at this
        exact this
theorem ins_or {R : Rls} {L : List Mrk} {r : Nat} {m : Mrk} (hr : r ≤ L.length) (h : OrdL R L) (h1 : 0 < r → cmpM R (mPs (gM L (r - 1))) (mPs m) < 0) (h2 : r < L.length → cmpM R (mPs m) (mPs (gM L r)) < 0) : OrdL R (insAt L r m) := by
  intro k hk
  rw [insAt_len _ _ _ hr] at hk
  have e : ∀ i, gM (insAt L r m) i = _ := fun i => insAt_at L r m mrk0 hr i
  rw [e, e]
  by_cases q1 : k + 1 < r
  · rw [if_pos (by omega), if_pos q1]; exact h k (by omega)
  · by_cases q2 : k + 1 = r
    · rw [if_pos (by omega), if_neg q1, if_pos q2]; subst q2; exact h1 (by omega)
    · by_cases q3 : k = r
      · rw [if_neg (by omega), if_pos q3, if_neg q1, if_neg q2]; subst q3; exact h2 (by omega)
      · rw [if_neg (by omega), if_neg q3, if_neg q1, if_neg q2]
        have := h (k - 1) (by omega)
        rw [show k - 1 + 1 = k by omega] at this
        exact this
theorem rem_pl {L : List Mrk} {r : Nat} (hr : r < L.length) (h : PlcL L) : PlcL (remAt L r) := by
  intro k hk
  rw [remAt_len _ _ hr] at hk
  have e : ∀ i, gM (remAt L r) i = _ := fun i => remAt_at L r mrk0 hr i
  rw [e, e]
  by_cases q1 : k + 1 < r
  · rw [if_pos (by omega), if_pos q1]; exact h k (by omega)
  · rw [if_neg q1]
    by_cases q2 : k < r
    · rw [if_pos q2]
      have h1 := h k (by omega); have h2 := h (k + 1) (by omega)
      unfold gM at h1 h2; omega
    · rw [if_neg q2]; exact h (k + 1) (by omega)
theorem rem_or {R : Rls} {L : List Mrk} {r : Nat} (hr : r < L.length) (h : OrdL R L) : OrdL R (remAt L r) := by
  intro k hk
  rw [remAt_len _ _ hr] at hk
  have e : ∀ i, gM (remAt L r) i = _ := fun i => remAt_at L r mrk0 hr i
  rw [e, e]
  by_cases q1 : k + 1 < r
  · rw [if_pos (by omega), if_pos q1]; exact h k (by omega)
  · rw [if_neg q1]
    by_cases q2 : k < r
    · rw [if_pos q2]; exact cmpM_tr (h k (by omega)) (h (k + 1) (by omega))
    · rw [if_neg q2]; exact h (k + 1) (by omega)
theorem rkF_lt {c : Cat} {g : List Prt} {k : Nat} (h : k < rkF c g) : cmpM (cRl c) (mPs (mk c k)) g < 0 := (runN_spec (fun k => cmpM (cRl c) (mPs (mk c k)) g < 0) (cN c)).2.1 k h
theorem rkF_ge {c : Cat} {g : List Prt} (h : rkF c g < cN c) (ht : twinN c g = -1) : cmpM (cRl c) g (mPs (mk c (rkF c g))) < 0 := by
  have h1 := (runN_spec (fun k => cmpM (cRl c) (mPs (mk c k)) g < 0) (cN c)).2.2
  change rkF c g = cN c ∨ ¬ cmpM (cRl c) (mPs (mk c (rkF c g))) g < 0 at h1
  have h2 := h1.resolve_left (by omega)
  have h3 : ¬ cmpM (cRl c) (mPs (mk c (rkF c g))) g = 0 := fun q => by
    unfold twinN at ht; rw [if_pos ⟨h, q⟩] at ht; omega
  have := cmpM_anti (cRl c) (mPs (mk c (rkF c g))) g
  omega
theorem plA_nat {c : Cat} {r : Nat} : plA c (r : Int) = if r < cN c then mPl (mk c r) else 10000 := by
  unfold plA; rw [if_neg (by omega)]
  by_cases q : r < cN c
  · rw [if_pos q, if_pos (by omega), Int.toNat_natCast]
  · rw [if_neg q, if_neg (by omega)]
theorem CatW.add {c : Cat} {g : List Prt} {w b : Int} (h : CatW c) (hg : PrtsW g) (hw : 1 ≤ w ∧ w ≤ 20) (ht : twinN c g = -1) (hn : cN c < 40) (hb : AcB c b) (hb9 : b < 990000) : CatW (cAdd c g w) ∧ AcB (cAdd c g w) (b + 41) := by
  have hr := rkF_le c g
  have hp := plF_r h.s hr
  have hx := h.s.2.2.2.2.2.2
  have hac : ∀ k, k < 3 → 0 ≤ cAc c k ∧ cAc c k ≤ b := fun k hk => ⟨(h.s.2.2.2.2.2.1 k hk).1, hb.1 k hk⟩
  have h0 := hac 0 (by omega); have h1 := hac 1 (by omega); have h2 := hac 2 (by omega)
  have hb2 := hb.2
  have hcn : (cMk c).length = cN c := rfl
  have hlen : (insAt (cMk c) (rkF c g) (newM c g w)).length = cN c + 1 := insAt_len _ _ _ hr
  have hmw : ∀ k, k < (insAt (cMk c) (rkF c g) (newM c g w)).length → MrkW (gM (insAt (cMk c) (rkF c g) (newM c g w)) k) := fun k hk => by
    have e : gM (insAt (cMk c) (rkF c g) (newM c g w)) k = _ := insAt_at (cMk c) (rkF c g) (newM c g w) mrk0 hr k
    rw [hlen] at hk
    rw [e]
    split
    · exact h.s.2.2.2.1.2 k (by omega)
    · split
      · exact ⟨⟨hx.1, by show cNx c < _; omega⟩, hg, hw, hp⟩
      · exact h.s.2.2.2.1.2 (k - 1) (by omega)
  have hor : OrdL (cRl c) (insAt (cMk c) (rkF c g) (newM c g w)) := ins_or hr h.or (fun q => rkF_lt (show rkF c g - 1 < rkF c g by omega)) (fun q => rkF_ge q ht)
  have hS : CatS (cIns c g w) := ((h.s.mks (M := insAt (cMk c) (rkF c g) (newM c g w)) (by omega) hmw).nxs (v := cNx c + 1) ⟨by omega, by omega⟩).acs (fun _ => ⟨by show 0 ≤ cAc c 0 + 1; omega, by show cAc c 0 + 1 < _; omega⟩)
  have hA : AcB (cIns c g w) (b + 1) := ⟨fun k hk => by
    show zset (cAc c) 0 _ k ≤ _
    have := hac k hk
    unfold zset; split
    · show cAc c 0 + 1 ≤ _; omega
    · show cAc c k ≤ _; omega, by show cNx c + 1 ≤ _; omega⟩
  unfold cAdd
  by_cases q : plA c (rkF c g : Int) - plA c ((rkF c g : Int) - 1) < 2
  · rw [if_pos q]
    have hm := mvN_r c (rkF c g : Int)
    have hrl : (rspL ((cN c : Int) + 1) 0 (cMk (cIns c g w))).length = cN c + 1 := (rspL_len _ _ _).trans hlen
    have hS2 : CatS (setMk (cIns c g w) (rspL ((cN c : Int) + 1) 0 (cMk (cIns c g w)))) := hS.mks (by omega) (rspL_w (by show ((insAt (cMk c) (rkF c g) (newM c g w)).length : Int) ≤ _; omega) (by omega) hmw)
    have e1 : cAc (setMk (cIns c g w) (rspL ((cN c : Int) + 1) 0 (cMk (cIns c g w)))) 1 = cAc c 1 := rfl
    have hS3 := hS2.acs (k := 1) (v := 1) (fun _ => by rw [e1]; omega)
    have e2 : cAc (incAc (setMk (cIns c g w) (rspL ((cN c : Int) + 1) 0 (cMk (cIns c g w)))) 1 1) 2 = cAc c 2 := rfl
    refine ⟨⟨hS3.acs (fun _ => by rw [e2]; omega), rspL_pl (by omega) (by omega) _, rspL_or hor, h.bs⟩, fun k hk => ?_, by show cNx c + 1 ≤ _; omega⟩
    have hk3 : k = 0 ∨ k = 1 ∨ k = 2 := by omega
    rcases hk3 with rfl | rfl | rfl
    · show cAc c 0 + 1 ≤ _; omega
    · show cAc c 1 + 1 ≤ _; omega
    · show cAc c 2 + mvN c (rkF c g : Int) ≤ _; omega
  · rw [if_neg q]
    refine ⟨⟨hS, ?_, hor, h.bs⟩, hA.mono (by omega)⟩
    refine ins_pl hr h.pl (fun q0 => ?_) (fun q0 => ?_)
    · show mPl (gM (cMk c) _) < plF c _
      unfold plF; rw [if_neg q]
      have e1 := plA_nat (c := c) (r := rkF c g - 1)
      rw [if_pos (by omega), show ((rkF c g - 1 : Nat) : Int) = (rkF c g : Int) - 1 by omega] at e1
      change _ = mPl (gM (cMk c) (rkF c g - 1)) at e1
      omega
    · show plF c _ < mPl (gM (cMk c) _)
      unfold plF; rw [if_neg q]
      have e1 := plA_nat (c := c) (r := rkF c g)
      rw [if_pos (by omega)] at e1
      change _ = mPl (gM (cMk c) (rkF c g)) at e1
      omega
theorem CatW.drp {c : Cat} {r : Nat} {b : Int} (h : CatW c) (hr : r < cN c) (hb : AcB c b) : CatW (cDrp c r) ∧ AcB (cDrp c r) b := by
  have hl := remAt_len (cMk c) r hr
  have hn : (cMk c).length ≤ 40 := h.s.2.2.2.1.1
  refine ⟨⟨h.s.mks (by rw [hl]; omega) (fun k hk => ?_), rem_pl hr h.pl, rem_or hr h.or, h.bs⟩, hb⟩
  rw [hl] at hk
  rw [remAt_at _ _ _ hr]
  split
  · exact h.s.2.2.2.1.2 k (by show k < (cMk c).length; omega)
  · exact h.s.2.2.2.1.2 (k + 1) (by show k + 1 < (cMk c).length; omega)
theorem CatW.wid {c : Cat} {r : Nat} {v b : Int} (h : CatW c) (hr : r < cN c) (hv : 1 ≤ v ∧ v ≤ 20) (hb : AcB c b) : CatW (cWid c r v) ∧ AcB (cWid c r v) b := by
  have e : ∀ i, gM ((cMk c).set r (mId (mk c r), mPs (mk c r), v, mPl (mk c r))) i = _ := fun i => set_at (cMk c) r (mId (mk c r), mPs (mk c r), v, mPl (mk c r)) mrk0 hr i
  have hps : ∀ i, mPs (gM ((cMk c).set r (mId (mk c r), mPs (mk c r), v, mPl (mk c r))) i) = mPs (gM (cMk c) i) := fun i => by
    rw [e]; split
    · next q => subst q; rfl
    · rfl
  have hpl : ∀ i, mPl (gM ((cMk c).set r (mId (mk c r), mPs (mk c r), v, mPl (mk c r))) i) = mPl (gM (cMk c) i) := fun i => by
    rw [e]; split
    · next q => subst q; rfl
    · rfl
  refine ⟨⟨h.s.mks (by rw [List.length_set]; exact h.s.2.2.2.1.1) (fun k hk => ?_), fun k hk => ?_, fun k hk => ?_, h.bs⟩, hb⟩
  · rw [List.length_set] at hk
    rw [set_at _ _ _ _ hr]
    split
    · have hw := h.s.2.2.2.1.2 r hr; exact ⟨hw.1, hw.2.1, hv, hw.2.2.2⟩
    · exact h.s.2.2.2.1.2 k hk
  · have hk2 : k + 1 < ((cMk c).set r (mId (mk c r), mPs (mk c r), v, mPl (mk c r))).length := hk
    rw [List.length_set] at hk2
    have := h.pl k hk2; rw [← hpl k, ← hpl (k + 1)] at this; exact this
  · have hk2 : k + 1 < ((cMk c).set r (mId (mk c r), mPs (mk c r), v, mPl (mk c r))).length := hk
    rw [List.length_set] at hk2
    have := h.or k hk2; rw [← hps k, ← hps (k + 1)] at this; exact this
theorem CatW.bda {c : Cat} {s v b : Int} (h : CatW c) (hs : 0 ≤ s ∧ s < cSh c) (hv : 0 ≤ v ∧ v ≤ 10000) (hb : AcB c b) : CatW (bdA c s v).1 ∧ AcB (bdA c s v).1 b := by
  unfold bdA
  split
  · exact ⟨h, hb⟩
  · next q0 =>
    split
    · exact ⟨h, hb⟩
    · next q =>
      have hl := h.s.2.2.1.1
      have h8 := h.s.1
      refine ⟨⟨h.s.bds (by rw [List.length_set]; exact hl) (fun k hk => ?_), h.pl, h.or, ?_, fun k hk => ?_⟩, hb⟩
      · rw [set_at _ _ _ _ (by omega)]; split
        · exact hv
        · rw [List.length_set] at hk; exact h.s.2.2.1.2 k hk
      · show ((cBd c).set s.toNat v).getD 0 0 = 0
        rw [set_at _ _ _ _ (by omega), if_neg (by omega)]; exact h.bs.1
      · have hk2 : k + 1 < ((cBd c).set s.toNat v).length := hk
        rw [List.length_set] at hk2
        show ((cBd c).set s.toNat v).getD k 0 ≤ ((cBd c).set s.toNat v).getD (k + 1) 0
        rw [set_at _ _ _ _ (by omega), set_at _ _ _ _ (by omega)]
        have hb0 := h.bs.2 k hk2
        by_cases q1 : k = s.toNat
        · rw [if_pos q1, if_neg (by omega)]
          have e : bdX c (s + 1) = bd c (k + 1) := by
            unfold bdX; rw [if_neg (by omega), show (s + 1).toNat = k + 1 by omega]
          show v ≤ bd c (k + 1); omega
        · rw [if_neg q1]
          by_cases q2 : k + 1 = s.toNat
          · rw [if_pos q2]
            have e : bdX c (s - 1) = bd c k := by
              unfold bdX; rw [if_neg (by omega), show (s - 1).toNat = k by omega]
            show bd c k ≤ v; omega
          · rw [if_neg q2]; exact hb0
theorem grd_ge (c : Cat) : ∀ (f : Nat) (s : Int) (i : Nat), i ≤ grd c f s i
  | 0, s, i => Nat.le_refl _
  | f + 1, s, i => by
    unfold grd; split
    · have := grd_ge c f (s + mWd (mk c i)) (i + 1); omega
    · exact Nat.le_refl _
theorem grdS_ge (c : Cat) (i : Nat) : i ≤ grdS c i := by
  unfold grdS; split
  · have := grd_ge c (cN c) (mWd (mk c i)) (i + 1); omega
  · exact Nat.le_refl _
theorem CatW.bal {c : Cat} {b : Int} (h : CatW c) (hb : AcB c b) : CatW (cBal c) ∧ AcB (cBal c) b := by
  have h8 := h.s.1
  have hl := balB_len (c := c) h8.1
  refine ⟨⟨h.s.bds hl (fun s hs => ?_), h.pl, h.or, h.bs.1, fun s hs => ?_⟩, hb⟩
  · cases s with
    | zero => exact bd_r h.s 0 (by omega)
    | succ k => rw [hl] at hs; rw [balB_s c (by omega)]; exact balV_r h.s k
  · have hs2 : s + 1 < (balB c).length := hs
    rw [hl] at hs2
    show (balB c).getD s 0 ≤ (balB c).getD (s + 1) 0
    rw [balB_s c (by omega)]
    cases s with
    | zero => have h0 : bd c 0 = 0 := h.bs.1
              have := balV_r h.s 0
              show bd c 0 ≤ _; omega
    | succ k =>
      rw [balB_s c (by omega)]
      have e : balI c (k + 1 + 1) = grdS c (balI c (k + 1)) := rfl
      have hg := grdS_ge c (balI c (k + 1))
      unfold balV
      split
      · next q1 =>
        split
        · next q2 => exact h.pl.le (by omega) q2
        · have := mPl_r h.s _ q1; omega
      · next q1 => rw [if_neg (by omega)]; exact Int.le_refl _
theorem CatS.rsp {c : Cat} {b : Int} (h : CatS c) (hor : OrdL (cRl c) (cMk c)) (hbd : BdL (cBd c)) (hb : AcB c b) (hb9 : b < 990000) : CatW (cRsp c) ∧ AcB (cRsp c) (b + 41) := by
  have hn := h.2.2.2.1.1
  have hm := rspN_r c
  have hac : ∀ k, k < 3 → 0 ≤ cAc c k ∧ cAc c k ≤ b := fun k hk => ⟨(h.2.2.2.2.2.1 k hk).1, hb.1 k hk⟩
  have h0 := hac 0 (by omega); have h1 := hac 1 (by omega); have h2 := hac 2 (by omega)
  have hb2 := hb.2
  have hcn : (cMk c).length = cN c := rfl
  have hS2 : CatS (setMk c (rspL (cN c) 0 (cMk c))) := h.mks (by rw [rspL_len]; exact hn) (rspL_w (by omega) (by omega) h.2.2.2.1.2)
  have e1 : cAc (setMk c (rspL (cN c) 0 (cMk c))) 1 = cAc c 1 := rfl
  have hS3 := hS2.acs (k := 1) (v := 1) (fun _ => by rw [e1]; omega)
  have e2 : cAc (incAc (setMk c (rspL (cN c) 0 (cMk c))) 1 1) 2 = cAc c 2 := rfl
  refine ⟨⟨hS3.acs (fun _ => by rw [e2]; omega), rspL_pl (by omega) (by omega) _, rspL_or hor, hbd⟩, fun k hk => ?_, by show cNx c ≤ _; omega⟩
  have hk3 : k = 0 ∨ k = 1 ∨ k = 2 := by omega
  rcases hk3 with rfl | rfl | rfl
  · show cAc c 0 ≤ _; omega
  · show cAc c 1 + 1 ≤ _; omega
  · show cAc c 2 + rspN c ≤ _; omega
theorem CatS.orda {c : Cat} {b : Int} (h : CatS c) (hpl : PlcL (cMk c)) (hpd : PD (cMk c)) (hbd : BdL (cBd c)) (hb : AcB c b) (hb9 : b < 990000) : CatW (ordA c).1 ∧ AcB (ordA c).1 (b + 41) := by
  have hd := Dst.of (L := cMk c) h.2.2.2.1.2 hpd (cRl c)
  have hs := (srtM_srt hd (cN c) (Nat.le_refl _)).1
  unfold ordA
  split
  · next q =>
    have e := mvd_0 (R := cRl c) (L := cMk c) (k := cN c) (Nat.le_refl _) q
    rw [show cN c = (cMk c).length from rfl, begM_end] at e
    have e2 : srtM (cRl c) (cMk c) (cN c) = cMk c := e
    rw [e2] at hs
    exact ⟨⟨h, hpl, hs.ord, hbd⟩, hb.mono (by omega)⟩
  · have hl := srtM_len (cRl c) (cMk c) (cN c)
    have hS : CatS (setMk c (srtM (cRl c) (cMk c) (cN c))) := h.mks (by rw [hl]; exact h.2.2.2.1.1) (fun k hk => by
      obtain ⟨j, hj, e⟩ := srtM_mem (cRl c) (cMk c) (cN c) k (by omega)
      show MrkW (gM _ k)
      rw [e]; exact h.2.2.2.1.2 j hj)
    exact hS.rsp (c := setMk c (srtM (cRl c) (cMk c) (cN c))) hs.ord hbd hb hb9
/-- a catalogue as it ought to be, its accounts b at most -/
def Ok (b : Int) (c : Cat) : Prop := CatW c ∧ AcB c b
theorem Ok.mono {c : Cat} {b b1 : Int} (h : Ok b c) (hb : b ≤ b1) : Ok b1 c := ⟨h.1, h.2.mono hb⟩
theorem Ok.pd {c : Cat} {b : Int} (h : Ok b c) : PD (cMk c) := h.1.or.pd
theorem Ok.rls {c : Cat} {b : Int} {R : Rls} (h : Ok b c) (hb9 : b < 990000) (hR : RlW R) : Ok (b + 41) (ordA (setRl c R)).1 := CatS.orda (c := setRl c R) (h.1.s.rls hR) h.1.pl h.pd h.1.bs h.2 hb9
theorem Ok.sy {c : Cat} {b : Int} {L M : List Int} (h : Ok b c) (hb9 : b < 990000) (hL : Wrd L ∧ L ≠ []) (hM : Wrd M ∧ M ≠ []) : Ok (b + 41) (syA c L M).1 := by
  unfold syA
  split
  · exact h.mono (by omega)
  split
  · exact h.mono (by omega)
  · next q8 =>
    have hR := h.1.s.2.2.2.2.1
    have := hR.1
    refine h.rls hb9 ⟨by rw [List.length_append, List.length_singleton]; omega, fun q hq => ?_⟩
    rcases List.mem_append.mp hq with z | z
    · exact hR.2 q z
    · rw [List.mem_singleton.mp z]; exact ⟨hL, hM⟩
theorem Ok.un {c : Cat} {b : Int} {r : Nat} (h : Ok b c) (hb9 : b < 990000) (hr : r < (cRl c).length) : Ok (b + 41) (unA c r).1 := by
  have hR := h.1.s.2.2.2.2.1
  have := hR.1
  exact h.rls hb9 ⟨by rw [remAt_len _ _ hr]; omega, fun q hq => hR.2 q (mem_remAt hq)⟩
theorem Ok.ad {c : Cat} {b w : Int} {g : List Prt} (h : Ok b c) (hb9 : b < 990000) (hg : PrtsW g) (hw : 1 ≤ w ∧ w ≤ 20) : Ok (b + 41) (adA c g w).1 := by
  unfold adA
  split
  · exact h.mono (by omega)
  split
  · exact h.mono (by omega)
  · next q1 q2 =>
    have := h.1.s.2.2.2.1.1
    exact h.1.add hg hw (Decidable.not_not.mp q1) (by omega) h.2 hb9
theorem Ok.do {c : Cat} {b k x y : Int} (h : Ok b c) (hb9 : b < 990000) (hx0 : k = 2 ∨ k = 5 → 0 ≤ x) (hy4 : k = 4 → 1 ≤ y ∧ y ≤ 20) (hy5 : k = 5 → 0 ≤ y ∧ y ≤ 10000) : Ok (b + 41) (doA c k x y).1 := by
  have hr := rkOf_r c x
  unfold doA
  split
  · next q => split
              · next q2 => have := hx0 (Or.inl q); exact h.un hb9 (by omega)
              · exact h.mono (by omega)
  split
  · split
    · exact h.mono (by omega)
    · exact Ok.mono (h.1.drp (by omega) h.2) (by omega)
  split
  · next q => split
              · exact h.mono (by omega)
              · exact Ok.mono (h.1.wid (by omega) (hy4 q) h.2) (by omega)
  split
  · next q => split
              · next q2 => exact Ok.mono (h.1.bda ⟨hx0 (Or.inr q), q2⟩ (hy5 q) h.2) (by omega)
              · exact h.mono (by omega)
  split
  · exact Ok.mono (h.1.bal h.2) (by omega)
  · exact h.1.s.rsp h.1.or h.1.bs h.2 hb9
/-- a system as it ought to be -/
def SysOk (b : Int) (s : Sys) : Prop := Ok b (sC s) ∧ (∀ u ∈ sU s, Ok b u) ∧ (0 ≤ sD s ∧ sD s ≤ b) ∧ 0 ≤ sR s ∧ sR s ≤ b
theorem SysOk.mono {b b1 : Int} {s : Sys} (h : SysOk b s) (hb : b ≤ b1) : SysOk b1 s := ⟨h.1.mono hb, fun u hu => (h.2.1 u hu).mono hb, ⟨h.2.2.1.1, by have := h.2.2.1.2; omega⟩, h.2.2.2.1, by have := h.2.2.2.2; omega⟩
theorem SysOk.opw {b : Int} {s : Sys} (h : SysOk b s) (hb : b < 990000) : OpW s := ⟨h.1.pd, fun k hk => by have := h.1.2.1 k hk; omega, by have := h.1.2.2; omega, ⟨h.2.2.1.1, by have := h.2.2.1.2; omega⟩, h.2.2.2.1, by have := h.2.2.2.2; omega⟩
theorem pushU_mem {U : List Cat} {c u : Cat} (h : u ∈ pushU U c) : u ∈ U ∨ u = c := by
  unfold pushU at h
  rcases List.mem_append.mp h with q | q
  · split at q
    · exact Or.inl (List.mem_of_mem_drop q)
    · exact Or.inl q
  · exact Or.inr (List.mem_singleton.mp q)
theorem SysOk.op {b : Int} {s : Sys} {q : Cat × Int} (h : SysOk b s) (hq : Ok (b + 41) q.1) : SysOk (b + 41) (opS s q) := by
  have h1 := h.2.2.1; have h2 := h.2.2.2
  unfold opS endS
  split
  · exact ⟨hq, fun u hu => (h.2.1 u hu).mono (by omega), ⟨h1.1, by show sD s ≤ _; omega⟩, by show 0 ≤ sR s + 1; omega, by show sR s + 1 ≤ _; omega⟩
  · refine ⟨hq, fun u hu => ?_, ⟨by show 0 ≤ sD s + 1; omega, by show sD s + 1 ≤ _; omega⟩, h2.1, by show sR s ≤ _; omega⟩
    rcases pushU_mem hu with z | z
    · exact (h.2.1 u z).mono (by omega)
    · subst z; exact h.1.mono (by omega)
theorem SysOk.und {b : Int} {s : Sys} (h : SysOk b s) : SysOk b (undA s).2 := by
  unfold undA
  split
  · exact h
  · next q =>
    have hl : 0 < (sU s).length := List.length_pos_iff.mpr q
    refine ⟨h.2.1 _ ?_, fun u hu => h.2.1 u (List.mem_of_mem_take hu), h.2.2⟩
    show uG (sU s) _ ∈ sU s
    unfold uG
    rw [List.getD_eq_getElem?_getD, List.getElem?_eq_getElem (show (sU s).length - 1 < (sU s).length by omega), Option.getD_some]
    exact List.getElem_mem _
