/-! sorting anew: pure -/
set_option maxRecDepth 100000
theorem cmpL_0 {x y : List Int} : cmpL x y = 0 ↔ x = y := by
  induction x generalizing y with
  | nil => cases y <;> simp [cmpL]
  | cons a x ih => cases y with
    | nil => simp [cmpL]
    | cons b y =>
      unfold cmpL
      by_cases h : a = b
      · rw [if_pos h, ih, h]; simp
      · rw [if_neg h]
        constructor
        · intro q; split at q <;> omega
        · intro q; exact absurd (List.cons.inj q).1 h
theorem cmpL_anti (x y : List Int) : cmpL y x = - cmpL x y := by
  induction x generalizing y with
  | nil => cases y <;> simp [cmpL]
  | cons a x ih => cases y with
    | nil => simp [cmpL]
    | cons b y =>
      unfold cmpL
      by_cases h : a = b
      · rw [if_pos h, if_pos h.symm, ih]
      · rw [if_neg h, if_neg (Ne.symm h)]
        by_cases q : a < b
        · rw [if_pos q, if_neg (by omega)]; rfl
        · rw [if_neg q, if_pos (by omega)]
theorem cmpL_tr {x y z : List Int} (h1 : cmpL x y < 0) (h2 : cmpL y z < 0) : cmpL x z < 0 := by
  induction x generalizing y z with
  | nil => cases y with
    | nil => simp [cmpL] at h1
    | cons b y => cases z with
      | nil => simp [cmpL] at h2
      | cons c z => simp [cmpL]
  | cons a x ih => cases y with
    | nil => simp [cmpL] at h1
    | cons b y => cases z with
      | nil => simp [cmpL] at h2
      | cons c z =>
        unfold cmpL at h1 h2 ⊢
        by_cases e1 : a = b
        · rw [if_pos e1] at h1
          by_cases e2 : b = c
          · rw [if_pos e2] at h2; rw [if_pos (e1.trans e2)]; exact ih h1 h2
          · rw [if_neg e2] at h2; rw [if_neg (fun q => e2 (e1.symm.trans q))]; subst e1; exact h2
        · rw [if_neg e1] at h1
          have hab : a < b := by by_cases q : a < b; exact q; rw [if_neg q] at h1; omega
          by_cases e2 : b = c
          · rw [if_neg (fun q => e1 (q.trans e2.symm)), if_pos (by omega)]; decide
          · rw [if_neg e2] at h2
            have hbc : b < c := by by_cases q : b < c; exact q; rw [if_neg q] at h2; omega
            rw [if_neg (by omega), if_pos (by omega)]; decide
theorem cmpM_anti (R : Rls) (p q : List Prt) : cmpM R q p = - cmpM R p q := by
  unfold cmpM
  rw [cmpL_anti (earK R p) (earK R q), cmpL_anti (letK p) (letK q)]
  by_cases h : cmpL (earK R p) (earK R q) = 0
  · rw [if_pos h, if_pos (by omega)]
  · rw [if_neg h, if_neg (by omega)]
theorem cmpM_tr {R : Rls} {p q r : List Prt} (h1 : cmpM R p q < 0) (h2 : cmpM R q r < 0) : cmpM R p r < 0 := by
  unfold cmpM at h1 h2 ⊢
  by_cases e1 : cmpL (earK R p) (earK R q) = 0
  · rw [if_pos e1] at h1
    rw [cmpL_0.mp e1]
    by_cases e2 : cmpL (earK R q) (earK R r) = 0
    · rw [if_pos e2] at h2; rw [if_pos e2]; exact cmpL_tr h1 h2
    · rw [if_neg e2] at h2; rw [if_neg e2]; exact h2
  · rw [if_neg e1] at h1
    by_cases e2 : cmpL (earK R q) (earK R r) = 0
    · rw [← cmpL_0.mp e2, if_neg e1]; exact h1
    · rw [if_neg e2] at h2
      have h3 := cmpL_tr h1 h2
      rw [if_neg (by omega)]; exact h3
theorem letK_inj {p q : List Prt} (hp : ∀ x ∈ p, PrtW x) (hq : ∀ x ∈ q, PrtW x) (h : letK p = letK q) : p = q := by
  induction p generalizing q with
  | nil => cases q with
    | nil => rfl
    | cons b q => simp [letK] at h
  | cons a p ih => cases q with
    | nil => simp [letK] at h
    | cons b q =>
      have h' : encP a :: letK p = encP b :: letK q := h
      obtain ⟨h1, h2⟩ := List.cons.inj h'
      rw [encP_inj (hp a (List.mem_cons_self ..)) (hq b (List.mem_cons_self ..)) h1, ih (fun x hx => hp x (List.mem_cons_of_mem _ hx)) (fun x hx => hq x (List.mem_cons_of_mem _ hx)) h2]
theorem cmpM_0 {R : Rls} {p q : List Prt} (hp : ∀ x ∈ p, PrtW x) (hq : ∀ x ∈ q, PrtW x) (h : cmpM R p q = 0) : p = q := by
  unfold cmpM at h
  by_cases e : cmpL (earK R p) (earK R q) = 0
  · rw [if_pos e] at h; exact letK_inj hp hq (cmpL_0.mp h)
  · rw [if_neg e] at h; exact absurd h e
def gM (L : List Mrk) (k : Nat) : Mrk := L.getD k mrk0
def rkL (R : Rls) (L : List Mrk) (p : List Prt) : Nat := runN (fun k => cmpM R (mPs (gM L k)) p < 0) L.length
theorem rkL_le (R : Rls) (L : List Mrk) (p : List Prt) : rkL R L p ≤ L.length := (runN_spec _ _).1
theorem rkF_L (c : Cat) (p : List Prt) : rkF c p = rkL (cRl c) (cMk c) p := rfl
def srtM (R : Rls) (L : List Mrk) : Nat → List Mrk
  | 0 => []
  | k + 1 => insAt (srtM R L k) (rkL R (srtM R L k) (mPs (gM L k))) (gM L k)
def mvd (R : Rls) (L : List Mrk) : Nat → Int
  | 0 => 0
  | k + 1 => if rkL R (srtM R L k) (mPs (gM L k)) = k then mvd R L k else 1
theorem mvd_r (R : Rls) (L : List Mrk) (k : Nat) : mvd R L k = 0 ∨ mvd R L k = 1 := by
  induction k with
  | zero => exact Or.inl rfl
  | succ k ih => unfold mvd; split; exact ih; exact Or.inr rfl
theorem srtM_len (R : Rls) (L : List Mrk) (k : Nat) : (srtM R L k).length = k := by
  induction k with
  | zero => rfl
  | succ k ih => rw [srtM, insAt_len _ _ _ (rkL_le ..), ih]
def Srt (R : Rls) (L : List Mrk) : Prop := ∀ i j, i < j → j < L.length → cmpM R (mPs (gM L i)) (mPs (gM L j)) < 0
/-- every two marks differ -/
def Dst (R : Rls) (L : List Mrk) : Prop := ∀ i j, i < L.length → j < L.length → i ≠ j → cmpM R (mPs (gM L i)) (mPs (gM L j)) ≠ 0
theorem srtM_mem (R : Rls) (L : List Mrk) (k : Nat) : ∀ i, i < k → ∃ j, j < k ∧ gM (srtM R L k) i = gM L j := by
  induction k with
  | zero => intro i hi; exact absurd hi (Nat.not_lt_zero _)
  | succ k ih =>
    intro i hi
    have hl := srtM_len R L k
    have hr := rkL_le R (srtM R L k) (mPs (gM L k))
    have e := insAt_at (srtM R L k) (rkL R (srtM R L k) (mPs (gM L k))) (gM L k) mrk0 hr i
    have e : gM (srtM R L (k + 1)) i = _ := e
    rw [e]
    by_cases h1 : i < rkL R (srtM R L k) (mPs (gM L k))
    · rw [if_pos h1]; obtain ⟨j, hj, q⟩ := ih i (by omega); exact ⟨j, by omega, q⟩
    · rw [if_neg h1]
      by_cases h2 : i = rkL R (srtM R L k) (mPs (gM L k))
      · rw [if_pos h2]; exact ⟨k, by omega, rfl⟩
      · rw [if_neg h2]; obtain ⟨j, hj, q⟩ := ih (i - 1) (by omega); exact ⟨j, by omega, q⟩
theorem rkL_sp {R : Rls} {L : List Mrk} {p : List Prt} (hS : Srt R L) (hne : ∀ i, i < L.length → cmpM R (mPs (gM L i)) p ≠ 0) (i : Nat) (hi : i < L.length) : (cmpM R (mPs (gM L i)) p < 0 ↔ i < rkL R L p) := by
  obtain ⟨h1, h2, h3⟩ := runN_spec (fun k => cmpM R (mPs (gM L k)) p < 0) L.length
  change rkL R L p ≤ _ at h1
  change ∀ j, j < rkL R L p → _ at h2
  change rkL R L p = _ ∨ ¬ cmpM R (mPs (gM L (rkL R L p))) p < 0 at h3
  constructor
  · intro q
    rcases Nat.lt_or_ge i (rkL R L p) with z | z
    · exact z
    · rcases h3 with h3 | h3
      · omega
      · rcases Nat.lt_or_eq_of_le z with z2 | z2
        · exact absurd (cmpM_tr (hS _ _ z2 hi) q) h3
        · rw [z2] at h3; exact absurd q h3
  · exact h2 i
theorem srtM_srt {R : Rls} {L : List Mrk} (hd : Dst R L) (k : Nat) (hk : k ≤ L.length) : Srt R (srtM R L k) ∧ (k < L.length → ∀ i, i < k → cmpM R (mPs (gM (srtM R L k) i)) (mPs (gM L k)) ≠ 0) := by
  have hn : ∀ k, k < L.length → ∀ i, i < k → cmpM R (mPs (gM (srtM R L k) i)) (mPs (gM L k)) ≠ 0 := fun k hk i hi => by
    obtain ⟨j, hj, q⟩ := srtM_mem R L k i hi
    rw [q]; exact hd j k (by omega) hk (by omega)
  refine ⟨?_, hn k⟩
  induction k with
  | zero => intro i j _ hj; exact absurd hj (Nat.not_lt_zero _)
  | succ k ih =>
    have ih := ih (by omega)
    have hl := srtM_len R L k
    have hr := rkL_le R (srtM R L k) (mPs (gM L k))
    have hne : ∀ i, i < (srtM R L k).length → cmpM R (mPs (gM (srtM R L k) i)) (mPs (gM L k)) ≠ 0 := fun i hi => hn k (by omega) i (by omega)
    have hsp := rkL_sp ih hne
    have e : ∀ i, gM (srtM R L (k + 1)) i = _ := fun i => insAt_at (srtM R L k) (rkL R (srtM R L k) (mPs (gM L k))) (gM L k) mrk0 hr i
    intro i j hij hj
    rw [srtM_len] at hj
    rw [e i, e j]
    by_cases j1 : j < rkL R (srtM R L k) (mPs (gM L k))
    · rw [if_pos j1, if_pos (by omega)]; exact ih i j hij (by omega)
    · rw [if_neg j1]
      by_cases j2 : j = rkL R (srtM R L k) (mPs (gM L k))
      · rw [if_pos j2, if_pos (by omega)]; exact (hsp i (by omega)).mpr (by omega)
      · rw [if_neg j2]
        by_cases i1 : i < rkL R (srtM R L k) (mPs (gM L k))
        · rw [if_pos i1]; exact ih i (j - 1) (by omega) (by omega)
        · rw [if_neg i1]
          by_cases i2 : i = rkL R (srtM R L k) (mPs (gM L k))
          · rw [if_pos i2]
            have q1 := fun z => j1 (by have := (hsp (j - 1) (by omega)).mp z; omega)
            have q2 := hne (j - 1) (by omega)
            have q3 := cmpM_anti R (mPs (gM (srtM R L k) (j - 1))) (mPs (gM L k))
            show cmpM R (mPs (gM L k)) (mPs (gM (srtM R L k) (j - 1))) < 0
            have q4 : ¬ cmpM R (mPs (gM (srtM R L k) (j - 1))) (mPs (gM L k)) < 0 := q1
            omega
          · rw [if_neg i2]; exact ih (i - 1) (j - 1) (by omega) (by omega)
theorem insAt_app {α : Type} (A D : List α) {j : Nat} (m : α) (hj : j ≤ A.length) : insAt (A ++ D) j m = insAt A j m ++ D := by
  unfold insAt
  rw [List.take_append_of_le_length hj, List.drop_append_of_le_length hj, List.append_assoc, List.cons_append]
theorem drop_gM (L : List Mrk) {k : Nat} (hk : k < L.length) : L.drop k = gM L k :: L.drop (k + 1) := by
  rw [List.drop_eq_getElem_cons hk]; unfold gM; simp [hk]
/-- the marks as they lie while the one of place k goes to place j -/
def midM (R : Rls) (L : List Mrk) (k j : Nat) : List Mrk := insAt (srtM R L k ++ L.drop (k + 1)) j (gM L k)
def begM (R : Rls) (L : List Mrk) (k : Nat) : List Mrk := srtM R L k ++ L.drop k
theorem begM_0 (R : Rls) (L : List Mrk) : begM R L (min 1 L.length) = L := by
  rcases Nat.eq_zero_or_pos L.length with h | h
  · rw [List.length_eq_zero_iff.mp h]; rfl
  · rw [Nat.min_eq_left h]
    show insAt [] (rkL R [] _) (gM L 0) ++ L.drop 1 = L
    have e : rkL R [] (mPs (gM L 0)) = 0 := Nat.le_zero.mp (rkL_le R [] _)
    rw [e, show insAt ([] : List Mrk) 0 (gM L 0) = [gM L 0] from rfl]
    have := drop_gM L h
    rw [List.drop_zero] at this
    exact this.symm
theorem midM_k (R : Rls) (L : List Mrk) {k : Nat} (hk : k < L.length) : midM R L k k = begM R L k := by
  unfold midM begM
  rw [insAt_app _ _ _ (by rw [srtM_len]; exact Nat.le_refl _), drop_gM L hk]
  unfold insAt
  rw [show (srtM R L k).take k = srtM R L k from List.take_of_length_le (by rw [srtM_len]; exact Nat.le_refl _), show (srtM R L k).drop k = [] from List.drop_of_length_le (by rw [srtM_len]; exact Nat.le_refl _)]
  simp
theorem midM_end (R : Rls) (L : List Mrk) {k j : Nat} (hj : rkL R (srtM R L k) (mPs (gM L k)) = j) : midM R L k j = begM R L (k + 1) := by
  unfold midM begM
  rw [insAt_app _ _ _ (by rw [← hj]; exact rkL_le ..), srtM, hj]
theorem midM_len (R : Rls) (L : List Mrk) {k j : Nat} (hk : k < L.length) (hj : j ≤ k) : (midM R L k j).length = L.length := by
  unfold midM
  rw [insAt_len _ _ _ (by rw [List.length_append, srtM_len]; omega), List.length_append, srtM_len, List.length_drop]; omega
theorem begM_len (R : Rls) (L : List Mrk) {k : Nat} (hk : k ≤ L.length) : (begM R L k).length = L.length := by
  unfold begM; rw [List.length_append, srtM_len, List.length_drop]; omega
theorem begM_end (R : Rls) (L : List Mrk) : begM R L L.length = srtM R L L.length := by unfold begM; rw [List.drop_length, List.append_nil]
theorem midM_j (R : Rls) (L : List Mrk) {k j : Nat} (hj : j ≤ k) : gM (midM R L k j) j = gM L k := by
  unfold midM gM
  rw [insAt_at _ _ _ _ (by rw [List.length_append, srtM_len]; omega), if_neg (by omega), if_pos rfl]
theorem midM_p (R : Rls) (L : List Mrk) {k j : Nat} (h0 : 0 < j) (hj : j ≤ k) : gM (midM R L k j) (j - 1) = gM (srtM R L k) (j - 1) := by
  unfold midM gM
  rw [insAt_at _ _ _ _ (by rw [List.length_append, srtM_len]; omega), if_pos (by omega), List.getD_eq_getElem?_getD, List.getElem?_append_left (by rw [srtM_len]; omega), ← List.getD_eq_getElem?_getD]
theorem rk_exit {R : Rls} {L : List Mrk} (hd : Dst R L) {k j : Nat} (hk : k < L.length) (hj : j ≤ k) (hlt : ∀ i, j ≤ i → i < k → cmpM R (mPs (gM L k)) (mPs (gM (srtM R L k) i)) < 0) (he : j = 0 ∨ ¬ cmpM R (mPs (gM L k)) (mPs (gM (srtM R L k) (j - 1))) < 0) : rkL R (srtM R L k) (mPs (gM L k)) = j := by
  obtain ⟨hS, hne⟩ := srtM_srt hd k (by omega)
  have hl := srtM_len R L k
  refine runN_eq (by omega) (fun i hi => ?_) ?_
  · rcases he with he | he
    · omega
    · have h1 := cmpM_anti R (mPs (gM L k)) (mPs (gM (srtM R L k) (j - 1)))
      have h2 := hne hk (j - 1) (by omega)
      have h3 : cmpM R (mPs (gM (srtM R L k) (j - 1))) (mPs (gM L k)) < 0 := by omega
      rcases Nat.lt_or_ge i (j - 1) with q | q
      · exact cmpM_tr (hS i (j - 1) q (by omega)) h3
      · rw [show i = j - 1 by omega]; exact h3
  · rcases Nat.lt_or_ge j k with q | q
    · have h1 := cmpM_anti R (mPs (gM L k)) (mPs (gM (srtM R L k) j))
      have h2 := hlt j (Nat.le_refl _) q
      exact Or.inr (by omega)
    · exact Or.inl (by omega)
theorem mvd_step {R : Rls} {L : List Mrk} {k j : Nat} (h : rkL R (srtM R L k) (mPs (gM L k)) = j) : mvd R L (k + 1) = if j = k then mvd R L k else 1 := by rw [mvd, h]
/-- the answer: (catalogue, number moved) -/
def ordA (c : Cat) : Cat × Int := if mvd (cRl c) (cMk c) (cN c) = 0 then (c, 0) else (cRsp (setMk c (srtM (cRl c) (cMk c) (cN c))), rspN (setMk c (srtM (cRl c) (cMk c) (cN c))))
theorem mvd_0 {R : Rls} {L : List Mrk} {k : Nat} (hk : k ≤ L.length) (h : mvd R L k = 0) : begM R L k = L := by
  induction k with
  | zero => rfl
  | succ k ih =>
    have hr : rkL R (srtM R L k) (mPs (gM L k)) = k := by
      by_cases q : rkL R (srtM R L k) (mPs (gM L k)) = k
      · exact q
      · rw [mvd, if_neg q] at h; omega
    rw [mvd, if_pos hr] at h
    rw [← midM_end R L hr, midM_k R L (by omega)]
    exact ih (by omega) h
