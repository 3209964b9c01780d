/-! the component's comparisons, as pure numbers, and the twin's -/
set_option maxRecDepth 100000
theorem encF_same {L M : List Int} {k : Nat} (h : ∀ j, j < k → dg L j = dg M j) : encF L k = encF M k := by
  induction k with
  | zero => rfl
  | succ k ih => rw [encF_s, encF_s, ih (fun j hj => h j (by omega)), h k (by omega)]
theorem encF_up {L M : List Int} (h1 : ∀ c ∈ L, Ltr c) (h2 : ∀ c ∈ M, Ltr c) {k : Nat} (h : encF L k < encF M k) (d : Nat) : encF L (k + d) < encF M (k + d) := by
  induction d with
  | zero => exact h
  | succ d ih =>
    have a := dg_r h1 (k + d)
    have b := dg_r h2 (k + d)
    show encF L ((k + d) + 1) < encF M ((k + d) + 1)
    rw [encF_s, encF_s]
    omega
theorem enc_lt {L M : List Int} (h1 : ∀ c ∈ L, Ltr c) (h2 : ∀ c ∈ M, Ltr c) {k : Nat} (hk : k < 8) (he : ∀ j, j < k → dg L j = dg M j) (hl : dg L k < dg M k) : enc L < enc M := by
  have h3 : encF L (k + 1) < encF M (k + 1) := by rw [encF_s, encF_s, encF_same he]; omega
  have h4 := encF_up h1 h2 h3 (8 - (k + 1))
  rw [show k + 1 + (8 - (k + 1)) = 8 by omega] at h4
  unfold enc
  omega
theorem dg_at {L : List Int} {j : Nat} (h : j < L.length) : dg L j = L.getD j 0 - 96 := by rw [dg_lt h]; simp [h]
theorem cmpS_enc {L M : List Int} (h1 : Wrd L) (h2 : Wrd M) : (enc L < enc M ∧ cmpS L M < 0 ∧ -1000 < cmpS L M) ∨ (L = M ∧ cmpS L M = 0) ∨ (enc M < enc L ∧ 0 < cmpS L M ∧ cmpS L M < 1000) := by
  have hl1 := h1.1
  have hl2 := h2.1
  rcases fstN_cases (fun k => L.getD (0 + k) 0 ≠ M.getD k 0) (min L.length M.length) with ⟨e, hn⟩ | ⟨k, hk, e, hd, hb⟩
  · have heq : ∀ j, j < min L.length M.length → dg L j = dg M j := fun j hj => by
      have h3 := Decidable.not_not.mp (hn j hj)
      rw [Nat.zero_add] at h3
      rw [dg_at (by omega), dg_at (by omega), h3]
    have hc : cmpS L M = (L.length : Int) - (M.length : Int) := if_pos (by show fstN _ _ < 0; rw [e]; decide)
    rcases Nat.lt_trichotomy L.length M.length with q | q | q
    · refine Or.inl ⟨enc_lt h1.2 h2.2 (k := L.length) (by omega) (fun j hj => heq j (by omega)) ?_, by omega, by omega⟩
      have := dg_pos h2.2 q
      rw [dg_ge (Nat.le_refl _)]; omega
    · refine Or.inr (Or.inl ⟨wrd_ext h1 h2 (fun j hj => ?_), by omega⟩)
      by_cases q2 : j < L.length
      · exact heq j (by omega)
      · rw [dg_ge (by omega), dg_ge (by omega)]
    · refine Or.inr (Or.inr ⟨enc_lt h2.2 h1.2 (k := M.length) (by omega) (fun j hj => (heq j (by omega)).symm) ?_, by omega, by omega⟩)
      have := dg_pos h1.2 q
      rw [dg_ge (L := M) (Nat.le_refl _)]; omega
  · rw [Nat.zero_add] at hd
    have heq : ∀ j, j < k → dg L j = dg M j := fun j hj => by
      have h3 := Decidable.not_not.mp (hb j hj)
      rw [Nat.zero_add] at h3
      rw [dg_at (by omega), dg_at (by omega), h3]
    have hc : cmpS L M = L.getD k 0 - M.getD k 0 := by
      unfold cmpS
      rw [if_neg (by show ¬ fstN _ _ < 0; rw [e]; omega)]
      show L.getD (fstN _ _).toNat 0 - M.getD (fstN _ _).toNat 0 = _
      rw [e, Int.toNat_natCast]
    have g1 := dg_pos h1.2 (j := k) (by omega)
    have g2 := dg_pos h2.2 (j := k) (by omega)
    rw [dg_at (by omega)] at g1
    rw [dg_at (by omega)] at g2
    by_cases q : L.getD k 0 < M.getD k 0
    · exact Or.inl ⟨enc_lt h1.2 h2.2 (k := k) (by omega) heq (by rw [dg_at (by omega), dg_at (by omega)]; omega), by omega, by omega⟩
    · exact Or.inr (Or.inr ⟨enc_lt h2.2 h1.2 (k := k) (by omega) (fun j hj => (heq j hj).symm) (by rw [dg_at (by omega), dg_at (by omega)]; omega), by omega, by omega⟩)
/-- Part.compare, what it answers -/
def pcmp (x y : Prt) : Int := match x, y with
  | .inl n, .inl m => cmpZ n m
  | .inl _, .inr _ => -1
  | .inr _, .inl _ => 1
  | .inr L, .inr M => cmpS L M
theorem pcmp_enc {x y : Prt} (h1 : PrtW x) (h2 : PrtW y) : (encP x < encP y ∧ pcmp x y < 0 ∧ -1000 < pcmp x y) ∨ (encP x = encP y ∧ pcmp x y = 0) ∨ (encP y < encP x ∧ 0 < pcmp x y ∧ pcmp x y < 1000) := by
  cases x with
  | inl n => cases y with
    | inl m =>
      show (n < m ∧ cmpZ n m < 0 ∧ _) ∨ (n = m ∧ cmpZ n m = 0) ∨ (m < n ∧ 0 < cmpZ n m ∧ _)
      have a := @cmpZ_0 n m
      have b := @cmpZ_lt n m
      have c := @cmpZ_gt n m
      have d := cmpZ_r n m
      show (n < m ∧ cmpZ n m < 0 ∧ -1000 < cmpZ n m) ∨ (n = m ∧ cmpZ n m = 0) ∨ (m < n ∧ 0 < cmpZ n m ∧ cmpZ n m < 1000)
      rcases Int.lt_trichotomy n m with q | q | q
      · exact Or.inl ⟨q, b.mpr q, by omega⟩
      · exact Or.inr (Or.inl ⟨q, a.mpr q⟩)
      · exact Or.inr (Or.inr ⟨q, c.mpr q, by omega⟩)
    | inr M =>
      have := enc_r h2.1.2
      have := h1.2
      exact Or.inl ⟨by show n < enc M; omega, by show (-1 : Int) < 0; decide, by show (-1000 : Int) < -1; decide⟩
  | inr L => cases y with
    | inl m =>
      have := enc_r h1.1.2
      have := h2.2
      exact Or.inr (Or.inr ⟨by show m < enc L; omega, by show (0 : Int) < 1; decide, by show (1 : Int) < 1000; decide⟩)
    | inr M =>
      rcases cmpS_enc h1.1 h2.1 with q | q | q
      · exact Or.inl q
      · exact Or.inr (Or.inl ⟨congrArg enc q.1, q.2⟩)
      · exact Or.inr (Or.inr q)
theorem pcmp_0 {x y : Prt} (h1 : PrtW x) (h2 : PrtW y) : pcmp x y = 0 ↔ encP x = encP y := by
  rcases pcmp_enc h1 h2 with q | q | q <;> constructor <;> intro h <;> omega
theorem pcmp_r {x y : Prt} (h1 : PrtW x) (h2 : PrtW y) : -1000 < pcmp x y ∧ pcmp x y < 1000 := by
  rcases pcmp_enc h1 h2 with q | q | q <;> omega
/-- Spoken.compare(one, other, ..), what it answers -/
def spV : List Prt → List Prt → Int
  | [], ys => -(ys.length : Int)
  | x :: xs, [] => ((x :: xs).length : Int)
  | x :: xs, y :: ys => if pcmp x y = 0 then spV xs ys else pcmp x y
theorem spV_drop {x y : List Prt} {k : Nat} (h1 : k < x.length) (h2 : k < y.length) : spV (x.drop k) (y.drop k) = if pcmp (x.getD k prt0) (y.getD k prt0) = 0 then spV (x.drop (k + 1)) (y.drop (k + 1)) else pcmp (x.getD k prt0) (y.getD k prt0) := by
  rw [List.drop_eq_getElem_cons h1, List.drop_eq_getElem_cons h2]
  simp [spV, h1, h2]
theorem spV_end {x y : List Prt} {k : Nat} (h : k = x.length ∨ k = y.length) (h1 : k ≤ x.length) (h2 : k ≤ y.length) : spV (x.drop k) (y.drop k) = (x.length : Int) - (y.length : Int) := by
  by_cases q : k = x.length
  · rw [List.drop_eq_nil_of_le (Nat.le_of_eq q.symm)]
    show -((y.drop k).length : Int) = _
    rw [List.length_drop]; omega
  · have q2 : k = y.length := by omega
    rw [List.drop_eq_nil_of_le (as := y) (Nat.le_of_eq q2.symm), List.drop_eq_getElem_cons (show k < x.length by omega)]
    show ((_ :: x.drop (k + 1)).length : Int) = _
    rw [List.length_cons, List.length_drop]; omega
theorem spV_enc : ∀ {x y : List Prt}, (∀ z ∈ x, PrtW z) → (∀ z ∈ y, PrtW z) → x.length ≤ 5 → y.length ≤ 5 → (spV x y < 0 ∧ -1000 < spV x y ∧ cmpL (x.map encP) (y.map encP) = -1) ∨ (spV x y = 0 ∧ cmpL (x.map encP) (y.map encP) = 0) ∨ (0 < spV x y ∧ spV x y < 1000 ∧ cmpL (x.map encP) (y.map encP) = 1)
  | [], [], _, _, _, _ => Or.inr (Or.inl ⟨rfl, rfl⟩)
  | [], z :: y, _, _, _, hy => Or.inl ⟨by show -(((z :: y).length : Nat) : Int) < 0; rw [List.length_cons]; omega, by show -1000 < -(((z :: y).length : Nat) : Int); omega, rfl⟩
  | z :: x, [], _, _, hx, _ => Or.inr (Or.inr ⟨by show 0 < (((z :: x).length : Nat) : Int); rw [List.length_cons]; omega, by show (((z :: x).length : Nat) : Int) < 1000; omega, rfl⟩)
  | a :: x, b :: y, h1, h2, h3, h4 => by
    have ih := spV_enc (fun z hz => h1 z (List.mem_cons_of_mem _ hz)) (fun z hz => h2 z (List.mem_cons_of_mem _ hz)) (by rw [List.length_cons] at h3; omega) (by rw [List.length_cons] at h4; omega) (x := x) (y := y)
    have hp := pcmp_enc (h1 a List.mem_cons_self) (h2 b List.mem_cons_self)
    have e1 : spV (a :: x) (b :: y) = if pcmp a b = 0 then spV x y else pcmp a b := rfl
    have e2 : cmpL ((a :: x).map encP) ((b :: y).map encP) = if encP a = encP b then cmpL (x.map encP) (y.map encP) else if encP a < encP b then -1 else 1 := rfl
    rw [e1, e2]
    rcases hp with q | q | q
    · rw [if_neg (by omega), if_neg (by omega), if_pos q.1]; exact Or.inl ⟨q.2.1, q.2.2, rfl⟩
    · rw [if_pos q.2, if_pos q.1]; exact ih
    · rw [if_neg (by omega), if_neg (by omega), if_neg (by omega)]; exact Or.inr (Or.inr ⟨q.2.1, q.2.2, rfl⟩)
def earQ (R : Rls) (p : List Prt) : List Prt := p.map (earP R)
theorem earQ_len (R : Rls) (p : List Prt) : (earQ R p).length = p.length := List.length_map ..
theorem earQ_at (R : Rls) (p : List Prt) (k : Nat) : (earQ R p).getD k prt0 = earP R (p.getD k prt0) := by
  unfold earQ
  rw [List.getD_eq_getElem?_getD, List.getElem?_map, List.getD_eq_getElem?_getD]
  cases p[k]? <;> rfl
theorem earQ_w {R : Rls} {p : List Prt} (hR : RlW R) (h : ∀ x ∈ p, PrtW x) : ∀ x ∈ earQ R p, PrtW x := fun x hx => by
  obtain ⟨y, hy, rfl⟩ := List.mem_map.mp hx
  exact earP_w hR (h y hy)
theorem earQ_enc (R : Rls) (p : List Prt) : (earQ R p).map encP = earK R p := by unfold earQ earK; rw [List.map_map]; rfl
/-- the order's compare -/
def spM (R : Rls) (p q : List Prt) : Int := if spV (earQ R p) (earQ R q) = 0 then spV p q else spV (earQ R p) (earQ R q)
theorem spM_enc {R : Rls} {p q : List Prt} (hR : RlW R) (h1 : PrtsW p) (h2 : PrtsW q) : (spM R p q < 0 ∧ -1000 < spM R p q ∧ cmpM R p q = -1) ∨ (spM R p q = 0 ∧ cmpM R p q = 0) ∨ (0 < spM R p q ∧ spM R p q < 1000 ∧ cmpM R p q = 1) := by
  have a := spV_enc (earQ_w hR h1.2.2) (earQ_w hR h2.2.2) (by rw [earQ_len]; exact h1.2.1) (by rw [earQ_len]; exact h2.2.1)
  have b := spV_enc h1.2.2 h2.2.2 h1.2.1 h2.2.1
  rw [earQ_enc, earQ_enc] at a
  change _ ∨ _ ∨ _ at a
  unfold spM cmpM
  rcases a with q | q | q
  · rw [if_neg (by omega), if_neg (by omega)]; exact Or.inl q
  · rw [if_pos q.1, if_pos q.2]; exact b
  · rw [if_neg (by omega), if_neg (by omega)]; exact Or.inr (Or.inr q)
theorem PrtsW.gd {p : List Prt} (h : PrtsW p) (k : Nat) : PrtW (p.getD k prt0) := by
  rw [List.getD_eq_getElem?_getD]
  cases e : p[k]? with
  | none => exact (show (0 : Int) ≤ 0 ∧ (0 : Int) ≤ 99999 by decide)
  | some x => exact h.2.2 x (List.mem_of_getElem? e)
