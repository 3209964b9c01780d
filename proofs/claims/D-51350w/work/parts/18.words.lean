/-! words: lists of letters (97 .. 122), at most eight; their ears; their numbers -/
abbrev Ltr (c : Int) : Prop := 97 ≤ c ∧ c ≤ 122
def Wrd (L : List Int) : Prop := L.length ≤ 8 ∧ ∀ c ∈ L, Ltr c
def dg (L : List Int) (j : Nat) : Int := L.getD j 96 - 96
theorem dg_lt {L : List Int} {j : Nat} (h : j < L.length) : dg L j = L[j] - 96 := by simp [dg, h]
theorem dg_ge {L : List Int} {j : Nat} (h : L.length ≤ j) : dg L j = 0 := by simp [dg, h]
theorem dg_r {L : List Int} (h : ∀ c ∈ L, Ltr c) (j : Nat) : 0 ≤ dg L j ∧ dg L j ≤ 26 := by
  by_cases hj : j < L.length
  · rw [dg_lt hj]
    have := h _ (List.getElem_mem hj)
    omega
  · rw [dg_ge (by omega)]; omega
theorem dg_pos {L : List Int} (h : ∀ c ∈ L, Ltr c) {j : Nat} (hj : j < L.length) : 1 ≤ dg L j ∧ dg L j ≤ 26 := by
  rw [dg_lt hj]
  have := h _ (List.getElem_mem hj)
  omega
def encF (L : List Int) : Nat → Int
  | 0 => 0
  | k + 1 => 27 * encF L k + dg L k
theorem encF_s (L : List Int) (k : Nat) : encF L (k + 1) = 27 * encF L k + dg L k := rfl
def enc (L : List Int) : Int := 1000000 + encF L 8
theorem encF_nn {L : List Int} (h : ∀ c ∈ L, Ltr c) (k : Nat) : 0 ≤ encF L k := by
  induction k with
  | zero => exact Int.le_refl _
  | succ k ih => have := dg_r h k; rw [encF_s]; omega
theorem encF_bd {L : List Int} (h : ∀ c ∈ L, Ltr c) : encF L 8 < 282429536481 := by
  have a := dg_r h
  have h0 := a 0; have h1 := a 1; have h2 := a 2; have h3 := a 3; have h4 := a 4; have h5 := a 5; have h6 := a 6; have h7 := a 7
  simp only [encF]
  omega
theorem enc_r {L : List Int} (h : ∀ c ∈ L, Ltr c) : 1000000 ≤ enc L ∧ enc L < 282430536481 := by
  have := encF_nn h 8
  have := encF_bd h
  unfold enc
  omega
theorem encF_mod {L : List Int} (h : ∀ c ∈ L, Ltr c) (k : Nat) : encF L (k + 1) % 27 = dg L k ∧ encF L (k + 1) / 27 = encF L k := by
  have := dg_r h k
  rw [encF_s]
  omega
theorem encF_inj {L M : List Int} (h1 : ∀ c ∈ L, Ltr c) (h2 : ∀ c ∈ M, Ltr c) : ∀ (k : Nat), encF L k = encF M k → ∀ j, j < k → dg L j = dg M j
  | 0, _, j, hj => by omega
  | k + 1, e, j, hj => by
    have a := encF_mod h1 k
    have b := encF_mod h2 k
    rw [e] at a
    by_cases hjk : j = k
    · subst hjk; rw [← a.1, ← b.1]
    · exact encF_inj h1 h2 k (by rw [← a.2, ← b.2]) j (by omega)
theorem wrd_ext {L M : List Int} (h1 : Wrd L) (h2 : Wrd M) (h : ∀ j, j < 8 → dg L j = dg M j) : L = M := by
  have hlen : L.length = M.length := by
    rcases Nat.lt_trichotomy L.length M.length with q | q | q
    · have a := h L.length (by have := h2.1; omega)
      rw [dg_ge (Nat.le_refl _)] at a
      have b := dg_pos h2.2 q
      omega
    · exact q
    · have a := h M.length (by have := h1.1; omega)
      rw [dg_ge (L := M) (Nat.le_refl _)] at a
      have b := dg_pos h1.2 q
      omega
  refine List.ext_getElem hlen (fun i hi hi2 => ?_)
  have a := h i (by have := h1.1; omega)
  rw [dg_lt hi, dg_lt hi2] at a
  omega
theorem enc_inj {L M : List Int} (h1 : Wrd L) (h2 : Wrd M) (h : enc L = enc M) : L = M :=
  wrd_ext h1 h2 (encF_inj h1.2 h2.2 8 (by unfold enc at h; omega))
/-! the steps to an ear -/
def prs (a b c : Int) : List Int → List Int
  | [] => []
  | [x] => [x]
  | x :: y :: r => if x = a ∧ y = b then c :: prs a b c r else x :: prs a b c (y :: r)
def hrd (c : Int) : Int := if c = 99 then 107 else if c = 122 then 115 else if c = 121 then 105 else if c = 119 then 118 else c
def sil : List Int → List Int
  | [] => []
  | x :: r => x :: r.filter (fun c => decide (c ≠ 104))
def rnA (p : Int) : List Int → List Int
  | [] => []
  | x :: r => if x = p then rnA x r else x :: rnA x r
def rns : List Int → List Int
  | [] => []
  | x :: r => x :: rnA x r
def earL (L : List Int) : List Int := rns (sil ((prs 99 107 107 (prs 112 104 102 L)).map hrd))
theorem prs_len (a b c : Int) : ∀ L : List Int, (prs a b c L).length ≤ L.length ∧ (L ≠ [] → prs a b c L ≠ [])
  | [] => by simp [prs]
  | [x] => by simp [prs]
  | x :: y :: r => by
    have h1 := prs_len a b c r
    have h2 := prs_len a b c (y :: r)
    unfold prs
    split
    · exact ⟨by simp only [List.length_cons]; omega, by simp⟩
    · exact ⟨by simp only [List.length_cons] at h2 ⊢; omega, by simp⟩
theorem prs_ltr {a b c : Int} (hc : Ltr c) : ∀ L : List Int, (∀ x ∈ L, Ltr x) → ∀ x ∈ prs a b c L, Ltr x
  | [], _, x, hx => by simp [prs] at hx
  | [y], h, x, hx => by simp only [prs] at hx; exact h x hx
  | y :: z :: r, h, x, hx => by
    unfold prs at hx
    split at hx
    · rcases List.mem_cons.mp hx with e | e
      · rw [e]; exact hc
      · exact prs_ltr hc r (fun x hx => h x (List.mem_cons_of_mem _ (List.mem_cons_of_mem _ hx))) x e
    · rcases List.mem_cons.mp hx with e | e
      · rw [e]; exact h y List.mem_cons_self
      · exact prs_ltr hc (z :: r) (fun x hx => h x (List.mem_cons_of_mem _ hx)) x e
theorem hrd_ltr {c : Int} (h : Ltr c) : Ltr (hrd c) := by unfold hrd; repeat' split <;> omega
theorem rnA_sub : ∀ (p : Int) (L : List Int), (rnA p L).length ≤ L.length ∧ ∀ x ∈ rnA p L, x ∈ L
  | p, [] => by simp [rnA]
  | p, y :: r => by
    have h := rnA_sub y r
    unfold rnA
    split
    · exact ⟨by simp only [List.length_cons]; omega, fun x hx => List.mem_cons_of_mem _ (h.2 x hx)⟩
    · refine ⟨by simp only [List.length_cons]; omega, fun x hx => ?_⟩
      rcases List.mem_cons.mp hx with e | e
      · rw [e]; exact List.mem_cons_self
      · exact List.mem_cons_of_mem _ (h.2 x e)
theorem sil_sub (L : List Int) : (sil L).length ≤ L.length ∧ (∀ x ∈ sil L, x ∈ L) ∧ (L ≠ [] → sil L ≠ []) := by
  cases L with
  | nil => simp [sil]
  | cons y r =>
    refine ⟨by simp only [sil, List.length_cons]; have := List.length_filter_le (fun c => decide (c ≠ 104)) r; omega, fun x hx => ?_, by simp [sil]⟩
    rcases List.mem_cons.mp hx with e | e
    · rw [e]; exact List.mem_cons_self
    · exact List.mem_cons_of_mem _ (List.mem_filter.mp e).1
theorem rns_sub (L : List Int) : (rns L).length ≤ L.length ∧ (∀ x ∈ rns L, x ∈ L) ∧ (L ≠ [] → rns L ≠ []) := by
  cases L with
  | nil => simp [rns]
  | cons y r =>
    have h := rnA_sub y r
    refine ⟨by simp only [rns, List.length_cons]; omega, fun x hx => ?_, by simp [rns]⟩
    rcases List.mem_cons.mp hx with e | e
    · rw [e]; exact List.mem_cons_self
    · exact List.mem_cons_of_mem _ (h.2 x e)
theorem wrd_prs {a b c : Int} (hc : Ltr c) {L : List Int} (h : Wrd L) : Wrd (prs a b c L) := ⟨Nat.le_trans (prs_len a b c L).1 h.1, prs_ltr hc L h.2⟩
theorem wrd_map {L : List Int} (h : Wrd L) : Wrd (L.map hrd) := ⟨by rw [List.length_map]; exact h.1, fun x hx => by
  obtain ⟨y, hy, e⟩ := List.mem_map.mp hx
  rw [← e]; exact hrd_ltr (h.2 y hy)⟩
theorem wrd_sil {L : List Int} (h : Wrd L) : Wrd (sil L) := ⟨Nat.le_trans (sil_sub L).1 h.1, fun x hx => h.2 x ((sil_sub L).2.1 x hx)⟩
theorem wrd_rns {L : List Int} (h : Wrd L) : Wrd (rns L) := ⟨Nat.le_trans (rns_sub L).1 h.1, fun x hx => h.2 x ((rns_sub L).2.1 x hx)⟩
theorem wrd_ear {L : List Int} (h : Wrd L) : Wrd (earL L) := wrd_rns (wrd_sil (wrd_map (wrd_prs (by decide) (wrd_prs (by decide) h))))
theorem ear_ne {L : List Int} (h : L ≠ []) : earL L ≠ [] := (rns_sub _).2.2 ((sil_sub _).2.2 (by simpa using (prs_len 99 107 107 _).2 ((prs_len 112 104 102 L).2 h)))
theorem dg_erase (L : List Int) (k j : Nat) : dg (L.eraseIdx k) j = if j < k then dg L j else dg L (j + 1) := by
  unfold dg
  simp only [List.getD_eq_getElem?_getD, List.getElem?_eraseIdx]
  split <;> rfl
theorem dg_map (L : List Int) (j : Nat) (h : j < L.length) : dg (L.map hrd) j = hrd (dg L j + 96) - 96 := by
  rw [dg_lt (by rw [List.length_map]; exact h), dg_lt h, List.getElem_map, show L[j] - 96 + 96 = L[j] by omega]
