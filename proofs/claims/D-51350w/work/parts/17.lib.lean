/-! sums, first places, lengths of runs -/
def sumN (f : Nat → Int) : Nat → Int
  | 0 => 0
  | n + 1 => sumN f n + f n
theorem sumN_0 (f : Nat → Int) : sumN f 0 = 0 := rfl
theorem sumN_s (f : Nat → Int) (n : Nat) : sumN f (n + 1) = sumN f n + f n := rfl
theorem sumN_congr {f g : Nat → Int} {n : Nat} (h : ∀ i, i < n → f i = g i) : sumN f n = sumN g n := by
  induction n with
  | zero => rfl
  | succ n ih => rw [sumN_s, sumN_s, ih (fun i hi => h i (by omega)), h n (by omega)]
theorem sumN_bd {f : Nat → Int} {n : Nat} (lo hi : Int) (h : ∀ i, i < n → lo ≤ f i ∧ f i ≤ hi) : lo * n ≤ sumN f n ∧ sumN f n ≤ hi * n := by
  induction n with
  | zero => simp [sumN]
  | succ n ih =>
    have h1 := ih (fun i hi => h i (by omega))
    have h2 := h n (by omega)
    rw [sumN_s]
    have e1 : lo * ((n + 1 : Nat) : Int) = lo * n + lo := by rw [show ((n + 1 : Nat) : Int) = (n : Int) + 1 from rfl, Int.mul_add, Int.mul_one]
    have e2 : hi * ((n + 1 : Nat) : Int) = hi * n + hi := by rw [show ((n + 1 : Nat) : Int) = (n : Int) + 1 from rfl, Int.mul_add, Int.mul_one]
    omega
def fstA (P : Nat → Prop) [DecidablePred P] : Nat → Nat → Int
  | 0, _ => -1
  | n + 1, k => if P k then (k : Int) else fstA P n (k + 1)
/-- the first place below n where P holds; -1 -/
def fstN (P : Nat → Prop) [DecidablePred P] (n : Nat) : Int := fstA P n 0
theorem fstA_eq {P : Nat → Prop} [DecidablePred P] : ∀ (n i k : Nat), i ≤ k → k < i + n → P k → (∀ j, i ≤ j → j < k → ¬ P j) → fstA P n i = (k : Int)
  | 0, i, k, h1, h2, _, _ => by omega
  | n + 1, i, k, h1, h2, h3, h4 => by
    by_cases hik : i = k
    · subst hik; rw [fstA, if_pos h3]
    · rw [fstA, if_neg (h4 i (Nat.le_refl _) (by omega))]
      exact fstA_eq n (i + 1) k (by omega) (by omega) h3 (fun j h5 h6 => h4 j (by omega) h6)
theorem fstA_no {P : Nat → Prop} [DecidablePred P] : ∀ (n i : Nat), (∀ j, i ≤ j → j < i + n → ¬ P j) → fstA P n i = -1
  | 0, _, _ => rfl
  | n + 1, i, h => by
    rw [fstA, if_neg (h i (Nat.le_refl _) (by omega))]
    exact fstA_no n (i + 1) (fun j h5 h6 => h j (by omega) (by omega))
theorem fstN_eq {P : Nat → Prop} [DecidablePred P] {n k : Nat} (hk : k < n) (h : P k) (hm : ∀ j, j < k → ¬ P j) : fstN P n = (k : Int) := fstA_eq n 0 k (Nat.zero_le _) (by omega) h (fun j _ hj => hm j hj)
theorem fstN_no {P : Nat → Prop} [DecidablePred P] {n : Nat} (h : ∀ j, j < n → ¬ P j) : fstN P n = -1 := fstA_no n 0 (fun j _ hj => h j (by omega))
theorem fstN_cases (P : Nat → Prop) [DecidablePred P] (n : Nat) : (fstN P n = -1 ∧ ∀ j, j < n → ¬ P j) ∨ ∃ k, k < n ∧ fstN P n = (k : Int) ∧ P k ∧ ∀ j, j < k → ¬ P j := by
  by_cases h : ∃ k, k < n ∧ P k
  · obtain ⟨k, hk, hm⟩ := pk_least (fun k => k < n ∧ P k) h
    exact Or.inr ⟨k, hk.1, fstN_eq hk.1 hk.2 (fun j hj hp => hm j hj ⟨by omega, hp⟩), hk.2, fun j hj hp => hm j hj ⟨by omega, hp⟩⟩
  · have h' : ∀ j, j < n → ¬ P j := fun j hj hp => h ⟨j, hj, hp⟩
    exact Or.inl ⟨fstN_no h', h'⟩
theorem fstN_congr {P P' : Nat → Prop} [DecidablePred P] [DecidablePred P'] {n : Nat} (h : ∀ j, j < n → (P j ↔ P' j)) : fstN P n = fstN P' n := by
  rcases fstN_cases P n with ⟨e, h1⟩ | ⟨k, hk, e, h1, h2⟩
  · rw [e, fstN_no (fun j hj hp => h1 j hj ((h j hj).mpr hp))]
  · rw [e, fstN_eq hk ((h k hk).mp h1) (fun j hj hp => h2 j hj ((h j (by omega)).mpr hp))]
def runA (P : Nat → Prop) [DecidablePred P] : Nat → Nat → Nat
  | 0, k => k
  | n + 1, k => if P k then runA P n (k + 1) else k
/-- how long P holds from 0 on, n at most -/
def runN (P : Nat → Prop) [DecidablePred P] (n : Nat) : Nat := runA P n 0
theorem runA_eq {P : Nat → Prop} [DecidablePred P] : ∀ (n i k : Nat), i ≤ k → k ≤ i + n → (∀ j, i ≤ j → j < k → P j) → (k = i + n ∨ ¬ P k) → runA P n i = k
  | 0, i, k, h1, h2, _, _ => by rw [runA]; omega
  | n + 1, i, k, h1, h2, h3, h4 => by
    by_cases hik : i = k
    · subst hik
      rcases h4 with q | q
      · omega
      · rw [runA, if_neg q]
    · rw [runA, if_pos (h3 i (Nat.le_refl _) (by omega))]
      exact runA_eq n (i + 1) k (by omega) (by omega) (fun j h5 h6 => h3 j (by omega) h6) (h4.imp (fun q => by omega) id)
theorem runN_eq {P : Nat → Prop} [DecidablePred P] {n k : Nat} (hk : k ≤ n) (h : ∀ j, j < k → P j) (he : k = n ∨ ¬ P k) : runN P n = k := runA_eq n 0 k (Nat.zero_le _) (by omega) (fun j _ hj => h j hj) (he.imp (fun q => by omega) id)
theorem runN_spec (P : Nat → Prop) [DecidablePred P] (n : Nat) : runN P n ≤ n ∧ (∀ j, j < runN P n → P j) ∧ (runN P n = n ∨ ¬ P (runN P n)) := by
  by_cases h : ∃ k, k < n ∧ ¬ P k
  · obtain ⟨k, hk, hm⟩ := pk_least (fun k => k < n ∧ ¬ P k) h
    have hp : ∀ j, j < k → P j := fun j hj => Decidable.not_not.mp (fun z => hm j hj ⟨by omega, z⟩)
    have e : runN P n = k := runN_eq (by omega) hp (Or.inr hk.2)
    rw [e]
    exact ⟨by omega, hp, Or.inr hk.2⟩
  · have hp : ∀ j, j < n → P j := fun j hj => Decidable.not_not.mp (fun z => h ⟨j, hj, z⟩)
    have e : runN P n = n := runN_eq (Nat.le_refl _) hp (Or.inl rfl)
    rw [e]
    exact ⟨Nat.le_refl _, hp, Or.inl rfl⟩
theorem runN_congr {P P' : Nat → Prop} [DecidablePred P] [DecidablePred P'] {n : Nat} (h : ∀ j, j < n → (P j ↔ P' j)) : runN P n = runN P' n := by
  obtain ⟨h1, h2, h3⟩ := runN_spec P' n
  refine runN_eq h1 (fun j hj => (h j (by omega)).mpr (h2 j hj)) ?_
  rcases h3 with q | q
  · exact Or.inl q
  · by_cases hn : runN P' n = n
    · exact Or.inl hn
    · exact Or.inr (fun z => q ((h _ (by omega)).mp z))
def b2i (p : Prop) [Decidable p] : Int := if p then 1 else 0
theorem b2i_t {p : Prop} [Decidable p] (h : p) : b2i p = 1 := if_pos h
theorem b2i_f {p : Prop} [Decidable p] (h : ¬ p) : b2i p = 0 := if_neg h
theorem b2i_01 (p : Prop) [Decidable p] : 0 ≤ b2i p ∧ b2i p ≤ 1 := by unfold b2i; split <;> omega
theorem b2i_or (p : Prop) [Decidable p] : b2i p = 0 ∨ b2i p = 1 := by unfold b2i; split <;> omega
theorem b2i_0 {p : Prop} [Decidable p] : b2i p = 0 ↔ ¬ p := by unfold b2i; split <;> simp_all
theorem b2i_1 {p : Prop} [Decidable p] : b2i p = 1 ↔ p := by unfold b2i; split <;> simp_all
theorem b2i_n1 {p : Prop} [Decidable p] : ¬ b2i p = 0 ↔ p := by unfold b2i; split <;> simp_all
theorem b2i_congr {p q : Prop} [Decidable p] [Decidable q] (h : p ↔ q) : b2i p = b2i q := by unfold b2i; by_cases hp : p <;> simp [hp, h.mp, ← h]
theorem cmpZ_r (x y : Int) : -1 ≤ cmpZ x y ∧ cmpZ x y ≤ 1 := by unfold cmpZ; split <;> (try split) <;> omega
theorem cmpZ_0 {x y : Int} : cmpZ x y = 0 ↔ x = y := by unfold cmpZ; split <;> (try split) <;> omega
theorem cmpZ_lt {x y : Int} : cmpZ x y < 0 ↔ x < y := by unfold cmpZ; split <;> (try split) <;> omega
theorem cmpZ_gt {x y : Int} : 0 < cmpZ x y ↔ y < x := by unfold cmpZ; split <;> (try split) <;> omega
