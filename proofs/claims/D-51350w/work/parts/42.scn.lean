/-! a text and its tokens: pure -/
set_option maxRecDepth 100000
def bat (T : List Int) (k : Nat) : Int := if k < T.length then T.getD k 0 else -1
def TxW (T : List Int) : Prop := T.length ≤ 800 ∧ ∀ k, k < T.length → 0 ≤ T.getD k 0 ∧ T.getD k 0 ≤ 255
theorem bat_r {T : List Int} (h : TxW T) (k : Nat) : -1 ≤ bat T k ∧ bat T k ≤ 255 := by
  unfold bat; split
  · next q => have := h.2 k q; omega
  · omega
theorem bat_lt {T : List Int} {k : Nat} (h : bat T k ≠ -1) : k < T.length := by
  unfold bat at h; split at h
  · assumption
  · exact absurd rfl h
theorem bat_ge {T : List Int} {k : Nat} (h : T.length ≤ k) : bat T k = -1 := if_neg (by omega)
theorem runA_go {P : Nat → Prop} [DecidablePred P] {n k : Nat} (h : P k) (hk : k < n) : runA P (n - k) k = runA P (n - (k + 1)) (k + 1) := by
  rw [show n - k = (n - (k + 1)) + 1 by omega, runA, if_pos h]
theorem runA_no {P : Nat → Prop} [DecidablePred P] {n k : Nat} (h : ¬ P k) : runA P (n - k) k = k := by
  cases n - k with
  | zero => rfl
  | succ m => exact if_neg h
theorem runA_le {P : Nat → Prop} [DecidablePred P] (n k : Nat) : k ≤ runA P n k ∧ runA P n k ≤ k + n ∧ ∀ j, k ≤ j → j < runA P n k → P j := by
  induction n generalizing k with
  | zero => exact ⟨Nat.le_refl _, Nat.le_refl _, fun j h1 h2 => absurd h2 (by show ¬ j < k; omega)⟩
  | succ n ih =>
    unfold runA
    split
    · next q =>
      obtain ⟨h1, h2, h3⟩ := ih (k + 1)
      refine ⟨by omega, by omega, fun j h4 h5 => ?_⟩
      by_cases e : j = k
      · rw [e]; exact q
      · exact h3 j (by omega) h5
    · exact ⟨Nat.le_refl _, by omega, fun j h1 h2 => absurd h2 (by omega)⟩
def skp (T : List Int) (p : Nat) : Nat := runA (fun j => bat T j = 32 ∨ bat T j = 10) (T.length - p) p
def ltE (T : List Int) (p : Nat) : Nat := runA (fun j => 97 ≤ bat T j ∧ bat T j ≤ 122) (T.length - p) p
def fgE (T : List Int) (p : Nat) : Nat := runA (fun j => 48 ≤ bat T j ∧ bat T j ≤ 57) (T.length - p) p
theorem skp_go {T : List Int} {k : Nat} (h : bat T k = 32 ∨ bat T k = 10) : skp T k = skp T (k + 1) ∧ k < T.length := by
  have hk : k < T.length := bat_lt (by omega)
  exact ⟨runA_go (P := fun j => bat T j = 32 ∨ bat T j = 10) h hk, hk⟩
theorem skp_no {T : List Int} {k : Nat} (h : ¬ (bat T k = 32 ∨ bat T k = 10)) : skp T k = k := runA_no (P := fun j => bat T j = 32 ∨ bat T j = 10) h
theorem ltE_go {T : List Int} {k : Nat} (h : 97 ≤ bat T k ∧ bat T k ≤ 122) : ltE T k = ltE T (k + 1) ∧ k < T.length := by
  have hk : k < T.length := bat_lt (by omega)
  exact ⟨runA_go (P := fun j => 97 ≤ bat T j ∧ bat T j ≤ 122) h hk, hk⟩
theorem ltE_no {T : List Int} {k : Nat} (h : ¬ (97 ≤ bat T k ∧ bat T k ≤ 122)) : ltE T k = k := runA_no (P := fun j => 97 ≤ bat T j ∧ bat T j ≤ 122) h
theorem fgE_go {T : List Int} {k : Nat} (h : 48 ≤ bat T k ∧ bat T k ≤ 57) : fgE T k = fgE T (k + 1) ∧ k < T.length := by
  have hk : k < T.length := bat_lt (by omega)
  exact ⟨runA_go (P := fun j => 48 ≤ bat T j ∧ bat T j ≤ 57) h hk, hk⟩
theorem fgE_no {T : List Int} {k : Nat} (h : ¬ (48 ≤ bat T k ∧ bat T k ≤ 57)) : fgE T k = k := runA_no (P := fun j => 48 ≤ bat T j ∧ bat T j ≤ 57) h
/-- the number of n figures from b on, 1000000 at most -/
def nmF (T : List Int) (b : Nat) : Nat → Int
  | 0 => 0
  | n + 1 => min 1000000 (10 * nmF T b n + bat T (b + n) - 48)
def nmV (T : List Int) (b : Nat) : Int := nmF T b (fgE T b - b)
/-- a token: begin, end, kind (0 end, 1 word, 2 number, 3 ';', 4 '=', 5 other), number -/
abbrev Sc : Type := Nat × Nat × Int × Int
abbrev scB (s : Sc) : Nat := s.1
abbrev scA (s : Sc) : Nat := s.2.1
abbrev scK (s : Sc) : Int := s.2.2.1
abbrev scV (s : Sc) : Int := s.2.2.2
def tok (T : List Int) (p : Nat) : Sc :=
  if T.length ≤ skp T p then (skp T p, skp T p, 0, 0)
  else if 97 ≤ bat T (skp T p) ∧ bat T (skp T p) ≤ 122 then (skp T p, ltE T (skp T p), 1, 0)
  else if 48 ≤ bat T (skp T p) ∧ bat T (skp T p) ≤ 57 then (skp T p, fgE T (skp T p), 2, nmV T (skp T p))
  else (skp T p, skp T p + 1, (if bat T (skp T p) = 59 then 3 else if bat T (skp T p) = 61 then 4 else 5), 0)
def ScW (T : List Int) (s : Sc) : Prop := scB s ≤ scA s ∧ scA s ≤ T.length ∧ (0 ≤ scK s ∧ scK s ≤ 5) ∧ (scK s = 1 → scB s < scA s ∧ ∀ j, scB s ≤ j → j < scA s → 97 ≤ bat T j ∧ bat T j ≤ 122)
theorem tok_w {T : List Int} {p : Nat} (hp : p ≤ T.length) : ScW T (tok T p) := by
  have h1 := runA_le (P := fun j => bat T j = 32 ∨ bat T j = 10) (T.length - p) p
  change p ≤ skp T p ∧ skp T p ≤ _ ∧ _ at h1
  have h2 := runA_le (P := fun j => 97 ≤ bat T j ∧ bat T j ≤ 122) (T.length - skp T p) (skp T p)
  change skp T p ≤ ltE T (skp T p) ∧ ltE T (skp T p) ≤ _ ∧ _ at h2
  have h3 := runA_le (P := fun j => 48 ≤ bat T j ∧ bat T j ≤ 57) (T.length - skp T p) (skp T p)
  change skp T p ≤ fgE T (skp T p) ∧ fgE T (skp T p) ≤ _ ∧ _ at h3
  unfold tok
  split
  · exact ⟨Nat.le_refl _, by show skp T p ≤ _; omega, (show (0 : Int) ≤ 0 ∧ (0 : Int) ≤ 5 by decide), fun q => absurd (show (0 : Int) = 1 from q) (by decide)⟩
  split
  · next q1 q2 =>
    refine ⟨by show skp T p ≤ ltE T (skp T p); omega, by show ltE T (skp T p) ≤ _; omega, (show (0 : Int) ≤ 1 ∧ (1 : Int) ≤ 5 by decide), fun _ => ⟨?_, h2.2.2⟩⟩
    show skp T p < ltE T (skp T p)
    have h4 := (ltE_go q2).1
    have h5 := runA_le (P := fun j => 97 ≤ bat T j ∧ bat T j ≤ 122) (T.length - (skp T p + 1)) (skp T p + 1)
    change skp T p + 1 ≤ ltE T (skp T p + 1) ∧ _ at h5
    omega
  split
  · exact ⟨by show skp T p ≤ fgE T (skp T p); omega, by show fgE T (skp T p) ≤ _; omega, (show (0 : Int) ≤ 2 ∧ (2 : Int) ≤ 5 by decide), fun q => absurd (show (2 : Int) = 1 from q) (by decide)⟩
  · refine ⟨by show skp T p ≤ skp T p + 1; omega, by show skp T p + 1 ≤ _; omega, ?_, fun q => ?_⟩
    · show 0 ≤ (if bat T (skp T p) = 59 then (3 : Int) else if bat T (skp T p) = 61 then 4 else 5) ∧ (if bat T (skp T p) = 59 then (3 : Int) else if bat T (skp T p) = 61 then 4 else 5) ≤ 5
      split
      · omega
      split <;> omega
    · exfalso
      revert q
      show (if bat T (skp T p) = 59 then (3 : Int) else if bat T (skp T p) = 61 then 4 else 5) = 1 → False
      split
      · omega
      split <;> omega
/-- a reading: an error (place, code), or the token that is here -/
abbrev Rd : Type := (Nat × Int) ⊕ Sc
def rErr (code : Int) (e : Rd) : Rd := match e with
  | .inl x => .inl x
  | .inr s => .inl (scB s, code)
def rNext (T : List Int) (e : Rd) : Rd := match e with
  | .inl x => .inl x
  | .inr s => .inr (tok T (scA s))
def rMust (T : List Int) (k : Int) (e : Rd) : Rd := match e with
  | .inl x => .inl x
  | .inr s => if scK s = k then .inr (tok T (scA s)) else .inl (scB s, 1)
/-- a number within lo .. hi -/
def rNum (T : List Int) (lo hi : Int) (e : Rd) : Rd × Int := match e with
  | .inl x => (.inl x, lo)
  | .inr s => if scK s = 2 then (if lo ≤ scV s ∧ scV s ≤ hi then (.inr (tok T (scA s)), scV s) else (.inl (scB s, 2), lo)) else (.inl (scB s, 1), lo)
def scL (T : List Int) (s : Sc) : List Int := (List.range (scA s - scB s)).map (fun k => bat T (scB s + k))
/-- the word that is here -/
def rLook (T : List Int) (e : Rd) : Rd × List Int := match e with
  | .inl x => (.inl x, [])
  | .inr s => if scK s = 1 then (if scA s - scB s ≤ 8 then (.inr s, scL T s) else (.inl (scB s, 3), [])) else (.inl (scB s, 1), [])
def rWord (T : List Int) (e : Rd) : Rd × List Int := (rNext T (rLook T e).1, (rLook T e).2)
