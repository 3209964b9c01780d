/-! the catalogue as numbers and lists -/
set_option maxRecDepth 100000
abbrev Rls : Type := List (List Int × List Int)
def r1 (R : Rls) (k : Nat) : List Int := (R.getD k ([], [])).1
def r2 (R : Rls) (k : Nat) : List Int := (R.getD k ([], [])).2
def RlW (R : Rls) : Prop := R.length ≤ 8 ∧ ∀ q ∈ R, (Wrd q.1 ∧ q.1 ≠ []) ∧ Wrd q.2 ∧ q.2 ≠ []
def RlAt (f : Nat → Int) (R : Rls) : Prop := f 3 = (R.length : Int) ∧ (∀ k, k < R.length → f (16 + 2 * k) = enc (r1 R k) ∧ f (16 + 2 * k + 1) = enc (r2 R k)) ∧ RlW R
theorem RlW.at {R : Rls} (h : RlW R) {k : Nat} (hk : k < R.length) : (Wrd (r1 R k) ∧ r1 R k ≠ []) ∧ Wrd (r2 R k) ∧ r2 R k ≠ [] := by
  have e : R.getD k ([], []) = R[k] := by simp [hk]
  unfold r1 r2
  rw [e]
  exact h.2 _ (List.getElem_mem hk)
def rlF (R : Rls) (L : List Int) : Int := fstN (fun k => r1 R k = L) R.length
theorem fstN_r (P : Nat → Prop) [DecidablePred P] (n : Nat) : -1 ≤ fstN P n ∧ (fstN P n : Int) < n := by
  rcases fstN_cases P n with ⟨e, _⟩ | ⟨k, hk, e, _⟩ <;> rw [e] <;> omega
/-- a word as it is spoken -/
def spk (R : Rls) (L : List Int) : List Int := if rlF R L = -1 then L else r2 R (rlF R L).toNat
theorem spk_w {R : Rls} {L : List Int} (hR : RlW R) (h : Wrd L ∧ L ≠ []) : Wrd (spk R L) ∧ spk R L ≠ [] := by
  unfold spk
  split
  · exact h
  · next q =>
    have a := fstN_r (fun k => r1 R k = L) R.length
    exact (hR.at (by unfold rlF at *; omega)).2
/-- parts: a number or a word -/
abbrev Prt : Type := Int ⊕ List Int
def encP (x : Prt) : Int := match x with
  | .inl n => n
  | .inr L => enc L
def PrtW (x : Prt) : Prop := match x with
  | .inl n => 0 ≤ n ∧ n ≤ 99999
  | .inr L => Wrd L ∧ L ≠ []
def earP (R : Rls) (x : Prt) : Prt := match x with
  | .inl n => .inl n
  | .inr L => .inr (earL (spk R L))
theorem encP_r {x : Prt} (h : PrtW x) : 0 ≤ encP x ∧ encP x < 282430536481 := by
  cases x with
  | inl n => exact ⟨h.1, by have := h.2; show n < _; omega⟩
  | inr L => have := enc_r h.1.2; exact ⟨by show 0 ≤ enc L; omega, this.2⟩
theorem earP_w {R : Rls} {x : Prt} (hR : RlW R) (h : PrtW x) : PrtW (earP R x) := by
  cases x with
  | inl n => exact h
  | inr L => exact ⟨wrd_ear (spk_w hR h).1, ear_ne (spk_w hR h).2⟩
theorem encP_inj {x y : Prt} (hx : PrtW x) (hy : PrtW y) (h : encP x = encP y) : x = y := by
  cases x with
  | inl n => cases y with
    | inl k => exact congrArg Sum.inl h
    | inr L => exact absurd h (by have := enc_r hy.1.2; have := hx.2; show ¬ n = enc L; omega)
  | inr L => cases y with
    | inl k => exact absurd h (by have := enc_r hx.1.2; have := hy.2; show ¬ enc L = k; omega)
    | inr M => exact congrArg Sum.inr (enc_inj hx.1 hy.1 h)
/-! marks: id, parts, width, place; a catalogue: shelves, room, bounds, marks, rules, accounts, next id -/
abbrev Mrk : Type := Int × List Prt × Int × Int
abbrev mId (m : Mrk) : Int := m.1
abbrev mPs (m : Mrk) : List Prt := m.2.1
abbrev mWd (m : Mrk) : Int := m.2.2.1
abbrev mPl (m : Mrk) : Int := m.2.2.2
abbrev Cat : Type := Int × Int × List Int × List Mrk × Rls × (Nat → Int) × Int
abbrev cSh (c : Cat) : Int := c.1
abbrev cRm (c : Cat) : Int := c.2.1
abbrev cBd (c : Cat) : List Int := c.2.2.1
abbrev cMk (c : Cat) : List Mrk := c.2.2.2.1
abbrev cRl (c : Cat) : Rls := c.2.2.2.2.1
abbrev cAc (c : Cat) : Nat → Int := c.2.2.2.2.2.1
abbrev cNx (c : Cat) : Int := c.2.2.2.2.2.2
abbrev cN (c : Cat) : Nat := (cMk c).length
def mrk0 : Mrk := (0, [], 0, 0)
def mk (c : Cat) (k : Nat) : Mrk := (cMk c).getD k mrk0
def bd (c : Cat) (s : Nat) : Int := (cBd c).getD s 0
theorem mk_lt {c : Cat} {k : Nat} (h : k < cN c) : mk c k = (cMk c)[k] := by simp [mk, h]
/-! keys and order -/
def earK (R : Rls) (p : List Prt) : List Int := p.map (fun x => encP (earP R x))
def letK (p : List Prt) : List Int := p.map encP
def cmpL : List Int → List Int → Int
  | [], [] => 0
  | [], _ :: _ => -1
  | _ :: _, [] => 1
  | x :: xs, y :: ys => if x = y then cmpL xs ys else if x < y then -1 else 1
def cmpM (R : Rls) (p q : List Prt) : Int := if cmpL (earK R p) (earK R q) = 0 then cmpL (letK p) (letK q) else cmpL (earK R p) (earK R q)
def dfK : Int → List Int → List Int → Int
  | _, [], [] => -1
  | k, [], _ :: _ => k
  | k, _ :: _, [] => k
  | k, x :: xs, y :: ys => if x = y then dfK (k + 1) xs ys else k
def difM (R : Rls) (p q : List Prt) : Int := dfK 0 (earK R p) (earK R q)
theorem cmpL_r (x y : List Int) : -1 ≤ cmpL x y ∧ cmpL x y ≤ 1 := by
  induction x generalizing y with
  | nil => cases y <;> simp [cmpL]
  | cons a x ih => cases y with
    | nil => simp [cmpL]
    | cons b y => unfold cmpL; split; exact ih y; split <;> omega
theorem cmpM_r (R : Rls) (p q : List Prt) : -1 ≤ cmpM R p q ∧ cmpM R p q ≤ 1 := by unfold cmpM; split <;> exact cmpL_r _ _
/-! places -/
def plA (c : Cat) (r : Int) : Int := if r < 0 then -1 else if r < (cN c : Int) then mPl (mk c r.toNat) else 10000
def tight (c : Cat) (r : Int) : Prop := plA c r - plA c (r - 1) < 2
def spc (r n : Int) : Int := (r + 1) * 10000 / (n + 1)
def plF (c : Cat) (r : Int) : Int := if plA c r - plA c (r - 1) < 2 then spc r (cN c + 1) else (plA c r + plA c (r - 1)) / 2
def mvN (c : Cat) (r : Int) : Int := sumN (fun k => b2i (mPl (mk c k) ≠ spc (if (k : Int) < r then k else k + 1) (cN c + 1))) (cN c)
def rkF (c : Cat) (p : List Prt) : Nat := runN (fun k => cmpM (cRl c) (mPs (mk c k)) p < 0) (cN c)
def rkOf (c : Cat) (id : Int) : Int := fstN (fun k => mId (mk c k) = id) (cN c)
/-! shelves -/
def bdX (c : Cat) (s : Int) : Int := if cSh c ≤ s then 10000 else bd c s.toNat
def isOn (c : Cat) (k : Nat) (s : Int) : Prop := bdX c s ≤ mPl (mk c k) ∧ mPl (mk c k) < bdX c (s + 1)
def onB (c : Cat) (k : Nat) (s : Int) : Bool := decide (bdX c s ≤ mPl (mk c k)) && decide (mPl (mk c k) < bdX c (s + 1))
theorem onB_iff (c : Cat) (k : Nat) (s : Int) : onB c k s = true ↔ isOn c k s := by simp [onB, isOn]
def wdOn (c : Cat) (s : Int) : Int := sumN (fun k => if onB c k s = true then mWd (mk c k) else 0) (cN c)
def mkOn (c : Cat) (s : Int) : Int := sumN (fun k => b2i (onB c k s = true)) (cN c)
def ovr (c : Cat) : Int := sumN (fun s => b2i (cRm c < wdOn c s)) (cSh c).toNat
def wds (c : Cat) : Int := sumN (fun k => mWd (mk c k)) (cN c)
def lsT (c : Cat) : Nat → Int
  | 0 => 0
  | k + 1 => if lsT c k = 0 ∨ mPl (mk c (k + 1)) - mPl (mk c k) < lsT c k then mPl (mk c (k + 1)) - mPl (mk c k) else lsT c k
def endA (c : Cat) (s : Int) (last : Prop) [Decidable last] : Nat → Int
  | 0 => -1
  | k + 1 => if onB c k s = true ∧ (last ∨ endA c s last k = -1) then mId (mk c k) else endA c s last k
def gapN (c : Cat) : Int := sumN (fun k => b2i (mPl (mk c (k + 1)) ≤ mPl (mk c k) ∨ 0 ≤ cmpM (cRl c) (mPs (mk c k)) (mPs (mk c (k + 1))))) (cN c - 1) + sumN (fun s => b2i (bd c (s + 1) < bd c s)) ((cSh c).toNat - 1)
def alkN (c : Cat) : Int := sumN (fun a => sumN (fun i => b2i (difM (cRl c) (mPs (mk c a)) (mPs (mk c (a + 1 + i))) = -1)) (cN c - (a + 1))) (cN c)
/-! what holds of a catalogue -/
def MrkW (m : Mrk) : Prop := (1 ≤ mId m ∧ mId m < 1000000) ∧ (1 ≤ (mPs m).length ∧ (mPs m).length ≤ 5 ∧ ∀ x ∈ mPs m, PrtW x) ∧ (1 ≤ mWd m ∧ mWd m ≤ 20) ∧ 0 ≤ mPl m ∧ mPl m < 10000
/-- the shape alone -/
def CatS (c : Cat) : Prop := (1 ≤ cSh c ∧ cSh c ≤ 8) ∧ (10 ≤ cRm c ∧ cRm c ≤ 999) ∧ ((cBd c).length = (cSh c).toNat ∧ ∀ s, s < (cBd c).length → 0 ≤ bd c s ∧ bd c s ≤ 10000) ∧ (cN c ≤ 40 ∧ ∀ k, k < cN c → MrkW (mk c k)) ∧ RlW (cRl c) ∧ (∀ k, k < 3 → 0 ≤ cAc c k ∧ cAc c k < 1000000) ∧ 1 ≤ cNx c ∧ cNx c < 1000000
/-- the whole: places rise, marks are in order, bounds rise from 0 -/
def CatW (c : Cat) : Prop := CatS c ∧ (∀ k, k + 1 < cN c → mPl (mk c k) < mPl (mk c (k + 1))) ∧ (∀ k, k + 1 < cN c → cmpM (cRl c) (mPs (mk c k)) (mPs (mk c (k + 1))) < 0) ∧ bd c 0 = 0 ∧ ∀ s, s + 1 < (cBd c).length → bd c s ≤ bd c (s + 1)
