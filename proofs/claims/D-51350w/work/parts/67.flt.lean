/-! floats: what is no NaN -/
set_option maxRecDepth 100000
def okD (f : FP.Core.Fmt) (d : FP.Core.Datum) : Prop := match d with
  | .nan => False
  | .inf _ => True
  | .fin _ c q => c < 2 ^ f.p ∧ f.qmin ≤ q ∧ q ≤ f.qmax
theorem settle_ok {f : FP.Core.Fmt} (ht : f.tails < 2 ^ f.p) (s : Bool) (c : Nat) {q : Int} (hq : f.qmin ≤ q) : okD f (FP.Core.settle f s c q) := by
  unfold FP.Core.settle
  split
  · next h =>
    unfold FP.Core.bound
    split
    · next h2 => exact ⟨h, hq, h2⟩
    · trivial
  · unfold FP.Core.bound
    split
    · next h2 => exact ⟨ht, by omega, h2⟩
    · trivial
theorem ratio_ok {f : FP.Core.Fmt} (ht : f.tails < 2 ^ f.p) (hm : f.qmin ≤ f.qmax) (s : Bool) (num den : Nat) (e : Int) : okD f (FP.Core.roundRatio f s num den e) := by
  unfold FP.Core.roundRatio
  split
  · exact ⟨Nat.two_pow_pos _, Int.le_refl _, hm⟩
  · exact settle_ok ht s _ (Int.le_max_left _ _)
/-- a float's fields -/
def fldF (n : Nat) (e t : Nat) : Prop := ∃ s : Nat, s ≤ 1 ∧ n = (s * 256 + e) * 8388608 + t ∧ t < 8388608 ∧ (e ≤ 254 ∨ e = 255 ∧ t = 0)
def fldD (n : Nat) (e t : Nat) : Prop := ∃ s : Nat, s ≤ 1 ∧ n = (s * 2048 + e) * 4503599627370496 + t ∧ t < 4503599627370496 ∧ (e ≤ 2046 ∨ e = 2047 ∧ t = 0)
theorem b2n (s : Bool) : s.toNat ≤ 1 := by cases s <;> decide
theorem enc32 {d : FP.Core.Datum} (h : okD FP.Core.b32 d) : ∃ e t, fldF (FP.Core.encode FP.Core.b32 d) e t ∧ (∀ s c q, d = .fin s c q → e ≤ 254 ∧ (c ≠ 0 → e ≠ 0 ∨ t ≠ 0)) := by
  cases d with
  | nan => exact absurd h id
  | inf s => exact ⟨255, 0, ⟨s.toNat, b2n s, rfl, by decide, Or.inr ⟨rfl, rfl⟩⟩, fun s c q h => by cases h⟩
  | fin s c q =>
    obtain ⟨h1, h2, h3⟩ := h
    have e1 : (2 ^ FP.Core.b32.p : Nat) = 16777216 := rfl
    have e2 : FP.Core.b32.qmin = -149 := rfl
    have e3 : FP.Core.b32.qmax = 104 := rfl
    rw [e1] at h1
    rw [e2] at h2
    rw [e3] at h3
    by_cases hc : c < 8388608
    · have e : FP.Core.encode FP.Core.b32 (.fin s c q) = FP.Core.assemble FP.Core.b32 s 0 c := if_pos hc
      rw [e]
      refine ⟨0, c, ⟨s.toNat, b2n s, rfl, hc, Or.inl (by decide)⟩, fun s1 c1 q1 hz => ?_⟩
      cases hz
      exact ⟨by decide, fun z => Or.inr z⟩
    · have e : FP.Core.encode FP.Core.b32 (.fin s c q) = FP.Core.assemble FP.Core.b32 s ((q - -149).toNat + 1) (c - 8388608) := if_neg hc
      rw [e]
      refine ⟨(q - -149).toNat + 1, c - 8388608, ⟨s.toNat, b2n s, rfl, by omega, Or.inl (by omega)⟩, fun s1 c1 q1 hz => ?_⟩
      cases hz
      exact ⟨by omega, fun z => Or.inl (by omega)⟩
theorem enc64 {d : FP.Core.Datum} (h : okD FP.Core.b64 d) : ∃ e t, fldD (FP.Core.encode FP.Core.b64 d) e t ∧ (∀ s c q, d = .fin s c q → e ≤ 2046 ∧ (c ≠ 0 → e ≠ 0 ∨ t ≠ 0)) := by
  cases d with
  | nan => exact absurd h id
  | inf s => exact ⟨2047, 0, ⟨s.toNat, b2n s, rfl, by decide, Or.inr ⟨rfl, rfl⟩⟩, fun s c q h => by cases h⟩
  | fin s c q =>
    obtain ⟨h1, h2, h3⟩ := h
    have e1 : (2 ^ FP.Core.b64.p : Nat) = 9007199254740992 := rfl
    have e2 : FP.Core.b64.qmin = -1074 := rfl
    have e3 : FP.Core.b64.qmax = 971 := rfl
    rw [e1] at h1
    rw [e2] at h2
    rw [e3] at h3
    by_cases hc : c < 4503599627370496
    · have e : FP.Core.encode FP.Core.b64 (.fin s c q) = FP.Core.assemble FP.Core.b64 s 0 c := if_pos hc
      rw [e]
      refine ⟨0, c, ⟨s.toNat, b2n s, rfl, hc, Or.inl (by decide)⟩, fun s1 c1 q1 hz => ?_⟩
      cases hz
      exact ⟨by decide, fun z => Or.inr z⟩
    · have e : FP.Core.encode FP.Core.b64 (.fin s c q) = FP.Core.assemble FP.Core.b64 s ((q - -1074).toNat + 1) (c - 4503599627370496) := if_neg hc
      rw [e]
      refine ⟨(q - -1074).toNat + 1, c - 4503599627370496, ⟨s.toNat, b2n s, rfl, by omega, Or.inl (by omega)⟩, fun s1 c1 q1 hz => ?_⟩
      cases hz
      exact ⟨by omega, fun z => Or.inl (by omega)⟩
theorem fldF_lt {n e t : Nat} (h : fldF n e t) : n < 4294967296 := by obtain ⟨s, h1, h2, h3, h4⟩ := h; omega
theorem fldD_lt {n e t : Nat} (h : fldD n e t) : n < 18446744073709551616 := by obtain ⟨s, h1, h2, h3, h4⟩ := h; omega
theorem dec32 {n e t : Nat} (h : fldF n e t) : okD FP.Core.b32 (FP.Core.decode FP.Core.b32 n) ∧ (e ≤ 254 → (e ≠ 0 ∨ t ≠ 0) → ∃ s c q, FP.Core.decode FP.Core.b32 n = .fin s c q ∧ c ≠ 0) ∧ (e ≤ 254 → ∃ s c q, FP.Core.decode FP.Core.b32 n = .fin s c q) := by
  obtain ⟨s, h1, h2, h3, h4⟩ := h
  have eT : FP.Core.fieldT FP.Core.b32 n = t := by show n % 8388608 = t; omega
  have eE : FP.Core.fieldE FP.Core.b32 n = e := by show n / 8388608 % 256 = e; omega
  unfold FP.Core.decode
  rw [eT, eE]
  have eX : FP.Core.b32.exps - 1 = 255 := rfl
  rw [eX]
  by_cases q1 : e = 255
  · rw [if_pos q1]
    have ht : t = 0 := by omega
    rw [if_pos ht]
    exact ⟨trivial, fun z => by omega, fun z => by omega⟩
  · rw [if_neg q1]
    by_cases q2 : e = 0
    · rw [if_pos q2]
      exact ⟨⟨by show t < 16777216; omega, Int.le_refl _, by decide⟩, fun _ z => ⟨_, _, _, rfl, by omega⟩, fun _ => ⟨_, _, _, rfl⟩⟩
    · rw [if_neg q2]
      refine ⟨⟨by show 8388608 + t < 16777216; omega, by show (-149 : Int) ≤ -149 + ((e : Int) - 1); omega, by show (-149 : Int) + ((e : Int) - 1) ≤ 104; omega⟩, fun _ _ => ⟨_, _, _, rfl, by show 8388608 + t ≠ 0; omega⟩, fun _ => ⟨_, _, _, rfl⟩⟩
theorem dec64 {n e t : Nat} (h : fldD n e t) : okD FP.Core.b64 (FP.Core.decode FP.Core.b64 n) ∧ (e ≤ 2046 → (e ≠ 0 ∨ t ≠ 0) → ∃ s c q, FP.Core.decode FP.Core.b64 n = .fin s c q ∧ c ≠ 0) ∧ (e ≤ 2046 → ∃ s c q, FP.Core.decode FP.Core.b64 n = .fin s c q) := by
  obtain ⟨s, h1, h2, h3, h4⟩ := h
  have eT : FP.Core.fieldT FP.Core.b64 n = t := by show n % 4503599627370496 = t; omega
  have eE : FP.Core.fieldE FP.Core.b64 n = e := by show n / 4503599627370496 % 2048 = e; omega
  unfold FP.Core.decode
  rw [eT, eE]
  have eX : FP.Core.b64.exps - 1 = 2047 := rfl
  rw [eX]
  by_cases q1 : e = 2047
  · rw [if_pos q1]
    have ht : t = 0 := by omega
    rw [if_pos ht]
    exact ⟨trivial, fun z => by omega, fun z => by omega⟩
  · rw [if_neg q1]
    by_cases q2 : e = 0
    · rw [if_pos q2]
      exact ⟨⟨by show t < 9007199254740992; omega, Int.le_refl _, by decide⟩, fun _ z => ⟨_, _, _, rfl, by omega⟩, fun _ => ⟨_, _, _, rfl⟩⟩
    · rw [if_neg q2]
      refine ⟨⟨by show 4503599627370496 + t < 9007199254740992; omega, by show (-1074 : Int) ≤ -1074 + ((e : Int) - 1); omega, by show (-1074 : Int) + ((e : Int) - 1) ≤ 971; omega⟩, fun _ _ => ⟨_, _, _, rfl, by show 4503599627370496 + t ≠ 0; omega⟩, fun _ => ⟨_, _, _, rfl⟩⟩
theorem n32_f {n e t : Nat} (h : fldF n e t) : vf_n32 (UInt32.ofNat n) := by
  have hl := fldF_lt h
  obtain ⟨s, h1, h2, h3, h4⟩ := h
  unfold vf_n32
  rw [UInt32.le_iff_toNat_le, UInt32.toNat_and, UInt32.toNat_ofNat', Nat.mod_eq_of_lt hl, show UInt32.toNat 2147483647 = 2 ^ 31 - 1 by decide, Nat.and_two_pow_sub_one_eq_mod]
  show n % 2147483648 ≤ 2139095040
  omega
theorem n64_f {n e t : Nat} (h : fldD n e t) : vf_n64 (UInt64.ofNat n) := by
  have hl := fldD_lt h
  obtain ⟨s, h1, h2, h3, h4⟩ := h
  unfold vf_n64
  rw [UInt64.le_iff_toNat_le, UInt64.toNat_and, UInt64.toNat_ofNat', Nat.mod_eq_of_lt hl, show UInt64.toNat 9223372036854775807 = 2 ^ 63 - 1 by decide, Nat.and_two_pow_sub_one_eq_mod]
  show n % 9223372036854775808 ≤ 9218868437227405312
  omega
theorem near_ne {num : Nat} (h : num ≠ 0) {q : Int} (hq : q ≤ 0) : FP.Core.nearest (FP.Core.unitsNum num 0 q) (FP.Core.unitsDen 1 0 q) ≠ 0 := by
  have e1 : FP.Core.unitsDen 1 0 q = 1 := by unfold FP.Core.unitsDen; rw [show (q - 0).toNat = 0 by omega]
  rw [e1]
  have hp : FP.Core.unitsNum num 0 q ≠ 0 := by
    unfold FP.Core.unitsNum
    exact Nat.mul_ne_zero h (Nat.ne_of_gt (Nat.two_pow_pos _))
  unfold FP.Core.nearest
  rw [Nat.mod_one, if_pos (by decide), Nat.div_one]
  exact hp
theorem lead_le {num : Nat} (h0 : num ≠ 0) (h : num < 16777216) : FP.Core.leading num 1 ≤ 23 := by
  have hl : num.log2 ≤ 23 := by
    have := (Nat.log2_lt h0).mpr (show num < 2 ^ 24 from h)
    omega
  unfold FP.Core.leading
  have e : Nat.log2 1 = 0 := by decide
  rw [e]
  dsimp only
  split <;> omega
/-- an int that is no great one, as a float: its datum is a number, and is 0 for 0 alone -/
theorem i2f_dat {z : Int} (h : -16777216 < z ∧ z < 16777216) : ∃ s c q, FP.Core.decode FP.Core.b32 (FP.i2f (iI z)).toNat = .fin s c q ∧ (z ≠ 0 → c ≠ 0) := by
  have hz : (iI z).toInt = z := iI_T ⟨by omega, by omega⟩
  have hd : okD FP.Core.b32 (FP.Core.round FP.Core.b32 (FP.Core.ofInt z)) := ratio_ok (f := FP.Core.b32) (by decide) (by decide) _ _ _ _
  obtain ⟨e, t, hf, hc⟩ := enc32 hd
  have hn : (FP.i2f (iI z)).toNat = FP.Core.encode FP.Core.b32 (FP.Core.round FP.Core.b32 (FP.Core.ofInt z)) := by
    show (UInt32.ofNat (FP.Core.fromInt FP.Core.b32 (iI z).toInt)).toNat = _
    rw [hz, UInt32.toNat_ofNat']
    exact Nat.mod_eq_of_lt (fldF_lt hf)
  rw [hn]
  have hfin : ∃ s c q, FP.Core.round FP.Core.b32 (FP.Core.ofInt z) = .fin s c q ∧ (z ≠ 0 → c ≠ 0) := by
    show ∃ s c q, FP.Core.roundRatio FP.Core.b32 (decide (z < 0)) z.natAbs 1 0 = .fin s c q ∧ (z ≠ 0 → c ≠ 0)
    unfold FP.Core.roundRatio
    by_cases h0 : z.natAbs = 0
    · rw [if_pos h0]; exact ⟨_, _, _, rfl, fun q => absurd h0 (by omega)⟩
    · rw [if_neg h0]
      have hle := lead_le h0 (by omega)
      have hq : FP.Core.quantum FP.Core.b32 z.natAbs 1 0 ≤ 0 := by
        unfold FP.Core.quantum
        show max (-149) (FP.Core.leading z.natAbs 1 + 0 - (24 - 1)) ≤ 0
        omega
      have hqm : (-149 : Int) ≤ FP.Core.quantum FP.Core.b32 z.natAbs 1 0 := Int.le_max_left _ _
      have hne := near_ne h0 hq
      unfold FP.Core.roundAt FP.Core.settle
      split
      · unfold FP.Core.bound; rw [if_pos (by show _ ≤ (104 : Int); omega)]; exact ⟨_, _, _, rfl, fun _ => hne⟩
      · unfold FP.Core.bound; rw [if_pos (by show _ ≤ (104 : Int); omega)]; exact ⟨_, _, _, rfl, fun _ => by decide⟩
  obtain ⟨s, c, q, hs, h0⟩ := hfin
  obtain ⟨he, hne⟩ := hc s c q hs
  obtain ⟨-, d2, d3⟩ := dec32 hf
  by_cases hz0 : z = 0
  · obtain ⟨s1, c1, q1, k1⟩ := d3 he
    exact ⟨s1, c1, q1, k1, fun q => absurd hz0 q⟩
  · obtain ⟨s1, c1, q1, k1, k2⟩ := d2 he (hne (h0 hz0))
    exact ⟨s1, c1, q1, k1, fun _ => k2⟩
theorem i2d_dat {z : Int} (h : -16777216 < z ∧ z < 16777216) : ∃ s c q, FP.Core.decode FP.Core.b64 (FP.i2d (iI z)).toNat = .fin s c q ∧ (z ≠ 0 → c ≠ 0) := by
  have hz : (iI z).toInt = z := iI_T ⟨by omega, by omega⟩
  have hd : okD FP.Core.b64 (FP.Core.round FP.Core.b64 (FP.Core.ofInt z)) := ratio_ok (f := FP.Core.b64) (by decide) (by decide) _ _ _ _
  obtain ⟨e, t, hf, hc⟩ := enc64 hd
  have hn : (FP.i2d (iI z)).toNat = FP.Core.encode FP.Core.b64 (FP.Core.round FP.Core.b64 (FP.Core.ofInt z)) := by
    show (UInt64.ofNat (FP.Core.fromInt FP.Core.b64 (iI z).toInt)).toNat = _
    rw [hz, UInt64.toNat_ofNat']
    exact Nat.mod_eq_of_lt (fldD_lt hf)
  rw [hn]
  have hfin : ∃ s c q, FP.Core.round FP.Core.b64 (FP.Core.ofInt z) = .fin s c q ∧ (z ≠ 0 → c ≠ 0) := by
    show ∃ s c q, FP.Core.roundRatio FP.Core.b64 (decide (z < 0)) z.natAbs 1 0 = .fin s c q ∧ (z ≠ 0 → c ≠ 0)
    unfold FP.Core.roundRatio
    by_cases h0 : z.natAbs = 0
    · rw [if_pos h0]; exact ⟨_, _, _, rfl, fun q => absurd h0 (by omega)⟩
    · rw [if_neg h0]
      have hle := lead_le h0 (by omega)
      have hq : FP.Core.quantum FP.Core.b64 z.natAbs 1 0 ≤ 0 := by
        unfold FP.Core.quantum
        show max (-1074) (FP.Core.leading z.natAbs 1 + 0 - (53 - 1)) ≤ 0
        omega
      have hqm : (-1074 : Int) ≤ FP.Core.quantum FP.Core.b64 z.natAbs 1 0 := Int.le_max_left _ _
      have hne := near_ne h0 hq
      unfold FP.Core.roundAt FP.Core.settle
      split
      · unfold FP.Core.bound; rw [if_pos (by show _ ≤ (971 : Int); omega)]; exact ⟨_, _, _, rfl, fun _ => hne⟩
      · unfold FP.Core.bound; rw [if_pos (by show _ ≤ (971 : Int); omega)]; exact ⟨_, _, _, rfl, fun _ => by decide⟩
  obtain ⟨s, c, q, hs, h0⟩ := hfin
  obtain ⟨he, hne⟩ := hc s c q hs
  obtain ⟨-, d2, d3⟩ := dec64 hf
  by_cases hz0 : z = 0
  · obtain ⟨s1, c1, q1, k1⟩ := d3 he
    exact ⟨s1, c1, q1, k1, fun q => absurd hz0 q⟩
  · obtain ⟨s1, c1, q1, k1, k2⟩ := d2 he (hne (h0 hz0))
    exact ⟨s1, c1, q1, k1, fun _ => k2⟩
/-- a quotient of two such -/
theorem fdiv_fld {x y : Int} (hx : -16777216 < x ∧ x < 16777216) (hy : -16777216 < y ∧ y < 16777216) (h0 : y ≠ 0) : ∃ n e t, FP.fdiv (FP.i2f (iI x)) (FP.i2f (iI y)) = UInt32.ofNat n ∧ fldF n e t := by
  obtain ⟨s1, c1, q1, d1, -⟩ := i2f_dat hx
  obtain ⟨s2, c2, q2, d2, k2⟩ := i2f_dat hy
  have hok : okD FP.Core.b32 (FP.Core.quotient FP.Core.b32 (FP.Core.decode FP.Core.b32 (FP.i2f (iI x)).toNat) (FP.Core.decode FP.Core.b32 (FP.i2f (iI y)).toNat)) := by
    rw [d1, d2]
    unfold FP.Core.quotient
    dsimp only
    rw [if_neg (k2 h0)]
    exact ratio_ok (f := FP.Core.b32) (by decide) (by decide) _ _ _ _
  obtain ⟨e, t, hf, -⟩ := enc32 hok
  exact ⟨_, e, t, rfl, hf⟩
theorem ddiv_fld {x y : Int} (hx : -16777216 < x ∧ x < 16777216) (hy : -16777216 < y ∧ y < 16777216) (h0 : y ≠ 0) : ∃ n e t, FP.ddiv (FP.i2d (iI x)) (FP.i2d (iI y)) = UInt64.ofNat n ∧ fldD n e t := by
  obtain ⟨s1, c1, q1, d1, -⟩ := i2d_dat hx
  obtain ⟨s2, c2, q2, d2, k2⟩ := i2d_dat hy
  have hok : okD FP.Core.b64 (FP.Core.quotient FP.Core.b64 (FP.Core.decode FP.Core.b64 (FP.i2d (iI x)).toNat) (FP.Core.decode FP.Core.b64 (FP.i2d (iI y)).toNat)) := by
    rw [d1, d2]
    unfold FP.Core.quotient
    dsimp only
    rw [if_neg (k2 h0)]
    exact ratio_ok (f := FP.Core.b64) (by decide) (by decide) _ _ _ _
  obtain ⟨e, t, hf, -⟩ := enc64 hok
  exact ⟨_, e, t, rfl, hf⟩
theorem fdiv_nn {x y : Int} (hx : -16777216 < x ∧ x < 16777216) (hy : -16777216 < y ∧ y < 16777216) (h0 : y ≠ 0) : vf_n32 (FP.fdiv (FP.i2f (iI x)) (FP.i2f (iI y))) := by
  obtain ⟨n, e, t, h1, h2⟩ := fdiv_fld hx hy h0
  rw [h1]; exact n32_f h2
theorem ddiv_nn {x y : Int} (hx : -16777216 < x ∧ x < 16777216) (hy : -16777216 < y ∧ y < 16777216) (h0 : y ≠ 0) : vf_n64 (FP.ddiv (FP.i2d (iI x)) (FP.i2d (iI y))) := by
  obtain ⟨n, e, t, h1, h2⟩ := ddiv_fld hx hy h0
  rw [h1]; exact n64_f h2
theorem cmpI_self (a : Int) : compare a a = Ordering.eq := by simp [compare, compareOfLessAndEq]
/-- a float that is no NaN: as a double it is none, and it is equal to itself -/
def NnF (r : UInt32) : Prop := ∃ n e t, r = UInt32.ofNat n ∧ fldF n e t
def NnD (r : UInt64) : Prop := ∃ n e t, r = UInt64.ofNat n ∧ fldD n e t
theorem NnF.dec {r : UInt32} (h : NnF r) : okD FP.Core.b32 (FP.Core.decode FP.Core.b32 r.toNat) := by
  obtain ⟨n, e, t, h1, h2⟩ := h
  rw [h1, UInt32.toNat_ofNat', Nat.mod_eq_of_lt (fldF_lt h2)]
  exact (dec32 h2).1
theorem NnD.dec {r : UInt64} (h : NnD r) : okD FP.Core.b64 (FP.Core.decode FP.Core.b64 r.toNat) := by
  obtain ⟨n, e, t, h1, h2⟩ := h
  rw [h1, UInt64.toNat_ofNat', Nat.mod_eq_of_lt (fldD_lt h2)]
  exact (dec64 h2).1
theorem NnF.d {r : UInt32} (h : NnF r) : NnD (FP.f2d r) := by
  have hd := h.dec
  have hn : FP.Core.fIsNaN r = false := by
    show decide (FP.Core.decode FP.Core.b32 r.toNat = .nan) = false
    refine decide_eq_false (fun q => ?_)
    rw [q] at hd; exact hd
  have e : FP.f2d r = FP.Core.f2d r := by unfold FP.f2d; rw [hn]; rfl
  rw [e]
  have hok : okD FP.Core.b64 (FP.Core.round FP.Core.b64 (FP.Core.decode FP.Core.b32 r.toNat)) := by
    cases hq : FP.Core.decode FP.Core.b32 r.toNat with
    | nan => rw [hq] at hd; exact hd
    | inf s => trivial
    | fin s c q => exact ratio_ok (f := FP.Core.b64) (by decide) (by decide) _ _ _ _
  obtain ⟨e, t, hf, -⟩ := enc64 hok
  exact ⟨_, e, t, rfl, hf⟩
theorem NnD.n {r : UInt64} (h : NnD r) : vf_n64 r := by
  obtain ⟨n, e, t, h1, h2⟩ := h
  rw [h1]; exact n64_f h2
theorem NnD.eq {r : UInt64} (h : NnD r) : FP.dcmp r r = some .eq := by
  have hd := h.dec
  show FP.Core.order (FP.Core.decode FP.Core.b64 r.toNat) (FP.Core.decode FP.Core.b64 r.toNat) = some .eq
  cases hq : FP.Core.decode FP.Core.b64 r.toNat with
  | nan => rw [hq] at hd; exact absurd hd id
  | inf s => show some (compare _ _) = some Ordering.eq; rw [cmpI_self]
  | fin s c q => show some (compare _ _) = some Ordering.eq; rw [cmpI_self]
def qFil (c : Cat) (s : Int) : UInt32 := if 0 ≤ s ∧ s < cSh c then FP.fdiv (FP.i2f (iI (wdOn c s))) (FP.i2f (iI (cRm c))) else FP.fconst0
def qMea (c : Cat) : UInt64 := if cAc c 0 = 0 then FP.dconst0 else FP.ddiv (FP.i2d (iI (cAc c 2))) (FP.i2d (iI (cAc c 0)))
theorem qFil_n {c : Cat} (h : CatS c) (s : Int) : NnF (qFil c s) := by
  unfold qFil
  split
  · have h1 := wdOn_r h s
    have h2 := h.2.1
    exact fdiv_fld ⟨by omega, by omega⟩ ⟨by omega, by omega⟩ (by omega)
  · exact ⟨0, 0, 0, rfl, ⟨0, by decide, rfl, by decide, Or.inl (by decide)⟩⟩
theorem qMea_n {c : Cat} (h : CatS c) : NnD (qMea c) := by
  have h0 := h.2.2.2.2.2.1 0 (by decide)
  have h2 := h.2.2.2.2.2.1 2 (by decide)
  unfold qMea
  split
  · exact ⟨0, 0, 0, rfl, ⟨0, by decide, rfl, by decide, Or.inl (by decide)⟩⟩
  · next q => exact ddiv_fld ⟨by omega, by omega⟩ ⟨by omega, by omega⟩ q
