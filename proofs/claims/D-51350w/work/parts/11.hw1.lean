/-! HW: the heap as an abstract map; rows over it. Numbers are iI z, lI z of mathematical integers. -/
set_option maxRecDepth 100000
def iI (z : Int) : Int32 := Int32.ofInt z
def lI (z : Int) : Int64 := Int64.ofInt z
theorem iI_add (a b : Int) : iI a + iI b = iI (a + b) := (Int32.ofInt_add a b).symm
theorem iI_sub (a b : Int) : iI a - iI b = iI (a - b) := (Int32.ofInt_sub a b).symm
theorem iI_mul (a b : Int) : iI a * iI b = iI (a * b) := (Int32.ofInt_mul a b).symm
theorem iI_neg (a : Int) : -iI a = iI (-a) := (Int32.ofInt_neg a).symm
theorem lI_add (a b : Int) : lI a + lI b = lI (a + b) := (Int64.ofInt_add a b).symm
theorem lI_sub (a b : Int) : lI a - lI b = lI (a - b) := (Int64.ofInt_sub a b).symm
theorem lI_mul (a b : Int) : lI a * lI b = lI (a * b) := (Int64.ofInt_mul a b).symm
theorem lI_neg (a : Int) : -lI a = lI (-a) := (Int64.ofInt_neg a).symm
abbrev R32 (z : Int) : Prop := -2147483648 ≤ z ∧ z < 2147483648
abbrev R64 (z : Int) : Prop := -9223372036854775808 ≤ z ∧ z < 9223372036854775808
theorem iI_T {z : Int} (h : R32 z) : (iI z).toInt = z := Int32.toInt_ofInt_of_le (by have := h.1; omega) (by have := h.2; omega)
theorem lI_T {z : Int} (h : R64 z) : (lI z).toInt = z := Int64.toInt_ofInt_of_le (by have := h.1; omega) (by have := h.2; omega)
theorem iI_toInt (x : Int32) : iI x.toInt = x := Int32.toInt_inj.mp (iI_T ⟨by have := Int32.le_toInt x; omega, by have := Int32.toInt_lt x; omega⟩)
theorem iI_of (x : Int32) : ∃ z : Int, R32 z ∧ x = iI z := ⟨x.toInt, ⟨by have := Int32.le_toInt x; omega, by have := Int32.toInt_lt x; omega⟩, (iI_toInt x).symm⟩
theorem iI_lt {a b : Int} (ha : R32 a) (hb : R32 b) : iI a < iI b ↔ a < b := by rw [Int32.lt_iff_toInt_lt, iI_T ha, iI_T hb]
theorem iI_le {a b : Int} (ha : R32 a) (hb : R32 b) : iI a ≤ iI b ↔ a ≤ b := by rw [Int32.le_iff_toInt_le, iI_T ha, iI_T hb]
theorem iI_eq {a b : Int} (ha : R32 a) (hb : R32 b) : iI a = iI b ↔ a = b := by rw [← Int32.toInt_inj, iI_T ha, iI_T hb]
theorem lI_lt {a b : Int} (ha : R64 a) (hb : R64 b) : lI a < lI b ↔ a < b := by rw [Int64.lt_iff_toInt_lt, lI_T ha, lI_T hb]
theorem lI_eq {a b : Int} (ha : R64 a) (hb : R64 b) : lI a = lI b ↔ a = b := by rw [← Int64.toInt_inj, lI_T ha, lI_T hb]
theorem iI_0 : iI 0 = 0 := rfl
theorem iI_nI (n : Nat) : nI n = iI (n : Int) := Int32.toInt_inj.mp (by simp [nI, iI])
theorem iI_cl {z : Int} (h : R32 z) : (iI z).toNatClampNeg = z.toNat := by
  show (iI z).toInt.toNat = _
  rw [iI_T h]
theorem iI_in {z : Int} {n : Nat} (h : 0 ≤ z ∧ z < n) (hn : n < 2147483648) : vp_in (iI z) n := by
  have hr : R32 z := ⟨by omega, by omega⟩
  rw [vp_in_iff, iI_T hr]
  exact h
theorem iI_z {z : Int} {n : Nat} (h : 0 ≤ z ∧ z < n) (hn : n < 2147483648) : (iI z).toNatClampNeg = z.toNat := iI_cl ⟨by omega, by omega⟩
theorem iI_i2l {z : Int} (h : R32 z) : (iI z).toInt64 = lI z := by
  refine Int64.toInt_inj.mp ?_
  rw [Int32.toInt_toInt64, iI_T h, lI_T ⟨by have := h.1; omega, by have := h.2; omega⟩]
theorem lI_l2i {z : Int} : (lI z).toInt32 = iI z := Int32.toInt_inj.mp (by simp [lI, iI, Int64.toInt_toInt32])
theorem iI_div {a b : Int} (ha : R32 a) (h0 : 0 ≤ a) (hb : R32 b) (hb0 : 0 < b) : iI a / iI b = iI (a / b) := by
  refine Int32.toInt_inj.mp ?_
  have hd : 0 ≤ a / b := Int.ediv_nonneg h0 (by omega)
  have hd2 : a / b ≤ a := Int.ediv_le_self _ h0
  rw [Int32.toInt_div_of_ne_right _ _ (fun q => by have := congrArg Int32.toInt q; rw [iI_T hb] at this; simp at this; omega), iI_T ha, iI_T hb, iI_T ⟨by omega, by have := ha.2; omega⟩]
  exact Int.tdiv_eq_ediv_of_nonneg h0
abbrev Ent : Type := va_E ⊕ (Nat × Int32)
abbrev Wd : Type := Nat → Option (Nat × Ent)
abbrev Gl : Type := va_G × (Nat → ClassId) × State × (Nat → Nat) × Wd
abbrev gD (G : Gl) : va_G := G.1
abbrev gA (G : Gl) : Nat → ClassId := G.2.1
abbrev gS (G : Gl) : State := G.2.2.1
abbrev gH (G : Gl) : Heap := G.2.2.1.heap
abbrev gC (G : Gl) : Nat → Nat := G.2.2.2.1
abbrev gW (G : Gl) : Wd := G.2.2.2.2
abbrev gB (G : Gl) : Nat := G.2.2.1.heap.size
