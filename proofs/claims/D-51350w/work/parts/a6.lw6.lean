/-! the law: what the Statement gives of the start -/
set_option maxRecDepth 100000
def ForE {α : Type} (Q : α → Prop) : List α → Prop
  | [] => True
  | e :: r => Q e ∧ ForE Q r
theorem ForE.get {α : Type} {Q : α → Prop} {d : α} : ∀ {L : List α}, ForE Q L → ∀ k, k < L.length → Q (L.getD k d)
  | [], _, k, hk => absurd hk (Nat.not_lt_zero _)
  | e :: r, h, 0, _ => h.1
  | e :: r, h, k + 1, hk => ForE.get (L := r) h.2 k (Nat.lt_of_succ_lt_succ hk)
section ST
variable {s : State} {A : Array Value}
theorem st_u (hts : ∀ w ∈ lw_tbl, w.before A s = true) {C : String} {T : u_T} {N : Nat} (hin : ∀ w ∈ u_ws C T N, w ∈ lw_all) (hi : Cond.instantiable C N ∈ lw_all) : ∃ (cC : ClassId) (iS : Nat → Nat), u_Kn s C T N cC iS :=
  u_known (ws := lw_all) (fun w h => hts w (lw_all_tbl h)) hin (hts _ (lw_all_tbl hi))
theorem st_x (hn : narrow_1.before A s = true) {t : Term} {E : String} (path : List Bool) (hp : nwAt path narrow_1 = some (.exactly t E)) : ∃ (a : Nat) (cell : Cell), t.eval A s none [] s = some (.ref a) ∧ s.heap[a]? = some cell ∧ cell.vm.isStatics = false ∧ s.vm.findClass E = some cell.cls := by
  obtain ⟨a, c, cell, k, e1, e2, e3, e4, e5, e6, -⟩ := Cond.exactly_spec (nwAt_ok path _ _ hp hn)
  exact ⟨a, cell, e1, e3, e5, by rw [e6]; exact e2⟩
theorem st_ap {ty : FieldType} (h : (Cond.arrayClass ty).before A s = true) : ∃ c : ClassId, ArrOfT s c ty ∧ s.vm.findClass ("[" ++ ty.toString) = some c := by
  obtain ⟨c, k, comp, h1, h2, h3⟩ := Cond.arrayClass_spec h
  exact ⟨c, fun n z => ⟨fun k q => by cases q, k, h2, comp, h3⟩, h1⟩
theorem st_ao {C : String} (h : (Cond.arrayOver (.object C)).before A s = true) : ∃ c : ClassId, ArrOfT s c (.object C) ∧ va_RA s c (.object C) := by
  obtain ⟨comp, c, k, h1, h2, h3, h4, h5⟩ := Cond.arrayOver_spec h
  exact ⟨c, fun n z => ⟨fun k q => by cases q, k, h3, comp, h4⟩, ⟨k, comp, h3, h4, h1, h5⟩⟩
theorem st_len {t : Term} {a : Nat} {cell : Cell} {v : Int32} (h : (Term.length t).eval A s none [] s = some (.int v)) (ha : t.eval A s none [] s = some (.ref a)) (hc : s.heap[a]? = some cell) : cell.slots.size < 2147483648 ∧ v = cell.slots.size.toInt32 := by
  simp only [Term.eval, Option.bind_eq_bind] at h
  rw [ha] at h
  simp at h
  obtain ⟨c2, h1, h2⟩ := Option.bind_eq_some_iff.mp h
  have h3 := (State.arrayAt?_spec h1).1
  cases hc.symm.trans h3
  by_cases hn : cell.slots.size < 2147483648
  · rw [if_pos hn] at h2
    cases h2
    exact ⟨hn, rfl⟩
  · rw [if_neg hn] at h2
    cases h2
theorem i32_sz {n m : Nat} (hn : n < 2147483648) (hm : m < 2147483648) (h : m.toInt32 = n.toInt32) : m = n := by
  have h1 := congrArg Int32.toInt h
  have e : ∀ k : Nat, k < 2147483648 → (k.toInt32).toInt = (k : Int) := fun k hk => by
    have h2 : k.toInt32 = iI (k : Int) := iI_nI k
    rw [h2]
    exact iI_T ⟨by omega, by omega⟩
  rw [e m hm, e n hn] at h1
  omega
/-- an array, by its class, its length, its places -/
theorem st_arr {t : Term} {a n : Nat} {cell : Cell} {c : ClassId} {x : Nat → Value} (ha : t.eval A s none [] s = some (.ref a)) (hc : s.heap[a]? = some cell) (hl : (Cond.eq (.length t) (.int n.toInt32)).before A s = true) (hn : n < 2147483648) (hel : ∀ j, j < n → cell.slots[j]? = some (x j)) : cell.slots = (arrV c n x).slots := by
  obtain ⟨h1, h2⟩ := st_len (va_eqt hl) ha hc
  have hs : cell.slots.size = n := i32_sz hn h1 h2.symm
  apply Array.ext_getElem?
  intro j
  by_cases hj : j < n
  · rw [hel j hj, arrV_read _ _ hj]
  · rw [Array.getElem?_eq_none (by omega), Array.getElem?_eq_none (by rw [arrV_size]; omega)]
theorem st_ints (hn2 : narrow_1.before A s = true) {t : Term} {a n : Nat} {cell : Cell} {E : List (List Bool × Int32 × Int32)} {v : Nat → Int32} (ha : t.eval A s none [] s = some (.ref a)) (hc : s.heap[a]? = some cell) (hE : ForE (fun e : List Bool × Int32 × Int32 => nwAt e.1 narrow_1 = some (.eq (.elem t (.int e.2.1)) (.int e.2.2))) E) (hl : E.length = n) (hv : ∀ j, j < n → (E.getD j ([], 0, 0)).2.1.toNatClampNeg = j ∧ (E.getD j ([], 0, 0)).2.2 = v j) : ∀ j, j < n → cell.slots[j]? = some (.int (v j)) := by
  intro j hj
  have h1 := va_eqt (nwAt_ok _ _ _ (ForE.get (d := (([], 0, 0) : List Bool × Int32 × Int32)) hE j (by omega)) hn2)
  obtain ⟨a2, j2, c2, e1, e2, e3, -, e5⟩ := Term.elem_spec h1
  cases ha.symm.trans e1
  cases hc.symm.trans (State.arrayAt?_spec e3).1
  have e4 : (E.getD j ([], 0, 0)).2.1 = j2 := by
    have e6 : some (Value.int (E.getD j ([], 0, 0)).2.1) = some (Value.int j2) := e2
    cases e6
    rfl
  rw [← e4, (hv j hj).1, (hv j hj).2] at e5
  exact e5
/-- a byte array of the start -/
theorem st_byt (hn2 : narrow_1.before A s = true) {t : Term} {a n : Nat} {cell : Cell} {c : ClassId} {f : Nat → Int} (hA : ArrOfT s c .byte ∧ s.vm.findClass "[B" = some c) (ha : t.eval A s none [] s = some (.ref a)) (hc : s.heap[a]? = some cell) (hst : cell.vm.isStatics = false) (hcl : s.vm.findClass "[B" = some cell.cls) {p1 p2 : List Bool} (h1 : nwAt p1 narrow_1 = some (.arrayOf t .byte)) {n32 : Int32} (h2 : nwAt p2 narrow_1 = some (.eq (.length t) (.int n32))) (h3 : n32 = n.toInt32) (hn : n < 2147483648) (h8 : n ≠ 8) {E : List (List Bool × Int32 × Int32)} (hE : ForE (fun e : List Bool × Int32 × Int32 => nwAt e.1 narrow_1 = some (.eq (.elem t (.int e.2.1)) (.int e.2.2))) E) (hl : E.length = n) (hv : ∀ j, j < n → (E.getD j ([], 0, 0)).2.1.toNatClampNeg = j ∧ (E.getD j ([], 0, 0)).2.2 = iI (f j)) : arW a c (n, .inl (fun j => iI (f j))) s.heap := by
  subst h3
  have hk := Cond.arrayOf_spec (nwAt_ok _ _ _ h1 hn2) ha hc
  have ec : cell.cls = c := Option.some.inj (hcl.symm.trans hA.2)
  exact ⟨cell, hc, ec, st_arr ha hc (nwAt_ok _ _ _ h2 hn2) hn (st_ints hn2 ha hc hE hl hv), ⟨hk.2, hst⟩, fun q => absurd q h8⟩
/-- an empty array of references of the start -/
theorem st_emp (hn2 : narrow_1.before A s = true) {t : Term} {a : Nat} {cell : Cell} {c : ClassId} {ty : FieldType} {nm : String} (hA : s.vm.findClass nm = some c) (ha : t.eval A s none [] s = some (.ref a)) (hc : s.heap[a]? = some cell) (hst : cell.vm.isStatics = false) (hcl : s.vm.findClass nm = some cell.cls) {p1 p2 : List Bool} (h1 : nwAt p1 narrow_1 = some (.arrayOf t ty)) (h2 : nwAt p2 narrow_1 = some (.eq (.length t) (.int 0))) : arW a c (0, .inr (.inr (.inr (.inr (fun _ => none))))) s.heap := by
  have hk := Cond.arrayOf_spec (nwAt_ok _ _ _ h1 hn2) ha hc
  have ec : cell.cls = c := Option.some.inj (hcl.symm.trans hA)
  exact ⟨cell, hc, ec, st_arr (n := 0) ha hc (nwAt_ok _ _ _ h2 hn2) (by decide) (fun j hj => absurd hj (Nat.not_lt_zero _)), ⟨hk.2, hst⟩, fun q => absurd (show (0 : Nat) = 8 from q) (by decide)⟩
/-- a String of the start -/
theorem st_str (hn2 : narrow_1.before A s = true) {t : Term} {a va : Nat} {cell : Cell} {D : va_G} (hu : u_Kn s RJ10 TJ10 4 (D.1 19) (D.2 19)) {G : Gl} (hD : gD G = D) (ha : t.eval A s none [] s = some (.ref a)) (hc : s.heap[a]? = some cell) (hst : cell.vm.isStatics = false) (hcl : s.vm.findClass "java/lang/String" = some cell.cls) (hva : (Term.field t "java/lang/String" "value" "[B").eval A s none [] s = some (.ref va)) {p1 p2 p3 : List Bool} {h0 z0 hv : Int32} (h1 : nwAt p1 narrow_1 = some (.eq (.field t "java/lang/String" "coder" "B") (.int 0))) (h2 : nwAt p2 narrow_1 = some (.eq (.field t "java/lang/String" "hash" "I") (.int h0))) (h3 : nwAt p3 narrow_1 = some (.eq (.field t "java/lang/String" "hashIsZero" "Z") (.int z0))) (hh : h0 = hv ∧ (hv = 0 → z0 = 1)) : entW G a (sE va hv) s.heap := by
  subst hD
  have ec : cell.cls = (gD G).1 19 := Option.some.inj (hcl.symm.trans hu.2.1)
  have f0 : ∀ (k : Nat) (hk : k < 4) (v : Value), (Term.field t (TJ10 k).1 (TJ10 k).2.1 (TJ10 k).2.2.1).eval A s none [] s = some v → cell.vm ≠ .unknown ∧ cell.slots[(gD G).2 19 k]? = some v := fun k hk v hv => by
    obtain ⟨cf, kf, fi, f, hi, hsl⟩ := hu.1 k hk
    obtain ⟨-, c2, g1, g2, -, -, g3⟩ := Term.field_spec hi ha hv
    cases hc.symm.trans g1
    exact ⟨g2, by rw [← hsl]; exact g3⟩
  obtain ⟨b1, b2⟩ := f0 0 (by decide) _ hva
  have b3 := (f0 1 (by decide) _ (va_eqt (nwAt_ok _ _ _ h1 hn2))).2
  have b4 := (f0 2 (by decide) _ (va_eqt (nwAt_ok _ _ _ h2 hn2))).2
  have b5 := (f0 3 (by decide) _ (va_eqt (nwAt_ok _ _ _ h3 hn2))).2
  refine ⟨h0, z0, ⟨(RJ10, TJ10, 4), rfl, cell, hc, ec, ⟨b1, hst⟩, fun k hk => ?_⟩, Or.inl hh⟩
  have hk : k < 4 := hk
  rcases (show k = 0 ∨ k = 1 ∨ k = 2 ∨ k = 3 by omega) with q | q | q | q <;> subst q
  · exact b2
  · exact b3
  · exact b4
  · exact b5
/-- an object without fields of the start -/
theorem st_obj {t : Term} {a ci : Nat} {cell : Cell} {q : vw_C} {G : Gl} (hq : HCl[ci]? = some q) (hN : q.2.2 = 0) (hf : s.vm.findClass q.1 = some ((gD G).1 ci)) (hc : s.heap[a]? = some cell) (hst : cell.vm.isStatics = false) (hcl : s.vm.findClass q.1 = some cell.cls) : entW G a (oE ci []) s.heap :=
  ⟨q, hq, cell, hc, Option.some.inj (hcl.symm.trans hf), ⟨fun q1 => absurd q1 (by rw [hN]; exact Nat.lt_irrefl 0), hst⟩, fun k hk => absurd hk (by rw [hN]; exact Nat.not_lt_zero _)⟩
end ST

theorem st_K {s : State} {A : Array Value} (hts : ∀ w ∈ lw_tbl, w.before A s = true) (hn2 : narrow_1.before A s = true) : ∃ D : va_G, ∀ (c : Nat) (q : vw_C), HCl[c]? = some q → (spCl c = false → u_Kn s q.1 q.2.1 q.2.2 (D.1 c) (D.2 c)) ∧ s.vm.findClass q.1 = some (D.1 c) := by
  have h : ∀ c : Nat, ∃ (cC : ClassId) (iS : Nat → Nat), ∀ q : vw_C, HCl[c]? = some q → (spCl c = false → u_Kn s q.1 q.2.1 q.2.2 cC iS) ∧ s.vm.findClass q.1 = some cC := by
    intro c
    by_cases hc : c < 34
    · rcases (show c = 0 ∨ c = 1 ∨ c = 2 ∨ c = 3 ∨ c = 4 ∨ c = 5 ∨ c = 6 ∨ c = 7 ∨ c = 8 ∨ c = 9 ∨ c = 10 ∨ c = 11 ∨ c = 12 ∨ c = 13 ∨ c = 14 ∨ c = 15 ∨ c = 16 ∨ c = 17 ∨ c = 18 ∨ c = 19 ∨ c = 20 ∨ c = 21 ∨ c = 22 ∨ c = 23 ∨ c = 24 ∨ c = 25 ∨ c = 26 ∨ c = 27 ∨ c = 28 ∨ c = 29 ∨ c = 30 ∨ c = 31 ∨ c = 32 ∨ c = 33 by omega) with h | h | h | h | h | h | h | h | h | h | h | h | h | h | h | h | h | h | h | h | h | h | h | h | h | h | h | h | h | h | h | h | h | h
      · subst h
        obtain ⟨cC, iS, hk⟩ := st_u hts (C := RX1) (T := TX1) (N := 11) in_X1 q175
        refine ⟨cC, iS, fun q hq => ?_⟩
        have e : (RX1, TX1, 11) = q := Option.some.inj (show some (RX1, TX1, 11) = some q from hq)
        subst e
        exact ⟨fun _ => hk, hk.2.1⟩
      · subst h
        obtain ⟨cC, iS, hk⟩ := st_u hts (C := RX10) (T := TX10) (N := 33) in_X10 q2718
        refine ⟨cC, iS, fun q hq => ?_⟩
        have e : (RX10, TX10, 33) = q := Option.some.inj (show some (RX10, TX10, 33) = some q from hq)
        subst e
        exact ⟨fun _ => hk, hk.2.1⟩
      · subst h
        obtain ⟨cC, iS, hk⟩ := st_u hts (C := RX2) (T := TX2) (N := 9) in_X2 q205
        refine ⟨cC, iS, fun q hq => ?_⟩
        have e : (RX2, TX2, 9) = q := Option.some.inj (show some (RX2, TX2, 9) = some q from hq)
        subst e
        exact ⟨fun _ => hk, hk.2.1⟩
      · subst h
        obtain ⟨cC, iS, hk⟩ := st_u hts (C := RX5) (T := TX5) (N := 4) in_X5 q1386
        refine ⟨cC, iS, fun q hq => ?_⟩
        have e : (RX5, TX5, 4) = q := Option.some.inj (show some (RX5, TX5, 4) = some q from hq)
        subst e
        exact ⟨fun _ => hk, hk.2.1⟩
      · subst h
        obtain ⟨cC, iS, hk⟩ := st_u hts (C := RX6) (T := TX6) (N := 2) in_X6 q1397
        refine ⟨cC, iS, fun q hq => ?_⟩
        have e : (RX6, TX6, 2) = q := Option.some.inj (show some (RX6, TX6, 2) = some q from hq)
        subst e
        exact ⟨fun _ => hk, hk.2.1⟩
      · subst h
        obtain ⟨cC, iS, hk⟩ := st_u hts (C := RX9) (T := TX9) (N := 1) in_X9 q1658
        refine ⟨cC, iS, fun q hq => ?_⟩
        have e : (RX9, TX9, 1) = q := Option.some.inj (show some (RX9, TX9, 1) = some q from hq)
        subst e
        exact ⟨fun _ => hk, hk.2.1⟩
      · subst h
        obtain ⟨cC, iS, hk⟩ := st_u hts (C := RX4) (T := TX4) (N := 2) in_X4 q637
        refine ⟨cC, iS, fun q hq => ?_⟩
        have e : (RX4, TX4, 2) = q := Option.some.inj (show some (RX4, TX4, 2) = some q from hq)
        subst e
        exact ⟨fun _ => hk, hk.2.1⟩
      · subst h
        obtain ⟨cC, iS, hk⟩ := st_u hts (C := RX3) (T := hT0) (N := 0) (fun w h => absurd h (by simp [u_ws])) q583
        refine ⟨cC, iS, fun q hq => ?_⟩
        have e : (RX3, hT0, 0) = q := Option.some.inj (show some (RX3, hT0, 0) = some q from hq)
        subst e
        exact ⟨fun _ => hk, hk.2.1⟩
      · subst h
        obtain ⟨cC, iS, hk⟩ := st_u hts (C := RX11) (T := TX11) (N := 7) in_X11 q2073
        refine ⟨cC, iS, fun q hq => ?_⟩
        have e : (RX11, TX11, 7) = q := Option.some.inj (show some (RX11, TX11, 7) = some q from hq)
        subst e
        exact ⟨fun _ => hk, hk.2.1⟩
      · subst h
        obtain ⟨cC, iS, hk⟩ := st_u hts (C := RX12) (T := TX12) (N := 7) in_X12 q2054
        refine ⟨cC, iS, fun q hq => ?_⟩
        have e : (RX12, TX12, 7) = q := Option.some.inj (show some (RX12, TX12, 7) = some q from hq)
        subst e
        exact ⟨fun _ => hk, hk.2.1⟩
      · subst h
        obtain ⟨cC, iS, hk⟩ := st_u hts (C := RX22) (T := TX22) (N := 9) in_X22 q2612
        refine ⟨cC, iS, fun q hq => ?_⟩
        have e : (RX22, TX22, 9) = q := Option.some.inj (show some (RX22, TX22, 9) = some q from hq)
        subst e
        exact ⟨fun _ => hk, hk.2.1⟩
      · subst h
        obtain ⟨cC, iS, hk⟩ := st_u hts (C := RX13) (T := TX13) (N := 8) in_X13 q2133
        refine ⟨cC, iS, fun q hq => ?_⟩
        have e : (RX13, TX13, 8) = q := Option.some.inj (show some (RX13, TX13, 8) = some q from hq)
        subst e
        exact ⟨fun _ => hk, hk.2.1⟩
      · subst h
        obtain ⟨cC, iS, hk⟩ := st_u hts (C := RX15) (T := TX15) (N := 2) in_X15 q2500
        refine ⟨cC, iS, fun q hq => ?_⟩
        have e : (RX15, TX15, 2) = q := Option.some.inj (show some (RX15, TX15, 2) = some q from hq)
        subst e
        exact ⟨fun _ => hk, hk.2.1⟩
      · subst h
        obtain ⟨cC, iS, hk⟩ := st_u hts (C := RX16) (T := TX16) (N := 1) in_X16 q2520
        refine ⟨cC, iS, fun q hq => ?_⟩
        have e : (RX16, TX16, 1) = q := Option.some.inj (show some (RX16, TX16, 1) = some q from hq)
        subst e
        exact ⟨fun _ => hk, hk.2.1⟩
      · subst h
        obtain ⟨cC, iS, hk⟩ := st_u hts (C := RX17) (T := TX17) (N := 1) in_X17 q2538
        refine ⟨cC, iS, fun q hq => ?_⟩
        have e : (RX17, TX17, 1) = q := Option.some.inj (show some (RX17, TX17, 1) = some q from hq)
        subst e
        exact ⟨fun _ => hk, hk.2.1⟩
      · subst h
        obtain ⟨cC, iS, hk⟩ := st_u hts (C := RX18) (T := TX18) (N := 1) in_X18 q2555
        refine ⟨cC, iS, fun q hq => ?_⟩
        have e : (RX18, TX18, 1) = q := Option.some.inj (show some (RX18, TX18, 1) = some q from hq)
        subst e
        exact ⟨fun _ => hk, hk.2.1⟩
      · subst h
        obtain ⟨cC, iS, hk⟩ := st_u hts (C := RX19) (T := TX19) (N := 2) in_X19 q2572
        refine ⟨cC, iS, fun q hq => ?_⟩
        have e : (RX19, TX19, 2) = q := Option.some.inj (show some (RX19, TX19, 2) = some q from hq)
        subst e
        exact ⟨fun _ => hk, hk.2.1⟩
      · subst h
        obtain ⟨cC, iS, hk⟩ := st_u hts (C := RX20) (T := TX20) (N := 2) in_X20 q2592
        refine ⟨cC, iS, fun q hq => ?_⟩
        have e : (RX20, TX20, 2) = q := Option.some.inj (show some (RX20, TX20, 2) = some q from hq)
        subst e
        exact ⟨fun _ => hk, hk.2.1⟩
      · subst h
        obtain ⟨cC, iS, hk⟩ := st_u hts (C := RX21) (T := TX21) (N := 1) in_X21 q1778
        refine ⟨cC, iS, fun q hq => ?_⟩
        have e : (RX21, TX21, 1) = q := Option.some.inj (show some (RX21, TX21, 1) = some q from hq)
        subst e
        exact ⟨fun _ => hk, hk.2.1⟩
      · subst h
        obtain ⟨cC, iS, hk⟩ := st_u hts (C := RJ10) (T := TJ10) (N := 4) in_J10 q445
        refine ⟨cC, iS, fun q hq => ?_⟩
        have e : (RJ10, TJ10, 4) = q := Option.some.inj (show some (RJ10, TJ10, 4) = some q from hq)
        subst e
        exact ⟨fun _ => hk, hk.2.1⟩
      · subst h
        obtain ⟨cC, iS, hk⟩ := st_u hts (C := RJ9) (T := TJ9) (N := 4) in_J9 q264
        refine ⟨cC, iS, fun q hq => ?_⟩
        have e : (RJ9, TJ9, 4) = q := Option.some.inj (show some (RJ9, TJ9, 4) = some q from hq)
        subst e
        exact ⟨fun _ => hk, hk.2.1⟩
      · subst h
        obtain ⟨cC, iS, hk⟩ := st_u hts (C := RJ3) (T := TJ3) (N := 3) in_J3 q211
        refine ⟨cC, iS, fun q hq => ?_⟩
        have e : (RJ3, TJ3, 3) = q := Option.some.inj (show some (RJ3, TJ3, 3) = some q from hq)
        subst e
        exact ⟨fun _ => hk, hk.2.1⟩
      · subst h
        obtain ⟨cC, iS, hk⟩ := st_u hts (C := RJ25) (T := TJ25) (N := 4) in_J25 q1323
        refine ⟨cC, iS, fun q hq => ?_⟩
        have e : (RJ25, TJ25, 4) = q := Option.some.inj (show some (RJ25, TJ25, 4) = some q from hq)
        subst e
        exact ⟨fun _ => hk, hk.2.1⟩
      · subst h
        obtain ⟨cC, iS, hk⟩ := st_u hts (C := RJ1) (T := TJ1) (N := 3) in_J1 q183
        refine ⟨cC, iS, fun q hq => ?_⟩
        have e : (RJ1, TJ1, 3) = q := Option.some.inj (show some (RJ1, TJ1, 3) = some q from hq)
        subst e
        exact ⟨fun _ => hk, hk.2.1⟩
      · subst h
        obtain ⟨cC, iS, hk⟩ := st_u hts (C := RJ19) (T := TJ19) (N := 8) in_J19 q551
        refine ⟨cC, iS, fun q hq => ?_⟩
        have e : (RJ19, TJ19, 8) = q := Option.some.inj (show some (RJ19, TJ19, 8) = some q from hq)
        subst e
        exact ⟨fun _ => hk, hk.2.1⟩
      · subst h
        obtain ⟨cC, iS, hk⟩ := st_u hts (C := RJ20) (T := TJ20) (N := 4) in_J20 q872
        refine ⟨cC, iS, fun q hq => ?_⟩
        have e : (RJ20, TJ20, 4) = q := Option.some.inj (show some (RJ20, TJ20, 4) = some q from hq)
        subst e
        exact ⟨fun _ => hk, hk.2.1⟩
      · subst h
        obtain ⟨a, cell, -, -, -, hf⟩ := st_x hn2 (E := RX23) [false, false, true, false, false, true, true, true, false, true, false] rfl
        refine ⟨cell.cls, fun _ => 0, fun q hq => ?_⟩
        have e : (RX23, hT0, 0) = q := Option.some.inj (show some (RX23, hT0, 0) = some q from hq)
        subst e
        exact ⟨fun h => absurd h (by decide), hf⟩
      · subst h
        obtain ⟨a, cell, -, -, -, hf⟩ := st_x hn2 (E := RX24) [false, false, true, false, false, true, true, true, true, false, false] rfl
        refine ⟨cell.cls, fun _ => 0, fun q hq => ?_⟩
        have e : (RX24, hT0, 0) = q := Option.some.inj (show some (RX24, hT0, 0) = some q from hq)
        subst e
        exact ⟨fun h => absurd h (by decide), hf⟩
      · subst h
        obtain ⟨a, cell, -, -, -, hf⟩ := st_x hn2 (E := RX25) [false, false, true, false, false, true, true, true, true, true, true] rfl
        refine ⟨cell.cls, fun _ => 0, fun q hq => ?_⟩
        have e : (RX25, hT0, 0) = q := Option.some.inj (show some (RX25, hT0, 0) = some q from hq)
        subst e
        exact ⟨fun h => absurd h (by decide), hf⟩
      · subst h
        obtain ⟨a, cell, -, -, -, hf⟩ := st_x hn2 (E := RX26) [false, false, true, false, true, false, false, false, true, false] rfl
        refine ⟨cell.cls, fun _ => 0, fun q hq => ?_⟩
        have e : (RX26, hT0, 0) = q := Option.some.inj (show some (RX26, hT0, 0) = some q from hq)
        subst e
        exact ⟨fun h => absurd h (by decide), hf⟩
      · subst h
        obtain ⟨a, cell, -, -, -, hf⟩ := st_x hn2 (E := RX27) [false, false, true, false, true, false, false, true, false, true, true] rfl
        refine ⟨cell.cls, fun _ => 0, fun q hq => ?_⟩
        have e : (RX27, hT0, 0) = q := Option.some.inj (show some (RX27, hT0, 0) = some q from hq)
        subst e
        exact ⟨fun h => absurd h (by decide), hf⟩
      · subst h
        obtain ⟨cC, iS, hk⟩ := st_u hts (C := RJ7) (T := TJ7) (N := 6) in_J7 q223
        refine ⟨cC, iS, fun q hq => ?_⟩
        have e : (RJ7, TJ7, 6) = q := Option.some.inj (show some (RJ7, TJ7, 6) = some q from hq)
        subst e
        exact ⟨fun _ => hk, hk.2.1⟩
      · subst h
        obtain ⟨cC, iS, hk⟩ := st_u hts (C := RJ26) (T := TJ26) (N := 6) in_J26 q1365
        refine ⟨cC, iS, fun q hq => ?_⟩
        have e : (RJ26, TJ26, 6) = q := Option.some.inj (show some (RJ26, TJ26, 6) = some q from hq)
        subst e
        exact ⟨fun _ => hk, hk.2.1⟩
      · subst h
        obtain ⟨a, cell, -, -, -, hf⟩ := st_x hn2 (E := RJ21) [false, false, true, false, false, true, false, false, true, false] rfl
        refine ⟨cell.cls, fun _ => 0, fun q hq => ?_⟩
        have e : (RJ21, hT0, 0) = q := Option.some.inj (show some (RJ21, hT0, 0) = some q from hq)
        subst e
        exact ⟨fun h => absurd h (by decide), hf⟩
    · exact ⟨0, fun _ => 0, fun q hq => absurd (List.getElem?_eq_some_iff.mp hq).1 hc⟩
  exact ⟨(fun c => Classical.choose (h c), fun c => Classical.choose (Classical.choose_spec (h c))), fun c => Classical.choose_spec (Classical.choose_spec (h c))⟩

theorem st_A {s : State} {A : Array Value} (hts : ∀ w ∈ lw_tbl, w.before A s = true) : ∃ Ar : Nat → ClassId, ∀ k, k < 7 → ArrOfT s (Ar k) (gTy k) ∧ va_RA s (Ar k) (gTy k) := by
  have h : ∀ k : Nat, ∃ c : ClassId, k < 7 → ArrOfT s c (gTy k) ∧ va_RA s c (gTy k) := by
    intro k
    by_cases hk : k < 7
    · rcases (show k = 0 ∨ k = 1 ∨ k = 2 ∨ k = 3 ∨ k = 4 ∨ k = 5 ∨ k = 6 by omega) with h | h | h | h | h | h | h
      · subst h
        obtain ⟨c, h1, h2⟩ := st_ap (hts _ (lw_all_tbl q634))
        exact ⟨c, fun _ => ⟨h1, h2⟩⟩
      · subst h
        obtain ⟨c, h1, h2⟩ := st_ap (hts _ (lw_all_tbl q203))
        exact ⟨c, fun _ => ⟨h1, h2⟩⟩
      · subst h
        obtain ⟨c, h1, h2⟩ := st_ap (hts _ (lw_all_tbl q3041))
        exact ⟨c, fun _ => ⟨h1, h2⟩⟩
      · subst h
        obtain ⟨c, h1, h2⟩ := st_ap (hts _ (lw_all_tbl q3373))
        exact ⟨c, fun _ => ⟨h1, h2⟩⟩
      · subst h
        obtain ⟨c, h1, h2⟩ := st_ao (hts _ q192)
        exact ⟨c, fun _ => ⟨h1, h2⟩⟩
      · subst h
        obtain ⟨c, h1, h2⟩ := st_ao (hts _ q857)
        exact ⟨c, fun _ => ⟨h1, h2⟩⟩
      · subst h
        obtain ⟨c, h1, h2⟩ := st_ao (hts _ q1432)
        exact ⟨c, fun _ => ⟨h1, h2⟩⟩
    · exact ⟨0, fun q => absurd q hk⟩
  exact ⟨fun k => Classical.choose (h k), fun k => Classical.choose_spec (h k)⟩

abbrev st0 : Term × String × List Bool := (.null, "", [])
def stL : List (Term × String × List Bool) := [((Jvm.Term.string "SpokenMarks" (461 : Nat)), "java/lang/String", [true, false, true, true, false, true, true, false, false, true, false]),
  ((Jvm.Term.string "SpokenMarks" (56 : Nat)), "java/lang/String", [true, false, false, false, true, true, false, true, true, false]),
  ((Jvm.Term.string "SpokenMarks" (64 : Nat)), "java/lang/String", [true, false, false, false, true, true, true, false, true, false]),
  ((Jvm.Term.string "SpokenMarks" (66 : Nat)), "java/lang/String", [true, false, false, true, false, false, false, false, false, true, false]),
  ((Jvm.Term.string "SpokenMarks" (75 : Nat)), "java/lang/String", [true, false, false, true, true, false, false, true, false, true, true]),
  ((Jvm.Term.string "SpokenMarks" (77 : Nat)), "java/lang/String", [true, false, false, true, true, false, true, false, true, true, false]),
  ((Jvm.Term.string "SpokenMarks" (83 : Nat)), "java/lang/String", [true, false, false, true, true, true, false, false, false, true, true]),
  ((Jvm.Term.string "SpokenMarks" (85 : Nat)), "java/lang/String", [true, false, false, true, true, true, true, false, false, true, false]),
  ((Jvm.Term.string "SpokenMarks" (92 : Nat)), "java/lang/String", [true, false, false, true, true, true, true, true, true, true, true]),
  ((Jvm.Term.string "SpokenMarks$Reader" (15 : Nat)), "java/lang/String", [true, false, true, false, false, false, true, false, true, true, false]),
  ((Jvm.Term.string "SpokenMarks$Reader" (44 : Nat)), "java/lang/String", [true, false, true, false, false, true, false, false, true, true, false]),
  ((Jvm.Term.string "SpokenMarks$Reader" (64 : Nat)), "java/lang/String", [true, false, true, false, false, true, true, false, false, true, false]),
  ((Jvm.Term.string "SpokenMarks$Scanner" (9 : Nat)), "java/lang/String", [true, false, true, false, false, false, false, true, true, false]),
  ((Jvm.Term.string "SpokenMarks$Script" (66 : Nat)), "java/lang/String", [true, false, true, false, false, true, true, true, true, true, false]),
  ((Jvm.Term.string "SpokenMarks$Script" (71 : Nat)), "java/lang/String", [true, false, true, false, true, false, false, true, false, true, true]),
  ((Jvm.Term.string "SpokenMarks$Script" (73 : Nat)), "java/lang/String", [true, false, true, false, true, false, true, true, false, true, false]),
  ((Jvm.Term.string "SpokenMarks$Script" (75 : Nat)), "java/lang/String", [true, false, true, false, true, true, false, false, true, true, true]),
  ((Jvm.Term.string "SpokenMarks$Script" (77 : Nat)), "java/lang/String", [true, false, true, false, true, true, true, false, true, false]),
  ((Jvm.Term.string "SpokenMarks$Script" (79 : Nat)), "java/lang/String", [true, false, true, true, false, false, false, false, false, true, false]),
  ((Jvm.Term.string "SpokenMarks$Script" (81 : Nat)), "java/lang/String", [true, false, true, true, false, false, true, false, false, false]),
  ((Jvm.Term.string "SpokenMarks$Script" (83 : Nat)), "java/lang/String", [true, false, true, true, false, true, false, false, false, false]),
  ((Jvm.Term.string "SpokenMarks$Step$1" (7 : Nat)), "java/lang/String", [true, false, false, true, false, true, true, false, true, true, true]),
  ((Jvm.Term.string "SpokenMarks$Step$2" (7 : Nat)), "java/lang/String", [true, false, false, true, true, false, false, false, false, false]),
  ((Jvm.Term.string "SpokenMarksModel" (100 : Nat)), "java/lang/String", [true, false, true, true, false, true, true, true, false, true, true]),
  ((Jvm.Term.string "SpokenMarksModel" (263 : Nat)), "java/lang/String", [true, true, false, true, false, true, false, true, false, false]),
  ((Jvm.Term.string "SpokenMarksModel" (275 : Nat)), "java/lang/String", [true, true, false, true, true, false, false, true, false, false]),
  ((Jvm.Term.string "SpokenMarksModel" (280 : Nat)), "java/lang/String", [true, true, false, true, true, true, false, false, false]),
  ((Jvm.Term.string "SpokenMarksModel" (427 : Nat)), "java/lang/String", [true, true, false, true, true, true, true, true, true, false]),
  ((Jvm.Term.string "SpokenMarksModel" (429 : Nat)), "java/lang/String", [true, true, true, false, false, false, true, true, false, true]),
  ((Jvm.Term.string "SpokenMarksModel" (431 : Nat)), "java/lang/String", [true, true, true, false, false, true, true, false, true, false]),
  ((Jvm.Term.string "SpokenMarksModel" (433 : Nat)), "java/lang/String", [true, true, true, false, true, false, false, true, true, true]),
  ((Jvm.Term.string "SpokenMarksModel" (434 : Nat)), "java/lang/String", [true, true, true, false, true, true, false, true, false, true]),
  ((Jvm.Term.string "SpokenMarksModel" (436 : Nat)), "java/lang/String", [true, true, true, true, false, false, false, true, false, true]),
  ((Jvm.Term.string "java/util/ArrayList" (23 : Nat)), "java/lang/String", [true, false, false, false, true, false, false, false, false, true, false]),
  ((Jvm.Term.string "java/util/Arrays" (337 : Nat)), "java/lang/String", [true, false, false, false, true, true, false, false, false, false]),
  ((Jvm.Term.string "jdk/internal/util/ArraysSupport" (92 : Nat)), "java/lang/String", [true, false, false, true, false, false, false, true, true, true, true]),
  ((Jvm.Term.field (Jvm.Term.string "SpokenMarks" (461 : Nat)) "java/lang/String" "value" "[B"), "[B", [true, true, true, true, true, true, false, true, false, false]),
  ((Jvm.Term.field (Jvm.Term.string "SpokenMarks" (56 : Nat)) "java/lang/String" "value" "[B"), "[B", [true, true, true, true, false, true, true, false, true, false]),
  ((Jvm.Term.field (Jvm.Term.string "SpokenMarks" (64 : Nat)) "java/lang/String" "value" "[B"), "[B", [true, true, true, true, false, true, true, false, true, true]),
  ((Jvm.Term.field (Jvm.Term.string "SpokenMarks" (66 : Nat)) "java/lang/String" "value" "[B"), "[B", [true, true, true, true, false, true, true, true, false, false]),
  ((Jvm.Term.field (Jvm.Term.string "SpokenMarks" (75 : Nat)) "java/lang/String" "value" "[B"), "[B", [true, true, true, true, true, false, false, false, false]),
  ((Jvm.Term.field (Jvm.Term.string "SpokenMarks" (77 : Nat)) "java/lang/String" "value" "[B"), "[B", [true, true, true, true, true, false, false, false, true, false]),
  ((Jvm.Term.field (Jvm.Term.string "SpokenMarks" (83 : Nat)) "java/lang/String" "value" "[B"), "[B", [true, true, true, true, true, false, false, false, true, true]),
  ((Jvm.Term.field (Jvm.Term.string "SpokenMarks" (85 : Nat)) "java/lang/String" "value" "[B"), "[B", [true, true, true, true, true, false, false, true, false, false]),
  ((Jvm.Term.field (Jvm.Term.string "SpokenMarks" (92 : Nat)) "java/lang/String" "value" "[B"), "[B", [true, true, true, true, true, false, false, true, false, true]),
  ((Jvm.Term.field (Jvm.Term.string "SpokenMarks$Reader" (15 : Nat)) "java/lang/String" "value" "[B"), "[B", [true, true, true, true, true, false, false, true, true, true]),
  ((Jvm.Term.field (Jvm.Term.string "SpokenMarks$Reader" (44 : Nat)) "java/lang/String" "value" "[B"), "[B", [true, true, true, true, true, false, true, false, false]),
  ((Jvm.Term.field (Jvm.Term.string "SpokenMarks$Reader" (64 : Nat)) "java/lang/String" "value" "[B"), "[B", [true, true, true, true, true, false, true, false, true, false]),
  ((Jvm.Term.field (Jvm.Term.string "SpokenMarks$Scanner" (9 : Nat)) "java/lang/String" "value" "[B"), "[B", [true, true, true, true, true, false, false, true, true, false]),
  ((Jvm.Term.field (Jvm.Term.string "SpokenMarks$Script" (66 : Nat)) "java/lang/String" "value" "[B"), "[B", [true, true, true, true, true, false, true, false, true, true]),
  ((Jvm.Term.field (Jvm.Term.string "SpokenMarks$Script" (71 : Nat)) "java/lang/String" "value" "[B"), "[B", [true, true, true, true, true, false, true, true, false, false]),
  ((Jvm.Term.field (Jvm.Term.string "SpokenMarks$Script" (73 : Nat)) "java/lang/String" "value" "[B"), "[B", [true, true, true, true, true, false, true, true, false, true]),
  ((Jvm.Term.field (Jvm.Term.string "SpokenMarks$Script" (75 : Nat)) "java/lang/String" "value" "[B"), "[B", [true, true, true, true, true, false, true, true, true, false]),
  ((Jvm.Term.field (Jvm.Term.string "SpokenMarks$Script" (77 : Nat)) "java/lang/String" "value" "[B"), "[B", [true, true, true, true, true, false, true, true, true, true]),
  ((Jvm.Term.field (Jvm.Term.string "SpokenMarks$Script" (79 : Nat)) "java/lang/String" "value" "[B"), "[B", [true, true, true, true, true, true, false, false, false]),
  ((Jvm.Term.field (Jvm.Term.string "SpokenMarks$Script" (81 : Nat)) "java/lang/String" "value" "[B"), "[B", [true, true, true, true, true, true, false, false, true, false]),
  ((Jvm.Term.field (Jvm.Term.string "SpokenMarks$Script" (83 : Nat)) "java/lang/String" "value" "[B"), "[B", [true, true, true, true, true, true, false, false, true, true]),
  ((Jvm.Term.field (Jvm.Term.string "SpokenMarks$Step$1" (7 : Nat)) "java/lang/String" "value" "[B"), "[B", [true, true, true, true, false, true, true, true, true, false]),
  ((Jvm.Term.field (Jvm.Term.string "SpokenMarks$Step$2" (7 : Nat)) "java/lang/String" "value" "[B"), "[B", [true, true, true, true, false, true, true, true, true, true]),
  ((Jvm.Term.field (Jvm.Term.string "SpokenMarksModel" (100 : Nat)) "java/lang/String" "value" "[B"), "[B", [true, true, true, true, true, true, false, true, false, true]),
  ((Jvm.Term.field (Jvm.Term.string "SpokenMarksModel" (263 : Nat)) "java/lang/String" "value" "[B"), "[B", [true, true, true, true, true, true, false, true, true, false]),
  ((Jvm.Term.field (Jvm.Term.string "SpokenMarksModel" (275 : Nat)) "java/lang/String" "value" "[B"), "[B", [true, true, true, true, true, true, false, true, true, true]),
  ((Jvm.Term.field (Jvm.Term.string "SpokenMarksModel" (280 : Nat)) "java/lang/String" "value" "[B"), "[B", [true, true, true, true, true, true, true, false, false]),
  ((Jvm.Term.field (Jvm.Term.string "SpokenMarksModel" (427 : Nat)) "java/lang/String" "value" "[B"), "[B", [true, true, true, true, true, true, true, false, true, false]),
  ((Jvm.Term.field (Jvm.Term.string "SpokenMarksModel" (429 : Nat)) "java/lang/String" "value" "[B"), "[B", [true, true, true, true, true, true, true, false, true, true]),
  ((Jvm.Term.field (Jvm.Term.string "SpokenMarksModel" (431 : Nat)) "java/lang/String" "value" "[B"), "[B", [true, true, true, true, true, true, true, true, false, false]),
  ((Jvm.Term.field (Jvm.Term.string "SpokenMarksModel" (433 : Nat)) "java/lang/String" "value" "[B"), "[B", [true, true, true, true, true, true, true, true, false, true]),
  ((Jvm.Term.field (Jvm.Term.string "SpokenMarksModel" (434 : Nat)) "java/lang/String" "value" "[B"), "[B", [true, true, true, true, true, true, true, true, true, false]),
  ((Jvm.Term.field (Jvm.Term.string "SpokenMarksModel" (436 : Nat)) "java/lang/String" "value" "[B"), "[B", [true, true, true, true, true, true, true, true, true, true]),
  ((Jvm.Term.field (Jvm.Term.string "java/util/ArrayList" (23 : Nat)) "java/lang/String" "value" "[B"), "[B", [true, true, true, true, false, true, false, true, true, true]),
  ((Jvm.Term.field (Jvm.Term.string "java/util/Arrays" (337 : Nat)) "java/lang/String" "value" "[B"), "[B", [true, true, true, true, false, true, true, false, false]),
  ((Jvm.Term.field (Jvm.Term.string "jdk/internal/util/ArraysSupport" (92 : Nat)) "java/lang/String" "value" "[B"), "[B", [true, true, true, true, false, true, true, true, false, true]),
  ((Jvm.Term.static "java/util/ArrayList" "EMPTY_ELEMENTDATA" "[Ljava/lang/Object;"), "[Ljava/lang/Object;", [false, false, false, false, false, false, false, false, true, true, false]),
  ((Jvm.Term.static "java/util/ArrayList" "DEFAULTCAPACITY_EMPTY_ELEMENTDATA" "[Ljava/lang/Object;"), "[Ljava/lang/Object;", [false, false, true, false, false, false, true, true, true, false, false]),
  ((Jvm.Term.static "java/lang/Integer" "DigitTens" "[B"), "[B", [true, true, true, true, false, true, false, true, true, false]),
  ((Jvm.Term.static "java/lang/Integer" "DigitOnes" "[B"), "[B", [true, true, true, true, false, true, false, true, false, true]),
  ((Jvm.Term.static "SpokenMarks$Step" "$VALUES" "[LSpokenMarks$Step;"), "[LSpokenMarks$Step;", [false, false, true, false, false, true, false, true, true, true, false]),
  ((Jvm.Term.static "SpokenMarks$Step" "PAIR_PH" "LSpokenMarks$Step;"), "SpokenMarks$Step$1", [false, false, true, false, false, true, true, true, false, true, false]),
  ((Jvm.Term.static "SpokenMarks$Step" "PAIR_CK" "LSpokenMarks$Step;"), "SpokenMarks$Step$2", [false, false, true, false, false, true, true, true, true, false, false]),
  ((Jvm.Term.static "SpokenMarks$Step" "LETTERS" "LSpokenMarks$Step;"), "SpokenMarks$Step$3", [false, false, true, false, false, true, true, true, true, true, true]),
  ((Jvm.Term.static "SpokenMarks$Step" "SILENT" "LSpokenMarks$Step;"), "SpokenMarks$Step$4", [false, false, true, false, true, false, false, false, true, false]),
  ((Jvm.Term.static "SpokenMarks$Step" "RUNS" "LSpokenMarks$Step;"), "SpokenMarks$Step$5", [false, false, true, false, true, false, false, true, false, true, true]),
  ((Jvm.Term.static "jdk/internal/util/ArraysSupport" "U" "Ljdk/internal/misc/Unsafe;"), "jdk/internal/misc/Unsafe", [false, false, true, false, false, true, false, false, true, false])]

set_option maxHeartbeats 4000000 in
theorem stLp : ForE (fun e : Term × String × List Bool => nwAt e.2.2 narrow_1 = some (.exactly e.1 e.2.1)) stL := ⟨rfl, rfl, rfl, rfl, rfl, rfl, rfl, rfl, rfl, rfl, rfl, rfl, rfl, rfl, rfl, rfl, rfl, rfl, rfl, rfl, rfl, rfl, rfl, rfl, rfl, rfl, rfl, rfl, rfl, rfl, rfl, rfl, rfl, rfl, rfl, rfl, rfl, rfl, rfl, rfl, rfl, rfl, rfl, rfl, rfl, rfl, rfl, rfl, rfl, rfl, rfl, rfl, rfl, rfl, rfl, rfl, rfl, rfl, rfl, rfl, rfl, rfl, rfl, rfl, rfl, rfl, rfl, rfl, rfl, rfl, rfl, rfl, rfl, rfl, rfl, rfl, rfl, rfl, rfl, rfl, rfl, rfl, rfl, trivial⟩

theorem stLl : stL.length = 83 := rfl
theorem st_C {s : State} {A : Array Value} (hn2 : narrow_1.before A s = true) : ∃ C : Nat → Nat, ∀ k, k < 83 → ∃ cell : Cell, (stL.getD k st0).1.eval A s none [] s = some (.ref (C k)) ∧ s.heap[C k]? = some cell ∧ cell.vm.isStatics = false ∧ s.vm.findClass (stL.getD k st0).2.1 = some cell.cls := by
  have h : ∀ k : Nat, ∃ a : Nat, k < 83 → ∃ cell : Cell, (stL.getD k st0).1.eval A s none [] s = some (.ref a) ∧ s.heap[a]? = some cell ∧ cell.vm.isStatics = false ∧ s.vm.findClass (stL.getD k st0).2.1 = some cell.cls := by
    intro k
    by_cases hk : k < 83
    · obtain ⟨a, cell, e1, e2, e3, e4⟩ := st_x hn2 _ (ForE.get (d := st0) stLp k (by rw [stLl]; exact hk))
      exact ⟨a, fun _ => ⟨cell, e1, e2, e3, e4⟩⟩
    · exact ⟨0, fun q => absurd q hk⟩
  exact ⟨fun k => Classical.choose (h k), fun k => Classical.choose_spec (h k)⟩
/-- what is known where the constants are looked at -/
def StC (s : State) (A : Array Value) (D : va_G) (Ar : Nat → ClassId) (C : Nat → Nat) : Prop := narrow_1.before A s = true ∧ (∀ (c : Nat) (q : vw_C), HCl[c]? = some q → (spCl c = false → u_Kn s q.1 q.2.1 q.2.2 (D.1 c) (D.2 c)) ∧ s.vm.findClass q.1 = some (D.1 c)) ∧ (∀ k, k < 7 → ArrOfT s (Ar k) (gTy k) ∧ va_RA s (Ar k) (gTy k)) ∧ ∀ k, k < 83 → ∃ cell : Cell, (stL.getD k st0).1.eval A s none [] s = some (.ref (C k)) ∧ s.heap[C k]? = some cell ∧ cell.vm.isStatics = false ∧ s.vm.findClass (stL.getD k st0).2.1 = some cell.cls
theorem StC.b {s : State} {A : Array Value} {D : va_G} {Ar : Nat → ClassId} {C : Nat → Nat} (h : StC s A D Ar C) : ArrOfT s (Ar 1) .byte ∧ s.vm.findClass "[B" = some (Ar 1) := by
  have h1 := h.2.2.1 1 (by decide)
  have e : "[" ++ (FieldType.byte).toString = "[B" := by decide
  exact ⟨h1.1, by rw [← e]; exact h1.2⟩

theorem st_v0 {s : State} {A : Array Value} {D : va_G} {Ar : Nat → ClassId} {C : Nat → Nat} (h : StC s A D Ar C) (W : Wd) : entW ((D, Ar, s, C, W) : Gl) (C 0) (kVal ((D, Ar, s, C, W) : Gl) 0) s.heap := by
  obtain ⟨cell, ha, hc, hst, hcl⟩ := h.2.2.2 0 (by decide)
  obtain ⟨-, hva, -⟩ := h.2.2.2 36 (by decide)
  show entW _ _ (sE (C 36) (iI (sH (kkTx 0)))) _
  exact st_str (t := (Jvm.Term.string "SpokenMarks" (461 : Nat))) h.1 ((h.2.1 19 _ rfl).1 rfl) rfl ha hc hst hcl hva (p1 := [true, false, true, true, false, true, true, false, false, true, true]) (p2 := [true, false, true, true, false, true, true, true, false, false]) (p3 := [true, false, true, true, false, true, true, true, false, true, false]) (h0 := (32 : Int32)) (z0 := (0 : Int32)) rfl rfl rfl (by decide +kernel)

theorem st_v1 {s : State} {A : Array Value} {D : va_G} {Ar : Nat → ClassId} {C : Nat → Nat} (h : StC s A D Ar C) (W : Wd) : entW ((D, Ar, s, C, W) : Gl) (C 1) (kVal ((D, Ar, s, C, W) : Gl) 1) s.heap := by
  obtain ⟨cell, ha, hc, hst, hcl⟩ := h.2.2.2 1 (by decide)
  obtain ⟨-, hva, -⟩ := h.2.2.2 37 (by decide)
  show entW _ _ (sE (C 37) (iI (sH (kkTx 1)))) _
  exact st_str (t := (Jvm.Term.string "SpokenMarks" (56 : Nat))) h.1 ((h.2.1 19 _ rfl).1 rfl) rfl ha hc hst hcl hva (p1 := [true, false, false, false, true, true, false, true, true, true, false]) (p2 := [true, false, false, false, true, true, true, false, false, true, false]) (p3 := [true, false, false, false, true, true, true, false, false, true, true]) (h0 := (0 : Int32)) (z0 := (1 : Int32)) rfl rfl rfl (by decide +kernel)

theorem st_v2 {s : State} {A : Array Value} {D : va_G} {Ar : Nat → ClassId} {C : Nat → Nat} (h : StC s A D Ar C) (W : Wd) : entW ((D, Ar, s, C, W) : Gl) (C 2) (kVal ((D, Ar, s, C, W) : Gl) 2) s.heap := by
  obtain ⟨cell, ha, hc, hst, hcl⟩ := h.2.2.2 2 (by decide)
  obtain ⟨-, hva, -⟩ := h.2.2.2 38 (by decide)
  show entW _ _ (sE (C 38) (iI (sH (kkTx 2)))) _
  exact st_str (t := (Jvm.Term.string "SpokenMarks" (64 : Nat))) h.1 ((h.2.1 19 _ rfl).1 rfl) rfl ha hc hst hcl hva (p1 := [true, false, false, false, true, true, true, false, true, true, false]) (p2 := [true, false, false, false, true, true, true, true, true, true, true]) (p3 := [true, false, false, true, false, false, false, false, false, false]) (h0 := (94851114 : Int32)) (z0 := (0 : Int32)) rfl rfl rfl (by decide +kernel)

theorem st_v3 {s : State} {A : Array Value} {D : va_G} {Ar : Nat → ClassId} {C : Nat → Nat} (h : StC s A D Ar C) (W : Wd) : entW ((D, Ar, s, C, W) : Gl) (C 3) (kVal ((D, Ar, s, C, W) : Gl) 3) s.heap := by
  obtain ⟨cell, ha, hc, hst, hcl⟩ := h.2.2.2 3 (by decide)
  obtain ⟨-, hva, -⟩ := h.2.2.2 39 (by decide)
  show entW _ _ (sE (C 39) (iI (sH (kkTx 3)))) _
  exact st_str (t := (Jvm.Term.string "SpokenMarks" (66 : Nat))) h.1 ((h.2.1 19 _ rfl).1 rfl) rfl ha hc hst hcl hva (p1 := [true, false, false, true, false, false, false, false, false, true, true]) (p2 := [true, false, false, true, false, false, false, true, true, false]) (p3 := [true, false, false, true, false, false, false, true, true, true, false]) (h0 := (3297572 : Int32)) (z0 := (0 : Int32)) rfl rfl rfl (by decide +kernel)

theorem st_v4 {s : State} {A : Array Value} {D : va_G} {Ar : Nat → ClassId} {C : Nat → Nat} (h : StC s A D Ar C) (W : Wd) : entW ((D, Ar, s, C, W) : Gl) (C 4) (kVal ((D, Ar, s, C, W) : Gl) 4) s.heap := by
  obtain ⟨cell, ha, hc, hst, hcl⟩ := h.2.2.2 4 (by decide)
  obtain ⟨-, hva, -⟩ := h.2.2.2 40 (by decide)
  show entW _ _ (sE (C 40) (iI (sH (kkTx 4)))) _
  exact st_str (t := (Jvm.Term.string "SpokenMarks" (75 : Nat))) h.1 ((h.2.1 19 _ rfl).1 rfl) rfl ha hc hst hcl hva (p1 := [true, false, false, true, true, false, false, true, true, false]) (p2 := [true, false, false, true, true, false, true, false, false, true, true]) (p3 := [true, false, false, true, true, false, true, false, true, false]) (h0 := (3600 : Int32)) (z0 := (0 : Int32)) rfl rfl rfl (by decide +kernel)

theorem st_v5 {s : State} {A : Array Value} {D : va_G} {Ar : Nat → ClassId} {C : Nat → Nat} (h : StC s A D Ar C) (W : Wd) : entW ((D, Ar, s, C, W) : Gl) (C 5) (kVal ((D, Ar, s, C, W) : Gl) 5) s.heap := by
  obtain ⟨cell, ha, hc, hst, hcl⟩ := h.2.2.2 5 (by decide)
  obtain ⟨-, hva, -⟩ := h.2.2.2 41 (by decide)
  show entW _ _ (sE (C 41) (iI (sH (kkTx 5)))) _
  exact st_str (t := (Jvm.Term.string "SpokenMarks" (77 : Nat))) h.1 ((h.2.1 19 _ rfl).1 rfl) rfl ha hc hst hcl hva (p1 := [true, false, false, true, true, false, true, false, true, true, true]) (p2 := [true, false, false, true, true, true, false, false, false, false]) (p3 := [true, false, false, true, true, true, false, false, false, true, false]) (h0 := (109556739 : Int32)) (z0 := (0 : Int32)) rfl rfl rfl (by decide +kernel)

theorem st_v6 {s : State} {A : Array Value} {D : va_G} {Ar : Nat → ClassId} {C : Nat → Nat} (h : StC s A D Ar C) (W : Wd) : entW ((D, Ar, s, C, W) : Gl) (C 6) (kVal ((D, Ar, s, C, W) : Gl) 6) s.heap := by
  obtain ⟨cell, ha, hc, hst, hcl⟩ := h.2.2.2 6 (by decide)
  obtain ⟨-, hva, -⟩ := h.2.2.2 42 (by decide)
  show entW _ _ (sE (C 42) (iI (sH (kkTx 6)))) _
  exact st_str (t := (Jvm.Term.string "SpokenMarks" (83 : Nat))) h.1 ((h.2.1 19 _ rfl).1 rfl) rfl ha hc hst hcl hva (p1 := [true, false, false, true, true, true, false, false, true, false]) (p2 := [true, false, false, true, true, true, false, true, true, true, true]) (p3 := [true, false, false, true, true, true, true, false, false, false]) (h0 := (109572115 : Int32)) (z0 := (0 : Int32)) rfl rfl rfl (by decide +kernel)

theorem st_v7 {s : State} {A : Array Value} {D : va_G} {Ar : Nat → ClassId} {C : Nat → Nat} (h : StC s A D Ar C) (W : Wd) : entW ((D, Ar, s, C, W) : Gl) (C 7) (kVal ((D, Ar, s, C, W) : Gl) 7) s.heap := by
  obtain ⟨cell, ha, hc, hst, hcl⟩ := h.2.2.2 7 (by decide)
  obtain ⟨-, hva, -⟩ := h.2.2.2 43 (by decide)
  show entW _ _ (sE (C 43) (iI (sH (kkTx 7)))) _
  exact st_str (t := (Jvm.Term.string "SpokenMarks" (85 : Nat))) h.1 ((h.2.1 19 _ rfl).1 rfl) rfl ha hc hst hcl hva (p1 := [true, false, false, true, true, true, true, false, false, true, true]) (p2 := [true, false, false, true, true, true, true, true, true, false, true]) (p3 := [true, false, false, true, true, true, true, true, true, true, false]) (h0 := (106629499 : Int32)) (z0 := (0 : Int32)) rfl rfl rfl (by decide +kernel)

theorem st_v8 {s : State} {A : Array Value} {D : va_G} {Ar : Nat → ClassId} {C : Nat → Nat} (h : StC s A D Ar C) (W : Wd) : entW ((D, Ar, s, C, W) : Gl) (C 8) (kVal ((D, Ar, s, C, W) : Gl) 8) s.heap := by
  obtain ⟨cell, ha, hc, hst, hcl⟩ := h.2.2.2 8 (by decide)
  obtain ⟨-, hva, -⟩ := h.2.2.2 44 (by decide)
  show entW _ _ (sE (C 44) (iI (sH (kkTx 8)))) _
  exact st_str (t := (Jvm.Term.string "SpokenMarks" (92 : Nat))) h.1 ((h.2.1 19 _ rfl).1 rfl) rfl ha hc hst hcl hva (p1 := [true, false, true, false, false, false, false, false, false, false]) (p2 := [true, false, true, false, false, false, false, true, false, true, false]) (p3 := [true, false, true, false, false, false, false, true, false, true, true]) (h0 := (3135565 : Int32)) (z0 := (0 : Int32)) rfl rfl rfl (by decide +kernel)

theorem st_v9 {s : State} {A : Array Value} {D : va_G} {Ar : Nat → ClassId} {C : Nat → Nat} (h : StC s A D Ar C) (W : Wd) : entW ((D, Ar, s, C, W) : Gl) (C 9) (kVal ((D, Ar, s, C, W) : Gl) 9) s.heap := by
  obtain ⟨cell, ha, hc, hst, hcl⟩ := h.2.2.2 9 (by decide)
  obtain ⟨-, hva, -⟩ := h.2.2.2 45 (by decide)
  show entW _ _ (sE (C 45) (iI (sH (kkTx 9)))) _
  exact st_str (t := (Jvm.Term.string "SpokenMarks$Reader" (15 : Nat))) h.1 ((h.2.1 19 _ rfl).1 rfl) rfl ha hc hst hcl hva (p1 := [true, false, true, false, false, false, true, false, true, true, true]) (p2 := [true, false, true, false, false, true, false, false, false, true, true]) (p3 := [true, false, true, false, false, true, false, false, true, false]) (h0 := (2057749608 : Int32)) (z0 := (0 : Int32)) rfl rfl rfl (by decide +kernel)

theorem st_v10 {s : State} {A : Array Value} {D : va_G} {Ar : Nat → ClassId} {C : Nat → Nat} (h : StC s A D Ar C) (W : Wd) : entW ((D, Ar, s, C, W) : Gl) (C 10) (kVal ((D, Ar, s, C, W) : Gl) 10) s.heap := by
  obtain ⟨cell, ha, hc, hst, hcl⟩ := h.2.2.2 10 (by decide)
  obtain ⟨-, hva, -⟩ := h.2.2.2 46 (by decide)
  show entW _ _ (sE (C 46) (iI (sH (kkTx 10)))) _
  exact st_str (t := (Jvm.Term.string "SpokenMarks$Reader" (44 : Nat))) h.1 ((h.2.1 19 _ rfl).1 rfl) rfl ha hc hst hcl hva (p1 := [true, false, true, false, false, true, false, false, true, true, true]) (p2 := [true, false, true, false, false, true, false, true, true, true, true]) (p3 := [true, false, true, false, false, true, true, false, false, false]) (h0 := (113643 : Int32)) (z0 := (0 : Int32)) rfl rfl rfl (by decide +kernel)

theorem st_v11 {s : State} {A : Array Value} {D : va_G} {Ar : Nat → ClassId} {C : Nat → Nat} (h : StC s A D Ar C) (W : Wd) : entW ((D, Ar, s, C, W) : Gl) (C 11) (kVal ((D, Ar, s, C, W) : Gl) 11) s.heap := by
  obtain ⟨cell, ha, hc, hst, hcl⟩ := h.2.2.2 11 (by decide)
  obtain ⟨-, hva, -⟩ := h.2.2.2 47 (by decide)
  show entW _ _ (sE (C 47) (iI (sH (kkTx 11)))) _
  exact st_str (t := (Jvm.Term.string "SpokenMarks$Reader" (64 : Nat))) h.1 ((h.2.1 19 _ rfl).1 rfl) rfl ha hc hst hcl hva (p1 := [true, false, true, false, false, true, true, false, false, true, true]) (p2 := [true, false, true, false, false, true, true, true, true, false, false]) (p3 := [true, false, true, false, false, true, true, true, true, false, true]) (h0 := (3344077 : Int32)) (z0 := (0 : Int32)) rfl rfl rfl (by decide +kernel)

theorem st_v12 {s : State} {A : Array Value} {D : va_G} {Ar : Nat → ClassId} {C : Nat → Nat} (h : StC s A D Ar C) (W : Wd) : entW ((D, Ar, s, C, W) : Gl) (C 12) (kVal ((D, Ar, s, C, W) : Gl) 12) s.heap := by
  obtain ⟨cell, ha, hc, hst, hcl⟩ := h.2.2.2 12 (by decide)
  obtain ⟨-, hva, -⟩ := h.2.2.2 48 (by decide)
  show entW _ _ (sE (C 48) (iI (sH (kkTx 12)))) _
  exact st_str (t := (Jvm.Term.string "SpokenMarks$Scanner" (9 : Nat))) h.1 ((h.2.1 19 _ rfl).1 rfl) rfl ha hc hst hcl hva (p1 := [true, false, true, false, false, false, false, true, true, true, false]) (p2 := [true, false, true, false, false, false, true, false, false, true, false]) (p3 := [true, false, true, false, false, false, true, false, false, true, true]) (h0 := (0 : Int32)) (z0 := (1 : Int32)) rfl rfl rfl (by decide +kernel)

theorem st_v13 {s : State} {A : Array Value} {D : va_G} {Ar : Nat → ClassId} {C : Nat → Nat} (h : StC s A D Ar C) (W : Wd) : entW ((D, Ar, s, C, W) : Gl) (C 13) (kVal ((D, Ar, s, C, W) : Gl) 13) s.heap := by
  obtain ⟨cell, ha, hc, hst, hcl⟩ := h.2.2.2 13 (by decide)
  obtain ⟨-, hva, -⟩ := h.2.2.2 49 (by decide)
  show entW _ _ (sE (C 49) (iI (sH (kkTx 13)))) _
  exact st_str (t := (Jvm.Term.string "SpokenMarks$Script" (66 : Nat))) h.1 ((h.2.1 19 _ rfl).1 rfl) rfl ha hc hst hcl hva (p1 := [true, false, true, false, false, true, true, true, true, true, true]) (p2 := [true, false, true, false, true, false, false, false, true, true, true]) (p3 := [true, false, true, false, true, false, false, true, false, false]) (h0 := (113643 : Int32)) (z0 := (0 : Int32)) rfl rfl rfl (by decide +kernel)

theorem st_v14 {s : State} {A : Array Value} {D : va_G} {Ar : Nat → ClassId} {C : Nat → Nat} (h : StC s A D Ar C) (W : Wd) : entW ((D, Ar, s, C, W) : Gl) (C 14) (kVal ((D, Ar, s, C, W) : Gl) 14) s.heap := by
  obtain ⟨cell, ha, hc, hst, hcl⟩ := h.2.2.2 14 (by decide)
  obtain ⟨-, hva, -⟩ := h.2.2.2 50 (by decide)
  show entW _ _ (sE (C 50) (iI (sH (kkTx 14)))) _
  exact st_str (t := (Jvm.Term.string "SpokenMarks$Script" (71 : Nat))) h.1 ((h.2.1 19 _ rfl).1 rfl) rfl ha hc hst hcl hva (p1 := [true, false, true, false, true, false, false, true, true, false]) (p2 := [true, false, true, false, true, false, true, false, true, true, false]) (p3 := [true, false, true, false, true, false, true, false, true, true, true]) (h0 := (3344077 : Int32)) (z0 := (0 : Int32)) rfl rfl rfl (by decide +kernel)

theorem st_v15 {s : State} {A : Array Value} {D : va_G} {Ar : Nat → ClassId} {C : Nat → Nat} (h : StC s A D Ar C) (W : Wd) : entW ((D, Ar, s, C, W) : Gl) (C 15) (kVal ((D, Ar, s, C, W) : Gl) 15) s.heap := by
  obtain ⟨cell, ha, hc, hst, hcl⟩ := h.2.2.2 15 (by decide)
  obtain ⟨-, hva, -⟩ := h.2.2.2 51 (by decide)
  show entW _ _ (sE (C 51) (iI (sH (kkTx 15)))) _
  exact st_str (t := (Jvm.Term.string "SpokenMarks$Script" (73 : Nat))) h.1 ((h.2.1 19 _ rfl).1 rfl) rfl ha hc hst hcl hva (p1 := [true, false, true, false, true, false, true, true, false, true, true]) (p2 := [true, false, true, false, true, true, false, false, true, false]) (p3 := [true, false, true, false, true, true, false, false, true, true, false]) (h0 := (111442610 : Int32)) (z0 := (0 : Int32)) rfl rfl rfl (by decide +kernel)

theorem st_v16 {s : State} {A : Array Value} {D : va_G} {Ar : Nat → ClassId} {C : Nat → Nat} (h : StC s A D Ar C) (W : Wd) : entW ((D, Ar, s, C, W) : Gl) (C 16) (kVal ((D, Ar, s, C, W) : Gl) 16) s.heap := by
  obtain ⟨cell, ha, hc, hst, hcl⟩ := h.2.2.2 16 (by decide)
  obtain ⟨-, hva, -⟩ := h.2.2.2 52 (by decide)
  show entW _ _ (sE (C 52) (iI (sH (kkTx 16)))) _
  exact st_str (t := (Jvm.Term.string "SpokenMarks$Script" (75 : Nat))) h.1 ((h.2.1 19 _ rfl).1 rfl) rfl ha hc hst hcl hva (p1 := [true, false, true, false, true, true, false, true, false, false]) (p2 := [true, false, true, false, true, true, true, false, false, true, false]) (p3 := [true, false, true, false, true, true, true, false, false, true, true]) (h0 := (3092207 : Int32)) (z0 := (0 : Int32)) rfl rfl rfl (by decide +kernel)

theorem st_v17 {s : State} {A : Array Value} {D : va_G} {Ar : Nat → ClassId} {C : Nat → Nat} (h : StC s A D Ar C) (W : Wd) : entW ((D, Ar, s, C, W) : Gl) (C 17) (kVal ((D, Ar, s, C, W) : Gl) 17) s.heap := by
  obtain ⟨cell, ha, hc, hst, hcl⟩ := h.2.2.2 17 (by decide)
  obtain ⟨-, hva, -⟩ := h.2.2.2 53 (by decide)
  show entW _ _ (sE (C 53) (iI (sH (kkTx 17)))) _
  exact st_str (t := (Jvm.Term.string "SpokenMarks$Script" (77 : Nat))) h.1 ((h.2.1 19 _ rfl).1 rfl) rfl ha hc hst hcl hva (p1 := [true, false, true, false, true, true, true, false, true, true, false]) (p2 := [true, false, true, false, true, true, true, true, true, true, true]) (p3 := [true, false, true, true, false, false, false, false, false, false]) (h0 := (113126854 : Int32)) (z0 := (0 : Int32)) rfl rfl rfl (by decide +kernel)

theorem st_v18 {s : State} {A : Array Value} {D : va_G} {Ar : Nat → ClassId} {C : Nat → Nat} (h : StC s A D Ar C) (W : Wd) : entW ((D, Ar, s, C, W) : Gl) (C 18) (kVal ((D, Ar, s, C, W) : Gl) 18) s.heap := by
  obtain ⟨cell, ha, hc, hst, hcl⟩ := h.2.2.2 18 (by decide)
  obtain ⟨-, hva, -⟩ := h.2.2.2 54 (by decide)
  show entW _ _ (sE (C 54) (iI (sH (kkTx 18)))) _
  exact st_str (t := (Jvm.Term.string "SpokenMarks$Script" (79 : Nat))) h.1 ((h.2.1 19 _ rfl).1 rfl) rfl ha hc hst hcl hva (p1 := [true, false, true, true, false, false, false, false, false, true, true]) (p2 := [true, false, true, true, false, false, false, true, true, true, false]) (p3 := [true, false, true, true, false, false, false, true, true, true, true]) (h0 := (93927806 : Int32)) (z0 := (0 : Int32)) rfl rfl rfl (by decide +kernel)

theorem st_v19 {s : State} {A : Array Value} {D : va_G} {Ar : Nat → ClassId} {C : Nat → Nat} (h : StC s A D Ar C) (W : Wd) : entW ((D, Ar, s, C, W) : Gl) (C 19) (kVal ((D, Ar, s, C, W) : Gl) 19) s.heap := by
  obtain ⟨cell, ha, hc, hst, hcl⟩ := h.2.2.2 19 (by decide)
  obtain ⟨-, hva, -⟩ := h.2.2.2 55 (by decide)
  show entW _ _ (sE (C 55) (iI (sH (kkTx 19)))) _
  exact st_str (t := (Jvm.Term.string "SpokenMarks$Script" (81 : Nat))) h.1 ((h.2.1 19 _ rfl).1 rfl) rfl ha hc hst hcl hva (p1 := [true, false, true, true, false, false, true, false, false, true, false]) (p2 := [true, false, true, true, false, false, true, true, true, true, false]) (p3 := [true, false, true, true, false, false, true, true, true, true, true]) (h0 := (-339185956 : Int32)) (z0 := (0 : Int32)) rfl rfl rfl (by decide +kernel)

theorem st_v20 {s : State} {A : Array Value} {D : va_G} {Ar : Nat → ClassId} {C : Nat → Nat} (h : StC s A D Ar C) (W : Wd) : entW ((D, Ar, s, C, W) : Gl) (C 20) (kVal ((D, Ar, s, C, W) : Gl) 20) s.heap := by
  obtain ⟨cell, ha, hc, hst, hcl⟩ := h.2.2.2 20 (by decide)
  obtain ⟨-, hva, -⟩ := h.2.2.2 56 (by decide)
  show entW _ _ (sE (C 56) (iI (sH (kkTx 20)))) _
  exact st_str (t := (Jvm.Term.string "SpokenMarks$Script" (83 : Nat))) h.1 ((h.2.1 19 _ rfl).1 rfl) rfl ha hc hst hcl hva (p1 := [true, false, true, true, false, true, false, false, false, true, false]) (p2 := [true, false, true, true, false, true, false, true, true, true, true]) (p3 := [true, false, true, true, false, true, true, false, false, false]) (h0 := (1097386675 : Int32)) (z0 := (0 : Int32)) rfl rfl rfl (by decide +kernel)

theorem st_v21 {s : State} {A : Array Value} {D : va_G} {Ar : Nat → ClassId} {C : Nat → Nat} (h : StC s A D Ar C) (W : Wd) : entW ((D, Ar, s, C, W) : Gl) (C 21) (kVal ((D, Ar, s, C, W) : Gl) 21) s.heap := by
  obtain ⟨cell, ha, hc, hst, hcl⟩ := h.2.2.2 21 (by decide)
  obtain ⟨-, hva, -⟩ := h.2.2.2 57 (by decide)
  show entW _ _ (sE (C 57) (iI (sH (kkTx 21)))) _
  exact st_str (t := (Jvm.Term.string "SpokenMarks$Step$1" (7 : Nat))) h.1 ((h.2.1 19 _ rfl).1 rfl) rfl ha hc hst hcl hva (p1 := [true, false, false, true, false, true, true, true, false, false]) (p2 := [true, false, false, true, false, true, true, true, true, true, false]) (p3 := [true, false, false, true, false, true, true, true, true, true, true]) (h0 := (3576 : Int32)) (z0 := (0 : Int32)) rfl rfl rfl (by decide +kernel)

theorem st_v22 {s : State} {A : Array Value} {D : va_G} {Ar : Nat → ClassId} {C : Nat → Nat} (h : StC s A D Ar C) (W : Wd) : entW ((D, Ar, s, C, W) : Gl) (C 22) (kVal ((D, Ar, s, C, W) : Gl) 22) s.heap := by
  obtain ⟨cell, ha, hc, hst, hcl⟩ := h.2.2.2 22 (by decide)
  obtain ⟨-, hva, -⟩ := h.2.2.2 58 (by decide)
  show entW _ _ (sE (C 58) (iI (sH (kkTx 22)))) _
  exact st_str (t := (Jvm.Term.string "SpokenMarks$Step$2" (7 : Nat))) h.1 ((h.2.1 19 _ rfl).1 rfl) rfl ha hc hst hcl hva (p1 := [true, false, false, true, true, false, false, false, false, true, false]) (p2 := [true, false, false, true, true, false, false, true, false, false]) (p3 := [true, false, false, true, true, false, false, true, false, true, false]) (h0 := (3176 : Int32)) (z0 := (0 : Int32)) rfl rfl rfl (by decide +kernel)

theorem st_v23 {s : State} {A : Array Value} {D : va_G} {Ar : Nat → ClassId} {C : Nat → Nat} (h : StC s A D Ar C) (W : Wd) : entW ((D, Ar, s, C, W) : Gl) (C 23) (kVal ((D, Ar, s, C, W) : Gl) 23) s.heap := by
  obtain ⟨cell, ha, hc, hst, hcl⟩ := h.2.2.2 23 (by decide)
  obtain ⟨-, hva, -⟩ := h.2.2.2 59 (by decide)
  show entW _ _ (sE (C 59) (iI (sH (kkTx 23)))) _
  exact st_str (t := (Jvm.Term.string "SpokenMarksModel" (100 : Nat))) h.1 ((h.2.1 19 _ rfl).1 rfl) rfl ha hc hst hcl hva (p1 := [true, false, true, true, false, true, true, true, true, false, false]) (p2 := [true, true, false, true, false, true, false, false, true, false]) (p3 := [true, true, false, true, false, true, false, false, true, true]) (h0 := (-1546918222 : Int32)) (z0 := (0 : Int32)) rfl rfl rfl (by decide +kernel)

theorem st_v24 {s : State} {A : Array Value} {D : va_G} {Ar : Nat → ClassId} {C : Nat → Nat} (h : StC s A D Ar C) (W : Wd) : entW ((D, Ar, s, C, W) : Gl) (C 24) (kVal ((D, Ar, s, C, W) : Gl) 24) s.heap := by
  obtain ⟨cell, ha, hc, hst, hcl⟩ := h.2.2.2 24 (by decide)
  obtain ⟨-, hva, -⟩ := h.2.2.2 60 (by decide)
  show entW _ _ (sE (C 60) (iI (sH (kkTx 24)))) _
  exact st_str (t := (Jvm.Term.string "SpokenMarksModel" (263 : Nat))) h.1 ((h.2.1 19 _ rfl).1 rfl) rfl ha hc hst hcl hva (p1 := [true, true, false, true, false, true, false, true, false, true]) (p2 := [true, true, false, true, true, false, false, false, false]) (p3 := [true, true, false, true, true, false, false, false, true, false]) (h0 := (2057749608 : Int32)) (z0 := (0 : Int32)) rfl rfl rfl (by decide +kernel)

theorem st_v25 {s : State} {A : Array Value} {D : va_G} {Ar : Nat → ClassId} {C : Nat → Nat} (h : StC s A D Ar C) (W : Wd) : entW ((D, Ar, s, C, W) : Gl) (C 25) (kVal ((D, Ar, s, C, W) : Gl) 25) s.heap := by
  obtain ⟨cell, ha, hc, hst, hcl⟩ := h.2.2.2 25 (by decide)
  obtain ⟨-, hva, -⟩ := h.2.2.2 61 (by decide)
  show entW _ _ (sE (C 61) (iI (sH (kkTx 25)))) _
  exact st_str (t := (Jvm.Term.string "SpokenMarksModel" (275 : Nat))) h.1 ((h.2.1 19 _ rfl).1 rfl) rfl ha hc hst hcl hva (p1 := [true, true, false, true, true, false, false, true, false, true]) (p2 := [true, true, false, true, true, false, true, true, false, false]) (p3 := [true, true, false, true, true, false, true, true, false, true]) (h0 := (113643 : Int32)) (z0 := (0 : Int32)) rfl rfl rfl (by decide +kernel)

theorem st_v26 {s : State} {A : Array Value} {D : va_G} {Ar : Nat → ClassId} {C : Nat → Nat} (h : StC s A D Ar C) (W : Wd) : entW ((D, Ar, s, C, W) : Gl) (C 26) (kVal ((D, Ar, s, C, W) : Gl) 26) s.heap := by
  obtain ⟨cell, ha, hc, hst, hcl⟩ := h.2.2.2 26 (by decide)
  obtain ⟨-, hva, -⟩ := h.2.2.2 62 (by decide)
  show entW _ _ (sE (C 62) (iI (sH (kkTx 26)))) _
  exact st_str (t := (Jvm.Term.string "SpokenMarksModel" (280 : Nat))) h.1 ((h.2.1 19 _ rfl).1 rfl) rfl ha hc hst hcl hva (p1 := [true, true, false, true, true, true, false, false, true, false]) (p2 := [true, true, false, true, true, true, true, false, true, false]) (p3 := [true, true, false, true, true, true, true, false, true, true]) (h0 := (3344077 : Int32)) (z0 := (0 : Int32)) rfl rfl rfl (by decide +kernel)

theorem st_v27 {s : State} {A : Array Value} {D : va_G} {Ar : Nat → ClassId} {C : Nat → Nat} (h : StC s A D Ar C) (W : Wd) : entW ((D, Ar, s, C, W) : Gl) (C 27) (kVal ((D, Ar, s, C, W) : Gl) 27) s.heap := by
  obtain ⟨cell, ha, hc, hst, hcl⟩ := h.2.2.2 27 (by decide)
  obtain ⟨-, hva, -⟩ := h.2.2.2 63 (by decide)
  show entW _ _ (sE (C 63) (iI (sH (kkTx 27)))) _
  exact st_str (t := (Jvm.Term.string "SpokenMarksModel" (427 : Nat))) h.1 ((h.2.1 19 _ rfl).1 rfl) rfl ha hc hst hcl hva (p1 := [true, true, false, true, true, true, true, true, true, true]) (p2 := [true, true, true, false, false, false, true, false, true, false]) (p3 := [true, true, true, false, false, false, true, false, true, true]) (h0 := (111442610 : Int32)) (z0 := (0 : Int32)) rfl rfl rfl (by decide +kernel)

theorem st_v28 {s : State} {A : Array Value} {D : va_G} {Ar : Nat → ClassId} {C : Nat → Nat} (h : StC s A D Ar C) (W : Wd) : entW ((D, Ar, s, C, W) : Gl) (C 28) (kVal ((D, Ar, s, C, W) : Gl) 28) s.heap := by
  obtain ⟨cell, ha, hc, hst, hcl⟩ := h.2.2.2 28 (by decide)
  obtain ⟨-, hva, -⟩ := h.2.2.2 64 (by decide)
  show entW _ _ (sE (C 64) (iI (sH (kkTx 28)))) _
  exact st_str (t := (Jvm.Term.string "SpokenMarksModel" (429 : Nat))) h.1 ((h.2.1 19 _ rfl).1 rfl) rfl ha hc hst hcl hva (p1 := [true, true, true, false, false, false, true, true, true, false]) (p2 := [true, true, true, false, false, true, false, true, true, false]) (p3 := [true, true, true, false, false, true, false, true, true, true]) (h0 := (3092207 : Int32)) (z0 := (0 : Int32)) rfl rfl rfl (by decide +kernel)

theorem st_v29 {s : State} {A : Array Value} {D : va_G} {Ar : Nat → ClassId} {C : Nat → Nat} (h : StC s A D Ar C) (W : Wd) : entW ((D, Ar, s, C, W) : Gl) (C 29) (kVal ((D, Ar, s, C, W) : Gl) 29) s.heap := by
  obtain ⟨cell, ha, hc, hst, hcl⟩ := h.2.2.2 29 (by decide)
  obtain ⟨-, hva, -⟩ := h.2.2.2 65 (by decide)
  show entW _ _ (sE (C 65) (iI (sH (kkTx 29)))) _
  exact st_str (t := (Jvm.Term.string "SpokenMarksModel" (431 : Nat))) h.1 ((h.2.1 19 _ rfl).1 rfl) rfl ha hc hst hcl hva (p1 := [true, true, true, false, false, true, true, false, true, true]) (p2 := [true, true, true, false, true, false, false, true, false, false]) (p3 := [true, true, true, false, true, false, false, true, false, true]) (h0 := (113126854 : Int32)) (z0 := (0 : Int32)) rfl rfl rfl (by decide +kernel)

theorem st_v30 {s : State} {A : Array Value} {D : va_G} {Ar : Nat → ClassId} {C : Nat → Nat} (h : StC s A D Ar C) (W : Wd) : entW ((D, Ar, s, C, W) : Gl) (C 30) (kVal ((D, Ar, s, C, W) : Gl) 30) s.heap := by
  obtain ⟨cell, ha, hc, hst, hcl⟩ := h.2.2.2 30 (by decide)
  obtain ⟨-, hva, -⟩ := h.2.2.2 66 (by decide)
  show entW _ _ (sE (C 66) (iI (sH (kkTx 30)))) _
  exact st_str (t := (Jvm.Term.string "SpokenMarksModel" (433 : Nat))) h.1 ((h.2.1 19 _ rfl).1 rfl) rfl ha hc hst hcl hva (p1 := [true, true, true, false, true, false, true, false, false]) (p2 := [true, true, true, false, true, true, false, false, true, false]) (p3 := [true, true, true, false, true, true, false, false, true, true]) (h0 := (93927806 : Int32)) (z0 := (0 : Int32)) rfl rfl rfl (by decide +kernel)

theorem st_v31 {s : State} {A : Array Value} {D : va_G} {Ar : Nat → ClassId} {C : Nat → Nat} (h : StC s A D Ar C) (W : Wd) : entW ((D, Ar, s, C, W) : Gl) (C 31) (kVal ((D, Ar, s, C, W) : Gl) 31) s.heap := by
  obtain ⟨cell, ha, hc, hst, hcl⟩ := h.2.2.2 31 (by decide)
  obtain ⟨-, hva, -⟩ := h.2.2.2 67 (by decide)
  show entW _ _ (sE (C 67) (iI (sH (kkTx 31)))) _
  exact st_str (t := (Jvm.Term.string "SpokenMarksModel" (434 : Nat))) h.1 ((h.2.1 19 _ rfl).1 rfl) rfl ha hc hst hcl hva (p1 := [true, true, true, false, true, true, false, true, true, false]) (p2 := [true, true, true, true, false, false, false, false, true, false]) (p3 := [true, true, true, true, false, false, false, false, true, true]) (h0 := (-339185956 : Int32)) (z0 := (0 : Int32)) rfl rfl rfl (by decide +kernel)

theorem st_v32 {s : State} {A : Array Value} {D : va_G} {Ar : Nat → ClassId} {C : Nat → Nat} (h : StC s A D Ar C) (W : Wd) : entW ((D, Ar, s, C, W) : Gl) (C 32) (kVal ((D, Ar, s, C, W) : Gl) 32) s.heap := by
  obtain ⟨cell, ha, hc, hst, hcl⟩ := h.2.2.2 32 (by decide)
  obtain ⟨-, hva, -⟩ := h.2.2.2 68 (by decide)
  show entW _ _ (sE (C 68) (iI (sH (kkTx 32)))) _
  exact st_str (t := (Jvm.Term.string "SpokenMarksModel" (436 : Nat))) h.1 ((h.2.1 19 _ rfl).1 rfl) rfl ha hc hst hcl hva (p1 := [true, true, true, true, false, false, false, true, true, false]) (p2 := [true, true, true, true, false, true, false, false, true, false]) (p3 := [true, true, true, true, false, true, false, false, true, true]) (h0 := (1097386675 : Int32)) (z0 := (0 : Int32)) rfl rfl rfl (by decide +kernel)

theorem st_v33 {s : State} {A : Array Value} {D : va_G} {Ar : Nat → ClassId} {C : Nat → Nat} (h : StC s A D Ar C) (W : Wd) : entW ((D, Ar, s, C, W) : Gl) (C 33) (kVal ((D, Ar, s, C, W) : Gl) 33) s.heap := by
  obtain ⟨cell, ha, hc, hst, hcl⟩ := h.2.2.2 33 (by decide)
  obtain ⟨-, hva, -⟩ := h.2.2.2 69 (by decide)
  show entW _ _ (sE (C 69) (iI (sH (kkTx 33)))) _
  exact st_str (t := (Jvm.Term.string "java/util/ArrayList" (23 : Nat))) h.1 ((h.2.1 19 _ rfl).1 rfl) rfl ha hc hst hcl hva (p1 := [true, false, false, false, true, false, false, false, false, true, true]) (p2 := [true, false, false, false, true, false, true, true, true, true, false]) (p3 := [true, false, false, false, true, false, true, true, true, true, true]) (h0 := (396102794 : Int32)) (z0 := (0 : Int32)) rfl rfl rfl (by decide +kernel)

theorem st_v34 {s : State} {A : Array Value} {D : va_G} {Ar : Nat → ClassId} {C : Nat → Nat} (h : StC s A D Ar C) (W : Wd) : entW ((D, Ar, s, C, W) : Gl) (C 34) (kVal ((D, Ar, s, C, W) : Gl) 34) s.heap := by
  obtain ⟨cell, ha, hc, hst, hcl⟩ := h.2.2.2 34 (by decide)
  obtain ⟨-, hva, -⟩ := h.2.2.2 70 (by decide)
  show entW _ _ (sE (C 70) (iI (sH (kkTx 34)))) _
  exact st_str (t := (Jvm.Term.string "java/util/Arrays" (337 : Nat))) h.1 ((h.2.1 19 _ rfl).1 rfl) rfl ha hc hst hcl hva (p1 := [true, false, false, false, true, true, false, false, false, true, false]) (p2 := [true, false, false, false, true, true, false, true, false, true, false]) (p3 := [true, false, false, false, true, true, false, true, false, true, true]) (h0 := (32706 : Int32)) (z0 := (0 : Int32)) rfl rfl rfl (by decide +kernel)

theorem st_v35 {s : State} {A : Array Value} {D : va_G} {Ar : Nat → ClassId} {C : Nat → Nat} (h : StC s A D Ar C) (W : Wd) : entW ((D, Ar, s, C, W) : Gl) (C 35) (kVal ((D, Ar, s, C, W) : Gl) 35) s.heap := by
  obtain ⟨cell, ha, hc, hst, hcl⟩ := h.2.2.2 35 (by decide)
  obtain ⟨-, hva, -⟩ := h.2.2.2 71 (by decide)
  show entW _ _ (sE (C 71) (iI (sH (kkTx 35)))) _
  exact st_str (t := (Jvm.Term.string "jdk/internal/util/ArraysSupport" (92 : Nat))) h.1 ((h.2.1 19 _ rfl).1 rfl) rfl ha hc hst hcl hva (p1 := [true, false, false, true, false, false, true, false, false, false]) (p2 := [true, false, false, true, false, true, true, false, true, false]) (p3 := [true, false, false, true, false, true, true, false, true, true, false]) (h0 := (-414256221 : Int32)) (z0 := (0 : Int32)) rfl rfl rfl (by decide +kernel)

def st_e36 : List (List Bool × Int32 × Int32) := [([true, false, true, true, false, true, true, false, true, true, true], (0 : Int32), (32 : Int32))]
set_option maxHeartbeats 4000000 in
theorem st_p36 : ForE (fun e : List Bool × Int32 × Int32 => nwAt e.1 narrow_1 = some (.eq (.elem (Jvm.Term.field (Jvm.Term.string "SpokenMarks" (461 : Nat)) "java/lang/String" "value" "[B") (.int e.2.1)) (.int e.2.2))) st_e36 := ⟨rfl, trivial⟩
theorem st_q36 : ∀ j, j < 1 → (st_e36.getD j ([], 0, 0)).2.1.toNatClampNeg = j ∧ (st_e36.getD j ([], 0, 0)).2.2 = iI ((fun j => (kkTx 0).getD j 0 : Nat → Int) j) := by decide +kernel
theorem st_v36 {s : State} {A : Array Value} {D : va_G} {Ar : Nat → ClassId} {C : Nat → Nat} (h : StC s A D Ar C) (W : Wd) : entW ((D, Ar, s, C, W) : Gl) (C 36) (kVal ((D, Ar, s, C, W) : Gl) 36) s.heap := by
  obtain ⟨cell, ha, hc, hst, hcl⟩ := h.2.2.2 36 (by decide)
  show entW _ _ (iE _ 1 1 (fun j => (kkTx 0).getD j 0)) _
  exact st_byt (t := (Jvm.Term.field (Jvm.Term.string "SpokenMarks" (461 : Nat)) "java/lang/String" "value" "[B")) (n := 1) (f := fun j => (kkTx 0).getD j 0) h.1 h.b ha hc hst hcl (p1 := [true, false, true, true, false, true, true, false, true, false]) (p2 := [true, false, true, true, false, true, true, false, true, true, false]) rfl rfl rfl (by decide) (by decide) st_p36 rfl st_q36

def st_e37 : List (List Bool × Int32 × Int32) := []
set_option maxHeartbeats 4000000 in
theorem st_p37 : ForE (fun e : List Bool × Int32 × Int32 => nwAt e.1 narrow_1 = some (.eq (.elem (Jvm.Term.field (Jvm.Term.string "SpokenMarks" (56 : Nat)) "java/lang/String" "value" "[B") (.int e.2.1)) (.int e.2.2))) st_e37 := trivial
theorem st_q37 : ∀ j, j < 0 → (st_e37.getD j ([], 0, 0)).2.1.toNatClampNeg = j ∧ (st_e37.getD j ([], 0, 0)).2.2 = iI ((fun j => (kkTx 1).getD j 0 : Nat → Int) j) := by decide +kernel
theorem st_v37 {s : State} {A : Array Value} {D : va_G} {Ar : Nat → ClassId} {C : Nat → Nat} (h : StC s A D Ar C) (W : Wd) : entW ((D, Ar, s, C, W) : Gl) (C 37) (kVal ((D, Ar, s, C, W) : Gl) 37) s.heap := by
  obtain ⟨cell, ha, hc, hst, hcl⟩ := h.2.2.2 37 (by decide)
  show entW _ _ (iE _ 1 0 (fun j => (kkTx 1).getD j 0)) _
  exact st_byt (t := (Jvm.Term.field (Jvm.Term.string "SpokenMarks" (56 : Nat)) "java/lang/String" "value" "[B")) (n := 0) (f := fun j => (kkTx 1).getD j 0) h.1 h.b ha hc hst hcl (p1 := [true, false, false, false, true, true, false, true, true, true, true]) (p2 := [true, false, false, false, true, true, true, false, false, false]) rfl rfl rfl (by decide) (by decide) st_p37 rfl st_q37

def st_e38 : List (List Bool × Int32 × Int32) := [([true, false, false, false, true, true, true, true, false, true, false], (0 : Int32), (99 : Int32)),
  ([true, false, false, false, true, true, true, true, false, true, true], (1 : Int32), (111 : Int32)),
  ([true, false, false, false, true, true, true, true, true, false, false], (2 : Int32), (117 : Int32)),
  ([true, false, false, false, true, true, true, true, true, false, true], (3 : Int32), (103 : Int32)),
  ([true, false, false, false, true, true, true, true, true, true, false], (4 : Int32), (104 : Int32))]
set_option maxHeartbeats 4000000 in
theorem st_p38 : ForE (fun e : List Bool × Int32 × Int32 => nwAt e.1 narrow_1 = some (.eq (.elem (Jvm.Term.field (Jvm.Term.string "SpokenMarks" (64 : Nat)) "java/lang/String" "value" "[B") (.int e.2.1)) (.int e.2.2))) st_e38 := ⟨rfl, rfl, rfl, rfl, rfl, trivial⟩
theorem st_q38 : ∀ j, j < 5 → (st_e38.getD j ([], 0, 0)).2.1.toNatClampNeg = j ∧ (st_e38.getD j ([], 0, 0)).2.2 = iI ((fun j => (kkTx 2).getD j 0 : Nat → Int) j) := by decide +kernel
theorem st_v38 {s : State} {A : Array Value} {D : va_G} {Ar : Nat → ClassId} {C : Nat → Nat} (h : StC s A D Ar C) (W : Wd) : entW ((D, Ar, s, C, W) : Gl) (C 38) (kVal ((D, Ar, s, C, W) : Gl) 38) s.heap := by
  obtain ⟨cell, ha, hc, hst, hcl⟩ := h.2.2.2 38 (by decide)
  show entW _ _ (iE _ 1 5 (fun j => (kkTx 2).getD j 0)) _
  exact st_byt (t := (Jvm.Term.field (Jvm.Term.string "SpokenMarks" (64 : Nat)) "java/lang/String" "value" "[B")) (n := 5) (f := fun j => (kkTx 2).getD j 0) h.1 h.b ha hc hst hcl (p1 := [true, false, false, false, true, true, true, false, true, true, true]) (p2 := [true, false, false, false, true, true, true, true, false, false]) rfl rfl rfl (by decide) (by decide) st_p38 rfl st_q38

def st_e39 : List (List Bool × Int32 × Int32) := [([true, false, false, true, false, false, false, false, true, true, true], (0 : Int32), (107 : Int32)),
  ([true, false, false, true, false, false, false, true, false, false], (1 : Int32), (111 : Int32)),
  ([true, false, false, true, false, false, false, true, false, true, false], (2 : Int32), (102 : Int32)),
  ([true, false, false, true, false, false, false, true, false, true, true], (3 : Int32), (102 : Int32))]
set_option maxHeartbeats 4000000 in
theorem st_p39 : ForE (fun e : List Bool × Int32 × Int32 => nwAt e.1 narrow_1 = some (.eq (.elem (Jvm.Term.field (Jvm.Term.string "SpokenMarks" (66 : Nat)) "java/lang/String" "value" "[B") (.int e.2.1)) (.int e.2.2))) st_e39 := ⟨rfl, rfl, rfl, rfl, trivial⟩
theorem st_q39 : ∀ j, j < 4 → (st_e39.getD j ([], 0, 0)).2.1.toNatClampNeg = j ∧ (st_e39.getD j ([], 0, 0)).2.2 = iI ((fun j => (kkTx 3).getD j 0 : Nat → Int) j) := by decide +kernel
theorem st_v39 {s : State} {A : Array Value} {D : va_G} {Ar : Nat → ClassId} {C : Nat → Nat} (h : StC s A D Ar C) (W : Wd) : entW ((D, Ar, s, C, W) : Gl) (C 39) (kVal ((D, Ar, s, C, W) : Gl) 39) s.heap := by
  obtain ⟨cell, ha, hc, hst, hcl⟩ := h.2.2.2 39 (by decide)
  show entW _ _ (iE _ 1 4 (fun j => (kkTx 3).getD j 0)) _
  exact st_byt (t := (Jvm.Term.field (Jvm.Term.string "SpokenMarks" (66 : Nat)) "java/lang/String" "value" "[B")) (n := 4) (f := fun j => (kkTx 3).getD j 0) h.1 h.b ha hc hst hcl (p1 := [true, false, false, true, false, false, false, false, true, false]) (p2 := [true, false, false, true, false, false, false, false, true, true, false]) rfl rfl rfl (by decide) (by decide) st_p39 rfl st_q39

def st_e40 : List (List Bool × Int32 × Int32) := [([true, false, false, true, true, false, true, false, false, false], (0 : Int32), (113 : Int32)),
  ([true, false, false, true, true, false, true, false, false, true, false], (1 : Int32), (97 : Int32))]
set_option maxHeartbeats 4000000 in
theorem st_p40 : ForE (fun e : List Bool × Int32 × Int32 => nwAt e.1 narrow_1 = some (.eq (.elem (Jvm.Term.field (Jvm.Term.string "SpokenMarks" (75 : Nat)) "java/lang/String" "value" "[B") (.int e.2.1)) (.int e.2.2))) st_e40 := ⟨rfl, rfl, trivial⟩
theorem st_q40 : ∀ j, j < 2 → (st_e40.getD j ([], 0, 0)).2.1.toNatClampNeg = j ∧ (st_e40.getD j ([], 0, 0)).2.2 = iI ((fun j => (kkTx 4).getD j 0 : Nat → Int) j) := by decide +kernel
theorem st_v40 {s : State} {A : Array Value} {D : va_G} {Ar : Nat → ClassId} {C : Nat → Nat} (h : StC s A D Ar C) (W : Wd) : entW ((D, Ar, s, C, W) : Gl) (C 40) (kVal ((D, Ar, s, C, W) : Gl) 40) s.heap := by
  obtain ⟨cell, ha, hc, hst, hcl⟩ := h.2.2.2 40 (by decide)
  show entW _ _ (iE _ 1 2 (fun j => (kkTx 4).getD j 0)) _
  exact st_byt (t := (Jvm.Term.field (Jvm.Term.string "SpokenMarks" (75 : Nat)) "java/lang/String" "value" "[B")) (n := 2) (f := fun j => (kkTx 4).getD j 0) h.1 h.b ha hc hst hcl (p1 := [true, false, false, true, true, false, false, true, true, true, false]) (p2 := [true, false, false, true, true, false, false, true, true, true, true]) rfl rfl rfl (by decide) (by decide) st_p40 rfl st_q40

def st_e41 : List (List Bool × Int32 × Int32) := [([true, false, false, true, true, false, true, true, false, true, true], (0 : Int32), (115 : Int32)),
  ([true, false, false, true, true, false, true, true, true, false, false], (1 : Int32), (109 : Int32)),
  ([true, false, false, true, true, false, true, true, true, false, true], (2 : Int32), (105 : Int32)),
  ([true, false, false, true, true, false, true, true, true, true, false], (3 : Int32), (116 : Int32)),
  ([true, false, false, true, true, false, true, true, true, true, true], (4 : Int32), (104 : Int32))]
set_option maxHeartbeats 4000000 in
theorem st_p41 : ForE (fun e : List Bool × Int32 × Int32 => nwAt e.1 narrow_1 = some (.eq (.elem (Jvm.Term.field (Jvm.Term.string "SpokenMarks" (77 : Nat)) "java/lang/String" "value" "[B") (.int e.2.1)) (.int e.2.2))) st_e41 := ⟨rfl, rfl, rfl, rfl, rfl, trivial⟩
theorem st_q41 : ∀ j, j < 5 → (st_e41.getD j ([], 0, 0)).2.1.toNatClampNeg = j ∧ (st_e41.getD j ([], 0, 0)).2.2 = iI ((fun j => (kkTx 5).getD j 0 : Nat → Int) j) := by decide +kernel
theorem st_v41 {s : State} {A : Array Value} {D : va_G} {Ar : Nat → ClassId} {C : Nat → Nat} (h : StC s A D Ar C) (W : Wd) : entW ((D, Ar, s, C, W) : Gl) (C 41) (kVal ((D, Ar, s, C, W) : Gl) 41) s.heap := by
  obtain ⟨cell, ha, hc, hst, hcl⟩ := h.2.2.2 41 (by decide)
  show entW _ _ (iE _ 1 5 (fun j => (kkTx 5).getD j 0)) _
  exact st_byt (t := (Jvm.Term.field (Jvm.Term.string "SpokenMarks" (77 : Nat)) "java/lang/String" "value" "[B")) (n := 5) (f := fun j => (kkTx 5).getD j 0) h.1 h.b ha hc hst hcl (p1 := [true, false, false, true, true, false, true, true, false, false]) (p2 := [true, false, false, true, true, false, true, true, false, true, false]) rfl rfl rfl (by decide) (by decide) st_p41 rfl st_q41

def st_e42 : List (List Bool × Int32 × Int32) := [([true, false, false, true, true, true, false, true, false, false], (0 : Int32), (115 : Int32)),
  ([true, false, false, true, true, true, false, true, false, true, false], (1 : Int32), (109 : Int32)),
  ([true, false, false, true, true, true, false, true, false, true, true], (2 : Int32), (121 : Int32)),
  ([true, false, false, true, true, true, false, true, true, false], (3 : Int32), (116 : Int32)),
  ([true, false, false, true, true, true, false, true, true, true, false], (4 : Int32), (104 : Int32))]
set_option maxHeartbeats 4000000 in
theorem st_p42 : ForE (fun e : List Bool × Int32 × Int32 => nwAt e.1 narrow_1 = some (.eq (.elem (Jvm.Term.field (Jvm.Term.string "SpokenMarks" (83 : Nat)) "java/lang/String" "value" "[B") (.int e.2.1)) (.int e.2.2))) st_e42 := ⟨rfl, rfl, rfl, rfl, rfl, trivial⟩
theorem st_q42 : ∀ j, j < 5 → (st_e42.getD j ([], 0, 0)).2.1.toNatClampNeg = j ∧ (st_e42.getD j ([], 0, 0)).2.2 = iI ((fun j => (kkTx 6).getD j 0 : Nat → Int) j) := by decide +kernel
theorem st_v42 {s : State} {A : Array Value} {D : va_G} {Ar : Nat → ClassId} {C : Nat → Nat} (h : StC s A D Ar C) (W : Wd) : entW ((D, Ar, s, C, W) : Gl) (C 42) (kVal ((D, Ar, s, C, W) : Gl) 42) s.heap := by
  obtain ⟨cell, ha, hc, hst, hcl⟩ := h.2.2.2 42 (by decide)
  show entW _ _ (iE _ 1 5 (fun j => (kkTx 6).getD j 0)) _
  exact st_byt (t := (Jvm.Term.field (Jvm.Term.string "SpokenMarks" (83 : Nat)) "java/lang/String" "value" "[B")) (n := 5) (f := fun j => (kkTx 6).getD j 0) h.1 h.b ha hc hst hcl (p1 := [true, false, false, true, true, true, false, false, true, true, false]) (p2 := [true, false, false, true, true, true, false, false, true, true, true]) rfl rfl rfl (by decide) (by decide) st_p42 rfl st_q42

def st_e43 : List (List Bool × Int32 × Int32) := [([true, false, false, true, true, true, true, false, true, true, true], (0 : Int32), (112 : Int32)),
  ([true, false, false, true, true, true, true, true, false, false], (1 : Int32), (104 : Int32)),
  ([true, false, false, true, true, true, true, true, false, true, false], (2 : Int32), (97 : Int32)),
  ([true, false, false, true, true, true, true, true, false, true, true], (3 : Int32), (115 : Int32)),
  ([true, false, false, true, true, true, true, true, true, false, false], (4 : Int32), (101 : Int32))]
set_option maxHeartbeats 4000000 in
theorem st_p43 : ForE (fun e : List Bool × Int32 × Int32 => nwAt e.1 narrow_1 = some (.eq (.elem (Jvm.Term.field (Jvm.Term.string "SpokenMarks" (85 : Nat)) "java/lang/String" "value" "[B") (.int e.2.1)) (.int e.2.2))) st_e43 := ⟨rfl, rfl, rfl, rfl, rfl, trivial⟩
theorem st_q43 : ∀ j, j < 5 → (st_e43.getD j ([], 0, 0)).2.1.toNatClampNeg = j ∧ (st_e43.getD j ([], 0, 0)).2.2 = iI ((fun j => (kkTx 7).getD j 0 : Nat → Int) j) := by decide +kernel
theorem st_v43 {s : State} {A : Array Value} {D : va_G} {Ar : Nat → ClassId} {C : Nat → Nat} (h : StC s A D Ar C) (W : Wd) : entW ((D, Ar, s, C, W) : Gl) (C 43) (kVal ((D, Ar, s, C, W) : Gl) 43) s.heap := by
  obtain ⟨cell, ha, hc, hst, hcl⟩ := h.2.2.2 43 (by decide)
  show entW _ _ (iE _ 1 5 (fun j => (kkTx 7).getD j 0)) _
  exact st_byt (t := (Jvm.Term.field (Jvm.Term.string "SpokenMarks" (85 : Nat)) "java/lang/String" "value" "[B")) (n := 5) (f := fun j => (kkTx 7).getD j 0) h.1 h.b ha hc hst hcl (p1 := [true, false, false, true, true, true, true, false, true, false]) (p2 := [true, false, false, true, true, true, true, false, true, true, false]) rfl rfl rfl (by decide) (by decide) st_p43 rfl st_q43

def st_e44 : List (List Bool × Int32 × Int32) := [([true, false, true, false, false, false, false, false, true, false], (0 : Int32), (102 : Int32)),
  ([true, false, true, false, false, false, false, false, true, true, false], (1 : Int32), (97 : Int32)),
  ([true, false, true, false, false, false, false, false, true, true, true], (2 : Int32), (115 : Int32)),
  ([true, false, true, false, false, false, false, true, false, false], (3 : Int32), (101 : Int32))]
set_option maxHeartbeats 4000000 in
theorem st_p44 : ForE (fun e : List Bool × Int32 × Int32 => nwAt e.1 narrow_1 = some (.eq (.elem (Jvm.Term.field (Jvm.Term.string "SpokenMarks" (92 : Nat)) "java/lang/String" "value" "[B") (.int e.2.1)) (.int e.2.2))) st_e44 := ⟨rfl, rfl, rfl, rfl, trivial⟩
theorem st_q44 : ∀ j, j < 4 → (st_e44.getD j ([], 0, 0)).2.1.toNatClampNeg = j ∧ (st_e44.getD j ([], 0, 0)).2.2 = iI ((fun j => (kkTx 8).getD j 0 : Nat → Int) j) := by decide +kernel
theorem st_v44 {s : State} {A : Array Value} {D : va_G} {Ar : Nat → ClassId} {C : Nat → Nat} (h : StC s A D Ar C) (W : Wd) : entW ((D, Ar, s, C, W) : Gl) (C 44) (kVal ((D, Ar, s, C, W) : Gl) 44) s.heap := by
  obtain ⟨cell, ha, hc, hst, hcl⟩ := h.2.2.2 44 (by decide)
  show entW _ _ (iE _ 1 4 (fun j => (kkTx 8).getD j 0)) _
  exact st_byt (t := (Jvm.Term.field (Jvm.Term.string "SpokenMarks" (92 : Nat)) "java/lang/String" "value" "[B")) (n := 4) (f := fun j => (kkTx 8).getD j 0) h.1 h.b ha hc hst hcl (p1 := [true, false, true, false, false, false, false, false, false, true, false]) (p2 := [true, false, true, false, false, false, false, false, false, true, true]) rfl rfl rfl (by decide) (by decide) st_p44 rfl st_q44

def st_e45 : List (List Bool × Int32 × Int32) := [([true, false, true, false, false, false, true, true, false, true, true], (0 : Int32), (115 : Int32)),
  ([true, false, true, false, false, false, true, true, true, false, false], (1 : Int32), (104 : Int32)),
  ([true, false, true, false, false, false, true, true, true, false, true], (2 : Int32), (101 : Int32)),
  ([true, false, true, false, false, false, true, true, true, true, false], (3 : Int32), (108 : Int32)),
  ([true, false, true, false, false, false, true, true, true, true, true], (4 : Int32), (118 : Int32)),
  ([true, false, true, false, false, true, false, false, false, false], (5 : Int32), (101 : Int32)),
  ([true, false, true, false, false, true, false, false, false, true, false], (6 : Int32), (115 : Int32))]
set_option maxHeartbeats 4000000 in
theorem st_p45 : ForE (fun e : List Bool × Int32 × Int32 => nwAt e.1 narrow_1 = some (.eq (.elem (Jvm.Term.field (Jvm.Term.string "SpokenMarks$Reader" (15 : Nat)) "java/lang/String" "value" "[B") (.int e.2.1)) (.int e.2.2))) st_e45 := ⟨rfl, rfl, rfl, rfl, rfl, rfl, rfl, trivial⟩
theorem st_q45 : ∀ j, j < 7 → (st_e45.getD j ([], 0, 0)).2.1.toNatClampNeg = j ∧ (st_e45.getD j ([], 0, 0)).2.2 = iI ((fun j => (kkTx 9).getD j 0 : Nat → Int) j) := by decide +kernel
theorem st_v45 {s : State} {A : Array Value} {D : va_G} {Ar : Nat → ClassId} {C : Nat → Nat} (h : StC s A D Ar C) (W : Wd) : entW ((D, Ar, s, C, W) : Gl) (C 45) (kVal ((D, Ar, s, C, W) : Gl) 45) s.heap := by
  obtain ⟨cell, ha, hc, hst, hcl⟩ := h.2.2.2 45 (by decide)
  show entW _ _ (iE _ 1 7 (fun j => (kkTx 9).getD j 0)) _
  exact st_byt (t := (Jvm.Term.field (Jvm.Term.string "SpokenMarks$Reader" (15 : Nat)) "java/lang/String" "value" "[B")) (n := 7) (f := fun j => (kkTx 9).getD j 0) h.1 h.b ha hc hst hcl (p1 := [true, false, true, false, false, false, true, true, false, false]) (p2 := [true, false, true, false, false, false, true, true, false, true, false]) rfl rfl rfl (by decide) (by decide) st_p45 rfl st_q45

def st_e46 : List (List Bool × Int32 × Int32) := [([true, false, true, false, false, true, false, true, false, true, true], (0 : Int32), (115 : Int32)),
  ([true, false, true, false, false, true, false, true, true, false], (1 : Int32), (97 : Int32)),
  ([true, false, true, false, false, true, false, true, true, true, false], (2 : Int32), (121 : Int32))]
set_option maxHeartbeats 4000000 in
theorem st_p46 : ForE (fun e : List Bool × Int32 × Int32 => nwAt e.1 narrow_1 = some (.eq (.elem (Jvm.Term.field (Jvm.Term.string "SpokenMarks$Reader" (44 : Nat)) "java/lang/String" "value" "[B") (.int e.2.1)) (.int e.2.2))) st_e46 := ⟨rfl, rfl, rfl, trivial⟩
theorem st_q46 : ∀ j, j < 3 → (st_e46.getD j ([], 0, 0)).2.1.toNatClampNeg = j ∧ (st_e46.getD j ([], 0, 0)).2.2 = iI ((fun j => (kkTx 10).getD j 0 : Nat → Int) j) := by decide +kernel
theorem st_v46 {s : State} {A : Array Value} {D : va_G} {Ar : Nat → ClassId} {C : Nat → Nat} (h : StC s A D Ar C) (W : Wd) : entW ((D, Ar, s, C, W) : Gl) (C 46) (kVal ((D, Ar, s, C, W) : Gl) 46) s.heap := by
  obtain ⟨cell, ha, hc, hst, hcl⟩ := h.2.2.2 46 (by decide)
  show entW _ _ (iE _ 1 3 (fun j => (kkTx 10).getD j 0)) _
  exact st_byt (t := (Jvm.Term.field (Jvm.Term.string "SpokenMarks$Reader" (44 : Nat)) "java/lang/String" "value" "[B")) (n := 3) (f := fun j => (kkTx 10).getD j 0) h.1 h.b ha hc hst hcl (p1 := [true, false, true, false, false, true, false, true, false, false]) (p2 := [true, false, true, false, false, true, false, true, false, true, false]) rfl rfl rfl (by decide) (by decide) st_p46 rfl st_q46

def st_e47 : List (List Bool × Int32 × Int32) := [([true, false, true, false, false, true, true, false, true, true, true], (0 : Int32), (109 : Int32)),
  ([true, false, true, false, false, true, true, true, false, false], (1 : Int32), (97 : Int32)),
  ([true, false, true, false, false, true, true, true, false, true, false], (2 : Int32), (114 : Int32)),
  ([true, false, true, false, false, true, true, true, false, true, true], (3 : Int32), (107 : Int32))]
set_option maxHeartbeats 4000000 in
theorem st_p47 : ForE (fun e : List Bool × Int32 × Int32 => nwAt e.1 narrow_1 = some (.eq (.elem (Jvm.Term.field (Jvm.Term.string "SpokenMarks$Reader" (64 : Nat)) "java/lang/String" "value" "[B") (.int e.2.1)) (.int e.2.2))) st_e47 := ⟨rfl, rfl, rfl, rfl, trivial⟩
theorem st_q47 : ∀ j, j < 4 → (st_e47.getD j ([], 0, 0)).2.1.toNatClampNeg = j ∧ (st_e47.getD j ([], 0, 0)).2.2 = iI ((fun j => (kkTx 11).getD j 0 : Nat → Int) j) := by decide +kernel
theorem st_v47 {s : State} {A : Array Value} {D : va_G} {Ar : Nat → ClassId} {C : Nat → Nat} (h : StC s A D Ar C) (W : Wd) : entW ((D, Ar, s, C, W) : Gl) (C 47) (kVal ((D, Ar, s, C, W) : Gl) 47) s.heap := by
  obtain ⟨cell, ha, hc, hst, hcl⟩ := h.2.2.2 47 (by decide)
  show entW _ _ (iE _ 1 4 (fun j => (kkTx 11).getD j 0)) _
  exact st_byt (t := (Jvm.Term.field (Jvm.Term.string "SpokenMarks$Reader" (64 : Nat)) "java/lang/String" "value" "[B")) (n := 4) (f := fun j => (kkTx 11).getD j 0) h.1 h.b ha hc hst hcl (p1 := [true, false, true, false, false, true, true, false, true, false]) (p2 := [true, false, true, false, false, true, true, false, true, true, false]) rfl rfl rfl (by decide) (by decide) st_p47 rfl st_q47

def st_e48 : List (List Bool × Int32 × Int32) := []
set_option maxHeartbeats 4000000 in
theorem st_p48 : ForE (fun e : List Bool × Int32 × Int32 => nwAt e.1 narrow_1 = some (.eq (.elem (Jvm.Term.field (Jvm.Term.string "SpokenMarks$Scanner" (9 : Nat)) "java/lang/String" "value" "[B") (.int e.2.1)) (.int e.2.2))) st_e48 := trivial
theorem st_q48 : ∀ j, j < 0 → (st_e48.getD j ([], 0, 0)).2.1.toNatClampNeg = j ∧ (st_e48.getD j ([], 0, 0)).2.2 = iI ((fun j => (kkTx 12).getD j 0 : Nat → Int) j) := by decide +kernel
theorem st_v48 {s : State} {A : Array Value} {D : va_G} {Ar : Nat → ClassId} {C : Nat → Nat} (h : StC s A D Ar C) (W : Wd) : entW ((D, Ar, s, C, W) : Gl) (C 48) (kVal ((D, Ar, s, C, W) : Gl) 48) s.heap := by
  obtain ⟨cell, ha, hc, hst, hcl⟩ := h.2.2.2 48 (by decide)
  show entW _ _ (iE _ 1 0 (fun j => (kkTx 12).getD j 0)) _
  exact st_byt (t := (Jvm.Term.field (Jvm.Term.string "SpokenMarks$Scanner" (9 : Nat)) "java/lang/String" "value" "[B")) (n := 0) (f := fun j => (kkTx 12).getD j 0) h.1 h.b ha hc hst hcl (p1 := [true, false, true, false, false, false, false, true, true, true, true]) (p2 := [true, false, true, false, false, false, true, false, false, false]) rfl rfl rfl (by decide) (by decide) st_p48 rfl st_q48

def st_e49 : List (List Bool × Int32 × Int32) := [([true, false, true, false, true, false, false, false, false, true, true], (0 : Int32), (115 : Int32)),
  ([true, false, true, false, true, false, false, false, true, false], (1 : Int32), (97 : Int32)),
  ([true, false, true, false, true, false, false, false, true, true, false], (2 : Int32), (121 : Int32))]
set_option maxHeartbeats 4000000 in
theorem st_p49 : ForE (fun e : List Bool × Int32 × Int32 => nwAt e.1 narrow_1 = some (.eq (.elem (Jvm.Term.field (Jvm.Term.string "SpokenMarks$Script" (66 : Nat)) "java/lang/String" "value" "[B") (.int e.2.1)) (.int e.2.2))) st_e49 := ⟨rfl, rfl, rfl, trivial⟩
theorem st_q49 : ∀ j, j < 3 → (st_e49.getD j ([], 0, 0)).2.1.toNatClampNeg = j ∧ (st_e49.getD j ([], 0, 0)).2.2 = iI ((fun j => (kkTx 13).getD j 0 : Nat → Int) j) := by decide +kernel
theorem st_v49 {s : State} {A : Array Value} {D : va_G} {Ar : Nat → ClassId} {C : Nat → Nat} (h : StC s A D Ar C) (W : Wd) : entW ((D, Ar, s, C, W) : Gl) (C 49) (kVal ((D, Ar, s, C, W) : Gl) 49) s.heap := by
  obtain ⟨cell, ha, hc, hst, hcl⟩ := h.2.2.2 49 (by decide)
  show entW _ _ (iE _ 1 3 (fun j => (kkTx 13).getD j 0)) _
  exact st_byt (t := (Jvm.Term.field (Jvm.Term.string "SpokenMarks$Script" (66 : Nat)) "java/lang/String" "value" "[B")) (n := 3) (f := fun j => (kkTx 13).getD j 0) h.1 h.b ha hc hst hcl (p1 := [true, false, true, false, true, false, false, false, false, false]) (p2 := [true, false, true, false, true, false, false, false, false, true, false]) rfl rfl rfl (by decide) (by decide) st_p49 rfl st_q49

def st_e50 : List (List Bool × Int32 × Int32) := [([true, false, true, false, true, false, true, false, false, false], (0 : Int32), (109 : Int32)),
  ([true, false, true, false, true, false, true, false, false, true, false], (1 : Int32), (97 : Int32)),
  ([true, false, true, false, true, false, true, false, false, true, true], (2 : Int32), (114 : Int32)),
  ([true, false, true, false, true, false, true, false, true, false], (3 : Int32), (107 : Int32))]
set_option maxHeartbeats 4000000 in
theorem st_p50 : ForE (fun e : List Bool × Int32 × Int32 => nwAt e.1 narrow_1 = some (.eq (.elem (Jvm.Term.field (Jvm.Term.string "SpokenMarks$Script" (71 : Nat)) "java/lang/String" "value" "[B") (.int e.2.1)) (.int e.2.2))) st_e50 := ⟨rfl, rfl, rfl, rfl, trivial⟩
theorem st_q50 : ∀ j, j < 4 → (st_e50.getD j ([], 0, 0)).2.1.toNatClampNeg = j ∧ (st_e50.getD j ([], 0, 0)).2.2 = iI ((fun j => (kkTx 14).getD j 0 : Nat → Int) j) := by decide +kernel
theorem st_v50 {s : State} {A : Array Value} {D : va_G} {Ar : Nat → ClassId} {C : Nat → Nat} (h : StC s A D Ar C) (W : Wd) : entW ((D, Ar, s, C, W) : Gl) (C 50) (kVal ((D, Ar, s, C, W) : Gl) 50) s.heap := by
  obtain ⟨cell, ha, hc, hst, hcl⟩ := h.2.2.2 50 (by decide)
  show entW _ _ (iE _ 1 4 (fun j => (kkTx 14).getD j 0)) _
  exact st_byt (t := (Jvm.Term.field (Jvm.Term.string "SpokenMarks$Script" (71 : Nat)) "java/lang/String" "value" "[B")) (n := 4) (f := fun j => (kkTx 14).getD j 0) h.1 h.b ha hc hst hcl (p1 := [true, false, true, false, true, false, false, true, true, true, false]) (p2 := [true, false, true, false, true, false, false, true, true, true, true]) rfl rfl rfl (by decide) (by decide) st_p50 rfl st_q50

def st_e51 : List (List Bool × Int32 × Int32) := [([true, false, true, false, true, false, true, true, true, true, false], (0 : Int32), (117 : Int32)),
  ([true, false, true, false, true, false, true, true, true, true, true], (1 : Int32), (110 : Int32)),
  ([true, false, true, false, true, true, false, false, false, false], (2 : Int32), (115 : Int32)),
  ([true, false, true, false, true, true, false, false, false, true, false], (3 : Int32), (97 : Int32)),
  ([true, false, true, false, true, true, false, false, false, true, true], (4 : Int32), (121 : Int32))]
set_option maxHeartbeats 4000000 in
theorem st_p51 : ForE (fun e : List Bool × Int32 × Int32 => nwAt e.1 narrow_1 = some (.eq (.elem (Jvm.Term.field (Jvm.Term.string "SpokenMarks$Script" (73 : Nat)) "java/lang/String" "value" "[B") (.int e.2.1)) (.int e.2.2))) st_e51 := ⟨rfl, rfl, rfl, rfl, rfl, trivial⟩
theorem st_q51 : ∀ j, j < 5 → (st_e51.getD j ([], 0, 0)).2.1.toNatClampNeg = j ∧ (st_e51.getD j ([], 0, 0)).2.2 = iI ((fun j => (kkTx 15).getD j 0 : Nat → Int) j) := by decide +kernel
theorem st_v51 {s : State} {A : Array Value} {D : va_G} {Ar : Nat → ClassId} {C : Nat → Nat} (h : StC s A D Ar C) (W : Wd) : entW ((D, Ar, s, C, W) : Gl) (C 51) (kVal ((D, Ar, s, C, W) : Gl) 51) s.heap := by
  obtain ⟨cell, ha, hc, hst, hcl⟩ := h.2.2.2 51 (by decide)
  show entW _ _ (iE _ 1 5 (fun j => (kkTx 15).getD j 0)) _
  exact st_byt (t := (Jvm.Term.field (Jvm.Term.string "SpokenMarks$Script" (73 : Nat)) "java/lang/String" "value" "[B")) (n := 5) (f := fun j => (kkTx 15).getD j 0) h.1 h.b ha hc hst hcl (p1 := [true, false, true, false, true, false, true, true, true, false, false]) (p2 := [true, false, true, false, true, false, true, true, true, false, true]) rfl rfl rfl (by decide) (by decide) st_p51 rfl st_q51

def st_e52 : List (List Bool × Int32 × Int32) := [([true, false, true, false, true, true, false, true, true, false], (0 : Int32), (100 : Int32)),
  ([true, false, true, false, true, true, false, true, true, true, false], (1 : Int32), (114 : Int32)),
  ([true, false, true, false, true, true, false, true, true, true, true], (2 : Int32), (111 : Int32)),
  ([true, false, true, false, true, true, true, false, false, false], (3 : Int32), (112 : Int32))]
set_option maxHeartbeats 4000000 in
theorem st_p52 : ForE (fun e : List Bool × Int32 × Int32 => nwAt e.1 narrow_1 = some (.eq (.elem (Jvm.Term.field (Jvm.Term.string "SpokenMarks$Script" (75 : Nat)) "java/lang/String" "value" "[B") (.int e.2.1)) (.int e.2.2))) st_e52 := ⟨rfl, rfl, rfl, rfl, trivial⟩
theorem st_q52 : ∀ j, j < 4 → (st_e52.getD j ([], 0, 0)).2.1.toNatClampNeg = j ∧ (st_e52.getD j ([], 0, 0)).2.2 = iI ((fun j => (kkTx 16).getD j 0 : Nat → Int) j) := by decide +kernel
theorem st_v52 {s : State} {A : Array Value} {D : va_G} {Ar : Nat → ClassId} {C : Nat → Nat} (h : StC s A D Ar C) (W : Wd) : entW ((D, Ar, s, C, W) : Gl) (C 52) (kVal ((D, Ar, s, C, W) : Gl) 52) s.heap := by
  obtain ⟨cell, ha, hc, hst, hcl⟩ := h.2.2.2 52 (by decide)
  show entW _ _ (iE _ 1 4 (fun j => (kkTx 16).getD j 0)) _
  exact st_byt (t := (Jvm.Term.field (Jvm.Term.string "SpokenMarks$Script" (75 : Nat)) "java/lang/String" "value" "[B")) (n := 4) (f := fun j => (kkTx 16).getD j 0) h.1 h.b ha hc hst hcl (p1 := [true, false, true, false, true, true, false, true, false, true, false]) (p2 := [true, false, true, false, true, true, false, true, false, true, true]) rfl rfl rfl (by decide) (by decide) st_p52 rfl st_q52

def st_e53 : List (List Bool × Int32 × Int32) := [([true, false, true, false, true, true, true, true, false, true, false], (0 : Int32), (119 : Int32)),
  ([true, false, true, false, true, true, true, true, false, true, true], (1 : Int32), (105 : Int32)),
  ([true, false, true, false, true, true, true, true, true, false, false], (2 : Int32), (100 : Int32)),
  ([true, false, true, false, true, true, true, true, true, false, true], (3 : Int32), (116 : Int32)),
  ([true, false, true, false, true, true, true, true, true, true, false], (4 : Int32), (104 : Int32))]
set_option maxHeartbeats 4000000 in
theorem st_p53 : ForE (fun e : List Bool × Int32 × Int32 => nwAt e.1 narrow_1 = some (.eq (.elem (Jvm.Term.field (Jvm.Term.string "SpokenMarks$Script" (77 : Nat)) "java/lang/String" "value" "[B") (.int e.2.1)) (.int e.2.2))) st_e53 := ⟨rfl, rfl, rfl, rfl, rfl, trivial⟩
theorem st_q53 : ∀ j, j < 5 → (st_e53.getD j ([], 0, 0)).2.1.toNatClampNeg = j ∧ (st_e53.getD j ([], 0, 0)).2.2 = iI ((fun j => (kkTx 17).getD j 0 : Nat → Int) j) := by decide +kernel
theorem st_v53 {s : State} {A : Array Value} {D : va_G} {Ar : Nat → ClassId} {C : Nat → Nat} (h : StC s A D Ar C) (W : Wd) : entW ((D, Ar, s, C, W) : Gl) (C 53) (kVal ((D, Ar, s, C, W) : Gl) 53) s.heap := by
  obtain ⟨cell, ha, hc, hst, hcl⟩ := h.2.2.2 53 (by decide)
  show entW _ _ (iE _ 1 5 (fun j => (kkTx 17).getD j 0)) _
  exact st_byt (t := (Jvm.Term.field (Jvm.Term.string "SpokenMarks$Script" (77 : Nat)) "java/lang/String" "value" "[B")) (n := 5) (f := fun j => (kkTx 17).getD j 0) h.1 h.b ha hc hst hcl (p1 := [true, false, true, false, true, true, true, false, true, true, true]) (p2 := [true, false, true, false, true, true, true, true, false, false]) rfl rfl rfl (by decide) (by decide) st_p53 rfl st_q53

def st_e54 : List (List Bool × Int32 × Int32) := [([true, false, true, true, false, false, false, false, true, true, true], (0 : Int32), (98 : Int32)),
  ([true, false, true, true, false, false, false, true, false, false], (1 : Int32), (111 : Int32)),
  ([true, false, true, true, false, false, false, true, false, true, false], (2 : Int32), (117 : Int32)),
  ([true, false, true, true, false, false, false, true, false, true, true], (3 : Int32), (110 : Int32)),
  ([true, false, true, true, false, false, false, true, true, false], (4 : Int32), (100 : Int32))]
set_option maxHeartbeats 4000000 in
theorem st_p54 : ForE (fun e : List Bool × Int32 × Int32 => nwAt e.1 narrow_1 = some (.eq (.elem (Jvm.Term.field (Jvm.Term.string "SpokenMarks$Script" (79 : Nat)) "java/lang/String" "value" "[B") (.int e.2.1)) (.int e.2.2))) st_e54 := ⟨rfl, rfl, rfl, rfl, rfl, trivial⟩
theorem st_q54 : ∀ j, j < 5 → (st_e54.getD j ([], 0, 0)).2.1.toNatClampNeg = j ∧ (st_e54.getD j ([], 0, 0)).2.2 = iI ((fun j => (kkTx 18).getD j 0 : Nat → Int) j) := by decide +kernel
theorem st_v54 {s : State} {A : Array Value} {D : va_G} {Ar : Nat → ClassId} {C : Nat → Nat} (h : StC s A D Ar C) (W : Wd) : entW ((D, Ar, s, C, W) : Gl) (C 54) (kVal ((D, Ar, s, C, W) : Gl) 54) s.heap := by
  obtain ⟨cell, ha, hc, hst, hcl⟩ := h.2.2.2 54 (by decide)
  show entW _ _ (iE _ 1 5 (fun j => (kkTx 18).getD j 0)) _
  exact st_byt (t := (Jvm.Term.field (Jvm.Term.string "SpokenMarks$Script" (79 : Nat)) "java/lang/String" "value" "[B")) (n := 5) (f := fun j => (kkTx 18).getD j 0) h.1 h.b ha hc hst hcl (p1 := [true, false, true, true, false, false, false, false, true, false]) (p2 := [true, false, true, true, false, false, false, false, true, true, false]) rfl rfl rfl (by decide) (by decide) st_p54 rfl st_q54

def st_e55 : List (List Bool × Int32 × Int32) := [([true, false, true, true, false, false, true, false, true, true, false], (0 : Int32), (98 : Int32)),
  ([true, false, true, true, false, false, true, false, true, true, true], (1 : Int32), (97 : Int32)),
  ([true, false, true, true, false, false, true, true, false, false], (2 : Int32), (108 : Int32)),
  ([true, false, true, true, false, false, true, true, false, true, false], (3 : Int32), (97 : Int32)),
  ([true, false, true, true, false, false, true, true, false, true, true], (4 : Int32), (110 : Int32)),
  ([true, false, true, true, false, false, true, true, true, false, false], (5 : Int32), (99 : Int32)),
  ([true, false, true, true, false, false, true, true, true, false, true], (6 : Int32), (101 : Int32))]
set_option maxHeartbeats 4000000 in
theorem st_p55 : ForE (fun e : List Bool × Int32 × Int32 => nwAt e.1 narrow_1 = some (.eq (.elem (Jvm.Term.field (Jvm.Term.string "SpokenMarks$Script" (81 : Nat)) "java/lang/String" "value" "[B") (.int e.2.1)) (.int e.2.2))) st_e55 := ⟨rfl, rfl, rfl, rfl, rfl, rfl, rfl, trivial⟩
theorem st_q55 : ∀ j, j < 7 → (st_e55.getD j ([], 0, 0)).2.1.toNatClampNeg = j ∧ (st_e55.getD j ([], 0, 0)).2.2 = iI ((fun j => (kkTx 19).getD j 0 : Nat → Int) j) := by decide +kernel
theorem st_v55 {s : State} {A : Array Value} {D : va_G} {Ar : Nat → ClassId} {C : Nat → Nat} (h : StC s A D Ar C) (W : Wd) : entW ((D, Ar, s, C, W) : Gl) (C 55) (kVal ((D, Ar, s, C, W) : Gl) 55) s.heap := by
  obtain ⟨cell, ha, hc, hst, hcl⟩ := h.2.2.2 55 (by decide)
  show entW _ _ (iE _ 1 7 (fun j => (kkTx 19).getD j 0)) _
  exact st_byt (t := (Jvm.Term.field (Jvm.Term.string "SpokenMarks$Script" (81 : Nat)) "java/lang/String" "value" "[B")) (n := 7) (f := fun j => (kkTx 19).getD j 0) h.1 h.b ha hc hst hcl (p1 := [true, false, true, true, false, false, true, false, false, true, true]) (p2 := [true, false, true, true, false, false, true, false, true, false]) rfl rfl rfl (by decide) (by decide) st_p55 rfl st_q55

def st_e56 : List (List Bool × Int32 × Int32) := [([true, false, true, true, false, true, false, false, true, true, false], (0 : Int32), (114 : Int32)),
  ([true, false, true, true, false, true, false, false, true, true, true], (1 : Int32), (101 : Int32)),
  ([true, false, true, true, false, true, false, true, false, false], (2 : Int32), (115 : Int32)),
  ([true, false, true, true, false, true, false, true, false, true, false], (3 : Int32), (112 : Int32)),
  ([true, false, true, true, false, true, false, true, false, true, true], (4 : Int32), (97 : Int32)),
  ([true, false, true, true, false, true, false, true, true, false], (5 : Int32), (99 : Int32)),
  ([true, false, true, true, false, true, false, true, true, true, false], (6 : Int32), (101 : Int32))]
set_option maxHeartbeats 4000000 in
theorem st_p56 : ForE (fun e : List Bool × Int32 × Int32 => nwAt e.1 narrow_1 = some (.eq (.elem (Jvm.Term.field (Jvm.Term.string "SpokenMarks$Script" (83 : Nat)) "java/lang/String" "value" "[B") (.int e.2.1)) (.int e.2.2))) st_e56 := ⟨rfl, rfl, rfl, rfl, rfl, rfl, rfl, trivial⟩
theorem st_q56 : ∀ j, j < 7 → (st_e56.getD j ([], 0, 0)).2.1.toNatClampNeg = j ∧ (st_e56.getD j ([], 0, 0)).2.2 = iI ((fun j => (kkTx 20).getD j 0 : Nat → Int) j) := by decide +kernel
theorem st_v56 {s : State} {A : Array Value} {D : va_G} {Ar : Nat → ClassId} {C : Nat → Nat} (h : StC s A D Ar C) (W : Wd) : entW ((D, Ar, s, C, W) : Gl) (C 56) (kVal ((D, Ar, s, C, W) : Gl) 56) s.heap := by
  obtain ⟨cell, ha, hc, hst, hcl⟩ := h.2.2.2 56 (by decide)
  show entW _ _ (iE _ 1 7 (fun j => (kkTx 20).getD j 0)) _
  exact st_byt (t := (Jvm.Term.field (Jvm.Term.string "SpokenMarks$Script" (83 : Nat)) "java/lang/String" "value" "[B")) (n := 7) (f := fun j => (kkTx 20).getD j 0) h.1 h.b ha hc hst hcl (p1 := [true, false, true, true, false, true, false, false, false, true, true]) (p2 := [true, false, true, true, false, true, false, false, true, false]) rfl rfl rfl (by decide) (by decide) st_p56 rfl st_q56

def st_e57 : List (List Bool × Int32 × Int32) := [([true, false, false, true, false, true, true, true, true, false, false], (0 : Int32), (112 : Int32)),
  ([true, false, false, true, false, true, true, true, true, false, true], (1 : Int32), (104 : Int32))]
set_option maxHeartbeats 4000000 in
theorem st_p57 : ForE (fun e : List Bool × Int32 × Int32 => nwAt e.1 narrow_1 = some (.eq (.elem (Jvm.Term.field (Jvm.Term.string "SpokenMarks$Step$1" (7 : Nat)) "java/lang/String" "value" "[B") (.int e.2.1)) (.int e.2.2))) st_e57 := ⟨rfl, rfl, trivial⟩
theorem st_q57 : ∀ j, j < 2 → (st_e57.getD j ([], 0, 0)).2.1.toNatClampNeg = j ∧ (st_e57.getD j ([], 0, 0)).2.2 = iI ((fun j => (kkTx 21).getD j 0 : Nat → Int) j) := by decide +kernel
theorem st_v57 {s : State} {A : Array Value} {D : va_G} {Ar : Nat → ClassId} {C : Nat → Nat} (h : StC s A D Ar C) (W : Wd) : entW ((D, Ar, s, C, W) : Gl) (C 57) (kVal ((D, Ar, s, C, W) : Gl) 57) s.heap := by
  obtain ⟨cell, ha, hc, hst, hcl⟩ := h.2.2.2 57 (by decide)
  show entW _ _ (iE _ 1 2 (fun j => (kkTx 21).getD j 0)) _
  exact st_byt (t := (Jvm.Term.field (Jvm.Term.string "SpokenMarks$Step$1" (7 : Nat)) "java/lang/String" "value" "[B")) (n := 2) (f := fun j => (kkTx 21).getD j 0) h.1 h.b ha hc hst hcl (p1 := [true, false, false, true, false, true, true, true, false, true, false]) (p2 := [true, false, false, true, false, true, true, true, false, true, true]) rfl rfl rfl (by decide) (by decide) st_p57 rfl st_q57

def st_e58 : List (List Bool × Int32 × Int32) := [([true, false, false, true, true, false, false, false, true, true, false], (0 : Int32), (99 : Int32)),
  ([true, false, false, true, true, false, false, false, true, true, true], (1 : Int32), (107 : Int32))]
set_option maxHeartbeats 4000000 in
theorem st_p58 : ForE (fun e : List Bool × Int32 × Int32 => nwAt e.1 narrow_1 = some (.eq (.elem (Jvm.Term.field (Jvm.Term.string "SpokenMarks$Step$2" (7 : Nat)) "java/lang/String" "value" "[B") (.int e.2.1)) (.int e.2.2))) st_e58 := ⟨rfl, rfl, trivial⟩
theorem st_q58 : ∀ j, j < 2 → (st_e58.getD j ([], 0, 0)).2.1.toNatClampNeg = j ∧ (st_e58.getD j ([], 0, 0)).2.2 = iI ((fun j => (kkTx 22).getD j 0 : Nat → Int) j) := by decide +kernel
theorem st_v58 {s : State} {A : Array Value} {D : va_G} {Ar : Nat → ClassId} {C : Nat → Nat} (h : StC s A D Ar C) (W : Wd) : entW ((D, Ar, s, C, W) : Gl) (C 58) (kVal ((D, Ar, s, C, W) : Gl) 58) s.heap := by
  obtain ⟨cell, ha, hc, hst, hcl⟩ := h.2.2.2 58 (by decide)
  show entW _ _ (iE _ 1 2 (fun j => (kkTx 22).getD j 0)) _
  exact st_byt (t := (Jvm.Term.field (Jvm.Term.string "SpokenMarks$Step$2" (7 : Nat)) "java/lang/String" "value" "[B")) (n := 2) (f := fun j => (kkTx 22).getD j 0) h.1 h.b ha hc hst hcl (p1 := [true, false, false, true, true, false, false, false, false, true, true]) (p2 := [true, false, false, true, true, false, false, false, true, false]) rfl rfl rfl (by decide) (by decide) st_p58 rfl st_q58

def st_e59 : List (List Bool × Int32 × Int32) := [([true, false, true, true, false, true, true, true, true, true, true], (0 : Int32), (115 : Int32)),
  ([true, false, true, true, true, false, false, false, false, false], (1 : Int32), (104 : Int32)),
  ([true, false, true, true, true, false, false, false, false, true, false], (2 : Int32), (101 : Int32)),
  ([true, false, true, true, true, false, false, false, false, true, true], (3 : Int32), (108 : Int32)),
  ([true, false, true, true, true, false, false, false, true, false], (4 : Int32), (118 : Int32)),
  ([true, false, true, true, true, false, false, false, true, true, false], (5 : Int32), (101 : Int32)),
  ([true, false, true, true, true, false, false, false, true, true, true], (6 : Int32), (115 : Int32)),
  ([true, false, true, true, true, false, false, true, false, false], (7 : Int32), (32 : Int32)),
  ([true, false, true, true, true, false, false, true, false, true, false], (8 : Int32), (50 : Int32)),
  ([true, false, true, true, true, false, false, true, false, true, true], (9 : Int32), (32 : Int32)),
  ([true, false, true, true, true, false, false, true, true, false], (10 : Int32), (50 : Int32)),
  ([true, false, true, true, true, false, false, true, true, true, false], (11 : Int32), (48 : Int32)),
  ([true, false, true, true, true, false, false, true, true, true, true], (12 : Int32), (59 : Int32)),
  ([true, false, true, true, true, false, true, false, false, false], (13 : Int32), (115 : Int32)),
  ([true, false, true, true, true, false, true, false, false, true, false], (14 : Int32), (97 : Int32)),
  ([true, false, true, true, true, false, true, false, false, true, true], (15 : Int32), (121 : Int32)),
  ([true, false, true, true, true, false, true, false, true, false], (16 : Int32), (32 : Int32)),
  ([true, false, true, true, true, false, true, false, true, true, false], (17 : Int32), (99 : Int32)),
  ([true, false, true, true, true, false, true, false, true, true, true], (18 : Int32), (111 : Int32)),
  ([true, false, true, true, true, false, true, true, false, false], (19 : Int32), (117 : Int32)),
  ([true, false, true, true, true, false, true, true, false, true, false], (20 : Int32), (103 : Int32)),
  ([true, false, true, true, true, false, true, true, false, true, true], (21 : Int32), (104 : Int32)),
  ([true, false, true, true, true, false, true, true, true, false, false], (22 : Int32), (32 : Int32)),
  ([true, false, true, true, true, false, true, true, true, false, true], (23 : Int32), (61 : Int32)),
  ([true, false, true, true, true, false, true, true, true, true, false], (24 : Int32), (32 : Int32)),
  ([true, false, true, true, true, false, true, true, true, true, true], (25 : Int32), (107 : Int32)),
  ([true, false, true, true, true, true, false, false, false, false], (26 : Int32), (111 : Int32)),
  ([true, false, true, true, true, true, false, false, false, true, false], (27 : Int32), (102 : Int32)),
  ([true, false, true, true, true, true, false, false, false, true, true], (28 : Int32), (102 : Int32)),
  ([true, false, true, true, true, true, false, false, true, false], (29 : Int32), (59 : Int32)),
  ([true, false, true, true, true, true, false, false, true, true, false], (30 : Int32), (109 : Int32)),
  ([true, false, true, true, true, true, false, false, true, true, true], (31 : Int32), (97 : Int32)),
  ([true, false, true, true, true, true, false, true, false, false], (32 : Int32), (114 : Int32)),
  ([true, false, true, true, true, true, false, true, false, true, false], (33 : Int32), (107 : Int32)),
  ([true, false, true, true, true, true, false, true, false, true, true], (34 : Int32), (32 : Int32)),
  ([true, false, true, true, true, true, false, true, true, false], (35 : Int32), (113 : Int32)),
  ([true, false, true, true, true, true, false, true, true, true, false], (36 : Int32), (97 : Int32)),
  ([true, false, true, true, true, true, false, true, true, true, true], (37 : Int32), (32 : Int32)),
  ([true, false, true, true, true, true, true, false, false, false], (38 : Int32), (55 : Int32)),
  ([true, false, true, true, true, true, true, false, false, true, false], (39 : Int32), (54 : Int32)),
  ([true, false, true, true, true, true, true, false, false, true, true], (40 : Int32), (32 : Int32)),
  ([true, false, true, true, true, true, true, false, true, false], (41 : Int32), (115 : Int32)),
  ([true, false, true, true, true, true, true, false, true, true, false], (42 : Int32), (109 : Int32)),
  ([true, false, true, true, true, true, true, false, true, true, true], (43 : Int32), (105 : Int32)),
  ([true, false, true, true, true, true, true, true, false, false], (44 : Int32), (116 : Int32)),
  ([true, false, true, true, true, true, true, true, false, true, false], (45 : Int32), (104 : Int32)),
  ([true, false, true, true, true, true, true, true, false, true, true], (46 : Int32), (32 : Int32)),
  ([true, false, true, true, true, true, true, true, true, false, false], (47 : Int32), (61 : Int32)),
  ([true, false, true, true, true, true, true, true, true, false, true], (48 : Int32), (32 : Int32)),
  ([true, false, true, true, true, true, true, true, true, true, false], (49 : Int32), (53 : Int32)),
  ([true, false, true, true, true, true, true, true, true, true, true], (50 : Int32), (59 : Int32)),
  ([true, true, false, false, false, false, false, false, false], (51 : Int32), (109 : Int32)),
  ([true, true, false, false, false, false, false, false, true, false], (52 : Int32), (97 : Int32)),
  ([true, true, false, false, false, false, false, false, true, true], (53 : Int32), (114 : Int32)),
  ([true, true, false, false, false, false, false, true, false], (54 : Int32), (107 : Int32)),
  ([true, true, false, false, false, false, false, true, true, false], (55 : Int32), (32 : Int32)),
  ([true, true, false, false, false, false, false, true, true, true], (56 : Int32), (113 : Int32)),
  ([true, true, false, false, false, false, true, false, false], (57 : Int32), (97 : Int32)),
  ([true, true, false, false, false, false, true, false, true, false], (58 : Int32), (32 : Int32)),
  ([true, true, false, false, false, false, true, false, true, true], (59 : Int32), (57 : Int32)),
  ([true, true, false, false, false, false, true, true, false, false], (60 : Int32), (32 : Int32)),
  ([true, true, false, false, false, false, true, true, false, true], (61 : Int32), (115 : Int32)),
  ([true, true, false, false, false, false, true, true, true, false], (62 : Int32), (109 : Int32)),
  ([true, true, false, false, false, false, true, true, true, true], (63 : Int32), (121 : Int32)),
  ([true, true, false, false, false, true, false, false, false], (64 : Int32), (116 : Int32)),
  ([true, true, false, false, false, true, false, false, true, false], (65 : Int32), (104 : Int32)),
  ([true, true, false, false, false, true, false, false, true, true], (66 : Int32), (32 : Int32)),
  ([true, true, false, false, false, true, false, true, false, false], (67 : Int32), (61 : Int32)),
  ([true, true, false, false, false, true, false, true, false, true], (68 : Int32), (32 : Int32)),
  ([true, true, false, false, false, true, false, true, true, false], (69 : Int32), (55 : Int32)),
  ([true, true, false, false, false, true, false, true, true, true], (70 : Int32), (59 : Int32)),
  ([true, true, false, false, false, true, true, false, false], (71 : Int32), (109 : Int32)),
  ([true, true, false, false, false, true, true, false, true, false], (72 : Int32), (97 : Int32)),
  ([true, true, false, false, false, true, true, false, true, true], (73 : Int32), (114 : Int32)),
  ([true, true, false, false, false, true, true, true, false, false], (74 : Int32), (107 : Int32)),
  ([true, true, false, false, false, true, true, true, false, true], (75 : Int32), (32 : Int32)),
  ([true, true, false, false, false, true, true, true, true, false], (76 : Int32), (112 : Int32)),
  ([true, true, false, false, false, true, true, true, true, true], (77 : Int32), (104 : Int32)),
  ([true, true, false, false, true, false, false, false, false], (78 : Int32), (97 : Int32)),
  ([true, true, false, false, true, false, false, false, true, false], (79 : Int32), (115 : Int32)),
  ([true, true, false, false, true, false, false, false, true, true], (80 : Int32), (101 : Int32)),
  ([true, true, false, false, true, false, false, true, false, false], (81 : Int32), (32 : Int32)),
  ([true, true, false, false, true, false, false, true, false, true], (82 : Int32), (51 : Int32)),
  ([true, true, false, false, true, false, false, true, true, false], (83 : Int32), (32 : Int32)),
  ([true, true, false, false, true, false, false, true, true, true], (84 : Int32), (61 : Int32)),
  ([true, true, false, false, true, false, true, false, false], (85 : Int32), (32 : Int32)),
  ([true, true, false, false, true, false, true, false, true, false], (86 : Int32), (52 : Int32)),
  ([true, true, false, false, true, false, true, false, true, true], (87 : Int32), (59 : Int32)),
  ([true, true, false, false, true, false, true, true, false, false], (88 : Int32), (109 : Int32)),
  ([true, true, false, false, true, false, true, true, false, true], (89 : Int32), (97 : Int32)),
  ([true, true, false, false, true, false, true, true, true, false], (90 : Int32), (114 : Int32)),
  ([true, true, false, false, true, false, true, true, true, true], (91 : Int32), (107 : Int32)),
  ([true, true, false, false, true, true, false, false, false], (92 : Int32), (32 : Int32)),
  ([true, true, false, false, true, true, false, false, true, false], (93 : Int32), (102 : Int32)),
  ([true, true, false, false, true, true, false, false, true, true], (94 : Int32), (97 : Int32)),
  ([true, true, false, false, true, true, false, true, false, false], (95 : Int32), (115 : Int32)),
  ([true, true, false, false, true, true, false, true, false, true], (96 : Int32), (101 : Int32)),
  ([true, true, false, false, true, true, false, true, true, false], (97 : Int32), (32 : Int32)),
  ([true, true, false, false, true, true, false, true, true, true], (98 : Int32), (51 : Int32)),
  ([true, true, false, false, true, true, true, false, false], (99 : Int32), (32 : Int32)),
  ([true, true, false, false, true, true, true, false, true, false], (100 : Int32), (49 : Int32)),
  ([true, true, false, false, true, true, true, false, true, true], (101 : Int32), (32 : Int32)),
  ([true, true, false, false, true, true, true, true, false, false], (102 : Int32), (61 : Int32)),
  ([true, true, false, false, true, true, true, true, false, true], (103 : Int32), (32 : Int32)),
  ([true, true, false, false, true, true, true, true, true, false], (104 : Int32), (54 : Int32)),
  ([true, true, false, false, true, true, true, true, true, true], (105 : Int32), (59 : Int32)),
  ([true, true, false, true, false, false, false, false, false], (106 : Int32), (109 : Int32)),
  ([true, true, false, true, false, false, false, false, true, false], (107 : Int32), (97 : Int32)),
  ([true, true, false, true, false, false, false, false, true, true], (108 : Int32), (114 : Int32)),
  ([true, true, false, true, false, false, false, true, false, false], (109 : Int32), (107 : Int32)),
  ([true, true, false, true, false, false, false, true, false, true], (110 : Int32), (32 : Int32)),
  ([true, true, false, true, false, false, false, true, true, false], (111 : Int32), (99 : Int32)),
  ([true, true, false, true, false, false, false, true, true, true], (112 : Int32), (111 : Int32)),
  ([true, true, false, true, false, false, true, false, false], (113 : Int32), (117 : Int32)),
  ([true, true, false, true, false, false, true, false, true, false], (114 : Int32), (103 : Int32)),
  ([true, true, false, true, false, false, true, false, true, true], (115 : Int32), (104 : Int32)),
  ([true, true, false, true, false, false, true, true, false, false], (116 : Int32), (32 : Int32)),
  ([true, true, false, true, false, false, true, true, false, true], (117 : Int32), (61 : Int32)),
  ([true, true, false, true, false, false, true, true, true, false], (118 : Int32), (32 : Int32)),
  ([true, true, false, true, false, false, true, true, true, true], (119 : Int32), (50 : Int32)),
  ([true, true, false, true, false, true, false, false, false], (120 : Int32), (59 : Int32))]
set_option maxHeartbeats 4000000 in
theorem st_p59 : ForE (fun e : List Bool × Int32 × Int32 => nwAt e.1 narrow_1 = some (.eq (.elem (Jvm.Term.field (Jvm.Term.string "SpokenMarksModel" (100 : Nat)) "java/lang/String" "value" "[B") (.int e.2.1)) (.int e.2.2))) st_e59 := ⟨rfl, rfl, rfl, rfl, rfl, rfl, rfl, rfl, rfl, rfl, rfl, rfl, rfl, rfl, rfl, rfl, rfl, rfl, rfl, rfl, rfl, rfl, rfl, rfl, rfl, rfl, rfl, rfl, rfl, rfl, rfl, rfl, rfl, rfl, rfl, rfl, rfl, rfl, rfl, rfl, rfl, rfl, rfl, rfl, rfl, rfl, rfl, rfl, rfl, rfl, rfl, rfl, rfl, rfl, rfl, rfl, rfl, rfl, rfl, rfl, rfl, rfl, rfl, rfl, rfl, rfl, rfl, rfl, rfl, rfl, rfl, rfl, rfl, rfl, rfl, rfl, rfl, rfl, rfl, rfl, rfl, rfl, rfl, rfl, rfl, rfl, rfl, rfl, rfl, rfl, rfl, rfl, rfl, rfl, rfl, rfl, rfl, rfl, rfl, rfl, rfl, rfl, rfl, rfl, rfl, rfl, rfl, rfl, rfl, rfl, rfl, rfl, rfl, rfl, rfl, rfl, rfl, rfl, rfl, rfl, rfl, trivial⟩
theorem st_q59 : ∀ j, j < 121 → (st_e59.getD j ([], 0, 0)).2.1.toNatClampNeg = j ∧ (st_e59.getD j ([], 0, 0)).2.2 = iI ((fun j => (kkTx 23).getD j 0 : Nat → Int) j) := by decide +kernel
theorem st_v59 {s : State} {A : Array Value} {D : va_G} {Ar : Nat → ClassId} {C : Nat → Nat} (h : StC s A D Ar C) (W : Wd) : entW ((D, Ar, s, C, W) : Gl) (C 59) (kVal ((D, Ar, s, C, W) : Gl) 59) s.heap := by
  obtain ⟨cell, ha, hc, hst, hcl⟩ := h.2.2.2 59 (by decide)
  show entW _ _ (iE _ 1 121 (fun j => (kkTx 23).getD j 0)) _
  exact st_byt (t := (Jvm.Term.field (Jvm.Term.string "SpokenMarksModel" (100 : Nat)) "java/lang/String" "value" "[B")) (n := 121) (f := fun j => (kkTx 23).getD j 0) h.1 h.b ha hc hst hcl (p1 := [true, false, true, true, false, true, true, true, true, false, true]) (p2 := [true, false, true, true, false, true, true, true, true, true, false]) rfl rfl rfl (by decide) (by decide) st_p59 rfl st_q59

def st_e60 : List (List Bool × Int32 × Int32) := [([true, true, false, true, false, true, true, false, false], (0 : Int32), (115 : Int32)),
  ([true, true, false, true, false, true, true, false, true, false], (1 : Int32), (104 : Int32)),
  ([true, true, false, true, false, true, true, false, true, true], (2 : Int32), (101 : Int32)),
  ([true, true, false, true, false, true, true, true, false, false], (3 : Int32), (108 : Int32)),
  ([true, true, false, true, false, true, true, true, false, true], (4 : Int32), (118 : Int32)),
  ([true, true, false, true, false, true, true, true, true, false], (5 : Int32), (101 : Int32)),
  ([true, true, false, true, false, true, true, true, true, true], (6 : Int32), (115 : Int32))]
set_option maxHeartbeats 4000000 in
theorem st_p60 : ForE (fun e : List Bool × Int32 × Int32 => nwAt e.1 narrow_1 = some (.eq (.elem (Jvm.Term.field (Jvm.Term.string "SpokenMarksModel" (263 : Nat)) "java/lang/String" "value" "[B") (.int e.2.1)) (.int e.2.2))) st_e60 := ⟨rfl, rfl, rfl, rfl, rfl, rfl, rfl, trivial⟩
theorem st_q60 : ∀ j, j < 7 → (st_e60.getD j ([], 0, 0)).2.1.toNatClampNeg = j ∧ (st_e60.getD j ([], 0, 0)).2.2 = iI ((fun j => (kkTx 24).getD j 0 : Nat → Int) j) := by decide +kernel
theorem st_v60 {s : State} {A : Array Value} {D : va_G} {Ar : Nat → ClassId} {C : Nat → Nat} (h : StC s A D Ar C) (W : Wd) : entW ((D, Ar, s, C, W) : Gl) (C 60) (kVal ((D, Ar, s, C, W) : Gl) 60) s.heap := by
  obtain ⟨cell, ha, hc, hst, hcl⟩ := h.2.2.2 60 (by decide)
  show entW _ _ (iE _ 1 7 (fun j => (kkTx 24).getD j 0)) _
  exact st_byt (t := (Jvm.Term.field (Jvm.Term.string "SpokenMarksModel" (263 : Nat)) "java/lang/String" "value" "[B")) (n := 7) (f := fun j => (kkTx 24).getD j 0) h.1 h.b ha hc hst hcl (p1 := [true, true, false, true, false, true, false, true, true, false]) (p2 := [true, true, false, true, false, true, false, true, true, true]) rfl rfl rfl (by decide) (by decide) st_p60 rfl st_q60

def st_e61 : List (List Bool × Int32 × Int32) := [([true, true, false, true, true, false, true, false, false], (0 : Int32), (115 : Int32)),
  ([true, true, false, true, true, false, true, false, true, false], (1 : Int32), (97 : Int32)),
  ([true, true, false, true, true, false, true, false, true, true], (2 : Int32), (121 : Int32))]
set_option maxHeartbeats 4000000 in
theorem st_p61 : ForE (fun e : List Bool × Int32 × Int32 => nwAt e.1 narrow_1 = some (.eq (.elem (Jvm.Term.field (Jvm.Term.string "SpokenMarksModel" (275 : Nat)) "java/lang/String" "value" "[B") (.int e.2.1)) (.int e.2.2))) st_e61 := ⟨rfl, rfl, rfl, trivial⟩
theorem st_q61 : ∀ j, j < 3 → (st_e61.getD j ([], 0, 0)).2.1.toNatClampNeg = j ∧ (st_e61.getD j ([], 0, 0)).2.2 = iI ((fun j => (kkTx 25).getD j 0 : Nat → Int) j) := by decide +kernel
theorem st_v61 {s : State} {A : Array Value} {D : va_G} {Ar : Nat → ClassId} {C : Nat → Nat} (h : StC s A D Ar C) (W : Wd) : entW ((D, Ar, s, C, W) : Gl) (C 61) (kVal ((D, Ar, s, C, W) : Gl) 61) s.heap := by
  obtain ⟨cell, ha, hc, hst, hcl⟩ := h.2.2.2 61 (by decide)
  show entW _ _ (iE _ 1 3 (fun j => (kkTx 25).getD j 0)) _
  exact st_byt (t := (Jvm.Term.field (Jvm.Term.string "SpokenMarksModel" (275 : Nat)) "java/lang/String" "value" "[B")) (n := 3) (f := fun j => (kkTx 25).getD j 0) h.1 h.b ha hc hst hcl (p1 := [true, true, false, true, true, false, false, true, true, false]) (p2 := [true, true, false, true, true, false, false, true, true, true]) rfl rfl rfl (by decide) (by decide) st_p61 rfl st_q61

def st_e62 : List (List Bool × Int32 × Int32) := [([true, true, false, true, true, true, false, true, false, true], (0 : Int32), (109 : Int32)),
  ([true, true, false, true, true, true, false, true, true, false], (1 : Int32), (97 : Int32)),
  ([true, true, false, true, true, true, false, true, true, true], (2 : Int32), (114 : Int32)),
  ([true, true, false, true, true, true, true, false, false], (3 : Int32), (107 : Int32))]
set_option maxHeartbeats 4000000 in
theorem st_p62 : ForE (fun e : List Bool × Int32 × Int32 => nwAt e.1 narrow_1 = some (.eq (.elem (Jvm.Term.field (Jvm.Term.string "SpokenMarksModel" (280 : Nat)) "java/lang/String" "value" "[B") (.int e.2.1)) (.int e.2.2))) st_e62 := ⟨rfl, rfl, rfl, rfl, trivial⟩
theorem st_q62 : ∀ j, j < 4 → (st_e62.getD j ([], 0, 0)).2.1.toNatClampNeg = j ∧ (st_e62.getD j ([], 0, 0)).2.2 = iI ((fun j => (kkTx 26).getD j 0 : Nat → Int) j) := by decide +kernel
theorem st_v62 {s : State} {A : Array Value} {D : va_G} {Ar : Nat → ClassId} {C : Nat → Nat} (h : StC s A D Ar C) (W : Wd) : entW ((D, Ar, s, C, W) : Gl) (C 62) (kVal ((D, Ar, s, C, W) : Gl) 62) s.heap := by
  obtain ⟨cell, ha, hc, hst, hcl⟩ := h.2.2.2 62 (by decide)
  show entW _ _ (iE _ 1 4 (fun j => (kkTx 26).getD j 0)) _
  exact st_byt (t := (Jvm.Term.field (Jvm.Term.string "SpokenMarksModel" (280 : Nat)) "java/lang/String" "value" "[B")) (n := 4) (f := fun j => (kkTx 26).getD j 0) h.1 h.b ha hc hst hcl (p1 := [true, true, false, true, true, true, false, false, true, true]) (p2 := [true, true, false, true, true, true, false, true, false, false]) rfl rfl rfl (by decide) (by decide) st_p62 rfl st_q62

def st_e63 : List (List Bool × Int32 × Int32) := [([true, true, true, false, false, false, false, false, true, true], (0 : Int32), (117 : Int32)),
  ([true, true, true, false, false, false, false, true, false], (1 : Int32), (110 : Int32)),
  ([true, true, true, false, false, false, false, true, true, false], (2 : Int32), (115 : Int32)),
  ([true, true, true, false, false, false, false, true, true, true], (3 : Int32), (97 : Int32)),
  ([true, true, true, false, false, false, true, false, false], (4 : Int32), (121 : Int32))]
set_option maxHeartbeats 4000000 in
theorem st_p63 : ForE (fun e : List Bool × Int32 × Int32 => nwAt e.1 narrow_1 = some (.eq (.elem (Jvm.Term.field (Jvm.Term.string "SpokenMarksModel" (427 : Nat)) "java/lang/String" "value" "[B") (.int e.2.1)) (.int e.2.2))) st_e63 := ⟨rfl, rfl, rfl, rfl, rfl, trivial⟩
theorem st_q63 : ∀ j, j < 5 → (st_e63.getD j ([], 0, 0)).2.1.toNatClampNeg = j ∧ (st_e63.getD j ([], 0, 0)).2.2 = iI ((fun j => (kkTx 27).getD j 0 : Nat → Int) j) := by decide +kernel
theorem st_v63 {s : State} {A : Array Value} {D : va_G} {Ar : Nat → ClassId} {C : Nat → Nat} (h : StC s A D Ar C) (W : Wd) : entW ((D, Ar, s, C, W) : Gl) (C 63) (kVal ((D, Ar, s, C, W) : Gl) 63) s.heap := by
  obtain ⟨cell, ha, hc, hst, hcl⟩ := h.2.2.2 63 (by decide)
  show entW _ _ (iE _ 1 5 (fun j => (kkTx 27).getD j 0)) _
  exact st_byt (t := (Jvm.Term.field (Jvm.Term.string "SpokenMarksModel" (427 : Nat)) "java/lang/String" "value" "[B")) (n := 5) (f := fun j => (kkTx 27).getD j 0) h.1 h.b ha hc hst hcl (p1 := [true, true, true, false, false, false, false, false, false]) (p2 := [true, true, true, false, false, false, false, false, true, false]) rfl rfl rfl (by decide) (by decide) st_p63 rfl st_q63

def st_e64 : List (List Bool × Int32 × Int32) := [([true, true, true, false, false, true, false, false, true, false], (0 : Int32), (100 : Int32)),
  ([true, true, true, false, false, true, false, false, true, true], (1 : Int32), (114 : Int32)),
  ([true, true, true, false, false, true, false, true, false, false], (2 : Int32), (111 : Int32)),
  ([true, true, true, false, false, true, false, true, false, true], (3 : Int32), (112 : Int32))]
set_option maxHeartbeats 4000000 in
theorem st_p64 : ForE (fun e : List Bool × Int32 × Int32 => nwAt e.1 narrow_1 = some (.eq (.elem (Jvm.Term.field (Jvm.Term.string "SpokenMarksModel" (429 : Nat)) "java/lang/String" "value" "[B") (.int e.2.1)) (.int e.2.2))) st_e64 := ⟨rfl, rfl, rfl, rfl, trivial⟩
theorem st_q64 : ∀ j, j < 4 → (st_e64.getD j ([], 0, 0)).2.1.toNatClampNeg = j ∧ (st_e64.getD j ([], 0, 0)).2.2 = iI ((fun j => (kkTx 28).getD j 0 : Nat → Int) j) := by decide +kernel
theorem st_v64 {s : State} {A : Array Value} {D : va_G} {Ar : Nat → ClassId} {C : Nat → Nat} (h : StC s A D Ar C) (W : Wd) : entW ((D, Ar, s, C, W) : Gl) (C 64) (kVal ((D, Ar, s, C, W) : Gl) 64) s.heap := by
  obtain ⟨cell, ha, hc, hst, hcl⟩ := h.2.2.2 64 (by decide)
  show entW _ _ (iE _ 1 4 (fun j => (kkTx 28).getD j 0)) _
  exact st_byt (t := (Jvm.Term.field (Jvm.Term.string "SpokenMarksModel" (429 : Nat)) "java/lang/String" "value" "[B")) (n := 4) (f := fun j => (kkTx 28).getD j 0) h.1 h.b ha hc hst hcl (p1 := [true, true, true, false, false, false, true, true, true, true]) (p2 := [true, true, true, false, false, true, false, false, false]) rfl rfl rfl (by decide) (by decide) st_p64 rfl st_q64

def st_e65 : List (List Bool × Int32 × Int32) := [([true, true, true, false, false, true, true, true, true, false], (0 : Int32), (119 : Int32)),
  ([true, true, true, false, false, true, true, true, true, true], (1 : Int32), (105 : Int32)),
  ([true, true, true, false, true, false, false, false, false], (2 : Int32), (100 : Int32)),
  ([true, true, true, false, true, false, false, false, true, false], (3 : Int32), (116 : Int32)),
  ([true, true, true, false, true, false, false, false, true, true], (4 : Int32), (104 : Int32))]
set_option maxHeartbeats 4000000 in
theorem st_p65 : ForE (fun e : List Bool × Int32 × Int32 => nwAt e.1 narrow_1 = some (.eq (.elem (Jvm.Term.field (Jvm.Term.string "SpokenMarksModel" (431 : Nat)) "java/lang/String" "value" "[B") (.int e.2.1)) (.int e.2.2))) st_e65 := ⟨rfl, rfl, rfl, rfl, rfl, trivial⟩
theorem st_q65 : ∀ j, j < 5 → (st_e65.getD j ([], 0, 0)).2.1.toNatClampNeg = j ∧ (st_e65.getD j ([], 0, 0)).2.2 = iI ((fun j => (kkTx 29).getD j 0 : Nat → Int) j) := by decide +kernel
theorem st_v65 {s : State} {A : Array Value} {D : va_G} {Ar : Nat → ClassId} {C : Nat → Nat} (h : StC s A D Ar C) (W : Wd) : entW ((D, Ar, s, C, W) : Gl) (C 65) (kVal ((D, Ar, s, C, W) : Gl) 65) s.heap := by
  obtain ⟨cell, ha, hc, hst, hcl⟩ := h.2.2.2 65 (by decide)
  show entW _ _ (iE _ 1 5 (fun j => (kkTx 29).getD j 0)) _
  exact st_byt (t := (Jvm.Term.field (Jvm.Term.string "SpokenMarksModel" (431 : Nat)) "java/lang/String" "value" "[B")) (n := 5) (f := fun j => (kkTx 29).getD j 0) h.1 h.b ha hc hst hcl (p1 := [true, true, true, false, false, true, true, true, false, false]) (p2 := [true, true, true, false, false, true, true, true, false, true]) rfl rfl rfl (by decide) (by decide) st_p65 rfl st_q65

def st_e66 : List (List Bool × Int32 × Int32) := [([true, true, true, false, true, false, true, true, false, false], (0 : Int32), (98 : Int32)),
  ([true, true, true, false, true, false, true, true, false, true], (1 : Int32), (111 : Int32)),
  ([true, true, true, false, true, false, true, true, true, false], (2 : Int32), (117 : Int32)),
  ([true, true, true, false, true, false, true, true, true, true], (3 : Int32), (110 : Int32)),
  ([true, true, true, false, true, true, false, false, false], (4 : Int32), (100 : Int32))]
set_option maxHeartbeats 4000000 in
theorem st_p66 : ForE (fun e : List Bool × Int32 × Int32 => nwAt e.1 narrow_1 = some (.eq (.elem (Jvm.Term.field (Jvm.Term.string "SpokenMarksModel" (433 : Nat)) "java/lang/String" "value" "[B") (.int e.2.1)) (.int e.2.2))) st_e66 := ⟨rfl, rfl, rfl, rfl, rfl, trivial⟩
theorem st_q66 : ∀ j, j < 5 → (st_e66.getD j ([], 0, 0)).2.1.toNatClampNeg = j ∧ (st_e66.getD j ([], 0, 0)).2.2 = iI ((fun j => (kkTx 30).getD j 0 : Nat → Int) j) := by decide +kernel
theorem st_v66 {s : State} {A : Array Value} {D : va_G} {Ar : Nat → ClassId} {C : Nat → Nat} (h : StC s A D Ar C) (W : Wd) : entW ((D, Ar, s, C, W) : Gl) (C 66) (kVal ((D, Ar, s, C, W) : Gl) 66) s.heap := by
  obtain ⟨cell, ha, hc, hst, hcl⟩ := h.2.2.2 66 (by decide)
  show entW _ _ (iE _ 1 5 (fun j => (kkTx 30).getD j 0)) _
  exact st_byt (t := (Jvm.Term.field (Jvm.Term.string "SpokenMarksModel" (433 : Nat)) "java/lang/String" "value" "[B")) (n := 5) (f := fun j => (kkTx 30).getD j 0) h.1 h.b ha hc hst hcl (p1 := [true, true, true, false, true, false, true, false, true, false]) (p2 := [true, true, true, false, true, false, true, false, true, true]) rfl rfl rfl (by decide) (by decide) st_p66 rfl st_q66

def st_e67 : List (List Bool × Int32 × Int32) := [([true, true, true, false, true, true, true, false, true, false], (0 : Int32), (98 : Int32)),
  ([true, true, true, false, true, true, true, false, true, true], (1 : Int32), (97 : Int32)),
  ([true, true, true, false, true, true, true, true, false, false], (2 : Int32), (108 : Int32)),
  ([true, true, true, false, true, true, true, true, false, true], (3 : Int32), (97 : Int32)),
  ([true, true, true, false, true, true, true, true, true, false], (4 : Int32), (110 : Int32)),
  ([true, true, true, false, true, true, true, true, true, true], (5 : Int32), (99 : Int32)),
  ([true, true, true, true, false, false, false, false, false], (6 : Int32), (101 : Int32))]
set_option maxHeartbeats 4000000 in
theorem st_p67 : ForE (fun e : List Bool × Int32 × Int32 => nwAt e.1 narrow_1 = some (.eq (.elem (Jvm.Term.field (Jvm.Term.string "SpokenMarksModel" (434 : Nat)) "java/lang/String" "value" "[B") (.int e.2.1)) (.int e.2.2))) st_e67 := ⟨rfl, rfl, rfl, rfl, rfl, rfl, rfl, trivial⟩
theorem st_q67 : ∀ j, j < 7 → (st_e67.getD j ([], 0, 0)).2.1.toNatClampNeg = j ∧ (st_e67.getD j ([], 0, 0)).2.2 = iI ((fun j => (kkTx 31).getD j 0 : Nat → Int) j) := by decide +kernel
theorem st_v67 {s : State} {A : Array Value} {D : va_G} {Ar : Nat → ClassId} {C : Nat → Nat} (h : StC s A D Ar C) (W : Wd) : entW ((D, Ar, s, C, W) : Gl) (C 67) (kVal ((D, Ar, s, C, W) : Gl) 67) s.heap := by
  obtain ⟨cell, ha, hc, hst, hcl⟩ := h.2.2.2 67 (by decide)
  show entW _ _ (iE _ 1 7 (fun j => (kkTx 31).getD j 0)) _
  exact st_byt (t := (Jvm.Term.field (Jvm.Term.string "SpokenMarksModel" (434 : Nat)) "java/lang/String" "value" "[B")) (n := 7) (f := fun j => (kkTx 31).getD j 0) h.1 h.b ha hc hst hcl (p1 := [true, true, true, false, true, true, false, true, true, true]) (p2 := [true, true, true, false, true, true, true, false, false]) rfl rfl rfl (by decide) (by decide) st_p67 rfl st_q67

def st_e68 : List (List Bool × Int32 × Int32) := [([true, true, true, true, false, false, true, false, true, false], (0 : Int32), (114 : Int32)),
  ([true, true, true, true, false, false, true, false, true, true], (1 : Int32), (101 : Int32)),
  ([true, true, true, true, false, false, true, true, false, false], (2 : Int32), (115 : Int32)),
  ([true, true, true, true, false, false, true, true, false, true], (3 : Int32), (112 : Int32)),
  ([true, true, true, true, false, false, true, true, true, false], (4 : Int32), (97 : Int32)),
  ([true, true, true, true, false, false, true, true, true, true], (5 : Int32), (99 : Int32)),
  ([true, true, true, true, false, true, false, false, false], (6 : Int32), (101 : Int32))]
set_option maxHeartbeats 4000000 in
theorem st_p68 : ForE (fun e : List Bool × Int32 × Int32 => nwAt e.1 narrow_1 = some (.eq (.elem (Jvm.Term.field (Jvm.Term.string "SpokenMarksModel" (436 : Nat)) "java/lang/String" "value" "[B") (.int e.2.1)) (.int e.2.2))) st_e68 := ⟨rfl, rfl, rfl, rfl, rfl, rfl, rfl, trivial⟩
theorem st_q68 : ∀ j, j < 7 → (st_e68.getD j ([], 0, 0)).2.1.toNatClampNeg = j ∧ (st_e68.getD j ([], 0, 0)).2.2 = iI ((fun j => (kkTx 32).getD j 0 : Nat → Int) j) := by decide +kernel
theorem st_v68 {s : State} {A : Array Value} {D : va_G} {Ar : Nat → ClassId} {C : Nat → Nat} (h : StC s A D Ar C) (W : Wd) : entW ((D, Ar, s, C, W) : Gl) (C 68) (kVal ((D, Ar, s, C, W) : Gl) 68) s.heap := by
  obtain ⟨cell, ha, hc, hst, hcl⟩ := h.2.2.2 68 (by decide)
  show entW _ _ (iE _ 1 7 (fun j => (kkTx 32).getD j 0)) _
  exact st_byt (t := (Jvm.Term.field (Jvm.Term.string "SpokenMarksModel" (436 : Nat)) "java/lang/String" "value" "[B")) (n := 7) (f := fun j => (kkTx 32).getD j 0) h.1 h.b ha hc hst hcl (p1 := [true, true, true, true, false, false, false, true, true, true]) (p2 := [true, true, true, true, false, false, true, false, false]) rfl rfl rfl (by decide) (by decide) st_p68 rfl st_q68

def st_e69 : List (List Bool × Int32 × Int32) := [([true, false, false, false, true, false, false, false, true, true, true], (0 : Int32), (73 : Int32)),
  ([true, false, false, false, true, false, false, true, false, false], (1 : Int32), (108 : Int32)),
  ([true, false, false, false, true, false, false, true, false, true, false], (2 : Int32), (108 : Int32)),
  ([true, false, false, false, true, false, false, true, false, true, true], (3 : Int32), (101 : Int32)),
  ([true, false, false, false, true, false, false, true, true, false], (4 : Int32), (103 : Int32)),
  ([true, false, false, false, true, false, false, true, true, true, false], (5 : Int32), (97 : Int32)),
  ([true, false, false, false, true, false, false, true, true, true, true], (6 : Int32), (108 : Int32)),
  ([true, false, false, false, true, false, true, false, false, false], (7 : Int32), (32 : Int32)),
  ([true, false, false, false, true, false, true, false, false, true, false], (8 : Int32), (67 : Int32)),
  ([true, false, false, false, true, false, true, false, false, true, true], (9 : Int32), (97 : Int32)),
  ([true, false, false, false, true, false, true, false, true, false], (10 : Int32), (112 : Int32)),
  ([true, false, false, false, true, false, true, false, true, true, false], (11 : Int32), (97 : Int32)),
  ([true, false, false, false, true, false, true, false, true, true, true], (12 : Int32), (99 : Int32)),
  ([true, false, false, false, true, false, true, true, false, false], (13 : Int32), (105 : Int32)),
  ([true, false, false, false, true, false, true, true, false, true, false], (14 : Int32), (116 : Int32)),
  ([true, false, false, false, true, false, true, true, false, true, true], (15 : Int32), (121 : Int32)),
  ([true, false, false, false, true, false, true, true, true, false, false], (16 : Int32), (58 : Int32)),
  ([true, false, false, false, true, false, true, true, true, false, true], (17 : Int32), (32 : Int32))]
set_option maxHeartbeats 4000000 in
theorem st_p69 : ForE (fun e : List Bool × Int32 × Int32 => nwAt e.1 narrow_1 = some (.eq (.elem (Jvm.Term.field (Jvm.Term.string "java/util/ArrayList" (23 : Nat)) "java/lang/String" "value" "[B") (.int e.2.1)) (.int e.2.2))) st_e69 := ⟨rfl, rfl, rfl, rfl, rfl, rfl, rfl, rfl, rfl, rfl, rfl, rfl, rfl, rfl, rfl, rfl, rfl, rfl, trivial⟩
theorem st_q69 : ∀ j, j < 18 → (st_e69.getD j ([], 0, 0)).2.1.toNatClampNeg = j ∧ (st_e69.getD j ([], 0, 0)).2.2 = iI ((fun j => (kkTx 33).getD j 0 : Nat → Int) j) := by decide +kernel
theorem st_v69 {s : State} {A : Array Value} {D : va_G} {Ar : Nat → ClassId} {C : Nat → Nat} (h : StC s A D Ar C) (W : Wd) : entW ((D, Ar, s, C, W) : Gl) (C 69) (kVal ((D, Ar, s, C, W) : Gl) 69) s.heap := by
  obtain ⟨cell, ha, hc, hst, hcl⟩ := h.2.2.2 69 (by decide)
  show entW _ _ (iE _ 1 18 (fun j => (kkTx 33).getD j 0)) _
  exact st_byt (t := (Jvm.Term.field (Jvm.Term.string "java/util/ArrayList" (23 : Nat)) "java/lang/String" "value" "[B")) (n := 18) (f := fun j => (kkTx 33).getD j 0) h.1 h.b ha hc hst hcl (p1 := [true, false, false, false, true, false, false, false, true, false]) (p2 := [true, false, false, false, true, false, false, false, true, true, false]) rfl rfl rfl (by decide) (by decide) st_p69 rfl st_q69

def st_e70 : List (List Bool × Int32 × Int32) := [([true, false, false, false, true, true, false, false, true, true, false], (0 : Int32), (32 : Int32)),
  ([true, false, false, false, true, true, false, false, true, true, true], (1 : Int32), (62 : Int32)),
  ([true, false, false, false, true, true, false, true, false, false], (2 : Int32), (32 : Int32))]
set_option maxHeartbeats 4000000 in
theorem st_p70 : ForE (fun e : List Bool × Int32 × Int32 => nwAt e.1 narrow_1 = some (.eq (.elem (Jvm.Term.field (Jvm.Term.string "java/util/Arrays" (337 : Nat)) "java/lang/String" "value" "[B") (.int e.2.1)) (.int e.2.2))) st_e70 := ⟨rfl, rfl, rfl, trivial⟩
theorem st_q70 : ∀ j, j < 3 → (st_e70.getD j ([], 0, 0)).2.1.toNatClampNeg = j ∧ (st_e70.getD j ([], 0, 0)).2.2 = iI ((fun j => (kkTx 34).getD j 0 : Nat → Int) j) := by decide +kernel
theorem st_v70 {s : State} {A : Array Value} {D : va_G} {Ar : Nat → ClassId} {C : Nat → Nat} (h : StC s A D Ar C) (W : Wd) : entW ((D, Ar, s, C, W) : Gl) (C 70) (kVal ((D, Ar, s, C, W) : Gl) 70) s.heap := by
  obtain ⟨cell, ha, hc, hst, hcl⟩ := h.2.2.2 70 (by decide)
  show entW _ _ (iE _ 1 3 (fun j => (kkTx 34).getD j 0)) _
  exact st_byt (t := (Jvm.Term.field (Jvm.Term.string "java/util/Arrays" (337 : Nat)) "java/lang/String" "value" "[B")) (n := 3) (f := fun j => (kkTx 34).getD j 0) h.1 h.b ha hc hst hcl (p1 := [true, false, false, false, true, true, false, false, false, true, true]) (p2 := [true, false, false, false, true, true, false, false, true, false]) rfl rfl rfl (by decide) (by decide) st_p70 rfl st_q70

def st_e71 : List (List Bool × Int32 × Int32) := [([true, false, false, true, false, false, true, false, true, false], (0 : Int32), (117 : Int32)),
  ([true, false, false, true, false, false, true, false, true, true, false], (1 : Int32), (110 : Int32)),
  ([true, false, false, true, false, false, true, false, true, true, true], (2 : Int32), (114 : Int32)),
  ([true, false, false, true, false, false, true, true, false, false], (3 : Int32), (101 : Int32)),
  ([true, false, false, true, false, false, true, true, false, true, false], (4 : Int32), (99 : Int32)),
  ([true, false, false, true, false, false, true, true, false, true, true], (5 : Int32), (111 : Int32)),
  ([true, false, false, true, false, false, true, true, true, false, false], (6 : Int32), (103 : Int32)),
  ([true, false, false, true, false, false, true, true, true, false, true], (7 : Int32), (110 : Int32)),
  ([true, false, false, true, false, false, true, true, true, true, false], (8 : Int32), (105 : Int32)),
  ([true, false, false, true, false, false, true, true, true, true, true], (9 : Int32), (122 : Int32)),
  ([true, false, false, true, false, true, false, false, false, false], (10 : Int32), (101 : Int32)),
  ([true, false, false, true, false, true, false, false, false, true, false], (11 : Int32), (100 : Int32)),
  ([true, false, false, true, false, true, false, false, false, true, true], (12 : Int32), (32 : Int32)),
  ([true, false, false, true, false, true, false, false, true, false], (13 : Int32), (98 : Int32)),
  ([true, false, false, true, false, true, false, false, true, true, false], (14 : Int32), (97 : Int32)),
  ([true, false, false, true, false, true, false, false, true, true, true], (15 : Int32), (115 : Int32)),
  ([true, false, false, true, false, true, false, true, false, false], (16 : Int32), (105 : Int32)),
  ([true, false, false, true, false, true, false, true, false, true, false], (17 : Int32), (99 : Int32)),
  ([true, false, false, true, false, true, false, true, false, true, true], (18 : Int32), (32 : Int32)),
  ([true, false, false, true, false, true, false, true, true, false], (19 : Int32), (116 : Int32)),
  ([true, false, false, true, false, true, false, true, true, true, false], (20 : Int32), (121 : Int32)),
  ([true, false, false, true, false, true, false, true, true, true, true], (21 : Int32), (112 : Int32)),
  ([true, false, false, true, false, true, true, false, false, false], (22 : Int32), (101 : Int32)),
  ([true, false, false, true, false, true, true, false, false, true, false], (23 : Int32), (58 : Int32)),
  ([true, false, false, true, false, true, true, false, false, true, true], (24 : Int32), (32 : Int32))]
set_option maxHeartbeats 4000000 in
theorem st_p71 : ForE (fun e : List Bool × Int32 × Int32 => nwAt e.1 narrow_1 = some (.eq (.elem (Jvm.Term.field (Jvm.Term.string "jdk/internal/util/ArraysSupport" (92 : Nat)) "java/lang/String" "value" "[B") (.int e.2.1)) (.int e.2.2))) st_e71 := ⟨rfl, rfl, rfl, rfl, rfl, rfl, rfl, rfl, rfl, rfl, rfl, rfl, rfl, rfl, rfl, rfl, rfl, rfl, rfl, rfl, rfl, rfl, rfl, rfl, rfl, trivial⟩
theorem st_q71 : ∀ j, j < 25 → (st_e71.getD j ([], 0, 0)).2.1.toNatClampNeg = j ∧ (st_e71.getD j ([], 0, 0)).2.2 = iI ((fun j => (kkTx 35).getD j 0 : Nat → Int) j) := by decide +kernel
theorem st_v71 {s : State} {A : Array Value} {D : va_G} {Ar : Nat → ClassId} {C : Nat → Nat} (h : StC s A D Ar C) (W : Wd) : entW ((D, Ar, s, C, W) : Gl) (C 71) (kVal ((D, Ar, s, C, W) : Gl) 71) s.heap := by
  obtain ⟨cell, ha, hc, hst, hcl⟩ := h.2.2.2 71 (by decide)
  show entW _ _ (iE _ 1 25 (fun j => (kkTx 35).getD j 0)) _
  exact st_byt (t := (Jvm.Term.field (Jvm.Term.string "jdk/internal/util/ArraysSupport" (92 : Nat)) "java/lang/String" "value" "[B")) (n := 25) (f := fun j => (kkTx 35).getD j 0) h.1 h.b ha hc hst hcl (p1 := [true, false, false, true, false, false, true, false, false, true, false]) (p2 := [true, false, false, true, false, false, true, false, false, true, true]) rfl rfl rfl (by decide) (by decide) st_p71 rfl st_q71

theorem st_v72 {s : State} {A : Array Value} {D : va_G} {Ar : Nat → ClassId} {C : Nat → Nat} (h : StC s A D Ar C) (W : Wd) : entW ((D, Ar, s, C, W) : Gl) (C 72) (kVal ((D, Ar, s, C, W) : Gl) 72) s.heap := by
  obtain ⟨cell, ha, hc, hst, hcl⟩ := h.2.2.2 72 (by decide)
  obtain ⟨-, k4, comp4, -, -, -, hA4⟩ := h.2.2.1 4 (by decide)
  have hA4 : s.vm.findClass "[Ljava/lang/Object;" = some (Ar 4) := by
    have e : "[" ++ (FieldType.object "java/lang/Object").toString = "[Ljava/lang/Object;" := by decide
    rw [← e]; exact hA4
  show entW _ _ (rE _ 4 0 (fun _ => none)) _
  exact st_emp (t := (Jvm.Term.static "java/util/ArrayList" "EMPTY_ELEMENTDATA" "[Ljava/lang/Object;")) h.1 hA4 ha hc hst hcl (p1 := [false, false, false, false, false, false, false, false, true, false]) (p2 := [false, false, false, false, false, false, false, false, true, true, true]) rfl rfl

theorem st_v73 {s : State} {A : Array Value} {D : va_G} {Ar : Nat → ClassId} {C : Nat → Nat} (h : StC s A D Ar C) (W : Wd) : entW ((D, Ar, s, C, W) : Gl) (C 73) (kVal ((D, Ar, s, C, W) : Gl) 73) s.heap := by
  obtain ⟨cell, ha, hc, hst, hcl⟩ := h.2.2.2 73 (by decide)
  obtain ⟨-, k4, comp4, -, -, -, hA4⟩ := h.2.2.1 4 (by decide)
  have hA4 : s.vm.findClass "[Ljava/lang/Object;" = some (Ar 4) := by
    have e : "[" ++ (FieldType.object "java/lang/Object").toString = "[Ljava/lang/Object;" := by decide
    rw [← e]; exact hA4
  show entW _ _ (rE _ 4 0 (fun _ => none)) _
  exact st_emp (t := (Jvm.Term.static "java/util/ArrayList" "DEFAULTCAPACITY_EMPTY_ELEMENTDATA" "[Ljava/lang/Object;")) h.1 hA4 ha hc hst hcl (p1 := [false, false, true, false, false, false, true, true, false, true, true]) (p2 := [false, false, true, false, false, false, true, true, true, false, true]) rfl rfl

def st_e74 : List (List Bool × Int32 × Int32) := [([false, false, false, true, false, false, true, true, false, true, false], (0 : Int32), (48 : Int32)),
  ([false, false, false, true, false, false, true, true, false, true, true], (1 : Int32), (48 : Int32)),
  ([false, false, false, true, false, false, true, true, true, false, false], (2 : Int32), (48 : Int32)),
  ([false, false, false, true, false, false, true, true, true, false, true], (3 : Int32), (48 : Int32)),
  ([false, false, false, true, false, false, true, true, true, true, false], (4 : Int32), (48 : Int32)),
  ([false, false, false, true, false, false, true, true, true, true, true], (5 : Int32), (48 : Int32)),
  ([false, false, false, true, false, true, false, false, false, false], (6 : Int32), (48 : Int32)),
  ([false, false, false, true, false, true, false, false, false, true, false], (7 : Int32), (48 : Int32)),
  ([false, false, false, true, false, true, false, false, false, true, true], (8 : Int32), (48 : Int32)),
  ([false, false, false, true, false, true, false, false, true, false], (9 : Int32), (48 : Int32)),
  ([false, false, false, true, false, true, false, false, true, true, false], (10 : Int32), (49 : Int32)),
  ([false, false, false, true, false, true, false, false, true, true, true], (11 : Int32), (49 : Int32)),
  ([false, false, false, true, false, true, false, true, false, false], (12 : Int32), (49 : Int32)),
  ([false, false, false, true, false, true, false, true, false, true, false], (13 : Int32), (49 : Int32)),
  ([false, false, false, true, false, true, false, true, false, true, true], (14 : Int32), (49 : Int32)),
  ([false, false, false, true, false, true, false, true, true, false], (15 : Int32), (49 : Int32)),
  ([false, false, false, true, false, true, false, true, true, true, false], (16 : Int32), (49 : Int32)),
  ([false, false, false, true, false, true, false, true, true, true, true], (17 : Int32), (49 : Int32)),
  ([false, false, false, true, false, true, true, false, false, false], (18 : Int32), (49 : Int32)),
  ([false, false, false, true, false, true, true, false, false, true, false], (19 : Int32), (49 : Int32)),
  ([false, false, false, true, false, true, true, false, false, true, true], (20 : Int32), (50 : Int32)),
  ([false, false, false, true, false, true, true, false, true, false], (21 : Int32), (50 : Int32)),
  ([false, false, false, true, false, true, true, false, true, true, false], (22 : Int32), (50 : Int32)),
  ([false, false, false, true, false, true, true, false, true, true, true], (23 : Int32), (50 : Int32)),
  ([false, false, false, true, false, true, true, true, false, false], (24 : Int32), (50 : Int32)),
  ([false, false, false, true, false, true, true, true, false, true, false], (25 : Int32), (50 : Int32)),
  ([false, false, false, true, false, true, true, true, false, true, true], (26 : Int32), (50 : Int32)),
  ([false, false, false, true, false, true, true, true, true, false, false], (27 : Int32), (50 : Int32)),
  ([false, false, false, true, false, true, true, true, true, false, true], (28 : Int32), (50 : Int32)),
  ([false, false, false, true, false, true, true, true, true, true, false], (29 : Int32), (50 : Int32)),
  ([false, false, false, true, false, true, true, true, true, true, true], (30 : Int32), (51 : Int32)),
  ([false, false, false, true, true, false, false, false, false, false], (31 : Int32), (51 : Int32)),
  ([false, false, false, true, true, false, false, false, false, true, false], (32 : Int32), (51 : Int32)),
  ([false, false, false, true, true, false, false, false, false, true, true], (33 : Int32), (51 : Int32)),
  ([false, false, false, true, true, false, false, false, true, false], (34 : Int32), (51 : Int32)),
  ([false, false, false, true, true, false, false, false, true, true, false], (35 : Int32), (51 : Int32)),
  ([false, false, false, true, true, false, false, false, true, true, true], (36 : Int32), (51 : Int32)),
  ([false, false, false, true, true, false, false, true, false, false], (37 : Int32), (51 : Int32)),
  ([false, false, false, true, true, false, false, true, false, true, false], (38 : Int32), (51 : Int32)),
  ([false, false, false, true, true, false, false, true, false, true, true], (39 : Int32), (51 : Int32)),
  ([false, false, false, true, true, false, false, true, true, false], (40 : Int32), (52 : Int32)),
  ([false, false, false, true, true, false, false, true, true, true, false], (41 : Int32), (52 : Int32)),
  ([false, false, false, true, true, false, false, true, true, true, true], (42 : Int32), (52 : Int32)),
  ([false, false, false, true, true, false, true, false, false, false], (43 : Int32), (52 : Int32)),
  ([false, false, false, true, true, false, true, false, false, true, false], (44 : Int32), (52 : Int32)),
  ([false, false, false, true, true, false, true, false, false, true, true], (45 : Int32), (52 : Int32)),
  ([false, false, false, true, true, false, true, false, true, false], (46 : Int32), (52 : Int32)),
  ([false, false, false, true, true, false, true, false, true, true, false], (47 : Int32), (52 : Int32)),
  ([false, false, false, true, true, false, true, false, true, true, true], (48 : Int32), (52 : Int32)),
  ([false, false, false, true, true, false, true, true, false, false], (49 : Int32), (52 : Int32)),
  ([false, false, false, true, true, false, true, true, false, true, false], (50 : Int32), (53 : Int32)),
  ([false, false, false, true, true, false, true, true, false, true, true], (51 : Int32), (53 : Int32)),
  ([false, false, false, true, true, false, true, true, true, false, false], (52 : Int32), (53 : Int32)),
  ([false, false, false, true, true, false, true, true, true, false, true], (53 : Int32), (53 : Int32)),
  ([false, false, false, true, true, false, true, true, true, true, false], (54 : Int32), (53 : Int32)),
  ([false, false, false, true, true, false, true, true, true, true, true], (55 : Int32), (53 : Int32)),
  ([false, false, false, true, true, true, false, false, false, false], (56 : Int32), (53 : Int32)),
  ([false, false, false, true, true, true, false, false, false, true, false], (57 : Int32), (53 : Int32)),
  ([false, false, false, true, true, true, false, false, false, true, true], (58 : Int32), (53 : Int32)),
  ([false, false, false, true, true, true, false, false, true, false], (59 : Int32), (53 : Int32)),
  ([false, false, false, true, true, true, false, false, true, true, false], (60 : Int32), (54 : Int32)),
  ([false, false, false, true, true, true, false, false, true, true, true], (61 : Int32), (54 : Int32)),
  ([false, false, false, true, true, true, false, true, false, false], (62 : Int32), (54 : Int32)),
  ([false, false, false, true, true, true, false, true, false, true, false], (63 : Int32), (54 : Int32)),
  ([false, false, false, true, true, true, false, true, false, true, true], (64 : Int32), (54 : Int32)),
  ([false, false, false, true, true, true, false, true, true, false], (65 : Int32), (54 : Int32)),
  ([false, false, false, true, true, true, false, true, true, true, false], (66 : Int32), (54 : Int32)),
  ([false, false, false, true, true, true, false, true, true, true, true], (67 : Int32), (54 : Int32)),
  ([false, false, false, true, true, true, true, false, false, false], (68 : Int32), (54 : Int32)),
  ([false, false, false, true, true, true, true, false, false, true, false], (69 : Int32), (54 : Int32)),
  ([false, false, false, true, true, true, true, false, false, true, true], (70 : Int32), (55 : Int32)),
  ([false, false, false, true, true, true, true, false, true, false], (71 : Int32), (55 : Int32)),
  ([false, false, false, true, true, true, true, false, true, true, false], (72 : Int32), (55 : Int32)),
  ([false, false, false, true, true, true, true, false, true, true, true], (73 : Int32), (55 : Int32)),
  ([false, false, false, true, true, true, true, true, false, false], (74 : Int32), (55 : Int32)),
  ([false, false, false, true, true, true, true, true, false, true, false], (75 : Int32), (55 : Int32)),
  ([false, false, false, true, true, true, true, true, false, true, true], (76 : Int32), (55 : Int32)),
  ([false, false, false, true, true, true, true, true, true, false, false], (77 : Int32), (55 : Int32)),
  ([false, false, false, true, true, true, true, true, true, false, true], (78 : Int32), (55 : Int32)),
  ([false, false, false, true, true, true, true, true, true, true, false], (79 : Int32), (55 : Int32)),
  ([false, false, false, true, true, true, true, true, true, true, true], (80 : Int32), (56 : Int32)),
  ([false, false, true, false, false, false, false, false, false, false], (81 : Int32), (56 : Int32)),
  ([false, false, true, false, false, false, false, false, false, true, false], (82 : Int32), (56 : Int32)),
  ([false, false, true, false, false, false, false, false, false, true, true], (83 : Int32), (56 : Int32)),
  ([false, false, true, false, false, false, false, false, true, false], (84 : Int32), (56 : Int32)),
  ([false, false, true, false, false, false, false, false, true, true, false], (85 : Int32), (56 : Int32)),
  ([false, false, true, false, false, false, false, false, true, true, true], (86 : Int32), (56 : Int32)),
  ([false, false, true, false, false, false, false, true, false, false], (87 : Int32), (56 : Int32)),
  ([false, false, true, false, false, false, false, true, false, true, false], (88 : Int32), (56 : Int32)),
  ([false, false, true, false, false, false, false, true, false, true, true], (89 : Int32), (56 : Int32)),
  ([false, false, true, false, false, false, false, true, true, false], (90 : Int32), (57 : Int32)),
  ([false, false, true, false, false, false, false, true, true, true, false], (91 : Int32), (57 : Int32)),
  ([false, false, true, false, false, false, false, true, true, true, true], (92 : Int32), (57 : Int32)),
  ([false, false, true, false, false, false, true, false, false, false], (93 : Int32), (57 : Int32)),
  ([false, false, true, false, false, false, true, false, false, true, false], (94 : Int32), (57 : Int32)),
  ([false, false, true, false, false, false, true, false, false, true, true], (95 : Int32), (57 : Int32)),
  ([false, false, true, false, false, false, true, false, true, false], (96 : Int32), (57 : Int32)),
  ([false, false, true, false, false, false, true, false, true, true, false], (97 : Int32), (57 : Int32)),
  ([false, false, true, false, false, false, true, false, true, true, true], (98 : Int32), (57 : Int32)),
  ([false, false, true, false, false, false, true, true, false, false], (99 : Int32), (57 : Int32))]
set_option maxHeartbeats 4000000 in
theorem st_p74 : ForE (fun e : List Bool × Int32 × Int32 => nwAt e.1 narrow_1 = some (.eq (.elem (Jvm.Term.static "java/lang/Integer" "DigitTens" "[B") (.int e.2.1)) (.int e.2.2))) st_e74 := ⟨rfl, rfl, rfl, rfl, rfl, rfl, rfl, rfl, rfl, rfl, rfl, rfl, rfl, rfl, rfl, rfl, rfl, rfl, rfl, rfl, rfl, rfl, rfl, rfl, rfl, rfl, rfl, rfl, rfl, rfl, rfl, rfl, rfl, rfl, rfl, rfl, rfl, rfl, rfl, rfl, rfl, rfl, rfl, rfl, rfl, rfl, rfl, rfl, rfl, rfl, rfl, rfl, rfl, rfl, rfl, rfl, rfl, rfl, rfl, rfl, rfl, rfl, rfl, rfl, rfl, rfl, rfl, rfl, rfl, rfl, rfl, rfl, rfl, rfl, rfl, rfl, rfl, rfl, rfl, rfl, rfl, rfl, rfl, rfl, rfl, rfl, rfl, rfl, rfl, rfl, rfl, rfl, rfl, rfl, rfl, rfl, rfl, rfl, rfl, rfl, trivial⟩
theorem st_q74 : ∀ j, j < 100 → (st_e74.getD j ([], 0, 0)).2.1.toNatClampNeg = j ∧ (st_e74.getD j ([], 0, 0)).2.2 = iI ((fun j => if j < 100 then ((48 + j / 10 : Nat) : Int) else 0 : Nat → Int) j) := by decide +kernel
theorem st_v74 {s : State} {A : Array Value} {D : va_G} {Ar : Nat → ClassId} {C : Nat → Nat} (h : StC s A D Ar C) (W : Wd) : entW ((D, Ar, s, C, W) : Gl) (C 74) (kVal ((D, Ar, s, C, W) : Gl) 74) s.heap := by
  obtain ⟨cell, ha, hc, hst, hcl⟩ := h.2.2.2 74 (by decide)
  show entW _ _ (iE _ 1 100 (fun j => if j < 100 then ((48 + j / 10 : Nat) : Int) else 0)) _
  exact st_byt (t := (Jvm.Term.static "java/lang/Integer" "DigitTens" "[B")) (n := 100) (f := fun j => if j < 100 then ((48 + j / 10 : Nat) : Int) else 0) h.1 h.b ha hc hst hcl (p1 := [false, false, false, true, false, false, true, false, true, true, true]) (p2 := [false, false, false, true, false, false, true, true, false, false]) rfl rfl rfl (by decide) (by decide) st_p74 rfl st_q74

def st_e75 : List (List Bool × Int32 × Int32) := [([false, false, false, false, false, false, true, false, true, true, false], (0 : Int32), (48 : Int32)),
  ([false, false, false, false, false, false, true, false, true, true, true], (1 : Int32), (49 : Int32)),
  ([false, false, false, false, false, false, true, true, false, false], (2 : Int32), (50 : Int32)),
  ([false, false, false, false, false, false, true, true, false, true, false], (3 : Int32), (51 : Int32)),
  ([false, false, false, false, false, false, true, true, false, true, true], (4 : Int32), (52 : Int32)),
  ([false, false, false, false, false, false, true, true, true, false, false], (5 : Int32), (53 : Int32)),
  ([false, false, false, false, false, false, true, true, true, false, true], (6 : Int32), (54 : Int32)),
  ([false, false, false, false, false, false, true, true, true, true, false], (7 : Int32), (55 : Int32)),
  ([false, false, false, false, false, false, true, true, true, true, true], (8 : Int32), (56 : Int32)),
  ([false, false, false, false, false, true, false, false, false, false], (9 : Int32), (57 : Int32)),
  ([false, false, false, false, false, true, false, false, false, true, false], (10 : Int32), (48 : Int32)),
  ([false, false, false, false, false, true, false, false, false, true, true], (11 : Int32), (49 : Int32)),
  ([false, false, false, false, false, true, false, false, true, false], (12 : Int32), (50 : Int32)),
  ([false, false, false, false, false, true, false, false, true, true, false], (13 : Int32), (51 : Int32)),
  ([false, false, false, false, false, true, false, false, true, true, true], (14 : Int32), (52 : Int32)),
  ([false, false, false, false, false, true, false, true, false, false], (15 : Int32), (53 : Int32)),
  ([false, false, false, false, false, true, false, true, false, true, false], (16 : Int32), (54 : Int32)),
  ([false, false, false, false, false, true, false, true, false, true, true], (17 : Int32), (55 : Int32)),
  ([false, false, false, false, false, true, false, true, true, false], (18 : Int32), (56 : Int32)),
  ([false, false, false, false, false, true, false, true, true, true, false], (19 : Int32), (57 : Int32)),
  ([false, false, false, false, false, true, false, true, true, true, true], (20 : Int32), (48 : Int32)),
  ([false, false, false, false, false, true, true, false, false, false], (21 : Int32), (49 : Int32)),
  ([false, false, false, false, false, true, true, false, false, true, false], (22 : Int32), (50 : Int32)),
  ([false, false, false, false, false, true, true, false, false, true, true], (23 : Int32), (51 : Int32)),
  ([false, false, false, false, false, true, true, false, true, false], (24 : Int32), (52 : Int32)),
  ([false, false, false, false, false, true, true, false, true, true, false], (25 : Int32), (53 : Int32)),
  ([false, false, false, false, false, true, true, false, true, true, true], (26 : Int32), (54 : Int32)),
  ([false, false, false, false, false, true, true, true, false, false], (27 : Int32), (55 : Int32)),
  ([false, false, false, false, false, true, true, true, false, true, false], (28 : Int32), (56 : Int32)),
  ([false, false, false, false, false, true, true, true, false, true, true], (29 : Int32), (57 : Int32)),
  ([false, false, false, false, false, true, true, true, true, false, false], (30 : Int32), (48 : Int32)),
  ([false, false, false, false, false, true, true, true, true, false, true], (31 : Int32), (49 : Int32)),
  ([false, false, false, false, false, true, true, true, true, true, false], (32 : Int32), (50 : Int32)),
  ([false, false, false, false, false, true, true, true, true, true, true], (33 : Int32), (51 : Int32)),
  ([false, false, false, false, true, false, false, false, false, false], (34 : Int32), (52 : Int32)),
  ([false, false, false, false, true, false, false, false, false, true, false], (35 : Int32), (53 : Int32)),
  ([false, false, false, false, true, false, false, false, false, true, true], (36 : Int32), (54 : Int32)),
  ([false, false, false, false, true, false, false, false, true, false], (37 : Int32), (55 : Int32)),
  ([false, false, false, false, true, false, false, false, true, true, false], (38 : Int32), (56 : Int32)),
  ([false, false, false, false, true, false, false, false, true, true, true], (39 : Int32), (57 : Int32)),
  ([false, false, false, false, true, false, false, true, false, false], (40 : Int32), (48 : Int32)),
  ([false, false, false, false, true, false, false, true, false, true, false], (41 : Int32), (49 : Int32)),
  ([false, false, false, false, true, false, false, true, false, true, true], (42 : Int32), (50 : Int32)),
  ([false, false, false, false, true, false, false, true, true, false], (43 : Int32), (51 : Int32)),
  ([false, false, false, false, true, false, false, true, true, true, false], (44 : Int32), (52 : Int32)),
  ([false, false, false, false, true, false, false, true, true, true, true], (45 : Int32), (53 : Int32)),
  ([false, false, false, false, true, false, true, false, false, false], (46 : Int32), (54 : Int32)),
  ([false, false, false, false, true, false, true, false, false, true, false], (47 : Int32), (55 : Int32)),
  ([false, false, false, false, true, false, true, false, false, true, true], (48 : Int32), (56 : Int32)),
  ([false, false, false, false, true, false, true, false, true, false], (49 : Int32), (57 : Int32)),
  ([false, false, false, false, true, false, true, false, true, true, false], (50 : Int32), (48 : Int32)),
  ([false, false, false, false, true, false, true, false, true, true, true], (51 : Int32), (49 : Int32)),
  ([false, false, false, false, true, false, true, true, false, false], (52 : Int32), (50 : Int32)),
  ([false, false, false, false, true, false, true, true, false, true, false], (53 : Int32), (51 : Int32)),
  ([false, false, false, false, true, false, true, true, false, true, true], (54 : Int32), (52 : Int32)),
  ([false, false, false, false, true, false, true, true, true, false, false], (55 : Int32), (53 : Int32)),
  ([false, false, false, false, true, false, true, true, true, false, true], (56 : Int32), (54 : Int32)),
  ([false, false, false, false, true, false, true, true, true, true, false], (57 : Int32), (55 : Int32)),
  ([false, false, false, false, true, false, true, true, true, true, true], (58 : Int32), (56 : Int32)),
  ([false, false, false, false, true, true, false, false, false, false], (59 : Int32), (57 : Int32)),
  ([false, false, false, false, true, true, false, false, false, true, false], (60 : Int32), (48 : Int32)),
  ([false, false, false, false, true, true, false, false, false, true, true], (61 : Int32), (49 : Int32)),
  ([false, false, false, false, true, true, false, false, true, false], (62 : Int32), (50 : Int32)),
  ([false, false, false, false, true, true, false, false, true, true, false], (63 : Int32), (51 : Int32)),
  ([false, false, false, false, true, true, false, false, true, true, true], (64 : Int32), (52 : Int32)),
  ([false, false, false, false, true, true, false, true, false, false], (65 : Int32), (53 : Int32)),
  ([false, false, false, false, true, true, false, true, false, true, false], (66 : Int32), (54 : Int32)),
  ([false, false, false, false, true, true, false, true, false, true, true], (67 : Int32), (55 : Int32)),
  ([false, false, false, false, true, true, false, true, true, false], (68 : Int32), (56 : Int32)),
  ([false, false, false, false, true, true, false, true, true, true, false], (69 : Int32), (57 : Int32)),
  ([false, false, false, false, true, true, false, true, true, true, true], (70 : Int32), (48 : Int32)),
  ([false, false, false, false, true, true, true, false, false, false], (71 : Int32), (49 : Int32)),
  ([false, false, false, false, true, true, true, false, false, true, false], (72 : Int32), (50 : Int32)),
  ([false, false, false, false, true, true, true, false, false, true, true], (73 : Int32), (51 : Int32)),
  ([false, false, false, false, true, true, true, false, true, false], (74 : Int32), (52 : Int32)),
  ([false, false, false, false, true, true, true, false, true, true, false], (75 : Int32), (53 : Int32)),
  ([false, false, false, false, true, true, true, false, true, true, true], (76 : Int32), (54 : Int32)),
  ([false, false, false, false, true, true, true, true, false, false], (77 : Int32), (55 : Int32)),
  ([false, false, false, false, true, true, true, true, false, true, false], (78 : Int32), (56 : Int32)),
  ([false, false, false, false, true, true, true, true, false, true, true], (79 : Int32), (57 : Int32)),
  ([false, false, false, false, true, true, true, true, true, false, false], (80 : Int32), (48 : Int32)),
  ([false, false, false, false, true, true, true, true, true, false, true], (81 : Int32), (49 : Int32)),
  ([false, false, false, false, true, true, true, true, true, true, false], (82 : Int32), (50 : Int32)),
  ([false, false, false, false, true, true, true, true, true, true, true], (83 : Int32), (51 : Int32)),
  ([false, false, false, true, false, false, false, false, false, false], (84 : Int32), (52 : Int32)),
  ([false, false, false, true, false, false, false, false, false, true, false], (85 : Int32), (53 : Int32)),
  ([false, false, false, true, false, false, false, false, false, true, true], (86 : Int32), (54 : Int32)),
  ([false, false, false, true, false, false, false, false, true, false], (87 : Int32), (55 : Int32)),
  ([false, false, false, true, false, false, false, false, true, true, false], (88 : Int32), (56 : Int32)),
  ([false, false, false, true, false, false, false, false, true, true, true], (89 : Int32), (57 : Int32)),
  ([false, false, false, true, false, false, false, true, false, false], (90 : Int32), (48 : Int32)),
  ([false, false, false, true, false, false, false, true, false, true, false], (91 : Int32), (49 : Int32)),
  ([false, false, false, true, false, false, false, true, false, true, true], (92 : Int32), (50 : Int32)),
  ([false, false, false, true, false, false, false, true, true, false], (93 : Int32), (51 : Int32)),
  ([false, false, false, true, false, false, false, true, true, true, false], (94 : Int32), (52 : Int32)),
  ([false, false, false, true, false, false, false, true, true, true, true], (95 : Int32), (53 : Int32)),
  ([false, false, false, true, false, false, true, false, false, false], (96 : Int32), (54 : Int32)),
  ([false, false, false, true, false, false, true, false, false, true, false], (97 : Int32), (55 : Int32)),
  ([false, false, false, true, false, false, true, false, false, true, true], (98 : Int32), (56 : Int32)),
  ([false, false, false, true, false, false, true, false, true, false], (99 : Int32), (57 : Int32))]
set_option maxHeartbeats 4000000 in
theorem st_p75 : ForE (fun e : List Bool × Int32 × Int32 => nwAt e.1 narrow_1 = some (.eq (.elem (Jvm.Term.static "java/lang/Integer" "DigitOnes" "[B") (.int e.2.1)) (.int e.2.2))) st_e75 := ⟨rfl, rfl, rfl, rfl, rfl, rfl, rfl, rfl, rfl, rfl, rfl, rfl, rfl, rfl, rfl, rfl, rfl, rfl, rfl, rfl, rfl, rfl, rfl, rfl, rfl, rfl, rfl, rfl, rfl, rfl, rfl, rfl, rfl, rfl, rfl, rfl, rfl, rfl, rfl, rfl, rfl, rfl, rfl, rfl, rfl, rfl, rfl, rfl, rfl, rfl, rfl, rfl, rfl, rfl, rfl, rfl, rfl, rfl, rfl, rfl, rfl, rfl, rfl, rfl, rfl, rfl, rfl, rfl, rfl, rfl, rfl, rfl, rfl, rfl, rfl, rfl, rfl, rfl, rfl, rfl, rfl, rfl, rfl, rfl, rfl, rfl, rfl, rfl, rfl, rfl, rfl, rfl, rfl, rfl, rfl, rfl, rfl, rfl, rfl, rfl, trivial⟩
theorem st_q75 : ∀ j, j < 100 → (st_e75.getD j ([], 0, 0)).2.1.toNatClampNeg = j ∧ (st_e75.getD j ([], 0, 0)).2.2 = iI ((fun j => if j < 100 then ((48 + j % 10 : Nat) : Int) else 0 : Nat → Int) j) := by decide +kernel
theorem st_v75 {s : State} {A : Array Value} {D : va_G} {Ar : Nat → ClassId} {C : Nat → Nat} (h : StC s A D Ar C) (W : Wd) : entW ((D, Ar, s, C, W) : Gl) (C 75) (kVal ((D, Ar, s, C, W) : Gl) 75) s.heap := by
  obtain ⟨cell, ha, hc, hst, hcl⟩ := h.2.2.2 75 (by decide)
  show entW _ _ (iE _ 1 100 (fun j => if j < 100 then ((48 + j % 10 : Nat) : Int) else 0)) _
  exact st_byt (t := (Jvm.Term.static "java/lang/Integer" "DigitOnes" "[B")) (n := 100) (f := fun j => if j < 100 then ((48 + j % 10 : Nat) : Int) else 0) h.1 h.b ha hc hst hcl (p1 := [false, false, false, false, false, false, true, false, false, true, true]) (p2 := [false, false, false, false, false, false, true, false, true, false]) rfl rfl rfl (by decide) (by decide) st_p75 rfl st_q75

theorem st_ref {s : State} {A : Array Value} (hn2 : narrow_1.before A s = true) {t t2 : Term} {a b j : Nat} {cell : Cell} {j32 : Int32} (p : List Bool) (hp : nwAt p narrow_1 = some (.eq (.elem t (.int j32)) t2)) (ha : t.eval A s none [] s = some (.ref a)) (hc : s.heap[a]? = some cell) (hb : t2.eval A s none [] s = some (.ref b)) (hj : j32.toNatClampNeg = j := by decide) : cell.slots[j]? = some (.ref b) := by
  have h1 := Cond.eq_refs (nwAt_ok p _ _ hp hn2) hb rfl
  obtain ⟨a2, j2, c2, e1, e2, e3, -, e5⟩ := Term.elem_spec h1
  cases ha.symm.trans e1
  cases hc.symm.trans (State.arrayAt?_spec e3).1
  have e4 : j32 = j2 := by
    have e6 : some (Value.int j32) = some (Value.int j2) := e2
    cases e6
    rfl
  rw [← e4, hj] at e5
  exact e5
theorem st_v76 {s : State} {A : Array Value} {D : va_G} {Ar : Nat → ClassId} {C : Nat → Nat} (h : StC s A D Ar C) (W : Wd) : entW ((D, Ar, s, C, W) : Gl) (C 76) (kVal ((D, Ar, s, C, W) : Gl) 76) s.heap := by
  obtain ⟨cell, ha, hc, hst, hcl⟩ := h.2.2.2 76 (by decide)
  obtain ⟨-, k6, comp6, -, -, -, hA6⟩ := h.2.2.1 6 (by decide)
  have hA6 : s.vm.findClass "[LSpokenMarks$Step;" = some (Ar 6) := by
    have e : "[" ++ (FieldType.object "SpokenMarks$Step").toString = "[LSpokenMarks$Step;" := by decide
    rw [← e]; exact hA6
  obtain ⟨-, hb0, -⟩ := h.2.2.2 77 (by decide)
  obtain ⟨-, hb1, -⟩ := h.2.2.2 78 (by decide)
  obtain ⟨-, hb2, -⟩ := h.2.2.2 79 (by decide)
  obtain ⟨-, hb3, -⟩ := h.2.2.2 80 (by decide)
  obtain ⟨-, hb4, -⟩ := h.2.2.2 81 (by decide)
  have hk := Cond.arrayOf_spec (nwAt_ok [false, false, true, false, false, true, false, true, true, true, true] _ _ rfl h.1) (show ((Jvm.Term.static "SpokenMarks$Step" "$VALUES" "[LSpokenMarks$Step;") : Term).eval A s none [] s = some (.ref (C 76)) from ha) hc
  have ec : cell.cls = Ar 6 := Option.some.inj (hcl.symm.trans hA6)
  show arW (C 76) (Ar 6) (5, .inr (.inr (.inr (.inr (fun j => if j < 5 then some (C (77 + j)) else none))))) s.heap
  refine ⟨cell, hc, ec, st_arr (t := (Jvm.Term.static "SpokenMarks$Step" "$VALUES" "[LSpokenMarks$Step;")) (n := 5) (x := fun j => va_rf (if j < 5 then some (C (77 + j)) else none)) ha hc (nwAt_ok [false, false, true, false, false, true, true, false, false, false] _ _ rfl h.1) (by decide) (fun j hj => ?_), ⟨hk.2, hst⟩, fun q => absurd (show (5 : Nat) = 8 from q) (by decide)⟩
  have e : va_rf (if j < 5 then some (C (77 + j)) else none) = .ref (C (77 + j)) := by rw [if_pos hj]; rfl
  rw [e]
  rcases (show j = 0 ∨ j = 1 ∨ j = 2 ∨ j = 3 ∨ j = 4 by omega) with q | q | q | q | q <;> subst q
  · exact st_ref h.1 (j := 0) [false, false, true, false, false, true, true, false, false, true, true] rfl ha hc hb0
  · exact st_ref h.1 (j := 1) [false, false, true, false, false, true, true, false, true, false] rfl ha hc hb1
  · exact st_ref h.1 (j := 2) [false, false, true, false, false, true, true, false, true, true, false] rfl ha hc hb2
  · exact st_ref h.1 (j := 3) [false, false, true, false, false, true, true, false, true, true, true] rfl ha hc hb3
  · exact st_ref h.1 (j := 4) [false, false, true, false, false, true, true, true, false, false] rfl ha hc hb4

theorem st_v77 {s : State} {A : Array Value} {D : va_G} {Ar : Nat → ClassId} {C : Nat → Nat} (h : StC s A D Ar C) (W : Wd) : entW ((D, Ar, s, C, W) : Gl) (C 77) (kVal ((D, Ar, s, C, W) : Gl) 77) s.heap := by
  obtain ⟨cell, ha, hc, hst, hcl⟩ := h.2.2.2 77 (by decide)
  show entW _ _ (oE 26 []) _
  exact st_obj (q := (RX23, hT0, 0)) rfl rfl (h.2.1 26 (RX23, hT0, 0) rfl).2 hc hst hcl

theorem st_v78 {s : State} {A : Array Value} {D : va_G} {Ar : Nat → ClassId} {C : Nat → Nat} (h : StC s A D Ar C) (W : Wd) : entW ((D, Ar, s, C, W) : Gl) (C 78) (kVal ((D, Ar, s, C, W) : Gl) 78) s.heap := by
  obtain ⟨cell, ha, hc, hst, hcl⟩ := h.2.2.2 78 (by decide)
  show entW _ _ (oE 27 []) _
  exact st_obj (q := (RX24, hT0, 0)) rfl rfl (h.2.1 27 (RX24, hT0, 0) rfl).2 hc hst hcl

theorem st_v79 {s : State} {A : Array Value} {D : va_G} {Ar : Nat → ClassId} {C : Nat → Nat} (h : StC s A D Ar C) (W : Wd) : entW ((D, Ar, s, C, W) : Gl) (C 79) (kVal ((D, Ar, s, C, W) : Gl) 79) s.heap := by
  obtain ⟨cell, ha, hc, hst, hcl⟩ := h.2.2.2 79 (by decide)
  show entW _ _ (oE 28 []) _
  exact st_obj (q := (RX25, hT0, 0)) rfl rfl (h.2.1 28 (RX25, hT0, 0) rfl).2 hc hst hcl

theorem st_v80 {s : State} {A : Array Value} {D : va_G} {Ar : Nat → ClassId} {C : Nat → Nat} (h : StC s A D Ar C) (W : Wd) : entW ((D, Ar, s, C, W) : Gl) (C 80) (kVal ((D, Ar, s, C, W) : Gl) 80) s.heap := by
  obtain ⟨cell, ha, hc, hst, hcl⟩ := h.2.2.2 80 (by decide)
  show entW _ _ (oE 29 []) _
  exact st_obj (q := (RX26, hT0, 0)) rfl rfl (h.2.1 29 (RX26, hT0, 0) rfl).2 hc hst hcl

theorem st_v81 {s : State} {A : Array Value} {D : va_G} {Ar : Nat → ClassId} {C : Nat → Nat} (h : StC s A D Ar C) (W : Wd) : entW ((D, Ar, s, C, W) : Gl) (C 81) (kVal ((D, Ar, s, C, W) : Gl) 81) s.heap := by
  obtain ⟨cell, ha, hc, hst, hcl⟩ := h.2.2.2 81 (by decide)
  show entW _ _ (oE 30 []) _
  exact st_obj (q := (RX27, hT0, 0)) rfl rfl (h.2.1 30 (RX27, hT0, 0) rfl).2 hc hst hcl

theorem st_v82 {s : State} {A : Array Value} {D : va_G} {Ar : Nat → ClassId} {C : Nat → Nat} (h : StC s A D Ar C) (W : Wd) : entW ((D, Ar, s, C, W) : Gl) (C 82) (kVal ((D, Ar, s, C, W) : Gl) 82) s.heap := by
  obtain ⟨cell, ha, hc, hst, hcl⟩ := h.2.2.2 82 (by decide)
  show entW _ _ (oE 33 []) _
  exact st_obj (q := (RJ21, hT0, 0)) rfl rfl (h.2.1 33 (RJ21, hT0, 0) rfl).2 hc hst hcl

theorem st_val {s : State} {A : Array Value} {D : va_G} {Ar : Nat → ClassId} {C : Nat → Nat} (h : StC s A D Ar C) (W : Wd) (k : Nat) (hk : k < 83) : entW ((D, Ar, s, C, W) : Gl) (C k) (kVal ((D, Ar, s, C, W) : Gl) k) s.heap := by
  rcases (show k = 0 ∨ k = 1 ∨ k = 2 ∨ k = 3 ∨ k = 4 ∨ k = 5 ∨ k = 6 ∨ k = 7 ∨ k = 8 ∨ k = 9 ∨ k = 10 ∨ k = 11 ∨ k = 12 ∨ k = 13 ∨ k = 14 ∨ k = 15 ∨ k = 16 ∨ k = 17 ∨ k = 18 ∨ k = 19 ∨ k = 20 ∨ k = 21 ∨ k = 22 ∨ k = 23 ∨ k = 24 ∨ k = 25 ∨ k = 26 ∨ k = 27 ∨ k = 28 ∨ k = 29 ∨ k = 30 ∨ k = 31 ∨ k = 32 ∨ k = 33 ∨ k = 34 ∨ k = 35 ∨ k = 36 ∨ k = 37 ∨ k = 38 ∨ k = 39 ∨ k = 40 ∨ k = 41 ∨ k = 42 ∨ k = 43 ∨ k = 44 ∨ k = 45 ∨ k = 46 ∨ k = 47 ∨ k = 48 ∨ k = 49 ∨ k = 50 ∨ k = 51 ∨ k = 52 ∨ k = 53 ∨ k = 54 ∨ k = 55 ∨ k = 56 ∨ k = 57 ∨ k = 58 ∨ k = 59 ∨ k = 60 ∨ k = 61 ∨ k = 62 ∨ k = 63 ∨ k = 64 ∨ k = 65 ∨ k = 66 ∨ k = 67 ∨ k = 68 ∨ k = 69 ∨ k = 70 ∨ k = 71 ∨ k = 72 ∨ k = 73 ∨ k = 74 ∨ k = 75 ∨ k = 76 ∨ k = 77 ∨ k = 78 ∨ k = 79 ∨ k = 80 ∨ k = 81 ∨ k = 82 by omega) with q | q | q | q | q | q | q | q | q | q | q | q | q | q | q | q | q | q | q | q | q | q | q | q | q | q | q | q | q | q | q | q | q | q | q | q | q | q | q | q | q | q | q | q | q | q | q | q | q | q | q | q | q | q | q | q | q | q | q | q | q | q | q | q | q | q | q | q | q | q | q | q | q | q | q | q | q | q | q | q | q | q | q
  · subst q; exact st_v0 h W
  · subst q; exact st_v1 h W
  · subst q; exact st_v2 h W
  · subst q; exact st_v3 h W
  · subst q; exact st_v4 h W
  · subst q; exact st_v5 h W
  · subst q; exact st_v6 h W
  · subst q; exact st_v7 h W
  · subst q; exact st_v8 h W
  · subst q; exact st_v9 h W
  · subst q; exact st_v10 h W
  · subst q; exact st_v11 h W
  · subst q; exact st_v12 h W
  · subst q; exact st_v13 h W
  · subst q; exact st_v14 h W
  · subst q; exact st_v15 h W
  · subst q; exact st_v16 h W
  · subst q; exact st_v17 h W
  · subst q; exact st_v18 h W
  · subst q; exact st_v19 h W
  · subst q; exact st_v20 h W
  · subst q; exact st_v21 h W
  · subst q; exact st_v22 h W
  · subst q; exact st_v23 h W
  · subst q; exact st_v24 h W
  · subst q; exact st_v25 h W
  · subst q; exact st_v26 h W
  · subst q; exact st_v27 h W
  · subst q; exact st_v28 h W
  · subst q; exact st_v29 h W
  · subst q; exact st_v30 h W
  · subst q; exact st_v31 h W
  · subst q; exact st_v32 h W
  · subst q; exact st_v33 h W
  · subst q; exact st_v34 h W
  · subst q; exact st_v35 h W
  · subst q; exact st_v36 h W
  · subst q; exact st_v37 h W
  · subst q; exact st_v38 h W
  · subst q; exact st_v39 h W
  · subst q; exact st_v40 h W
  · subst q; exact st_v41 h W
  · subst q; exact st_v42 h W
  · subst q; exact st_v43 h W
  · subst q; exact st_v44 h W
  · subst q; exact st_v45 h W
  · subst q; exact st_v46 h W
  · subst q; exact st_v47 h W
  · subst q; exact st_v48 h W
  · subst q; exact st_v49 h W
  · subst q; exact st_v50 h W
  · subst q; exact st_v51 h W
  · subst q; exact st_v52 h W
  · subst q; exact st_v53 h W
  · subst q; exact st_v54 h W
  · subst q; exact st_v55 h W
  · subst q; exact st_v56 h W
  · subst q; exact st_v57 h W
  · subst q; exact st_v58 h W
  · subst q; exact st_v59 h W
  · subst q; exact st_v60 h W
  · subst q; exact st_v61 h W
  · subst q; exact st_v62 h W
  · subst q; exact st_v63 h W
  · subst q; exact st_v64 h W
  · subst q; exact st_v65 h W
  · subst q; exact st_v66 h W
  · subst q; exact st_v67 h W
  · subst q; exact st_v68 h W
  · subst q; exact st_v69 h W
  · subst q; exact st_v70 h W
  · subst q; exact st_v71 h W
  · subst q; exact st_v72 h W
  · subst q; exact st_v73 h W
  · subst q; exact st_v74 h W
  · subst q; exact st_v75 h W
  · subst q; exact st_v76 h W
  · subst q; exact st_v77 h W
  · subst q; exact st_v78 h W
  · subst q; exact st_v79 h W
  · subst q; exact st_v80 h W
  · subst q; exact st_v81 h W
  · subst q; exact st_v82 h W
