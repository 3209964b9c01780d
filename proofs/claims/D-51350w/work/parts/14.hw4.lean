/-! HW: rows over the heap, calls, starts and ends -/
set_option maxRecDepth 100000
/-- the class of a thing of the world -/
def entC (e : Ent) : Option String := match e with
  | .inl (.inl _) => none
  | .inl (.inr o) => (HCl[o.1]?).map (fun q => q.1)
  | .inr _ => some "java/lang/String"
def hasC (w : Wd) (a : Nat) (C : String) : Prop := ∃ (r : Nat) (e : Ent), w a = some (r, e) ∧ entC e = some C
theorem hasC.of {w : Wd} {a r : Nat} {e : Ent} {C : String} (h : w a = some (r, e)) (hc : entC e = some C) : hasC w a C := ⟨r, e, h, hc⟩
theorem Rp.ar {G : Gl} {w : Wd} {H : Heap} (hR : Rp G w H) {a r : Nat} {c : ClassId} {x : vp_A} (hw : w a = some (r, .inl (.inl (c, x)))) : arW a c x H := (hR.at hw).1
theorem Rp.ob {G : Gl} {w : Wd} {H : Heap} (hR : Rp G w H) {a r ci : Nat} {fs : List Value} (hw : w a = some (r, oE ci fs)) : obW G a ci fs H := (hR.at hw).1
theorem arW.is {s : State} {H : Heap} {a : Nat} {c : ClassId} {x : vp_A} {ty : FieldType} (h : arW a c x H) (hA : ArrOfT s c ty) : ∃ cell : Cell, H[a]? = some cell ∧ s.isArrayOf cell ty ∧ cell.vm ≠ .unknown ∧ cell.slots = (vp_cell c x).slots := by
  obtain ⟨cell, g1, g2, g3, g4, g5⟩ := h
  refine ⟨cell, g1, ⟨fun k q => ?_, ?_⟩, g4.1, g3⟩
  · have h2 := g4.2
    rw [q] at h2
    cases h2
  · rw [g2]
    exact (hA 0 (fun _ => .null)).2
def nspc (C : String) : Bool := !(["SpokenMarks$Step$1", "SpokenMarks$Step$2", "SpokenMarks$Step$3", "SpokenMarks$Step$4", "SpokenMarks$Step$5", "jdk/internal/misc/Unsafe"].contains C)
theorem spCl_nm {ci : Nat} {q : vw_C} (h : HCl[ci]? = some q) (hs : nspc q.1 = true) : spCl ci = false := by
  cases hq : spCl ci with
  | false => rfl
  | true =>
    have h1 : ci ∈ [26, 27, 28, 29, 30, 33] := List.contains_iff_mem.mp hq
    simp only [List.mem_cons, List.not_mem_nil, or_false] at h1
    have e : ∀ M : Bool, (HCl[ci]?.map (fun q => nspc q.1)).getD true = M → M = true := fun M hM => by rw [h] at hM; exact hM.symm.trans hs
    rcases h1 with q | q | q | q | q | q <;> subst q <;> exact absurd (e false (by decide)) (by decide)
/-- the class of a constant object of the start -/
theorem fc_sp {G : Gl} {s : State} {w : Wd} {H : Heap} (hK : KK G s) (hR : Rp G w H) {C n d E : String} {kq ci : Nat} (path : List Bool) (hp : nwAt path narrow_1 = some (.exactly (.static C n d) E)) (hq : (kq, C, n, d) ∈ kkSt) (hv : gW G (gC G kq) = some (0, oE ci [])) : s.vm.findClass E = some ((gD G).1 ci) := by
  obtain ⟨b0, -, h2⟩ := hK.2.2.1
  rw [Cond.before_and, Bool.and_eq_true] at h2
  have hx := nwAt_ok path _ _ hp h2.2
  obtain ⟨a, c, cell, k, e1, e2, e3, e4, e5, e6, -⟩ := Cond.exactly_spec hx
  have e0 : (Term.static C n d).eval #[Value.ref b0] (gS G) none [] (gS G) = some (.ref (gC G kq)) := hK.2.2.2.2.1 (kq, C, n, d) hq
  have ea : a = gC G kq := by
    have := e1.symm.trans e0
    cases this
    rfl
  subst ea
  obtain ⟨r, g0, cell', g1, g2, g3⟩ := hR.ob (hR.con hv)
  rw [hR.2.1 _ (hR.2.2.2 _ _ hv).2] at g1
  cases g1.symm.trans e3
  rw [hK.2.1.alike.findClass, e2, ← e6, g2]
theorem kk_fc {G : Gl} {s : State} {w : Wd} {H : Heap} (hK : KK G s) (hR : Rp G w H) {ci : Nat} {q : vw_C} (h : HCl[ci]? = some q) : s.vm.findClass q.1 = some ((gD G).1 ci) := by
  cases hq : spCl ci with
  | false => exact (hK.1.1 ci q h hq).2.1
  | true =>
    have h1 : ci ∈ [26, 27, 28, 29, 30, 33] := List.contains_iff_mem.mp hq
    simp only [List.mem_cons, List.not_mem_nil, or_false] at h1
    rcases h1 with e | e | e | e | e | e <;> subst e
    · have e : (RX23, hT0, 0) = q := Option.some.inj h
      subst e
      exact fc_sp (C := "SpokenMarks$Step") (n := "PAIR_PH") (d := "LSpokenMarks$Step;") (kq := 77) (ci := 26) hK hR [false, false, true, false, false, true, true, true, false, true, false] rfl (by decide) ((hK.2.2.2.2.2 77 (by decide)).trans rfl)
    · have e : (RX24, hT0, 0) = q := Option.some.inj h
      subst e
      exact fc_sp (C := "SpokenMarks$Step") (n := "PAIR_CK") (d := "LSpokenMarks$Step;") (kq := 78) (ci := 27) hK hR [false, false, true, false, false, true, true, true, true, false, false] rfl (by decide) ((hK.2.2.2.2.2 78 (by decide)).trans rfl)
    · have e : (RX25, hT0, 0) = q := Option.some.inj h
      subst e
      exact fc_sp (C := "SpokenMarks$Step") (n := "LETTERS") (d := "LSpokenMarks$Step;") (kq := 79) (ci := 28) hK hR [false, false, true, false, false, true, true, true, true, true, true] rfl (by decide) ((hK.2.2.2.2.2 79 (by decide)).trans rfl)
    · have e : (RX26, hT0, 0) = q := Option.some.inj h
      subst e
      exact fc_sp (C := "SpokenMarks$Step") (n := "SILENT") (d := "LSpokenMarks$Step;") (kq := 80) (ci := 29) hK hR [false, false, true, false, true, false, false, false, true, false] rfl (by decide) ((hK.2.2.2.2.2 80 (by decide)).trans rfl)
    · have e : (RX27, hT0, 0) = q := Option.some.inj h
      subst e
      exact fc_sp (C := "SpokenMarks$Step") (n := "RUNS") (d := "LSpokenMarks$Step;") (kq := 81) (ci := 30) hK hR [false, false, true, false, true, false, false, true, false, true, true] rfl (by decide) ((hK.2.2.2.2.2 81 (by decide)).trans rfl)
    · have e : (RJ21, hT0, 0) = q := Option.some.inj h
      subst e
      exact fc_sp (C := "jdk/internal/util/ArraysSupport") (n := "U") (d := "Ljdk/internal/misc/Unsafe;") (kq := 82) (ci := 33) hK hR [false, false, true, false, false, true, false, false, true, false] rfl (by decide) ((hK.2.2.2.2.2 82 (by decide)).trans rfl)
theorem kk_Kn {G : Gl} {s : State} {w : Wd} {H : Heap} (hK : KK G s) (hR : Rp G w H) {ci N : Nat} {C : String} {T : u_T} {A : Array Value} (hc : HCl[ci]? = some (C, T, N)) (hi : (Cond.instantiable C N).before A s = true) : u_Kn s C T N ((gD G).1 ci) ((gD G).2 ci) := by
  cases hs : spCl ci with
  | false => exact hK.1.1 ci _ hc hs
  | true =>
    have hN : ¬ 0 < N := fun h => by rw [hcl_pos hc h] at hs; cases hs
    obtain ⟨cC, kC, hfc, hk, hkind, -⟩ := Cond.instantiable_spec hi
    have e : s.vm.findClass C = some ((gD G).1 ci) := kk_fc hK hR hc
    have e2 : cC = (gD G).1 ci := Option.some.inj (hfc.symm.trans e)
    subst e2
    exact ⟨fun k hk => absurd (Nat.lt_of_le_of_lt (Nat.zero_le k) hk) hN, e, kC, hk, hkind⟩
theorem hv_apart {G : Gl} {s : State} {args : Array Value} {C : String} {T : u_T} {N ci : Nat} {Ts : List Cond} (hts : ∀ w ∈ Ts, w.before args s = true) (hin : ∀ w ∈ u_ws C T N, w ∈ Ts) (ty : Nat → FieldType) (hty : ∀ k, k < N → parseFieldDescriptor (T k).2.2.1 = some (ty k)) (hnm : ∀ a, a < N → ∀ b, b < N → a ≠ b → (T a).2.1 ≠ (T b).2.1) (hK : hv_K G s) (hc : HCl[ci]? = some (C, T, N)) : ∀ x y, x < N → y < N → x ≠ y → ((gD G).2 ci) x ≠ ((gD G).2 ci) y := by
  intro x y hx hy hne
  obtain ⟨hS, -⟩ := hK.1 ci _ hc (hcl_pos hc (Nat.lt_of_le_of_lt (Nat.zero_le x) hx))
  obtain ⟨_, _, _, fa, hia, ea⟩ := hS x hx
  obtain ⟨_, _, _, fb, hib, eb⟩ := hS y hy
  rw [← ea, ← eb]
  refine u_apart (u_lays hts hin hx) (u_lays hts hin hy) hia hib ?_
  rw [(State.fieldFound?_type hia (hty x hx)).1, (State.fieldFound?_type hib (hty y hy)).1]
  exact hnm x hx y hy hne
theorem hasC.recv {G : Gl} {w : Wd} {H : Heap} {s : State} {a : Nat} {C : String} (h : hasC w a C) (hR : Rp G w H) (hK : KK G s) : ∃ cell : Cell, H[a]? = some cell ∧ cell.vm.isStatics = false ∧ s.vm.findClass C = some cell.cls := by
  obtain ⟨r, e, hw, hc⟩ := h
  have ha := (hR.at hw).1
  cases e with
  | inl x =>
    cases x with
    | inl y => cases hc
    | inr o =>
      obtain ⟨ci, fs⟩ := o
      obtain ⟨q, h1, cell, g1, g2, g3, -⟩ := ha
      have h2 : entC (.inl (.inr (ci, fs))) = (HCl[ci]?).map (fun q => q.1) := rfl
      rw [h2, h1] at hc
      cases hc
      exact ⟨cell, g1, g3.2, by rw [g2]; exact kk_fc hK hR h1⟩
  | inr q =>
    obtain ⟨h0, z0, ⟨q', h1, cell, g1, g2, g3, -⟩, -⟩ := ha
    cases h1
    cases hc
    exact ⟨cell, g1, g3.2, by rw [g2]; exact kk_fc (q := (RJ10, TJ10, 4)) hK hR rfl⟩
theorem hasC.at {G : Gl} {w : Wd} {H : Heap} {s : State} {a : Nat} {C : String} (h : hasC w a C) (hR : Rp G w H) (hK : KK G s) (hs : nspc C = true) : ∃ cC, ClassAt s C cC := by
  obtain ⟨r, e, hw, hc⟩ := h
  cases e with
  | inl x =>
    cases x with
    | inl y => cases hc
    | inr o =>
      obtain ⟨ci, fs⟩ := o
      obtain ⟨q, h1, -⟩ := (hR.at hw).1
      have h2 : entC (.inl (.inr (ci, fs))) = (HCl[ci]?).map (fun q => q.1) := rfl
      rw [h2, h1] at hc
      cases hc
      exact ⟨_, (hK.1.1 ci q h1 (spCl_nm h1 hs)).2⟩
  | inr q =>
    cases hc
    exact ⟨_, (hK.1.1 19 _ rfl rfl).2⟩
section HWH
variable {G : Gl} {p : Program} {l : Launch} {e : Env} {s : State} {m : MethodId} {args : Array Value} {below : List Frame} {meth : Method} {c : Code} {H : Heap} {locs : List Loc} {cells slots : Nat} {Q : State → Prop}
variable {cc : ByteArray} {own : String} {nL lv mc ms : Nat} {pc : Nat} {ls : Array Slot} {rest : List Value} {w : Wd} {a r : Nat}
theorem h_getW (X : HX G p s m args c cc nL own) {ci N : Nat} {C ref : String} {T : u_T} {fs : List Value} (hob : obW G a ci fs H) (hc : HCl[ci]? = some (C, T, N)) (hin : ∀ w ∈ u_ws C T N, w ∈ lw_all) (k : Nat) (hk : k < N) {index : Nat} (hl : (Cond.fieldLink own index ref (T k).2.1 (T k).2.2.1).before args s = true) (hsame : ∀ x, s.fieldFound? (T k).1 (T k).2.1 (T k).2.2.1 = some x → s.fieldFound? ref (T k).2.1 (T k).2.2.1 = some x) {v : Value} (hv : fs[k]? = some v) (d : decode cc pc = .ok (.getfield index, 3))
    (kk : W p l e (rmk lv mc ms) s m args below meth c H locs cells slots Q (F0 m (pc + 3) ls (v :: rest))) : W p l e (rmk lv mc ms) s m args below meth c H locs cells slots Q (F0 m pc ls (.ref a :: rest)) := by
  obtain ⟨r', h1, cell, q1, q2, q3, q4⟩ := hob
  have hr : r' = (C, T, N) := Option.some.inj (h1.symm.trans hc)
  subst hr
  obtain ⟨hS, hfc, kC, hkC, hkind⟩ := X.2.1.1 ci _ hc (hcl_pos hc (Nat.lt_of_le_of_lt (Nat.zero_le k) hk))
  obtain ⟨cf, kf, fi, f, hi, hsl⟩ := hS k hk
  refine W.getf X.1.1 X.1.2.1 X.1.2.2.2.1 hl (hsame _ hi) (u_facts hfc hkC (u_lays X.1.2.2.2.2 hin hk) hi).1 q1 (q3.1 (Nat.lt_of_le_of_lt (Nat.zero_le k) hk)) (v := v) ?_ rfl rfl d kk
  rw [hsl, q4 k hk]
  simp [vp_V, hv]
theorem h_get (X : HX G p s m args c cc nL own) (hR : Rp G w H) {ci N : Nat} {C : String} {T : u_T} {fs : List Value} (hw : w a = some (r, oE ci fs)) (hc : HCl[ci]? = some (C, T, N)) (hin : ∀ w ∈ u_ws C T N, w ∈ lw_all) (k : Nat) (hk : k < N) {index : Nat} (hl : Cond.fieldLink own index (T k).1 (T k).2.1 (T k).2.2.1 ∈ lw_all) {v : Value} (hv : fs[k]? = some v) (d : decode cc pc = .ok (.getfield index, 3))
    (kk : W p l e (rmk lv mc ms) s m args below meth c H locs cells slots Q (F0 m (pc + 3) ls (v :: rest))) : W p l e (rmk lv mc ms) s m args below meth c H locs cells slots Q (F0 m pc ls (.ref a :: rest)) :=
  h_getW X (hR.ob hw) hc hin k hk (X.1.2.2.2.2 _ hl) (fun _ h => h) hv d kk
/-- by a name of a class below -/
theorem h_getS (X : HX G p s m args c cc nL own) (hR : Rp G w H) {ci N : Nat} {C ref : String} {T : u_T} {fs : List Value} (hw : w a = some (r, oE ci fs)) (hc : HCl[ci]? = some (C, T, N)) (hin : ∀ w ∈ u_ws C T N, w ∈ lw_all) (k : Nat) (hk : k < N) {index : Nat} (hl : Cond.fieldLink own index ref (T k).2.1 (T k).2.2.1 ∈ lw_all) (hsm : Cond.sameField ref (T k).1 (T k).2.1 (T k).2.2.1 ∈ lw_all) {v : Value} (hv : fs[k]? = some v) (d : decode cc pc = .ok (.getfield index, 3))
    (kk : W p l e (rmk lv mc ms) s m args below meth c H locs cells slots Q (F0 m (pc + 3) ls (v :: rest))) : W p l e (rmk lv mc ms) s m args below meth c H locs cells slots Q (F0 m pc ls (.ref a :: rest)) :=
  h_getW X (hR.ob hw) hc hin k hk (X.1.2.2.2.2 _ hl) (fun x h => u_same (X.1.2.2.2.2 _ hsm) x h) hv d kk
theorem kk_nw {w : Cond} (hK : KK G s) (hw : w ∈ lw_tbl) (ht : w.onTables = true) (hm : ∀ {u U : State}, u.WarmedH U.vm → va_Nw w u → va_Nw w U) : va_Nw w s := by
  obtain ⟨b0, h1, -⟩ := hK.2.2.1
  exact hm hK.2.1 (va_Nw.of ht (h1 w hw))
theorem h_getN (X : HX G p s m args c cc nL own) (hR : Rp G w H) {ci N : Nat} {C host : String} {T : u_T} {fs : List Value} (hw : w a = some (r, oE ci fs)) (hc : HCl[ci]? = some (C, T, N)) (hin : ∀ w ∈ u_ws C T N, w ∈ lw_all) (k : Nat) (hk : k < N) {index : Nat} (hl : Cond.fieldLinkNest own index (T k).1 (T k).2.1 (T k).2.2.1 host ∈ lw_tbl) {v : Value} (hv : fs[k]? = some v) (d : decode cc pc = .ok (.getfield index, 3))
    (kk : W p l e (rmk lv mc ms) s m args below meth c H locs cells slots Q (F0 m (pc + 3) ls (v :: rest))) : W p l e (rmk lv mc ms) s m args below meth c H locs cells slots Q (F0 m pc ls (.ref a :: rest)) := by
  obtain ⟨r', h1, cell, q1, q2, q3, q4⟩ := hR.ob hw
  have hr : r' = (C, T, N) := Option.some.inj (h1.symm.trans hc)
  subst hr
  obtain ⟨hS, hfc, kC, hkC, hkind⟩ := X.2.1.1 ci _ hc (hcl_pos hc (Nat.lt_of_le_of_lt (Nat.zero_le k) hk))
  obtain ⟨cf, kf, fi, f, hi, hsl⟩ := hS k hk
  refine va_Wgetf X.1.1 X.1.2.1 X.1.2.2.2.1 (va_Nw.use rfl (kk_nw X.2 hl rfl (fun hW h => va_Nw.warmF hW h))) hi (u_facts hfc hkC (u_lays X.1.2.2.2.2 hin hk) hi).1 q1 (q3.1 (Nat.lt_of_le_of_lt (Nat.zero_le k) hk)) (v := v) ?_ rfl rfl d kk
  rw [hsl, q4 k hk]
  simp [vp_V, hv]
theorem h_put (X : HX G p s m args c cc nL own) (hR : Rp G w H) (hL : LK G locs) {ci N : Nat} {C : String} {T : u_T} {fs : List Value} (hw : w a = some (r, oE ci fs)) (hr : r ≠ 0) (hc : HCl[ci]? = some (C, T, N)) (hin : ∀ w ∈ u_ws C T N, w ∈ lw_all) {ty0 : Nat → FieldType} (hty : ∀ k, k < N → parseFieldDescriptor (T k).2.2.1 = some (ty0 k)) (hnm : ∀ a, a < N → ∀ b, b < N → a ≠ b → (T a).2.1 ≠ (T b).2.1) (k : Nat) (hk : k < N) {index : Nat} (hl : Cond.fieldLink own index (T k).1 (T k).2.1 (T k).2.2.1 ∈ lw_all) (hfin : (T k).2.2.2 = false) {v : Value} (hn : narrow (ty0 k) v = v) (hfit : fits (ty0 k) v = true) (hlen : k < fs.length) (d : decode cc pc = .ok (.putfield index, 3))
    (kk : ∀ (w1 : Wd), w1 = wset w a (r, oE ci (fs.set k v)) → ∀ (H1 : Heap) (locs1 : List Loc), Rp G w1 H1 → LK G locs1 → W p l e (rmk lv mc ms) s m args below meth c H1 locs1 cells slots Q (F0 m (pc + 3) ls rest)) : W p l e (rmk lv mc ms) s m args below meth c H locs cells slots Q (F0 m pc ls (v :: .ref a :: rest)) := by
  obtain ⟨⟨hx, hb, -, hown, hts⟩, hK, -⟩ := X
  have hap := hv_apart hts hin ty0 hty hnm hK hc
  obtain ⟨r', h1, cell, q1, q2, q3, q4⟩ := hR.ex hw hr
  have hr' : r' = (C, T, N) := Option.some.inj (h1.symm.trans hc)
  subst hr'
  obtain ⟨hS, hfc, kC, hkC, hkind⟩ := hK.1 ci _ hc (hcl_pos hc (Nat.lt_of_le_of_lt (Nat.zero_le k) hk))
  obtain ⟨cf, kf, fi, f, hi, hsl⟩ := hS k hk
  have hlay := hts _ (hin _ (u_in_lay hk))
  unfold u_lay at hlay
  rw [if_neg (by rw [hfin]; decide)] at hlay
  have hst := (u_facts hfc hkC (u_lays hts hin hk) hi).1
  have h6 := u_store hfc hkC hkind hlay hi (hty k hk) hn hfit
  refine W.putK hx hb (f := f) ⟨hown, hts _ hl, ⟨_, _, _, hi⟩, hst⟩ (by rw [q2]; exact h6) q1 q3 (by rw [hsl]; exact k2_hasslot (q4 k hk)) rfl rfl d fun H' e1 e2 e3 => ?_
  rw [hsl] at e1 ⊢
  exact kk _ rfl H' _ (hR.put hw hr e2 e3 ⟨_, hc, t_OB.to (V := updV (vp_V fs) k v) ⟨_, e1, q2, q3, t_set q4 hap hk v⟩ (fun j _ => vp_updV_set hlen v j)⟩) (hL.add (hR.ge hw hr))
theorem h_putN (X : HX G p s m args c cc nL own) (hR : Rp G w H) (hL : LK G locs) {ci N : Nat} {C host : String} {T : u_T} {fs : List Value} (hw : w a = some (r, oE ci fs)) (hr : r ≠ 0) (hc : HCl[ci]? = some (C, T, N)) (hin : ∀ w ∈ u_ws C T N, w ∈ lw_all) {ty0 : Nat → FieldType} (hty : ∀ k, k < N → parseFieldDescriptor (T k).2.2.1 = some (ty0 k)) (hnm : ∀ a, a < N → ∀ b, b < N → a ≠ b → (T a).2.1 ≠ (T b).2.1) (k : Nat) (hk : k < N) {index : Nat} (hl : Cond.fieldLinkNest own index (T k).1 (T k).2.1 (T k).2.2.1 host ∈ lw_tbl) (hfin : (T k).2.2.2 = false) {v : Value} (hn : narrow (ty0 k) v = v) (hfit : fits (ty0 k) v = true) (hlen : k < fs.length) (d : decode cc pc = .ok (.putfield index, 3))
    (kk : ∀ (w1 : Wd), w1 = wset w a (r, oE ci (fs.set k v)) → ∀ (H1 : Heap) (locs1 : List Loc), Rp G w1 H1 → LK G locs1 → W p l e (rmk lv mc ms) s m args below meth c H1 locs1 cells slots Q (F0 m (pc + 3) ls rest)) : W p l e (rmk lv mc ms) s m args below meth c H locs cells slots Q (F0 m pc ls (v :: .ref a :: rest)) := by
  have hNw := kk_nw X.2 hl rfl (fun hW h => va_Nw.warmF hW h)
  obtain ⟨⟨hx, hb, -, hown, hts⟩, hK, -⟩ := X
  have hap := hv_apart hts hin ty0 hty hnm hK hc
  obtain ⟨r', h1, cell, q1, q2, q3, q4⟩ := hR.ex hw hr
  have hr' : r' = (C, T, N) := Option.some.inj (h1.symm.trans hc)
  subst hr'
  obtain ⟨hS, hfc, kC, hkC, hkind⟩ := hK.1 ci _ hc (hcl_pos hc (Nat.lt_of_le_of_lt (Nat.zero_le k) hk))
  obtain ⟨cf, kf, fi, f, hi, hsl⟩ := hS k hk
  have hlay := hts _ (hin _ (u_in_lay hk))
  unfold u_lay at hlay
  rw [if_neg (by rw [hfin]; decide)] at hlay
  have hst := (u_facts hfc hkC (u_lays hts hin hk) hi).1
  have h6 := u_store hfc hkC hkind hlay hi (hty k hk) hn hfit
  refine va_WputK hx hb (f := f) hown (va_Nw.use rfl hNw) hi hst (by rw [q2]; exact h6) q1 q3 (by rw [hsl]; exact k2_hasslot (q4 k hk)) rfl rfl d fun H' e1 e2 e3 => ?_
  rw [hsl] at e1 ⊢
  exact kk _ rfl H' _ (hR.put hw hr e2 e3 ⟨_, hc, t_OB.to (V := updV (vp_V fs) k v) ⟨_, e1, q2, q3, t_set q4 hap hk v⟩ (fun j _ => vp_updV_set hlen v j)⟩) (hL.add (hR.ge hw hr))
/-- a final field in its constructor -/
theorem h_putF (X : HX G p s m args c cc nL own) (hin0 : meth.name = "<init>") (hR : Rp G w H) (hL : LK G locs) {ci N : Nat} {C : String} {T : u_T} {fs : List Value} (hw : w a = some (r, oE ci fs)) (hr : r ≠ 0) (hc : HCl[ci]? = some (C, T, N)) (hin : ∀ w ∈ u_ws C T N, w ∈ lw_all) {ty0 : Nat → FieldType} (hty : ∀ k, k < N → parseFieldDescriptor (T k).2.2.1 = some (ty0 k)) (hnm : ∀ a, a < N → ∀ b, b < N → a ≠ b → (T a).2.1 ≠ (T b).2.1) (k : Nat) (hk : k < N) {index : Nat} (hl : Cond.fieldLink own index (T k).1 (T k).2.1 (T k).2.2.1 ∈ lw_all) (hfin : (T k).2.2.2 = true) (hdecl : (T k).1 = own) {v : Value} (hn : narrow (ty0 k) v = v) (hfit : fits (ty0 k) v = true) (hlen : k < fs.length) (d : decode cc pc = .ok (.putfield index, 3))
    (kk : ∀ (w1 : Wd), w1 = wset w a (r, oE ci (fs.set k v)) → ∀ (H1 : Heap) (locs1 : List Loc), Rp G w1 H1 → LK G locs1 → W p l e (rmk lv mc ms) s m args below meth c H1 locs1 cells slots Q (F0 m (pc + 3) ls rest)) : W p l e (rmk lv mc ms) s m args below meth c H locs cells slots Q (F0 m pc ls (v :: .ref a :: rest)) := by
  obtain ⟨⟨hx, hb, -, hown, hts⟩, hK, -⟩ := X
  have hap := hv_apart hts hin ty0 hty hnm hK hc
  obtain ⟨r', h1, cell, q1, q2, q3, q4⟩ := hR.ex hw hr
  have hr' : r' = (C, T, N) := Option.some.inj (h1.symm.trans hc)
  subst hr'
  obtain ⟨hS, hfc, kC, hkC, hkind⟩ := hK.1 ci _ hc (hcl_pos hc (Nat.lt_of_le_of_lt (Nat.zero_le k) hk))
  obtain ⟨cf, kf, fi, f, hi, hsl⟩ := hS k hk
  have hlay := hts _ (hin _ (u_in_lay hk))
  unfold u_lay at hlay
  rw [if_pos hfin] at hlay
  have hst := (u_facts hfc hkC (u_lays hts hin hk) hi).1
  have hcf : m.cls = cf := by
    obtain ⟨_, _, c', _, _, _, -, -, hf', -, -, -, hown2, -⟩ := Cond.laysFinal_spec hlay
    have e1 : c' = cf := by have := hi.symm.trans hf'; simp at this; exact this.1.symm
    rw [hdecl] at hown2
    rw [← e1]; exact Option.some.inj (hown.symm.trans hown2)
  have h6 := u_fits hfc hkC hkind (Or.inr hlay) hi (hty k hk) hn hfit
  refine W.putFinK hx hb hown (hts _ hl) hi hst hcf hin0 (by rw [q2]; exact h6) q1 q3 (by rw [hsl]; exact k2_hasslot (q4 k hk)) rfl rfl d fun H' e1 e2 e3 => ?_
  rw [hsl] at e1 ⊢
  exact kk _ rfl H' _ (hR.put hw hr e2 e3 ⟨_, hc, t_OB.to (V := updV (vp_V fs) k v) ⟨_, e1, q2, q3, t_set q4 hap hk v⟩ (fun j _ => vp_updV_set hlen v j)⟩) (hL.add (hR.ge hw hr))
theorem h_iald (X : HX G p s m args c cc nL own) (hR : Rp G w H) {n : Nat} {f : Nat → Int} (hw : w a = some (r, iE G 0 n f)) {z : Int} (hz : 0 ≤ z ∧ z < n) (hn : n < 2147483648) (d : decode cc pc = .ok (.iaload, 1))
    (kk : W p l e (rmk lv mc ms) s m args below meth c H locs cells slots Q (F0 m (pc + 1) ls (.int (iI (f z.toNat)) :: rest))) : W p l e (rmk lv mc ms) s m args below meth c H locs cells slots Q (F0 m pc ls (.int (iI z) :: .ref a :: rest)) := by
  obtain ⟨cell, g1, g2, g3, g4⟩ := (hR.ar hw).is (X.2.1.2 0 _ rfl).1
  have hsl : cell.slots.size = n := by rw [g4]; exact arrV_size _ _ _
  have hlt : z.toNat < n := by omega
  exact W.iald (v := .int (iI (f z.toNat))) X.1.1 X.1.2.1 g1 g2 g3 (by rw [hsl]; exact iI_in hz hn) (by rw [g4, iI_z hz hn]; show (arrV _ _ _).slots[_]? = _; rw [arrV_read _ _ hlt]) rfl rfl d kk
theorem h_bald (X : HX G p s m args c cc nL own) (hR : Rp G w H) {n : Nat} {f : Nat → Int} (hw : w a = some (r, iE G 1 n f)) {z : Int} (hz : 0 ≤ z ∧ z < n) (hn : n < 2147483648) (d : decode cc pc = .ok (.baload, 1))
    (kk : W p l e (rmk lv mc ms) s m args below meth c H locs cells slots Q (F0 m (pc + 1) ls (.int (iI (f z.toNat)) :: rest))) : W p l e (rmk lv mc ms) s m args below meth c H locs cells slots Q (F0 m pc ls (.int (iI z) :: .ref a :: rest)) := by
  obtain ⟨cell, g1, g2, g3, g4⟩ := (hR.ar hw).is (X.2.1.2 1 _ rfl).1
  have hsl : cell.slots.size = n := by rw [g4]; exact arrV_size _ _ _
  have hlt : z.toNat < n := by omega
  exact W.bald (v := .int (iI (f z.toNat))) X.1.1 X.1.2.1 g1 g2 g3 (by rw [hsl]; exact iI_in hz hn) (by rw [g4, iI_z hz hn]; show (arrV _ _ _).slots[_]? = _; rw [arrV_read _ _ hlt]) rfl rfl d kk
theorem h_lald (X : HX G p s m args c cc nL own) (hR : Rp G w H) {n : Nat} {f : Nat → Int} (hw : w a = some (r, lE G n f)) {z : Int} (hz : 0 ≤ z ∧ z < n) (hn : n < 2147483648) (d : decode cc pc = .ok (.laload, 1))
    (kk : W p l e (rmk lv mc ms) s m args below meth c H locs cells slots Q (F0 m (pc + 1) ls (.long (lI (f z.toNat)) :: rest))) : W p l e (rmk lv mc ms) s m args below meth c H locs cells slots Q (F0 m pc ls (.int (iI z) :: .ref a :: rest)) := by
  obtain ⟨cell, g1, g2, g3, g4⟩ := (hR.ar hw).is (X.2.1.2 2 _ rfl).1
  have hsl : cell.slots.size = n := by rw [g4]; exact arrV_size _ _ _
  have hlt : z.toNat < n := by omega
  exact W.lald (v := .long (lI (f z.toNat))) X.1.1 X.1.2.1 g1 g2 g3 (by rw [hsl]; exact iI_in hz hn) (by rw [g4, iI_z hz hn]; show (arrV _ _ _).slots[_]? = _; rw [arrV_read _ _ hlt]) rfl rfl d kk
theorem h_dald (X : HX G p s m args c cc nL own) (hR : Rp G w H) {n : Nat} {f : Nat → UInt64} (hw : w a = some (r, dE G n f)) {z : Int} (hz : 0 ≤ z ∧ z < n) (hn : n < 2147483648) (d : decode cc pc = .ok (.daload, 1))
    (kk : W p l e (rmk lv mc ms) s m args below meth c H locs cells slots Q (F0 m (pc + 1) ls (.double (f z.toNat) :: rest))) : W p l e (rmk lv mc ms) s m args below meth c H locs cells slots Q (F0 m pc ls (.int (iI z) :: .ref a :: rest)) := by
  obtain ⟨cell, g1, g2, g3, g4⟩ := (hR.ar hw).is (X.2.1.2 3 _ rfl).1
  have hsl : cell.slots.size = n := by rw [g4]; exact arrV_size _ _ _
  have hlt : z.toNat < n := by omega
  exact W.dald (v := .double (f z.toNat)) X.1.1 X.1.2.1 g1 g2 g3 (by rw [hsl]; exact iI_in hz hn) (by rw [g4, iI_z hz hn]; show (arrV _ _ _).slots[_]? = _; rw [arrV_read _ _ hlt]) rfl rfl d kk
theorem h_aald (X : HX G p s m args c cc nL own) (hR : Rp G w H) {k n : Nat} {C : String} {f : Nat → Option Nat} (hw : w a = some (r, rE G k n f)) (hk : (gTys G)[k]? = some (gA G k, .object C)) {z : Int} (hz : 0 ≤ z ∧ z < n) (hn : n < 2147483648) (d : decode cc pc = .ok (.aaload, 1))
    (kk : W p l e (rmk lv mc ms) s m args below meth c H locs cells slots Q (F0 m (pc + 1) ls (va_rf (f z.toNat) :: rest))) : W p l e (rmk lv mc ms) s m args below meth c H locs cells slots Q (F0 m pc ls (.int (iI z) :: .ref a :: rest)) := by
  obtain ⟨cell, g1, g2, g3, g4⟩ := (hR.ar hw).is (X.2.1.2 k _ hk).1
  have hsl : cell.slots.size = n := by rw [g4]; exact arrV_size _ _ _
  have hlt : z.toNat < n := by omega
  exact W.aald (v := va_rf (f z.toNat)) (ty := .object C) X.1.1 X.1.2.1 g1 g2 rfl g3 (by rw [hsl]; exact iI_in hz hn) (by rw [g4, iI_z hz hn]; show (arrV _ _ _).slots[_]? = _; rw [arrV_read _ _ hlt]) rfl rfl d kk
theorem h_alenI (X : HX G p s m args c cc nL own) (hR : Rp G w H) {k n : Nat} {f : Nat → Int} {ty : FieldType} (hw : w a = some (r, iE G k n f)) (hk : (gTys G)[k]? = some (gA G k, ty)) (d : decode cc pc = .ok (.arraylength, 1))
    (kk : W p l e (rmk lv mc ms) s m args below meth c H locs cells slots Q (F0 m (pc + 1) ls (.int (iI (n : Int)) :: rest))) : W p l e (rmk lv mc ms) s m args below meth c H locs cells slots Q (F0 m pc ls (.ref a :: rest)) := by
  obtain ⟨cell, g1, g2, g3, g4⟩ := (hR.ar hw).is (X.2.1.2 k _ hk).1
  have hsl : cell.slots.size = n := by rw [g4]; exact arrV_size _ _ _
  exact W.alen (n := iI (n : Int)) X.1.1 X.1.2.1 g1 g2 (by rw [hsl]; exact iI_nI n) rfl rfl d kk
theorem h_alenR (X : HX G p s m args c cc nL own) (hR : Rp G w H) {k n : Nat} {f : Nat → Option Nat} {ty : FieldType} (hw : w a = some (r, rE G k n f)) (hk : (gTys G)[k]? = some (gA G k, ty)) (d : decode cc pc = .ok (.arraylength, 1))
    (kk : W p l e (rmk lv mc ms) s m args below meth c H locs cells slots Q (F0 m (pc + 1) ls (.int (iI (n : Int)) :: rest))) : W p l e (rmk lv mc ms) s m args below meth c H locs cells slots Q (F0 m pc ls (.ref a :: rest)) := by
  obtain ⟨cell, g1, g2, g3, g4⟩ := (hR.ar hw).is (X.2.1.2 k _ hk).1
  have hsl : cell.slots.size = n := by rw [g4]; exact arrV_size _ _ _
  exact W.alen (n := iI (n : Int)) X.1.1 X.1.2.1 g1 g2 (by rw [hsl]; exact iI_nI n) rfl rfl d kk
def zset {α : Type} (f : Nat → α) (k : Nat) (v : α) : Nat → α := fun j => if j = k then v else f j
theorem zset_eq {α : Type} (f : Nat → α) (k : Nat) (v : α) : zset f k v k = v := by simp [zset]
theorem zset_ne {α : Type} {f : Nat → α} {k j : Nat} (v : α) (h : j ≠ k) : zset f k v j = f j := by simp [zset, h]
theorem h_iast (X : HX G p s m args c cc nL own) (hR : Rp G w H) (hL : LK G locs) {n : Nat} {f : Nat → Int} (hw : w a = some (r, iE G 0 n f)) (hr : r ≠ 0) {z x : Int} (hz : 0 ≤ z ∧ z < n) (hn : n < 2147483648) (d : decode cc pc = .ok (.iastore, 1))
    (kk : ∀ (w1 : Wd), w1 = wset w a (r, iE G 0 n (zset f z.toNat x)) → ∀ (H1 : Heap) (locs1 : List Loc), Rp G w1 H1 → LK G locs1 → W p l e (rmk lv mc ms) s m args below meth c H1 locs1 cells slots Q (F0 m (pc + 1) ls rest)) : W p l e (rmk lv mc ms) s m args below meth c H locs cells slots Q (F0 m pc ls (.int (iI x) :: .int (iI z) :: .ref a :: rest)) := by
  refine W.iast X.1.1 X.1.2.1 (hR.ex hw hr) ((X.2.1.2 0 _ rfl).1 n (fun j => .int (iI (f j)))) (fun q => by cases q) (by show ¬ (iI z < 0 ∨ (arrV _ _ _).slots.size ≤ _); rw [arrV_size]; exact iI_in hz hn) rfl rfl d fun H1 e z1 oq => ?_
  refine kk _ rfl H1 _ (hR.put hw hr z1 oq ?_) (hL.add (hR.ge hw hr))
  show H1[a]? = some (vp_cell _ _)
  rw [e, vp_cell_i, vp_cell_i, arrV_store]
  congr 2
  funext q
  rw [iI_z hz hn]
  by_cases hq : q = z.toNat
  · subst hq; simp [updV, zset]
  · simp [updV, zset, hq]
theorem h_last (X : HX G p s m args c cc nL own) (hR : Rp G w H) (hL : LK G locs) {n : Nat} {f : Nat → Int} (hw : w a = some (r, lE G n f)) (hr : r ≠ 0) {z x : Int} (hz : 0 ≤ z ∧ z < n) (hn : n < 2147483648) (d : decode cc pc = .ok (.lastore, 1))
    (kk : ∀ (w1 : Wd), w1 = wset w a (r, lE G n (zset f z.toNat x)) → ∀ (H1 : Heap) (locs1 : List Loc), Rp G w1 H1 → LK G locs1 → W p l e (rmk lv mc ms) s m args below meth c H1 locs1 cells slots Q (F0 m (pc + 1) ls rest)) : W p l e (rmk lv mc ms) s m args below meth c H locs cells slots Q (F0 m pc ls (.long (lI x) :: .int (iI z) :: .ref a :: rest)) := by
  refine W.last X.1.1 X.1.2.1 (hR.ex hw hr) ((X.2.1.2 2 _ rfl).1 n (fun j => .long (lI (f j)))) (fun q => by cases q) (by show ¬ (iI z < 0 ∨ (arrV _ _ _).slots.size ≤ _); rw [arrV_size]; exact iI_in hz hn) rfl rfl d fun H1 e z1 oq => ?_
  refine kk _ rfl H1 _ (hR.put hw hr z1 oq ?_) (hL.add (hR.ge hw hr))
  show H1[a]? = some (vp_cell _ _)
  rw [e, vp_cell_l, vp_cell_l, arrV_store]
  congr 2
  funext q
  rw [iI_z hz hn]
  by_cases hq : q = z.toNat
  · subst hq; simp [updV, zset]
  · simp [updV, zset, hq]
theorem h_dast (X : HX G p s m args c cc nL own) (hR : Rp G w H) (hL : LK G locs) {n : Nat} {f : Nat → UInt64} (hw : w a = some (r, dE G n f)) (hr : r ≠ 0) {z : Int} {x : UInt64} (hz : 0 ≤ z ∧ z < n) (hn : n < 2147483648) (d : decode cc pc = .ok (.dastore, 1))
    (kk : ∀ (w1 : Wd), w1 = wset w a (r, dE G n (zset f z.toNat x)) → ∀ (H1 : Heap) (locs1 : List Loc), Rp G w1 H1 → LK G locs1 → W p l e (rmk lv mc ms) s m args below meth c H1 locs1 cells slots Q (F0 m (pc + 1) ls rest)) : W p l e (rmk lv mc ms) s m args below meth c H locs cells slots Q (F0 m pc ls (.double x :: .int (iI z) :: .ref a :: rest)) := by
  refine W.dast X.1.1 X.1.2.1 (hR.ex hw hr) ((X.2.1.2 3 _ rfl).1 n (fun j => .double (f j))) (fun q => by cases q) (by show ¬ (iI z < 0 ∨ (arrV _ _ _).slots.size ≤ _); rw [arrV_size]; exact iI_in hz hn) rfl rfl d fun H1 e z1 oq => ?_
  refine kk _ rfl H1 _ (hR.put hw hr z1 oq ?_) (hL.add (hR.ge hw hr))
  show H1[a]? = some (vp_cell _ _)
  rw [e, vp_cell_d, vp_cell_d, arrV_store]
  congr 2
  funext q
  rw [iI_z hz hn]
  by_cases hq : q = z.toNat
  · subst hq; simp [updV, zset]
  · simp [updV, zset, hq]
/-- a byte array: what is stored is in a byte's range -/
theorem h_bast (X : HX G p s m args c cc nL own) (hR : Rp G w H) (hL : LK G locs) {n : Nat} {f : Nat → Int} (hw : w a = some (r, iE G 1 n f)) (hr : r ≠ 0) {z x : Int} (hz : 0 ≤ z ∧ z < n) (hn : n < 2147483648) (hxr : -128 ≤ x ∧ x < 128) (d : decode cc pc = .ok (.bastore, 1))
    (kk : ∀ (w1 : Wd), w1 = wset w a (r, iE G 1 n (zset f z.toNat x)) → ∀ (H1 : Heap) (locs1 : List Loc), Rp G w1 H1 → LK G locs1 → W p l e (rmk lv mc ms) s m args below meth c H1 locs1 cells slots Q (F0 m (pc + 1) ls rest)) : W p l e (rmk lv mc ms) s m args below meth c H locs cells slots Q (F0 m pc ls (.int (iI x) :: .int (iI z) :: .ref a :: rest)) := by
  have hnar : (iI x).toInt8.toInt32 = iI x := Int32.toInt_inj.mp (by
    rw [Int8.toInt_toInt32, Int32.toInt_toInt8, iI_T ⟨by omega, by omega⟩]
    exact Int.bmod_eq_of_le (by omega) (by omega))
  refine W.bast X.1.1 X.1.2.1 (hR.ex hw hr) ((X.2.1.2 1 _ rfl).1 n (fun j => .int (iI (f j)))) (fun q => by cases q) (by show ¬ (iI z < 0 ∨ (arrV _ _ _).slots.size ≤ _); rw [arrV_size]; exact iI_in hz hn) rfl rfl d fun H1 e z1 oq => ?_
  refine kk _ rfl H1 _ (hR.put hw hr z1 oq ?_) (hL.add (hR.ge hw hr))
  show H1[a]? = some (vp_cell _ _)
  rw [e, vp_cell_i, vp_cell_i, arrV_store]
  congr 2
  funext q
  rw [iI_z hz hn]
  by_cases hq : q = z.toNat
  · subst hq
    simp only [updV, zset, if_true]
    first | exact congrArg Value.int hnar | (simp [narrow]; exact hnar)
  · simp [updV, zset, hq]
theorem h_new (X : HX G p s m args c cc nL own) (hR : Rp G w H) {ci N index : Nat} {C : String} {T : u_T} (rg : Nat → Nat) (hc : HCl[ci]? = some (C, T, N)) (hin : ∀ w ∈ u_ws C T N, w ∈ lw_all) {ty : Nat → FieldType} (hty : ∀ k, k < N → parseFieldDescriptor (T k).2.2.1 = some (ty k)) (hcl : Cond.classLink own index C ∈ lw_all) (hinst : Cond.instantiable C N ∈ lw_all) (hini : Cond.initialized C ∈ lw_all) (fs : List Value) (hfs : ∀ j, j < N → defaultValue (ty j) = vp_V fs j) (hcells : cells + 1 ≤ mc) (hslots : slots + N ≤ ms) (d : decode cc pc = .ok (.new index, 3))
    (kk : ∀ (q : Nat), w q = none → ∀ (w1 : Wd), w1 = wset w q (rg q, oE ci fs) → ∀ (H1 : Heap), Rp G w1 H1 → W p l e (rmk lv mc ms) s m args below meth c H1 locs (cells + 1) (slots + N) Q (F0 m (pc + 3) ls (.ref q :: rest))) : W p l e (rmk lv mc ms) s m args below meth c H locs cells slots Q (F0 m pc ls rest) := by
  obtain ⟨⟨hx, hb, -, hown, hts⟩, hK⟩ := X
  have hKn := kk_Kn hK hR hc (hts _ hinst)
  refine W.newcK hx hb hown (hts _ hcl) (hts _ hinst) (hts _ hini) rfl d hcells hslots hKn.2.1 rfl fun H1 kC hkC e1 z1 o1 => ?_
  exact kk H.size (hR.none (Nat.le_refl _)) _ rfl H1 (hR.mk z1 o1 ⟨_, hc, (u_born ty hts hin hKn hkC e1 hty).to hfs⟩)
end HWH
