/-! the law: the start's own world -/
set_option maxRecDepth 100000
theorem fc_inj {s : State} {n1 n2 : String} {c : ClassId} (h1 : s.vm.findClass n1 = some c) (h2 : s.vm.findClass n2 = some c) : n1 = n2 := by
  obtain ⟨k1, a1, a2⟩ := Vm.findClass_spec h1
  obtain ⟨k2, b1, b2⟩ := Vm.findClass_spec h2
  cases a1.symm.trans b1
  exact a2.symm.trans b2
/-- a constant's kind -/
def kcd (k : Nat) : Nat := if k < 36 then 0 else if k < 72 then 1 else if k < 74 then 2 else if k < 76 then 1 else k
def kcn (c : Nat) : String := if c = 0 then "java/lang/String" else if c = 1 then "[B" else if c = 2 then "[Ljava/lang/Object;" else if c = 76 then "[LSpokenMarks$Step;" else if c = 77 then "SpokenMarks$Step$1" else if c = 78 then "SpokenMarks$Step$2" else if c = 79 then "SpokenMarks$Step$3" else if c = 80 then "SpokenMarks$Step$4" else if c = 81 then "SpokenMarks$Step$5" else "jdk/internal/misc/Unsafe"
theorem kc_nm (k : Nat) (hk : k < 83) : (stL.getD k st0).2.1 = kcn (kcd k) := by
  rcases (show k = 0 ∨ k = 1 ∨ k = 2 ∨ k = 3 ∨ k = 4 ∨ k = 5 ∨ k = 6 ∨ k = 7 ∨ k = 8 ∨ k = 9 ∨ k = 10 ∨ k = 11 ∨ k = 12 ∨ k = 13 ∨ k = 14 ∨ k = 15 ∨ k = 16 ∨ k = 17 ∨ k = 18 ∨ k = 19 ∨ k = 20 ∨ k = 21 ∨ k = 22 ∨ k = 23 ∨ k = 24 ∨ k = 25 ∨ k = 26 ∨ k = 27 ∨ k = 28 ∨ k = 29 ∨ k = 30 ∨ k = 31 ∨ k = 32 ∨ k = 33 ∨ k = 34 ∨ k = 35 ∨ k = 36 ∨ k = 37 ∨ k = 38 ∨ k = 39 ∨ k = 40 ∨ k = 41 ∨ k = 42 ∨ k = 43 ∨ k = 44 ∨ k = 45 ∨ k = 46 ∨ k = 47 ∨ k = 48 ∨ k = 49 ∨ k = 50 ∨ k = 51 ∨ k = 52 ∨ k = 53 ∨ k = 54 ∨ k = 55 ∨ k = 56 ∨ k = 57 ∨ k = 58 ∨ k = 59 ∨ k = 60 ∨ k = 61 ∨ k = 62 ∨ k = 63 ∨ k = 64 ∨ k = 65 ∨ k = 66 ∨ k = 67 ∨ k = 68 ∨ k = 69 ∨ k = 70 ∨ k = 71 ∨ k = 72 ∨ k = 73 ∨ k = 74 ∨ k = 75 ∨ k = 76 ∨ k = 77 ∨ k = 78 ∨ k = 79 ∨ k = 80 ∨ k = 81 ∨ k = 82 by omega) with q | q | q | q | q | q | q | q | q | q | q | q | q | q | q | q | q | q | q | q | q | q | q | q | q | q | q | q | q | q | q | q | q | q | q | q | q | q | q | q | q | q | q | q | q | q | q | q | q | q | q | q | q | q | q | q | q | q | q | q | q | q | q | q | q | q | q | q | q | q | q | q | q | q | q | q | q | q | q | q | q | q | q <;> subst q <;> rfl
theorem kcd_le {k : Nat} (hk : k < 83) : kcd k = 0 ∨ kcd k = 1 ∨ kcd k = 2 ∨ kcd k = 76 ∨ kcd k = 77 ∨ kcd k = 78 ∨ kcd k = 79 ∨ kcd k = 80 ∨ kcd k = 81 ∨ kcd k = 82 := by
  unfold kcd
  split
  · omega
  · split
    · omega
    · split
      · omega
      · split
        · omega
        · omega
theorem kcn_inj {a b : Nat} (ha : a = 0 ∨ a = 1 ∨ a = 2 ∨ a = 76 ∨ a = 77 ∨ a = 78 ∨ a = 79 ∨ a = 80 ∨ a = 81 ∨ a = 82) (hb : b = 0 ∨ b = 1 ∨ b = 2 ∨ b = 76 ∨ b = 77 ∨ b = 78 ∨ b = 79 ∨ b = 80 ∨ b = 81 ∨ b = 82) (h : kcn a = kcn b) : a = b := by
  rcases ha with q | q | q | q | q | q | q | q | q | q <;> subst q <;> rcases hb with q | q | q | q | q | q | q | q | q | q <;> subst q <;> first | rfl | exact absurd h (by decide)
/-- what holds of a byte array's entity beyond its end -/
theorem kV_b (G : Gl) {k : Nat} (h : kcd k = 1) : ∃ (n : Nat) (f : Nat → Int), kVal G k = iE G 1 n f ∧ ∀ j, n ≤ j → f j = 0 := by
  unfold kcd at h
  by_cases h1 : k < 36
  · rw [if_pos h1] at h; cases h
  · rw [if_neg h1] at h
    by_cases h2 : k < 72
    · exact ⟨_, _, by unfold kVal; rw [if_neg h1, if_pos h2], fun j hj => List.getD_eq_default _ _ hj⟩
    · rw [if_neg h2] at h
      by_cases h3 : k < 74
      · rw [if_pos h3] at h; cases h
      · rw [if_neg h3] at h
        by_cases h4 : k < 76
        · rcases (show k = 74 ∨ k = 75 by omega) with q | q
          · subst q
            exact ⟨100, fun j => if j < 100 then ((48 + j / 10 : Nat) : Int) else 0, rfl, fun j hj => if_neg (by omega)⟩
          · subst q
            exact ⟨100, fun j => if j < 100 then ((48 + j % 10 : Nat) : Int) else 0, rfl, fun j hj => if_neg (by omega)⟩
        · rw [if_neg h4] at h; omega
theorem arW_i {G : Gl} {a n n1 : Nat} {f f1 : Nat → Int} {H : Heap} (h : entW G a (iE G 1 n f) H) (h1 : entW G a (iE G 1 n1 f1) H) (hz : ∀ j, n ≤ j → f j = 0) (hz1 : ∀ j, n1 ≤ j → f1 j = 0) : iE G 1 n f = iE G 1 n1 f1 := by
  obtain ⟨c, g1, g2, g3, -⟩ := (show arW a (gA G 1) (n, .inl (fun j => iI (f j))) H from h)
  obtain ⟨c1, k1, k2, k3, -⟩ := (show arW a (gA G 1) (n1, .inl (fun j => iI (f1 j))) H from h1)
  cases g1.symm.trans k1
  have e := g3.symm.trans k3
  have e : (arrV (gA G 1) n (fun j => .int (iI (f j)))).slots = (arrV (gA G 1) n1 (fun j => .int (iI (f1 j)))).slots := e
  have en : n = n1 := by
    have := congrArg Array.size e
    rw [arrV_size, arrV_size] at this
    exact this
  subst en
  have ef : (fun j => iI (f j)) = (fun j => iI (f1 j)) := by
    funext j
    by_cases hj : j < n
    · have := congrArg (fun q : Array Value => q[j]?) e
      simp only [arrV_read _ _ hj] at this
      exact Value.int.inj (Option.some.inj this)
    · rw [hz j (by omega), hz1 j (by omega)]
  show (Sum.inl (Sum.inl (gA G 1, n, Sum.inl (fun j => iI (f j)))) : Ent) = Sum.inl (Sum.inl (gA G 1, n, Sum.inl (fun j => iI (f1 j))))
  rw [ef]
theorem entW_s {G : Gl} {a va va1 : Nat} {h0 h1 : Int32} {H : Heap} (ha : a < gB G) (h : entW G a (sE va h0) H) (hh : entW G a (sE va1 h1) H) : sE va h0 = sE va1 h1 := by
  obtain ⟨x0, z0, ⟨r, hr, c, g1, g2, g3, g4⟩, gh⟩ := h
  obtain ⟨x1, z1, ⟨r1, hr1, c1, k1, k2, k3, k4⟩, kh⟩ := hh
  cases g1.symm.trans k1
  cases hr.symm.trans hr1
  have er : r = (RJ10, TJ10, 4) := (Option.some.inj (show some (RJ10, TJ10, 4) = some r from hr)).symm
  subst er
  have e0 := (g4 0 (show 0 < 4 by decide)).symm.trans (k4 0 (show 0 < 4 by decide))
  have e2 := (g4 2 (show 2 < 4 by decide)).symm.trans (k4 2 (show 2 < 4 by decide))
  have e0 : va = va1 := Value.ref.inj (Option.some.inj (show some (Value.ref va) = some (Value.ref va1) from e0))
  have e2 : x0 = x1 := Value.int.inj (Option.some.inj (show some (Value.int x0) = some (Value.int x1) from e2))
  subst e0
  subst e2
  rcases gh with gh | gh
  · rcases kh with kh | kh
    · have q : h0 = h1 := gh.1.symm.trans kh.1
      rw [q]
    · exact absurd kh.2.2 (by omega)
  · exact absurd gh.2.2 (by omega)
theorem st_det {s : State} {A : Array Value} {D : va_G} {Ar : Nat → ClassId} {C : Nat → Nat} (h : StC s A D Ar C) (W : Wd) {k k1 : Nat} (hk : k < 83) (hk1 : k1 < 83) (e : C k = C k1) : kVal ((D, Ar, s, C, W) : Gl) k = kVal ((D, Ar, s, C, W) : Gl) k1 := by
  have v := st_val h W k hk
  have v1 := st_val h W k1 hk1
  obtain ⟨cell, -, hc, -, hf⟩ := h.2.2.2 k hk
  obtain ⟨cell1, -, hc1, -, hf1⟩ := h.2.2.2 k1 hk1
  rw [e] at hc v
  cases hc.symm.trans hc1
  have ek : kcd k = kcd k1 := kcn_inj (kcd_le hk) (kcd_le hk1) (by rw [← kc_nm k hk, ← kc_nm k1 hk1]; exact fc_inj hf hf1)
  have hlt : C k1 < s.heap.size := (Array.getElem?_eq_some_iff.mp hc1).1
  rcases Nat.lt_or_ge k 36 with h1 | h1
  · have h0 : kcd k = 0 := if_pos h1
    have h2 : k1 < 36 := by
      rw [h0] at ek
      unfold kcd at ek
      by_cases q : k1 < 36
      · exact q
      · rw [if_neg q] at ek
        by_cases q2 : k1 < 72
        · rw [if_pos q2] at ek; cases ek
        · rw [if_neg q2] at ek
          by_cases q3 : k1 < 74
          · rw [if_pos q3] at ek; cases ek
          · rw [if_neg q3] at ek
            by_cases q4 : k1 < 76
            · rw [if_pos q4] at ek; cases ek
            · rw [if_neg q4] at ek; omega
    have e1 : ∀ q : Nat, q < 36 → kVal ((D, Ar, s, C, W) : Gl) q = sE (C (36 + q)) (iI (sH (kkTx q))) := fun q hq => by unfold kVal; rw [if_pos hq]
    rw [e1 k h1] at v ⊢
    rw [e1 k1 h2] at v1 ⊢
    exact entW_s (G := ((D, Ar, s, C, W) : Gl)) hlt v v1
  · by_cases hb : kcd k = 1
    · obtain ⟨n, f, e1, z1⟩ := kV_b ((D, Ar, s, C, W) : Gl) hb
      obtain ⟨n1, f1, e2, z2⟩ := kV_b ((D, Ar, s, C, W) : Gl) (ek.symm.trans hb)
      rw [e1] at v ⊢
      rw [e2] at v1 ⊢
      exact arW_i v v1 z1 z2
    · by_cases ho : kcd k = 2
      · have e1 : ∀ q : Nat, kcd q = 2 → kVal ((D, Ar, s, C, W) : Gl) q = rE ((D, Ar, s, C, W) : Gl) 4 0 (fun _ => none) := fun q hq => by
          have hq2 : q = 72 ∨ q = 73 := by
            unfold kcd at hq
            by_cases q1 : q < 36
            · rw [if_pos q1] at hq; cases hq
            · rw [if_neg q1] at hq
              by_cases q2 : q < 72
              · rw [if_pos q2] at hq; cases hq
              · rw [if_neg q2] at hq
                by_cases q3 : q < 74
                · omega
                · rw [if_neg q3] at hq
                  by_cases q4 : q < 76
                  · rw [if_pos q4] at hq; cases hq
                  · rw [if_neg q4] at hq; omega
          rcases hq2 with q1 | q1 <;> subst q1 <;> rfl
        rw [e1 k ho, e1 k1 (ek.symm.trans ho)]
      · have hid : ∀ q : Nat, 36 ≤ q → ¬ kcd q = 1 → ¬ kcd q = 2 → kcd q = q := fun q q0 q1 q2 => by
          unfold kcd at q1 q2 ⊢
          rw [if_neg (by omega)] at q1 q2 ⊢
          by_cases a1 : q < 72
          · rw [if_pos a1] at q1; exact absurd rfl q1
          · rw [if_neg a1] at q1 q2 ⊢
            by_cases a2 : q < 74
            · rw [if_pos a2] at q2; exact absurd rfl q2
            · rw [if_neg a2] at q1 q2 ⊢
              by_cases a3 : q < 76
              · rw [if_pos a3] at q1; exact absurd rfl q1
              · rw [if_neg a3]
        have e1 := hid k h1 hb ho
        have h2 : 36 ≤ k1 := by
          rcases Nat.lt_or_ge k1 36 with q | q
          · have : kcd k1 = 0 := if_pos q
            omega
          · exact q
        have e2 := hid k1 h2 (fun q => hb (ek.trans q)) (fun q => ho (ek.trans q))
        have e3 : k = k1 := by omega
        rw [e3]
/-- the world of the start: its constants -/
noncomputable def stW (s : State) (D : va_G) (Ar : Nat → ClassId) (C : Nat → Nat) : Wd := fun a => by
  classical exact if h : ∃ k, k < 83 ∧ C k = a then some (0, kVal ((D, Ar, s, C, fun _ => none) : Gl) (Classical.choose h)) else none
theorem stW_i {s : State} {D : va_G} {Ar : Nat → ClassId} {C : Nat → Nat} {a : Nat} {x : Nat × Ent} (h : stW s D Ar C a = some x) : ∃ k, k < 83 ∧ C k = a ∧ x = (0, kVal ((D, Ar, s, C, fun _ => none) : Gl) k) := by
  classical
  unfold stW at h
  by_cases hq : ∃ k, k < 83 ∧ C k = a
  · have h2 : some (0, kVal ((D, Ar, s, C, fun _ => none) : Gl) (Classical.choose hq)) = some x := (dif_pos hq).symm.trans h
    exact ⟨_, (Classical.choose_spec hq).1, (Classical.choose_spec hq).2, (Option.some.inj h2).symm⟩
  · have h2 : none = some x := (dif_neg hq).symm.trans h
    cases h2
theorem stW_at {s : State} {A : Array Value} {D : va_G} {Ar : Nat → ClassId} {C : Nat → Nat} (h : StC s A D Ar C) {k : Nat} (hk : k < 83) : stW s D Ar C (C k) = some (0, kVal ((D, Ar, s, C, fun _ => none) : Gl) k) := by
  classical
  unfold stW
  have hq : ∃ k1, k1 < 83 ∧ C k1 = C k := ⟨k, hk, rfl⟩
  refine (dif_pos hq).trans ?_
  rw [st_det h (fun _ => none) (Classical.choose_spec hq).1 hk (Classical.choose_spec hq).2]
theorem kkS_t : ∀ (k : Nat) (q : String × Nat × String × List Int), kkStr[k]? = some q → k < 36 ∧ (stL.getD k st0).1 = Term.string q.1 q.2.1 := by
  intro k q h
  have hk : k < 36 := (List.getElem?_eq_some_iff.mp h).1
  refine ⟨hk, ?_⟩
  have e : stL.map (fun e => e.1) = kkStr.map (fun q => Term.string q.1 q.2.1) ++ (stL.drop 36).map (fun e => e.1) := rfl
  have h2 : (stL.map (fun e => e.1))[k]? = some (Term.string q.1 q.2.1) := by
    rw [e, List.getElem?_append_left (by rw [List.length_map]; exact hk), List.getElem?_map, h]
    rfl
  rw [List.getElem?_map] at h2
  obtain ⟨y, h3, h4⟩ := Option.map_eq_some_iff.mp h2
  rw [List.getD_eq_getElem?_getD, h3]
  exact h4
theorem ev_str {A : Array Value} {s : State} {n : String} {k : Nat} {v : Value} (h : (Term.string n k).eval A s none [] s = some v) : (Term.string n k).eval #[] s none [] s = some v := h
theorem ev_sta {A : Array Value} {s : State} {n k d : String} {v : Value} (h : (Term.static n k d).eval A s none [] s = some v) : (Term.static n k d).eval #[] s none [] s = some v := h
theorem st_G {s : State} {b : Nat} (hts : ∀ w ∈ lw_tbl, w.before #[Value.ref b] s = true) (hgv : (Jvm.Cond.and given_1 narrow_1).before #[Value.ref b] s = true) : ∃ G : Gl, gS G = s ∧ KK G s ∧ Rp G (gW G) s.heap ∧ RegW (gW G) := by
  have hn : narrow_1.before #[Value.ref b] s = true := by
    rw [Cond.before_and, Bool.and_eq_true] at hgv
    exact hgv.2
  obtain ⟨D, hD⟩ := st_K hts hn
  obtain ⟨Ar, hAr⟩ := st_A hts
  obtain ⟨C, hC⟩ := st_C hn
  have hS : StC s #[Value.ref b] D Ar C := ⟨hn, hD, hAr, hC⟩
  have hE : ∀ k, k < 83 → (stL.getD k st0).1.eval #[Value.ref b] s none [] s = some (.ref (C k)) := fun k hk => by
    obtain ⟨cell, h1, -⟩ := hC k hk
    exact h1
  refine ⟨(D, Ar, s, C, stW s D Ar C), rfl, ⟨⟨fun c q hq hs => (hD c q hq).1 hs, fun k q hq => ?_⟩, State.WarmedH.refl s, ⟨b, hts, hgv⟩, fun k q hq => ?_, ?_, fun k hk => (stW_at hS hk).trans rfl⟩, ⟨Nat.le_refl _, fun a ha => rfl, fun a r e ha => ?_, fun a x ha => ⟨ha, ?_⟩⟩, fun c r e hc hr => ?_⟩
  · have hk : k < 7 := (List.getElem?_eq_some_iff.mp hq).1
    have e : q = (Ar k, gTy k) := by
      rcases (show k = 0 ∨ k = 1 ∨ k = 2 ∨ k = 3 ∨ k = 4 ∨ k = 5 ∨ k = 6 by omega) with h | h | h | h | h | h | h <;> subst h <;> exact (Option.some.inj hq).symm
    subst e
    exact hAr k hk
  · obtain ⟨hk, e⟩ := kkS_t k q hq
    have h1 := hE k (by omega)
    rw [e] at h1
    exact ev_str h1
  · exact List.forall_mem_cons.mpr ⟨ev_sta (hE 72 (by decide)), List.forall_mem_cons.mpr ⟨ev_sta (hE 73 (by decide)), List.forall_mem_cons.mpr ⟨ev_sta (hE 74 (by decide)), List.forall_mem_cons.mpr ⟨ev_sta (hE 75 (by decide)), List.forall_mem_cons.mpr ⟨ev_sta (hE 76 (by decide)), List.forall_mem_cons.mpr ⟨ev_sta (hE 77 (by decide)), List.forall_mem_cons.mpr ⟨ev_sta (hE 78 (by decide)), List.forall_mem_cons.mpr ⟨ev_sta (hE 79 (by decide)), List.forall_mem_cons.mpr ⟨ev_sta (hE 80 (by decide)), List.forall_mem_cons.mpr ⟨ev_sta (hE 81 (by decide)), List.forall_mem_cons.mpr ⟨ev_sta (hE 82 (by decide)), fun q hq => absurd hq List.not_mem_nil⟩⟩⟩⟩⟩⟩⟩⟩⟩⟩⟩
  · obtain ⟨k, hk, e1, e2⟩ := stW_i ha
    cases e2
    subst e1
    refine ⟨⟨st_val hS (stW s D Ar C) k hk, fun hge => ?_⟩, fun q => absurd rfl q⟩
    obtain ⟨cell, -, hc, -⟩ := hC k hk
    exact absurd (Array.getElem?_eq_some_iff.mp hc).1 (Nat.not_lt.mpr hge)
  · obtain ⟨k, hk, e1, e2⟩ := stW_i ha
    subst e1
    obtain ⟨cell, -, hc, -⟩ := hC k hk
    exact (Array.getElem?_eq_some_iff.mp hc).1
  · obtain ⟨k, hk, e1, e2⟩ := stW_i hc
    cases e2
    exact absurd rfl hr
