/-! HW: arrays of references, copies, clones, casts -/
set_option maxRecDepth 100000
theorem nnI {z : Int} (h : 0 ≤ z ∧ z < 2147483648) : ¬ iI z < 0 ∧ (iI z).toNatClampNeg = z.toNat ∧ (iI z).toInt = z := by
  have hr : R32 z := ⟨by omega, by omega⟩
  exact ⟨fun q => by have := (iI_lt hr ⟨by decide, by decide⟩).mp (show iI z < iI 0 from q); omega, iI_cl hr, iI_T hr⟩
section HWR
variable {G : Gl} {p : Program} {l : Launch} {e : Env} {s : State} {m : MethodId} {args : Array Value} {below : List Frame} {meth : Method} {c : Code} {H : Heap} {locs : List Loc} {cells slots : Nat} {Q : State → Prop}
variable {cc : ByteArray} {own : String} {nL lv mc ms : Nat} {pc : Nat} {ls : Array Slot} {rest : List Value} {w : Wd} {a r : Nat}
theorem kk_AO (hK : KK G s) {C : String} (hw : Cond.arrayOver (.object C) ∈ lw_tbl) : va_AO C s := by
  obtain ⟨b0, h1, -⟩ := hK.2.2.1
  exact va_AO.moved hK.2.1.alike (va_AO.of (h1 _ hw))
theorem kk_N (hK : KK G s) {C T : String} (path : List Bool) (hp : nwAt path narrow_1 = some (.not (.castable C T))) : va_Nc C T s := by
  obtain ⟨b0, -, h2⟩ := hK.2.2.1
  rw [Cond.before_and, Bool.and_eq_true] at h2
  exact va_Nc.moved hK.2.1.alike (va_Nc.of (nwAt_ok path _ _ hp h2.2))
theorem kk_C (hK : KK G s) {C T : String} (hw : Cond.castable C T ∈ lw_tbl) : va_Nw (.castable C T) s := kk_nw hK hw rfl (fun hW h => va_Nw.warmC hW h)
/-- an array of references of kind k -/
theorem h_anew (X : HX G p s m args c cc nL own) (hR : Rp G w H) (k : Nat) (rg : Nat → Nat) {C : String} {index : Nat} (hk : (gTys G)[k]? = some (gA G k, .object C)) (hcl : Cond.classLink own index C ∈ lw_all) (hov : Cond.arrayOver (.object C) ∈ lw_tbl) {z : Int} (N : Nat) (hz : z = (N : Int)) (hN : N < 16777216) (hcells : cells + 1 ≤ mc) (hslots : slots + N ≤ ms) (d : decode cc pc = .ok (.anewarray index, 3))
    (kk : ∀ (q : Nat), w q = none → ∀ (w1 : Wd), w1 = wset w q (rg q, rE G k N (fun _ => none)) → ∀ (H1 : Heap), Rp G w1 H1 → W p l e (rmk lv mc ms) s m args below meth c H1 locs (cells + 1) (slots + N) Q (F0 m (pc + 3) ls (.ref q :: rest))) : W p l e (rmk lv mc ms) s m args below meth c H locs cells slots Q (F0 m pc ls (.int (iI z) :: rest)) := by
  subst hz
  obtain ⟨h1, h2, h3⟩ := nnI (z := (N : Int)) ⟨by omega, by omega⟩
  have hN2 : (iI (N : Int)).toNatClampNeg = N := by rw [h2]; exact Int.toNat_natCast N
  refine W.anew X.1.1 X.1.2.1 X.1.2.2.2.1 (X.1.2.2.2.2 _ hcl) (va_AO.use (kk_AO X.2 hov)) rfl d rfl h1 (by rw [hN2]; omega) hcells (by rw [hN2]; exact hslots) fun cA kA comp f1 f2 f3 f4 => ?_
  rw [hN2]
  obtain ⟨kB, cB, g1, g2, g3, g4⟩ := (X.2.1.2 k _ hk).2
  have hcA : cA = gA G k := Option.some.inj (f1.symm.trans g4)
  generalize hH1 : H.push ({ cls := cA, slots := Array.replicate N .null, vm := .none } : Cell) = H1
  have z1 : H1.size = H.size + 1 := by rw [← hH1, Array.size_push]
  have o1 : ∀ q : Nat, q < H.size → H1[q]? = H[q]? := fun q hq => by rw [← hH1, Array.getElem?_push, if_neg (Nat.ne_of_lt hq)]
  refine kk H.size (hR.none (Nat.le_refl _)) _ rfl H1 (hR.mk z1 o1 ?_)
  show H1[H.size]? = some (vp_cell _ _)
  rw [vp_cell_q, ← hH1, Array.getElem?_push_size, hcA]
  exact congrArg some (arrV_new _ _ _)
/-- an object goes into an array -/
theorem h_aast (X : HX G p s m args c cc nL own) (hR : Rp G w H) (hL : LK G locs) {k n v : Nat} {C E : String} {f : Nat → Option Nat} (hw : w a = some (r, rE G k n f)) (hr : r ≠ 0) (hk : (gTys G)[k]? = some (gA G k, .object E)) (hv : hasC w v C) (hca : Cond.castable C E ∈ lw_tbl ∨ C = E) {z : Int} (hz : 0 ≤ z ∧ z < n) (hn : n < 2147483648) (d : decode cc pc = .ok (.aastore, 1))
    (kk : ∀ (w1 : Wd), w1 = wset w a (r, rE G k n (zset f z.toNat (some v))) → ∀ (H1 : Heap) (locs1 : List Loc), Rp G w1 H1 → LK G locs1 → W p l e (rmk lv mc ms) s m args below meth c H1 locs1 cells slots Q (F0 m (pc + 1) ls rest)) : W p l e (rmk lv mc ms) s m args below meth c H locs cells slots Q (F0 m pc ls (.ref v :: .int (iI z) :: .ref a :: rest)) := by
  obtain ⟨h1, h2, -⟩ := nnI (z := z) ⟨by omega, by omega⟩
  obtain ⟨cellV, g1, g3, g2⟩ := hv.recv hR X.2
  obtain ⟨kA, comp, k1, k2, k3, -⟩ := (X.2.1.2 k _ hk).2
  obtain ⟨kE, hkE, -⟩ := Vm.findClass_spec k3
  obtain ⟨kC, hkC, -⟩ := Vm.findClass_spec g2
  have hasg : s.vm.assignable cellV.cls comp = true := by
    rcases hca with q | q
    · exact vb_asgC (kk_C X.2 q) _ _ k3 g2
    · subst q; exact vb_asgS _ _ k3 g2
  refine W.aast X.1.1 X.1.2.1 (hR.ex hw hr) (fun q h => by cases h) (fun h => by cases h) k1 k2 rfl hkE ⟨h1, by show (iI z).toNatClampNeg < (arrV _ _ _).slots.size; rw [arrV_size, h2]; exact (show z.toNat < n by omega)⟩ g1 (fun q h => by rw [h] at g3; cases g3) hkC hasg rfl rfl d fun H1 e z1 oq => ?_
  refine kk _ rfl H1 _ (hR.put hw hr z1 oq ?_) (hL.add (hR.ge hw hr))
  show H1[a]? = some (vp_cell _ _)
  rw [e, vp_cell_q, vp_cell_q, arrV_store]
  congr 2
  funext q
  rw [h2]
  by_cases hq : q = z.toNat
  · subst hq; simp [updV, zset, va_rf]
  · simp [updV, zset, hq]
theorem h_aastN (X : HX G p s m args c cc nL own) (hR : Rp G w H) (hL : LK G locs) {k n : Nat} {E : String} {f : Nat → Option Nat} (hw : w a = some (r, rE G k n f)) (hr : r ≠ 0) (hk : (gTys G)[k]? = some (gA G k, .object E)) {z : Int} (hz : 0 ≤ z ∧ z < n) (hn : n < 2147483648) (d : decode cc pc = .ok (.aastore, 1))
    (kk : ∀ (w1 : Wd), w1 = wset w a (r, rE G k n (zset f z.toNat none)) → ∀ (H1 : Heap) (locs1 : List Loc), Rp G w1 H1 → LK G locs1 → W p l e (rmk lv mc ms) s m args below meth c H1 locs1 cells slots Q (F0 m (pc + 1) ls rest)) : W p l e (rmk lv mc ms) s m args below meth c H locs cells slots Q (F0 m pc ls (.null :: .int (iI z) :: .ref a :: rest)) := by
  obtain ⟨h1, h2, -⟩ := nnI (z := z) ⟨by omega, by omega⟩
  refine va_WaastN (C := E) X.1.1 X.1.2.1 (hR.ex hw hr) ((X.2.1.2 k _ hk).1 n (fun j => va_rf (f j))) (fun h => by cases h) (by show ¬ (iI z < 0 ∨ (arrV _ _ _).slots.size ≤ _); rw [arrV_size]; exact iI_in hz hn) rfl rfl d fun H1 e z1 oq => ?_
  refine kk _ rfl H1 _ (hR.put hw hr z1 oq ?_) (hL.add (hR.ge hw hr))
  show H1[a]? = some (vp_cell _ _)
  rw [e, vp_cell_q, vp_cell_q, arrV_store]
  congr 2
  funext q
  rw [h2]
  by_cases hq : q = z.toNat
  · subst hq; simp [updV, zset, va_rf]
  · simp [updV, zset, hq]
def cpA {α : Type} (f g : Nat → α) (sp dp n : Nat) : Nat → α := fun k => if dp ≤ k ∧ k < dp + n then f (sp + (k - dp)) else g k
abbrev acW : List Cond := [.native arraycopyName, .static arraycopyName, .initialized "java/lang/System"]
/-- references are copied -/
theorem h_copyR (X : HX G p s m args c cc nL own) (hR : Rp G w H) (hL : LK G locs) (hml : ls.size = nL) {index k0 k1 n0 n1 a0 r0 : Nat} {E0 E1 C : String} {f g : Nat → Option Nat} (hw0 : w a0 = some (r0, rE G k0 n0 f)) (hw : w a = some (r, rE G k1 n1 g)) (hr : r ≠ 0) (hk0 : (gTys G)[k0]? = some (gA G k0, .object E0)) (hk1 : (gTys G)[k1]? = some (gA G k1, .object E1)) (hlink : Cond.methodLink own index arraycopyName ∈ lw_all) (hac : ∀ x ∈ acW, x ∈ lw_all) {sp dp n : Int} (b1 : 0 ≤ sp ∧ 0 ≤ dp ∧ 0 ≤ n) (b2 : sp + n ≤ n0) (b3 : dp + n ≤ n1) (b4 : n0 < 2147483648 ∧ n1 < 2147483648)
    (hel : ∀ i : Nat, (i : Int) < n → ∀ y : Nat, f (sp.toNat + i) = some y → ∃ C, hasC w y C ∧ (Cond.castable C E1 ∈ lw_tbl ∨ C = E1)) (hlv : 1 ≤ lv ∧ (rest.map fun v => v.category).sum + (nativeFrameWords "java/lang/System" "arraycopy" 5 + 11) ≤ 100 * lv) (d : decode cc pc = .ok (.invokestatic index, 3))
    (kk : ∀ (w1 : Wd), w1 = wset w a (r, rE G k1 n1 (cpA f g sp.toNat dp.toNat n.toNat)) → ∀ (H1 : Heap) (locs1 : List Loc), Rp G w1 H1 → LK G locs1 → W p l e (rmk lv mc ms) s m args below meth c H1 locs1 cells slots Q (F0 m (pc + 3) ls rest)) : W p l e (rmk lv mc ms) s m args below meth c H locs cells slots Q (F0 m pc ls (.int (iI n) :: .int (iI dp) :: .ref a :: .int (iI sp) :: .ref a0 :: rest)) := by
  obtain ⟨s1, s2, s3⟩ := nnI (z := sp) ⟨by omega, by omega⟩
  obtain ⟨d1, d2, d3⟩ := nnI (z := dp) ⟨by omega, by omega⟩
  obtain ⟨m1, m2, m3⟩ := nnI (z := n) ⟨by omega, by omega⟩
  obtain ⟨c0, hc0, c0c, c0s, c0v, -⟩ := hR.ar hw0
  have hc1 : H[a]? = some (vp_cell (gA G k1) (n1, .inr (.inr (.inr (.inr g))))) := hR.ex hw hr
  obtain ⟨⟨hx, hb, hml2, hown, hts⟩, hK⟩ := X
  obtain ⟨-, kl0, hkl0, cm0, hkk0⟩ := (hK.1.2 k0 _ hk0).1 n0 (fun j => va_rf (f j))
  obtain ⟨-, kl1, hkl1, cm1, hkk1⟩ := (hK.1.2 k1 _ hk1).1 n1 (fun j => va_rf (g j))
  intro T hT X
  obtain ⟨vm', X', step⟩ := X.arraycopy hx hown (hts _ hlink) (hts _ (hac _ (by simp [acW]))) (hts _ (hac _ (by simp [acW]))) (hts _ (hac _ (by simp [acW]))) (src := a0) (dst := a) (cs := c0) (cd := vp_cell (gA G k1) (n1, .inr (.inr (.inr (.inr g))))) (srcPos := iI sp) (destPos := iI dp) (n := iI n) (by rw [hT]; exact hc0) (by rw [hT]; exact hc1)
    (fun _ h => by have h_ := c0v.2; rw [h] at h_; cases h_) (fun _ h => by cases h) c0v.1 (fun h => by cases h) (by rw [c0c]; exact hkl0) hkl1 hkk0 hkk1 rfl s1 d1 m1
    (by rw [s3, m3, c0s]; show ¬ _ > ((arrV _ n0 (fun j => va_rf (f j))).slots.size : Int); rw [arrV_size]; omega)
    (by rw [d3, m3]; show ¬ _ > ((arrV _ n1 (fun j => va_rf (g j))).slots.size : Int); rw [arrV_size]; omega)
    (fun vm₁ hal i hi => by
      rw [m2] at hi
      have e : c0.slots.getD ((iI sp).toNatClampNeg + i) .null = va_rf (f (sp.toNat + i)) := by
        rw [s2, c0s]
        show (arrV _ n0 (fun j => va_rf (f j))).slots.getD _ _ = _
        rw [Array.getD_eq_getD_getElem?, arrV_read _ _ (by omega)]
        rfl
      rw [e]
      cases hy : f (sp.toNat + i) with
      | none => exact ⟨rfl, trivial⟩
      | some y =>
        obtain ⟨C1, hC1, hca⟩ := hel i (by omega) y hy
        obtain ⟨cellV, g1, g2, g3⟩ := hC1.recv hR hK
        obtain ⟨kA, comp, r1, r2, r3, -⟩ := (hK.1.2 k1 _ hk1).2
        cases hkl1.symm.trans r1
        cases hkk1.symm.trans r2
        have hasg : s.vm.assignable cellV.cls cm1 = true := by
          rcases hca with q | q
          · exact vb_asgC (kk_C hK q) _ _ r3 g3
          · subst q; exact vb_asgS _ _ r3 g3
        obtain ⟨kC, hkC, -⟩ := Vm.findClass_spec g3
        obtain ⟨kE, hkE, -⟩ := Vm.findClass_spec r3
        obtain ⟨kC', hkC', -⟩ := hal.2.2 _ _ hkC
        obtain ⟨kE', hkE', -⟩ := hal.2.2 _ _ hkE
        refine ⟨rfl, cellV, (show T.heap[y]? = some cellV by rw [hT]; exact g1), (fun q h => by rw [h] at g2; cases g2), ⟨kC', hkC'⟩, ?_, ?_⟩
        · exact ⟨kE', hkE'⟩
        · show vm₁.assignable _ _ = true
          rw [hal.assignable]
          exact hasg)
    (g := F0 m pc ls (.int (iI n) :: .int (iI dp) :: .ref a :: .int (iI sp) :: .ref a0 :: rest)) rfl (by show ls.size = _; rw [hml, hml2]) (rest := rest) rfl (by rw [hb]; exact d) hlv.1 (by show 2 * 0 + _ + _ ≤ _; have := hlv.2; show 2 * 0 + (rest.map fun v => v.category).sum + (nativeFrameWords "java/lang/System" "arraycopy" 5 + 11) ≤ 100 * lv; omega)
  have e0 : ∀ (cd : Cell) (x y z : Int32), copied c0 cd x y z = copied (vp_cell (gA G k0) (n0, .inr (.inr (.inr (.inr f))))) cd x y z := fun cd x y z => by unfold copied Cell.stretch; rw [c0s]
  have e1 : copied c0 (vp_cell (gA G k1) (n1, .inr (.inr (.inr (.inr g))))) (iI sp) (iI dp) (iI n) = vp_cell (gA G k1) (n1, .inr (.inr (.inr (.inr (cpA f g sp.toNat dp.toNat n.toNat))))) := by
    rw [e0]
    unfold copied
    rw [s2, d2, m2, vp_cell_q, vp_cell_q, vp_cell_q]
    exact va_copied (fun z => va_rf z) (gA G k0) (gA G k1) f g (by omega)
  rw [e1] at X' step
  have hl : a < H.size := (Array.getElem?_eq_some_iff.mp hc1).1
  have hheap : ((T.setVm vm').setCell a (vp_cell (gA G k1) (n1, .inr (.inr (.inr (.inr (cpA f g sp.toNat dp.toNat n.toNat))))))).heap = H.setIfInBounds a (vp_cell (gA G k1) (n1, .inr (.inr (.inr (.inr (cpA f g sp.toNat dp.toNat n.toNat)))))) := by rw [← hT]; rfl
  have oq : ∀ q : Nat, q ≠ a → (H.setIfInBounds a (vp_cell (gA G k1) (n1, .inr (.inr (.inr (.inr (cpA f g sp.toNat dp.toNat n.toNat)))))))[q]? = H[q]? := fun q hq => by simp [Array.getElem?_setIfInBounds, Ne.symm hq]
  obtain ⟨t, a1, b1⟩ := kk _ rfl _ _ (hR.put hw hr (by simp) oq (e1 := rE G k1 n1 (cpA f g sp.toNat dp.toNat n.toNat)) (show (H.setIfInBounds a _)[a]? = some _ by simp [Array.getElem?_setIfInBounds, hl])) (fun q hq => by
      rcases List.mem_append.mp hq with h | h
      · exact hL q h
      · obtain ⟨z, -, hz⟩ := List.mem_map.mp h
        rw [← hz]
        exact hR.ge hw hr) _ hheap X'
  exact ⟨t, step t a1, b1⟩
/-- bytes are copied -/
theorem h_copyB (X : HX G p s m args c cc nL own) (hR : Rp G w H) (hL : LK G locs) (hml : ls.size = nL) {index n0 n1 a0 r0 : Nat} {f g : Nat → Int} (hw0 : w a0 = some (r0, iE G 1 n0 f)) (hw : w a = some (r, iE G 1 n1 g)) (hr : r ≠ 0) (hlink : Cond.methodLink own index arraycopyName ∈ lw_all) (hac : ∀ x ∈ acW, x ∈ lw_all) {sp dp n : Int} (b1 : 0 ≤ sp ∧ 0 ≤ dp ∧ 0 ≤ n) (b2 : sp + n ≤ n0) (b3 : dp + n ≤ n1) (b4 : n0 < 2147483648 ∧ n1 < 2147483648)
    (hel : ∀ i : Nat, (i : Int) < n → -128 ≤ f (sp.toNat + i) ∧ f (sp.toNat + i) < 128) (hlv : 1 ≤ lv ∧ (rest.map fun v => v.category).sum + (nativeFrameWords "java/lang/System" "arraycopy" 5 + 11) ≤ 100 * lv) (d : decode cc pc = .ok (.invokestatic index, 3))
    (kk : ∀ (w1 : Wd), w1 = wset w a (r, iE G 1 n1 (cpA f g sp.toNat dp.toNat n.toNat)) → ∀ (H1 : Heap) (locs1 : List Loc), Rp G w1 H1 → LK G locs1 → W p l e (rmk lv mc ms) s m args below meth c H1 locs1 cells slots Q (F0 m (pc + 3) ls rest)) : W p l e (rmk lv mc ms) s m args below meth c H locs cells slots Q (F0 m pc ls (.int (iI n) :: .int (iI dp) :: .ref a :: .int (iI sp) :: .ref a0 :: rest)) := by
  obtain ⟨s1, s2, s3⟩ := nnI (z := sp) ⟨by omega, by omega⟩
  obtain ⟨d1, d2, d3⟩ := nnI (z := dp) ⟨by omega, by omega⟩
  obtain ⟨m1, m2, m3⟩ := nnI (z := n) ⟨by omega, by omega⟩
  obtain ⟨c0, hc0, c0c, c0s, c0v, -⟩ := hR.ar hw0
  have hc1 : H[a]? = some (vp_cell (gA G 1) (n1, .inl (fun j => iI (g j)))) := hR.ex hw hr
  obtain ⟨⟨hx, hb, hml2, hown, hts⟩, hK⟩ := X
  obtain ⟨-, kl0, hkl0, cm0, hkk0⟩ := (hK.1.2 1 _ rfl).1 n0 (fun j => .int (iI (f j)))
  intro T hT X
  obtain ⟨vm', X', step⟩ := X.arraycopy hx hown (hts _ hlink) (hts _ (hac _ (by simp [acW]))) (hts _ (hac _ (by simp [acW]))) (hts _ (hac _ (by simp [acW]))) (src := a0) (dst := a) (cs := c0) (cd := vp_cell (gA G 1) (n1, .inl (fun j => iI (g j)))) (srcPos := iI sp) (destPos := iI dp) (n := iI n) (by rw [hT]; exact hc0) (by rw [hT]; exact hc1)
    (fun _ h => by have h_ := c0v.2; rw [h] at h_; cases h_) (fun _ h => by cases h) c0v.1 (fun h => by cases h) (by rw [c0c]; exact hkl0) hkl0 hkk0 hkk0 rfl s1 d1 m1
    (by rw [s3, m3, c0s]; show ¬ _ > ((arrV _ n0 (fun j => .int (iI (f j)))).slots.size : Int); rw [arrV_size]; omega)
    (by rw [d3, m3]; show ¬ _ > ((arrV _ n1 (fun j => .int (iI (g j)))).slots.size : Int); rw [arrV_size]; omega)
    (fun vm₁ _ i hi => by
      rw [m2] at hi
      have e : c0.slots.getD ((iI sp).toNatClampNeg + i) .null = .int (iI (f (sp.toNat + i))) := by
        rw [s2, c0s]
        show (arrV _ n0 (fun j => .int (iI (f j)))).slots.getD _ _ = _
        rw [Array.getD_eq_getD_getElem?, arrV_read _ _ (by omega)]
        rfl
      rw [e]
      have hb8 := hel i (by omega)
      refine ⟨?_, trivial⟩
      show (decide (iI (-128) ≤ iI (f (sp.toNat + i))) && decide (iI (f (sp.toNat + i)) ≤ iI 127)) = true
      rw [Bool.and_eq_true, decide_eq_true_iff, decide_eq_true_iff, iI_le ⟨by decide, by decide⟩ ⟨by omega, by omega⟩, iI_le ⟨by omega, by omega⟩ ⟨by decide, by decide⟩]
      omega)
    (g := F0 m pc ls (.int (iI n) :: .int (iI dp) :: .ref a :: .int (iI sp) :: .ref a0 :: rest)) rfl (by show ls.size = _; rw [hml, hml2]) (rest := rest) rfl (by rw [hb]; exact d) hlv.1 (by show 2 * 0 + _ + _ ≤ _; have := hlv.2; show 2 * 0 + (rest.map fun v => v.category).sum + (nativeFrameWords "java/lang/System" "arraycopy" 5 + 11) ≤ 100 * lv; omega)
  have e0 : ∀ (cd : Cell) (x y z : Int32), copied c0 cd x y z = copied (vp_cell (gA G 1) (n0, .inl (fun j => iI (f j)))) cd x y z := fun cd x y z => by unfold copied Cell.stretch; rw [c0s]
  have e1 : copied c0 (vp_cell (gA G 1) (n1, .inl (fun j => iI (g j)))) (iI sp) (iI dp) (iI n) = vp_cell (gA G 1) (n1, .inl (fun j => iI (cpA f g sp.toNat dp.toNat n.toNat j))) := by
    rw [e0]
    unfold copied
    rw [s2, d2, m2]
    exact va_copied (fun z => .int (iI z)) (gA G 1) (gA G 1) f g (by omega)
  rw [e1] at X' step
  have hl : a < H.size := (Array.getElem?_eq_some_iff.mp hc1).1
  have hheap : ((T.setVm vm').setCell a (vp_cell (gA G 1) (n1, .inl (fun j => iI (cpA f g sp.toNat dp.toNat n.toNat j))))).heap = H.setIfInBounds a (vp_cell (gA G 1) (n1, .inl (fun j => iI (cpA f g sp.toNat dp.toNat n.toNat j)))) := by rw [← hT]; rfl
  have oq : ∀ q : Nat, q ≠ a → (H.setIfInBounds a (vp_cell (gA G 1) (n1, .inl (fun j => iI (cpA f g sp.toNat dp.toNat n.toNat j)))))[q]? = H[q]? := fun q hq => by simp [Array.getElem?_setIfInBounds, Ne.symm hq]
  obtain ⟨t, a1, b1⟩ := kk _ rfl _ _ (hR.put hw hr (by simp) oq (e1 := iE G 1 n1 (cpA f g sp.toNat dp.toNat n.toNat)) (show (H.setIfInBounds a _)[a]? = some _ by simp [Array.getElem?_setIfInBounds, hl])) (fun q hq => by
      rcases List.mem_append.mp hq with h | h
      · exact hL q h
      · obtain ⟨z, -, hz⟩ := List.mem_map.mp h
        rw [← hz]
        exact hR.ge hw hr) _ hheap X'
  exact ⟨t, step t a1, b1⟩
theorem h_castS (X : HX G p s m args c cc nL own) (hR : Rp G w H) {C : String} {index : Nat} (hC : hasC w a C) (hcl : Cond.classLink own index C ∈ lw_all) (d : decode cc pc = .ok (.checkcast index, 3))
    (k : W p l e (rmk lv mc ms) s m args below meth c H locs cells slots Q (F0 m (pc + 3) ls (.ref a :: rest))) (hs : nspc C = true := by decide) : W p l e (rmk lv mc ms) s m args below meth c H locs cells slots Q (F0 m pc ls (.ref a :: rest)) := by
  obtain ⟨cC, hat⟩ := hC.at hR X.2 hs
  exact va_castS X.1.1 X.1.2.1 X.1.2.2.2.1 (X.1.2.2.2.2 _ hcl) hat (hC.recv hR X.2) d k
theorem h_castY (X : HX G p s m args c cc nL own) (hR : Rp G w H) {C E : String} {index : Nat} (hC : hasC w a C) (hca : Cond.castable C E ∈ lw_tbl) (hcl : Cond.classLink own index E ∈ lw_all) (d : decode cc pc = .ok (.checkcast index, 3))
    (k : W p l e (rmk lv mc ms) s m args below meth c H locs cells slots Q (F0 m (pc + 3) ls (.ref a :: rest))) : W p l e (rmk lv mc ms) s m args below meth c H locs cells slots Q (F0 m pc ls (.ref a :: rest)) :=
  va_castY X.1.1 X.1.2.1 X.1.2.2.2.1 (X.1.2.2.2.2 _ hcl) (kk_C X.2 hca) (hC.recv hR X.2) d k
theorem h_instS (X : HX G p s m args c cc nL own) (hR : Rp G w H) {C : String} {index : Nat} (hC : hasC w a C) (hcl : Cond.classLink own index C ∈ lw_all) (d : decode cc pc = .ok (.instanceof index, 3))
    (k : W p l e (rmk lv mc ms) s m args below meth c H locs cells slots Q (F0 m (pc + 3) ls (.int (iI 1) :: rest))) (hs : nspc C = true := by decide) : W p l e (rmk lv mc ms) s m args below meth c H locs cells slots Q (F0 m pc ls (.ref a :: rest)) := by
  obtain ⟨cC, hat⟩ := hC.at hR X.2 hs
  exact va_instS X.1.1 X.1.2.1 X.1.2.2.2.1 (X.1.2.2.2.2 _ hcl) hat (hC.recv hR X.2) d k
theorem h_instY (X : HX G p s m args c cc nL own) (hR : Rp G w H) {C E : String} {index : Nat} (hC : hasC w a C) (hca : Cond.castable C E ∈ lw_tbl) (hcl : Cond.classLink own index E ∈ lw_all) (d : decode cc pc = .ok (.instanceof index, 3))
    (k : W p l e (rmk lv mc ms) s m args below meth c H locs cells slots Q (F0 m (pc + 3) ls (.int (iI 1) :: rest))) : W p l e (rmk lv mc ms) s m args below meth c H locs cells slots Q (F0 m pc ls (.ref a :: rest)) :=
  va_instY X.1.1 X.1.2.1 X.1.2.2.2.1 (X.1.2.2.2.2 _ hcl) (kk_C X.2 hca) (hC.recv hR X.2) d k
theorem h_instNo (X : HX G p s m args c cc nL own) (hR : Rp G w H) {C E : String} {index : Nat} (hC : hasC w a C) (path : List Bool) (hp : nwAt path narrow_1 = some (.not (.castable C E))) (hcl : Cond.classLink own index E ∈ lw_all) (d : decode cc pc = .ok (.instanceof index, 3))
    (k : W p l e (rmk lv mc ms) s m args below meth c H locs cells slots Q (F0 m (pc + 3) ls (.int (iI 0) :: rest))) : W p l e (rmk lv mc ms) s m args below meth c H locs cells slots Q (F0 m pc ls (.ref a :: rest)) :=
  va_instNo X.1.1 X.1.2.1 X.1.2.2.2.1 (X.1.2.2.2.2 _ hcl) (kk_N X.2 path hp) (hC.recv hR X.2) d k
end HWR
