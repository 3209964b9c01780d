/-! HW: statics; Strings -/
set_option maxRecDepth 100000
section HWS
variable {G : Gl} {p : Program} {l : Launch} {e : Env} {s : State} {m : MethodId} {args : Array Value} {below : List Frame} {meth : Method} {c : Code} {H : Heap} {locs : List Loc} {cells slots : Nat} {Q : State → Prop}
variable {cc : ByteArray} {own : String} {nL lv mc ms : Nat} {pc : Nat} {ls : Array Slot} {rest : List Value} {w : Wd} {a r : Nat}
theorem kk_Z (hK : KK G s) (hR : Rp G w H) {C n d : String} {v : Value} (hv : ∀ b0 : Nat, (Jvm.Cond.and given_1 narrow_1).before #[Value.ref b0] (gS G) = true → (Term.static C n d).eval #[Value.ref b0] (gS G) none [] (gS G) = some v) (h1 : Cond.laysStatic C n d ∈ lw_tbl) (h2 : Cond.initialized C ∈ lw_tbl) : va_Z C n d v (frG G) s H := by
  obtain ⟨b0, hb0, hn0⟩ := hK.2.2.1
  have hZ0 : va_Z C n d v (frG G) (gS G) (gH G) := va_Zof (hb0 _ h1) (hb0 _ h2) (hv b0 hn0) (fun a ha => Nat.not_le_of_lt ha)
  exact (va_Z.moved hK.2.1.alike hZ0).kept (fun a h3 h4 => hR.2.1 a (by have : ¬ gB G ≤ a := h4; omega))
theorem h_getsZ (X : HX G p s m args c cc nL own) {C n d ref : String} {v : Value} {index : Nat} (hZ : va_Z C n d v (frG G) s H) (hlink : Cond.fieldLink own index ref n d ∈ lw_all) (hsame : ∀ x, s.fieldFound? C n d = some x → s.fieldFound? ref n d = some x) (dg : decode cc pc = .ok (.getstatic index, 3))
    (kk : W p l e (rmk lv mc ms) s m args below meth c H locs cells slots Q (F0 m (pc + 3) ls (v :: rest))) : W p l e (rmk lv mc ms) s m args below meth c H locs cells slots Q (F0 m pc ls rest) := by
  obtain ⟨cf, kf, fi, f, a, cell, g1, g2, g3, g4, g5, g6, g7, g8⟩ := hZ
  exact W.gets X.1.1 X.1.2.1 X.1.2.2.2.1 (X.1.2.2.2.2 _ hlink) (hsame _ g1) g2 g3 g4 g5 (fun e => by rw [e] at g6; cases g6) g7 rfl dg kk
/-- a static number -/
theorem h_getsI (X : HX G p s m args c cc nL own) (hR : Rp G w H) {C n d : String} {z32 : Int32} {index : Nat} (path : List Bool) (z : Int) (hp : nwAt path narrow_1 = some (.eq (.static C n d) (.int z32))) (hz : z32 = iI z) (h1 : Cond.laysStatic C n d ∈ lw_tbl) (h2 : Cond.initialized C ∈ lw_all) (hlink : Cond.fieldLink own index C n d ∈ lw_all) (dg : decode cc pc = .ok (.getstatic index, 3))
    (kk : W p l e (rmk lv mc ms) s m args below meth c H locs cells slots Q (F0 m (pc + 3) ls (.int (iI z) :: rest))) : W p l e (rmk lv mc ms) s m args below meth c H locs cells slots Q (F0 m pc ls rest) := by
  subst hz
  refine h_getsZ X (kk_Z X.2 hR (fun b0 hn => va_eqi (nwAt_ok path _ _ hp ?_)) h1 (lw_all_tbl h2)) hlink (fun _ h => h) dg kk
  rw [Cond.before_and, Bool.and_eq_true] at hn; exact hn.2
/-- a static object -/
theorem h_getsR (X : HX G p s m args c cc nL own) (hR : Rp G w H) {C n d : String} {index : Nat} (k : Nat) (hq : (k, C, n, d) ∈ kkSt) (h1 : Cond.laysStatic C n d ∈ lw_tbl) (h2 : Cond.initialized C ∈ lw_all) (hlink : Cond.fieldLink own index C n d ∈ lw_all) (dg : decode cc pc = .ok (.getstatic index, 3))
    (kk : W p l e (rmk lv mc ms) s m args below meth c H locs cells slots Q (F0 m (pc + 3) ls (.ref (gC G k) :: rest))) : W p l e (rmk lv mc ms) s m args below meth c H locs cells slots Q (F0 m pc ls rest) :=
  h_getsZ X (kk_Z X.2 hR (fun b0 hn => X.2.2.2.2.2.1 (k, C, n, d) hq) h1 (lw_all_tbl h2)) hlink (fun _ h => h) dg kk
/-- a static of which nothing is known -/
theorem h_getsQ (X : HX G p s m args c cc nL own) (hR : Rp G w H) {C n d : String} {index : Nat} (path : List Bool) (hp : nwAt path narrow_1 = some (.isRef (.static C n d))) (h1 : Cond.laysStatic C n d ∈ lw_tbl) (h2 : Cond.initialized C ∈ lw_all) (hlink : Cond.fieldLink own index C n d ∈ lw_all) (dg : decode cc pc = .ok (.getstatic index, 3))
    (kk : ∀ x : Option Nat, W p l e (rmk lv mc ms) s m args below meth c H locs cells slots Q (F0 m (pc + 3) ls (va_rf x :: rest))) : W p l e (rmk lv mc ms) s m args below meth c H locs cells slots Q (F0 m pc ls rest) := by
  obtain ⟨b0, hb0, hn0⟩ := X.2.2.2.1
  rw [Cond.before_and, Bool.and_eq_true] at hn0
  have hZ0 : va_Zq C n d (frG G) (gS G) (gH G) := va_Zqof (hb0 _ h1) (hb0 _ (lw_all_tbl h2)) (nwAt_ok path _ _ hp hn0.2) (fun a ha => Nat.not_le_of_lt ha)
  have hZ := (va_Zq.moved X.2.2.1.alike hZ0).kept (H1 := H) (fun a h3 h4 => hR.2.1 a (by have : ¬ gB G ≤ a := h4; omega))
  rcases hZ with hZ | ⟨t, hZ⟩
  · exact h_getsZ X hZ hlink (fun _ h => h) dg (kk none)
  · exact h_getsZ X hZ hlink (fun _ h => h) dg (kk (some t))
theorem h_strV (X : HX G p s m args c cc nL own) (hR : Rp G w H) {va : Nat} {hv : Int32} (hw : w a = some (r, sE va hv)) {index : Nat} (hl : Cond.fieldLink own index (TJ10 0).1 (TJ10 0).2.1 (TJ10 0).2.2.1 ∈ lw_all) (d : decode cc pc = .ok (.getfield index, 3))
    (kk : W p l e (rmk lv mc ms) s m args below meth c H locs cells slots Q (F0 m (pc + 3) ls (.ref va :: rest))) : W p l e (rmk lv mc ms) s m args below meth c H locs cells slots Q (F0 m pc ls (.ref a :: rest)) := by
  obtain ⟨h0, z0, h1, -⟩ := (hR.at hw).1
  exact h_getW X h1 (show HCl[19]? = some (RJ10, TJ10, 4) from rfl) in_J10 0 (by decide) (X.1.2.2.2.2 _ hl) (fun _ h => h) rfl d kk
theorem h_strC (X : HX G p s m args c cc nL own) (hR : Rp G w H) {va : Nat} {hv : Int32} (hw : w a = some (r, sE va hv)) {index : Nat} (hl : Cond.fieldLink own index (TJ10 1).1 (TJ10 1).2.1 (TJ10 1).2.2.1 ∈ lw_all) (d : decode cc pc = .ok (.getfield index, 3))
    (kk : W p l e (rmk lv mc ms) s m args below meth c H locs cells slots Q (F0 m (pc + 3) ls (.int (iI 0) :: rest))) : W p l e (rmk lv mc ms) s m args below meth c H locs cells slots Q (F0 m pc ls (.ref a :: rest)) := by
  obtain ⟨h0, z0, h1, -⟩ := (hR.at hw).1
  exact h_getW X h1 (show HCl[19]? = some (RJ10, TJ10, 4) from rfl) in_J10 1 (by decide) (X.1.2.2.2.2 _ hl) (fun _ h => h) rfl d kk
/-- a String constant -/
theorem kk_R (hK : KK G s) (k : Nat) {C t : String} {i : Nat} {L : List Int} (hk : kkStr[k]? = some (C, i, t, L)) (hl : Cond.stringRef C i t ∈ lw_tbl) : vk_R C i t (gC G k) s := by
  obtain ⟨b0, hb0, -⟩ := hK.2.2.1
  exact vk_R.warm hK.2.1 (vk_R.of (A := #[Value.ref b0]) (hb0 _ hl) (hK.2.2.2.1 k _ hk))
theorem h_ldcS (X : HX G p s m args c cc nL own) (k : Nat) {t : String} {i : Nat} {L : List Int} (hk : kkStr[k]? = some (own, i, t, L)) (hl : Cond.stringRef own i t ∈ lw_tbl) (d : decode cc pc = .ok (.ldc i, 2))
    (kk : W p l e (rmk lv mc ms) s m args below meth c H locs cells slots Q (F0 m (pc + 2) ls (.ref (gC G k) :: rest))) : W p l e (rmk lv mc ms) s m args below meth c H locs cells slots Q (F0 m pc ls rest) :=
  va_ldcS X.1.1 X.1.2.1 X.1.2.2.2.1 (kk_R X.2 k hk hl) d kk
theorem ldcw_str {R : Room} {T : State} (X : Stand p l e R s m args below meth c T locs cells slots) (hexec : p.tables.exec = Jvm.exec) {own text : String} {index : Nat} {q : Nat} (hown : s.vm.findClass own = some m.cls)
    (hconst : (Cond.stringRef own index text).before args s = true) (hev : (Term.string own index).eval args s none [] s = some (.ref q)) {g : JFrame} (hg : g.method = m) (hdg : decode c.code g.pc = .ok (.ldc_w index, 3)) :
    ∀ target, Steps p.tables e below (T.setTop { g with pc := g.pc + 3, stack := .ref q :: g.stack }) target → Steps p.tables e below (T.setTop g) target := by
  obtain ⟨k, cf, i, q', hk, hcf, hcp, -, hr, hev'⟩ := Cond.stringRef_spec hown hconst
  cases hev.symm.trans hev'
  obtain ⟨k', hk', he⟩ := X.warmed.alike.2.2 _ _ hk
  have hr' : k'.resolved[index]? = some (some (.string q)) := by
    rcases X.warmed.entry hk hk' index with h | ⟨h, -⟩
    · rw [h]; exact hr
    · rw [hr] at h; cases h
  intro target hrest
  subst hg
  jvm_step X.here [hexec, hdg, ldc_w.wp_string (e := e) (s := T) (f := g) X.here.top hk' (by rw [he]; exact hcf) hcp hr']
  exact hrest
theorem h_ldcSw (X : HX G p s m args c cc nL own) (k : Nat) {t : String} {i : Nat} {L : List Int} (hk : kkStr[k]? = some (own, i, t, L)) (hl : Cond.stringRef own i t ∈ lw_tbl) (d : decode cc pc = .ok (.ldc_w i, 3))
    (kk : W p l e (rmk lv mc ms) s m args below meth c H locs cells slots Q (F0 m (pc + 3) ls (.ref (gC G k) :: rest))) : W p l e (rmk lv mc ms) s m args below meth c H locs cells slots Q (F0 m pc ls rest) := by
  have hZ := kk_R X.2 k hk hl
  obtain ⟨⟨hx, hb, -, hown, -⟩, -⟩ := X
  intro T hT X
  obtain ⟨t2, a1, b1⟩ := kk T hT X
  exact ⟨t2, ldcw_str X hx hown (text := t) (q := gC G k) hZ.1 hZ.2 (g := F0 m pc ls rest) rfl (by rw [hb]; exact d) t2 a1, b1⟩
end HWS
/-- a String that holds L -/
def StrAt (G : Gl) (w : Wd) (sa : Nat) (L : List Int) : Prop := ∃ va : Nat, w sa = some (0, sE va (iI (sH L))) ∧ w va = some (0, iE G 1 L.length (fun j => L.getD j 0)) ∧ L.length < 1000000 ∧ ∀ x ∈ L, 0 ≤ x ∧ x < 128
theorem StrAt.mv {G : Gl} {w w1 : Wd} {sa : Nat} {L : List Int} {S : Nat → Prop} (h : StrAt G w sa L) (hF : Fr S w w1) (h0 : ¬ S 0) : StrAt G w1 sa L := by
  obtain ⟨va, h1, h2, h3⟩ := h
  exact ⟨va, hF _ _ _ h1 h0, hF _ _ _ h2 h0, h3⟩
theorem StrAt.c {G : Gl} {w : Wd} {sa : Nat} {L : List Int} (h : StrAt G w sa L) : hasC w sa "java/lang/String" := by
  obtain ⟨va, h1, -⟩ := h
  exact hasC.of h1 rfl
theorem StrAt.at {G : Gl} {w : Wd} {sa : Nat} {L : List Int} (h : StrAt G w sa L) {j : Nat} (hj : j < L.length) : 0 ≤ L.getD j 0 ∧ L.getD j 0 < 128 := by
  obtain ⟨va, -, -, -, h4⟩ := h
  rw [show L.getD j 0 = L[j] by simp [hj]]
  exact h4 _ (List.getElem_mem hj)
theorem StrAt.con {G : Gl} {w : Wd} {H : Heap} {s : State} (hR : Rp G w H) (hK : KK G s) (k : Nat) (hk : k < 36) (h1 : (kkTx k).length < 1000000) (h2 : ∀ x ∈ kkTx k, 0 ≤ x ∧ x < 128) : StrAt G w (gC G k) (kkTx k) := by
  have a := hK.2.2.2.2.2 k (by omega)
  have b := hK.2.2.2.2.2 (36 + k) (by omega)
  refine ⟨gC G (36 + k), hR.con (a.trans ?_), hR.con (b.trans ?_), h1, h2⟩
  · unfold kVal; rw [if_pos hk]
  · unfold kVal; rw [if_neg (by omega), if_pos (by omega), show 36 + k - 36 = k by omega]
