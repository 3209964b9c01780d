/-! HW: a String's hidden hash -/
set_option maxRecDepth 100000
/-- a cell is written, the world's account of it stays true -/
theorem Rp.same {G : Gl} {w : Wd} {H H1 : Heap} {a r : Nat} {e : Ent} (h : Rp G w H) (ha : w a = some (r, e)) (hge : gB G ≤ a) (hz : H1.size = H.size) (oq : ∀ q : Nat, q ≠ a → H1[q]? = H[q]?) (he : entO G a e H1) : Rp G w H1 := by
  refine ⟨by rw [hz]; exact h.1, fun q hq => ?_, fun b rb eb hb => ?_, fun b x hb => h.2.2.2 b x hb⟩
  · rw [oq q (by omega)]; exact h.2.1 q hq
  · by_cases hab : b = a
    · subst hab
      rw [ha] at hb
      cases hb
      exact ⟨he.at, fun _ => hge⟩
    · exact ⟨(h.at hb).kept (oq b hab), (h.2.2.1 b rb eb hb).2⟩
def StrHZ (G : Gl) (a : Nat) (hv : Int32) (h z : Int) : Prop := (iI h = hv ∧ (hv = 0 → z = 1)) ∨ (h = 0 ∧ z = 0 ∧ gB G ≤ a)
section HWC2
variable {G : Gl} {p : Program} {l : Launch} {e : Env} {s : State} {m : MethodId} {args : Array Value} {below : List Frame} {meth : Method} {c : Code} {H : Heap} {locs : List Loc} {cells slots : Nat} {Q : State → Prop}
variable {cc : ByteArray} {own : String} {nL lv mc ms : Nat} {pc : Nat} {ls : Array Slot} {rest : List Value} {w : Wd} {a r : Nat}
theorem h_strH (X : HX G p s m args c cc nL own) (hR : Rp G w H) {va : Nat} {hv : Int32} (hw : w a = some (r, sE va hv)) {index : Nat} (hl : Cond.fieldLink own index (TJ10 2).1 (TJ10 2).2.1 (TJ10 2).2.2.1 ∈ lw_all) (d : decode cc pc = .ok (.getfield index, 3))
    (kk : ∀ h z : Int, R32 h → R32 z → obW G a 19 [.ref va, .int 0, .int (iI h), .int (iI z)] H → StrHZ G a hv h z → W p l e (rmk lv mc ms) s m args below meth c H locs cells slots Q (F0 m (pc + 3) ls (.int (iI h) :: rest))) : W p l e (rmk lv mc ms) s m args below meth c H locs cells slots Q (F0 m pc ls (.ref a :: rest)) := by
  obtain ⟨h0, z0, h1, h2⟩ := (hR.at hw).1
  obtain ⟨h, hh, rfl⟩ := iI_of h0
  obtain ⟨z, hz, rfl⟩ := iI_of z0
  refine h_getW X h1 (show HCl[19]? = some (RJ10, TJ10, 4) from rfl) in_J10 2 (by decide) (X.1.2.2.2.2 _ hl) (fun _ h => h) rfl d (kk h z hh hz h1 ?_)
  rcases h2 with ⟨q1, q2⟩ | ⟨q1, q2, q3⟩
  · exact Or.inl ⟨q1, fun q => (iI_eq hz ⟨by decide, by decide⟩).mp (q2 q)⟩
  · exact Or.inr ⟨(iI_eq hh ⟨by decide, by decide⟩).mp q1, (iI_eq hz ⟨by decide, by decide⟩).mp q2, q3⟩
theorem h_strZ (X : HX G p s m args c cc nL own) {va : Nat} {h z : Int} (hat : obW G a 19 [.ref va, .int 0, .int (iI h), .int (iI z)] H) {index : Nat} (hl : Cond.fieldLink own index (TJ10 3).1 (TJ10 3).2.1 (TJ10 3).2.2.1 ∈ lw_all) (d : decode cc pc = .ok (.getfield index, 3))
    (kk : W p l e (rmk lv mc ms) s m args below meth c H locs cells slots Q (F0 m (pc + 3) ls (.int (iI z) :: rest))) : W p l e (rmk lv mc ms) s m args below meth c H locs cells slots Q (F0 m pc ls (.ref a :: rest)) :=
  h_getW X hat (show HCl[19]? = some (RJ10, TJ10, 4) from rfl) in_J10 3 (by decide) (X.1.2.2.2.2 _ hl) (fun _ h => h) rfl d kk
/-- the hash, or the note that it is 0, is written -/
theorem h_strPut (X : HX G p s m args c cc nL own) (hR : Rp G w H) (hL : LK G locs) {va : Nat} {hv : Int32} (hw : w a = some (r, sE va hv)) (hge : gB G ≤ a) (k : Nat) (hk : k < 4) {index : Nat} (hl : Cond.fieldLink own index (TJ10 k).1 (TJ10 k).2.1 (TJ10 k).2.2.1 ∈ lw_all) (hfin : (TJ10 k).2.2.2 = false) {v : Value} (hn : narrow (tyJ10 k) v = v) (hfit : fits (tyJ10 k) v = true) (hok : (k = 2 ∧ v = .int hv ∧ hv ≠ 0) ∨ (k = 3 ∧ v = .int 1 ∧ hv = 0)) (d : decode cc pc = .ok (.putfield index, 3))
    (kk : ∀ (H1 : Heap) (locs1 : List Loc), Rp G w H1 → LK G locs1 → W p l e (rmk lv mc ms) s m args below meth c H1 locs1 cells slots Q (F0 m (pc + 3) ls rest)) : W p l e (rmk lv mc ms) s m args below meth c H locs cells slots Q (F0 m pc ls (v :: .ref a :: rest)) := by
  obtain ⟨⟨hx, hb, -, hown, hts⟩, hK, -⟩ := X
  have hc : HCl[19]? = some (RJ10, TJ10, 4) := rfl
  have hap := hv_apart hts in_J10 tyJ10 tyJ10_ok nmJ10 hK hc
  obtain ⟨h0, z0, ⟨r', h1, cell, q1, q2, q3, q4⟩, h2⟩ := (hR.at hw).2 hge
  have hr' : r' = (RJ10, TJ10, 4) := Option.some.inj (h1.symm.trans hc)
  subst hr'
  obtain ⟨hS, hfc, kC, hkC, hkind⟩ := hK.1 19 _ hc rfl
  obtain ⟨cf, kf, fi, f, hi, hsl⟩ := hS k hk
  have hlay := hts _ (in_J10 _ (u_in_lay hk))
  unfold u_lay at hlay
  rw [if_neg (by rw [hfin]; decide)] at hlay
  have hst := (u_facts hfc hkC (u_lays hts in_J10 hk) hi).1
  have h6 := u_store hfc hkC hkind hlay hi (tyJ10_ok k hk) hn hfit
  refine W.putK hx hb (f := f) ⟨hown, hts _ hl, ⟨_, _, _, hi⟩, hst⟩ (by rw [q2]; exact h6) q1 q3 (by rw [hsl]; exact k2_hasslot (q4 k hk)) rfl rfl d fun H' e1 e2 e3 => ?_
  rw [hsl] at e1 ⊢
  have hob : va_at (gD G) HCl (a, .inr (19, ([.ref va, .int 0, .int h0, .int z0] : List Value).set k v)) H' := ⟨_, hc, t_OB.to (V := updV (vp_V [.ref va, .int 0, .int h0, .int z0]) k v) ⟨_, e1, q2, q3, t_set q4 hap hk v⟩ (fun j _ => vp_updV_set (show k < 4 from hk) v j)⟩
  refine kk H' _ (hR.same hw hge e2 e3 ?_) (hL.add hge)
  rcases hok with ⟨rfl, rfl, hne⟩ | ⟨rfl, rfl, hne⟩
  · exact ⟨hv, z0, hob, Or.inl ⟨rfl, fun q => absurd q hne⟩⟩
  · refine ⟨h0, 1, hob, Or.inl ⟨?_, fun _ => rfl⟩⟩
    rcases h2 with q | q
    · exact q.1
    · exact q.1.trans hne.symm
theorem arr_nmI (hK : KK G s) {k : Nat} {ty : FieldType} {nm : String} (hk : (gTys G)[k]? = some (gA G k, ty)) (hp : ∀ C, ty ≠ .object C) (e : "[" ++ ty.toString = nm) : s.vm.findClass nm = some (gA G k) := by rw [← e]; exact kk_arr hK hk hp
theorem h_castA (X : HX G p s m args c cc nL own) (hR : Rp G w H) {k : Nat} {x : vp_A} {nm : String} {index : Nat} (hw : w a = some (r, .inl (.inl (gA G k, x)))) (hnm : s.vm.findClass nm = some (gA G k)) (hcl : Cond.classLink own index nm ∈ lw_all) (d : decode cc pc = .ok (.checkcast index, 3))
    (kk : W p l e (rmk lv mc ms) s m args below meth c H locs cells slots Q (F0 m (pc + 3) ls (.ref a :: rest))) : W p l e (rmk lv mc ms) s m args below meth c H locs cells slots Q (F0 m pc ls (.ref a :: rest)) := by
  obtain ⟨cell, g1, g2, g3, g4, g5⟩ := hR.ar hw
  obtain ⟨⟨hx, hb, -, hown, hts⟩, hK⟩ := X
  intro T hT X
  obtain ⟨vm', X', st⟩ := X.checkcastYes hx hown (hts _ hcl) (by rw [hT]; exact g1) g4.2 hnm (by rw [g2]; exact va_asg _ _) (g := F0 m pc ls (.ref a :: rest)) rfl rfl (by rw [hb]; exact d)
  obtain ⟨t, a1, b1⟩ := kk (T.setVm vm') hT X'
  exact ⟨t, st t a1, b1⟩
end HWC2
/-- the hash as a number -/
def hN (L : List Int) : Int := (iI (sH L)).toInt
theorem hN_r (L : List Int) : R32 (hN L) := ⟨by have := Int32.le_toInt (iI (sH L)); unfold hN; omega, by have := Int32.toInt_lt (iI (sH L)); unfold hN; omega⟩
theorem hN_i (L : List Int) : iI (hN L) = iI (sH L) := iI_toInt _
def sHA (h : Int) : List Int → Int
  | [] => h
  | c :: r => sHA (31 * h + c) r
theorem sH_A (L : List Int) : ∀ h : Int, L.foldl (fun h c => 31 * h + c) h = sHA h L := by
  induction L with
  | nil => intro h; rfl
  | cons c r ih => intro h; exact ih _
theorem sH_take (L : List Int) (k : Nat) (hk : k < L.length) : sH (L.take (k + 1)) = 31 * sH (L.take k) + L.getD k 0 := by
  unfold sH
  rw [List.take_succ, List.foldl_append]
  simp [hk]
