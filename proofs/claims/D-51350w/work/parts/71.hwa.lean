/-! HW: what a method leaves of the world -/
set_option maxRecDepth 100000
/-- every region belongs to a thing that is there -/
def RegW (w : Wd) : Prop := ∀ (a r : Nat) (e : Ent), w a = some (r, e) → r ≠ 0 → w (r - 1) ≠ none
theorem RegW.set {w : Wd} {a r : Nat} {e : Ent} (h : RegW w) (ha : w a = some (r, e)) (e1 : Ent) : RegW (wset w a (r, e1)) := by
  intro b rb eb hb hr
  by_cases q : b = a
  · subst q; rw [wset_eq] at hb; cases hb
    by_cases q2 : r - 1 = b
    · rw [q2, wset_eq]; exact fun z => by cases z
    · rw [wset_ne _ q2]; exact h b r e ha hr
  · rw [wset_ne _ q] at hb
    by_cases q2 : rb - 1 = a
    · rw [q2, wset_eq]; exact fun z => by cases z
    · rw [wset_ne _ q2]; exact h b rb eb hb hr
theorem RegW.new {w : Wd} {a r : Nat} {e : Ent} (h : RegW w) (hr : r = 0 ∨ r = a + 1 ∨ w (r - 1) ≠ none) : RegW (wset w a (r, e)) := by
  intro b rb eb hb hr0
  by_cases q : b = a
  · subst q; rw [wset_eq] at hb; cases hb
    by_cases q2 : r - 1 = b
    · rw [q2, wset_eq]; exact fun z => by cases z
    · rw [wset_ne _ q2]
      rcases hr with hr | hr | hr
      · exact absurd hr hr0
      · omega
      · exact hr
  · rw [wset_ne _ q] at hb
    by_cases q2 : rb - 1 = a
    · rw [q2, wset_eq]; exact fun z => by cases z
    · rw [wset_ne _ q2]; exact h b rb eb hb hr0
theorem RegW.som {w : Wd} {a : Nat} {x : Nat × Ent} (h : w a = some x) : w (a + 1 - 1) ≠ none := by rw [Nat.add_sub_cancel, h]; exact fun z => by cases z
theorem RegW.ofs {w : Wd} {r a : Nat} {e : Ent} (hG : RegW w) (h : w a = some (r, e)) (hr : r ≠ 0) : w (r - 1) ≠ none := hG a r e h hr
/-- what was there keeps its region -/
def Rg (w w' : Wd) : Prop := ∀ (a r : Nat) (e : Ent), w a = some (r, e) → ∃ e', w' a = some (r, e')
theorem Rg.rf {w : Wd} : Rg w w := fun _ _ e h => ⟨e, h⟩
theorem Rg.trans {w w1 w2 : Wd} (h1 : Rg w w1) (h2 : Rg w1 w2) : Rg w w2 := fun a r e h => by
  obtain ⟨e', h3⟩ := h1 a r e h
  exact h2 a r e' h3
theorem Rg.set {w w' : Wd} {a r : Nat} {e : Ent} (h : Rg w w') (ha : w' a = some (r, e)) (e1 : Ent) : Rg w (wset w' a (r, e1)) := by
  intro b rb eb hb
  obtain ⟨e', he⟩ := h b rb eb hb
  by_cases q : b = a
  · subst q
    rw [ha] at he; cases he
    exact ⟨e1, wset_eq _ _ _⟩
  · exact ⟨e', by rw [wset_ne _ q]; exact he⟩
theorem Rg.tag {w w' : Wd} {a : Nat} (h : Rg w w') (ha : w a = none) (x : Nat × Ent) : Rg w (wset w' a x) := by
  intro b rb eb hb
  obtain ⟨e', he⟩ := h b rb eb hb
  exact ⟨e', by rw [wset_ne _ (w_neN hb ha)]; exact he⟩
/-- regions outside S stay as they are; what is there stays there, in its region; the regions are in order -/
def Up (S : Nat → Prop) (w w' : Wd) : Prop := Fr S w w' ∧ Ol w w' ∧ RegW w' ∧ Rg w w'
theorem Up.rf {S : Nat → Prop} {w : Wd} (h : RegW w) : Up S w w := ⟨Fr.rf, Ol.rf, h, Rg.rf⟩
theorem Up.set {S : Nat → Prop} {w w' : Wd} {a r : Nat} {e : Ent} (h : Up S w w') (ha : w' a = some (r, e)) (hr : S r ∨ r ≠ 0 ∧ w (r - 1) = none) (hG : RegW w) (e1 : Ent) : Up S w (wset w' a (r, e1)) := by
  refine ⟨?_, h.2.1.set _ _, h.2.2.1.set ha e1, h.2.2.2.set ha e1⟩
  intro b rb eb hb hs
  have h1 := h.1 b rb eb hb hs
  by_cases q : b = a
  · subst q
    rw [ha] at h1; cases h1
    rcases hr with hr | hr
    · exact absurd hr hs
    · exact absurd hr.2 (hG b r e hb hr.1)
  · rw [wset_ne _ q]; exact h1
theorem Up.new {S : Nat → Prop} {w w' : Wd} {a r : Nat} {e : Ent} (h : Up S w w') (ha : w' a = none) (hr : r = 0 ∨ r = a + 1 ∨ w' (r - 1) ≠ none) : Up S w (wset w' a (r, e)) := ⟨h.1.new ha _, h.2.1.set _ _, h.2.2.1.new hr, h.2.2.2.tag (h.2.1 _ ha) _⟩
theorem Up.tr {S S2 : Nat → Prop} {w w1 w2 : Wd} (h : Up S w w1) (h2 : Up S2 w1 w2) (hS : ∀ q, S2 q → S q ∨ q ≠ 0 ∧ w (q - 1) = none) (hG : RegW w) : Up S w w2 := by
  refine ⟨?_, h.2.1.trans h2.2.1, h2.2.2.1, h.2.2.2.trans h2.2.2.2⟩
  intro b rb eb hb hs
  refine h2.1 b rb eb (h.1 b rb eb hb hs) (fun q => ?_)
  rcases hS rb q with z | z
  · exact hs z
  · exact hG b rb eb hb z.1 z.2
theorem Up.mono {S T : Nat → Prop} {w w' : Wd} (h : Up S w w') (hST : ∀ r, S r → T r) : Up T w w' := ⟨h.1.mono hST, h.2⟩
/-- a cell of a new region is new -/
theorem Up.nw {S : Nat → Prop} {w w' : Wd} {a q : Nat} {e : Ent} (h : Up S w w') (hG : RegW w) (ha : w a = none) (hq : w' q = some (a + 1, e)) : w q = none := by
  cases hw : w q with
  | none => rfl
  | some x =>
    obtain ⟨r, e0⟩ := x
    obtain ⟨e', he⟩ := h.2.2.2 q r e0 hw
    rw [hq] at he; cases he
    exact absurd ha (by have := hG q (a + 1) e0 hw (Nat.succ_ne_zero _); rwa [Nat.add_sub_cancel] at this)
/-- a cell gets another region -/
theorem Up.tag {S : Nat → Prop} {w w' : Wd} {a r r1 : Nat} {e : Ent} (h : Up S w w') (ha : w' a = some (r, e)) (hn : w a = none) (hr : r1 = 0 ∨ w' (r1 - 1) ≠ none) : Up S w (wset w' a (r1, e)) := by
  refine ⟨?_, h.2.1.set _ _, ?_, h.2.2.2.tag hn _⟩
  · intro b rb eb hb hs
    have hne : b ≠ a := fun q => by subst q; rw [hn] at hb; cases hb
    rw [wset_ne _ hne]; exact h.1 b rb eb hb hs
  · intro b rb eb hb hr0
    by_cases q : b = a
    · subst q; rw [wset_eq] at hb; cases hb
      by_cases q2 : r1 - 1 = b
      · rw [q2, wset_eq]; exact fun z => by cases z
      · rw [wset_ne _ q2]
        rcases hr with hr | hr
        · exact absurd hr hr0
        · exact hr
    · rw [wset_ne _ q] at hb
      by_cases q2 : rb - 1 = a
      · rw [q2, wset_eq]; exact fun z => by cases z
      · rw [wset_ne _ q2]; exact h.2.2.1 b rb eb hb hr0
section HWU
variable {G : Gl} {p : Program} {l : Launch} {e : Env} {s : State} {m : MethodId} {args : Array Value} {below : List Frame} {meth : Method} {c : Code} {H : Heap} {locs : List Loc} {cells slots : Nat} {Q : State → Prop}
variable {cc : ByteArray} {own : String} {nL lv mc ms : Nat} {pc : Nat} {ls : Array Slot} {rest : List Value} {w : Wd} {a r : Nat}
/-- by a name of a class below -/
theorem h_putS (X : HX G p s m args c cc nL own) (hR : Rp G w H) (hL : LK G locs) {ci N : Nat} {C ref : String} {T : u_T} {fs : List Value} (hw : w a = some (r, oE ci fs)) (hr : r ≠ 0) (hc : HCl[ci]? = some (C, T, N)) (hin : ∀ w ∈ u_ws C T N, w ∈ lw_all) {ty0 : Nat → FieldType} (hty : ∀ k, k < N → parseFieldDescriptor (T k).2.2.1 = some (ty0 k)) (hnm : ∀ a, a < N → ∀ b, b < N → a ≠ b → (T a).2.1 ≠ (T b).2.1) (k : Nat) (hk : k < N) {index : Nat} (hl : Cond.fieldLink own index ref (T k).2.1 (T k).2.2.1 ∈ lw_all) (hsm : Cond.sameField ref (T k).1 (T k).2.1 (T k).2.2.1 ∈ lw_all) (hfin : (T k).2.2.2 = false) {v : Value} (hn : narrow (ty0 k) v = v) (hfit : fits (ty0 k) v = true) (hlen : k < fs.length) (d : decode cc pc = .ok (.putfield index, 3))
    (kk : ∀ (w1 : Wd), w1 = wset w a (r, oE ci (fs.set k v)) → ∀ (H1 : Heap) (locs1 : List Loc), Rp G w1 H1 → LK G locs1 → W p l e (rmk lv mc ms) s m args below meth c H1 locs1 cells slots Q (F0 m (pc + 3) ls rest)) : W p l e (rmk lv mc ms) s m args below meth c H locs cells slots Q (F0 m pc ls (v :: .ref a :: rest)) := by
  obtain ⟨⟨hx, hb, -, hown, hts⟩, hK, -⟩ := X
  have hap := hv_apart hts hin ty0 hty hnm hK hc
  obtain ⟨r', h1, cell, q1, q2, q3, q4⟩ := hR.ex hw hr
  have hr' : r' = (C, T, N) := Option.some.inj (h1.symm.trans hc)
  subst hr'
  obtain ⟨hS, hfc, kC, hkC, hkind⟩ := hK.1 ci _ hc (hcl_pos hc (Nat.lt_of_le_of_lt (Nat.zero_le k) hk))
  obtain ⟨cf, kf, fi, f, hi, hsl⟩ := hS k hk
  have hlay := hts _ (hin _ (u_in_lay hk))
  unfold u_lay at hlay
  rw [if_neg (by rw [hfin]; decide)] at hlay
  have hst := (u_facts hfc hkC (u_lays hts hin hk) hi).1
  have h6 := u_store hfc hkC hkind hlay hi (hty k hk) hn hfit
  refine W.putK hx hb (f := f) ⟨hown, hts _ hl, ⟨_, _, _, u_same (hts _ hsm) _ hi⟩, hst⟩ (by rw [q2]; exact h6) q1 q3 (by rw [hsl]; exact k2_hasslot (q4 k hk)) rfl rfl d fun H' e1 e2 e3 => ?_
  rw [hsl] at e1 ⊢
  exact kk _ rfl H' _ (hR.put hw hr e2 e3 ⟨_, hc, t_OB.to (V := updV (vp_V fs) k v) ⟨_, e1, q2, q3, t_set q4 hap hk v⟩ (fun j _ => vp_updV_set hlen v j)⟩) (hL.add (hR.ge hw hr))
end HWU
theorem w_neR {w : Wd} {a b r r' : Nat} {e e' : Ent} (ha : w a = some (r, e)) (hb : w b = some (r', e')) (h : r ≠ r') : a ≠ b := fun q => by subst q; rw [ha] at hb; cases hb; exact h rfl
theorem Fr.one {w : Wd} {a r : Nat} {e : Ent} (ha : w a = some (r, e)) (x : Nat × Ent) : Fr (fun q => q = r) w (wset w a x) := Fr.set (S := fun q => q = r) Fr.rf ha rfl x
theorem Fr.add {w : Wd} {a : Nat} (ha : w a = none) (x : Nat × Ent) : Fr (fun _ => False) w (wset w a x) := Fr.rf.new ha x
