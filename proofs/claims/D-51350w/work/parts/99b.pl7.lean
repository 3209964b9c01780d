/-! pure: what the catalogue's changes leave, as the component makes them -/
set_option maxRecDepth 100000
def rsV (c : Cat) (but : Int) : Int := sumN (fun k => b2i (mPl (mk c k) ≠ spc (k : Int) (cN c) ∧ mId (mk c k) ≠ but)) (cN c)
def rspC (c : Cat) (v : Int) : Cat := incAc (incAc (setMk c (rspL (cN c) 0 (cMk c))) 1 1) 2 v
def rsF (c : Cat) (k j : Nat) : Mrk := if j < k then (mId (mk c j), mPs (mk c j), mWd (mk c j), spc (j : Int) (cN c)) else mk c j
theorem rsF_0 (c : Cat) : rsF c 0 = fun j => mk c j := by funext j; exact if_neg (Nat.not_lt_zero _)
theorem rsF_k (c : Cat) (k : Nat) : rsF c k k = mk c k := if_neg (Nat.lt_irrefl _)
theorem rsF_s (c : Cat) (k : Nat) : (fun j => if j = k then (mId (mk c k), mPs (mk c k), mWd (mk c k), spc (k : Int) (cN c)) else rsF c k j) = rsF c (k + 1) := by
  funext j
  unfold rsF
  by_cases q : j = k
  · subst q; rw [if_pos rfl, if_pos (Nat.lt_succ_self _)]
  · rw [if_neg q]
    by_cases q2 : j < k
    · rw [if_pos q2, if_pos (by omega)]
    · rw [if_neg q2, if_neg (by omega)]
theorem rsF_f (c : Cat) (j : Nat) (hj : j < cN c) : rsF c (cN c) j = gM (rspL (cN c) 0 (cMk c)) j := by
  unfold rsF
  rw [if_pos hj]
  have h := rspL_at (cN c) 0 (cMk c) j hj
  rw [Nat.zero_add] at h
  exact h.symm
theorem rsV_b (c : Cat) (but : Int) : 0 ≤ rsV c but ∧ rsV c but ≤ cN c := by
  have := sumN_bd (f := fun k => b2i (mPl (mk c k) ≠ spc (k : Int) (cN c) ∧ mId (mk c k) ≠ but)) (n := cN c) 0 1 (fun i _ => b2i_01 _)
  unfold rsV; omega
theorem cN_rsp (c : Cat) : cN (setMk c (rspL (cN c) 0 (cMk c))) = cN c := rspL_len _ _ _
theorem mk_rsp (c : Cat) (v : Int) (k : Nat) (hk : k < cN c) : mk (rspC c v) k = (mId (mk c k), mPs (mk c k), mWd (mk c k), spc (k : Int) (cN c)) := by
  have h := rspL_at (cN c) 0 (cMk c) k hk
  rw [Nat.zero_add] at h
  exact h
theorem IdB.rsp {c : Cat} (h : IdB c) (v : Int) : IdB (rspC c v) := fun k hk => by
  have e : cN (rspC c v) = cN c := rspL_len _ _ _
  rw [e] at hk
  rw [mk_rsp c v k hk]
  exact h k hk
theorem rsV_1 {c : Cat} (h : CatS c) : rsV c (-1) = rspN c := sumN_congr (fun i hi => b2i_congr ⟨fun q z => q.1 z.symm, fun q => ⟨fun z => q z.symm, by have := (h.mw hi).1; omega⟩⟩)
theorem cRsp_C {c : Cat} (h : CatS c) : cRsp c = rspC c (rsV c (-1)) := by rw [rsV_1 h]; rfl
theorem sum_skip (f : Nat → Int) (r : Nat) : ∀ n, r ≤ n → sumN f (n + 1) = sumN (fun k => f (if k < r then k else k + 1)) n + f r
  | 0, h => by rw [show r = 0 by omega]; rfl
  | n + 1, h => by
    rw [sumN_s]
    by_cases q : r = n + 1
    · subst q
      have e : sumN (fun k => f (if k < n + 1 then k else k + 1)) (n + 1) = sumN f (n + 1) := sumN_congr (fun i hi => by rw [if_pos hi])
      rw [e]
    · rw [sum_skip f r n (by omega), sumN_s, if_neg (by omega)]; omega
theorem cN_ins (c : Cat) (g : List Prt) (w : Int) : cN (cIns c g w) = cN c + 1 := insAt_len _ _ _ (rkF_le c g)
theorem mk_ins (c : Cat) (g : List Prt) (w : Int) (i : Nat) : mk (cIns c g w) i = if i < rkF c g then mk c i else if i = rkF c g then (cNx c, g, w, plF c (rkF c g : Int)) else mk c (i - 1) := insAt_at (cMk c) (rkF c g) _ mrk0 (rkF_le c g) i
theorem IdB.ins {c : Cat} (h : IdB c) (g : List Prt) (w : Int) : IdB (cIns c g w) := fun k hk => by
  rw [cN_ins] at hk
  have hr := rkF_le c g
  rw [mk_ins]
  show _ < cNx c + 1
  split
  · have := h k (by omega); omega
  · split
    · show cNx c < cNx c + 1; omega
    · have := h (k - 1) (by omega); omega
theorem rsV_ins {c : Cat} (h : IdB c) (g : List Prt) (w : Int) : rsV (cIns c g w) (cNx c) = mvN c (rkF c g : Int) := by
  have hr := rkF_le c g
  unfold rsV
  rw [cN_ins, sum_skip _ (rkF c g) (cN c) hr]
  have e0 : b2i (mPl (mk (cIns c g w) (rkF c g)) ≠ spc ((rkF c g : Nat) : Int) ((cN c + 1 : Nat) : Int) ∧ mId (mk (cIns c g w) (rkF c g)) ≠ cNx c) = 0 := b2i_f (fun q => q.2 (by rw [mk_ins, if_neg (Nat.lt_irrefl _), if_pos rfl]))
  rw [e0, Int.add_zero]
  refine sumN_congr (fun i hi => b2i_congr ?_)
  have hid := h i hi
  by_cases q : i < rkF c g
  · rw [if_pos q, mk_ins, if_pos q, if_pos (by omega)]
    exact ⟨fun z => z.1, fun z => ⟨z, by omega⟩⟩
  · rw [if_neg q, mk_ins, if_neg (by omega), if_neg (by omega), if_neg (by omega), Nat.add_sub_cancel]
    exact ⟨fun z => z.1, fun z => ⟨z, by omega⟩⟩
theorem cAdd_t {c : Cat} (h : IdB c) (g : List Prt) (w : Int) (ht : plA c (rkF c g : Int) - plA c ((rkF c g : Int) - 1) < 2) : cAdd c g w = rspC (cIns c g w) (rsV (cIns c g w) (cNx c)) := by
  rw [rsV_ins h]
  unfold cAdd rspC
  rw [if_pos ht, cN_ins]
  rfl
theorem cAdd_n {c : Cat} {g : List Prt} {w : Int} (ht : ¬ plA c (rkF c g : Int) - plA c ((rkF c g : Int) - 1) < 2) : cAdd c g w = cIns c g w := if_neg ht
theorem CatS.nx {c : Cat} (h : CatS c) (hx : cNx c + 1 < 1000000) : CatS (setNx c (cNx c + 1)) := ⟨h.1, h.2.1, h.2.2.1, h.2.2.2.1, h.2.2.2.2.1, h.2.2.2.2.2.1, by show 1 ≤ cNx c + 1; have := h.2.2.2.2.2.2.1; omega, hx⟩
theorem CatS.mk_ {c : Cat} (h : CatS c) {M : List Mrk} (hM : M.length ≤ 40 ∧ ∀ k, k < M.length → MrkW (gM M k)) : CatS (setMk c M) := ⟨h.1, h.2.1, h.2.2.1, hM, h.2.2.2.2⟩
theorem CatS.srt {c : Cat} (h : CatS c) {k : Nat} (hk : k ≤ cN c) : CatS (setMk c (srtM (cRl c) (cMk c) k)) := by
  have h4 := h.2.2.2.1.1
  refine h.mk_ ⟨by rw [srtM_len]; omega, fun i hi => ?_⟩
  rw [srtM_len] at hi
  obtain ⟨j, hj, e⟩ := srtM_mem (cRl c) (cMk c) k i hi
  rw [e]; exact h.mw (k := j) (by omega)
theorem IdB.srt {c : Cat} (h : IdB c) {k : Nat} (hk : k ≤ cN c) : IdB (setMk c (srtM (cRl c) (cMk c) k)) := fun i hi => by
  have hi : i < k := by
    have e : cN (setMk c (srtM (cRl c) (cMk c) k)) = k := srtM_len _ _ _
    omega
  obtain ⟨j, hj, e⟩ := srtM_mem (cRl c) (cMk c) k i hi
  have e : mk (setMk c (srtM (cRl c) (cMk c) k)) i = gM (cMk c) j := e
  rw [e]; exact h j (by omega)
theorem rkF_srt (c : Cat) (k : Nat) (p : List Prt) : rkF (setMk c (srtM (cRl c) (cMk c) k)) p = rkL (cRl c) (srtM (cRl c) (cMk c) k) p := rfl
theorem ordA_0 {c : Cat} (h : mvd (cRl c) (cMk c) (cN c) = 0) : ordA c = (setMk c (srtM (cRl c) (cMk c) (cN c)), 0) := by
  have e := mvd_0 (R := cRl c) (L := cMk c) (k := cN c) (Nat.le_refl _) h
  have e2 : srtM (cRl c) (cMk c) (cN c) = cMk c := by
    unfold begM at e
    rw [List.drop_length, List.append_nil] at e
    exact e
  unfold ordA
  rw [if_pos h, e2]
  rfl
theorem ordA_1 {c : Cat} (hS : CatS c) (h : ¬ mvd (cRl c) (cMk c) (cN c) = 0) : ordA c = (rspC (setMk c (srtM (cRl c) (cMk c) (cN c))) (rsV (setMk c (srtM (cRl c) (cMk c) (cN c))) (-1)), rsV (setMk c (srtM (cRl c) (cMk c) (cN c))) (-1)) := by
  have h2 := hS.srt (k := cN c) (Nat.le_refl _)
  unfold ordA
  rw [if_neg h, cRsp_C h2, rsV_1 h2]
/-- marks keep their ids, parts, widths -/
def KpI (a : Nat) (w w' : Wd) : Prop := ∀ (x : Nat) (i pl wd p : Value), w x = some (a + 1, oE 3 [i, pl, wd, p]) → ∃ p', w' x = some (a + 1, oE 3 [i, pl, wd, p'])
theorem KpI.rf {a : Nat} {w : Wd} : KpI a w w := fun _ _ _ _ p h => ⟨p, h⟩
theorem KpI.put {a e : Nat} {w w' : Wd} {i pl wd p : Value} (h : KpI a w w') (he : w' e = some (a + 1, oE 3 [i, pl, wd, p])) (p2 : Value) : KpI a w (wset w' e (a + 1, oE 3 [i, pl, wd, p2])) := fun x i2 pl2 wd2 q hx => by
  obtain ⟨p', h1⟩ := h x i2 pl2 wd2 q hx
  by_cases z : x = e
  · subst z
    rw [he] at h1
    cases h1
    exact ⟨p2, wset_eq _ _ _⟩
  · exact ⟨p', (wset_ne _ z).trans h1⟩
theorem KpI.oth {a q r : Nat} {w w' : Wd} {e : Ent} (h : KpI a w w') (hq : w' q = some (r, e)) (hne : ∀ fs, e ≠ oE 3 fs) (x9 : Nat × Ent) : KpI a w (wset w' q x9) := fun x i pl wd p hx => by
  obtain ⟨p', h1⟩ := h x i pl wd p hx
  exact ⟨p', (wset_ne _ (w_ne h1 hq (fun z => by cases z; exact hne _ rfl))).trans h1⟩
