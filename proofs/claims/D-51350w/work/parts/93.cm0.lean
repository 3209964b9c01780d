/-! the component's things: parts, lists of parts, marks, rules, the catalogue -/
set_option maxRecDepth 100000
def PtAt (G : Gl) (R : Rls) (w : Wd) (a : Nat) (x : Prt) : Prop := match x with
  | .inl n => w a = some (0, oE 5 [.int (iI n)])
  | .inr L => ∃ la ea : Nat, w a = some (0, oE 4 [.ref la, .ref ea]) ∧ StrAt G w la L ∧ StrAt G w ea (earL (spk R L))
theorem PtAt.mv {G : Gl} {R : Rls} {w w1 : Wd} {a : Nat} {x : Prt} {S : Nat → Prop} (h : PtAt G R w a x) (hF : Fr S w w1) (h0 : ¬ S 0) : PtAt G R w1 a x := by
  cases x with
  | inl n => exact hF _ _ _ h h0
  | inr L => obtain ⟨la, ea, h1, h2, h3⟩ := h; exact ⟨la, ea, hF _ _ _ h1 h0, h2.mv hF h0, h3.mv hF h0⟩
theorem PtAt.sm {G : Gl} {R : Rls} {w : Wd} {a : Nat} {x : Prt} (h : PtAt G R w a x) : ∃ y, w a = some y := by
  cases x with
  | inl n => exact ⟨_, h⟩
  | inr L => obtain ⟨la, ea, h1, -⟩ := h; exact ⟨_, h1⟩
theorem PtAt.ob {G : Gl} {R : Rls} {w : Wd} {a : Nat} {x : Prt} (h : PtAt G R w a x) : ∃ C, hasC w a C ∧ (Cond.castable C "java/lang/Object" ∈ lw_tbl ∨ C = "java/lang/Object") := by
  cases x with
  | inl n => exact ⟨_, hasC.of h rfl, Or.inl q3455⟩
  | inr L => obtain ⟨la, ea, h1, -⟩ := h; exact ⟨_, hasC.of h1 rfl, Or.inl q3449⟩
/-- a list of parts, never changed -/
def PlAt (G : Gl) (R : Rls) (w : Wd) (a : Nat) (ps : List Prt) : Prop := ∃ (mo : Int) (P : List Nat), R32 mo ∧ LsAt G w 0 a 5 mo P ∧ P.length = ps.length ∧ ∀ k, k < ps.length → PtAt G R w (P.getD k 0) (ps.getD k prt0)
theorem PlAt.mv {G : Gl} {R : Rls} {w w1 : Wd} {a : Nat} {ps : List Prt} {S : Nat → Prop} (h : PlAt G R w a ps) (hF : Fr S w w1) (h0 : ¬ S 0) : PlAt G R w1 a ps := by
  obtain ⟨mo, P, h1, h2, h3, h4⟩ := h
  exact ⟨mo, P, h1, h2.mv hF h0, h3, fun k hk => (h4 k hk).mv hF h0⟩
theorem PlAt.sm {G : Gl} {R : Rls} {w : Wd} {a : Nat} {ps : List Prt} (h : PlAt G R w a ps) : ∃ y, w a = some y := by
  obtain ⟨mo, P, h1, h2, -⟩ := h
  exact h2.sm
theorem PlAt.c {G : Gl} {R : Rls} {w : Wd} {a : Nat} {ps : List Prt} (h : PlAt G R w a ps) : hasC w a "java/util/ArrayList" := by
  obtain ⟨mo, P, h1, h2, -⟩ := h
  exact h2.c
/-- a mark -/
def MkAt (G : Gl) (R : Rls) (w : Wd) (r a : Nat) (m : Mrk) : Prop := ∃ pl : Nat, w a = some (r, oE 3 [.int (iI (mId m)), .ref pl, .int (iI (mWd m)), .int (iI (mPl m))]) ∧ PlAt G R w pl (mPs m)
theorem MkAt.mv {G : Gl} {R : Rls} {w w1 : Wd} {r a : Nat} {m : Mrk} {S : Nat → Prop} (h : MkAt G R w r a m) (hF : Fr S w w1) (h1 : ¬ S r) (h0 : ¬ S 0) : MkAt G R w1 r a m := by
  obtain ⟨pl, h2, h3⟩ := h
  exact ⟨pl, hF _ _ _ h2 h1, h3.mv hF h0⟩
theorem MkAt.sm {G : Gl} {R : Rls} {w : Wd} {r a : Nat} {m : Mrk} (h : MkAt G R w r a m) : ∃ y, w a = some y := by
  obtain ⟨pl, h2, -⟩ := h
  exact ⟨_, h2⟩
theorem MkAt.c {G : Gl} {R : Rls} {w : Wd} {r a : Nat} {m : Mrk} (h : MkAt G R w r a m) : hasC w a "SpokenMarks$Mark" := by
  obtain ⟨pl, h2, -⟩ := h
  exact hasC.of h2 rfl
/-- the marks of a list -/
def MksAt (G : Gl) (R : Rls) (w : Wd) (r : Nat) (M : List Nat) (ms : List Mrk) : Prop := M.length = ms.length ∧ ∀ k, k < ms.length → MkAt G R w r (M.getD k 0) (gM ms k)
theorem MksAt.mv {G : Gl} {R : Rls} {w w1 : Wd} {r : Nat} {M : List Nat} {ms : List Mrk} {S : Nat → Prop} (h : MksAt G R w r M ms) (hF : Fr S w w1) (h1 : ¬ S r) (h0 : ¬ S 0) : MksAt G R w1 r M ms := ⟨h.1, fun k hk => (h.2 k hk).mv hF h1 h0⟩
theorem MksAt.g {G : Gl} {R : Rls} {w : Wd} {r : Nat} {M : List Nat} {ms : List Mrk} (h : MksAt G R w r M ms) {k : Nat} (hk : k < ms.length) : MkAt G R w r (M.getD k 0) (gM ms k) := h.2 k hk
/-- marks by a function -/
def MksF (G : Gl) (R : Rls) (w : Wd) (r : Nat) (M : List Nat) (n : Nat) (f : Nat → Mrk) : Prop := M.length = n ∧ ∀ k, k < n → MkAt G R w r (M.getD k 0) (f k)
theorem MksF.mv {G : Gl} {R : Rls} {w w1 : Wd} {r : Nat} {M : List Nat} {n : Nat} {f : Nat → Mrk} {S : Nat → Prop} (h : MksF G R w r M n f) (hF : Fr S w w1) (h1 : ¬ S r) (h0 : ¬ S 0) : MksF G R w1 r M n f := ⟨h.1, fun k hk => (h.2 k hk).mv hF h1 h0⟩
theorem MksAt.f {G : Gl} {R : Rls} {w : Wd} {r : Nat} {M : List Nat} {ms : List Mrk} (h : MksAt G R w r M ms) : MksF G R w r M ms.length (gM ms) := h
theorem MksF.at {G : Gl} {R : Rls} {w : Wd} {r : Nat} {M : List Nat} {n : Nat} {f : Nat → Mrk} {ms : List Mrk} (h : MksF G R w r M n f) (hn : n = ms.length) (hf : ∀ k, k < n → f k = gM ms k) : MksAt G R w r M ms := ⟨h.1.trans hn, fun k hk => by rw [← hf k (by omega)]; exact h.2 k (by omega)⟩
theorem nd_ne {M : List Nat} (h : M.Nodup) {i j : Nat} (hi : i < M.length) (hj : j < M.length) (hij : i ≠ j) : M.getD i 0 ≠ M.getD j 0 := by
  have e1 : M.getD i 0 = M[i] := by simp [hi]
  have e2 : M.getD j 0 = M[j] := by simp [hj]
  rw [e1, e2]
  have hp := List.pairwise_iff_getElem.mp h
  rcases Nat.lt_trichotomy i j with q | q | q
  · exact hp i j hi hj q
  · exact absurd q hij
  · exact fun z => hp j i hj hi q z.symm
/-- one mark is told anew -/
theorem MksF.put {G : Gl} {R : Rls} {w : Wd} {r : Nat} {M : List Nat} {n k pl : Nat} {f : Nat → Mrk} {m : Mrk} {e : Ent} (h : MksF G R w r M n f) (hnd : M.Nodup) (hk : k < n) (hr : r ≠ 0) (hw : w (M.getD k 0) = some (r, e)) (hp : PlAt G R w pl (mPs m)) :
    MksF G R (wset w (M.getD k 0) (r, oE 3 [.int (iI (mId m)), .ref pl, .int (iI (mWd m)), .int (iI (mPl m))])) r M n (fun j => if j = k then m else f j) := by
  refine ⟨h.1, fun j hj => ?_⟩
  have hF := Fr.one hw (r, oE 3 [.int (iI (mId m)), .ref pl, .int (iI (mWd m)), .int (iI (mPl m))])
  dsimp only
  by_cases q : j = k
  · subst q
    rw [if_pos rfl]
    exact ⟨pl, wset_eq _ _ _, hp.mv hF (fun z => hr z.symm)⟩
  · rw [if_neg q]
    obtain ⟨pl2, h1, h2⟩ := h.2 j hj
    exact ⟨pl2, (wset_ne _ (nd_ne hnd (by rw [h.1]; exact hj) (by rw [h.1]; exact hk) q)).trans h1, h2.mv hF (fun z => hr z.symm)⟩
/-- another thing of their region is told anew -/
theorem MksF.oth {G : Gl} {R : Rls} {w : Wd} {r q : Nat} {M : List Nat} {n : Nat} {f : Nat → Mrk} {e : Ent} (h : MksF G R w r M n f) (hr : r ≠ 0) (hw : w q = some (r, e)) (hne : ∀ fs, e ≠ oE 3 fs) (e1 : Ent) : MksF G R (wset w q (r, e1)) r M n f := by
  refine ⟨h.1, fun j hj => ?_⟩
  obtain ⟨pl, h1, h2⟩ := h.2 j hj
  have hn : M.getD j 0 ≠ q := w_ne h1 hw (fun z => by cases z; exact hne _ rfl)
  exact ⟨pl, (wset_ne _ hn).trans h1, h2.mv (Fr.one hw (r, e1)) (fun z => hr z.symm)⟩
theorem MksAt.oth {G : Gl} {R : Rls} {w : Wd} {r q : Nat} {M : List Nat} {ms : List Mrk} {e : Ent} (h : MksAt G R w r M ms) (hr : r ≠ 0) (hw : w q = some (r, e)) (hne : ∀ fs, e ≠ oE 3 fs) (e1 : Ent) : MksAt G R (wset w q (r, e1)) r M ms := MksF.oth h hr hw hne e1
theorem getD_mem {M : List Nat} {y : Nat} (h : y ∈ M) : ∃ k, k < M.length ∧ M.getD k 0 = y := by
  obtain ⟨k, hk, e⟩ := List.mem_iff_getElem.mp h
  exact ⟨k, hk, by simp [hk, e]⟩
theorem MksAt.ls {G : Gl} {R : Rls} {w : Wd} {r : Nat} {M : List Nat} {ms : List Mrk} (h : MksAt G R w r M ms) : LsE w M := fun y hy => by
  obtain ⟨k, hk, rfl⟩ := getD_mem hy
  exact ⟨_, (h.2 k (by rw [← h.1]; exact hk)).c, q3448⟩
theorem MksAt.ins {G : Gl} {R : Rls} {w : Wd} {r q k : Nat} {M : List Nat} {ms : List Mrk} {m : Mrk} (h : MksAt G R w r M ms) (hm : MkAt G R w r q m) (hk : k ≤ ms.length) : MksAt G R w r (insAt M k q) (insAt ms k m) := by
  have h1 := h.1
  refine ⟨by rw [insAt_len _ _ _ (by omega), insAt_len _ _ _ hk, h1], fun i hi => ?_⟩
  rw [insAt_len _ _ _ hk] at hi
  have e := insAt_at ms k m mrk0 hk i
  have e : gM (insAt ms k m) i = _ := e
  rw [e, insAt_at M k q 0 (by omega) i]
  by_cases a : i < k
  · rw [if_pos a, if_pos a]; exact h.2 i (by omega)
  · rw [if_neg a, if_neg a]
    by_cases b : i = k
    · rw [if_pos b, if_pos b]; exact hm
    · rw [if_neg b, if_neg b]; exact h.2 (i - 1) (by omega)
theorem MksAt.rem {G : Gl} {R : Rls} {w : Wd} {r k : Nat} {M : List Nat} {ms : List Mrk} (h : MksAt G R w r M ms) (hk : k < ms.length) : MksAt G R w r (remAt M k) (remAt ms k) := by
  have h1 := h.1
  refine ⟨by rw [remAt_len _ _ (by omega), remAt_len _ _ hk, h1], fun i hi => ?_⟩
  rw [remAt_len _ _ hk] at hi
  have e := remAt_at ms k mrk0 hk i
  have e : gM (remAt ms k) i = _ := e
  rw [e, remAt_at M k 0 (by omega) i]
  split
  · exact h.2 i (by omega)
  · exact h.2 (i + 1) (by omega)
theorem nd_ins {M : List Nat} {k q : Nat} (h : M.Nodup) (hq : q ∉ M) : (insAt M k q).Nodup := by
  unfold insAt
  have hp : (M.take k ++ q :: M.drop k).Perm (q :: M) := by
    have := List.perm_middle (a := q) (l₁ := M.take k) (l₂ := M.drop k)
    rwa [List.take_append_drop] at this
  exact hp.nodup_iff.mpr (List.nodup_cons.mpr ⟨hq, h⟩)
theorem nd_rem {M : List Nat} {k : Nat} (h : M.Nodup) : (remAt M k).Nodup := by
  unfold remAt
  rw [← List.eraseIdx_eq_take_drop_succ]
  exact h.sublist (List.eraseIdx_sublist ..)
/-- a rule -/
def RuAt (G : Gl) (w : Wd) (a : Nat) (q : List Int × List Int) : Prop := ∃ fa sa : Nat, w a = some (0, oE 6 [.ref fa, .ref sa]) ∧ StrAt G w fa q.1 ∧ StrAt G w sa q.2
theorem RuAt.mv {G : Gl} {w w1 : Wd} {a : Nat} {q : List Int × List Int} {S : Nat → Prop} (h : RuAt G w a q) (hF : Fr S w w1) (h0 : ¬ S 0) : RuAt G w1 a q := by
  obtain ⟨fa, sa, h1, h2, h3⟩ := h
  exact ⟨fa, sa, hF _ _ _ h1 h0, h2.mv hF h0, h3.mv hF h0⟩
theorem RuAt.sm {G : Gl} {w : Wd} {a : Nat} {q : List Int × List Int} (h : RuAt G w a q) : ∃ y, w a = some y := by
  obtain ⟨fa, sa, h1, -⟩ := h
  exact ⟨_, h1⟩
theorem RuAt.c {G : Gl} {w : Wd} {a : Nat} {q : List Int × List Int} (h : RuAt G w a q) : hasC w a "SpokenMarks$Rule" := by
  obtain ⟨fa, sa, h1, -⟩ := h
  exact hasC.of h1 rfl
def gR (R : Rls) (k : Nat) : List Int × List Int := R.getD k ([], [])
def RusAt (G : Gl) (w : Wd) (A : List Nat) (R : Rls) : Prop := A.length = R.length ∧ ∀ k, k < R.length → RuAt G w (A.getD k 0) (gR R k)
theorem RusAt.mv {G : Gl} {w w1 : Wd} {A : List Nat} {R : Rls} {S : Nat → Prop} (h : RusAt G w A R) (hF : Fr S w w1) (h0 : ¬ S 0) : RusAt G w1 A R := ⟨h.1, fun k hk => (h.2 k hk).mv hF h0⟩
theorem RusAt.g {G : Gl} {w : Wd} {A : List Nat} {R : Rls} (h : RusAt G w A R) {k : Nat} (hk : k < R.length) : RuAt G w (A.getD k 0) (gR R k) := h.2 k hk
/-- the map of the rules -/
def MpAt (G : Gl) (w : Wd) (mp : List Int → Option Nat) (R : Rls) : Prop := ∀ L, (mp L = none ∧ rlF R L = -1) ∨ ∃ va, mp L = some va ∧ StrAt G w va (spk R L) ∧ rlF R L ≠ -1
theorem MpAt.mv {G : Gl} {w w1 : Wd} {mp : List Int → Option Nat} {R : Rls} {S : Nat → Prop} (h : MpAt G w mp R) (hF : Fr S w w1) (h0 : ¬ S 0) : MpAt G w1 mp R := fun L => by
  rcases h L with q | ⟨va, h1, h2, h3⟩
  · exact Or.inl q
  · exact Or.inr ⟨va, h1, h2.mv hF h0, h3⟩
/-- rules differ by their first words -/
def RDs (R : Rls) : Prop := ∀ i j, i < R.length → j < R.length → r1 R i = r1 R j → i = j
theorem hasC_ne {w : Wd} {a b : Nat} {C D : String} (h1 : hasC w a C) (h2 : hasC w b D) (h : C ≠ D) : a ≠ b := fun q => by
  subst q
  obtain ⟨r, e, g1, g2⟩ := h1
  obtain ⟨r', e', g3, g4⟩ := h2
  rw [g1] at g3; cases g3
  rw [g2] at g4
  exact h (Option.some.inj g4)
/-- a list of a capacity -/
def LqE (G : Gl) (w : Wd) (r a cap : Nat) (L : List Nat) : Prop := ∃ mo : Int, R32 mo ∧ LsAt G w r a cap mo L
theorem LsAt.e {G : Gl} {w : Wd} {r a cap : Nat} {mo : Int} {L : List Nat} (h : LsAt G w r a cap mo L) : LqE G w r a cap L := by
  obtain ⟨z, hz, e⟩ := iI_of (iI mo)
  refine ⟨z, hz, ?_⟩
  unfold LsAt at h ⊢
  rw [← e]; exact h
theorem LqE.mv {G : Gl} {w w1 : Wd} {r a cap : Nat} {L : List Nat} {S : Nat → Prop} (h : LqE G w r a cap L) (hF : Fr S w w1) (h0 : ¬ S r) : LqE G w1 r a cap L := by
  obtain ⟨mo, h1, h2⟩ := h
  exact ⟨mo, h1, h2.mv hF h0⟩
theorem LzAt.r32 {G : Gl} {w : Wd} {r a : Nat} {mo : Int} {L : List Nat} (h : LzAt G w r a mo L) : ∃ mo2, R32 mo2 ∧ LzAt G w r a mo2 L := by
  obtain ⟨z, hz, e⟩ := iI_of (iI mo)
  refine ⟨z, hz, ?_⟩
  unfold LzAt LsAt at h ⊢
  rw [← e]; exact h
/-- the catalogue's own cells -/
def CtAt (G : Gl) (w : Wd) (a lm lr hm bda aca so : Nat) (c : Cat) : Prop := w a = some (a + 1, oE 2 [.int (iI (cSh c)), .int (iI (cRm c)), .ref bda, .ref lm, .ref lr, .ref hm, .ref so, .ref aca, .int (iI (cNx c))])
/-- every id is below the next one -/
def IdB (c : Cat) : Prop := ∀ k, k < cN c → mId (mk c k) < cNx c
/-- the catalogue c: its cells and marks in region a + 1, the list of marks in lm + 1, of rules in lr + 1, the map in hm + 1; the marks heard by the rules R0 -/
def CatG (G : Gl) (w : Wd) (a lm lr hm : Nat) (R0 : Rls) (c : Cat) : Prop := ∃ (bda aca so : Nat) (fb fa : Nat → Int) (Lm Lr : List Nat) (mp : List Int → Option Nat),
  CtAt G w a lm lr hm bda aca so c ∧ (w bda = some (a + 1, iE G 0 (cSh c).toNat fb) ∧ ∀ j, j < (cSh c).toNat → fb j = bd c j) ∧ (w aca = some (a + 1, iE G 0 3 fa) ∧ ∀ j, j < 3 → fa j = cAc c j) ∧ w so = some (0, oE 7 []) ∧
  (LqE G w (lm + 1) lm 40 Lm ∧ MksAt G R0 w (a + 1) Lm (cMk c) ∧ Lm.Nodup) ∧ (LqE G w (lr + 1) lr 8 Lr ∧ RusAt G w Lr (cRl c)) ∧ (HmAt G w (hm + 1) hm (cRl c).length mp ∧ MpAt G w mp (cRl c)) ∧ RDs (cRl c) ∧ IdB c ∧ bda ≠ aca ∧ lm ≠ lr
def CatAt (G : Gl) (w : Wd) (a lm lr hm : Nat) (c : Cat) : Prop := CatG G w a lm lr hm (cRl c) c
theorem CatG.mv {G : Gl} {w w1 : Wd} {a lm lr hm : Nat} {R0 : Rls} {c : Cat} {S : Nat → Prop} (h : CatG G w a lm lr hm R0 c) (hF : Fr S w w1) (h0 : ¬ S 0 ∧ ¬ S (a + 1) ∧ ¬ S (lm + 1) ∧ ¬ S (lr + 1) ∧ ¬ S (hm + 1)) : CatG G w1 a lm lr hm R0 c := by
  obtain ⟨bda, aca, so, fb, fa, Lm, Lr, mp, h1, h2, h3, h4, h5, h6, h7, h8⟩ := h
  exact ⟨bda, aca, so, fb, fa, Lm, Lr, mp, hF _ _ _ h1 h0.2.1, ⟨hF _ _ _ h2.1 h0.2.1, h2.2⟩, ⟨hF _ _ _ h3.1 h0.2.1, h3.2⟩, hF _ _ _ h4 h0.1, ⟨h5.1.mv hF h0.2.2.1, h5.2.1.mv hF h0.2.1 h0.1, h5.2.2⟩, ⟨h6.1.mv hF h0.2.2.2.1, h6.2.mv hF h0.1⟩, ⟨h7.1.mv hF ⟨h0.2.2.2.2, h0.1⟩, h7.2.mv hF h0.1⟩, h8⟩
theorem CatAt.mv {G : Gl} {w w1 : Wd} {a lm lr hm : Nat} {c : Cat} {S : Nat → Prop} (h : CatAt G w a lm lr hm c) (hF : Fr S w w1) (h0 : ¬ S 0 ∧ ¬ S (a + 1) ∧ ¬ S (lm + 1) ∧ ¬ S (lr + 1) ∧ ¬ S (hm + 1)) : CatAt G w1 a lm lr hm c := CatG.mv h hF h0
theorem CatAt.sm {G : Gl} {w : Wd} {a lm lr hm : Nat} {c : Cat} (h : CatAt G w a lm lr hm c) : ∃ y, w a = some y := by
  obtain ⟨bda, aca, so, fb, fa, Lm, Lr, mp, h1, -⟩ := h
  exact ⟨_, h1⟩
theorem CatAt.c {G : Gl} {w : Wd} {a lm lr hm : Nat} {c : Cat} (h : CatAt G w a lm lr hm c) : hasC w a "SpokenMarks$Catalogue" := by
  obtain ⟨bda, aca, so, fb, fa, Lm, Lr, mp, h1, -⟩ := h
  exact hasC.of h1 rfl
