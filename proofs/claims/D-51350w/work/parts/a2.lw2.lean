/-! the law: the component's calls, as a whole -/
set_option maxRecDepth 100000
def CRet (G : Gl) (w : Wd) (x : Nat) (b : Int) (r : Ans) (v : Int) (w1 : Wd) : Prop := r.1 = 0 ∧ v = r.2.1 ∧ CmA G w1 x r.2.2 ∧ Kp G w w1 ∧ RegW w1 ∧ LOk b r.2.2
def CThr (G : Gl) (w : Wd) (x : Nat) (b : Int) (r : Ans) (L : List (String × Int)) (E : String) (w1 : Wd) : Prop := (E, r.1) ∈ L ∧ CmA G w1 x r.2.2 ∧ Kp G w w1 ∧ RegW w1 ∧ LOk b r.2.2
theorem CmA.still {G : Gl} {w w1 : Wd} {x : Nat} {z : LSt} (h : CmA G w x z) (u : Up (fun _ => False) w w1) : CmA G w1 x z := CmS.mv h u.1 id (fun _ _ => id)
theorem Kp.still {G : Gl} {w w1 : Wd} (u : Up (fun _ => False) w w1) : Kp G w w1 := Kp.of u.1 (fun _ hr => absurd hr id)
theorem CRet.q {G : Gl} {w w1 : Wd} {x : Nat} {b : Int} {z : LSt} {q : Int × Int} {v : Int} (h : CmA G w x z) (hok : LOk b z) (u : Up (fun _ => False) w w1) (e : q.1 = 0) (e2 : v = q.2) : CRet G w x b (aQ q z) v w1 := ⟨e, e2, h.still u, Kp.still u, u.2.2.1, hok⟩
theorem CThr.q {G : Gl} {w w1 : Wd} {x : Nat} {b : Int} {z : LSt} {q : Int × Int} {L : List (String × Int)} {E : String} (h : CmA G w x z) (hok : LOk b z) (u : Up (fun _ => False) w w1) (e : (E, q.1) ∈ L) : CThr G w x b (aQ q z) L E w1 := ⟨e, h.still u, Kp.still u, u.2.2.1, hok⟩
theorem CThr.z {G : Gl} {w w1 : Wd} {x : Nat} {b k : Int} {z : LSt} {L : List (String × Int)} {E : String} (h : CmA G w x z) (hok : LOk b z) (hG : RegW w) (ew : w = w1) (e : (E, k) ∈ L) : CThr G w x b (k, 0, z) L E w1 := by
  subst ew
  exact ⟨e, h, Kp.rf, hG, hok⟩
theorem CRet.z {G : Gl} {w w1 : Wd} {x : Nat} {b v v1 : Int} {z : LSt} (h : CmA G w x z) (hok : LOk b z) (hG : RegW w) (ew : w1 = w) (e : v = v1) : CRet G w x b (0, v1, z) v w1 := by
  subst ew
  exact ⟨rfl, e, h, Kp.rf, hG, hok⟩
section CMX2
variable {G : Gl} {w w1 : Wd} {x bf hq fs : Nat} {q : Qd} {sv : Value} {hist sn : List (Qd × Cat)} {B : List Int} {er ca ud : Int} {F : List Int} {s : Sys}
/-- the system has changed, the history has one more -/
theorem CmX.psh (h : CmX G w x bf hq fs q sv hist sn B er ca ud F s) {S : Nat → Prop} (hF : Fr S w w1) (hS : ∀ r, S r → r = x + 1 ∨ r = hq + 1 ∨ r = q.1 + 1 ∨ r = q.2.1 + 1 ∨ r = q.2.2.1 + 1 ∨ r = q.2.2.2 + 1) {s2 : Sys} {B2 : List Int} {er2 : Int} (hB2 : BufAt G w bf (bf + 1) B → BufAt G w bf (bf + 1) B2)
    (hX : w1 x = some (x + 1, oE 0 (objV bf hq fs q.1 sv (B2.length : Int) er2 ca (sD s2) (sR s2) ud))) (hC : CatQ G w1 q (sC s2)) (hu : sU s2 = pushU (sU s) (sC s)) {b l1 l2 l3 : Nat} (n0 : w b = none) (n1 : w l1 = none) (n2 : w l2 = none) (n3 : w l3 = none) (hCn : CatAt G w1 b l1 l2 l3 (sC s)) (hD : DqAt G w1 (hq + 1) hq (pushA (hist.map (fun z => z.1.1)) b)) : CmX G w1 x bf hq fs q sv (pushH hist ((b, l1, l2, l3), sC s)) sn B2 er2 ca ud F s2 := by
  have hS7 : ∀ r, S r → RgX x bf hq q r := fun r hr => by
    rcases hS r hr with e | e | e
    · exact Or.inl e
    · exact Or.inr (Or.inr (Or.inl e))
    · exact Or.inr (Or.inr (Or.inr e))
  obtain ⟨o1, o2⟩ := h.oth hF hS7
  have nb : ¬ S (bf + 1) := fun hs => by
    rcases hS _ hs with e | e | e | e | e | e
    · exact (h.2.1.ne h.hx).p (Nat.succ.inj e)
    · exact (h.2.1.ne h.2.2.1.c).p (Nat.succ.inj e)
    · exact (h.2.1.ne (CatAt.c h.2.2.2.1)).p (Nat.succ.inj e)
    · exact (h.2.1.ne (CatAt.hc h.2.2.2.1).1).p (Nat.succ.inj e)
    · exact (h.2.1.ne (CatAt.hc h.2.2.2.1).2.1).p (Nat.succ.inj e)
    · exact (h.2.1.ne (CatAt.hc h.2.2.2.1).2.2).p (Nat.succ.inj e)
  refine ⟨hX, (hB2 h.2.1).mv hF nb, by rw [pushH_a]; exact hD, hC, o2, fun z hz => ?_, by rw [pushH_u, h.2.2.2.2.2.2.1, hu], pushH_l _ h.2.2.2.2.2.2.2.1, ?_⟩
  · rcases List.mem_append.mp hz with hz | hz
    · exact o1 z (List.mem_append_left _ hz)
    · rcases pushH_m hz with hz | hz
      · exact o1 z (List.mem_append_right _ hz)
      · subst hz; exact hCn
  · refine pushH_p (M := (q, sC s2) :: sn) (pw_c h.2.2.2.2.2.2.2.2) (fun y hy => ?_)
    rcases List.mem_cons.mp hy with hy | hy
    · subst hy; exact CatQ.new h.2.2.2.1 n0 n1 n2 n3
    · exact CatQ.new (h.2.2.2.2.2.1 y hy) n0 n1 n2 n3
/-- the object, the history's own cells and the catalogue may have been written; all stands -/
theorem CmX.sam (h : CmX G w x bf hq fs q sv hist sn B er ca ud F s) {S : Nat → Prop} (hF : Fr S w w1) (hS : ∀ r, S r → r = x + 1 ∨ r = hq + 1 ∨ r = q.1 + 1 ∨ r = q.2.1 + 1 ∨ r = q.2.2.1 + 1 ∨ r = q.2.2.2 + 1) {B2 : List Int} {er2 : Int} (hB2 : BufAt G w bf (bf + 1) B → BufAt G w bf (bf + 1) B2)
    (hX : w1 x = some (x + 1, oE 0 (objV bf hq fs q.1 sv (B2.length : Int) er2 ca (sD s) (sR s) ud))) (hC : CatQ G w1 q (sC s)) (hD : DqAt G w1 (hq + 1) hq (hist.map (fun z => z.1.1))) : CmX G w1 x bf hq fs q sv hist sn B2 er2 ca ud F s := by
  have hS7 : ∀ r, S r → RgX x bf hq q r := fun r hr => by
    rcases hS r hr with e | e | e
    · exact Or.inl e
    · exact Or.inr (Or.inr (Or.inl e))
    · exact Or.inr (Or.inr (Or.inr e))
  obtain ⟨o1, o2⟩ := h.oth hF hS7
  have nb : ¬ S (bf + 1) := fun hs => by
    rcases hS _ hs with e | e | e | e | e | e
    · exact (h.2.1.ne h.hx).p (Nat.succ.inj e)
    · exact (h.2.1.ne h.2.2.1.c).p (Nat.succ.inj e)
    · exact (h.2.1.ne (CatAt.c h.2.2.2.1)).p (Nat.succ.inj e)
    · exact (h.2.1.ne (CatAt.hc h.2.2.2.1).1).p (Nat.succ.inj e)
    · exact (h.2.1.ne (CatAt.hc h.2.2.2.1).2.1).p (Nat.succ.inj e)
    · exact (h.2.1.ne (CatAt.hc h.2.2.2.1).2.2).p (Nat.succ.inj e)
  exact ⟨hX, (hB2 h.2.1).mv hF nb, hD, hC, o2, o1, h.2.2.2.2.2.2.1, h.2.2.2.2.2.2.2.1, pw_c h.2.2.2.2.2.2.2.2⟩
theorem CmX.h8 (h : CmX G w x bf hq fs q sv hist sn B er ca ud F s) : (hist.map (fun z => z.1.1)).length ≤ 8 := by rw [List.length_map]; exact h.2.2.2.2.2.2.2.1
end CMX2
theorem rg6 {x bf hq : Nat} {q : Qd} {r : Nat} (h : r = x + 1 ∨ r = hq + 1 ∨ r = q.1 + 1 ∨ r = q.2.1 + 1 ∨ r = q.2.2.1 + 1 ∨ r = q.2.2.2 + 1) : RgX x bf hq q r := by
  rcases h with e | e | e
  · exact Or.inl e
  · exact Or.inr (Or.inr (Or.inl e))
  · exact Or.inr (Or.inr (Or.inr e))
theorem rg2 {x bf hq : Nat} {q : Qd} {r : Nat} (h : r = x + 1 ∨ r = hq + 1) : RgX x bf hq q r := h.elim Or.inl (fun e => Or.inr (Or.inr (Or.inl e)))

theorem cc_size (l : Launch) (G : Gl) (w : Wd) (hSt : l.stackTraces = false) (x : Nat) (z : LSt) (b : Int) (h : CmA G w x z) (hok : LOk b z) (hb2 : 2200 ≤ b) (hb : b < 890000) (hG : RegW w) (v1 : Int) (h0 : R32 v1) : HMX l yX1_size cX1_size 2 (some .int) 10 2 12 G [.ref x, .int (iI (v1))] w (QI G (CRet G w x (b + 1000) (aSiz z v1))) (fun _ => CThr G w x (b + 1000) (aSiz z v1) [("java/lang/IllegalArgumentException", 1)]) := by
  have hok1 : LOk (b + 1000) z := hok.mono (by omega)
  obtain ⟨bf, hq, fs, q, sv, hist, sn, hX, hN⟩ := id h
  refine vx_imp (sm_size l G w hSt q.1 q.2.1 q.2.2.1 q.2.2.2 (sC (zS z)) hX.2.2.2.1 hok.s hok.w x bf hq fs _ _ _ _ _ _ _ hX.1 v1 h0 hG) (QI.imp fun v w1 hp => ?_) (fun q_ E_ w1 hp => ?_)
  · obtain ⟨p1, p2, u⟩ := hp
    exact CRet.q h hok1 u p1 p2
  · obtain ⟨⟨p1, p2⟩, u⟩ := hp
    exact CThr.q h hok1 u (by rw [p1, p2]; exact List.mem_cons_self)

theorem cc_account (l : Launch) (G : Gl) (w : Wd) (hSt : l.stackTraces = false) (x : Nat) (z : LSt) (b : Int) (h : CmA G w x z) (hok : LOk b z) (hb2 : 2200 ≤ b) (hb : b < 890000) (hG : RegW w) (v1 : Int) (h0 : R32 v1) : HMX l yX1_account cX1_account 2 (some .int) 10 2 12 G [.ref x, .int (iI (v1))] w (QI G (CRet G w x (b + 1000) (aAcc z v1))) (fun _ => CThr G w x (b + 1000) (aAcc z v1) [("java/lang/IllegalArgumentException", 1)]) := by
  have hok1 : LOk (b + 1000) z := hok.mono (by omega)
  obtain ⟨bf, hq, fs, q, sv, hist, sn, hX, hN⟩ := id h
  refine vx_imp (sm_acc l G w hSt q.1 q.2.1 q.2.2.1 q.2.2.2 (sC (zS z)) hX.2.2.2.1 hok.s hok.w x bf hq fs _ _ _ _ _ _ _ hX.1 v1 h0 hG) (QI.imp fun v w1 hp => ?_) (fun q_ E_ w1 hp => ?_)
  · obtain ⟨p1, p2, u⟩ := hp
    exact CRet.q h hok1 u p1 p2
  · obtain ⟨⟨p1, p2⟩, u⟩ := hp
    exact CThr.q h hok1 u (by rw [p1, p2]; exact List.mem_cons_self)

theorem cc_mark (l : Launch) (G : Gl) (w : Wd) (hSt : l.stackTraces = false) (x : Nat) (z : LSt) (b : Int) (h : CmA G w x z) (hok : LOk b z) (hb2 : 2200 ≤ b) (hb : b < 890000) (hG : RegW w) (v1 : Int) (v2 : Int) (h0 : R32 v1) (h1 : R32 v2) : HMX l yX1_mark cX1_mark 4 (some .int) 10 2 12 G [.ref x, .int (iI (v1)), .int (iI (v2))] w (QI G (CRet G w x (b + 1000) (aMrk z v1 v2))) (fun _ => CThr G w x (b + 1000) (aMrk z v1 v2) [("java/util/NoSuchElementException", 1), ("java/lang/IllegalArgumentException", 2)]) := by
  have hok1 : LOk (b + 1000) z := hok.mono (by omega)
  obtain ⟨bf, hq, fs, q, sv, hist, sn, hX, hN⟩ := id h
  refine vx_imp (sm_mark l G w hSt q.1 q.2.1 q.2.2.1 q.2.2.2 (sC (zS z)) hX.2.2.2.1 hok.s hok.w x bf hq fs _ _ _ _ _ _ _ hX.1 v1 v2 h0 h1 hG) (QI.imp fun v w1 hp => ?_) (fun q_ E_ w1 hp => ?_)
  · obtain ⟨p1, p2, u⟩ := hp
    exact CRet.q h hok1 u p1 p2
  · obtain ⟨p, u⟩ := hp
    refine CThr.q h hok1 u ?_
    rcases p with ⟨p1, p2⟩ | ⟨p1, p2⟩
    · rw [p1, p2]; exact List.mem_cons_self
    · rw [p1, p2]; exact List.mem_cons_of_mem _ List.mem_cons_self

theorem cc_number (l : Launch) (G : Gl) (w : Wd) (hSt : l.stackTraces = false) (x : Nat) (z : LSt) (b : Int) (h : CmA G w x z) (hok : LOk b z) (hb2 : 2200 ≤ b) (hb : b < 890000) (hG : RegW w) (v1 : Int) (v2 : Int) (h0 : R32 v1) (h1 : R32 v2) : HMX l yX1_number cX1_number 5 (some .int) 10 2 12 G [.ref x, .int (iI (v1)), .int (iI (v2))] w (QI G (CRet G w x (b + 1000) (aNum z v1 v2))) (fun _ => CThr G w x (b + 1000) (aNum z v1 v2) [("java/util/NoSuchElementException", 1)]) := by
  have hok1 : LOk (b + 1000) z := hok.mono (by omega)
  obtain ⟨bf, hq, fs, q, sv, hist, sn, hX, hN⟩ := id h
  refine vx_imp (sm_num l G w hSt q.1 q.2.1 q.2.2.1 q.2.2.2 (sC (zS z)) hX.2.2.2.1 hok.s hok.w x bf hq fs _ _ _ _ _ _ _ hX.1 v1 v2 h0 h1 hG) (QI.imp fun v w1 hp => ?_) (fun q_ E_ w1 hp => ?_)
  · obtain ⟨p1, p2, u⟩ := hp
    exact CRet.q h hok1 u p1 p2
  · obtain ⟨⟨p1, p2⟩, u⟩ := hp
    exact CThr.q h hok1 u (by rw [p1, p2]; exact List.mem_cons_self)

theorem cc_letter (l : Launch) (G : Gl) (w : Wd) (hSt : l.stackTraces = false) (x : Nat) (z : LSt) (b : Int) (h : CmA G w x z) (hok : LOk b z) (hb2 : 2200 ≤ b) (hb : b < 890000) (hG : RegW w) (v1 : Int) (v2 : Int) (v3 : Int) (v4 : Int) (h0 : R32 v1) (h1 : R32 v2) (h2 : 0 ≤ v3 ∧ v3 ≤ 1) (h3 : R32 v4) : HMX l yX1_letter cX1_letter 7 (some .int) 10 2 12 G [.ref x, .int (iI (v1)), .int (iI (v2)), .int (iI (v3)), .int (iI (v4))] w (QI G (CRet G w x (b + 1000) (aLet z v1 v2 v3 v4))) (fun _ => CThr G w x (b + 1000) (aLet z v1 v2 v3 v4) [("java/util/NoSuchElementException", 1)]) := by
  have hok1 : LOk (b + 1000) z := hok.mono (by omega)
  obtain ⟨bf, hq, fs, q, sv, hist, sn, hX, hN⟩ := id h
  refine vx_imp (sm_let l G w hSt q.1 q.2.1 q.2.2.1 q.2.2.2 (sC (zS z)) hX.2.2.2.1 hok.s hok.w x bf hq fs _ _ _ _ _ _ _ hX.1 v1 v2 v3 v4 h0 h1 h2 h3 hG) (QI.imp fun v w1 hp => ?_) (fun q_ E_ w1 hp => ?_)
  · obtain ⟨p1, p2, u⟩ := hp
    exact CRet.q h hok1 u p1 p2
  · obtain ⟨⟨p1, p2⟩, u⟩ := hp
    exact CThr.q h hok1 u (by rw [p1, p2]; exact List.mem_cons_self)

theorem cc_ruleLetter (l : Launch) (G : Gl) (w : Wd) (hSt : l.stackTraces = false) (x : Nat) (z : LSt) (b : Int) (h : CmA G w x z) (hok : LOk b z) (hb2 : 2200 ≤ b) (hb : b < 890000) (hG : RegW w) (v1 : Int) (v2 : Int) (v3 : Int) (h0 : R32 v1) (h1 : 0 ≤ v2 ∧ v2 ≤ 1) (h2 : R32 v3) : HMX l yX1_ruleLetter cX1_ruleLetter 5 (some .int) 10 2 12 G [.ref x, .int (iI (v1)), .int (iI (v2)), .int (iI (v3))] w (QI G (CRet G w x (b + 1000) (aRul z v1 v2 v3))) (fun _ => CThr G w x (b + 1000) (aRul z v1 v2 v3) [("java/util/NoSuchElementException", 1)]) := by
  have hok1 : LOk (b + 1000) z := hok.mono (by omega)
  obtain ⟨bf, hq, fs, q, sv, hist, sn, hX, hN⟩ := id h
  refine vx_imp (sm_rlet l G w hSt q.1 q.2.1 q.2.2.1 q.2.2.2 (sC (zS z)) hX.2.2.2.1 hok.s hok.w x bf hq fs _ _ _ _ _ _ _ hX.1 v1 v2 v3 h0 h1 h2 hG) (QI.imp fun v w1 hp => ?_) (fun q_ E_ w1 hp => ?_)
  · obtain ⟨p1, p2, u⟩ := hp
    exact CRet.q h hok1 u p1 p2
  · obtain ⟨⟨p1, p2⟩, u⟩ := hp
    exact CThr.q h hok1 u (by rw [p1, p2]; exact List.mem_cons_self)

theorem cc_shelf (l : Launch) (G : Gl) (w : Wd) (hSt : l.stackTraces = false) (x : Nat) (z : LSt) (b : Int) (h : CmA G w x z) (hok : LOk b z) (hb2 : 2200 ≤ b) (hb : b < 890000) (hG : RegW w) (v1 : Int) (v2 : Int) (h0 : R32 v1) (h1 : R32 v2) : HMX l yX1_shelf cX1_shelf 3 (some .int) 10 2 12 G [.ref x, .int (iI (v1)), .int (iI (v2))] w (QI G (CRet G w x (b + 1000) (aShf z v1 v2))) (fun _ => CThr G w x (b + 1000) (aShf z v1 v2) [("java/util/NoSuchElementException", 1), ("java/lang/IllegalArgumentException", 2)]) := by
  have hok1 : LOk (b + 1000) z := hok.mono (by omega)
  obtain ⟨bf, hq, fs, q, sv, hist, sn, hX, hN⟩ := id h
  refine vx_imp (sm_shelf l G w hSt q.1 q.2.1 q.2.2.1 q.2.2.2 (sC (zS z)) hX.2.2.2.1 hok.s hok.w x bf hq fs _ _ _ _ _ _ _ hX.1 v1 v2 h0 h1 hG) (QI.imp fun v w1 hp => ?_) (fun q_ E_ w1 hp => ?_)
  · obtain ⟨p1, p2, u⟩ := hp
    exact CRet.q h hok1 u p1 p2
  · obtain ⟨p, u⟩ := hp
    refine CThr.q h hok1 u ?_
    rcases p with ⟨p1, p2⟩ | ⟨p1, p2⟩
    · rw [p1, p2]; exact List.mem_cons_self
    · rw [p1, p2]; exact List.mem_cons_of_mem _ List.mem_cons_self

theorem cc_compare (l : Launch) (G : Gl) (w : Wd) (hSt : l.stackTraces = false) (x : Nat) (z : LSt) (b : Int) (h : CmA G w x z) (hok : LOk b z) (hb2 : 2200 ≤ b) (hb : b < 890000) (hG : RegW w) (v1 : Int) (v2 : Int) (h0 : R32 v1) (h1 : R32 v2) : HMX l yX1_compare cX1_compare 3 (some .int) 15 2 12 G [.ref x, .int (iI (v1)), .int (iI (v2))] w (QI G (CRet G w x (b + 1000) (aCmp z v1 v2))) (fun _ => CThr G w x (b + 1000) (aCmp z v1 v2) [("java/util/NoSuchElementException", 1)]) := by
  have hok1 : LOk (b + 1000) z := hok.mono (by omega)
  obtain ⟨bf, hq, fs, q, sv, hist, sn, hX, hN⟩ := id h
  refine vx_imp (sm_cmp l G w hSt q.1 q.2.1 q.2.2.1 q.2.2.2 (sC (zS z)) hX.2.2.2.1 hok.s hok.w x bf hq fs _ _ _ _ _ _ _ hX.1 v1 v2 h0 h1 hG) (QI.imp fun v w1 hp => ?_) (fun q_ E_ w1 hp => ?_)
  · obtain ⟨p1, p2, u⟩ := hp
    exact CRet.q h hok1 u p1 p2
  · obtain ⟨⟨p1, p2⟩, u⟩ := hp
    exact CThr.q h hok1 u (by rw [p1, p2]; exact List.mem_cons_self)

theorem cc_differ (l : Launch) (G : Gl) (w : Wd) (hSt : l.stackTraces = false) (x : Nat) (z : LSt) (b : Int) (h : CmA G w x z) (hok : LOk b z) (hb2 : 2200 ≤ b) (hb : b < 890000) (hG : RegW w) (v1 : Int) (v2 : Int) (h0 : R32 v1) (h1 : R32 v2) : HMX l yX1_differ cX1_differ 3 (some .int) 13 2 12 G [.ref x, .int (iI (v1)), .int (iI (v2))] w (QI G (CRet G w x (b + 1000) (aDif z v1 v2))) (fun _ => CThr G w x (b + 1000) (aDif z v1 v2) [("java/util/NoSuchElementException", 1)]) := by
  have hok1 : LOk (b + 1000) z := hok.mono (by omega)
  obtain ⟨bf, hq, fs, q, sv, hist, sn, hX, hN⟩ := id h
  refine vx_imp (sm_dif l G w hSt q.1 q.2.1 q.2.2.1 q.2.2.2 (sC (zS z)) hX.2.2.2.1 hok.s hok.w x bf hq fs _ _ _ _ _ _ _ hX.1 v1 v2 h0 h1 hG) (QI.imp fun v w1 hp => ?_) (fun q_ E_ w1 hp => ?_)
  · obtain ⟨p1, p2, u⟩ := hp
    exact CRet.q h hok1 u p1 p2
  · obtain ⟨⟨p1, p2⟩, u⟩ := hp
    exact CThr.q h hok1 u (by rw [p1, p2]; exact List.mem_cons_self)

theorem cc_free (l : Launch) (G : Gl) (w : Wd) (hSt : l.stackTraces = false) (x : Nat) (z : LSt) (b : Int) (h : CmA G w x z) (hok : LOk b z) (hb2 : 2200 ≤ b) (hb : b < 890000) (hG : RegW w) (v1 : Int) (h0 : R32 v1) : HMX l yX1_free cX1_free 3 (some .int) 10 1 6 G [.ref x, .int (iI (v1))] w (QI G (CRet G w x (b + 1000) (aFre z v1))) (fun _ => CThr G w x (b + 1000) (aFre z v1) [("java/util/NoSuchElementException", 1)]) := by
  have hok1 : LOk (b + 1000) z := hok.mono (by omega)
  obtain ⟨bf, hq, fs, q, sv, hist, sn, hX, hN⟩ := id h
  refine vx_imp (sm_free l G w hSt q.1 q.2.1 q.2.2.1 q.2.2.2 (sC (zS z)) hX.2.2.2.1 hok.s hok.w x bf hq fs _ _ _ _ _ _ _ hX.1 v1 h0 hG) (QI.imp fun v w1 hp => ?_) (fun q_ E_ w1 hp => ?_)
  · obtain ⟨p1, p2, u⟩ := hp
    exact CRet.q h hok1 u p1 p2
  · obtain ⟨⟨p1, p2⟩, u⟩ := hp
    exact CThr.q h hok1 u (by rw [p1, p2]; exact List.mem_cons_self)

theorem cc_family (l : Launch) (G : Gl) (w : Wd) (hSt : l.stackTraces = false) (x : Nat) (z : LSt) (b : Int) (h : CmA G w x z) (hok : LOk b z) (hb2 : 2200 ≤ b) (hb : b < 890000) (hG : RegW w) (v1 : Int) (h0 : R32 v1) : HMX l yX1_family cX1_family 2 (some .int) 13 1 6 G [.ref x, .int (iI (v1))] w (QI G (CRet G w x (b + 1000) (aFam z v1))) (fun _ => CThr G w x (b + 1000) (aFam z v1) [("java/util/NoSuchElementException", 1)]) := by
  have hok1 : LOk (b + 1000) z := hok.mono (by omega)
  obtain ⟨bf, hq, fs, q, sv, hist, sn, hX, hN⟩ := id h
  refine vx_imp (sm_fam l G w hSt q.1 q.2.1 q.2.2.1 q.2.2.2 (sC (zS z)) hX.2.2.2.1 hok.s hok.w x bf hq fs _ _ _ _ _ _ _ hX.1 v1 h0 hG) (QI.imp fun v w1 hp => ?_) (fun q_ E_ w1 hp => ?_)
  · obtain ⟨p1, p2, u⟩ := hp
    exact CRet.q h hok1 u p1 p2
  · obtain ⟨⟨p1, p2⟩, u⟩ := hp
    exact CThr.q h hok1 u (by rw [p1, p2]; exact List.mem_cons_self)

theorem cc_at (l : Launch) (G : Gl) (w : Wd) (hSt : l.stackTraces = false) (x : Nat) (z : LSt) (b : Int) (h : CmA G w x z) (hok : LOk b z) (hb2 : 2200 ≤ b) (hb : b < 890000) (hG : RegW w) (v1 : Int) (h0 : R32 v1) : HM l yX1_at cX1_at 2 (some .int) 7 0 0 G [.ref x, .int (iI (v1))] w (QI G (CRet G w x (b + 1000) (aAt z v1))) := by
  have hok1 : LOk (b + 1000) z := hok.mono (by omega)
  obtain ⟨bf, hq, fs, q, sv, hist, sn, hX, hN⟩ := id h
  refine HM.imp (sm_at l G w q.1 q.2.1 q.2.2.1 q.2.2.2 (sC (zS z)) hX.2.2.2.1 hok.s x bf hq fs _ _ _ _ _ _ _ hX.1  v1 h0) (QI.imp fun v w1 hp => ?_)
  obtain ⟨e, ew⟩ := hp
  exact CRet.z h hok1 hG ew e

theorem cc_gap (l : Launch) (G : Gl) (w : Wd) (hSt : l.stackTraces = false) (x : Nat) (z : LSt) (b : Int) (h : CmA G w x z) (hok : LOk b z) (hb2 : 2200 ≤ b) (hb : b < 890000) (hG : RegW w)   : HM l yX1_gap cX1_gap 1 (some .int) 15 0 0 G [.ref x] w (QI G (CRet G w x (b + 1000) (aGap z))) := by
  have hok1 : LOk (b + 1000) z := hok.mono (by omega)
  obtain ⟨bf, hq, fs, q, sv, hist, sn, hX, hN⟩ := id h
  refine HM.imp (sm_gap l G w q.1 q.2.1 q.2.2.1 q.2.2.2 (sC (zS z)) hX.2.2.2.1 hok.s x bf hq fs _ _ _ _ _ _ _ hX.1   ) (QI.imp fun v w1 hp => ?_)
  obtain ⟨e, ew⟩ := hp
  exact CRet.z h hok1 hG ew e

theorem cc_alike (l : Launch) (G : Gl) (w : Wd) (hSt : l.stackTraces = false) (x : Nat) (z : LSt) (b : Int) (h : CmA G w x z) (hok : LOk b z) (hb2 : 2200 ≤ b) (hb : b < 890000) (hG : RegW w)   : HM l yX1_alike cX1_alike 1 (some .int) 13 0 0 G [.ref x] w (QI G (CRet G w x (b + 1000) (aAlk z))) := by
  have hok1 : LOk (b + 1000) z := hok.mono (by omega)
  obtain ⟨bf, hq, fs, q, sv, hist, sn, hX, hN⟩ := id h
  refine HM.imp (sm_alk l G w q.1 q.2.1 q.2.2.1 q.2.2.2 (sC (zS z)) hX.2.2.2.1 hok.s x bf hq fs _ _ _ _ _ _ _ hX.1   ) (QI.imp fun v w1 hp => ?_)
  obtain ⟨e, ew⟩ := hp
  exact CRet.z h hok1 hG ew e

theorem cc_cause (l : Launch) (G : Gl) (w : Wd) (hSt : l.stackTraces = false) (x : Nat) (z : LSt) (b : Int) (h : CmA G w x z) (hok : LOk b z) (hb2 : 2200 ≤ b) (hb : b < 890000) (hG : RegW w)   : HM l yX1_cause cX1_cause 1 (some .int) 1 0 0 G [.ref x] w (QI G (CRet G w x (b + 1000) (aCau z))) := by
  have hok1 : LOk (b + 1000) z := hok.mono (by omega)
  obtain ⟨bf, hq, fs, q, sv, hist, sn, hX, hN⟩ := id h
  refine HM.imp (sm_cau l G w q.1 q.2.1 q.2.2.1 q.2.2.2 (sC (zS z)) hX.2.2.2.1 hok.s x bf hq fs _ _ _ _ _ _ _ hX.1   ) (QI.imp fun v w1 hp => ?_)
  obtain ⟨e, ew⟩ := hp
  exact CRet.z h hok1 hG ew e

theorem cc_errorPosition (l : Launch) (G : Gl) (w : Wd) (hSt : l.stackTraces = false) (x : Nat) (z : LSt) (b : Int) (h : CmA G w x z) (hok : LOk b z) (hb2 : 2200 ≤ b) (hb : b < 890000) (hG : RegW w)   : HM l yX1_errorPosition cX1_errorPosition 1 (some .int) 1 0 0 G [.ref x] w (QI G (CRet G w x (b + 1000) (aErr z))) := by
  have hok1 : LOk (b + 1000) z := hok.mono (by omega)
  obtain ⟨bf, hq, fs, q, sv, hist, sn, hX, hN⟩ := id h
  refine HM.imp (sm_err l G w q.1 q.2.1 q.2.2.1 q.2.2.2 (sC (zS z)) hX.2.2.2.1 hok.s x bf hq fs _ _ _ _ _ _ _ hX.1   ) (QI.imp fun v w1 hp => ?_)
  obtain ⟨e, ew⟩ := hp
  exact CRet.z h hok1 hG ew e

theorem cc_undoCount (l : Launch) (G : Gl) (w : Wd) (hSt : l.stackTraces = false) (x : Nat) (z : LSt) (b : Int) (h : CmA G w x z) (hok : LOk b z) (hb2 : 2200 ≤ b) (hb : b < 890000) (hG : RegW w)   : HM l yX1_undoCount cX1_undoCount 1 (some .int) 3 0 0 G [.ref x] w (QI G (CRet G w x (b + 1000) (aUnc z))) := by
  have hok1 : LOk (b + 1000) z := hok.mono (by omega)
  obtain ⟨bf, hq, fs, q, sv, hist, sn, hX, hN⟩ := id h
  refine HM.imp (sm_unc l G w q.1 q.2.1 q.2.2.1 q.2.2.2 (sC (zS z)) hX.2.2.2.1 hok.s x bf hq fs _ _ _ _ _ _ _ hX.1 _ hX.2.2.1  ) (QI.imp fun v w1 hp => ?_)
  obtain ⟨e, ew⟩ := hp
  refine CRet.z h hok1 hG ew (e.trans ?_)
  rw [← hX.2.2.2.2.2.2.1, List.length_map, List.length_map]

theorem cc_formattedByte (l : Launch) (G : Gl) (w : Wd) (hSt : l.stackTraces = false) (x : Nat) (z : LSt) (b : Int) (h : CmA G w x z) (hok : LOk b z) (hb2 : 2200 ≤ b) (hb : b < 890000) (hG : RegW w) (v1 : Int) (h0 : R32 v1) : HM l yX1_formattedByte cX1_formattedByte 2 (some .int) 7 0 0 G [.ref x, .int (iI (v1))] w (QI G (CRet G w x (b + 1000) (aFmb z v1))) := by
  have hok1 : LOk (b + 1000) z := hok.mono (by omega)
  obtain ⟨bf, hq, fs, q, sv, hist, sn, hX, hN⟩ := id h
  refine HM.imp (sm_fmb l G w q.1 q.2.1 q.2.2.1 q.2.2.2 (sC (zS z)) hX.2.2.2.1 hok.s x bf hq fs _ _ _ _ _ _ _ hX.1 _ hX.2.2.2.2.1 v1 h0) (QI.imp fun v w1 hp => ?_)
  obtain ⟨e, ew⟩ := hp
  exact CRet.z h hok1 hG ew e

theorem cc_rankIf (l : Launch) (G : Gl) (w : Wd) (hSt : l.stackTraces = false) (x : Nat) (z : LSt) (b : Int) (h : CmA G w x z) (hok : LOk b z) (hb2 : 2200 ≤ b) (hb : b < 890000) (hG : RegW w) (v1 : Int) (h0 : R32 v1) : HMT l yX1_rankIf cX1_rankIf 3 (some .int) [(5, 17, 18, 193)] 16 182 1170 G [.ref x, .int (iI (v1))] w (QI G (CRet G w x (b + 1000) (aRnk z v1))) (fun _ => CThr G w x (b + 1000) (aRnk z v1) [("java/lang/IllegalArgumentException", 1)]) := by
  have hok1 : LOk (b + 1000) z := hok.mono (by omega)
  obtain ⟨bf, hq, fs, q, sv, hist, sn, hX, hN⟩ := id h
  refine vx_imp (sm_rnk l G w hSt q.1 q.2.1 q.2.2.1 q.2.2.2 (sC (zS z)) hX.2.2.2.1 hok.s hok.w x bf hq fs _ _ _ _ _ _ _ hX.1 _ rfl hX.2.1 v1 h0 hG) (QI.imp fun v w1 hp => ?_) (fun q_ E_ w1 hp => ?_)
  · obtain ⟨hg, e, hx1, u⟩ := hp
    have hBn : BufAt G w1 bf (bf + 1) [] := hX.2.1.nil.mv u.1 (fun hs => (hX.2.1.ne hX.hx).p (Nat.succ.inj hs))
    refine ⟨gAns_c hg, e, ?_, hX.kp u.1 (fun r hr => Or.inl hr), u.2.2.1, hok1⟩
    show CmA G w1 x (zTB z v1, _, _, _, _, _, _)
    rw [zTB_t hg]
    exact ⟨bf, hq, fs, q, sv, hist, sn, hX.obj u.1 (fun r hr => Or.inl hr) hx1 hBn id, hN⟩
  · obtain ⟨hg, e, ew⟩ := hp
    rw [aRnk_f hg, e]
    exact CThr.z h hok1 hG ew List.mem_cons_self

theorem cc_placeIf (l : Launch) (G : Gl) (w : Wd) (hSt : l.stackTraces = false) (x : Nat) (z : LSt) (b : Int) (h : CmA G w x z) (hok : LOk b z) (hb2 : 2200 ≤ b) (hb : b < 890000) (hG : RegW w) (v1 : Int) (h0 : R32 v1) : HMT l yX1_placeIf cX1_placeIf 4 (some .int) [(5, 61, 62, 193)] 17 182 1170 G [.ref x, .int (iI (v1))] w (QI G (CRet G w x (b + 1000) (aPlc z v1))) (fun _ => CThr G w x (b + 1000) (aPlc z v1) [("java/lang/IllegalArgumentException", 1)]) := by
  have hok1 : LOk (b + 1000) z := hok.mono (by omega)
  obtain ⟨bf, hq, fs, q, sv, hist, sn, hX, hN⟩ := id h
  refine vx_imp (sm_pli l G w hSt q.1 q.2.1 q.2.2.1 q.2.2.2 (sC (zS z)) hX.2.2.2.1 hok.s hok.w x bf hq fs _ _ _ _ _ _ _ hX.1 _ rfl hX.2.1 v1 h0 hG) (QI.imp fun v w1 hp => ?_) (fun q_ E_ w1 hp => ?_)
  · obtain ⟨hg, e, hx1, u⟩ := hp
    have hBn : BufAt G w1 bf (bf + 1) [] := hX.2.1.nil.mv u.1 (fun hs => (hX.2.1.ne hX.hx).p (Nat.succ.inj hs))
    refine ⟨gAns_c hg, e, ?_, hX.kp u.1 (fun r hr => Or.inl hr), u.2.2.1, hok1⟩
    show CmA G w1 x (zTB z v1, _, _, _, _, _, _)
    rw [zTB_t hg]
    exact ⟨bf, hq, fs, q, sv, hist, sn, hX.obj u.1 (fun r hr => Or.inl hr) hx1 hBn id, hN⟩
  · obtain ⟨hg, e, ew⟩ := hp
    rw [aPlc_f hg, e]
    exact CThr.z h hok1 hG ew List.mem_cons_self

theorem cc_movesIf (l : Launch) (G : Gl) (w : Wd) (hSt : l.stackTraces = false) (x : Nat) (z : LSt) (b : Int) (h : CmA G w x z) (hok : LOk b z) (hb2 : 2200 ≤ b) (hb : b < 890000) (hG : RegW w) (v1 : Int) (h0 : R32 v1) : HMT l yX1_movesIf cX1_movesIf 3 (some .int) [(5, 41, 42, 193)] 17 182 1170 G [.ref x, .int (iI (v1))] w (QI G (CRet G w x (b + 1000) (aMov z v1))) (fun _ => CThr G w x (b + 1000) (aMov z v1) [("java/lang/IllegalArgumentException", 1)]) := by
  have hok1 : LOk (b + 1000) z := hok.mono (by omega)
  obtain ⟨bf, hq, fs, q, sv, hist, sn, hX, hN⟩ := id h
  refine vx_imp (sm_mvi l G w hSt q.1 q.2.1 q.2.2.1 q.2.2.2 (sC (zS z)) hX.2.2.2.1 hok.s hok.w x bf hq fs _ _ _ _ _ _ _ hX.1 _ rfl hX.2.1 v1 h0 hG) (QI.imp fun v w1 hp => ?_) (fun q_ E_ w1 hp => ?_)
  · obtain ⟨hg, e, hx1, u⟩ := hp
    have hBn : BufAt G w1 bf (bf + 1) [] := hX.2.1.nil.mv u.1 (fun hs => (hX.2.1.ne hX.hx).p (Nat.succ.inj hs))
    refine ⟨gAns_c hg, e, ?_, hX.kp u.1 (fun r hr => Or.inl hr), u.2.2.1, hok1⟩
    show CmA G w1 x (zTB z v1, _, _, _, _, _, _)
    rw [zTB_t hg]
    exact ⟨bf, hq, fs, q, sv, hist, sn, hX.obj u.1 (fun r hr => Or.inl hr) hx1 hBn id, hN⟩
  · obtain ⟨hg, e, ew⟩ := hp
    rw [aMov_f hg, e]
    exact CThr.z h hok1 hG ew List.mem_cons_self

theorem cc_why (l : Launch) (G : Gl) (w : Wd) (hSt : l.stackTraces = false) (x : Nat) (z : LSt) (b : Int) (h : CmA G w x z) (hok : LOk b z) (hb2 : 2200 ≤ b) (hb : b < 890000) (hG : RegW w) (v1 : Int) (h0 : R32 v1) : HMT l yX1_why cX1_why 3 (some .int) [(10, 19, 20, 193)] 18 182 1170 G [.ref x, .int (iI (v1))] w (QI G (CRet G w x (b + 1000) (aWhy z v1))) (fun _ => CThr G w x (b + 1000) (aWhy z v1) [("java/lang/IllegalArgumentException", 1)]) := by
  have hok1 : LOk (b + 1000) z := hok.mono (by omega)
  obtain ⟨bf, hq, fs, q, sv, hist, sn, hX, hN⟩ := id h
  refine vx_imp (sm_why l G w hSt q.1 q.2.1 q.2.2.1 q.2.2.2 (sC (zS z)) hX.2.2.2.1 hok.s hok.w x bf hq fs _ _ _ _ _ _ _ hX.1 _ rfl hX.2.1 v1 h0 hG) (QI.imp fun v w1 hp => ?_) (fun q_ E_ w1 hp => ?_)
  · obtain ⟨hg, e, hx1, u⟩ := hp
    have hBn : BufAt G w1 bf (bf + 1) [] := hX.2.1.nil.mv u.1 (fun hs => (hX.2.1.ne hX.hx).p (Nat.succ.inj hs))
    refine ⟨gAns_c hg, e, ?_, hX.kp u.1 (fun r hr => Or.inl hr), u.2.2.1, hok1⟩
    show CmA G w1 x (zTB z v1, _, _, _, _, _, _)
    rw [zTB_t hg]
    exact ⟨bf, hq, fs, q, sv, hist, sn, hX.obj u.1 (fun r hr => Or.inl hr) hx1 hBn id, hN⟩
  · obtain ⟨hg, e, ew⟩ := hp
    rw [aWhy_f hg, e]
    exact CThr.z h hok1 hG ew List.mem_cons_self

theorem cc_soundsLike (l : Launch) (G : Gl) (w : Wd) (hSt : l.stackTraces = false) (x : Nat) (z : LSt) (b : Int) (h : CmA G w x z) (hok : LOk b z) (hb2 : 2200 ≤ b) (hb : b < 890000) (hG : RegW w) (v1 : Int) (h0 : R32 v1) : HMT l yX1_soundsLike cX1_soundsLike 7 (some .int) [(5, 92, 93, 193)] 12 40 240 G [.ref x, .int (iI (v1))] w (QI G (CRet G w x (b + 1000) (aSnd z v1))) (fun _ => CThr G w x (b + 1000) (aSnd z v1) [("java/lang/IllegalArgumentException", 1)]) := by
  have hok1 : LOk (b + 1000) z := hok.mono (by omega)
  obtain ⟨bf, hq, fs, q, sv, hist, sn, hX, hN⟩ := id h
  refine vx_imp (sm_snd l G w hSt q.1 q.2.1 q.2.2.1 q.2.2.2 (sC (zS z)) hX.2.2.2.1 hok.s hok.w x bf hq fs _ _ _ _ _ _ _ hX.1 _ rfl hX.2.1 v1 h0 hG) (QI.imp fun v w1 hp => ?_) (fun q_ E_ w1 hp => ?_)
  · obtain ⟨hg, e, hx1, u⟩ := hp
    have hBn : BufAt G w1 bf (bf + 1) [] := hX.2.1.nil.mv u.1 (fun hs => (hX.2.1.ne hX.hx).p (Nat.succ.inj hs))
    refine ⟨sAns_c hg, e, ?_, hX.kp u.1 (fun r hr => Or.inl hr), u.2.2.1, hok1⟩
    show CmA G w1 x (zTB z v1, _, _, _, _, _, _)
    rw [zTB_t hg]
    exact ⟨bf, hq, fs, q, sv, hist, sn, hX.obj u.1 (fun r hr => Or.inl hr) hx1 hBn id, hN⟩
  · obtain ⟨hg, e, ew⟩ := hp
    rw [aSnd_f hg, e]
    exact CThr.z h hok1 hG ew List.mem_cons_self

theorem cc_drop (l : Launch) (G : Gl) (w : Wd) (hSt : l.stackTraces = false) (x : Nat) (z : LSt) (b : Int) (h : CmA G w x z) (hok : LOk b z) (hb2 : 2200 ≤ b) (hb : b < 890000) (hG : RegW w) (v1 : Int) (h0 : R32 v1) : HMX l yX1_drop cX1_drop 3 (some .int) 21 (80 + (3 + 114 * 40)) (520 + (47 + 651 * 40)) G [.ref x, .int (iI (v1))] w (QI G (CRet G w x (b + 1000) (aDrp z v1))) (fun _ => CThr G w x (b + 1000) (aDrp z v1) [("java/util/NoSuchElementException", 1)]) := by
  have hok1 : LOk (b + 1000) z := hok.mono (by omega)
  obtain ⟨bf, hq, fs, q, sv, hist, sn, hX, hN⟩ := id h
  refine vx_imp (sm_drop l G w hSt q.1 q.2.1 q.2.2.1 q.2.2.2 (sC (zS z)) hX.2.2.2.1 hok.s hok.w (hok.l (by omega)) x bf hq fs _ _ _ _ _ _ _ hX.1 _ hX.2.2.1 hX.h8 v1 h0 hG) (QI.imp fun v w1 hp => ?_) (fun q_ E_ w1 hp => ?_)
  · obtain ⟨hc, e, hC1, hx1, hop, u⟩ := hp
    obtain ⟨hist2, hX2⟩ := hX.op (p := doA (sC (zS z)) 3 v1 0) (B2 := zB z) u.1 (fun r hr => hr) id hx1 hC1 hop
    have ha : aDrp z v1 = (0, (doA (sC (zS z)) 3 v1 0).2, zSy z (opS (zS z) (doA (sC (zS z)) 3 v1 0))) := by
      unfold aDrp oDrp
      rw [if_neg hc]; rfl
    rw [ha]
    exact ⟨rfl, e, ⟨bf, hq, fs, q, sv, hist2, sn, hX2, hN⟩, hX.kp u.1 (fun r hr => rg6 hr), u.2.2.1, (hok.sy (opA_ok hok.1 (by omega) (fun q_ => absurd q_ (by decide)) (fun q_ => absurd q_ (by decide)) (fun q_ => absurd q_ (by decide))) (by omega) _ _ _ _).mono (by omega)⟩
  · obtain ⟨⟨hc, e⟩, ew⟩ := hp
    have ha : aDrp z v1 = (1, 0, z) := by
      unfold aDrp oDrp
      rw [if_pos hc]
    rw [ha, e]
    exact CThr.z h hok1 hG ew List.mem_cons_self

theorem cc_unsay (l : Launch) (G : Gl) (w : Wd) (hSt : l.stackTraces = false) (x : Nat) (z : LSt) (b : Int) (h : CmA G w x z) (hok : LOk b z) (hb2 : 2200 ≤ b) (hb : b < 890000) (hG : RegW w) (v1 : Int) (h0 : R32 v1) : HMX l yX1_unsay cX1_unsay 2 (some .int) 21 (80 + (3 + 114 * 40)) (520 + (47 + 651 * 40)) G [.ref x, .int (iI (v1))] w (QI G (CRet G w x (b + 1000) (aUns z v1))) (fun _ => CThr G w x (b + 1000) (aUns z v1) [("java/util/NoSuchElementException", 1)]) := by
  have hok1 : LOk (b + 1000) z := hok.mono (by omega)
  obtain ⟨bf, hq, fs, q, sv, hist, sn, hX, hN⟩ := id h
  refine vx_imp (sm_uns l G w hSt q.1 q.2.1 q.2.2.1 q.2.2.2 (sC (zS z)) hX.2.2.2.1 hok.s hok.w (hok.l (by omega)) x bf hq fs _ _ _ _ _ _ _ hX.1 _ hX.2.2.1 hX.h8 v1 h0 hG) (QI.imp fun v w1 hp => ?_) (fun q_ E_ w1 hp => ?_)
  · obtain ⟨hc, e, hC1, hx1, hop, u⟩ := hp
    obtain ⟨hist2, hX2⟩ := hX.op (p := doA (sC (zS z)) 2 v1 0) (B2 := zB z) u.1 (fun r hr => hr) id hx1 hC1 hop
    have ha : aUns z v1 = (0, (doA (sC (zS z)) 2 v1 0).2, zSy z (opS (zS z) (doA (sC (zS z)) 2 v1 0))) := by
      unfold aUns oUns
      rw [if_pos hc]; rfl
    rw [ha]
    exact ⟨rfl, e, ⟨bf, hq, fs, q, sv, hist2, sn, hX2, hN⟩, hX.kp u.1 (fun r hr => rg6 hr), u.2.2.1, (hok.sy (opA_ok hok.1 (by omega) (fun _ => hc.1) (fun q_ => absurd q_ (by decide)) (fun q_ => absurd q_ (by decide))) (by omega) _ _ _ _).mono (by omega)⟩
  · obtain ⟨⟨hc, e⟩, ew⟩ := hp
    have ha : aUns z v1 = (1, 0, z) := by
      unfold aUns oUns
      rw [if_neg hc]
    rw [ha, e]
    exact CThr.z h hok1 hG ew List.mem_cons_self

theorem cc_setWidth (l : Launch) (G : Gl) (w : Wd) (hSt : l.stackTraces = false) (x : Nat) (z : LSt) (b : Int) (h : CmA G w x z) (hok : LOk b z) (hb2 : 2200 ≤ b) (hb : b < 890000) (hG : RegW w) (v1 : Int) (v2 : Int) (h0 : R32 v1) (h1 : R32 v2) : HMX l yX1_setWidth cX1_setWidth 4 (some .int) 21 (80 + (3 + 114 * 40)) (520 + (47 + 651 * 40)) G [.ref x, .int (iI (v1)), .int (iI (v2))] w (QI G (CRet G w x (b + 1000) (aWid z v1 v2))) (fun _ => CThr G w x (b + 1000) (aWid z v1 v2) [("java/util/NoSuchElementException", 1), ("java/lang/IllegalArgumentException", 2)]) := by
  have hok1 : LOk (b + 1000) z := hok.mono (by omega)
  obtain ⟨bf, hq, fs, q, sv, hist, sn, hX, hN⟩ := id h
  refine vx_imp (sm_wid l G w hSt q.1 q.2.1 q.2.2.1 q.2.2.2 (sC (zS z)) hX.2.2.2.1 hok.s hok.w (hok.l (by omega)) x bf hq fs _ _ _ _ _ _ _ hX.1 _ hX.2.2.1 hX.h8 v1 v2 h0 h1 hG) (QI.imp fun v w1 hp => ?_) (fun q_ E_ w1 hp => ?_)
  · obtain ⟨hc, e, hC1, hx1, hop, u⟩ := hp
    obtain ⟨hist2, hX2⟩ := hX.op (p := doA (sC (zS z)) 4 v1 v2) (B2 := zB z) u.1 (fun r hr => hr) id hx1 hC1 hop
    have ha : aWid z v1 v2 = (0, (doA (sC (zS z)) 4 v1 v2).2, zSy z (opS (zS z) (doA (sC (zS z)) 4 v1 v2))) := by
      unfold aWid oWid
      rw [if_neg hc.1, if_pos hc.2]; rfl
    rw [ha]
    exact ⟨rfl, e, ⟨bf, hq, fs, q, sv, hist2, sn, hX2, hN⟩, hX.kp u.1 (fun r hr => rg6 hr), u.2.2.1, (hok.sy (opA_ok hok.1 (by omega) (fun q_ => absurd q_ (by decide)) (fun _ => hc.2) (fun q_ => absurd q_ (by decide))) (by omega) _ _ _ _).mono (by omega)⟩
  · obtain ⟨p, ew⟩ := hp
    rcases p with ⟨hc, e⟩ | ⟨hc, hd, e⟩
    · have ha : aWid z v1 v2 = (1, 0, z) := by
        unfold aWid oWid
        rw [if_pos hc]
      rw [ha, e]
      exact CThr.z h hok1 hG ew List.mem_cons_self
    · have ha : aWid z v1 v2 = (2, 0, z) := by
        unfold aWid oWid
        rw [if_neg hc, if_neg hd]
      rw [ha, e]
      exact CThr.z h hok1 hG ew (List.mem_cons_of_mem _ List.mem_cons_self)

theorem cc_setBound (l : Launch) (G : Gl) (w : Wd) (hSt : l.stackTraces = false) (x : Nat) (z : LSt) (b : Int) (h : CmA G w x z) (hok : LOk b z) (hb2 : 2200 ≤ b) (hb : b < 890000) (hG : RegW w) (v1 : Int) (v2 : Int) (h0 : R32 v1) (h1 : R32 v2) : HMX l yX1_setBound cX1_setBound 3 (some .int) 21 (80 + (3 + 114 * 40)) (520 + (47 + 651 * 40)) G [.ref x, .int (iI (v1)), .int (iI (v2))] w (QI G (CRet G w x (b + 1000) (aBnd z v1 v2))) (fun _ => CThr G w x (b + 1000) (aBnd z v1 v2) [("java/util/NoSuchElementException", 1), ("java/lang/IllegalArgumentException", 2)]) := by
  have hok1 : LOk (b + 1000) z := hok.mono (by omega)
  obtain ⟨bf, hq, fs, q, sv, hist, sn, hX, hN⟩ := id h
  refine vx_imp (sm_bnd l G w hSt q.1 q.2.1 q.2.2.1 q.2.2.2 (sC (zS z)) hX.2.2.2.1 hok.s hok.w (hok.l (by omega)) x bf hq fs _ _ _ _ _ _ _ hX.1 _ hX.2.2.1 hX.h8 v1 v2 h0 h1 hG) (QI.imp fun v w1 hp => ?_) (fun q_ E_ w1 hp => ?_)
  · obtain ⟨hc, e, hC1, hx1, hop, u⟩ := hp
    obtain ⟨hist2, hX2⟩ := hX.op (p := doA (sC (zS z)) 5 v1 v2) (B2 := zB z) u.1 (fun r hr => hr) id hx1 hC1 hop
    have ha : aBnd z v1 v2 = (0, (doA (sC (zS z)) 5 v1 v2).2, zSy z (opS (zS z) (doA (sC (zS z)) 5 v1 v2))) := by
      unfold aBnd oBnd
      rw [if_pos hc.1, if_pos hc.2]; rfl
    rw [ha]
    exact ⟨rfl, e, ⟨bf, hq, fs, q, sv, hist2, sn, hX2, hN⟩, hX.kp u.1 (fun r hr => rg6 hr), u.2.2.1, (hok.sy (opA_ok hok.1 (by omega) (fun _ => hc.1.1) (fun q_ => absurd q_ (by decide)) (fun _ => hc.2)) (by omega) _ _ _ _).mono (by omega)⟩
  · obtain ⟨p, ew⟩ := hp
    rcases p with ⟨hc, e⟩ | ⟨hc, hd, e⟩
    · have ha : aBnd z v1 v2 = (1, 0, z) := by
        unfold aBnd oBnd
        rw [if_neg hc]
      rw [ha, e]
      exact CThr.z h hok1 hG ew List.mem_cons_self
    · have ha : aBnd z v1 v2 = (2, 0, z) := by
        unfold aBnd oBnd
        rw [if_pos hc, if_neg hd]
      rw [ha, e]
      exact CThr.z h hok1 hG ew (List.mem_cons_of_mem _ List.mem_cons_self)

theorem cc_balance (l : Launch) (G : Gl) (w : Wd) (hSt : l.stackTraces = false) (x : Nat) (z : LSt) (b : Int) (h : CmA G w x z) (hok : LOk b z) (hb2 : 2200 ≤ b) (hb : b < 890000) (hG : RegW w)   : HM l yX1_balance cX1_balance 1 (some .int) 21 (80 + (3 + 114 * 40)) (520 + (47 + 651 * 40)) G [.ref x] w (QI G (CRet G w x (b + 1000) (aBal z))) := by
  have hok1 : LOk (b + 1000) z := hok.mono (by omega)
  obtain ⟨bf, hq, fs, q, sv, hist, sn, hX, hN⟩ := id h
  refine HM.imp (sm_bal l G w q.1 q.2.1 q.2.2.1 q.2.2.2 (sC (zS z)) hX.2.2.2.1 hok.s hok.w (hok.l (by omega)) x bf hq fs _ _ _ _ _ _ _ hX.1 _ hX.2.2.1 hX.h8   hG) (QI.imp fun v w1 hp => ?_)
  obtain ⟨e, hC1, hx1, hop, u⟩ := hp
  obtain ⟨hist2, hX2⟩ := hX.op (p := doA (sC (zS z)) 6 0 0) (B2 := zB z) u.1 (fun r hr => hr) id hx1 hC1 hop
  have ha : aBal z = (0, (doA (sC (zS z)) 6 0 0).2, zSy z (opS (zS z) (doA (sC (zS z)) 6 0 0))) := by
    unfold aBal opA
    rfl
  rw [ha]
  exact ⟨rfl, e, ⟨bf, hq, fs, q, sv, hist2, sn, hX2, hN⟩, hX.kp u.1 (fun r hr => rg6 hr), u.2.2.1, (hok.sy (opA_ok hok.1 (by omega) (fun q_ => absurd q_ (by decide)) (fun q_ => absurd q_ (by decide)) (fun q_ => absurd q_ (by decide))) (by omega) _ _ _ _).mono (by omega)⟩

theorem cc_respace (l : Launch) (G : Gl) (w : Wd) (hSt : l.stackTraces = false) (x : Nat) (z : LSt) (b : Int) (h : CmA G w x z) (hok : LOk b z) (hb2 : 2200 ≤ b) (hb : b < 890000) (hG : RegW w)   : HM l yX1_respace cX1_respace 1 (some .int) 21 (80 + (3 + 114 * 40)) (520 + (47 + 651 * 40)) G [.ref x] w (QI G (CRet G w x (b + 1000) (aRsp z))) := by
  have hok1 : LOk (b + 1000) z := hok.mono (by omega)
  obtain ⟨bf, hq, fs, q, sv, hist, sn, hX, hN⟩ := id h
  refine HM.imp (sm_rsp l G w q.1 q.2.1 q.2.2.1 q.2.2.2 (sC (zS z)) hX.2.2.2.1 hok.s hok.w (hok.l (by omega)) x bf hq fs _ _ _ _ _ _ _ hX.1 _ hX.2.2.1 hX.h8   hG) (QI.imp fun v w1 hp => ?_)
  obtain ⟨e, hC1, hx1, hop, u⟩ := hp
  obtain ⟨hist2, hX2⟩ := hX.op (p := doA (sC (zS z)) 7 0 0) (B2 := zB z) u.1 (fun r hr => hr) id hx1 hC1 hop
  have ha : aRsp z = (0, (doA (sC (zS z)) 7 0 0).2, zSy z (opS (zS z) (doA (sC (zS z)) 7 0 0))) := by
    unfold aRsp opA
    rfl
  rw [ha]
  exact ⟨rfl, e, ⟨bf, hq, fs, q, sv, hist2, sn, hX2, hN⟩, hX.kp u.1 (fun r hr => rg6 hr), u.2.2.1, (hok.sy (opA_ok hok.1 (by omega) (fun q_ => absurd q_ (by decide)) (fun q_ => absurd q_ (by decide)) (fun q_ => absurd q_ (by decide))) (by omega) _ _ _ _).mono (by omega)⟩

theorem cc_add (l : Launch) (G : Gl) (w : Wd) (hSt : l.stackTraces = false) (x : Nat) (z : LSt) (b : Int) (h : CmA G w x z) (hok : LOk b z) (hb2 : 2200 ≤ b) (hb : b < 890000) (hG : RegW w) (v1 : Int) (v2 : Int) (h0 : R32 v1) (h1 : R32 v2) : HMT l yX1_add cX1_add 4 (some .int) [(15, 32, 33, 193)] 21 (270 + (3 + 114 * 40)) (1700 + (47 + 651 * 40)) G [.ref x, .int (iI (v1)), .int (iI (v2))] w (QI G (CRet G w x (b + 1000) (aAdd z v1 v2))) (fun _ => CThr G w x (b + 1000) (aAdd z v1 v2) [("java/lang/IllegalArgumentException", 1)]) := by
  have hok1 : LOk (b + 1000) z := hok.mono (by omega)
  obtain ⟨bf, hq, fs, q, sv, hist, sn, hX, hN⟩ := id h
  refine vx_imp (sm_add l G w hSt q.1 q.2.1 q.2.2.1 q.2.2.2 (sC (zS z)) hX.2.2.2.1 hok.s hok.w (hok.l (by omega)) x bf hq fs _ _ _ _ _ _ _ hX.1 _ hX.2.2.1 hX.h8 _ rfl hX.2.1 v1 v2 h0 h1 hG) (QI.imp fun v w1 hp => ?_) (fun q_ E_ w1 hp => ?_)
  · obtain ⟨hc, hgd, e, hC1, hx1, hop, u⟩ := hp
    have her : gErr (zB z) v2 (zE z) = errP (gst (zB z) v2).1 := if_pos hc.2
    rw [her] at hx1
    obtain ⟨hist2, hX2⟩ := hX.op (p := addR (sC (zS z)) (zB z) v1 v2) (B2 := []) u.1 (fun r hr => hr) (fun hB => hB.nil) hx1 hC1 hop
    have ha : aAdd z v1 v2 = (0, (addR (sC (zS z)) (zB z) v1 v2).2, zTx z [] (errP (gst (zB z) v2).1) (opS (zS z) (addR (sC (zS z)) (zB z) v1 v2))) := if_pos hc
    have hok2 : Ok (b + 41) (addR (sC (zS z)) (zB z) v1 v2).1 := by
      unfold addR
      split
      · next q0 => exact hok.o.ad (by omega) (hgd q0) hc.1
      · exact hok.o.mono (by omega)
    rw [ha]
    exact ⟨rfl, e, ⟨bf, hq, fs, q, sv, hist2, sn, hX2, hN⟩, hX.kp u.1 (fun r hr => rg6 hr), u.2.2.1, (hok.sy (hok.1.op hok2) (by omega) _ _ _ _).mono (by omega)⟩
  · obtain ⟨hg, e, ew⟩ := hp
    have ha : aAdd z v1 v2 = (1, 0, z) := if_neg hg
    rw [ha, e]
    exact CThr.z h hok1 hG ew List.mem_cons_self

theorem cc_say (l : Launch) (G : Gl) (w : Wd) (hSt : l.stackTraces = false) (x : Nat) (z : LSt) (b : Int) (h : CmA G w x z) (hok : LOk b z) (hb2 : 2200 ≤ b) (hb : b < 890000) (hG : RegW w) (v1 : Int) (h0 : R32 v1) : HMT l yX1_say cX1_say 4 (some .int) [(5, 39, 40, 193)] 21 (110 + (3 + 114 * 40)) (700 + (47 + 651 * 40)) G [.ref x, .int (iI (v1))] w (QI G (CRet G w x (b + 1000) (aSay z v1))) (fun _ => CThr G w x (b + 1000) (aSay z v1) [("java/lang/IllegalArgumentException", 1)]) := by
  have hok1 : LOk (b + 1000) z := hok.mono (by omega)
  obtain ⟨bf, hq, fs, q, sv, hist, sn, hX, hN⟩ := id h
  refine vx_imp (sm_say l G w hSt q.1 q.2.1 q.2.2.1 q.2.2.2 (sC (zS z)) hX.2.2.2.1 hok.s hok.w (hok.l (by omega)) x bf hq fs _ _ _ _ _ _ _ hX.1 _ hX.2.2.1 hX.h8 _ rfl hX.2.1 v1 h0 hG) (QI.imp fun v w1 hp => ?_) (fun q_ E_ w1 hp => ?_)
  · obtain ⟨hc, hgd, e, hC1, hx1, hop, u⟩ := hp
    have her : yErr (zB z) v1 (zE z) = errP (yst (zB z) v1).1 := if_pos hc
    rw [her] at hx1
    obtain ⟨hist2, hX2⟩ := hX.op (p := sayR (sC (zS z)) (zB z) v1) (B2 := []) u.1 (fun r hr => hr) (fun hB => hB.nil) hx1 hC1 hop
    have ha : aSay z v1 = (0, (sayR (sC (zS z)) (zB z) v1).2, zTx z [] (errP (yst (zB z) v1).1) (opS (zS z) (sayR (sC (zS z)) (zB z) v1))) := if_pos hc
    have hok2 : Ok (b + 41) (sayR (sC (zS z)) (zB z) v1).1 := by
      unfold sayR
      split
      · next q0 => exact hok.o.sy (by omega) (hgd q0).1 (hgd q0).2
      · exact hok.o.mono (by omega)
    rw [ha]
    exact ⟨rfl, e, ⟨bf, hq, fs, q, sv, hist2, sn, hX2, hN⟩, hX.kp u.1 (fun r hr => rg6 hr), u.2.2.1, (hok.sy (hok.1.op hok2) (by omega) _ _ _ _).mono (by omega)⟩
  · obtain ⟨hg, e, ew⟩ := hp
    have ha : aSay z v1 = (1, 0, z) := if_neg hg
    rw [ha, e]
    exact CThr.z h hok1 hG ew List.mem_cons_self

theorem errP_0 {e : Rd} (h : wrC e = 0) (hn : ∀ x, e = .inl x → x.2 ≠ 0) : errP e = -1 := by
  cases e with
  | inl x => exact absurd h (hn x rfl)
  | inr s => rfl

theorem cc_load (l : Launch) (G : Gl) (w : Wd) (hSt : l.stackTraces = false) (x : Nat) (z : LSt) (b : Int) (h : CmA G w x z) (hok : LOk b z) (hb2 : 2200 ≤ b) (hb : b < 890000) (hG : RegW w) (v1 : Int) (h0 : R32 v1) : HMT l yX1_load cX1_load 3 (some .int) [(5, 24, 27, 193)] 22 (4720 + 1200 * (zB z).length) (26800 + 6900 * (zB z).length) G [.ref x, .int (iI (v1))] w (QI G (CRet G w x (b + 1000) (aLod z v1))) (fun _ => CThr G w x (b + 1000) (aLod z v1) [("java/lang/IllegalArgumentException", 1)]) := by
  have hok1 : LOk (b + 1000) z := hok.mono (by omega)
  obtain ⟨bf, hq, fs, q, sv, hist, sn, hX, hN⟩ := id h
  refine vx_imp (sm_load l G w hSt _ x bf hq fs _ _ _ _ _ _ _ hX.1 _ hX.2.2.1 hX.h8 _ rfl hX.2.1 v1 h0 hG) (QI.imp fun v w1 hp => ?_) (fun q_ E_ w1 hp => ?_)
  · obtain ⟨hg, p⟩ := hp
    have ha : aLod z v1 = (0, lodA (zB z) v1, ([], errP (lst (zB z) v1).1, zC z, zU z, zF z, lodS (zS z) (zB z) v1, if wrC (lst (zB z) v1).1 = 0 then none else zN z)) := if_pos hg
    rw [ha]
    rcases p with ⟨hw0, e, b0, l1, l2, l3, n0, n1, n2, n3, hC1, hok2, hx1, hD1, u⟩ | ⟨hw0, e, hx1, hD1, u⟩
    · have e1 : errP (lst (zB z) v1).1 = -1 := errP_0 hw0 (fun y hy => by have h_ := RdC.text ((zB z).take v1.toNat) y hy; omega)
      have e2 : lodS (zS z) (zB z) v1 = ((lst (zB z) v1).2, [], sD (zS z), sR (zS z)) := if_pos hw0
      have e3 : lodA (zB z) v1 = (cN (lst (zB z) v1).2 : Int) := if_pos hw0
      rw [e1, e2, e3, if_pos hw0]
      refine ⟨rfl, e, ⟨bf, hq, fs, (b0, l1, l2, l3), .null, [], [], hX.fresh u.1 (fun r hr => hr) n0 n1 n2 n3 (fun hB => hB.nil) (List.nil_sublist _) hx1 hC1 hD1, Or.inl ⟨rfl, rfl, rfl⟩⟩, hX.kp u.1 (fun r hr => rg2 hr), u.2.2.1, ⟨⟨hok2.mono (by omega), fun u_ hu_ => absurd hu_ List.not_mem_nil, ⟨hok.1.2.2.1.1, by have := hok.1.2.2.1.2; show sD (zS z) ≤ _; omega⟩, hok.1.2.2.2.1, by have := hok.1.2.2.2.2; show sR (zS z) ≤ _; omega⟩, fun c_ hc_ => (by cases hc_), hok.2.2.1, by have := hok.2.2.2; show zU z ≤ _; omega⟩⟩
    · have e2 : lodS (zS z) (zB z) v1 = zS z := if_neg hw0
      have e3 : lodA (zB z) v1 = -10 - wrC (lst (zB z) v1).1 := if_neg hw0
      rw [e2, e3, if_neg hw0]
      have hn : ∀ c C, hasC w c C → C ≠ "SpokenMarks" → C ≠ "java/util/ArrayDeque" → ¬ (c + 1 = x + 1 ∨ c + 1 = hq + 1) := fun c C hc hC hC2 hs => by
        rcases hs with e | e
        · exact hasC_ne hc hX.hx hC (Nat.succ.inj e)
        · exact hasC_ne hc hX.2.2.1.c hC2 (Nat.succ.inj e)
      have hC1 : CatQ G w1 q (sC (zS z)) := CatAt.mv hX.2.2.2.1 u.1 ⟨fun hs => by rcases hs with e | e <;> exact absurd e.symm (Nat.succ_ne_zero _), hn _ _ (CatAt.c hX.2.2.2.1) (by decide) (by decide), hn _ _ (CatAt.hc hX.2.2.2.1).1 (by decide) (by decide), hn _ _ (CatAt.hc hX.2.2.2.1).2.1 (by decide) (by decide), hn _ _ (CatAt.hc hX.2.2.2.1).2.2 (by decide) (by decide)⟩
      exact ⟨rfl, e, ⟨bf, hq, fs, q, sv, hist, sn, hX.sam u.1 (fun r hr => hr.elim Or.inl (fun e => Or.inr (Or.inl e))) (fun hB => hB.nil) hx1 hC1 hD1, hN⟩, hX.kp u.1 (fun r hr => rg2 hr), u.2.2.1, hok1⟩
  · obtain ⟨hg, e, ew⟩ := hp
    have ha : aLod z v1 = (1, 0, z) := if_neg hg
    rw [ha, e]
    exact CThr.z h hok1 hG ew List.mem_cons_self

theorem cc_loadX (l : Launch) (G : Gl) (w : Wd) (hSt : l.stackTraces = false) (x : Nat) (z : LSt) (b : Int) (h : CmA G w x z) (hok : LOk b z) (hb2 : 2200 ≤ b) (hb : b < 890000) (hG : RegW w) (v1 : Int) (h0 : R32 v1) (hng : ¬ gOk (zB z) v1) : HMT l yX1_load cX1_load 3 (some .int) [(5, 24, 27, 193)] 22 1 6 G [.ref x, .int (iI (v1))] w (QI G (CRet G w x (b + 1000) (aLod z v1))) (fun _ => CThr G w x (b + 1000) (aLod z v1) [("java/lang/IllegalArgumentException", 1)]) := by
  have hok1 : LOk (b + 1000) z := hok.mono (by omega)
  obtain ⟨bf, hq, fs, q, sv, hist, sn, hX, hN⟩ := id h
  refine vx_imp (sm_loadX l G w hSt _ x bf hq fs _ _ _ _ _ _ _ hX.1 _ hX.2.2.1 hX.h8 _ rfl hX.2.1 v1 h0 hng hG) (QI.imp fun v w1 hp => ?_) (fun q_ E_ w1 hp => ?_)
  · exact absurd hp id
  · obtain ⟨hg, e, ew⟩ := hp
    have ha : aLod z v1 = (1, 0, z) := if_neg hg
    rw [ha, e]
    exact CThr.z h hok1 hG ew List.mem_cons_self

theorem cc_play (l : Launch) (G : Gl) (w : Wd) (hSt : l.stackTraces = false) (x : Nat) (z : LSt) (b : Int) (h : CmA G w x z) (hok : LOk b z) (hb2 : 2200 ≤ b) (hb : b < 890000) (hG : RegW w) (v1 : Int) (h0 : R32 v1) : HMT l yX1_play cX1_play 4 (some .int) [(5, 79, 80, 193)] 23 (4450 + 1150 * (zB z).length) (28100 + 6600 * (zB z).length) G [.ref x, .int (iI (v1))] w (QI G (CRet G w x (b + 1000) (aPla z v1))) (fun _ => CThr G w x (b + 1000) (aPla z v1) [("java/lang/IllegalArgumentException", 1)]) := by
  have hok1 : LOk (b + 1000) z := hok.mono (by omega)
  obtain ⟨bf, hq, fs, q, sv, hist, sn, hX, hN⟩ := id h
  refine vx_imp (sm_play l G w hSt q.1 q.2.1 q.2.2.1 q.2.2.2 (sC (zS z)) hX.2.2.2.1 hok.s b hok.o (by omega) x bf hq fs _ _ _ _ _ _ _ hX.1 _ hX.2.2.1 hX.h8 (pushU (sU (zS z)) (sC (zS z))) _ rfl hX.2.1 v1 h0 hG) (QI.imp fun v w1 hp => ?_) (fun q_ E_ w1 hp => ?_)
  · obtain ⟨hg, p⟩ := hp
    have ha : aPla z v1 = (0, (playA (zS z) (zB z) v1).1, zTx z [] (errP (pst (zB z) v1).1) (playA (zS z) (zB z) v1).2) := if_pos hg
    rw [ha]
    rcases p with ⟨hw0, ⟨ho, h20⟩, e, hC1, hx1, ⟨b0, l1, l2, l3, n0, n1, n2, n3, hCn, hD1⟩, u⟩ | ⟨hw0, e, hC1, hx1, hD1, u⟩
    · have e1 : errP (pst (zB z) v1).1 = -1 := errP_0 hw0 (fun y hy => by have h_ := RdC.play ((zB z).take v1.toNat) y hy; omega)
      have e2 : playA (zS z) (zB z) v1 = plR (pshS (zS z)) (pst (zB z) v1).2 := if_pos hw0
      rw [e1, e2]
      have h20b : ((pst (zB z) v1).2.length : Int) ≤ 20 := by omega
      exact ⟨rfl, e, ⟨bf, hq, fs, q, sv, pushH hist ((b0, l1, l2, l3), sC (zS z)), sn, hX.psh u.1 (fun r hr => hr) (fun hB => hB.nil) hx1 hC1 (plR_u _ _) n0 n1 n2 n3 hCn hD1, hN⟩, hX.kp u.1 (fun r hr => rg6 hr), u.2.2.1, (hok.sy (plR_ok _ _ _ hok.1.push (by omega) ho) (by omega) _ _ _ _).mono (by omega)⟩
    · have e2 : playA (zS z) (zB z) v1 = (-10 - wrC (pst (zB z) v1).1, zS z) := if_neg hw0
      rw [e2]
      exact ⟨rfl, e, ⟨bf, hq, fs, q, sv, hist, sn, hX.sam u.1 (fun r hr => hr) (fun hB => hB.nil) hx1 hC1 hD1, hN⟩, hX.kp u.1 (fun r hr => rg6 hr), u.2.2.1, hok1⟩
  · obtain ⟨hg, e, ew⟩ := hp
    have ha : aPla z v1 = (1, 0, z) := if_neg hg
    rw [ha, e]
    exact CThr.z h hok1 hG ew List.mem_cons_self

theorem cc_playX (l : Launch) (G : Gl) (w : Wd) (hSt : l.stackTraces = false) (x : Nat) (z : LSt) (b : Int) (h : CmA G w x z) (hok : LOk b z) (hb2 : 2200 ≤ b) (hb : b < 890000) (hG : RegW w) (v1 : Int) (h0 : R32 v1) (hng : ¬ gOk (zB z) v1) : HMT l yX1_play cX1_play 4 (some .int) [(5, 79, 80, 193)] 23 1 6 G [.ref x, .int (iI (v1))] w (QI G (CRet G w x (b + 1000) (aPla z v1))) (fun _ => CThr G w x (b + 1000) (aPla z v1) [("java/lang/IllegalArgumentException", 1)]) := by
  have hok1 : LOk (b + 1000) z := hok.mono (by omega)
  obtain ⟨bf, hq, fs, q, sv, hist, sn, hX, hN⟩ := id h
  refine vx_imp (sm_playX l G w hSt q.1 q.2.1 q.2.2.1 q.2.2.2 (sC (zS z)) hX.2.2.2.1 hok.s x bf hq fs _ _ _ _ _ _ _ hX.1 _ hX.2.2.1 hX.h8 _ rfl hX.2.1 v1 h0 hng hG) (QI.imp fun v w1 hp => ?_) (fun q_ E_ w1 hp => ?_)
  · exact absurd hp id
  · obtain ⟨hg, e, ew⟩ := hp
    have ha : aPla z v1 = (1, 0, z) := if_neg hg
    rw [ha, e]
    exact CThr.z h hok1 hG ew List.mem_cons_self

theorem cc_feed (l : Launch) (G : Gl) (w : Wd) (hSt : l.stackTraces = false) (x : Nat) (z : LSt) (b : Int) (h : CmA G w x z) (hok : LOk b z) (hb2 : 2200 ≤ b) (hb : b < 890000) (hG : RegW w) (v1 : Int) (v2 : Int) (v3 : Int) (v4 : Int) (v5 : Int) (h0 : R32 v1) (h1 : R32 v2) (h2 : R32 v3) (h3 : R32 v4) (h4 : R32 v5) : HM l yX1_feed cX1_feed 12 (some .int) 1 1 5 G [.ref x, .int (iI (v1)), .int (iI (v2)), .int (iI (v3)), .int (iI (v4)), .int (iI (v5))] w (QI G (CRet G w x (b + 1000) (aFee z v1 v2 v3 v4 v5))) := by
  have hok1 : LOk (b + 1000) z := hok.mono (by omega)
  obtain ⟨bf, hq, fs, q, sv, hist, sn, hX, hN⟩ := id h
  refine HM.imp (sm_fee l G w _ x bf hq fs _ _ _ _ _ _ _ hX.1 _ rfl hX.2.1 v1 v2 v3 v4 v5 h0 h1 h2 h3 h4 hG) (QI.imp fun v w1 hp => ?_)
  obtain ⟨e, hx1, hB1, u⟩ := hp
  exact ⟨rfl, e, ⟨bf, hq, fs, q, sv, hist, sn, hX.obj u.1 (fun r hr => hr) hx1 hB1 id, hN⟩, hX.kp u.1 (fun r hr => hr.elim Or.inl (fun e => Or.inr (Or.inl e))), u.2.2.1, hok1⟩

theorem cc_format (l : Launch) (G : Gl) (w : Wd) (hSt : l.stackTraces = false) (x : Nat) (z : LSt) (b : Int) (h : CmA G w x z) (hok : LOk b z) (hb2 : 2200 ≤ b) (hb : b < 890000) (hG : RegW w) (v1 : Int) (h0 : R32 v1) : HMX l yX1_format cX1_format 5 (some .int) 10 40 4600 G [.ref x, .int (iI (v1))] w (QI G (CRet G w x (b + 1000) (aFmt z v1))) (fun _ => CThr G w x (b + 1000) (aFmt z v1) [("java/util/NoSuchElementException", 1)]) := by
  have hok1 : LOk (b + 1000) z := hok.mono (by omega)
  obtain ⟨bf, hq, fs, q, sv, hist, sn, hX, hN⟩ := id h
  refine vx_imp (sm_fmt l G w hSt q.1 q.2.1 q.2.2.1 q.2.2.2 (sC (zS z)) hX.2.2.2.1 hok.s hok.w x bf hq fs _ _ _ _ _ _ _ hX.1 v1 h0 hG) (QI.imp fun v w1 hp => ?_) (fun q_ E_ w1 hp => ?_)
  · obtain ⟨hc, e, ⟨fs2, hf2, hx1⟩, u⟩ := hp
    unfold aFmt
    rw [if_neg hc]
    have hBn : BufAt G w1 bf (bf + 1) (zB z) := hX.2.1.mv u.1 (fun hs => (hX.2.1.ne hX.hx).p (Nat.succ.inj hs))
    exact ⟨rfl, e, ⟨bf, hq, fs2, q, sv, hist, sn, hX.obj u.1 (fun r hr => Or.inl hr) hx1 hBn (fun _ => hf2), hN⟩, hX.kp u.1 (fun r hr => Or.inl hr), u.2.2.1, hok1⟩
  · obtain ⟨hc, e, ew⟩ := hp
    unfold aFmt
    rw [if_pos hc, e]
    exact CThr.z h hok1 hG ew List.mem_cons_self

theorem last_sp {α : Type} {L : List α} (h : L ≠ []) : ∃ (A : List α) (a : α), L = A ++ [a] := ⟨L.dropLast, L.getLast h, (List.dropLast_concat_getLast h).symm⟩
theorem undA_y {s : Sys} {A : List Cat} {c : Cat} (h : sU s = A ++ [c]) : undA s = ((A.length : Int), (c, A, sD s, sR s)) := by
  have hl : (sU s).length = A.length + 1 := by rw [h, List.length_append]; rfl
  unfold undA
  rw [if_neg (by rw [h]; exact List.append_ne_nil_of_right_ne_nil _ (by decide)), hl, Nat.add_sub_cancel]
  refine Prod.ext (by show ((A.length + 1 : Nat) : Int) - 1 = (A.length : Int); omega) (Prod.ext ?_ (Prod.ext ?_ rfl))
  · show (sU s).getD A.length _ = c
    rw [h]
    simp
  · show (sU s).take A.length = A
    rw [h, List.take_left]

theorem cc_undo (l : Launch) (G : Gl) (w : Wd) (hSt : l.stackTraces = false) (x : Nat) (z : LSt) (b : Int) (h : CmA G w x z) (hok : LOk b z) (hb2 : 2200 ≤ b) (hb : b < 890000) (hG : RegW w)  : HM l yX1_undo cX1_undo 1 (some .int) 5 0 0 G [.ref x] w (QI G (CRet G w x (b + 1000) (aUnd z))) := by
  have hok1 : LOk (b + 1000) z := hok.mono (by omega)
  obtain ⟨bf, hq, fs, q, sv, hist, sn, hX, hN⟩ := id h
  obtain ⟨l1, l2, l3, c0, hcl⟩ : ∃ (l1 l2 l3 : Nat) (c0 : Cat), hist.map (fun z => z.1.1) ≠ [] → CatAt G w ((hist.map (fun z => z.1.1)).getD ((hist.map (fun z => z.1.1)).length - 1) 0) l1 l2 l3 c0 := by
    by_cases hh : hist = []
    · exact ⟨0, 0, 0, sC (zS z), fun hn => absurd (by rw [hh]; rfl) hn⟩
    · obtain ⟨H0, z0, hs⟩ := last_sp hh
      have hl0 : (hist.map (fun z => z.1.1)).length - 1 = H0.length := by rw [hs, List.map_append, List.length_append, List.length_map]; rfl
      have hg0 : (hist.map (fun z => z.1.1)).getD H0.length 0 = z0.1.1 := by rw [hs, List.map_append]; simp
      refine ⟨z0.1.2.1, z0.1.2.2.1, z0.1.2.2.2, z0.2, fun _ => ?_⟩
      rw [hl0, hg0]
      exact hX.2.2.2.2.2.1 z0 (by rw [hs]; exact List.mem_append_right _ (List.mem_append_right _ List.mem_cons_self))
  refine HM.imp (sm_undo l G w _ x bf hq fs _ _ _ _ _ _ _ hX.1 _ hX.2.2.1 hX.h8 l1 l2 l3 c0 hcl hG) (QI.imp fun v w1 hp => ?_)
  rcases hp with ⟨hn, e, ew⟩ | ⟨hn, e, hx1, hD1, u⟩
  · have hh : hist = [] := List.map_eq_nil_iff.mp hn
    have hu : sU (zS z) = [] := by rw [← hX.2.2.2.2.2.2.1, hh]; rfl
    have ha : aUnd z = (0, -1, z) := by
      unfold aUnd undA
      rw [if_pos hu, if_pos hu]
      show ((0 : Int), (-1 : Int), (zB z, zE z, zC z, zU z + 0, zF z, zS z, zN z)) = (0, -1, z)
      rw [Int.add_zero]
    rw [ha]
    exact CRet.z h hok1 hG ew e
  · have hh : hist ≠ [] := fun q_ => hn (by rw [q_]; rfl)
    obtain ⟨H0, z0, hs⟩ := last_sp hh
    have hl0 : (hist.map (fun z => z.1.1)).length - 1 = H0.length := by rw [hs, List.map_append, List.length_append, List.length_map]; rfl
    have hg0 : (hist.map (fun z => z.1.1)).getD H0.length 0 = z0.1.1 := by rw [hs, List.map_append]; simp
    have ht0 : (hist.map (fun z => z.1.1)).take H0.length = H0.map (fun z => z.1.1) := by rw [hs, List.map_append]; exact List.take_left' (by rw [List.length_map])
    have hu : sU (zS z) = H0.map (fun z => z.2) ++ [z0.2] := by rw [← hX.2.2.2.2.2.2.1, hs, List.map_append]; rfl
    have hl1 : ((hist.map (fun z => z.1.1)).length : Int) - 1 = ((H0.map (fun z => z.2)).length : Int) := by rw [hs, List.map_append, List.length_append, List.length_map, List.length_map]; show ((H0.length + 1 : Nat) : Int) - 1 = _; omega
    rw [hl0, hg0] at hx1
    rw [hl0, ht0] at hD1
    have hne : ¬ sU (zS z) = [] := by rw [hu]; exact List.append_ne_nil_of_right_ne_nil _ (by decide)
    have ha : aUnd z = (0, ((H0.map (fun z => z.2)).length : Int), (zB z, zE z, zC z, zU z + 1, zF z, (z0.2, H0.map (fun z => z.2), sD (zS z), sR (zS z)), zN z)) := by
      unfold aUnd
      rw [undA_y hu, if_neg hne]
    have hso : SysOk b (z0.2, H0.map (fun z => z.2), sD (zS z), sR (zS z)) := by
      have h_ := hok.1.und
      rw [undA_y hu] at h_
      exact h_
    rw [ha]
    exact ⟨rfl, e.trans hl1, ⟨bf, hq, fs, z0.1, sv, H0, sn, hX.und u.1 (fun r hr => hr) hs hx1 hD1, hN⟩, hX.kp u.1 (fun r hr => rg2 hr), u.2.2.1, ⟨hso.mono (by omega), fun c_ hc_ => (hok.2.1 c_ hc_).mono (by omega), by have := hok.2.2.1; show 0 ≤ zU z + 1; omega, by have := hok.2.2.2; show zU z + 1 ≤ _; omega⟩⟩

theorem cc_saveSnapshot (l : Launch) (G : Gl) (w : Wd) (hSt : l.stackTraces = false) (x : Nat) (z : LSt) (b : Int) (h : CmA G w x z) (hok : LOk b z) (hb2 : 2200 ≤ b) (hb : b < 890000) (hG : RegW w) : HM l yX1_saveSnapshot cX1_saveSnapshot 1 none 8 68 420 G [.ref x] w (QV G (CRet G w x (b + 1000) (aSav z) 0)) := by
  have hok1 : LOk (b + 1000) z := hok.mono (by omega)
  obtain ⟨bf, hq, fs, q, sv, hist, sn, hX, hN⟩ := id h
  refine HM.imp (sm_ssn l G w q.1 q.2.1 q.2.2.1 q.2.2.2 (sC (zS z)) hX.2.2.2.1 hok.s x bf hq fs _ _ _ _ _ _ _ hX.1 hG) (QV.imp fun w1 hp => ?_)
  obtain ⟨b0, l1, l2, l3, n0, n1, n2, n3, hC1, hx1, u⟩ := hp
  exact ⟨rfl, rfl, ⟨bf, hq, fs, q, .ref b0, hist, [((b0, l1, l2, l3), sC (zS z))], hX.snap u.1 (fun r hr => hr) n0 n1 n2 n3 hx1 hC1, Or.inr ⟨_, rfl, rfl, rfl⟩⟩, hX.kp u.1 (fun r hr => Or.inl hr), u.2.2.1, ⟨hok.1.mono (by omega), fun c_ hc_ => (by cases hc_; exact hok.o.mono (by omega)), hok.2.2.1, by have := hok.2.2.2; show zU z ≤ _; omega⟩⟩

theorem cc_restoreSnapshot (l : Launch) (G : Gl) (w : Wd) (hSt : l.stackTraces = false) (x : Nat) (z : LSt) (b : Int) (h : CmA G w x z) (hok : LOk b z) (hb2 : 2200 ≤ b) (hb : b < 890000) (hG : RegW w) : HM l yX1_restoreSnapshot cX1_restoreSnapshot 1 (some .boolean) 8 68 420 G [.ref x] w (QI G (CRet G w x (b + 1000) (aRst z))) := by
  have hok1 : LOk (b + 1000) z := hok.mono (by omega)
  obtain ⟨bf, hq, fs, q, sv, hist, sn, hX, hN⟩ := id h
  rcases hN with ⟨hn1, hn2, hn3⟩ | ⟨y, hn1, hn2, hn3⟩
  · subst hn2
    have ha : aRst z = (0, 0, z) := by
      unfold aRst
      rw [hn3]
    rw [ha]
    refine HM.imp (sm_rs0 l G w _ x bf hq fs _ _ _ _ _ _ hX.1) (QI.imp fun v w1 hp => ?_)
    obtain ⟨e, ew⟩ := hp
    exact CRet.z h hok1 hG ew e
  · subst hn2
    have ha : aRst z = (0, 1, zSy z (y.2, [], sD (zS z), sR (zS z))) := by
      unfold aRst
      rw [hn3]
    have hy : CatQ G w y.1 y.2 := hX.2.2.2.2.2.1 y (by rw [hn1]; exact List.mem_append_left _ List.mem_cons_self)
    have hyo : Ok b y.2 := hok.2.1 _ hn3
    rw [ha]
    refine HM.imp (sm_rs1 l G w _ _ _ _ _ _ hy hyo.1.s x bf hq fs _ _ _ _ _ _ hX.1 _ hX.2.2.1 hX.h8 hG) (QI.imp fun v w1 hp => ?_)
    obtain ⟨b0, l1, l2, l3, n0, n1, n2, n3, e, hC1, hx1, hD1, u⟩ := hp
    exact ⟨rfl, e, ⟨bf, hq, fs, (b0, l1, l2, l3), .ref y.1.1, [], sn, hX.fresh u.1 (fun r hr => hr) n0 n1 n2 n3 id (List.Sublist.refl _) hx1 hC1 hD1, Or.inr ⟨y, hn1, rfl, hn3⟩⟩, hX.kp u.1 (fun r hr => rg2 hr), u.2.2.1, ⟨⟨hyo.mono (by omega), fun u_ hu_ => absurd hu_ List.not_mem_nil, ⟨hok.1.2.2.1.1, by have := hok.1.2.2.1.2; show sD (zS z) ≤ _; omega⟩, hok.1.2.2.2.1, by have := hok.1.2.2.2.2; show sR (zS z) ≤ _; omega⟩, fun c_ hc_ => (hok.2.1 c_ hc_).mono (by omega), hok.2.2.1, by have := hok.2.2.2; show zU z ≤ _; omega⟩⟩
