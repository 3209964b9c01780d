/-! the law: what a call answers, and what it makes of the whole -/
set_option maxRecDepth 100000
/-- text fed, error's place, cause, undone, formatted, system, snapshot -/
abbrev LSt : Type := List Int × Int × Int × Int × List Int × Sys × Option Cat
abbrev zB (z : LSt) : List Int := z.1
abbrev zE (z : LSt) : Int := z.2.1
abbrev zC (z : LSt) : Int := z.2.2.1
abbrev zU (z : LSt) : Int := z.2.2.2.1
abbrev zF (z : LSt) : List Int := z.2.2.2.2.1
abbrev zS (z : LSt) : Sys := z.2.2.2.2.2.1
abbrev zN (z : LSt) : Option Cat := z.2.2.2.2.2.2
/-- the component holds it -/
abbrev CmA (G : Gl) (w : Wd) (x : Nat) (z : LSt) : Prop := CmS G w x (zB z) (zE z) (zC z) (zU z) (zF z) (zS z) (zN z)
/-- code, value, the whole behind it -/
abbrev Ans : Type := Int × Int × LSt
abbrev zTB (z : LSt) (n : Int) : List Int := if gOk (zB z) n then [] else zB z
abbrev zTx (z : LSt) (B : List Int) (er : Int) (s : Sys) : LSt := (B, er, zC z, zU z, zF z, s, zN z)
abbrev zSy (z : LSt) (s : Sys) : LSt := (zB z, zE z, zC z, zU z, zF z, s, zN z)
abbrev aQ (q : Int × Int) (z : LSt) : Ans := (q.1, q.2, z)
def aFee (z : LSt) (x1 x2 x3 x4 x5 : Int) : Ans := (0, if 800 < ((zB z).length : Int) + 20 then -1 else ((zB z).length : Int) + 20, (fdA (zB z) x1 x2 x3 x4 x5, zE z, zC z, zU z, zF z, zS z, zN z))
def aErr (z : LSt) : Ans := (0, zE z, z)
def aCau (z : LSt) : Ans := (0, zC z, z)
def aSiz (z : LSt) (x : Int) : Ans := aQ (qSize (sC (zS z)) x) z
def aAcc (z : LSt) (x : Int) : Ans := aQ (qAcc (sC (zS z)) (sD (zS z)) (sR (zS z)) (zU z) x) z
def aAt (z : LSt) (x : Int) : Ans := (0, qAt (sC (zS z)) x, z)
def aMrk (z : LSt) (x y : Int) : Ans := aQ (qMark (sC (zS z)) x y) z
def aNum (z : LSt) (x y : Int) : Ans := aQ (qNum (sC (zS z)) x y) z
def aLet (z : LSt) (x y e i : Int) : Ans := aQ (qLet (sC (zS z)) x y e i) z
def aRul (z : LSt) (x e i : Int) : Ans := aQ (qRul (sC (zS z)) x e i) z
def aShf (z : LSt) (x y : Int) : Ans := aQ (qShf (sC (zS z)) x y) z
def aGap (z : LSt) : Ans := (0, gapN (sC (zS z)), z)
def aAlk (z : LSt) : Ans := (0, alkN (sC (zS z)), z)
def aCmp (z : LSt) (x y : Int) : Ans := aQ (qCmp (sC (zS z)) x y) z
def aDif (z : LSt) (x y : Int) : Ans := aQ (qDif (sC (zS z)) x y) z
def aFre (z : LSt) (x : Int) : Ans := aQ (qFre (sC (zS z)) x) z
def aFam (z : LSt) (x : Int) : Ans := aQ (qFam (sC (zS z)) x) z
def aSnd (z : LSt) (n : Int) : Ans := aQ (sAns (zB z) n (qSnd (sC (zS z)))) (zTx z (zTB z n) (sErr (zB z) n (zE z)) (zS z))
def aRnk (z : LSt) (n : Int) : Ans := aQ (gAns (zB z) n (qRnk (sC (zS z)))) (zTx z (zTB z n) (gErr (zB z) n (zE z)) (zS z))
def aPlc (z : LSt) (n : Int) : Ans := aQ (gAns (zB z) n (qPlc (sC (zS z)))) (zTx z (zTB z n) (gErr (zB z) n (zE z)) (zS z))
def aMov (z : LSt) (n : Int) : Ans := aQ (gAns (zB z) n (qMov (sC (zS z)))) (zTx z (zTB z n) (gErr (zB z) n (zE z)) (zS z))
def aWhy (z : LSt) (n : Int) : Ans := aQ (gAns (zB z) n (fun p => (qWhy (sC (zS z)) p).1)) (zTB z n, gErr (zB z) n (zE z), gCau (zB z) n (sC (zS z)) (zC z), zU z, zF z, zS z, zN z)
def aLod (z : LSt) (n : Int) : Ans := if gOk (zB z) n then (0, lodA (zB z) n, ([], errP (lst (zB z) n).1, zC z, zU z, zF z, lodS (zS z) (zB z) n, if wrC (lst (zB z) n).1 = 0 then none else zN z)) else (1, 0, z)
def aAdd (z : LSt) (v n : Int) : Ans := if (1 ≤ v ∧ v ≤ 20) ∧ gOk (zB z) n then (0, (addA (zS z) (zB z) v n).2, zTx z [] (errP (gst (zB z) n).1) (opS (zS z) (addA (zS z) (zB z) v n))) else (1, 0, z)
def aSay (z : LSt) (n : Int) : Ans := if gOk (zB z) n then (0, (sayA (zS z) (zB z) n).2, zTx z [] (errP (yst (zB z) n).1) (opS (zS z) (sayA (zS z) (zB z) n))) else (1, 0, z)
def aPla (z : LSt) (n : Int) : Ans := if gOk (zB z) n then (0, (playA (zS z) (zB z) n).1, zTx z [] (errP (pst (zB z) n).1) (playA (zS z) (zB z) n).2) else (1, 0, z)
abbrev aO (z : LSt) (q : Int × Int × Sys) : Ans := (q.1, q.2.1, zSy z q.2.2)
def aDrp (z : LSt) (x : Int) : Ans := aO z (oDrp (zS z) x)
def aUns (z : LSt) (x : Int) : Ans := aO z (oUns (zS z) x)
def aWid (z : LSt) (x y : Int) : Ans := aO z (oWid (zS z) x y)
def aBnd (z : LSt) (x y : Int) : Ans := aO z (oBnd (zS z) x y)
def aBal (z : LSt) : Ans := aO z (opA (zS z) 6 0 0)
def aRsp (z : LSt) : Ans := aO z (opA (zS z) 7 0 0)
def aFmt (z : LSt) (x : Int) : Ans := if rkOf (sC (zS z)) x = -1 then (1, 0, z) else (0, ((fmM (cRl (sC (zS z))) (mPs (mk (sC (zS z)) (rkOf (sC (zS z)) x).toNat))).length : Int), (zB z, zE z, zC z, zU z, fmM (cRl (sC (zS z))) (mPs (mk (sC (zS z)) (rkOf (sC (zS z)) x).toNat)), zS z, zN z))
def aFmb (z : LSt) (i : Int) : Ans := (0, if 0 ≤ i ∧ i < ((zF z).length : Int) then (zF z).getD i.toNat 0 else -1, z)
def aUnc (z : LSt) : Ans := (0, ((sU (zS z)).length : Int), z)
def aUnd (z : LSt) : Ans := (0, (undA (zS z)).1, (zB z, zE z, zC z, zU z + (if sU (zS z) = [] then 0 else 1), zF z, (undA (zS z)).2, zN z))
def aSav (z : LSt) : Ans := (0, 0, (zB z, zE z, zC z, zU z, zF z, zS z, some (sC (zS z))))
def aRst (z : LSt) : Ans := match zN z with
  | none => (0, 0, z)
  | some c => (0, 1, zSy z (c, [], sD (zS z), sR (zS z)))
/-- the whole as it ought to be -/
def LOk (b : Int) (z : LSt) : Prop := SysOk b (zS z) ∧ (∀ c, zN z = some c → Ok b c) ∧ 0 ≤ zU z ∧ zU z ≤ b
theorem LOk.mono {b b1 : Int} {z : LSt} (h : LOk b z) (hb : b ≤ b1) : LOk b1 z := ⟨h.1.mono hb, fun c hc => (h.2.1 c hc).mono hb, h.2.2.1, Int.le_trans h.2.2.2 hb⟩
theorem LOk.o {b : Int} {z : LSt} (h : LOk b z) : Ok b (sC (zS z)) := h.1.1
theorem LOk.w {b : Int} {z : LSt} (h : LOk b z) : CatW (sC (zS z)) := h.1.1.1
theorem LOk.s {b : Int} {z : LSt} (h : LOk b z) : CatS (sC (zS z)) := h.1.1.1.s
theorem Ok.l {b : Int} {c : Cat} (h : Ok b c) (hb : b < 900000) : Lo c := ⟨fun k hk => by have := h.2.1 k hk; omega, by have := h.2.2; omega⟩
theorem LOk.l {b : Int} {z : LSt} (h : LOk b z) (hb : b < 900000) : Lo (sC (zS z)) := h.o.l hb
theorem LOk.opw {b : Int} {z : LSt} (h : LOk b z) (hb : b < 900000) : OpW (zS z) := h.1.opw (by omega)
/-- only what is told beside the system has changed -/
theorem LOk.tx {b : Int} {z : LSt} (h : LOk b z) (B : List Int) (er ca : Int) (F : List Int) : LOk b (B, er, ca, zU z, F, zS z, zN z) := h
theorem LOk.sy {b b1 : Int} {z : LSt} {s : Sys} (h : LOk b z) (hs : SysOk b1 s) (hb : b ≤ b1) (B : List Int) (er ca : Int) (F : List Int) : LOk b1 (B, er, ca, zU z, F, s, zN z) := ⟨hs, fun c hc => (h.2.1 c hc).mono hb, h.2.2.1, Int.le_trans h.2.2.2 hb⟩
theorem Ok.eqv {b : Int} {c d : Cat} (h : Ok b d) (h1 : cSh c = cSh d) (h2 : cRm c = cRm d) (h3 : cBd c = cBd d) (h4 : cMk c = cMk d) (h5 : cRl c = cRl d) (h6 : cNx c = cNx d) (ha : ∀ k, k < 3 → cAc d k = cAc c k) : Ok b c := by
  obtain ⟨⟨⟨a1, a2, ⟨a3, a4⟩, ⟨a5, a6⟩, a7, a8, a9⟩, b1, b2, b3, b4⟩, e1, e2⟩ := h
  have hm : ∀ k, mk c k = mk d k := fun k => by show (cMk c).getD k _ = (cMk d).getD k _; rw [h4]
  have hbd : ∀ s, bd c s = bd d s := fun s => by show (cBd c).getD s _ = (cBd d).getD s _; rw [h3]
  have hn : cN c = cN d := congrArg List.length h4
  exact ⟨⟨⟨by rw [h1]; exact a1, by rw [h2]; exact a2, ⟨by rw [h3, h1]; exact a3, fun s hs => by rw [hbd]; exact a4 s (by rw [← h3]; exact hs)⟩, ⟨by rw [hn]; exact a5, fun k hk => by rw [hm]; exact a6 k (by rw [← hn]; exact hk)⟩, by rw [h5]; exact a7, fun k hk => by rw [← ha k hk]; exact a8 k hk, by rw [h6]; exact a9⟩, fun k hk => by rw [hm, hm]; exact b1 k (by rw [← hn]; exact hk), fun k hk => by rw [hm, hm, h5]; exact b2 k (by rw [← hn]; exact hk), by rw [hbd]; exact b3, fun s hs => by rw [hbd, hbd]; exact b4 s (by rw [← h3]; exact hs)⟩, fun k hk => by rw [← ha k hk]; exact e1 k hk, by rw [h6]; exact e2⟩
theorem ko6 : Ok 247 kc6 := by
  have h := ko5.ad (g := kp6) (w := 2) (by decide) kp6w (by decide)
  rw [adA_y (by decide +kernel) (by decide +kernel)] at h
  exact h
theorem kt0 : Ok 247 (rText tx0).2 := ko6.eqv kc6_1 kc6_2 kc6_3 kc6_4 kc6_5 kc6_6 kc6_a
theorem SysOk.s0 : SysOk 247 sys0 := ⟨kt0, fun u hu => absurd hu List.not_mem_nil, ⟨Int.le_refl _, by decide⟩, Int.le_refl _, by decide⟩
/-- the whole as it is made -/
def z00 : LSt := ([], -1, -1, 0, [], sys0, none)
theorem LOk.z0 : LOk 247 z00 := ⟨SysOk.s0, fun c hc => (by cases hc), Int.le_refl _, by decide⟩
theorem opA_ok {b : Int} {s : Sys} {k x y : Int} (h : SysOk b s) (hb : b < 900000) (hx0 : k = 2 ∨ k = 5 → 0 ≤ x) (hy4 : k = 4 → 1 ≤ y ∧ y ≤ 20) (hy5 : k = 5 → 0 ≤ y ∧ y ≤ 10000) : SysOk (b + 41) (opS s (doA (sC s) k x y)) := h.op (h.1.do (by omega) hx0 hy4 hy5)
theorem plR_u : ∀ (os : List Ord_) (s : Sys), sU (plR s os).2 = sU s
  | [], s => rfl
  | o :: r, s => by
    show sU (if 0 ≤ (oDo (sC s) o).2 then ((plR (ordS s o) r).1 + 1, (plR (ordS s o) r).2) else (0, ordS s o)).2 = sU s
    split
    · exact plR_u r (ordS s o)
    · rfl
theorem plR_ok : ∀ (os : List Ord_) (s : Sys) (b : Int), SysOk b s → b + 41 * (os.length : Int) < 900000 → (∀ o ∈ os, OrdOk o) → SysOk (b + 41 * (os.length : Int)) (plR s os).2
  | [], s, b, h, _, _ => h.mono (by simp)
  | o :: r, s, b, h, hb, ho => by
    have hl : ((o :: r).length : Int) = (r.length : Int) + 1 := by rw [List.length_cons]; omega
    rw [hl] at hb ⊢
    have h1 := h.ord (by omega) (ho o List.mem_cons_self)
    show SysOk _ (if 0 ≤ (oDo (sC s) o).2 then ((plR (ordS s o) r).1 + 1, (plR (ordS s o) r).2) else (0, ordS s o)).2
    split
    · exact (plR_ok r (ordS s o) (b + 41) h1 (by omega) (fun q hq => ho q (List.mem_cons_of_mem _ hq))).mono (by omega)
    · exact h1.mono (by omega)
theorem zTB_t {z : LSt} {n : Int} (h : gOk (zB z) n) : zTB z n = [] := if_pos h
theorem zTB_f {z : LSt} {n : Int} (h : ¬ gOk (zB z) n) : zTB z n = zB z := if_neg h
/-- a reading that is refused leaves all as it is -/
theorem aRd_f {f : List Prt → Int} {z : LSt} {n : Int} (h : ¬ gOk (zB z) n) : aQ (gAns (zB z) n f) (zTx z (zTB z n) (gErr (zB z) n (zE z)) (zS z)) = (1, 0, z) := by
  rw [zTB_f h]
  unfold gAns gErr
  rw [ans_f h, if_neg h]
theorem aRnk_f {z : LSt} {n : Int} (h : ¬ gOk (zB z) n) : aRnk z n = (1, 0, z) := aRd_f h
theorem aPlc_f {z : LSt} {n : Int} (h : ¬ gOk (zB z) n) : aPlc z n = (1, 0, z) := aRd_f h
theorem aMov_f {z : LSt} {n : Int} (h : ¬ gOk (zB z) n) : aMov z n = (1, 0, z) := aRd_f h
theorem aWhy_f {z : LSt} {n : Int} (h : ¬ gOk (zB z) n) : aWhy z n = (1, 0, z) := by
  unfold aWhy
  rw [zTB_f h]
  unfold gAns gErr gCau
  rw [ans_f h, if_neg h, if_neg h]
theorem aSnd_f {z : LSt} {n : Int} (h : ¬ gOk (zB z) n) : aSnd z n = (1, 0, z) := by
  unfold aSnd
  rw [zTB_f h]
  unfold sAns sErr
  rw [ans_f h, if_neg h]
theorem gAns_c {B : List Int} {n : Int} {f : List Prt → Int} (h : gOk B n) : (gAns B n f).1 = 0 := by unfold gAns; rw [ans_t h]
theorem sAns_c {B : List Int} {n : Int} {f : List Int → Int} (h : gOk B n) : (sAns B n f).1 = 0 := by unfold sAns; rw [ans_t h]
