/-! the law: what stands between its calls -/
set_option maxRecDepth 100000
abbrev Qd : Type := Nat × Nat × Nat × Nat
def CatQ (G : Gl) (w : Wd) (q : Qd) (c : Cat) : Prop := CatAt G w q.1 q.2.1 q.2.2.1 q.2.2.2 c
/-- two catalogues apart -/
def Sep (p q : Qd) : Prop := p.1 ≠ q.1 ∧ p.2.1 ≠ q.2.1 ∧ p.2.1 ≠ q.2.2.1 ∧ p.2.2.1 ≠ q.2.1 ∧ p.2.2.1 ≠ q.2.2.1 ∧ p.2.2.2 ≠ q.2.2.2
theorem Sep.sy {p q : Qd} (h : Sep p q) : Sep q p := ⟨h.1.symm, h.2.1.symm, h.2.2.2.1.symm, h.2.2.1.symm, h.2.2.2.2.1.symm, h.2.2.2.2.2.symm⟩
def SepZ (a b : Qd × Cat) : Prop := Sep a.1 b.1
theorem hasC.nn {w : Wd} {a b : Nat} {C : String} (h : hasC w a C) (hb : w b = none) : a ≠ b := fun q => by
  subst q
  obtain ⟨r, e, h1, -⟩ := h
  rw [hb] at h1; cases h1
theorem CatQ.new {G : Gl} {w : Wd} {p : Qd} {c : Cat} {b l1 l2 l3 : Nat} (h : CatQ G w p c) (h0 : w b = none) (h1 : w l1 = none) (h2 : w l2 = none) (h3 : w l3 = none) : Sep p (b, l1, l2, l3) :=
  ⟨(CatAt.c h).nn h0, (CatAt.hc h).1.nn h1, (CatAt.hc h).1.nn h2, (CatAt.hc h).2.1.nn h1, (CatAt.hc h).2.1.nn h2, (CatAt.hc h).2.2.nn h3⟩
abbrev objV (bf hq fs a : Nat) (sv : Value) (nb er ca dn rf ud : Int) : List Value := [.ref bf, .ref hq, .int (iI nb), .int (iI er), .int (iI ca), .int (iI dn), .int (iI rf), .int (iI ud), .ref a, sv, .ref fs]
/-- the component, its cells told -/
def CmX (G : Gl) (w : Wd) (x bf hq fs : Nat) (q : Qd) (sv : Value) (hist sn : List (Qd × Cat)) (B : List Int) (er ca ud : Int) (F : List Int) (s : Sys) : Prop :=
  w x = some (x + 1, oE 0 (objV bf hq fs q.1 sv (B.length : Int) er ca (sD s) (sR s) ud)) ∧ BufAt G w bf (bf + 1) B ∧ DqAt G w (hq + 1) hq (hist.map (fun z => z.1.1)) ∧ CatQ G w q (sC s) ∧ StrAt G w fs F ∧ (∀ z ∈ sn ++ hist, CatQ G w z.1 z.2) ∧ hist.map (fun z => z.2) = sU s ∧ hist.length ≤ 8 ∧ List.Pairwise SepZ ((q, sC s) :: (sn ++ hist))
def SnV (sv : Value) (sn : List (Qd × Cat)) (S : Option Cat) : Prop := (sn = [] ∧ sv = .null ∧ S = none) ∨ ∃ z : Qd × Cat, sn = [z] ∧ sv = .ref z.1.1 ∧ S = some z.2
/-- the component: text fed, error's place, cause, undone, formatted, system, snapshot -/
def CmS (G : Gl) (w : Wd) (x : Nat) (B : List Int) (er ca ud : Int) (F : List Int) (s : Sys) (S : Option Cat) : Prop := ∃ (bf hq fs : Nat) (q : Qd) (sv : Value) (hist sn : List (Qd × Cat)), CmX G w x bf hq fs q sv hist sn B er ca ud F s ∧ SnV sv sn S
/-- a cell that is neither a twin nor an array of longs or doubles -/
def MutC (G : Gl) (w : Wd) (c : Nat) : Prop := ∃ (r : Nat) (e : Ent), w c = some (r, e) ∧ (∀ fs, e ≠ oE 1 fs) ∧ (∀ n f, e ≠ lE G n f) ∧ ∀ n f, e ≠ dE G n f
theorem hasC.mut {G : Gl} {w : Wd} {c : Nat} {C : String} (h : hasC w c C) (hC : C ≠ "SpokenMarksModel") : MutC G w c := by
  obtain ⟨r, e, h1, h2⟩ := h
  refine ⟨r, e, h1, fun fs q => ?_, fun n f q => ?_, fun n f q => ?_⟩
  · subst q
    exact hC (Option.some.inj h2).symm
  · subst q; cases h2
  · subst q; cases h2
def entK (e : Ent) : Nat := match e with
  | .inl (.inl (_, _, .inl _)) => 0
  | .inl (.inl (_, _, .inr (.inl _))) => 1
  | .inl (.inl (_, _, .inr (.inr _))) => 2
  | .inl (.inr _) => 3
  | .inr _ => 4
theorem BufAt.mut {G : Gl} {w : Wd} {bf rb : Nat} {B : List Int} (h : BufAt G w bf rb B) : MutC G w bf := by
  obtain ⟨fb, h1, -⟩ := h
  refine ⟨_, _, h1, fun fs q => ?_, fun n f q => ?_, fun n f q => ?_⟩
  · exact absurd (congrArg entK q) (show ¬ (0 : Nat) = 3 by decide)
  · exact absurd (congrArg entK q) (show ¬ (0 : Nat) = 1 by decide)
  · exact absurd (congrArg entK q) (show ¬ (0 : Nat) = 2 by decide)
/-- what the component's calls leave as it is: the twin, the arrays of longs and doubles, what never changes -/
def Kp (G : Gl) (w w1 : Wd) : Prop := (∀ b fs, w b = some (b + 1, oE 1 fs) → Fr (fun r => r ≠ b + 1) w w1) ∧ Fr (fun r => r ≠ 0) w w1 ∧ (∀ o n f, w o = some (o + 1, lE G n f) → w1 o = some (o + 1, lE G n f)) ∧ ∀ o n f, w o = some (o + 1, dE G n f) → w1 o = some (o + 1, dE G n f)
theorem Kp.of {G : Gl} {w w1 : Wd} {S : Nat → Prop} (hF : Fr S w w1) (hS : ∀ r, S r → ∃ c, r = c + 1 ∧ MutC G w c) : Kp G w w1 := by
  refine ⟨fun b fs hb a r e ha hr => hF a r e ha (fun hs => ?_), fun a r e ha hr => hF a r e ha (fun hs => ?_), fun o n f ho => hF _ _ _ ho (fun hs => ?_), fun o n f ho => hF _ _ _ ho (fun hs => ?_)⟩
  · have hr : r = b + 1 := Decidable.of_not_not hr
    obtain ⟨c, h1, r', e', h2, h3, -⟩ := hS r hs
    have : b = c := by omega
    subst this
    rw [h2] at hb; cases hb
    exact h3 _ rfl
  · have hr : r = 0 := Decidable.of_not_not hr
    obtain ⟨c, h1, -⟩ := hS r hs
    omega
  · obtain ⟨c, h1, r', e', h2, h3, h4, -⟩ := hS _ hs
    have : o = c := by omega
    subst this
    rw [h2] at ho; cases ho
    exact h4 _ _ rfl
  · obtain ⟨c, h1, r', e', h2, h3, h4, h5⟩ := hS _ hs
    have : o = c := by omega
    subst this
    rw [h2] at ho; cases ho
    exact h5 _ _ rfl
theorem Kp.rf {G : Gl} {w : Wd} : Kp G w w := ⟨fun _ _ _ => Fr.rf, Fr.rf, fun _ _ _ h => h, fun _ _ _ h => h⟩
section CMX
variable {G : Gl} {w w1 : Wd} {x bf hq fs : Nat} {q : Qd} {sv : Value} {hist sn : List (Qd × Cat)} {B : List Int} {er ca ud : Int} {F : List Int} {s : Sys}
/-- the regions that the component's methods may change -/
def RgX (x bf hq : Nat) (q : Qd) (r : Nat) : Prop := r = x + 1 ∨ r = bf + 1 ∨ r = hq + 1 ∨ r = q.1 + 1 ∨ r = q.2.1 + 1 ∨ r = q.2.2.1 + 1 ∨ r = q.2.2.2 + 1
theorem CmX.hx (h : CmX G w x bf hq fs q sv hist sn B er ca ud F s) : hasC w x "SpokenMarks" := hasC.of h.1 rfl
theorem CmX.kp (h : CmX G w x bf hq fs q sv hist sn B er ca ud F s) {S : Nat → Prop} (hF : Fr S w w1) (hS : ∀ r, S r → RgX x bf hq q r) : Kp G w w1 := by
  refine Kp.of hF (fun r hr => ?_)
  rcases hS r hr with e | e | e | e | e | e | e
  · exact ⟨x, e, h.hx.mut (by decide)⟩
  · exact ⟨bf, e, h.2.1.mut⟩
  · exact ⟨hq, e, h.2.2.1.c.mut (by decide)⟩
  · exact ⟨_, e, (CatAt.c h.2.2.2.1).mut (by decide)⟩
  · exact ⟨_, e, (CatAt.hc h.2.2.2.1).1.mut (by decide)⟩
  · exact ⟨_, e, (CatAt.hc h.2.2.2.1).2.1.mut (by decide)⟩
  · exact ⟨_, e, (CatAt.hc h.2.2.2.1).2.2.mut (by decide)⟩
theorem RgX.no {c : Nat} (n1 : c ≠ x) (n2 : c ≠ bf) (n3 : c ≠ hq) (n4 : c ≠ q.1) (n5 : c ≠ q.2.1) (n6 : c ≠ q.2.2.1) (n7 : c ≠ q.2.2.2) : ¬ RgX x bf hq q (c + 1) := fun hs => by
  rcases hs with e | e | e | e | e | e | e
  · exact n1 (Nat.succ.inj e)
  · exact n2 (Nat.succ.inj e)
  · exact n3 (Nat.succ.inj e)
  · exact n4 (Nat.succ.inj e)
  · exact n5 (Nat.succ.inj e)
  · exact n6 (Nat.succ.inj e)
  · exact n7 (Nat.succ.inj e)
theorem RgX.z : ¬ RgX x bf hq q 0 := fun hs => by
  rcases hs with e | e | e | e | e | e | e <;> exact absurd e.symm (Nat.succ_ne_zero _)
/-- the other catalogues stay, and the line -/
theorem CmX.oth (h : CmX G w x bf hq fs q sv hist sn B er ca ud F s) {S : Nat → Prop} (hF : Fr S w w1) (hS : ∀ r, S r → RgX x bf hq q r) : (∀ z ∈ sn ++ hist, CatQ G w1 z.1 z.2) ∧ StrAt G w1 fs F := by
  have hF : Fr (RgX x bf hq q) w w1 := hF.mono hS
  refine ⟨fun z hz => ?_, h.2.2.2.2.1.mv hF RgX.z⟩
  have hc : CatQ G w z.1 z.2 := h.2.2.2.2.2.1 z hz
  have hs : Sep q z.1 := (List.pairwise_cons.mp h.2.2.2.2.2.2.2.2).1 z hz
  have c0 : hasC w z.1.1 "SpokenMarks$Catalogue" := CatAt.c hc
  obtain ⟨c1, c2, c3⟩ := CatAt.hc hc
  have d0 : hasC w q.1 "SpokenMarks$Catalogue" := CatAt.c h.2.2.2.1
  obtain ⟨d1, d2, d3⟩ := CatAt.hc h.2.2.2.1
  have dx := h.hx
  have dq := h.2.2.1.c
  have hb := h.2.1
  refine CatAt.mv hc hF ⟨RgX.z, RgX.no (hasC_ne c0 dx (by decide)) (hb.ne c0).p.symm (hasC_ne c0 dq (by decide)) hs.1.symm (hasC_ne c0 d1 (by decide)) (hasC_ne c0 d2 (by decide)) (hasC_ne c0 d3 (by decide)),
    RgX.no (hasC_ne c1 dx (by decide)) (hb.ne c1).p.symm (hasC_ne c1 dq (by decide)) (hasC_ne c1 d0 (by decide)) hs.2.1.symm hs.2.2.2.1.symm (hasC_ne c1 d3 (by decide)),
    RgX.no (hasC_ne c2 dx (by decide)) (hb.ne c2).p.symm (hasC_ne c2 dq (by decide)) (hasC_ne c2 d0 (by decide)) hs.2.2.1.symm hs.2.2.2.2.1.symm (hasC_ne c2 d3 (by decide)),
    RgX.no (hasC_ne c3 dx (by decide)) (hb.ne c3).p.symm (hasC_ne c3 dq (by decide)) (hasC_ne c3 d0 (by decide)) (hasC_ne c3 d1 (by decide)) (hasC_ne c3 d2 (by decide)) hs.2.2.2.2.2.symm⟩
/-- what a change outside the component leaves -/
theorem CmX.mv (h : CmX G w x bf hq fs q sv hist sn B er ca ud F s) {S : Nat → Prop} (hF : Fr S w w1) (h0 : ¬ S 0) (hS : ∀ c, MutC G w c → ¬ S (c + 1)) : CmX G w1 x bf hq fs q sv hist sn B er ca ud F s := by
  have cq : ∀ (p : Qd) (c : Cat), CatQ G w p c → CatQ G w1 p c := fun p c hc => CatAt.mv hc hF ⟨h0, hS _ ((CatAt.c hc).mut (by decide)), hS _ ((CatAt.hc hc).1.mut (by decide)), hS _ ((CatAt.hc hc).2.1.mut (by decide)), hS _ ((CatAt.hc hc).2.2.mut (by decide))⟩
  exact ⟨hF _ _ _ h.1 (hS _ (h.hx.mut (by decide))), h.2.1.mv hF (hS _ h.2.1.mut), h.2.2.1.mv hF (hS _ (h.2.2.1.c.mut (by decide))), cq _ _ h.2.2.2.1, h.2.2.2.2.1.mv hF h0, fun z hz => cq _ _ (h.2.2.2.2.2.1 z hz), h.2.2.2.2.2.2⟩
end CMX
theorem CmS.mv {G : Gl} {w w1 : Wd} {x : Nat} {B : List Int} {er ca ud : Int} {F : List Int} {s : Sys} {S : Option Cat} (h : CmS G w x B er ca ud F s S) {T : Nat → Prop} (hF : Fr T w w1) (h0 : ¬ T 0) (hT : ∀ c, MutC G w c → ¬ T (c + 1)) : CmS G w1 x B er ca ud F s S := by
  obtain ⟨bf, hq, fs, q, sv, hist, sn, h1, h2⟩ := h
  exact ⟨bf, hq, fs, q, sv, hist, sn, h1.mv hF h0 hT, h2⟩
/-- the twin changes -/
theorem CmS.tw {G : Gl} {w w1 : Wd} {x b : Nat} {B : List Int} {er ca ud : Int} {F : List Int} {s : Sys} {S : Option Cat} (h : CmS G w x B er ca ud F s S) {fs : List Value} (hb : w b = some (b + 1, oE 1 fs)) (hF : Fr (fun r => r = b + 1) w w1) : CmS G w1 x B er ca ud F s S := by
  refine h.mv hF (fun q => absurd q.symm (Nat.succ_ne_zero _)) (fun c hc q => ?_)
  obtain ⟨r, e, h1, h2, -⟩ := hc
  have q : c = b := Nat.succ.inj q
  subst q
  rw [h1] at hb; cases hb
  exact h2 _ rfl
/-- an array of longs or doubles changes -/
theorem CmS.outL {G : Gl} {w : Wd} {x o n : Nat} {f : Nat → Int} {B : List Int} {er ca ud : Int} {F : List Int} {s : Sys} {S : Option Cat} (h : CmS G w x B er ca ud F s S) (ho : w o = some (o + 1, lE G n f)) (y : Nat × Ent) : CmS G (wset w o y) x B er ca ud F s S := by
  refine h.mv (Fr.one ho y) (fun q => absurd q.symm (Nat.succ_ne_zero _)) (fun c hc q => ?_)
  obtain ⟨r, e, h1, -, h2, -⟩ := hc
  have q : c = o := Nat.succ.inj q
  subst q
  rw [h1] at ho; cases ho
  exact h2 _ _ rfl
theorem CmS.outD {G : Gl} {w : Wd} {x o n : Nat} {f : Nat → UInt64} {B : List Int} {er ca ud : Int} {F : List Int} {s : Sys} {S : Option Cat} (h : CmS G w x B er ca ud F s S) (ho : w o = some (o + 1, dE G n f)) (y : Nat × Ent) : CmS G (wset w o y) x B er ca ud F s S := by
  refine h.mv (Fr.one ho y) (fun q => absurd q.symm (Nat.succ_ne_zero _)) (fun c hc q => ?_)
  obtain ⟨r, e, h1, -, -, h2⟩ := hc
  have q : c = o := Nat.succ.inj q
  subst q
  rw [h1] at ho; cases ho
  exact h2 _ _ rfl
/-- what a call of the law leaves as it is: the twin, what never changes -/
def Kt (w w1 : Wd) : Prop := (∀ b fs, w b = some (b + 1, oE 1 fs) → Fr (fun r => r ≠ b + 1) w w1) ∧ Fr (fun r => r ≠ 0) w w1
theorem Kp.t {G : Gl} {w w1 : Wd} (h : Kp G w w1) : Kt w w1 := ⟨h.1, h.2.1⟩
theorem Kt.tr {w w1 w2 : Wd} (h : Kt w w1) (h2 : Kt w1 w2) : Kt w w2 := ⟨fun b fs hb => (h.1 b fs hb).trans (h2.1 b fs (h.1 b fs hb _ _ _ hb (fun q => q rfl))), h.2.trans h2.2⟩
theorem Kt.out {G : Gl} {w : Wd} {o r : Nat} {e : Ent} (ho : w o = some (o + 1, e)) (hm : ∀ fs, e ≠ oE 1 fs) (y : Nat × Ent) : Kt w (wset w o y) := by
  refine ⟨fun b fs hb => Fr.set Fr.rf ho (fun q => ?_) y, Fr.set Fr.rf ho (Nat.succ_ne_zero _) y⟩
  have q : o = b := Nat.succ.inj q
  subst q
  rw [ho] at hb; cases hb
  exact hm _ rfl
theorem Kt.outL {G : Gl} {w : Wd} {o n : Nat} {f : Nat → Int} (ho : w o = some (o + 1, lE G n f)) (y : Nat × Ent) : Kt w (wset w o y) := Kt.out (G := G) (r := 0) ho (fun fs q => absurd (congrArg entK q) (show ¬ (1 : Nat) = 3 by decide)) y
theorem Kt.outD {G : Gl} {w : Wd} {o n : Nat} {f : Nat → UInt64} (ho : w o = some (o + 1, dE G n f)) (y : Nat × Ent) : Kt w (wset w o y) := Kt.out (G := G) (r := 0) ho (fun fs q => absurd (congrArg entK q) (show ¬ (2 : Nat) = 3 by decide)) y
/-! the component's operations, as a whole -/
theorem BufAt.nil {G : Gl} {w : Wd} {bf rb : Nat} {B : List Int} (h : BufAt G w bf rb B) : BufAt G w bf rb [] := h.take 0
theorem BufAt.l8 {G : Gl} {w : Wd} {bf rb : Nat} {B : List Int} (h : BufAt G w bf rb B) : B.length ≤ 800 := by
  obtain ⟨fb, -, h2, -⟩ := h
  exact h2.1
section CMX
variable {G : Gl} {w w1 : Wd} {x bf hq fs : Nat} {q : Qd} {sv : Value} {hist sn : List (Qd × Cat)} {B : List Int} {er ca ud : Int} {F : List Int} {s : Sys}
def pushH (L : List (Qd × Cat)) (z : Qd × Cat) : List (Qd × Cat) := (if L.length = 8 then L.drop 1 else L) ++ [z]
theorem pushH_a (L : List (Qd × Cat)) (z : Qd × Cat) : (pushH L z).map (fun z => z.1.1) = pushA (L.map (fun z => z.1.1)) z.1.1 := by
  unfold pushH pushA
  rw [List.length_map]
  by_cases h : L.length = 8
  · rw [if_pos h, if_pos h, List.map_append, List.map_drop]; rfl
  · rw [if_neg h, if_neg h, List.map_append]; rfl
theorem pushH_u (L : List (Qd × Cat)) (z : Qd × Cat) : (pushH L z).map (fun z => z.2) = pushU (L.map (fun z => z.2)) z.2 := by
  unfold pushH pushU
  rw [List.length_map]
  by_cases h : L.length = 8
  · rw [if_pos h, if_pos h, List.map_append, List.map_drop]; rfl
  · rw [if_neg h, if_neg h, List.map_append]; rfl
theorem pushH_l {L : List (Qd × Cat)} (z : Qd × Cat) (h : L.length ≤ 8) : (pushH L z).length ≤ 8 := by
  unfold pushH
  rw [List.length_append, List.length_singleton]
  by_cases h8 : L.length = 8
  · rw [if_pos h8, List.length_drop]; omega
  · rw [if_neg h8]; omega
theorem pushH_m {L : List (Qd × Cat)} {z y : Qd × Cat} (h : y ∈ pushH L z) : y ∈ L ∨ y = z := by
  unfold pushH at h
  rcases List.mem_append.mp h with h | h
  · refine Or.inl ?_
    split at h
    · exact List.mem_of_mem_drop h
    · exact h
  · exact Or.inr (List.mem_singleton.mp h)
theorem pushH_p {L M : List (Qd × Cat)} {z : Qd × Cat} (h : List.Pairwise SepZ (M ++ L)) (hn : ∀ y ∈ M ++ L, SepZ y z) : List.Pairwise SepZ (M ++ pushH L z) := by
  have hsub : ∀ L0 : List (Qd × Cat), List.Sublist L0 L → List.Pairwise SepZ (M ++ (L0 ++ [z])) := fun L0 hs => by
    rw [← List.append_assoc]
    have hs2 : List.Sublist (M ++ L0) (M ++ L) := List.Sublist.append_left hs M
    exact List.pairwise_append.mpr ⟨h.sublist hs2, List.pairwise_singleton _ _, fun a ha b hb => by rw [List.mem_singleton.mp hb]; exact hn a (hs2.subset ha)⟩
  unfold pushH
  split
  · exact hsub _ (List.drop_sublist 1 L)
  · exact hsub _ (List.Sublist.refl L)
theorem pw_c {c c2 : Cat} {q : Qd} {L : List (Qd × Cat)} (h : List.Pairwise SepZ ((q, c) :: L)) : List.Pairwise SepZ ((q, c2) :: L) :=
  List.pairwise_cons.mpr ⟨fun y hy => (List.pairwise_cons.mp h).1 y hy, (List.pairwise_cons.mp h).2⟩
/-- only the object, the text and the line have changed -/
theorem CmX.obj (h : CmX G w x bf hq fs q sv hist sn B er ca ud F s) {S : Nat → Prop} (hF : Fr S w w1) (hS : ∀ r, S r → r = x + 1 ∨ r = bf + 1) {fs2 : Nat} {B2 : List Int} {er2 ca2 ud2 : Int} {F2 : List Int} (hX : w1 x = some (x + 1, oE 0 (objV bf hq fs2 q.1 sv (B2.length : Int) er2 ca2 (sD s) (sR s) ud2))) (hB : BufAt G w1 bf (bf + 1) B2) (hf : StrAt G w1 fs F → StrAt G w1 fs2 F2) : CmX G w1 x bf hq fs2 q sv hist sn B2 er2 ca2 ud2 F2 s := by
  have hS7 : ∀ r, S r → RgX x bf hq q r := fun r hr => (hS r hr).elim Or.inl (fun e => Or.inr (Or.inl e))
  obtain ⟨o1, o2⟩ := h.oth hF hS7
  have n : ∀ c C, hasC w c C → C ≠ "SpokenMarks" → ¬ S (c + 1) := fun c C hc hC hs => by
    rcases hS _ hs with e | e
    · exact hasC_ne hc h.hx hC (Nat.succ.inj e)
    · exact (h.2.1.ne hc).p (Nat.succ.inj e).symm
  have n0 : ¬ S 0 := fun hs => by rcases hS _ hs with e | e <;> exact absurd e.symm (Nat.succ_ne_zero _)
  have hc := h.2.2.2.1
  exact ⟨hX, hB, h.2.2.1.mv hF (n _ _ h.2.2.1.c (by decide)), CatAt.mv hc hF ⟨n0, n _ _ (CatAt.c hc) (by decide), n _ _ (CatAt.hc hc).1 (by decide), n _ _ (CatAt.hc hc).2.1 (by decide), n _ _ (CatAt.hc hc).2.2 (by decide)⟩, hf o2, o1, h.2.2.2.2.2.2⟩
/-- an operation is done -/
theorem CmX.op (h : CmX G w x bf hq fs q sv hist sn B er ca ud F s) {S : Nat → Prop} (hF : Fr S w w1) (hS : ∀ r, S r → r = x + 1 ∨ r = hq + 1 ∨ r = q.1 + 1 ∨ r = q.2.1 + 1 ∨ r = q.2.2.1 + 1 ∨ r = q.2.2.2 + 1) {p : Cat × Int} {B2 : List Int} {er2 : Int} (hB2 : BufAt G w bf (bf + 1) B → BufAt G w bf (bf + 1) B2)
    (hX : w1 x = some (x + 1, oE 0 (objV bf hq fs q.1 sv (B2.length : Int) er2 ca (if p.2 < 0 then sD s else sD s + 1) (if p.2 < 0 then sR s + 1 else sR s) ud))) (hC : CatQ G w1 q p.1) (hO : OpP G w w1 hq (hist.map (fun z => z.1.1)) (sC s) p.2) : ∃ hist2, CmX G w1 x bf hq fs q sv hist2 sn B2 er2 ca ud F (opS s p) := by
  have hS7 : ∀ r, S r → RgX x bf hq q r := fun r hr => by
    rcases hS r hr with e | e | e
    · exact Or.inl e
    · exact Or.inr (Or.inr (Or.inl e))
    · exact Or.inr (Or.inr (Or.inr e))
  obtain ⟨o1, o2⟩ := h.oth hF hS7
  have nb : ¬ S (bf + 1) := fun hs => by
    rcases hS _ hs with e | e | e | e | e | e
    · exact (h.2.1.ne h.hx).p (Nat.succ.inj e)
    · exact (h.2.1.ne h.2.2.1.c).p (Nat.succ.inj e)
    · exact (h.2.1.ne (CatAt.c h.2.2.2.1)).p (Nat.succ.inj e)
    · exact (h.2.1.ne (CatAt.hc h.2.2.2.1).1).p (Nat.succ.inj e)
    · exact (h.2.1.ne (CatAt.hc h.2.2.2.1).2.1).p (Nat.succ.inj e)
    · exact (h.2.1.ne (CatAt.hc h.2.2.2.1).2.2).p (Nat.succ.inj e)
  have hB3 := (hB2 h.2.1).mv hF nb
  rcases hO with ⟨hz, hD⟩ | ⟨hz, b, l1, l2, l3, n0, n1, n2, n3, hCn, hD⟩
  · refine ⟨hist, ?_⟩
    have e : opS s p = (p.1, sU s, sD s, sR s + 1) := by unfold opS endS; rw [if_pos hz]
    rw [if_pos hz, if_pos hz] at hX
    rw [e]
    exact ⟨hX, hB3, hD, hC, o2, o1, h.2.2.2.2.2.2.1, h.2.2.2.2.2.2.2.1, pw_c h.2.2.2.2.2.2.2.2⟩
  · have e : opS s p = (p.1, pushU (sU s) (sC s), sD s + 1, sR s) := by unfold opS endS; rw [if_neg (by omega)]
    rw [if_neg (by omega), if_neg (by omega)] at hX
    rw [e]
    refine ⟨pushH hist ((b, l1, l2, l3), sC s), hX, hB3, by rw [pushH_a]; exact hD, hC, o2, fun z hz => ?_, by rw [pushH_u, h.2.2.2.2.2.2.1], pushH_l _ h.2.2.2.2.2.2.2.1, ?_⟩
    · rcases List.mem_append.mp hz with hz | hz
      · exact o1 z (List.mem_append_left _ hz)
      · rcases pushH_m hz with hz | hz
        · exact o1 z (List.mem_append_right _ hz)
        · subst hz; exact hCn
    · refine pushH_p (M := (q, p.1) :: sn) (pw_c h.2.2.2.2.2.2.2.2) (fun y hy => ?_)
      rcases List.mem_cons.mp hy with hy | hy
      · subst hy; exact CatQ.new h.2.2.2.1 n0 n1 n2 n3
      · exact CatQ.new (h.2.2.2.2.2.1 y hy) n0 n1 n2 n3
/-- the catalogue is replaced by a new one, the history is empty -/
theorem CmX.fresh (h : CmX G w x bf hq fs q sv hist sn B er ca ud F s) {S : Nat → Prop} (hF : Fr S w w1) (hS : ∀ r, S r → r = x + 1 ∨ r = hq + 1) {b l1 l2 l3 : Nat} {c : Cat} {sv2 : Value} {sn2 : List (Qd × Cat)} {B2 : List Int} {er2 : Int} (n0 : w b = none) (n1 : w l1 = none) (n2 : w l2 = none) (n3 : w l3 = none) (hB2 : BufAt G w bf (bf + 1) B → BufAt G w bf (bf + 1) B2) (hsn : List.Sublist sn2 sn)
    (hX : w1 x = some (x + 1, oE 0 (objV bf hq fs b sv2 (B2.length : Int) er2 ca (sD s) (sR s) ud))) (hC : CatAt G w1 b l1 l2 l3 c) (hD : DqAt G w1 (hq + 1) hq []) : CmX G w1 x bf hq fs (b, l1, l2, l3) sv2 [] sn2 B2 er2 ca ud F (c, [], sD s, sR s) := by
  have hS7 : ∀ r, S r → RgX x bf hq q r := fun r hr => (hS r hr).elim Or.inl (fun e => Or.inr (Or.inr (Or.inl e)))
  obtain ⟨o1, o2⟩ := h.oth hF hS7
  have nb : ¬ S (bf + 1) := fun hs => by
    rcases hS _ hs with e | e
    · exact (h.2.1.ne h.hx).p (Nat.succ.inj e)
    · exact (h.2.1.ne h.2.2.1.c).p (Nat.succ.inj e)
  have hp := (List.pairwise_cons.mp h.2.2.2.2.2.2.2.2).2
  refine ⟨hX, (hB2 h.2.1).mv hF nb, hD, hC, o2, fun z hz => ?_, rfl, Nat.zero_le _, ?_⟩
  · rw [List.append_nil] at hz
    exact o1 z (List.mem_append_left _ (hsn.subset hz))
  · rw [List.append_nil]
    exact List.pairwise_cons.mpr ⟨fun y hy => Sep.sy (CatQ.new (h.2.2.2.2.2.1 y (List.mem_append_left _ (hsn.subset hy))) n0 n1 n2 n3), (hp.sublist (List.sublist_append_left sn hist)).sublist hsn⟩
/-- a snapshot is taken -/
theorem CmX.snap (h : CmX G w x bf hq fs q sv hist sn B er ca ud F s) {S : Nat → Prop} (hF : Fr S w w1) (hS : ∀ r, S r → r = x + 1) {b l1 l2 l3 : Nat} (n0 : w b = none) (n1 : w l1 = none) (n2 : w l2 = none) (n3 : w l3 = none) (hX : w1 x = some (x + 1, oE 0 (objV bf hq fs q.1 (.ref b) (B.length : Int) er ca (sD s) (sR s) ud))) (hC : CatAt G w1 b l1 l2 l3 (sC s)) : CmX G w1 x bf hq fs q (.ref b) hist [((b, l1, l2, l3), sC s)] B er ca ud F s := by
  have hn : ¬ S (bf + 1) := fun hs => (h.2.1.ne h.hx).p (Nat.succ.inj (hS _ hs))
  have n : ∀ c C, hasC w c C → C ≠ "SpokenMarks" → ¬ S (c + 1) := fun c C hc hC hs => hasC_ne hc h.hx hC (Nat.succ.inj (hS _ hs))
  have n00 : ¬ S 0 := fun hs => absurd (hS _ hs).symm (Nat.succ_ne_zero _)
  have hc := h.2.2.2.1
  obtain ⟨o1, o2⟩ := h.oth hF (fun r hr => Or.inl (hS r hr))
  have hp := List.pairwise_cons.mp h.2.2.2.2.2.2.2.2
  have h2 := List.pairwise_append.mp hp.2
  refine ⟨hX, h.2.1.mv hF hn, h.2.2.1.mv hF (n _ _ h.2.2.1.c (by decide)), CatAt.mv hc hF ⟨n00, n _ _ (CatAt.c hc) (by decide), n _ _ (CatAt.hc hc).1 (by decide), n _ _ (CatAt.hc hc).2.1 (by decide), n _ _ (CatAt.hc hc).2.2 (by decide)⟩, o2, fun z hz => ?_, h.2.2.2.2.2.2.1, h.2.2.2.2.2.2.2.1, ?_⟩
  · rcases List.mem_cons.mp hz with hz | hz
    · subst hz; exact hC
    · exact o1 z (List.mem_append_right _ hz)
  · refine List.pairwise_cons.mpr ⟨fun y hy => ?_, List.pairwise_cons.mpr ⟨fun y hy => ?_, h2.2.1⟩⟩
    · rcases List.mem_cons.mp hy with hy | hy
      · subst hy; exact CatQ.new h.2.2.2.1 n0 n1 n2 n3
      · exact hp.1 y (List.mem_append_right _ hy)
    · exact Sep.sy (CatQ.new (h.2.2.2.2.2.1 y (List.mem_append_right _ hy)) n0 n1 n2 n3)
/-- one step back -/
theorem CmX.und (h : CmX G w x bf hq fs q sv hist sn B er ca ud F s) {S : Nat → Prop} (hF : Fr S w w1) (hS : ∀ r, S r → r = x + 1 ∨ r = hq + 1) {H0 : List (Qd × Cat)} {z0 : Qd × Cat} (he : hist = H0 ++ [z0]) {ud2 : Int} (hX : w1 x = some (x + 1, oE 0 (objV bf hq fs z0.1.1 sv (B.length : Int) er ca (sD s) (sR s) ud2))) (hD : DqAt G w1 (hq + 1) hq (H0.map (fun z => z.1.1))) : CmX G w1 x bf hq fs z0.1 sv H0 sn B er ca ud2 F (z0.2, H0.map (fun z => z.2), sD s, sR s) := by
  subst he
  have hS7 : ∀ r, S r → RgX x bf hq q r := fun r hr => (hS r hr).elim Or.inl (fun e => Or.inr (Or.inr (Or.inl e)))
  obtain ⟨o1, o2⟩ := h.oth hF hS7
  have nb : ¬ S (bf + 1) := fun hs => by
    rcases hS _ hs with e | e
    · exact (h.2.1.ne h.hx).p (Nat.succ.inj e)
    · exact (h.2.1.ne h.2.2.1.c).p (Nat.succ.inj e)
  have hl := h.2.2.2.2.2.2.2.1
  rw [List.length_append] at hl
  have hp := (List.pairwise_cons.mp h.2.2.2.2.2.2.2.2).2
  rw [← List.append_assoc] at hp
  have h2 := List.pairwise_append.mp hp
  refine ⟨hX, h.2.1.mv hF nb, hD, o1 z0 (List.mem_append_right _ (List.mem_append_right _ (List.mem_singleton.mpr rfl))), o2, fun z hz => ?_, rfl, by omega, List.pairwise_cons.mpr ⟨fun y hy => Sep.sy (h2.2.2 y hy z0 (List.mem_singleton.mpr rfl)), h2.1⟩⟩
  rcases List.mem_append.mp hz with hz | hz
  · exact o1 z (List.mem_append_left _ hz)
  · exact o1 z (List.mem_append_right _ (List.mem_append_left _ hz))
end CMX
/-! contracts that promise less -/
section IMP
variable {l : Launch} {G : Gl} {y : MethodName} {cc : ByteArray} {maxL lv mc ms : Nat} {ret : Option FieldType} {av : List Value} {w : Wd} {hh : List (Nat × Nat × Nat × Nat)} {px px' : Nat → String → Wd → Prop}
theorem vx_imp {ws : List Cond} {rm : Room} {P : Array Value → State → Prop} {Q Q' : Array Value → State → Outcome → State → Prop} {free : Addr → Prop} (h : vx_Met l y ws rm P Q (XW G px) mc ms free) (hQ : ∀ a s o t, Q a s o t → Q' a s o t) (hx : ∀ q E w1, px q E w1 → px' q E w1) : vx_Met l y ws rm P Q' (XW G px') mc ms free := by
  intro p e ha hc hk s m args below hf happ hP hK
  obtain ⟨n, o, h1, h2, h3, h4⟩ := h p e ha hc hk s m args below hf happ hP hK
  refine ⟨n, o, h1, h2, h3, ?_⟩
  rcases h4 with ⟨a, b⟩ | ⟨q, e1, E, ce, L, ⟨w1, x1, x2⟩, x3⟩
  · exact Or.inl ⟨hQ _ _ _ _ a, b⟩
  · exact Or.inr ⟨q, e1, E, ce, L, ⟨w1, x1, hx _ _ _ x2⟩, x3⟩
theorem QI.imp {post post' : Int → Wd → Prop} (h : ∀ z w1, post z w1 → post' z w1) (a : Array Value) (s : State) (o : Outcome) (t : State) (hq : QI G post a s o t) : QI G post' a s o t := by
  obtain ⟨z, w1, h1, h2, h3⟩ := hq
  exact ⟨z, w1, h1, h2, h _ _ h3⟩
theorem QF.imp {post post' : UInt32 → Wd → Prop} (h : ∀ z w1, post z w1 → post' z w1) (a : Array Value) (s : State) (o : Outcome) (t : State) (hq : QF G post a s o t) : QF G post' a s o t := by
  obtain ⟨z, w1, h1, h2, h3⟩ := hq
  exact ⟨z, w1, h1, h2, h _ _ h3⟩
theorem QD.imp {post post' : UInt64 → Wd → Prop} (h : ∀ z w1, post z w1 → post' z w1) (a : Array Value) (s : State) (o : Outcome) (t : State) (hq : QD G post a s o t) : QD G post' a s o t := by
  obtain ⟨z, w1, h1, h2, h3⟩ := hq
  exact ⟨z, w1, h1, h2, h _ _ h3⟩
theorem QV.imp {post post' : Wd → Prop} (h : ∀ w1, post w1 → post' w1) (a : Array Value) (s : State) (o : Outcome) (t : State) (hq : QV G post a s o t) : QV G post' a s o t := by
  obtain ⟨w1, h1, h2, h3⟩ := hq
  exact ⟨w1, h1, h2, h _ h3⟩
theorem HM.imp {Q Q' : Array Value → State → Outcome → State → Prop} (h : HM l y cc maxL ret lv mc ms G av w Q) (hQ : ∀ a s o t, Q a s o t → Q' a s o t) : HM l y cc maxL ret lv mc ms G av w Q' := by
  intro p e ha hc hk s m args below hf happ hP hK
  obtain ⟨n, o, h1, h2, h3, h4, h5⟩ := h p e ha hc hk s m args below hf happ hP hK
  exact ⟨n, o, h1, h2, h3, hQ _ _ _ _ h4, h5⟩
end IMP
