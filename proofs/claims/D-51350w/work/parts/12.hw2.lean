/-! HW: classes, entities, the relation of a world to a heap -/
set_option maxRecDepth 100000
def hT0 : u_T := fun _ => ("java/lang/Object", "x", "I", false)
def HCl : List vw_C := [(RX1, TX1, 11), (RX10, TX10, 33), (RX2, TX2, 9), (RX5, TX5, 4), (RX6, TX6, 2), (RX9, TX9, 1), (RX4, TX4, 2), (RX3, hT0, 0), (RX11, TX11, 7), (RX12, TX12, 7),
  (RX22, TX22, 9), (RX13, TX13, 8), (RX15, TX15, 2), (RX16, TX16, 1), (RX17, TX17, 1), (RX18, TX18, 1), (RX19, TX19, 2), (RX20, TX20, 2), (RX21, TX21, 1), (RJ10, TJ10, 4),
  (RJ9, TJ9, 4), (RJ3, TJ3, 3), (RJ25, TJ25, 4), (RJ1, TJ1, 3), (RJ19, TJ19, 8), (RJ20, TJ20, 4), (RX23, hT0, 0), (RX24, hT0, 0), (RX25, hT0, 0), (RX26, hT0, 0),
  (RX27, hT0, 0), (RJ7, TJ7, 6), (RJ26, TJ26, 6), (RJ21, hT0, 0)]
/-- array classes: 0 int, 1 byte, 2 long, 3 double, 4 Object, 5 HashMap.Node, 6 Step -/
def gTy : Nat → FieldType := fun k => match k with
  | 0 => .int
  | 1 => .byte
  | 2 => .long
  | 3 => .double
  | 4 => .object "java/lang/Object"
  | 5 => .object "java/util/HashMap$Node"
  | _ => .object "SpokenMarks$Step"
def gTys (G : Gl) : List (ClassId × FieldType) := [(gA G 0, gTy 0), (gA G 1, gTy 1), (gA G 2, gTy 2), (gA G 3, gTy 3), (gA G 4, gTy 4), (gA G 5, gTy 5), (gA G 6, gTy 6)]
abbrev oE (ci : Nat) (fs : List Value) : Ent := .inl (.inr (ci, fs))
def iE (G : Gl) (k n : Nat) (f : Nat → Int) : Ent := .inl (.inl (gA G k, n, .inl (fun j => iI (f j))))
def lE (G : Gl) (n : Nat) (f : Nat → Int) : Ent := .inl (.inl (gA G 2, n, .inr (.inl (fun j => lI (f j)))))
def dE (G : Gl) (n : Nat) (f : Nat → UInt64) : Ent := .inl (.inl (gA G 3, n, .inr (.inr (.inr (.inl f)))))
def rE (G : Gl) (k n : Nat) (f : Nat → Option Nat) : Ent := .inl (.inl (gA G k, n, .inr (.inr (.inr (.inr f)))))
def sE (va : Nat) (hv : Int32) : Ent := .inr (va, hv)
/-- an entity, its cell as allocation leaves it -/
def entO (G : Gl) (a : Nat) (e : Ent) (H : Heap) : Prop := match e with
  | .inl x => va_at (gD G) HCl (a, x) H
  | .inr q => ∃ h z : Int32, va_at (gD G) HCl (a, .inr (19, [.ref q.1, .int 0, .int h, .int z])) H ∧ ((h = q.2 ∧ (q.2 = 0 → z = 1)) ∨ (h = 0 ∧ z = 0 ∧ gB G ≤ a))
/-- an object, as far as the start tells it -/
def obW (G : Gl) (a ci : Nat) (fs : List Value) (H : Heap) : Prop := ∃ r : vw_C, HCl[ci]? = some r ∧ ∃ cell : Cell, H[a]? = some cell ∧ cell.cls = (gD G).1 ci ∧ ((0 < r.2.2 → cell.vm ≠ .unknown) ∧ cell.vm.isStatics = false) ∧ ∀ k, k < r.2.2 → cell.slots[(gD G).2 ci k]? = some (vp_V fs k)
/-- an array, as far as the start tells it -/
def arW (a : Nat) (c : ClassId) (x : vp_A) (H : Heap) : Prop := ∃ cell : Cell, H[a]? = some cell ∧ cell.cls = c ∧ cell.slots = (vp_cell c x).slots ∧ (cell.vm ≠ .unknown ∧ cell.vm.isStatics = false) ∧ (x.1 = 8 → cell.vm = .none)
def entW (G : Gl) (a : Nat) (e : Ent) (H : Heap) : Prop := match e with
  | .inl (.inl (c, x)) => arW a c x H
  | .inl (.inr (ci, fs)) => obW G a ci fs H
  | .inr q => ∃ h z : Int32, obW G a 19 [.ref q.1, .int 0, .int h, .int z] H ∧ ((h = q.2 ∧ (q.2 = 0 → z = 1)) ∨ (h = 0 ∧ z = 0 ∧ gB G ≤ a))
def entAt (G : Gl) (a : Nat) (e : Ent) (H : Heap) : Prop := entW G a e H ∧ (gB G ≤ a → entO G a e H)
theorem vp_cellP (c : ClassId) (x : vp_A) : (vp_cell c x).cls = c ∧ (vp_cell c x).vm = .none := by
  obtain ⟨n, f | f | f | f | f⟩ := x <;> exact ⟨rfl, rfl⟩
theorem obW.of {G : Gl} {a ci : Nat} {fs : List Value} {H : Heap} (h : va_at (gD G) HCl (a, .inr (ci, fs)) H) : obW G a ci fs H := by
  obtain ⟨r, h1, cell, g1, g2, g3, g4⟩ := h
  exact ⟨r, h1, cell, g1, g2, ⟨fun _ q => by (rw [g3] at q; cases q), by rw [g3]; rfl⟩, g4⟩
theorem arW.of {a : Nat} {c : ClassId} {x : vp_A} {H : Heap} (h : H[a]? = some (vp_cell c x)) : arW a c x H :=
  ⟨_, h, (vp_cellP c x).1, rfl, ⟨fun q => by (rw [(vp_cellP c x).2] at q; cases q), by rw [(vp_cellP c x).2]; rfl⟩, fun _ => (vp_cellP c x).2⟩
theorem entO.w {G : Gl} {a : Nat} {e : Ent} {H : Heap} (h : entO G a e H) : entW G a e H := by
  obtain (⟨c, x⟩ | ⟨ci, fs⟩) | q := e
  · exact arW.of h
  · exact obW.of h
  · obtain ⟨h0, z, h1, h2⟩ := h
    exact ⟨h0, z, obW.of h1, h2⟩
theorem entO.at {G : Gl} {a : Nat} {e : Ent} {H : Heap} (h : entO G a e H) : entAt G a e H := ⟨h.w, fun _ => h⟩
theorem obW.kept {G : Gl} {a ci : Nat} {fs : List Value} {H H1 : Heap} (h : obW G a ci fs H) (hq : H1[a]? = H[a]?) : obW G a ci fs H1 := by
  obtain ⟨r, h1, cell, g1, g2⟩ := h
  exact ⟨r, h1, cell, hq.trans g1, g2⟩
theorem entAt.kept {G : Gl} {a : Nat} {e : Ent} {H H1 : Heap} (h : entAt G a e H) (hq : H1[a]? = H[a]?) : entAt G a e H1 := by
  obtain ⟨hw, ho⟩ := h
  refine ⟨?_, fun hb => ?_⟩
  · obtain (⟨c, x⟩ | ⟨ci, fs⟩) | q := e
    · obtain ⟨cell, g1, g2⟩ := hw
      exact ⟨cell, hq.trans g1, g2⟩
    · exact obW.kept hw hq
    · obtain ⟨h0, z, h1, h2⟩ := hw
      exact ⟨h0, z, h1.kept hq, h2⟩
  · have h := ho hb
    cases e with
    | inl x => exact va_at.kept (q := (a, x)) h hq
    | inr q =>
      obtain ⟨h0, z, h1, h2⟩ := h
      exact ⟨h0, z, va_at.kept h1 hq, h2⟩
theorem entAt.lt {G : Gl} {a : Nat} {e : Ent} {H : Heap} (h : entAt G a e H) : a < H.size := by
  obtain ⟨hw, -⟩ := h
  obtain (⟨c, x⟩ | ⟨ci, fs⟩) | q := e
  · obtain ⟨cell, g1, g2⟩ := hw
    exact (Array.getElem?_eq_some_iff.mp g1).1
  · obtain ⟨r, h1, cell, g1, g2⟩ := hw
    exact (Array.getElem?_eq_some_iff.mp g1).1
  · obtain ⟨h0, z, ⟨r, h1, cell, g1, g2⟩, h2⟩ := hw
    exact (Array.getElem?_eq_some_iff.mp g1).1
/-- the world w lies in the heap H -/
def Rp (G : Gl) (w : Wd) (H : Heap) : Prop := gB G ≤ H.size ∧ (∀ a : Nat, a < gB G → H[a]? = (gH G)[a]?) ∧ (∀ (a r : Nat) (e : Ent), w a = some (r, e) → entAt G a e H ∧ (r ≠ 0 → gB G ≤ a)) ∧ ∀ (a : Nat) (x : Nat × Ent), gW G a = some x → w a = some x ∧ a < gB G
def wset (w : Wd) (a : Nat) (x : Nat × Ent) : Wd := fun b => if b = a then some x else w b
theorem wset_eq (w : Wd) (a : Nat) (x : Nat × Ent) : wset w a x a = some x := by simp [wset]
theorem wset_ne {w : Wd} {a b : Nat} (x : Nat × Ent) (h : b ≠ a) : wset w a x b = w b := by simp [wset, h]
theorem wset_ww (w : Wd) (a : Nat) (x y : Nat × Ent) : wset (wset w a x) a y = wset w a y := by
  funext b
  by_cases h : b = a <;> simp [wset, h]
theorem wset_self {w : Wd} {a : Nat} {x : Nat × Ent} (h : w a = some x) : wset w a x = w := by
  funext b
  by_cases hb : b = a
  · subst hb; simp [wset, h]
  · simp [wset, hb]
/-- what regions outside S hold stays -/
def Fr (S : Nat → Prop) (w w' : Wd) : Prop := ∀ (a r : Nat) (e : Ent), w a = some (r, e) → ¬ S r → w' a = some (r, e)
theorem Fr.rf {S : Nat → Prop} {w : Wd} : Fr S w w := fun _ _ _ h _ => h
theorem Fr.trans {S : Nat → Prop} {w w1 w2 : Wd} (h1 : Fr S w w1) (h2 : Fr S w1 w2) : Fr S w w2 := fun a r e h hs => h2 a r e (h1 a r e h hs) hs
theorem Fr.mono {S T : Nat → Prop} {w w' : Wd} (h : Fr S w w') (hST : ∀ r, S r → T r) : Fr T w w' := fun a r e h1 h2 => h a r e h1 (fun z => h2 (hST r z))
theorem Fr.set {S : Nat → Prop} {w w' : Wd} {a r : Nat} {e : Ent} (h : Fr S w w') (ha : w' a = some (r, e)) (hr : S r) (x : Nat × Ent) : Fr S w (wset w' a x) := by
  intro b r1 e1 hb hs
  have h1 := h b r1 e1 hb hs
  by_cases hab : b = a
  · subst hab
    rw [ha] at h1
    cases h1
    exact absurd hr hs
  · rw [wset_ne x hab]; exact h1
theorem Fr.new {S : Nat → Prop} {w w' : Wd} {a : Nat} (h : Fr S w w') (ha : w' a = none) (x : Nat × Ent) : Fr S w (wset w' a x) := by
  intro b r1 e1 hb hs
  have h1 := h b r1 e1 hb hs
  by_cases hab : b = a
  · subst hab
    rw [ha] at h1
    cases h1
  · rw [wset_ne x hab]; exact h1
/-- what was there is there (in whatever state): addresses are not given again -/
def Ol (w w' : Wd) : Prop := ∀ a : Nat, w' a = none → w a = none
theorem Ol.rf {w : Wd} : Ol w w := fun _ h => h
theorem Ol.trans {w w1 w2 : Wd} (h1 : Ol w w1) (h2 : Ol w1 w2) : Ol w w2 := fun a h => h1 a (h2 a h)
theorem Ol.set {w w' : Wd} (h : Ol w w') (a : Nat) (x : Nat × Ent) : Ol w (wset w' a x) := by
  intro b hb
  by_cases hab : b = a
  · subst hab; rw [wset_eq] at hb; cases hb
  · rw [wset_ne x hab] at hb; exact h b hb
theorem w_ne {w : Wd} {a b : Nat} {x y : Nat × Ent} (ha : w a = some x) (hb : w b = some y) (h : x ≠ y) : a ≠ b := fun e => by
  subst e
  rw [ha] at hb
  exact h (Option.some.inj hb)
theorem w_neN {w : Wd} {a b : Nat} {x : Nat × Ent} (ha : w a = some x) (hb : w b = none) : a ≠ b := fun e => by
  subst e
  rw [ha] at hb
  cases hb
theorem Rp.at {G : Gl} {w : Wd} {H : Heap} (h : Rp G w H) {a r : Nat} {e : Ent} (ha : w a = some (r, e)) : entAt G a e H := (h.2.2.1 a r e ha).1
/-- a thing that may change is as allocation leaves it -/
theorem Rp.ex {G : Gl} {w : Wd} {H : Heap} (h : Rp G w H) {a r : Nat} {e : Ent} (ha : w a = some (r, e)) (hr : r ≠ 0) : entO G a e H := (h.2.2.1 a r e ha).1.2 ((h.2.2.1 a r e ha).2 hr)
theorem Rp.ge {G : Gl} {w : Wd} {H : Heap} (h : Rp G w H) {a r : Nat} {e : Ent} (ha : w a = some (r, e)) (hr : r ≠ 0) : gB G ≤ a := (h.2.2.1 a r e ha).2 hr
theorem Rp.lt {G : Gl} {w : Wd} {H : Heap} (h : Rp G w H) {a : Nat} {x : Nat × Ent} (ha : w a = some x) : a < H.size := (h.at (r := x.1) (e := x.2) ha).lt
theorem Rp.none {G : Gl} {w : Wd} {H : Heap} (h : Rp G w H) {a : Nat} (ha : H.size ≤ a) : w a = none := by
  cases hw : w a with
  | none => rfl
  | some x => exact absurd (h.lt hw) (by omega)
theorem Rp.con {G : Gl} {w : Wd} {H : Heap} (h : Rp G w H) {a : Nat} {x : Nat × Ent} (ha : gW G a = some x) : w a = some x := (h.2.2.2 a x ha).1
/-- a cell of the world is written -/
theorem Rp.put {G : Gl} {w : Wd} {H H1 : Heap} {a r : Nat} {e e1 : Ent} {r1 : Nat} (h : Rp G w H) (ha : w a = some (r, e)) (hr : r ≠ 0) (hz : H1.size = H.size) (oq : ∀ q : Nat, q ≠ a → H1[q]? = H[q]?) (he : entO G a e1 H1) : Rp G (wset w a (r1, e1)) H1 := by
  have hge := h.ge ha hr
  refine ⟨by rw [hz]; exact h.1, fun q hq => ?_, fun b rb eb hb => ?_, fun b x hb => ?_⟩
  · rw [oq q (by omega)]; exact h.2.1 q hq
  · by_cases hab : b = a
    · subst hab
      rw [wset_eq] at hb
      cases hb
      exact ⟨he.at, fun _ => hge⟩
    · rw [wset_ne _ hab] at hb
      exact ⟨(h.at hb).kept (oq b hab), (h.2.2.1 b rb eb hb).2⟩
  · have hb2 := h.2.2.2 b x hb
    exact ⟨by rw [wset_ne _ (by omega)]; exact hb2.1, hb2.2⟩
/-- a cell is made -/
theorem Rp.mk {G : Gl} {w : Wd} {H H1 : Heap} {e1 : Ent} {r1 : Nat} (h : Rp G w H) (hz : H1.size = H.size + 1) (oq : ∀ q : Nat, q < H.size → H1[q]? = H[q]?) (he : entO G H.size e1 H1) : Rp G (wset w H.size (r1, e1)) H1 := by
  refine ⟨by rw [hz]; have := h.1; omega, fun q hq => ?_, fun b rb eb hb => ?_, fun b x hb => ?_⟩
  · rw [oq q (by have := h.1; omega)]; exact h.2.1 q hq
  · by_cases hab : b = H.size
    · subst hab
      rw [wset_eq] at hb
      cases hb
      exact ⟨he.at, fun _ => h.1⟩
    · rw [wset_ne _ hab] at hb
      exact ⟨(h.at hb).kept (oq b (h.lt hb)), (h.2.2.1 b rb eb hb).2⟩
  · have hb2 := h.2.2.2 b x hb
    exact ⟨by rw [wset_ne _ (by have := h.1; omega)]; exact hb2.1, hb2.2⟩
/-- the world's own account of a cell is changed, not the cell -/
theorem Rp.ghost {G : Gl} {w : Wd} {H : Heap} {a r : Nat} {e e1 : Ent} {r1 : Nat} (h : Rp G w H) (ha : w a = some (r, e)) (hr : r ≠ 0) (he : entO G a e1 H) : Rp G (wset w a (r1, e1)) H := h.put ha hr rfl (fun _ _ => rfl) he
theorem Rp.retag {G : Gl} {w : Wd} {H : Heap} {a r : Nat} {e : Ent} (r1 : Nat) (h : Rp G w H) (ha : w a = some (r, e)) (hr : r ≠ 0) : Rp G (wset w a (r1, e)) H := h.ghost ha hr (h.ex ha hr)
/-- a cell is forgotten -/
def wdel (w : Wd) (a : Nat) : Wd := fun b => if b = a then none else w b
abbrev LK (G : Gl) (locs : List Loc) : Prop := ∀ q ∈ locs, gB G ≤ q.base
theorem LK.add {G : Gl} {locs : List Loc} (h : LK G locs) {a i : Nat} (ha : gB G ≤ a) : LK G (locs ++ [⟨a, i⟩]) := by
  intro q hq
  rcases List.mem_append.mp hq with h1 | h1
  · exact h q h1
  · rw [List.mem_singleton.mp h1]; exact ha
abbrev frG (G : Gl) : Nat → Prop := fun q => gB G ≤ q
/-- a text's hash, as a number -/
def sH (l : List Int) : Int := l.foldl (fun h c => 31 * h + c) 0
/-- the String constants: class, entry, text, its letters -/
def kkStr : List (String × Nat × String × List Int) := [("SpokenMarks", 461, " ", [32]),
  ("SpokenMarks", 56, "", []),
  ("SpokenMarks", 64, "cough", [99, 111, 117, 103, 104]),
  ("SpokenMarks", 66, "koff", [107, 111, 102, 102]),
  ("SpokenMarks", 75, "qa", [113, 97]),
  ("SpokenMarks", 77, "smith", [115, 109, 105, 116, 104]),
  ("SpokenMarks", 83, "smyth", [115, 109, 121, 116, 104]),
  ("SpokenMarks", 85, "phase", [112, 104, 97, 115, 101]),
  ("SpokenMarks", 92, "fase", [102, 97, 115, 101]),
  ("SpokenMarks$Reader", 15, "shelves", [115, 104, 101, 108, 118, 101, 115]),
  ("SpokenMarks$Reader", 44, "say", [115, 97, 121]),
  ("SpokenMarks$Reader", 64, "mark", [109, 97, 114, 107]),
  ("SpokenMarks$Scanner", 9, "", []),
  ("SpokenMarks$Script", 66, "say", [115, 97, 121]),
  ("SpokenMarks$Script", 71, "mark", [109, 97, 114, 107]),
  ("SpokenMarks$Script", 73, "unsay", [117, 110, 115, 97, 121]),
  ("SpokenMarks$Script", 75, "drop", [100, 114, 111, 112]),
  ("SpokenMarks$Script", 77, "width", [119, 105, 100, 116, 104]),
  ("SpokenMarks$Script", 79, "bound", [98, 111, 117, 110, 100]),
  ("SpokenMarks$Script", 81, "balance", [98, 97, 108, 97, 110, 99, 101]),
  ("SpokenMarks$Script", 83, "respace", [114, 101, 115, 112, 97, 99, 101]),
  ("SpokenMarks$Step$1", 7, "ph", [112, 104]),
  ("SpokenMarks$Step$2", 7, "ck", [99, 107]),
  ("SpokenMarksModel", 100, "shelves 2 20;say cough = koff;mark qa 76 smith = 5;mark qa 9 smyth = 7;mark phase 3 = 4;mark fase 3 1 = 6;mark cough = 2;", [115, 104, 101, 108, 118, 101, 115, 32, 50, 32, 50, 48, 59, 115, 97, 121, 32, 99, 111, 117, 103, 104, 32, 61, 32, 107, 111, 102, 102, 59, 109, 97, 114, 107, 32, 113, 97, 32, 55, 54, 32, 115, 109, 105, 116, 104, 32, 61, 32, 53, 59, 109, 97, 114, 107, 32, 113, 97, 32, 57, 32, 115, 109, 121, 116, 104, 32, 61, 32, 55, 59, 109, 97, 114, 107, 32, 112, 104, 97, 115, 101, 32, 51, 32, 61, 32, 52, 59, 109, 97, 114, 107, 32, 102, 97, 115, 101, 32, 51, 32, 49, 32, 61, 32, 54, 59, 109, 97, 114, 107, 32, 99, 111, 117, 103, 104, 32, 61, 32, 50, 59]),
  ("SpokenMarksModel", 263, "shelves", [115, 104, 101, 108, 118, 101, 115]),
  ("SpokenMarksModel", 275, "say", [115, 97, 121]),
  ("SpokenMarksModel", 280, "mark", [109, 97, 114, 107]),
  ("SpokenMarksModel", 427, "unsay", [117, 110, 115, 97, 121]),
  ("SpokenMarksModel", 429, "drop", [100, 114, 111, 112]),
  ("SpokenMarksModel", 431, "width", [119, 105, 100, 116, 104]),
  ("SpokenMarksModel", 433, "bound", [98, 111, 117, 110, 100]),
  ("SpokenMarksModel", 434, "balance", [98, 97, 108, 97, 110, 99, 101]),
  ("SpokenMarksModel", 436, "respace", [114, 101, 115, 112, 97, 99, 101]),
  ("java/util/ArrayList", 23, "Illegal Capacity: ", [73, 108, 108, 101, 103, 97, 108, 32, 67, 97, 112, 97, 99, 105, 116, 121, 58, 32]),
  ("java/util/Arrays", 337, " > ", [32, 62, 32]),
  ("jdk/internal/util/ArraysSupport", 92, "unrecognized basic type: ", [117, 110, 114, 101, 99, 111, 103, 110, 105, 122, 101, 100, 32, 98, 97, 115, 105, 99, 32, 116, 121, 112, 101, 58, 32])]
/-- the statics that hold an object: its number in gC, class, name, descriptor -/
def kkSt : List (Nat × String × String × String) := [(72, "java/util/ArrayList", "EMPTY_ELEMENTDATA", "[Ljava/lang/Object;"),
  (73, "java/util/ArrayList", "DEFAULTCAPACITY_EMPTY_ELEMENTDATA", "[Ljava/lang/Object;"),
  (74, "java/lang/Integer", "DigitTens", "[B"),
  (75, "java/lang/Integer", "DigitOnes", "[B"),
  (76, "SpokenMarks$Step", "$VALUES", "[LSpokenMarks$Step;"),
  (77, "SpokenMarks$Step", "PAIR_PH", "LSpokenMarks$Step;"),
  (78, "SpokenMarks$Step", "PAIR_CK", "LSpokenMarks$Step;"),
  (79, "SpokenMarks$Step", "LETTERS", "LSpokenMarks$Step;"),
  (80, "SpokenMarks$Step", "SILENT", "LSpokenMarks$Step;"),
  (81, "SpokenMarks$Step", "RUNS", "LSpokenMarks$Step;"),
  (82, "jdk/internal/util/ArraysSupport", "U", "Ljdk/internal/misc/Unsafe;")]
def kkTx (k : Nat) : List Int := match kkStr[k]? with
  | some q => q.2.2.2
  | none => []
/-- the constants of the start: String k at gC k, its bytes at gC (36 + k); then the statics -/
def kVal (G : Gl) (k : Nat) : Ent :=
  if k < 36 then sE (gC G (36 + k)) (iI (sH (kkTx k)))
  else if k < 72 then iE G 1 (kkTx (k - 36)).length (fun j => (kkTx (k - 36)).getD j 0)
  else if k < 74 then rE G 4 0 (fun _ => none)
  else if k = 74 then iE G 1 100 (fun j => if j < 100 then ((48 + j / 10 : Nat) : Int) else 0)
  else if k = 75 then iE G 1 100 (fun j => if j < 100 then ((48 + j % 10 : Nat) : Int) else 0)
  else if k = 76 then rE G 6 5 (fun j => if j < 5 then some (gC G (77 + j)) else none)
  else if k < 82 then oE (k - 51) []
  else oE 33 []
/-- what is known of the start -/
def SF (G : Gl) : Prop := (∃ b0 : Nat, (∀ w ∈ lw_tbl, w.before #[Value.ref b0] (gS G) = true) ∧ (Jvm.Cond.and given_1 narrow_1).before #[Value.ref b0] (gS G) = true) ∧
  (∀ (k : Nat) (q : String × Nat × String × List Int), kkStr[k]? = some q → (Term.string q.1 q.2.1).eval #[] (gS G) none [] (gS G) = some (.ref (gC G k))) ∧
  (∀ q ∈ kkSt, (Term.static q.2.1 q.2.2.1 q.2.2.2).eval #[] (gS G) none [] (gS G) = some (.ref (gC G q.1))) ∧
  ∀ k : Nat, k < 83 → gW G (gC G k) = some (0, kVal G k)
/-- the classes of which no word says that they are ordinary ones -/
def spCl (ci : Nat) : Bool := [26, 27, 28, 29, 30, 33].contains ci
theorem hcl_pos {ci N : Nat} {C : String} {T : u_T} (hc : HCl[ci]? = some (C, T, N)) (hN : 0 < N) : spCl ci = false := by
  cases h : spCl ci with
  | false => rfl
  | true =>
    have h1 : ci ∈ [26, 27, 28, 29, 30, 33] := List.contains_iff_mem.mp h
    simp only [List.mem_cons, List.not_mem_nil, or_false] at h1
    have e : ∀ M : Nat, (HCl[ci]?.map (fun q => q.2.2)).getD 0 = M → M = N := fun M hM => by rw [hc] at hM; exact hM.symm
    rcases h1 with q | q | q | q | q | q <;> subst q <;> exact absurd (e 0 rfl) (by omega)
/-- what the tables say of the classes and array classes -/
def hv_K (G : Gl) (U : State) : Prop := (∀ (c : Nat) (q : vw_C), HCl[c]? = some q → spCl c = false → u_Kn U q.1 q.2.1 q.2.2 ((gD G).1 c) ((gD G).2 c)) ∧ ∀ (k : Nat) (q : ClassId × FieldType), (gTys G)[k]? = some q → ArrOfT U q.1 q.2 ∧ va_RA U q.1 q.2
theorem hv_K.moved {G : Gl} {u U : State} (hvm : u.vm.Alike U.vm) (h : hv_K G u) : hv_K G U := ⟨fun c q hq hs => u_Kn_moved hvm (h.1 c q hq hs), fun k q hk => ⟨arrOfT_moved hvm (h.2 k q hk).1, (h.2 k q hk).2.moved hvm⟩⟩
/-- what the tables say -/
def KK (G : Gl) (U : State) : Prop := hv_K G U ∧ (gS G).WarmedH U.vm ∧ SF G
theorem KK.warm {G : Gl} {s U : State} (h : KK G s) (hW : s.WarmedH U.vm) : KK G U := ⟨hv_K.moved hW.alike h.1, State.WarmedH.trans h.2.1 hW, h.2.2⟩
theorem KK.same {G : Gl} {s U : State} (h : KK G s) (hv : U.vm = s.vm) : KK G U := ⟨hv_K.moved (by rw [hv]; exact Vm.Alike.refl s.vm) h.1, by rw [hv]; exact h.2.1, h.2.2⟩
def nwAt : List Bool → Cond → Option Cond
  | [], c => some c
  | b :: r, c => match c with
    | .and x y => nwAt r (if b then y else x)
    | _ => none
theorem nwAt_ok {args : Array Value} {s : State} : ∀ (p : List Bool) (c w : Cond), nwAt p c = some w → c.before args s = true → w.before args s = true
  | [], c, w, h, hc => by cases h; exact hc
  | b :: r, c, w, h, hc => by
    cases c with
    | and x y =>
      rw [Cond.before_and, Bool.and_eq_true] at hc
      cases b with
      | false => exact nwAt_ok r x w h hc.1
      | true => exact nwAt_ok r y w h hc.2
    | _ => cases h
def PP (G : Gl) (av : List Value) (w : Wd) : Array Value → State → Prop := fun v U => v = av.toArray ∧ Rp G w U.heap ∧ KK G U
theorem PP.blind (G : Gl) (av : List Value) (w : Wd) : FrameBlind (PP G av w) := fun a U g mk h => ⟨h.1, h.2.1, h.2.2.same rfl⟩
def QI (G : Gl) (post : Int → Wd → Prop) : Array Value → State → Outcome → State → Prop := fun _ _ o t => ∃ (z : Int) (w' : Wd), o = .returned (some (.int (iI z))) ∧ Rp G w' t.heap ∧ post z w'
def QL (G : Gl) (post : Int → Wd → Prop) : Array Value → State → Outcome → State → Prop := fun _ _ o t => ∃ (z : Int) (w' : Wd), o = .returned (some (.long (lI z))) ∧ Rp G w' t.heap ∧ post z w'
def QR (G : Gl) (post : Nat → Wd → Prop) : Array Value → State → Outcome → State → Prop := fun _ _ o t => ∃ (z : Nat) (w' : Wd), o = .returned (some (.ref z)) ∧ Rp G w' t.heap ∧ post z w'
def QN (G : Gl) (post : Option Nat → Wd → Prop) : Array Value → State → Outcome → State → Prop := fun _ _ o t => ∃ (z : Option Nat) (w' : Wd), o = .returned (some (va_rf z)) ∧ Rp G w' t.heap ∧ post z w'
def QV (G : Gl) (post : Wd → Prop) : Array Value → State → Outcome → State → Prop := fun _ _ o t => ∃ w' : Wd, o = .returned none ∧ Rp G w' t.heap ∧ post w'
def QF (G : Gl) (post : UInt32 → Wd → Prop) : Array Value → State → Outcome → State → Prop := fun _ _ o t => ∃ (z : UInt32) (w' : Wd), o = .returned (some (.float z)) ∧ Rp G w' t.heap ∧ post z w'
def QD (G : Gl) (post : UInt64 → Wd → Prop) : Array Value → State → Outcome → State → Prop := fun _ _ o t => ∃ (z : UInt64) (w' : Wd), o = .returned (some (.double z)) ∧ Rp G w' t.heap ∧ post z w'
abbrev rmk (lv mc ms : Nat) : Room := { frames := lv, cells := mc, slots := ms, locals := 100 * lv }
/-- a contract -/
abbrev HM (l : Launch) (y : MethodName) (cc : ByteArray) (maxL : Nat) (ret : Option FieldType) (lv mc ms : Nat) (G : Gl) (av : List Value) (w : Wd) (Qc : Array Value → State → Outcome → State → Prop) : Prop := Met l y (ws_ y cc maxL ret) (rmk lv mc ms) (PP G av w) Qc mc ms (frG G)
/-- what stands all through a method's walk -/
abbrev HX (G : Gl) (p : Program) (s : State) (m : MethodId) (args : Array Value) (c : Code) (cc : ByteArray) (nL : Nat) (own : String) : Prop := CallFix p m c cc nL s args lw_all own ∧ KK G s
