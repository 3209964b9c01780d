/-! the twin: its state as numbers; rows over it -/
set_option maxRecDepth 100000
abbrev Tw : Type := (Nat → Int) × (Nat → Nat → Int)
def twF (ad : Nat → Nat) (iv : Nat → Int) : List Value := [.int (iI (iv 0)), .ref (ad 1), .int (iI (iv 2)), .ref (ad 3), .ref (ad 4), .ref (ad 5), .ref (ad 6), .ref (ad 7), .ref (ad 8), .int (iI (iv 9)), .int (iI (iv 10)), .int (iI (iv 11)), .int (iI (iv 12)), .int (iI (iv 13)), .ref (ad 14), .int (iI (iv 15)), .int (iI (iv 16)), .int (iI (iv 17)), .int (iI (iv 18)), .int (iI (iv 19)), .int (iI (iv 20)), .int (iI (iv 21)), .int (iI (iv 22)), .ref (ad 23), .int (iI (iv 24)), .int (iI (iv 25)), .long (lI (iv 26)), .long (lI (iv 27)), .ref (ad 28), .int (iI (iv 29)), .ref (ad 30), .ref (ad 31), .int (iI (iv 32))]
def twN (k : Nat) : Nat := match k with
  | 1 => 8
  | 3 => 606
  | 4 => 606
  | 5 => 606
  | 6 => 606
  | 7 => 606
  | 8 => 4848
  | 14 => 800
  | 23 => 5
  | 28 => 180
  | 30 => 120
  | 31 => 6
  | _ => 0
abbrev twIA : List Nat := [1, 14, 30, 31]
abbrev twLA : List Nat := [3, 4, 5, 6, 7, 8, 23, 28]
/-- the ranges of what is held -/
def TwR (t : Tw) : Prop := (∀ k : Nat, k ≠ 26 → k ≠ 27 → R32 (t.1 k)) ∧ (∀ k : Nat, R64 (t.1 k)) ∧ (∀ k ∈ twIA, ∀ i : Nat, R32 (t.2 k i)) ∧ ∀ k ∈ twLA, ∀ i : Nat, R64 (t.2 k i)
def TwAt (G : Gl) (w : Wd) (a : Nat) (ad : Nat → Nat) (t : Tw) : Prop := w a = some (a + 1, oE 1 (twF ad t.1)) ∧ (∀ k ∈ twIA, w (ad k) = some (a + 1, iE G 0 (twN k) (t.2 k))) ∧ (∀ k ∈ twLA, w (ad k) = some (a + 1, lE G (twN k) (t.2 k))) ∧ (∀ i ∈ twIA ++ twLA, ∀ j ∈ twIA ++ twLA, ad i = ad j → i = j) ∧ TwR t
def tput (t : Tw) (k : Nat) (z : Int) : Tw := (zset t.1 k z, t.2)
def tast (t : Tw) (k i : Nat) (v : Int) : Tw := (t.1, zset t.2 k (zset (t.2 k) i v))
theorem tput_1 (t : Tw) (k : Nat) (z : Int) (j : Nat) : (tput t k z).1 j = if j = k then z else t.1 j := rfl
theorem tput_2 (t : Tw) (k : Nat) (z : Int) : (tput t k z).2 = t.2 := rfl
theorem tast_1 (t : Tw) (k i : Nat) (v : Int) : (tast t k i v).1 = t.1 := rfl
theorem tast_2 (t : Tw) (k i : Nat) (v : Int) (j : Nat) : (tast t k i v).2 j = if j = k then zset (t.2 k) i v else t.2 j := by
  show zset t.2 k _ j = _
  unfold zset
  by_cases h : j = k <;> simp [h]
theorem tast_at (t : Tw) (k i : Nat) (v : Int) (j n : Nat) : (tast t k i v).2 j n = if j = k ∧ n = i then v else t.2 j n := by
  rw [tast_2]
  by_cases h : j = k
  · subst h; by_cases h2 : n = i <;> simp [zset, h2]
  · simp [h]
theorem TwR.put {t : Tw} (h : TwR t) {k : Nat} {z : Int} (h1 : k ≠ 26 → k ≠ 27 → R32 z) (h2 : R64 z) : TwR (tput t k z) := by
  refine ⟨fun j a b => ?_, fun j => ?_, h.2.2.1, h.2.2.2⟩
  · rw [tput_1]; split
    · next q => subst q; exact h1 a b
    · exact h.1 j a b
  · rw [tput_1]; split
    · exact h2
    · exact h.2.1 j
theorem TwR.ast {t : Tw} (h : TwR t) {k i : Nat} {v : Int} (h1 : k ∈ twIA → R32 v) (h2 : R64 v) : TwR (tast t k i v) := by
  refine ⟨h.1, h.2.1, fun j hj n => ?_, fun j hj n => ?_⟩
  · rw [tast_at]; split
    · next q => rw [q.1] at hj; exact h1 hj
    · exact h.2.2.1 j hj n
  · rw [tast_at]; split
    · exact h2
    · exact h.2.2.2 j hj n
theorem TwAt.ob {G : Gl} {w : Wd} {a : Nat} {ad : Nat → Nat} {t : Tw} (h : TwAt G w a ad t) : w a = some (a + 1, oE 1 (twF ad t.1)) := h.1
theorem TwAt.ia {G : Gl} {w : Wd} {a : Nat} {ad : Nat → Nat} {t : Tw} (h : TwAt G w a ad t) (k : Nat) (hk : k ∈ twIA) : w (ad k) = some (a + 1, iE G 0 (twN k) (t.2 k)) := h.2.1 k hk
theorem TwAt.la {G : Gl} {w : Wd} {a : Nat} {ad : Nat → Nat} {t : Tw} (h : TwAt G w a ad t) (k : Nat) (hk : k ∈ twLA) : w (ad k) = some (a + 1, lE G (twN k) (t.2 k)) := h.2.2.1 k hk
theorem TwAt.r {G : Gl} {w : Wd} {a : Nat} {ad : Nat → Nat} {t : Tw} (h : TwAt G w a ad t) : TwR t := h.2.2.2.2
theorem TwAt.ri {G : Gl} {w : Wd} {a : Nat} {ad : Nat → Nat} {t : Tw} (h : TwAt G w a ad t) (k : Nat) (h1 : k ≠ 26) (h2 : k ≠ 27) : R32 (t.1 k) := h.2.2.2.2.1 k h1 h2
theorem TwAt.rj {G : Gl} {w : Wd} {a : Nat} {ad : Nat → Nat} {t : Tw} (h : TwAt G w a ad t) (k : Nat) : R64 (t.1 k) := h.2.2.2.2.2.1 k
theorem TwAt.rai {G : Gl} {w : Wd} {a : Nat} {ad : Nat → Nat} {t : Tw} (h : TwAt G w a ad t) (k : Nat) (hk : k ∈ twIA) (i : Nat) : R32 (t.2 k i) := h.2.2.2.2.2.2.1 k hk i
theorem TwAt.ral {G : Gl} {w : Wd} {a : Nat} {ad : Nat → Nat} {t : Tw} (h : TwAt G w a ad t) (k : Nat) (hk : k ∈ twLA) (i : Nat) : R64 (t.2 k i) := h.2.2.2.2.2.2.2 k hk i
theorem tw_obne {G : Gl} {w : Wd} {a : Nat} {ad : Nat → Nat} {t : Tw} (h : TwAt G w a ad t) {k : Nat} (hk : k ∈ twIA ++ twLA) : ad k ≠ a := by
  rcases List.mem_append.mp hk with q | q
  · exact w_ne (h.ia k q) h.ob (by intro z; cases z)
  · exact w_ne (h.la k q) h.ob (by intro z; cases z)
/-- the twin stands in w, and since w0 nothing outside it has changed -/
def TwS (G : Gl) (w0 w : Wd) (a : Nat) (ad : Nat → Nat) (t : Tw) : Prop := TwAt G w a ad t ∧ Fr (fun r => r = a + 1) w0 w ∧ Ol w0 w
theorem TwS.rf {G : Gl} {w : Wd} {a : Nat} {ad : Nat → Nat} {t : Tw} (h : TwAt G w a ad t) : TwS G w w a ad t := ⟨h, Fr.rf, Ol.rf⟩
theorem TwS.tr {G : Gl} {w0 w w1 : Wd} {a : Nat} {ad : Nat → Nat} {t t1 : Tw} (h : TwS G w0 w a ad t) (h1 : TwS G w w1 a ad t1) : TwS G w0 w1 a ad t1 := ⟨h1.1, h.2.1.trans h1.2.1, h.2.2.trans h1.2.2⟩
theorem twF_s0 (ad : Nat → Nat) (iv : Nat → Int) (z : Int) : (twF ad iv).set 0 (.int (iI z)) = twF ad (zset iv 0 z) := rfl
theorem twF_s2 (ad : Nat → Nat) (iv : Nat → Int) (z : Int) : (twF ad iv).set 2 (.int (iI z)) = twF ad (zset iv 2 z) := rfl
theorem twF_s9 (ad : Nat → Nat) (iv : Nat → Int) (z : Int) : (twF ad iv).set 9 (.int (iI z)) = twF ad (zset iv 9 z) := rfl
theorem twF_s10 (ad : Nat → Nat) (iv : Nat → Int) (z : Int) : (twF ad iv).set 10 (.int (iI z)) = twF ad (zset iv 10 z) := rfl
theorem twF_s11 (ad : Nat → Nat) (iv : Nat → Int) (z : Int) : (twF ad iv).set 11 (.int (iI z)) = twF ad (zset iv 11 z) := rfl
theorem twF_s12 (ad : Nat → Nat) (iv : Nat → Int) (z : Int) : (twF ad iv).set 12 (.int (iI z)) = twF ad (zset iv 12 z) := rfl
theorem twF_s13 (ad : Nat → Nat) (iv : Nat → Int) (z : Int) : (twF ad iv).set 13 (.int (iI z)) = twF ad (zset iv 13 z) := rfl
theorem twF_s15 (ad : Nat → Nat) (iv : Nat → Int) (z : Int) : (twF ad iv).set 15 (.int (iI z)) = twF ad (zset iv 15 z) := rfl
theorem twF_s16 (ad : Nat → Nat) (iv : Nat → Int) (z : Int) : (twF ad iv).set 16 (.int (iI z)) = twF ad (zset iv 16 z) := rfl
theorem twF_s17 (ad : Nat → Nat) (iv : Nat → Int) (z : Int) : (twF ad iv).set 17 (.int (iI z)) = twF ad (zset iv 17 z) := rfl
theorem twF_s18 (ad : Nat → Nat) (iv : Nat → Int) (z : Int) : (twF ad iv).set 18 (.int (iI z)) = twF ad (zset iv 18 z) := rfl
theorem twF_s19 (ad : Nat → Nat) (iv : Nat → Int) (z : Int) : (twF ad iv).set 19 (.int (iI z)) = twF ad (zset iv 19 z) := rfl
theorem twF_s20 (ad : Nat → Nat) (iv : Nat → Int) (z : Int) : (twF ad iv).set 20 (.int (iI z)) = twF ad (zset iv 20 z) := rfl
theorem twF_s21 (ad : Nat → Nat) (iv : Nat → Int) (z : Int) : (twF ad iv).set 21 (.int (iI z)) = twF ad (zset iv 21 z) := rfl
theorem twF_s22 (ad : Nat → Nat) (iv : Nat → Int) (z : Int) : (twF ad iv).set 22 (.int (iI z)) = twF ad (zset iv 22 z) := rfl
theorem twF_s24 (ad : Nat → Nat) (iv : Nat → Int) (z : Int) : (twF ad iv).set 24 (.int (iI z)) = twF ad (zset iv 24 z) := rfl
theorem twF_s25 (ad : Nat → Nat) (iv : Nat → Int) (z : Int) : (twF ad iv).set 25 (.int (iI z)) = twF ad (zset iv 25 z) := rfl
theorem twF_s26 (ad : Nat → Nat) (iv : Nat → Int) (z : Int) : (twF ad iv).set 26 (.long (lI z)) = twF ad (zset iv 26 z) := rfl
theorem twF_s27 (ad : Nat → Nat) (iv : Nat → Int) (z : Int) : (twF ad iv).set 27 (.long (lI z)) = twF ad (zset iv 27 z) := rfl
theorem twF_s29 (ad : Nat → Nat) (iv : Nat → Int) (z : Int) : (twF ad iv).set 29 (.int (iI z)) = twF ad (zset iv 29 z) := rfl
theorem twF_s32 (ad : Nat → Nat) (iv : Nat → Int) (z : Int) : (twF ad iv).set 32 (.int (iI z)) = twF ad (zset iv 32 z) := rfl
theorem TwS.put {G : Gl} {w0 w w1 : Wd} {a : Nat} {ad : Nat → Nat} {t : Tw} (h : TwS G w0 w a ad t) {k : Nat} {z : Int} {fs : List Value} (hw : w1 = wset w a (a + 1, oE 1 fs)) (hf : fs = twF ad (zset t.1 k z)) (h1 : k ≠ 26 → k ≠ 27 → R32 z) (h2 : R64 z) : TwS G w0 w1 a ad (tput t k z) := by
  subst hw; subst hf
  refine ⟨⟨wset_eq _ _ _, fun j hj => ?_, fun j hj => ?_, h.1.2.2.2.1, h.1.r.put h1 h2⟩, h.2.1.set h.1.ob rfl _, h.2.2.set _ _⟩
  · rw [wset_ne _ (tw_obne h.1 (List.mem_append_left _ hj))]; exact h.1.ia j hj
  · rw [wset_ne _ (tw_obne h.1 (List.mem_append_right _ hj))]; exact h.1.la j hj
theorem TwS.asti {G : Gl} {w0 w w1 : Wd} {a : Nat} {ad : Nat → Nat} {t : Tw} (h : TwS G w0 w a ad t) {k i : Nat} {v : Int} (hk : k ∈ twIA) (hw : w1 = wset w (ad k) (a + 1, iE G 0 (twN k) (zset (t.2 k) i v))) (h1 : R32 v) : TwS G w0 w1 a ad (tast t k i v) := by
  subst hw
  have hk2 := List.mem_append_left twLA hk
  refine ⟨⟨by rw [wset_ne _ (tw_obne h.1 hk2).symm]; exact h.1.ob, fun j hj => ?_, fun j hj => ?_, h.1.2.2.2.1, h.1.r.ast (fun _ => h1) ⟨by omega, by omega⟩⟩, h.2.1.set (h.1.ia k hk) rfl _, h.2.2.set _ _⟩
  · rw [tast_2]
    by_cases hjk : j = k
    · subst hjk; rw [wset_eq, if_pos rfl]
    · rw [wset_ne _ (fun q => hjk (h.1.2.2.2.1 j (List.mem_append_left _ hj) k hk2 q)), if_neg hjk]; exact h.1.ia j hj
  · have hjk : j ≠ k := fun q => by subst q; revert hj hk; simp [twIA, twLA]; omega
    rw [tast_2, wset_ne _ (fun q => hjk (h.1.2.2.2.1 j (List.mem_append_right _ hj) k hk2 q)), if_neg hjk]; exact h.1.la j hj
theorem TwS.astl {G : Gl} {w0 w w1 : Wd} {a : Nat} {ad : Nat → Nat} {t : Tw} (h : TwS G w0 w a ad t) {k i : Nat} {v : Int} (hk : k ∈ twLA) (hw : w1 = wset w (ad k) (a + 1, lE G (twN k) (zset (t.2 k) i v))) (h1 : R64 v) : TwS G w0 w1 a ad (tast t k i v) := by
  subst hw
  have hk2 := List.mem_append_right twIA hk
  refine ⟨⟨by rw [wset_ne _ (tw_obne h.1 hk2).symm]; exact h.1.ob, fun j hj => ?_, fun j hj => ?_, h.1.2.2.2.1, h.1.r.ast (fun q => absurd hk (by revert q; simp [twIA, twLA]; omega)) h1⟩, h.2.1.set (h.1.la k hk) rfl _, h.2.2.set _ _⟩
  · have hjk : j ≠ k := fun q => by subst q; revert hj hk; simp [twIA, twLA]; omega
    rw [tast_2, wset_ne _ (fun q => hjk (h.1.2.2.2.1 j (List.mem_append_left _ hj) k hk2 q)), if_neg hjk]; exact h.1.ia j hj
  · rw [tast_2]
    by_cases hjk : j = k
    · subst hjk; rw [wset_eq, if_pos rfl]
    · rw [wset_ne _ (fun q => hjk (h.1.2.2.2.1 j (List.mem_append_right _ hj) k hk2 q)), if_neg hjk]; exact h.1.la j hj
/-- all but the fields of S stays -/
def TwE (S : List Nat) (t t1 : Tw) : Prop := ∀ k : Nat, k ∉ S → t1.1 k = t.1 k ∧ t1.2 k = t.2 k
theorem TwE.rf {S : List Nat} {t : Tw} : TwE S t t := fun _ _ => ⟨rfl, rfl⟩
theorem TwE.tr {S S1 S2 : List Nat} {t t1 t2 : Tw} (h : TwE S t t1) (h1 : TwE S1 t1 t2) (hs : S.all (fun k => S2.contains k) = true) (hs1 : S1.all (fun k => S2.contains k) = true) : TwE S2 t t2 := by
  intro k hk
  have a : k ∉ S := fun q => hk (by simpa using List.all_eq_true.mp hs k q)
  have b : k ∉ S1 := fun q => hk (by simpa using List.all_eq_true.mp hs1 k q)
  exact ⟨(h1 k b).1.trans (h k a).1, (h1 k b).2.trans (h k a).2⟩
theorem TwE.put {t t1 : Tw} {k : Nat} {z : Int} (h : t1 = tput t k z) : TwE [k] t t1 := by
  subst h
  intro j hj
  exact ⟨by rw [tput_1, if_neg (by simpa using hj)], rfl⟩
theorem TwE.ast {t t1 : Tw} {k i : Nat} {v : Int} (h : t1 = tast t k i v) : TwE [k] t t1 := by
  subst h
  intro j hj
  exact ⟨rfl, by rw [tast_2, if_neg (by simpa using hj)]⟩
theorem tput_v {t t1 : Tw} {k : Nat} {z : Int} (h : t1 = tput t k z) : t1.1 k = z := by subst h; rw [tput_1, if_pos rfl]
theorem tast_v {t t1 : Tw} {k i : Nat} {v : Int} (h : t1 = tast t k i v) : t1.2 k = zset (t.2 k) i v := by subst h; rw [tast_2, if_pos rfl]
theorem tw_ext {x y : Tw} (h1 : ∀ k, x.1 k = y.1 k) (h2 : ∀ k i, x.2 k i = y.2 k i) : x = y := Prod.ext (funext h1) (funext fun k => funext fun i => h2 k i)
theorem nar01 {z : Int} (h : z = 0 ∨ z = 1) : narrow .boolean (.int (iI z)) = .int (iI z) := by rcases h with h | h <;> subst h <;> rfl
section TW
variable {G : Gl} {p : Program} {l : Launch} {e : Env} {s : State} {m : MethodId} {args : Array Value} {below : List Frame} {meth : Method} {c : Code} {H : Heap} {locs : List Loc} {cells slots : Nat} {Q : State → Prop}
variable {cc : ByteArray} {own : String} {nL lv mc ms : Nat} {pc : Nat} {ls : Array Slot} {rest : List Value} {w0 w : Wd} {a : Nat} {ad : Nat → Nat} {t : Tw}
theorem tw_get (X : HX G p s m args c cc nL own) (hR : Rp G w H) (hT : TwS G w0 w a ad t) (k : Nat) (hk : k < 33) {index : Nat} (hl : Cond.fieldLink own index (TX10 k).1 (TX10 k).2.1 (TX10 k).2.2.1 ∈ lw_all) {v : Value} (hv : (twF ad t.1)[k]? = some v) (d : decode cc pc = .ok (.getfield index, 3))
    (kk : W p l e (rmk lv mc ms) s m args below meth c H locs cells slots Q (F0 m (pc + 3) ls (v :: rest))) : W p l e (rmk lv mc ms) s m args below meth c H locs cells slots Q (F0 m pc ls (.ref a :: rest)) :=
  h_get X hR hT.1.ob rfl in_X10 k hk hl hv d kk
theorem tw_puti (X : HX G p s m args c cc nL own) (hR : Rp G w H) (hL : LK G locs) (hT : TwS G w0 w a ad t) (k : Nat) (hk : k < 33) {index : Nat} (hl : Cond.fieldLink own index (TX10 k).1 (TX10 k).2.1 (TX10 k).2.2.1 ∈ lw_all) (hfin : (TX10 k).2.2.2 = false) {z : Int} (hn : narrow (tyX10 k) (.int (iI z)) = .int (iI z)) (hfit : fits (tyX10 k) (.int (iI z)) = true) (hs : ∀ (ad : Nat → Nat) (iv : Nat → Int) (z : Int), (twF ad iv).set k (.int (iI z)) = twF ad (zset iv k z)) (hz : R32 z) (d : decode cc pc = .ok (.putfield index, 3))
    (kk : ∀ (t1 : Tw), t1 = tput t k z → ∀ (w1 : Wd), TwS G w0 w1 a ad t1 → ∀ (H1 : Heap) (locs1 : List Loc), Rp G w1 H1 → LK G locs1 → W p l e (rmk lv mc ms) s m args below meth c H1 locs1 cells slots Q (F0 m (pc + 3) ls rest)) : W p l e (rmk lv mc ms) s m args below meth c H locs cells slots Q (F0 m pc ls (.int (iI z) :: .ref a :: rest)) :=
  h_put X hR hL hT.1.ob (Nat.succ_ne_zero a) rfl in_X10 tyX10_ok nmX10 k hk hl hfin hn hfit hk d fun w1 e1 H1 locs1 hR1 hL1 => kk _ rfl w1 (hT.put e1 (hs _ _ _) (fun _ _ => hz) ⟨by omega, by omega⟩) H1 locs1 hR1 hL1
theorem tw_putj (X : HX G p s m args c cc nL own) (hR : Rp G w H) (hL : LK G locs) (hT : TwS G w0 w a ad t) (k : Nat) (hk : k < 33) (hk2 : k = 26 ∨ k = 27) {index : Nat} (hl : Cond.fieldLink own index (TX10 k).1 (TX10 k).2.1 (TX10 k).2.2.1 ∈ lw_all) (hfin : (TX10 k).2.2.2 = false) {z : Int} (hn : narrow (tyX10 k) (.long (lI z)) = .long (lI z)) (hfit : fits (tyX10 k) (.long (lI z)) = true) (hs : ∀ (ad : Nat → Nat) (iv : Nat → Int) (z : Int), (twF ad iv).set k (.long (lI z)) = twF ad (zset iv k z)) (hz : R64 z) (d : decode cc pc = .ok (.putfield index, 3))
    (kk : ∀ (t1 : Tw), t1 = tput t k z → ∀ (w1 : Wd), TwS G w0 w1 a ad t1 → ∀ (H1 : Heap) (locs1 : List Loc), Rp G w1 H1 → LK G locs1 → W p l e (rmk lv mc ms) s m args below meth c H1 locs1 cells slots Q (F0 m (pc + 3) ls rest)) : W p l e (rmk lv mc ms) s m args below meth c H locs cells slots Q (F0 m pc ls (.long (lI z) :: .ref a :: rest)) :=
  h_put X hR hL hT.1.ob (Nat.succ_ne_zero a) rfl in_X10 tyX10_ok nmX10 k hk hl hfin hn hfit hk d fun w1 e1 H1 locs1 hR1 hL1 => kk _ rfl w1 (hT.put e1 (hs _ _ _) (fun h1 h2 => by omega) hz) H1 locs1 hR1 hL1
theorem tw_iald (X : HX G p s m args c cc nL own) (hR : Rp G w H) (hT : TwS G w0 w a ad t) {k : Nat} (hk : k ∈ twIA) {z : Int} (i : Nat) (hz : z = (i : Int)) (hi : i < twN k) {v : Int} (hv : t.2 k i = v) (d : decode cc pc = .ok (.iaload, 1))
    (kk : R32 v → W p l e (rmk lv mc ms) s m args below meth c H locs cells slots Q (F0 m (pc + 1) ls (.int (iI v) :: rest))) : W p l e (rmk lv mc ms) s m args below meth c H locs cells slots Q (F0 m pc ls (.int (iI z) :: .ref (ad k) :: rest)) := by
  subst hz; subst hv
  exact h_iald X hR (hT.1.ia k hk) ⟨by omega, by omega⟩ (by rcases (show k = 1 ∨ k = 14 ∨ k = 30 ∨ k = 31 by simpa [twIA] using hk) with q | q | q | q <;> subst q <;> decide) d (kk (hT.1.rai k hk i))
theorem tw_lald (X : HX G p s m args c cc nL own) (hR : Rp G w H) (hT : TwS G w0 w a ad t) {k : Nat} (hk : k ∈ twLA) {z : Int} (i : Nat) (hz : z = (i : Int)) (hi : i < twN k) {v : Int} (hv : t.2 k i = v) (d : decode cc pc = .ok (.laload, 1))
    (kk : R64 v → W p l e (rmk lv mc ms) s m args below meth c H locs cells slots Q (F0 m (pc + 1) ls (.long (lI v) :: rest))) : W p l e (rmk lv mc ms) s m args below meth c H locs cells slots Q (F0 m pc ls (.int (iI z) :: .ref (ad k) :: rest)) := by
  subst hz; subst hv
  exact h_lald X hR (hT.1.la k hk) ⟨by omega, by omega⟩ (by rcases (show k = 3 ∨ k = 4 ∨ k = 5 ∨ k = 6 ∨ k = 7 ∨ k = 8 ∨ k = 23 ∨ k = 28 by simpa [twLA] using hk) with q | q | q | q | q | q | q | q <;> subst q <;> decide) d (kk (hT.1.ral k hk i))
theorem tw_iast (X : HX G p s m args c cc nL own) (hR : Rp G w H) (hL : LK G locs) (hT : TwS G w0 w a ad t) {k : Nat} (hk : k ∈ twIA) {z x : Int} (i : Nat) (hz : z = (i : Int)) (hi : i < twN k) (hx : R32 x) (d : decode cc pc = .ok (.iastore, 1))
    (kk : ∀ (t1 : Tw), t1 = tast t k i x → ∀ (w1 : Wd), TwS G w0 w1 a ad t1 → ∀ (H1 : Heap) (locs1 : List Loc), Rp G w1 H1 → LK G locs1 → W p l e (rmk lv mc ms) s m args below meth c H1 locs1 cells slots Q (F0 m (pc + 1) ls rest)) : W p l e (rmk lv mc ms) s m args below meth c H locs cells slots Q (F0 m pc ls (.int (iI x) :: .int (iI z) :: .ref (ad k) :: rest)) := by
  subst hz
  exact h_iast X hR hL (hT.1.ia k hk) (Nat.succ_ne_zero a) ⟨by omega, by omega⟩ (by rcases (show k = 1 ∨ k = 14 ∨ k = 30 ∨ k = 31 by simpa [twIA] using hk) with q | q | q | q <;> subst q <;> decide) d fun w1 e1 H1 locs1 hR1 hL1 => kk _ rfl w1 (hT.asti hk e1 hx) H1 locs1 hR1 hL1
theorem tw_last (X : HX G p s m args c cc nL own) (hR : Rp G w H) (hL : LK G locs) (hT : TwS G w0 w a ad t) {k : Nat} (hk : k ∈ twLA) {z x : Int} (i : Nat) (hz : z = (i : Int)) (hi : i < twN k) (hx : R64 x) (d : decode cc pc = .ok (.lastore, 1))
    (kk : ∀ (t1 : Tw), t1 = tast t k i x → ∀ (w1 : Wd), TwS G w0 w1 a ad t1 → ∀ (H1 : Heap) (locs1 : List Loc), Rp G w1 H1 → LK G locs1 → W p l e (rmk lv mc ms) s m args below meth c H1 locs1 cells slots Q (F0 m (pc + 1) ls rest)) : W p l e (rmk lv mc ms) s m args below meth c H locs cells slots Q (F0 m pc ls (.long (lI x) :: .int (iI z) :: .ref (ad k) :: rest)) := by
  subst hz
  exact h_last X hR hL (hT.1.la k hk) (Nat.succ_ne_zero a) ⟨by omega, by omega⟩ (by rcases (show k = 3 ∨ k = 4 ∨ k = 5 ∨ k = 6 ∨ k = 7 ∨ k = 8 ∨ k = 23 ∨ k = 28 by simpa [twLA] using hk) with q | q | q | q | q | q | q | q <;> subst q <;> decide) d fun w1 e1 H1 locs1 hR1 hL1 => kk _ rfl w1 (hT.astl hk e1 hx) H1 locs1 hR1 hL1
end TW
