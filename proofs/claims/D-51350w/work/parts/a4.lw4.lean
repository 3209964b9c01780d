/-! the law: rows; the world behind a call of the twin -/
set_option maxRecDepth 100000
def c32 (z : Int) : Int := (iI z).toInt
theorem c32_i (z : Int) : iI (c32 z) = iI z := iI_toInt _
theorem c32_r (z : Int) : R32 (c32 z) := ⟨by have := Int32.le_toInt (iI z); unfold c32; omega, by have := Int32.toInt_lt (iI z); unfold c32; omega⟩
theorem c32_j (z : Int) : R64 (c32 z) := ⟨by have := (c32_r z).1; omega, by have := (c32_r z).2; omega⟩
section LWR
variable {p : Program} {l : Launch} {e : Env} {R : Room} {s : State} {m : MethodId} {args : Array Value} {below : List Frame} {meth : Method} {c : Code} {H : Heap} {locs : List Loc} {cells slots : Nat} {Q : State → Prop}
variable {cc : ByteArray} {pc : Nat} {ls : Array Slot} {rest : List Value}
theorem h_icmpEq (hx : p.tables.exec = Jvm.exec) (hb : c.code = cc) {x y : Int} {off : Int} (tgt : Nat) (d : decode cc pc = .ok (.if_icmp .eq off, 3)) (ht : (pc : Int) + off = (tgt : Int)) (e1 : x = y)
    (kt : W p l e R s m args below meth c H locs cells slots Q (F0 m tgt ls rest)) : W p l e R s m args below meth c H locs cells slots Q (F0 m pc ls (.int (iI y) :: .int (iI x) :: rest)) :=
  lv_icmp_eq hx hb d ht (fun _ => kt) (fun h => absurd (congrArg iI e1) h)
theorem h_dcmpEq (hx : p.tables.exec = Jvm.exec) (hb : c.code = cc) {x y : UInt64} {op : CmpOp} (d : decode cc pc = .ok (.dcmp op, 1)) (e1 : x = y) (h : NnD y)
    (k : W p l e R s m args below meth c H locs cells slots Q (F0 m (pc + 1) ls (.int (iI 0) :: rest))) : W p l e R s m args below meth c H locs cells slots Q (F0 m pc ls (.double y :: .double x :: rest)) := by
  subst e1
  refine lv_dcmp hx hb d ?_
  rw [h.eq]
  exact k
variable {G : Gl} {own : String} {nL lv mc ms : Nat} {w : Wd}
/-- the law's own script -/
theorem h_sld (X : HX G p s m args c cc nL own) (hR : Rp G w H) {b L : Nat} {xs : Nat → Int} (hS : va_X b L (fun j => iI (xs j)) s (gH G)) (hbB : b < gB G) {z : Int} (hz : 0 ≤ z ∧ z < L) (hn : L < 2147483648) (d : decode cc pc = .ok (.iaload, 1))
    (kk : W p l e R s m args below meth c H locs cells slots Q (F0 m (pc + 1) ls (.int (iI (xs z.toNat)) :: rest))) : W p l e R s m args below meth c H locs cells slots Q (F0 m pc ls (.int (iI z) :: .ref b :: rest)) := by
  obtain ⟨scr, h1, h2, h3, h4, h5⟩ := hS
  have hlt : z.toNat < L := by omega
  exact W.iald (v := .int (iI (xs z.toNat))) X.1.1 X.1.2.1 (by rw [hR.2.1 b hbB]; exact h1) h2 h3 (by rw [h4]; exact iI_in hz hn) (by rw [iI_z hz hn]; exact h5 _ hlt) rfl rfl d kk
theorem h_slen (X : HX G p s m args c cc nL own) (hR : Rp G w H) {b L : Nat} {xs : Nat → Int} (hS : va_X b L (fun j => iI (xs j)) s (gH G)) (hbB : b < gB G) (d : decode cc pc = .ok (.arraylength, 1))
    (kk : W p l e R s m args below meth c H locs cells slots Q (F0 m (pc + 1) ls (.int (iI (L : Int)) :: rest))) : W p l e R s m args below meth c H locs cells slots Q (F0 m pc ls (.ref b :: rest)) := by
  obtain ⟨scr, h1, h2, h3, h4, h5⟩ := hS
  exact W.alen (n := iI (L : Int)) X.1.1 X.1.2.1 (by rw [hR.2.1 b hbB]; exact h1) h2 (by rw [h4]; exact iI_nI L) rfl rfl d kk
end LWR
/-- the room may be smaller -/
theorem W.less {p : Program} {l : Launch} {e : Env} {R R1 : Room} {s : State} {m : MethodId} {args : Array Value} {below : List Frame} {meth : Method} {c : Code} {H : Heap} {locs : List Loc} {cells slots : Nat} {Q : State → Prop} {g : JFrame}
    (h1 : R1.frames ≤ R.frames) (h2 : R1.cells ≤ R.cells) (h3 : R1.slots ≤ R.slots) (h4 : R1.locals ≤ R.locals) (k : W p l e R1 s m args below meth c H locs cells slots Q g) : W p l e R s m args below meth c H locs cells slots Q g := by
  intro T hT X
  refine k T hT { X with room := ?_ }
  have h := X.room
  simp only [State.hasRoom, Bool.and_eq_true, decide_eq_true_iff] at h ⊢
  obtain ⟨⟨⟨⟨a1, a2, a3, a4, a5, a6⟩, a7⟩, a8⟩, a9⟩ := h
  exact ⟨⟨⟨⟨by omega, by omega, by omega, by omega, by omega, a6⟩, by omega⟩, by omega⟩, a9⟩
/-- the world behind a call of the twin: what the call doesn't tell is forgotten -/
def twW (w w1 : Wd) (a : Nat) : Wd := fun c => match w c with
  | none => match w1 c with
    | none => none
    | some y => if y.1 = a + 1 then some y else none
  | some x => if x.1 = a + 1 then (w1 c).map (fun y => (a + 1, y.2)) else w1 c
section TWW
variable {G : Gl} {w w1 : Wd} {a c r : Nat} {e : Ent} {x : Nat × Ent}
theorem twW_n (h : w c = none) : twW w w1 a c = match w1 c with
  | none => none
  | some y => if y.1 = a + 1 then some y else none := by unfold twW; rw [h]
theorem twW_o (h : w c = some x) (hx : x.1 ≠ a + 1) : twW w w1 a c = w1 c := by unfold twW; rw [h]; exact if_neg hx
theorem twW_t (h : w c = some x) (hx : x.1 = a + 1) : twW w w1 a c = (w1 c).map (fun y => (a + 1, y.2)) := by unfold twW; rw [h]; exact if_pos hx
theorem twW_at (h : w1 c = some (a + 1, e)) : twW w w1 a c = some (a + 1, e) := by
  cases hw : w c with
  | none => rw [twW_n hw, h]; exact if_pos rfl
  | some x =>
    by_cases hx : x.1 = a + 1
    · rw [twW_t hw hx, h]; rfl
    · rw [twW_o hw hx, h]
theorem twW_rp {H0 H1 : Heap} (hR0 : Rp G w H0) (hR : Rp G w1 H1) : Rp G (twW w w1 a) H1 := by
  refine ⟨hR.1, hR.2.1, fun c r e hc => ?_, fun c x hx => ?_⟩
  · cases hw : w c with
    | none =>
      rw [twW_n hw] at hc
      cases h1 : w1 c with
      | none => rw [h1] at hc; cases hc
      | some y =>
        rw [h1] at hc
        by_cases hy : y.1 = a + 1
        · have hc2 : some y = some (r, e) := (if_pos hy).symm.trans hc
          cases hc2
          exact hR.2.2.1 c r e h1
        · have hc2 : (none : Option (Nat × Ent)) = some (r, e) := (if_neg hy).symm.trans hc
          cases hc2
    | some x =>
      by_cases hx : x.1 = a + 1
      · rw [twW_t hw hx] at hc
        obtain ⟨y, h1, h2⟩ := Option.map_eq_some_iff.mp hc
        cases h2
        exact ⟨(hR.2.2.1 c y.1 y.2 h1).1, fun _ => (hR0.2.2.1 c x.1 x.2 hw).2 (by rw [hx]; exact Nat.succ_ne_zero _)⟩
      · rw [twW_o hw hx] at hc
        exact hR.2.2.1 c r e hc
  · obtain ⟨h0, hb⟩ := hR0.2.2.2 c x hx
    have hr : x.1 ≠ a + 1 := fun q => absurd ((hR0.2.2.1 c x.1 x.2 h0).2 (by rw [q]; exact Nat.succ_ne_zero _)) (by omega)
    rw [twW_o h0 hr]
    exact ⟨(hR.2.2.2 c x hx).1, hb⟩
theorem twW_fr (hF : Fr (fun q => q = a + 1) w w1) : Fr (fun q => q = a + 1) w (twW w w1 a) := fun c r e h hn => by
  rw [twW_o h hn]
  exact hF c r e h hn
theorem twW_rg (hG : RegW w) (hm : w1 a = some (a + 1, e)) (hF : Fr (fun q => q = a + 1) w w1) (hO : Ol w w1) : RegW (twW w w1 a) := by
  intro c r e1 hc hr0
  have hma : twW w w1 a a ≠ none := by rw [twW_at hm]; exact fun q => by cases q
  have hra : r = a + 1 → twW w w1 a (r - 1) ≠ none := fun q => by rw [q, Nat.add_sub_cancel]; exact hma
  cases hw : w c with
  | none =>
    rw [twW_n hw] at hc
    cases h1 : w1 c with
    | none => rw [h1] at hc; cases hc
    | some y =>
      rw [h1] at hc
      by_cases hy : y.1 = a + 1
      · have hc2 : some y = some (r, e1) := (if_pos hy).symm.trans hc
        cases hc2
        exact hra hy
      · have hc2 : (none : Option (Nat × Ent)) = some (r, e1) := (if_neg hy).symm.trans hc
        cases hc2
  | some x =>
    by_cases hx : x.1 = a + 1
    · rw [twW_t hw hx] at hc
      obtain ⟨y, h1, h2⟩ := Option.map_eq_some_iff.mp hc
      cases h2
      exact hra rfl
    · rw [twW_o hw hx, hF c x.1 x.2 hw hx] at hc
      cases hc
      have hd := hG c x.1 x.2 hw hr0
      cases hwd : w (x.1 - 1) with
      | none => exact absurd hwd hd
      | some y =>
        by_cases hy : y.1 = a + 1
        · rw [twW_t hwd hy]
          intro q
          exact hd (hO _ (Option.map_eq_none_iff.mp q))
        · rw [twW_o hwd hy]
          exact fun q => hd (hO _ q)
end TWW
section TWZ
variable {G : Gl} {w w1 : Wd} {a : Nat} {k : Int} {z : LSt}
theorem TwZ.ob (h : TwZ G w a k z) : ∃ fs, w a = some (a + 1, oE 1 fs) := by
  obtain ⟨ad, t, hT, -⟩ := h
  exact ⟨_, hT.ob⟩
theorem TwZ.hx (h : TwZ G w a k z) : hasC w a "SpokenMarksModel" := by
  obtain ⟨fs, h⟩ := h.ob
  exact hasC.of h rfl
theorem TwZ.kt (h : TwZ G w a k z) (hK : Kt w w1) : TwZ G w1 a k z := by
  obtain ⟨ad, t, ⟨h1, h2, h3, h4, h5⟩, hr⟩ := h
  have hF := hK.1 a _ h1
  exact ⟨ad, t, ⟨hF _ _ _ h1 (fun q => q rfl), fun k hk => hF _ _ _ (h2 k hk) (fun q => q rfl), fun k hk => hF _ _ _ (h3 k hk) (fun q => q rfl), h4, h5⟩, hr⟩
theorem TwZ.fix {H0 H1 : Heap} (h : TwZ G w1 a k z) (hR0 : Rp G w H0) (hR : Rp G w1 H1) (hG : RegW w) (hF : Fr (fun q => q = a + 1) w w1) (hO : Ol w w1) : ∃ w2, Rp G w2 H1 ∧ TwZ G w2 a k z ∧ Fr (fun q => q = a + 1) w w2 ∧ RegW w2 := by
  obtain ⟨ad, t, ⟨h1, h2, h3, h4, h5⟩, hr⟩ := h
  exact ⟨twW w w1 a, twW_rp hR0 hR, ⟨ad, t, ⟨twW_at h1, fun k hk => twW_at (h2 k hk), fun k hk => twW_at (h3 k hk), h4, h5⟩, hr⟩, twW_fr hF, twW_rg hG h1 hF hO⟩
theorem TwZ.noL {o n : Nat} {f : Nat → Int} (h : TwZ G w a k z) (ho : w o = some (o + 1, lE G n f)) : ¬ o + 1 = a + 1 := fun q => by
  obtain ⟨fs, h⟩ := h.ob
  have q : o = a := Nat.succ.inj q
  subst q
  exact absurd (congrArg (fun y : Option (Nat × Ent) => y.map (fun y => entK y.2)) (ho.symm.trans h)) (show ¬ (some 1 : Option Nat) = some 3 by decide)
theorem TwZ.noD {o n : Nat} {f : Nat → UInt64} (h : TwZ G w a k z) (ho : w o = some (o + 1, dE G n f)) : ¬ o + 1 = a + 1 := fun q => by
  obtain ⟨fs, h⟩ := h.ob
  have q : o = a := Nat.succ.inj q
  subst q
  exact absurd (congrArg (fun y : Option (Nat × Ent) => y.map (fun y => entK y.2)) (ho.symm.trans h)) (show ¬ (some 2 : Option Nat) = some 3 by decide)
end TWZ
theorem CmA.hx {G : Gl} {w : Wd} {x : Nat} {z : LSt} (h : CmA G w x z) : hasC w x "SpokenMarks" := by
  obtain ⟨bf, hq, fs, q, sv, hist, sn, hX, hN⟩ := h
  exact hX.hx
theorem CmA.tw {G : Gl} {w w1 : Wd} {x a : Nat} {k : Int} {z z1 : LSt} (h : CmA G w x z) (hT : TwZ G w a k z1) (hF : Fr (fun q => q = a + 1) w w1) : CmA G w1 x z := by
  obtain ⟨fs, hm⟩ := hT.ob
  exact CmS.tw h hm hF
theorem lE_dE {G : Gl} {r n1 n2 : Nat} {f : Nat → Int} {g : Nat → UInt64} : ((r, dE G n1 g) : Nat × Ent) ≠ (r, lE G n2 f) := fun q => absurd (congrArg (fun y : Nat × Ent => entK y.2) q) (show ¬ (2 : Nat) = 1 by decide)
theorem dne {G : Gl} {w : Wd} {o d n1 n2 : Nat} {f : Nat → Int} {g : Nat → UInt64} (ho : w o = some (o + 1, lE G n2 f)) (hd : w d = some (d + 1, dE G n1 g)) : d ≠ o := fun q => by
  subst q
  exact lE_dE (Option.some.inj (hd.symm.trans ho))
/-- what a wrapper leaves -/
def WRet (G : Gl) (w : Wd) (x o : Nat) (b : Int) (r : Ans) (k : Int) (w1 : Wd) : Prop := ((k = 0 ∨ k = 1 ∨ k = 2) ∧ k = r.1) ∧ CmA G w1 x r.2.2 ∧ Kt w w1 ∧ RegW w1 ∧ LOk b r.2.2 ∧ (∃ f : Nat → Int, w1 o = some (o + 1, lE G 1 f) ∧ (k = 0 → f 0 = c32 r.2.1)) ∧ ∀ (d : Nat) (g : Nat → UInt64), w d = some (d + 1, dE G 1 g) → w1 d = some (d + 1, dE G 1 g)
theorem WRet.y {G : Gl} {w w1 w2 : Wd} {x o : Nat} {b v : Int} {r : Ans} {f g : Nat → Int} (hc : CRet G w x b r v w1) (ho : w o = some (o + 1, lE G 1 f)) (ew : w2 = wset w1 o (o + 1, lE G 1 g)) (hg : g 0 = c32 v) : WRet G w x o b r 0 w2 := by
  obtain ⟨h0, hv, hA, hK, hG, hok⟩ := hc
  have ho1 := hK.2.2.1 _ _ _ ho
  subst ew
  refine ⟨⟨Or.inl rfl, h0.symm⟩, CmS.outL hA ho1 _, hK.t.tr (Kt.outL ho1 _), hG.set ho1 _, hok, ⟨g, wset_eq _ _ _, fun _ => by rw [hg, hv]⟩, fun d q hd => ?_⟩
  have hd1 := hK.2.2.2 _ _ _ hd
  exact (wset_ne _ (dne ho1 hd1)).trans hd1
theorem WRet.n {G : Gl} {w w1 : Wd} {x o : Nat} {b k : Int} {r : Ans} {f : Nat → Int} {L : List (String × Int)} {E : String} (hc : CThr G w x b r L E w1) (ho : w o = some (o + 1, lE G 1 f)) (hk : k = r.1) (hk1 : k = 1 ∨ k = 2) : WRet G w x o b r k w1 := by
  obtain ⟨-, hA, hK, hG, hok⟩ := hc
  exact ⟨⟨Or.inr hk1, hk⟩, hA, hK.t, hG, hok, ⟨f, hK.2.2.1 _ _ _ ho, fun q => by omega⟩, fun d g hd => hK.2.2.2 _ _ _ hd⟩
/-- .. where doubles are told -/
def WRetD (G : Gl) (w : Wd) (x o : Nat) (z : LSt) (v1 : Int) (k : Int) (w1 : Wd) : Prop := ((k = 0 ∨ k = 1 ∨ k = 2) ∧ k = if 0 ≤ v1 ∧ v1 < cSh (sC (zS z)) then 0 else 1) ∧ CmA G w1 x z ∧ Kt w w1 ∧ RegW w1 ∧ (∃ f : Nat → UInt64, w1 o = some (o + 1, dE G 1 f) ∧ (k = 0 → f 0 = FP.f2d (qFil (sC (zS z)) v1))) ∧ ∀ (d : Nat) (g : Nat → Int), w d = some (d + 1, lE G 1 g) → w1 d = some (d + 1, lE G 1 g)
theorem mem1 {E : String} {k : Int} {E1 : String} {k1 : Int} (h : (E, k) ∈ [(E1, k1)]) : E = E1 ∧ k1 = k := by
  have := List.mem_singleton.mp h
  cases this
  exact ⟨rfl, rfl⟩
theorem mem2 {E : String} {k : Int} {E1 E2 : String} {k1 k2 : Int} (h : (E, k) ∈ [(E1, k1), (E2, k2)]) : (E = E1 ∧ k1 = k) ∨ (E = E2 ∧ k2 = k) := by
  rcases List.mem_cons.mp h with q | q
  · cases q; exact Or.inl ⟨rfl, rfl⟩
  · exact Or.inr (mem1 q)

theorem pn_yX1_account : ParN yX1_account 1 := by decide +kernel
theorem pn_yX1_add : ParN yX1_add 2 := by decide +kernel
theorem pn_yX1_compare : ParN yX1_compare 2 := by decide +kernel
theorem pn_yX1_differ : ParN yX1_differ 2 := by decide +kernel
theorem pn_yX1_drop : ParN yX1_drop 1 := by decide +kernel
theorem pn_yX1_family : ParN yX1_family 1 := by decide +kernel
theorem pn_yX1_filled : ParN yX1_filled 1 := by decide +kernel
theorem pn_yX1_format : ParN yX1_format 1 := by decide +kernel
theorem pn_yX1_free : ParN yX1_free 1 := by decide +kernel
theorem pn_yX1_letter : ParN yX1_letter 4 := by decide +kernel
theorem pn_yX1_load : ParN yX1_load 1 := by decide +kernel
theorem pn_yX1_mark : ParN yX1_mark 2 := by decide +kernel
theorem pn_yX1_movesIf : ParN yX1_movesIf 1 := by decide +kernel
theorem pn_yX1_number : ParN yX1_number 2 := by decide +kernel
theorem pn_yX1_placeIf : ParN yX1_placeIf 1 := by decide +kernel
theorem pn_yX1_play : ParN yX1_play 1 := by decide +kernel
theorem pn_yX1_rankIf : ParN yX1_rankIf 1 := by decide +kernel
theorem pn_yX1_ruleLetter : ParN yX1_ruleLetter 3 := by decide +kernel
theorem pn_yX1_say : ParN yX1_say 1 := by decide +kernel
theorem pn_yX1_setBound : ParN yX1_setBound 2 := by decide +kernel
theorem pn_yX1_setWidth : ParN yX1_setWidth 2 := by decide +kernel
theorem pn_yX1_shelf : ParN yX1_shelf 2 := by decide +kernel
theorem pn_yX1_size : ParN yX1_size 1 := by decide +kernel
theorem pn_yX1_soundsLike : ParN yX1_soundsLike 1 := by decide +kernel
theorem pn_yX1_unsay : ParN yX1_unsay 1 := by decide +kernel
theorem pn_yX1_why : ParN yX1_why 1 := by decide +kernel

set_option maxHeartbeats 4000000 in
set_option maxRecDepth 100000 in
/-- load -/
theorem ww_load (l : Launch) (G : Gl) (w : Wd) (hSt : l.stackTraces = false) (x : Nat) (z : LSt) (b : Int) (h : CmA G w x z) (hok : LOk b z) (hb2 : 2200 ≤ b) (hb : b < 890000) (hG : RegW w) (v1 : Int) (h0 : R32 v1) (o : Nat) (f : Nat → Int) (ho : w o = some (o + 1, lE G 1 f)) : HMT l yX0_load cX0_load 4 (some .int) [(0, 9, 12, 13)] 23 ((4720 + 1200 * (zB z).length)) ((26800 + 6900 * (zB z).length)) G [.ref x, .int (iI (v1)), .ref o] w (QI G (fun z_ w_ => WRet G w x o (b + 1000) (aLod z v1) z_ w_)) (fun _ _ _ => False) := by
  refine HMT.mk (by decide +kernel) (Nat.le_of_ble_eq_true rfl) ?_
  intro p9 e9 s9 m9 a9 b9 meth9 c9 ls X hret hlk hnm htab hl H hR
  have hx := X.1.1
  have hb := X.1.2.1
  have hl : lv_has ls 4 [(0, .ref x), (1, .int (iI (v1))), (2, .ref o)] := hl
  have hL : LK G [] := fun q h => absurd h List.not_mem_nil
  generalize ([] : List Loc) = locs at hL ⊢
  refine lv_aload_n hx hb dX0_load_0 rfl (lv_at hl 2 rfl) ?_
  refine h_iconst hx hb dX0_load_1 ?_
  refine lv_aload_n hx hb dX0_load_2 rfl (lv_at hl 0 rfl) ?_
  refine lv_iload_n hx hb dX0_load_3 rfl (lv_at hl 1 rfl) ?_
  -- call SpokenMarks.load
  refine h_xI (h_xrunT X hR (cc_load l G w hSt x z b h hok hb2 hb hG v1 h0) pn_yX1_load (h.hx) q2036 q2037 q2038 q120 q2039 ⟨by decide, by decide⟩ hl.1 (Nat.le_of_ble_eq_true rfl) dX0_load_4 ⟨by omega, by omega⟩) hL (fun xq_4 E_5 ce_ w_6 hx__7 H locs hR hL hce_ hcv_ hcl_ => ?_) (fun z_1 w_2 hp_3 H locs hR hL => ?_)
  ·
    have hC := hx__7
    obtain ⟨hm, hkx⟩ := mem1 hC.1
    subst hm
    refine h_xcatch X [] (0, 9, 12, 13) [] htab (fun z_ hz_ => absurd hz_ List.not_mem_nil) (by decide) (by decide) q2035 q224 hce_ hcv_ hcl_ ?_
    refine lv_astore_n (lv' := [(3, .ref xq_4), (0, .ref x), (1, .int (iI (v1))), (2, .ref o)]) hx hb dX0_load_12 rfl hl (by decide) rfl (fun ls hl => ?_)
    refine h_iconst hx hb dX0_load_13 ?_
    refine vx_ret ?_
    exact h_ireturn hx hb hlk hret hR hL rfl (WRet.n hC ho hkx (Or.inl rfl)) (by omega) (by omega) rfl rfl dX0_load_14
  ·
    have hC := hp_3
    have ho1 := hC.2.2.2.1.2.2.1 _ _ _ ho
    refine W.eq (g2 := F0 m9 7 ls [.int (iI (c32 z_1)), .int (iI (0)), .ref o]) (by rw [c32_i]) ?_
    refine h_i2l hx hb dX0_load_7 (c32_r _) ?_
    refine h_last X hR hL ho1 (Nat.succ_ne_zero _) (by omega) (by omega) dX0_load_8 (fun w_8 ew_9 H locs hR hL => ?_)
    have hF_o_w_8 : w_8 o = some (o + 1, lE G 1 (zset f (Int.toNat 0) (c32 z_1))) := by rw [ew_9]; exact wset_eq _ _ _
    refine lv_goto (tgt := 15) hx hb dX0_load_9 (by decide) ?_
    refine h_iconst hx hb dX0_load_15 ?_
    refine vx_ret ?_
    exact h_ireturn hx hb hlk hret hR hL rfl (WRet.y hC ho ew_9 (zset_eq _ _ _)) (by omega) (by omega) rfl rfl dX0_load_16

set_option maxHeartbeats 4000000 in
set_option maxRecDepth 100000 in
/-- size -/
theorem ww_size (l : Launch) (G : Gl) (w : Wd) (hSt : l.stackTraces = false) (x : Nat) (z : LSt) (b : Int) (h : CmA G w x z) (hok : LOk b z) (hb2 : 2200 ≤ b) (hb : b < 890000) (hG : RegW w) (v1 : Int) (h0 : R32 v1) (o : Nat) (f : Nat → Int) (ho : w o = some (o + 1, lE G 1 f)) : HMT l yX0_size cX0_size 4 (some .int) [(0, 9, 12, 13)] 11 2 12 G [.ref x, .int (iI (v1)), .ref o] w (QI G (fun z_ w_ => WRet G w x o (b + 1000) (aSiz z v1) z_ w_)) (fun _ _ _ => False) := by
  refine HMT.mk (by decide +kernel) (Nat.le_of_ble_eq_true rfl) ?_
  intro p9 e9 s9 m9 a9 b9 meth9 c9 ls X hret hlk hnm htab hl H hR
  have hx := X.1.1
  have hb := X.1.2.1
  have hl : lv_has ls 4 [(0, .ref x), (1, .int (iI (v1))), (2, .ref o)] := hl
  have hL : LK G [] := fun q h => absurd h List.not_mem_nil
  generalize ([] : List Loc) = locs at hL ⊢
  refine lv_aload_n hx hb dX0_size_0 rfl (lv_at hl 2 rfl) ?_
  refine h_iconst hx hb dX0_size_1 ?_
  refine lv_aload_n hx hb dX0_size_2 rfl (lv_at hl 0 rfl) ?_
  refine lv_iload_n hx hb dX0_size_3 rfl (lv_at hl 1 rfl) ?_
  -- call SpokenMarks.size
  refine h_xI (h_xrunV X hR (cc_size l G w hSt x z b h hok hb2 hb hG v1 h0) pn_yX1_size (h.hx) q2250 q2251 q2252 q120 q2253 ⟨by decide, by decide⟩ hl.1 (Nat.le_of_ble_eq_true rfl) dX0_size_4 ⟨by omega, by omega⟩) hL (fun xq_4 E_5 ce_ w_6 hx__7 H locs hR hL hce_ hcv_ hcl_ => ?_) (fun z_1 w_2 hp_3 H locs hR hL => ?_)
  ·
    have hC := hx__7
    obtain ⟨hm, hkx⟩ := mem1 hC.1
    subst hm
    refine h_xcatch X [] (0, 9, 12, 13) [] htab (fun z_ hz_ => absurd hz_ List.not_mem_nil) (by decide) (by decide) q2035 q224 hce_ hcv_ hcl_ ?_
    refine lv_astore_n (lv' := [(3, .ref xq_4), (0, .ref x), (1, .int (iI (v1))), (2, .ref o)]) hx hb dX0_size_12 rfl hl (by decide) rfl (fun ls hl => ?_)
    refine h_iconst hx hb dX0_size_13 ?_
    refine vx_ret ?_
    exact h_ireturn hx hb hlk hret hR hL rfl (WRet.n hC ho hkx (Or.inl rfl)) (by omega) (by omega) rfl rfl dX0_size_14
  ·
    have hC := hp_3
    have ho1 := hC.2.2.2.1.2.2.1 _ _ _ ho
    refine W.eq (g2 := F0 m9 7 ls [.int (iI (c32 z_1)), .int (iI (0)), .ref o]) (by rw [c32_i]) ?_
    refine h_i2l hx hb dX0_size_7 (c32_r _) ?_
    refine h_last X hR hL ho1 (Nat.succ_ne_zero _) (by omega) (by omega) dX0_size_8 (fun w_8 ew_9 H locs hR hL => ?_)
    have hF_o_w_8 : w_8 o = some (o + 1, lE G 1 (zset f (Int.toNat 0) (c32 z_1))) := by rw [ew_9]; exact wset_eq _ _ _
    refine lv_goto (tgt := 15) hx hb dX0_size_9 (by decide) ?_
    refine h_iconst hx hb dX0_size_15 ?_
    refine vx_ret ?_
    exact h_ireturn hx hb hlk hret hR hL rfl (WRet.y hC ho ew_9 (zset_eq _ _ _)) (by omega) (by omega) rfl rfl dX0_size_16

set_option maxHeartbeats 4000000 in
set_option maxRecDepth 100000 in
/-- account -/
theorem ww_account (l : Launch) (G : Gl) (w : Wd) (hSt : l.stackTraces = false) (x : Nat) (z : LSt) (b : Int) (h : CmA G w x z) (hok : LOk b z) (hb2 : 2200 ≤ b) (hb : b < 890000) (hG : RegW w) (v1 : Int) (h0 : R32 v1) (o : Nat) (f : Nat → Int) (ho : w o = some (o + 1, lE G 1 f)) : HMT l yX0_account cX0_account 4 (some .int) [(0, 9, 12, 13)] 11 2 12 G [.ref x, .int (iI (v1)), .ref o] w (QI G (fun z_ w_ => WRet G w x o (b + 1000) (aAcc z v1) z_ w_)) (fun _ _ _ => False) := by
  refine HMT.mk (by decide +kernel) (Nat.le_of_ble_eq_true rfl) ?_
  intro p9 e9 s9 m9 a9 b9 meth9 c9 ls X hret hlk hnm htab hl H hR
  have hx := X.1.1
  have hb := X.1.2.1
  have hl : lv_has ls 4 [(0, .ref x), (1, .int (iI (v1))), (2, .ref o)] := hl
  have hL : LK G [] := fun q h => absurd h List.not_mem_nil
  generalize ([] : List Loc) = locs at hL ⊢
  refine lv_aload_n hx hb dX0_account_0 rfl (lv_at hl 2 rfl) ?_
  refine h_iconst hx hb dX0_account_1 ?_
  refine lv_aload_n hx hb dX0_account_2 rfl (lv_at hl 0 rfl) ?_
  refine lv_iload_n hx hb dX0_account_3 rfl (lv_at hl 1 rfl) ?_
  -- call SpokenMarks.account
  refine h_xI (h_xrunV X hR (cc_account l G w hSt x z b h hok hb2 hb hG v1 h0) pn_yX1_account (h.hx) q2266 q2267 q2268 q120 q2269 ⟨by decide, by decide⟩ hl.1 (Nat.le_of_ble_eq_true rfl) dX0_account_4 ⟨by omega, by omega⟩) hL (fun xq_4 E_5 ce_ w_6 hx__7 H locs hR hL hce_ hcv_ hcl_ => ?_) (fun z_1 w_2 hp_3 H locs hR hL => ?_)
  ·
    have hC := hx__7
    obtain ⟨hm, hkx⟩ := mem1 hC.1
    subst hm
    refine h_xcatch X [] (0, 9, 12, 13) [] htab (fun z_ hz_ => absurd hz_ List.not_mem_nil) (by decide) (by decide) q2035 q224 hce_ hcv_ hcl_ ?_
    refine lv_astore_n (lv' := [(3, .ref xq_4), (0, .ref x), (1, .int (iI (v1))), (2, .ref o)]) hx hb dX0_account_12 rfl hl (by decide) rfl (fun ls hl => ?_)
    refine h_iconst hx hb dX0_account_13 ?_
    refine vx_ret ?_
    exact h_ireturn hx hb hlk hret hR hL rfl (WRet.n hC ho hkx (Or.inl rfl)) (by omega) (by omega) rfl rfl dX0_account_14
  ·
    have hC := hp_3
    have ho1 := hC.2.2.2.1.2.2.1 _ _ _ ho
    refine W.eq (g2 := F0 m9 7 ls [.int (iI (c32 z_1)), .int (iI (0)), .ref o]) (by rw [c32_i]) ?_
    refine h_i2l hx hb dX0_account_7 (c32_r _) ?_
    refine h_last X hR hL ho1 (Nat.succ_ne_zero _) (by omega) (by omega) dX0_account_8 (fun w_8 ew_9 H locs hR hL => ?_)
    have hF_o_w_8 : w_8 o = some (o + 1, lE G 1 (zset f (Int.toNat 0) (c32 z_1))) := by rw [ew_9]; exact wset_eq _ _ _
    refine lv_goto (tgt := 15) hx hb dX0_account_9 (by decide) ?_
    refine h_iconst hx hb dX0_account_15 ?_
    refine vx_ret ?_
    exact h_ireturn hx hb hlk hret hR hL rfl (WRet.y hC ho ew_9 (zset_eq _ _ _)) (by omega) (by omega) rfl rfl dX0_account_16

set_option maxHeartbeats 4000000 in
set_option maxRecDepth 100000 in
/-- mark -/
theorem ww_mark (l : Launch) (G : Gl) (w : Wd) (hSt : l.stackTraces = false) (x : Nat) (z : LSt) (b : Int) (h : CmA G w x z) (hok : LOk b z) (hb2 : 2200 ≤ b) (hb : b < 890000) (hG : RegW w) (v1 : Int) (v2 : Int) (h0 : R32 v1) (h1 : R32 v2) (o : Nat) (f : Nat → Int) (ho : w o = some (o + 1, lE G 1 f)) : HMT l yX0_mark cX0_mark 5 (some .int) [(0, 10, 13, 25), (0, 10, 17, 13)] 11 2 12 G [.ref x, .int (iI (v1)), .int (iI (v2)), .ref o] w (QI G (fun z_ w_ => WRet G w x o (b + 1000) (aMrk z v1 v2) z_ w_)) (fun _ _ _ => False) := by
  refine HMT.mk (by decide +kernel) (Nat.le_of_ble_eq_true rfl) ?_
  intro p9 e9 s9 m9 a9 b9 meth9 c9 ls X hret hlk hnm htab hl H hR
  have hx := X.1.1
  have hb := X.1.2.1
  have hl : lv_has ls 5 [(0, .ref x), (1, .int (iI (v1))), (2, .int (iI (v2))), (3, .ref o)] := hl
  have hL : LK G [] := fun q h => absurd h List.not_mem_nil
  generalize ([] : List Loc) = locs at hL ⊢
  refine lv_aload_n hx hb dX0_mark_0 rfl (lv_at hl 3 rfl) ?_
  refine h_iconst hx hb dX0_mark_1 ?_
  refine lv_aload_n hx hb dX0_mark_2 rfl (lv_at hl 0 rfl) ?_
  refine lv_iload_n hx hb dX0_mark_3 rfl (lv_at hl 1 rfl) ?_
  refine lv_iload_n hx hb dX0_mark_4 rfl (lv_at hl 2 rfl) ?_
  -- call SpokenMarks.mark
  refine h_xI (h_xrunV X hR (cc_mark l G w hSt x z b h hok hb2 hb hG v1 v2 h0 h1) pn_yX1_mark (h.hx) q2274 q2275 q2276 q120 q2277 ⟨by decide, by decide⟩ hl.1 (Nat.le_of_ble_eq_true rfl) dX0_mark_5 ⟨by omega, by omega⟩) hL (fun xq_4 E_5 ce_ w_6 hx__7 H locs hR hL hce_ hcv_ hcl_ => ?_) (fun z_1 w_2 hp_3 H locs hR hL => ?_)
  ·
    have hC := hx__7
    rcases mem2 hC.1 with ⟨hm, hkx⟩ | ⟨hm, hkx⟩
    ·
      subst hm
      refine h_xcatch X [] (0, 10, 13, 25) [(0, 10, 17, 13)] htab (fun z_ hz_ => absurd hz_ List.not_mem_nil) (by decide) (by decide) q2273 q1366 hce_ hcv_ hcl_ ?_
      refine lv_astore (lv' := [(4, .ref xq_4), (0, .ref x), (1, .int (iI (v1))), (2, .int (iI (v2))), (3, .ref o)]) hx hb dX0_mark_13 hl (by decide) rfl (fun ls hl => ?_)
      refine h_iconst hx hb dX0_mark_15 ?_
      refine vx_ret ?_
      exact h_ireturn hx hb hlk hret hR hL rfl (WRet.n hC ho hkx (Or.inl rfl)) (by omega) (by omega) rfl rfl dX0_mark_16
    subst hm
    refine h_xcatch X [(0, 10, 13, 25)] (0, 10, 17, 13) [] htab (fun z_ hz_ => by rw [List.mem_singleton.mp hz_]; exact ⟨by decide, "java/util/NoSuchElementException", q2273, kk_N X.2 [false, true, false, true, false, false, false, true, false, true, true] rfl⟩) (by decide) (by decide) q2035 q224 hce_ hcv_ hcl_ ?_
    refine lv_astore (lv' := [(4, .ref xq_4), (0, .ref x), (1, .int (iI (v1))), (2, .int (iI (v2))), (3, .ref o)]) hx hb dX0_mark_17 hl (by decide) rfl (fun ls hl => ?_)
    refine h_iconst hx hb dX0_mark_19 ?_
    refine vx_ret ?_
    exact h_ireturn hx hb hlk hret hR hL rfl (WRet.n hC ho hkx (Or.inr rfl)) (by omega) (by omega) rfl rfl dX0_mark_20
  ·
    have hC := hp_3
    have ho1 := hC.2.2.2.1.2.2.1 _ _ _ ho
    refine W.eq (g2 := F0 m9 8 ls [.int (iI (c32 z_1)), .int (iI (0)), .ref o]) (by rw [c32_i]) ?_
    refine h_i2l hx hb dX0_mark_8 (c32_r _) ?_
    refine h_last X hR hL ho1 (Nat.succ_ne_zero _) (by omega) (by omega) dX0_mark_9 (fun w_8 ew_9 H locs hR hL => ?_)
    have hF_o_w_8 : w_8 o = some (o + 1, lE G 1 (zset f (Int.toNat 0) (c32 z_1))) := by rw [ew_9]; exact wset_eq _ _ _
    refine lv_goto (tgt := 21) hx hb dX0_mark_10 (by decide) ?_
    refine h_iconst hx hb dX0_mark_21 ?_
    refine vx_ret ?_
    exact h_ireturn hx hb hlk hret hR hL rfl (WRet.y hC ho ew_9 (zset_eq _ _ _)) (by omega) (by omega) rfl rfl dX0_mark_22

set_option maxHeartbeats 4000000 in
set_option maxRecDepth 100000 in
/-- number -/
theorem ww_number (l : Launch) (G : Gl) (w : Wd) (hSt : l.stackTraces = false) (x : Nat) (z : LSt) (b : Int) (h : CmA G w x z) (hok : LOk b z) (hb2 : 2200 ≤ b) (hb : b < 890000) (hG : RegW w) (v1 : Int) (v2 : Int) (h0 : R32 v1) (h1 : R32 v2) (o : Nat) (f : Nat → Int) (ho : w o = some (o + 1, lE G 1 f)) : HMT l yX0_number cX0_number 5 (some .int) [(0, 10, 13, 25)] 11 2 12 G [.ref x, .int (iI (v1)), .int (iI (v2)), .ref o] w (QI G (fun z_ w_ => WRet G w x o (b + 1000) (aNum z v1 v2) z_ w_)) (fun _ _ _ => False) := by
  refine HMT.mk (by decide +kernel) (Nat.le_of_ble_eq_true rfl) ?_
  intro p9 e9 s9 m9 a9 b9 meth9 c9 ls X hret hlk hnm htab hl H hR
  have hx := X.1.1
  have hb := X.1.2.1
  have hl : lv_has ls 5 [(0, .ref x), (1, .int (iI (v1))), (2, .int (iI (v2))), (3, .ref o)] := hl
  have hL : LK G [] := fun q h => absurd h List.not_mem_nil
  generalize ([] : List Loc) = locs at hL ⊢
  refine lv_aload_n hx hb dX0_number_0 rfl (lv_at hl 3 rfl) ?_
  refine h_iconst hx hb dX0_number_1 ?_
  refine lv_aload_n hx hb dX0_number_2 rfl (lv_at hl 0 rfl) ?_
  refine lv_iload_n hx hb dX0_number_3 rfl (lv_at hl 1 rfl) ?_
  refine lv_iload_n hx hb dX0_number_4 rfl (lv_at hl 2 rfl) ?_
  -- call SpokenMarks.number
  refine h_xI (h_xrunV X hR (cc_number l G w hSt x z b h hok hb2 hb hG v1 v2 h0 h1) pn_yX1_number (h.hx) q2302 q2303 q2304 q120 q2305 ⟨by decide, by decide⟩ hl.1 (Nat.le_of_ble_eq_true rfl) dX0_number_5 ⟨by omega, by omega⟩) hL (fun xq_4 E_5 ce_ w_6 hx__7 H locs hR hL hce_ hcv_ hcl_ => ?_) (fun z_1 w_2 hp_3 H locs hR hL => ?_)
  ·
    have hC := hx__7
    obtain ⟨hm, hkx⟩ := mem1 hC.1
    subst hm
    refine h_xcatch X [] (0, 10, 13, 25) [] htab (fun z_ hz_ => absurd hz_ List.not_mem_nil) (by decide) (by decide) q2273 q1366 hce_ hcv_ hcl_ ?_
    refine lv_astore (lv' := [(4, .ref xq_4), (0, .ref x), (1, .int (iI (v1))), (2, .int (iI (v2))), (3, .ref o)]) hx hb dX0_number_13 hl (by decide) rfl (fun ls hl => ?_)
    refine h_iconst hx hb dX0_number_15 ?_
    refine vx_ret ?_
    exact h_ireturn hx hb hlk hret hR hL rfl (WRet.n hC ho hkx (Or.inl rfl)) (by omega) (by omega) rfl rfl dX0_number_16
  ·
    have hC := hp_3
    have ho1 := hC.2.2.2.1.2.2.1 _ _ _ ho
    refine W.eq (g2 := F0 m9 8 ls [.int (iI (c32 z_1)), .int (iI (0)), .ref o]) (by rw [c32_i]) ?_
    refine h_i2l hx hb dX0_number_8 (c32_r _) ?_
    refine h_last X hR hL ho1 (Nat.succ_ne_zero _) (by omega) (by omega) dX0_number_9 (fun w_8 ew_9 H locs hR hL => ?_)
    have hF_o_w_8 : w_8 o = some (o + 1, lE G 1 (zset f (Int.toNat 0) (c32 z_1))) := by rw [ew_9]; exact wset_eq _ _ _
    refine lv_goto (tgt := 17) hx hb dX0_number_10 (by decide) ?_
    refine h_iconst hx hb dX0_number_17 ?_
    refine vx_ret ?_
    exact h_ireturn hx hb hlk hret hR hL rfl (WRet.y hC ho ew_9 (zset_eq _ _ _)) (by omega) (by omega) rfl rfl dX0_number_18

set_option maxHeartbeats 4000000 in
set_option maxRecDepth 100000 in
/-- letter -/
theorem ww_letter (l : Launch) (G : Gl) (w : Wd) (hSt : l.stackTraces = false) (x : Nat) (z : LSt) (b : Int) (h : CmA G w x z) (hok : LOk b z) (hb2 : 2200 ≤ b) (hb : b < 890000) (hG : RegW w) (v1 : Int) (v2 : Int) (v3 : Int) (v4 : Int) (h0 : R32 v1) (h1 : R32 v2) (h2 : 0 ≤ v3 ∧ v3 ≤ 1) (h3 : R32 v4) (o : Nat) (f : Nat → Int) (ho : w o = some (o + 1, lE G 1 f)) : HMT l yX0_letter cX0_letter 7 (some .int) [(0, 14, 17, 25)] 11 2 12 G [.ref x, .int (iI (v1)), .int (iI (v2)), .int (iI (v3)), .int (iI (v4)), .ref o] w (QI G (fun z_ w_ => WRet G w x o (b + 1000) (aLet z v1 v2 v3 v4) z_ w_)) (fun _ _ _ => False) := by
  refine HMT.mk (by decide +kernel) (Nat.le_of_ble_eq_true rfl) ?_
  intro p9 e9 s9 m9 a9 b9 meth9 c9 ls X hret hlk hnm htab hl H hR
  have hx := X.1.1
  have hb := X.1.2.1
  have hl : lv_has ls 7 [(0, .ref x), (1, .int (iI (v1))), (2, .int (iI (v2))), (3, .int (iI (v3))), (4, .int (iI (v4))), (5, .ref o)] := hl
  have hL : LK G [] := fun q h => absurd h List.not_mem_nil
  generalize ([] : List Loc) = locs at hL ⊢
  refine lv_aload hx hb dX0_letter_0 (lv_at hl 5 rfl) ?_
  refine h_iconst hx hb dX0_letter_2 ?_
  refine lv_aload_n hx hb dX0_letter_3 rfl (lv_at hl 0 rfl) ?_
  refine lv_iload_n hx hb dX0_letter_4 rfl (lv_at hl 1 rfl) ?_
  refine lv_iload_n hx hb dX0_letter_5 rfl (lv_at hl 2 rfl) ?_
  refine lv_iload_n hx hb dX0_letter_6 rfl (lv_at hl 3 rfl) ?_
  refine lv_iload hx hb dX0_letter_7 (lv_at hl 4 rfl) ?_
  -- call SpokenMarks.letter
  refine h_xI (h_xrunV X hR (cc_letter l G w hSt x z b h hok hb2 hb hG v1 v2 v3 v4 h0 h1 h2 h3) pn_yX1_letter (h.hx) q2314 q2315 q2316 q120 q2317 ⟨by decide, by decide⟩ hl.1 (Nat.le_of_ble_eq_true rfl) dX0_letter_9 ⟨by omega, by omega⟩) hL (fun xq_4 E_5 ce_ w_6 hx__7 H locs hR hL hce_ hcv_ hcl_ => ?_) (fun z_1 w_2 hp_3 H locs hR hL => ?_)
  ·
    have hC := hx__7
    obtain ⟨hm, hkx⟩ := mem1 hC.1
    subst hm
    refine h_xcatch X [] (0, 14, 17, 25) [] htab (fun z_ hz_ => absurd hz_ List.not_mem_nil) (by decide) (by decide) q2273 q1366 hce_ hcv_ hcl_ ?_
    refine lv_astore (lv' := [(6, .ref xq_4), (0, .ref x), (1, .int (iI (v1))), (2, .int (iI (v2))), (3, .int (iI (v3))), (4, .int (iI (v4))), (5, .ref o)]) hx hb dX0_letter_17 hl (by decide) rfl (fun ls hl => ?_)
    refine h_iconst hx hb dX0_letter_19 ?_
    refine vx_ret ?_
    exact h_ireturn hx hb hlk hret hR hL rfl (WRet.n hC ho hkx (Or.inl rfl)) (by omega) (by omega) rfl rfl dX0_letter_20
  ·
    have hC := hp_3
    have ho1 := hC.2.2.2.1.2.2.1 _ _ _ ho
    refine W.eq (g2 := F0 m9 12 ls [.int (iI (c32 z_1)), .int (iI (0)), .ref o]) (by rw [c32_i]) ?_
    refine h_i2l hx hb dX0_letter_12 (c32_r _) ?_
    refine h_last X hR hL ho1 (Nat.succ_ne_zero _) (by omega) (by omega) dX0_letter_13 (fun w_8 ew_9 H locs hR hL => ?_)
    have hF_o_w_8 : w_8 o = some (o + 1, lE G 1 (zset f (Int.toNat 0) (c32 z_1))) := by rw [ew_9]; exact wset_eq _ _ _
    refine lv_goto (tgt := 21) hx hb dX0_letter_14 (by decide) ?_
    refine h_iconst hx hb dX0_letter_21 ?_
    refine vx_ret ?_
    exact h_ireturn hx hb hlk hret hR hL rfl (WRet.y hC ho ew_9 (zset_eq _ _ _)) (by omega) (by omega) rfl rfl dX0_letter_22

set_option maxHeartbeats 4000000 in
set_option maxRecDepth 100000 in
/-- ruleLetter -/
theorem ww_ruleLetter (l : Launch) (G : Gl) (w : Wd) (hSt : l.stackTraces = false) (x : Nat) (z : LSt) (b : Int) (h : CmA G w x z) (hok : LOk b z) (hb2 : 2200 ≤ b) (hb : b < 890000) (hG : RegW w) (v1 : Int) (v2 : Int) (v3 : Int) (h0 : R32 v1) (h1 : 0 ≤ v2 ∧ v2 ≤ 1) (h2 : R32 v3) (o : Nat) (f : Nat → Int) (ho : w o = some (o + 1, lE G 1 f)) : HMT l yX0_ruleLetter cX0_ruleLetter 6 (some .int) [(0, 12, 15, 25)] 11 2 12 G [.ref x, .int (iI (v1)), .int (iI (v2)), .int (iI (v3)), .ref o] w (QI G (fun z_ w_ => WRet G w x o (b + 1000) (aRul z v1 v2 v3) z_ w_)) (fun _ _ _ => False) := by
  refine HMT.mk (by decide +kernel) (Nat.le_of_ble_eq_true rfl) ?_
  intro p9 e9 s9 m9 a9 b9 meth9 c9 ls X hret hlk hnm htab hl H hR
  have hx := X.1.1
  have hb := X.1.2.1
  have hl : lv_has ls 6 [(0, .ref x), (1, .int (iI (v1))), (2, .int (iI (v2))), (3, .int (iI (v3))), (4, .ref o)] := hl
  have hL : LK G [] := fun q h => absurd h List.not_mem_nil
  generalize ([] : List Loc) = locs at hL ⊢
  refine lv_aload hx hb dX0_ruleLetter_0 (lv_at hl 4 rfl) ?_
  refine h_iconst hx hb dX0_ruleLetter_2 ?_
  refine lv_aload_n hx hb dX0_ruleLetter_3 rfl (lv_at hl 0 rfl) ?_
  refine lv_iload_n hx hb dX0_ruleLetter_4 rfl (lv_at hl 1 rfl) ?_
  refine lv_iload_n hx hb dX0_ruleLetter_5 rfl (lv_at hl 2 rfl) ?_
  refine lv_iload_n hx hb dX0_ruleLetter_6 rfl (lv_at hl 3 rfl) ?_
  -- call SpokenMarks.ruleLetter
  refine h_xI (h_xrunV X hR (cc_ruleLetter l G w hSt x z b h hok hb2 hb hG v1 v2 v3 h0 h1 h2) pn_yX1_ruleLetter (h.hx) q2325 q2326 q2327 q120 q2328 ⟨by decide, by decide⟩ hl.1 (Nat.le_of_ble_eq_true rfl) dX0_ruleLetter_7 ⟨by omega, by omega⟩) hL (fun xq_4 E_5 ce_ w_6 hx__7 H locs hR hL hce_ hcv_ hcl_ => ?_) (fun z_1 w_2 hp_3 H locs hR hL => ?_)
  ·
    have hC := hx__7
    obtain ⟨hm, hkx⟩ := mem1 hC.1
    subst hm
    refine h_xcatch X [] (0, 12, 15, 25) [] htab (fun z_ hz_ => absurd hz_ List.not_mem_nil) (by decide) (by decide) q2273 q1366 hce_ hcv_ hcl_ ?_
    refine lv_astore (lv' := [(5, .ref xq_4), (0, .ref x), (1, .int (iI (v1))), (2, .int (iI (v2))), (3, .int (iI (v3))), (4, .ref o)]) hx hb dX0_ruleLetter_15 hl (by decide) rfl (fun ls hl => ?_)
    refine h_iconst hx hb dX0_ruleLetter_17 ?_
    refine vx_ret ?_
    exact h_ireturn hx hb hlk hret hR hL rfl (WRet.n hC ho hkx (Or.inl rfl)) (by omega) (by omega) rfl rfl dX0_ruleLetter_18
  ·
    have hC := hp_3
    have ho1 := hC.2.2.2.1.2.2.1 _ _ _ ho
    refine W.eq (g2 := F0 m9 10 ls [.int (iI (c32 z_1)), .int (iI (0)), .ref o]) (by rw [c32_i]) ?_
    refine h_i2l hx hb dX0_ruleLetter_10 (c32_r _) ?_
    refine h_last X hR hL ho1 (Nat.succ_ne_zero _) (by omega) (by omega) dX0_ruleLetter_11 (fun w_8 ew_9 H locs hR hL => ?_)
    have hF_o_w_8 : w_8 o = some (o + 1, lE G 1 (zset f (Int.toNat 0) (c32 z_1))) := by rw [ew_9]; exact wset_eq _ _ _
    refine lv_goto (tgt := 19) hx hb dX0_ruleLetter_12 (by decide) ?_
    refine h_iconst hx hb dX0_ruleLetter_19 ?_
    refine vx_ret ?_
    exact h_ireturn hx hb hlk hret hR hL rfl (WRet.y hC ho ew_9 (zset_eq _ _ _)) (by omega) (by omega) rfl rfl dX0_ruleLetter_20

set_option maxHeartbeats 4000000 in
set_option maxRecDepth 100000 in
/-- shelf -/
theorem ww_shelf (l : Launch) (G : Gl) (w : Wd) (hSt : l.stackTraces = false) (x : Nat) (z : LSt) (b : Int) (h : CmA G w x z) (hok : LOk b z) (hb2 : 2200 ≤ b) (hb : b < 890000) (hG : RegW w) (v1 : Int) (v2 : Int) (h0 : R32 v1) (h1 : R32 v2) (o : Nat) (f : Nat → Int) (ho : w o = some (o + 1, lE G 1 f)) : HMT l yX0_shelf cX0_shelf 5 (some .int) [(0, 10, 13, 25), (0, 10, 17, 13)] 11 2 12 G [.ref x, .int (iI (v1)), .int (iI (v2)), .ref o] w (QI G (fun z_ w_ => WRet G w x o (b + 1000) (aShf z v1 v2) z_ w_)) (fun _ _ _ => False) := by
  refine HMT.mk (by decide +kernel) (Nat.le_of_ble_eq_true rfl) ?_
  intro p9 e9 s9 m9 a9 b9 meth9 c9 ls X hret hlk hnm htab hl H hR
  have hx := X.1.1
  have hb := X.1.2.1
  have hl : lv_has ls 5 [(0, .ref x), (1, .int (iI (v1))), (2, .int (iI (v2))), (3, .ref o)] := hl
  have hL : LK G [] := fun q h => absurd h List.not_mem_nil
  generalize ([] : List Loc) = locs at hL ⊢
  refine lv_aload_n hx hb dX0_shelf_0 rfl (lv_at hl 3 rfl) ?_
  refine h_iconst hx hb dX0_shelf_1 ?_
  refine lv_aload_n hx hb dX0_shelf_2 rfl (lv_at hl 0 rfl) ?_
  refine lv_iload_n hx hb dX0_shelf_3 rfl (lv_at hl 1 rfl) ?_
  refine lv_iload_n hx hb dX0_shelf_4 rfl (lv_at hl 2 rfl) ?_
  -- call SpokenMarks.shelf
  refine h_xI (h_xrunV X hR (cc_shelf l G w hSt x z b h hok hb2 hb hG v1 v2 h0 h1) pn_yX1_shelf (h.hx) q2336 q2337 q2338 q120 q2339 ⟨by decide, by decide⟩ hl.1 (Nat.le_of_ble_eq_true rfl) dX0_shelf_5 ⟨by omega, by omega⟩) hL (fun xq_4 E_5 ce_ w_6 hx__7 H locs hR hL hce_ hcv_ hcl_ => ?_) (fun z_1 w_2 hp_3 H locs hR hL => ?_)
  ·
    have hC := hx__7
    rcases mem2 hC.1 with ⟨hm, hkx⟩ | ⟨hm, hkx⟩
    ·
      subst hm
      refine h_xcatch X [] (0, 10, 13, 25) [(0, 10, 17, 13)] htab (fun z_ hz_ => absurd hz_ List.not_mem_nil) (by decide) (by decide) q2273 q1366 hce_ hcv_ hcl_ ?_
      refine lv_astore (lv' := [(4, .ref xq_4), (0, .ref x), (1, .int (iI (v1))), (2, .int (iI (v2))), (3, .ref o)]) hx hb dX0_shelf_13 hl (by decide) rfl (fun ls hl => ?_)
      refine h_iconst hx hb dX0_shelf_15 ?_
      refine vx_ret ?_
      exact h_ireturn hx hb hlk hret hR hL rfl (WRet.n hC ho hkx (Or.inl rfl)) (by omega) (by omega) rfl rfl dX0_shelf_16
    subst hm
    refine h_xcatch X [(0, 10, 13, 25)] (0, 10, 17, 13) [] htab (fun z_ hz_ => by rw [List.mem_singleton.mp hz_]; exact ⟨by decide, "java/util/NoSuchElementException", q2273, kk_N X.2 [false, true, false, true, false, false, false, true, false, true, true] rfl⟩) (by decide) (by decide) q2035 q224 hce_ hcv_ hcl_ ?_
    refine lv_astore (lv' := [(4, .ref xq_4), (0, .ref x), (1, .int (iI (v1))), (2, .int (iI (v2))), (3, .ref o)]) hx hb dX0_shelf_17 hl (by decide) rfl (fun ls hl => ?_)
    refine h_iconst hx hb dX0_shelf_19 ?_
    refine vx_ret ?_
    exact h_ireturn hx hb hlk hret hR hL rfl (WRet.n hC ho hkx (Or.inr rfl)) (by omega) (by omega) rfl rfl dX0_shelf_20
  ·
    have hC := hp_3
    have ho1 := hC.2.2.2.1.2.2.1 _ _ _ ho
    refine W.eq (g2 := F0 m9 8 ls [.int (iI (c32 z_1)), .int (iI (0)), .ref o]) (by rw [c32_i]) ?_
    refine h_i2l hx hb dX0_shelf_8 (c32_r _) ?_
    refine h_last X hR hL ho1 (Nat.succ_ne_zero _) (by omega) (by omega) dX0_shelf_9 (fun w_8 ew_9 H locs hR hL => ?_)
    have hF_o_w_8 : w_8 o = some (o + 1, lE G 1 (zset f (Int.toNat 0) (c32 z_1))) := by rw [ew_9]; exact wset_eq _ _ _
    refine lv_goto (tgt := 21) hx hb dX0_shelf_10 (by decide) ?_
    refine h_iconst hx hb dX0_shelf_21 ?_
    refine vx_ret ?_
    exact h_ireturn hx hb hlk hret hR hL rfl (WRet.y hC ho ew_9 (zset_eq _ _ _)) (by omega) (by omega) rfl rfl dX0_shelf_22

set_option maxHeartbeats 4000000 in
set_option maxRecDepth 100000 in
/-- compare -/
theorem ww_compare (l : Launch) (G : Gl) (w : Wd) (hSt : l.stackTraces = false) (x : Nat) (z : LSt) (b : Int) (h : CmA G w x z) (hok : LOk b z) (hb2 : 2200 ≤ b) (hb : b < 890000) (hG : RegW w) (v1 : Int) (v2 : Int) (h0 : R32 v1) (h1 : R32 v2) (o : Nat) (f : Nat → Int) (ho : w o = some (o + 1, lE G 1 f)) : HMT l yX0_compare cX0_compare 5 (some .int) [(0, 10, 13, 25)] 16 2 12 G [.ref x, .int (iI (v1)), .int (iI (v2)), .ref o] w (QI G (fun z_ w_ => WRet G w x o (b + 1000) (aCmp z v1 v2) z_ w_)) (fun _ _ _ => False) := by
  refine HMT.mk (by decide +kernel) (Nat.le_of_ble_eq_true rfl) ?_
  intro p9 e9 s9 m9 a9 b9 meth9 c9 ls X hret hlk hnm htab hl H hR
  have hx := X.1.1
  have hb := X.1.2.1
  have hl : lv_has ls 5 [(0, .ref x), (1, .int (iI (v1))), (2, .int (iI (v2))), (3, .ref o)] := hl
  have hL : LK G [] := fun q h => absurd h List.not_mem_nil
  generalize ([] : List Loc) = locs at hL ⊢
  refine lv_aload_n hx hb dX0_compare_0 rfl (lv_at hl 3 rfl) ?_
  refine h_iconst hx hb dX0_compare_1 ?_
  refine lv_aload_n hx hb dX0_compare_2 rfl (lv_at hl 0 rfl) ?_
  refine lv_iload_n hx hb dX0_compare_3 rfl (lv_at hl 1 rfl) ?_
  refine lv_iload_n hx hb dX0_compare_4 rfl (lv_at hl 2 rfl) ?_
  -- call SpokenMarks.compare
  refine h_xI (h_xrunV X hR (cc_compare l G w hSt x z b h hok hb2 hb hG v1 v2 h0 h1) pn_yX1_compare (h.hx) q2357 q2358 q2359 q120 q2360 ⟨by decide, by decide⟩ hl.1 (Nat.le_of_ble_eq_true rfl) dX0_compare_5 ⟨by omega, by omega⟩) hL (fun xq_4 E_5 ce_ w_6 hx__7 H locs hR hL hce_ hcv_ hcl_ => ?_) (fun z_1 w_2 hp_3 H locs hR hL => ?_)
  ·
    have hC := hx__7
    obtain ⟨hm, hkx⟩ := mem1 hC.1
    subst hm
    refine h_xcatch X [] (0, 10, 13, 25) [] htab (fun z_ hz_ => absurd hz_ List.not_mem_nil) (by decide) (by decide) q2273 q1366 hce_ hcv_ hcl_ ?_
    refine lv_astore (lv' := [(4, .ref xq_4), (0, .ref x), (1, .int (iI (v1))), (2, .int (iI (v2))), (3, .ref o)]) hx hb dX0_compare_13 hl (by decide) rfl (fun ls hl => ?_)
    refine h_iconst hx hb dX0_compare_15 ?_
    refine vx_ret ?_
    exact h_ireturn hx hb hlk hret hR hL rfl (WRet.n hC ho hkx (Or.inl rfl)) (by omega) (by omega) rfl rfl dX0_compare_16
  ·
    have hC := hp_3
    have ho1 := hC.2.2.2.1.2.2.1 _ _ _ ho
    refine W.eq (g2 := F0 m9 8 ls [.int (iI (c32 z_1)), .int (iI (0)), .ref o]) (by rw [c32_i]) ?_
    refine h_i2l hx hb dX0_compare_8 (c32_r _) ?_
    refine h_last X hR hL ho1 (Nat.succ_ne_zero _) (by omega) (by omega) dX0_compare_9 (fun w_8 ew_9 H locs hR hL => ?_)
    have hF_o_w_8 : w_8 o = some (o + 1, lE G 1 (zset f (Int.toNat 0) (c32 z_1))) := by rw [ew_9]; exact wset_eq _ _ _
    refine lv_goto (tgt := 17) hx hb dX0_compare_10 (by decide) ?_
    refine h_iconst hx hb dX0_compare_17 ?_
    refine vx_ret ?_
    exact h_ireturn hx hb hlk hret hR hL rfl (WRet.y hC ho ew_9 (zset_eq _ _ _)) (by omega) (by omega) rfl rfl dX0_compare_18

set_option maxHeartbeats 4000000 in
set_option maxRecDepth 100000 in
/-- differ -/
theorem ww_differ (l : Launch) (G : Gl) (w : Wd) (hSt : l.stackTraces = false) (x : Nat) (z : LSt) (b : Int) (h : CmA G w x z) (hok : LOk b z) (hb2 : 2200 ≤ b) (hb : b < 890000) (hG : RegW w) (v1 : Int) (v2 : Int) (h0 : R32 v1) (h1 : R32 v2) (o : Nat) (f : Nat → Int) (ho : w o = some (o + 1, lE G 1 f)) : HMT l yX0_differ cX0_differ 5 (some .int) [(0, 10, 13, 25)] 14 2 12 G [.ref x, .int (iI (v1)), .int (iI (v2)), .ref o] w (QI G (fun z_ w_ => WRet G w x o (b + 1000) (aDif z v1 v2) z_ w_)) (fun _ _ _ => False) := by
  refine HMT.mk (by decide +kernel) (Nat.le_of_ble_eq_true rfl) ?_
  intro p9 e9 s9 m9 a9 b9 meth9 c9 ls X hret hlk hnm htab hl H hR
  have hx := X.1.1
  have hb := X.1.2.1
  have hl : lv_has ls 5 [(0, .ref x), (1, .int (iI (v1))), (2, .int (iI (v2))), (3, .ref o)] := hl
  have hL : LK G [] := fun q h => absurd h List.not_mem_nil
  generalize ([] : List Loc) = locs at hL ⊢
  refine lv_aload_n hx hb dX0_differ_0 rfl (lv_at hl 3 rfl) ?_
  refine h_iconst hx hb dX0_differ_1 ?_
  refine lv_aload_n hx hb dX0_differ_2 rfl (lv_at hl 0 rfl) ?_
  refine lv_iload_n hx hb dX0_differ_3 rfl (lv_at hl 1 rfl) ?_
  refine lv_iload_n hx hb dX0_differ_4 rfl (lv_at hl 2 rfl) ?_
  -- call SpokenMarks.differ
  refine h_xI (h_xrunV X hR (cc_differ l G w hSt x z b h hok hb2 hb hG v1 v2 h0 h1) pn_yX1_differ (h.hx) q2369 q2370 q2371 q120 q2372 ⟨by decide, by decide⟩ hl.1 (Nat.le_of_ble_eq_true rfl) dX0_differ_5 ⟨by omega, by omega⟩) hL (fun xq_4 E_5 ce_ w_6 hx__7 H locs hR hL hce_ hcv_ hcl_ => ?_) (fun z_1 w_2 hp_3 H locs hR hL => ?_)
  ·
    have hC := hx__7
    obtain ⟨hm, hkx⟩ := mem1 hC.1
    subst hm
    refine h_xcatch X [] (0, 10, 13, 25) [] htab (fun z_ hz_ => absurd hz_ List.not_mem_nil) (by decide) (by decide) q2273 q1366 hce_ hcv_ hcl_ ?_
    refine lv_astore (lv' := [(4, .ref xq_4), (0, .ref x), (1, .int (iI (v1))), (2, .int (iI (v2))), (3, .ref o)]) hx hb dX0_differ_13 hl (by decide) rfl (fun ls hl => ?_)
    refine h_iconst hx hb dX0_differ_15 ?_
    refine vx_ret ?_
    exact h_ireturn hx hb hlk hret hR hL rfl (WRet.n hC ho hkx (Or.inl rfl)) (by omega) (by omega) rfl rfl dX0_differ_16
  ·
    have hC := hp_3
    have ho1 := hC.2.2.2.1.2.2.1 _ _ _ ho
    refine W.eq (g2 := F0 m9 8 ls [.int (iI (c32 z_1)), .int (iI (0)), .ref o]) (by rw [c32_i]) ?_
    refine h_i2l hx hb dX0_differ_8 (c32_r _) ?_
    refine h_last X hR hL ho1 (Nat.succ_ne_zero _) (by omega) (by omega) dX0_differ_9 (fun w_8 ew_9 H locs hR hL => ?_)
    have hF_o_w_8 : w_8 o = some (o + 1, lE G 1 (zset f (Int.toNat 0) (c32 z_1))) := by rw [ew_9]; exact wset_eq _ _ _
    refine lv_goto (tgt := 17) hx hb dX0_differ_10 (by decide) ?_
    refine h_iconst hx hb dX0_differ_17 ?_
    refine vx_ret ?_
    exact h_ireturn hx hb hlk hret hR hL rfl (WRet.y hC ho ew_9 (zset_eq _ _ _)) (by omega) (by omega) rfl rfl dX0_differ_18

set_option maxHeartbeats 4000000 in
set_option maxRecDepth 100000 in
/-- free -/
theorem ww_free (l : Launch) (G : Gl) (w : Wd) (hSt : l.stackTraces = false) (x : Nat) (z : LSt) (b : Int) (h : CmA G w x z) (hok : LOk b z) (hb2 : 2200 ≤ b) (hb : b < 890000) (hG : RegW w) (v1 : Int) (h0 : R32 v1) (o : Nat) (f : Nat → Int) (ho : w o = some (o + 1, lE G 1 f)) : HMT l yX0_free cX0_free 4 (some .int) [(0, 9, 12, 25)] 11 1 6 G [.ref x, .int (iI (v1)), .ref o] w (QI G (fun z_ w_ => WRet G w x o (b + 1000) (aFre z v1) z_ w_)) (fun _ _ _ => False) := by
  refine HMT.mk (by decide +kernel) (Nat.le_of_ble_eq_true rfl) ?_
  intro p9 e9 s9 m9 a9 b9 meth9 c9 ls X hret hlk hnm htab hl H hR
  have hx := X.1.1
  have hb := X.1.2.1
  have hl : lv_has ls 4 [(0, .ref x), (1, .int (iI (v1))), (2, .ref o)] := hl
  have hL : LK G [] := fun q h => absurd h List.not_mem_nil
  generalize ([] : List Loc) = locs at hL ⊢
  refine lv_aload_n hx hb dX0_free_0 rfl (lv_at hl 2 rfl) ?_
  refine h_iconst hx hb dX0_free_1 ?_
  refine lv_aload_n hx hb dX0_free_2 rfl (lv_at hl 0 rfl) ?_
  refine lv_iload_n hx hb dX0_free_3 rfl (lv_at hl 1 rfl) ?_
  -- call SpokenMarks.free
  refine h_xI (h_xrunV X hR (cc_free l G w hSt x z b h hok hb2 hb hG v1 h0) pn_yX1_free (h.hx) q2377 q2378 q2379 q120 q2380 ⟨by decide, by decide⟩ hl.1 (Nat.le_of_ble_eq_true rfl) dX0_free_4 ⟨by omega, by omega⟩) hL (fun xq_4 E_5 ce_ w_6 hx__7 H locs hR hL hce_ hcv_ hcl_ => ?_) (fun z_1 w_2 hp_3 H locs hR hL => ?_)
  ·
    have hC := hx__7
    obtain ⟨hm, hkx⟩ := mem1 hC.1
    subst hm
    refine h_xcatch X [] (0, 9, 12, 25) [] htab (fun z_ hz_ => absurd hz_ List.not_mem_nil) (by decide) (by decide) q2273 q1366 hce_ hcv_ hcl_ ?_
    refine lv_astore_n (lv' := [(3, .ref xq_4), (0, .ref x), (1, .int (iI (v1))), (2, .ref o)]) hx hb dX0_free_12 rfl hl (by decide) rfl (fun ls hl => ?_)
    refine h_iconst hx hb dX0_free_13 ?_
    refine vx_ret ?_
    exact h_ireturn hx hb hlk hret hR hL rfl (WRet.n hC ho hkx (Or.inl rfl)) (by omega) (by omega) rfl rfl dX0_free_14
  ·
    have hC := hp_3
    have ho1 := hC.2.2.2.1.2.2.1 _ _ _ ho
    refine W.eq (g2 := F0 m9 7 ls [.int (iI (c32 z_1)), .int (iI (0)), .ref o]) (by rw [c32_i]) ?_
    refine h_i2l hx hb dX0_free_7 (c32_r _) ?_
    refine h_last X hR hL ho1 (Nat.succ_ne_zero _) (by omega) (by omega) dX0_free_8 (fun w_8 ew_9 H locs hR hL => ?_)
    have hF_o_w_8 : w_8 o = some (o + 1, lE G 1 (zset f (Int.toNat 0) (c32 z_1))) := by rw [ew_9]; exact wset_eq _ _ _
    refine lv_goto (tgt := 15) hx hb dX0_free_9 (by decide) ?_
    refine h_iconst hx hb dX0_free_15 ?_
    refine vx_ret ?_
    exact h_ireturn hx hb hlk hret hR hL rfl (WRet.y hC ho ew_9 (zset_eq _ _ _)) (by omega) (by omega) rfl rfl dX0_free_16

set_option maxHeartbeats 4000000 in
set_option maxRecDepth 100000 in
/-- family -/
theorem ww_family (l : Launch) (G : Gl) (w : Wd) (hSt : l.stackTraces = false) (x : Nat) (z : LSt) (b : Int) (h : CmA G w x z) (hok : LOk b z) (hb2 : 2200 ≤ b) (hb : b < 890000) (hG : RegW w) (v1 : Int) (h0 : R32 v1) (o : Nat) (f : Nat → Int) (ho : w o = some (o + 1, lE G 1 f)) : HMT l yX0_family cX0_family 4 (some .int) [(0, 9, 12, 25)] 14 1 6 G [.ref x, .int (iI (v1)), .ref o] w (QI G (fun z_ w_ => WRet G w x o (b + 1000) (aFam z v1) z_ w_)) (fun _ _ _ => False) := by
  refine HMT.mk (by decide +kernel) (Nat.le_of_ble_eq_true rfl) ?_
  intro p9 e9 s9 m9 a9 b9 meth9 c9 ls X hret hlk hnm htab hl H hR
  have hx := X.1.1
  have hb := X.1.2.1
  have hl : lv_has ls 4 [(0, .ref x), (1, .int (iI (v1))), (2, .ref o)] := hl
  have hL : LK G [] := fun q h => absurd h List.not_mem_nil
  generalize ([] : List Loc) = locs at hL ⊢
  refine lv_aload_n hx hb dX0_family_0 rfl (lv_at hl 2 rfl) ?_
  refine h_iconst hx hb dX0_family_1 ?_
  refine lv_aload_n hx hb dX0_family_2 rfl (lv_at hl 0 rfl) ?_
  refine lv_iload_n hx hb dX0_family_3 rfl (lv_at hl 1 rfl) ?_
  -- call SpokenMarks.family
  refine h_xI (h_xrunV X hR (cc_family l G w hSt x z b h hok hb2 hb hG v1 h0) pn_yX1_family (h.hx) q2385 q2386 q2387 q120 q2388 ⟨by decide, by decide⟩ hl.1 (Nat.le_of_ble_eq_true rfl) dX0_family_4 ⟨by omega, by omega⟩) hL (fun xq_4 E_5 ce_ w_6 hx__7 H locs hR hL hce_ hcv_ hcl_ => ?_) (fun z_1 w_2 hp_3 H locs hR hL => ?_)
  ·
    have hC := hx__7
    obtain ⟨hm, hkx⟩ := mem1 hC.1
    subst hm
    refine h_xcatch X [] (0, 9, 12, 25) [] htab (fun z_ hz_ => absurd hz_ List.not_mem_nil) (by decide) (by decide) q2273 q1366 hce_ hcv_ hcl_ ?_
    refine lv_astore_n (lv' := [(3, .ref xq_4), (0, .ref x), (1, .int (iI (v1))), (2, .ref o)]) hx hb dX0_family_12 rfl hl (by decide) rfl (fun ls hl => ?_)
    refine h_iconst hx hb dX0_family_13 ?_
    refine vx_ret ?_
    exact h_ireturn hx hb hlk hret hR hL rfl (WRet.n hC ho hkx (Or.inl rfl)) (by omega) (by omega) rfl rfl dX0_family_14
  ·
    have hC := hp_3
    have ho1 := hC.2.2.2.1.2.2.1 _ _ _ ho
    refine W.eq (g2 := F0 m9 7 ls [.int (iI (c32 z_1)), .int (iI (0)), .ref o]) (by rw [c32_i]) ?_
    refine h_i2l hx hb dX0_family_7 (c32_r _) ?_
    refine h_last X hR hL ho1 (Nat.succ_ne_zero _) (by omega) (by omega) dX0_family_8 (fun w_8 ew_9 H locs hR hL => ?_)
    have hF_o_w_8 : w_8 o = some (o + 1, lE G 1 (zset f (Int.toNat 0) (c32 z_1))) := by rw [ew_9]; exact wset_eq _ _ _
    refine lv_goto (tgt := 15) hx hb dX0_family_9 (by decide) ?_
    refine h_iconst hx hb dX0_family_15 ?_
    refine vx_ret ?_
    exact h_ireturn hx hb hlk hret hR hL rfl (WRet.y hC ho ew_9 (zset_eq _ _ _)) (by omega) (by omega) rfl rfl dX0_family_16

set_option maxHeartbeats 4000000 in
set_option maxRecDepth 100000 in
/-- soundsLike -/
theorem ww_soundsLike (l : Launch) (G : Gl) (w : Wd) (hSt : l.stackTraces = false) (x : Nat) (z : LSt) (b : Int) (h : CmA G w x z) (hok : LOk b z) (hb2 : 2200 ≤ b) (hb : b < 890000) (hG : RegW w) (v1 : Int) (h0 : R32 v1) (o : Nat) (f : Nat → Int) (ho : w o = some (o + 1, lE G 1 f)) : HMT l yX0_soundsLike cX0_soundsLike 4 (some .int) [(0, 9, 12, 13)] 13 40 240 G [.ref x, .int (iI (v1)), .ref o] w (QI G (fun z_ w_ => WRet G w x o (b + 1000) (aSnd z v1) z_ w_)) (fun _ _ _ => False) := by
  refine HMT.mk (by decide +kernel) (Nat.le_of_ble_eq_true rfl) ?_
  intro p9 e9 s9 m9 a9 b9 meth9 c9 ls X hret hlk hnm htab hl H hR
  have hx := X.1.1
  have hb := X.1.2.1
  have hl : lv_has ls 4 [(0, .ref x), (1, .int (iI (v1))), (2, .ref o)] := hl
  have hL : LK G [] := fun q h => absurd h List.not_mem_nil
  generalize ([] : List Loc) = locs at hL ⊢
  refine lv_aload_n hx hb dX0_soundsLike_0 rfl (lv_at hl 2 rfl) ?_
  refine h_iconst hx hb dX0_soundsLike_1 ?_
  refine lv_aload_n hx hb dX0_soundsLike_2 rfl (lv_at hl 0 rfl) ?_
  refine lv_iload_n hx hb dX0_soundsLike_3 rfl (lv_at hl 1 rfl) ?_
  -- call SpokenMarks.soundsLike
  refine h_xI (h_xrunT X hR (cc_soundsLike l G w hSt x z b h hok hb2 hb hG v1 h0) pn_yX1_soundsLike (h.hx) q2397 q2398 q2399 q120 q2400 ⟨by decide, by decide⟩ hl.1 (Nat.le_of_ble_eq_true rfl) dX0_soundsLike_4 ⟨by omega, by omega⟩) hL (fun xq_4 E_5 ce_ w_6 hx__7 H locs hR hL hce_ hcv_ hcl_ => ?_) (fun z_1 w_2 hp_3 H locs hR hL => ?_)
  ·
    have hC := hx__7
    obtain ⟨hm, hkx⟩ := mem1 hC.1
    subst hm
    refine h_xcatch X [] (0, 9, 12, 13) [] htab (fun z_ hz_ => absurd hz_ List.not_mem_nil) (by decide) (by decide) q2035 q224 hce_ hcv_ hcl_ ?_
    refine lv_astore_n (lv' := [(3, .ref xq_4), (0, .ref x), (1, .int (iI (v1))), (2, .ref o)]) hx hb dX0_soundsLike_12 rfl hl (by decide) rfl (fun ls hl => ?_)
    refine h_iconst hx hb dX0_soundsLike_13 ?_
    refine vx_ret ?_
    exact h_ireturn hx hb hlk hret hR hL rfl (WRet.n hC ho hkx (Or.inl rfl)) (by omega) (by omega) rfl rfl dX0_soundsLike_14
  ·
    have hC := hp_3
    have ho1 := hC.2.2.2.1.2.2.1 _ _ _ ho
    refine W.eq (g2 := F0 m9 7 ls [.int (iI (c32 z_1)), .int (iI (0)), .ref o]) (by rw [c32_i]) ?_
    refine h_i2l hx hb dX0_soundsLike_7 (c32_r _) ?_
    refine h_last X hR hL ho1 (Nat.succ_ne_zero _) (by omega) (by omega) dX0_soundsLike_8 (fun w_8 ew_9 H locs hR hL => ?_)
    have hF_o_w_8 : w_8 o = some (o + 1, lE G 1 (zset f (Int.toNat 0) (c32 z_1))) := by rw [ew_9]; exact wset_eq _ _ _
    refine lv_goto (tgt := 15) hx hb dX0_soundsLike_9 (by decide) ?_
    refine h_iconst hx hb dX0_soundsLike_15 ?_
    refine vx_ret ?_
    exact h_ireturn hx hb hlk hret hR hL rfl (WRet.y hC ho ew_9 (zset_eq _ _ _)) (by omega) (by omega) rfl rfl dX0_soundsLike_16

set_option maxHeartbeats 4000000 in
set_option maxRecDepth 100000 in
/-- rankIf -/
theorem ww_rankIf (l : Launch) (G : Gl) (w : Wd) (hSt : l.stackTraces = false) (x : Nat) (z : LSt) (b : Int) (h : CmA G w x z) (hok : LOk b z) (hb2 : 2200 ≤ b) (hb : b < 890000) (hG : RegW w) (v1 : Int) (h0 : R32 v1) (o : Nat) (f : Nat → Int) (ho : w o = some (o + 1, lE G 1 f)) : HMT l yX0_rankIf cX0_rankIf 4 (some .int) [(0, 9, 12, 13)] 17 182 1170 G [.ref x, .int (iI (v1)), .ref o] w (QI G (fun z_ w_ => WRet G w x o (b + 1000) (aRnk z v1) z_ w_)) (fun _ _ _ => False) := by
  refine HMT.mk (by decide +kernel) (Nat.le_of_ble_eq_true rfl) ?_
  intro p9 e9 s9 m9 a9 b9 meth9 c9 ls X hret hlk hnm htab hl H hR
  have hx := X.1.1
  have hb := X.1.2.1
  have hl : lv_has ls 4 [(0, .ref x), (1, .int (iI (v1))), (2, .ref o)] := hl
  have hL : LK G [] := fun q h => absurd h List.not_mem_nil
  generalize ([] : List Loc) = locs at hL ⊢
  refine lv_aload_n hx hb dX0_rankIf_0 rfl (lv_at hl 2 rfl) ?_
  refine h_iconst hx hb dX0_rankIf_1 ?_
  refine lv_aload_n hx hb dX0_rankIf_2 rfl (lv_at hl 0 rfl) ?_
  refine lv_iload_n hx hb dX0_rankIf_3 rfl (lv_at hl 1 rfl) ?_
  -- call SpokenMarks.rankIf
  refine h_xI (h_xrunT X hR (cc_rankIf l G w hSt x z b h hok hb2 hb hG v1 h0) pn_yX1_rankIf (h.hx) q2434 q2435 q2436 q120 q2437 ⟨by decide, by decide⟩ hl.1 (Nat.le_of_ble_eq_true rfl) dX0_rankIf_4 ⟨by omega, by omega⟩) hL (fun xq_4 E_5 ce_ w_6 hx__7 H locs hR hL hce_ hcv_ hcl_ => ?_) (fun z_1 w_2 hp_3 H locs hR hL => ?_)
  ·
    have hC := hx__7
    obtain ⟨hm, hkx⟩ := mem1 hC.1
    subst hm
    refine h_xcatch X [] (0, 9, 12, 13) [] htab (fun z_ hz_ => absurd hz_ List.not_mem_nil) (by decide) (by decide) q2035 q224 hce_ hcv_ hcl_ ?_
    refine lv_astore_n (lv' := [(3, .ref xq_4), (0, .ref x), (1, .int (iI (v1))), (2, .ref o)]) hx hb dX0_rankIf_12 rfl hl (by decide) rfl (fun ls hl => ?_)
    refine h_iconst hx hb dX0_rankIf_13 ?_
    refine vx_ret ?_
    exact h_ireturn hx hb hlk hret hR hL rfl (WRet.n hC ho hkx (Or.inl rfl)) (by omega) (by omega) rfl rfl dX0_rankIf_14
  ·
    have hC := hp_3
    have ho1 := hC.2.2.2.1.2.2.1 _ _ _ ho
    refine W.eq (g2 := F0 m9 7 ls [.int (iI (c32 z_1)), .int (iI (0)), .ref o]) (by rw [c32_i]) ?_
    refine h_i2l hx hb dX0_rankIf_7 (c32_r _) ?_
    refine h_last X hR hL ho1 (Nat.succ_ne_zero _) (by omega) (by omega) dX0_rankIf_8 (fun w_8 ew_9 H locs hR hL => ?_)
    have hF_o_w_8 : w_8 o = some (o + 1, lE G 1 (zset f (Int.toNat 0) (c32 z_1))) := by rw [ew_9]; exact wset_eq _ _ _
    refine lv_goto (tgt := 15) hx hb dX0_rankIf_9 (by decide) ?_
    refine h_iconst hx hb dX0_rankIf_15 ?_
    refine vx_ret ?_
    exact h_ireturn hx hb hlk hret hR hL rfl (WRet.y hC ho ew_9 (zset_eq _ _ _)) (by omega) (by omega) rfl rfl dX0_rankIf_16

set_option maxHeartbeats 4000000 in
set_option maxRecDepth 100000 in
/-- placeIf -/
theorem ww_placeIf (l : Launch) (G : Gl) (w : Wd) (hSt : l.stackTraces = false) (x : Nat) (z : LSt) (b : Int) (h : CmA G w x z) (hok : LOk b z) (hb2 : 2200 ≤ b) (hb : b < 890000) (hG : RegW w) (v1 : Int) (h0 : R32 v1) (o : Nat) (f : Nat → Int) (ho : w o = some (o + 1, lE G 1 f)) : HMT l yX0_placeIf cX0_placeIf 4 (some .int) [(0, 9, 12, 13)] 18 182 1170 G [.ref x, .int (iI (v1)), .ref o] w (QI G (fun z_ w_ => WRet G w x o (b + 1000) (aPlc z v1) z_ w_)) (fun _ _ _ => False) := by
  refine HMT.mk (by decide +kernel) (Nat.le_of_ble_eq_true rfl) ?_
  intro p9 e9 s9 m9 a9 b9 meth9 c9 ls X hret hlk hnm htab hl H hR
  have hx := X.1.1
  have hb := X.1.2.1
  have hl : lv_has ls 4 [(0, .ref x), (1, .int (iI (v1))), (2, .ref o)] := hl
  have hL : LK G [] := fun q h => absurd h List.not_mem_nil
  generalize ([] : List Loc) = locs at hL ⊢
  refine lv_aload_n hx hb dX0_placeIf_0 rfl (lv_at hl 2 rfl) ?_
  refine h_iconst hx hb dX0_placeIf_1 ?_
  refine lv_aload_n hx hb dX0_placeIf_2 rfl (lv_at hl 0 rfl) ?_
  refine lv_iload_n hx hb dX0_placeIf_3 rfl (lv_at hl 1 rfl) ?_
  -- call SpokenMarks.placeIf
  refine h_xI (h_xrunT X hR (cc_placeIf l G w hSt x z b h hok hb2 hb hG v1 h0) pn_yX1_placeIf (h.hx) q2452 q2453 q2454 q120 q2455 ⟨by decide, by decide⟩ hl.1 (Nat.le_of_ble_eq_true rfl) dX0_placeIf_4 ⟨by omega, by omega⟩) hL (fun xq_4 E_5 ce_ w_6 hx__7 H locs hR hL hce_ hcv_ hcl_ => ?_) (fun z_1 w_2 hp_3 H locs hR hL => ?_)
  ·
    have hC := hx__7
    obtain ⟨hm, hkx⟩ := mem1 hC.1
    subst hm
    refine h_xcatch X [] (0, 9, 12, 13) [] htab (fun z_ hz_ => absurd hz_ List.not_mem_nil) (by decide) (by decide) q2035 q224 hce_ hcv_ hcl_ ?_
    refine lv_astore_n (lv' := [(3, .ref xq_4), (0, .ref x), (1, .int (iI (v1))), (2, .ref o)]) hx hb dX0_placeIf_12 rfl hl (by decide) rfl (fun ls hl => ?_)
    refine h_iconst hx hb dX0_placeIf_13 ?_
    refine vx_ret ?_
    exact h_ireturn hx hb hlk hret hR hL rfl (WRet.n hC ho hkx (Or.inl rfl)) (by omega) (by omega) rfl rfl dX0_placeIf_14
  ·
    have hC := hp_3
    have ho1 := hC.2.2.2.1.2.2.1 _ _ _ ho
    refine W.eq (g2 := F0 m9 7 ls [.int (iI (c32 z_1)), .int (iI (0)), .ref o]) (by rw [c32_i]) ?_
    refine h_i2l hx hb dX0_placeIf_7 (c32_r _) ?_
    refine h_last X hR hL ho1 (Nat.succ_ne_zero _) (by omega) (by omega) dX0_placeIf_8 (fun w_8 ew_9 H locs hR hL => ?_)
    have hF_o_w_8 : w_8 o = some (o + 1, lE G 1 (zset f (Int.toNat 0) (c32 z_1))) := by rw [ew_9]; exact wset_eq _ _ _
    refine lv_goto (tgt := 15) hx hb dX0_placeIf_9 (by decide) ?_
    refine h_iconst hx hb dX0_placeIf_15 ?_
    refine vx_ret ?_
    exact h_ireturn hx hb hlk hret hR hL rfl (WRet.y hC ho ew_9 (zset_eq _ _ _)) (by omega) (by omega) rfl rfl dX0_placeIf_16

set_option maxHeartbeats 4000000 in
set_option maxRecDepth 100000 in
/-- movesIf -/
theorem ww_movesIf (l : Launch) (G : Gl) (w : Wd) (hSt : l.stackTraces = false) (x : Nat) (z : LSt) (b : Int) (h : CmA G w x z) (hok : LOk b z) (hb2 : 2200 ≤ b) (hb : b < 890000) (hG : RegW w) (v1 : Int) (h0 : R32 v1) (o : Nat) (f : Nat → Int) (ho : w o = some (o + 1, lE G 1 f)) : HMT l yX0_movesIf cX0_movesIf 4 (some .int) [(0, 9, 12, 13)] 18 182 1170 G [.ref x, .int (iI (v1)), .ref o] w (QI G (fun z_ w_ => WRet G w x o (b + 1000) (aMov z v1) z_ w_)) (fun _ _ _ => False) := by
  refine HMT.mk (by decide +kernel) (Nat.le_of_ble_eq_true rfl) ?_
  intro p9 e9 s9 m9 a9 b9 meth9 c9 ls X hret hlk hnm htab hl H hR
  have hx := X.1.1
  have hb := X.1.2.1
  have hl : lv_has ls 4 [(0, .ref x), (1, .int (iI (v1))), (2, .ref o)] := hl
  have hL : LK G [] := fun q h => absurd h List.not_mem_nil
  generalize ([] : List Loc) = locs at hL ⊢
  refine lv_aload_n hx hb dX0_movesIf_0 rfl (lv_at hl 2 rfl) ?_
  refine h_iconst hx hb dX0_movesIf_1 ?_
  refine lv_aload_n hx hb dX0_movesIf_2 rfl (lv_at hl 0 rfl) ?_
  refine lv_iload_n hx hb dX0_movesIf_3 rfl (lv_at hl 1 rfl) ?_
  -- call SpokenMarks.movesIf
  refine h_xI (h_xrunT X hR (cc_movesIf l G w hSt x z b h hok hb2 hb hG v1 h0) pn_yX1_movesIf (h.hx) q2461 q2462 q2463 q120 q2464 ⟨by decide, by decide⟩ hl.1 (Nat.le_of_ble_eq_true rfl) dX0_movesIf_4 ⟨by omega, by omega⟩) hL (fun xq_4 E_5 ce_ w_6 hx__7 H locs hR hL hce_ hcv_ hcl_ => ?_) (fun z_1 w_2 hp_3 H locs hR hL => ?_)
  ·
    have hC := hx__7
    obtain ⟨hm, hkx⟩ := mem1 hC.1
    subst hm
    refine h_xcatch X [] (0, 9, 12, 13) [] htab (fun z_ hz_ => absurd hz_ List.not_mem_nil) (by decide) (by decide) q2035 q224 hce_ hcv_ hcl_ ?_
    refine lv_astore_n (lv' := [(3, .ref xq_4), (0, .ref x), (1, .int (iI (v1))), (2, .ref o)]) hx hb dX0_movesIf_12 rfl hl (by decide) rfl (fun ls hl => ?_)
    refine h_iconst hx hb dX0_movesIf_13 ?_
    refine vx_ret ?_
    exact h_ireturn hx hb hlk hret hR hL rfl (WRet.n hC ho hkx (Or.inl rfl)) (by omega) (by omega) rfl rfl dX0_movesIf_14
  ·
    have hC := hp_3
    have ho1 := hC.2.2.2.1.2.2.1 _ _ _ ho
    refine W.eq (g2 := F0 m9 7 ls [.int (iI (c32 z_1)), .int (iI (0)), .ref o]) (by rw [c32_i]) ?_
    refine h_i2l hx hb dX0_movesIf_7 (c32_r _) ?_
    refine h_last X hR hL ho1 (Nat.succ_ne_zero _) (by omega) (by omega) dX0_movesIf_8 (fun w_8 ew_9 H locs hR hL => ?_)
    have hF_o_w_8 : w_8 o = some (o + 1, lE G 1 (zset f (Int.toNat 0) (c32 z_1))) := by rw [ew_9]; exact wset_eq _ _ _
    refine lv_goto (tgt := 15) hx hb dX0_movesIf_9 (by decide) ?_
    refine h_iconst hx hb dX0_movesIf_15 ?_
    refine vx_ret ?_
    exact h_ireturn hx hb hlk hret hR hL rfl (WRet.y hC ho ew_9 (zset_eq _ _ _)) (by omega) (by omega) rfl rfl dX0_movesIf_16

set_option maxHeartbeats 4000000 in
set_option maxRecDepth 100000 in
/-- why -/
theorem ww_why (l : Launch) (G : Gl) (w : Wd) (hSt : l.stackTraces = false) (x : Nat) (z : LSt) (b : Int) (h : CmA G w x z) (hok : LOk b z) (hb2 : 2200 ≤ b) (hb : b < 890000) (hG : RegW w) (v1 : Int) (h0 : R32 v1) (o : Nat) (f : Nat → Int) (ho : w o = some (o + 1, lE G 1 f)) : HMT l yX0_why cX0_why 4 (some .int) [(0, 9, 12, 13)] 19 182 1170 G [.ref x, .int (iI (v1)), .ref o] w (QI G (fun z_ w_ => WRet G w x o (b + 1000) (aWhy z v1) z_ w_)) (fun _ _ _ => False) := by
  refine HMT.mk (by decide +kernel) (Nat.le_of_ble_eq_true rfl) ?_
  intro p9 e9 s9 m9 a9 b9 meth9 c9 ls X hret hlk hnm htab hl H hR
  have hx := X.1.1
  have hb := X.1.2.1
  have hl : lv_has ls 4 [(0, .ref x), (1, .int (iI (v1))), (2, .ref o)] := hl
  have hL : LK G [] := fun q h => absurd h List.not_mem_nil
  generalize ([] : List Loc) = locs at hL ⊢
  refine lv_aload_n hx hb dX0_why_0 rfl (lv_at hl 2 rfl) ?_
  refine h_iconst hx hb dX0_why_1 ?_
  refine lv_aload_n hx hb dX0_why_2 rfl (lv_at hl 0 rfl) ?_
  refine lv_iload_n hx hb dX0_why_3 rfl (lv_at hl 1 rfl) ?_
  -- call SpokenMarks.why
  refine h_xI (h_xrunT X hR (cc_why l G w hSt x z b h hok hb2 hb hG v1 h0) pn_yX1_why (h.hx) q2472 q2473 q2474 q120 q2475 ⟨by decide, by decide⟩ hl.1 (Nat.le_of_ble_eq_true rfl) dX0_why_4 ⟨by omega, by omega⟩) hL (fun xq_4 E_5 ce_ w_6 hx__7 H locs hR hL hce_ hcv_ hcl_ => ?_) (fun z_1 w_2 hp_3 H locs hR hL => ?_)
  ·
    have hC := hx__7
    obtain ⟨hm, hkx⟩ := mem1 hC.1
    subst hm
    refine h_xcatch X [] (0, 9, 12, 13) [] htab (fun z_ hz_ => absurd hz_ List.not_mem_nil) (by decide) (by decide) q2035 q224 hce_ hcv_ hcl_ ?_
    refine lv_astore_n (lv' := [(3, .ref xq_4), (0, .ref x), (1, .int (iI (v1))), (2, .ref o)]) hx hb dX0_why_12 rfl hl (by decide) rfl (fun ls hl => ?_)
    refine h_iconst hx hb dX0_why_13 ?_
    refine vx_ret ?_
    exact h_ireturn hx hb hlk hret hR hL rfl (WRet.n hC ho hkx (Or.inl rfl)) (by omega) (by omega) rfl rfl dX0_why_14
  ·
    have hC := hp_3
    have ho1 := hC.2.2.2.1.2.2.1 _ _ _ ho
    refine W.eq (g2 := F0 m9 7 ls [.int (iI (c32 z_1)), .int (iI (0)), .ref o]) (by rw [c32_i]) ?_
    refine h_i2l hx hb dX0_why_7 (c32_r _) ?_
    refine h_last X hR hL ho1 (Nat.succ_ne_zero _) (by omega) (by omega) dX0_why_8 (fun w_8 ew_9 H locs hR hL => ?_)
    have hF_o_w_8 : w_8 o = some (o + 1, lE G 1 (zset f (Int.toNat 0) (c32 z_1))) := by rw [ew_9]; exact wset_eq _ _ _
    refine lv_goto (tgt := 15) hx hb dX0_why_9 (by decide) ?_
    refine h_iconst hx hb dX0_why_15 ?_
    refine vx_ret ?_
    exact h_ireturn hx hb hlk hret hR hL rfl (WRet.y hC ho ew_9 (zset_eq _ _ _)) (by omega) (by omega) rfl rfl dX0_why_16

set_option maxHeartbeats 4000000 in
set_option maxRecDepth 100000 in
/-- filled -/
theorem ww_filled (l : Launch) (G : Gl) (w : Wd) (hSt : l.stackTraces = false) (x : Nat) (z : LSt) (b : Int) (h : CmA G w x z) (hok : LOk b z) (hb2 : 2200 ≤ b) (hb : b < 890000) (hG : RegW w) (v1 : Int) (h0 : R32 v1) (o : Nat) (f : Nat → UInt64) (ho : w o = some (o + 1, dE G 1 f)) : HMT l yX0_filled cX0_filled 4 (some .int) [(0, 9, 12, 25)] 11 1 6 G [.ref x, .int (iI (v1)), .ref o] w (QI G (fun z_ w_ => WRetD G w x o z v1 z_ w_)) (fun _ _ _ => False) := by
  refine HMT.mk (by decide +kernel) (Nat.le_of_ble_eq_true rfl) ?_
  intro p9 e9 s9 m9 a9 b9 meth9 c9 ls X hret hlk hnm htab hl H hR
  have hx := X.1.1
  have hb := X.1.2.1
  have hl : lv_has ls 4 [(0, .ref x), (1, .int (iI (v1))), (2, .ref o)] := hl
  have hL : LK G [] := fun q h => absurd h List.not_mem_nil
  generalize ([] : List Loc) = locs at hL ⊢
  refine lv_aload_n hx hb dX0_filled_0 rfl (lv_at hl 2 rfl) ?_
  refine h_iconst hx hb dX0_filled_1 ?_
  refine lv_aload_n hx hb dX0_filled_2 rfl (lv_at hl 0 rfl) ?_
  refine lv_iload_n hx hb dX0_filled_3 rfl (lv_at hl 1 rfl) ?_
  -- call SpokenMarks.filled
  refine h_xF (h_xrunV X hR (cc_filled l G w hSt x z b h hok hb2 hb hG v1 h0) pn_yX1_filled (h.hx) q2488 q2489 q2490 q120 q2491 ⟨by decide, by decide⟩ hl.1 (Nat.le_of_ble_eq_true rfl) dX0_filled_4 ⟨by omega, by omega⟩) hL (fun xq_4 E_5 ce_ w_6 hx__7 H locs hR hL hce_ hcv_ hcl_ => ?_) (fun z_1 w_2 hp_3 H locs hR hL => ?_)
  ·
    have hC := hx__7
    have hm : E_5 = "java/util/NoSuchElementException" := hC.2.1
    subst hm
    refine h_xcatch X [] (0, 9, 12, 25) [] htab (fun z_ hz_ => absurd hz_ List.not_mem_nil) (by decide) (by decide) q2273 q1366 hce_ hcv_ hcl_ ?_
    refine lv_astore_n (lv' := [(3, .ref xq_4), (0, .ref x), (1, .int (iI (v1))), (2, .ref o)]) hx hb dX0_filled_12 rfl hl (by decide) rfl (fun ls hl => ?_)
    refine h_iconst hx hb dX0_filled_13 ?_
    refine vx_ret ?_
    exact h_ireturn hx hb hlk hret hR hL rfl ⟨⟨Or.inr (Or.inl rfl), (if_neg hC.1).symm⟩, hC.2.2.1, hC.2.2.2.1.t, hC.2.2.2.2, ⟨f, hC.2.2.2.1.2.2.2 _ _ _ ho, fun q_ => absurd q_ (by decide)⟩, fun d_ g_ hd_ => hC.2.2.2.1.2.2.1 _ _ _ hd_⟩ (by omega) (by omega) rfl rfl dX0_filled_14
  ·
    have hC := hp_3
    obtain ⟨hcf, hvf, hAf, hKf, hGf⟩ := hp_3
    have ho1 := hKf.2.2.2 _ _ _ ho
    have hnf : NnF z_1 := by rw [hvf]; exact qFil_n hok.s v1
    refine lv_f2d hx hb dX0_filled_7 hnf.d.n ?_
    refine h_dast X hR hL ho1 (Nat.succ_ne_zero _) (by omega) (by omega) dX0_filled_8 (fun w_8 ew_9 H locs hR hL => ?_)
    have hF_o_w_8 : w_8 o = some (o + 1, dE G 1 (zset f (Int.toNat 0) (FP.f2d z_1))) := by rw [ew_9]; exact wset_eq _ _ _
    refine lv_goto (tgt := 15) hx hb dX0_filled_9 (by decide) ?_
    refine h_iconst hx hb dX0_filled_15 ?_
    refine vx_ret ?_
    exact h_ireturn hx hb hlk hret hR hL rfl (by rw [ew_9]; exact ⟨⟨Or.inl rfl, (if_pos hcf).symm⟩, CmS.outD hAf ho1 _, hKf.t.tr (Kt.outD ho1 _), hGf.set ho1 _, ⟨_, wset_eq _ _ _, fun _ => by rw [← hvf]; exact zset_eq _ _ _⟩, fun d_ g_ hd_ => (wset_ne _ (dne (hKf.2.2.1 _ _ _ hd_) ho1).symm).trans (hKf.2.2.1 _ _ _ hd_)⟩) (by omega) (by omega) rfl rfl dX0_filled_16

set_option maxHeartbeats 4000000 in
set_option maxRecDepth 100000 in
/-- add -/
theorem ww_add (l : Launch) (G : Gl) (w : Wd) (hSt : l.stackTraces = false) (x : Nat) (z : LSt) (b : Int) (h : CmA G w x z) (hok : LOk b z) (hb2 : 2200 ≤ b) (hb : b < 890000) (hG : RegW w) (v1 : Int) (v2 : Int) (h0 : R32 v1) (h1 : R32 v2) (o : Nat) (f : Nat → Int) (ho : w o = some (o + 1, lE G 1 f)) : HMT l yX0_add cX0_add 5 (some .int) [(0, 10, 13, 13)] 22 ((270 + (3 + 114 * 40))) ((1700 + (47 + 651 * 40))) G [.ref x, .int (iI (v1)), .int (iI (v2)), .ref o] w (QI G (fun z_ w_ => WRet G w x o (b + 1000) (aAdd z v1 v2) z_ w_)) (fun _ _ _ => False) := by
  refine HMT.mk (by decide +kernel) (Nat.le_of_ble_eq_true rfl) ?_
  intro p9 e9 s9 m9 a9 b9 meth9 c9 ls X hret hlk hnm htab hl H hR
  have hx := X.1.1
  have hb := X.1.2.1
  have hl : lv_has ls 5 [(0, .ref x), (1, .int (iI (v1))), (2, .int (iI (v2))), (3, .ref o)] := hl
  have hL : LK G [] := fun q h => absurd h List.not_mem_nil
  generalize ([] : List Loc) = locs at hL ⊢
  refine lv_aload_n hx hb dX0_add_0 rfl (lv_at hl 3 rfl) ?_
  refine h_iconst hx hb dX0_add_1 ?_
  refine lv_aload_n hx hb dX0_add_2 rfl (lv_at hl 0 rfl) ?_
  refine lv_iload_n hx hb dX0_add_3 rfl (lv_at hl 1 rfl) ?_
  refine lv_iload_n hx hb dX0_add_4 rfl (lv_at hl 2 rfl) ?_
  -- call SpokenMarks.add
  refine h_xI (h_xrunT X hR (cc_add l G w hSt x z b h hok hb2 hb hG v1 v2 h0 h1) pn_yX1_add (h.hx) q2495 q2496 q2497 q120 q2498 ⟨by decide, by decide⟩ hl.1 (Nat.le_of_ble_eq_true rfl) dX0_add_5 ⟨by omega, by omega⟩) hL (fun xq_4 E_5 ce_ w_6 hx__7 H locs hR hL hce_ hcv_ hcl_ => ?_) (fun z_1 w_2 hp_3 H locs hR hL => ?_)
  ·
    have hC := hx__7
    obtain ⟨hm, hkx⟩ := mem1 hC.1
    subst hm
    refine h_xcatch X [] (0, 10, 13, 13) [] htab (fun z_ hz_ => absurd hz_ List.not_mem_nil) (by decide) (by decide) q2035 q224 hce_ hcv_ hcl_ ?_
    refine lv_astore (lv' := [(4, .ref xq_4), (0, .ref x), (1, .int (iI (v1))), (2, .int (iI (v2))), (3, .ref o)]) hx hb dX0_add_13 hl (by decide) rfl (fun ls hl => ?_)
    refine h_iconst hx hb dX0_add_15 ?_
    refine vx_ret ?_
    exact h_ireturn hx hb hlk hret hR hL rfl (WRet.n hC ho hkx (Or.inl rfl)) (by omega) (by omega) rfl rfl dX0_add_16
  ·
    have hC := hp_3
    have ho1 := hC.2.2.2.1.2.2.1 _ _ _ ho
    refine W.eq (g2 := F0 m9 8 ls [.int (iI (c32 z_1)), .int (iI (0)), .ref o]) (by rw [c32_i]) ?_
    refine h_i2l hx hb dX0_add_8 (c32_r _) ?_
    refine h_last X hR hL ho1 (Nat.succ_ne_zero _) (by omega) (by omega) dX0_add_9 (fun w_8 ew_9 H locs hR hL => ?_)
    have hF_o_w_8 : w_8 o = some (o + 1, lE G 1 (zset f (Int.toNat 0) (c32 z_1))) := by rw [ew_9]; exact wset_eq _ _ _
    refine lv_goto (tgt := 17) hx hb dX0_add_10 (by decide) ?_
    refine h_iconst hx hb dX0_add_17 ?_
    refine vx_ret ?_
    exact h_ireturn hx hb hlk hret hR hL rfl (WRet.y hC ho ew_9 (zset_eq _ _ _)) (by omega) (by omega) rfl rfl dX0_add_18

set_option maxHeartbeats 4000000 in
set_option maxRecDepth 100000 in
/-- drop -/
theorem ww_drop (l : Launch) (G : Gl) (w : Wd) (hSt : l.stackTraces = false) (x : Nat) (z : LSt) (b : Int) (h : CmA G w x z) (hok : LOk b z) (hb2 : 2200 ≤ b) (hb : b < 890000) (hG : RegW w) (v1 : Int) (h0 : R32 v1) (o : Nat) (f : Nat → Int) (ho : w o = some (o + 1, lE G 1 f)) : HMT l yX0_drop cX0_drop 4 (some .int) [(0, 9, 12, 25)] 22 ((80 + (3 + 114 * 40))) ((520 + (47 + 651 * 40))) G [.ref x, .int (iI (v1)), .ref o] w (QI G (fun z_ w_ => WRet G w x o (b + 1000) (aDrp z v1) z_ w_)) (fun _ _ _ => False) := by
  refine HMT.mk (by decide +kernel) (Nat.le_of_ble_eq_true rfl) ?_
  intro p9 e9 s9 m9 a9 b9 meth9 c9 ls X hret hlk hnm htab hl H hR
  have hx := X.1.1
  have hb := X.1.2.1
  have hl : lv_has ls 4 [(0, .ref x), (1, .int (iI (v1))), (2, .ref o)] := hl
  have hL : LK G [] := fun q h => absurd h List.not_mem_nil
  generalize ([] : List Loc) = locs at hL ⊢
  refine lv_aload_n hx hb dX0_drop_0 rfl (lv_at hl 2 rfl) ?_
  refine h_iconst hx hb dX0_drop_1 ?_
  refine lv_aload_n hx hb dX0_drop_2 rfl (lv_at hl 0 rfl) ?_
  refine lv_iload_n hx hb dX0_drop_3 rfl (lv_at hl 1 rfl) ?_
  -- call SpokenMarks.drop
  refine h_xI (h_xrunV X hR (cc_drop l G w hSt x z b h hok hb2 hb hG v1 h0) pn_yX1_drop (h.hx) q2515 q2516 q2517 q120 q2518 ⟨by decide, by decide⟩ hl.1 (Nat.le_of_ble_eq_true rfl) dX0_drop_4 ⟨by omega, by omega⟩) hL (fun xq_4 E_5 ce_ w_6 hx__7 H locs hR hL hce_ hcv_ hcl_ => ?_) (fun z_1 w_2 hp_3 H locs hR hL => ?_)
  ·
    have hC := hx__7
    obtain ⟨hm, hkx⟩ := mem1 hC.1
    subst hm
    refine h_xcatch X [] (0, 9, 12, 25) [] htab (fun z_ hz_ => absurd hz_ List.not_mem_nil) (by decide) (by decide) q2273 q1366 hce_ hcv_ hcl_ ?_
    refine lv_astore_n (lv' := [(3, .ref xq_4), (0, .ref x), (1, .int (iI (v1))), (2, .ref o)]) hx hb dX0_drop_12 rfl hl (by decide) rfl (fun ls hl => ?_)
    refine h_iconst hx hb dX0_drop_13 ?_
    refine vx_ret ?_
    exact h_ireturn hx hb hlk hret hR hL rfl (WRet.n hC ho hkx (Or.inl rfl)) (by omega) (by omega) rfl rfl dX0_drop_14
  ·
    have hC := hp_3
    have ho1 := hC.2.2.2.1.2.2.1 _ _ _ ho
    refine W.eq (g2 := F0 m9 7 ls [.int (iI (c32 z_1)), .int (iI (0)), .ref o]) (by rw [c32_i]) ?_
    refine h_i2l hx hb dX0_drop_7 (c32_r _) ?_
    refine h_last X hR hL ho1 (Nat.succ_ne_zero _) (by omega) (by omega) dX0_drop_8 (fun w_8 ew_9 H locs hR hL => ?_)
    have hF_o_w_8 : w_8 o = some (o + 1, lE G 1 (zset f (Int.toNat 0) (c32 z_1))) := by rw [ew_9]; exact wset_eq _ _ _
    refine lv_goto (tgt := 15) hx hb dX0_drop_9 (by decide) ?_
    refine h_iconst hx hb dX0_drop_15 ?_
    refine vx_ret ?_
    exact h_ireturn hx hb hlk hret hR hL rfl (WRet.y hC ho ew_9 (zset_eq _ _ _)) (by omega) (by omega) rfl rfl dX0_drop_16

set_option maxHeartbeats 4000000 in
set_option maxRecDepth 100000 in
/-- say -/
theorem ww_say (l : Launch) (G : Gl) (w : Wd) (hSt : l.stackTraces = false) (x : Nat) (z : LSt) (b : Int) (h : CmA G w x z) (hok : LOk b z) (hb2 : 2200 ≤ b) (hb : b < 890000) (hG : RegW w) (v1 : Int) (h0 : R32 v1) (o : Nat) (f : Nat → Int) (ho : w o = some (o + 1, lE G 1 f)) : HMT l yX0_say cX0_say 4 (some .int) [(0, 9, 12, 13)] 22 ((110 + (3 + 114 * 40))) ((700 + (47 + 651 * 40))) G [.ref x, .int (iI (v1)), .ref o] w (QI G (fun z_ w_ => WRet G w x o (b + 1000) (aSay z v1) z_ w_)) (fun _ _ _ => False) := by
  refine HMT.mk (by decide +kernel) (Nat.le_of_ble_eq_true rfl) ?_
  intro p9 e9 s9 m9 a9 b9 meth9 c9 ls X hret hlk hnm htab hl H hR
  have hx := X.1.1
  have hb := X.1.2.1
  have hl : lv_has ls 4 [(0, .ref x), (1, .int (iI (v1))), (2, .ref o)] := hl
  have hL : LK G [] := fun q h => absurd h List.not_mem_nil
  generalize ([] : List Loc) = locs at hL ⊢
  refine lv_aload_n hx hb dX0_say_0 rfl (lv_at hl 2 rfl) ?_
  refine h_iconst hx hb dX0_say_1 ?_
  refine lv_aload_n hx hb dX0_say_2 rfl (lv_at hl 0 rfl) ?_
  refine lv_iload_n hx hb dX0_say_3 rfl (lv_at hl 1 rfl) ?_
  -- call SpokenMarks.say
  refine h_xI (h_xrunT X hR (cc_say l G w hSt x z b h hok hb2 hb hG v1 h0) pn_yX1_say (h.hx) q2532 q2533 q2534 q120 q2535 ⟨by decide, by decide⟩ hl.1 (Nat.le_of_ble_eq_true rfl) dX0_say_4 ⟨by omega, by omega⟩) hL (fun xq_4 E_5 ce_ w_6 hx__7 H locs hR hL hce_ hcv_ hcl_ => ?_) (fun z_1 w_2 hp_3 H locs hR hL => ?_)
  ·
    have hC := hx__7
    obtain ⟨hm, hkx⟩ := mem1 hC.1
    subst hm
    refine h_xcatch X [] (0, 9, 12, 13) [] htab (fun z_ hz_ => absurd hz_ List.not_mem_nil) (by decide) (by decide) q2035 q224 hce_ hcv_ hcl_ ?_
    refine lv_astore_n (lv' := [(3, .ref xq_4), (0, .ref x), (1, .int (iI (v1))), (2, .ref o)]) hx hb dX0_say_12 rfl hl (by decide) rfl (fun ls hl => ?_)
    refine h_iconst hx hb dX0_say_13 ?_
    refine vx_ret ?_
    exact h_ireturn hx hb hlk hret hR hL rfl (WRet.n hC ho hkx (Or.inl rfl)) (by omega) (by omega) rfl rfl dX0_say_14
  ·
    have hC := hp_3
    have ho1 := hC.2.2.2.1.2.2.1 _ _ _ ho
    refine W.eq (g2 := F0 m9 7 ls [.int (iI (c32 z_1)), .int (iI (0)), .ref o]) (by rw [c32_i]) ?_
    refine h_i2l hx hb dX0_say_7 (c32_r _) ?_
    refine h_last X hR hL ho1 (Nat.succ_ne_zero _) (by omega) (by omega) dX0_say_8 (fun w_8 ew_9 H locs hR hL => ?_)
    have hF_o_w_8 : w_8 o = some (o + 1, lE G 1 (zset f (Int.toNat 0) (c32 z_1))) := by rw [ew_9]; exact wset_eq _ _ _
    refine lv_goto (tgt := 15) hx hb dX0_say_9 (by decide) ?_
    refine h_iconst hx hb dX0_say_15 ?_
    refine vx_ret ?_
    exact h_ireturn hx hb hlk hret hR hL rfl (WRet.y hC ho ew_9 (zset_eq _ _ _)) (by omega) (by omega) rfl rfl dX0_say_16

set_option maxHeartbeats 4000000 in
set_option maxRecDepth 100000 in
/-- unsay -/
theorem ww_unsay (l : Launch) (G : Gl) (w : Wd) (hSt : l.stackTraces = false) (x : Nat) (z : LSt) (b : Int) (h : CmA G w x z) (hok : LOk b z) (hb2 : 2200 ≤ b) (hb : b < 890000) (hG : RegW w) (v1 : Int) (h0 : R32 v1) (o : Nat) (f : Nat → Int) (ho : w o = some (o + 1, lE G 1 f)) : HMT l yX0_unsay cX0_unsay 4 (some .int) [(0, 9, 12, 25)] 22 ((80 + (3 + 114 * 40))) ((520 + (47 + 651 * 40))) G [.ref x, .int (iI (v1)), .ref o] w (QI G (fun z_ w_ => WRet G w x o (b + 1000) (aUns z v1) z_ w_)) (fun _ _ _ => False) := by
  refine HMT.mk (by decide +kernel) (Nat.le_of_ble_eq_true rfl) ?_
  intro p9 e9 s9 m9 a9 b9 meth9 c9 ls X hret hlk hnm htab hl H hR
  have hx := X.1.1
  have hb := X.1.2.1
  have hl : lv_has ls 4 [(0, .ref x), (1, .int (iI (v1))), (2, .ref o)] := hl
  have hL : LK G [] := fun q h => absurd h List.not_mem_nil
  generalize ([] : List Loc) = locs at hL ⊢
  refine lv_aload_n hx hb dX0_unsay_0 rfl (lv_at hl 2 rfl) ?_
  refine h_iconst hx hb dX0_unsay_1 ?_
  refine lv_aload_n hx hb dX0_unsay_2 rfl (lv_at hl 0 rfl) ?_
  refine lv_iload_n hx hb dX0_unsay_3 rfl (lv_at hl 1 rfl) ?_
  -- call SpokenMarks.unsay
  refine h_xI (h_xrunV X hR (cc_unsay l G w hSt x z b h hok hb2 hb hG v1 h0) pn_yX1_unsay (h.hx) q2550 q2551 q2552 q120 q2553 ⟨by decide, by decide⟩ hl.1 (Nat.le_of_ble_eq_true rfl) dX0_unsay_4 ⟨by omega, by omega⟩) hL (fun xq_4 E_5 ce_ w_6 hx__7 H locs hR hL hce_ hcv_ hcl_ => ?_) (fun z_1 w_2 hp_3 H locs hR hL => ?_)
  ·
    have hC := hx__7
    obtain ⟨hm, hkx⟩ := mem1 hC.1
    subst hm
    refine h_xcatch X [] (0, 9, 12, 25) [] htab (fun z_ hz_ => absurd hz_ List.not_mem_nil) (by decide) (by decide) q2273 q1366 hce_ hcv_ hcl_ ?_
    refine lv_astore_n (lv' := [(3, .ref xq_4), (0, .ref x), (1, .int (iI (v1))), (2, .ref o)]) hx hb dX0_unsay_12 rfl hl (by decide) rfl (fun ls hl => ?_)
    refine h_iconst hx hb dX0_unsay_13 ?_
    refine vx_ret ?_
    exact h_ireturn hx hb hlk hret hR hL rfl (WRet.n hC ho hkx (Or.inl rfl)) (by omega) (by omega) rfl rfl dX0_unsay_14
  ·
    have hC := hp_3
    have ho1 := hC.2.2.2.1.2.2.1 _ _ _ ho
    refine W.eq (g2 := F0 m9 7 ls [.int (iI (c32 z_1)), .int (iI (0)), .ref o]) (by rw [c32_i]) ?_
    refine h_i2l hx hb dX0_unsay_7 (c32_r _) ?_
    refine h_last X hR hL ho1 (Nat.succ_ne_zero _) (by omega) (by omega) dX0_unsay_8 (fun w_8 ew_9 H locs hR hL => ?_)
    have hF_o_w_8 : w_8 o = some (o + 1, lE G 1 (zset f (Int.toNat 0) (c32 z_1))) := by rw [ew_9]; exact wset_eq _ _ _
    refine lv_goto (tgt := 15) hx hb dX0_unsay_9 (by decide) ?_
    refine h_iconst hx hb dX0_unsay_15 ?_
    refine vx_ret ?_
    exact h_ireturn hx hb hlk hret hR hL rfl (WRet.y hC ho ew_9 (zset_eq _ _ _)) (by omega) (by omega) rfl rfl dX0_unsay_16

set_option maxHeartbeats 4000000 in
set_option maxRecDepth 100000 in
/-- setWidth -/
theorem ww_setWidth (l : Launch) (G : Gl) (w : Wd) (hSt : l.stackTraces = false) (x : Nat) (z : LSt) (b : Int) (h : CmA G w x z) (hok : LOk b z) (hb2 : 2200 ≤ b) (hb : b < 890000) (hG : RegW w) (v1 : Int) (v2 : Int) (h0 : R32 v1) (h1 : R32 v2) (o : Nat) (f : Nat → Int) (ho : w o = some (o + 1, lE G 1 f)) : HMT l yX0_setWidth cX0_setWidth 5 (some .int) [(0, 10, 13, 25), (0, 10, 17, 13)] 22 ((80 + (3 + 114 * 40))) ((520 + (47 + 651 * 40))) G [.ref x, .int (iI (v1)), .int (iI (v2)), .ref o] w (QI G (fun z_ w_ => WRet G w x o (b + 1000) (aWid z v1 v2) z_ w_)) (fun _ _ _ => False) := by
  refine HMT.mk (by decide +kernel) (Nat.le_of_ble_eq_true rfl) ?_
  intro p9 e9 s9 m9 a9 b9 meth9 c9 ls X hret hlk hnm htab hl H hR
  have hx := X.1.1
  have hb := X.1.2.1
  have hl : lv_has ls 5 [(0, .ref x), (1, .int (iI (v1))), (2, .int (iI (v2))), (3, .ref o)] := hl
  have hL : LK G [] := fun q h => absurd h List.not_mem_nil
  generalize ([] : List Loc) = locs at hL ⊢
  refine lv_aload_n hx hb dX0_setWidth_0 rfl (lv_at hl 3 rfl) ?_
  refine h_iconst hx hb dX0_setWidth_1 ?_
  refine lv_aload_n hx hb dX0_setWidth_2 rfl (lv_at hl 0 rfl) ?_
  refine lv_iload_n hx hb dX0_setWidth_3 rfl (lv_at hl 1 rfl) ?_
  refine lv_iload_n hx hb dX0_setWidth_4 rfl (lv_at hl 2 rfl) ?_
  -- call SpokenMarks.setWidth
  refine h_xI (h_xrunV X hR (cc_setWidth l G w hSt x z b h hok hb2 hb hG v1 v2 h0 h1) pn_yX1_setWidth (h.hx) q2567 q2568 q2569 q120 q2570 ⟨by decide, by decide⟩ hl.1 (Nat.le_of_ble_eq_true rfl) dX0_setWidth_5 ⟨by omega, by omega⟩) hL (fun xq_4 E_5 ce_ w_6 hx__7 H locs hR hL hce_ hcv_ hcl_ => ?_) (fun z_1 w_2 hp_3 H locs hR hL => ?_)
  ·
    have hC := hx__7
    rcases mem2 hC.1 with ⟨hm, hkx⟩ | ⟨hm, hkx⟩
    ·
      subst hm
      refine h_xcatch X [] (0, 10, 13, 25) [(0, 10, 17, 13)] htab (fun z_ hz_ => absurd hz_ List.not_mem_nil) (by decide) (by decide) q2273 q1366 hce_ hcv_ hcl_ ?_
      refine lv_astore (lv' := [(4, .ref xq_4), (0, .ref x), (1, .int (iI (v1))), (2, .int (iI (v2))), (3, .ref o)]) hx hb dX0_setWidth_13 hl (by decide) rfl (fun ls hl => ?_)
      refine h_iconst hx hb dX0_setWidth_15 ?_
      refine vx_ret ?_
      exact h_ireturn hx hb hlk hret hR hL rfl (WRet.n hC ho hkx (Or.inl rfl)) (by omega) (by omega) rfl rfl dX0_setWidth_16
    subst hm
    refine h_xcatch X [(0, 10, 13, 25)] (0, 10, 17, 13) [] htab (fun z_ hz_ => by rw [List.mem_singleton.mp hz_]; exact ⟨by decide, "java/util/NoSuchElementException", q2273, kk_N X.2 [false, true, false, true, false, false, false, true, false, true, true] rfl⟩) (by decide) (by decide) q2035 q224 hce_ hcv_ hcl_ ?_
    refine lv_astore (lv' := [(4, .ref xq_4), (0, .ref x), (1, .int (iI (v1))), (2, .int (iI (v2))), (3, .ref o)]) hx hb dX0_setWidth_17 hl (by decide) rfl (fun ls hl => ?_)
    refine h_iconst hx hb dX0_setWidth_19 ?_
    refine vx_ret ?_
    exact h_ireturn hx hb hlk hret hR hL rfl (WRet.n hC ho hkx (Or.inr rfl)) (by omega) (by omega) rfl rfl dX0_setWidth_20
  ·
    have hC := hp_3
    have ho1 := hC.2.2.2.1.2.2.1 _ _ _ ho
    refine W.eq (g2 := F0 m9 8 ls [.int (iI (c32 z_1)), .int (iI (0)), .ref o]) (by rw [c32_i]) ?_
    refine h_i2l hx hb dX0_setWidth_8 (c32_r _) ?_
    refine h_last X hR hL ho1 (Nat.succ_ne_zero _) (by omega) (by omega) dX0_setWidth_9 (fun w_8 ew_9 H locs hR hL => ?_)
    have hF_o_w_8 : w_8 o = some (o + 1, lE G 1 (zset f (Int.toNat 0) (c32 z_1))) := by rw [ew_9]; exact wset_eq _ _ _
    refine lv_goto (tgt := 21) hx hb dX0_setWidth_10 (by decide) ?_
    refine h_iconst hx hb dX0_setWidth_21 ?_
    refine vx_ret ?_
    exact h_ireturn hx hb hlk hret hR hL rfl (WRet.y hC ho ew_9 (zset_eq _ _ _)) (by omega) (by omega) rfl rfl dX0_setWidth_22

set_option maxHeartbeats 4000000 in
set_option maxRecDepth 100000 in
/-- setBound -/
theorem ww_setBound (l : Launch) (G : Gl) (w : Wd) (hSt : l.stackTraces = false) (x : Nat) (z : LSt) (b : Int) (h : CmA G w x z) (hok : LOk b z) (hb2 : 2200 ≤ b) (hb : b < 890000) (hG : RegW w) (v1 : Int) (v2 : Int) (h0 : R32 v1) (h1 : R32 v2) (o : Nat) (f : Nat → Int) (ho : w o = some (o + 1, lE G 1 f)) : HMT l yX0_setBound cX0_setBound 5 (some .int) [(0, 10, 13, 25), (0, 10, 17, 13)] 22 ((80 + (3 + 114 * 40))) ((520 + (47 + 651 * 40))) G [.ref x, .int (iI (v1)), .int (iI (v2)), .ref o] w (QI G (fun z_ w_ => WRet G w x o (b + 1000) (aBnd z v1 v2) z_ w_)) (fun _ _ _ => False) := by
  refine HMT.mk (by decide +kernel) (Nat.le_of_ble_eq_true rfl) ?_
  intro p9 e9 s9 m9 a9 b9 meth9 c9 ls X hret hlk hnm htab hl H hR
  have hx := X.1.1
  have hb := X.1.2.1
  have hl : lv_has ls 5 [(0, .ref x), (1, .int (iI (v1))), (2, .int (iI (v2))), (3, .ref o)] := hl
  have hL : LK G [] := fun q h => absurd h List.not_mem_nil
  generalize ([] : List Loc) = locs at hL ⊢
  refine lv_aload_n hx hb dX0_setBound_0 rfl (lv_at hl 3 rfl) ?_
  refine h_iconst hx hb dX0_setBound_1 ?_
  refine lv_aload_n hx hb dX0_setBound_2 rfl (lv_at hl 0 rfl) ?_
  refine lv_iload_n hx hb dX0_setBound_3 rfl (lv_at hl 1 rfl) ?_
  refine lv_iload_n hx hb dX0_setBound_4 rfl (lv_at hl 2 rfl) ?_
  -- call SpokenMarks.setBound
  refine h_xI (h_xrunV X hR (cc_setBound l G w hSt x z b h hok hb2 hb hG v1 v2 h0 h1) pn_yX1_setBound (h.hx) q2587 q2588 q2589 q120 q2590 ⟨by decide, by decide⟩ hl.1 (Nat.le_of_ble_eq_true rfl) dX0_setBound_5 ⟨by omega, by omega⟩) hL (fun xq_4 E_5 ce_ w_6 hx__7 H locs hR hL hce_ hcv_ hcl_ => ?_) (fun z_1 w_2 hp_3 H locs hR hL => ?_)
  ·
    have hC := hx__7
    rcases mem2 hC.1 with ⟨hm, hkx⟩ | ⟨hm, hkx⟩
    ·
      subst hm
      refine h_xcatch X [] (0, 10, 13, 25) [(0, 10, 17, 13)] htab (fun z_ hz_ => absurd hz_ List.not_mem_nil) (by decide) (by decide) q2273 q1366 hce_ hcv_ hcl_ ?_
      refine lv_astore (lv' := [(4, .ref xq_4), (0, .ref x), (1, .int (iI (v1))), (2, .int (iI (v2))), (3, .ref o)]) hx hb dX0_setBound_13 hl (by decide) rfl (fun ls hl => ?_)
      refine h_iconst hx hb dX0_setBound_15 ?_
      refine vx_ret ?_
      exact h_ireturn hx hb hlk hret hR hL rfl (WRet.n hC ho hkx (Or.inl rfl)) (by omega) (by omega) rfl rfl dX0_setBound_16
    subst hm
    refine h_xcatch X [(0, 10, 13, 25)] (0, 10, 17, 13) [] htab (fun z_ hz_ => by rw [List.mem_singleton.mp hz_]; exact ⟨by decide, "java/util/NoSuchElementException", q2273, kk_N X.2 [false, true, false, true, false, false, false, true, false, true, true] rfl⟩) (by decide) (by decide) q2035 q224 hce_ hcv_ hcl_ ?_
    refine lv_astore (lv' := [(4, .ref xq_4), (0, .ref x), (1, .int (iI (v1))), (2, .int (iI (v2))), (3, .ref o)]) hx hb dX0_setBound_17 hl (by decide) rfl (fun ls hl => ?_)
    refine h_iconst hx hb dX0_setBound_19 ?_
    refine vx_ret ?_
    exact h_ireturn hx hb hlk hret hR hL rfl (WRet.n hC ho hkx (Or.inr rfl)) (by omega) (by omega) rfl rfl dX0_setBound_20
  ·
    have hC := hp_3
    have ho1 := hC.2.2.2.1.2.2.1 _ _ _ ho
    refine W.eq (g2 := F0 m9 8 ls [.int (iI (c32 z_1)), .int (iI (0)), .ref o]) (by rw [c32_i]) ?_
    refine h_i2l hx hb dX0_setBound_8 (c32_r _) ?_
    refine h_last X hR hL ho1 (Nat.succ_ne_zero _) (by omega) (by omega) dX0_setBound_9 (fun w_8 ew_9 H locs hR hL => ?_)
    have hF_o_w_8 : w_8 o = some (o + 1, lE G 1 (zset f (Int.toNat 0) (c32 z_1))) := by rw [ew_9]; exact wset_eq _ _ _
    refine lv_goto (tgt := 21) hx hb dX0_setBound_10 (by decide) ?_
    refine h_iconst hx hb dX0_setBound_21 ?_
    refine vx_ret ?_
    exact h_ireturn hx hb hlk hret hR hL rfl (WRet.y hC ho ew_9 (zset_eq _ _ _)) (by omega) (by omega) rfl rfl dX0_setBound_22

set_option maxHeartbeats 4000000 in
set_option maxRecDepth 100000 in
/-- play -/
theorem ww_play (l : Launch) (G : Gl) (w : Wd) (hSt : l.stackTraces = false) (x : Nat) (z : LSt) (b : Int) (h : CmA G w x z) (hok : LOk b z) (hb2 : 2200 ≤ b) (hb : b < 890000) (hG : RegW w) (v1 : Int) (h0 : R32 v1) (o : Nat) (f : Nat → Int) (ho : w o = some (o + 1, lE G 1 f)) : HMT l yX0_play cX0_play 4 (some .int) [(0, 9, 12, 13)] 24 ((4450 + 1150 * (zB z).length)) ((28100 + 6600 * (zB z).length)) G [.ref x, .int (iI (v1)), .ref o] w (QI G (fun z_ w_ => WRet G w x o (b + 1000) (aPla z v1) z_ w_)) (fun _ _ _ => False) := by
  refine HMT.mk (by decide +kernel) (Nat.le_of_ble_eq_true rfl) ?_
  intro p9 e9 s9 m9 a9 b9 meth9 c9 ls X hret hlk hnm htab hl H hR
  have hx := X.1.1
  have hb := X.1.2.1
  have hl : lv_has ls 4 [(0, .ref x), (1, .int (iI (v1))), (2, .ref o)] := hl
  have hL : LK G [] := fun q h => absurd h List.not_mem_nil
  generalize ([] : List Loc) = locs at hL ⊢
  refine lv_aload_n hx hb dX0_play_0 rfl (lv_at hl 2 rfl) ?_
  refine h_iconst hx hb dX0_play_1 ?_
  refine lv_aload_n hx hb dX0_play_2 rfl (lv_at hl 0 rfl) ?_
  refine lv_iload_n hx hb dX0_play_3 rfl (lv_at hl 1 rfl) ?_
  -- call SpokenMarks.play
  refine h_xI (h_xrunT X hR (cc_play l G w hSt x z b h hok hb2 hb hG v1 h0) pn_yX1_play (h.hx) q2607 q2608 q2609 q120 q2610 ⟨by decide, by decide⟩ hl.1 (Nat.le_of_ble_eq_true rfl) dX0_play_4 ⟨by omega, by omega⟩) hL (fun xq_4 E_5 ce_ w_6 hx__7 H locs hR hL hce_ hcv_ hcl_ => ?_) (fun z_1 w_2 hp_3 H locs hR hL => ?_)
  ·
    have hC := hx__7
    obtain ⟨hm, hkx⟩ := mem1 hC.1
    subst hm
    refine h_xcatch X [] (0, 9, 12, 13) [] htab (fun z_ hz_ => absurd hz_ List.not_mem_nil) (by decide) (by decide) q2035 q224 hce_ hcv_ hcl_ ?_
    refine lv_astore_n (lv' := [(3, .ref xq_4), (0, .ref x), (1, .int (iI (v1))), (2, .ref o)]) hx hb dX0_play_12 rfl hl (by decide) rfl (fun ls hl => ?_)
    refine h_iconst hx hb dX0_play_13 ?_
    refine vx_ret ?_
    exact h_ireturn hx hb hlk hret hR hL rfl (WRet.n hC ho hkx (Or.inl rfl)) (by omega) (by omega) rfl rfl dX0_play_14
  ·
    have hC := hp_3
    have ho1 := hC.2.2.2.1.2.2.1 _ _ _ ho
    refine W.eq (g2 := F0 m9 7 ls [.int (iI (c32 z_1)), .int (iI (0)), .ref o]) (by rw [c32_i]) ?_
    refine h_i2l hx hb dX0_play_7 (c32_r _) ?_
    refine h_last X hR hL ho1 (Nat.succ_ne_zero _) (by omega) (by omega) dX0_play_8 (fun w_8 ew_9 H locs hR hL => ?_)
    have hF_o_w_8 : w_8 o = some (o + 1, lE G 1 (zset f (Int.toNat 0) (c32 z_1))) := by rw [ew_9]; exact wset_eq _ _ _
    refine lv_goto (tgt := 15) hx hb dX0_play_9 (by decide) ?_
    refine h_iconst hx hb dX0_play_15 ?_
    refine vx_ret ?_
    exact h_ireturn hx hb hlk hret hR hL rfl (WRet.y hC ho ew_9 (zset_eq _ _ _)) (by omega) (by omega) rfl rfl dX0_play_16

set_option maxHeartbeats 4000000 in
set_option maxRecDepth 100000 in
/-- format -/
theorem ww_format (l : Launch) (G : Gl) (w : Wd) (hSt : l.stackTraces = false) (x : Nat) (z : LSt) (b : Int) (h : CmA G w x z) (hok : LOk b z) (hb2 : 2200 ≤ b) (hb : b < 890000) (hG : RegW w) (v1 : Int) (h0 : R32 v1) (o : Nat) (f : Nat → Int) (ho : w o = some (o + 1, lE G 1 f)) : HMT l yX0_format cX0_format 4 (some .int) [(0, 9, 12, 25)] 11 40 4600 G [.ref x, .int (iI (v1)), .ref o] w (QI G (fun z_ w_ => WRet G w x o (b + 1000) (aFmt z v1) z_ w_)) (fun _ _ _ => False) := by
  refine HMT.mk (by decide +kernel) (Nat.le_of_ble_eq_true rfl) ?_
  intro p9 e9 s9 m9 a9 b9 meth9 c9 ls X hret hlk hnm htab hl H hR
  have hx := X.1.1
  have hb := X.1.2.1
  have hl : lv_has ls 4 [(0, .ref x), (1, .int (iI (v1))), (2, .ref o)] := hl
  have hL : LK G [] := fun q h => absurd h List.not_mem_nil
  generalize ([] : List Loc) = locs at hL ⊢
  refine lv_aload_n hx hb dX0_format_0 rfl (lv_at hl 2 rfl) ?_
  refine h_iconst hx hb dX0_format_1 ?_
  refine lv_aload_n hx hb dX0_format_2 rfl (lv_at hl 0 rfl) ?_
  refine lv_iload_n hx hb dX0_format_3 rfl (lv_at hl 1 rfl) ?_
  -- call SpokenMarks.format
  refine h_xI (h_xrunV X hR (cc_format l G w hSt x z b h hok hb2 hb hG v1 h0) pn_yX1_format (h.hx) q2698 q2699 q2700 q120 q2701 ⟨by decide, by decide⟩ hl.1 (Nat.le_of_ble_eq_true rfl) dX0_format_4 ⟨by omega, by omega⟩) hL (fun xq_4 E_5 ce_ w_6 hx__7 H locs hR hL hce_ hcv_ hcl_ => ?_) (fun z_1 w_2 hp_3 H locs hR hL => ?_)
  ·
    have hC := hx__7
    obtain ⟨hm, hkx⟩ := mem1 hC.1
    subst hm
    refine h_xcatch X [] (0, 9, 12, 25) [] htab (fun z_ hz_ => absurd hz_ List.not_mem_nil) (by decide) (by decide) q2273 q1366 hce_ hcv_ hcl_ ?_
    refine lv_astore_n (lv' := [(3, .ref xq_4), (0, .ref x), (1, .int (iI (v1))), (2, .ref o)]) hx hb dX0_format_12 rfl hl (by decide) rfl (fun ls hl => ?_)
    refine h_iconst hx hb dX0_format_13 ?_
    refine vx_ret ?_
    exact h_ireturn hx hb hlk hret hR hL rfl (WRet.n hC ho hkx (Or.inl rfl)) (by omega) (by omega) rfl rfl dX0_format_14
  ·
    have hC := hp_3
    have ho1 := hC.2.2.2.1.2.2.1 _ _ _ ho
    refine W.eq (g2 := F0 m9 7 ls [.int (iI (c32 z_1)), .int (iI (0)), .ref o]) (by rw [c32_i]) ?_
    refine h_i2l hx hb dX0_format_7 (c32_r _) ?_
    refine h_last X hR hL ho1 (Nat.succ_ne_zero _) (by omega) (by omega) dX0_format_8 (fun w_8 ew_9 H locs hR hL => ?_)
    have hF_o_w_8 : w_8 o = some (o + 1, lE G 1 (zset f (Int.toNat 0) (c32 z_1))) := by rw [ew_9]; exact wset_eq _ _ _
    refine lv_goto (tgt := 15) hx hb dX0_format_9 (by decide) ?_
    refine h_iconst hx hb dX0_format_15 ?_
    refine vx_ret ?_
    exact h_ireturn hx hb hlk hret hR hL rfl (WRet.y hC ho ew_9 (zset_eq _ _ _)) (by omega) (by omega) rfl rfl dX0_format_16

set_option maxHeartbeats 4000000 in
set_option maxRecDepth 100000 in
/-- load -/
theorem ww_loadX (l : Launch) (G : Gl) (w : Wd) (hSt : l.stackTraces = false) (x : Nat) (z : LSt) (b : Int) (h : CmA G w x z) (hok : LOk b z) (hb2 : 2200 ≤ b) (hb : b < 890000) (hG : RegW w) (v1 : Int) (h0 : R32 v1) (hng : ¬ gOk (zB z) v1) (o : Nat) (f : Nat → Int) (ho : w o = some (o + 1, lE G 1 f)) : HMT l yX0_load cX0_load 4 (some .int) [(0, 9, 12, 13)] 23 1 6 G [.ref x, .int (iI (v1)), .ref o] w (QI G (fun z_ w_ => WRet G w x o (b + 1000) (aLod z v1) z_ w_)) (fun _ _ _ => False) := by
  refine HMT.mk (by decide +kernel) (Nat.le_of_ble_eq_true rfl) ?_
  intro p9 e9 s9 m9 a9 b9 meth9 c9 ls X hret hlk hnm htab hl H hR
  have hx := X.1.1
  have hb := X.1.2.1
  have hl : lv_has ls 4 [(0, .ref x), (1, .int (iI (v1))), (2, .ref o)] := hl
  have hL : LK G [] := fun q h => absurd h List.not_mem_nil
  generalize ([] : List Loc) = locs at hL ⊢
  refine lv_aload_n hx hb dX0_load_0 rfl (lv_at hl 2 rfl) ?_
  refine h_iconst hx hb dX0_load_1 ?_
  refine lv_aload_n hx hb dX0_load_2 rfl (lv_at hl 0 rfl) ?_
  refine lv_iload_n hx hb dX0_load_3 rfl (lv_at hl 1 rfl) ?_
  -- call SpokenMarks.load
  refine h_xI (h_xrunT X hR (cc_loadX l G w hSt x z b h hok hb2 hb hG v1 h0 hng) pn_yX1_load (h.hx) q2036 q2037 q2038 q120 q2039 ⟨by decide, by decide⟩ hl.1 (Nat.le_of_ble_eq_true rfl) dX0_load_4 ⟨by omega, by omega⟩) hL (fun xq_4 E_5 ce_ w_6 hx__7 H locs hR hL hce_ hcv_ hcl_ => ?_) (fun z_1 w_2 hp_3 H locs hR hL => ?_)
  ·
    have hC := hx__7
    obtain ⟨hm, hkx⟩ := mem1 hC.1
    subst hm
    refine h_xcatch X [] (0, 9, 12, 13) [] htab (fun z_ hz_ => absurd hz_ List.not_mem_nil) (by decide) (by decide) q2035 q224 hce_ hcv_ hcl_ ?_
    refine lv_astore_n (lv' := [(3, .ref xq_4), (0, .ref x), (1, .int (iI (v1))), (2, .ref o)]) hx hb dX0_load_12 rfl hl (by decide) rfl (fun ls hl => ?_)
    refine h_iconst hx hb dX0_load_13 ?_
    refine vx_ret ?_
    exact h_ireturn hx hb hlk hret hR hL rfl (WRet.n hC ho hkx (Or.inl rfl)) (by omega) (by omega) rfl rfl dX0_load_14
  ·
    have hC := hp_3
    have ho1 := hC.2.2.2.1.2.2.1 _ _ _ ho
    refine W.eq (g2 := F0 m9 7 ls [.int (iI (c32 z_1)), .int (iI (0)), .ref o]) (by rw [c32_i]) ?_
    refine h_i2l hx hb dX0_load_7 (c32_r _) ?_
    refine h_last X hR hL ho1 (Nat.succ_ne_zero _) (by omega) (by omega) dX0_load_8 (fun w_8 ew_9 H locs hR hL => ?_)
    have hF_o_w_8 : w_8 o = some (o + 1, lE G 1 (zset f (Int.toNat 0) (c32 z_1))) := by rw [ew_9]; exact wset_eq _ _ _
    refine lv_goto (tgt := 15) hx hb dX0_load_9 (by decide) ?_
    refine h_iconst hx hb dX0_load_15 ?_
    refine vx_ret ?_
    exact h_ireturn hx hb hlk hret hR hL rfl (WRet.y hC ho ew_9 (zset_eq _ _ _)) (by omega) (by omega) rfl rfl dX0_load_16

set_option maxHeartbeats 4000000 in
set_option maxRecDepth 100000 in
/-- play -/
theorem ww_playX (l : Launch) (G : Gl) (w : Wd) (hSt : l.stackTraces = false) (x : Nat) (z : LSt) (b : Int) (h : CmA G w x z) (hok : LOk b z) (hb2 : 2200 ≤ b) (hb : b < 890000) (hG : RegW w) (v1 : Int) (h0 : R32 v1) (hng : ¬ gOk (zB z) v1) (o : Nat) (f : Nat → Int) (ho : w o = some (o + 1, lE G 1 f)) : HMT l yX0_play cX0_play 4 (some .int) [(0, 9, 12, 13)] 24 1 6 G [.ref x, .int (iI (v1)), .ref o] w (QI G (fun z_ w_ => WRet G w x o (b + 1000) (aPla z v1) z_ w_)) (fun _ _ _ => False) := by
  refine HMT.mk (by decide +kernel) (Nat.le_of_ble_eq_true rfl) ?_
  intro p9 e9 s9 m9 a9 b9 meth9 c9 ls X hret hlk hnm htab hl H hR
  have hx := X.1.1
  have hb := X.1.2.1
  have hl : lv_has ls 4 [(0, .ref x), (1, .int (iI (v1))), (2, .ref o)] := hl
  have hL : LK G [] := fun q h => absurd h List.not_mem_nil
  generalize ([] : List Loc) = locs at hL ⊢
  refine lv_aload_n hx hb dX0_play_0 rfl (lv_at hl 2 rfl) ?_
  refine h_iconst hx hb dX0_play_1 ?_
  refine lv_aload_n hx hb dX0_play_2 rfl (lv_at hl 0 rfl) ?_
  refine lv_iload_n hx hb dX0_play_3 rfl (lv_at hl 1 rfl) ?_
  -- call SpokenMarks.play
  refine h_xI (h_xrunT X hR (cc_playX l G w hSt x z b h hok hb2 hb hG v1 h0 hng) pn_yX1_play (h.hx) q2607 q2608 q2609 q120 q2610 ⟨by decide, by decide⟩ hl.1 (Nat.le_of_ble_eq_true rfl) dX0_play_4 ⟨by omega, by omega⟩) hL (fun xq_4 E_5 ce_ w_6 hx__7 H locs hR hL hce_ hcv_ hcl_ => ?_) (fun z_1 w_2 hp_3 H locs hR hL => ?_)
  ·
    have hC := hx__7
    obtain ⟨hm, hkx⟩ := mem1 hC.1
    subst hm
    refine h_xcatch X [] (0, 9, 12, 13) [] htab (fun z_ hz_ => absurd hz_ List.not_mem_nil) (by decide) (by decide) q2035 q224 hce_ hcv_ hcl_ ?_
    refine lv_astore_n (lv' := [(3, .ref xq_4), (0, .ref x), (1, .int (iI (v1))), (2, .ref o)]) hx hb dX0_play_12 rfl hl (by decide) rfl (fun ls hl => ?_)
    refine h_iconst hx hb dX0_play_13 ?_
    refine vx_ret ?_
    exact h_ireturn hx hb hlk hret hR hL rfl (WRet.n hC ho hkx (Or.inl rfl)) (by omega) (by omega) rfl rfl dX0_play_14
  ·
    have hC := hp_3
    have ho1 := hC.2.2.2.1.2.2.1 _ _ _ ho
    refine W.eq (g2 := F0 m9 7 ls [.int (iI (c32 z_1)), .int (iI (0)), .ref o]) (by rw [c32_i]) ?_
    refine h_i2l hx hb dX0_play_7 (c32_r _) ?_
    refine h_last X hR hL ho1 (Nat.succ_ne_zero _) (by omega) (by omega) dX0_play_8 (fun w_8 ew_9 H locs hR hL => ?_)
    have hF_o_w_8 : w_8 o = some (o + 1, lE G 1 (zset f (Int.toNat 0) (c32 z_1))) := by rw [ew_9]; exact wset_eq _ _ _
    refine lv_goto (tgt := 15) hx hb dX0_play_9 (by decide) ?_
    refine h_iconst hx hb dX0_play_15 ?_
    refine vx_ret ?_
    exact h_ireturn hx hb hlk hret hR hL rfl (WRet.y hC ho ew_9 (zset_eq _ _ _)) (by omega) (by omega) rfl rfl dX0_play_16
