/-! HW: arrays made; calls; starts and ends -/
set_option maxRecDepth 100000
section HWC
variable {G : Gl} {p : Program} {l : Launch} {e : Env} {s : State} {m : MethodId} {args : Array Value} {below : List Frame} {meth : Method} {c : Code} {H : Heap} {locs : List Loc} {cells slots : Nat} {Q : State → Prop}
variable {cc : ByteArray} {own : String} {nL lv mc ms : Nat} {pc : Nat} {ls : Array Slot} {rest : List Value} {w : Wd} {a r : Nat}
theorem kk_arr (hK : KK G s) {k : Nat} {ty : FieldType} (hk : (gTys G)[k]? = some (gA G k, ty)) (hp : ∀ C, ty ≠ .object C) : s.vm.findClass ("[" ++ ty.toString) = some (gA G k) := by
  have h := (hK.1.2 k _ hk).2
  cases ty with
  | object C => exact absurd rfl (hp C)
  | _ => exact h
/-- an array of numbers of kind k (0 int, 1 byte) -/
theorem h_newI (X : HX G p s m args c cc nL own) (hR : Rp G w H) (k : Nat) (rg : Nat → Nat) {atype : ArrayType} (hk : (gTys G)[k]? = some (gA G k, newarray.typeOf atype)) (hp : ∀ C, newarray.typeOf atype ≠ .object C) (hdef : defaultValue (newarray.typeOf atype) = .int 0) (harr : Cond.arrayClass (newarray.typeOf atype) ∈ lw_all) {z : Int} (N : Nat) (hz : z = (N : Int)) (hN : N < 16777216) (hcells : cells + 1 ≤ mc) (hslots : slots + N ≤ ms) (hcb : componentBytes (newarray.typeOf atype) ≤ 8) (d : decode cc pc = .ok (.newarray atype, 2))
    (kk : ∀ (q : Nat), w q = none → ∀ (w1 : Wd), w1 = wset w q (rg q, iE G k N (fun _ => 0)) → ∀ (H1 : Heap), Rp G w1 H1 → W p l e (rmk lv mc ms) s m args below meth c H1 locs (cells + 1) (slots + N) Q (F0 m (pc + 2) ls (.ref q :: rest))) : W p l e (rmk lv mc ms) s m args below meth c H locs cells slots Q (F0 m pc ls (.int (iI z) :: rest)) := by
  subst hz
  have hr : R32 (N : Int) := ⟨by omega, by omega⟩
  have hnn : ¬ iI (N : Int) < 0 := fun q => by
    have := (iI_lt hr ⟨by decide, by decide⟩).mp (show iI (N : Int) < iI 0 from q)
    omega
  refine va_newaK X.1.1 X.1.2.1 (X.1.2.2.2.2 _ harr) rfl d rfl hnn (by rw [iI_cl hr]; rfl) ?_ hcells hslots rfl fun H1 cA e1 z1 o1 hAr hNm => ?_
  · exact Nat.le_trans (Nat.mul_le_mul (Nat.le_of_lt hN) hcb) (by decide)
  · have hcA : cA = gA G k := Option.some.inj (hNm.symm.trans (kk_arr X.2 hk hp))
    refine kk H.size (hR.none (Nat.le_refl _)) _ rfl H1 (hR.mk z1 o1 ?_)
    show H1[H.size]? = some (vp_cell _ _)
    rw [e1, vp_cell_i, hcA, hdef]
    rfl
theorem h_newL (X : HX G p s m args c cc nL own) (hR : Rp G w H) (rg : Nat → Nat) (harr : Cond.arrayClass (newarray.typeOf .long) ∈ lw_all) {z : Int} (N : Nat) (hz : z = (N : Int)) (hN : N < 16777216) (hcells : cells + 1 ≤ mc) (hslots : slots + N ≤ ms) (d : decode cc pc = .ok (.newarray .long, 2))
    (kk : ∀ (q : Nat), w q = none → ∀ (w1 : Wd), w1 = wset w q (rg q, lE G N (fun _ => 0)) → ∀ (H1 : Heap), Rp G w1 H1 → W p l e (rmk lv mc ms) s m args below meth c H1 locs (cells + 1) (slots + N) Q (F0 m (pc + 2) ls (.ref q :: rest))) : W p l e (rmk lv mc ms) s m args below meth c H locs cells slots Q (F0 m pc ls (.int (iI z) :: rest)) := by
  subst hz
  have hr : R32 (N : Int) := ⟨by omega, by omega⟩
  have hnn : ¬ iI (N : Int) < 0 := fun q => by
    have := (iI_lt hr ⟨by decide, by decide⟩).mp (show iI (N : Int) < iI 0 from q)
    omega
  refine va_newaK X.1.1 X.1.2.1 (X.1.2.2.2.2 _ harr) rfl d rfl hnn (by rw [iI_cl hr]; rfl) ?_ hcells hslots rfl fun H1 cA e1 z1 o1 hAr hNm => ?_
  · exact Nat.le_trans (Nat.mul_le_mul (Nat.le_of_lt hN) (show componentBytes (newarray.typeOf .long) ≤ 8 by decide)) (by decide)
  · have hcA : cA = gA G 2 := Option.some.inj (hNm.symm.trans (kk_arr X.2 (k := 2) (ty := .long) rfl (fun C h => by cases h)))
    refine kk H.size (hR.none (Nat.le_refl _)) _ rfl H1 (hR.mk z1 o1 ?_)
    show H1[H.size]? = some (vp_cell _ _)
    rw [e1, vp_cell_l, hcA]
    rfl
theorem h_newD (X : HX G p s m args c cc nL own) (hR : Rp G w H) (rg : Nat → Nat) (harr : Cond.arrayClass (newarray.typeOf .double) ∈ lw_all) {z : Int} (N : Nat) (hz : z = (N : Int)) (hN : N < 16777216) (hcells : cells + 1 ≤ mc) (hslots : slots + N ≤ ms) (d : decode cc pc = .ok (.newarray .double, 2))
    (kk : ∀ (q : Nat), w q = none → ∀ (w1 : Wd) (z0 : UInt64), w1 = wset w q (rg q, dE G N (fun _ => z0)) → ∀ (H1 : Heap), Rp G w1 H1 → W p l e (rmk lv mc ms) s m args below meth c H1 locs (cells + 1) (slots + N) Q (F0 m (pc + 2) ls (.ref q :: rest))) : W p l e (rmk lv mc ms) s m args below meth c H locs cells slots Q (F0 m pc ls (.int (iI z) :: rest)) := by
  subst hz
  have hr : R32 (N : Int) := ⟨by omega, by omega⟩
  have hnn : ¬ iI (N : Int) < 0 := fun q => by
    have := (iI_lt hr ⟨by decide, by decide⟩).mp (show iI (N : Int) < iI 0 from q)
    omega
  refine va_newaK X.1.1 X.1.2.1 (X.1.2.2.2.2 _ harr) rfl d rfl hnn (by rw [iI_cl hr]; rfl) ?_ hcells hslots rfl fun H1 cA e1 z1 o1 hAr hNm => ?_
  · exact Nat.le_trans (Nat.mul_le_mul (Nat.le_of_lt hN) (show componentBytes (newarray.typeOf .double) ≤ 8 by decide)) (by decide)
  · have hcA : cA = gA G 3 := Option.some.inj (hNm.symm.trans (kk_arr X.2 (k := 3) (ty := .double) rfl (fun C h => by cases h)))
    refine kk H.size (hR.none (Nat.le_refl _)) _ (0 : UInt64) rfl H1 (hR.mk z1 o1 ?_)
    show H1[H.size]? = some (vp_cell _ _)
    rw [e1, vp_cell_d, hcA]
    rfl
/-! calls -/
theorem PP.of (hK : KK G s) (hR : Rp G w H) (av : List Value) : ∀ U : State, U.heap = H → s.WarmedH U.vm → PP G av w av.toArray U := fun U hU hW => ⟨rfl, by rw [hU]; exact hR, hK.warm hW⟩
abbrev NoMH (c : String) : Prop := c ≠ "java/lang/invoke/MethodHandle" ∧ c ≠ "java/lang/invoke/VarHandle"
abbrev ParN (y : MethodName) (n : Nat) : Prop := NoMH y.cls ∧ (parseMethodDescriptor y.desc).map (fun d => d.parameters.length) = some n
theorem h_runV (X : HX G p s m args c cc nL own) (hR : Rp G w H) {y : MethodName} {bytes : ByteArray} {maxL lv2 mc2 ms2 idx : Nat} {ret : Option FieldType} {b : Nat} {As : List Value} {Qc : Array Value → State → Outcome → State → Prop} (M : HM l y bytes maxL ret lv2 mc2 ms2 G (.ref b :: As) w Qc) (hn : ParN y As.length) (hb : hasC w b y.cls)
    (q1 : Cond.methodLink own idx y ∈ lw_all) (q2 : Cond.instanceMethod y ∈ lw_all) (q3 : Cond.selects y.cls y y ∈ lw_all) (q4 : Cond.initialized y.cls ∈ lw_all) (q5 : Cond.code y bytes maxL ret ∈ lw_all)
    (hlv : lv2 + 1 ≤ lv ∧ maxL + 19 + 100 * lv2 ≤ 100 * lv) (hsz : ls.size = nL) (hcat : (rest.map fun v => v.category).sum ≤ 8) (d : decode cc pc = .ok (.invokevirtual idx, 3)) (hc : cells + mc2 ≤ mc ∧ slots + ms2 ≤ ms) :
    va_Run p l e (rmk lv mc ms) s m args below meth c H locs cells slots mc2 ms2 (F0 m pc ls (As.reverse ++ .ref b :: rest)) rest (Qc (Value.ref b :: As).toArray) (frG G) :=
  va_runV X.1 M (cwV As.length X.1.2.2.2.2 (lw_V q1 q2 q3 q4 q5) rfl rfl rfl ⟨rfl, hn.1.1, hn.1.2, hn.2⟩ ⟨hlv.1, by have := hlv.2; show 8 + (maxL + 11) + 100 * lv2 ≤ 100 * lv; omega⟩) ⟨PP.blind G _ w, hb.recv hR X.2, PP.of X.2 hR _⟩ rfl rfl hsz rfl (lv_room hcat) d hc
theorem h_runS (X : HX G p s m args c cc nL own) (hR : Rp G w H) {y : MethodName} {bytes : ByteArray} {maxL lv2 mc2 ms2 idx : Nat} {ret : Option FieldType} {As : List Value} {Qc : Array Value → State → Outcome → State → Prop} (M : HM l y bytes maxL ret lv2 mc2 ms2 G As w Qc) (hn : ParN y As.length)
    (q1 : Cond.methodLink own idx y ∈ lw_all) (q2 : Cond.static y ∈ lw_all) (q4 : Cond.initialized y.cls ∈ lw_all) (q5 : Cond.code y bytes maxL ret ∈ lw_all)
    (hlv : lv2 + 1 ≤ lv ∧ maxL + 19 + 100 * lv2 ≤ 100 * lv) (hsz : ls.size = nL) (hcat : (rest.map fun v => v.category).sum ≤ 8) (d : decode cc pc = .ok (.invokestatic idx, 3)) (hc : cells + mc2 ≤ mc ∧ slots + ms2 ≤ ms) :
    va_Run p l e (rmk lv mc ms) s m args below meth c H locs cells slots mc2 ms2 (F0 m pc ls (As.reverse ++ rest)) rest (Qc As.toArray) (frG G) :=
  va_runS X.1 M (va_cwS As.length X.1.2.2.2.2 (lw_S q1 q2 q4 q5) rfl rfl rfl ⟨hn.1.1, hn.1.2, hn.2⟩ ⟨hlv.1, by have := hlv.2; show 8 + (maxL + 11) + 100 * lv2 ≤ 100 * lv; omega⟩) ⟨PP.blind G _ w, PP.of X.2 hR _⟩ rfl rfl hsz rfl (lv_room hcat) d hc
theorem h_runI (X : HX G p s m args c cc nL own) (hR : Rp G w H) {y : MethodName} {bytes : ByteArray} {maxL lv2 mc2 ms2 idx : Nat} {b : Nat} {As : List Value} {Qc : Array Value → State → Outcome → State → Prop} (M : HM l y bytes maxL none lv2 mc2 ms2 G (.ref b :: As) w Qc) (hn : ParN y As.length) (hi : y.name = "<init>")
    (q1 : Cond.methodLink own idx y ∈ lw_all) (q2 : Cond.instanceMethod y ∈ lw_all) (q4 : Cond.initialized y.cls ∈ lw_all) (q5 : Cond.code y bytes maxL none ∈ lw_all)
    (hlv : lv2 + 1 ≤ lv ∧ maxL + 19 + 100 * lv2 ≤ 100 * lv) (hsz : ls.size = nL) (hcat : (rest.map fun v => v.category).sum ≤ 8) (d : decode cc pc = .ok (.invokespecial idx, 3)) (hc : cells + mc2 ≤ mc ∧ slots + ms2 ≤ ms) :
    va_Run p l e (rmk lv mc ms) s m args below meth c H locs cells slots mc2 ms2 (F0 m pc ls (As.reverse ++ .ref b :: rest)) rest (Qc (Value.ref b :: As).toArray) (frG G) :=
  va_runI X.1 M (cwI As.length X.1.2.2.2.2 (lw_meth q5) rfl rfl rfl (X.1.2.2.2.2 _ q4) (X.1.2.2.2.2 _ q1) (X.1.2.2.2.2 _ q2) hi ⟨hn.1.1, hn.1.2, hn.2⟩ ⟨hlv.1, by have := hlv.2; show 8 + (maxL + 11) + 100 * lv2 ≤ 100 * lv; omega⟩) ⟨PP.blind G _ w, PP.of X.2 hR _⟩ rfl rfl hsz rfl (lv_room hcat) d hc
/-- a private method of a nest mate -/
theorem h_runVN (X : HX G p s m args c cc nL own) (hR : Rp G w H) {y : MethodName} {host : String} {bytes : ByteArray} {maxL lv2 mc2 ms2 idx : Nat} {ret : Option FieldType} {b : Nat} {As : List Value} {Qc : Array Value → State → Outcome → State → Prop} (M : HM l y bytes maxL ret lv2 mc2 ms2 G (.ref b :: As) w Qc) (hn : ParN y As.length) (hb : hasC w b y.cls)
    (q1 : Cond.methodLinkNest own idx y host ∈ lw_tbl) (q2 : Cond.instanceMethod y ∈ lw_all) (q3 : Cond.selects y.cls y y ∈ lw_all) (q4 : Cond.initialized y.cls ∈ lw_all) (q5 : Cond.code y bytes maxL ret ∈ lw_all)
    (hlv : lv2 + 1 ≤ lv ∧ maxL + 19 + 100 * lv2 ≤ 100 * lv) (hsz : ls.size = nL) (hcat : (rest.map fun v => v.category).sum ≤ 8) (d : decode cc pc = .ok (.invokevirtual idx, 3)) (hc : cells + mc2 ≤ mc ∧ slots + ms2 ≤ ms) :
    va_Run p l e (rmk lv mc ms) s m args below meth c H locs cells slots mc2 ms2 (F0 m pc ls (As.reverse ++ .ref b :: rest)) rest (Qc (Value.ref b :: As).toArray) (frG G) :=
  va_runVN X.1 M ⟨va_cnB As.length X.1.2.2.2.2 (lw_meth q5) rfl rfl rfl (kk_nw X.2 q1 rfl (fun hW h => va_Nw.warmM hW h)) (X.1.2.2.2.2 _ q4) ⟨hn.1.1, hn.1.2, hn.2⟩ ⟨hlv.1, by have := hlv.2; show 8 + (maxL + 11) + 100 * lv2 ≤ 100 * lv; omega⟩, X.1.2.2.2.2 _ q2, X.1.2.2.2.2 _ q3⟩ ⟨PP.blind G _ w, hb.recv hR X.2, PP.of X.2 hR _⟩ rfl rfl hsz rfl (lv_room hcat) d hc
theorem h_runSN (X : HX G p s m args c cc nL own) (hR : Rp G w H) {y : MethodName} {host : String} {bytes : ByteArray} {maxL lv2 mc2 ms2 idx : Nat} {ret : Option FieldType} {As : List Value} {Qc : Array Value → State → Outcome → State → Prop} (M : HM l y bytes maxL ret lv2 mc2 ms2 G As w Qc) (hn : ParN y As.length)
    (q1 : Cond.methodLinkNest own idx y host ∈ lw_tbl) (q2 : Cond.static y ∈ lw_all) (q4 : Cond.initialized y.cls ∈ lw_all) (q5 : Cond.code y bytes maxL ret ∈ lw_all)
    (hlv : lv2 + 1 ≤ lv ∧ maxL + 19 + 100 * lv2 ≤ 100 * lv) (hsz : ls.size = nL) (hcat : (rest.map fun v => v.category).sum ≤ 8) (d : decode cc pc = .ok (.invokestatic idx, 3)) (hc : cells + mc2 ≤ mc ∧ slots + ms2 ≤ ms) :
    va_Run p l e (rmk lv mc ms) s m args below meth c H locs cells slots mc2 ms2 (F0 m pc ls (As.reverse ++ rest)) rest (Qc As.toArray) (frG G) :=
  va_runSN X.1 M ⟨va_cnB As.length X.1.2.2.2.2 (lw_meth q5) rfl rfl rfl (kk_nw X.2 q1 rfl (fun hW h => va_Nw.warmM hW h)) (X.1.2.2.2.2 _ q4) ⟨hn.1.1, hn.1.2, hn.2⟩ ⟨hlv.1, by have := hlv.2; show 8 + (maxL + 11) + 100 * lv2 ≤ 100 * lv; omega⟩, X.1.2.2.2.2 _ q2, trivial⟩ ⟨PP.blind G _ w, PP.of X.2 hR _⟩ rfl rfl hsz rfl (lv_room hcat) d hc
theorem h_runIN (X : HX G p s m args c cc nL own) (hR : Rp G w H) {y : MethodName} {host : String} {bytes : ByteArray} {maxL lv2 mc2 ms2 idx : Nat} {b : Nat} {As : List Value} {Qc : Array Value → State → Outcome → State → Prop} (M : HM l y bytes maxL none lv2 mc2 ms2 G (.ref b :: As) w Qc) (hn : ParN y As.length) (hi : y.name = "<init>")
    (q1 : Cond.methodLinkNest own idx y host ∈ lw_tbl) (q2 : Cond.instanceMethod y ∈ lw_all) (q4 : Cond.initialized y.cls ∈ lw_all) (q5 : Cond.code y bytes maxL none ∈ lw_all)
    (hlv : lv2 + 1 ≤ lv ∧ maxL + 19 + 100 * lv2 ≤ 100 * lv) (hsz : ls.size = nL) (hcat : (rest.map fun v => v.category).sum ≤ 8) (d : decode cc pc = .ok (.invokespecial idx, 3)) (hc : cells + mc2 ≤ mc ∧ slots + ms2 ≤ ms) :
    va_Run p l e (rmk lv mc ms) s m args below meth c H locs cells slots mc2 ms2 (F0 m pc ls (As.reverse ++ .ref b :: rest)) rest (Qc (Value.ref b :: As).toArray) (frG G) :=
  va_runIN X.1 M ⟨va_cnB As.length X.1.2.2.2.2 (lw_meth q5) rfl rfl rfl (kk_nw X.2 q1 rfl (fun hW h => va_Nw.warmM hW h)) (X.1.2.2.2.2 _ q4) ⟨hn.1.1, hn.1.2, hn.2⟩ ⟨hlv.1, by have := hlv.2; show 8 + (maxL + 11) + 100 * lv2 ≤ 100 * lv; omega⟩, hi, X.1.2.2.2.2 _ q2⟩ ⟨PP.blind G _ w, PP.of X.2 hR _⟩ rfl rfl hsz rfl (lv_room hcat) d hc
theorem kk_face (hK : KK G s) {C : String} {x y : MethodName} (hx : NoMH x.cls) (h1 : Cond.declares x ∈ lw_tbl) (h2 : Cond.interfaceMethod x.cls x.cls x.name x.desc ∈ lw_tbl) (h3 : Cond.publicMethod y ∈ lw_tbl) (h4 : Cond.unhidden C x.name x.desc ∈ lw_tbl) (h5 : Cond.castable C x.cls ∈ lw_tbl) : va_Fw C x y s := by
  obtain ⟨b0, hb, -⟩ := hK.2.2.1
  exact va_Fw.moved hx hK.2.1.alike (va_Fw.of (hb _ h1) (hb _ h2) (hb _ h3) (hb _ h4) (hb _ h5))
theorem h_runF (X : HX G p s m args c cc nL own) (hR : Rp G w H) {x y : MethodName} {bytes : ByteArray} {maxL lv2 mc2 ms2 idx count : Nat} {ret : Option FieldType} {b : Nat} {As : List Value} {Qc : Array Value → State → Outcome → State → Prop} (M : HM l y bytes maxL ret lv2 mc2 ms2 G (.ref b :: As) w Qc) (hn : ParN x As.length) {C : String} (hb : hasC w b C) (hF : va_Fw C x y s)
    (q1 : Cond.methodLink own idx x ∈ lw_all) (q2 : Cond.instanceMethod y ∈ lw_all) (q3 : Cond.selects C x y ∈ lw_all) (q4 : Cond.initialized y.cls ∈ lw_all) (q5 : Cond.code y bytes maxL ret ∈ lw_all)
    (hlv : lv2 + 1 ≤ lv ∧ maxL + 19 + 100 * lv2 ≤ 100 * lv) (hsz : ls.size = nL) (hcat : (rest.map fun v => v.category).sum ≤ 8) (d : decode cc pc = .ok (.invokeinterface idx count, 5)) (hc : cells + mc2 ≤ mc ∧ slots + ms2 ≤ ms) (hs : nspc C = true := by decide) :
    va_Run5 p l e (rmk lv mc ms) s m args below meth c H locs cells slots mc2 ms2 (F0 m pc ls (As.reverse ++ .ref b :: rest)) rest (Qc (Value.ref b :: As).toArray) (frG G) := by
  obtain ⟨cC, hat⟩ := hb.at hR X.2 hs
  have hG : GoodIn lw_all (va_wsF own idx C x y (ws_ y bytes maxL ret)) := by
    refine lw_app ?_ (lw_meth q5)
    intro w hw
    simp only [List.mem_cons, List.not_mem_nil, or_false] at hw
    rcases hw with e | e | e | e
    · rw [e]; exact q1
    · rw [e]; exact q3
    · rw [e]; exact q2
    · rw [e]; exact q4
  exact va_runF hat X.1 M (va_cwF As.length X.1.2.2.2.2 hG rfl rfl rfl hF ⟨hn.1.1, hn.1.2, hn.2⟩ ⟨hlv.1, by have := hlv.2; show 8 + (maxL + 11) + 100 * lv2 ≤ 100 * lv; omega⟩) ⟨PP.blind G _ w, hb.recv hR X.2, PP.of X.2 hR _⟩ rfl rfl hsz rfl (lv_room hcat) d hc
/-! behind a call -/
variable {mc2 ms2 : Nat} {st0 : List Value} {av : Array Value}
theorem h_run_k (hL : LK G locs) {Qa : State → Outcome → State → Prop} {len : Nat} {g1 : Option Value → JFrame}
    (hr : ∀ T : State, T.heap = H → Stand p l e (rmk lv mc ms) s m args below meth c T locs cells slots → ∃ (v : Option Value) (st₀ t T' : State) (L : List Loc), st₀.heap = H ∧ Stand p l e (rmk lv mc ms) s m args below meth c T' (locs ++ L) (cells + mc2) (slots + ms2) ∧ (∀ q ∈ L, frG G q.base) ∧ T'.heap = t.heap ∧ T'.vm = t.vm ∧ Qa st₀ (.returned v) t ∧ Goes p e below T (F0 m pc ls st0) T' (g1 v))
    (kk : ∀ (v : Option Value) (st₀ t : State) (H1 : Heap) (locs1 : List Loc), Qa st₀ (.returned v) t → t.heap = H1 → LK G locs1 → W p l e (rmk lv mc ms) s m args below meth c H1 locs1 (cells + mc2) (slots + ms2) Q (g1 v)) : W p l e (rmk lv mc ms) s m args below meth c H locs cells slots Q (F0 m pc ls st0) := by
  intro T hT X
  obtain ⟨v, st₀, t, T', L, h0, X', hL', e1, e2, hq, st⟩ := hr T hT X
  obtain ⟨t2, a1, b1⟩ := kk v st₀ t T'.heap (locs ++ L) hq e1.symm (fun q hq => by
    rcases List.mem_append.mp hq with h | h
    · exact hL q h
    · exact hL' q h) T' rfl X'
  exact ⟨t2, st t2 a1, b1⟩
theorem h_kI {post : Int → Wd → Prop} (hr : va_Run p l e (rmk lv mc ms) s m args below meth c H locs cells slots mc2 ms2 (F0 m pc ls st0) rest (QI G post av) (frG G)) (hL : LK G locs)
    (kk : ∀ (z : Int) (w1 : Wd), post z w1 → ∀ (H1 : Heap) (locs1 : List Loc), Rp G w1 H1 → LK G locs1 → W p l e (rmk lv mc ms) s m args below meth c H1 locs1 (cells + mc2) (slots + ms2) Q (F0 m (pc + 3) ls (.int (iI z) :: rest))) : W p l e (rmk lv mc ms) s m args below meth c H locs cells slots Q (F0 m pc ls st0) := by
  refine h_run_k (len := 3) hL hr fun v st₀ t H1 locs1 hq ht hL1 => ?_
  obtain ⟨z, w1, hv, hR1, hp⟩ := hq
  cases hv
  exact kk z w1 hp H1 locs1 (ht ▸ hR1) hL1
theorem h_kL {post : Int → Wd → Prop} (hr : va_Run p l e (rmk lv mc ms) s m args below meth c H locs cells slots mc2 ms2 (F0 m pc ls st0) rest (QL G post av) (frG G)) (hL : LK G locs)
    (kk : ∀ (z : Int) (w1 : Wd), post z w1 → ∀ (H1 : Heap) (locs1 : List Loc), Rp G w1 H1 → LK G locs1 → W p l e (rmk lv mc ms) s m args below meth c H1 locs1 (cells + mc2) (slots + ms2) Q (F0 m (pc + 3) ls (.long (lI z) :: rest))) : W p l e (rmk lv mc ms) s m args below meth c H locs cells slots Q (F0 m pc ls st0) := by
  refine h_run_k (len := 3) hL hr fun v st₀ t H1 locs1 hq ht hL1 => ?_
  obtain ⟨z, w1, hv, hR1, hp⟩ := hq
  cases hv
  exact kk z w1 hp H1 locs1 (ht ▸ hR1) hL1
theorem h_kF {post : UInt32 → Wd → Prop} (hr : va_Run p l e (rmk lv mc ms) s m args below meth c H locs cells slots mc2 ms2 (F0 m pc ls st0) rest (QF G post av) (frG G)) (hL : LK G locs)
    (kk : ∀ (z : UInt32) (w1 : Wd), post z w1 → ∀ (H1 : Heap) (locs1 : List Loc), Rp G w1 H1 → LK G locs1 → W p l e (rmk lv mc ms) s m args below meth c H1 locs1 (cells + mc2) (slots + ms2) Q (F0 m (pc + 3) ls (.float z :: rest))) : W p l e (rmk lv mc ms) s m args below meth c H locs cells slots Q (F0 m pc ls st0) := by
  refine h_run_k (len := 3) hL hr fun v st₀ t H1 locs1 hq ht hL1 => ?_
  obtain ⟨z, w1, hv, hR1, hp⟩ := hq
  cases hv
  exact kk z w1 hp H1 locs1 (ht ▸ hR1) hL1
theorem h_kD {post : UInt64 → Wd → Prop} (hr : va_Run p l e (rmk lv mc ms) s m args below meth c H locs cells slots mc2 ms2 (F0 m pc ls st0) rest (QD G post av) (frG G)) (hL : LK G locs)
    (kk : ∀ (z : UInt64) (w1 : Wd), post z w1 → ∀ (H1 : Heap) (locs1 : List Loc), Rp G w1 H1 → LK G locs1 → W p l e (rmk lv mc ms) s m args below meth c H1 locs1 (cells + mc2) (slots + ms2) Q (F0 m (pc + 3) ls (.double z :: rest))) : W p l e (rmk lv mc ms) s m args below meth c H locs cells slots Q (F0 m pc ls st0) := by
  refine h_run_k (len := 3) hL hr fun v st₀ t H1 locs1 hq ht hL1 => ?_
  obtain ⟨z, w1, hv, hR1, hp⟩ := hq
  cases hv
  exact kk z w1 hp H1 locs1 (ht ▸ hR1) hL1
theorem h_kR {post : Nat → Wd → Prop} (hr : va_Run p l e (rmk lv mc ms) s m args below meth c H locs cells slots mc2 ms2 (F0 m pc ls st0) rest (QR G post av) (frG G)) (hL : LK G locs)
    (kk : ∀ (z : Nat) (w1 : Wd), post z w1 → ∀ (H1 : Heap) (locs1 : List Loc), Rp G w1 H1 → LK G locs1 → W p l e (rmk lv mc ms) s m args below meth c H1 locs1 (cells + mc2) (slots + ms2) Q (F0 m (pc + 3) ls (.ref z :: rest))) : W p l e (rmk lv mc ms) s m args below meth c H locs cells slots Q (F0 m pc ls st0) := by
  refine h_run_k (len := 3) hL hr fun v st₀ t H1 locs1 hq ht hL1 => ?_
  obtain ⟨z, w1, hv, hR1, hp⟩ := hq
  cases hv
  exact kk z w1 hp H1 locs1 (ht ▸ hR1) hL1
theorem h_kN {post : Option Nat → Wd → Prop} (hr : va_Run p l e (rmk lv mc ms) s m args below meth c H locs cells slots mc2 ms2 (F0 m pc ls st0) rest (QN G post av) (frG G)) (hL : LK G locs)
    (kk : ∀ (z : Option Nat) (w1 : Wd), post z w1 → ∀ (H1 : Heap) (locs1 : List Loc), Rp G w1 H1 → LK G locs1 → W p l e (rmk lv mc ms) s m args below meth c H1 locs1 (cells + mc2) (slots + ms2) Q (F0 m (pc + 3) ls (va_rf z :: rest))) : W p l e (rmk lv mc ms) s m args below meth c H locs cells slots Q (F0 m pc ls st0) := by
  refine h_run_k (len := 3) hL hr fun v st₀ t H1 locs1 hq ht hL1 => ?_
  obtain ⟨z, w1, hv, hR1, hp⟩ := hq
  cases hv
  exact kk z w1 hp H1 locs1 (ht ▸ hR1) hL1
theorem h_kV {post : Wd → Prop} (hr : va_Run p l e (rmk lv mc ms) s m args below meth c H locs cells slots mc2 ms2 (F0 m pc ls st0) rest (QV G post av) (frG G)) (hL : LK G locs)
    (kk : ∀ (w1 : Wd), post w1 → ∀ (H1 : Heap) (locs1 : List Loc), Rp G w1 H1 → LK G locs1 → W p l e (rmk lv mc ms) s m args below meth c H1 locs1 (cells + mc2) (slots + ms2) Q (F0 m (pc + 3) ls rest)) : W p l e (rmk lv mc ms) s m args below meth c H locs cells slots Q (F0 m pc ls st0) := by
  refine h_run_k (len := 3) hL hr fun v st₀ t H1 locs1 hq ht hL1 => ?_
  obtain ⟨w1, hv, hR1, hp⟩ := hq
  cases hv
  exact kk w1 hp H1 locs1 (ht ▸ hR1) hL1
theorem h_k5I {post : Int → Wd → Prop} (hr : va_Run5 p l e (rmk lv mc ms) s m args below meth c H locs cells slots mc2 ms2 (F0 m pc ls st0) rest (QI G post av) (frG G)) (hL : LK G locs)
    (kk : ∀ (z : Int) (w1 : Wd), post z w1 → ∀ (H1 : Heap) (locs1 : List Loc), Rp G w1 H1 → LK G locs1 → W p l e (rmk lv mc ms) s m args below meth c H1 locs1 (cells + mc2) (slots + ms2) Q (F0 m (pc + 5) ls (.int (iI z) :: rest))) : W p l e (rmk lv mc ms) s m args below meth c H locs cells slots Q (F0 m pc ls st0) := by
  refine h_run_k (len := 5) hL hr fun v st₀ t H1 locs1 hq ht hL1 => ?_
  obtain ⟨z, w1, hv, hR1, hp⟩ := hq
  cases hv
  exact kk z w1 hp H1 locs1 (ht ▸ hR1) hL1
theorem h_k5R {post : Nat → Wd → Prop} (hr : va_Run5 p l e (rmk lv mc ms) s m args below meth c H locs cells slots mc2 ms2 (F0 m pc ls st0) rest (QR G post av) (frG G)) (hL : LK G locs)
    (kk : ∀ (z : Nat) (w1 : Wd), post z w1 → ∀ (H1 : Heap) (locs1 : List Loc), Rp G w1 H1 → LK G locs1 → W p l e (rmk lv mc ms) s m args below meth c H1 locs1 (cells + mc2) (slots + ms2) Q (F0 m (pc + 5) ls (.ref z :: rest))) : W p l e (rmk lv mc ms) s m args below meth c H locs cells slots Q (F0 m pc ls st0) := by
  refine h_run_k (len := 5) hL hr fun v st₀ t H1 locs1 hq ht hL1 => ?_
  obtain ⟨z, w1, hv, hR1, hp⟩ := hq
  cases hv
  exact kk z w1 hp H1 locs1 (ht ▸ hR1) hL1
theorem h_k5N {post : Option Nat → Wd → Prop} (hr : va_Run5 p l e (rmk lv mc ms) s m args below meth c H locs cells slots mc2 ms2 (F0 m pc ls st0) rest (QN G post av) (frG G)) (hL : LK G locs)
    (kk : ∀ (z : Option Nat) (w1 : Wd), post z w1 → ∀ (H1 : Heap) (locs1 : List Loc), Rp G w1 H1 → LK G locs1 → W p l e (rmk lv mc ms) s m args below meth c H1 locs1 (cells + mc2) (slots + ms2) Q (F0 m (pc + 5) ls (va_rf z :: rest))) : W p l e (rmk lv mc ms) s m args below meth c H locs cells slots Q (F0 m pc ls st0) := by
  refine h_run_k (len := 5) hL hr fun v st₀ t H1 locs1 hq ht hL1 => ?_
  obtain ⟨z, w1, hv, hR1, hp⟩ := hq
  cases hv
  exact kk z w1 hp H1 locs1 (ht ▸ hR1) hL1
theorem h_k5V {post : Wd → Prop} (hr : va_Run5 p l e (rmk lv mc ms) s m args below meth c H locs cells slots mc2 ms2 (F0 m pc ls st0) rest (QV G post av) (frG G)) (hL : LK G locs)
    (kk : ∀ (w1 : Wd), post w1 → ∀ (H1 : Heap) (locs1 : List Loc), Rp G w1 H1 → LK G locs1 → W p l e (rmk lv mc ms) s m args below meth c H1 locs1 (cells + mc2) (slots + ms2) Q (F0 m (pc + 5) ls rest)) : W p l e (rmk lv mc ms) s m args below meth c H locs cells slots Q (F0 m pc ls st0) := by
  refine h_run_k (len := 5) hL hr fun v st₀ t H1 locs1 hq ht hL1 => ?_
  obtain ⟨w1, hv, hR1, hp⟩ := hq
  cases hv
  exact kk w1 hp H1 locs1 (ht ▸ hR1) hL1
/-! ends -/
theorem h_ireturn (hx : p.tables.exec = Jvm.exec) (hb : c.code = cc) (hlk : meth.locks = false) {ty : FieldType} (hr : meth.sig.returnType = some ty) (hR : Rp G w H) (hL : LK G locs) {post : Int → Wd → Prop} {z : Int} (hn : narrow ty (.int (iI z)) = .int (iI z)) (hp : post z w) (hc : cells ≤ mc) (hs : slots ≤ ms) {mc0 ms0 : Nat} (e1 : mc = mc0) (e2 : ms = ms0) (d : decode cc pc = .ok (.ireturn, 1)) :
    W p l e (rmk lv mc ms) s m args below meth c H locs cells slots (MQ below (QI G post) args s mc0 ms0 (frG G)) (F0 m pc ls [.int (iI z)]) := by
  subst e1; subst e2
  exact W.widen (k := mc) (n := ms) hc hs (W.zret hx hb hr hn (fun t ht _ => ⟨z, w, rfl, by rw [ht]; exact hR, hp⟩) hL d hlk)
theorem h_areturn (hx : p.tables.exec = Jvm.exec) (hb : c.code = cc) (hlk : meth.locks = false) {ty : FieldType} (hr : meth.sig.returnType = some ty) (hrt : (∃ n, ty = .object n) ∨ ∃ t, ty = .array t) (hR : Rp G w H) (hL : LK G locs) {post : Nat → Wd → Prop} {z : Nat} (hp : post z w) (hc : cells ≤ mc) (hs : slots ≤ ms) {mc0 ms0 : Nat} (e1 : mc = mc0) (e2 : ms = ms0) (d : decode cc pc = .ok (.areturn, 1)) :
    W p l e (rmk lv mc ms) s m args below meth c H locs cells slots (MQ below (QR G post) args s mc0 ms0 (frG G)) (F0 m pc ls [.ref z]) := by
  subst e1; subst e2
  exact W.widen (k := mc) (n := ms) hc hs (W.aret hx hb hr hrt (Or.inr ⟨z, rfl⟩) (fun t ht _ => ⟨z, w, rfl, by rw [ht]; exact hR, hp⟩) hL d hlk)
theorem h_nreturn (hx : p.tables.exec = Jvm.exec) (hb : c.code = cc) (hlk : meth.locks = false) {ty : FieldType} (hr : meth.sig.returnType = some ty) (hrt : (∃ n, ty = .object n) ∨ ∃ t, ty = .array t) (hR : Rp G w H) (hL : LK G locs) {post : Option Nat → Wd → Prop} {v : Value} (z : Option Nat) (hv : v = va_rf z) (hp : post z w) (hc : cells ≤ mc) (hs : slots ≤ ms) {mc0 ms0 : Nat} (e1 : mc = mc0) (e2 : ms = ms0) (d : decode cc pc = .ok (.areturn, 1)) :
    W p l e (rmk lv mc ms) s m args below meth c H locs cells slots (MQ below (QN G post) args s mc0 ms0 (frG G)) (F0 m pc ls [v]) := by
  subst e1; subst e2; subst hv
  exact W.widen (k := mc) (n := ms) hc hs (W.aret hx hb hr hrt (by cases z with | none => exact Or.inl rfl | some a => exact Or.inr ⟨a, rfl⟩) (fun t ht _ => ⟨z, w, rfl, by rw [ht]; exact hR, hp⟩) hL d hlk)
theorem h_vreturn (hx : p.tables.exec = Jvm.exec) (hb : c.code = cc) (hlk : meth.locks = false) (hr : meth.sig.returnType = none) (hR : Rp G w H) (hL : LK G locs) {post : Wd → Prop} (hp : post w) (hc : cells ≤ mc) (hs : slots ≤ ms) {mc0 ms0 : Nat} (e1 : mc = mc0) (e2 : ms = ms0) (d : decode cc pc = .ok (.return_, 1)) :
    W p l e (rmk lv mc ms) s m args below meth c H locs cells slots (MQ below (QV G post) args s mc0 ms0 (frG G)) (F0 m pc ls []) := by
  subst e1; subst e2
  exact W.widen (k := mc) (n := ms) hc hs (W.vret hx hb hr (fun t ht _ => ⟨w, rfl, by rw [ht]; exact hR, hp⟩) hL d hlk)
theorem h_lreturn (hx : p.tables.exec = Jvm.exec) (hb : c.code = cc) (hlk : meth.locks = false) (hr : meth.sig.returnType = some .long) (hR : Rp G w H) (hL : LK G locs) {post : Int → Wd → Prop} {z : Int} (hp : post z w) (hc : cells ≤ mc) (hs : slots ≤ ms) {mc0 ms0 : Nat} (e1 : mc = mc0) (e2 : ms = ms0) (d : decode cc pc = .ok (.lreturn, 1)) :
    W p l e (rmk lv mc ms) s m args below meth c H locs cells slots (MQ below (QL G post) args s mc0 ms0 (frG G)) (F0 m pc ls [.long (lI z)]) := by
  subst e1; subst e2
  exact W.widen (k := mc) (n := ms) hc hs (W.lret hx hb hr (fun t ht _ => ⟨z, w, rfl, by rw [ht]; exact hR, hp⟩) hL d hlk)
/-! the start of a method -/
theorem HM.mk {y : MethodName} {av : List Value} {maxL : Nat} {ret : Option FieldType} {Qc : Array Value → State → Outcome → State → Prop} (hy : plainName y.cls = true) (hlen : (lg_sl av).length ≤ maxL)
    (body : ∀ (p : Program) (e : Env) (s : State) (m : MethodId) (args : Array Value) (below : List Frame) (meth : Method) (c : Code) (ls : Array Slot), HX G p s m args c cc maxL y.cls → meth.sig.returnType = ret → meth.locks = false → meth.name = y.name → lv_has ls maxL (lv_args 0 av) → ∀ (H : Heap), Rp G w H →
      W p l e (rmk lv mc ms) s m args below meth c H [] 0 0 (MQ below Qc args s mc ms (frG G)) (F0 m 0 ls [])) : HM l y cc maxL ret lv mc ms G av w Qc := by
  refine Met.ofW (cc := cc) (maxL := maxL) (ret := ret) hy rfl ?_
  intro p e s m args below meth c s₁ B hml hv
  obtain ⟨rfl, hR, hK⟩ := hv
  have hts := atoms_spec (ws := ws_ y cc maxL ret) B.pre
  have hts : ∀ w ∈ lw_all, w.before _ s = true := fun w h => hts w (List.mem_cons_of_mem _ h)
  rw [lg_entry_eq]
  exact body p e s m _ below meth c _ ⟨⟨B.exec, B.bytes, hml, findClass_of_methodNamed B.named, hts⟩, hK⟩ B.returns B.notSynchronized (name_of_methodNamed B.named B.method).1 (lv_entry av hlen) s.heap hR
end HWC
