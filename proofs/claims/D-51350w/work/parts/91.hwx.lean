/-! HW: methods that may throw -/
set_option maxRecDepth 100000
def XW (G : Gl) (px : Nat → String → Wd → Prop) : Addr → String → State → State → Prop := fun q E _ t => ∃ w' : Wd, Rp G w' t.heap ∧ px q E w'
/-- a contract of a method that returns (Qc) or throws (px: the cell, its class, the world) -/
abbrev HMX (l : Launch) (y : MethodName) (cc : ByteArray) (maxL : Nat) (ret : Option FieldType) (lv mc ms : Nat) (G : Gl) (av : List Value) (w : Wd) (Qc : Array Value → State → Outcome → State → Prop) (px : Nat → String → Wd → Prop) : Prop := vx_Met l y (ws_ y cc maxL ret) (rmk lv mc ms) (PP G av w) Qc (XW G px) mc ms (frG G)
/-- .. of one with handlers hh -/
abbrev HMT (l : Launch) (y : MethodName) (cc : ByteArray) (maxL : Nat) (ret : Option FieldType) (hh : List (Nat × Nat × Nat × Nat)) (lv mc ms : Nat) (G : Gl) (av : List Value) (w : Wd) (Qc : Array Value → State → Outcome → State → Prop) (px : Nat → String → Wd → Prop) : Prop := vx_Met l y (wsW_ y cc maxL ret hh) (rmk lv mc ms) (PP G av w) Qc (XW G px) mc ms (frG G)
theorem Rp.grow {G : Gl} {w : Wd} {H H1 : Heap} (h : Rp G w H) (hz : H.size ≤ H1.size) (oq : ∀ q : Nat, q < H.size → H1[q]? = H[q]?) : Rp G w H1 :=
  ⟨Nat.le_trans h.1 hz, fun a ha => by rw [oq a (Nat.lt_of_lt_of_le ha h.1)]; exact h.2.1 a ha, fun a r e ha => ⟨((h.2.2.1 a r e ha).1).kept (oq a (h.lt ha)), (h.2.2.1 a r e ha).2⟩, h.2.2.2⟩
section HWX
variable {G : Gl} {p : Program} {l : Launch} {e : Env} {s : State} {m : MethodId} {args : Array Value} {below : List Frame} {meth : Method} {c : Code} {H : Heap} {locs : List Loc} {cells slots : Nat} {Q : State → Prop}
variable {cc : ByteArray} {own : String} {nL lv mc ms : Nat} {pc : Nat} {ls : Array Slot} {rest : List Value} {w : Wd} {a r : Nat} {px : Nat → String → Wd → Prop}
theorem h_xrunV (X : HX G p s m args c cc nL own) (hR : Rp G w H) {y : MethodName} {bytes : ByteArray} {maxL lv2 mc2 ms2 idx : Nat} {ret : Option FieldType} {b : Nat} {As : List Value} {Qc : Array Value → State → Outcome → State → Prop} (M : HMX l y bytes maxL ret lv2 mc2 ms2 G (.ref b :: As) w Qc px) (hn : ParN y As.length) (hb : hasC w b y.cls)
    (q1 : Cond.methodLink own idx y ∈ lw_all) (q2 : Cond.instanceMethod y ∈ lw_all) (q3 : Cond.selects y.cls y y ∈ lw_all) (q4 : Cond.initialized y.cls ∈ lw_all) (q5 : Cond.code y bytes maxL ret ∈ lw_all)
    (hlv : lv2 + 1 ≤ lv ∧ maxL + 19 + 100 * lv2 ≤ 100 * lv) (hsz : ls.size = nL) (hcat : (rest.map fun v => v.category).sum ≤ 8) (d : decode cc pc = .ok (.invokevirtual idx, 3)) (hc : cells + mc2 ≤ mc ∧ slots + ms2 ≤ ms) :
    vx_Run p l e (rmk lv mc ms) s m args below meth c H locs cells slots mc2 ms2 (F0 m pc ls (As.reverse ++ .ref b :: rest)) rest (Qc (Value.ref b :: As).toArray) (XW G px) (frG G) :=
  vx_runV X.1 M (cwV As.length X.1.2.2.2.2 (lw_V q1 q2 q3 q4 q5) rfl rfl rfl ⟨rfl, hn.1.1, hn.1.2, hn.2⟩ ⟨hlv.1, by have := hlv.2; show 8 + (maxL + 11) + 100 * lv2 ≤ 100 * lv; omega⟩) ⟨PP.blind G _ w, hb.recv hR X.2, PP.of X.2 hR _⟩ rfl rfl hsz rfl (lv_room hcat) d hc
theorem h_xrunS (X : HX G p s m args c cc nL own) (hR : Rp G w H) {y : MethodName} {bytes : ByteArray} {maxL lv2 mc2 ms2 idx : Nat} {ret : Option FieldType} {As : List Value} {Qc : Array Value → State → Outcome → State → Prop} (M : HMX l y bytes maxL ret lv2 mc2 ms2 G As w Qc px) (hn : ParN y As.length)
    (q1 : Cond.methodLink own idx y ∈ lw_all) (q2 : Cond.static y ∈ lw_all) (q4 : Cond.initialized y.cls ∈ lw_all) (q5 : Cond.code y bytes maxL ret ∈ lw_all)
    (hlv : lv2 + 1 ≤ lv ∧ maxL + 19 + 100 * lv2 ≤ 100 * lv) (hsz : ls.size = nL) (hcat : (rest.map fun v => v.category).sum ≤ 8) (d : decode cc pc = .ok (.invokestatic idx, 3)) (hc : cells + mc2 ≤ mc ∧ slots + ms2 ≤ ms) :
    vx_Run p l e (rmk lv mc ms) s m args below meth c H locs cells slots mc2 ms2 (F0 m pc ls (As.reverse ++ rest)) rest (Qc As.toArray) (XW G px) (frG G) :=
  vx_runS X.1 M (va_cwS As.length X.1.2.2.2.2 (lw_S q1 q2 q4 q5) rfl rfl rfl ⟨hn.1.1, hn.1.2, hn.2⟩ ⟨hlv.1, by have := hlv.2; show 8 + (maxL + 11) + 100 * lv2 ≤ 100 * lv; omega⟩) ⟨PP.blind G _ w, PP.of X.2 hR _⟩ rfl rfl hsz rfl (lv_room hcat) d hc
theorem h_xrunU (X : HX G p s m args c cc nL own) (hR : Rp G w H) {x y : MethodName} {C owner : String} {bytes : ByteArray} {maxL lv2 mc2 ms2 idx : Nat} {ret : Option FieldType} {b : Nat} {As : List Value} {Qc : Array Value → State → Outcome → State → Prop} (M : HMX l y bytes maxL ret lv2 mc2 ms2 G (.ref b :: As) w Qc px) (ho : NoMH owner) (hn : ParN x As.length) (hb : hasC w b C)
    (q1 : Cond.methodLink own idx x ∈ lw_all) (qs : Cond.sameMethod x.cls owner x.name x.desc ∈ lw_all) (hD : va_Decl s ⟨owner, x.name, x.desc⟩) (hsel : (Cond.selects C x y).before args s = true) (q2 : Cond.instanceMethod y ∈ lw_all) (q4 : Cond.initialized y.cls ∈ lw_all) (q5 : Cond.code y bytes maxL ret ∈ lw_all)
    (hlv : lv2 + 1 ≤ lv ∧ maxL + 19 + 100 * lv2 ≤ 100 * lv) (hsz : ls.size = nL) (hcat : (rest.map fun v => v.category).sum ≤ 8) (d : decode cc pc = .ok (.invokevirtual idx, 3)) (hc : cells + mc2 ≤ mc ∧ slots + ms2 ≤ ms) :
    vx_Run p l e (rmk lv mc ms) s m args below meth c H locs cells slots mc2 ms2 (F0 m pc ls (As.reverse ++ .ref b :: rest)) rest (Qc (Value.ref b :: As).toArray) (XW G px) (frG G) := by
  have hts := X.1.2.2.2.2
  have hG := lw_meth q5
  have hcw : va_CU (rmk lv mc ms) s args own C owner idx x y bytes maxL ret (ws_ y bytes maxL ret) (rmk lv2 mc2 ms2) mc2 ms2 As.length := by
    refine ⟨⟨rfl, rfl, hlv.1, by have := hlv.2; show 8 + (maxL + 11) + 100 * lv2 ≤ 100 * lv; omega, pay_in hts hG, List.mem_cons_self⟩, hts _ q5, hts _ q4, ho, fun sig h => ?_, hts _ q1, hts _ qs, hD, hsel, hts _ q2⟩
    have h2 := hn.2
    rw [h] at h2
    exact (Option.some.inj h2).symm
  exact vx_runU X.1 M hcw ⟨PP.blind G _ w, hb.recv hR X.2, PP.of X.2 hR _⟩ rfl rfl hsz rfl (lv_room hcat) d hc
/-- a method with handlers -/
theorem h_xrunT (X : HX G p s m args c cc nL own) (hR : Rp G w H) {y : MethodName} {bytes : ByteArray} {maxL lv2 mc2 ms2 idx : Nat} {ret : Option FieldType} {hh : List (Nat × Nat × Nat × Nat)} {b : Nat} {As : List Value} {Qc : Array Value → State → Outcome → State → Prop} (M : HMT l y bytes maxL ret hh lv2 mc2 ms2 G (.ref b :: As) w Qc px) (hn : ParN y As.length) (hb : hasC w b y.cls)
    (q1 : Cond.methodLink own idx y ∈ lw_all) (q2 : Cond.instanceMethod y ∈ lw_all) (q3 : Cond.selects y.cls y y ∈ lw_all) (q4 : Cond.initialized y.cls ∈ lw_all) (q5 : Cond.codeWith y bytes maxL ret hh ∈ lw_all)
    (hlv : lv2 + 1 ≤ lv ∧ maxL + 19 + 100 * lv2 ≤ 100 * lv) (hsz : ls.size = nL) (hcat : (rest.map fun v => v.category).sum ≤ 8) (d : decode cc pc = .ok (.invokevirtual idx, 3)) (hc : cells + mc2 ≤ mc ∧ slots + ms2 ≤ ms) :
    vx_Run p l e (rmk lv mc ms) s m args below meth c H locs cells slots mc2 ms2 (F0 m pc ls (As.reverse ++ .ref b :: rest)) rest (Qc (Value.ref b :: As).toArray) (XW G px) (frG G) :=
  vx_runVX (hh := hh) X.1 M (vx_cwVW As.length X.1.2.2.2.2 (lw_VW q1 q2 q3 q4 q5) rfl rfl rfl ⟨rfl, hn.1.1, hn.1.2, hn.2⟩ ⟨hlv.1, by have := hlv.2; show 8 + (maxL + 11) + 100 * lv2 ≤ 100 * lv; omega⟩) ⟨PP.blind G _ w, hb.recv hR X.2, PP.of X.2 hR _⟩ rfl rfl hsz rfl (lv_room hcat) d hc
theorem h_xrunTS (X : HX G p s m args c cc nL own) (hR : Rp G w H) {y : MethodName} {bytes : ByteArray} {maxL lv2 mc2 ms2 idx : Nat} {ret : Option FieldType} {hh : List (Nat × Nat × Nat × Nat)} {As : List Value} {Qc : Array Value → State → Outcome → State → Prop} (M : HMT l y bytes maxL ret hh lv2 mc2 ms2 G As w Qc px) (hn : ParN y As.length)
    (q1 : Cond.methodLink own idx y ∈ lw_all) (q2 : Cond.static y ∈ lw_all) (q4 : Cond.initialized y.cls ∈ lw_all) (q5 : Cond.codeWith y bytes maxL ret hh ∈ lw_all)
    (hlv : lv2 + 1 ≤ lv ∧ maxL + 19 + 100 * lv2 ≤ 100 * lv) (hsz : ls.size = nL) (hcat : (rest.map fun v => v.category).sum ≤ 8) (d : decode cc pc = .ok (.invokestatic idx, 3)) (hc : cells + mc2 ≤ mc ∧ slots + ms2 ≤ ms) :
    vx_Run p l e (rmk lv mc ms) s m args below meth c H locs cells slots mc2 ms2 (F0 m pc ls (As.reverse ++ rest)) rest (Qc As.toArray) (XW G px) (frG G) :=
  vx_runSX (hh := hh) X.1 M (vx_cwSW As.length X.1.2.2.2.2 (lw_SW q1 q2 q4 q5) rfl rfl rfl ⟨hn.1.1, hn.1.2, hn.2⟩ ⟨hlv.1, by have := hlv.2; show 8 + (maxL + 11) + 100 * lv2 ≤ 100 * lv; omega⟩) ⟨PP.blind G _ w, PP.of X.2 hR _⟩ rfl rfl hsz rfl (lv_room hcat) d hc
/-! behind such a call -/
variable {mc2 ms2 : Nat} {st0 : List Value} {av : Array Value}
theorem h_x_k (hL : LK G locs) {Qa : State → Outcome → State → Prop}
    (hr : vx_Run p l e (rmk lv mc ms) s m args below meth c H locs cells slots mc2 ms2 (F0 m pc ls st0) rest Qa (XW G px) (frG G))
    (kx : ∀ (q : Nat) (E : String) (ce : Cell) (w1 : Wd), px q E w1 → ∀ (H1 : Heap) (locs1 : List Loc), Rp G w1 H1 → LK G locs1 → H1[q]? = some ce → ce.vm = .none → s.vm.findClass E = some ce.cls → vx_W p l e (rmk lv mc ms) s m args below meth c H1 locs1 (cells + mc2) (slots + ms2) Q (F0 m pc ls rest) q)
    (kk : ∀ (v : Option Value) (st₀ t : State) (H1 : Heap) (locs1 : List Loc), Qa st₀ (.returned v) t → t.heap = H1 → LK G locs1 → W p l e (rmk lv mc ms) s m args below meth c H1 locs1 (cells + mc2) (slots + ms2) Q (F0 m (pc + 3) ls (v.toList ++ rest))) : W p l e (rmk lv mc ms) s m args below meth c H locs cells slots Q (F0 m pc ls st0) := by
  intro T hT X
  rcases hr T hT X with ⟨v, st₀, t, T', L, h0, X', hL', e1, e2, hq, st⟩ | ⟨q, st₀, t, T', L, E, ce, h0, X', hL', e1, e2, ⟨w1, hR1, hp⟩, hce, hcv, hcl, st⟩
  · obtain ⟨t2, a1, b1⟩ := kk v st₀ t T'.heap (locs ++ L) hq e1.symm (fun q hq => by
      rcases List.mem_append.mp hq with h | h
      · exact hL q h
      · exact hL' q h) T' rfl X'
    exact ⟨t2, st t2 a1, b1⟩
  · obtain ⟨t2, a1, b1⟩ := kx q E ce w1 hp T'.heap (locs ++ L) (by rw [e1]; exact hR1) (fun q hq => by
      rcases List.mem_append.mp hq with h | h
      · exact hL q h
      · exact hL' q h) (by rw [e1]; exact hce) hcv hcl T' rfl X'
    exact ⟨t2, st.trans a1, b1⟩
theorem h_xI {post : Int → Wd → Prop} (hr : vx_Run p l e (rmk lv mc ms) s m args below meth c H locs cells slots mc2 ms2 (F0 m pc ls st0) rest (QI G post av) (XW G px) (frG G)) (hL : LK G locs)
    (kx : ∀ (q : Nat) (E : String) (ce : Cell) (w1 : Wd), px q E w1 → ∀ (H1 : Heap) (locs1 : List Loc), Rp G w1 H1 → LK G locs1 → H1[q]? = some ce → ce.vm = .none → s.vm.findClass E = some ce.cls → vx_W p l e (rmk lv mc ms) s m args below meth c H1 locs1 (cells + mc2) (slots + ms2) Q (F0 m pc ls rest) q)
    (kk : ∀ (z : Int) (w1 : Wd), post z w1 → ∀ (H1 : Heap) (locs1 : List Loc), Rp G w1 H1 → LK G locs1 → W p l e (rmk lv mc ms) s m args below meth c H1 locs1 (cells + mc2) (slots + ms2) Q (F0 m (pc + 3) ls (.int (iI z) :: rest))) : W p l e (rmk lv mc ms) s m args below meth c H locs cells slots Q (F0 m pc ls st0) := by
  refine h_x_k hL hr kx fun v st₀ t H1 locs1 hq ht hL1 => ?_
  obtain ⟨z, w1, hv, hR1, hp⟩ := hq
  cases hv
  exact kk z w1 hp H1 locs1 (ht ▸ hR1) hL1
theorem h_xF {post : UInt32 → Wd → Prop} (hr : vx_Run p l e (rmk lv mc ms) s m args below meth c H locs cells slots mc2 ms2 (F0 m pc ls st0) rest (QF G post av) (XW G px) (frG G)) (hL : LK G locs)
    (kx : ∀ (q : Nat) (E : String) (ce : Cell) (w1 : Wd), px q E w1 → ∀ (H1 : Heap) (locs1 : List Loc), Rp G w1 H1 → LK G locs1 → H1[q]? = some ce → ce.vm = .none → s.vm.findClass E = some ce.cls → vx_W p l e (rmk lv mc ms) s m args below meth c H1 locs1 (cells + mc2) (slots + ms2) Q (F0 m pc ls rest) q)
    (kk : ∀ (z : UInt32) (w1 : Wd), post z w1 → ∀ (H1 : Heap) (locs1 : List Loc), Rp G w1 H1 → LK G locs1 → W p l e (rmk lv mc ms) s m args below meth c H1 locs1 (cells + mc2) (slots + ms2) Q (F0 m (pc + 3) ls (.float z :: rest))) : W p l e (rmk lv mc ms) s m args below meth c H locs cells slots Q (F0 m pc ls st0) := by
  refine h_x_k hL hr kx fun v st₀ t H1 locs1 hq ht hL1 => ?_
  obtain ⟨z, w1, hv, hR1, hp⟩ := hq
  cases hv
  exact kk z w1 hp H1 locs1 (ht ▸ hR1) hL1
theorem h_xR {post : Nat → Wd → Prop} (hr : vx_Run p l e (rmk lv mc ms) s m args below meth c H locs cells slots mc2 ms2 (F0 m pc ls st0) rest (QR G post av) (XW G px) (frG G)) (hL : LK G locs)
    (kx : ∀ (q : Nat) (E : String) (ce : Cell) (w1 : Wd), px q E w1 → ∀ (H1 : Heap) (locs1 : List Loc), Rp G w1 H1 → LK G locs1 → H1[q]? = some ce → ce.vm = .none → s.vm.findClass E = some ce.cls → vx_W p l e (rmk lv mc ms) s m args below meth c H1 locs1 (cells + mc2) (slots + ms2) Q (F0 m pc ls rest) q)
    (kk : ∀ (z : Nat) (w1 : Wd), post z w1 → ∀ (H1 : Heap) (locs1 : List Loc), Rp G w1 H1 → LK G locs1 → W p l e (rmk lv mc ms) s m args below meth c H1 locs1 (cells + mc2) (slots + ms2) Q (F0 m (pc + 3) ls (.ref z :: rest))) : W p l e (rmk lv mc ms) s m args below meth c H locs cells slots Q (F0 m pc ls st0) := by
  refine h_x_k hL hr kx fun v st₀ t H1 locs1 hq ht hL1 => ?_
  obtain ⟨z, w1, hv, hR1, hp⟩ := hq
  cases hv
  exact kk z w1 hp H1 locs1 (ht ▸ hR1) hL1
theorem h_xV {post : Wd → Prop} (hr : vx_Run p l e (rmk lv mc ms) s m args below meth c H locs cells slots mc2 ms2 (F0 m pc ls st0) rest (QV G post av) (XW G px) (frG G)) (hL : LK G locs)
    (kx : ∀ (q : Nat) (E : String) (ce : Cell) (w1 : Wd), px q E w1 → ∀ (H1 : Heap) (locs1 : List Loc), Rp G w1 H1 → LK G locs1 → H1[q]? = some ce → ce.vm = .none → s.vm.findClass E = some ce.cls → vx_W p l e (rmk lv mc ms) s m args below meth c H1 locs1 (cells + mc2) (slots + ms2) Q (F0 m pc ls rest) q)
    (kk : ∀ (w1 : Wd), post w1 → ∀ (H1 : Heap) (locs1 : List Loc), Rp G w1 H1 → LK G locs1 → W p l e (rmk lv mc ms) s m args below meth c H1 locs1 (cells + mc2) (slots + ms2) Q (F0 m (pc + 3) ls rest)) : W p l e (rmk lv mc ms) s m args below meth c H locs cells slots Q (F0 m pc ls st0) := by
  refine h_x_k hL hr kx fun v st₀ t H1 locs1 hq ht hL1 => ?_
  obtain ⟨w1, hv, hR1, hp⟩ := hq
  cases hv
  exact kk w1 hp H1 locs1 (ht ▸ hR1) hL1
/-! the ends of a body that throws -/
variable {Qc : Array Value → State → Outcome → State → Prop}
theorem h_xout {q : Nat} {E : String} {ce : Cell} (ht : ∀ x ∈ c.exceptionTable.toList, covers x pc = false) (hlk : meth.locks = false) (hce : H[q]? = some ce) (hcv : ce.vm = .none) (hcl : s.vm.findClass E = some ce.cls) (hR : Rp G w H) (hL : LK G locs) (hp : px q E w) (hc : cells ≤ mc) (hs : slots ≤ ms) {mc0 ms0 : Nat} (e1 : mc = mc0) (e2 : ms = ms0) :
    vx_W p l e (rmk lv mc ms) s m args below meth c H locs cells slots (vx_MQ below Qc (XW G px) args s mc0 ms0 (frG G)) (F0 m pc ls rest) q := by
  subst e1; subst e2
  exact vx_out ht hlk hce hcv hcl (fun t ht _ => ⟨w, by rw [ht]; exact hR, hp⟩) hL hc hs
def tbE (q : Nat × Nat × Nat × Nat) : ExceptionTableEntry := ⟨q.1, q.2.1, q.2.2.1, q.2.2.2⟩
/-- caught by the row x; the rows ahead name other classes -/
theorem h_xcatch (X : HX G p s m args c cc nL own) {q : Nat} {E name : String} {ce : Cell} (pre : List (Nat × Nat × Nat × Nat)) (x : Nat × Nat × Nat × Nat) (suf : List (Nat × Nat × Nat × Nat)) (ht : c.exceptionTable.toList = tableOf (pre ++ x :: suf))
    (hpass : ∀ z ∈ pre, (tbE z).catchType ≠ 0 ∧ ∃ nm : String, Cond.classLink own (tbE z).catchType nm ∈ lw_all ∧ va_Nc E nm s) (hx : covers (tbE x) pc = true) (h0 : x.2.2.2 ≠ 0)
    (hlink : Cond.classLink own x.2.2.2 name ∈ lw_all) (hcast : Cond.castable E name ∈ lw_tbl) (hce : H[q]? = some ce) (hcv : ce.vm = .none) (hcl : s.vm.findClass E = some ce.cls)
    (kk : W p l e (rmk lv mc ms) s m args below meth c H locs cells slots Q (F0 m x.2.2.1 ls [.ref q])) : vx_W p l e (rmk lv mc ms) s m args below meth c H locs cells slots Q (F0 m pc ls rest) q := by
  refine vx_catch (own := own) (name := name) X.1.2.2.2.1 (pre.map tbE) (tbE x) (suf.map tbE) (by rw [ht]; unfold tableOf; rw [List.map_append, List.map_cons]; rfl) (fun z hz => ?_) hx h0 (X.1.2.2.2.2 _ hlink) (va_Nw.use rfl (kk_C X.2 hcast)) hce hcv hcl kk
  obtain ⟨y, hy, rfl⟩ := List.mem_map.mp hz
  obtain ⟨h1, nm, h2, h3⟩ := hpass y hy
  exact Or.inr ⟨h1, nm, X.1.2.2.2.2 _ h2, h3⟩
theorem h_athrow (X : HX G p s m args c cc nL own) (hR : Rp G w H) {q ci N : Nat} {E : String} {T : u_T} {fs : List Value} (hw : w q = some (r, oE ci fs)) (hr : r ≠ 0) (hc : HCl[ci]? = some (E, T, N)) (d : decode cc pc = .ok (.athrow, 1))
    (k : ∀ ce : Cell, H[q]? = some ce → ce.vm = .none → s.vm.findClass E = some ce.cls → vx_W p l e (rmk lv mc ms) s m args below meth c H locs cells slots Q (F0 m pc ls rest) q) : W p l e (rmk lv mc ms) s m args below meth c H locs cells slots Q (F0 m pc ls (.ref q :: rest)) := by
  obtain ⟨q1, h1, cell, g1, g2, g3, -⟩ := hR.ex hw hr
  have e1 : q1 = (E, T, N) := Option.some.inj (h1.symm.trans hc)
  subst e1
  exact vx_athrow X.1.1 X.1.2.1 d (k cell g1 g3 (by rw [g2]; exact kk_fc X.2 hR h1))
theorem kk_face1 (hK : KK G s) {x : Cond} (hw : x ∈ lw_tbl) (h : x.faceAtom = true) (ht : x.onTables = true) {A : Array Value} : x.before A s = true := by
  obtain ⟨b0, h1, -⟩ := hK.2.2.1
  exact va_tabs ht (show ((gS G).setVm s.vm).vm = s.vm from rfl) (Cond.faceAtom_setVm hK.2.1.alike x h (h1 x hw))
def xat (own : String) (ic : Nat) (cls : String) (names : List String) : Bool := (vx_at0 own ic cls names).all fun x => decide (x ∈ lw_tbl) && (goodWord x || (x.faceAtom && x.onTables)) && vx_ot x
theorem kk_at (X : HX G p s m args c cc nL own) {o : String} {ic : Nat} {cls : String} {names : List String} (h : xat o ic cls names = true) : (∀ x ∈ vx_at0 o ic cls names, x.before args s = true) ∧ ∀ x ∈ vx_at0 o ic cls names, vx_ot x = true := by
  have h1 := List.all_eq_true.mp h
  refine ⟨fun x hx => ?_, fun x hx => ?_⟩
  · have h2 := h1 x hx
    rw [Bool.and_eq_true, Bool.and_eq_true, decide_eq_true_iff, Bool.or_eq_true, Bool.and_eq_true] at h2
    rcases h2.1.2 with q | q
    · exact X.1.2.2.2.2 x (List.mem_filter.mpr ⟨h2.1.1, q⟩)
    · exact kk_face1 X.2 h2.1.1 q.1 q.2
  · have h2 := h1 x hx
    rw [Bool.and_eq_true] at h2
    exact h2.2
theorem h_Zq (X : HX G p s m args c cc nL own) (hR : Rp G w H) {C n d : String} (path : List Bool) (hp : nwAt path narrow_1 = some (.isRef (.static C n d))) (h1 : Cond.laysStatic C n d ∈ lw_tbl) (h2 : Cond.initialized C ∈ lw_all) : vx_Zq C n d (frG G) s H := by
  obtain ⟨b0, hb0, hn0⟩ := X.2.2.2.1
  rw [Cond.before_and, Bool.and_eq_true] at hn0
  have hZ0 : vx_Zq C n d (frG G) (gS G) (gH G) := vx_Zqof (hb0 _ h1) (hb0 _ (lw_all_tbl h2)) (nwAt_ok path _ _ hp hn0.2) (fun a ha => Nat.not_le_of_lt ha)
  exact (vx_Zq.moved X.2.2.1.alike hZ0).kept (H1 := H) (fun a h3 h4 => hR.2.1 a (by have : ¬ gB G ≤ a := h4; omega))
/-- 'throw new E()' -/
theorem h_throw0 (X : HX G p s m args c cc nL own) (hR : Rp G w H) (hL : LK G locs) (hl : l.stackTraces = false) {cls : String} {names : List String} {ik ic : Nat} (hcls : Bundle.fit cls = true) (hnames : ∀ n ∈ names, Bundle.fit n = true)
    (hk : Cond.classLink own ik cls ∈ lw_all) (hini : Cond.initialized cls ∈ lw_all) (hat : xat own ic cls names = true) {pU pN : List Bool} (hU : nwAt pU narrow_1 = some (.isRef (.static Bundle.tN "UNASSIGNED_STACK" Bundle.steD))) (hN : nwAt pN narrow_1 = some (.isRef (.static Bundle.tN "SUPPRESSED_SENTINEL" Bundle.listD)))
    (lU : Cond.laysStatic Bundle.tN "UNASSIGNED_STACK" Bundle.steD ∈ lw_tbl) (lN : Cond.laysStatic Bundle.tN "SUPPRESSED_SENTINEL" Bundle.listD ∈ lw_tbl) (hiT : Cond.initialized Bundle.tN ∈ lw_all) (hsize : ls.size = nL)
    (d0 : decode cc pc = .ok (.new ik, 3)) (d3 : decode cc (pc + 3) = .ok (.dup, 1)) (d4 : decode cc (pc + 4) = .ok (.invokespecial ic, 3)) (d7 : decode cc (pc + 7) = .ok (.athrow, 1)) (hout : ∀ x ∈ c.exceptionTable.toList, covers x (pc + 7) = false)
    (hRf : names.length + 3 < lv) (hRl : (rest.map fun v => v.category).sum + (13 * (names.length + 1) + 42) ≤ 100 * lv) (hc : cells + 1 ≤ mc) (hs : slots + 6 ≤ ms) (hlk : meth.locks = false) (hp : ∀ q : Nat, px q cls w) {mc0 ms0 : Nat} (e1 : mc = mc0) (e2 : ms = ms0) :
    W p l e (rmk lv mc ms) s m args below meth c H locs cells slots (vx_MQ below Qc (XW G px) args s mc0 ms0 (frG G)) (F0 m pc ls rest) := by
  subst e1; subst e2
  obtain ⟨ha, hg⟩ := kk_at X hat
  refine vx_throw0 X.1.1 X.1.2.1 hl (own := own) (cls := cls) (names := names) (ik := ik) (ic := ic) (A := frG G) X.1.2.2.2.1 hcls hnames (X.1.2.2.2.2 _ hk) (X.1.2.2.2.2 _ hini) ha (fun x hx => ?_) (h_Zq X hR pU hU lU hiT) (h_Zq X hR pN hN lN hiT) (hsize.trans X.1.2.2.1.symm) d0 d3 d4 d7 hout hRf hRl hc hs hlk (fun t _ hz oq q0 => ⟨w, hR.grow hz oq, hp q0⟩) hL hc hs
  rcases List.mem_cons.mp hx with q | hx
  · rw [q]; exact Bool.or_eq_true _ _ ▸ Or.inr (List.mem_filter.mp hk).2
  rcases List.mem_cons.mp hx with q | hx
  · rw [q]; exact Bool.or_eq_true _ _ ▸ Or.inr (List.mem_filter.mp hini).2
  exact hg x hx
/-! the start of such a method -/
theorem HMX.mk {y : MethodName} {av : List Value} {maxL : Nat} {ret : Option FieldType} (hy : plainName y.cls = true) (hlen : (lg_sl av).length ≤ maxL)
    (body : ∀ (p : Program) (e : Env) (s : State) (m : MethodId) (args : Array Value) (below : List Frame) (meth : Method) (c : Code) (ls : Array Slot), HX G p s m args c cc maxL y.cls → meth.sig.returnType = ret → meth.locks = false → meth.name = y.name → (∀ x ∈ c.exceptionTable.toList, ∀ k : Nat, covers x k = false) → lv_has ls maxL (lv_args 0 av) → ∀ (H : Heap), Rp G w H →
      W p l e (rmk lv mc ms) s m args below meth c H [] 0 0 (vx_MQ below Qc (XW G px) args s mc ms (frG G)) (F0 m 0 ls [])) : HMX l y cc maxL ret lv mc ms G av w Qc px := by
  refine vx_ofW (cc := cc) (maxL := maxL) (ret := ret) hy rfl ?_
  intro p e s m args below meth c s₁ B hml ht hv
  obtain ⟨rfl, hR, hK⟩ := hv
  have hts := atoms_spec (ws := ws_ y cc maxL ret) B.pre
  have hts : ∀ w ∈ lw_all, w.before _ s = true := fun w h => hts w (List.mem_cons_of_mem _ h)
  rw [lg_entry_eq]
  exact body p e s m _ below meth c _ ⟨⟨B.exec, B.bytes, hml, findClass_of_methodNamed B.named, hts⟩, hK⟩ B.returns B.notSynchronized (name_of_methodNamed B.named B.method).1 (fun x hx => absurd (ht x hx) id) (lv_entry av hlen) s.heap hR
theorem HMT.mk {y : MethodName} {av : List Value} {maxL : Nat} {ret : Option FieldType} {hh : List (Nat × Nat × Nat × Nat)} (hy : plainName y.cls = true) (hlen : (lg_sl av).length ≤ maxL)
    (body : ∀ (p : Program) (e : Env) (s : State) (m : MethodId) (args : Array Value) (below : List Frame) (meth : Method) (c : Code) (ls : Array Slot), HX G p s m args c cc maxL y.cls → meth.sig.returnType = ret → meth.locks = false → meth.name = y.name → c.exceptionTable.toList = tableOf hh → lv_has ls maxL (lv_args 0 av) → ∀ (H : Heap), Rp G w H →
      W p l e (rmk lv mc ms) s m args below meth c H [] 0 0 (vx_MQ below Qc (XW G px) args s mc ms (frG G)) (F0 m 0 ls [])) : HMT l y cc maxL ret hh lv mc ms G av w Qc px := by
  refine vx_ofWH (cc := cc) (maxL := maxL) (ret := ret) (hh := hh) hy rfl ?_
  intro p e s m args below meth c s₁ B hml hv
  obtain ⟨rfl, hR, hK⟩ := hv
  have hts0 := atoms_spec (ws := wsW_ y cc maxL ret hh) B.pre
  have hts : ∀ w ∈ lw_all, w.before _ s = true := fun w h => hts0 w (List.mem_cons_of_mem _ h)
  rw [lg_entry_eq]
  exact body p e s m _ below meth c _ ⟨⟨B.exec, B.bytes, hml, findClass_of_methodNamed B.named, hts⟩, hK⟩ B.returns B.notSynchronized (name_of_methodNamed B.named B.method).1 (vx_table (x := y) B (hts0 _ List.mem_cons_self)) (lv_entry av hlen) s.heap hR
end HWX
theorem tb_out {c : Code} {hh : List (Nat × Nat × Nat × Nat)} (ht : c.exceptionTable.toList = tableOf hh) {pc : Nat} (h : (hh.all fun x => !covers (tbE x) pc) = true) : ∀ x ∈ c.exceptionTable.toList, covers x pc = false := by
  intro x hx
  rw [ht] at hx
  obtain ⟨y, hy, rfl⟩ := List.mem_map.mp hx
  have h1 := List.all_eq_true.mp h y hy
  rw [Bool.not_eq_true'] at h1
  exact h1
theorem xat_SpokenMarks_9 : xat "SpokenMarks" 9 "java/lang/IllegalArgumentException" ["java/lang/RuntimeException", "java/lang/Exception"] = true := by decide +kernel
theorem xat_SpokenMarks_3 : xat "SpokenMarks" 3 "java/util/NoSuchElementException" ["java/lang/RuntimeException", "java/lang/Exception"] = true := by decide +kernel
