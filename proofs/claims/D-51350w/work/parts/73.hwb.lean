/-! HW: class objects, clones, calls of inherited methods, lookup switches -/
set_option maxRecDepth 100000
section HWB
variable {G : Gl} {p : Program} {l : Launch} {e : Env} {s : State} {m : MethodId} {args : Array Value} {below : List Frame} {meth : Method} {c : Code} {H : Heap} {locs : List Loc} {cells slots : Nat} {Q : State → Prop}
variable {cc : ByteArray} {own : String} {nL lv mc ms : Nat} {pc : Nat} {ls : Array Slot} {rest : List Value} {w : Wd} {a r : Nat}
/-- a class has its object -/
theorem kk_M (hK : KK G s) {C : String} (path : List Bool) (hp : nwAt path narrow_1 = some (.isRef (.mirror C))) : ∃ mi : Nat, va_Mi C mi (gS G) := by
  obtain ⟨b0, -, h2⟩ := hK.2.2.1
  rw [Cond.before_and, Bool.and_eq_true] at h2
  exact va_Mi.of (nwAt_ok path _ _ hp h2.2)
theorem h_ldcM (X : HX G p s m args c cc nL own) {C : String} {index mi : Nat} (hM : va_Mi C mi (gS G)) (hcl : Cond.classLink own index C ∈ lw_all) (d : decode cc pc = .ok (.ldc index, 2))
    (kk : W p l e (rmk lv mc ms) s m args below meth c H locs cells slots Q (F0 m (pc + 2) ls (.ref mi :: rest))) : W p l e (rmk lv mc ms) s m args below meth c H locs cells slots Q (F0 m pc ls rest) :=
  va_ldcM X.1.1 X.1.2.1 X.1.2.2.2.1 (X.1.2.2.2.2 _ hcl) (va_Mi.moved X.2.2.1.alike hM) d kk
abbrev gcY : MethodName := ⟨"java/lang/Object", "getClass", "()Ljava/lang/Class;"⟩
theorem arr_nm (hK : KK G s) {k : Nat} {E nm : String} (hk : (gTys G)[k]? = some (gA G k, .object E)) (e : "[" ++ (FieldType.object E).toString = nm) : s.vm.findClass nm = some (gA G k) := va_nmO (hK.1.2 k _ hk).2 e
theorem arr_recv (hR : Rp G w H) {x : vp_A} {cA : ClassId} (hw : w a = some (r, .inl (.inl (cA, x)))) : ∃ cell : Cell, H[a]? = some cell ∧ cell.vm.isStatics = false ∧ cell.cls = cA := by
  obtain ⟨cell, g1, g2, g3, g4, g5⟩ := hR.ar hw
  exact ⟨cell, g1, g4.2, g2⟩
/-- getClass of an array of references -/
theorem h_getCA (X : HX G p s m args c cc nL own) (hR : Rp G w H) (hml : ls.size = nL) {k n : Nat} {E nm : String} {f : Nat → Option Nat} (hw : w a = some (r, rE G k n f)) (hk : (gTys G)[k]? = some (gA G k, .object E)) (hnm : "[" ++ (FieldType.object E).toString = nm) {index mi : Nat} (hM : va_Mi nm mi (gS G)) (hlink : Cond.methodLink own index gcY ∈ lw_all) (hde : Cond.declares gcY ∈ lw_tbl) (hsel : Cond.selects nm gcY gcY ∈ lw_all) (hin : Cond.instanceMethod gcY ∈ lw_all) (hnat : Cond.native gcY ∈ lw_all) (hlv : 1 ≤ lv ∧ (rest.map fun v => v.category).sum + 14 ≤ 100 * lv) (d : decode cc pc = .ok (.invokevirtual index, 3))
    (kk : W p l e (rmk lv mc ms) s m args below meth c H locs cells slots Q (F0 m (pc + 3) ls (.ref mi :: rest))) : W p l e (rmk lv mc ms) s m args below meth c H locs cells slots Q (F0 m pc ls (.ref a :: rest)) := by
  obtain ⟨cell0, g1, g2, g3⟩ := arr_recv hR hw
  exact va_getC X.1.1 X.1.2.1 (X.1.2.2.1.trans hml.symm) X.1.2.2.2.1 (X.1.2.2.2.2 _ hlink) (va_Nw.use rfl (kk_nw X.2 hde rfl (fun hW h => va_Nw.warmD hW h))) (X.1.2.2.2.2 _ hsel) (X.1.2.2.2.2 _ hin) (X.1.2.2.2.2 _ hnat) (va_Mi.moved X.2.2.1.alike hM) ⟨_, g1, g2, by rw [g3]; exact arr_nm X.2 hk hnm⟩ hlv.1 hlv.2 d kk
/-- an interface's name of getClass -/
theorem selFace {xi : MethodName} (hname : xi.name = "getClass") (hdesc : xi.desc = "()Ljava/lang/Class;") {C : String} (h1 : (Cond.selects C gcY gcY).before args s = true) (h2 : (Cond.interfaceMethod xi.cls "java/lang/Object" xi.name xi.desc).before args s = true) : (Cond.selects C xi gcY).before args s = true := by
  obtain ⟨c2, r2, m2, q1, q2, q3, q4, mk, q5, q6⟩ := Cond.selects_spec h1
  obtain ⟨cL, kL, r1, hcL, hkL, hiL, hfoundL, hn1⟩ := Cond.interfaceMethod_spec h2
  have exi : (⟨"java/lang/Object", xi.name, xi.desc⟩ : MethodName) = gcY := by rw [hname, hdesc]
  rw [exi] at hn1
  have e2 := (State.methodFound?_of_named hn1 (by decide)).symm.trans q2
  cases e2
  show (Cond.selects C xi gcY).holds args s none s [] = true
  simp [Cond.holds, Cond.value, q1, hfoundL, q3, q4, q5, q6]
/-- getClass by an interface -/
theorem h_getCF (X : HX G p s m args c cc nL own) (hR : Rp G w H) (hml : ls.size = nL) {C : String} (hC : hasC w a C) {index count mi : Nat} {xi : MethodName} (hM : va_Mi C mi (gS G)) (hx : NoMH xi.cls) (hxo : xi.cls ≠ "java/lang/Object") (hname : xi.name = "getClass") (hdesc : xi.desc = "()Ljava/lang/Class;") (hlink : Cond.methodLink own index xi ∈ lw_all) (hde : Cond.declares gcY ∈ lw_tbl) (hfa : Cond.interfaceMethod xi.cls "java/lang/Object" xi.name xi.desc ∈ lw_tbl) (hsel : Cond.selects C gcY gcY ∈ lw_all) (hin : Cond.instanceMethod gcY ∈ lw_all) (hpub : Cond.publicMethod gcY ∈ lw_tbl) (hunh : Cond.unhidden C xi.name xi.desc ∈ lw_tbl) (hca : Cond.castable C xi.cls ∈ lw_tbl) (hnat : Cond.native gcY ∈ lw_all) (hlv : 1 ≤ lv ∧ (rest.map fun v => v.category).sum + 14 ≤ 100 * lv) (d : decode cc pc = .ok (.invokeinterface index count, 5))
    (kk : W p l e (rmk lv mc ms) s m args below meth c H locs cells slots Q (F0 m (pc + 5) ls (.ref mi :: rest))) : W p l e (rmk lv mc ms) s m args below meth c H locs cells slots Q (F0 m pc ls (.ref a :: rest)) := by
  obtain ⟨b0, hb0, -⟩ := X.2.2.2.1
  have tb : ∀ wd : Cond, wd ∈ lw_tbl → wd.onTables = true → (∀ (U : State), (gS G).WarmedH U.vm → va_Nw wd (gS G) → va_Nw wd U) → wd.before args s = true := fun wd h1 h2 h3 => va_Nw.use h2 (h3 s X.2.2.1 (va_Nw.of h2 (hb0 wd h1)))
  have wde : (Cond.declares gcY).before args s = true := tb _ hde rfl (fun U hW h => va_Nw.warmD hW h)
  have wca : (Cond.castable C xi.cls).before args s = true := tb _ hca rfl (fun U hW h => va_Nw.warmC hW h)
  have wfa : (Cond.interfaceMethod xi.cls "java/lang/Object" xi.name xi.desc).before args s = true := tb _ hfa rfl (fun U hW h => by
    have h0 : (Cond.interfaceMethod xi.cls "java/lang/Object" xi.name xi.desc).before #[] (gS G) = true := h
    have hal := hW.alike
    have h1 : (Cond.interfaceMethod xi.cls "java/lang/Object" xi.name xi.desc).before #[] ((gS G).setVm U.vm) = true := by simpa only [Cond.before, Cond.holds, Cond.value, State.vm_setVm, hal.findClass, State.methodFound?_setVm hal, State.methodNamed?_setVm hal, arm_isInterface_setVm hal] using h0
    exact va_tabs (A := #[]) rfl (rfl : ((gS G).setVm U.vm).vm = U.vm) h1)
  have wpub : (Cond.publicMethod gcY).before args s = true := tb _ hpub rfl (fun U hW h => va_tabs rfl (rfl : ((gS G).setVm U.vm).vm = U.vm) (by rw [Cond.publicMethod_setVm hW.alike]; exact h))
  have wunh : (Cond.unhidden C xi.name xi.desc).before args s = true := tb _ hunh rfl (fun U hW h => va_tabs rfl (rfl : ((gS G).setVm U.vm).vm = U.vm) (by rw [Cond.unhidden_setVm hW.alike]; exact h))
  obtain ⟨c0, k0, h1, h2, h3⟩ := va_Mi.moved X.2.2.1.alike hM
  obtain ⟨cell, g1, g2, g3⟩ := hC.recv hR X.2
  cases h1.symm.trans g3
  obtain ⟨⟨hx0, hb, hml2, hown, hts⟩, hK⟩ := X
  intro T hT X
  obtain ⟨vm', X', st⟩ := X.getClassOfI hx0 hown (hts _ hlink) wde wfa (selFace hname hdesc (hts _ hsel) wfa) (hts _ hin) wpub wunh wca (hts _ hnat) hx hxo hname hdesc h1 h2 ⟨cell, by rw [hT]; exact g1, rfl, g2⟩ h3 (g := F0 m pc ls (.ref a :: rest)) rfl (hml.trans hml2.symm) rfl (by rw [hb]; exact d) hlv.1 (by show 2 * 0 + _ + _ ≤ _; have hw : nativeFrameWords "java/lang/Object" "getClass" 1 = 3 := (by decide); have := hlv.2; show 2 * 0 + (rest.map fun v => v.category).sum + (nativeFrameWords "java/lang/Object" "getClass" 1 + 11) ≤ 100 * lv; omega)
  obtain ⟨t, a1, b1⟩ := kk (T.setVm vm') hT X'
  exact ⟨t, st t a1, b1⟩
/-- a private method is selected whatever the receiver's class -/
theorem selPriv {y : MethodName} {C C1 : String} (h1 : (Cond.selects C1 y y).before args s = true) (hp : (Cond.privateMethod y).before args s = true) (hx : NoMH y.cls) (hC : ∃ cC, s.vm.findClass C = some cC) : (Cond.selects C y y).before args s = true := by
  obtain ⟨c2, r2, m2, q1, q2, q3, q4, mk, q5, q6⟩ := Cond.selects_spec h1
  obtain ⟨cC, hcC⟩ := hC
  have hm : r2 = m2 := Option.some.inj (q2.symm.trans (State.methodFound?_of_named q3 hx))
  subst hm
  have hpr : ∃ methP, s.vm.method? r2 = some methP ∧ methP.isPrivate = true := by
    simp only [Cond.before, Cond.holds, Cond.value, q3, beq_iff_eq, Option.bind_some] at hp
    cases hz : s.vm.method? r2 with
    | none => rw [hz] at hp; cases hp
    | some methP => rw [hz] at hp; exact ⟨methP, rfl, Option.some.inj hp⟩
  obtain ⟨methP, p1, p2⟩ := hpr
  have hsel : selectMethod {} s.vm cC r2 = .method r2 := by
    unfold selectMethod
    rw [p1]
    simp [p2]
  show (Cond.selects C y y).holds args s none s [] = true
  simp [Cond.holds, Cond.value, hcC, q2, q3, hsel, q5, q6]
/-- a call of a method that the receiver's class has from above -/
theorem h_runU (X : HX G p s m args c cc nL own) (hR : Rp G w H) {x y : MethodName} {C owner : String} {bytes : ByteArray} {maxL lv2 mc2 ms2 idx : Nat} {ret : Option FieldType} {b : Nat} {As : List Value} {Qc : Array Value → State → Outcome → State → Prop} (M : HM l y bytes maxL ret lv2 mc2 ms2 G (.ref b :: As) w Qc) (ho : NoMH owner) (hn : ParN x As.length) (hb : hasC w b C)
    (q1 : Cond.methodLink own idx x ∈ lw_all) (qs : Cond.sameMethod x.cls owner x.name x.desc ∈ lw_all) (hD : va_Decl s ⟨owner, x.name, x.desc⟩) (hsel : (Cond.selects C x y).before args s = true) (q2 : Cond.instanceMethod y ∈ lw_all) (q4 : Cond.initialized y.cls ∈ lw_all) (q5 : Cond.code y bytes maxL ret ∈ lw_all)
    (hlv : lv2 + 1 ≤ lv ∧ maxL + 19 + 100 * lv2 ≤ 100 * lv) (hsz : ls.size = nL) (hcat : (rest.map fun v => v.category).sum ≤ 8) (d : decode cc pc = .ok (.invokevirtual idx, 3)) (hc : cells + mc2 ≤ mc ∧ slots + ms2 ≤ ms) :
    va_Run p l e (rmk lv mc ms) s m args below meth c H locs cells slots mc2 ms2 (F0 m pc ls (As.reverse ++ .ref b :: rest)) rest (Qc (Value.ref b :: As).toArray) (frG G) := by
  have hts := X.1.2.2.2.2
  have hG := lw_meth q5
  have hcw : va_CU (rmk lv mc ms) s args own C owner idx x y bytes maxL ret (ws_ y bytes maxL ret) (rmk lv2 mc2 ms2) mc2 ms2 As.length := by
    refine ⟨⟨rfl, rfl, hlv.1, by have := hlv.2; show 8 + (maxL + 11) + 100 * lv2 ≤ 100 * lv; omega, pay_in hts hG, List.mem_cons_self⟩, hts _ q5, hts _ q4, ho, fun sig h => ?_, hts _ q1, hts _ qs, hD, hsel, hts _ q2⟩
    have h2 := hn.2
    rw [h] at h2
    exact (Option.some.inj h2).symm
  exact va_runU X.1 M hcw ⟨PP.blind G _ w, hb.recv hR X.2, PP.of X.2 hR _⟩ rfl rfl hsz rfl (lv_room hcat) d hc
/-- its named method is abstract -/
theorem kk_abs (hK : KK G s) {x : MethodName} (h : Cond.declares x ∈ lw_tbl) : va_Decl s x := va_Decl.abs (kk_nw hK h rfl (fun hW h => va_Nw.warmD hW h))
theorem h_declC (X : HX G p s m args c cc nL own) {x : MethodName} {b : ByteArray} {n : Nat} {ret : Option FieldType} (q2 : Cond.instanceMethod x ∈ lw_all) (q5 : Cond.code x b n ret ∈ lw_all) : va_Decl s x := va_Decl.of (X.1.2.2.2.2 _ q2) (X.1.2.2.2.2 _ q5)
theorem h_selP (X : HX G p s m args c cc nL own) (hR : Rp G w H) {y : MethodName} {C C1 : String} (q3 : Cond.selects C1 y y ∈ lw_all) (hp : Cond.privateMethod y ∈ lw_tbl) (hx : NoMH y.cls) {b : Nat} (hb : hasC w b C) : (Cond.selects C y y).before args s = true := by
  obtain ⟨b0, hb0, -⟩ := X.2.2.2.1
  have wp : (Cond.privateMethod y).before args s = true := va_Nw.use rfl (va_tabs rfl (rfl : ((gS G).setVm s.vm).vm = s.vm) (by rw [Cond.privateMethod_setVm X.2.2.1.alike]; exact va_Nw.of rfl (hb0 _ hp)))
  obtain ⟨cell, -, -, g3⟩ := hb.recv hR X.2
  exact selPriv (X.1.2.2.2.2 _ q3) wp hx ⟨_, g3⟩
theorem h_lookup (hx : p.tables.exec = Jvm.exec) (hb : c.code = cc) {R : Room} {dflt : Int} {ps : Array (Int × Int)} {len : Nat} {x : Int} {off : Int} (tgt : Nat) (d : decode cc pc = .ok (.lookupswitch dflt ps, len)) (hr : R32 x) (hp : (ps.toList.zip (ps.toList.drop 1)).all (fun (a, next) => a.1 < next.1) = true) (ho : Op.lookupswitch.offset ps.toList dflt x = off) (ht : (pc : Int) + off = (tgt : Int))
    (k : W p l e R s m args below meth c H locs cells slots Q (F0 m tgt ls rest)) : W p l e R s m args below meth c H locs cells slots Q (F0 m pc ls (.int (iI x) :: rest)) := lv_lookup hx hb d hp (by rw [iI_T hr]; exact ho) ht k
/-- an array's clone -/
theorem h_clone (X : HX G p s m args c cc nL own) (hR : Rp G w H) (hml : ls.size = nL) (rg : Nat → Nat) {k : Nat} {x : vp_A} {ty : FieldType} {ad : String} {index : Nat} (hw : w a = some (r, .inl (.inl (gA G k, x)))) (hk : (gTys G)[k]? = some (gA G k, ty)) (hnm : s.vm.findClass ad = some (gA G k)) (hfit : ∀ (i : Nat) (v : Value), (vp_cell (gA G k) x).slots[i]? = some v → fits ty v = true)
    (hlink : Cond.methodLink own index ⟨ad, "clone", "()Ljava/lang/Object;"⟩ ∈ lw_all) (hsame : Cond.sameMethod ad "java/lang/Object" "clone" "()Ljava/lang/Object;" ∈ lw_all) (hnat : Cond.native ⟨"java/lang/Object", "clone", "()Ljava/lang/Object;"⟩ ∈ lw_all) (hinst : Cond.instanceMethod ⟨"java/lang/Object", "clone", "()Ljava/lang/Object;"⟩ ∈ lw_all) (hsel : Cond.selects ad ⟨ad, "clone", "()Ljava/lang/Object;"⟩ ⟨"java/lang/Object", "clone", "()Ljava/lang/Object;"⟩ ∈ lw_all) (hcl : Cond.castable ad "java/lang/Cloneable" ∈ lw_tbl)
    (hlv : 1 ≤ lv ∧ (rest.map fun v => v.category).sum + 14 ≤ 100 * lv) (hcells : cells + 1 ≤ mc) (hslots : slots + x.1 ≤ ms) (d : decode cc pc = .ok (.invokevirtual index, 3))
    (kk : ∀ (q : Nat), w q = none → ∀ (w1 : Wd), w1 = wset w q (rg q, .inl (.inl (gA G k, x))) → ∀ (H1 : Heap), Rp G w1 H1 → W p l e (rmk lv mc ms) s m args below meth c H1 locs (cells + 1) (slots + x.1) Q (F0 m (pc + 3) ls (.ref q :: rest))) : W p l e (rmk lv mc ms) s m args below meth c H locs cells slots Q (F0 m pc ls (.ref a :: rest)) := by
  have hsz : (vp_cell (gA G k) x).slots.size = x.1 := by
    obtain ⟨n, f | f | f | f | f⟩ := x <;> exact arrV_size _ _ _
  have hcellE0 : ({ cls := (vp_cell (gA G k) x).cls, slots := (vp_cell (gA G k) x).slots } : Cell) = vp_cell (gA G k) x := by
    obtain ⟨n, f | f | f | f | f⟩ := x <;> rfl
  obtain ⟨c0, hc0, hcl0, c0s, c0v, -⟩ := hR.ar hw
  have hcellE : ({ cls := c0.cls, slots := c0.slots } : Cell) = vp_cell (gA G k) x := by
    rw [hcl0, c0s, ← hcellE0, (vp_cellP (gA G k) x).1]
  have hsz0 : c0.slots.size = x.1 := by rw [c0s]; exact hsz
  obtain ⟨cq0, t0', f1, f2, f3⟩ := Cond.castable_spec (va_Nw.use (A := args) rfl (kk_C X.2 hcl))
  cases hnm.symm.trans f1
  obtain ⟨⟨hx, hb, hml2, hown, hts⟩, hK⟩ := X
  intro T hT X
  obtain ⟨-, kA, hkA, comp, hkind⟩ := State.isArrayOf_alike X.warmed.alike ((hK.1.2 k _ hk).1 0 (fun _ => .null))
  obtain ⟨-, kS, hkS, compS, hkindS⟩ := (hK.1.2 k _ hk).1 0 (fun _ => .null)
  obtain ⟨vm', X', st⟩ := X.cloneArray hx hown (hts _ hlink) (hts _ hsame) (hts _ hnat) (hts _ hinst) (hts _ hsel) (a := a) (cell := c0) (by rw [hT]; exact hc0) (fun k h => by have h_ := c0v.2; rw [h] at h_; cases h_) c0v.1 (by rw [hcl0]; exact hnm) f2 (by rw [hcl0]; exact f3)
    (fun i v hv => by
      rw [hcl0]
      have hk' : T.vm.classes[gA G k]? = some kA := hkA
      simpa [State.fitsSlot, State.slotType?, hk', hkind] using hfit i v (by rw [← c0s]; exact hv))
    (g := F0 m pc ls (.ref a :: rest)) rfl (hml.trans hml2.symm) rfl (by rw [hb]; exact d) hlv.1 (by show 2 * 0 + _ + 14 ≤ _; have := hlv.2; show 2 * 0 + (rest.map fun v => v.category).sum + 14 ≤ 100 * lv; omega) hcells (by rw [hsz0]; exact hslots) (hloader := by rw [hcl0]; exact Vm.clonesLoader_of_array hkS hkindS)
  rw [hcellE, hsz0] at X'
  generalize hH1 : H.push (vp_cell (gA G k) x) = H1
  have z1 : H1.size = H.size + 1 := by rw [← hH1, Array.size_push]
  have e1 : H1[H.size]? = some (vp_cell (gA G k) x) := by rw [← hH1, Array.getElem?_push_size]
  have o1 : ∀ q : Nat, q < H.size → H1[q]? = H[q]? := fun q hq => by rw [← hH1, Array.getElem?_push, if_neg (Nat.ne_of_lt hq)]
  obtain ⟨t, b1, b2⟩ := kk H.size (hR.none (Nat.le_refl _)) _ rfl H1 (hR.mk z1 o1 (e1 := .inl (.inl (gA G k, x))) e1) ((T.setVm vm').pushCell (vp_cell (gA G k) x)) (by rw [← hH1, ← hT]; rfl) X'
  refine ⟨t, st t ?_, b2⟩
  rw [hcellE, hT]
  exact b1
theorem h_mmin (X : HX G p s m args c cc nL own) (hml : ls.size = nL) {x y : Int} (h1 : R32 x) (h2 : R32 y) {index : Nat} (hlink : Cond.methodLink own index Lib.Math.min.name ∈ lw_all) (hst : Cond.static Lib.Math.min.name ∈ lw_all) (hini : Cond.initialized "java/lang/Math" ∈ lw_all) (hcode : Cond.code Lib.Math.min.name Lib.Math.min.code 2 (some .int) ∈ lw_all) (hlv : 1 ≤ lv ∧ (rest.map fun v => v.category).sum + 13 ≤ 100 * lv) (hc : cells ≤ mc) (hs : slots ≤ ms) (d : decode cc pc = .ok (.invokestatic index, 3))
    (kk : W p l e (rmk lv mc ms) s m args below meth c H locs cells slots Q (F0 m (pc + 3) ls (.int (iI (if x ≤ y then x else y)) :: rest))) : W p l e (rmk lv mc ms) s m args below meth c H locs cells slots Q (F0 m pc ls (.int (iI y) :: .int (iI x) :: rest)) := by
  refine va_mmin X.1.1 X.1.2.1 (X.1.2.2.1.trans hml.symm) X.1.2.2.2.1 (X.1.2.2.2.2 _ hlink) (X.1.2.2.2.2 _ hst) (X.1.2.2.2.2 _ hini) (X.1.2.2.2.2 _ hcode) hlv.1 hlv.2 hc hs d ?_
  rw [show (if iI y < iI x then iI y else iI x) = iI (if x ≤ y then x else y) by
    by_cases h : x ≤ y
    · rw [if_pos h, if_neg (fun q => by have := (iI_lt h2 h1).mp q; omega)]
    · rw [if_neg h, if_pos ((iI_lt h2 h1).mpr (by omega))]]
  exact kk
theorem h_mmax (X : HX G p s m args c cc nL own) (hml : ls.size = nL) {x y : Int} (h1 : R32 x) (h2 : R32 y) {index : Nat} (hlink : Cond.methodLink own index Lib.Math.max.name ∈ lw_all) (hst : Cond.static Lib.Math.max.name ∈ lw_all) (hini : Cond.initialized "java/lang/Math" ∈ lw_all) (hcode : Cond.code Lib.Math.max.name Lib.Math.max.code 2 (some .int) ∈ lw_all) (hlv : 1 ≤ lv ∧ (rest.map fun v => v.category).sum + 13 ≤ 100 * lv) (hc : cells ≤ mc) (hs : slots ≤ ms) (d : decode cc pc = .ok (.invokestatic index, 3))
    (kk : W p l e (rmk lv mc ms) s m args below meth c H locs cells slots Q (F0 m (pc + 3) ls (.int (iI (if x ≤ y then y else x)) :: rest))) : W p l e (rmk lv mc ms) s m args below meth c H locs cells slots Q (F0 m pc ls (.int (iI y) :: .int (iI x) :: rest)) := by
  refine va_mmax X.1.1 X.1.2.1 (X.1.2.2.1.trans hml.symm) X.1.2.2.2.1 (X.1.2.2.2.2 _ hlink) (X.1.2.2.2.2 _ hst) (X.1.2.2.2.2 _ hini) (X.1.2.2.2.2 _ hcode) hlv.1 hlv.2 hc hs d ?_
  rw [show (if iI x < iI y then iI y else iI x) = iI (if x ≤ y then y else x) by
    by_cases h : x ≤ y
    · rw [if_pos h]
      by_cases h3 : x = y
      · subst h3; split <;> rfl
      · rw [if_pos ((iI_lt h1 h2).mpr (by omega))]
    · rw [if_neg h, if_neg (fun q => by have := (iI_lt h1 h2).mp q; omega)]]
  exact kk
end HWB
