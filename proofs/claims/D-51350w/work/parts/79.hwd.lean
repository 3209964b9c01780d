/-! HW: Unsafe.getLong of a byte array's first eight places -/
set_option maxRecDepth 100000
abbrev glY : MethodName := ⟨"jdk/internal/misc/Unsafe", "getLong", "(Ljava/lang/Object;J)J"⟩
theorem gl_desc : parseMethodDescriptor glY.desc = some { parameters := [.object "java/lang/Object", .long], returnType := some .long } := by decide +kernel
set_option maxRecDepth 1000000 in
set_option maxHeartbeats 4000000 in
theorem gl_row (p : Program) : NativeRow.find? p.tables.natives "jdk/internal/misc/Unsafe" "getLong" "(Ljava/lang/Object;J)J" = some (Native.jdk_internal_misc_Unsafe.memory.getRow "Long" "J" .long "" .plain) := by
  cases p <;> rfl
theorem gl_byte {E : CtlPost} {e : Env} {d : Bool} {acts : List Action} {s : State} {a i : Nat} {A : Cell} {n : Nat} {Q : Nat → Pre} (hA : s.heap[a]? = some A) (hvm : A.vm = .none) (h : A.slots[i]? = some (.int (iI (n : Int)))) (hn : n < 128) : wp (UnsafeMem.readByte a .byte i .plain) Q E e d acts s ↔ Q n d (Action.read { base := a, slot := i } Mode.plain (Value.int (iI (n : Int))) :: acts) s := by
  have e1 : (iI (n : Int)).toUInt32.toNat % 256 = n := by
    have := iI_bn (n : Int)
    show (iI (n : Int)).toBitVec.toNat % 256 = n
    rw [this]; omega
  simp [UnsafeMem.readByte, UnsafeMem.scaleOf, UnsafeMem.bitsOf, hA, hvm, h, Nat.mod_one, e1]
  rw [Nat.mod_eq_of_lt (show n < 256 by omega)]
theorem u64_lI (n : Nat) (h : n < 9223372036854775808) : n.toUInt64.toInt64 = lI (n : Int) := by
  apply Int64.toBitVec_inj.mp
  rw [UInt64.toBitVec_toInt64]
  apply BitVec.eq_of_toNat_eq
  rw [lI_bn, UInt64.toNat_toBitVec]
  have e : n.toUInt64.toNat = n := UInt64.toNat_ofNat_of_lt (show n < 18446744073709551616 by omega)
  rw [e]
  omega
def glS (l : List Nat) (k : Nat) : Nat := ((l.zipIdx k).map fun (x, k) => x * 2 ^ (8 * k)).sum
theorem glS_c (x : Nat) (l : List Nat) (k : Nat) : glS (x :: l) k = x * 2 ^ (8 * k) + glS l (k + 1) := by
  unfold glS
  rw [List.zipIdx_cons, List.map_cons, List.sum_cons]
theorem glS_n (k : Nat) : glS [] k = 0 := rfl
theorem gl_ar (b0 b1 b2 b3 b4 b5 b6 b7 : Nat) : b0 * 1 + (b1 * 256 + (b2 * 65536 + (b3 * 16777216 + (b4 * 4294967296 + (b5 * 1099511627776 + (b6 * 281474976710656 + (b7 * 72057594037927936 + 0))))))) = b0 + 256 * (b1 + 256 * (b2 + 256 * (b3 + 256 * (b4 + 256 * (b5 + 256 * (b6 + 256 * b7)))))) := by omega
theorem gl_sum (b : Nat → Nat) : glS [b 0, b 1, b 2, b 3, b 4, b 5, b 6, b 7] 0 = pk8 b := by
  rw [glS_c, glS_c, glS_c, glS_c, glS_c, glS_c, glS_c, glS_c, glS_n]
  have p0 : 2 ^ (8 * 0) = 1 := rfl
  have p1 : 2 ^ (8 * (0 + 1)) = 256 := rfl
  have p2 : 2 ^ (8 * (0 + 1 + 1)) = 65536 := rfl
  have p3 : 2 ^ (8 * (0 + 1 + 1 + 1)) = 16777216 := rfl
  have p4 : 2 ^ (8 * (0 + 1 + 1 + 1 + 1)) = 4294967296 := rfl
  have p5 : 2 ^ (8 * (0 + 1 + 1 + 1 + 1 + 1)) = 1099511627776 := rfl
  have p6 : 2 ^ (8 * (0 + 1 + 1 + 1 + 1 + 1 + 1)) = 281474976710656 := rfl
  have p7 : 2 ^ (8 * (0 + 1 + 1 + 1 + 1 + 1 + 1 + 1)) = 72057594037927936 := rfl
  rw [p0, p1, p2, p3, p4, p5, p6, p7]
  exact gl_ar _ _ _ _ _ _ _ _
theorem gl_loc {E : CtlPost} {e : Env} {d : Bool} {acts : List Action} {s : State} {a : Nat} {A : Cell} {k : Class} {comp : ClassId} {Q : UnsafeMem.Target → Pre} (hA : s.heap[a]? = some A) (hvm : A.vm = .none) (hk : s.vm.classes[A.cls]? = some k) (hkind : k.kind = .array comp .byte) : wp (UnsafeMem.locate (.ref a) (lI 16) .long) Q E e d acts s ↔ Q (UnsafeMem.Target.bytes a .byte 0) d acts s := by
  have h1 : ¬ (lI 16) < 0 := by decide
  have h2 : (lI 16).toNatClampNeg = 16 := by decide
  simp [UnsafeMem.locate, h1, h2, hA, Cell.info, hvm, hk, hkind, UnsafeMem.arrayBase, UnsafeMem.scaleOf, UnsafeMem.isRefType]
theorem gl_wp {E : CtlPost} {e : Env} {d : Bool} {acts : List Action} {s : State} {a : Nat} {A : Cell} {k : Class} {comp : ClassId} {b : Nat → Nat} {Q : Value → Pre} (hA : s.heap[a]? = some A) (hvm : A.vm = .none) (hk : s.vm.classes[A.cls]? = some k) (hkind : k.kind = .array comp .byte) (hs : ∀ i, i < 8 → A.slots[i]? = some (.int (iI (b i : Int)))) (hb : ∀ i, i < 8 → b i < 128)
    (hQ : ∀ d' acts', Q (.long (lI (pk8 b : Int))) d' acts' s) : wp (UnsafeMem.get .long (.ref a) (lI 16) .plain) Q E e d acts s := by
  have hr : List.range (UnsafeMem.scaleOf .long) = [0, 1, 2, 3, 4, 5, 6, 7] := rfl
  have r0 := hs 0 (by decide); have r1 := hs 1 (by decide); have r2 := hs 2 (by decide); have r3 := hs 3 (by decide); have r4 := hs 4 (by decide); have r5 := hs 5 (by decide); have r6 := hs 6 (by decide); have r7 := hs 7 (by decide)
  have b0 := hb 0 (by decide); have b1 := hb 1 (by decide); have b2 := hb 2 (by decide); have b3 := hb 3 (by decide); have b4 := hb 4 (by decide); have b5 := hb 5 (by decide); have b6 := hb 6 (by decide); have b7 := hb 7 (by decide)
  simp only [UnsafeMem.get, wp_bind', gl_loc hA hvm hk hkind, hr, List.mapM, List.mapM.loop, Nat.zero_add, gl_byte hA hvm r0 b0, gl_byte hA hvm r1 b1, gl_byte hA hvm r2 b2, gl_byte hA hvm r3 b3, gl_byte hA hvm r4 b4, gl_byte hA hvm r5 b5, gl_byte hA hvm r6 b6, gl_byte hA hvm r7 b7, wp_pure']
  have e1 : UnsafeMem.ofBits .long (glS [b 0, b 1, b 2, b 3, b 4, b 5, b 6, b 7] 0) = .long (lI (pk8 b : Int)) := by
    rw [gl_sum, ← u64_lI _ (pk8_lt hb)]
    rfl
  have e2 := hQ
  rw [← e1] at e2
  exact e2 _ _
section HWL
variable {G : Gl} {p : Program} {l : Launch} {e : Env} {s : State} {m : MethodId} {args : Array Value} {below : List Frame} {meth : Method} {c : Code} {H : Heap} {locs : List Loc} {cells slots : Nat} {Q : State → Prop}
variable {cc : ByteArray} {own : String} {nL lv mc ms : Nat} {pc : Nat} {ls : Array Slot} {rest : List Value} {w : Wd} {a r : Nat}
theorem h_getLong (X : HX G p s m args c cc nL own) (hR : Rp G w H) (hml : ls.size = nL) {u : Nat} (hu : hasC w u "jdk/internal/misc/Unsafe") {n : Nat} {f : Nat → Int} (hw : w a = some (r, iE G 1 n f)) (b : Nat → Nat) (hfb : ∀ i, i < 8 → f i = (b i : Int)) (hb : ∀ i, i < 8 → b i < 128) (hn : n = 8) {index : Nat} (hlink : Cond.methodLink own index glY ∈ lw_all) (hsel : Cond.selects "jdk/internal/misc/Unsafe" glY glY ∈ lw_all) (hin : Cond.instanceMethod glY ∈ lw_all) (hnat : Cond.native glY ∈ lw_all) (hlv : 1 ≤ lv ∧ (rest.map fun v => v.category).sum + 17 ≤ 100 * lv) (d : decode cc pc = .ok (.invokevirtual index, 3))
    (kk : W p l e (rmk lv mc ms) s m args below meth c H locs cells slots Q (F0 m (pc + 3) ls (.long (lI (pk8 b : Int)) :: rest))) : W p l e (rmk lv mc ms) s m args below meth c H locs cells slots Q (F0 m pc ls (.long (lI 16) :: .ref a :: .ref u :: rest)) := by
  obtain ⟨cell, g1, g2, g3⟩ := hu.recv hR X.2
  obtain ⟨c0, hc0, c0c, c0s, c0v, c08⟩ := hR.ar hw
  have c0n : c0.vm = .none := c08 hn
  obtain ⟨⟨hx, hbb, hml2, hown, hts⟩, hK⟩ := X
  intro T hT X
  obtain ⟨-, kl0, hkl0, cm0, hkk0⟩ := (hK.1.2 1 _ rfl).1 n (fun j => .int (iI (f j)))
  obtain ⟨mk, methM, hnamed, hmethM, hstM, habM⟩ := Cond.instanceMethod_spec (hts _ hin)
  obtain ⟨c2, r2, m2, q1, q2, q3, q4, kP, hkP, hkPi⟩ := Cond.selects_spec (hts _ hsel)
  cases g3.symm.trans q1
  cases (State.methodFound?_of_named hnamed (by decide)).symm.trans q2
  cases hnamed.symm.trans q3
  obtain ⟨mN, kN, methN, hnamedN, hmethN, hkN, N⟩ := NativeOf.of_instance (hts _ hnat) (hts _ hin) gl_desc
  cases hnamed.symm.trans hnamedN
  cases hmethM.symm.trans hmethN
  have hselP : selectMethod e.platform s.vm cell.cls mk = .method mk := by rw [Launch.admits_selectMethod X.admits]; exact q4
  obtain ⟨vm₁, X₁, hstep₁⟩ := X.invokevirtual hx hown (hts _ hlink) hnamed hmethM hstM hkP hkPi (by decide) (a := u) (cell := cell) (by rw [hT]; exact g1)
    (fun z h => by rw [h] at g2; cases g2) hselP hmethM habM hkP hkPi (g := F0 m pc ls (.long (lI 16) :: .ref a :: .ref u :: rest)) rfl (argsL := [.ref a, .long (lI 16)]) (rest := rest) (by rw [N.sig]; rfl) rfl (by rw [hbb]; exact d)
  have hal : s.vm.Alike vm₁ := X₁.warmed.alike
  obtain ⟨kN₁, N₁⟩ := N.alike hal
  obtain ⟨kl1, hkl1, ek⟩ := hal.2.2 _ _ hkl0
  have hAt : At (T.setVm vm₁) (F0 m pc ls rest).method c below := X₁.here
  have hroom := X₁.notFull (g := F0 m pc ls rest) (hml.trans hml2.symm) (vars := nativeFrameWords "jdk/internal/misc/Unsafe" "getLong" 4) hlv.1 (by show 2 * 0 + _ + _ ≤ _; have hw : nativeFrameWords "jdk/internal/misc/Unsafe" "getLong" 4 = 6 := (by decide +kernel); have := hlv.2; show 2 * 0 + (rest.map fun v => v.category).sum + (nativeFrameWords "jdk/internal/misc/Unsafe" "getLong" 4 + 11) ≤ 100 * lv; omega)
  obtain ⟨t, a1, b1⟩ := kk (T.setVm vm₁) hT X₁
  refine ⟨t, hstep₁ t fun acts => ?_, b1⟩
  have hseen : seenByNative methM #[.ref u, .ref a, .long (lI 16)] = #[.ref u, .ref a, .long (lI 16)] := by simp [seenByNative, N₁.static, N₁.sig, narrow]
  refine Steps.nativeEnds (row := Native.jdk_internal_misc_Unsafe.memory.getRow "Long" "J" .long "" .plain) (v := some (.long (lI (pk8 b : Int)))) (T := id) hAt acts N₁.cls N₁.meth N₁.boot N₁.native N₁.noCode N₁.noLock
    (by rw [N₁.className, N₁.name, N₁.desc]; exact gl_row p) (by rw [N₁.className, N₁.name]; exact hroom) (fun _ => rfl) rfl (fun _ => hAt.code) ?_ (by rw [hbb]; exact d) a1
  intro Q hq
  rw [hseen] at hq ⊢
  show wp (do let v ← UnsafeMem.get .long (.ref a) (lI 16) .plain; mark "nat.jdk_internal_misc_Unsafe.get"; Pure.pure (some v)) Q _ e false [] _
  simp only [wp_bind']
  refine gl_wp (b := b) (A := c0) (k := kl1) (comp := cm0) (by rw [← hc0, ← hT]; rfl) c0n (by rw [c0c]; first | exact hkl1 | (rw [← hkl1]; rfl)) (by rw [ek]; exact hkk0) (fun i hi => ?_) hb (fun d' acts' => ?_)
  · rw [c0s]
    show (arrV _ n (fun j => .int (iI (f j)))).slots[i]? = _
    rw [arrV_read _ _ (by omega), hfb i hi]
  · simp
    exact hq _ _
theorem HM.mkF {y : MethodName} {av : List Value} {maxL : Nat} {ret : Option FieldType} {Qc : Array Value → State → Outcome → State → Prop} (hy : plainFor y = true) (hlen : (lg_sl av).length ≤ maxL)
    (body : ∀ (p : Program) (e : Env) (s : State) (m : MethodId) (args : Array Value) (below : List Frame) (meth : Method) (c : Code) (ls : Array Slot), HX G p s m args c cc maxL y.cls → meth.sig.returnType = ret → meth.locks = false → meth.name = y.name → lv_has ls maxL (lv_args 0 av) → ∀ (H : Heap), Rp G w H →
      W p l e (rmk lv mc ms) s m args below meth c H [] 0 0 (MQ below Qc args s mc ms (frG G)) (F0 m 0 ls [])) : HM l y cc maxL ret lv mc ms G av w Qc := by
  refine va_MetF (cc := cc) (maxL := maxL) (ret := ret) hy rfl ?_
  intro p e s m args below meth c s₁ B hml hv
  obtain ⟨rfl, hR, hK⟩ := hv
  have hts := atoms_spec (ws := ws_ y cc maxL ret) B.pre
  have hts : ∀ w ∈ lw_all, w.before _ s = true := fun w h => hts w (List.mem_cons_of_mem _ h)
  rw [lg_entry_eq]
  exact body p e s m _ below meth c _ ⟨⟨B.exec, B.bytes, hml, findClass_of_methodNamed B.named, hts⟩, hK⟩ B.returns B.notSynchronized (name_of_methodNamed B.named B.method).1 (lv_entry av hlen) s.heap hR
end HWL
section HWL2
variable {G : Gl} {p : Program} {l : Launch} {e : Env} {s : State} {m : MethodId} {args : Array Value} {below : List Frame} {meth : Method} {c : Code} {H : Heap} {locs : List Loc} {cells slots : Nat} {Q : State → Prop}
variable {cc : ByteArray} {own : String} {nL lv mc ms : Nat} {pc : Nat} {ls : Array Slot} {rest : List Value} {w : Wd} {a r : Nat}
/-- super.m(..) -/
theorem h_runSU (X : HX G p s m args c cc nL own) (hR : Rp G w H) {y : MethodName} {C : String} {bytes : ByteArray} {maxL lv2 mc2 ms2 idx : Nat} {ret : Option FieldType} {b : Nat} {As : List Value} {Qc : Array Value → State → Outcome → State → Prop} (M : HM l y bytes maxL ret lv2 mc2 ms2 G (.ref b :: As) w Qc) (hn : y.name ≠ "<init>" ∧ (parseMethodDescriptor y.desc).map (fun d => d.parameters.length) = some As.length) (hb : hasC w b C)
    (q1 : Cond.methodLink own idx y ∈ lw_all) (qs : Cond.sameMethod y.cls y.cls y.name y.desc ∈ lw_all) (qp : Cond.superclass own y.cls ∈ lw_all) (q2 : Cond.instanceMethod y ∈ lw_all) (q4 : Cond.initialized y.cls ∈ lw_all) (q5 : Cond.code y bytes maxL ret ∈ lw_all)
    (hlv : lv2 + 1 ≤ lv ∧ maxL + 19 + 100 * lv2 ≤ 100 * lv) (hsz : ls.size = nL) (hcat : (rest.map fun v => v.category).sum ≤ 8) (d : decode cc pc = .ok (.invokespecial idx, 3)) (hc : cells + mc2 ≤ mc ∧ slots + ms2 ≤ ms) (hs : nspc C = true := by decide) :
    va_Run p l e (rmk lv mc ms) s m args below meth c H locs cells slots mc2 ms2 (F0 m pc ls (As.reverse ++ .ref b :: rest)) rest (Qc (Value.ref b :: As).toArray) (frG G) := by
  obtain ⟨cC, hat⟩ := hb.at hR X.2 hs
  have hts := X.1.2.2.2.2
  have hcw : va_CS (rmk lv mc ms) s args own idx y bytes maxL ret (ws_ y bytes maxL ret) (rmk lv2 mc2 ms2) mc2 ms2 As.length := by
    refine ⟨⟨rfl, rfl, hlv.1, by have := hlv.2; show 8 + (maxL + 11) + 100 * lv2 ≤ 100 * lv; omega, pay_in hts (lw_meth q5), List.mem_cons_self⟩, hts _ q1, hts _ qs, hts _ qp, hts _ q2, hts _ q4, hts _ q5, hn.1, fun sig h => ?_⟩
    have h2 := hn.2
    rw [h] at h2
    exact (Option.some.inj h2).symm
  exact va_runSU hat X.1 M hcw ⟨PP.blind G _ w, hb.recv hR X.2, PP.of X.2 hR _⟩ rfl rfl hsz rfl (lv_room hcat) d hc
/-- a private method of a class above, of which no choice is printed -/
theorem h_selP2 (X : HX G p s m args c cc nL own) (hR : Rp G w H) {y : MethodName} {C : String} (q2 : Cond.instanceMethod y ∈ lw_all) (qs : Cond.sameMethod y.cls y.cls y.name y.desc ∈ lw_all) (hp : Cond.privateMethod y ∈ lw_tbl) (hx : NoMH y.cls) {b : Nat} (hb : hasC w b C) : (Cond.selects C y y).before args s = true := by
  obtain ⟨b0, hb0, -⟩ := X.2.2.2.1
  have wp : (Cond.privateMethod y).before args s = true := va_Nw.use rfl (va_tabs rfl (rfl : ((gS G).setVm s.vm).vm = s.vm) (by rw [Cond.privateMethod_setVm X.2.2.1.alike]; exact va_Nw.of rfl (hb0 _ hp)))
  obtain ⟨cell, -, -, g3⟩ := hb.recv hR X.2
  obtain ⟨mk, methM, hnamed, hmethM, -, -⟩ := Cond.instanceMethod_spec (X.1.2.2.2.2 _ q2)
  obtain ⟨cn, ck, r1, hcn, hck, hni, hf, hn1⟩ := Cond.sameMethod_found (X.1.2.2.2.2 _ qs)
  have hn2 : s.methodNamed? y = some r1 := hn1
  cases hnamed.symm.trans hn2
  have hcm : cn = mk.cls := Option.some.inj (hcn.symm.trans (findClass_of_methodNamed hnamed))
  have hpr : ∃ methP, s.vm.method? mk = some methP ∧ methP.isPrivate = true := by
    simp only [Cond.before, Cond.holds, Cond.value, hnamed, beq_iff_eq, Option.bind_some] at wp
    cases hz : s.vm.method? mk with
    | none => rw [hz] at wp; cases wp
    | some methP => rw [hz] at wp; exact ⟨methP, rfl, Option.some.inj wp⟩
  obtain ⟨methP, p1, p2⟩ := hpr
  have hsel : selectMethod {} s.vm cell.cls mk = .method mk := by
    unfold selectMethod
    rw [p1]
    simp [p2]
  have q2f : s.methodFound? y.cls y.name y.desc = some mk := hf
  subst hcm
  show (Cond.selects C y y).holds args s none s [] = true
  simp [Cond.holds, Cond.value, g3, q2f, hnamed, hsel, hck, hni]
end HWL2
