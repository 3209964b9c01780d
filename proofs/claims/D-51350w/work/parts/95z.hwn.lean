/-! HW: methods of a class of which no word says that it is initialised (the bodies of an enum's constants); follows the library's MetFree.of_bodySF, Steps.callFree, Back.of_free -/
set_option maxRecDepth 100000
def MetN (l : Launch) (y : MethodName) (ws : List Cond) (rm : Room) (Pc : Array Value → State → Prop) (Qc : Array Value → State → Outcome → State → Prop) (mc ms : Nat) (free : Addr → Prop) : Prop :=
  ∀ (p : Program) (e : Env), l.admits e → FairCas e.choices → FairClock e.choices → ∀ (s : State) (m : MethodId) (args : Array Value) (below : List Frame),
    s.frames = .invoking m args :: below → s.status = .running → s.curStatus? = some .runnable → s.alone = true → s.methodNamed? y = some m → s.hears m below = true → s.hasRoom e.platform rm = true → (headSpec ws rm).pre.before args s = true → Pc args s →
    ∃ n o, (∀ k, k < n → Within (stepsAlone p.tables e k s) below) ∧ (stepsAlone p.tables e n s).status = .running ∧ Ended (stepsAlone p.tables e n s) below o ∧ Qc args s o (stepsAlone p.tables e n s) ∧ ∃ L, FrameEnd s o (stepsAlone p.tables e n s) L mc ms ∧ ∀ q ∈ L, free q.base
theorem MetN.ofW {l : Launch} {y : MethodName} {ws ws' : List Cond} {rm : Room} {Pc : Array Value → State → Prop} {Qc : Array Value → State → Outcome → State → Prop} {mc ms : Nat} {free : Addr → Prop} {cc : ByteArray} {maxL : Nat} {ret : Option FieldType}
    (hy : plainName y.cls = true) (hw : ws = Cond.code y cc maxL ret :: ws')
    (body : ∀ (p : Program) (e : Env) (s : State) (m : MethodId) (args : Array Value) (below : List Frame) (meth : Method) (c : Code), p.tables.exec = Jvm.exec → c.code = cc → c.maxLocals = maxL → s.methodNamed? y = some m → s.vm.method? m = some meth → meth.sig.returnType = ret → meth.locks = false → (headSpec ws rm).pre.before args s = true → Pc args s →
      W p l e rm s m args below meth c s.heap [] 0 0 (MQ below Qc args s mc ms free) (entryFrame m args maxL)) : MetN l y ws rm Pc Qc mc ms free := by
  intro p e ha hc hk s m args below hf hrun hable halone hname hhears hroom hpre hP
  obtain ⟨meth, c, hmeth, hcode, hbytes, hlocals, hret, hlocks, -, -⟩ := Cond.code_spec hname (atoms_spec (ws := ws) hpre _ (by rw [hw]; exact List.mem_cons_self))
  have hcur := State.cur_lt_of_frames hf
  have hf1 : (s.setFrames (.java (entryFrame m args maxL) :: below)).frames = .java (entryFrame m args maxL) :: below :=
    State.frames_setFrames _ hcur
  have ht1 := State.topJava?_of_frames hf1
  have hplain : (s.setFrames (.java (entryFrame m args maxL) :: below)).plainMethod m := State.plainMethod.of_named (s := s) (plainFor_of_name hy) hname hmeth
  have hAt : At (s.setFrames (.java (entryFrame m args maxL) :: below)) m c below :=
    ⟨by rw [ht1]; rfl, ⟨[], by rw [hf1]; rfl⟩, hrun, by simpa using hable, by simpa using halone,
      by rw [State.code?_eq]; simp [State.setFrames, hmeth, hcode], hplain⟩
  have hstep : (stepThread p.tables e s).1 = (s.setFrames (.java (entryFrame m args maxL) :: below)).setTop (entryFrame m args maxL) := by
    have hfull : e.platform.stackFull (s.setFrames below).me (s.setFrames below).frames c.maxLocals = false := by
      obtain ⟨-, h1, -, h2⟩ := State.hasRoom_stack hroom
      rw [hf, List.length_cons] at h1
      rw [State.localsInUse_invoking hf hmeth hcode] at h2
      have hw := stackUse_le_stackWeight below
      rw [State.frames_setFrames _ hcur]
      exact Platform.stackFull_eq_false (by rw [State.stackLimits_setFrames]; omega) (by rw [State.stackLimits_setFrames]; omega)
    rw [stepThread_invoking hf, (doInvoke_java (s := s.setFrames below) (e := e) (meth := meth) (code := c) hmeth hcode hlocks hfull).1, State.setTop_self ht1]
    simp only [State.pushFrame, State.frames_setFrames _ hcur, State.setFrames_setFrames, hlocals, entryFrame]
  have X : Stand p l e rm s m args below meth c (s.setFrames (.java (entryFrame m args maxL) :: below)) [] 0 0 := by
    obtain ⟨t, ht, -⟩ := State.frames_cons hf
    refine ⟨ha, hc, hk, hf, hroom, hhears, hmeth, hcode, hAt, by rw [hf1]; rfl, State.WarmedH.refl s, by rw [State.stackLimits_setFrames], by rw [State.stackBytes_setFrames], ?_⟩
    exact (State.sameButNew.refl s ht).setFrames (.java (entryFrame m args maxL) :: below) hcur
  obtain ⟨s₂, hs, o, hr, he, hp⟩ := body p e s m args below meth c (by cases p <;> rfl) hbytes hlocals hname hmeth hret hlocks hpre hP (s.setFrames (.java (entryFrame m args maxL) :: below)) rfl X
  obtain ⟨n, hn, hw2⟩ := Steps.head (tb := p.tables) (e := e) ⟨hrun, hable, halone⟩ ⟨[.invoking m args], hf, by simp, by simp⟩ (hstep ▸ hs)
  exact ⟨n, o, hw2, hn ▸ hr, hn ▸ he, hn ▸ hp.1, hn ▸ hp.2⟩
section HWNB
variable {l : Launch} {R : Room} {p : Program} {e : Env} {below : List Frame} {s : State} {sargs : Array Value} {y : MethodName} {len W9 : Nat}
theorem back_N {ws : List Cond} {rm : Room} {Pc : Array Value → State → Prop} {Qc : Array Value → State → Outcome → State → Prop} {mc ms : Nat} {free : Addr → Prop} {bytes : ByteArray} {maxL : Nat} {ret : Option FieldType}
    (hM : MetN l y ws rm Pc Qc mc ms free) (hblind : FrameBlind Pc) (hrc : rm.cells = mc) (hrs : rm.slots = ms)
    (hframes : rm.frames + 1 ≤ R.frames) (hlocals : W9 + (maxL + 11) + rm.locals ≤ R.locals)
    (hws : ∀ w ∈ ws, ∀ a' U, s.WarmedH U.vm → w.before a' U = true) (hcode : Cond.code y bytes maxL ret ∈ ws) :
    Back l R p e below s sargs y len W9 (PreOf R mc ms Pc) (PostOf Qc mc ms free) := by
  intro m meth c A g ig mk a X hg hsize hdg hW hn hp
  have h1 : (headSpec ws rm).pre.before a A.U = true := atoms_intro fun w hw => hws w hw _ _ X.warmed
  have h2 : (Cond.code y bytes maxL ret).before a A.U = true := hws _ hcode _ _ X.warmed
  have h4 : A.cells + rm.cells ≤ R.cells := by rw [hrc]; exact hp.1
  have h5 : A.slots + rm.slots ≤ R.slots := by rw [hrs]; exact hp.2.1
  have hPc : Pc a (A.U.calling g mk a) := hblind _ _ _ _ hp.2.2
  obtain ⟨U, Ls, c0, s0⟩ := A
  dsimp only [Pt.U, Pt.locs, Pt.cells, Pt.slots] at h1 h2 h4 h5 X hn hPc ⊢
  obtain ⟨methY, cY, hmY, hcY, -, hlY, -, -, -, -⟩ := Cond.code_spec hn h2
  have h : At U g.method c below := by rw [hg]; exact X.here
  have hroom : (U.calling g mk a).hasRoom e.platform rm = true := X.room_calling (g := g) (R' := rm) hsize hmY hcY hframes (by rw [hlY]; omega) h4 h5
  obtain ⟨mid, hmid⟩ := h.above
  have hfr : (U.setTop g).frames = (.java g :: mid) ++ below := by rw [State.frames_setTop' g h.top, hmid]; rfl
  have hfs : (U.setTop g).frames = .java g :: U.frames.tail := State.frames_setTop' g h.top
  have hlt : (U.setTop g).cur < (U.setTop g).threads.size := State.cur_lt_of_top (by rw [State.topJava?_of_frames hfs]; rfl)
  obtain ⟨t, ht⟩ : ∃ t, (U.setTop g).threads[(U.setTop g).cur]? = some t := ⟨_, Array.getElem?_eq_getElem hlt⟩
  have hf' : ((U.setTop g).pushFrame (.invoking mk a)).frames = .invoking mk a :: (U.setTop g).frames := State.frames_setFrames _ hlt
  have hcode9 : (U.calling g mk a).code? g.method = some c := by
    have := h.code
    rw [State.code?_eq] at this ⊢
    simpa [State.calling, State.pushFrame, State.setFrames] using this
  have r1 : ((U.setTop g).pushFrame (.invoking mk a)).status = .running := h.running
  have r2 : ((U.setTop g).pushFrame (.invoking mk a)).curStatus? = some .runnable := by
    show (U.calling g mk a).curStatus? = _
    simpa [State.calling] using h.runnable
  have r3 : ((U.setTop g).pushFrame (.invoking mk a)).alone = true := by
    show (U.calling g mk a).alone = _
    simpa [State.calling] using h.alone
  have r4 : ((U.setTop g).pushFrame (.invoking mk a)).hears mk (U.setTop g).frames = true := by
    rw [hfs]
    show (U.calling g mk a).hears mk _ = true
    simp [State.hears, hcode9, hdg, Except.toOption]
  have r5 : (headSpec ws rm).pre.before a ((U.setTop g).pushFrame (.invoking mk a)) = true := by
    show (headSpec ws rm).pre.before a (U.calling g mk a) = true
    rw [State.calling_eq h.top, Cond.before_setFrames]; exact h1
  have hgo : ((U.setTop g).pushFrame (.invoking mk a)).goesOn := ⟨r1, r2, r3⟩
  obtain ⟨n, o, hw, hr, he, hq, L, hfe, hL⟩ := hM p e X.admits X.cas X.clock ((U.setTop g).pushFrame (.invoking mk a)) mk a (U.setTop g).frames hf' r1 r2 r3 hn r4 hroom r5 hPc
  have hstep : (stepThread p.tables e ((U.setTop g).pushFrame (.invoking mk a))).1 = (doInvoke e (U.setTop g) [] mk a).1 := by
    rw [stepThread_invoking hf', doInvoke_state e (U.setTop g) [], State.pushFrame, State.setFrames_setFrames, State.setFrames_self ht]
  obtain ⟨s₂, hsteps, hend, hq, hfe⟩ : ∃ s₂, Steps p.tables e below (doInvoke e (U.setTop g) [] mk a).1 s₂ ∧ Ended s₂ (U.setTop g).frames o ∧ Qc a ((U.setTop g).pushFrame (.invoking mk a)) o s₂ ∧ FrameEnd ((U.setTop g).pushFrame (.invoking mk a)) o s₂ L mc ms := by
    cases n with
    | zero => exact absurd ⟨[.invoking mk a], hf', by simp, by simp⟩ he.not_within
    | succ k =>
      rw [stepsAlone_succ _ hgo, hstep] at hr he hq hfe
      refine ⟨_, ⟨k, rfl, fun j hj => ?_⟩, he, hq, hfe⟩
      have := hw (j + 1) (by omega)
      rw [stepsAlone_succ _ hgo, hstep, hfr] at this
      exact this.weaken
  rw [State.frames_setTop' g h.top] at hend
  obtain ⟨g₀, hg0⟩ := Option.isSome_iff_exists.mp h.top
  obtain ⟨r, hr9⟩ := State.topJava?_eq_some.mp hg0
  have hr' : (({ U with heap := s₂.heap, slotsUsed := s₂.slotsUsed } : State).setVm s₂.vm).frames = .java g₀ :: r := hr9
  have hfe : FrameEnd (U.calling g mk a) o s₂ L mc ms := hfe
  have hq : Qc a (U.calling g mk a) o s₂ := hq
  obtain ⟨⟨v, rfl⟩, hW₂, e2, q2, q3, q4, q5, q6⟩ := id hfe
  have e3 : s₂ = ({ (U.calling g mk a).setFrames s₂.frames with heap := s₂.heap, slotsUsed := s₂.slotsUsed } : State).setVm s₂.vm := by
    have : s₂ = ({ s₂ with vm := (U.calling g mk a).vm } : State).setVm s₂.vm := rfl
    rw [e2] at this
    exact this
  obtain ⟨c₂, i₂, len₂, hc₂, hd₂, hf₂⟩ := hend
  have hW' : U.WarmedH s₂.vm := hW₂
  have hcc : c₂ = c := by
    have h1 : s₂.code? g.method = U.code? g.method := by
      rw [State.code?_eq, State.code?_eq, hW'.alike.method?]
    exact Option.some.inj (hc₂.symm.trans (h1.trans h.code))
  subst hcc
  have hlen : len₂ = len := by rw [hdg] at hd₂; cases hd₂; rfl
  subst hlen
  have hs₂ : s₂ = (({ U with heap := s₂.heap, slotsUsed := s₂.slotsUsed } : State).setVm s₂.vm).setTop { g with pc := g.pc + len₂, stack := v.toList ++ g.stack } := by
    refine e3.trans ?_
    rw [hf₂, State.calling_eq h.top, State.setFrames_setFrames, State.setTop_of_frames _ hr', hr9]
    rfl
  have hsame : U.sameButNew ({ U with heap := s₂.heap, slotsUsed := s₂.slotsUsed } : State) L mc ms := by
    refine ⟨?_, q2, q3, q4, q5, q6⟩
    obtain ⟨t, ht, -⟩ := State.frames_cons hr9
    show ({ U with heap := s₂.heap, slotsUsed := s₂.slotsUsed } : State) = { U.setFrames U.frames with heap := s₂.heap, slotsUsed := s₂.slotsUsed }
    rw [State.setFrames_self ht]
  subst hg
  refine ⟨v, ⟨(({ U with heap := s₂.heap, slotsUsed := s₂.slotsUsed } : State).setVm s₂.vm), Ls ++ L, c0 + mc, s0 + ms⟩,
    ⟨X.admits, X.cas, X.clock, X.frames, X.room, X.hears, X.method, X.code, (X.here.setHeapUsed s₂.heap s₂.slotsUsed).setVm hW'.alike, X.tail, State.WarmedH.trans X.warmed hW', X.limits, X.bytes, X.same.trans (hsame.setVm s.vm)⟩,
    ⟨g, mk, s₂, L, rfl, rfl, hq, rfl, hL, rfl, rfl⟩, ?_⟩
  show Steps p.tables e below _ ((({ U with heap := s₂.heap, slotsUsed := s₂.slotsUsed } : State).setVm s₂.vm).setTop { g with pc := g.pc + len₂, stack := v.toList ++ g.stack })
  rw [← hs₂]
  exact hsteps
end HWNB
abbrev HMN (l : Launch) (y : MethodName) (cc : ByteArray) (maxL : Nat) (ret : Option FieldType) (lv mc ms : Nat) (G : Gl) (av : List Value) (w : Wd) (Qc : Array Value → State → Outcome → State → Prop) : Prop := MetN l y (ws_ y cc maxL ret) (rmk lv mc ms) (PP G av w) Qc mc ms (frG G)
section HWNC
variable {G : Gl} {p : Program} {l : Launch} {e : Env} {s : State} {m : MethodId} {args : Array Value} {below : List Frame} {meth : Method} {c : Code} {H : Heap} {locs : List Loc} {cells slots : Nat} {Q : State → Prop}
variable {cc : ByteArray} {own : String} {nL lv mc ms : Nat} {pc : Nat} {ls : Array Slot} {rest : List Value} {w : Wd} {a r : Nat}
theorem HMN.mk {y : MethodName} {av : List Value} {maxL : Nat} {ret : Option FieldType} {Qc : Array Value → State → Outcome → State → Prop} (hy : plainName y.cls = true) (hlen : (lg_sl av).length ≤ maxL)
    (body : ∀ (p : Program) (e : Env) (s : State) (m : MethodId) (args : Array Value) (below : List Frame) (meth : Method) (c : Code) (ls : Array Slot), HX G p s m args c cc maxL y.cls → meth.sig.returnType = ret → meth.locks = false → meth.name = y.name → lv_has ls maxL (lv_args 0 av) → ∀ (H : Heap), Rp G w H →
      W p l e (rmk lv mc ms) s m args below meth c H [] 0 0 (MQ below Qc args s mc ms (frG G)) (F0 m 0 ls [])) : HMN l y cc maxL ret lv mc ms G av w Qc := by
  refine MetN.ofW (cc := cc) (maxL := maxL) (ret := ret) hy rfl ?_
  intro p e s m args below meth c hx hb hml hnm hmm hret hlk hpre hv
  obtain ⟨rfl, hR, hK⟩ := hv
  have hts := atoms_spec (ws := ws_ y cc maxL ret) hpre
  have hts : ∀ w ∈ lw_all, w.before _ s = true := fun w h => hts w (List.mem_cons_of_mem _ h)
  rw [lg_entry_eq]
  exact body p e s m _ below meth c _ ⟨⟨hx, hb, hml, findClass_of_methodNamed hnm, hts⟩, hK⟩ hret hlk (name_of_methodNamed hnm hmm).1 (lv_entry av hlen) s.heap hR
/-- the constant's own body, called by the enum's abstract method -/
theorem h_runUN (X : HX G p s m args c cc nL own) (hR : Rp G w H) {x y : MethodName} {C owner : String} {bytes : ByteArray} {maxL lv2 mc2 ms2 idx : Nat} {ret : Option FieldType} {b : Nat} {As : List Value} {Qc : Array Value → State → Outcome → State → Prop} (M : HMN l y bytes maxL ret lv2 mc2 ms2 G (.ref b :: As) w Qc) (ho : NoMH owner) (hn : ParN x As.length) (hb : hasC w b C)
    (q1 : Cond.methodLink own idx x ∈ lw_all) (qs : Cond.sameMethod x.cls owner x.name x.desc ∈ lw_all) (hD : va_Decl s ⟨owner, x.name, x.desc⟩) (hsel : (Cond.selects C x y).before args s = true) (q2 : Cond.instanceMethod y ∈ lw_all) (q5 : Cond.code y bytes maxL ret ∈ lw_all)
    (hlv : lv2 + 1 ≤ lv ∧ maxL + 19 + 100 * lv2 ≤ 100 * lv) (hsz : ls.size = nL) (hcat : (rest.map fun v => v.category).sum ≤ 8) (d : decode cc pc = .ok (.invokevirtual idx, 3)) (hc : cells + mc2 ≤ mc ∧ slots + ms2 ≤ ms) :
    va_Run p l e (rmk lv mc ms) s m args below meth c H locs cells slots mc2 ms2 (F0 m pc ls (As.reverse ++ .ref b :: rest)) rest (Qc (Value.ref b :: As).toArray) (frG G) := by
  have hts := X.1.2.2.2.2
  have hG := lw_meth q5
  have hp : PreV s H C b (PP G (.ref b :: As) w) As := ⟨PP.blind G _ w, hb.recv hR X.2, PP.of X.2 hR _⟩
  have hK : Back l (rmk lv mc ms) p e below s args y 3 8 (PreOf (rmk lv mc ms) mc2 ms2 (PP G (.ref b :: As) w)) (PostOf Qc mc2 ms2 (frG G)) :=
    back_N (bytes := bytes) (maxL := maxL) (ret := ret) M hp.1 rfl rfl hlv.1 (by have := hlv.2; show 8 + (maxL + 11) + 100 * lv2 ≤ 100 * lv; omega) (pay_in hts hG) List.mem_cons_self
  have hlen : ∀ sig, parseMethodDescriptor x.desc = some sig → As.length = sig.parameters.length := fun sig h => by
    have h2 := hn.2
    rw [h] at h2
    exact (Option.some.inj h2).symm
  obtain ⟨hx, hbb, hml, hown, -⟩ := X.1
  obtain ⟨-, ⟨cellB, hcB, hoB, hclB⟩, hPc⟩ := hp
  intro T hT X'
  obtain ⟨v, vm₁, ⟨U', l2, c2, s2⟩, hW₁, X', ⟨g', mk, t, L, e1, e2, hq, h1, hL, h2, h3⟩, st⟩ := va_callVU X' hx (C := C) (owner := owner) (bytes := bytes) (maxL := maxL) (ret := ret) hown (hts _ q1) (hts _ qs) hD ho hsel (hts _ q2) (hts _ q5) hK (by rw [hT]; exact hcB) hoB hclB (g := F0 m pc ls (As.reverse ++ .ref b :: rest)) rfl (hsz.trans hml.symm) (argsL := As) (rest := rest) hlen rfl (lv_room hcat) (by rw [hbb]; exact d)
    (fun vm₁ hW₁ => ⟨hc.1, hc.2, hPc (T.setVm vm₁) hT hW₁⟩)
  dsimp only [Pt.U, Pt.locs, Pt.cells, Pt.slots] at X' e1 e2 h1 h2 h3 st
  subst h1; subst h2; subst h3
  exact ⟨v, (T.setVm vm₁).calling g' mk (Value.ref b :: As).toArray, t, U', L, hT, X', hL, e1, e2, hq, st⟩
end HWNC
