/-! HW: calls that change nothing; further rows -/
set_option maxRecDepth 100000
theorem lv_conv {ls : Array Slot} {n : Nat} {l l' : List (Nat × Value)} (h : lv_has ls n l) (e : l = l') : lv_has ls n l' := e ▸ h
section HWP
variable {G : Gl} {p : Program} {l : Launch} {e : Env} {s : State} {m : MethodId} {args : Array Value} {below : List Frame} {meth : Method} {c : Code} {H : Heap} {locs : List Loc} {cells slots : Nat} {Q : State → Prop}
variable {cc : ByteArray} {own : String} {nL lv mc ms mc2 ms2 : Nat} {pc : Nat} {ls : Array Slot} {rest st0 : List Value} {av : Array Value} {w : Wd} {a r : Nat}
theorem h_kIp {z : Int} (hr : va_Run p l e (rmk lv mc ms) s m args below meth c H locs cells slots mc2 ms2 (F0 m pc ls st0) rest (QI G (fun z_ w_ => z_ = z ∧ w_ = w) av) (frG G)) (hL : LK G locs)
    (kk : ∀ (H1 : Heap) (locs1 : List Loc), Rp G w H1 → LK G locs1 → W p l e (rmk lv mc ms) s m args below meth c H1 locs1 (cells + mc2) (slots + ms2) Q (F0 m (pc + 3) ls (.int (iI z) :: rest))) : W p l e (rmk lv mc ms) s m args below meth c H locs cells slots Q (F0 m pc ls st0) :=
  h_kI hr hL fun z1 w1 hp H1 locs1 hR1 hL1 => by obtain ⟨e1, e2⟩ := hp; subst e1; rw [e2] at hR1; exact kk H1 locs1 hR1 hL1
theorem h_k5Ip {z : Int} (hr : va_Run5 p l e (rmk lv mc ms) s m args below meth c H locs cells slots mc2 ms2 (F0 m pc ls st0) rest (QI G (fun z_ w_ => z_ = z ∧ w_ = w) av) (frG G)) (hL : LK G locs)
    (kk : ∀ (H1 : Heap) (locs1 : List Loc), Rp G w H1 → LK G locs1 → W p l e (rmk lv mc ms) s m args below meth c H1 locs1 (cells + mc2) (slots + ms2) Q (F0 m (pc + 5) ls (.int (iI z) :: rest))) : W p l e (rmk lv mc ms) s m args below meth c H locs cells slots Q (F0 m pc ls st0) :=
  h_k5I hr hL fun z1 w1 hp H1 locs1 hR1 hL1 => by obtain ⟨e1, e2⟩ := hp; subst e1; rw [e2] at hR1; exact kk H1 locs1 hR1 hL1
theorem h_kLp {z : Int} (hr : va_Run p l e (rmk lv mc ms) s m args below meth c H locs cells slots mc2 ms2 (F0 m pc ls st0) rest (QL G (fun z_ w_ => z_ = z ∧ w_ = w) av) (frG G)) (hL : LK G locs)
    (kk : ∀ (H1 : Heap) (locs1 : List Loc), Rp G w H1 → LK G locs1 → W p l e (rmk lv mc ms) s m args below meth c H1 locs1 (cells + mc2) (slots + ms2) Q (F0 m (pc + 3) ls (.long (lI z) :: rest))) : W p l e (rmk lv mc ms) s m args below meth c H locs cells slots Q (F0 m pc ls st0) :=
  h_kL hr hL fun z1 w1 hp H1 locs1 hR1 hL1 => by obtain ⟨e1, e2⟩ := hp; subst e1; rw [e2] at hR1; exact kk H1 locs1 hR1 hL1
theorem h_kFp {z : UInt32} (hr : va_Run p l e (rmk lv mc ms) s m args below meth c H locs cells slots mc2 ms2 (F0 m pc ls st0) rest (QF G (fun z_ w_ => z_ = z ∧ w_ = w) av) (frG G)) (hL : LK G locs)
    (kk : ∀ (H1 : Heap) (locs1 : List Loc), Rp G w H1 → LK G locs1 → W p l e (rmk lv mc ms) s m args below meth c H1 locs1 (cells + mc2) (slots + ms2) Q (F0 m (pc + 3) ls (.float z :: rest))) : W p l e (rmk lv mc ms) s m args below meth c H locs cells slots Q (F0 m pc ls st0) :=
  h_kF hr hL fun z1 w1 hp H1 locs1 hR1 hL1 => by obtain ⟨e1, e2⟩ := hp; subst e1; rw [e2] at hR1; exact kk H1 locs1 hR1 hL1
theorem h_kDp {z : UInt64} (hr : va_Run p l e (rmk lv mc ms) s m args below meth c H locs cells slots mc2 ms2 (F0 m pc ls st0) rest (QD G (fun z_ w_ => z_ = z ∧ w_ = w) av) (frG G)) (hL : LK G locs)
    (kk : ∀ (H1 : Heap) (locs1 : List Loc), Rp G w H1 → LK G locs1 → W p l e (rmk lv mc ms) s m args below meth c H1 locs1 (cells + mc2) (slots + ms2) Q (F0 m (pc + 3) ls (.double z :: rest))) : W p l e (rmk lv mc ms) s m args below meth c H locs cells slots Q (F0 m pc ls st0) :=
  h_kD hr hL fun z1 w1 hp H1 locs1 hR1 hL1 => by obtain ⟨e1, e2⟩ := hp; subst e1; rw [e2] at hR1; exact kk H1 locs1 hR1 hL1
theorem h_kRp {z : Nat} (hr : va_Run p l e (rmk lv mc ms) s m args below meth c H locs cells slots mc2 ms2 (F0 m pc ls st0) rest (QR G (fun z_ w_ => z_ = z ∧ w_ = w) av) (frG G)) (hL : LK G locs)
    (kk : ∀ (H1 : Heap) (locs1 : List Loc), Rp G w H1 → LK G locs1 → W p l e (rmk lv mc ms) s m args below meth c H1 locs1 (cells + mc2) (slots + ms2) Q (F0 m (pc + 3) ls (.ref z :: rest))) : W p l e (rmk lv mc ms) s m args below meth c H locs cells slots Q (F0 m pc ls st0) :=
  h_kR hr hL fun z1 w1 hp H1 locs1 hR1 hL1 => by obtain ⟨e1, e2⟩ := hp; subst e1; rw [e2] at hR1; exact kk H1 locs1 hR1 hL1
theorem h_k5Rp {z : Nat} (hr : va_Run5 p l e (rmk lv mc ms) s m args below meth c H locs cells slots mc2 ms2 (F0 m pc ls st0) rest (QR G (fun z_ w_ => z_ = z ∧ w_ = w) av) (frG G)) (hL : LK G locs)
    (kk : ∀ (H1 : Heap) (locs1 : List Loc), Rp G w H1 → LK G locs1 → W p l e (rmk lv mc ms) s m args below meth c H1 locs1 (cells + mc2) (slots + ms2) Q (F0 m (pc + 5) ls (.ref z :: rest))) : W p l e (rmk lv mc ms) s m args below meth c H locs cells slots Q (F0 m pc ls st0) :=
  h_k5R hr hL fun z1 w1 hp H1 locs1 hR1 hL1 => by obtain ⟨e1, e2⟩ := hp; subst e1; rw [e2] at hR1; exact kk H1 locs1 hR1 hL1
theorem h_kNp {z : Option Nat} (hr : va_Run p l e (rmk lv mc ms) s m args below meth c H locs cells slots mc2 ms2 (F0 m pc ls st0) rest (QN G (fun z_ w_ => z_ = z ∧ w_ = w) av) (frG G)) (hL : LK G locs)
    (kk : ∀ (H1 : Heap) (locs1 : List Loc), Rp G w H1 → LK G locs1 → W p l e (rmk lv mc ms) s m args below meth c H1 locs1 (cells + mc2) (slots + ms2) Q (F0 m (pc + 3) ls (va_rf z :: rest))) : W p l e (rmk lv mc ms) s m args below meth c H locs cells slots Q (F0 m pc ls st0) :=
  h_kN hr hL fun z1 w1 hp H1 locs1 hR1 hL1 => by obtain ⟨e1, e2⟩ := hp; subst e1; rw [e2] at hR1; exact kk H1 locs1 hR1 hL1
theorem h_k5Np {z : Option Nat} (hr : va_Run5 p l e (rmk lv mc ms) s m args below meth c H locs cells slots mc2 ms2 (F0 m pc ls st0) rest (QN G (fun z_ w_ => z_ = z ∧ w_ = w) av) (frG G)) (hL : LK G locs)
    (kk : ∀ (H1 : Heap) (locs1 : List Loc), Rp G w H1 → LK G locs1 → W p l e (rmk lv mc ms) s m args below meth c H1 locs1 (cells + mc2) (slots + ms2) Q (F0 m (pc + 5) ls (va_rf z :: rest))) : W p l e (rmk lv mc ms) s m args below meth c H locs cells slots Q (F0 m pc ls st0) :=
  h_k5N hr hL fun z1 w1 hp H1 locs1 hR1 hL1 => by obtain ⟨e1, e2⟩ := hp; subst e1; rw [e2] at hR1; exact kk H1 locs1 hR1 hL1
theorem h_kVp (hr : va_Run p l e (rmk lv mc ms) s m args below meth c H locs cells slots mc2 ms2 (F0 m pc ls st0) rest (QV G (fun w_ => w_ = w) av) (frG G)) (hL : LK G locs)
    (kk : ∀ (H1 : Heap) (locs1 : List Loc), Rp G w H1 → LK G locs1 → W p l e (rmk lv mc ms) s m args below meth c H1 locs1 (cells + mc2) (slots + ms2) Q (F0 m (pc + 3) ls rest)) : W p l e (rmk lv mc ms) s m args below meth c H locs cells slots Q (F0 m pc ls st0) :=
  h_kV hr hL fun w1 hp H1 locs1 hR1 hL1 => by rw [hp] at hR1; exact kk H1 locs1 hR1 hL1
theorem h_rload_n (hx : p.tables.exec = Jvm.exec) (hb : c.code = cc) {R : Room} {k : Fin 4} {i : Nat} {x : Option Nat} (d : decode cc pc = .ok (.aload_n k, 1)) (hi : (k : Nat) = i) (hl : ls[i]? = some (.val (va_rf x)))
    (kk : W p l e R s m args below meth c H locs cells slots Q (F0 m (pc + 1) ls (va_rf x :: rest))) : W p l e R s m args below meth c H locs cells slots Q (F0 m pc ls rest) := by
  cases x with
  | none => exact lv_aload_nN hx hb d hi hl kk
  | some y => exact lv_aload_n hx hb d hi hl kk
theorem h_rload (hx : p.tables.exec = Jvm.exec) (hb : c.code = cc) {R : Room} {i : Nat} {x : Option Nat} (d : decode cc pc = .ok (.aload i, 2)) (hl : ls[i]? = some (.val (va_rf x)))
    (kk : W p l e R s m args below meth c H locs cells slots Q (F0 m (pc + 2) ls (va_rf x :: rest))) : W p l e R s m args below meth c H locs cells slots Q (F0 m pc ls rest) := by
  cases x with
  | none => exact lv_aloadN hx hb d hl kk
  | some y => exact lv_aload hx hb d hl kk
theorem h_rstore_n (hx : p.tables.exec = Jvm.exec) (hb : c.code = cc) {R : Room} {k : Fin 4} {i nL : Nat} {x : Option Nat} {lv lv' : List (Nat × Value)} (d : decode cc pc = .ok (.astore_n k, 1)) (hi : (k : Nat) = i) (h : lv_has ls nL lv) (hn : i < nL) (hl : (i, va_rf x) :: lv.filter (fun q => !(q.1 == i) && !(q.1 + 1 == i && q.2.category == 2)) = lv')
    (kk : ∀ ls' : Array Slot, lv_has ls' nL lv' → W p l e R s m args below meth c H locs cells slots Q (F0 m (pc + 1) ls' rest)) : W p l e R s m args below meth c H locs cells slots Q (F0 m pc ls (va_rf x :: rest)) := by
  cases x with
  | none => exact lv_astore_nN hx hb d hi h hn hl kk
  | some y => exact lv_astore_n hx hb d hi h hn hl kk
theorem h_rstore (hx : p.tables.exec = Jvm.exec) (hb : c.code = cc) {R : Room} {i nL : Nat} {x : Option Nat} {lv lv' : List (Nat × Value)} (d : decode cc pc = .ok (.astore i, 2)) (h : lv_has ls nL lv) (hn : i < nL) (hl : (i, va_rf x) :: lv.filter (fun q => !(q.1 == i) && !(q.1 + 1 == i && q.2.category == 2)) = lv')
    (kk : ∀ ls' : Array Slot, lv_has ls' nL lv' → W p l e R s m args below meth c H locs cells slots Q (F0 m (pc + 2) ls' rest)) : W p l e R s m args below meth c H locs cells slots Q (F0 m pc ls (va_rf x :: rest)) := by
  cases x with
  | none => exact lv_astoreN hx hb d h hn hl kk
  | some y => exact lv_astore hx hb d h hn hl kk
end HWP
