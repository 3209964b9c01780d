/-! HW: bits, floats -/
set_option maxRecDepth 100000
theorem sh31 : ∀ n : Nat, n < 32 → ((nI n &&& 31).toBitVec.smod 32).toNat = n := by decide +kernel
theorem R32_div {x : Int} {p : Int} (h : R32 x) (hp : 1 ≤ p) : R32 (x / p) := by
  refine ⟨Int.le_ediv_of_mul_le (by omega) (by omega), Int.ediv_lt_of_lt_mul (by omega) (by omega)⟩
theorem iI_shr {x : Int} {k : Nat} (hx : R32 x) (hk : k < 32) : iI x >>> (iI (k : Int) &&& 31) = iI (x / ((2 ^ k : Nat) : Int)) := by
  rw [← iI_nI]
  refine Int32.toInt_inj.mp ?_
  have hp : (1 : Int) ≤ ((2 ^ k : Nat) : Int) := by
    have := Nat.two_pow_pos k
    omega
  rw [iI_T (R32_div hx hp)]
  show ((iI x).toBitVec.sshiftRight' ((nI k &&& 31).toBitVec.smod 32)).toInt = _
  rw [BitVec.toInt_sshiftRight', sh31 k hk, Int.shiftRight_eq_div_pow]
  show (iI x).toInt / _ = _
  rw [iI_T hx]
theorem iI_bv (x : Int) : (iI x).toBitVec = BitVec.ofInt 32 x := rfl
theorem iI_and255 (x : Int) : iI x &&& iI 255 = iI (x % 256) := by
  refine Int32.toBitVec_inj.mp (BitVec.eq_of_toNat_eq ?_)
  rw [Int32.toBitVec_and, BitVec.toNat_and, iI_bv, iI_bv, iI_bv, BitVec.toNat_ofInt, BitVec.toNat_ofInt, BitVec.toNat_ofInt]
  rw [show ((255 : Int) % ((2 ^ 32 : Nat) : Int)).toNat = 2 ^ 8 - 1 by decide, Nat.and_two_pow_sub_one_eq_mod]
  omega
theorem iI_and63 (x : Int) : iI x &&& iI 63 = iI (x % 64) := by
  refine Int32.toBitVec_inj.mp (BitVec.eq_of_toNat_eq ?_)
  rw [Int32.toBitVec_and, BitVec.toNat_and, iI_bv, iI_bv, iI_bv, BitVec.toNat_ofInt, BitVec.toNat_ofInt, BitVec.toNat_ofInt]
  rw [show ((63 : Int) % ((2 ^ 32 : Nat) : Int)).toNat = 2 ^ 6 - 1 by decide, Nat.and_two_pow_sub_one_eq_mod]
  omega
theorem iI_and1 (x : Int) : iI x &&& iI 1 = iI (x % 2) := by
  refine Int32.toBitVec_inj.mp (BitVec.eq_of_toNat_eq ?_)
  rw [Int32.toBitVec_and, BitVec.toNat_and, iI_bv, iI_bv, iI_bv, BitVec.toNat_ofInt, BitVec.toNat_ofInt, BitVec.toNat_ofInt]
  rw [show ((1 : Int) % ((2 ^ 32 : Nat) : Int)).toNat = 2 ^ 1 - 1 by decide, Nat.and_two_pow_sub_one_eq_mod]
  omega
theorem iI_and65535 (x : Int) : iI x &&& iI 65535 = iI (x % 65536) := by
  refine Int32.toBitVec_inj.mp (BitVec.eq_of_toNat_eq ?_)
  rw [Int32.toBitVec_and, BitVec.toNat_and, iI_bv, iI_bv, iI_bv, BitVec.toNat_ofInt, BitVec.toNat_ofInt, BitVec.toNat_ofInt]
  rw [show ((65535 : Int) % ((2 ^ 32 : Nat) : Int)).toNat = 2 ^ 16 - 1 by decide, Nat.and_two_pow_sub_one_eq_mod]
  omega
/-- a byte with its sign -/
def b8 (x : Int) : Int := (x + 128) % 256 - 128
theorem b8_r (x : Int) : -128 ≤ b8 x ∧ b8 x < 128 := by unfold b8; omega
theorem iI_i2b (x : Int) (h : R32 x) : (iI x).toInt8.toInt32 = iI (b8 x) := by
  refine Int32.toInt_inj.mp ?_
  have hb := b8_r x
  rw [Int8.toInt_toInt32, Int32.toInt_toInt8, iI_T h, iI_T ⟨by omega, by omega⟩]
  unfold b8
  rw [Int.bmod_def]
  split <;> omega
theorem iI_i2c (x : Int) (h : 0 ≤ x ∧ x < 65536) : ((iI x).toUInt32 % 65536).toInt32 = iI x := by
  refine Int32.toBitVec_inj.mp (BitVec.eq_of_toNat_eq ?_)
  show ((BitVec.ofInt 32 x) % (65536#32)).toNat = (BitVec.ofInt 32 x).toNat
  rw [BitVec.toNat_umod, BitVec.toNat_ofInt]
  show (x % 4294967296).toNat % 65536 = _
  omega
section HWB
variable {p : Program} {l : Launch} {e : Env} {R : Room} {s : State} {m : MethodId} {args : Array Value} {below : List Frame} {meth : Method} {c : Code} {H : Heap} {locs : List Loc} {cells slots : Nat} {Q : State → Prop}
variable {cc : ByteArray} {pc : Nat} {ls : Array Slot} {rest : List Value}
theorem h_ishr (hx : p.tables.exec = Jvm.exec) (hb : c.code = cc) {x z : Int} (k : Nat) (q : Int) (d : decode cc pc = .ok (.ishr, 1)) (hr : R32 x) (hk : k < 32) (hz : z = (k : Int)) (hq : ((2 ^ k : Nat) : Int) = q)
    (kk : W p l e R s m args below meth c H locs cells slots Q (F0 m (pc + 1) ls (.int (iI (x / q)) :: rest))) : W p l e R s m args below meth c H locs cells slots Q (F0 m pc ls (.int (iI z) :: .int (iI x) :: rest)) := by
  subst hz; subst hq
  exact lv_ishr hx hb d (by rw [iI_shr hr hk]; exact kk)
theorem h_iand (hx : p.tables.exec = Jvm.exec) (hb : c.code = cc) {x z v : Int} (d : decode cc pc = .ok (.iand, 1)) (hv : iI x &&& iI z = iI v)
    (kk : W p l e R s m args below meth c H locs cells slots Q (F0 m (pc + 1) ls (.int (iI v) :: rest))) : W p l e R s m args below meth c H locs cells slots Q (F0 m pc ls (.int (iI z) :: .int (iI x) :: rest)) :=
  lv_iand hx hb d (by rw [hv]; exact kk)
theorem h_i2b (hx : p.tables.exec = Jvm.exec) (hb : c.code = cc) {x : Int} (d : decode cc pc = .ok (.i2b, 1)) (hr : R32 x)
    (kk : W p l e R s m args below meth c H locs cells slots Q (F0 m (pc + 1) ls (.int (iI (b8 x)) :: rest))) : W p l e R s m args below meth c H locs cells slots Q (F0 m pc ls (.int (iI x) :: rest)) :=
  lv_i2b hx hb d (iI_i2b x hr) kk
theorem h_i2c (hx : p.tables.exec = Jvm.exec) (hb : c.code = cc) {x : Int} (d : decode cc pc = .ok (.i2c, 1)) (hr : 0 ≤ x ∧ x < 65536)
    (kk : W p l e R s m args below meth c H locs cells slots Q (F0 m (pc + 1) ls (.int (iI x) :: rest))) : W p l e R s m args below meth c H locs cells slots Q (F0 m pc ls (.int (iI x) :: rest)) :=
  lv_i2c hx hb d (iI_i2c x hr) kk
end HWB
section HWF
variable {G : Gl} {p : Program} {l : Launch} {e : Env} {s : State} {m : MethodId} {args : Array Value} {below : List Frame} {meth : Method} {c : Code} {H : Heap} {locs : List Loc} {cells slots : Nat} {Q : State → Prop}
variable {cc : ByteArray} {nL lv mc ms : Nat} {pc : Nat} {ls : Array Slot} {w : Wd}
theorem h_freturn (hx : p.tables.exec = Jvm.exec) (hb : c.code = cc) (hlk : meth.locks = false) (hr : meth.sig.returnType = some .float) (hR : Rp G w H) (hL : LK G locs) {post : UInt32 → Wd → Prop} {z : UInt32} (hp : post z w) (hc : cells ≤ mc) (hs : slots ≤ ms) {mc0 ms0 : Nat} (e1 : mc = mc0) (e2 : ms = ms0) (d : decode cc pc = .ok (.freturn, 1)) :
    W p l e (rmk lv mc ms) s m args below meth c H locs cells slots (MQ below (QF G post) args s mc0 ms0 (frG G)) (F0 m pc ls [.float z]) := by
  subst e1; subst e2
  exact W.widen (k := mc) (n := ms) hc hs (W.fret hx hb hr (fun t ht _ => ⟨z, w, rfl, by rw [ht]; exact hR, hp⟩) hL d hlk)
theorem h_dreturn (hx : p.tables.exec = Jvm.exec) (hb : c.code = cc) (hlk : meth.locks = false) (hr : meth.sig.returnType = some .double) (hR : Rp G w H) (hL : LK G locs) {post : UInt64 → Wd → Prop} {z : UInt64} (hp : post z w) (hc : cells ≤ mc) (hs : slots ≤ ms) {mc0 ms0 : Nat} (e1 : mc = mc0) (e2 : ms = ms0) (d : decode cc pc = .ok (.dreturn, 1)) :
    W p l e (rmk lv mc ms) s m args below meth c H locs cells slots (MQ below (QD G post) args s mc0 ms0 (frG G)) (F0 m pc ls [.double z]) := by
  subst e1; subst e2
  exact W.widen (k := mc) (n := ms) hc hs (W.dret hx hb hr (fun t ht _ => ⟨z, w, rfl, by rw [ht]; exact hR, hp⟩) hL d hlk)
end HWF
