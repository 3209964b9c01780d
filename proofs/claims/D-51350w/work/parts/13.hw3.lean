/-! HW: rows over numbers -/
set_option maxRecDepth 100000
section HWN
variable {p : Program} {l : Launch} {e : Env} {R : Room} {s : State} {m : MethodId} {args : Array Value} {below : List Frame} {meth : Method} {c : Code} {H : Heap} {locs : List Loc} {cells slots : Nat} {Q : State → Prop}
variable {cc : ByteArray} {pc : Nat} {ls : Array Slot} {rest : List Value}
theorem h_iconst (hx : p.tables.exec = Jvm.exec) (hb : c.code = cc) {n : Int} (d : decode cc pc = .ok (.iconst n, 1))
    (k : W p l e R s m args below meth c H locs cells slots Q (F0 m (pc + 1) ls (.int (iI n) :: rest))) : W p l e R s m args below meth c H locs cells slots Q (F0 m pc ls rest) := lv_iconst hx hb d rfl k
theorem h_bipush (hx : p.tables.exec = Jvm.exec) (hb : c.code = cc) {n : Int} (d : decode cc pc = .ok (.bipush n, 2)) (hn : -128 ≤ n ∧ n < 128)
    (k : W p l e R s m args below meth c H locs cells slots Q (F0 m (pc + 2) ls (.int (iI n) :: rest))) : W p l e R s m args below meth c H locs cells slots Q (F0 m pc ls rest) :=
  lv_bipush hx hb d (Int32.toInt_inj.mp (by rw [iI_T ⟨by omega, by omega⟩, Int8.toInt_toInt32, Int8.toInt_ofInt_of_le (by omega) (by omega)])) k
theorem h_sipush (hx : p.tables.exec = Jvm.exec) (hb : c.code = cc) {n : Int} (d : decode cc pc = .ok (.sipush n, 3)) (hn : -32768 ≤ n ∧ n < 32768)
    (k : W p l e R s m args below meth c H locs cells slots Q (F0 m (pc + 3) ls (.int (iI n) :: rest))) : W p l e R s m args below meth c H locs cells slots Q (F0 m pc ls rest) :=
  lv_sipush hx hb d (Int32.toInt_inj.mp (by rw [iI_T ⟨by omega, by omega⟩, Int16.toInt_toInt32, Int16.toInt_ofInt_of_le (by omega) (by omega)])) k
theorem h_lconst (hx : p.tables.exec = Jvm.exec) (hb : c.code = cc) {n : Fin 2} (z : Int) (d : decode cc pc = .ok (.lconst n, 1)) (hz : Int64.ofNat (n : Nat) = lI z)
    (k : W p l e R s m args below meth c H locs cells slots Q (F0 m (pc + 1) ls (.long (lI z) :: rest))) : W p l e R s m args below meth c H locs cells slots Q (F0 m pc ls rest) := lv_lconst hx hb d hz k
theorem h_iadd (hx : p.tables.exec = Jvm.exec) (hb : c.code = cc) {x y : Int} (d : decode cc pc = .ok (.iadd, 1))
    (k : W p l e R s m args below meth c H locs cells slots Q (F0 m (pc + 1) ls (.int (iI (x + y)) :: rest))) : W p l e R s m args below meth c H locs cells slots Q (F0 m pc ls (.int (iI y) :: .int (iI x) :: rest)) := lv_iadd hx hb d (by rw [iI_add]; exact k)
theorem h_isub (hx : p.tables.exec = Jvm.exec) (hb : c.code = cc) {x y : Int} (d : decode cc pc = .ok (.isub, 1))
    (k : W p l e R s m args below meth c H locs cells slots Q (F0 m (pc + 1) ls (.int (iI (x - y)) :: rest))) : W p l e R s m args below meth c H locs cells slots Q (F0 m pc ls (.int (iI y) :: .int (iI x) :: rest)) := lv_isub hx hb d (by rw [iI_sub]; exact k)
theorem h_imul (hx : p.tables.exec = Jvm.exec) (hb : c.code = cc) {x y : Int} (d : decode cc pc = .ok (.imul, 1))
    (k : W p l e R s m args below meth c H locs cells slots Q (F0 m (pc + 1) ls (.int (iI (x * y)) :: rest))) : W p l e R s m args below meth c H locs cells slots Q (F0 m pc ls (.int (iI y) :: .int (iI x) :: rest)) := lv_imul hx hb d (by rw [iI_mul]; exact k)
theorem h_ineg (hx : p.tables.exec = Jvm.exec) (hb : c.code = cc) {x : Int} (d : decode cc pc = .ok (.ineg, 1))
    (k : W p l e R s m args below meth c H locs cells slots Q (F0 m (pc + 1) ls (.int (iI (-x)) :: rest))) : W p l e R s m args below meth c H locs cells slots Q (F0 m pc ls (.int (iI x) :: rest)) := lv_ineg hx hb d (by rw [iI_neg]; exact k)
theorem h_idiv (hx : p.tables.exec = Jvm.exec) (hb : c.code = cc) {x y : Int} (d : decode cc pc = .ok (.idiv, 1)) (hr : (0 ≤ x ∧ x < 2147483648) ∧ 0 < y ∧ y < 2147483648)
    (k : W p l e R s m args below meth c H locs cells slots Q (F0 m (pc + 1) ls (.int (iI (x / y)) :: rest))) : W p l e R s m args below meth c H locs cells slots Q (F0 m pc ls (.int (iI y) :: .int (iI x) :: rest)) :=
  lv_idiv hx hb d (fun q => by have := congrArg Int32.toInt q; rw [iI_T ⟨by omega, by omega⟩] at this; simp at this; omega) (by rw [iI_div ⟨by omega, by omega⟩ (by omega) ⟨by omega, by omega⟩ (by omega)]; exact k)
theorem h_irem (hx : p.tables.exec = Jvm.exec) (hb : c.code = cc) {x y : Int} (d : decode cc pc = .ok (.irem, 1)) (hr : (0 ≤ x ∧ x < 2147483648) ∧ 0 < y ∧ y < 2147483648)
    (k : W p l e R s m args below meth c H locs cells slots Q (F0 m (pc + 1) ls (.int (iI (x % y)) :: rest))) : W p l e R s m args below meth c H locs cells slots Q (F0 m pc ls (.int (iI y) :: .int (iI x) :: rest)) :=
  lv_irem hx hb d (fun q => by have := congrArg Int32.toInt q; rw [iI_T ⟨by omega, by omega⟩] at this; simp at this; omega) (by rw [iI_div ⟨by omega, by omega⟩ (by omega) ⟨by omega, by omega⟩ (by omega), iI_mul, iI_sub, show x - x / y * y = x % y by rw [Int.emod_def, Int.mul_comm]]; exact k)
theorem lI_div {a b : Int} (ha : R64 a) (h0 : 0 ≤ a) (hb : R64 b) (hb0 : 0 < b) : lI a / lI b = lI (a / b) := by
  refine Int64.toInt_inj.mp ?_
  have hd : 0 ≤ a / b := Int.ediv_nonneg h0 (by omega)
  have hd2 : a / b ≤ a := Int.ediv_le_self _ h0
  rw [Int64.toInt_div_of_ne_right _ _ (fun q => by have := congrArg Int64.toInt q; rw [lI_T hb] at this; simp at this; omega), lI_T ha, lI_T hb, lI_T ⟨by omega, by have := ha.2; omega⟩]
  exact Int.tdiv_eq_ediv_of_nonneg h0
theorem h_ldiv (hx : p.tables.exec = Jvm.exec) (hb : c.code = cc) {x y : Int} (d : decode cc pc = .ok (.ldiv, 1)) (hr : (0 ≤ x ∧ x < 9223372036854775808) ∧ 0 < y ∧ y < 9223372036854775808)
    (k : W p l e R s m args below meth c H locs cells slots Q (F0 m (pc + 1) ls (.long (lI (x / y)) :: rest))) : W p l e R s m args below meth c H locs cells slots Q (F0 m pc ls (.long (lI y) :: .long (lI x) :: rest)) :=
  lv_ldiv hx hb d (fun q => by have := congrArg Int64.toInt q; rw [lI_T ⟨by omega, by omega⟩] at this; simp at this; omega) (by rw [lI_div ⟨by omega, by omega⟩ (by omega) ⟨by omega, by omega⟩ (by omega)]; exact k)
theorem h_lrem (hx : p.tables.exec = Jvm.exec) (hb : c.code = cc) {x y : Int} (d : decode cc pc = .ok (.lrem, 1)) (hr : (0 ≤ x ∧ x < 9223372036854775808) ∧ 0 < y ∧ y < 9223372036854775808)
    (k : W p l e R s m args below meth c H locs cells slots Q (F0 m (pc + 1) ls (.long (lI (x % y)) :: rest))) : W p l e R s m args below meth c H locs cells slots Q (F0 m pc ls (.long (lI y) :: .long (lI x) :: rest)) :=
  lv_lrem hx hb d (fun q => by have := congrArg Int64.toInt q; rw [lI_T ⟨by omega, by omega⟩] at this; simp at this; omega) (by rw [lI_div ⟨by omega, by omega⟩ (by omega) ⟨by omega, by omega⟩ (by omega), lI_mul, lI_sub, show x - x / y * y = x % y by rw [Int.emod_def, Int.mul_comm]]; exact k)
theorem h_ladd (hx : p.tables.exec = Jvm.exec) (hb : c.code = cc) {x y : Int} (d : decode cc pc = .ok (.ladd, 1))
    (k : W p l e R s m args below meth c H locs cells slots Q (F0 m (pc + 1) ls (.long (lI (x + y)) :: rest))) : W p l e R s m args below meth c H locs cells slots Q (F0 m pc ls (.long (lI y) :: .long (lI x) :: rest)) := lv_ladd hx hb d (by rw [lI_add]; exact k)
theorem h_lsub (hx : p.tables.exec = Jvm.exec) (hb : c.code = cc) {x y : Int} (d : decode cc pc = .ok (.lsub, 1))
    (k : W p l e R s m args below meth c H locs cells slots Q (F0 m (pc + 1) ls (.long (lI (x - y)) :: rest))) : W p l e R s m args below meth c H locs cells slots Q (F0 m pc ls (.long (lI y) :: .long (lI x) :: rest)) := lv_lsub hx hb d (by rw [lI_sub]; exact k)
theorem h_lmul (hx : p.tables.exec = Jvm.exec) (hb : c.code = cc) {x y : Int} (d : decode cc pc = .ok (.lmul, 1))
    (k : W p l e R s m args below meth c H locs cells slots Q (F0 m (pc + 1) ls (.long (lI (x * y)) :: rest))) : W p l e R s m args below meth c H locs cells slots Q (F0 m pc ls (.long (lI y) :: .long (lI x) :: rest)) := lv_lmul hx hb d (by rw [lI_mul]; exact k)
theorem h_i2l (hx : p.tables.exec = Jvm.exec) (hb : c.code = cc) {x : Int} (d : decode cc pc = .ok (.i2l, 1)) (hr : R32 x)
    (k : W p l e R s m args below meth c H locs cells slots Q (F0 m (pc + 1) ls (.long (lI x) :: rest))) : W p l e R s m args below meth c H locs cells slots Q (F0 m pc ls (.int (iI x) :: rest)) := lv_i2l hx hb d (iI_i2l hr) k
theorem h_l2i (hx : p.tables.exec = Jvm.exec) (hb : c.code = cc) {x : Int} (d : decode cc pc = .ok (.l2i, 1))
    (k : W p l e R s m args below meth c H locs cells slots Q (F0 m (pc + 1) ls (.int (iI x) :: rest))) : W p l e R s m args below meth c H locs cells slots Q (F0 m pc ls (.long (lI x) :: rest)) := lv_l2i hx hb d lI_l2i k
/-- the sign of a comparison of longs -/
def cmpZ (x y : Int) : Int := if x < y then -1 else if x = y then 0 else 1
theorem h_lcmp (hx : p.tables.exec = Jvm.exec) (hb : c.code = cc) {x y : Int} (d : decode cc pc = .ok (.lcmp, 1)) (h1 : R64 x) (h2 : R64 y)
    (k : W p l e R s m args below meth c H locs cells slots Q (F0 m (pc + 1) ls (.int (iI (cmpZ x y)) :: rest))) : W p l e R s m args below meth c H locs cells slots Q (F0 m pc ls (.long (lI y) :: .long (lI x) :: rest)) := by
  refine W.lcmp hx hb d ?_
  have he : lg_cmp (lI x) (lI y) = iI (cmpZ x y) := by
    unfold lg_cmp cmpZ
    simp only [GT.gt, lI_lt h2 h1, lI_eq h1 h2]
    rcases Int.lt_trichotomy x y with h | h | h
    · rw [if_neg (by omega), if_neg (by omega), if_pos h]; rfl
    · subst h; rw [if_neg (by omega), if_pos rfl, if_neg (by omega), if_pos rfl]; rfl
    · rw [if_pos h, if_neg (by omega), if_neg (by omega)]; rfl
  rw [he]
  exact k
theorem h_if_eq (hx : p.tables.exec = Jvm.exec) (hb : c.code = cc) {x : Int} {off : Int} (tgt : Nat) (d : decode cc pc = .ok (.ifCond .eq off, 3)) (ht : (pc : Int) + off = (tgt : Int)) (hr : R32 x)
    (kt : x = 0 → W p l e R s m args below meth c H locs cells slots Q (F0 m tgt ls rest)) (kf : ¬ x = 0 → W p l e R s m args below meth c H locs cells slots Q (F0 m (pc + 3) ls rest)) : W p l e R s m args below meth c H locs cells slots Q (F0 m pc ls (.int (iI x) :: rest)) :=
  lv_if_eq hx hb d ht (fun h => kt ((iI_eq hr ⟨by decide, by decide⟩).mp h)) (fun h => kf (fun q => h ((iI_eq hr ⟨by decide, by decide⟩).mpr q)))
theorem h_if_ne (hx : p.tables.exec = Jvm.exec) (hb : c.code = cc) {x : Int} {off : Int} (tgt : Nat) (d : decode cc pc = .ok (.ifCond .ne off, 3)) (ht : (pc : Int) + off = (tgt : Int)) (hr : R32 x)
    (kt : ¬ x = 0 → W p l e R s m args below meth c H locs cells slots Q (F0 m tgt ls rest)) (kf : x = 0 → W p l e R s m args below meth c H locs cells slots Q (F0 m (pc + 3) ls rest)) : W p l e R s m args below meth c H locs cells slots Q (F0 m pc ls (.int (iI x) :: rest)) :=
  lv_if_ne hx hb d ht (fun h => kt (fun q => h ((iI_eq hr ⟨by decide, by decide⟩).mpr q))) (fun h => kf ((iI_eq hr ⟨by decide, by decide⟩).mp h))
theorem h_if_lt (hx : p.tables.exec = Jvm.exec) (hb : c.code = cc) {x : Int} {off : Int} (tgt : Nat) (d : decode cc pc = .ok (.ifCond .lt off, 3)) (ht : (pc : Int) + off = (tgt : Int)) (hr : R32 x)
    (kt : x < 0 → W p l e R s m args below meth c H locs cells slots Q (F0 m tgt ls rest)) (kf : ¬ x < 0 → W p l e R s m args below meth c H locs cells slots Q (F0 m (pc + 3) ls rest)) : W p l e R s m args below meth c H locs cells slots Q (F0 m pc ls (.int (iI x) :: rest)) :=
  lv_if_lt hx hb d ht (fun h => kt ((iI_lt hr ⟨by decide, by decide⟩).mp h)) (fun h => kf (fun q => h ((iI_lt hr ⟨by decide, by decide⟩).mpr q)))
theorem h_if_ge (hx : p.tables.exec = Jvm.exec) (hb : c.code = cc) {x : Int} {off : Int} (tgt : Nat) (d : decode cc pc = .ok (.ifCond .ge off, 3)) (ht : (pc : Int) + off = (tgt : Int)) (hr : R32 x)
    (kt : 0 ≤ x → W p l e R s m args below meth c H locs cells slots Q (F0 m tgt ls rest)) (kf : ¬ 0 ≤ x → W p l e R s m args below meth c H locs cells slots Q (F0 m (pc + 3) ls rest)) : W p l e R s m args below meth c H locs cells slots Q (F0 m pc ls (.int (iI x) :: rest)) :=
  lv_if_ge hx hb d ht (fun h => kt ((iI_le ⟨by decide, by decide⟩ hr).mp h)) (fun h => kf (fun q => h ((iI_le ⟨by decide, by decide⟩ hr).mpr q)))
theorem h_if_gt (hx : p.tables.exec = Jvm.exec) (hb : c.code = cc) {x : Int} {off : Int} (tgt : Nat) (d : decode cc pc = .ok (.ifCond .gt off, 3)) (ht : (pc : Int) + off = (tgt : Int)) (hr : R32 x)
    (kt : 0 < x → W p l e R s m args below meth c H locs cells slots Q (F0 m tgt ls rest)) (kf : ¬ 0 < x → W p l e R s m args below meth c H locs cells slots Q (F0 m (pc + 3) ls rest)) : W p l e R s m args below meth c H locs cells slots Q (F0 m pc ls (.int (iI x) :: rest)) :=
  lv_if_gt hx hb d ht (fun h => kt ((iI_lt ⟨by decide, by decide⟩ hr).mp h)) (fun h => kf (fun q => h ((iI_lt ⟨by decide, by decide⟩ hr).mpr q)))
theorem h_if_le (hx : p.tables.exec = Jvm.exec) (hb : c.code = cc) {x : Int} {off : Int} (tgt : Nat) (d : decode cc pc = .ok (.ifCond .le off, 3)) (ht : (pc : Int) + off = (tgt : Int)) (hr : R32 x)
    (kt : x ≤ 0 → W p l e R s m args below meth c H locs cells slots Q (F0 m tgt ls rest)) (kf : ¬ x ≤ 0 → W p l e R s m args below meth c H locs cells slots Q (F0 m (pc + 3) ls rest)) : W p l e R s m args below meth c H locs cells slots Q (F0 m pc ls (.int (iI x) :: rest)) :=
  lv_if_le hx hb d ht (fun h => kt ((iI_le hr ⟨by decide, by decide⟩).mp h)) (fun h => kf (fun q => h ((iI_le hr ⟨by decide, by decide⟩).mpr q)))
theorem h_icmp_eq (hx : p.tables.exec = Jvm.exec) (hb : c.code = cc) {x y : Int} {off : Int} (tgt : Nat) (d : decode cc pc = .ok (.if_icmp .eq off, 3)) (ht : (pc : Int) + off = (tgt : Int)) (hr : R32 x) (hr2 : R32 y)
    (kt : x = y → W p l e R s m args below meth c H locs cells slots Q (F0 m tgt ls rest)) (kf : ¬ x = y → W p l e R s m args below meth c H locs cells slots Q (F0 m (pc + 3) ls rest)) : W p l e R s m args below meth c H locs cells slots Q (F0 m pc ls (.int (iI y) :: .int (iI x) :: rest)) :=
  lv_icmp_eq hx hb d ht (fun h => kt ((iI_eq hr hr2).mp h)) (fun h => kf (fun q => h ((iI_eq hr hr2).mpr q)))
theorem h_icmp_ne (hx : p.tables.exec = Jvm.exec) (hb : c.code = cc) {x y : Int} {off : Int} (tgt : Nat) (d : decode cc pc = .ok (.if_icmp .ne off, 3)) (ht : (pc : Int) + off = (tgt : Int)) (hr : R32 x) (hr2 : R32 y)
    (kt : ¬ x = y → W p l e R s m args below meth c H locs cells slots Q (F0 m tgt ls rest)) (kf : x = y → W p l e R s m args below meth c H locs cells slots Q (F0 m (pc + 3) ls rest)) : W p l e R s m args below meth c H locs cells slots Q (F0 m pc ls (.int (iI y) :: .int (iI x) :: rest)) :=
  lv_icmp_ne hx hb d ht (fun h => kt (fun q => h ((iI_eq hr hr2).mpr q))) (fun h => kf ((iI_eq hr hr2).mp h))
theorem h_icmp_lt (hx : p.tables.exec = Jvm.exec) (hb : c.code = cc) {x y : Int} {off : Int} (tgt : Nat) (d : decode cc pc = .ok (.if_icmp .lt off, 3)) (ht : (pc : Int) + off = (tgt : Int)) (hr : R32 x) (hr2 : R32 y)
    (kt : x < y → W p l e R s m args below meth c H locs cells slots Q (F0 m tgt ls rest)) (kf : ¬ x < y → W p l e R s m args below meth c H locs cells slots Q (F0 m (pc + 3) ls rest)) : W p l e R s m args below meth c H locs cells slots Q (F0 m pc ls (.int (iI y) :: .int (iI x) :: rest)) :=
  lv_icmp_lt hx hb d ht (fun h => kt ((iI_lt hr hr2).mp h)) (fun h => kf (fun q => h ((iI_lt hr hr2).mpr q)))
theorem h_icmp_ge (hx : p.tables.exec = Jvm.exec) (hb : c.code = cc) {x y : Int} {off : Int} (tgt : Nat) (d : decode cc pc = .ok (.if_icmp .ge off, 3)) (ht : (pc : Int) + off = (tgt : Int)) (hr : R32 x) (hr2 : R32 y)
    (kt : y ≤ x → W p l e R s m args below meth c H locs cells slots Q (F0 m tgt ls rest)) (kf : ¬ y ≤ x → W p l e R s m args below meth c H locs cells slots Q (F0 m (pc + 3) ls rest)) : W p l e R s m args below meth c H locs cells slots Q (F0 m pc ls (.int (iI y) :: .int (iI x) :: rest)) :=
  lv_icmp_ge hx hb d ht (fun h => kt ((iI_le hr2 hr).mp h)) (fun h => kf (fun q => h ((iI_le hr2 hr).mpr q)))
theorem h_icmp_gt (hx : p.tables.exec = Jvm.exec) (hb : c.code = cc) {x y : Int} {off : Int} (tgt : Nat) (d : decode cc pc = .ok (.if_icmp .gt off, 3)) (ht : (pc : Int) + off = (tgt : Int)) (hr : R32 x) (hr2 : R32 y)
    (kt : y < x → W p l e R s m args below meth c H locs cells slots Q (F0 m tgt ls rest)) (kf : ¬ y < x → W p l e R s m args below meth c H locs cells slots Q (F0 m (pc + 3) ls rest)) : W p l e R s m args below meth c H locs cells slots Q (F0 m pc ls (.int (iI y) :: .int (iI x) :: rest)) :=
  lv_icmp_gt hx hb d ht (fun h => kt ((iI_lt hr2 hr).mp h)) (fun h => kf (fun q => h ((iI_lt hr2 hr).mpr q)))
theorem h_icmp_le (hx : p.tables.exec = Jvm.exec) (hb : c.code = cc) {x y : Int} {off : Int} (tgt : Nat) (d : decode cc pc = .ok (.if_icmp .le off, 3)) (ht : (pc : Int) + off = (tgt : Int)) (hr : R32 x) (hr2 : R32 y)
    (kt : x ≤ y → W p l e R s m args below meth c H locs cells slots Q (F0 m tgt ls rest)) (kf : ¬ x ≤ y → W p l e R s m args below meth c H locs cells slots Q (F0 m (pc + 3) ls rest)) : W p l e R s m args below meth c H locs cells slots Q (F0 m pc ls (.int (iI y) :: .int (iI x) :: rest)) :=
  lv_icmp_le hx hb d ht (fun h => kt ((iI_le hr hr2).mp h)) (fun h => kf (fun q => h ((iI_le hr hr2).mpr q)))
theorem h_iinc (hx : p.tables.exec = Jvm.exec) (hb : c.code = cc) {i nL k : Nat} {n : Int} {x : Int} {lv lv' : List (Nat × Value)} (d : decode cc pc = .ok (.iinc i n, 3)) (h : lv_has ls nL lv) (hk : lv[k]? = some (i, .int (iI x))) (hn : i < nL) (hl : (i, Value.int (iI (x + n))) :: lv.filter (fun q => !(q.1 == i) && !(q.1 + 1 == i && q.2.category == 2)) = lv')
    (kk : ∀ ls' : Array Slot, lv_has ls' nL lv' → W p l e R s m args below meth c H locs cells slots Q (F0 m (pc + 3) ls' rest)) : W p l e R s m args below meth c H locs cells slots Q (F0 m pc ls rest) :=
  lv_iinc hx hb d h hk (iI_add x n) hn hl kk
theorem h_tabIn (hx : p.tables.exec = Jvm.exec) (hb : c.code = cc) {dflt lo hi : Int} {offs : Array Int} {len : Nat} {x : Int} {off : Int} (tgt : Nat) (d : decode cc pc = .ok (.tableswitch dflt lo hi offs, len)) (hr : R32 x) (h1 : lo ≤ x ∧ x ≤ hi) (ho : offs[(x - lo).toNat]? = some off) (ht : (pc : Int) + off = (tgt : Int))
    (k : W p l e R s m args below meth c H locs cells slots Q (F0 m tgt ls rest)) : W p l e R s m args below meth c H locs cells slots Q (F0 m pc ls (.int (iI x) :: rest)) := lv_tableIn hx hb d (by rw [iI_T hr]; omega) (by rw [iI_T hr]; omega) (by rw [iI_T hr]; exact ho) ht k
theorem h_tabOut (hx : p.tables.exec = Jvm.exec) (hb : c.code = cc) {dflt lo hi : Int} {offs : Array Int} {len : Nat} {x : Int} (tgt : Nat) (d : decode cc pc = .ok (.tableswitch dflt lo hi offs, len)) (hr : R32 x) (h : x < lo ∨ hi < x) (ht : (pc : Int) + dflt = (tgt : Int))
    (k : W p l e R s m args below meth c H locs cells slots Q (F0 m tgt ls rest)) : W p l e R s m args below meth c H locs cells slots Q (F0 m pc ls (.int (iI x) :: rest)) := lv_tableOut hx hb d (by rw [iI_T hr]; exact h) ht k
end HWN
