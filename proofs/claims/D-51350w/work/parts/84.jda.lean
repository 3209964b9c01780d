/-! JDK: numbers written -/
set_option maxRecDepth 100000
theorem iI_divN {a b : Int} (ha : 0 ≤ a ∧ a < 2147483648) (hb : 0 < b ∧ b < 2147483648) : iI (-a) / iI b = iI (-(a / b)) := by
  refine Int32.toInt_inj.mp ?_
  have hd : 0 ≤ a / b := Int.ediv_nonneg ha.1 (by omega)
  have hd2 : a / b ≤ a := Int.ediv_le_self _ ha.1
  rw [Int32.toInt_div_of_ne_right _ _ (fun q => by have := congrArg Int32.toInt q; rw [iI_T ⟨by omega, by omega⟩] at this; simp at this; omega), iI_T ⟨by omega, by omega⟩, iI_T ⟨by omega, by omega⟩, iI_T ⟨by omega, by omega⟩, Int.neg_tdiv]
  rw [Int.tdiv_eq_ediv_of_nonneg ha.1]
section JDI
variable {p : Program} {l : Launch} {e : Env} {R : Room} {s : State} {m : MethodId} {args : Array Value} {below : List Frame} {meth : Method} {c : Code} {H : Heap} {locs : List Loc} {cells slots : Nat} {Q : State → Prop}
variable {cc : ByteArray} {pc : Nat} {ls : Array Slot} {rest : List Value}
theorem h_idivN (hx : p.tables.exec = Jvm.exec) (hb : c.code = cc) {x y : Int} (d : decode cc pc = .ok (.idiv, 1)) (ha : 0 ≤ x ∧ x < 2147483648) (hy : 0 < y ∧ y < 2147483648)
    (k : W p l e R s m args below meth c H locs cells slots Q (F0 m (pc + 1) ls (.int (iI (-(x / y))) :: rest))) : W p l e R s m args below meth c H locs cells slots Q (F0 m pc ls (.int (iI y) :: .int (iI (-x)) :: rest)) :=
  lv_idiv hx hb d (fun q => by have := congrArg Int32.toInt q; rw [iI_T ⟨by omega, by omega⟩] at this; simp at this; omega) (by rw [iI_divN ha hy]; exact k)
end JDI
theorem dgs_1 {n : Int} (h : 0 ≤ n ∧ n < 10) : dgs n = [48 + n % 10] := by
  unfold dgs; unfold dgF; rw [if_pos h.2]
theorem dgF_s {k : Nat} {n : Int} (h : 10 ≤ n) : dgF (k + 1) n = dgF k (n / 10) ++ [48 + n % 10] := by
  rw [dgF, if_neg (by omega)]
theorem dgF_t {k : Nat} {n : Int} (h : n < 10) : dgF (k + 1) n = [48 + n % 10] := by
  rw [dgF, if_pos h]
theorem dgs_2 {n : Int} (h : 10 ≤ n ∧ n < 100) : dgs n = [48 + n / 10 % 10, 48 + n % 10] := by
  unfold dgs; rw [dgF_s h.1, dgF_t (by omega)]; rfl
theorem dgs_3 {n : Int} (h : 100 ≤ n ∧ n < 1000) : dgs n = [48 + n / 100 % 10, 48 + n / 10 % 10, 48 + n % 10] := by
  unfold dgs; rw [dgF_s (by omega), dgF_s (by omega), dgF_t (by omega)]
  rw [show n / 10 / 10 = n / 100 by omega]; rfl
theorem dgs_4 {n : Int} (h : 1000 ≤ n ∧ n < 10000) : dgs n = [48 + n / 1000 % 10, 48 + n / 100 % 10, 48 + n / 10 % 10, 48 + n % 10] := by
  unfold dgs; rw [dgF_s (by omega), dgF_s (by omega), dgF_s (by omega), dgF_t (by omega)]
  rw [show n / 10 / 10 / 10 = n / 1000 by omega, show n / 10 / 10 = n / 100 by omega]; rfl
theorem dgs_5 {n : Int} (h : 10000 ≤ n ∧ n < 100000) : dgs n = [48 + n / 10000 % 10, 48 + n / 1000 % 10, 48 + n / 100 % 10, 48 + n / 10 % 10, 48 + n % 10] := by
  unfold dgs; rw [dgF_s (by omega), dgF_s (by omega), dgF_s (by omega), dgF_s (by omega), dgF_t (by omega)]
  rw [show n / 10 / 10 / 10 / 10 = n / 10000 by omega, show n / 10 / 10 / 10 = n / 1000 by omega, show n / 10 / 10 = n / 100 by omega]; rfl
theorem dgs_len {n : Int} (h : 0 ≤ n ∧ n < 100000) : (n < 10 → (dgs n).length = 1) ∧ (10 ≤ n ∧ n < 100 → (dgs n).length = 2) ∧ (100 ≤ n ∧ n < 1000 → (dgs n).length = 3) ∧ (1000 ≤ n ∧ n < 10000 → (dgs n).length = 4) ∧ (10000 ≤ n → (dgs n).length = 5) :=
  ⟨fun q => by rw [dgs_1 ⟨h.1, q⟩]; rfl, fun q => by rw [dgs_2 q]; rfl, fun q => by rw [dgs_3 q]; rfl, fun q => by rw [dgs_4 q]; rfl, fun q => by rw [dgs_5 ⟨q, h.2⟩]; rfl⟩
theorem dgs_r {n : Int} (h : 0 ≤ n ∧ n < 100000) : ∀ x ∈ dgs n, 0 ≤ x ∧ x < 128 := by
  intro x hx
  have hm : 48 ≤ x ∧ x < 58 := by
    rcases (show n < 10 ∨ (10 ≤ n ∧ n < 100) ∨ (100 ≤ n ∧ n < 1000) ∨ (1000 ≤ n ∧ n < 10000) ∨ 10000 ≤ n by omega) with q | q | q | q | q
    · rw [dgs_1 ⟨h.1, q⟩] at hx; simp at hx; omega
    · rw [dgs_2 q] at hx; simp at hx; omega
    · rw [dgs_3 q] at hx; simp at hx; omega
    · rw [dgs_4 q] at hx; simp at hx; omega
    · rw [dgs_5 ⟨q, h.2⟩] at hx; simp at hx; omega
  omega

theorem pn_yJ8_append_2 : ParN yJ8_append_2 1 := by decide +kernel
theorem pn_yJ17_getChars : ParN yJ17_getChars 3 := by decide +kernel
theorem pn_yJ17_stringSize : ParN yJ17_stringSize 1 := by decide +kernel

set_option maxHeartbeats 4000000 in
set_option maxRecDepth 100000 in
/-- Integer.stringSize -/
theorem in_size (l : Launch) (G : Gl) (w : Wd) (x : Int) (hxr : 0 ≤ x ∧ x < 100000) : HM l yJ17_stringSize cJ17_stringSize 4 (some .int) 1 0 0 G [.int (iI (x))] w (QI G (fun z_ w_ => z_ = ((dgs x).length : Int) ∧ w_ = w)) := by
  refine HM.mk (by decide +kernel) (Nat.le_of_ble_eq_true rfl) ?_
  intro p9 e9 s9 m9 a9 b9 meth9 c9 ls X hret hlk hnm hl H hR
  have hx := X.1.1
  have hb := X.1.2.1
  have hl : lv_has ls 4 [(0, .int (iI (x)))] := hl
  have hL : LK G [] := fun q h => absurd h List.not_mem_nil
  generalize ([] : List Loc) = locs at hL ⊢
  have hdl := dgs_len hxr
  refine h_iconst hx hb dJ17_stringSize_0 ?_
  refine lv_istore_n (lv' := [(1, .int (iI (1))), (0, .int (iI (x)))]) hx hb dJ17_stringSize_1 rfl hl (by decide) rfl (fun ls hl => ?_)
  refine lv_iload_n hx hb dJ17_stringSize_2 rfl (lv_at hl 1 rfl) ?_
  refine h_if_lt hx hb 11 dJ17_stringSize_3 (by decide) (by omega) (fun c_0 => ?_) (fun c_0 => ?_)
  ·
    exact absurd c_0 (by omega)
  ·
    refine h_iconst hx hb dJ17_stringSize_6 ?_
    refine lv_istore_n (lv' := [(1, .int (iI (0))), (0, .int (iI (x)))]) hx hb dJ17_stringSize_7 rfl hl (by decide) rfl (fun ls hl => ?_)
    refine lv_iload_n hx hb dJ17_stringSize_8 rfl (lv_at hl 1 rfl) ?_
    refine h_ineg hx hb dJ17_stringSize_9 ?_
    refine lv_istore_n (lv' := [(0, .int (iI (-x))), (1, .int (iI (0)))]) hx hb dJ17_stringSize_10 rfl hl (by decide) rfl (fun ls hl => ?_)
    refine h_bipush hx hb dJ17_stringSize_11 (by decide) ?_
    refine lv_istore_n (lv' := [(2, .int (iI (-10))), (0, .int (iI (-x))), (1, .int (iI (0)))]) hx hb dJ17_stringSize_13 rfl hl (by decide) rfl (fun ls hl => ?_)
    refine h_iconst hx hb dJ17_stringSize_14 ?_
    refine lv_istore_n (lv' := [(3, .int (iI (1))), (2, .int (iI (-10))), (0, .int (iI (-x))), (1, .int (iI (0)))]) hx hb dJ17_stringSize_15 rfl hl (by decide) rfl (fun ls hl => ?_)
    refine lv_iload_n hx hb dJ17_stringSize_16 rfl (lv_at hl 0 rfl) ?_
    refine h_bipush hx hb dJ17_stringSize_17 (by decide) ?_
    refine h_icmp_ge hx hb 42 dJ17_stringSize_19 (by decide) (by decide) (by decide) (fun z_ => absurd z_ (by decide)) (fun _ => ?_)
    refine lv_iload_n hx hb dJ17_stringSize_22 rfl (lv_at hl 2 rfl) ?_
    refine lv_iload_n hx hb dJ17_stringSize_23 rfl (lv_at hl 1 rfl) ?_
    refine h_icmp_le hx hb 31 dJ17_stringSize_24 (by decide) (by omega) (by omega) (fun c_1 => ?_) (fun c_1 => ?_)
    ·
      refine h_bipush hx hb dJ17_stringSize_31 (by decide) ?_
      refine lv_iload_n hx hb dJ17_stringSize_33 rfl (lv_at hl 1 rfl) ?_
      refine h_imul hx hb dJ17_stringSize_34 ?_
      refine W.eq (g2 := F0 m9 35 ls [.int (iI (-100))]) (congrArg (fun z_ : Int => F0 m9 35 ls [.int (iI (z_))]) (show (10 * (-10) : Int) = -100 from (by decide))) ?_
      refine lv_istore_n (lv' := [(2, .int (iI (-100))), (3, .int (iI (1))), (0, .int (iI (-x))), (1, .int (iI (0)))]) hx hb dJ17_stringSize_35 rfl hl (by decide) rfl (fun ls hl => ?_)
      refine h_iinc (lv' := [(3, .int (iI (1 + 1))), (2, .int (iI (-100))), (0, .int (iI (-x))), (1, .int (iI (0)))]) hx hb dJ17_stringSize_36 hl (k := 1) rfl (by decide) rfl (fun ls hl => ?_)
      have hl : lv_has ls 4 [(3, .int (iI (2))), (2, .int (iI (-100))), (0, .int (iI (-x))), (1, .int (iI (0)))] := lv_conv hl (congrArg (fun z_ : Int => ([(3, .int (iI (z_))), (2, .int (iI (-100))), (0, .int (iI (-x))), (1, .int (iI (0)))] : List (Nat × Value))) (show (1 + 1 : Int) = 2 from (by decide)))
      refine lv_goto (tgt := 16) hx hb dJ17_stringSize_39 (by decide) ?_
      refine lv_iload_n hx hb dJ17_stringSize_16 rfl (lv_at hl 0 rfl) ?_
      refine h_bipush hx hb dJ17_stringSize_17 (by decide) ?_
      refine h_icmp_ge hx hb 42 dJ17_stringSize_19 (by decide) (by decide) (by decide) (fun z_ => absurd z_ (by decide)) (fun _ => ?_)
      refine lv_iload_n hx hb dJ17_stringSize_22 rfl (lv_at hl 2 rfl) ?_
      refine lv_iload_n hx hb dJ17_stringSize_23 rfl (lv_at hl 1 rfl) ?_
      refine h_icmp_le hx hb 31 dJ17_stringSize_24 (by decide) (by omega) (by omega) (fun c_2 => ?_) (fun c_2 => ?_)
      ·
        refine h_bipush hx hb dJ17_stringSize_31 (by decide) ?_
        refine lv_iload_n hx hb dJ17_stringSize_33 rfl (lv_at hl 1 rfl) ?_
        refine h_imul hx hb dJ17_stringSize_34 ?_
        refine W.eq (g2 := F0 m9 35 ls [.int (iI (-1000))]) (congrArg (fun z_ : Int => F0 m9 35 ls [.int (iI (z_))]) (show (10 * (-100) : Int) = -1000 from (by decide))) ?_
        refine lv_istore_n (lv' := [(2, .int (iI (-1000))), (3, .int (iI (2))), (0, .int (iI (-x))), (1, .int (iI (0)))]) hx hb dJ17_stringSize_35 rfl hl (by decide) rfl (fun ls hl => ?_)
        refine h_iinc (lv' := [(3, .int (iI (2 + 1))), (2, .int (iI (-1000))), (0, .int (iI (-x))), (1, .int (iI (0)))]) hx hb dJ17_stringSize_36 hl (k := 1) rfl (by decide) rfl (fun ls hl => ?_)
        have hl : lv_has ls 4 [(3, .int (iI (3))), (2, .int (iI (-1000))), (0, .int (iI (-x))), (1, .int (iI (0)))] := lv_conv hl (congrArg (fun z_ : Int => ([(3, .int (iI (z_))), (2, .int (iI (-1000))), (0, .int (iI (-x))), (1, .int (iI (0)))] : List (Nat × Value))) (show (2 + 1 : Int) = 3 from (by decide)))
        refine lv_goto (tgt := 16) hx hb dJ17_stringSize_39 (by decide) ?_
        refine lv_iload_n hx hb dJ17_stringSize_16 rfl (lv_at hl 0 rfl) ?_
        refine h_bipush hx hb dJ17_stringSize_17 (by decide) ?_
        refine h_icmp_ge hx hb 42 dJ17_stringSize_19 (by decide) (by decide) (by decide) (fun z_ => absurd z_ (by decide)) (fun _ => ?_)
        refine lv_iload_n hx hb dJ17_stringSize_22 rfl (lv_at hl 2 rfl) ?_
        refine lv_iload_n hx hb dJ17_stringSize_23 rfl (lv_at hl 1 rfl) ?_
        refine h_icmp_le hx hb 31 dJ17_stringSize_24 (by decide) (by omega) (by omega) (fun c_3 => ?_) (fun c_3 => ?_)
        ·
          refine h_bipush hx hb dJ17_stringSize_31 (by decide) ?_
          refine lv_iload_n hx hb dJ17_stringSize_33 rfl (lv_at hl 1 rfl) ?_
          refine h_imul hx hb dJ17_stringSize_34 ?_
          refine W.eq (g2 := F0 m9 35 ls [.int (iI (-10000))]) (congrArg (fun z_ : Int => F0 m9 35 ls [.int (iI (z_))]) (show (10 * (-1000) : Int) = -10000 from (by decide))) ?_
          refine lv_istore_n (lv' := [(2, .int (iI (-10000))), (3, .int (iI (3))), (0, .int (iI (-x))), (1, .int (iI (0)))]) hx hb dJ17_stringSize_35 rfl hl (by decide) rfl (fun ls hl => ?_)
          refine h_iinc (lv' := [(3, .int (iI (3 + 1))), (2, .int (iI (-10000))), (0, .int (iI (-x))), (1, .int (iI (0)))]) hx hb dJ17_stringSize_36 hl (k := 1) rfl (by decide) rfl (fun ls hl => ?_)
          have hl : lv_has ls 4 [(3, .int (iI (4))), (2, .int (iI (-10000))), (0, .int (iI (-x))), (1, .int (iI (0)))] := lv_conv hl (congrArg (fun z_ : Int => ([(3, .int (iI (z_))), (2, .int (iI (-10000))), (0, .int (iI (-x))), (1, .int (iI (0)))] : List (Nat × Value))) (show (3 + 1 : Int) = 4 from (by decide)))
          refine lv_goto (tgt := 16) hx hb dJ17_stringSize_39 (by decide) ?_
          refine lv_iload_n hx hb dJ17_stringSize_16 rfl (lv_at hl 0 rfl) ?_
          refine h_bipush hx hb dJ17_stringSize_17 (by decide) ?_
          refine h_icmp_ge hx hb 42 dJ17_stringSize_19 (by decide) (by decide) (by decide) (fun z_ => absurd z_ (by decide)) (fun _ => ?_)
          refine lv_iload_n hx hb dJ17_stringSize_22 rfl (lv_at hl 2 rfl) ?_
          refine lv_iload_n hx hb dJ17_stringSize_23 rfl (lv_at hl 1 rfl) ?_
          refine h_icmp_le hx hb 31 dJ17_stringSize_24 (by decide) (by omega) (by omega) (fun c_4 => ?_) (fun c_4 => ?_)
          ·
            refine h_bipush hx hb dJ17_stringSize_31 (by decide) ?_
            refine lv_iload_n hx hb dJ17_stringSize_33 rfl (lv_at hl 1 rfl) ?_
            refine h_imul hx hb dJ17_stringSize_34 ?_
            refine W.eq (g2 := F0 m9 35 ls [.int (iI (-100000))]) (congrArg (fun z_ : Int => F0 m9 35 ls [.int (iI (z_))]) (show (10 * (-10000) : Int) = -100000 from (by decide))) ?_
            refine lv_istore_n (lv' := [(2, .int (iI (-100000))), (3, .int (iI (4))), (0, .int (iI (-x))), (1, .int (iI (0)))]) hx hb dJ17_stringSize_35 rfl hl (by decide) rfl (fun ls hl => ?_)
            refine h_iinc (lv' := [(3, .int (iI (4 + 1))), (2, .int (iI (-100000))), (0, .int (iI (-x))), (1, .int (iI (0)))]) hx hb dJ17_stringSize_36 hl (k := 1) rfl (by decide) rfl (fun ls hl => ?_)
            have hl : lv_has ls 4 [(3, .int (iI (5))), (2, .int (iI (-100000))), (0, .int (iI (-x))), (1, .int (iI (0)))] := lv_conv hl (congrArg (fun z_ : Int => ([(3, .int (iI (z_))), (2, .int (iI (-100000))), (0, .int (iI (-x))), (1, .int (iI (0)))] : List (Nat × Value))) (show (4 + 1 : Int) = 5 from (by decide)))
            refine lv_goto (tgt := 16) hx hb dJ17_stringSize_39 (by decide) ?_
            refine lv_iload_n hx hb dJ17_stringSize_16 rfl (lv_at hl 0 rfl) ?_
            refine h_bipush hx hb dJ17_stringSize_17 (by decide) ?_
            refine h_icmp_ge hx hb 42 dJ17_stringSize_19 (by decide) (by decide) (by decide) (fun z_ => absurd z_ (by decide)) (fun _ => ?_)
            refine lv_iload_n hx hb dJ17_stringSize_22 rfl (lv_at hl 2 rfl) ?_
            refine lv_iload_n hx hb dJ17_stringSize_23 rfl (lv_at hl 1 rfl) ?_
            refine h_icmp_le hx hb 31 dJ17_stringSize_24 (by decide) (by omega) (by omega) (fun c_5 => ?_) (fun c_5 => ?_)
            ·
              exact absurd c_5 (by omega)
            ·
              refine lv_iload_n hx hb dJ17_stringSize_27 rfl (lv_at hl 0 rfl) ?_
              refine lv_iload_n hx hb dJ17_stringSize_28 rfl (lv_at hl 3 rfl) ?_
              refine h_iadd hx hb dJ17_stringSize_29 ?_
              refine W.eq (g2 := F0 m9 30 ls [.int (iI (5))]) (congrArg (fun z_ : Int => F0 m9 30 ls [.int (iI (z_))]) (show (5 + 0 : Int) = 5 from (by decide))) ?_
              exact h_ireturn hx hb hlk hret hR hL rfl ⟨by omega, rfl⟩ (by omega) (by omega) rfl rfl dJ17_stringSize_30
          ·
            refine lv_iload_n hx hb dJ17_stringSize_27 rfl (lv_at hl 0 rfl) ?_
            refine lv_iload_n hx hb dJ17_stringSize_28 rfl (lv_at hl 3 rfl) ?_
            refine h_iadd hx hb dJ17_stringSize_29 ?_
            refine W.eq (g2 := F0 m9 30 ls [.int (iI (4))]) (congrArg (fun z_ : Int => F0 m9 30 ls [.int (iI (z_))]) (show (4 + 0 : Int) = 4 from (by decide))) ?_
            exact h_ireturn hx hb hlk hret hR hL rfl ⟨by omega, rfl⟩ (by omega) (by omega) rfl rfl dJ17_stringSize_30
        ·
          refine lv_iload_n hx hb dJ17_stringSize_27 rfl (lv_at hl 0 rfl) ?_
          refine lv_iload_n hx hb dJ17_stringSize_28 rfl (lv_at hl 3 rfl) ?_
          refine h_iadd hx hb dJ17_stringSize_29 ?_
          refine W.eq (g2 := F0 m9 30 ls [.int (iI (3))]) (congrArg (fun z_ : Int => F0 m9 30 ls [.int (iI (z_))]) (show (3 + 0 : Int) = 3 from (by decide))) ?_
          exact h_ireturn hx hb hlk hret hR hL rfl ⟨by omega, rfl⟩ (by omega) (by omega) rfl rfl dJ17_stringSize_30
      ·
        refine lv_iload_n hx hb dJ17_stringSize_27 rfl (lv_at hl 0 rfl) ?_
        refine lv_iload_n hx hb dJ17_stringSize_28 rfl (lv_at hl 3 rfl) ?_
        refine h_iadd hx hb dJ17_stringSize_29 ?_
        refine W.eq (g2 := F0 m9 30 ls [.int (iI (2))]) (congrArg (fun z_ : Int => F0 m9 30 ls [.int (iI (z_))]) (show (2 + 0 : Int) = 2 from (by decide))) ?_
        exact h_ireturn hx hb hlk hret hR hL rfl ⟨by omega, rfl⟩ (by omega) (by omega) rfl rfl dJ17_stringSize_30
    ·
      refine lv_iload_n hx hb dJ17_stringSize_27 rfl (lv_at hl 0 rfl) ?_
      refine lv_iload_n hx hb dJ17_stringSize_28 rfl (lv_at hl 3 rfl) ?_
      refine h_iadd hx hb dJ17_stringSize_29 ?_
      refine W.eq (g2 := F0 m9 30 ls [.int (iI (1))]) (congrArg (fun z_ : Int => F0 m9 30 ls [.int (iI (z_))]) (show (1 + 0 : Int) = 1 from (by decide))) ?_
      exact h_ireturn hx hb hlk hret hR hL rfl ⟨by omega, rfl⟩ (by omega) (by omega) rfl rfl dJ17_stringSize_30

set_option maxHeartbeats 4000000 in
set_option maxRecDepth 100000 in
/-- Integer.getChars -/
theorem in_gc1 (l : Launch) (G : Gl) (w : Wd) (x : Int) (hxr : 0 ≤ x ∧ x < 10) (c rd arr cap : Nat) (f : Nat → Int) (hD : w arr = some (rd, iE G 1 cap f)) (hrd : rd ≠ 0) (hcap : cap < 100000) (hi : c + 1 ≤ cap) (hf : ∀ i, i < cap → -128 ≤ f i ∧ f i < 128) : HM l yJ17_getChars cJ17_getChars 7 (some .int) 1 0 0 G [.int (iI (x)), .int (iI (((c + 1 : Nat) : Int))), .ref arr] w (QI G (fun z_ w_ => z_ = (c : Int) ∧ ∃ g : Nat → Int, w_ = wset w arr (rd, iE G 1 cap g) ∧ (∀ j, j < c → g j = f j) ∧ (∀ j, j < 1 → g (c + j) = (dgs x).getD j 0) ∧ ∀ j, j < cap → -128 ≤ g j ∧ g j < 128)) := by
  refine HM.mk (by decide +kernel) (Nat.le_of_ble_eq_true rfl) ?_
  intro p9 e9 s9 m9 a9 b9 meth9 c9 ls X hret hlk hnm hl H hR
  have hx := X.1.1
  have hb := X.1.2.1
  have hl : lv_has ls 7 [(0, .int (iI (x))), (1, .int (iI (((c + 1 : Nat) : Int)))), (2, .ref arr)] := hl
  have hL : LK G [] := fun q h => absurd h List.not_mem_nil
  generalize ([] : List Loc) = locs at hL ⊢
  have hT1 : w (gC G 75) = some (0, iE G 1 100 (fun j => if j < 100 then ((48 + j % 10 : Nat) : Int) else 0)) := hR.con ((X.2.2.2.2.2.2 75 (by decide)).trans rfl)
  have hT2 : w (gC G 74) = some (0, iE G 1 100 (fun j => if j < 100 then ((48 + j / 10 : Nat) : Int) else 0)) := hR.con ((X.2.2.2.2.2.2 74 (by decide)).trans rfl)
  have ne_gC_G_75_arr : gC G 75 ≠ arr := w_neR hT1 hD (by omega)
  have ne_gC_G_74_arr : gC G 74 ≠ arr := w_neR hT2 hD (by omega)
  refine lv_iload_n hx hb dJ17_getChars_0 rfl (lv_at hl 1 rfl) ?_
  refine lv_istore (lv' := [(5, .int (iI (((c + 1 : Nat) : Int)))), (0, .int (iI (x))), (1, .int (iI (((c + 1 : Nat) : Int)))), (2, .ref arr)]) hx hb dJ17_getChars_1 hl (by decide) rfl (fun ls hl => ?_)
  refine lv_iload_n hx hb dJ17_getChars_3 rfl (lv_at hl 1 rfl) ?_
  refine h_if_ge hx hb 11 dJ17_getChars_4 (by decide) (by omega) (fun c_s => ?_) (fun c_s => ?_)
  ·
    refine h_iconst hx hb dJ17_getChars_11 ?_
    refine lv_istore (lv' := [(6, .int (iI (0))), (5, .int (iI (((c + 1 : Nat) : Int)))), (0, .int (iI (x))), (1, .int (iI (((c + 1 : Nat) : Int)))), (2, .ref arr)]) hx hb dJ17_getChars_12 hl (by decide) rfl (fun ls hl => ?_)
    refine lv_iload hx hb dJ17_getChars_14 (lv_at hl 0 rfl) ?_
    refine h_if_ne hx hb 22 dJ17_getChars_16 (by decide) (by decide) (fun z_ => absurd z_ (by decide)) (fun _ => ?_)
    refine lv_iload_n hx hb dJ17_getChars_19 rfl (lv_at hl 2 rfl) ?_
    refine h_ineg hx hb dJ17_getChars_20 ?_
    refine lv_istore_n (lv' := [(0, .int (iI (-x))), (6, .int (iI (0))), (5, .int (iI (((c + 1 : Nat) : Int)))), (1, .int (iI (((c + 1 : Nat) : Int)))), (2, .ref arr)]) hx hb dJ17_getChars_21 rfl hl (by decide) rfl (fun ls hl => ?_)
    refine lv_iload_n hx hb dJ17_getChars_22 rfl (lv_at hl 0 rfl) ?_
    refine h_bipush hx hb dJ17_getChars_23 (by decide) ?_
    refine h_icmp_gt hx hb 72 dJ17_getChars_25 (by decide) (by omega) (by omega) (fun c_i0 => ?_) (fun c_i0 => ?_)
    ·
      refine lv_aload_n hx hb dJ17_getChars_72 rfl (lv_at hl 4 rfl) ?_
      refine h_iinc (lv' := [(5, .int (iI (((c + 1 : Nat) : Int) + (-1)))), (0, .int (iI (-x))), (6, .int (iI (0))), (1, .int (iI (((c + 1 : Nat) : Int)))), (2, .ref arr)]) hx hb dJ17_getChars_73 hl (k := 2) rfl (by decide) rfl (fun ls hl => ?_)
      have hl : lv_has ls 7 [(5, .int (iI (((c + 0 : Nat) : Int)))), (0, .int (iI (-x))), (6, .int (iI (0))), (1, .int (iI (((c + 1 : Nat) : Int)))), (2, .ref arr)] := lv_conv hl (congrArg (fun z_ : Int => ([(5, .int (iI (z_))), (0, .int (iI (-x))), (6, .int (iI (0))), (1, .int (iI (((c + 1 : Nat) : Int)))), (2, .ref arr)] : List (Nat × Value))) (show (((c + 1 : Nat) : Int) + (-1) : Int) = ((c + 0 : Nat) : Int) from (by omega)))
      refine lv_iload hx hb dJ17_getChars_76 (lv_at hl 0 rfl) ?_
      refine h_getsR X hR 75 (by decide) q429 q141 q428 dJ17_getChars_78 ?_
      refine lv_iload_n hx hb dJ17_getChars_81 rfl (lv_at hl 1 rfl) ?_
      refine h_ineg hx hb dJ17_getChars_82 ?_
      refine W.eq (g2 := F0 m9 83 ls [.int (iI (x)), .ref (gC G 75), .int (iI (((c + 0 : Nat) : Int))), .ref arr]) (congrArg (fun z_ : Int => F0 m9 83 ls [.int (iI (z_)), .ref (gC G 75), .int (iI (((c + 0 : Nat) : Int))), .ref arr]) (show (-(-x) : Int) = x from (by omega))) ?_
      refine h_bald X hR hT1 (by omega) (by omega) dJ17_getChars_83 ?_
      refine W.eq (g2 := F0 m9 84 ls [.int (iI (48 + (x) % 10)), .int (iI (((c + 0 : Nat) : Int))), .ref arr]) (congrArg (fun z_ : Int => F0 m9 84 ls [.int (iI (z_)), .int (iI (((c + 0 : Nat) : Int))), .ref arr]) (show ((fun j => if j < 100 then ((48 + j % 10 : Nat) : Int) else 0) x.toNat : Int) = 48 + (x) % 10 from (by show (if _ then _ else _ : Int) = _; rw [if_pos (by omega)]; omega))) ?_
      refine h_bast X hR hL hD hrd (by omega) (by omega) (by omega) dJ17_getChars_84 (fun w_2 ew_3 H locs hR hL => ?_)
      have hF_arr_w_2 : w_2 arr = some (rd, iE G 1 cap (zset f (((c + 0 : Nat) : Int)).toNat (48 + (x) % 10))) := by rw [ew_3]; exact wset_eq _ _ _
      have hF_gC_G_75_w_2 : w_2 (gC G 75) = some (0, iE G 1 100 (fun j => if j < 100 then ((48 + j % 10 : Nat) : Int) else 0)) := by rw [ew_3]; exact (wset_ne _ ne_gC_G_75_arr).trans hT1
      have hF_gC_G_74_w_2 : w_2 (gC G 74) = some (0, iE G 1 100 (fun j => if j < 100 then ((48 + j / 10 : Nat) : Int) else 0)) := by rw [ew_3]; exact (wset_ne _ ne_gC_G_74_arr).trans hT2
      have hq_4 : w_2 = wset w arr (rd, iE G 1 cap (zset f (((c + 0 : Nat) : Int)).toNat (48 + (x) % 10))) := by rw [ew_3]
      refine lv_iload_n hx hb dJ17_getChars_85 rfl (lv_at hl 1 rfl) ?_
      refine h_bipush hx hb dJ17_getChars_86 (by decide) ?_
      refine h_icmp_ge hx hb 104 dJ17_getChars_88 (by decide) (by omega) (by omega) (fun c_n => ?_) (fun c_n => ?_)
      ·
        refine lv_iload hx hb dJ17_getChars_104 (lv_at hl 2 rfl) ?_
        refine h_if_eq hx hb 118 dJ17_getChars_106 (by decide) (by decide) (fun _ => ?_) (fun z_ => absurd z_ (by decide))
        refine lv_iload hx hb dJ17_getChars_118 (lv_at hl 0 rfl) ?_
        have hdg := dgs_1 hxr
        have hg1 : ∀ j, j < c → (zset f (((c + 0 : Nat) : Int)).toNat (48 + (x) % 10)) j = f j := fun j hj => by simp only [zset, Int.toNat_natCast]; (repeat rw [if_neg (by omega)])
        have hg2 : ∀ j, j < 1 → (zset f (((c + 0 : Nat) : Int)).toNat (48 + (x) % 10)) (c + j) = (dgs x).getD j 0 := fun j hj => by rw [hdg]; rcases (show j = 0 by omega) with rfl <;> simp [zset] <;> omega
        have hg3 : ∀ j, j < cap → -128 ≤ (zset f (((c + 0 : Nat) : Int)).toNat (48 + (x) % 10)) j ∧ (zset f (((c + 0 : Nat) : Int)).toNat (48 + (x) % 10)) j < 128 := fun j hj => by simp only [zset]; have h_ := hf j hj; (repeat' split) <;> omega
        exact h_ireturn hx hb hlk hret hR hL rfl ⟨by omega, _, hq_4, hg1, hg2, hg3⟩ (by omega) (by omega) rfl rfl dJ17_getChars_120
      ·
        exact absurd c_n (by omega)
    ·
      exact absurd c_i0 (by omega)
  ·
    exact absurd c_s (by omega)

set_option maxHeartbeats 4000000 in
set_option maxRecDepth 100000 in
/-- Integer.getChars -/
theorem in_gc2 (l : Launch) (G : Gl) (w : Wd) (x : Int) (hxr : 10 ≤ x ∧ x < 100) (c rd arr cap : Nat) (f : Nat → Int) (hD : w arr = some (rd, iE G 1 cap f)) (hrd : rd ≠ 0) (hcap : cap < 100000) (hi : c + 2 ≤ cap) (hf : ∀ i, i < cap → -128 ≤ f i ∧ f i < 128) : HM l yJ17_getChars cJ17_getChars 7 (some .int) 1 0 0 G [.int (iI (x)), .int (iI (((c + 2 : Nat) : Int))), .ref arr] w (QI G (fun z_ w_ => z_ = (c : Int) ∧ ∃ g : Nat → Int, w_ = wset w arr (rd, iE G 1 cap g) ∧ (∀ j, j < c → g j = f j) ∧ (∀ j, j < 2 → g (c + j) = (dgs x).getD j 0) ∧ ∀ j, j < cap → -128 ≤ g j ∧ g j < 128)) := by
  refine HM.mk (by decide +kernel) (Nat.le_of_ble_eq_true rfl) ?_
  intro p9 e9 s9 m9 a9 b9 meth9 c9 ls X hret hlk hnm hl H hR
  have hx := X.1.1
  have hb := X.1.2.1
  have hl : lv_has ls 7 [(0, .int (iI (x))), (1, .int (iI (((c + 2 : Nat) : Int)))), (2, .ref arr)] := hl
  have hL : LK G [] := fun q h => absurd h List.not_mem_nil
  generalize ([] : List Loc) = locs at hL ⊢
  have hT1 : w (gC G 75) = some (0, iE G 1 100 (fun j => if j < 100 then ((48 + j % 10 : Nat) : Int) else 0)) := hR.con ((X.2.2.2.2.2.2 75 (by decide)).trans rfl)
  have hT2 : w (gC G 74) = some (0, iE G 1 100 (fun j => if j < 100 then ((48 + j / 10 : Nat) : Int) else 0)) := hR.con ((X.2.2.2.2.2.2 74 (by decide)).trans rfl)
  have ne_gC_G_75_arr : gC G 75 ≠ arr := w_neR hT1 hD (by omega)
  have ne_gC_G_74_arr : gC G 74 ≠ arr := w_neR hT2 hD (by omega)
  refine lv_iload_n hx hb dJ17_getChars_0 rfl (lv_at hl 1 rfl) ?_
  refine lv_istore (lv' := [(5, .int (iI (((c + 2 : Nat) : Int)))), (0, .int (iI (x))), (1, .int (iI (((c + 2 : Nat) : Int)))), (2, .ref arr)]) hx hb dJ17_getChars_1 hl (by decide) rfl (fun ls hl => ?_)
  refine lv_iload_n hx hb dJ17_getChars_3 rfl (lv_at hl 1 rfl) ?_
  refine h_if_ge hx hb 11 dJ17_getChars_4 (by decide) (by omega) (fun c_s => ?_) (fun c_s => ?_)
  ·
    refine h_iconst hx hb dJ17_getChars_11 ?_
    refine lv_istore (lv' := [(6, .int (iI (0))), (5, .int (iI (((c + 2 : Nat) : Int)))), (0, .int (iI (x))), (1, .int (iI (((c + 2 : Nat) : Int)))), (2, .ref arr)]) hx hb dJ17_getChars_12 hl (by decide) rfl (fun ls hl => ?_)
    refine lv_iload hx hb dJ17_getChars_14 (lv_at hl 0 rfl) ?_
    refine h_if_ne hx hb 22 dJ17_getChars_16 (by decide) (by decide) (fun z_ => absurd z_ (by decide)) (fun _ => ?_)
    refine lv_iload_n hx hb dJ17_getChars_19 rfl (lv_at hl 2 rfl) ?_
    refine h_ineg hx hb dJ17_getChars_20 ?_
    refine lv_istore_n (lv' := [(0, .int (iI (-x))), (6, .int (iI (0))), (5, .int (iI (((c + 2 : Nat) : Int)))), (1, .int (iI (((c + 2 : Nat) : Int)))), (2, .ref arr)]) hx hb dJ17_getChars_21 rfl hl (by decide) rfl (fun ls hl => ?_)
    refine lv_iload_n hx hb dJ17_getChars_22 rfl (lv_at hl 0 rfl) ?_
    refine h_bipush hx hb dJ17_getChars_23 (by decide) ?_
    refine h_icmp_gt hx hb 72 dJ17_getChars_25 (by decide) (by omega) (by omega) (fun c_i0 => ?_) (fun c_i0 => ?_)
    ·
      refine lv_aload_n hx hb dJ17_getChars_72 rfl (lv_at hl 4 rfl) ?_
      refine h_iinc (lv' := [(5, .int (iI (((c + 2 : Nat) : Int) + (-1)))), (0, .int (iI (-x))), (6, .int (iI (0))), (1, .int (iI (((c + 2 : Nat) : Int)))), (2, .ref arr)]) hx hb dJ17_getChars_73 hl (k := 2) rfl (by decide) rfl (fun ls hl => ?_)
      have hl : lv_has ls 7 [(5, .int (iI (((c + 1 : Nat) : Int)))), (0, .int (iI (-x))), (6, .int (iI (0))), (1, .int (iI (((c + 2 : Nat) : Int)))), (2, .ref arr)] := lv_conv hl (congrArg (fun z_ : Int => ([(5, .int (iI (z_))), (0, .int (iI (-x))), (6, .int (iI (0))), (1, .int (iI (((c + 2 : Nat) : Int)))), (2, .ref arr)] : List (Nat × Value))) (show (((c + 2 : Nat) : Int) + (-1) : Int) = ((c + 1 : Nat) : Int) from (by omega)))
      refine lv_iload hx hb dJ17_getChars_76 (lv_at hl 0 rfl) ?_
      refine h_getsR X hR 75 (by decide) q429 q141 q428 dJ17_getChars_78 ?_
      refine lv_iload_n hx hb dJ17_getChars_81 rfl (lv_at hl 1 rfl) ?_
      refine h_ineg hx hb dJ17_getChars_82 ?_
      refine W.eq (g2 := F0 m9 83 ls [.int (iI (x)), .ref (gC G 75), .int (iI (((c + 1 : Nat) : Int))), .ref arr]) (congrArg (fun z_ : Int => F0 m9 83 ls [.int (iI (z_)), .ref (gC G 75), .int (iI (((c + 1 : Nat) : Int))), .ref arr]) (show (-(-x) : Int) = x from (by omega))) ?_
      refine h_bald X hR hT1 (by omega) (by omega) dJ17_getChars_83 ?_
      refine W.eq (g2 := F0 m9 84 ls [.int (iI (48 + (x) % 10)), .int (iI (((c + 1 : Nat) : Int))), .ref arr]) (congrArg (fun z_ : Int => F0 m9 84 ls [.int (iI (z_)), .int (iI (((c + 1 : Nat) : Int))), .ref arr]) (show ((fun j => if j < 100 then ((48 + j % 10 : Nat) : Int) else 0) x.toNat : Int) = 48 + (x) % 10 from (by show (if _ then _ else _ : Int) = _; rw [if_pos (by omega)]; omega))) ?_
      refine h_bast X hR hL hD hrd (by omega) (by omega) (by omega) dJ17_getChars_84 (fun w_2 ew_3 H locs hR hL => ?_)
      have hF_arr_w_2 : w_2 arr = some (rd, iE G 1 cap (zset f (((c + 1 : Nat) : Int)).toNat (48 + (x) % 10))) := by rw [ew_3]; exact wset_eq _ _ _
      have hF_gC_G_75_w_2 : w_2 (gC G 75) = some (0, iE G 1 100 (fun j => if j < 100 then ((48 + j % 10 : Nat) : Int) else 0)) := by rw [ew_3]; exact (wset_ne _ ne_gC_G_75_arr).trans hT1
      have hF_gC_G_74_w_2 : w_2 (gC G 74) = some (0, iE G 1 100 (fun j => if j < 100 then ((48 + j / 10 : Nat) : Int) else 0)) := by rw [ew_3]; exact (wset_ne _ ne_gC_G_74_arr).trans hT2
      have hq_4 : w_2 = wset w arr (rd, iE G 1 cap (zset f (((c + 1 : Nat) : Int)).toNat (48 + (x) % 10))) := by rw [ew_3]
      refine lv_iload_n hx hb dJ17_getChars_85 rfl (lv_at hl 1 rfl) ?_
      refine h_bipush hx hb dJ17_getChars_86 (by decide) ?_
      refine h_icmp_ge hx hb 104 dJ17_getChars_88 (by decide) (by omega) (by omega) (fun c_n => ?_) (fun c_n => ?_)
      ·
        exact absurd c_n (by omega)
      ·
        refine lv_aload_n hx hb dJ17_getChars_91 rfl (lv_at hl 4 rfl) ?_
        refine h_iinc (lv' := [(5, .int (iI (((c + 1 : Nat) : Int) + (-1)))), (0, .int (iI (-x))), (6, .int (iI (0))), (1, .int (iI (((c + 2 : Nat) : Int)))), (2, .ref arr)]) hx hb dJ17_getChars_92 hl (k := 0) rfl (by decide) rfl (fun ls hl => ?_)
        have hl : lv_has ls 7 [(5, .int (iI (((c + 0 : Nat) : Int)))), (0, .int (iI (-x))), (6, .int (iI (0))), (1, .int (iI (((c + 2 : Nat) : Int)))), (2, .ref arr)] := lv_conv hl (congrArg (fun z_ : Int => ([(5, .int (iI (z_))), (0, .int (iI (-x))), (6, .int (iI (0))), (1, .int (iI (((c + 2 : Nat) : Int)))), (2, .ref arr)] : List (Nat × Value))) (show (((c + 1 : Nat) : Int) + (-1) : Int) = ((c + 0 : Nat) : Int) from (by omega)))
        refine lv_iload hx hb dJ17_getChars_95 (lv_at hl 0 rfl) ?_
        refine h_getsR X hR 74 (by decide) q431 q141 q430 dJ17_getChars_97 ?_
        refine lv_iload_n hx hb dJ17_getChars_100 rfl (lv_at hl 1 rfl) ?_
        refine h_ineg hx hb dJ17_getChars_101 ?_
        refine W.eq (g2 := F0 m9 102 ls [.int (iI (x)), .ref (gC G 74), .int (iI (((c + 0 : Nat) : Int))), .ref arr]) (congrArg (fun z_ : Int => F0 m9 102 ls [.int (iI (z_)), .ref (gC G 74), .int (iI (((c + 0 : Nat) : Int))), .ref arr]) (show (-(-x) : Int) = x from (by omega))) ?_
        refine h_bald X hR hF_gC_G_74_w_2 (by omega) (by omega) dJ17_getChars_102 ?_
        refine W.eq (g2 := F0 m9 103 ls [.int (iI (48 + (x) / 10)), .int (iI (((c + 0 : Nat) : Int))), .ref arr]) (congrArg (fun z_ : Int => F0 m9 103 ls [.int (iI (z_)), .int (iI (((c + 0 : Nat) : Int))), .ref arr]) (show ((fun j => if j < 100 then ((48 + j / 10 : Nat) : Int) else 0) x.toNat : Int) = 48 + (x) / 10 from (by show (if _ then _ else _ : Int) = _; rw [if_pos (by omega)]; omega))) ?_
        refine h_bast X hR hL hF_arr_w_2 hrd (by omega) (by omega) (by omega) dJ17_getChars_103 (fun w_5 ew_6 H locs hR hL => ?_)
        have hF_arr_w_5 : w_5 arr = some (rd, iE G 1 cap (zset (zset f (((c + 1 : Nat) : Int)).toNat (48 + (x) % 10)) (((c + 0 : Nat) : Int)).toNat (48 + (x) / 10))) := by rw [ew_6]; exact wset_eq _ _ _
        have hF_gC_G_75_w_5 : w_5 (gC G 75) = some (0, iE G 1 100 (fun j => if j < 100 then ((48 + j % 10 : Nat) : Int) else 0)) := by rw [ew_6]; exact (wset_ne _ ne_gC_G_75_arr).trans hF_gC_G_75_w_2
        have hF_gC_G_74_w_5 : w_5 (gC G 74) = some (0, iE G 1 100 (fun j => if j < 100 then ((48 + j / 10 : Nat) : Int) else 0)) := by rw [ew_6]; exact (wset_ne _ ne_gC_G_74_arr).trans hF_gC_G_74_w_2
        have hq_7 : w_5 = wset w arr (rd, iE G 1 cap (zset (zset f (((c + 1 : Nat) : Int)).toNat (48 + (x) % 10)) (((c + 0 : Nat) : Int)).toNat (48 + (x) / 10))) := by rw [ew_6, hq_4, wset_ww]
        refine lv_iload hx hb dJ17_getChars_104 (lv_at hl 2 rfl) ?_
        refine h_if_eq hx hb 118 dJ17_getChars_106 (by decide) (by decide) (fun _ => ?_) (fun z_ => absurd z_ (by decide))
        refine lv_iload hx hb dJ17_getChars_118 (lv_at hl 0 rfl) ?_
        have hdg := dgs_2 hxr
        have hg1 : ∀ j, j < c → (zset (zset f (((c + 1 : Nat) : Int)).toNat (48 + (x) % 10)) (((c + 0 : Nat) : Int)).toNat (48 + (x) / 10)) j = f j := fun j hj => by simp only [zset, Int.toNat_natCast]; (repeat rw [if_neg (by omega)])
        have hg2 : ∀ j, j < 2 → (zset (zset f (((c + 1 : Nat) : Int)).toNat (48 + (x) % 10)) (((c + 0 : Nat) : Int)).toNat (48 + (x) / 10)) (c + j) = (dgs x).getD j 0 := fun j hj => by rw [hdg]; rcases (show j = 0 ∨ j = 1 by omega) with rfl | rfl <;> simp [zset] <;> omega
        have hg3 : ∀ j, j < cap → -128 ≤ (zset (zset f (((c + 1 : Nat) : Int)).toNat (48 + (x) % 10)) (((c + 0 : Nat) : Int)).toNat (48 + (x) / 10)) j ∧ (zset (zset f (((c + 1 : Nat) : Int)).toNat (48 + (x) % 10)) (((c + 0 : Nat) : Int)).toNat (48 + (x) / 10)) j < 128 := fun j hj => by simp only [zset]; have h_ := hf j hj; (repeat' split) <;> omega
        exact h_ireturn hx hb hlk hret hR hL rfl ⟨by omega, _, hq_7, hg1, hg2, hg3⟩ (by omega) (by omega) rfl rfl dJ17_getChars_120
    ·
      exact absurd c_i0 (by omega)
  ·
    exact absurd c_s (by omega)

set_option maxHeartbeats 4000000 in
set_option maxRecDepth 100000 in
/-- Integer.getChars -/
theorem in_gc3 (l : Launch) (G : Gl) (w : Wd) (x : Int) (hxr : 100 ≤ x ∧ x < 1000) (c rd arr cap : Nat) (f : Nat → Int) (hD : w arr = some (rd, iE G 1 cap f)) (hrd : rd ≠ 0) (hcap : cap < 100000) (hi : c + 3 ≤ cap) (hf : ∀ i, i < cap → -128 ≤ f i ∧ f i < 128) : HM l yJ17_getChars cJ17_getChars 7 (some .int) 1 0 0 G [.int (iI (x)), .int (iI (((c + 3 : Nat) : Int))), .ref arr] w (QI G (fun z_ w_ => z_ = (c : Int) ∧ ∃ g : Nat → Int, w_ = wset w arr (rd, iE G 1 cap g) ∧ (∀ j, j < c → g j = f j) ∧ (∀ j, j < 3 → g (c + j) = (dgs x).getD j 0) ∧ ∀ j, j < cap → -128 ≤ g j ∧ g j < 128)) := by
  refine HM.mk (by decide +kernel) (Nat.le_of_ble_eq_true rfl) ?_
  intro p9 e9 s9 m9 a9 b9 meth9 c9 ls X hret hlk hnm hl H hR
  have hx := X.1.1
  have hb := X.1.2.1
  have hl : lv_has ls 7 [(0, .int (iI (x))), (1, .int (iI (((c + 3 : Nat) : Int)))), (2, .ref arr)] := hl
  have hL : LK G [] := fun q h => absurd h List.not_mem_nil
  generalize ([] : List Loc) = locs at hL ⊢
  have hT1 : w (gC G 75) = some (0, iE G 1 100 (fun j => if j < 100 then ((48 + j % 10 : Nat) : Int) else 0)) := hR.con ((X.2.2.2.2.2.2 75 (by decide)).trans rfl)
  have hT2 : w (gC G 74) = some (0, iE G 1 100 (fun j => if j < 100 then ((48 + j / 10 : Nat) : Int) else 0)) := hR.con ((X.2.2.2.2.2.2 74 (by decide)).trans rfl)
  have ne_gC_G_75_arr : gC G 75 ≠ arr := w_neR hT1 hD (by omega)
  have ne_gC_G_74_arr : gC G 74 ≠ arr := w_neR hT2 hD (by omega)
  refine lv_iload_n hx hb dJ17_getChars_0 rfl (lv_at hl 1 rfl) ?_
  refine lv_istore (lv' := [(5, .int (iI (((c + 3 : Nat) : Int)))), (0, .int (iI (x))), (1, .int (iI (((c + 3 : Nat) : Int)))), (2, .ref arr)]) hx hb dJ17_getChars_1 hl (by decide) rfl (fun ls hl => ?_)
  refine lv_iload_n hx hb dJ17_getChars_3 rfl (lv_at hl 1 rfl) ?_
  refine h_if_ge hx hb 11 dJ17_getChars_4 (by decide) (by omega) (fun c_s => ?_) (fun c_s => ?_)
  ·
    refine h_iconst hx hb dJ17_getChars_11 ?_
    refine lv_istore (lv' := [(6, .int (iI (0))), (5, .int (iI (((c + 3 : Nat) : Int)))), (0, .int (iI (x))), (1, .int (iI (((c + 3 : Nat) : Int)))), (2, .ref arr)]) hx hb dJ17_getChars_12 hl (by decide) rfl (fun ls hl => ?_)
    refine lv_iload hx hb dJ17_getChars_14 (lv_at hl 0 rfl) ?_
    refine h_if_ne hx hb 22 dJ17_getChars_16 (by decide) (by decide) (fun z_ => absurd z_ (by decide)) (fun _ => ?_)
    refine lv_iload_n hx hb dJ17_getChars_19 rfl (lv_at hl 2 rfl) ?_
    refine h_ineg hx hb dJ17_getChars_20 ?_
    refine lv_istore_n (lv' := [(0, .int (iI (-x))), (6, .int (iI (0))), (5, .int (iI (((c + 3 : Nat) : Int)))), (1, .int (iI (((c + 3 : Nat) : Int)))), (2, .ref arr)]) hx hb dJ17_getChars_21 rfl hl (by decide) rfl (fun ls hl => ?_)
    refine lv_iload_n hx hb dJ17_getChars_22 rfl (lv_at hl 0 rfl) ?_
    refine h_bipush hx hb dJ17_getChars_23 (by decide) ?_
    refine h_icmp_gt hx hb 72 dJ17_getChars_25 (by decide) (by omega) (by omega) (fun c_i0 => ?_) (fun c_i0 => ?_)
    ·
      exact absurd c_i0 (by omega)
    ·
      refine lv_iload_n hx hb dJ17_getChars_28 rfl (lv_at hl 0 rfl) ?_
      refine h_bipush hx hb dJ17_getChars_29 (by decide) ?_
      refine h_idivN hx hb dJ17_getChars_31 ⟨by omega, by omega⟩ (by decide) ?_
      refine lv_istore_n (lv' := [(3, .int (iI (-(x / 100)))), (0, .int (iI (-x))), (6, .int (iI (0))), (5, .int (iI (((c + 3 : Nat) : Int)))), (1, .int (iI (((c + 3 : Nat) : Int)))), (2, .ref arr)]) hx hb dJ17_getChars_32 rfl hl (by decide) rfl (fun ls hl => ?_)
      refine lv_iload_n hx hb dJ17_getChars_33 rfl (lv_at hl 0 rfl) ?_
      refine h_bipush hx hb dJ17_getChars_34 (by decide) ?_
      refine h_imul hx hb dJ17_getChars_36 ?_
      refine lv_iload_n hx hb dJ17_getChars_37 rfl (lv_at hl 1 rfl) ?_
      refine h_isub hx hb dJ17_getChars_38 ?_
      refine W.eq (g2 := F0 m9 39 ls [.int (iI (x % 100))]) (congrArg (fun z_ : Int => F0 m9 39 ls [.int (iI (z_))]) (show (((-(x / 100)) * 100) - (-x) : Int) = x % 100 from (by omega))) ?_
      refine lv_istore (lv' := [(4, .int (iI (x % 100))), (3, .int (iI (-(x / 100)))), (0, .int (iI (-x))), (6, .int (iI (0))), (5, .int (iI (((c + 3 : Nat) : Int)))), (1, .int (iI (((c + 3 : Nat) : Int)))), (2, .ref arr)]) hx hb dJ17_getChars_39 hl (by decide) rfl (fun ls hl => ?_)
      refine lv_iload_n hx hb dJ17_getChars_41 rfl (lv_at hl 1 rfl) ?_
      refine lv_istore_n (lv' := [(0, .int (iI (-(x / 100)))), (4, .int (iI (x % 100))), (3, .int (iI (-(x / 100)))), (6, .int (iI (0))), (5, .int (iI (((c + 3 : Nat) : Int)))), (1, .int (iI (((c + 3 : Nat) : Int)))), (2, .ref arr)]) hx hb dJ17_getChars_42 rfl hl (by decide) rfl (fun ls hl => ?_)
      refine lv_aload_n hx hb dJ17_getChars_43 rfl (lv_at hl 6 rfl) ?_
      refine h_iinc (lv' := [(5, .int (iI (((c + 3 : Nat) : Int) + (-1)))), (0, .int (iI (-(x / 100)))), (4, .int (iI (x % 100))), (3, .int (iI (-(x / 100)))), (6, .int (iI (0))), (1, .int (iI (((c + 3 : Nat) : Int)))), (2, .ref arr)]) hx hb dJ17_getChars_44 hl (k := 4) rfl (by decide) rfl (fun ls hl => ?_)
      have hl : lv_has ls 7 [(5, .int (iI (((c + 2 : Nat) : Int)))), (0, .int (iI (-(x / 100)))), (4, .int (iI (x % 100))), (3, .int (iI (-(x / 100)))), (6, .int (iI (0))), (1, .int (iI (((c + 3 : Nat) : Int)))), (2, .ref arr)] := lv_conv hl (congrArg (fun z_ : Int => ([(5, .int (iI (z_))), (0, .int (iI (-(x / 100)))), (4, .int (iI (x % 100))), (3, .int (iI (-(x / 100)))), (6, .int (iI (0))), (1, .int (iI (((c + 3 : Nat) : Int)))), (2, .ref arr)] : List (Nat × Value))) (show (((c + 3 : Nat) : Int) + (-1) : Int) = ((c + 2 : Nat) : Int) from (by omega)))
      refine lv_iload hx hb dJ17_getChars_47 (lv_at hl 0 rfl) ?_
      refine h_getsR X hR 75 (by decide) q429 q141 q428 dJ17_getChars_49 ?_
      refine lv_iload hx hb dJ17_getChars_52 (lv_at hl 2 rfl) ?_
      refine h_bald X hR hT1 (by omega) (by omega) dJ17_getChars_54 ?_
      refine W.eq (g2 := F0 m9 55 ls [.int (iI (48 + (x % 100) % 10)), .int (iI (((c + 2 : Nat) : Int))), .ref arr]) (congrArg (fun z_ : Int => F0 m9 55 ls [.int (iI (z_)), .int (iI (((c + 2 : Nat) : Int))), .ref arr]) (show ((fun j => if j < 100 then ((48 + j % 10 : Nat) : Int) else 0) (x % 100).toNat : Int) = 48 + (x % 100) % 10 from (by show (if _ then _ else _ : Int) = _; rw [if_pos (by omega)]; omega))) ?_
      refine h_bast X hR hL hD hrd (by omega) (by omega) (by omega) dJ17_getChars_55 (fun w_2 ew_3 H locs hR hL => ?_)
      have hF_arr_w_2 : w_2 arr = some (rd, iE G 1 cap (zset f (((c + 2 : Nat) : Int)).toNat (48 + (x % 100) % 10))) := by rw [ew_3]; exact wset_eq _ _ _
      have hF_gC_G_75_w_2 : w_2 (gC G 75) = some (0, iE G 1 100 (fun j => if j < 100 then ((48 + j % 10 : Nat) : Int) else 0)) := by rw [ew_3]; exact (wset_ne _ ne_gC_G_75_arr).trans hT1
      have hF_gC_G_74_w_2 : w_2 (gC G 74) = some (0, iE G 1 100 (fun j => if j < 100 then ((48 + j / 10 : Nat) : Int) else 0)) := by rw [ew_3]; exact (wset_ne _ ne_gC_G_74_arr).trans hT2
      have hq_4 : w_2 = wset w arr (rd, iE G 1 cap (zset f (((c + 2 : Nat) : Int)).toNat (48 + (x % 100) % 10))) := by rw [ew_3]
      refine lv_aload_n hx hb dJ17_getChars_56 rfl (lv_at hl 6 rfl) ?_
      refine h_iinc (lv' := [(5, .int (iI (((c + 2 : Nat) : Int) + (-1)))), (0, .int (iI (-(x / 100)))), (4, .int (iI (x % 100))), (3, .int (iI (-(x / 100)))), (6, .int (iI (0))), (1, .int (iI (((c + 3 : Nat) : Int)))), (2, .ref arr)]) hx hb dJ17_getChars_57 hl (k := 0) rfl (by decide) rfl (fun ls hl => ?_)
      have hl : lv_has ls 7 [(5, .int (iI (((c + 1 : Nat) : Int)))), (0, .int (iI (-(x / 100)))), (4, .int (iI (x % 100))), (3, .int (iI (-(x / 100)))), (6, .int (iI (0))), (1, .int (iI (((c + 3 : Nat) : Int)))), (2, .ref arr)] := lv_conv hl (congrArg (fun z_ : Int => ([(5, .int (iI (z_))), (0, .int (iI (-(x / 100)))), (4, .int (iI (x % 100))), (3, .int (iI (-(x / 100)))), (6, .int (iI (0))), (1, .int (iI (((c + 3 : Nat) : Int)))), (2, .ref arr)] : List (Nat × Value))) (show (((c + 2 : Nat) : Int) + (-1) : Int) = ((c + 1 : Nat) : Int) from (by omega)))
      refine lv_iload hx hb dJ17_getChars_60 (lv_at hl 0 rfl) ?_
      refine h_getsR X hR 74 (by decide) q431 q141 q430 dJ17_getChars_62 ?_
      refine lv_iload hx hb dJ17_getChars_65 (lv_at hl 2 rfl) ?_
      refine h_bald X hR hF_gC_G_74_w_2 (by omega) (by omega) dJ17_getChars_67 ?_
      refine W.eq (g2 := F0 m9 68 ls [.int (iI (48 + (x % 100) / 10)), .int (iI (((c + 1 : Nat) : Int))), .ref arr]) (congrArg (fun z_ : Int => F0 m9 68 ls [.int (iI (z_)), .int (iI (((c + 1 : Nat) : Int))), .ref arr]) (show ((fun j => if j < 100 then ((48 + j / 10 : Nat) : Int) else 0) (x % 100).toNat : Int) = 48 + (x % 100) / 10 from (by show (if _ then _ else _ : Int) = _; rw [if_pos (by omega)]; omega))) ?_
      refine h_bast X hR hL hF_arr_w_2 hrd (by omega) (by omega) (by omega) dJ17_getChars_68 (fun w_5 ew_6 H locs hR hL => ?_)
      have hF_arr_w_5 : w_5 arr = some (rd, iE G 1 cap (zset (zset f (((c + 2 : Nat) : Int)).toNat (48 + (x % 100) % 10)) (((c + 1 : Nat) : Int)).toNat (48 + (x % 100) / 10))) := by rw [ew_6]; exact wset_eq _ _ _
      have hF_gC_G_75_w_5 : w_5 (gC G 75) = some (0, iE G 1 100 (fun j => if j < 100 then ((48 + j % 10 : Nat) : Int) else 0)) := by rw [ew_6]; exact (wset_ne _ ne_gC_G_75_arr).trans hF_gC_G_75_w_2
      have hF_gC_G_74_w_5 : w_5 (gC G 74) = some (0, iE G 1 100 (fun j => if j < 100 then ((48 + j / 10 : Nat) : Int) else 0)) := by rw [ew_6]; exact (wset_ne _ ne_gC_G_74_arr).trans hF_gC_G_74_w_2
      have hq_7 : w_5 = wset w arr (rd, iE G 1 cap (zset (zset f (((c + 2 : Nat) : Int)).toNat (48 + (x % 100) % 10)) (((c + 1 : Nat) : Int)).toNat (48 + (x % 100) / 10))) := by rw [ew_6, hq_4, wset_ww]
      refine lv_goto (tgt := 22) hx hb dJ17_getChars_69 (by decide) ?_
      refine lv_iload_n hx hb dJ17_getChars_22 rfl (lv_at hl 1 rfl) ?_
      refine h_bipush hx hb dJ17_getChars_23 (by decide) ?_
      refine h_icmp_gt hx hb 72 dJ17_getChars_25 (by decide) (by omega) (by omega) (fun c_i1 => ?_) (fun c_i1 => ?_)
      ·
        refine lv_aload_n hx hb dJ17_getChars_72 rfl (lv_at hl 6 rfl) ?_
        refine h_iinc (lv' := [(5, .int (iI (((c + 1 : Nat) : Int) + (-1)))), (0, .int (iI (-(x / 100)))), (4, .int (iI (x % 100))), (3, .int (iI (-(x / 100)))), (6, .int (iI (0))), (1, .int (iI (((c + 3 : Nat) : Int)))), (2, .ref arr)]) hx hb dJ17_getChars_73 hl (k := 0) rfl (by decide) rfl (fun ls hl => ?_)
        have hl : lv_has ls 7 [(5, .int (iI (((c + 0 : Nat) : Int)))), (0, .int (iI (-(x / 100)))), (4, .int (iI (x % 100))), (3, .int (iI (-(x / 100)))), (6, .int (iI (0))), (1, .int (iI (((c + 3 : Nat) : Int)))), (2, .ref arr)] := lv_conv hl (congrArg (fun z_ : Int => ([(5, .int (iI (z_))), (0, .int (iI (-(x / 100)))), (4, .int (iI (x % 100))), (3, .int (iI (-(x / 100)))), (6, .int (iI (0))), (1, .int (iI (((c + 3 : Nat) : Int)))), (2, .ref arr)] : List (Nat × Value))) (show (((c + 1 : Nat) : Int) + (-1) : Int) = ((c + 0 : Nat) : Int) from (by omega)))
        refine lv_iload hx hb dJ17_getChars_76 (lv_at hl 0 rfl) ?_
        refine h_getsR X hR 75 (by decide) q429 q141 q428 dJ17_getChars_78 ?_
        refine lv_iload_n hx hb dJ17_getChars_81 rfl (lv_at hl 1 rfl) ?_
        refine h_ineg hx hb dJ17_getChars_82 ?_
        refine W.eq (g2 := F0 m9 83 ls [.int (iI (x / 100)), .ref (gC G 75), .int (iI (((c + 0 : Nat) : Int))), .ref arr]) (congrArg (fun z_ : Int => F0 m9 83 ls [.int (iI (z_)), .ref (gC G 75), .int (iI (((c + 0 : Nat) : Int))), .ref arr]) (show (-(-(x / 100)) : Int) = x / 100 from (by omega))) ?_
        refine h_bald X hR hF_gC_G_75_w_5 (by omega) (by omega) dJ17_getChars_83 ?_
        refine W.eq (g2 := F0 m9 84 ls [.int (iI (48 + (x / 100) % 10)), .int (iI (((c + 0 : Nat) : Int))), .ref arr]) (congrArg (fun z_ : Int => F0 m9 84 ls [.int (iI (z_)), .int (iI (((c + 0 : Nat) : Int))), .ref arr]) (show ((fun j => if j < 100 then ((48 + j % 10 : Nat) : Int) else 0) (x / 100).toNat : Int) = 48 + (x / 100) % 10 from (by show (if _ then _ else _ : Int) = _; rw [if_pos (by omega)]; omega))) ?_
        refine h_bast X hR hL hF_arr_w_5 hrd (by omega) (by omega) (by omega) dJ17_getChars_84 (fun w_8 ew_9 H locs hR hL => ?_)
        have hF_arr_w_8 : w_8 arr = some (rd, iE G 1 cap (zset (zset (zset f (((c + 2 : Nat) : Int)).toNat (48 + (x % 100) % 10)) (((c + 1 : Nat) : Int)).toNat (48 + (x % 100) / 10)) (((c + 0 : Nat) : Int)).toNat (48 + (x / 100) % 10))) := by rw [ew_9]; exact wset_eq _ _ _
        have hF_gC_G_75_w_8 : w_8 (gC G 75) = some (0, iE G 1 100 (fun j => if j < 100 then ((48 + j % 10 : Nat) : Int) else 0)) := by rw [ew_9]; exact (wset_ne _ ne_gC_G_75_arr).trans hF_gC_G_75_w_5
        have hF_gC_G_74_w_8 : w_8 (gC G 74) = some (0, iE G 1 100 (fun j => if j < 100 then ((48 + j / 10 : Nat) : Int) else 0)) := by rw [ew_9]; exact (wset_ne _ ne_gC_G_74_arr).trans hF_gC_G_74_w_5
        have hq_10 : w_8 = wset w arr (rd, iE G 1 cap (zset (zset (zset f (((c + 2 : Nat) : Int)).toNat (48 + (x % 100) % 10)) (((c + 1 : Nat) : Int)).toNat (48 + (x % 100) / 10)) (((c + 0 : Nat) : Int)).toNat (48 + (x / 100) % 10))) := by rw [ew_9, hq_7, wset_ww]
        refine lv_iload_n hx hb dJ17_getChars_85 rfl (lv_at hl 1 rfl) ?_
        refine h_bipush hx hb dJ17_getChars_86 (by decide) ?_
        refine h_icmp_ge hx hb 104 dJ17_getChars_88 (by decide) (by omega) (by omega) (fun c_n => ?_) (fun c_n => ?_)
        ·
          refine lv_iload hx hb dJ17_getChars_104 (lv_at hl 4 rfl) ?_
          refine h_if_eq hx hb 118 dJ17_getChars_106 (by decide) (by decide) (fun _ => ?_) (fun z_ => absurd z_ (by decide))
          refine lv_iload hx hb dJ17_getChars_118 (lv_at hl 0 rfl) ?_
          have hdg := dgs_3 hxr
          have hg1 : ∀ j, j < c → (zset (zset (zset f (((c + 2 : Nat) : Int)).toNat (48 + (x % 100) % 10)) (((c + 1 : Nat) : Int)).toNat (48 + (x % 100) / 10)) (((c + 0 : Nat) : Int)).toNat (48 + (x / 100) % 10)) j = f j := fun j hj => by simp only [zset, Int.toNat_natCast]; (repeat rw [if_neg (by omega)])
          have hg2 : ∀ j, j < 3 → (zset (zset (zset f (((c + 2 : Nat) : Int)).toNat (48 + (x % 100) % 10)) (((c + 1 : Nat) : Int)).toNat (48 + (x % 100) / 10)) (((c + 0 : Nat) : Int)).toNat (48 + (x / 100) % 10)) (c + j) = (dgs x).getD j 0 := fun j hj => by rw [hdg]; rcases (show j = 0 ∨ j = 1 ∨ j = 2 by omega) with rfl | rfl | rfl <;> simp [zset] <;> omega
          have hg3 : ∀ j, j < cap → -128 ≤ (zset (zset (zset f (((c + 2 : Nat) : Int)).toNat (48 + (x % 100) % 10)) (((c + 1 : Nat) : Int)).toNat (48 + (x % 100) / 10)) (((c + 0 : Nat) : Int)).toNat (48 + (x / 100) % 10)) j ∧ (zset (zset (zset f (((c + 2 : Nat) : Int)).toNat (48 + (x % 100) % 10)) (((c + 1 : Nat) : Int)).toNat (48 + (x % 100) / 10)) (((c + 0 : Nat) : Int)).toNat (48 + (x / 100) % 10)) j < 128 := fun j hj => by simp only [zset]; have h_ := hf j hj; (repeat' split) <;> omega
          exact h_ireturn hx hb hlk hret hR hL rfl ⟨by omega, _, hq_10, hg1, hg2, hg3⟩ (by omega) (by omega) rfl rfl dJ17_getChars_120
        ·
          exact absurd c_n (by omega)
      ·
        exact absurd c_i1 (by omega)
  ·
    exact absurd c_s (by omega)

set_option maxHeartbeats 4000000 in
set_option maxRecDepth 100000 in
/-- Integer.getChars -/
theorem in_gc4 (l : Launch) (G : Gl) (w : Wd) (x : Int) (hxr : 1000 ≤ x ∧ x < 10000) (c rd arr cap : Nat) (f : Nat → Int) (hD : w arr = some (rd, iE G 1 cap f)) (hrd : rd ≠ 0) (hcap : cap < 100000) (hi : c + 4 ≤ cap) (hf : ∀ i, i < cap → -128 ≤ f i ∧ f i < 128) : HM l yJ17_getChars cJ17_getChars 7 (some .int) 1 0 0 G [.int (iI (x)), .int (iI (((c + 4 : Nat) : Int))), .ref arr] w (QI G (fun z_ w_ => z_ = (c : Int) ∧ ∃ g : Nat → Int, w_ = wset w arr (rd, iE G 1 cap g) ∧ (∀ j, j < c → g j = f j) ∧ (∀ j, j < 4 → g (c + j) = (dgs x).getD j 0) ∧ ∀ j, j < cap → -128 ≤ g j ∧ g j < 128)) := by
  refine HM.mk (by decide +kernel) (Nat.le_of_ble_eq_true rfl) ?_
  intro p9 e9 s9 m9 a9 b9 meth9 c9 ls X hret hlk hnm hl H hR
  have hx := X.1.1
  have hb := X.1.2.1
  have hl : lv_has ls 7 [(0, .int (iI (x))), (1, .int (iI (((c + 4 : Nat) : Int)))), (2, .ref arr)] := hl
  have hL : LK G [] := fun q h => absurd h List.not_mem_nil
  generalize ([] : List Loc) = locs at hL ⊢
  have hT1 : w (gC G 75) = some (0, iE G 1 100 (fun j => if j < 100 then ((48 + j % 10 : Nat) : Int) else 0)) := hR.con ((X.2.2.2.2.2.2 75 (by decide)).trans rfl)
  have hT2 : w (gC G 74) = some (0, iE G 1 100 (fun j => if j < 100 then ((48 + j / 10 : Nat) : Int) else 0)) := hR.con ((X.2.2.2.2.2.2 74 (by decide)).trans rfl)
  have ne_gC_G_75_arr : gC G 75 ≠ arr := w_neR hT1 hD (by omega)
  have ne_gC_G_74_arr : gC G 74 ≠ arr := w_neR hT2 hD (by omega)
  refine lv_iload_n hx hb dJ17_getChars_0 rfl (lv_at hl 1 rfl) ?_
  refine lv_istore (lv' := [(5, .int (iI (((c + 4 : Nat) : Int)))), (0, .int (iI (x))), (1, .int (iI (((c + 4 : Nat) : Int)))), (2, .ref arr)]) hx hb dJ17_getChars_1 hl (by decide) rfl (fun ls hl => ?_)
  refine lv_iload_n hx hb dJ17_getChars_3 rfl (lv_at hl 1 rfl) ?_
  refine h_if_ge hx hb 11 dJ17_getChars_4 (by decide) (by omega) (fun c_s => ?_) (fun c_s => ?_)
  ·
    refine h_iconst hx hb dJ17_getChars_11 ?_
    refine lv_istore (lv' := [(6, .int (iI (0))), (5, .int (iI (((c + 4 : Nat) : Int)))), (0, .int (iI (x))), (1, .int (iI (((c + 4 : Nat) : Int)))), (2, .ref arr)]) hx hb dJ17_getChars_12 hl (by decide) rfl (fun ls hl => ?_)
    refine lv_iload hx hb dJ17_getChars_14 (lv_at hl 0 rfl) ?_
    refine h_if_ne hx hb 22 dJ17_getChars_16 (by decide) (by decide) (fun z_ => absurd z_ (by decide)) (fun _ => ?_)
    refine lv_iload_n hx hb dJ17_getChars_19 rfl (lv_at hl 2 rfl) ?_
    refine h_ineg hx hb dJ17_getChars_20 ?_
    refine lv_istore_n (lv' := [(0, .int (iI (-x))), (6, .int (iI (0))), (5, .int (iI (((c + 4 : Nat) : Int)))), (1, .int (iI (((c + 4 : Nat) : Int)))), (2, .ref arr)]) hx hb dJ17_getChars_21 rfl hl (by decide) rfl (fun ls hl => ?_)
    refine lv_iload_n hx hb dJ17_getChars_22 rfl (lv_at hl 0 rfl) ?_
    refine h_bipush hx hb dJ17_getChars_23 (by decide) ?_
    refine h_icmp_gt hx hb 72 dJ17_getChars_25 (by decide) (by omega) (by omega) (fun c_i0 => ?_) (fun c_i0 => ?_)
    ·
      exact absurd c_i0 (by omega)
    ·
      refine lv_iload_n hx hb dJ17_getChars_28 rfl (lv_at hl 0 rfl) ?_
      refine h_bipush hx hb dJ17_getChars_29 (by decide) ?_
      refine h_idivN hx hb dJ17_getChars_31 ⟨by omega, by omega⟩ (by decide) ?_
      refine lv_istore_n (lv' := [(3, .int (iI (-(x / 100)))), (0, .int (iI (-x))), (6, .int (iI (0))), (5, .int (iI (((c + 4 : Nat) : Int)))), (1, .int (iI (((c + 4 : Nat) : Int)))), (2, .ref arr)]) hx hb dJ17_getChars_32 rfl hl (by decide) rfl (fun ls hl => ?_)
      refine lv_iload_n hx hb dJ17_getChars_33 rfl (lv_at hl 0 rfl) ?_
      refine h_bipush hx hb dJ17_getChars_34 (by decide) ?_
      refine h_imul hx hb dJ17_getChars_36 ?_
      refine lv_iload_n hx hb dJ17_getChars_37 rfl (lv_at hl 1 rfl) ?_
      refine h_isub hx hb dJ17_getChars_38 ?_
      refine W.eq (g2 := F0 m9 39 ls [.int (iI (x % 100))]) (congrArg (fun z_ : Int => F0 m9 39 ls [.int (iI (z_))]) (show (((-(x / 100)) * 100) - (-x) : Int) = x % 100 from (by omega))) ?_
      refine lv_istore (lv' := [(4, .int (iI (x % 100))), (3, .int (iI (-(x / 100)))), (0, .int (iI (-x))), (6, .int (iI (0))), (5, .int (iI (((c + 4 : Nat) : Int)))), (1, .int (iI (((c + 4 : Nat) : Int)))), (2, .ref arr)]) hx hb dJ17_getChars_39 hl (by decide) rfl (fun ls hl => ?_)
      refine lv_iload_n hx hb dJ17_getChars_41 rfl (lv_at hl 1 rfl) ?_
      refine lv_istore_n (lv' := [(0, .int (iI (-(x / 100)))), (4, .int (iI (x % 100))), (3, .int (iI (-(x / 100)))), (6, .int (iI (0))), (5, .int (iI (((c + 4 : Nat) : Int)))), (1, .int (iI (((c + 4 : Nat) : Int)))), (2, .ref arr)]) hx hb dJ17_getChars_42 rfl hl (by decide) rfl (fun ls hl => ?_)
      refine lv_aload_n hx hb dJ17_getChars_43 rfl (lv_at hl 6 rfl) ?_
      refine h_iinc (lv' := [(5, .int (iI (((c + 4 : Nat) : Int) + (-1)))), (0, .int (iI (-(x / 100)))), (4, .int (iI (x % 100))), (3, .int (iI (-(x / 100)))), (6, .int (iI (0))), (1, .int (iI (((c + 4 : Nat) : Int)))), (2, .ref arr)]) hx hb dJ17_getChars_44 hl (k := 4) rfl (by decide) rfl (fun ls hl => ?_)
      have hl : lv_has ls 7 [(5, .int (iI (((c + 3 : Nat) : Int)))), (0, .int (iI (-(x / 100)))), (4, .int (iI (x % 100))), (3, .int (iI (-(x / 100)))), (6, .int (iI (0))), (1, .int (iI (((c + 4 : Nat) : Int)))), (2, .ref arr)] := lv_conv hl (congrArg (fun z_ : Int => ([(5, .int (iI (z_))), (0, .int (iI (-(x / 100)))), (4, .int (iI (x % 100))), (3, .int (iI (-(x / 100)))), (6, .int (iI (0))), (1, .int (iI (((c + 4 : Nat) : Int)))), (2, .ref arr)] : List (Nat × Value))) (show (((c + 4 : Nat) : Int) + (-1) : Int) = ((c + 3 : Nat) : Int) from (by omega)))
      refine lv_iload hx hb dJ17_getChars_47 (lv_at hl 0 rfl) ?_
      refine h_getsR X hR 75 (by decide) q429 q141 q428 dJ17_getChars_49 ?_
      refine lv_iload hx hb dJ17_getChars_52 (lv_at hl 2 rfl) ?_
      refine h_bald X hR hT1 (by omega) (by omega) dJ17_getChars_54 ?_
      refine W.eq (g2 := F0 m9 55 ls [.int (iI (48 + (x % 100) % 10)), .int (iI (((c + 3 : Nat) : Int))), .ref arr]) (congrArg (fun z_ : Int => F0 m9 55 ls [.int (iI (z_)), .int (iI (((c + 3 : Nat) : Int))), .ref arr]) (show ((fun j => if j < 100 then ((48 + j % 10 : Nat) : Int) else 0) (x % 100).toNat : Int) = 48 + (x % 100) % 10 from (by show (if _ then _ else _ : Int) = _; rw [if_pos (by omega)]; omega))) ?_
      refine h_bast X hR hL hD hrd (by omega) (by omega) (by omega) dJ17_getChars_55 (fun w_2 ew_3 H locs hR hL => ?_)
      have hF_arr_w_2 : w_2 arr = some (rd, iE G 1 cap (zset f (((c + 3 : Nat) : Int)).toNat (48 + (x % 100) % 10))) := by rw [ew_3]; exact wset_eq _ _ _
      have hF_gC_G_75_w_2 : w_2 (gC G 75) = some (0, iE G 1 100 (fun j => if j < 100 then ((48 + j % 10 : Nat) : Int) else 0)) := by rw [ew_3]; exact (wset_ne _ ne_gC_G_75_arr).trans hT1
      have hF_gC_G_74_w_2 : w_2 (gC G 74) = some (0, iE G 1 100 (fun j => if j < 100 then ((48 + j / 10 : Nat) : Int) else 0)) := by rw [ew_3]; exact (wset_ne _ ne_gC_G_74_arr).trans hT2
      have hq_4 : w_2 = wset w arr (rd, iE G 1 cap (zset f (((c + 3 : Nat) : Int)).toNat (48 + (x % 100) % 10))) := by rw [ew_3]
      refine lv_aload_n hx hb dJ17_getChars_56 rfl (lv_at hl 6 rfl) ?_
      refine h_iinc (lv' := [(5, .int (iI (((c + 3 : Nat) : Int) + (-1)))), (0, .int (iI (-(x / 100)))), (4, .int (iI (x % 100))), (3, .int (iI (-(x / 100)))), (6, .int (iI (0))), (1, .int (iI (((c + 4 : Nat) : Int)))), (2, .ref arr)]) hx hb dJ17_getChars_57 hl (k := 0) rfl (by decide) rfl (fun ls hl => ?_)
      have hl : lv_has ls 7 [(5, .int (iI (((c + 2 : Nat) : Int)))), (0, .int (iI (-(x / 100)))), (4, .int (iI (x % 100))), (3, .int (iI (-(x / 100)))), (6, .int (iI (0))), (1, .int (iI (((c + 4 : Nat) : Int)))), (2, .ref arr)] := lv_conv hl (congrArg (fun z_ : Int => ([(5, .int (iI (z_))), (0, .int (iI (-(x / 100)))), (4, .int (iI (x % 100))), (3, .int (iI (-(x / 100)))), (6, .int (iI (0))), (1, .int (iI (((c + 4 : Nat) : Int)))), (2, .ref arr)] : List (Nat × Value))) (show (((c + 3 : Nat) : Int) + (-1) : Int) = ((c + 2 : Nat) : Int) from (by omega)))
      refine lv_iload hx hb dJ17_getChars_60 (lv_at hl 0 rfl) ?_
      refine h_getsR X hR 74 (by decide) q431 q141 q430 dJ17_getChars_62 ?_
      refine lv_iload hx hb dJ17_getChars_65 (lv_at hl 2 rfl) ?_
      refine h_bald X hR hF_gC_G_74_w_2 (by omega) (by omega) dJ17_getChars_67 ?_
      refine W.eq (g2 := F0 m9 68 ls [.int (iI (48 + (x % 100) / 10)), .int (iI (((c + 2 : Nat) : Int))), .ref arr]) (congrArg (fun z_ : Int => F0 m9 68 ls [.int (iI (z_)), .int (iI (((c + 2 : Nat) : Int))), .ref arr]) (show ((fun j => if j < 100 then ((48 + j / 10 : Nat) : Int) else 0) (x % 100).toNat : Int) = 48 + (x % 100) / 10 from (by show (if _ then _ else _ : Int) = _; rw [if_pos (by omega)]; omega))) ?_
      refine h_bast X hR hL hF_arr_w_2 hrd (by omega) (by omega) (by omega) dJ17_getChars_68 (fun w_5 ew_6 H locs hR hL => ?_)
      have hF_arr_w_5 : w_5 arr = some (rd, iE G 1 cap (zset (zset f (((c + 3 : Nat) : Int)).toNat (48 + (x % 100) % 10)) (((c + 2 : Nat) : Int)).toNat (48 + (x % 100) / 10))) := by rw [ew_6]; exact wset_eq _ _ _
      have hF_gC_G_75_w_5 : w_5 (gC G 75) = some (0, iE G 1 100 (fun j => if j < 100 then ((48 + j % 10 : Nat) : Int) else 0)) := by rw [ew_6]; exact (wset_ne _ ne_gC_G_75_arr).trans hF_gC_G_75_w_2
      have hF_gC_G_74_w_5 : w_5 (gC G 74) = some (0, iE G 1 100 (fun j => if j < 100 then ((48 + j / 10 : Nat) : Int) else 0)) := by rw [ew_6]; exact (wset_ne _ ne_gC_G_74_arr).trans hF_gC_G_74_w_2
      have hq_7 : w_5 = wset w arr (rd, iE G 1 cap (zset (zset f (((c + 3 : Nat) : Int)).toNat (48 + (x % 100) % 10)) (((c + 2 : Nat) : Int)).toNat (48 + (x % 100) / 10))) := by rw [ew_6, hq_4, wset_ww]
      refine lv_goto (tgt := 22) hx hb dJ17_getChars_69 (by decide) ?_
      refine lv_iload_n hx hb dJ17_getChars_22 rfl (lv_at hl 1 rfl) ?_
      refine h_bipush hx hb dJ17_getChars_23 (by decide) ?_
      refine h_icmp_gt hx hb 72 dJ17_getChars_25 (by decide) (by omega) (by omega) (fun c_i1 => ?_) (fun c_i1 => ?_)
      ·
        refine lv_aload_n hx hb dJ17_getChars_72 rfl (lv_at hl 6 rfl) ?_
        refine h_iinc (lv' := [(5, .int (iI (((c + 2 : Nat) : Int) + (-1)))), (0, .int (iI (-(x / 100)))), (4, .int (iI (x % 100))), (3, .int (iI (-(x / 100)))), (6, .int (iI (0))), (1, .int (iI (((c + 4 : Nat) : Int)))), (2, .ref arr)]) hx hb dJ17_getChars_73 hl (k := 0) rfl (by decide) rfl (fun ls hl => ?_)
        have hl : lv_has ls 7 [(5, .int (iI (((c + 1 : Nat) : Int)))), (0, .int (iI (-(x / 100)))), (4, .int (iI (x % 100))), (3, .int (iI (-(x / 100)))), (6, .int (iI (0))), (1, .int (iI (((c + 4 : Nat) : Int)))), (2, .ref arr)] := lv_conv hl (congrArg (fun z_ : Int => ([(5, .int (iI (z_))), (0, .int (iI (-(x / 100)))), (4, .int (iI (x % 100))), (3, .int (iI (-(x / 100)))), (6, .int (iI (0))), (1, .int (iI (((c + 4 : Nat) : Int)))), (2, .ref arr)] : List (Nat × Value))) (show (((c + 2 : Nat) : Int) + (-1) : Int) = ((c + 1 : Nat) : Int) from (by omega)))
        refine lv_iload hx hb dJ17_getChars_76 (lv_at hl 0 rfl) ?_
        refine h_getsR X hR 75 (by decide) q429 q141 q428 dJ17_getChars_78 ?_
        refine lv_iload_n hx hb dJ17_getChars_81 rfl (lv_at hl 1 rfl) ?_
        refine h_ineg hx hb dJ17_getChars_82 ?_
        refine W.eq (g2 := F0 m9 83 ls [.int (iI (x / 100)), .ref (gC G 75), .int (iI (((c + 1 : Nat) : Int))), .ref arr]) (congrArg (fun z_ : Int => F0 m9 83 ls [.int (iI (z_)), .ref (gC G 75), .int (iI (((c + 1 : Nat) : Int))), .ref arr]) (show (-(-(x / 100)) : Int) = x / 100 from (by omega))) ?_
        refine h_bald X hR hF_gC_G_75_w_5 (by omega) (by omega) dJ17_getChars_83 ?_
        refine W.eq (g2 := F0 m9 84 ls [.int (iI (48 + (x / 100) % 10)), .int (iI (((c + 1 : Nat) : Int))), .ref arr]) (congrArg (fun z_ : Int => F0 m9 84 ls [.int (iI (z_)), .int (iI (((c + 1 : Nat) : Int))), .ref arr]) (show ((fun j => if j < 100 then ((48 + j % 10 : Nat) : Int) else 0) (x / 100).toNat : Int) = 48 + (x / 100) % 10 from (by show (if _ then _ else _ : Int) = _; rw [if_pos (by omega)]; omega))) ?_
        refine h_bast X hR hL hF_arr_w_5 hrd (by omega) (by omega) (by omega) dJ17_getChars_84 (fun w_8 ew_9 H locs hR hL => ?_)
        have hF_arr_w_8 : w_8 arr = some (rd, iE G 1 cap (zset (zset (zset f (((c + 3 : Nat) : Int)).toNat (48 + (x % 100) % 10)) (((c + 2 : Nat) : Int)).toNat (48 + (x % 100) / 10)) (((c + 1 : Nat) : Int)).toNat (48 + (x / 100) % 10))) := by rw [ew_9]; exact wset_eq _ _ _
        have hF_gC_G_75_w_8 : w_8 (gC G 75) = some (0, iE G 1 100 (fun j => if j < 100 then ((48 + j % 10 : Nat) : Int) else 0)) := by rw [ew_9]; exact (wset_ne _ ne_gC_G_75_arr).trans hF_gC_G_75_w_5
        have hF_gC_G_74_w_8 : w_8 (gC G 74) = some (0, iE G 1 100 (fun j => if j < 100 then ((48 + j / 10 : Nat) : Int) else 0)) := by rw [ew_9]; exact (wset_ne _ ne_gC_G_74_arr).trans hF_gC_G_74_w_5
        have hq_10 : w_8 = wset w arr (rd, iE G 1 cap (zset (zset (zset f (((c + 3 : Nat) : Int)).toNat (48 + (x % 100) % 10)) (((c + 2 : Nat) : Int)).toNat (48 + (x % 100) / 10)) (((c + 1 : Nat) : Int)).toNat (48 + (x / 100) % 10))) := by rw [ew_9, hq_7, wset_ww]
        refine lv_iload_n hx hb dJ17_getChars_85 rfl (lv_at hl 1 rfl) ?_
        refine h_bipush hx hb dJ17_getChars_86 (by decide) ?_
        refine h_icmp_ge hx hb 104 dJ17_getChars_88 (by decide) (by omega) (by omega) (fun c_n => ?_) (fun c_n => ?_)
        ·
          exact absurd c_n (by omega)
        ·
          refine lv_aload_n hx hb dJ17_getChars_91 rfl (lv_at hl 6 rfl) ?_
          refine h_iinc (lv' := [(5, .int (iI (((c + 1 : Nat) : Int) + (-1)))), (0, .int (iI (-(x / 100)))), (4, .int (iI (x % 100))), (3, .int (iI (-(x / 100)))), (6, .int (iI (0))), (1, .int (iI (((c + 4 : Nat) : Int)))), (2, .ref arr)]) hx hb dJ17_getChars_92 hl (k := 0) rfl (by decide) rfl (fun ls hl => ?_)
          have hl : lv_has ls 7 [(5, .int (iI (((c + 0 : Nat) : Int)))), (0, .int (iI (-(x / 100)))), (4, .int (iI (x % 100))), (3, .int (iI (-(x / 100)))), (6, .int (iI (0))), (1, .int (iI (((c + 4 : Nat) : Int)))), (2, .ref arr)] := lv_conv hl (congrArg (fun z_ : Int => ([(5, .int (iI (z_))), (0, .int (iI (-(x / 100)))), (4, .int (iI (x % 100))), (3, .int (iI (-(x / 100)))), (6, .int (iI (0))), (1, .int (iI (((c + 4 : Nat) : Int)))), (2, .ref arr)] : List (Nat × Value))) (show (((c + 1 : Nat) : Int) + (-1) : Int) = ((c + 0 : Nat) : Int) from (by omega)))
          refine lv_iload hx hb dJ17_getChars_95 (lv_at hl 0 rfl) ?_
          refine h_getsR X hR 74 (by decide) q431 q141 q430 dJ17_getChars_97 ?_
          refine lv_iload_n hx hb dJ17_getChars_100 rfl (lv_at hl 1 rfl) ?_
          refine h_ineg hx hb dJ17_getChars_101 ?_
          refine W.eq (g2 := F0 m9 102 ls [.int (iI (x / 100)), .ref (gC G 74), .int (iI (((c + 0 : Nat) : Int))), .ref arr]) (congrArg (fun z_ : Int => F0 m9 102 ls [.int (iI (z_)), .ref (gC G 74), .int (iI (((c + 0 : Nat) : Int))), .ref arr]) (show (-(-(x / 100)) : Int) = x / 100 from (by omega))) ?_
          refine h_bald X hR hF_gC_G_74_w_8 (by omega) (by omega) dJ17_getChars_102 ?_
          refine W.eq (g2 := F0 m9 103 ls [.int (iI (48 + (x / 100) / 10)), .int (iI (((c + 0 : Nat) : Int))), .ref arr]) (congrArg (fun z_ : Int => F0 m9 103 ls [.int (iI (z_)), .int (iI (((c + 0 : Nat) : Int))), .ref arr]) (show ((fun j => if j < 100 then ((48 + j / 10 : Nat) : Int) else 0) (x / 100).toNat : Int) = 48 + (x / 100) / 10 from (by show (if _ then _ else _ : Int) = _; rw [if_pos (by omega)]; omega))) ?_
          refine h_bast X hR hL hF_arr_w_8 hrd (by omega) (by omega) (by omega) dJ17_getChars_103 (fun w_11 ew_12 H locs hR hL => ?_)
          have hF_arr_w_11 : w_11 arr = some (rd, iE G 1 cap (zset (zset (zset (zset f (((c + 3 : Nat) : Int)).toNat (48 + (x % 100) % 10)) (((c + 2 : Nat) : Int)).toNat (48 + (x % 100) / 10)) (((c + 1 : Nat) : Int)).toNat (48 + (x / 100) % 10)) (((c + 0 : Nat) : Int)).toNat (48 + (x / 100) / 10))) := by rw [ew_12]; exact wset_eq _ _ _
          have hF_gC_G_75_w_11 : w_11 (gC G 75) = some (0, iE G 1 100 (fun j => if j < 100 then ((48 + j % 10 : Nat) : Int) else 0)) := by rw [ew_12]; exact (wset_ne _ ne_gC_G_75_arr).trans hF_gC_G_75_w_8
          have hF_gC_G_74_w_11 : w_11 (gC G 74) = some (0, iE G 1 100 (fun j => if j < 100 then ((48 + j / 10 : Nat) : Int) else 0)) := by rw [ew_12]; exact (wset_ne _ ne_gC_G_74_arr).trans hF_gC_G_74_w_8
          have hq_13 : w_11 = wset w arr (rd, iE G 1 cap (zset (zset (zset (zset f (((c + 3 : Nat) : Int)).toNat (48 + (x % 100) % 10)) (((c + 2 : Nat) : Int)).toNat (48 + (x % 100) / 10)) (((c + 1 : Nat) : Int)).toNat (48 + (x / 100) % 10)) (((c + 0 : Nat) : Int)).toNat (48 + (x / 100) / 10))) := by rw [ew_12, hq_10, wset_ww]
          refine lv_iload hx hb dJ17_getChars_104 (lv_at hl 4 rfl) ?_
          refine h_if_eq hx hb 118 dJ17_getChars_106 (by decide) (by decide) (fun _ => ?_) (fun z_ => absurd z_ (by decide))
          refine lv_iload hx hb dJ17_getChars_118 (lv_at hl 0 rfl) ?_
          have hdg := dgs_4 hxr
          have hg1 : ∀ j, j < c → (zset (zset (zset (zset f (((c + 3 : Nat) : Int)).toNat (48 + (x % 100) % 10)) (((c + 2 : Nat) : Int)).toNat (48 + (x % 100) / 10)) (((c + 1 : Nat) : Int)).toNat (48 + (x / 100) % 10)) (((c + 0 : Nat) : Int)).toNat (48 + (x / 100) / 10)) j = f j := fun j hj => by simp only [zset, Int.toNat_natCast]; (repeat rw [if_neg (by omega)])
          have hg2 : ∀ j, j < 4 → (zset (zset (zset (zset f (((c + 3 : Nat) : Int)).toNat (48 + (x % 100) % 10)) (((c + 2 : Nat) : Int)).toNat (48 + (x % 100) / 10)) (((c + 1 : Nat) : Int)).toNat (48 + (x / 100) % 10)) (((c + 0 : Nat) : Int)).toNat (48 + (x / 100) / 10)) (c + j) = (dgs x).getD j 0 := fun j hj => by rw [hdg]; rcases (show j = 0 ∨ j = 1 ∨ j = 2 ∨ j = 3 by omega) with rfl | rfl | rfl | rfl <;> simp [zset] <;> omega
          have hg3 : ∀ j, j < cap → -128 ≤ (zset (zset (zset (zset f (((c + 3 : Nat) : Int)).toNat (48 + (x % 100) % 10)) (((c + 2 : Nat) : Int)).toNat (48 + (x % 100) / 10)) (((c + 1 : Nat) : Int)).toNat (48 + (x / 100) % 10)) (((c + 0 : Nat) : Int)).toNat (48 + (x / 100) / 10)) j ∧ (zset (zset (zset (zset f (((c + 3 : Nat) : Int)).toNat (48 + (x % 100) % 10)) (((c + 2 : Nat) : Int)).toNat (48 + (x % 100) / 10)) (((c + 1 : Nat) : Int)).toNat (48 + (x / 100) % 10)) (((c + 0 : Nat) : Int)).toNat (48 + (x / 100) / 10)) j < 128 := fun j hj => by simp only [zset]; have h_ := hf j hj; (repeat' split) <;> omega
          exact h_ireturn hx hb hlk hret hR hL rfl ⟨by omega, _, hq_13, hg1, hg2, hg3⟩ (by omega) (by omega) rfl rfl dJ17_getChars_120
      ·
        exact absurd c_i1 (by omega)
  ·
    exact absurd c_s (by omega)

set_option maxHeartbeats 4000000 in
set_option maxRecDepth 100000 in
/-- Integer.getChars -/
theorem in_gc5 (l : Launch) (G : Gl) (w : Wd) (x : Int) (hxr : 10000 ≤ x ∧ x < 100000) (c rd arr cap : Nat) (f : Nat → Int) (hD : w arr = some (rd, iE G 1 cap f)) (hrd : rd ≠ 0) (hcap : cap < 100000) (hi : c + 5 ≤ cap) (hf : ∀ i, i < cap → -128 ≤ f i ∧ f i < 128) : HM l yJ17_getChars cJ17_getChars 7 (some .int) 1 0 0 G [.int (iI (x)), .int (iI (((c + 5 : Nat) : Int))), .ref arr] w (QI G (fun z_ w_ => z_ = (c : Int) ∧ ∃ g : Nat → Int, w_ = wset w arr (rd, iE G 1 cap g) ∧ (∀ j, j < c → g j = f j) ∧ (∀ j, j < 5 → g (c + j) = (dgs x).getD j 0) ∧ ∀ j, j < cap → -128 ≤ g j ∧ g j < 128)) := by
  refine HM.mk (by decide +kernel) (Nat.le_of_ble_eq_true rfl) ?_
  intro p9 e9 s9 m9 a9 b9 meth9 c9 ls X hret hlk hnm hl H hR
  have hx := X.1.1
  have hb := X.1.2.1
  have hl : lv_has ls 7 [(0, .int (iI (x))), (1, .int (iI (((c + 5 : Nat) : Int)))), (2, .ref arr)] := hl
  have hL : LK G [] := fun q h => absurd h List.not_mem_nil
  generalize ([] : List Loc) = locs at hL ⊢
  have hT1 : w (gC G 75) = some (0, iE G 1 100 (fun j => if j < 100 then ((48 + j % 10 : Nat) : Int) else 0)) := hR.con ((X.2.2.2.2.2.2 75 (by decide)).trans rfl)
  have hT2 : w (gC G 74) = some (0, iE G 1 100 (fun j => if j < 100 then ((48 + j / 10 : Nat) : Int) else 0)) := hR.con ((X.2.2.2.2.2.2 74 (by decide)).trans rfl)
  have ne_gC_G_75_arr : gC G 75 ≠ arr := w_neR hT1 hD (by omega)
  have ne_gC_G_74_arr : gC G 74 ≠ arr := w_neR hT2 hD (by omega)
  refine lv_iload_n hx hb dJ17_getChars_0 rfl (lv_at hl 1 rfl) ?_
  refine lv_istore (lv' := [(5, .int (iI (((c + 5 : Nat) : Int)))), (0, .int (iI (x))), (1, .int (iI (((c + 5 : Nat) : Int)))), (2, .ref arr)]) hx hb dJ17_getChars_1 hl (by decide) rfl (fun ls hl => ?_)
  refine lv_iload_n hx hb dJ17_getChars_3 rfl (lv_at hl 1 rfl) ?_
  refine h_if_ge hx hb 11 dJ17_getChars_4 (by decide) (by omega) (fun c_s => ?_) (fun c_s => ?_)
  ·
    refine h_iconst hx hb dJ17_getChars_11 ?_
    refine lv_istore (lv' := [(6, .int (iI (0))), (5, .int (iI (((c + 5 : Nat) : Int)))), (0, .int (iI (x))), (1, .int (iI (((c + 5 : Nat) : Int)))), (2, .ref arr)]) hx hb dJ17_getChars_12 hl (by decide) rfl (fun ls hl => ?_)
    refine lv_iload hx hb dJ17_getChars_14 (lv_at hl 0 rfl) ?_
    refine h_if_ne hx hb 22 dJ17_getChars_16 (by decide) (by decide) (fun z_ => absurd z_ (by decide)) (fun _ => ?_)
    refine lv_iload_n hx hb dJ17_getChars_19 rfl (lv_at hl 2 rfl) ?_
    refine h_ineg hx hb dJ17_getChars_20 ?_
    refine lv_istore_n (lv' := [(0, .int (iI (-x))), (6, .int (iI (0))), (5, .int (iI (((c + 5 : Nat) : Int)))), (1, .int (iI (((c + 5 : Nat) : Int)))), (2, .ref arr)]) hx hb dJ17_getChars_21 rfl hl (by decide) rfl (fun ls hl => ?_)
    refine lv_iload_n hx hb dJ17_getChars_22 rfl (lv_at hl 0 rfl) ?_
    refine h_bipush hx hb dJ17_getChars_23 (by decide) ?_
    refine h_icmp_gt hx hb 72 dJ17_getChars_25 (by decide) (by omega) (by omega) (fun c_i0 => ?_) (fun c_i0 => ?_)
    ·
      exact absurd c_i0 (by omega)
    ·
      refine lv_iload_n hx hb dJ17_getChars_28 rfl (lv_at hl 0 rfl) ?_
      refine h_bipush hx hb dJ17_getChars_29 (by decide) ?_
      refine h_idivN hx hb dJ17_getChars_31 ⟨by omega, by omega⟩ (by decide) ?_
      refine lv_istore_n (lv' := [(3, .int (iI (-(x / 100)))), (0, .int (iI (-x))), (6, .int (iI (0))), (5, .int (iI (((c + 5 : Nat) : Int)))), (1, .int (iI (((c + 5 : Nat) : Int)))), (2, .ref arr)]) hx hb dJ17_getChars_32 rfl hl (by decide) rfl (fun ls hl => ?_)
      refine lv_iload_n hx hb dJ17_getChars_33 rfl (lv_at hl 0 rfl) ?_
      refine h_bipush hx hb dJ17_getChars_34 (by decide) ?_
      refine h_imul hx hb dJ17_getChars_36 ?_
      refine lv_iload_n hx hb dJ17_getChars_37 rfl (lv_at hl 1 rfl) ?_
      refine h_isub hx hb dJ17_getChars_38 ?_
      refine W.eq (g2 := F0 m9 39 ls [.int (iI (x % 100))]) (congrArg (fun z_ : Int => F0 m9 39 ls [.int (iI (z_))]) (show (((-(x / 100)) * 100) - (-x) : Int) = x % 100 from (by omega))) ?_
      refine lv_istore (lv' := [(4, .int (iI (x % 100))), (3, .int (iI (-(x / 100)))), (0, .int (iI (-x))), (6, .int (iI (0))), (5, .int (iI (((c + 5 : Nat) : Int)))), (1, .int (iI (((c + 5 : Nat) : Int)))), (2, .ref arr)]) hx hb dJ17_getChars_39 hl (by decide) rfl (fun ls hl => ?_)
      refine lv_iload_n hx hb dJ17_getChars_41 rfl (lv_at hl 1 rfl) ?_
      refine lv_istore_n (lv' := [(0, .int (iI (-(x / 100)))), (4, .int (iI (x % 100))), (3, .int (iI (-(x / 100)))), (6, .int (iI (0))), (5, .int (iI (((c + 5 : Nat) : Int)))), (1, .int (iI (((c + 5 : Nat) : Int)))), (2, .ref arr)]) hx hb dJ17_getChars_42 rfl hl (by decide) rfl (fun ls hl => ?_)
      refine lv_aload_n hx hb dJ17_getChars_43 rfl (lv_at hl 6 rfl) ?_
      refine h_iinc (lv' := [(5, .int (iI (((c + 5 : Nat) : Int) + (-1)))), (0, .int (iI (-(x / 100)))), (4, .int (iI (x % 100))), (3, .int (iI (-(x / 100)))), (6, .int (iI (0))), (1, .int (iI (((c + 5 : Nat) : Int)))), (2, .ref arr)]) hx hb dJ17_getChars_44 hl (k := 4) rfl (by decide) rfl (fun ls hl => ?_)
      have hl : lv_has ls 7 [(5, .int (iI (((c + 4 : Nat) : Int)))), (0, .int (iI (-(x / 100)))), (4, .int (iI (x % 100))), (3, .int (iI (-(x / 100)))), (6, .int (iI (0))), (1, .int (iI (((c + 5 : Nat) : Int)))), (2, .ref arr)] := lv_conv hl (congrArg (fun z_ : Int => ([(5, .int (iI (z_))), (0, .int (iI (-(x / 100)))), (4, .int (iI (x % 100))), (3, .int (iI (-(x / 100)))), (6, .int (iI (0))), (1, .int (iI (((c + 5 : Nat) : Int)))), (2, .ref arr)] : List (Nat × Value))) (show (((c + 5 : Nat) : Int) + (-1) : Int) = ((c + 4 : Nat) : Int) from (by omega)))
      refine lv_iload hx hb dJ17_getChars_47 (lv_at hl 0 rfl) ?_
      refine h_getsR X hR 75 (by decide) q429 q141 q428 dJ17_getChars_49 ?_
      refine lv_iload hx hb dJ17_getChars_52 (lv_at hl 2 rfl) ?_
      refine h_bald X hR hT1 (by omega) (by omega) dJ17_getChars_54 ?_
      refine W.eq (g2 := F0 m9 55 ls [.int (iI (48 + (x % 100) % 10)), .int (iI (((c + 4 : Nat) : Int))), .ref arr]) (congrArg (fun z_ : Int => F0 m9 55 ls [.int (iI (z_)), .int (iI (((c + 4 : Nat) : Int))), .ref arr]) (show ((fun j => if j < 100 then ((48 + j % 10 : Nat) : Int) else 0) (x % 100).toNat : Int) = 48 + (x % 100) % 10 from (by show (if _ then _ else _ : Int) = _; rw [if_pos (by omega)]; omega))) ?_
      refine h_bast X hR hL hD hrd (by omega) (by omega) (by omega) dJ17_getChars_55 (fun w_2 ew_3 H locs hR hL => ?_)
      have hF_arr_w_2 : w_2 arr = some (rd, iE G 1 cap (zset f (((c + 4 : Nat) : Int)).toNat (48 + (x % 100) % 10))) := by rw [ew_3]; exact wset_eq _ _ _
      have hF_gC_G_75_w_2 : w_2 (gC G 75) = some (0, iE G 1 100 (fun j => if j < 100 then ((48 + j % 10 : Nat) : Int) else 0)) := by rw [ew_3]; exact (wset_ne _ ne_gC_G_75_arr).trans hT1
      have hF_gC_G_74_w_2 : w_2 (gC G 74) = some (0, iE G 1 100 (fun j => if j < 100 then ((48 + j / 10 : Nat) : Int) else 0)) := by rw [ew_3]; exact (wset_ne _ ne_gC_G_74_arr).trans hT2
      have hq_4 : w_2 = wset w arr (rd, iE G 1 cap (zset f (((c + 4 : Nat) : Int)).toNat (48 + (x % 100) % 10))) := by rw [ew_3]
      refine lv_aload_n hx hb dJ17_getChars_56 rfl (lv_at hl 6 rfl) ?_
      refine h_iinc (lv' := [(5, .int (iI (((c + 4 : Nat) : Int) + (-1)))), (0, .int (iI (-(x / 100)))), (4, .int (iI (x % 100))), (3, .int (iI (-(x / 100)))), (6, .int (iI (0))), (1, .int (iI (((c + 5 : Nat) : Int)))), (2, .ref arr)]) hx hb dJ17_getChars_57 hl (k := 0) rfl (by decide) rfl (fun ls hl => ?_)
      have hl : lv_has ls 7 [(5, .int (iI (((c + 3 : Nat) : Int)))), (0, .int (iI (-(x / 100)))), (4, .int (iI (x % 100))), (3, .int (iI (-(x / 100)))), (6, .int (iI (0))), (1, .int (iI (((c + 5 : Nat) : Int)))), (2, .ref arr)] := lv_conv hl (congrArg (fun z_ : Int => ([(5, .int (iI (z_))), (0, .int (iI (-(x / 100)))), (4, .int (iI (x % 100))), (3, .int (iI (-(x / 100)))), (6, .int (iI (0))), (1, .int (iI (((c + 5 : Nat) : Int)))), (2, .ref arr)] : List (Nat × Value))) (show (((c + 4 : Nat) : Int) + (-1) : Int) = ((c + 3 : Nat) : Int) from (by omega)))
      refine lv_iload hx hb dJ17_getChars_60 (lv_at hl 0 rfl) ?_
      refine h_getsR X hR 74 (by decide) q431 q141 q430 dJ17_getChars_62 ?_
      refine lv_iload hx hb dJ17_getChars_65 (lv_at hl 2 rfl) ?_
      refine h_bald X hR hF_gC_G_74_w_2 (by omega) (by omega) dJ17_getChars_67 ?_
      refine W.eq (g2 := F0 m9 68 ls [.int (iI (48 + (x % 100) / 10)), .int (iI (((c + 3 : Nat) : Int))), .ref arr]) (congrArg (fun z_ : Int => F0 m9 68 ls [.int (iI (z_)), .int (iI (((c + 3 : Nat) : Int))), .ref arr]) (show ((fun j => if j < 100 then ((48 + j / 10 : Nat) : Int) else 0) (x % 100).toNat : Int) = 48 + (x % 100) / 10 from (by show (if _ then _ else _ : Int) = _; rw [if_pos (by omega)]; omega))) ?_
      refine h_bast X hR hL hF_arr_w_2 hrd (by omega) (by omega) (by omega) dJ17_getChars_68 (fun w_5 ew_6 H locs hR hL => ?_)
      have hF_arr_w_5 : w_5 arr = some (rd, iE G 1 cap (zset (zset f (((c + 4 : Nat) : Int)).toNat (48 + (x % 100) % 10)) (((c + 3 : Nat) : Int)).toNat (48 + (x % 100) / 10))) := by rw [ew_6]; exact wset_eq _ _ _
      have hF_gC_G_75_w_5 : w_5 (gC G 75) = some (0, iE G 1 100 (fun j => if j < 100 then ((48 + j % 10 : Nat) : Int) else 0)) := by rw [ew_6]; exact (wset_ne _ ne_gC_G_75_arr).trans hF_gC_G_75_w_2
      have hF_gC_G_74_w_5 : w_5 (gC G 74) = some (0, iE G 1 100 (fun j => if j < 100 then ((48 + j / 10 : Nat) : Int) else 0)) := by rw [ew_6]; exact (wset_ne _ ne_gC_G_74_arr).trans hF_gC_G_74_w_2
      have hq_7 : w_5 = wset w arr (rd, iE G 1 cap (zset (zset f (((c + 4 : Nat) : Int)).toNat (48 + (x % 100) % 10)) (((c + 3 : Nat) : Int)).toNat (48 + (x % 100) / 10))) := by rw [ew_6, hq_4, wset_ww]
      refine lv_goto (tgt := 22) hx hb dJ17_getChars_69 (by decide) ?_
      refine lv_iload_n hx hb dJ17_getChars_22 rfl (lv_at hl 1 rfl) ?_
      refine h_bipush hx hb dJ17_getChars_23 (by decide) ?_
      refine h_icmp_gt hx hb 72 dJ17_getChars_25 (by decide) (by omega) (by omega) (fun c_i1 => ?_) (fun c_i1 => ?_)
      ·
        exact absurd c_i1 (by omega)
      ·
        refine lv_iload_n hx hb dJ17_getChars_28 rfl (lv_at hl 1 rfl) ?_
        refine h_bipush hx hb dJ17_getChars_29 (by decide) ?_
        refine h_idivN hx hb dJ17_getChars_31 ⟨by omega, by omega⟩ (by decide) ?_
        refine W.eq (g2 := F0 m9 32 ls [.int (iI (-(x / 10000)))]) (congrArg (fun z_ : Int => F0 m9 32 ls [.int (iI (z_))]) (show (-((x / 100) / 100) : Int) = -(x / 10000) from (by omega))) ?_
        refine lv_istore_n (lv' := [(3, .int (iI (-(x / 10000)))), (5, .int (iI (((c + 3 : Nat) : Int)))), (0, .int (iI (-(x / 100)))), (4, .int (iI (x % 100))), (6, .int (iI (0))), (1, .int (iI (((c + 5 : Nat) : Int)))), (2, .ref arr)]) hx hb dJ17_getChars_32 rfl hl (by decide) rfl (fun ls hl => ?_)
        refine lv_iload_n hx hb dJ17_getChars_33 rfl (lv_at hl 0 rfl) ?_
        refine h_bipush hx hb dJ17_getChars_34 (by decide) ?_
        refine h_imul hx hb dJ17_getChars_36 ?_
        refine lv_iload_n hx hb dJ17_getChars_37 rfl (lv_at hl 2 rfl) ?_
        refine h_isub hx hb dJ17_getChars_38 ?_
        refine W.eq (g2 := F0 m9 39 ls [.int (iI ((x / 100) % 100))]) (congrArg (fun z_ : Int => F0 m9 39 ls [.int (iI (z_))]) (show (((-(x / 10000)) * 100) - (-(x / 100)) : Int) = (x / 100) % 100 from (by omega))) ?_
        refine lv_istore (lv' := [(4, .int (iI ((x / 100) % 100))), (3, .int (iI (-(x / 10000)))), (5, .int (iI (((c + 3 : Nat) : Int)))), (0, .int (iI (-(x / 100)))), (6, .int (iI (0))), (1, .int (iI (((c + 5 : Nat) : Int)))), (2, .ref arr)]) hx hb dJ17_getChars_39 hl (by decide) rfl (fun ls hl => ?_)
        refine lv_iload_n hx hb dJ17_getChars_41 rfl (lv_at hl 1 rfl) ?_
        refine lv_istore_n (lv' := [(0, .int (iI (-(x / 10000)))), (4, .int (iI ((x / 100) % 100))), (3, .int (iI (-(x / 10000)))), (5, .int (iI (((c + 3 : Nat) : Int)))), (6, .int (iI (0))), (1, .int (iI (((c + 5 : Nat) : Int)))), (2, .ref arr)]) hx hb dJ17_getChars_42 rfl hl (by decide) rfl (fun ls hl => ?_)
        refine lv_aload_n hx hb dJ17_getChars_43 rfl (lv_at hl 6 rfl) ?_
        refine h_iinc (lv' := [(5, .int (iI (((c + 3 : Nat) : Int) + (-1)))), (0, .int (iI (-(x / 10000)))), (4, .int (iI ((x / 100) % 100))), (3, .int (iI (-(x / 10000)))), (6, .int (iI (0))), (1, .int (iI (((c + 5 : Nat) : Int)))), (2, .ref arr)]) hx hb dJ17_getChars_44 hl (k := 3) rfl (by decide) rfl (fun ls hl => ?_)
        have hl : lv_has ls 7 [(5, .int (iI (((c + 2 : Nat) : Int)))), (0, .int (iI (-(x / 10000)))), (4, .int (iI ((x / 100) % 100))), (3, .int (iI (-(x / 10000)))), (6, .int (iI (0))), (1, .int (iI (((c + 5 : Nat) : Int)))), (2, .ref arr)] := lv_conv hl (congrArg (fun z_ : Int => ([(5, .int (iI (z_))), (0, .int (iI (-(x / 10000)))), (4, .int (iI ((x / 100) % 100))), (3, .int (iI (-(x / 10000)))), (6, .int (iI (0))), (1, .int (iI (((c + 5 : Nat) : Int)))), (2, .ref arr)] : List (Nat × Value))) (show (((c + 3 : Nat) : Int) + (-1) : Int) = ((c + 2 : Nat) : Int) from (by omega)))
        refine lv_iload hx hb dJ17_getChars_47 (lv_at hl 0 rfl) ?_
        refine h_getsR X hR 75 (by decide) q429 q141 q428 dJ17_getChars_49 ?_
        refine lv_iload hx hb dJ17_getChars_52 (lv_at hl 2 rfl) ?_
        refine h_bald X hR hF_gC_G_75_w_5 (by omega) (by omega) dJ17_getChars_54 ?_
        refine W.eq (g2 := F0 m9 55 ls [.int (iI (48 + ((x / 100) % 100) % 10)), .int (iI (((c + 2 : Nat) : Int))), .ref arr]) (congrArg (fun z_ : Int => F0 m9 55 ls [.int (iI (z_)), .int (iI (((c + 2 : Nat) : Int))), .ref arr]) (show ((fun j => if j < 100 then ((48 + j % 10 : Nat) : Int) else 0) ((x / 100) % 100).toNat : Int) = 48 + ((x / 100) % 100) % 10 from (by show (if _ then _ else _ : Int) = _; rw [if_pos (by omega)]; omega))) ?_
        refine h_bast X hR hL hF_arr_w_5 hrd (by omega) (by omega) (by omega) dJ17_getChars_55 (fun w_8 ew_9 H locs hR hL => ?_)
        have hF_arr_w_8 : w_8 arr = some (rd, iE G 1 cap (zset (zset (zset f (((c + 4 : Nat) : Int)).toNat (48 + (x % 100) % 10)) (((c + 3 : Nat) : Int)).toNat (48 + (x % 100) / 10)) (((c + 2 : Nat) : Int)).toNat (48 + ((x / 100) % 100) % 10))) := by rw [ew_9]; exact wset_eq _ _ _
        have hF_gC_G_75_w_8 : w_8 (gC G 75) = some (0, iE G 1 100 (fun j => if j < 100 then ((48 + j % 10 : Nat) : Int) else 0)) := by rw [ew_9]; exact (wset_ne _ ne_gC_G_75_arr).trans hF_gC_G_75_w_5
        have hF_gC_G_74_w_8 : w_8 (gC G 74) = some (0, iE G 1 100 (fun j => if j < 100 then ((48 + j / 10 : Nat) : Int) else 0)) := by rw [ew_9]; exact (wset_ne _ ne_gC_G_74_arr).trans hF_gC_G_74_w_5
        have hq_10 : w_8 = wset w arr (rd, iE G 1 cap (zset (zset (zset f (((c + 4 : Nat) : Int)).toNat (48 + (x % 100) % 10)) (((c + 3 : Nat) : Int)).toNat (48 + (x % 100) / 10)) (((c + 2 : Nat) : Int)).toNat (48 + ((x / 100) % 100) % 10))) := by rw [ew_9, hq_7, wset_ww]
        refine lv_aload_n hx hb dJ17_getChars_56 rfl (lv_at hl 6 rfl) ?_
        refine h_iinc (lv' := [(5, .int (iI (((c + 2 : Nat) : Int) + (-1)))), (0, .int (iI (-(x / 10000)))), (4, .int (iI ((x / 100) % 100))), (3, .int (iI (-(x / 10000)))), (6, .int (iI (0))), (1, .int (iI (((c + 5 : Nat) : Int)))), (2, .ref arr)]) hx hb dJ17_getChars_57 hl (k := 0) rfl (by decide) rfl (fun ls hl => ?_)
        have hl : lv_has ls 7 [(5, .int (iI (((c + 1 : Nat) : Int)))), (0, .int (iI (-(x / 10000)))), (4, .int (iI ((x / 100) % 100))), (3, .int (iI (-(x / 10000)))), (6, .int (iI (0))), (1, .int (iI (((c + 5 : Nat) : Int)))), (2, .ref arr)] := lv_conv hl (congrArg (fun z_ : Int => ([(5, .int (iI (z_))), (0, .int (iI (-(x / 10000)))), (4, .int (iI ((x / 100) % 100))), (3, .int (iI (-(x / 10000)))), (6, .int (iI (0))), (1, .int (iI (((c + 5 : Nat) : Int)))), (2, .ref arr)] : List (Nat × Value))) (show (((c + 2 : Nat) : Int) + (-1) : Int) = ((c + 1 : Nat) : Int) from (by omega)))
        refine lv_iload hx hb dJ17_getChars_60 (lv_at hl 0 rfl) ?_
        refine h_getsR X hR 74 (by decide) q431 q141 q430 dJ17_getChars_62 ?_
        refine lv_iload hx hb dJ17_getChars_65 (lv_at hl 2 rfl) ?_
        refine h_bald X hR hF_gC_G_74_w_8 (by omega) (by omega) dJ17_getChars_67 ?_
        refine W.eq (g2 := F0 m9 68 ls [.int (iI (48 + ((x / 100) % 100) / 10)), .int (iI (((c + 1 : Nat) : Int))), .ref arr]) (congrArg (fun z_ : Int => F0 m9 68 ls [.int (iI (z_)), .int (iI (((c + 1 : Nat) : Int))), .ref arr]) (show ((fun j => if j < 100 then ((48 + j / 10 : Nat) : Int) else 0) ((x / 100) % 100).toNat : Int) = 48 + ((x / 100) % 100) / 10 from (by show (if _ then _ else _ : Int) = _; rw [if_pos (by omega)]; omega))) ?_
        refine h_bast X hR hL hF_arr_w_8 hrd (by omega) (by omega) (by omega) dJ17_getChars_68 (fun w_11 ew_12 H locs hR hL => ?_)
        have hF_arr_w_11 : w_11 arr = some (rd, iE G 1 cap (zset (zset (zset (zset f (((c + 4 : Nat) : Int)).toNat (48 + (x % 100) % 10)) (((c + 3 : Nat) : Int)).toNat (48 + (x % 100) / 10)) (((c + 2 : Nat) : Int)).toNat (48 + ((x / 100) % 100) % 10)) (((c + 1 : Nat) : Int)).toNat (48 + ((x / 100) % 100) / 10))) := by rw [ew_12]; exact wset_eq _ _ _
        have hF_gC_G_75_w_11 : w_11 (gC G 75) = some (0, iE G 1 100 (fun j => if j < 100 then ((48 + j % 10 : Nat) : Int) else 0)) := by rw [ew_12]; exact (wset_ne _ ne_gC_G_75_arr).trans hF_gC_G_75_w_8
        have hF_gC_G_74_w_11 : w_11 (gC G 74) = some (0, iE G 1 100 (fun j => if j < 100 then ((48 + j / 10 : Nat) : Int) else 0)) := by rw [ew_12]; exact (wset_ne _ ne_gC_G_74_arr).trans hF_gC_G_74_w_8
        have hq_13 : w_11 = wset w arr (rd, iE G 1 cap (zset (zset (zset (zset f (((c + 4 : Nat) : Int)).toNat (48 + (x % 100) % 10)) (((c + 3 : Nat) : Int)).toNat (48 + (x % 100) / 10)) (((c + 2 : Nat) : Int)).toNat (48 + ((x / 100) % 100) % 10)) (((c + 1 : Nat) : Int)).toNat (48 + ((x / 100) % 100) / 10))) := by rw [ew_12, hq_10, wset_ww]
        refine lv_goto (tgt := 22) hx hb dJ17_getChars_69 (by decide) ?_
        refine lv_iload_n hx hb dJ17_getChars_22 rfl (lv_at hl 1 rfl) ?_
        refine h_bipush hx hb dJ17_getChars_23 (by decide) ?_
        refine h_icmp_gt hx hb 72 dJ17_getChars_25 (by decide) (by omega) (by omega) (fun c_i2 => ?_) (fun c_i2 => ?_)
        ·
          refine lv_aload_n hx hb dJ17_getChars_72 rfl (lv_at hl 6 rfl) ?_
          refine h_iinc (lv' := [(5, .int (iI (((c + 1 : Nat) : Int) + (-1)))), (0, .int (iI (-(x / 10000)))), (4, .int (iI ((x / 100) % 100))), (3, .int (iI (-(x / 10000)))), (6, .int (iI (0))), (1, .int (iI (((c + 5 : Nat) : Int)))), (2, .ref arr)]) hx hb dJ17_getChars_73 hl (k := 0) rfl (by decide) rfl (fun ls hl => ?_)
          have hl : lv_has ls 7 [(5, .int (iI (((c + 0 : Nat) : Int)))), (0, .int (iI (-(x / 10000)))), (4, .int (iI ((x / 100) % 100))), (3, .int (iI (-(x / 10000)))), (6, .int (iI (0))), (1, .int (iI (((c + 5 : Nat) : Int)))), (2, .ref arr)] := lv_conv hl (congrArg (fun z_ : Int => ([(5, .int (iI (z_))), (0, .int (iI (-(x / 10000)))), (4, .int (iI ((x / 100) % 100))), (3, .int (iI (-(x / 10000)))), (6, .int (iI (0))), (1, .int (iI (((c + 5 : Nat) : Int)))), (2, .ref arr)] : List (Nat × Value))) (show (((c + 1 : Nat) : Int) + (-1) : Int) = ((c + 0 : Nat) : Int) from (by omega)))
          refine lv_iload hx hb dJ17_getChars_76 (lv_at hl 0 rfl) ?_
          refine h_getsR X hR 75 (by decide) q429 q141 q428 dJ17_getChars_78 ?_
          refine lv_iload_n hx hb dJ17_getChars_81 rfl (lv_at hl 1 rfl) ?_
          refine h_ineg hx hb dJ17_getChars_82 ?_
          refine W.eq (g2 := F0 m9 83 ls [.int (iI (x / 10000)), .ref (gC G 75), .int (iI (((c + 0 : Nat) : Int))), .ref arr]) (congrArg (fun z_ : Int => F0 m9 83 ls [.int (iI (z_)), .ref (gC G 75), .int (iI (((c + 0 : Nat) : Int))), .ref arr]) (show (-(-(x / 10000)) : Int) = x / 10000 from (by omega))) ?_
          refine h_bald X hR hF_gC_G_75_w_11 (by omega) (by omega) dJ17_getChars_83 ?_
          refine W.eq (g2 := F0 m9 84 ls [.int (iI (48 + (x / 10000) % 10)), .int (iI (((c + 0 : Nat) : Int))), .ref arr]) (congrArg (fun z_ : Int => F0 m9 84 ls [.int (iI (z_)), .int (iI (((c + 0 : Nat) : Int))), .ref arr]) (show ((fun j => if j < 100 then ((48 + j % 10 : Nat) : Int) else 0) (x / 10000).toNat : Int) = 48 + (x / 10000) % 10 from (by show (if _ then _ else _ : Int) = _; rw [if_pos (by omega)]; omega))) ?_
          refine h_bast X hR hL hF_arr_w_11 hrd (by omega) (by omega) (by omega) dJ17_getChars_84 (fun w_14 ew_15 H locs hR hL => ?_)
          have hF_arr_w_14 : w_14 arr = some (rd, iE G 1 cap (zset (zset (zset (zset (zset f (((c + 4 : Nat) : Int)).toNat (48 + (x % 100) % 10)) (((c + 3 : Nat) : Int)).toNat (48 + (x % 100) / 10)) (((c + 2 : Nat) : Int)).toNat (48 + ((x / 100) % 100) % 10)) (((c + 1 : Nat) : Int)).toNat (48 + ((x / 100) % 100) / 10)) (((c + 0 : Nat) : Int)).toNat (48 + (x / 10000) % 10))) := by rw [ew_15]; exact wset_eq _ _ _
          have hF_gC_G_75_w_14 : w_14 (gC G 75) = some (0, iE G 1 100 (fun j => if j < 100 then ((48 + j % 10 : Nat) : Int) else 0)) := by rw [ew_15]; exact (wset_ne _ ne_gC_G_75_arr).trans hF_gC_G_75_w_11
          have hF_gC_G_74_w_14 : w_14 (gC G 74) = some (0, iE G 1 100 (fun j => if j < 100 then ((48 + j / 10 : Nat) : Int) else 0)) := by rw [ew_15]; exact (wset_ne _ ne_gC_G_74_arr).trans hF_gC_G_74_w_11
          have hq_16 : w_14 = wset w arr (rd, iE G 1 cap (zset (zset (zset (zset (zset f (((c + 4 : Nat) : Int)).toNat (48 + (x % 100) % 10)) (((c + 3 : Nat) : Int)).toNat (48 + (x % 100) / 10)) (((c + 2 : Nat) : Int)).toNat (48 + ((x / 100) % 100) % 10)) (((c + 1 : Nat) : Int)).toNat (48 + ((x / 100) % 100) / 10)) (((c + 0 : Nat) : Int)).toNat (48 + (x / 10000) % 10))) := by rw [ew_15, hq_13, wset_ww]
          refine lv_iload_n hx hb dJ17_getChars_85 rfl (lv_at hl 1 rfl) ?_
          refine h_bipush hx hb dJ17_getChars_86 (by decide) ?_
          refine h_icmp_ge hx hb 104 dJ17_getChars_88 (by decide) (by omega) (by omega) (fun c_n => ?_) (fun c_n => ?_)
          ·
            refine lv_iload hx hb dJ17_getChars_104 (lv_at hl 4 rfl) ?_
            refine h_if_eq hx hb 118 dJ17_getChars_106 (by decide) (by decide) (fun _ => ?_) (fun z_ => absurd z_ (by decide))
            refine lv_iload hx hb dJ17_getChars_118 (lv_at hl 0 rfl) ?_
            have hdg := dgs_5 hxr
            have hg1 : ∀ j, j < c → (zset (zset (zset (zset (zset f (((c + 4 : Nat) : Int)).toNat (48 + (x % 100) % 10)) (((c + 3 : Nat) : Int)).toNat (48 + (x % 100) / 10)) (((c + 2 : Nat) : Int)).toNat (48 + ((x / 100) % 100) % 10)) (((c + 1 : Nat) : Int)).toNat (48 + ((x / 100) % 100) / 10)) (((c + 0 : Nat) : Int)).toNat (48 + (x / 10000) % 10)) j = f j := fun j hj => by simp only [zset, Int.toNat_natCast]; (repeat rw [if_neg (by omega)])
            have hg2 : ∀ j, j < 5 → (zset (zset (zset (zset (zset f (((c + 4 : Nat) : Int)).toNat (48 + (x % 100) % 10)) (((c + 3 : Nat) : Int)).toNat (48 + (x % 100) / 10)) (((c + 2 : Nat) : Int)).toNat (48 + ((x / 100) % 100) % 10)) (((c + 1 : Nat) : Int)).toNat (48 + ((x / 100) % 100) / 10)) (((c + 0 : Nat) : Int)).toNat (48 + (x / 10000) % 10)) (c + j) = (dgs x).getD j 0 := fun j hj => by rw [hdg]; rcases (show j = 0 ∨ j = 1 ∨ j = 2 ∨ j = 3 ∨ j = 4 by omega) with rfl | rfl | rfl | rfl | rfl <;> simp [zset] <;> omega
            have hg3 : ∀ j, j < cap → -128 ≤ (zset (zset (zset (zset (zset f (((c + 4 : Nat) : Int)).toNat (48 + (x % 100) % 10)) (((c + 3 : Nat) : Int)).toNat (48 + (x % 100) / 10)) (((c + 2 : Nat) : Int)).toNat (48 + ((x / 100) % 100) % 10)) (((c + 1 : Nat) : Int)).toNat (48 + ((x / 100) % 100) / 10)) (((c + 0 : Nat) : Int)).toNat (48 + (x / 10000) % 10)) j ∧ (zset (zset (zset (zset (zset f (((c + 4 : Nat) : Int)).toNat (48 + (x % 100) % 10)) (((c + 3 : Nat) : Int)).toNat (48 + (x % 100) / 10)) (((c + 2 : Nat) : Int)).toNat (48 + ((x / 100) % 100) % 10)) (((c + 1 : Nat) : Int)).toNat (48 + ((x / 100) % 100) / 10)) (((c + 0 : Nat) : Int)).toNat (48 + (x / 10000) % 10)) j < 128 := fun j hj => by simp only [zset]; have h_ := hf j hj; (repeat' split) <;> omega
            exact h_ireturn hx hb hlk hret hR hL rfl ⟨by omega, _, hq_16, hg1, hg2, hg3⟩ (by omega) (by omega) rfl rfl dJ17_getChars_120
          ·
            exact absurd c_n (by omega)
        ·
          exact absurd c_i2 (by omega)
  ·
    exact absurd c_s (by omega)

theorem in_gc (l : Launch) (G : Gl) (w : Wd) (x : Int) (hxr : 0 ≤ x ∧ x < 100000) (c rd arr cap : Nat) (f : Nat → Int) (hD : w arr = some (rd, iE G 1 cap f)) (hrd : rd ≠ 0) (hcap : cap < 100000) (hi : c + (dgs x).length ≤ cap) (hf : ∀ i, i < cap → -128 ≤ f i ∧ f i < 128) : HM l yJ17_getChars cJ17_getChars 7 (some .int) 1 0 0 G [.int (iI x), .int (iI ((c + (dgs x).length : Nat) : Int)), .ref arr] w (QI G (fun z_ w_ => z_ = (c : Int) ∧ ∃ g : Nat → Int, w_ = wset w arr (rd, iE G 1 cap g) ∧ (∀ j, j < c → g j = f j) ∧ (∀ j, j < (dgs x).length → g (c + j) = (dgs x).getD j 0) ∧ ∀ j, j < cap → -128 ≤ g j ∧ g j < 128)) := by
  rcases (show (0 ≤ x ∧ x < 10) ∨ (10 ≤ x ∧ x < 100) ∨ (100 ≤ x ∧ x < 1000) ∨ (1000 ≤ x ∧ x < 10000) ∨ (10000 ≤ x ∧ x < 100000) by omega) with q | q | q | q | q
  · have e : (dgs x).length = 1 := by rw [dgs_1 q]; rfl
    rw [e] at hi ⊢
    exact in_gc1 l G w x q c rd arr cap f hD hrd hcap hi hf
  · have e : (dgs x).length = 2 := by rw [dgs_2 q]; rfl
    rw [e] at hi ⊢
    exact in_gc2 l G w x q c rd arr cap f hD hrd hcap hi hf
  · have e : (dgs x).length = 3 := by rw [dgs_3 q]; rfl
    rw [e] at hi ⊢
    exact in_gc3 l G w x q c rd arr cap f hD hrd hcap hi hf
  · have e : (dgs x).length = 4 := by rw [dgs_4 q]; rfl
    rw [e] at hi ⊢
    exact in_gc4 l G w x q c rd arr cap f hD hrd hcap hi hf
  · have e : (dgs x).length = 5 := by rw [dgs_5 q]; rfl
    rw [e] at hi ⊢
    exact in_gc5 l G w x q c rd arr cap f hD hrd hcap hi hf

set_option maxHeartbeats 4000000 in
set_option maxRecDepth 100000 in
/-- AbstractStringBuilder.append -/
theorem sb_api (l : Launch) (G : Gl) (w : Wd) (r a cap : Nat) (C : List Int) (hA : SbAt G w r a cap C) (hG : RegW w) (hr : r ≠ 0) (x : Int) (hxr : 0 ≤ x ∧ x < 100000) (hsz : C.length < 3000) : HM l yJ8_append_2 cJ8_append_2 4 (some (.object "java/lang/AbstractStringBuilder")) 4 1 ((2 * (C.length + (dgs x).length) + 2)) G [.ref a, .int (iI (x))] w (QR G (fun z_ w_ => z_ = a ∧ (∃ cap2, SbAt G w_ r a cap2 (C ++ dgs x) ∧ cap2 ≤ max cap (2 * (C.length + (dgs x).length) + 2)) ∧ Up (fun q_ => q_ = r) w w_)) := by
  refine HM.mk (by decide +kernel) (Nat.le_of_ble_eq_true rfl) ?_
  intro p9 e9 s9 m9 a9 b9 meth9 c9 ls X hret hlk hnm hl H hR
  have hx := X.1.1
  have hb := X.1.2.1
  have hl : lv_has ls 4 [(0, .ref a), (1, .int (iI (x)))] := hl
  have hL : LK G [] := fun q h => absurd h List.not_mem_nil
  generalize ([] : List Loc) = locs at hL ⊢
  have hU : Up (fun q_ => q_ = r) w w := Up.rf hG
  have hA0 := hA
  obtain ⟨arr, f, hA1, hA2, hA3, hA4, hA5, hA6, hf⟩ := hA
  have hdl := dgs_len hxr
  refine lv_aload_n hx hb dJ8_append_2_0 rfl (lv_at hl 0 rfl) ?_
  refine h_get X hR hA1 rfl in_J9 3 (by decide) q284 rfl dJ8_append_2_1 ?_
  refine lv_istore_n (lv' := [(2, .int (iI ((C.length : Int)))), (0, .ref a), (1, .int (iI (x)))]) hx hb dJ8_append_2_4 rfl hl (by decide) rfl (fun ls hl => ?_)
  refine lv_iload_n hx hb dJ8_append_2_5 rfl (lv_at hl 0 rfl) ?_
  refine lv_iload_n hx hb dJ8_append_2_6 rfl (lv_at hl 2 rfl) ?_
  -- call java/lang/Integer.stringSize
  refine h_kIp (h_runS X hR (in_size l G w x hxr) pn_yJ17_stringSize q422 q423 q141 q424 ⟨by decide, by decide⟩ hl.1 (Nat.le_of_ble_eq_true rfl) dJ8_append_2_7 ⟨by omega, by omega⟩) hL (fun H locs hR hL => ?_)
  refine h_iadd hx hb dJ8_append_2_10 ?_
  refine W.eq (g2 := F0 m9 11 ls [.int (iI (((C.length + (dgs x).length : Nat) : Int)))]) (congrArg (fun z_ : Int => F0 m9 11 ls [.int (iI (z_))]) (show ((C.length : Int) + (((dgs x).length : Int)) : Int) = ((C.length + (dgs x).length : Nat) : Int) from (by omega))) ?_
  refine lv_istore_n (lv' := [(3, .int (iI (((C.length + (dgs x).length : Nat) : Int)))), (2, .int (iI ((C.length : Int)))), (0, .ref a), (1, .int (iI (x)))]) hx hb dJ8_append_2_11 rfl hl (by decide) rfl (fun ls hl => ?_)
  refine lv_aload_n hx hb dJ8_append_2_12 rfl (lv_at hl 2 rfl) ?_
  refine lv_iload_n hx hb dJ8_append_2_13 rfl (lv_at hl 0 rfl) ?_
  -- call java/lang/AbstractStringBuilder.ensureCapacityInternal
  refine h_kV (h_runU (x := ⟨"java/lang/AbstractStringBuilder", "ensureCapacityInternal", "(I)V"⟩) (owner := "java/lang/AbstractStringBuilder") X hR (sb_ens l G w r a arr cap f C.length hA1 hA2 (by omega) hU.2.2.1 hr hf (C.length + (dgs x).length) (by omega)) (by decide) pn_yJ8_ensureCapacityInternal (hasC.of hA1 rfl) q306 q3377 (h_declC X q308 q309) (h_selP2 X hR q308 q3377 q307 (by decide) (hasC.of hA1 rfl)) q308 q130 q309 ⟨by decide, by decide⟩ hl.1 (Nat.le_of_ble_eq_true rfl) dJ8_append_2_14 ⟨by omega, by omega⟩) hL (fun w_5 hp_6 H locs hR hL => ?_)
  obtain ⟨⟨arr_8, cap_9, g_10, hA_11, hA_12, hce1, hce2, hce3, hge, hgr⟩, u_7⟩ := hp_6
  have hU : Up (fun q_ => q_ = r) w w_5 := hU.tr u_7 (fun q_ h_ => by first | exact absurd h_ id | exact Or.inl h_ | ((try dsimp only at h_); first | exact Or.inl (by omega) | exact Or.inr ⟨by omega, by subst h_; rw [Nat.add_sub_cancel]; assumption⟩)) hG
  refine lv_aload_n hx hb dJ8_append_2_17 rfl (lv_at hl 2 rfl) ?_
  -- call java/lang/AbstractStringBuilder.isLatin1
  refine h_kIp (h_runU (x := ⟨"java/lang/AbstractStringBuilder", "isLatin1", "()Z"⟩) (owner := "java/lang/AbstractStringBuilder") X hR (sb_isL l G w_5 r a arr_8 cap_9 g_10 C.length hA_11 hA_12 (by omega)) (by decide) pn_yJ8_isLatin1 (hasC.of hA_11 rfl) q341 q343 (h_declC X q342 q345) (X.1.2.2.2.2 _ q344) q342 q130 q345 ⟨by decide, by decide⟩ hl.1 (Nat.le_of_ble_eq_true rfl) dJ8_append_2_18 ⟨by omega, by omega⟩) hL (fun H locs hR hL => ?_)
  refine h_if_eq hx hb 37 dJ8_append_2_21 (by decide) (by decide) (fun z_ => absurd z_ (by decide)) (fun _ => ?_)
  refine lv_iload_n hx hb dJ8_append_2_24 rfl (lv_at hl 3 rfl) ?_
  refine lv_iload_n hx hb dJ8_append_2_25 rfl (lv_at hl 0 rfl) ?_
  refine lv_aload_n hx hb dJ8_append_2_26 rfl (lv_at hl 2 rfl) ?_
  refine h_get X hR hA_11 rfl in_J9 0 (by decide) q281 rfl dJ8_append_2_27 ?_
  -- call java/lang/Integer.getChars
  refine h_kI (h_runS X hR (in_gc l G w_5 x hxr C.length r arr_8 cap_9 g_10 hA_12 hr (by omega) (by omega) hgr) pn_yJ17_getChars q425 q426 q141 q427 ⟨by decide, by decide⟩ hl.1 (Nat.le_of_ble_eq_true rfl) dJ8_append_2_30 ⟨by omega, by omega⟩) hL (fun z_17 w_18 hp_19 H locs hR hL => ?_)
  obtain ⟨rfl, g_20, hq_21, hg1_22, hg2_23, hg3_24⟩ := hp_19
  have hU : Up (fun q_ => q_ = r) w w_18 := by rw [hq_21]; exact hU.set hA_12 (by first | exact Or.inl rfl | exact Or.inl (by omega) | exact Or.inr ⟨Nat.succ_ne_zero _, by rw [Nat.add_sub_cancel]; assumption⟩ | exact Or.inr ⟨by omega, by assumption⟩) hG _
  have hF_arr_8_w_18 : w_18 arr_8 = some (r, iE G 1 cap_9 g_20) := by rw [hq_21]; exact wset_eq _ _ _
  have hF_a_w_18 : w_18 a = some (r, oE 20 [.ref arr_8, .int (iI (0)), .int (iI (0)), .int (iI ((C.length : Int)))]) := by rw [hq_21]; exact (wset_ne _ (by first | exact ne_a_arr_8 | exact Ne.symm ne_arr_8_a | exact w_neR hA_11 hA_12 (by omega) | exact w_ne hA_11 hA_12 (by intro h; cases h))).trans hA_11
  refine lv_pop hx hb dJ8_append_2_33 rfl ?_
  refine lv_goto (tgt := 48) hx hb dJ8_append_2_34 (by decide) ?_
  refine lv_aload_n hx hb dJ8_append_2_48 rfl (lv_at hl 2 rfl) ?_
  refine lv_iload_n hx hb dJ8_append_2_49 rfl (lv_at hl 0 rfl) ?_
  refine h_put X hR hL hF_a_w_18 hr rfl in_J9 tyJ9_ok nmJ9 3 (by decide) q284 rfl rfl rfl (Nat.le_of_ble_eq_true rfl) dJ8_append_2_50 (fun w_25 ew_26 H locs hR hL => ?_)
  have hU : Up (fun q_ => q_ = r) w w_25 := by rw [ew_26]; exact hU.set hF_a_w_18 (by first | exact Or.inl rfl | exact Or.inl (by omega) | exact Or.inr ⟨Nat.succ_ne_zero _, by rw [Nat.add_sub_cancel]; assumption⟩ | exact Or.inr ⟨by omega, by assumption⟩) hG _
  have hF_a_w_25 : w_25 a = some (r, oE 20 [.ref arr_8, .int (iI (0)), .int (iI (0)), .int (iI (((C.length + (dgs x).length : Nat) : Int)))]) := by rw [ew_26]; exact wset_eq _ _ _
  have hF_arr_8_w_25 : w_25 arr_8 = some (r, iE G 1 cap_9 g_20) := by rw [ew_26]; exact (wset_ne _ (by first | exact ne_arr_8_a | exact Ne.symm ne_a_arr_8 | exact w_neR hF_arr_8_w_18 hF_a_w_18 (by omega) | exact w_ne hF_arr_8_w_18 hF_a_w_18 (by intro h; cases h))).trans hF_arr_8_w_18
  refine lv_aload_n hx hb dJ8_append_2_53 rfl (lv_at hl 2 rfl) ?_
  have hlen : ((C ++ dgs x).length : Int) = ((C.length + (dgs x).length : Nat) : Int) := by rw [List.length_append]
  have hel : ∀ i, i < (C ++ dgs x).length → g_20 i = (C ++ dgs x).getD i 0 := fun i hi => by rw [List.length_append] at hi; rw [app_at2]; by_cases q : i < C.length; (rw [if_pos q, hg1_22 i q, hge i (by omega), hA5 i q]); (rw [if_neg q, show i = C.length + (i - C.length) by omega, hg2_23 (i - C.length) (by omega), show C.length + (i - C.length) - C.length = i - C.length by omega])
  have hSb : SbAt G w_25 r a cap_9 (C ++ dgs x) := ⟨arr_8, _, by rw [hlen]; exact hF_a_w_25, hF_arr_8_w_25, by rw [List.length_append]; omega, by omega, hel, mem_app hA6 (dgs_r hxr), hg3_24⟩
  exact h_areturn hx hb hlk hret (by first | exact Or.inl ⟨_, rfl⟩ | exact Or.inr ⟨_, rfl⟩) hR hL ⟨rfl, ⟨_, hSb, by omega⟩, hU⟩ (by omega) (by omega) rfl rfl dJ8_append_2_54

set_option maxHeartbeats 4000000 in
set_option maxRecDepth 100000 in
/-- StringBuilder.append -/
theorem sbb_i (l : Launch) (G : Gl) (w : Wd) (r a cap : Nat) (C : List Int) (hA : SbAt G w r a cap C) (hG : RegW w) (hr : r ≠ 0) (x : Int) (hxr : 0 ≤ x ∧ x < 100000) (hsz : C.length < 3000) : HM l yJ9_append_2 cJ9_append_2 2 (some (.object "java/lang/StringBuilder")) 5 1 ((2 * (C.length + (dgs x).length) + 2)) G [.ref a, .int (iI (x))] w (QR G (fun z_ w_ => z_ = a ∧ (∃ cap2, SbAt G w_ r a cap2 (C ++ dgs x) ∧ cap2 ≤ max cap (2 * (C.length + (dgs x).length) + 2)) ∧ Up (fun q_ => q_ = r) w w_)) := by
  refine HM.mk (by decide +kernel) (Nat.le_of_ble_eq_true rfl) ?_
  intro p9 e9 s9 m9 a9 b9 meth9 c9 ls X hret hlk hnm hl H hR
  have hx := X.1.1
  have hb := X.1.2.1
  have hl : lv_has ls 2 [(0, .ref a), (1, .int (iI (x)))] := hl
  have hL : LK G [] := fun q h => absurd h List.not_mem_nil
  generalize ([] : List Loc) = locs at hL ⊢
  have hU : Up (fun q_ => q_ = r) w w := Up.rf hG
  refine lv_aload_n hx hb dJ9_append_2_0 rfl (lv_at hl 0 rfl) ?_
  refine lv_iload_n hx hb dJ9_append_2_1 rfl (lv_at hl 1 rfl) ?_
  -- call java/lang/AbstractStringBuilder.append
  refine h_kR (h_runSU X hR (sb_api l G w r a cap C hA hU.2.2.1 hr x hxr hsz) ⟨by decide, pn_yJ8_append_2.2⟩ (hA.c) q419 q3382 q293 q420 q130 q421 ⟨by decide, by decide⟩ hl.1 (Nat.le_of_ble_eq_true rfl) dJ9_append_2_2 ⟨by omega, by omega⟩) hL (fun z_1 w_2 hp_3 H locs hR hL => ?_)
  obtain ⟨rfl, ⟨cap_6, hB__5, hcp_7⟩, u_4⟩ := hp_3
  have hU : Up (fun q_ => q_ = r) w w_2 := hU.tr u_4 (fun q_ h_ => by first | exact absurd h_ id | exact Or.inl h_ | ((try dsimp only at h_); first | exact Or.inl (by omega) | exact Or.inr ⟨by omega, by subst h_; rw [Nat.add_sub_cancel]; assumption⟩)) hG
  refine lv_pop hx hb dJ9_append_2_5 rfl ?_
  refine lv_aload_n hx hb dJ9_append_2_6 rfl (lv_at hl 0 rfl) ?_
  exact h_areturn hx hb hlk hret (by first | exact Or.inl ⟨_, rfl⟩ | exact Or.inr ⟨_, rfl⟩) hR hL ⟨rfl, ⟨_, hB__5, by first | assumption | omega⟩, hU⟩ (by omega) (by omega) rfl rfl dJ9_append_2_7
