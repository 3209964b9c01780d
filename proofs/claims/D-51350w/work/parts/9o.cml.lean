/-! the component: what SpokenMarks answers -/
set_option maxRecDepth 100000
theorem sg_1 {x : Int} (h : -1000 < x ∧ x < 1000) : ((iI (-x)).toUInt32 >>> ((iI 31).toUInt32 &&& Int32.toUInt32 31)).toInt32 = iI (if 0 < x then 1 else 0) := by
  have key : ∀ k : Fin 2001, ((iI (-((k.1 : Int) - 1000))).toUInt32 >>> ((iI 31).toUInt32 &&& Int32.toUInt32 31)).toInt32 = iI (if 0 < ((k.1 : Int) - 1000) then 1 else 0) := by decide +kernel
  have h1 := key ⟨(x + 1000).toNat, by omega⟩
  rw [show (((x + 1000).toNat : Nat) : Int) - 1000 = x by omega] at h1
  exact h1
theorem sg_2 {x : Int} (h : -1000 < x ∧ x < 1000) : iI (x / 2147483648) ||| iI (if 0 < x then 1 else 0) = iI (sgn x) := by
  unfold sgn
  by_cases a : x < 0
  · rw [if_pos a, if_neg (by omega), show x / 2147483648 = -1 by omega]; decide
  · rw [if_neg a, show x / 2147483648 = 0 by omega]
    by_cases b : 0 < x
    · rw [if_pos b]; decide
    · rw [if_neg b]; decide
theorem rk_r (c : Cat) (id : Int) : -1 ≤ rkOf c id ∧ (rkOf c id : Int) < (cN c : Int) := fstN_r _ _
theorem sgn_i {x : Int} : sgn x = if x < 0 then -1 else if 0 < x then 1 else 0 := rfl
/-- marks lie by their ranks -/
theorem cmp_rk {c : Cat} (h : CatW c) {i j : Nat} (hi : i < cN c) (hj : j < cN c) : sgn (cmpM (cRl c) (mPs (mk c i)) (mPs (mk c j))) = sgn ((i : Int) - (j : Int)) := by
  have hs := h.or.srt
  have hr := cmpM_r (cRl c) (mPs (mk c i)) (mPs (mk c j))
  rcases Nat.lt_trichotomy i j with q | q | q
  · have a : cmpM (cRl c) (mPs (mk c i)) (mPs (mk c j)) < 0 := hs i j q hj
    unfold sgn; rw [if_pos a, if_pos (by omega)]
  · subst q
    rw [cmpM_rf, Int.sub_self]
  · have a : cmpM (cRl c) (mPs (mk c j)) (mPs (mk c i)) < 0 := hs j i q hi
    have b := cmpM_anti (cRl c) (mPs (mk c i)) (mPs (mk c j))
    unfold sgn; rw [if_neg (by omega), if_pos (by omega), if_neg (by omega), if_pos (by omega)]
theorem sgn_e {a b : Int} (h : (a < 0 ∧ b = -1) ∨ (a = 0 ∧ b = 0) ∨ (0 < a ∧ b = 1)) : sgn a = sgn b := by
  unfold sgn; rcases h with ⟨h, e⟩ | ⟨h, e⟩ | ⟨h, e⟩ <;> subst e
  · rw [if_pos h]; decide
  · subst h; rfl
  · rw [if_neg (by omega), if_pos h]; decide

theorem pn_yX1_requireExists : ParN yX1_requireExists 1 := by decide +kernel
theorem pn_yX1_requireMark : ParN yX1_requireMark 1 := by decide +kernel

set_option maxHeartbeats 4000000 in
set_option maxRecDepth 100000 in
/-- SpokenMarks.require -/
theorem sm_req (l : Launch) (G : Gl) (w : Wd) (hSt : l.stackTraces = false) (y : Int) (hy : 0 ≤ y ∧ y ≤ 1) : HMX l yX1_require cX1_require 1 none 7 1 6 G [.int (iI (y))] w (QV G (fun w_ => ¬ y = 0 ∧ w = w_)) (fun q_ E_ w_ => y = 0 ∧ E_ = "java/lang/IllegalArgumentException" ∧ w = w_) := by
  refine HMX.mk (by decide +kernel) (Nat.le_of_ble_eq_true rfl) ?_
  intro p9 e9 s9 m9 a9 b9 meth9 c9 ls X hret hlk hnm htab hl H hR
  have hx := X.1.1
  have hb := X.1.2.1
  have hl : lv_has ls 1 [(0, .int (iI (y)))] := hl
  have hL : LK G [] := fun q h => absurd h List.not_mem_nil
  generalize ([] : List Loc) = locs at hL ⊢
  refine lv_iload_n hx hb dX1_require_0 rfl (lv_at hl 0 rfl) ?_
  refine h_if_ne hx hb 12 dX1_require_1 (by decide) (by omega) (fun c_y => ?_) (fun c_y => ?_)
  ·
    refine vx_ret ?_
    exact h_vreturn hx hb hlk hret hR hL ⟨c_y, rfl⟩ (by omega) (by omega) rfl rfl dX1_require_12
  ·
    exact h_throw0 X hR hL hSt (names := ["java/lang/RuntimeException", "java/lang/Exception"]) (by decide +kernel) (by decide +kernel) q2048 q129 xat_SpokenMarks_9 (pU := [false, false, false, false, false, false, false, true, false, false]) (pN := [false, false, false, false, false, false, false, true, false, true, false]) rfl rfl q249 q251 q126 hl.1 dX1_require_4 dX1_require_7 dX1_require_8 dX1_require_11 (fun x_ hx_ => htab x_ hx_ _) (by decide) (Nat.le_of_ble_eq_true rfl) (by omega) (by omega) hlk (fun _ => ⟨c_y, rfl, rfl⟩) rfl rfl

set_option maxHeartbeats 4000000 in
set_option maxRecDepth 100000 in
/-- SpokenMarks.requireExists -/
theorem sm_reqE (l : Launch) (G : Gl) (w : Wd) (hSt : l.stackTraces = false) (y : Int) (hy : 0 ≤ y ∧ y ≤ 1) : HMX l yX1_requireExists cX1_requireExists 1 none 7 1 6 G [.int (iI (y))] w (QV G (fun w_ => ¬ y = 0 ∧ w = w_)) (fun q_ E_ w_ => y = 0 ∧ E_ = "java/util/NoSuchElementException" ∧ w = w_) := by
  refine HMX.mk (by decide +kernel) (Nat.le_of_ble_eq_true rfl) ?_
  intro p9 e9 s9 m9 a9 b9 meth9 c9 ls X hret hlk hnm htab hl H hR
  have hx := X.1.1
  have hb := X.1.2.1
  have hl : lv_has ls 1 [(0, .int (iI (y)))] := hl
  have hL : LK G [] := fun q h => absurd h List.not_mem_nil
  generalize ([] : List Loc) = locs at hL ⊢
  refine lv_iload_n hx hb dX1_requireExists_0 rfl (lv_at hl 0 rfl) ?_
  refine h_if_ne hx hb 12 dX1_requireExists_1 (by decide) (by omega) (fun c_y => ?_) (fun c_y => ?_)
  ·
    refine vx_ret ?_
    exact h_vreturn hx hb hlk hret hR hL ⟨c_y, rfl⟩ (by omega) (by omega) rfl rfl dX1_requireExists_12
  ·
    exact h_throw0 X hR hL hSt (names := ["java/lang/RuntimeException", "java/lang/Exception"]) (by decide +kernel) (by decide +kernel) q2286 q153 xat_SpokenMarks_3 (pU := [false, false, false, false, false, false, false, true, false, false]) (pN := [false, false, false, false, false, false, false, true, false, true, false]) rfl rfl q249 q251 q126 hl.1 dX1_requireExists_4 dX1_requireExists_7 dX1_requireExists_8 dX1_requireExists_11 (fun x_ hx_ => htab x_ hx_ _) (by decide) (Nat.le_of_ble_eq_true rfl) (by omega) (by omega) hlk (fun _ => ⟨c_y, rfl, rfl⟩) rfl rfl

set_option maxHeartbeats 4000000 in
set_option maxRecDepth 100000 in
/-- SpokenMarks.requireMark -/
theorem sm_rqM (l : Launch) (G : Gl) (w : Wd) (hSt : l.stackTraces = false) (a lm lr hm : Nat) (c : Cat) (hC : CatAt G w a lm lr hm c) (hS : CatS c) (x bf hq fs : Nat) (nb er ca dn rf ud : Int) (sv : Value) (hX : w x = some (x + 1, oE 0 [.ref bf, .ref hq, .int (iI (nb)), .int (iI (er)), .int (iI (ca)), .int (iI (dn)), .int (iI (rf)), .int (iI (ud)), .ref a, sv, .ref fs])) (id : Int) (h1 : R32 id) : HMX l yX1_requireMark cX1_requireMark 3 (some (.object "SpokenMarks$Mark")) 8 1 6 G [.ref x, .int (iI (id))] w (QR G (fun z_ w_ => rkOf c id ≠ -1 ∧ MkAt G (cRl c) w (a + 1) z_ (mk c (rkOf c id).toNat) ∧ w = w_)) (fun q_ E_ w_ => rkOf c id = -1 ∧ E_ = "java/util/NoSuchElementException" ∧ w = w_) := by
  refine HMX.mk (by decide +kernel) (Nat.le_of_ble_eq_true rfl) ?_
  intro p9 e9 s9 m9 a9 b9 meth9 c9 ls X hret hlk hnm htab hl H hR
  have hx := X.1.1
  have hb := X.1.2.1
  have hl : lv_has ls 3 [(0, .ref x), (1, .int (iI (id)))] := hl
  have hL : LK G [] := fun q h => absurd h List.not_mem_nil
  generalize ([] : List Loc) = locs at hL ⊢
  have hC0 := hC
  obtain ⟨bda, aca, so, fb, fa, Lm, Lr, mp, hCt, ⟨hbd, hbx⟩, ⟨hac, hax⟩, hso, ⟨⟨mo1, hm1, hlm⟩, hmk, hnd⟩, ⟨⟨mo2, hm2, hlr⟩, hru⟩, ⟨hhm, hmp⟩, hrd, hid, hba, hll⟩ := hC
  have hCt : w a = some (a + 1, oE 2 [.int (iI (cSh c)), .int (iI (cRm c)), .ref bda, .ref lm, .ref lr, .ref hm, .ref so, .ref aca, .int (iI (cNx c))]) := hCt
  have s1 := hS.1
  have s2 := hS.2.1
  have s3 := hS.2.2.1
  have s4 := hS.2.2.2.1.1
  have hRW := hS.2.2.2.2.1
  have s5 := hRW.1
  have s6 := hS.2.2.2.2.2
  have hml : Lm.length = cN c := hmk.1
  have hrl := hru.1
  have hrr := rk_r c id
  refine lv_aload_n hx hb dX1_requireMark_0 rfl (lv_at hl 0 rfl) ?_
  refine h_get X hR hX rfl in_X1 8 (by decide) q1700 rfl dX1_requireMark_1 ?_
  refine lv_iload_n hx hb dX1_requireMark_4 rfl (lv_at hl 1 rfl) ?_
  -- call SpokenMarks$Catalogue.rankOf
  refine h_kIp (h_runV X hR (ct_rkOf l G w a lm lr hm c hC0 hS id h1) pn_yX2_rankOf (hC0.c) q2282 q1865 q1866 q123 q1867 ⟨by decide, by decide⟩ hl.1 (Nat.le_of_ble_eq_true rfl) dX1_requireMark_5 ⟨by omega, by omega⟩) hL (fun H locs hR hL => ?_)
  refine lv_istore_n (lv' := [(2, .int (iI (rkOf c id))), (0, .ref x), (1, .int (iI (id)))]) hx hb dX1_requireMark_8 rfl hl (by decide) rfl (fun ls hl => ?_)
  refine lv_iload_n hx hb dX1_requireMark_9 rfl (lv_at hl 0 rfl) ?_
  refine h_iconst hx hb dX1_requireMark_10 ?_
  refine h_icmp_eq hx hb 18 dX1_requireMark_11 (by decide) (by omega) (by decide) (fun c_r => ?_) (fun c_r => ?_)
  ·
    refine h_iconst hx hb dX1_requireMark_18 ?_
    -- call SpokenMarks.requireExists
    refine h_xV (h_xrunS X hR (sm_reqE l G w hSt 0 (by decide)) pn_yX1_requireExists q2283 q2284 q120 q2285 ⟨by decide, by decide⟩ hl.1 (Nat.le_of_ble_eq_true rfl) dX1_requireMark_19 ⟨by omega, by omega⟩) hL (fun xq_7 E_8 ce_ w_9 hx__10 H locs hR hL hce_ hcv_ hcl_ => ?_) (fun w_5 hp_6 H locs hR hL => ?_)
    ·
      obtain ⟨hno_11, rfl, rfl⟩ := hx__10
      exact h_xout (fun x_ hx_ => htab x_ hx_ _) hlk hce_ hcv_ hcl_ hR hL ⟨c_r, rfl, rfl⟩ (by omega) (by omega) rfl rfl
    ·
      exact absurd rfl hp_6.1
  ·
    have hrl : (rkOf c id).toNat < cN c := by omega
    refine h_iconst hx hb dX1_requireMark_14 ?_
    refine lv_goto (tgt := 19) hx hb dX1_requireMark_15 (by decide) ?_
    -- call SpokenMarks.requireExists
    refine h_xV (h_xrunS X hR (sm_reqE l G w hSt 1 (by decide)) pn_yX1_requireExists q2283 q2284 q120 q2285 ⟨by decide, by decide⟩ hl.1 (Nat.le_of_ble_eq_true rfl) dX1_requireMark_19 ⟨by omega, by omega⟩) hL (fun xq_15 E_16 ce_ w_17 hx__18 H locs hR hL hce_ hcv_ hcl_ => ?_) (fun w_13 hp_14 H locs hR hL => ?_)
    ·
      exact absurd hx__18.1 (by decide)
    ·
      obtain ⟨hok_19, rfl⟩ := hp_14
      have hl : lv_has ls 3 [(2, .int (iI ((((rkOf c id).toNat : Nat) : Int)))), (0, .ref x), (1, .int (iI (id)))] := lv_conv hl (congrArg (fun z_ : Int => ([(2, .int (iI (z_))), (0, .ref x), (1, .int (iI (id)))] : List (Nat × Value))) (show (rkOf c id : Int) = (((rkOf c id).toNat : Nat) : Int) from (by omega)))
      refine lv_aload_n hx hb dX1_requireMark_22 rfl (lv_at hl 1 rfl) ?_
      refine h_get X hR hX rfl in_X1 8 (by decide) q1700 rfl dX1_requireMark_23 ?_
      refine h_getN X hR hCt rfl in_X2 3 (by decide) q602 rfl dX1_requireMark_26 ?_
      refine lv_iload_n hx hb dX1_requireMark_29 rfl (lv_at hl 0 rfl) ?_
      -- call java/util/ArrayList.get
      refine h_k5Rp (h_runF (x := ⟨"java/util/List", "get", "(I)Ljava/lang/Object;"⟩) X hR (ls_get l G w (lm + 1) lm 40 mo1 Lm hlm ((rkOf c id).toNat) (by rw [hml]; exact hrl)) pn_i_java_util_List_get_1 (hlm.c) (kk_face X.2 (by decide +kernel) q1575 q1574 q1579 q1577 q664) q1744 q1578 q1576 q125 q1580 ⟨by decide, by decide⟩ hl.1 (Nat.le_of_ble_eq_true rfl) dX1_requireMark_30 ⟨by omega, by omega⟩) hL (fun H locs hR hL => ?_)
      have hm_23 : MkAt G (cRl c) w (a + 1) (Lm.getD ((rkOf c id).toNat) 0) (mk c (rkOf c id).toNat) := MksAt.g hmk hrl
      refine h_castS X hR (hm_23.c) q1745 dX1_requireMark_35 ?_
      refine vx_ret ?_
      exact h_areturn hx hb hlk hret (by first | exact Or.inl ⟨_, rfl⟩ | exact Or.inr ⟨_, rfl⟩) hR hL ⟨c_r, hm_23, rfl⟩ (by omega) (by omega) rfl rfl dX1_requireMark_38

set_option maxHeartbeats 4000000 in
set_option maxRecDepth 100000 in
/-- SpokenMarks.requirePart -/
theorem sm_rqP (l : Launch) (G : Gl) (w : Wd) (hSt : l.stackTraces = false) (a lm lr hm : Nat) (c : Cat) (hC : CatAt G w a lm lr hm c) (hS : CatS c) (x bf hq fs : Nat) (nb er ca dn rf ud : Int) (sv : Value) (hX : w x = some (x + 1, oE 0 [.ref bf, .ref hq, .int (iI (nb)), .int (iI (er)), .int (iI (ca)), .int (iI (dn)), .int (iI (rf)), .int (iI (ud)), .ref a, sv, .ref fs])) (id k : Int) (h1 : R32 id) (h2 : R32 k) : HMX l yX1_requirePart cX1_requirePart 4 (some (.object "SpokenMarks$Part")) 9 2 12 G [.ref x, .int (iI (id)), .int (iI (k))] w (QR G (fun z_ w_ => okP c id k = true ∧ PtAt G (cRl c) w z_ (pAt c id k) ∧ w = w_)) (fun q_ E_ w_ => ¬ okP c id k = true ∧ E_ = "java/util/NoSuchElementException" ∧ w = w_) := by
  refine HMX.mk (by decide +kernel) (Nat.le_of_ble_eq_true rfl) ?_
  intro p9 e9 s9 m9 a9 b9 meth9 c9 ls X hret hlk hnm htab hl H hR
  have hx := X.1.1
  have hb := X.1.2.1
  have hl : lv_has ls 4 [(0, .ref x), (1, .int (iI (id))), (2, .int (iI (k)))] := hl
  have hL : LK G [] := fun q h => absurd h List.not_mem_nil
  generalize ([] : List Loc) = locs at hL ⊢
  have hrr := rk_r c id
  refine lv_aload_n hx hb dX1_requirePart_0 rfl (lv_at hl 0 rfl) ?_
  refine lv_iload_n hx hb dX1_requirePart_1 rfl (lv_at hl 1 rfl) ?_
  -- call SpokenMarks.requireMark
  refine h_xR (h_xrunV X hR (sm_rqM l G w hSt a lm lr hm c hC hS x bf hq fs nb er ca dn rf ud sv hX id h1) pn_yX1_requireMark (hasC.of hX rfl) q2278 q2280 qs24 q120 q2281 ⟨by decide, by decide⟩ hl.1 (Nat.le_of_ble_eq_true rfl) dX1_requirePart_2 ⟨by omega, by omega⟩) hL (fun xq_3 E_4 ce_ w_5 hx__6 H locs hR hL hce_ hcv_ hcl_ => ?_) (fun mk9 w_1 hp_2 H locs hR hL => ?_)
  ·
    obtain ⟨hno_7, rfl, rfl⟩ := hx__6
    exact h_xout (fun x_ hx_ => htab x_ hx_ _) hlk hce_ hcv_ hcl_ hR hL ⟨(fun q_ => by unfold okP at q_; rw [hno_7] at q_; simp at q_), rfl, rfl⟩ (by omega) (by omega) rfl rfl
  ·
    obtain ⟨c_r, hM__8, rfl⟩ := hp_2
    refine lv_astore_n (lv' := [(3, .ref mk9), (0, .ref x), (1, .int (iI (id))), (2, .int (iI (k)))]) hx hb dX1_requirePart_5 rfl hl (by decide) rfl (fun ls hl => ?_)
    obtain ⟨pl_mo_9, mo_91, mo_92⟩ := hM__8
    have hrl : (rkOf c id).toNat < cN c := by omega
    have hl5 := (hS.pw hrl).2.1
    refine lv_iload_n hx hb dX1_requirePart_6 rfl (lv_at hl 3 rfl) ?_
    refine h_iconst hx hb dX1_requirePart_7 ?_
    refine lv_aload_n hx hb dX1_requirePart_8 rfl (lv_at hl 0 rfl) ?_
    refine h_getN X hR mo_91 rfl in_X5 1 (by decide) q1541 rfl dX1_requirePart_9 ?_
    obtain ⟨mo_hp_10, P_hp_10, hp_10m, hp_10P, hp_10l, hp_10x⟩ := mo_92
    -- call java/util/ArrayList.size
    refine h_k5Ip (h_runF (x := ⟨"java/util/List", "size", "()I"⟩) X hR (ls_size l G w 0 pl_mo_9 5 mo_hp_10 P_hp_10 hp_10P) pn_i_java_util_List_size_0 (hp_10P.c) (kk_face X.2 (by decide +kernel) q1566 q1565 q1570 q1568 q664) q1739 q1569 q1567 q125 q1571 ⟨by decide, by decide⟩ hl.1 (Nat.le_of_ble_eq_true rfl) dX1_requirePart_12 ⟨by omega, by omega⟩) hL (fun H locs hR hL => ?_)
    refine W.eq (g2 := F0 m9 17 ls [.int (iI (((mPs (mk c (rkOf c id).toNat)).length : Int))), .int (iI (0)), .int (iI (k))]) (congrArg (fun z_ : Int => F0 m9 17 ls [.int (iI (z_)), .int (iI (0)), .int (iI (k))]) (show ((P_hp_10.length : Int) : Int) = ((mPs (mk c (rkOf c id).toNat)).length : Int) from (by rw [hp_10l]))) ?_
    refine h_iconst hx hb dX1_requirePart_17 ?_
    refine h_isub hx hb dX1_requirePart_18 ?_
    -- call SpokenMarks.inRange
    refine h_kIp (h_runS X hR (c_inr l G w k 0 ((((mPs (mk c (rkOf c id).toNat)).length : Int)) - 1) (by omega) (by omega) (by omega)) pn_yX1_inRange q1740 q1741 q120 q1742 ⟨by decide, by decide⟩ hl.1 (Nat.le_of_ble_eq_true rfl) dX1_requirePart_19 ⟨by omega, by omega⟩) hL (fun H locs hR hL => ?_)
    -- call SpokenMarks.requireExists
    refine h_xV (h_xrunS X hR (sm_reqE l G w hSt (b2i (0 ≤ k ∧ k ≤ (((mPs (mk c (rkOf c id).toNat)).length : Int)) - 1)) (b2i_01 _)) pn_yX1_requireExists q2283 q2284 q120 q2285 ⟨by decide, by decide⟩ hl.1 (Nat.le_of_ble_eq_true rfl) dX1_requirePart_22 ⟨by omega, by omega⟩) hL (fun xq_20 E_21 ce_ w_22 hx__23 H locs hR hL hce_ hcv_ hcl_ => ?_) (fun w_18 hp_19 H locs hR hL => ?_)
    ·
      obtain ⟨hno_24, rfl, rfl⟩ := hx__23
      exact h_xout (fun x_ hx_ => htab x_ hx_ _) hlk hce_ hcv_ hcl_ hR hL ⟨(fun q_ => b2i_0.mp hno_24 (by unfold okP at q_; simp at q_; omega)), rfl, rfl⟩ (by omega) (by omega) rfl rfl
    ·
      obtain ⟨c_k, rfl⟩ := hp_19
      have c_k2 := b2i_n1.mp c_k
      have hl : lv_has ls 4 [(3, .ref mk9), (0, .ref x), (1, .int (iI (id))), (2, .int (iI (((k.toNat : Nat) : Int))))] := lv_conv hl (congrArg (fun z_ : Int => ([(3, .ref mk9), (0, .ref x), (1, .int (iI (id))), (2, .int (iI (z_)))] : List (Nat × Value))) (show (k : Int) = ((k.toNat : Nat) : Int) from (by omega)))
      refine lv_aload_n hx hb dX1_requirePart_25 rfl (lv_at hl 0 rfl) ?_
      refine h_getN X hR mo_91 rfl in_X5 1 (by decide) q1541 rfl dX1_requirePart_26 ?_
      refine lv_iload_n hx hb dX1_requirePart_29 rfl (lv_at hl 3 rfl) ?_
      -- call java/util/ArrayList.get
      refine h_k5Rp (h_runF (x := ⟨"java/util/List", "get", "(I)Ljava/lang/Object;"⟩) X hR (ls_get l G w 0 pl_mo_9 5 mo_hp_10 P_hp_10 hp_10P k.toNat (by rw [hp_10l]; omega)) pn_i_java_util_List_get_1 (hp_10P.c) (kk_face X.2 (by decide +kernel) q1575 q1574 q1579 q1577 q664) q1744 q1578 q1576 q125 q1580 ⟨by decide, by decide⟩ hl.1 (Nat.le_of_ble_eq_true rfl) dX1_requirePart_30 ⟨by omega, by omega⟩) hL (fun H locs hR hL => ?_)
      have hx_28 : PtAt G (cRl c) w (P_hp_10.getD k.toNat 0) (pAt c id k) := hp_10x k.toNat (by omega)
      obtain ⟨C__29, hC__30, hK__31⟩ := hx_28.part
      refine h_castY X hR hC__30 hK__31 q2310 dX1_requirePart_35 ?_
      refine vx_ret ?_
      exact h_areturn hx hb hlk hret (by first | exact Or.inl ⟨_, rfl⟩ | exact Or.inr ⟨_, rfl⟩) hR hL ⟨by unfold okP; simp; omega, hx_28, rfl⟩ (by omega) (by omega) rfl rfl dX1_requirePart_38

set_option maxHeartbeats 4000000 in
set_option maxRecDepth 100000 in
/-- SpokenMarks.requireShelf -/
theorem sm_rqS (l : Launch) (G : Gl) (w : Wd) (hSt : l.stackTraces = false) (a lm lr hm : Nat) (c : Cat) (hC : CatAt G w a lm lr hm c) (hS : CatS c) (x bf hq fs : Nat) (nb er ca dn rf ud : Int) (sv : Value) (hX : w x = some (x + 1, oE 0 [.ref bf, .ref hq, .int (iI (nb)), .int (iI (er)), .int (iI (ca)), .int (iI (dn)), .int (iI (rf)), .int (iI (ud)), .ref a, sv, .ref fs])) (s : Int) (h1 : R32 s) : HMX l yX1_requireShelf cX1_requireShelf 2 none 8 1 6 G [.ref x, .int (iI (s))] w (QV G (fun w_ => (0 ≤ s ∧ s < cSh c) ∧ w = w_)) (fun q_ E_ w_ => ¬ (0 ≤ s ∧ s < cSh c) ∧ E_ = "java/util/NoSuchElementException" ∧ w = w_) := by
  refine HMX.mk (by decide +kernel) (Nat.le_of_ble_eq_true rfl) ?_
  intro p9 e9 s9 m9 a9 b9 meth9 c9 ls X hret hlk hnm htab hl H hR
  have hx := X.1.1
  have hb := X.1.2.1
  have hl : lv_has ls 2 [(0, .ref x), (1, .int (iI (s)))] := hl
  have hL : LK G [] := fun q h => absurd h List.not_mem_nil
  generalize ([] : List Loc) = locs at hL ⊢
  have hC0 := hC
  obtain ⟨bda, aca, so, fb, fa, Lm, Lr, mp, hCt, ⟨hbd, hbx⟩, ⟨hac, hax⟩, hso, ⟨⟨mo1, hm1, hlm⟩, hmk, hnd⟩, ⟨⟨mo2, hm2, hlr⟩, hru⟩, ⟨hhm, hmp⟩, hrd, hid, hba, hll⟩ := hC
  have hCt : w a = some (a + 1, oE 2 [.int (iI (cSh c)), .int (iI (cRm c)), .ref bda, .ref lm, .ref lr, .ref hm, .ref so, .ref aca, .int (iI (cNx c))]) := hCt
  have s1 := hS.1
  have s2 := hS.2.1
  have s3 := hS.2.2.1
  have s4 := hS.2.2.2.1.1
  have hRW := hS.2.2.2.2.1
  have s5 := hRW.1
  have s6 := hS.2.2.2.2.2
  have hml : Lm.length = cN c := hmk.1
  have hrl := hru.1
  refine lv_iload_n hx hb dX1_requireShelf_0 rfl (lv_at hl 1 rfl) ?_
  refine h_iconst hx hb dX1_requireShelf_1 ?_
  refine lv_aload_n hx hb dX1_requireShelf_2 rfl (lv_at hl 0 rfl) ?_
  refine h_get X hR hX rfl in_X1 8 (by decide) q1700 rfl dX1_requireShelf_3 ?_
  refine h_getN X hR hCt rfl in_X2 0 (by decide) q591 rfl dX1_requireShelf_6 ?_
  refine h_iconst hx hb dX1_requireShelf_9 ?_
  refine h_isub hx hb dX1_requireShelf_10 ?_
  -- call SpokenMarks.inRange
  refine h_kIp (h_runS X hR (c_inr l G w s 0 ((cSh c) - 1) (by omega) (by omega) (by omega)) pn_yX1_inRange q1740 q1741 q120 q1742 ⟨by decide, by decide⟩ hl.1 (Nat.le_of_ble_eq_true rfl) dX1_requireShelf_11 ⟨by omega, by omega⟩) hL (fun H locs hR hL => ?_)
  -- call SpokenMarks.requireExists
  refine h_xV (h_xrunS X hR (sm_reqE l G w hSt (b2i (0 ≤ s ∧ s ≤ (cSh c) - 1)) (b2i_01 _)) pn_yX1_requireExists q2283 q2284 q120 q2285 ⟨by decide, by decide⟩ hl.1 (Nat.le_of_ble_eq_true rfl) dX1_requireShelf_14 ⟨by omega, by omega⟩) hL (fun xq_7 E_8 ce_ w_9 hx__10 H locs hR hL hce_ hcv_ hcl_ => ?_) (fun w_5 hp_6 H locs hR hL => ?_)
  ·
    obtain ⟨hno_11, rfl, rfl⟩ := hx__10
    exact h_xout (fun x_ hx_ => htab x_ hx_ _) hlk hce_ hcv_ hcl_ hR hL ⟨(fun q_ => b2i_0.mp hno_11 (by omega)), rfl, rfl⟩ (by omega) (by omega) rfl rfl
  ·
    obtain ⟨c_k, rfl⟩ := hp_6
    have c_k2 := b2i_n1.mp c_k
    refine vx_ret ?_
    exact h_vreturn hx hb hlk hret hR hL ⟨by omega, rfl⟩ (by omega) (by omega) rfl rfl dX1_requireShelf_17

set_option maxHeartbeats 4000000 in
set_option maxRecDepth 100000 in
/-- SpokenMarks.requireRule -/
theorem sm_rqR (l : Launch) (G : Gl) (w : Wd) (hSt : l.stackTraces = false) (a lm lr hm : Nat) (c : Cat) (hC : CatAt G w a lm lr hm c) (hS : CatS c) (x bf hq fs : Nat) (nb er ca dn rf ud : Int) (sv : Value) (hX : w x = some (x + 1, oE 0 [.ref bf, .ref hq, .int (iI (nb)), .int (iI (er)), .int (iI (ca)), .int (iI (dn)), .int (iI (rf)), .int (iI (ud)), .ref a, sv, .ref fs])) (r : Int) (h1 : R32 r) : HMX l yX1_requireRule cX1_requireRule 2 none 8 1 6 G [.ref x, .int (iI (r))] w (QV G (fun w_ => (0 ≤ r ∧ r < ((cRl c).length : Int)) ∧ w = w_)) (fun q_ E_ w_ => ¬ (0 ≤ r ∧ r < ((cRl c).length : Int)) ∧ E_ = "java/util/NoSuchElementException" ∧ w = w_) := by
  refine HMX.mk (by decide +kernel) (Nat.le_of_ble_eq_true rfl) ?_
  intro p9 e9 s9 m9 a9 b9 meth9 c9 ls X hret hlk hnm htab hl H hR
  have hx := X.1.1
  have hb := X.1.2.1
  have hl : lv_has ls 2 [(0, .ref x), (1, .int (iI (r)))] := hl
  have hL : LK G [] := fun q h => absurd h List.not_mem_nil
  generalize ([] : List Loc) = locs at hL ⊢
  have hC0 := hC
  obtain ⟨bda, aca, so, fb, fa, Lm, Lr, mp, hCt, ⟨hbd, hbx⟩, ⟨hac, hax⟩, hso, ⟨⟨mo1, hm1, hlm⟩, hmk, hnd⟩, ⟨⟨mo2, hm2, hlr⟩, hru⟩, ⟨hhm, hmp⟩, hrd, hid, hba, hll⟩ := hC
  have hCt : w a = some (a + 1, oE 2 [.int (iI (cSh c)), .int (iI (cRm c)), .ref bda, .ref lm, .ref lr, .ref hm, .ref so, .ref aca, .int (iI (cNx c))]) := hCt
  have s1 := hS.1
  have s2 := hS.2.1
  have s3 := hS.2.2.1
  have s4 := hS.2.2.2.1.1
  have hRW := hS.2.2.2.2.1
  have s5 := hRW.1
  have s6 := hS.2.2.2.2.2
  have hml : Lm.length = cN c := hmk.1
  have hrl := hru.1
  refine lv_iload_n hx hb dX1_requireRule_0 rfl (lv_at hl 1 rfl) ?_
  refine h_iconst hx hb dX1_requireRule_1 ?_
  refine lv_aload_n hx hb dX1_requireRule_2 rfl (lv_at hl 0 rfl) ?_
  refine h_get X hR hX rfl in_X1 8 (by decide) q1700 rfl dX1_requireRule_3 ?_
  refine h_getN X hR hCt rfl in_X2 4 (by decide) q607 rfl dX1_requireRule_6 ?_
  -- call java/util/ArrayList.size
  refine h_k5Ip (h_runF (x := ⟨"java/util/List", "size", "()I"⟩) X hR (ls_size l G w (lr + 1) lr 8 mo2 Lr hlr) pn_i_java_util_List_size_0 (hlr.c) (kk_face X.2 (by decide +kernel) q1566 q1565 q1570 q1568 q664) q1739 q1569 q1567 q125 q1571 ⟨by decide, by decide⟩ hl.1 (Nat.le_of_ble_eq_true rfl) dX1_requireRule_9 ⟨by omega, by omega⟩) hL (fun H locs hR hL => ?_)
  refine W.eq (g2 := F0 m9 14 ls [.int (iI (((cRl c).length : Int))), .int (iI (0)), .int (iI (r))]) (congrArg (fun z_ : Int => F0 m9 14 ls [.int (iI (z_)), .int (iI (0)), .int (iI (r))]) (show ((Lr.length : Int) : Int) = ((cRl c).length : Int) from (by rw [hrl]))) ?_
  refine h_iconst hx hb dX1_requireRule_14 ?_
  refine h_isub hx hb dX1_requireRule_15 ?_
  -- call SpokenMarks.inRange
  refine h_kIp (h_runS X hR (c_inr l G w r 0 ((((cRl c).length : Int)) - 1) (by omega) (by omega) (by omega)) pn_yX1_inRange q1740 q1741 q120 q1742 ⟨by decide, by decide⟩ hl.1 (Nat.le_of_ble_eq_true rfl) dX1_requireRule_16 ⟨by omega, by omega⟩) hL (fun H locs hR hL => ?_)
  -- call SpokenMarks.requireExists
  refine h_xV (h_xrunS X hR (sm_reqE l G w hSt (b2i (0 ≤ r ∧ r ≤ (((cRl c).length : Int)) - 1)) (b2i_01 _)) pn_yX1_requireExists q2283 q2284 q120 q2285 ⟨by decide, by decide⟩ hl.1 (Nat.le_of_ble_eq_true rfl) dX1_requireRule_19 ⟨by omega, by omega⟩) hL (fun xq_10 E_11 ce_ w_12 hx__13 H locs hR hL hce_ hcv_ hcl_ => ?_) (fun w_8 hp_9 H locs hR hL => ?_)
  ·
    obtain ⟨hno_14, rfl, rfl⟩ := hx__13
    exact h_xout (fun x_ hx_ => htab x_ hx_ _) hlk hce_ hcv_ hcl_ hR hL ⟨(fun q_ => b2i_0.mp hno_14 (by omega)), rfl, rfl⟩ (by omega) (by omega) rfl rfl
  ·
    obtain ⟨c_k, rfl⟩ := hp_9
    have c_k2 := b2i_n1.mp c_k
    refine vx_ret ?_
    exact h_vreturn hx hb hlk hret hR hL ⟨by omega, rfl⟩ (by omega) (by omega) rfl rfl dX1_requireRule_22
