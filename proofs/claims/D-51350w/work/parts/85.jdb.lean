/-! JDK: HashMap: its form; look up -/
set_option maxRecDepth 100000
theorem iI_15and (x : Int) : iI 15 &&& iI x = iI (x % 16) := by
  refine Int32.toBitVec_inj.mp (BitVec.eq_of_toNat_eq ?_)
  rw [Int32.toBitVec_and, BitVec.toNat_and, iI_bv, iI_bv, iI_bv, BitVec.toNat_ofInt, BitVec.toNat_ofInt, BitVec.toNat_ofInt]
  rw [show ((15 : Int) % ((2 ^ 32 : Nat) : Int)).toNat = 2 ^ 4 - 1 by decide, Nat.and_comm, Nat.and_two_pow_sub_one_eq_mod]
  omega
/-- a text's spread hash -/
def hsp (L : List Int) : Int := (iI (hN L) ^^^ ((iI (hN L)).toUInt32 >>> ((iI 16).toUInt32 &&& Int32.toUInt32 31)).toInt32).toInt
theorem hsp_r (L : List Int) : R32 (hsp L) := ⟨by have := Int32.le_toInt (iI (hN L) ^^^ ((iI (hN L)).toUInt32 >>> ((iI 16).toUInt32 &&& Int32.toUInt32 31)).toInt32); unfold hsp; omega, by have := Int32.toInt_lt (iI (hN L) ^^^ ((iI (hN L)).toUInt32 >>> ((iI 16).toUInt32 &&& Int32.toUInt32 31)).toInt32); unfold hsp; omega⟩
def bix (L : List Int) : Nat := (hsp L % 16).toNat
theorem bix_r (L : List Int) : bix L < 16 ∧ hsp L % 16 = (bix L : Int) := by unfold bix; omega
/-- an entry: node, key, value, the key's letters -/
abbrev En : Type := Nat × Nat × Nat × List Int
abbrev eQ (e : En) : Nat := e.1
abbrev eK (e : En) : Nat := e.2.1
abbrev eV (e : En) : Nat := e.2.2.1
abbrev eL (e : En) : List Int := e.2.2.2
def nodE (e : En) (nx : Option Nat) : Ent := oE 25 [.int (iI (hsp (eL e))), .ref (eK e), .ref (eV e), va_rf nx]
/-- a run of nodes from o to o' -/
def Seg (G : Gl) (w : Wd) (r : Nat) : Option Nat → List En → Option Nat → Prop
  | o, [], o' => o = o'
  | o, e :: B, o' => o = some (eQ e) ∧ ∃ nx, w (eQ e) = some (r, nodE e nx) ∧ StrAt G w (eK e) (eL e) ∧ Seg G w r nx B o'
theorem Seg.mv {G : Gl} {w w1 : Wd} {r : Nat} {S : Nat → Prop} (hF : Fr S w w1) (h0 : ¬ S r) (h00 : ¬ S 0) : ∀ {B : List En} {o o' : Option Nat}, Seg G w r o B o' → Seg G w1 r o B o'
  | [], _, _, h => h
  | e :: B, o, o', ⟨h1, nx, h2, h3, h4⟩ => ⟨h1, nx, hF _ _ _ h2 h0, h3.mv hF h00, Seg.mv hF h0 h00 h4⟩
theorem Seg.at {G : Gl} {w : Wd} {r : Nat} : ∀ {B : List En} {o o' : Option Nat}, Seg G w r o B o' → ∀ e ∈ B, ∃ nx, w (eQ e) = some (r, nodE e nx) ∧ StrAt G w (eK e) (eL e)
  | e0 :: B, o, o', ⟨h1, nx, h2, h3, h4⟩, e, he => by
    rcases List.mem_cons.mp he with q | q
    · rw [q]; exact ⟨nx, h2, h3⟩
    · exact Seg.at h4 e q
theorem Seg.app {G : Gl} {w : Wd} {r : Nat} {B2 : List En} {o2 : Option Nat} : ∀ {B1 : List En} {o o1 : Option Nat}, Seg G w r o B1 o1 → Seg G w r o1 B2 o2 → Seg G w r o (B1 ++ B2) o2
  | [], _, _, h, h2 => by rw [show _ = _ from h]; exact h2
  | e :: B, o, o', ⟨h1, nx, h2, h3, h4⟩, h5 => ⟨h1, nx, h2, h3, Seg.app h4 h5⟩
/-- what is not written stays -/
theorem Seg.kp {G : Gl} {w w1 : Wd} {r : Nat} (hS : ∀ a L, StrAt G w a L → StrAt G w1 a L) : ∀ {B : List En} {o o' : Option Nat}, Seg G w r o B o' → (∀ e ∈ B, w1 (eQ e) = w (eQ e)) → Seg G w1 r o B o'
  | [], _, _, h, _ => h
  | e :: B, o, o', ⟨h1, nx, h2, h3, h4⟩, hk => ⟨h1, nx, (hk e List.mem_cons_self).trans h2, hS _ _ h3, Seg.kp hS h4 (fun e' he => hk e' (List.mem_cons_of_mem _ he))⟩
/-- a node tells its key -/
theorem Seg.inj {G : Gl} {w : Wd} {r : Nat} {B B' : List En} {o o1 o2 o3 : Option Nat} (h : Seg G w r o B o1) (h' : Seg G w r o2 B' o3) {e e' : En} (he : e ∈ B) (he' : e' ∈ B') (hq : eQ e = eQ e') : eL e = eL e' := by
  obtain ⟨nx, h1, h2⟩ := h.at e he
  obtain ⟨nx', g1, g2⟩ := h'.at e' he'
  rw [hq] at h1
  have e1 := h1.symm.trans g1
  have ek : eK e = eK e' := by
    simp [nodE] at e1
    exact e1.2.1
  rw [ek] at h2
  exact h2.eqv g2
def fndC (B : List En) (L : List Int) : Option En := B.find? (fun e => decide (eL e = L))
theorem fndC_y {e : En} {B : List En} {L : List Int} (h : eL e = L) : fndC (e :: B) L = some e := by unfold fndC; rw [List.find?_cons_of_pos (by simpa using h)]
theorem fndC_n {e : En} {B : List En} {L : List Int} (h : eL e ≠ L) : fndC (e :: B) L = fndC B L := by unfold fndC; rw [List.find?_cons_of_neg (by simpa using h)]
theorem fndC_m {B : List En} {L : List Int} {e : En} (h : fndC B L = some e) : e ∈ B ∧ eL e = L := ⟨List.mem_of_find?_eq_some h, by simpa using List.find?_some h⟩
/-- the table -/
def HmT (G : Gl) (w : Wd) (r arr : Nat) (Bk : Nat → List En) : Prop := ∃ hd : Nat → Option Nat, w arr = some (r, rE G 5 16 hd) ∧ ∀ b, b < 16 → Seg G w r (hd b) (Bk b) none ∧ (∀ e ∈ Bk b, bix (eL e) = b) ∧ ((Bk b).map eL).Nodup
def tot (Bk : Nat → List En) : Nat → Nat
  | 0 => 0
  | n + 1 => tot Bk n + (Bk n).length
def fndB (Bk : Nat → List En) (L : List Int) : Option Nat := (fndC (Bk (bix L)) L).map eV
abbrev hmE (t : Value) (n mo th : Int) (lf : UInt32) : Ent := oE 24 [.null, .null, t, .null, .int (iI n), .int (iI mo), .int (iI th), .float lf]
/-- a map of n entries in region r: mp tells a key's value -/
def HmAt (G : Gl) (w : Wd) (r a n : Nat) (mp : List Int → Option Nat) : Prop := ∃ (mo : Int) (lf : UInt32), (n = 0 ∧ (∀ L, mp L = none) ∧ w a = some (r, hmE .null 0 mo 0 lf)) ∨ ∃ (arr : Nat) (Bk : Nat → List En), w a = some (r, hmE (.ref arr) (n : Int) mo 12 lf) ∧ HmT G w r arr Bk ∧ tot Bk 16 = n ∧ ∀ L, mp L = fndB Bk L
theorem HmT.mv {G : Gl} {w w1 : Wd} {r arr : Nat} {Bk : Nat → List En} {S : Nat → Prop} (h : HmT G w r arr Bk) (hF : Fr S w w1) (h0 : ¬ S r) (h00 : ¬ S 0) : HmT G w1 r arr Bk := by
  obtain ⟨hd, h1, h2⟩ := h
  exact ⟨hd, hF _ _ _ h1 h0, fun b hb => ⟨(h2 b hb).1.mv hF h0 h00, (h2 b hb).2⟩⟩
theorem HmAt.mv2 {G : Gl} {w w1 : Wd} {r a n : Nat} {mp : List Int → Option Nat} {S : Nat → Prop} (h : HmAt G w r a n mp) (hF : Fr S w w1) (h0 : ¬ S r) (h00 : ¬ S 0) : HmAt G w1 r a n mp := by
  obtain ⟨mo, lf, h | ⟨arr, Bk, h1, h2, h3⟩⟩ := h
  · exact ⟨mo, lf, Or.inl ⟨h.1, h.2.1, hF _ _ _ h.2.2 h0⟩⟩
  · exact ⟨mo, lf, Or.inr ⟨arr, Bk, hF _ _ _ h1 h0, h2.mv hF h0 h00, h3⟩⟩
theorem HmAt.sm {G : Gl} {w : Wd} {r a n : Nat} {mp : List Int → Option Nat} (h : HmAt G w r a n mp) : ∃ x, w a = some x := by
  obtain ⟨mo, lf, h | ⟨arr, Bk, h1, h2, h3⟩⟩ := h
  · exact ⟨_, h.2.2⟩
  · exact ⟨_, h1⟩
theorem HmAt.c {G : Gl} {w : Wd} {r a n : Nat} {mp : List Int → Option Nat} (h : HmAt G w r a n mp) : hasC w a "java/util/HashMap" := by
  obtain ⟨mo, lf, h | ⟨arr, Bk, h1, h2, h3⟩⟩ := h
  · exact hasC.of h.2.2 rfl
  · exact hasC.of h1 rfl

theorem pn_yJ29_equals : ParN yJ29_equals 1 := by decide +kernel
theorem pn_yJ10_equals : ParN yJ10_equals 1 := by decide +kernel
theorem pn_yJ10_hashCode : ParN yJ10_hashCode 0 := by decide +kernel
theorem pn_yJ19_hash : ParN yJ19_hash 1 := by decide +kernel
theorem pn_i_java_lang_Object_hashCode_0 : ParN ⟨"java/lang/Object", "hashCode", "()I"⟩ 0 := by decide +kernel

set_option maxHeartbeats 4000000 in
set_option maxRecDepth 100000 in
/-- HashMap.hash -/
theorem hm_hash (l : Launch) (G : Gl) (w : Wd) (k : Nat) (L : List Int) (hS : StrAt G w k L) : HM l yJ19_hash cJ19_hash 2 (some .int) 5 0 0 G [.ref k] w (QI G (fun z_ w_ => z_ = hsp L ∧ w_ = w)) := by
  refine HM.mk (by decide +kernel) (Nat.le_of_ble_eq_true rfl) ?_
  intro p9 e9 s9 m9 a9 b9 meth9 c9 ls X hret hlk hnm hl H hR
  have hx := X.1.1
  have hb := X.1.2.1
  have hl : lv_has ls 2 [(0, .ref k)] := hl
  have hL : LK G [] := fun q h => absurd h List.not_mem_nil
  generalize ([] : List Loc) = locs at hL ⊢
  refine lv_aload_n hx hb dJ19_hash_0 rfl (lv_at hl 0 rfl) ?_
  refine lv_ifnonnull (tgt := 8) hx hb dJ19_hash_1 (by decide) ?_
  refine lv_aload_n hx hb dJ19_hash_8 rfl (lv_at hl 0 rfl) ?_
  -- call java/lang/String.hashCode
  refine h_kIp (h_runU (x := ⟨"java/lang/Object", "hashCode", "()I"⟩) (owner := "java/lang/Object") X hR (s_hash l G w k L hS) (by decide) pn_i_java_lang_Object_hashCode_0 (hS.c) q748 q750 (kk_abs X.2 q747) (X.1.2.2.2.2 _ q781) q782 q132 q783 ⟨by decide, by decide⟩ hl.1 (Nat.le_of_ble_eq_true rfl) dJ19_hash_9 ⟨by omega, by omega⟩) hL (fun H locs hR hL => ?_)
  refine lv_dup hx hb dJ19_hash_12 rfl ?_
  refine lv_istore_n (lv' := [(1, .int (iI (hN L))), (0, .ref k)]) hx hb dJ19_hash_13 rfl hl (by decide) rfl (fun ls hl => ?_)
  refine lv_iload_n hx hb dJ19_hash_14 rfl (lv_at hl 0 rfl) ?_
  refine h_bipush hx hb dJ19_hash_15 (by decide) ?_
  refine lv_iushr (v := ((iI (hN L)).toUInt32 >>> ((iI 16).toUInt32 &&& Int32.toUInt32 31)).toInt32) hx hb dJ19_hash_17 rfl ?_
  refine lv_ixor hx hb dJ19_hash_18 ?_
  refine W.eq (g2 := F0 m9 19 ls [.int (iI (hsp L))]) (by rw [show iI (hsp L) = _ from iI_toInt _]) ?_
  exact h_ireturn hx hb hlk hret hR hL rfl ⟨rfl, rfl⟩ (by omega) (by omega) rfl rfl dJ19_hash_19

set_option maxHeartbeats 4000000 in
set_option maxRecDepth 100000 in
/-- HashMap.getNode -/
theorem hm_gn (l : Launch) (G : Gl) (w : Wd) (r a arr : Nat) (n mo : Int) (lf : UInt32) (Bk : Nat → List En) (hA : w a = some (r, hmE (.ref arr) n mo 12 lf)) (hT : HmT G w r arr Bk) (k : Nat) (L : List Int) (hS : StrAt G w k L) : HM l yJ19_getNode cJ19_getNode 8 (some (.object "java/util/HashMap$Node")) 6 0 0 G [.ref a, .ref k] w (QN G (fun z_ w_ => z_ = (fndC (Bk (bix L)) L).map eQ ∧ w_ = w)) := by
  refine HM.mk (by decide +kernel) (Nat.le_of_ble_eq_true rfl) ?_
  intro p9 e9 s9 m9 a9 b9 meth9 c9 ls X hret hlk hnm hl H hR
  have hx := X.1.1
  have hb := X.1.2.1
  have hl : lv_has ls 8 [(0, .ref a), (1, .ref k)] := hl
  have hL : LK G [] := fun q h => absurd h List.not_mem_nil
  generalize ([] : List Loc) = locs at hL ⊢
  obtain ⟨hd, hT1, hT2⟩ := hT
  obtain ⟨hsg, hbx, hnd⟩ := hT2 (bix L) (bix_r L).1
  have hbr := bix_r L
  have hspr := hsp_r L
  refine lv_aload_n hx hb dJ19_getNode_0 rfl (lv_at hl 0 rfl) ?_
  refine h_get X hR hA rfl in_J19 2 (by decide) q560 rfl dJ19_getNode_1 ?_
  refine lv_dup hx hb dJ19_getNode_4 rfl ?_
  refine lv_astore_n (lv' := [(2, .ref arr), (0, .ref a), (1, .ref k)]) hx hb dJ19_getNode_5 rfl hl (by decide) rfl (fun ls hl => ?_)
  refine lv_ifnull hx hb dJ19_getNode_6 ?_
  refine lv_aload_n hx hb dJ19_getNode_9 rfl (lv_at hl 0 rfl) ?_
  refine h_alenR X hR hT1 rfl dJ19_getNode_10 ?_
  refine W.eq (g2 := F0 m9 11 ls [.int (iI (16))]) (congrArg (fun z_ : Int => F0 m9 11 ls [.int (iI (z_))]) (show (((16 : Nat) : Int) : Int) = 16 from (by rfl))) ?_
  refine lv_dup hx hb dJ19_getNode_11 rfl ?_
  refine lv_istore (lv' := [(5, .int (iI (16))), (2, .ref arr), (0, .ref a), (1, .ref k)]) hx hb dJ19_getNode_12 hl (by decide) rfl (fun ls hl => ?_)
  refine h_if_le hx hb 148 dJ19_getNode_14 (by decide) (by decide) (fun z_ => absurd z_ (by decide)) (fun _ => ?_)
  refine lv_aload_n hx hb dJ19_getNode_17 rfl (lv_at hl 1 rfl) ?_
  refine lv_iload hx hb dJ19_getNode_18 (lv_at hl 0 rfl) ?_
  refine h_iconst hx hb dJ19_getNode_20 ?_
  refine h_isub hx hb dJ19_getNode_21 ?_
  refine W.eq (g2 := F0 m9 22 ls [.int (iI (15)), .ref arr]) (congrArg (fun z_ : Int => F0 m9 22 ls [.int (iI (z_)), .ref arr]) (show (16 - 1 : Int) = 15 from (by decide))) ?_
  refine lv_aload_n hx hb dJ19_getNode_22 rfl (lv_at hl 3 rfl) ?_
  -- call java/util/HashMap.hash
  refine h_kIp (h_runS X hR (hm_hash l G w k L hS) pn_yJ19_hash q744 q745 q143 q746 ⟨by decide, by decide⟩ hl.1 (Nat.le_of_ble_eq_true rfl) dJ19_getNode_23 ⟨by omega, by omega⟩) hL (fun H locs hR hL => ?_)
  refine lv_dup hx hb dJ19_getNode_26 rfl ?_
  refine lv_istore (lv' := [(6, .int (iI (hsp L))), (5, .int (iI (16))), (2, .ref arr), (0, .ref a), (1, .ref k)]) hx hb dJ19_getNode_27 hl (by decide) rfl (fun ls hl => ?_)
  refine lv_iand hx hb dJ19_getNode_29 ?_
  refine W.eq (g2 := F0 m9 30 ls [.int (iI ((bix L : Int))), .ref arr]) (by rw [iI_15and, hbr.2]) ?_
  obtain ⟨B0, hBk⟩ : ∃ B0, Bk (bix L) = B0 := ⟨_, rfl⟩
  rcases B0 with _ | ⟨en, B⟩
  ·
    rw [hBk] at hsg
    have hd_none : hd (bix L : Int).toNat = none := by rw [Int.toNat_natCast]; exact hsg
    refine h_aald X hR hT1 rfl (by omega) (by omega) dJ19_getNode_30 ?_
    refine W.eq (g2 := F0 m9 31 ls [.null]) (by rw [hd_none]; rfl) ?_
    refine lv_dup hx hb dJ19_getNode_31 rfl ?_
    refine lv_astore_nN (lv' := [(3, .null), (6, .int (iI (hsp L))), (5, .int (iI (16))), (2, .ref arr), (0, .ref a), (1, .ref k)]) hx hb dJ19_getNode_32 rfl hl (by decide) rfl (fun ls hl => ?_)
    refine lv_ifnullN (tgt := 148) hx hb dJ19_getNode_33 (by decide) ?_
    refine lv_null hx hb dJ19_getNode_148 ?_
    exact h_nreturn hx hb hlk hret (by first | exact Or.inl ⟨_, rfl⟩ | exact Or.inr ⟨_, rfl⟩) hR hL none rfl ⟨(by first | (rw [hf4, fndC_n (by first | exact c_ne4 | exact (fun q_ => c_h4 (by rw [q_])))]; rfl) | (rw [hBk, fndC_n (by first | exact c_ne | exact (fun q_ => c_h (by rw [q_])))]; rfl) | (rw [hBk]; rfl)), rfl⟩ (by omega) (by omega) rfl rfl dJ19_getNode_149
  ·
    rw [hBk] at hsg
    obtain ⟨hd_s, nx, hNo, hKe, hsg2⟩ := hsg
    have hd_some : hd (bix L : Int).toNat = some (eQ en) := by rw [Int.toNat_natCast]; exact hd_s
    have hsr_en := hsp_r (eL en)
    refine h_aald X hR hT1 rfl (by omega) (by omega) dJ19_getNode_30 ?_
    refine W.eq (g2 := F0 m9 31 ls [.ref ((eQ en))]) (by rw [hd_some]; rfl) ?_
    refine lv_dup hx hb dJ19_getNode_31 rfl ?_
    refine lv_astore_n (lv' := [(3, .ref ((eQ en))), (6, .int (iI (hsp L))), (5, .int (iI (16))), (2, .ref arr), (0, .ref a), (1, .ref k)]) hx hb dJ19_getNode_32 rfl hl (by decide) rfl (fun ls hl => ?_)
    refine lv_ifnull hx hb dJ19_getNode_33 ?_
    refine lv_aload_n hx hb dJ19_getNode_36 rfl (lv_at hl 0 rfl) ?_
    refine h_get X hR hNo rfl in_J20 0 (by decide) q880 rfl dJ19_getNode_37 ?_
    refine lv_iload hx hb dJ19_getNode_40 (lv_at hl 1 rfl) ?_
    refine h_icmp_ne hx hb 71 dJ19_getNode_42 (by decide) (by omega) (by omega) (fun c_h => ?_) (fun c_h => ?_)
    ·
      refine lv_aload_n hx hb dJ19_getNode_71 rfl (lv_at hl 0 rfl) ?_
      refine h_get X hR hNo rfl in_J20 3 (by decide) q891 rfl dJ19_getNode_72 ?_
      rcases B with _ | ⟨e2, B2⟩
      ·
        obtain rfl : nx = none := hsg2
        refine W.eq (g2 := F0 m9 75 ls [.null]) (rfl) ?_
        refine lv_dup hx hb dJ19_getNode_75 rfl ?_
        refine lv_astoreN (lv' := [(4, .null), (3, .ref ((eQ en))), (6, .int (iI (hsp L))), (5, .int (iI (16))), (2, .ref arr), (0, .ref a), (1, .ref k)]) hx hb dJ19_getNode_76 hl (by decide) rfl (fun ls hl => ?_)
        refine lv_ifnullN (tgt := 148) hx hb dJ19_getNode_78 (by decide) ?_
        refine lv_null hx hb dJ19_getNode_148 ?_
        exact h_nreturn hx hb hlk hret (by first | exact Or.inl ⟨_, rfl⟩ | exact Or.inr ⟨_, rfl⟩) hR hL none rfl ⟨(by first | (rw [hf4, fndC_n (by first | exact c_ne4 | exact (fun q_ => c_h4 (by rw [q_])))]; rfl) | (rw [hBk, fndC_n (by first | exact c_ne | exact (fun q_ => c_h (by rw [q_])))]; rfl) | (rw [hBk]; rfl)), rfl⟩ (by omega) (by omega) rfl rfl dJ19_getNode_149
      ·
        obtain ⟨hnx, nx2, hNo2, hKe2, hsg3⟩ := hsg2
        subst hnx
        refine W.eq (g2 := F0 m9 75 ls [.ref ((eQ e2))]) (rfl) ?_
        refine lv_dup hx hb dJ19_getNode_75 rfl ?_
        refine lv_astore (lv' := [(4, .ref ((eQ e2))), (3, .ref ((eQ en))), (6, .int (iI (hsp L))), (5, .int (iI (16))), (2, .ref arr), (0, .ref a), (1, .ref k)]) hx hb dJ19_getNode_76 hl (by decide) rfl (fun ls hl => ?_)
        refine lv_ifnull hx hb dJ19_getNode_78 ?_
        refine lv_aload_n hx hb dJ19_getNode_81 rfl (lv_at hl 1 rfl) ?_
        refine h_instNo X hR (hasC.of hNo rfl) [false, false, true, false, true, true, false, false, false, false] rfl q858 dJ19_getNode_82 ?_
        refine h_if_eq hx hb 99 dJ19_getNode_85 (by decide) (by decide) (fun _ => ?_) (fun z_ => absurd z_ (by decide))
        have LOOP_6 : ∀ (N_ : Nat) (e4 : En) (B4 : List En), (Seg G w r (some (eQ e4)) (e4 :: B4) none) → (fndC (Bk (bix L)) L = fndC (e4 :: B4) L) → B4.length < N_ → ∀ (H : Heap) (locs : List Loc) (ls : Array Slot), Rp G w H → LK G locs → lv_has ls 8 [(1, .ref k), (4, .ref ((eQ e4))), (6, .int (iI (hsp L)))] → W p9 l e9 (rmk 6 0 0) s9 m9 a9 b9 meth9 c9 H locs 0 0 (MQ b9 (QN G (fun z_ w_ => z_ = (fndC (Bk (bix L)) L).map eQ ∧ w_ = w)) a9 s9 0 0 (frG G)) (F0 m9 99 ls []) := by
          intro N_
          induction N_ with
          | zero => intro _ _ _ _ h_; exact absurd h_ (Nat.not_lt_zero _)
          | succ N_ ih_ =>
            intro e4 B4 hq4 hf4 hN_ H locs ls hR hL hl
            have ih_6 := ih_
            clear ih_
            obtain ⟨-, nx4, hNo4, hKe4, hsg4⟩ := hq4
            have hsr_e4 := hsp_r (eL e4)
            refine lv_aload hx hb dJ19_getNode_99 (lv_at hl 1 rfl) ?_
            refine h_get X hR hNo4 rfl in_J20 0 (by decide) q880 rfl dJ19_getNode_101 ?_
            refine lv_iload hx hb dJ19_getNode_104 (lv_at hl 2 rfl) ?_
            refine h_icmp_ne hx hb 137 dJ19_getNode_106 (by decide) (by omega) (by omega) (fun c_h4 => ?_) (fun c_h4 => ?_)
            ·
              refine lv_aload hx hb dJ19_getNode_137 (lv_at hl 1 rfl) ?_
              refine h_get X hR hNo4 rfl in_J20 3 (by decide) q891 rfl dJ19_getNode_139 ?_
              rcases B4 with _ | ⟨e5, B5⟩
              ·
                obtain rfl : nx4 = none := hsg4
                refine W.eq (g2 := F0 m9 142 ls [.null]) (rfl) ?_
                refine lv_dup hx hb dJ19_getNode_142 rfl ?_
                refine lv_astoreN (lv' := [(4, .null), (1, .ref k), (6, .int (iI (hsp L)))]) hx hb dJ19_getNode_143 hl (by decide) rfl (fun ls hl => ?_)
                refine lv_ifnonnullN hx hb dJ19_getNode_145 ?_
                refine lv_null hx hb dJ19_getNode_148 ?_
                exact h_nreturn hx hb hlk hret (by first | exact Or.inl ⟨_, rfl⟩ | exact Or.inr ⟨_, rfl⟩) hR hL none rfl ⟨(by first | (rw [hf4, fndC_n (by first | exact c_ne4 | exact (fun q_ => c_h4 (by rw [q_])))]; rfl) | (rw [hBk, fndC_n (by first | exact c_ne | exact (fun q_ => c_h (by rw [q_])))]; rfl) | (rw [hBk]; rfl)), rfl⟩ (by omega) (by omega) rfl rfl dJ19_getNode_149
              ·
                obtain ⟨hnx, nx5, hNo5, hKe5, hsg5⟩ := hsg4
                subst hnx
                refine W.eq (g2 := F0 m9 142 ls [.ref ((eQ e5))]) (rfl) ?_
                refine lv_dup hx hb dJ19_getNode_142 rfl ?_
                refine lv_astore (lv' := [(4, .ref ((eQ e5))), (1, .ref k), (6, .int (iI (hsp L)))]) hx hb dJ19_getNode_143 hl (by decide) rfl (fun ls hl => ?_)
                refine lv_ifnonnull (tgt := 99) hx hb dJ19_getNode_145 (by decide) ?_
                exact ih_6 e5 B5 ⟨rfl, nx5, hNo5, hKe5, hsg5⟩ (by rw [hf4, fndC_n (by first | exact c_ne4 | exact (fun q_ => c_h4 (by rw [q_])))]) (by simp only [List.length_cons] at hN_; omega) _ _ _ hR hL (lv_sub hl [1, 0, 2] rfl)
            ·
              refine lv_aload hx hb dJ19_getNode_109 (lv_at hl 1 rfl) ?_
              refine h_get X hR hNo4 rfl in_J20 1 (by decide) q884 rfl dJ19_getNode_111 ?_
              refine lv_dup hx hb dJ19_getNode_114 rfl ?_
              refine lv_astore (lv' := [(7, .ref ((eK e4))), (1, .ref k), (4, .ref ((eQ e4))), (6, .int (iI (hsp L)))]) hx hb dJ19_getNode_115 hl (by decide) rfl (fun ls hl => ?_)
              refine lv_aload_n hx hb dJ19_getNode_117 rfl (lv_at hl 1 rfl) ?_
              refine lv_acmp_eq (rx := (some ((eK e4)))) (ry := (some k)) (tgt := 134) hx hb dJ19_getNode_118 (by decide) (fun c_r4 => ?_) (fun c_r4 => ?_)
              ·
                have he_ : eL e4 = L := by have q_ := Option.some.inj c_r4; rw [q_] at hKe4; exact hKe4.eqv hS
                refine lv_aload hx hb dJ19_getNode_134 (lv_at hl 2 rfl) ?_
                exact h_nreturn hx hb hlk hret (by first | exact Or.inl ⟨_, rfl⟩ | exact Or.inr ⟨_, rfl⟩) hR hL (some ((eQ e4))) rfl ⟨(by rw [hf4, fndC_y he_]; rfl), rfl⟩ (by omega) (by omega) rfl rfl dJ19_getNode_136
              ·
                refine lv_aload_n hx hb dJ19_getNode_121 rfl (lv_at hl 1 rfl) ?_
                refine lv_ifnull hx hb dJ19_getNode_122 ?_
                refine lv_aload_n hx hb dJ19_getNode_125 rfl (lv_at hl 1 rfl) ?_
                refine lv_aload hx hb dJ19_getNode_126 (lv_at hl 0 rfl) ?_
                -- call java/lang/String.equals
                refine h_kIp (h_runU (x := ⟨"java/lang/Object", "equals", "(Ljava/lang/Object;)Z"⟩) (owner := "java/lang/Object") X hR (s_eq l G w k ((eK e4)) L (eL e4) hS hKe4) (by decide) pn_yJ29_equals (hS.c) q1155 q1157 (h_declC X q1156 q1194) (X.1.2.2.2.2 _ q1185) q1186 q132 q1187 ⟨by decide, by decide⟩ hl.1 (Nat.le_of_ble_eq_true rfl) dJ19_getNode_128 ⟨by omega, by omega⟩) hL (fun H locs hR hL => ?_)
                have hb_ := b2i_01 (L = eL e4)
                refine h_if_eq hx hb 137 dJ19_getNode_131 (by decide) (by omega) (fun c_q4 => ?_) (fun c_q4 => ?_)
                ·
                  have c_ne4 : eL e4 ≠ L := fun q_ => by rw [b2i_t q_.symm] at c_q4; exact absurd c_q4 (by decide)
                  refine lv_aload hx hb dJ19_getNode_137 (lv_at hl 2 rfl) ?_
                  refine h_get X hR hNo4 rfl in_J20 3 (by decide) q891 rfl dJ19_getNode_139 ?_
                  rcases B4 with _ | ⟨e5, B5⟩
                  ·
                    obtain rfl : nx4 = none := hsg4
                    refine W.eq (g2 := F0 m9 142 ls [.null]) (rfl) ?_
                    refine lv_dup hx hb dJ19_getNode_142 rfl ?_
                    refine lv_astoreN (lv' := [(4, .null), (7, .ref ((eK e4))), (1, .ref k), (6, .int (iI (hsp L)))]) hx hb dJ19_getNode_143 hl (by decide) rfl (fun ls hl => ?_)
                    refine lv_ifnonnullN hx hb dJ19_getNode_145 ?_
                    refine lv_null hx hb dJ19_getNode_148 ?_
                    exact h_nreturn hx hb hlk hret (by first | exact Or.inl ⟨_, rfl⟩ | exact Or.inr ⟨_, rfl⟩) hR hL none rfl ⟨(by first | (rw [hf4, fndC_n (by first | exact c_ne4 | exact (fun q_ => c_h4 (by rw [q_])))]; rfl) | (rw [hBk, fndC_n (by first | exact c_ne | exact (fun q_ => c_h (by rw [q_])))]; rfl) | (rw [hBk]; rfl)), rfl⟩ (by omega) (by omega) rfl rfl dJ19_getNode_149
                  ·
                    obtain ⟨hnx, nx5, hNo5, hKe5, hsg5⟩ := hsg4
                    subst hnx
                    refine W.eq (g2 := F0 m9 142 ls [.ref ((eQ e5))]) (rfl) ?_
                    refine lv_dup hx hb dJ19_getNode_142 rfl ?_
                    refine lv_astore (lv' := [(4, .ref ((eQ e5))), (7, .ref ((eK e4))), (1, .ref k), (6, .int (iI (hsp L)))]) hx hb dJ19_getNode_143 hl (by decide) rfl (fun ls hl => ?_)
                    refine lv_ifnonnull (tgt := 99) hx hb dJ19_getNode_145 (by decide) ?_
                    exact ih_6 e5 B5 ⟨rfl, nx5, hNo5, hKe5, hsg5⟩ (by rw [hf4, fndC_n (by first | exact c_ne4 | exact (fun q_ => c_h4 (by rw [q_])))]) (by simp only [List.length_cons] at hN_; omega) _ _ _ hR hL (lv_sub hl [2, 0, 3] rfl)
                ·
                  have he_ : eL e4 = L := by by_cases q_ : L = eL e4; exact q_.symm; exact absurd (b2i_f q_) c_q4
                  refine lv_aload hx hb dJ19_getNode_134 (lv_at hl 2 rfl) ?_
                  exact h_nreturn hx hb hlk hret (by first | exact Or.inl ⟨_, rfl⟩ | exact Or.inr ⟨_, rfl⟩) hR hL (some ((eQ e4))) rfl ⟨(by rw [hf4, fndC_y he_]; rfl), rfl⟩ (by omega) (by omega) rfl rfl dJ19_getNode_136
        exact LOOP_6 _ e2 B2 ⟨rfl, nx2, hNo2, hKe2, hsg3⟩ (by rw [hBk, fndC_n (by first | exact c_ne | exact (fun q_ => c_h (by rw [q_])))]) (Nat.lt_succ_self _) _ _ _ hR hL (lv_sub hl [6, 0, 2] rfl)
    ·
      refine lv_aload_n hx hb dJ19_getNode_45 rfl (lv_at hl 0 rfl) ?_
      refine h_get X hR hNo rfl in_J20 1 (by decide) q884 rfl dJ19_getNode_46 ?_
      refine lv_dup hx hb dJ19_getNode_49 rfl ?_
      refine lv_astore (lv' := [(7, .ref ((eK en))), (3, .ref ((eQ en))), (6, .int (iI (hsp L))), (5, .int (iI (16))), (2, .ref arr), (0, .ref a), (1, .ref k)]) hx hb dJ19_getNode_50 hl (by decide) rfl (fun ls hl => ?_)
      refine lv_aload_n hx hb dJ19_getNode_52 rfl (lv_at hl 6 rfl) ?_
      refine lv_acmp_eq (rx := (some ((eK en)))) (ry := (some k)) (tgt := 69) hx hb dJ19_getNode_53 (by decide) (fun c_r => ?_) (fun c_r => ?_)
      ·
        have he_ : eL en = L := by have q_ := Option.some.inj c_r; rw [q_] at hKe; exact hKe.eqv hS
        refine lv_aload_n hx hb dJ19_getNode_69 rfl (lv_at hl 1 rfl) ?_
        exact h_nreturn hx hb hlk hret (by first | exact Or.inl ⟨_, rfl⟩ | exact Or.inr ⟨_, rfl⟩) hR hL (some ((eQ en))) rfl ⟨(by rw [hBk, fndC_y he_]; rfl), rfl⟩ (by omega) (by omega) rfl rfl dJ19_getNode_70
      ·
        refine lv_aload_n hx hb dJ19_getNode_56 rfl (lv_at hl 6 rfl) ?_
        refine lv_ifnull hx hb dJ19_getNode_57 ?_
        refine lv_aload_n hx hb dJ19_getNode_60 rfl (lv_at hl 6 rfl) ?_
        refine lv_aload hx hb dJ19_getNode_61 (lv_at hl 0 rfl) ?_
        -- call java/lang/String.equals
        refine h_kIp (h_runU (x := ⟨"java/lang/Object", "equals", "(Ljava/lang/Object;)Z"⟩) (owner := "java/lang/Object") X hR (s_eq l G w k ((eK en)) L (eL en) hS hKe) (by decide) pn_yJ29_equals (hS.c) q1155 q1157 (h_declC X q1156 q1194) (X.1.2.2.2.2 _ q1185) q1186 q132 q1187 ⟨by decide, by decide⟩ hl.1 (Nat.le_of_ble_eq_true rfl) dJ19_getNode_63 ⟨by omega, by omega⟩) hL (fun H locs hR hL => ?_)
        have hb_ := b2i_01 (L = eL en)
        refine h_if_eq hx hb 71 dJ19_getNode_66 (by decide) (by omega) (fun c_q => ?_) (fun c_q => ?_)
        ·
          have c_ne : eL en ≠ L := fun q_ => by rw [b2i_t q_.symm] at c_q; exact absurd c_q (by decide)
          refine lv_aload_n hx hb dJ19_getNode_71 rfl (lv_at hl 1 rfl) ?_
          refine h_get X hR hNo rfl in_J20 3 (by decide) q891 rfl dJ19_getNode_72 ?_
          rcases B with _ | ⟨e2, B2⟩
          ·
            obtain rfl : nx = none := hsg2
            refine W.eq (g2 := F0 m9 75 ls [.null]) (rfl) ?_
            refine lv_dup hx hb dJ19_getNode_75 rfl ?_
            refine lv_astoreN (lv' := [(4, .null), (7, .ref ((eK en))), (3, .ref ((eQ en))), (6, .int (iI (hsp L))), (5, .int (iI (16))), (2, .ref arr), (0, .ref a), (1, .ref k)]) hx hb dJ19_getNode_76 hl (by decide) rfl (fun ls hl => ?_)
            refine lv_ifnullN (tgt := 148) hx hb dJ19_getNode_78 (by decide) ?_
            refine lv_null hx hb dJ19_getNode_148 ?_
            exact h_nreturn hx hb hlk hret (by first | exact Or.inl ⟨_, rfl⟩ | exact Or.inr ⟨_, rfl⟩) hR hL none rfl ⟨(by first | (rw [hf4, fndC_n (by first | exact c_ne4 | exact (fun q_ => c_h4 (by rw [q_])))]; rfl) | (rw [hBk, fndC_n (by first | exact c_ne | exact (fun q_ => c_h (by rw [q_])))]; rfl) | (rw [hBk]; rfl)), rfl⟩ (by omega) (by omega) rfl rfl dJ19_getNode_149
          ·
            obtain ⟨hnx, nx2, hNo2, hKe2, hsg3⟩ := hsg2
            subst hnx
            refine W.eq (g2 := F0 m9 75 ls [.ref ((eQ e2))]) (rfl) ?_
            refine lv_dup hx hb dJ19_getNode_75 rfl ?_
            refine lv_astore (lv' := [(4, .ref ((eQ e2))), (7, .ref ((eK en))), (3, .ref ((eQ en))), (6, .int (iI (hsp L))), (5, .int (iI (16))), (2, .ref arr), (0, .ref a), (1, .ref k)]) hx hb dJ19_getNode_76 hl (by decide) rfl (fun ls hl => ?_)
            refine lv_ifnull hx hb dJ19_getNode_78 ?_
            refine lv_aload_n hx hb dJ19_getNode_81 rfl (lv_at hl 2 rfl) ?_
            refine h_instNo X hR (hasC.of hNo rfl) [false, false, true, false, true, true, false, false, false, false] rfl q858 dJ19_getNode_82 ?_
            refine h_if_eq hx hb 99 dJ19_getNode_85 (by decide) (by decide) (fun _ => ?_) (fun z_ => absurd z_ (by decide))
            have LOOP_14 : ∀ (N_ : Nat) (e4 : En) (B4 : List En), (Seg G w r (some (eQ e4)) (e4 :: B4) none) → (fndC (Bk (bix L)) L = fndC (e4 :: B4) L) → B4.length < N_ → ∀ (H : Heap) (locs : List Loc) (ls : Array Slot), Rp G w H → LK G locs → lv_has ls 8 [(1, .ref k), (4, .ref ((eQ e4))), (6, .int (iI (hsp L)))] → W p9 l e9 (rmk 6 0 0) s9 m9 a9 b9 meth9 c9 H locs 0 0 (MQ b9 (QN G (fun z_ w_ => z_ = (fndC (Bk (bix L)) L).map eQ ∧ w_ = w)) a9 s9 0 0 (frG G)) (F0 m9 99 ls []) := by
              intro N_
              induction N_ with
              | zero => intro _ _ _ _ h_; exact absurd h_ (Nat.not_lt_zero _)
              | succ N_ ih_ =>
                intro e4 B4 hq4 hf4 hN_ H locs ls hR hL hl
                have ih_14 := ih_
                clear ih_
                obtain ⟨-, nx4, hNo4, hKe4, hsg4⟩ := hq4
                have hsr_e4 := hsp_r (eL e4)
                refine lv_aload hx hb dJ19_getNode_99 (lv_at hl 1 rfl) ?_
                refine h_get X hR hNo4 rfl in_J20 0 (by decide) q880 rfl dJ19_getNode_101 ?_
                refine lv_iload hx hb dJ19_getNode_104 (lv_at hl 2 rfl) ?_
                refine h_icmp_ne hx hb 137 dJ19_getNode_106 (by decide) (by omega) (by omega) (fun c_h4 => ?_) (fun c_h4 => ?_)
                ·
                  refine lv_aload hx hb dJ19_getNode_137 (lv_at hl 1 rfl) ?_
                  refine h_get X hR hNo4 rfl in_J20 3 (by decide) q891 rfl dJ19_getNode_139 ?_
                  rcases B4 with _ | ⟨e5, B5⟩
                  ·
                    obtain rfl : nx4 = none := hsg4
                    refine W.eq (g2 := F0 m9 142 ls [.null]) (rfl) ?_
                    refine lv_dup hx hb dJ19_getNode_142 rfl ?_
                    refine lv_astoreN (lv' := [(4, .null), (1, .ref k), (6, .int (iI (hsp L)))]) hx hb dJ19_getNode_143 hl (by decide) rfl (fun ls hl => ?_)
                    refine lv_ifnonnullN hx hb dJ19_getNode_145 ?_
                    refine lv_null hx hb dJ19_getNode_148 ?_
                    exact h_nreturn hx hb hlk hret (by first | exact Or.inl ⟨_, rfl⟩ | exact Or.inr ⟨_, rfl⟩) hR hL none rfl ⟨(by first | (rw [hf4, fndC_n (by first | exact c_ne4 | exact (fun q_ => c_h4 (by rw [q_])))]; rfl) | (rw [hBk, fndC_n (by first | exact c_ne | exact (fun q_ => c_h (by rw [q_])))]; rfl) | (rw [hBk]; rfl)), rfl⟩ (by omega) (by omega) rfl rfl dJ19_getNode_149
                  ·
                    obtain ⟨hnx, nx5, hNo5, hKe5, hsg5⟩ := hsg4
                    subst hnx
                    refine W.eq (g2 := F0 m9 142 ls [.ref ((eQ e5))]) (rfl) ?_
                    refine lv_dup hx hb dJ19_getNode_142 rfl ?_
                    refine lv_astore (lv' := [(4, .ref ((eQ e5))), (1, .ref k), (6, .int (iI (hsp L)))]) hx hb dJ19_getNode_143 hl (by decide) rfl (fun ls hl => ?_)
                    refine lv_ifnonnull (tgt := 99) hx hb dJ19_getNode_145 (by decide) ?_
                    exact ih_14 e5 B5 ⟨rfl, nx5, hNo5, hKe5, hsg5⟩ (by rw [hf4, fndC_n (by first | exact c_ne4 | exact (fun q_ => c_h4 (by rw [q_])))]) (by simp only [List.length_cons] at hN_; omega) _ _ _ hR hL (lv_sub hl [1, 0, 2] rfl)
                ·
                  refine lv_aload hx hb dJ19_getNode_109 (lv_at hl 1 rfl) ?_
                  refine h_get X hR hNo4 rfl in_J20 1 (by decide) q884 rfl dJ19_getNode_111 ?_
                  refine lv_dup hx hb dJ19_getNode_114 rfl ?_
                  refine lv_astore (lv' := [(7, .ref ((eK e4))), (1, .ref k), (4, .ref ((eQ e4))), (6, .int (iI (hsp L)))]) hx hb dJ19_getNode_115 hl (by decide) rfl (fun ls hl => ?_)
                  refine lv_aload_n hx hb dJ19_getNode_117 rfl (lv_at hl 1 rfl) ?_
                  refine lv_acmp_eq (rx := (some ((eK e4)))) (ry := (some k)) (tgt := 134) hx hb dJ19_getNode_118 (by decide) (fun c_r4 => ?_) (fun c_r4 => ?_)
                  ·
                    have he_ : eL e4 = L := by have q_ := Option.some.inj c_r4; rw [q_] at hKe4; exact hKe4.eqv hS
                    refine lv_aload hx hb dJ19_getNode_134 (lv_at hl 2 rfl) ?_
                    exact h_nreturn hx hb hlk hret (by first | exact Or.inl ⟨_, rfl⟩ | exact Or.inr ⟨_, rfl⟩) hR hL (some ((eQ e4))) rfl ⟨(by rw [hf4, fndC_y he_]; rfl), rfl⟩ (by omega) (by omega) rfl rfl dJ19_getNode_136
                  ·
                    refine lv_aload_n hx hb dJ19_getNode_121 rfl (lv_at hl 1 rfl) ?_
                    refine lv_ifnull hx hb dJ19_getNode_122 ?_
                    refine lv_aload_n hx hb dJ19_getNode_125 rfl (lv_at hl 1 rfl) ?_
                    refine lv_aload hx hb dJ19_getNode_126 (lv_at hl 0 rfl) ?_
                    -- call java/lang/String.equals
                    refine h_kIp (h_runU (x := ⟨"java/lang/Object", "equals", "(Ljava/lang/Object;)Z"⟩) (owner := "java/lang/Object") X hR (s_eq l G w k ((eK e4)) L (eL e4) hS hKe4) (by decide) pn_yJ29_equals (hS.c) q1155 q1157 (h_declC X q1156 q1194) (X.1.2.2.2.2 _ q1185) q1186 q132 q1187 ⟨by decide, by decide⟩ hl.1 (Nat.le_of_ble_eq_true rfl) dJ19_getNode_128 ⟨by omega, by omega⟩) hL (fun H locs hR hL => ?_)
                    have hb_ := b2i_01 (L = eL e4)
                    refine h_if_eq hx hb 137 dJ19_getNode_131 (by decide) (by omega) (fun c_q4 => ?_) (fun c_q4 => ?_)
                    ·
                      have c_ne4 : eL e4 ≠ L := fun q_ => by rw [b2i_t q_.symm] at c_q4; exact absurd c_q4 (by decide)
                      refine lv_aload hx hb dJ19_getNode_137 (lv_at hl 2 rfl) ?_
                      refine h_get X hR hNo4 rfl in_J20 3 (by decide) q891 rfl dJ19_getNode_139 ?_
                      rcases B4 with _ | ⟨e5, B5⟩
                      ·
                        obtain rfl : nx4 = none := hsg4
                        refine W.eq (g2 := F0 m9 142 ls [.null]) (rfl) ?_
                        refine lv_dup hx hb dJ19_getNode_142 rfl ?_
                        refine lv_astoreN (lv' := [(4, .null), (7, .ref ((eK e4))), (1, .ref k), (6, .int (iI (hsp L)))]) hx hb dJ19_getNode_143 hl (by decide) rfl (fun ls hl => ?_)
                        refine lv_ifnonnullN hx hb dJ19_getNode_145 ?_
                        refine lv_null hx hb dJ19_getNode_148 ?_
                        exact h_nreturn hx hb hlk hret (by first | exact Or.inl ⟨_, rfl⟩ | exact Or.inr ⟨_, rfl⟩) hR hL none rfl ⟨(by first | (rw [hf4, fndC_n (by first | exact c_ne4 | exact (fun q_ => c_h4 (by rw [q_])))]; rfl) | (rw [hBk, fndC_n (by first | exact c_ne | exact (fun q_ => c_h (by rw [q_])))]; rfl) | (rw [hBk]; rfl)), rfl⟩ (by omega) (by omega) rfl rfl dJ19_getNode_149
                      ·
                        obtain ⟨hnx, nx5, hNo5, hKe5, hsg5⟩ := hsg4
                        subst hnx
                        refine W.eq (g2 := F0 m9 142 ls [.ref ((eQ e5))]) (rfl) ?_
                        refine lv_dup hx hb dJ19_getNode_142 rfl ?_
                        refine lv_astore (lv' := [(4, .ref ((eQ e5))), (7, .ref ((eK e4))), (1, .ref k), (6, .int (iI (hsp L)))]) hx hb dJ19_getNode_143 hl (by decide) rfl (fun ls hl => ?_)
                        refine lv_ifnonnull (tgt := 99) hx hb dJ19_getNode_145 (by decide) ?_
                        exact ih_14 e5 B5 ⟨rfl, nx5, hNo5, hKe5, hsg5⟩ (by rw [hf4, fndC_n (by first | exact c_ne4 | exact (fun q_ => c_h4 (by rw [q_])))]) (by simp only [List.length_cons] at hN_; omega) _ _ _ hR hL (lv_sub hl [2, 0, 3] rfl)
                    ·
                      have he_ : eL e4 = L := by by_cases q_ : L = eL e4; exact q_.symm; exact absurd (b2i_f q_) c_q4
                      refine lv_aload hx hb dJ19_getNode_134 (lv_at hl 2 rfl) ?_
                      exact h_nreturn hx hb hlk hret (by first | exact Or.inl ⟨_, rfl⟩ | exact Or.inr ⟨_, rfl⟩) hR hL (some ((eQ e4))) rfl ⟨(by rw [hf4, fndC_y he_]; rfl), rfl⟩ (by omega) (by omega) rfl rfl dJ19_getNode_136
            exact LOOP_14 _ e2 B2 ⟨rfl, nx2, hNo2, hKe2, hsg3⟩ (by rw [hBk, fndC_n (by first | exact c_ne | exact (fun q_ => c_h (by rw [q_])))]) (Nat.lt_succ_self _) _ _ _ hR hL (lv_sub hl [7, 0, 3] rfl)
        ·
          have he_ : eL en = L := by by_cases q_ : L = eL en; exact q_.symm; exact absurd (b2i_f q_) c_q
          refine lv_aload_n hx hb dJ19_getNode_69 rfl (lv_at hl 1 rfl) ?_
          exact h_nreturn hx hb hlk hret (by first | exact Or.inl ⟨_, rfl⟩ | exact Or.inr ⟨_, rfl⟩) hR hL (some ((eQ en))) rfl ⟨(by rw [hBk, fndC_y he_]; rfl), rfl⟩ (by omega) (by omega) rfl rfl dJ19_getNode_70
