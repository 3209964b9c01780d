/-! JDK: HashMap: put, remove -/
set_option maxRecDepth 100000

theorem pn_yJ19_afterNodeRemoval : ParN yJ19_afterNodeRemoval 1 := by decide +kernel
theorem pn_yJ19_putVal : ParN yJ19_putVal 5 := by decide +kernel
theorem pn_yJ19_removeNode : ParN yJ19_removeNode 5 := by decide +kernel

theorem hm_pv (l : Launch) (G : Gl) (w : Wd) (r a n : Nat) (mp : List Int → Option Nat) (hM : HmAt G w r a n mp) (hn7 : n ≤ 7) (hG : RegW w) (hr : r ≠ 0) (k v : Nat) (L : List Int) (hS : StrAt G w k L) (hv : ∃ x, w v = some x) (hno : mp L = none) : HM l yJ19_putVal cJ19_putVal 13 (some (.object "java/lang/Object")) 3 2 20 G [.ref a, .int (iI (hsp L)), .ref k, .ref v, .int (iI 0), .int (iI 1)] w (QN G (fun z_ w_ => z_ = none ∧ HmAt G w_ r a (n + 1) (fun M => if M = L then some v else mp M) ∧ Up (fun q_ => q_ = r) w w_)) := by
  obtain ⟨mo, lf, ⟨h1, h2, h3⟩ | ⟨arr, Bk, h1, h2, h3, h4⟩⟩ := hM
  · have e : (fun M => if M = L then some v else mp M) = (fun M => if M = L then some v else none) := funext (fun M => by rw [h2 M])
    rw [e, h1]
    exact hm_pv0 l G w r a mo lf h3 hG hr k v L hS hv
  · have e : (fun M => if M = L then some v else mp M) = (fun M => if M = L then some v else fndB Bk M) := funext (fun M => by rw [h4 M])
    rw [e]
    have hno2 : fndC (Bk (bix L)) L = none := by
      have h5 := (h4 L).symm.trans hno
      unfold fndB at h5
      exact Option.map_eq_none_iff.mp h5
    exact hm_pvT l G w r a arr n mo lf Bk h1 h2 h3 hn7 hG hr k v L hS hv hno2

set_option maxHeartbeats 4000000 in
set_option maxRecDepth 100000 in
/-- HashMap.put -/
theorem hm_put (l : Launch) (G : Gl) (w : Wd) (r a n : Nat) (mp : List Int → Option Nat) (hM : HmAt G w r a n mp) (hn7 : n ≤ 7) (hG : RegW w) (hr : r ≠ 0) (k v : Nat) (L : List Int) (hS : StrAt G w k L) (hv : ∃ x, w v = some x) (hno : mp L = none) : HM l yJ19_put cJ19_put 3 (some (.object "java/lang/Object")) 6 2 20 G [.ref a, .ref k, .ref v] w (QN G (fun z_ w_ => z_ = none ∧ HmAt G w_ r a (n + 1) (fun M => if M = L then some v else mp M) ∧ Up (fun q_ => q_ = r) w w_)) := by
  refine HM.mk (by decide +kernel) (Nat.le_of_ble_eq_true rfl) ?_
  intro p9 e9 s9 m9 a9 b9 meth9 c9 ls X hret hlk hnm hl H hR
  have hx := X.1.1
  have hb := X.1.2.1
  have hl : lv_has ls 3 [(0, .ref a), (1, .ref k), (2, .ref v)] := hl
  have hL : LK G [] := fun q h => absurd h List.not_mem_nil
  generalize ([] : List Loc) = locs at hL ⊢
  have hU : Up (fun q_ => q_ = r) w w := Up.rf hG
  refine lv_aload_n hx hb dJ19_put_0 rfl (lv_at hl 0 rfl) ?_
  refine lv_aload_n hx hb dJ19_put_1 rfl (lv_at hl 1 rfl) ?_
  -- call java/util/HashMap.hash
  refine h_kIp (h_runS X hR (hm_hash l G w k L hS) pn_yJ19_hash q744 q745 q143 q746 ⟨by decide, by decide⟩ hl.1 (Nat.le_of_ble_eq_true rfl) dJ19_put_2 ⟨by omega, by omega⟩) hL (fun H locs hR hL => ?_)
  refine lv_aload_n hx hb dJ19_put_5 rfl (lv_at hl 1 rfl) ?_
  refine lv_aload_n hx hb dJ19_put_6 rfl (lv_at hl 2 rfl) ?_
  refine h_iconst hx hb dJ19_put_7 ?_
  refine h_iconst hx hb dJ19_put_8 ?_
  -- call java/util/HashMap.putVal
  refine h_kN (h_runV X hR (hm_pv l G w r a n mp hM hn7 hU.2.2.1 hr k v L hS hv hno) pn_yJ19_putVal (hM.c) q845 q846 q847 q143 q848 ⟨by decide, by decide⟩ hl.1 (Nat.le_of_ble_eq_true rfl) dJ19_put_9 ⟨by omega, by omega⟩) hL (fun z_4 w_5 hp_6 H locs hR hL => ?_)
  obtain ⟨rfl, hM__8, u_7⟩ := hp_6
  have hP_k_w_5 := hS.mv (u_7.1) (by first | exact id | (intro q_; (try dsimp only at q_); omega))
  have hU : Up (fun q_ => q_ = r) w w_5 := hU.tr u_7 (fun q_ h_ => by first | exact absurd h_ id | exact Or.inl h_ | ((try dsimp only at h_); first | exact Or.inl (by omega) | exact Or.inr ⟨by omega, by subst h_; rw [Nat.add_sub_cancel]; assumption⟩)) hG
  exact h_nreturn hx hb hlk hret (by first | exact Or.inl ⟨_, rfl⟩ | exact Or.inr ⟨_, rfl⟩) hR hL none rfl ⟨rfl, hM__8, hU⟩ (by omega) (by omega) rfl rfl dJ19_put_12

def delB (Bk : Nat → List En) (L : List Int) : Nat → List En := fun b => if b = bix L then (Bk (bix L)).filter (fun e => decide (eL e ≠ L)) else Bk b
theorem flt_none {B : List En} {L : List Int} (h : ∀ e ∈ B, eL e ≠ L) : B.filter (fun e => decide (eL e ≠ L)) = B := List.filter_eq_self.mpr (fun e he => by simpa using h e he)
theorem flt_mid {B1 B2 : List En} {e : En} {L : List Int} (he : eL e = L) (hnd : ((B1 ++ e :: B2).map eL).Nodup) : (B1 ++ e :: B2).filter (fun e => decide (eL e ≠ L)) = B1 ++ B2 ∧ (∀ e' ∈ B1, eL e' ≠ L) ∧ ∀ e' ∈ B2, eL e' ≠ L := by
  rw [List.map_append, List.nodup_append] at hnd
  have h1 : ∀ e' ∈ B1, eL e' ≠ L := fun e' h q => hnd.2.2 _ (List.mem_map_of_mem h) (eL e) (by simp) (q.trans he.symm)
  have h2 : ∀ e' ∈ B2, eL e' ≠ L := fun e' h q => by
    have h3 := hnd.2.1
    rw [List.map_cons, List.nodup_cons] at h3
    exact h3.1 (by rw [he, ← q]; exact List.mem_map_of_mem h)
  refine ⟨?_, h1, h2⟩
  rw [List.filter_append, flt_none h1, List.filter_cons_of_neg (by simp [he]), flt_none h2]
theorem fndC_flt {B : List En} {L M : List Int} : fndC (B.filter (fun e => decide (eL e ≠ L))) M = if M = L then none else fndC B M := by
  by_cases q : M = L
  · rw [if_pos q]
    exact fndC_no (fun e he => by have := (List.mem_filter.mp he).2; simp at this; rw [q]; exact this)
  · rw [if_neg q]
    unfold fndC
    induction B with
    | nil => rfl
    | cons e B ih =>
      by_cases h : eL e = L
      · rw [List.filter_cons_of_neg (by simp [h]), ih, List.find?_cons_of_neg (by simp [h]; exact fun z => q z.symm)]
      · rw [List.filter_cons_of_pos (by simp [h])]
        by_cases h2 : eL e = M
        · rw [List.find?_cons_of_pos (by simp [h2]), List.find?_cons_of_pos (by simp [h2])]
        · rw [List.find?_cons_of_neg (by simp [h2]), List.find?_cons_of_neg (by simp [h2]), ih]
theorem delB_f {Bk : Nat → List En} {L : List Int} (M : List Int) : fndB (delB Bk L) M = if M = L then none else fndB Bk M := by
  unfold fndB delB
  by_cases q : bix M = bix L
  · rw [if_pos q, fndC_flt, q]
    split <;> rfl
  · rw [if_neg q, if_neg (fun z => q (by rw [z]))]
theorem delB_t {Bk : Nat → List En} {L : List Int} {B1 B2 : List En} {e : En} (he : eL e = L) (hB : Bk (bix L) = B1 ++ e :: B2) (hnd : ((Bk (bix L)).map eL).Nodup) : tot (delB Bk L) 16 + 1 = tot Bk 16 := by
  have h := (tot_upd (Bk := Bk) (i := bix L) (l := (Bk (bix L)).filter (fun e => decide (eL e ≠ L))) 16).1 (bix_r _).1
  rw [hB] at hnd h
  rw [(flt_mid he hnd).1, List.length_append, List.length_append, List.length_cons] at h
  show tot (fun b => if b = bix L then (Bk (bix L)).filter (fun e => decide (eL e ≠ L)) else Bk b) 16 + 1 = _
  rw [hB, (flt_mid he hnd).1]
  omega
theorem nodup_flt {B : List En} {L : List Int} (h : (B.map eL).Nodup) : ((B.filter (fun e => decide (eL e ≠ L))).map eL).Nodup := h.sublist ((List.filter_sublist).map eL)
/-- the bucket's first entry goes -/
theorem HmT.del1 {G : Gl} {w w1 : Wd} {r arr : Nat} {hd : Nat → Option Nat} {Bk : Nat → List En} {L : List Int} {e : En} {B : List En} {nx : Option Nat} (hT2 : HmB G w r hd Bk) (hB : Bk (bix L) = e :: B) (he : eL e = L) (hne : w (eQ e) = some (r, nodE e nx)) (hf : w1 arr = some (r, rE G 5 16 (zset hd (bix L) nx))) (hS : ∀ a L, StrAt G w a L → StrAt G w1 a L) (hkeep : ∀ b, b < 16 → ∀ e' ∈ Bk b, w1 (eQ e') = w (eQ e')) : HmT G w1 r arr (delB Bk L) := by
  refine ⟨_, hf, fun b hb => ?_⟩
  obtain ⟨h1, h2, h3⟩ := hT2 b hb
  unfold zset delB
  by_cases q : b = bix L
  · subst q
    rw [if_pos rfl, if_pos rfl]
    refine ⟨?_, fun e' he' => h2 e' (List.mem_filter.mp he').1, nodup_flt h3⟩
    have hfl := (flt_mid (B1 := []) he (by rw [hB] at h3; exact h3)).1
    rw [List.nil_append, List.nil_append] at hfl
    rw [hB, hfl]
    rw [hB] at h1
    obtain ⟨s1, nx2, s2, s3, s4⟩ := h1
    have e2 : nx = nx2 := by
      have e3 := hne.symm.trans s2
      simp only [nodE, Option.some.injEq, Prod.mk.injEq, true_and, Sum.inl.injEq, Sum.inr.injEq, List.cons.injEq, and_true] at e3
      cases nx <;> cases nx2 <;> simp [va_rf] at e3 ⊢; exact e3
    rw [e2]
    exact s4.kp hS (fun e' he' => hkeep _ hb e' (by rw [hB]; exact List.mem_cons_of_mem _ he'))
  · rw [if_neg q, if_neg q]
    exact ⟨h1.kp hS (fun e' he' => hkeep b hb e' he'), h2, h3⟩
/-- an entry behind p goes -/
theorem HmT.del2 {G : Gl} {w w1 : Wd} {r arr : Nat} {hd : Nat → Option Nat} {Bk : Nat → List En} {L : List Int} {e p : En} {B1 B2 : List En} {nx : Option Nat} (hT2 : HmB G w r hd Bk) (hB : Bk (bix L) = B1 ++ p :: e :: B2) (he : eL e = L) (hne : Seg G w r nx B2 none) (hf : w1 arr = some (r, rE G 5 16 hd)) (hp : w1 (eQ p) = some (r, nodE p nx)) (hS : ∀ a L, StrAt G w a L → StrAt G w1 a L) (hkeep : ∀ b, b < 16 → ∀ e' ∈ Bk b, eQ e' ≠ eQ p → w1 (eQ e') = w (eQ e')) : HmT G w1 r arr (delB Bk L) := by
  have hpm : p ∈ Bk (bix L) := by rw [hB]; exact List.mem_append_right _ List.mem_cons_self
  have hsg0 := hT2 _ (bix_r L).1
  refine ⟨_, hf, fun b hb => ?_⟩
  obtain ⟨h1, h2, h3⟩ := hT2 b hb
  unfold delB
  by_cases q : b = bix L
  · subst q
    rw [if_pos rfl]
    refine ⟨?_, fun e' he' => h2 e' (List.mem_filter.mp he').1, nodup_flt h3⟩
    have hB' : Bk (bix L) = (B1 ++ [p]) ++ e :: B2 := by rw [hB, List.append_assoc]; rfl
    have h3' := h3
    rw [hB'] at h3'
    have hfl := (flt_mid he h3').1
    rw [← hB'] at hfl
    rw [hfl]
    rw [hB] at h1 h3
    have hnd := h3
    rw [List.map_append, List.nodup_append] at hnd
    have hnp : ∀ e' ∈ B1, eL e' ≠ eL p := fun e' he' z => hnd.2.2 _ (List.mem_map_of_mem he') (eL p) (by simp) z
    have hnp2 : ∀ e' ∈ B2, eL e' ≠ eL p := fun e' he' z => by
      have h4 := hnd.2.1
      rw [List.map_cons, List.nodup_cons] at h4
      exact h4.1 (by rw [← z]; exact List.mem_map_of_mem (List.mem_cons_of_mem _ he'))
    have hin : ∀ e', e' ∈ B1 ∨ e' ∈ B2 → e' ∈ Bk (bix L) := fun e' h => by
      rw [hB]
      rcases h with h | h
      · exact List.mem_append_left _ h
      · exact List.mem_append_right _ (List.mem_cons_of_mem _ (List.mem_cons_of_mem _ h))
    have hk2 : ∀ e', (e' ∈ B1 ∨ e' ∈ B2) → eL e' ≠ eL p → w1 (eQ e') = w (eQ e') := fun e' h hn => hkeep _ hb e' (hin e' h) (fun z => hn (hsg0.1.inj hsg0.1 (hin e' h) hpm z))
    have key : ∀ (B : List En) (o : Option Nat), (∀ e' ∈ B, e' ∈ B1) → Seg G w r o (B ++ p :: e :: B2) none → Seg G w1 r o (B ++ [p] ++ B2) none := by
      intro B
      induction B with
      | nil =>
        intro o _ hs
        obtain ⟨s1, nx0, s2, s3, s4⟩ := hs
        exact ⟨s1, nx, hp, hS _ _ s3, hne.kp hS (fun e' he' => hk2 e' (Or.inr he') (hnp2 e' he'))⟩
      | cons b0 B ih =>
        intro o hm hs
        obtain ⟨s1, nx0, s2, s3, s4⟩ := hs
        have hb0 := hm b0 List.mem_cons_self
        exact ⟨s1, nx0, by rw [hk2 b0 (Or.inl hb0) (hnp b0 hb0)]; exact s2, hS _ _ s3, ih nx0 (fun e' he' => hm e' (List.mem_cons_of_mem _ he')) s4⟩
    exact key B1 _ (fun _ h => h) h1
  · rw [if_neg q]
    refine ⟨h1.kp hS (fun e' he' => hkeep b hb e' he' (fun z => q ?_)), h2, h3⟩
    have := h1.inj hsg0.1 he' hpm z
    rw [← h2 e' he', this, hsg0.2.1 p hpm]

set_option maxHeartbeats 4000000 in
set_option maxRecDepth 100000 in
/-- HashMap.removeNode -/
theorem hm_rn (l : Launch) (G : Gl) (w : Wd) (r a arr n : Nat) (mo : Int) (lf : UInt32) (Bk : Nat → List En) (hA : w a = some (r, hmE (.ref arr) (n : Int) mo 12 lf)) (hT : HmT G w r arr Bk) (htot : tot Bk 16 = n) (hn9 : n < 100) (hG : RegW w) (hr : r ≠ 0) (k : Nat) (L : List Int) (hS : StrAt G w k L) (e0 : En) (hfd : fndC (Bk (bix L)) L = some e0) : HM l yJ19_removeNode cJ19_removeNode 14 (some (.object "java/util/HashMap$Node")) 3 0 0 G [.ref a, .int (iI (hsp L)), .ref k, .null, .int (iI (0)), .int (iI (1))] w (QR G (fun z_ w_ => z_ = eQ e0 ∧ (∃ nx, w_ (eQ e0) = some (r, nodE e0 nx)) ∧ (∃ mo2 : Int, w_ a = some (r, hmE (.ref arr) ((n : Int) - 1) mo2 12 lf)) ∧ HmT G w_ r arr (delB Bk L) ∧ tot (delB Bk L) 16 + 1 = n ∧ Up (fun q_ => q_ = r) w w_)) := by
  refine HM.mk (by decide +kernel) (Nat.le_of_ble_eq_true rfl) ?_
  intro p9 e9 s9 m9 a9 b9 meth9 c9 ls X hret hlk hnm hl H hR
  have hx := X.1.1
  have hb := X.1.2.1
  have hl : lv_has ls 14 [(0, .ref a), (1, .int (iI (hsp L))), (2, .ref k), (3, .null), (4, .int (iI (0))), (5, .int (iI (1)))] := hl
  have hL : LK G [] := fun q h => absurd h List.not_mem_nil
  generalize ([] : List Loc) = locs at hL ⊢
  have hU : Up (fun q_ => q_ = r) w w := Up.rf hG
  obtain ⟨hd, hT1, hT2⟩ := hT
  obtain ⟨hsg, hbx, hnd⟩ := hT2 (bix L) (bix_r L).1
  have hsg0 := hsg
  have hbr := bix_r L
  have hspr := hsp_r L
  have htl := tot_le (Bk := Bk) (bix_r L).1
  obtain ⟨hme0, hle0⟩ := fndC_m hfd
  have hnpos : 0 < (Bk (bix L)).length := List.length_pos_of_mem hme0
  refine lv_aload_n hx hb dJ19_removeNode_0 rfl (lv_at hl 0 rfl) ?_
  refine h_get X hR hA rfl in_J19 2 (by decide) q560 rfl dJ19_removeNode_1 ?_
  refine lv_dup hx hb dJ19_removeNode_4 rfl ?_
  refine lv_astore (lv' := [(6, .ref arr), (0, .ref a), (1, .int (iI (hsp L))), (2, .ref k), (3, .null), (4, .int (iI (0))), (5, .int (iI (1)))]) hx hb dJ19_removeNode_5 hl (by decide) rfl (fun ls hl => ?_)
  refine lv_ifnull hx hb dJ19_removeNode_7 ?_
  refine lv_aload hx hb dJ19_removeNode_10 (lv_at hl 0 rfl) ?_
  refine h_alenR X hR hT1 rfl dJ19_removeNode_12 ?_
  refine W.eq (g2 := F0 m9 13 ls [.int (iI (16))]) (congrArg (fun z_ : Int => F0 m9 13 ls [.int (iI (z_))]) (show (((16 : Nat) : Int) : Int) = 16 from (by rfl))) ?_
  refine lv_dup hx hb dJ19_removeNode_13 rfl ?_
  refine lv_istore (lv' := [(8, .int (iI (16))), (6, .ref arr), (0, .ref a), (1, .int (iI (hsp L))), (2, .ref k), (3, .null), (4, .int (iI (0))), (5, .int (iI (1)))]) hx hb dJ19_removeNode_14 hl (by decide) rfl (fun ls hl => ?_)
  refine h_if_le hx hb 289 dJ19_removeNode_16 (by decide) (by decide) (fun z_ => absurd z_ (by decide)) (fun _ => ?_)
  refine lv_aload hx hb dJ19_removeNode_19 (lv_at hl 1 rfl) ?_
  refine lv_iload hx hb dJ19_removeNode_21 (lv_at hl 0 rfl) ?_
  refine h_iconst hx hb dJ19_removeNode_23 ?_
  refine h_isub hx hb dJ19_removeNode_24 ?_
  refine W.eq (g2 := F0 m9 25 ls [.int (iI (15)), .ref arr]) (congrArg (fun z_ : Int => F0 m9 25 ls [.int (iI (z_)), .ref arr]) (show (16 - 1 : Int) = 15 from (by decide))) ?_
  refine lv_iload_n hx hb dJ19_removeNode_25 rfl (lv_at hl 3 rfl) ?_
  refine lv_iand hx hb dJ19_removeNode_26 ?_
  refine W.eq (g2 := F0 m9 27 ls [.int (iI ((bix L : Int))), .ref arr]) (by rw [iI_15and, hbr.2]) ?_
  refine lv_dup hx hb dJ19_removeNode_27 rfl ?_
  refine lv_istore (lv' := [(9, .int (iI ((bix L : Int)))), (8, .int (iI (16))), (6, .ref arr), (0, .ref a), (1, .int (iI (hsp L))), (2, .ref k), (3, .null), (4, .int (iI (0))), (5, .int (iI (1)))]) hx hb dJ19_removeNode_28 hl (by decide) rfl (fun ls hl => ?_)
  obtain ⟨B0, hBk⟩ : ∃ B0, Bk (bix L) = B0 := ⟨_, rfl⟩
  rcases B0 with _ | ⟨en, B⟩
  · exact absurd hnpos (by rw [hBk]; exact Nat.lt_irrefl 0)
  ·
    rw [hBk] at hsg
    obtain ⟨hd_s, nx, hNo, hKe, hsg2⟩ := hsg
    have hd_some : hd (bix L : Int).toNat = some (eQ en) := by rw [Int.toNat_natCast]; exact hd_s
    have hsr_en := hsp_r (eL en)
    by_cases c_en : eL en = L
    ·
      obtain rfl : en = e0 := by have h_ := hfd; rw [hBk, fndC_y c_en] at h_; exact Option.some.inj h_
      have hK0 : ∀ (x_ : Nat) (y_ : Nat × Ent), x_ ≠ a ∧ x_ ≠ arr → w x_ = some y_ → w x_ = some y_ := fun x_ y_ hx_ h_ => h_
      refine h_aald X hR hT1 rfl (by omega) (by omega) dJ19_removeNode_30 ?_
      refine W.eq (g2 := F0 m9 31 ls [.ref ((eQ en))]) (by rw [hd_some]; rfl) ?_
      refine lv_dup hx hb dJ19_removeNode_31 rfl ?_
      refine lv_astore (lv' := [(7, .ref ((eQ en))), (9, .int (iI ((bix L : Int)))), (8, .int (iI (16))), (6, .ref arr), (0, .ref a), (1, .int (iI (hsp L))), (2, .ref k), (3, .null), (4, .int (iI (0))), (5, .int (iI (1)))]) hx hb dJ19_removeNode_32 hl (by decide) rfl (fun ls hl => ?_)
      refine lv_ifnull hx hb dJ19_removeNode_34 ?_
      refine lv_null hx hb dJ19_removeNode_37 ?_
      refine lv_astoreN (lv' := [(10, .null), (7, .ref ((eQ en))), (9, .int (iI ((bix L : Int)))), (8, .int (iI (16))), (6, .ref arr), (0, .ref a), (1, .int (iI (hsp L))), (2, .ref k), (3, .null), (4, .int (iI (0))), (5, .int (iI (1)))]) hx hb dJ19_removeNode_38 hl (by decide) rfl (fun ls hl => ?_)
      refine lv_aload hx hb dJ19_removeNode_40 (lv_at hl 1 rfl) ?_
      refine h_get X hR hNo rfl in_J20 0 (by decide) q880 rfl dJ19_removeNode_42 ?_
      refine lv_iload_n hx hb dJ19_removeNode_45 rfl (lv_at hl 6 rfl) ?_
      refine h_icmp_ne hx hb 81 dJ19_removeNode_46 (by decide) (by omega) (by omega) (fun c_h => ?_) (fun c_h => ?_)
      ·
        exact absurd (by rw [c_en]) c_h
      ·
        refine lv_aload hx hb dJ19_removeNode_49 (lv_at hl 1 rfl) ?_
        refine h_get X hR hNo rfl in_J20 1 (by decide) q884 rfl dJ19_removeNode_51 ?_
        refine lv_dup hx hb dJ19_removeNode_54 rfl ?_
        refine lv_astore (lv' := [(12, .ref ((eK en))), (10, .null), (7, .ref ((eQ en))), (9, .int (iI ((bix L : Int)))), (8, .int (iI (16))), (6, .ref arr), (0, .ref a), (1, .int (iI (hsp L))), (2, .ref k), (3, .null), (4, .int (iI (0))), (5, .int (iI (1)))]) hx hb dJ19_removeNode_55 hl (by decide) rfl (fun ls hl => ?_)
        refine lv_aload_n hx hb dJ19_removeNode_57 rfl (lv_at hl 8 rfl) ?_
        refine lv_acmp_eq (rx := (some ((eK en)))) (ry := (some k)) (tgt := 74) hx hb dJ19_removeNode_58 (by decide) (fun c_r => ?_) (fun c_r => ?_)
        ·
          refine lv_aload hx hb dJ19_removeNode_74 (lv_at hl 2 rfl) ?_
          refine lv_astore (lv' := [(10, .ref ((eQ en))), (12, .ref ((eK en))), (7, .ref ((eQ en))), (9, .int (iI ((bix L : Int)))), (8, .int (iI (16))), (6, .ref arr), (0, .ref a), (1, .int (iI (hsp L))), (2, .ref k), (3, .null), (4, .int (iI (0))), (5, .int (iI (1)))]) hx hb dJ19_removeNode_76 hl (by decide) rfl (fun ls hl => ?_)
          refine lv_goto (tgt := 171) hx hb dJ19_removeNode_78 (by decide) ?_
          refine lv_aload hx hb dJ19_removeNode_171 (lv_at hl 0 rfl) ?_
          refine lv_ifnull hx hb dJ19_removeNode_173 ?_
          refine lv_iload hx hb dJ19_removeNode_176 (lv_at hl 10 rfl) ?_
          refine h_if_eq hx hb 206 dJ19_removeNode_178 (by decide) (by decide) (fun _ => ?_) (fun z_ => absurd z_ (by decide))
          refine lv_aload hx hb dJ19_removeNode_206 (lv_at hl 0 rfl) ?_
          refine h_instNo X hR (hasC.of hNo rfl) [false, false, true, false, true, true, false, false, false, false] rfl q858 dJ19_removeNode_208 ?_
          refine h_if_eq hx hb 230 dJ19_removeNode_211 (by decide) (by decide) (fun _ => ?_) (fun z_ => absurd z_ (by decide))
          refine lv_aload hx hb dJ19_removeNode_230 (lv_at hl 0 rfl) ?_
          refine lv_aload hx hb dJ19_removeNode_232 (lv_at hl 2 rfl) ?_
          refine lv_acmp_ne (rx := (some ((eQ en)))) (ry := (some ((eQ en)))) (tgt := 250) hx hb dJ19_removeNode_234 (by decide) (fun z_ => absurd rfl z_) (fun _ => ?_)
          refine lv_aload hx hb dJ19_removeNode_237 (lv_at hl 5 rfl) ?_
          refine lv_iload hx hb dJ19_removeNode_239 (lv_at hl 3 rfl) ?_
          refine lv_aload hx hb dJ19_removeNode_241 (lv_at hl 0 rfl) ?_
          refine h_get X hR hNo rfl in_J20 3 (by decide) q891 rfl dJ19_removeNode_243 ?_
          rcases B with _ | ⟨e2, B2⟩
          ·
            obtain rfl : nx = none := hsg2
            refine W.eq (g2 := F0 m9 246 ls [.null, .int (iI ((bix L : Int))), .ref arr]) (rfl) ?_
            refine h_aastN X hR hL hT1 hr rfl (by omega) (by omega) dJ19_removeNode_246 (fun w_5 ew_6 H locs hR hL => ?_)
            have hU : Up (fun q_ => q_ = r) w w_5 := by rw [ew_6]; exact hU.set hT1 (by first | exact Or.inl rfl | exact Or.inl (by omega) | exact Or.inr ⟨Nat.succ_ne_zero _, by rw [Nat.add_sub_cancel]; assumption⟩ | exact Or.inr ⟨by omega, by assumption⟩) hG _
            have hF_arr_w_5 : w_5 arr = some (r, rE G 5 16 (zset hd ((bix L : Int)).toNat none)) := by rw [ew_6]; exact wset_eq _ _ _
            have hF_a_w_5 : w_5 a = some (r, oE 24 [.null, .null, .ref arr, .null, .int (iI ((n : Int))), .int (iI (mo)), .int (iI (12)), .float lf]) := by rw [ew_6]; exact (wset_ne _ (by first | exact ne_a_arr | exact Ne.symm ne_arr_a | exact w_neR hA hT1 (by omega) | exact w_ne hA hT1 (by intro h; cases h))).trans hA
            have hP_k_w_5 := hS.mv (w1 := w_5) (S := fun q_ => q_ = r) (by rw [ew_6]; exact Fr.one hT1 _) (by first | exact id | (intro q_; (try dsimp only at q_); omega))
            have hF__eQ_en__w_5 : w_5 ((eQ en)) = some (r, oE 25 [.int (iI (hsp (eL en))), .ref ((eK en)), .ref ((eV en)), .null]) := by rw [ew_6]; exact (wset_ne _ (by first | exact ne__eQ_en__arr | exact Ne.symm ne_arr__eQ_en_ | exact w_neR hNo hT1 (by omega) | exact w_ne hNo hT1 (by intro h; cases h))).trans hNo
            have hP__eK_en__w_5 := hKe.mv (w1 := w_5) (S := fun q_ => q_ = r) (by rw [ew_6]; exact Fr.one hT1 _) (by first | exact id | (intro q_; (try dsimp only at q_); omega))
            have hK_7 : ∀ (x_ : Nat) (y_ : Nat × Ent), x_ ≠ a ∧ x_ ≠ arr → w x_ = some y_ → w_5 x_ = some y_ := fun x_ y_ hx_ h_ => by rw [ew_6]; exact (wset_ne _ hx_.2).trans (hK0 x_ y_ hx_ h_)
            refine lv_goto (tgt := 260) hx hb dJ19_removeNode_247 (by decide) ?_
            refine lv_aload_n hx hb dJ19_removeNode_260 rfl (lv_at hl 6 rfl) ?_
            refine lv_dup hx hb dJ19_removeNode_261 rfl ?_
            refine h_get X hR hF_a_w_5 rfl in_J19 5 (by decide) q562 rfl dJ19_removeNode_262 ?_
            refine h_iconst hx hb dJ19_removeNode_265 ?_
            refine h_iadd hx hb dJ19_removeNode_266 ?_
            refine h_put X hR hL hF_a_w_5 hr rfl in_J19 tyJ19_ok nmJ19 5 (by decide) q562 rfl rfl rfl (Nat.le_of_ble_eq_true rfl) dJ19_removeNode_267 (fun w_8 ew_9 H locs hR hL => ?_)
            have hU : Up (fun q_ => q_ = r) w w_8 := by rw [ew_9]; exact hU.set hF_a_w_5 (by first | exact Or.inl rfl | exact Or.inl (by omega) | exact Or.inr ⟨Nat.succ_ne_zero _, by rw [Nat.add_sub_cancel]; assumption⟩ | exact Or.inr ⟨by omega, by assumption⟩) hG _
            have hF_a_w_8 : w_8 a = some (r, oE 24 [.null, .null, .ref arr, .null, .int (iI ((n : Int))), .int (iI (mo + 1)), .int (iI (12)), .float lf]) := by rw [ew_9]; exact wset_eq _ _ _
            have hF_arr_w_8 : w_8 arr = some (r, rE G 5 16 (zset hd ((bix L : Int)).toNat none)) := by rw [ew_9]; exact (wset_ne _ (by first | exact ne_arr_a | exact Ne.symm ne_a_arr | exact w_neR hF_arr_w_5 hF_a_w_5 (by omega) | exact w_ne hF_arr_w_5 hF_a_w_5 (by intro h; cases h))).trans hF_arr_w_5
            have hP_k_w_8 := hP_k_w_5.mv (w1 := w_8) (S := fun q_ => q_ = r) (by rw [ew_9]; exact Fr.one hF_a_w_5 _) (by first | exact id | (intro q_; (try dsimp only at q_); omega))
            have hF__eQ_en__w_8 : w_8 ((eQ en)) = some (r, oE 25 [.int (iI (hsp (eL en))), .ref ((eK en)), .ref ((eV en)), .null]) := by rw [ew_9]; exact (wset_ne _ (by first | exact ne__eQ_en__a | exact Ne.symm ne_a__eQ_en_ | exact w_neR hF__eQ_en__w_5 hF_a_w_5 (by omega) | exact w_ne hF__eQ_en__w_5 hF_a_w_5 (by intro h; cases h))).trans hF__eQ_en__w_5
            have hP__eK_en__w_8 := hP__eK_en__w_5.mv (w1 := w_8) (S := fun q_ => q_ = r) (by rw [ew_9]; exact Fr.one hF_a_w_5 _) (by first | exact id | (intro q_; (try dsimp only at q_); omega))
            have hK_10 : ∀ (x_ : Nat) (y_ : Nat × Ent), x_ ≠ a ∧ x_ ≠ arr → w x_ = some y_ → w_8 x_ = some y_ := fun x_ y_ hx_ h_ => by rw [ew_9]; exact (wset_ne _ hx_.1).trans (hK_7 x_ y_ hx_ h_)
            refine lv_aload_n hx hb dJ19_removeNode_270 rfl (lv_at hl 6 rfl) ?_
            refine lv_dup hx hb dJ19_removeNode_271 rfl ?_
            refine h_get X hR hF_a_w_8 rfl in_J19 4 (by decide) q561 rfl dJ19_removeNode_272 ?_
            refine h_iconst hx hb dJ19_removeNode_275 ?_
            refine h_isub hx hb dJ19_removeNode_276 ?_
            refine h_put X hR hL hF_a_w_8 hr rfl in_J19 tyJ19_ok nmJ19 4 (by decide) q561 rfl rfl rfl (Nat.le_of_ble_eq_true rfl) dJ19_removeNode_277 (fun w_11 ew_12 H locs hR hL => ?_)
            have hU : Up (fun q_ => q_ = r) w w_11 := by rw [ew_12]; exact hU.set hF_a_w_8 (by first | exact Or.inl rfl | exact Or.inl (by omega) | exact Or.inr ⟨Nat.succ_ne_zero _, by rw [Nat.add_sub_cancel]; assumption⟩ | exact Or.inr ⟨by omega, by assumption⟩) hG _
            have hF_a_w_11 : w_11 a = some (r, oE 24 [.null, .null, .ref arr, .null, .int (iI (((n : Int)) - 1)), .int (iI (mo + 1)), .int (iI (12)), .float lf]) := by rw [ew_12]; exact wset_eq _ _ _
            have hF_arr_w_11 : w_11 arr = some (r, rE G 5 16 (zset hd ((bix L : Int)).toNat none)) := by rw [ew_12]; exact (wset_ne _ (by first | exact ne_arr_a | exact Ne.symm ne_a_arr | exact w_neR hF_arr_w_8 hF_a_w_8 (by omega) | exact w_ne hF_arr_w_8 hF_a_w_8 (by intro h; cases h))).trans hF_arr_w_8
            have hP_k_w_11 := hP_k_w_8.mv (w1 := w_11) (S := fun q_ => q_ = r) (by rw [ew_12]; exact Fr.one hF_a_w_8 _) (by first | exact id | (intro q_; (try dsimp only at q_); omega))
            have hF__eQ_en__w_11 : w_11 ((eQ en)) = some (r, oE 25 [.int (iI (hsp (eL en))), .ref ((eK en)), .ref ((eV en)), .null]) := by rw [ew_12]; exact (wset_ne _ (by first | exact ne__eQ_en__a | exact Ne.symm ne_a__eQ_en_ | exact w_neR hF__eQ_en__w_8 hF_a_w_8 (by omega) | exact w_ne hF__eQ_en__w_8 hF_a_w_8 (by intro h; cases h))).trans hF__eQ_en__w_8
            have hP__eK_en__w_11 := hP__eK_en__w_8.mv (w1 := w_11) (S := fun q_ => q_ = r) (by rw [ew_12]; exact Fr.one hF_a_w_8 _) (by first | exact id | (intro q_; (try dsimp only at q_); omega))
            have hK_13 : ∀ (x_ : Nat) (y_ : Nat × Ent), x_ ≠ a ∧ x_ ≠ arr → w x_ = some y_ → w_11 x_ = some y_ := fun x_ y_ hx_ h_ => by rw [ew_12]; exact (wset_ne _ hx_.1).trans (hK_10 x_ y_ hx_ h_)
            refine lv_aload_n hx hb dJ19_removeNode_280 rfl (lv_at hl 6 rfl) ?_
            refine lv_aload hx hb dJ19_removeNode_281 (lv_at hl 0 rfl) ?_
            -- call java/util/HashMap.afterNodeRemoval
            refine h_kVp (h_runV X hR (hm_anr l G w_11 a ((eQ en))) pn_yJ19_afterNodeRemoval (hasC.of hF_a_w_11 rfl) q1926 q1927 q1928 q143 q1929 ⟨by decide, by decide⟩ hl.1 (Nat.le_of_ble_eq_true rfl) dJ19_removeNode_283 ⟨by omega, by omega⟩) hL (fun H locs hR hL => ?_)
            refine lv_aload hx hb dJ19_removeNode_286 (lv_at hl 0 rfl) ?_
            have hkp : ∀ b, b < 16 → ∀ e_ ∈ Bk b, w_11 (eQ e_) = w (eQ e_) := fun b hb e_ he_ => by obtain ⟨nx_, h1_, -⟩ := (hT2 b hb).1.at e_ he_; rw [h1_]; exact hK_13 _ _ ⟨(fun z_ => by rw [z_, hA] at h1_; simp [nodE] at h1_), (fun z_ => by rw [z_, hT1] at h1_; simp [nodE, rE] at h1_)⟩ h1_
            have hT9 : HmT G w_11 r arr (delB Bk L) := HmT.del1 hT2 hBk hle0 hNo (by have h_ := hF_arr_w_11; rw [Int.toNat_natCast] at h_; exact h_) (fun a_ L_ h_ => h_.mv hU.1 (by intro q_; (try dsimp only at q_); omega)) hkp
            exact h_areturn hx hb hlk hret (by first | exact Or.inl ⟨_, rfl⟩ | exact Or.inr ⟨_, rfl⟩) hR hL ⟨rfl, ⟨_, by rw [hkp _ (bix_r L).1 _ hme0]; exact hNo⟩, ⟨_, hF_a_w_11⟩, hT9, (delB_t (B1 := []) hle0 hBk hnd).trans htot, hU⟩ (by omega) (by omega) rfl rfl dJ19_removeNode_288
          ·
            obtain ⟨hnx, nx2, hNo2, hKe2, hsg3⟩ := hsg2
            subst hnx
            have hC2 : hasC w (eQ e2) "java/util/HashMap$Node" := hasC.of (hK0 _ _ ⟨(fun z_ => by rw [z_, hA] at hNo2; simp [nodE] at hNo2), (fun z_ => by rw [z_, hT1] at hNo2; simp [nodE, rE] at hNo2)⟩ hNo2) rfl
            refine W.eq (g2 := F0 m9 246 ls [.ref ((eQ e2)), .int (iI ((bix L : Int))), .ref arr]) (rfl) ?_
            refine h_aast X hR hL hT1 hr rfl hC2 (Or.inr rfl) (by omega) (by omega) dJ19_removeNode_246 (fun w_17 ew_18 H locs hR hL => ?_)
            have hU : Up (fun q_ => q_ = r) w w_17 := by rw [ew_18]; exact hU.set hT1 (by first | exact Or.inl rfl | exact Or.inl (by omega) | exact Or.inr ⟨Nat.succ_ne_zero _, by rw [Nat.add_sub_cancel]; assumption⟩ | exact Or.inr ⟨by omega, by assumption⟩) hG _
            have hF_arr_w_17 : w_17 arr = some (r, rE G 5 16 (zset hd ((bix L : Int)).toNat (some ((eQ e2))))) := by rw [ew_18]; exact wset_eq _ _ _
            have hF_a_w_17 : w_17 a = some (r, oE 24 [.null, .null, .ref arr, .null, .int (iI ((n : Int))), .int (iI (mo)), .int (iI (12)), .float lf]) := by rw [ew_18]; exact (wset_ne _ (by first | exact ne_a_arr | exact Ne.symm ne_arr_a | exact w_neR hA hT1 (by omega) | exact w_ne hA hT1 (by intro h; cases h))).trans hA
            have hP_k_w_17 := hS.mv (w1 := w_17) (S := fun q_ => q_ = r) (by rw [ew_18]; exact Fr.one hT1 _) (by first | exact id | (intro q_; (try dsimp only at q_); omega))
            have hF__eQ_en__w_17 : w_17 ((eQ en)) = some (r, oE 25 [.int (iI (hsp (eL en))), .ref ((eK en)), .ref ((eV en)), .ref ((eQ e2))]) := by rw [ew_18]; exact (wset_ne _ (by first | exact ne__eQ_en__arr | exact Ne.symm ne_arr__eQ_en_ | exact w_neR hNo hT1 (by omega) | exact w_ne hNo hT1 (by intro h; cases h))).trans hNo
            have hP__eK_en__w_17 := hKe.mv (w1 := w_17) (S := fun q_ => q_ = r) (by rw [ew_18]; exact Fr.one hT1 _) (by first | exact id | (intro q_; (try dsimp only at q_); omega))
            have hK_19 : ∀ (x_ : Nat) (y_ : Nat × Ent), x_ ≠ a ∧ x_ ≠ arr → w x_ = some y_ → w_17 x_ = some y_ := fun x_ y_ hx_ h_ => by rw [ew_18]; exact (wset_ne _ hx_.2).trans (hK0 x_ y_ hx_ h_)
            refine lv_goto (tgt := 260) hx hb dJ19_removeNode_247 (by decide) ?_
            refine lv_aload_n hx hb dJ19_removeNode_260 rfl (lv_at hl 6 rfl) ?_
            refine lv_dup hx hb dJ19_removeNode_261 rfl ?_
            refine h_get X hR hF_a_w_17 rfl in_J19 5 (by decide) q562 rfl dJ19_removeNode_262 ?_
            refine h_iconst hx hb dJ19_removeNode_265 ?_
            refine h_iadd hx hb dJ19_removeNode_266 ?_
            refine h_put X hR hL hF_a_w_17 hr rfl in_J19 tyJ19_ok nmJ19 5 (by decide) q562 rfl rfl rfl (Nat.le_of_ble_eq_true rfl) dJ19_removeNode_267 (fun w_20 ew_21 H locs hR hL => ?_)
            have hU : Up (fun q_ => q_ = r) w w_20 := by rw [ew_21]; exact hU.set hF_a_w_17 (by first | exact Or.inl rfl | exact Or.inl (by omega) | exact Or.inr ⟨Nat.succ_ne_zero _, by rw [Nat.add_sub_cancel]; assumption⟩ | exact Or.inr ⟨by omega, by assumption⟩) hG _
            have hF_a_w_20 : w_20 a = some (r, oE 24 [.null, .null, .ref arr, .null, .int (iI ((n : Int))), .int (iI (mo + 1)), .int (iI (12)), .float lf]) := by rw [ew_21]; exact wset_eq _ _ _
            have hF_arr_w_20 : w_20 arr = some (r, rE G 5 16 (zset hd ((bix L : Int)).toNat (some ((eQ e2))))) := by rw [ew_21]; exact (wset_ne _ (by first | exact ne_arr_a | exact Ne.symm ne_a_arr | exact w_neR hF_arr_w_17 hF_a_w_17 (by omega) | exact w_ne hF_arr_w_17 hF_a_w_17 (by intro h; cases h))).trans hF_arr_w_17
            have hP_k_w_20 := hP_k_w_17.mv (w1 := w_20) (S := fun q_ => q_ = r) (by rw [ew_21]; exact Fr.one hF_a_w_17 _) (by first | exact id | (intro q_; (try dsimp only at q_); omega))
            have hF__eQ_en__w_20 : w_20 ((eQ en)) = some (r, oE 25 [.int (iI (hsp (eL en))), .ref ((eK en)), .ref ((eV en)), .ref ((eQ e2))]) := by rw [ew_21]; exact (wset_ne _ (by first | exact ne__eQ_en__a | exact Ne.symm ne_a__eQ_en_ | exact w_neR hF__eQ_en__w_17 hF_a_w_17 (by omega) | exact w_ne hF__eQ_en__w_17 hF_a_w_17 (by intro h; cases h))).trans hF__eQ_en__w_17
            have hP__eK_en__w_20 := hP__eK_en__w_17.mv (w1 := w_20) (S := fun q_ => q_ = r) (by rw [ew_21]; exact Fr.one hF_a_w_17 _) (by first | exact id | (intro q_; (try dsimp only at q_); omega))
            have hK_22 : ∀ (x_ : Nat) (y_ : Nat × Ent), x_ ≠ a ∧ x_ ≠ arr → w x_ = some y_ → w_20 x_ = some y_ := fun x_ y_ hx_ h_ => by rw [ew_21]; exact (wset_ne _ hx_.1).trans (hK_19 x_ y_ hx_ h_)
            refine lv_aload_n hx hb dJ19_removeNode_270 rfl (lv_at hl 6 rfl) ?_
            refine lv_dup hx hb dJ19_removeNode_271 rfl ?_
            refine h_get X hR hF_a_w_20 rfl in_J19 4 (by decide) q561 rfl dJ19_removeNode_272 ?_
            refine h_iconst hx hb dJ19_removeNode_275 ?_
            refine h_isub hx hb dJ19_removeNode_276 ?_
            refine h_put X hR hL hF_a_w_20 hr rfl in_J19 tyJ19_ok nmJ19 4 (by decide) q561 rfl rfl rfl (Nat.le_of_ble_eq_true rfl) dJ19_removeNode_277 (fun w_23 ew_24 H locs hR hL => ?_)
            have hU : Up (fun q_ => q_ = r) w w_23 := by rw [ew_24]; exact hU.set hF_a_w_20 (by first | exact Or.inl rfl | exact Or.inl (by omega) | exact Or.inr ⟨Nat.succ_ne_zero _, by rw [Nat.add_sub_cancel]; assumption⟩ | exact Or.inr ⟨by omega, by assumption⟩) hG _
            have hF_a_w_23 : w_23 a = some (r, oE 24 [.null, .null, .ref arr, .null, .int (iI (((n : Int)) - 1)), .int (iI (mo + 1)), .int (iI (12)), .float lf]) := by rw [ew_24]; exact wset_eq _ _ _
            have hF_arr_w_23 : w_23 arr = some (r, rE G 5 16 (zset hd ((bix L : Int)).toNat (some ((eQ e2))))) := by rw [ew_24]; exact (wset_ne _ (by first | exact ne_arr_a | exact Ne.symm ne_a_arr | exact w_neR hF_arr_w_20 hF_a_w_20 (by omega) | exact w_ne hF_arr_w_20 hF_a_w_20 (by intro h; cases h))).trans hF_arr_w_20
            have hP_k_w_23 := hP_k_w_20.mv (w1 := w_23) (S := fun q_ => q_ = r) (by rw [ew_24]; exact Fr.one hF_a_w_20 _) (by first | exact id | (intro q_; (try dsimp only at q_); omega))
            have hF__eQ_en__w_23 : w_23 ((eQ en)) = some (r, oE 25 [.int (iI (hsp (eL en))), .ref ((eK en)), .ref ((eV en)), .ref ((eQ e2))]) := by rw [ew_24]; exact (wset_ne _ (by first | exact ne__eQ_en__a | exact Ne.symm ne_a__eQ_en_ | exact w_neR hF__eQ_en__w_20 hF_a_w_20 (by omega) | exact w_ne hF__eQ_en__w_20 hF_a_w_20 (by intro h; cases h))).trans hF__eQ_en__w_20
            have hP__eK_en__w_23 := hP__eK_en__w_20.mv (w1 := w_23) (S := fun q_ => q_ = r) (by rw [ew_24]; exact Fr.one hF_a_w_20 _) (by first | exact id | (intro q_; (try dsimp only at q_); omega))
            have hK_25 : ∀ (x_ : Nat) (y_ : Nat × Ent), x_ ≠ a ∧ x_ ≠ arr → w x_ = some y_ → w_23 x_ = some y_ := fun x_ y_ hx_ h_ => by rw [ew_24]; exact (wset_ne _ hx_.1).trans (hK_22 x_ y_ hx_ h_)
            refine lv_aload_n hx hb dJ19_removeNode_280 rfl (lv_at hl 6 rfl) ?_
            refine lv_aload hx hb dJ19_removeNode_281 (lv_at hl 0 rfl) ?_
            -- call java/util/HashMap.afterNodeRemoval
            refine h_kVp (h_runV X hR (hm_anr l G w_23 a ((eQ en))) pn_yJ19_afterNodeRemoval (hasC.of hF_a_w_23 rfl) q1926 q1927 q1928 q143 q1929 ⟨by decide, by decide⟩ hl.1 (Nat.le_of_ble_eq_true rfl) dJ19_removeNode_283 ⟨by omega, by omega⟩) hL (fun H locs hR hL => ?_)
            refine lv_aload hx hb dJ19_removeNode_286 (lv_at hl 0 rfl) ?_
            have hkp : ∀ b, b < 16 → ∀ e_ ∈ Bk b, w_23 (eQ e_) = w (eQ e_) := fun b hb e_ he_ => by obtain ⟨nx_, h1_, -⟩ := (hT2 b hb).1.at e_ he_; rw [h1_]; exact hK_25 _ _ ⟨(fun z_ => by rw [z_, hA] at h1_; simp [nodE] at h1_), (fun z_ => by rw [z_, hT1] at h1_; simp [nodE, rE] at h1_)⟩ h1_
            have hT9 : HmT G w_23 r arr (delB Bk L) := HmT.del1 hT2 hBk hle0 hNo (by have h_ := hF_arr_w_23; rw [Int.toNat_natCast] at h_; exact h_) (fun a_ L_ h_ => h_.mv hU.1 (by intro q_; (try dsimp only at q_); omega)) hkp
            exact h_areturn hx hb hlk hret (by first | exact Or.inl ⟨_, rfl⟩ | exact Or.inr ⟨_, rfl⟩) hR hL ⟨rfl, ⟨_, by rw [hkp _ (bix_r L).1 _ hme0]; exact hNo⟩, ⟨_, hF_a_w_23⟩, hT9, (delB_t (B1 := []) hle0 hBk hnd).trans htot, hU⟩ (by omega) (by omega) rfl rfl dJ19_removeNode_288
        ·
          refine lv_aload_n hx hb dJ19_removeNode_61 rfl (lv_at hl 8 rfl) ?_
          refine lv_ifnull hx hb dJ19_removeNode_62 ?_
          refine lv_aload_n hx hb dJ19_removeNode_65 rfl (lv_at hl 8 rfl) ?_
          refine lv_aload hx hb dJ19_removeNode_66 (lv_at hl 0 rfl) ?_
          -- call java/lang/String.equals
          refine h_kIp (h_runU (x := ⟨"java/lang/Object", "equals", "(Ljava/lang/Object;)Z"⟩) (owner := "java/lang/Object") X hR (s_eq l G w k ((eK en)) L (eL en) hS hKe) (by decide) pn_yJ29_equals (hS.c) q1155 q1157 (h_declC X q1156 q1194) (X.1.2.2.2.2 _ q1185) q1186 q132 q1187 ⟨by decide, by decide⟩ hl.1 (Nat.le_of_ble_eq_true rfl) dJ19_removeNode_68 ⟨by omega, by omega⟩) hL (fun H locs hR hL => ?_)
          refine W.eq (g2 := F0 m9 71 ls [.int (iI (1))]) (congrArg (fun z_ : Int => F0 m9 71 ls [.int (iI (z_))]) (show (b2i (L = eL en) : Int) = 1 from (by rw [b2i_t c_en.symm]))) ?_
          refine h_if_eq hx hb 81 dJ19_removeNode_71 (by decide) (by decide) (fun z_ => absurd z_ (by decide)) (fun _ => ?_)
          refine lv_aload hx hb dJ19_removeNode_74 (lv_at hl 2 rfl) ?_
          refine lv_astore (lv' := [(10, .ref ((eQ en))), (12, .ref ((eK en))), (7, .ref ((eQ en))), (9, .int (iI ((bix L : Int)))), (8, .int (iI (16))), (6, .ref arr), (0, .ref a), (1, .int (iI (hsp L))), (2, .ref k), (3, .null), (4, .int (iI (0))), (5, .int (iI (1)))]) hx hb dJ19_removeNode_76 hl (by decide) rfl (fun ls hl => ?_)
          refine lv_goto (tgt := 171) hx hb dJ19_removeNode_78 (by decide) ?_
          refine lv_aload hx hb dJ19_removeNode_171 (lv_at hl 0 rfl) ?_
          refine lv_ifnull hx hb dJ19_removeNode_173 ?_
          refine lv_iload hx hb dJ19_removeNode_176 (lv_at hl 10 rfl) ?_
          refine h_if_eq hx hb 206 dJ19_removeNode_178 (by decide) (by decide) (fun _ => ?_) (fun z_ => absurd z_ (by decide))
          refine lv_aload hx hb dJ19_removeNode_206 (lv_at hl 0 rfl) ?_
          refine h_instNo X hR (hasC.of hNo rfl) [false, false, true, false, true, true, false, false, false, false] rfl q858 dJ19_removeNode_208 ?_
          refine h_if_eq hx hb 230 dJ19_removeNode_211 (by decide) (by decide) (fun _ => ?_) (fun z_ => absurd z_ (by decide))
          refine lv_aload hx hb dJ19_removeNode_230 (lv_at hl 0 rfl) ?_
          refine lv_aload hx hb dJ19_removeNode_232 (lv_at hl 2 rfl) ?_
          refine lv_acmp_ne (rx := (some ((eQ en)))) (ry := (some ((eQ en)))) (tgt := 250) hx hb dJ19_removeNode_234 (by decide) (fun z_ => absurd rfl z_) (fun _ => ?_)
          refine lv_aload hx hb dJ19_removeNode_237 (lv_at hl 5 rfl) ?_
          refine lv_iload hx hb dJ19_removeNode_239 (lv_at hl 3 rfl) ?_
          refine lv_aload hx hb dJ19_removeNode_241 (lv_at hl 0 rfl) ?_
          refine h_get X hR hNo rfl in_J20 3 (by decide) q891 rfl dJ19_removeNode_243 ?_
          rcases B with _ | ⟨e2, B2⟩
          ·
            obtain rfl : nx = none := hsg2
            refine W.eq (g2 := F0 m9 246 ls [.null, .int (iI ((bix L : Int))), .ref arr]) (rfl) ?_
            refine h_aastN X hR hL hT1 hr rfl (by omega) (by omega) dJ19_removeNode_246 (fun w_36 ew_37 H locs hR hL => ?_)
            have hU : Up (fun q_ => q_ = r) w w_36 := by rw [ew_37]; exact hU.set hT1 (by first | exact Or.inl rfl | exact Or.inl (by omega) | exact Or.inr ⟨Nat.succ_ne_zero _, by rw [Nat.add_sub_cancel]; assumption⟩ | exact Or.inr ⟨by omega, by assumption⟩) hG _
            have hF_arr_w_36 : w_36 arr = some (r, rE G 5 16 (zset hd ((bix L : Int)).toNat none)) := by rw [ew_37]; exact wset_eq _ _ _
            have hF_a_w_36 : w_36 a = some (r, oE 24 [.null, .null, .ref arr, .null, .int (iI ((n : Int))), .int (iI (mo)), .int (iI (12)), .float lf]) := by rw [ew_37]; exact (wset_ne _ (by first | exact ne_a_arr | exact Ne.symm ne_arr_a | exact w_neR hA hT1 (by omega) | exact w_ne hA hT1 (by intro h; cases h))).trans hA
            have hP_k_w_36 := hS.mv (w1 := w_36) (S := fun q_ => q_ = r) (by rw [ew_37]; exact Fr.one hT1 _) (by first | exact id | (intro q_; (try dsimp only at q_); omega))
            have hF__eQ_en__w_36 : w_36 ((eQ en)) = some (r, oE 25 [.int (iI (hsp (eL en))), .ref ((eK en)), .ref ((eV en)), .null]) := by rw [ew_37]; exact (wset_ne _ (by first | exact ne__eQ_en__arr | exact Ne.symm ne_arr__eQ_en_ | exact w_neR hNo hT1 (by omega) | exact w_ne hNo hT1 (by intro h; cases h))).trans hNo
            have hP__eK_en__w_36 := hKe.mv (w1 := w_36) (S := fun q_ => q_ = r) (by rw [ew_37]; exact Fr.one hT1 _) (by first | exact id | (intro q_; (try dsimp only at q_); omega))
            have hK_38 : ∀ (x_ : Nat) (y_ : Nat × Ent), x_ ≠ a ∧ x_ ≠ arr → w x_ = some y_ → w_36 x_ = some y_ := fun x_ y_ hx_ h_ => by rw [ew_37]; exact (wset_ne _ hx_.2).trans (hK0 x_ y_ hx_ h_)
            refine lv_goto (tgt := 260) hx hb dJ19_removeNode_247 (by decide) ?_
            refine lv_aload_n hx hb dJ19_removeNode_260 rfl (lv_at hl 6 rfl) ?_
            refine lv_dup hx hb dJ19_removeNode_261 rfl ?_
            refine h_get X hR hF_a_w_36 rfl in_J19 5 (by decide) q562 rfl dJ19_removeNode_262 ?_
            refine h_iconst hx hb dJ19_removeNode_265 ?_
            refine h_iadd hx hb dJ19_removeNode_266 ?_
            refine h_put X hR hL hF_a_w_36 hr rfl in_J19 tyJ19_ok nmJ19 5 (by decide) q562 rfl rfl rfl (Nat.le_of_ble_eq_true rfl) dJ19_removeNode_267 (fun w_39 ew_40 H locs hR hL => ?_)
            have hU : Up (fun q_ => q_ = r) w w_39 := by rw [ew_40]; exact hU.set hF_a_w_36 (by first | exact Or.inl rfl | exact Or.inl (by omega) | exact Or.inr ⟨Nat.succ_ne_zero _, by rw [Nat.add_sub_cancel]; assumption⟩ | exact Or.inr ⟨by omega, by assumption⟩) hG _
            have hF_a_w_39 : w_39 a = some (r, oE 24 [.null, .null, .ref arr, .null, .int (iI ((n : Int))), .int (iI (mo + 1)), .int (iI (12)), .float lf]) := by rw [ew_40]; exact wset_eq _ _ _
            have hF_arr_w_39 : w_39 arr = some (r, rE G 5 16 (zset hd ((bix L : Int)).toNat none)) := by rw [ew_40]; exact (wset_ne _ (by first | exact ne_arr_a | exact Ne.symm ne_a_arr | exact w_neR hF_arr_w_36 hF_a_w_36 (by omega) | exact w_ne hF_arr_w_36 hF_a_w_36 (by intro h; cases h))).trans hF_arr_w_36
            have hP_k_w_39 := hP_k_w_36.mv (w1 := w_39) (S := fun q_ => q_ = r) (by rw [ew_40]; exact Fr.one hF_a_w_36 _) (by first | exact id | (intro q_; (try dsimp only at q_); omega))
            have hF__eQ_en__w_39 : w_39 ((eQ en)) = some (r, oE 25 [.int (iI (hsp (eL en))), .ref ((eK en)), .ref ((eV en)), .null]) := by rw [ew_40]; exact (wset_ne _ (by first | exact ne__eQ_en__a | exact Ne.symm ne_a__eQ_en_ | exact w_neR hF__eQ_en__w_36 hF_a_w_36 (by omega) | exact w_ne hF__eQ_en__w_36 hF_a_w_36 (by intro h; cases h))).trans hF__eQ_en__w_36
            have hP__eK_en__w_39 := hP__eK_en__w_36.mv (w1 := w_39) (S := fun q_ => q_ = r) (by rw [ew_40]; exact Fr.one hF_a_w_36 _) (by first | exact id | (intro q_; (try dsimp only at q_); omega))
            have hK_41 : ∀ (x_ : Nat) (y_ : Nat × Ent), x_ ≠ a ∧ x_ ≠ arr → w x_ = some y_ → w_39 x_ = some y_ := fun x_ y_ hx_ h_ => by rw [ew_40]; exact (wset_ne _ hx_.1).trans (hK_38 x_ y_ hx_ h_)
            refine lv_aload_n hx hb dJ19_removeNode_270 rfl (lv_at hl 6 rfl) ?_
            refine lv_dup hx hb dJ19_removeNode_271 rfl ?_
            refine h_get X hR hF_a_w_39 rfl in_J19 4 (by decide) q561 rfl dJ19_removeNode_272 ?_
            refine h_iconst hx hb dJ19_removeNode_275 ?_
            refine h_isub hx hb dJ19_removeNode_276 ?_
            refine h_put X hR hL hF_a_w_39 hr rfl in_J19 tyJ19_ok nmJ19 4 (by decide) q561 rfl rfl rfl (Nat.le_of_ble_eq_true rfl) dJ19_removeNode_277 (fun w_42 ew_43 H locs hR hL => ?_)
            have hU : Up (fun q_ => q_ = r) w w_42 := by rw [ew_43]; exact hU.set hF_a_w_39 (by first | exact Or.inl rfl | exact Or.inl (by omega) | exact Or.inr ⟨Nat.succ_ne_zero _, by rw [Nat.add_sub_cancel]; assumption⟩ | exact Or.inr ⟨by omega, by assumption⟩) hG _
            have hF_a_w_42 : w_42 a = some (r, oE 24 [.null, .null, .ref arr, .null, .int (iI (((n : Int)) - 1)), .int (iI (mo + 1)), .int (iI (12)), .float lf]) := by rw [ew_43]; exact wset_eq _ _ _
            have hF_arr_w_42 : w_42 arr = some (r, rE G 5 16 (zset hd ((bix L : Int)).toNat none)) := by rw [ew_43]; exact (wset_ne _ (by first | exact ne_arr_a | exact Ne.symm ne_a_arr | exact w_neR hF_arr_w_39 hF_a_w_39 (by omega) | exact w_ne hF_arr_w_39 hF_a_w_39 (by intro h; cases h))).trans hF_arr_w_39
            have hP_k_w_42 := hP_k_w_39.mv (w1 := w_42) (S := fun q_ => q_ = r) (by rw [ew_43]; exact Fr.one hF_a_w_39 _) (by first | exact id | (intro q_; (try dsimp only at q_); omega))
            have hF__eQ_en__w_42 : w_42 ((eQ en)) = some (r, oE 25 [.int (iI (hsp (eL en))), .ref ((eK en)), .ref ((eV en)), .null]) := by rw [ew_43]; exact (wset_ne _ (by first | exact ne__eQ_en__a | exact Ne.symm ne_a__eQ_en_ | exact w_neR hF__eQ_en__w_39 hF_a_w_39 (by omega) | exact w_ne hF__eQ_en__w_39 hF_a_w_39 (by intro h; cases h))).trans hF__eQ_en__w_39
            have hP__eK_en__w_42 := hP__eK_en__w_39.mv (w1 := w_42) (S := fun q_ => q_ = r) (by rw [ew_43]; exact Fr.one hF_a_w_39 _) (by first | exact id | (intro q_; (try dsimp only at q_); omega))
            have hK_44 : ∀ (x_ : Nat) (y_ : Nat × Ent), x_ ≠ a ∧ x_ ≠ arr → w x_ = some y_ → w_42 x_ = some y_ := fun x_ y_ hx_ h_ => by rw [ew_43]; exact (wset_ne _ hx_.1).trans (hK_41 x_ y_ hx_ h_)
            refine lv_aload_n hx hb dJ19_removeNode_280 rfl (lv_at hl 6 rfl) ?_
            refine lv_aload hx hb dJ19_removeNode_281 (lv_at hl 0 rfl) ?_
            -- call java/util/HashMap.afterNodeRemoval
            refine h_kVp (h_runV X hR (hm_anr l G w_42 a ((eQ en))) pn_yJ19_afterNodeRemoval (hasC.of hF_a_w_42 rfl) q1926 q1927 q1928 q143 q1929 ⟨by decide, by decide⟩ hl.1 (Nat.le_of_ble_eq_true rfl) dJ19_removeNode_283 ⟨by omega, by omega⟩) hL (fun H locs hR hL => ?_)
            refine lv_aload hx hb dJ19_removeNode_286 (lv_at hl 0 rfl) ?_
            have hkp : ∀ b, b < 16 → ∀ e_ ∈ Bk b, w_42 (eQ e_) = w (eQ e_) := fun b hb e_ he_ => by obtain ⟨nx_, h1_, -⟩ := (hT2 b hb).1.at e_ he_; rw [h1_]; exact hK_44 _ _ ⟨(fun z_ => by rw [z_, hA] at h1_; simp [nodE] at h1_), (fun z_ => by rw [z_, hT1] at h1_; simp [nodE, rE] at h1_)⟩ h1_
            have hT9 : HmT G w_42 r arr (delB Bk L) := HmT.del1 hT2 hBk hle0 hNo (by have h_ := hF_arr_w_42; rw [Int.toNat_natCast] at h_; exact h_) (fun a_ L_ h_ => h_.mv hU.1 (by intro q_; (try dsimp only at q_); omega)) hkp
            exact h_areturn hx hb hlk hret (by first | exact Or.inl ⟨_, rfl⟩ | exact Or.inr ⟨_, rfl⟩) hR hL ⟨rfl, ⟨_, by rw [hkp _ (bix_r L).1 _ hme0]; exact hNo⟩, ⟨_, hF_a_w_42⟩, hT9, (delB_t (B1 := []) hle0 hBk hnd).trans htot, hU⟩ (by omega) (by omega) rfl rfl dJ19_removeNode_288
          ·
            obtain ⟨hnx, nx2, hNo2, hKe2, hsg3⟩ := hsg2
            subst hnx
            have hC2 : hasC w (eQ e2) "java/util/HashMap$Node" := hasC.of (hK0 _ _ ⟨(fun z_ => by rw [z_, hA] at hNo2; simp [nodE] at hNo2), (fun z_ => by rw [z_, hT1] at hNo2; simp [nodE, rE] at hNo2)⟩ hNo2) rfl
            refine W.eq (g2 := F0 m9 246 ls [.ref ((eQ e2)), .int (iI ((bix L : Int))), .ref arr]) (rfl) ?_
            refine h_aast X hR hL hT1 hr rfl hC2 (Or.inr rfl) (by omega) (by omega) dJ19_removeNode_246 (fun w_48 ew_49 H locs hR hL => ?_)
            have hU : Up (fun q_ => q_ = r) w w_48 := by rw [ew_49]; exact hU.set hT1 (by first | exact Or.inl rfl | exact Or.inl (by omega) | exact Or.inr ⟨Nat.succ_ne_zero _, by rw [Nat.add_sub_cancel]; assumption⟩ | exact Or.inr ⟨by omega, by assumption⟩) hG _
            have hF_arr_w_48 : w_48 arr = some (r, rE G 5 16 (zset hd ((bix L : Int)).toNat (some ((eQ e2))))) := by rw [ew_49]; exact wset_eq _ _ _
            have hF_a_w_48 : w_48 a = some (r, oE 24 [.null, .null, .ref arr, .null, .int (iI ((n : Int))), .int (iI (mo)), .int (iI (12)), .float lf]) := by rw [ew_49]; exact (wset_ne _ (by first | exact ne_a_arr | exact Ne.symm ne_arr_a | exact w_neR hA hT1 (by omega) | exact w_ne hA hT1 (by intro h; cases h))).trans hA
            have hP_k_w_48 := hS.mv (w1 := w_48) (S := fun q_ => q_ = r) (by rw [ew_49]; exact Fr.one hT1 _) (by first | exact id | (intro q_; (try dsimp only at q_); omega))
            have hF__eQ_en__w_48 : w_48 ((eQ en)) = some (r, oE 25 [.int (iI (hsp (eL en))), .ref ((eK en)), .ref ((eV en)), .ref ((eQ e2))]) := by rw [ew_49]; exact (wset_ne _ (by first | exact ne__eQ_en__arr | exact Ne.symm ne_arr__eQ_en_ | exact w_neR hNo hT1 (by omega) | exact w_ne hNo hT1 (by intro h; cases h))).trans hNo
            have hP__eK_en__w_48 := hKe.mv (w1 := w_48) (S := fun q_ => q_ = r) (by rw [ew_49]; exact Fr.one hT1 _) (by first | exact id | (intro q_; (try dsimp only at q_); omega))
            have hK_50 : ∀ (x_ : Nat) (y_ : Nat × Ent), x_ ≠ a ∧ x_ ≠ arr → w x_ = some y_ → w_48 x_ = some y_ := fun x_ y_ hx_ h_ => by rw [ew_49]; exact (wset_ne _ hx_.2).trans (hK0 x_ y_ hx_ h_)
            refine lv_goto (tgt := 260) hx hb dJ19_removeNode_247 (by decide) ?_
            refine lv_aload_n hx hb dJ19_removeNode_260 rfl (lv_at hl 6 rfl) ?_
            refine lv_dup hx hb dJ19_removeNode_261 rfl ?_
            refine h_get X hR hF_a_w_48 rfl in_J19 5 (by decide) q562 rfl dJ19_removeNode_262 ?_
            refine h_iconst hx hb dJ19_removeNode_265 ?_
            refine h_iadd hx hb dJ19_removeNode_266 ?_
            refine h_put X hR hL hF_a_w_48 hr rfl in_J19 tyJ19_ok nmJ19 5 (by decide) q562 rfl rfl rfl (Nat.le_of_ble_eq_true rfl) dJ19_removeNode_267 (fun w_51 ew_52 H locs hR hL => ?_)
            have hU : Up (fun q_ => q_ = r) w w_51 := by rw [ew_52]; exact hU.set hF_a_w_48 (by first | exact Or.inl rfl | exact Or.inl (by omega) | exact Or.inr ⟨Nat.succ_ne_zero _, by rw [Nat.add_sub_cancel]; assumption⟩ | exact Or.inr ⟨by omega, by assumption⟩) hG _
            have hF_a_w_51 : w_51 a = some (r, oE 24 [.null, .null, .ref arr, .null, .int (iI ((n : Int))), .int (iI (mo + 1)), .int (iI (12)), .float lf]) := by rw [ew_52]; exact wset_eq _ _ _
            have hF_arr_w_51 : w_51 arr = some (r, rE G 5 16 (zset hd ((bix L : Int)).toNat (some ((eQ e2))))) := by rw [ew_52]; exact (wset_ne _ (by first | exact ne_arr_a | exact Ne.symm ne_a_arr | exact w_neR hF_arr_w_48 hF_a_w_48 (by omega) | exact w_ne hF_arr_w_48 hF_a_w_48 (by intro h; cases h))).trans hF_arr_w_48
            have hP_k_w_51 := hP_k_w_48.mv (w1 := w_51) (S := fun q_ => q_ = r) (by rw [ew_52]; exact Fr.one hF_a_w_48 _) (by first | exact id | (intro q_; (try dsimp only at q_); omega))
            have hF__eQ_en__w_51 : w_51 ((eQ en)) = some (r, oE 25 [.int (iI (hsp (eL en))), .ref ((eK en)), .ref ((eV en)), .ref ((eQ e2))]) := by rw [ew_52]; exact (wset_ne _ (by first | exact ne__eQ_en__a | exact Ne.symm ne_a__eQ_en_ | exact w_neR hF__eQ_en__w_48 hF_a_w_48 (by omega) | exact w_ne hF__eQ_en__w_48 hF_a_w_48 (by intro h; cases h))).trans hF__eQ_en__w_48
            have hP__eK_en__w_51 := hP__eK_en__w_48.mv (w1 := w_51) (S := fun q_ => q_ = r) (by rw [ew_52]; exact Fr.one hF_a_w_48 _) (by first | exact id | (intro q_; (try dsimp only at q_); omega))
            have hK_53 : ∀ (x_ : Nat) (y_ : Nat × Ent), x_ ≠ a ∧ x_ ≠ arr → w x_ = some y_ → w_51 x_ = some y_ := fun x_ y_ hx_ h_ => by rw [ew_52]; exact (wset_ne _ hx_.1).trans (hK_50 x_ y_ hx_ h_)
            refine lv_aload_n hx hb dJ19_removeNode_270 rfl (lv_at hl 6 rfl) ?_
            refine lv_dup hx hb dJ19_removeNode_271 rfl ?_
            refine h_get X hR hF_a_w_51 rfl in_J19 4 (by decide) q561 rfl dJ19_removeNode_272 ?_
            refine h_iconst hx hb dJ19_removeNode_275 ?_
            refine h_isub hx hb dJ19_removeNode_276 ?_
            refine h_put X hR hL hF_a_w_51 hr rfl in_J19 tyJ19_ok nmJ19 4 (by decide) q561 rfl rfl rfl (Nat.le_of_ble_eq_true rfl) dJ19_removeNode_277 (fun w_54 ew_55 H locs hR hL => ?_)
            have hU : Up (fun q_ => q_ = r) w w_54 := by rw [ew_55]; exact hU.set hF_a_w_51 (by first | exact Or.inl rfl | exact Or.inl (by omega) | exact Or.inr ⟨Nat.succ_ne_zero _, by rw [Nat.add_sub_cancel]; assumption⟩ | exact Or.inr ⟨by omega, by assumption⟩) hG _
            have hF_a_w_54 : w_54 a = some (r, oE 24 [.null, .null, .ref arr, .null, .int (iI (((n : Int)) - 1)), .int (iI (mo + 1)), .int (iI (12)), .float lf]) := by rw [ew_55]; exact wset_eq _ _ _
            have hF_arr_w_54 : w_54 arr = some (r, rE G 5 16 (zset hd ((bix L : Int)).toNat (some ((eQ e2))))) := by rw [ew_55]; exact (wset_ne _ (by first | exact ne_arr_a | exact Ne.symm ne_a_arr | exact w_neR hF_arr_w_51 hF_a_w_51 (by omega) | exact w_ne hF_arr_w_51 hF_a_w_51 (by intro h; cases h))).trans hF_arr_w_51
            have hP_k_w_54 := hP_k_w_51.mv (w1 := w_54) (S := fun q_ => q_ = r) (by rw [ew_55]; exact Fr.one hF_a_w_51 _) (by first | exact id | (intro q_; (try dsimp only at q_); omega))
            have hF__eQ_en__w_54 : w_54 ((eQ en)) = some (r, oE 25 [.int (iI (hsp (eL en))), .ref ((eK en)), .ref ((eV en)), .ref ((eQ e2))]) := by rw [ew_55]; exact (wset_ne _ (by first | exact ne__eQ_en__a | exact Ne.symm ne_a__eQ_en_ | exact w_neR hF__eQ_en__w_51 hF_a_w_51 (by omega) | exact w_ne hF__eQ_en__w_51 hF_a_w_51 (by intro h; cases h))).trans hF__eQ_en__w_51
            have hP__eK_en__w_54 := hP__eK_en__w_51.mv (w1 := w_54) (S := fun q_ => q_ = r) (by rw [ew_55]; exact Fr.one hF_a_w_51 _) (by first | exact id | (intro q_; (try dsimp only at q_); omega))
            have hK_56 : ∀ (x_ : Nat) (y_ : Nat × Ent), x_ ≠ a ∧ x_ ≠ arr → w x_ = some y_ → w_54 x_ = some y_ := fun x_ y_ hx_ h_ => by rw [ew_55]; exact (wset_ne _ hx_.1).trans (hK_53 x_ y_ hx_ h_)
            refine lv_aload_n hx hb dJ19_removeNode_280 rfl (lv_at hl 6 rfl) ?_
            refine lv_aload hx hb dJ19_removeNode_281 (lv_at hl 0 rfl) ?_
            -- call java/util/HashMap.afterNodeRemoval
            refine h_kVp (h_runV X hR (hm_anr l G w_54 a ((eQ en))) pn_yJ19_afterNodeRemoval (hasC.of hF_a_w_54 rfl) q1926 q1927 q1928 q143 q1929 ⟨by decide, by decide⟩ hl.1 (Nat.le_of_ble_eq_true rfl) dJ19_removeNode_283 ⟨by omega, by omega⟩) hL (fun H locs hR hL => ?_)
            refine lv_aload hx hb dJ19_removeNode_286 (lv_at hl 0 rfl) ?_
            have hkp : ∀ b, b < 16 → ∀ e_ ∈ Bk b, w_54 (eQ e_) = w (eQ e_) := fun b hb e_ he_ => by obtain ⟨nx_, h1_, -⟩ := (hT2 b hb).1.at e_ he_; rw [h1_]; exact hK_56 _ _ ⟨(fun z_ => by rw [z_, hA] at h1_; simp [nodE] at h1_), (fun z_ => by rw [z_, hT1] at h1_; simp [nodE, rE] at h1_)⟩ h1_
            have hT9 : HmT G w_54 r arr (delB Bk L) := HmT.del1 hT2 hBk hle0 hNo (by have h_ := hF_arr_w_54; rw [Int.toNat_natCast] at h_; exact h_) (fun a_ L_ h_ => h_.mv hU.1 (by intro q_; (try dsimp only at q_); omega)) hkp
            exact h_areturn hx hb hlk hret (by first | exact Or.inl ⟨_, rfl⟩ | exact Or.inr ⟨_, rfl⟩) hR hL ⟨rfl, ⟨_, by rw [hkp _ (bix_r L).1 _ hme0]; exact hNo⟩, ⟨_, hF_a_w_54⟩, hT9, (delB_t (B1 := []) hle0 hBk hnd).trans htot, hU⟩ (by omega) (by omega) rfl rfl dJ19_removeNode_288
    ·
      have hfd2 : fndC B L = some e0 := by have h_ := hfd; rw [hBk, fndC_n c_en] at h_; exact h_
      refine h_aald X hR hT1 rfl (by omega) (by omega) dJ19_removeNode_30 ?_
      refine W.eq (g2 := F0 m9 31 ls [.ref ((eQ en))]) (by rw [hd_some]; rfl) ?_
      refine lv_dup hx hb dJ19_removeNode_31 rfl ?_
      refine lv_astore (lv' := [(7, .ref ((eQ en))), (9, .int (iI ((bix L : Int)))), (8, .int (iI (16))), (6, .ref arr), (0, .ref a), (1, .int (iI (hsp L))), (2, .ref k), (3, .null), (4, .int (iI (0))), (5, .int (iI (1)))]) hx hb dJ19_removeNode_32 hl (by decide) rfl (fun ls hl => ?_)
      refine lv_ifnull hx hb dJ19_removeNode_34 ?_
      refine lv_null hx hb dJ19_removeNode_37 ?_
      refine lv_astoreN (lv' := [(10, .null), (7, .ref ((eQ en))), (9, .int (iI ((bix L : Int)))), (8, .int (iI (16))), (6, .ref arr), (0, .ref a), (1, .int (iI (hsp L))), (2, .ref k), (3, .null), (4, .int (iI (0))), (5, .int (iI (1)))]) hx hb dJ19_removeNode_38 hl (by decide) rfl (fun ls hl => ?_)
      refine lv_aload hx hb dJ19_removeNode_40 (lv_at hl 1 rfl) ?_
      refine h_get X hR hNo rfl in_J20 0 (by decide) q880 rfl dJ19_removeNode_42 ?_
      refine lv_iload_n hx hb dJ19_removeNode_45 rfl (lv_at hl 6 rfl) ?_
      refine h_icmp_ne hx hb 81 dJ19_removeNode_46 (by decide) (by omega) (by omega) (fun c_h => ?_) (fun c_h => ?_)
      ·
        refine lv_aload hx hb dJ19_removeNode_81 (lv_at hl 1 rfl) ?_
        refine h_get X hR hNo rfl in_J20 3 (by decide) q891 rfl dJ19_removeNode_83 ?_
        rcases B with _ | ⟨e2, B2⟩
        ·
          exact absurd hfd2 (by intro h_; cases h_)
        ·
          obtain ⟨hnx, nx2, hNo2, hKe2, hsg3⟩ := hsg2
          subst hnx
          refine W.eq (g2 := F0 m9 86 ls [.ref ((eQ e2))]) (rfl) ?_
          refine lv_dup hx hb dJ19_removeNode_86 rfl ?_
          refine lv_astore (lv' := [(11, .ref ((eQ e2))), (10, .null), (7, .ref ((eQ en))), (9, .int (iI ((bix L : Int)))), (8, .int (iI (16))), (6, .ref arr), (0, .ref a), (1, .int (iI (hsp L))), (2, .ref k), (3, .null), (4, .int (iI (0))), (5, .int (iI (1)))]) hx hb dJ19_removeNode_87 hl (by decide) rfl (fun ls hl => ?_)
          refine lv_ifnull hx hb dJ19_removeNode_89 ?_
          refine lv_aload hx hb dJ19_removeNode_92 (lv_at hl 2 rfl) ?_
          refine h_instNo X hR (hasC.of hNo rfl) [false, false, true, false, true, true, false, false, false, false] rfl q858 dJ19_removeNode_94 ?_
          refine h_if_eq hx hb 115 dJ19_removeNode_97 (by decide) (by decide) (fun _ => ?_) (fun z_ => absurd z_ (by decide))
          have LOOP_61 : ∀ (N_ : Nat) (p e : En) (B1 B2 : List En), (Bk (bix L) = B1 ++ p :: e :: B2) → (Seg G w r (some (eQ p)) (p :: e :: B2) none) → (eL p ≠ L) → (fndC (e :: B2) L = some e0) → B2.length < N_ → ∀ (H : Heap) (locs : List Loc) (ls : Array Slot), Rp G w H → LK G locs → lv_has ls 14 [(0, .ref a), (1, .int (iI (hsp L))), (2, .ref k), (4, .int (iI (0))), (5, .int (iI (1))), (6, .ref arr), (7, .ref ((eQ p))), (8, .int (iI (16))), (9, .int (iI ((bix L : Int)))), (11, .ref ((eQ e)))] → W p9 l e9 (rmk 3 0 0) s9 m9 a9 b9 meth9 c9 H locs 0 0 (MQ b9 (QR G (fun z_ w_ => z_ = eQ e0 ∧ (∃ nx, w_ (eQ e0) = some (r, nodE e0 nx)) ∧ (∃ mo2 : Int, w_ a = some (r, hmE (.ref arr) ((n : Int) - 1) mo2 12 lf)) ∧ HmT G w_ r arr (delB Bk L) ∧ tot (delB Bk L) 16 + 1 = n ∧ Up (fun q_ => q_ = r) w w_)) a9 s9 0 0 (frG G)) (F0 m9 115 ls []) := by
            intro N_
            induction N_ with
            | zero => intro _ _ _ _ _ _ _ _ h_; exact absurd h_ (Nat.not_lt_zero _)
            | succ N_ ih_ =>
              intro p e B1 B2 hBp0 hsp0 hpn hfe hN_ H locs ls hR hL hl
              have ih_61 := ih_
              clear ih_
              obtain ⟨-, nxp, hNop, hKep, hsgp⟩ := hsp0
              obtain ⟨hnxp, nxe, hNoe, hKee, hsge⟩ := hsgp
              subst hnxp
              have hsr_p := hsp_r (eL p)
              have hsr_e := hsp_r (eL e)
              refine lv_aload hx hb dJ19_removeNode_115 (lv_at hl 9 rfl) ?_
              by_cases c_ee : eL e = L
              ·
                obtain rfl : e = e0 := by have h_ := hfe; rw [fndC_y c_ee] at h_; exact Option.some.inj h_
                refine h_get X hR hNoe rfl in_J20 0 (by decide) q880 rfl dJ19_removeNode_117 ?_
                refine lv_iload_n hx hb dJ19_removeNode_120 rfl (lv_at hl 1 rfl) ?_
                refine h_icmp_ne hx hb 156 dJ19_removeNode_121 (by decide) (by omega) (by omega) (fun c_h5 => ?_) (fun c_h5 => ?_)
                ·
                  exact absurd (by rw [c_ee]) c_h5
                ·
                  refine lv_aload hx hb dJ19_removeNode_124 (lv_at hl 9 rfl) ?_
                  refine h_get X hR hNoe rfl in_J20 1 (by decide) q884 rfl dJ19_removeNode_126 ?_
                  refine lv_dup hx hb dJ19_removeNode_129 rfl ?_
                  refine lv_astore (lv' := [(12, .ref ((eK e))), (0, .ref a), (1, .int (iI (hsp L))), (2, .ref k), (4, .int (iI (0))), (5, .int (iI (1))), (6, .ref arr), (7, .ref ((eQ p))), (8, .int (iI (16))), (9, .int (iI ((bix L : Int)))), (11, .ref ((eQ e)))]) hx hb dJ19_removeNode_130 hl (by decide) rfl (fun ls hl => ?_)
                  refine lv_aload_n hx hb dJ19_removeNode_132 rfl (lv_at hl 3 rfl) ?_
                  refine lv_acmp_eq (rx := (some ((eK e)))) (ry := (some k)) (tgt := 149) hx hb dJ19_removeNode_133 (by decide) (fun c_r5 => ?_) (fun c_r5 => ?_)
                  ·
                    refine lv_aload hx hb dJ19_removeNode_149 (lv_at hl 10 rfl) ?_
                    refine lv_astore (lv' := [(10, .ref ((eQ e))), (12, .ref ((eK e))), (0, .ref a), (1, .int (iI (hsp L))), (2, .ref k), (4, .int (iI (0))), (5, .int (iI (1))), (6, .ref arr), (7, .ref ((eQ p))), (8, .int (iI (16))), (9, .int (iI ((bix L : Int)))), (11, .ref ((eQ e)))]) hx hb dJ19_removeNode_151 hl (by decide) rfl (fun ls hl => ?_)
                    refine lv_goto (tgt := 171) hx hb dJ19_removeNode_153 (by decide) ?_
                    refine lv_aload hx hb dJ19_removeNode_171 (lv_at hl 0 rfl) ?_
                    refine lv_ifnull hx hb dJ19_removeNode_173 ?_
                    refine lv_iload hx hb dJ19_removeNode_176 (lv_at hl 5 rfl) ?_
                    refine h_if_eq hx hb 206 dJ19_removeNode_178 (by decide) (by decide) (fun _ => ?_) (fun z_ => absurd z_ (by decide))
                    refine lv_aload hx hb dJ19_removeNode_206 (lv_at hl 0 rfl) ?_
                    refine h_instNo X hR (hasC.of hNoe rfl) [false, false, true, false, true, true, false, false, false, false] rfl q858 dJ19_removeNode_208 ?_
                    refine h_if_eq hx hb 230 dJ19_removeNode_211 (by decide) (by decide) (fun _ => ?_) (fun z_ => absurd z_ (by decide))
                    refine lv_aload hx hb dJ19_removeNode_230 (lv_at hl 0 rfl) ?_
                    refine lv_aload hx hb dJ19_removeNode_232 (lv_at hl 8 rfl) ?_
                    have hqe : eQ e ≠ eQ p := fun z_ => hpn ((hsg0.inj hsg0 (by rw [hBp0]; exact List.mem_append_right _ List.mem_cons_self) (by rw [hBp0]; exact List.mem_append_right _ (List.mem_cons_of_mem _ List.mem_cons_self)) z_.symm).trans c_ee)
                    refine lv_acmp_ne (rx := (some ((eQ e)))) (ry := (some ((eQ p)))) (tgt := 250) hx hb dJ19_removeNode_234 (by decide) (fun c_np => ?_) (fun c_np => ?_)
                    ·
                      refine lv_aload hx hb dJ19_removeNode_250 (lv_at hl 8 rfl) ?_
                      refine lv_aload hx hb dJ19_removeNode_252 (lv_at hl 0 rfl) ?_
                      refine h_get X hR hNoe rfl in_J20 3 (by decide) q891 rfl dJ19_removeNode_254 ?_
                      rcases B2 with _ | ⟨e5, B5⟩
                      ·
                        obtain rfl : nxe = none := hsge
                        refine W.eq (g2 := F0 m9 257 ls [.null, .ref ((eQ p))]) (rfl) ?_
                        have hK0 : ∀ (x_ : Nat) (y_ : Nat × Ent), x_ ≠ a ∧ x_ ≠ ((eQ p)) → w x_ = some y_ → w x_ = some y_ := fun x_ y_ hx_ h_ => h_
                        refine h_put X hR hL hNop hr rfl in_J20 tyJ20_ok nmJ20 3 (by decide) q891 rfl rfl rfl (Nat.le_of_ble_eq_true rfl) dJ19_removeNode_257 (fun w_64 ew_65 H locs hR hL => ?_)
                        have hU : Up (fun q_ => q_ = r) w w_64 := by rw [ew_65]; exact hU.set hNop (by first | exact Or.inl rfl | exact Or.inl (by omega) | exact Or.inr ⟨Nat.succ_ne_zero _, by rw [Nat.add_sub_cancel]; assumption⟩ | exact Or.inr ⟨by omega, by assumption⟩) hG _
                        have hF__eQ_p__w_64 : w_64 ((eQ p)) = some (r, oE 25 [.int (iI (hsp (eL p))), .ref ((eK p)), .ref ((eV p)), .null]) := by rw [ew_65]; exact wset_eq _ _ _
                        have hF_a_w_64 : w_64 a = some (r, oE 24 [.null, .null, .ref arr, .null, .int (iI ((n : Int))), .int (iI (mo)), .int (iI (12)), .float lf]) := by rw [ew_65]; exact (wset_ne _ (by first | exact ne_a__eQ_p_ | exact Ne.symm ne__eQ_p__a | exact w_neR hA hNop (by omega) | exact w_ne hA hNop (by intro h; cases h))).trans hA
                        have hF_arr_w_64 : w_64 arr = some (r, rE G 5 16 hd) := by rw [ew_65]; exact (wset_ne _ (by first | exact ne_arr__eQ_p_ | exact Ne.symm ne__eQ_p__arr | exact w_neR hT1 hNop (by omega) | exact w_ne hT1 hNop (by intro h; cases h))).trans hT1
                        have hP_k_w_64 := hS.mv (w1 := w_64) (S := fun q_ => q_ = r) (by rw [ew_65]; exact Fr.one hNop _) (by first | exact id | (intro q_; (try dsimp only at q_); omega))
                        have hP__eK_p__w_64 := hKep.mv (w1 := w_64) (S := fun q_ => q_ = r) (by rw [ew_65]; exact Fr.one hNop _) (by first | exact id | (intro q_; (try dsimp only at q_); omega))
                        have hP__eK_e__w_64 := hKee.mv (w1 := w_64) (S := fun q_ => q_ = r) (by rw [ew_65]; exact Fr.one hNop _) (by first | exact id | (intro q_; (try dsimp only at q_); omega))
                        have hK_66 : ∀ (x_ : Nat) (y_ : Nat × Ent), x_ ≠ a ∧ x_ ≠ ((eQ p)) → w x_ = some y_ → w_64 x_ = some y_ := fun x_ y_ hx_ h_ => by rw [ew_65]; exact (wset_ne _ hx_.2).trans (hK0 x_ y_ hx_ h_)
                        refine lv_aload_n hx hb dJ19_removeNode_260 rfl (lv_at hl 2 rfl) ?_
                        refine lv_dup hx hb dJ19_removeNode_261 rfl ?_
                        refine h_get X hR hF_a_w_64 rfl in_J19 5 (by decide) q562 rfl dJ19_removeNode_262 ?_
                        refine h_iconst hx hb dJ19_removeNode_265 ?_
                        refine h_iadd hx hb dJ19_removeNode_266 ?_
                        refine h_put X hR hL hF_a_w_64 hr rfl in_J19 tyJ19_ok nmJ19 5 (by decide) q562 rfl rfl rfl (Nat.le_of_ble_eq_true rfl) dJ19_removeNode_267 (fun w_67 ew_68 H locs hR hL => ?_)
                        have hU : Up (fun q_ => q_ = r) w w_67 := by rw [ew_68]; exact hU.set hF_a_w_64 (by first | exact Or.inl rfl | exact Or.inl (by omega) | exact Or.inr ⟨Nat.succ_ne_zero _, by rw [Nat.add_sub_cancel]; assumption⟩ | exact Or.inr ⟨by omega, by assumption⟩) hG _
                        have hF_a_w_67 : w_67 a = some (r, oE 24 [.null, .null, .ref arr, .null, .int (iI ((n : Int))), .int (iI (mo + 1)), .int (iI (12)), .float lf]) := by rw [ew_68]; exact wset_eq _ _ _
                        have hF__eQ_p__w_67 : w_67 ((eQ p)) = some (r, oE 25 [.int (iI (hsp (eL p))), .ref ((eK p)), .ref ((eV p)), .null]) := by rw [ew_68]; exact (wset_ne _ (by first | exact ne__eQ_p__a | exact Ne.symm ne_a__eQ_p_ | exact w_neR hF__eQ_p__w_64 hF_a_w_64 (by omega) | exact w_ne hF__eQ_p__w_64 hF_a_w_64 (by intro h; cases h))).trans hF__eQ_p__w_64
                        have hF_arr_w_67 : w_67 arr = some (r, rE G 5 16 hd) := by rw [ew_68]; exact (wset_ne _ (by first | exact ne_arr_a | exact Ne.symm ne_a_arr | exact w_neR hF_arr_w_64 hF_a_w_64 (by omega) | exact w_ne hF_arr_w_64 hF_a_w_64 (by intro h; cases h))).trans hF_arr_w_64
                        have hP_k_w_67 := hP_k_w_64.mv (w1 := w_67) (S := fun q_ => q_ = r) (by rw [ew_68]; exact Fr.one hF_a_w_64 _) (by first | exact id | (intro q_; (try dsimp only at q_); omega))
                        have hP__eK_p__w_67 := hP__eK_p__w_64.mv (w1 := w_67) (S := fun q_ => q_ = r) (by rw [ew_68]; exact Fr.one hF_a_w_64 _) (by first | exact id | (intro q_; (try dsimp only at q_); omega))
                        have hP__eK_e__w_67 := hP__eK_e__w_64.mv (w1 := w_67) (S := fun q_ => q_ = r) (by rw [ew_68]; exact Fr.one hF_a_w_64 _) (by first | exact id | (intro q_; (try dsimp only at q_); omega))
                        have hK_69 : ∀ (x_ : Nat) (y_ : Nat × Ent), x_ ≠ a ∧ x_ ≠ ((eQ p)) → w x_ = some y_ → w_67 x_ = some y_ := fun x_ y_ hx_ h_ => by rw [ew_68]; exact (wset_ne _ hx_.1).trans (hK_66 x_ y_ hx_ h_)
                        refine lv_aload_n hx hb dJ19_removeNode_270 rfl (lv_at hl 2 rfl) ?_
                        refine lv_dup hx hb dJ19_removeNode_271 rfl ?_
                        refine h_get X hR hF_a_w_67 rfl in_J19 4 (by decide) q561 rfl dJ19_removeNode_272 ?_
                        refine h_iconst hx hb dJ19_removeNode_275 ?_
                        refine h_isub hx hb dJ19_removeNode_276 ?_
                        refine h_put X hR hL hF_a_w_67 hr rfl in_J19 tyJ19_ok nmJ19 4 (by decide) q561 rfl rfl rfl (Nat.le_of_ble_eq_true rfl) dJ19_removeNode_277 (fun w_70 ew_71 H locs hR hL => ?_)
                        have hU : Up (fun q_ => q_ = r) w w_70 := by rw [ew_71]; exact hU.set hF_a_w_67 (by first | exact Or.inl rfl | exact Or.inl (by omega) | exact Or.inr ⟨Nat.succ_ne_zero _, by rw [Nat.add_sub_cancel]; assumption⟩ | exact Or.inr ⟨by omega, by assumption⟩) hG _
                        have hF_a_w_70 : w_70 a = some (r, oE 24 [.null, .null, .ref arr, .null, .int (iI (((n : Int)) - 1)), .int (iI (mo + 1)), .int (iI (12)), .float lf]) := by rw [ew_71]; exact wset_eq _ _ _
                        have hF__eQ_p__w_70 : w_70 ((eQ p)) = some (r, oE 25 [.int (iI (hsp (eL p))), .ref ((eK p)), .ref ((eV p)), .null]) := by rw [ew_71]; exact (wset_ne _ (by first | exact ne__eQ_p__a | exact Ne.symm ne_a__eQ_p_ | exact w_neR hF__eQ_p__w_67 hF_a_w_67 (by omega) | exact w_ne hF__eQ_p__w_67 hF_a_w_67 (by intro h; cases h))).trans hF__eQ_p__w_67
                        have hF_arr_w_70 : w_70 arr = some (r, rE G 5 16 hd) := by rw [ew_71]; exact (wset_ne _ (by first | exact ne_arr_a | exact Ne.symm ne_a_arr | exact w_neR hF_arr_w_67 hF_a_w_67 (by omega) | exact w_ne hF_arr_w_67 hF_a_w_67 (by intro h; cases h))).trans hF_arr_w_67
                        have hP_k_w_70 := hP_k_w_67.mv (w1 := w_70) (S := fun q_ => q_ = r) (by rw [ew_71]; exact Fr.one hF_a_w_67 _) (by first | exact id | (intro q_; (try dsimp only at q_); omega))
                        have hP__eK_p__w_70 := hP__eK_p__w_67.mv (w1 := w_70) (S := fun q_ => q_ = r) (by rw [ew_71]; exact Fr.one hF_a_w_67 _) (by first | exact id | (intro q_; (try dsimp only at q_); omega))
                        have hP__eK_e__w_70 := hP__eK_e__w_67.mv (w1 := w_70) (S := fun q_ => q_ = r) (by rw [ew_71]; exact Fr.one hF_a_w_67 _) (by first | exact id | (intro q_; (try dsimp only at q_); omega))
                        have hK_72 : ∀ (x_ : Nat) (y_ : Nat × Ent), x_ ≠ a ∧ x_ ≠ ((eQ p)) → w x_ = some y_ → w_70 x_ = some y_ := fun x_ y_ hx_ h_ => by rw [ew_71]; exact (wset_ne _ hx_.1).trans (hK_69 x_ y_ hx_ h_)
                        refine lv_aload_n hx hb dJ19_removeNode_280 rfl (lv_at hl 2 rfl) ?_
                        refine lv_aload hx hb dJ19_removeNode_281 (lv_at hl 0 rfl) ?_
                        -- call java/util/HashMap.afterNodeRemoval
                        refine h_kVp (h_runV X hR (hm_anr l G w_70 a ((eQ e))) pn_yJ19_afterNodeRemoval (hasC.of hF_a_w_70 rfl) q1926 q1927 q1928 q143 q1929 ⟨by decide, by decide⟩ hl.1 (Nat.le_of_ble_eq_true rfl) dJ19_removeNode_283 ⟨by omega, by omega⟩) hL (fun H locs hR hL => ?_)
                        refine lv_aload hx hb dJ19_removeNode_286 (lv_at hl 0 rfl) ?_
                        have hkp : ∀ b, b < 16 → ∀ e_ ∈ Bk b, eQ e_ ≠ eQ p → w_70 (eQ e_) = w (eQ e_) := fun b hb e_ he_ hp_ => by obtain ⟨nx_, h1_, -⟩ := (hT2 b hb).1.at e_ he_; rw [h1_]; exact hK_72 _ _ ⟨(fun z_ => by rw [z_, hA] at h1_; simp [nodE] at h1_), hp_⟩ h1_
                        have hT9 : HmT G w_70 r arr (delB Bk L) := HmT.del2 hT2 hBp0 hle0 (by first | exact hsge0 | exact rfl) hF_arr_w_70 (by exact hF__eQ_p__w_70) (fun a_ L_ h_ => h_.mv hU.1 (by intro q_; (try dsimp only at q_); omega)) hkp
                        exact h_areturn hx hb hlk hret (by first | exact Or.inl ⟨_, rfl⟩ | exact Or.inr ⟨_, rfl⟩) hR hL ⟨rfl, ⟨_, by rw [hkp _ (bix_r L).1 _ hme0 hqe]; exact hNoe⟩, ⟨_, hF_a_w_70⟩, hT9, (delB_t (B1 := B1 ++ [p]) hle0 (by rw [hBp0, List.append_assoc]; rfl) hnd).trans htot, hU⟩ (by omega) (by omega) rfl rfl dJ19_removeNode_288
                      ·
                        have hsge0 := hsge
                        obtain ⟨hnx, nx5, hNo5, hKe5, hsg5⟩ := hsge
                        subst hnx
                        refine W.eq (g2 := F0 m9 257 ls [.ref ((eQ e5)), .ref ((eQ p))]) (rfl) ?_
                        have hK0 : ∀ (x_ : Nat) (y_ : Nat × Ent), x_ ≠ a ∧ x_ ≠ ((eQ p)) → w x_ = some y_ → w x_ = some y_ := fun x_ y_ hx_ h_ => h_
                        refine h_put X hR hL hNop hr rfl in_J20 tyJ20_ok nmJ20 3 (by decide) q891 rfl rfl rfl (Nat.le_of_ble_eq_true rfl) dJ19_removeNode_257 (fun w_76 ew_77 H locs hR hL => ?_)
                        have hU : Up (fun q_ => q_ = r) w w_76 := by rw [ew_77]; exact hU.set hNop (by first | exact Or.inl rfl | exact Or.inl (by omega) | exact Or.inr ⟨Nat.succ_ne_zero _, by rw [Nat.add_sub_cancel]; assumption⟩ | exact Or.inr ⟨by omega, by assumption⟩) hG _
                        have hF__eQ_p__w_76 : w_76 ((eQ p)) = some (r, oE 25 [.int (iI (hsp (eL p))), .ref ((eK p)), .ref ((eV p)), .ref ((eQ e5))]) := by rw [ew_77]; exact wset_eq _ _ _
                        have hF_a_w_76 : w_76 a = some (r, oE 24 [.null, .null, .ref arr, .null, .int (iI ((n : Int))), .int (iI (mo)), .int (iI (12)), .float lf]) := by rw [ew_77]; exact (wset_ne _ (by first | exact ne_a__eQ_p_ | exact Ne.symm ne__eQ_p__a | exact w_neR hA hNop (by omega) | exact w_ne hA hNop (by intro h; cases h))).trans hA
                        have hF_arr_w_76 : w_76 arr = some (r, rE G 5 16 hd) := by rw [ew_77]; exact (wset_ne _ (by first | exact ne_arr__eQ_p_ | exact Ne.symm ne__eQ_p__arr | exact w_neR hT1 hNop (by omega) | exact w_ne hT1 hNop (by intro h; cases h))).trans hT1
                        have hP_k_w_76 := hS.mv (w1 := w_76) (S := fun q_ => q_ = r) (by rw [ew_77]; exact Fr.one hNop _) (by first | exact id | (intro q_; (try dsimp only at q_); omega))
                        have hP__eK_p__w_76 := hKep.mv (w1 := w_76) (S := fun q_ => q_ = r) (by rw [ew_77]; exact Fr.one hNop _) (by first | exact id | (intro q_; (try dsimp only at q_); omega))
                        have hP__eK_e__w_76 := hKee.mv (w1 := w_76) (S := fun q_ => q_ = r) (by rw [ew_77]; exact Fr.one hNop _) (by first | exact id | (intro q_; (try dsimp only at q_); omega))
                        have hK_78 : ∀ (x_ : Nat) (y_ : Nat × Ent), x_ ≠ a ∧ x_ ≠ ((eQ p)) → w x_ = some y_ → w_76 x_ = some y_ := fun x_ y_ hx_ h_ => by rw [ew_77]; exact (wset_ne _ hx_.2).trans (hK0 x_ y_ hx_ h_)
                        refine lv_aload_n hx hb dJ19_removeNode_260 rfl (lv_at hl 2 rfl) ?_
                        refine lv_dup hx hb dJ19_removeNode_261 rfl ?_
                        refine h_get X hR hF_a_w_76 rfl in_J19 5 (by decide) q562 rfl dJ19_removeNode_262 ?_
                        refine h_iconst hx hb dJ19_removeNode_265 ?_
                        refine h_iadd hx hb dJ19_removeNode_266 ?_
                        refine h_put X hR hL hF_a_w_76 hr rfl in_J19 tyJ19_ok nmJ19 5 (by decide) q562 rfl rfl rfl (Nat.le_of_ble_eq_true rfl) dJ19_removeNode_267 (fun w_79 ew_80 H locs hR hL => ?_)
                        have hU : Up (fun q_ => q_ = r) w w_79 := by rw [ew_80]; exact hU.set hF_a_w_76 (by first | exact Or.inl rfl | exact Or.inl (by omega) | exact Or.inr ⟨Nat.succ_ne_zero _, by rw [Nat.add_sub_cancel]; assumption⟩ | exact Or.inr ⟨by omega, by assumption⟩) hG _
                        have hF_a_w_79 : w_79 a = some (r, oE 24 [.null, .null, .ref arr, .null, .int (iI ((n : Int))), .int (iI (mo + 1)), .int (iI (12)), .float lf]) := by rw [ew_80]; exact wset_eq _ _ _
                        have hF__eQ_p__w_79 : w_79 ((eQ p)) = some (r, oE 25 [.int (iI (hsp (eL p))), .ref ((eK p)), .ref ((eV p)), .ref ((eQ e5))]) := by rw [ew_80]; exact (wset_ne _ (by first | exact ne__eQ_p__a | exact Ne.symm ne_a__eQ_p_ | exact w_neR hF__eQ_p__w_76 hF_a_w_76 (by omega) | exact w_ne hF__eQ_p__w_76 hF_a_w_76 (by intro h; cases h))).trans hF__eQ_p__w_76
                        have hF_arr_w_79 : w_79 arr = some (r, rE G 5 16 hd) := by rw [ew_80]; exact (wset_ne _ (by first | exact ne_arr_a | exact Ne.symm ne_a_arr | exact w_neR hF_arr_w_76 hF_a_w_76 (by omega) | exact w_ne hF_arr_w_76 hF_a_w_76 (by intro h; cases h))).trans hF_arr_w_76
                        have hP_k_w_79 := hP_k_w_76.mv (w1 := w_79) (S := fun q_ => q_ = r) (by rw [ew_80]; exact Fr.one hF_a_w_76 _) (by first | exact id | (intro q_; (try dsimp only at q_); omega))
                        have hP__eK_p__w_79 := hP__eK_p__w_76.mv (w1 := w_79) (S := fun q_ => q_ = r) (by rw [ew_80]; exact Fr.one hF_a_w_76 _) (by first | exact id | (intro q_; (try dsimp only at q_); omega))
                        have hP__eK_e__w_79 := hP__eK_e__w_76.mv (w1 := w_79) (S := fun q_ => q_ = r) (by rw [ew_80]; exact Fr.one hF_a_w_76 _) (by first | exact id | (intro q_; (try dsimp only at q_); omega))
                        have hK_81 : ∀ (x_ : Nat) (y_ : Nat × Ent), x_ ≠ a ∧ x_ ≠ ((eQ p)) → w x_ = some y_ → w_79 x_ = some y_ := fun x_ y_ hx_ h_ => by rw [ew_80]; exact (wset_ne _ hx_.1).trans (hK_78 x_ y_ hx_ h_)
                        refine lv_aload_n hx hb dJ19_removeNode_270 rfl (lv_at hl 2 rfl) ?_
                        refine lv_dup hx hb dJ19_removeNode_271 rfl ?_
                        refine h_get X hR hF_a_w_79 rfl in_J19 4 (by decide) q561 rfl dJ19_removeNode_272 ?_
                        refine h_iconst hx hb dJ19_removeNode_275 ?_
                        refine h_isub hx hb dJ19_removeNode_276 ?_
                        refine h_put X hR hL hF_a_w_79 hr rfl in_J19 tyJ19_ok nmJ19 4 (by decide) q561 rfl rfl rfl (Nat.le_of_ble_eq_true rfl) dJ19_removeNode_277 (fun w_82 ew_83 H locs hR hL => ?_)
                        have hU : Up (fun q_ => q_ = r) w w_82 := by rw [ew_83]; exact hU.set hF_a_w_79 (by first | exact Or.inl rfl | exact Or.inl (by omega) | exact Or.inr ⟨Nat.succ_ne_zero _, by rw [Nat.add_sub_cancel]; assumption⟩ | exact Or.inr ⟨by omega, by assumption⟩) hG _
                        have hF_a_w_82 : w_82 a = some (r, oE 24 [.null, .null, .ref arr, .null, .int (iI (((n : Int)) - 1)), .int (iI (mo + 1)), .int (iI (12)), .float lf]) := by rw [ew_83]; exact wset_eq _ _ _
                        have hF__eQ_p__w_82 : w_82 ((eQ p)) = some (r, oE 25 [.int (iI (hsp (eL p))), .ref ((eK p)), .ref ((eV p)), .ref ((eQ e5))]) := by rw [ew_83]; exact (wset_ne _ (by first | exact ne__eQ_p__a | exact Ne.symm ne_a__eQ_p_ | exact w_neR hF__eQ_p__w_79 hF_a_w_79 (by omega) | exact w_ne hF__eQ_p__w_79 hF_a_w_79 (by intro h; cases h))).trans hF__eQ_p__w_79
                        have hF_arr_w_82 : w_82 arr = some (r, rE G 5 16 hd) := by rw [ew_83]; exact (wset_ne _ (by first | exact ne_arr_a | exact Ne.symm ne_a_arr | exact w_neR hF_arr_w_79 hF_a_w_79 (by omega) | exact w_ne hF_arr_w_79 hF_a_w_79 (by intro h; cases h))).trans hF_arr_w_79
                        have hP_k_w_82 := hP_k_w_79.mv (w1 := w_82) (S := fun q_ => q_ = r) (by rw [ew_83]; exact Fr.one hF_a_w_79 _) (by first | exact id | (intro q_; (try dsimp only at q_); omega))
                        have hP__eK_p__w_82 := hP__eK_p__w_79.mv (w1 := w_82) (S := fun q_ => q_ = r) (by rw [ew_83]; exact Fr.one hF_a_w_79 _) (by first | exact id | (intro q_; (try dsimp only at q_); omega))
                        have hP__eK_e__w_82 := hP__eK_e__w_79.mv (w1 := w_82) (S := fun q_ => q_ = r) (by rw [ew_83]; exact Fr.one hF_a_w_79 _) (by first | exact id | (intro q_; (try dsimp only at q_); omega))
                        have hK_84 : ∀ (x_ : Nat) (y_ : Nat × Ent), x_ ≠ a ∧ x_ ≠ ((eQ p)) → w x_ = some y_ → w_82 x_ = some y_ := fun x_ y_ hx_ h_ => by rw [ew_83]; exact (wset_ne _ hx_.1).trans (hK_81 x_ y_ hx_ h_)
                        refine lv_aload_n hx hb dJ19_removeNode_280 rfl (lv_at hl 2 rfl) ?_
                        refine lv_aload hx hb dJ19_removeNode_281 (lv_at hl 0 rfl) ?_
                        -- call java/util/HashMap.afterNodeRemoval
                        refine h_kVp (h_runV X hR (hm_anr l G w_82 a ((eQ e))) pn_yJ19_afterNodeRemoval (hasC.of hF_a_w_82 rfl) q1926 q1927 q1928 q143 q1929 ⟨by decide, by decide⟩ hl.1 (Nat.le_of_ble_eq_true rfl) dJ19_removeNode_283 ⟨by omega, by omega⟩) hL (fun H locs hR hL => ?_)
                        refine lv_aload hx hb dJ19_removeNode_286 (lv_at hl 0 rfl) ?_
                        have hkp : ∀ b, b < 16 → ∀ e_ ∈ Bk b, eQ e_ ≠ eQ p → w_82 (eQ e_) = w (eQ e_) := fun b hb e_ he_ hp_ => by obtain ⟨nx_, h1_, -⟩ := (hT2 b hb).1.at e_ he_; rw [h1_]; exact hK_84 _ _ ⟨(fun z_ => by rw [z_, hA] at h1_; simp [nodE] at h1_), hp_⟩ h1_
                        have hT9 : HmT G w_82 r arr (delB Bk L) := HmT.del2 hT2 hBp0 hle0 (by first | exact hsge0 | exact rfl) hF_arr_w_82 (by exact hF__eQ_p__w_82) (fun a_ L_ h_ => h_.mv hU.1 (by intro q_; (try dsimp only at q_); omega)) hkp
                        exact h_areturn hx hb hlk hret (by first | exact Or.inl ⟨_, rfl⟩ | exact Or.inr ⟨_, rfl⟩) hR hL ⟨rfl, ⟨_, by rw [hkp _ (bix_r L).1 _ hme0 hqe]; exact hNoe⟩, ⟨_, hF_a_w_82⟩, hT9, (delB_t (B1 := B1 ++ [p]) hle0 (by rw [hBp0, List.append_assoc]; rfl) hnd).trans htot, hU⟩ (by omega) (by omega) rfl rfl dJ19_removeNode_288
                    ·
                      exact absurd (Option.some.inj c_np) hqe
                  ·
                    refine lv_aload_n hx hb dJ19_removeNode_136 rfl (lv_at hl 3 rfl) ?_
                    refine lv_ifnull hx hb dJ19_removeNode_137 ?_
                    refine lv_aload_n hx hb dJ19_removeNode_140 rfl (lv_at hl 3 rfl) ?_
                    refine lv_aload hx hb dJ19_removeNode_141 (lv_at hl 0 rfl) ?_
                    -- call java/lang/String.equals
                    refine h_kIp (h_runU (x := ⟨"java/lang/Object", "equals", "(Ljava/lang/Object;)Z"⟩) (owner := "java/lang/Object") X hR (s_eq l G w k ((eK e)) L (eL e) hS hKee) (by decide) pn_yJ29_equals (hS.c) q1155 q1157 (h_declC X q1156 q1194) (X.1.2.2.2.2 _ q1185) q1186 q132 q1187 ⟨by decide, by decide⟩ hl.1 (Nat.le_of_ble_eq_true rfl) dJ19_removeNode_143 ⟨by omega, by omega⟩) hL (fun H locs hR hL => ?_)
                    refine W.eq (g2 := F0 m9 146 ls [.int (iI (1))]) (congrArg (fun z_ : Int => F0 m9 146 ls [.int (iI (z_))]) (show (b2i (L = eL e) : Int) = 1 from (by rw [b2i_t c_ee.symm]))) ?_
                    refine h_if_eq hx hb 156 dJ19_removeNode_146 (by decide) (by decide) (fun z_ => absurd z_ (by decide)) (fun _ => ?_)
                    refine lv_aload hx hb dJ19_removeNode_149 (lv_at hl 10 rfl) ?_
                    refine lv_astore (lv' := [(10, .ref ((eQ e))), (12, .ref ((eK e))), (0, .ref a), (1, .int (iI (hsp L))), (2, .ref k), (4, .int (iI (0))), (5, .int (iI (1))), (6, .ref arr), (7, .ref ((eQ p))), (8, .int (iI (16))), (9, .int (iI ((bix L : Int)))), (11, .ref ((eQ e)))]) hx hb dJ19_removeNode_151 hl (by decide) rfl (fun ls hl => ?_)
                    refine lv_goto (tgt := 171) hx hb dJ19_removeNode_153 (by decide) ?_
                    refine lv_aload hx hb dJ19_removeNode_171 (lv_at hl 0 rfl) ?_
                    refine lv_ifnull hx hb dJ19_removeNode_173 ?_
                    refine lv_iload hx hb dJ19_removeNode_176 (lv_at hl 5 rfl) ?_
                    refine h_if_eq hx hb 206 dJ19_removeNode_178 (by decide) (by decide) (fun _ => ?_) (fun z_ => absurd z_ (by decide))
                    refine lv_aload hx hb dJ19_removeNode_206 (lv_at hl 0 rfl) ?_
                    refine h_instNo X hR (hasC.of hNoe rfl) [false, false, true, false, true, true, false, false, false, false] rfl q858 dJ19_removeNode_208 ?_
                    refine h_if_eq hx hb 230 dJ19_removeNode_211 (by decide) (by decide) (fun _ => ?_) (fun z_ => absurd z_ (by decide))
                    refine lv_aload hx hb dJ19_removeNode_230 (lv_at hl 0 rfl) ?_
                    refine lv_aload hx hb dJ19_removeNode_232 (lv_at hl 8 rfl) ?_
                    have hqe : eQ e ≠ eQ p := fun z_ => hpn ((hsg0.inj hsg0 (by rw [hBp0]; exact List.mem_append_right _ List.mem_cons_self) (by rw [hBp0]; exact List.mem_append_right _ (List.mem_cons_of_mem _ List.mem_cons_self)) z_.symm).trans c_ee)
                    refine lv_acmp_ne (rx := (some ((eQ e)))) (ry := (some ((eQ p)))) (tgt := 250) hx hb dJ19_removeNode_234 (by decide) (fun c_np => ?_) (fun c_np => ?_)
                    ·
                      refine lv_aload hx hb dJ19_removeNode_250 (lv_at hl 8 rfl) ?_
                      refine lv_aload hx hb dJ19_removeNode_252 (lv_at hl 0 rfl) ?_
                      refine h_get X hR hNoe rfl in_J20 3 (by decide) q891 rfl dJ19_removeNode_254 ?_
                      rcases B2 with _ | ⟨e5, B5⟩
                      ·
                        obtain rfl : nxe = none := hsge
                        refine W.eq (g2 := F0 m9 257 ls [.null, .ref ((eQ p))]) (rfl) ?_
                        have hK0 : ∀ (x_ : Nat) (y_ : Nat × Ent), x_ ≠ a ∧ x_ ≠ ((eQ p)) → w x_ = some y_ → w x_ = some y_ := fun x_ y_ hx_ h_ => h_
                        refine h_put X hR hL hNop hr rfl in_J20 tyJ20_ok nmJ20 3 (by decide) q891 rfl rfl rfl (Nat.le_of_ble_eq_true rfl) dJ19_removeNode_257 (fun w_94 ew_95 H locs hR hL => ?_)
                        have hU : Up (fun q_ => q_ = r) w w_94 := by rw [ew_95]; exact hU.set hNop (by first | exact Or.inl rfl | exact Or.inl (by omega) | exact Or.inr ⟨Nat.succ_ne_zero _, by rw [Nat.add_sub_cancel]; assumption⟩ | exact Or.inr ⟨by omega, by assumption⟩) hG _
                        have hF__eQ_p__w_94 : w_94 ((eQ p)) = some (r, oE 25 [.int (iI (hsp (eL p))), .ref ((eK p)), .ref ((eV p)), .null]) := by rw [ew_95]; exact wset_eq _ _ _
                        have hF_a_w_94 : w_94 a = some (r, oE 24 [.null, .null, .ref arr, .null, .int (iI ((n : Int))), .int (iI (mo)), .int (iI (12)), .float lf]) := by rw [ew_95]; exact (wset_ne _ (by first | exact ne_a__eQ_p_ | exact Ne.symm ne__eQ_p__a | exact w_neR hA hNop (by omega) | exact w_ne hA hNop (by intro h; cases h))).trans hA
                        have hF_arr_w_94 : w_94 arr = some (r, rE G 5 16 hd) := by rw [ew_95]; exact (wset_ne _ (by first | exact ne_arr__eQ_p_ | exact Ne.symm ne__eQ_p__arr | exact w_neR hT1 hNop (by omega) | exact w_ne hT1 hNop (by intro h; cases h))).trans hT1
                        have hP_k_w_94 := hS.mv (w1 := w_94) (S := fun q_ => q_ = r) (by rw [ew_95]; exact Fr.one hNop _) (by first | exact id | (intro q_; (try dsimp only at q_); omega))
                        have hP__eK_p__w_94 := hKep.mv (w1 := w_94) (S := fun q_ => q_ = r) (by rw [ew_95]; exact Fr.one hNop _) (by first | exact id | (intro q_; (try dsimp only at q_); omega))
                        have hP__eK_e__w_94 := hKee.mv (w1 := w_94) (S := fun q_ => q_ = r) (by rw [ew_95]; exact Fr.one hNop _) (by first | exact id | (intro q_; (try dsimp only at q_); omega))
                        have hK_96 : ∀ (x_ : Nat) (y_ : Nat × Ent), x_ ≠ a ∧ x_ ≠ ((eQ p)) → w x_ = some y_ → w_94 x_ = some y_ := fun x_ y_ hx_ h_ => by rw [ew_95]; exact (wset_ne _ hx_.2).trans (hK0 x_ y_ hx_ h_)
                        refine lv_aload_n hx hb dJ19_removeNode_260 rfl (lv_at hl 2 rfl) ?_
                        refine lv_dup hx hb dJ19_removeNode_261 rfl ?_
                        refine h_get X hR hF_a_w_94 rfl in_J19 5 (by decide) q562 rfl dJ19_removeNode_262 ?_
                        refine h_iconst hx hb dJ19_removeNode_265 ?_
                        refine h_iadd hx hb dJ19_removeNode_266 ?_
                        refine h_put X hR hL hF_a_w_94 hr rfl in_J19 tyJ19_ok nmJ19 5 (by decide) q562 rfl rfl rfl (Nat.le_of_ble_eq_true rfl) dJ19_removeNode_267 (fun w_97 ew_98 H locs hR hL => ?_)
                        have hU : Up (fun q_ => q_ = r) w w_97 := by rw [ew_98]; exact hU.set hF_a_w_94 (by first | exact Or.inl rfl | exact Or.inl (by omega) | exact Or.inr ⟨Nat.succ_ne_zero _, by rw [Nat.add_sub_cancel]; assumption⟩ | exact Or.inr ⟨by omega, by assumption⟩) hG _
                        have hF_a_w_97 : w_97 a = some (r, oE 24 [.null, .null, .ref arr, .null, .int (iI ((n : Int))), .int (iI (mo + 1)), .int (iI (12)), .float lf]) := by rw [ew_98]; exact wset_eq _ _ _
                        have hF__eQ_p__w_97 : w_97 ((eQ p)) = some (r, oE 25 [.int (iI (hsp (eL p))), .ref ((eK p)), .ref ((eV p)), .null]) := by rw [ew_98]; exact (wset_ne _ (by first | exact ne__eQ_p__a | exact Ne.symm ne_a__eQ_p_ | exact w_neR hF__eQ_p__w_94 hF_a_w_94 (by omega) | exact w_ne hF__eQ_p__w_94 hF_a_w_94 (by intro h; cases h))).trans hF__eQ_p__w_94
                        have hF_arr_w_97 : w_97 arr = some (r, rE G 5 16 hd) := by rw [ew_98]; exact (wset_ne _ (by first | exact ne_arr_a | exact Ne.symm ne_a_arr | exact w_neR hF_arr_w_94 hF_a_w_94 (by omega) | exact w_ne hF_arr_w_94 hF_a_w_94 (by intro h; cases h))).trans hF_arr_w_94
                        have hP_k_w_97 := hP_k_w_94.mv (w1 := w_97) (S := fun q_ => q_ = r) (by rw [ew_98]; exact Fr.one hF_a_w_94 _) (by first | exact id | (intro q_; (try dsimp only at q_); omega))
                        have hP__eK_p__w_97 := hP__eK_p__w_94.mv (w1 := w_97) (S := fun q_ => q_ = r) (by rw [ew_98]; exact Fr.one hF_a_w_94 _) (by first | exact id | (intro q_; (try dsimp only at q_); omega))
                        have hP__eK_e__w_97 := hP__eK_e__w_94.mv (w1 := w_97) (S := fun q_ => q_ = r) (by rw [ew_98]; exact Fr.one hF_a_w_94 _) (by first | exact id | (intro q_; (try dsimp only at q_); omega))
                        have hK_99 : ∀ (x_ : Nat) (y_ : Nat × Ent), x_ ≠ a ∧ x_ ≠ ((eQ p)) → w x_ = some y_ → w_97 x_ = some y_ := fun x_ y_ hx_ h_ => by rw [ew_98]; exact (wset_ne _ hx_.1).trans (hK_96 x_ y_ hx_ h_)
                        refine lv_aload_n hx hb dJ19_removeNode_270 rfl (lv_at hl 2 rfl) ?_
                        refine lv_dup hx hb dJ19_removeNode_271 rfl ?_
                        refine h_get X hR hF_a_w_97 rfl in_J19 4 (by decide) q561 rfl dJ19_removeNode_272 ?_
                        refine h_iconst hx hb dJ19_removeNode_275 ?_
                        refine h_isub hx hb dJ19_removeNode_276 ?_
                        refine h_put X hR hL hF_a_w_97 hr rfl in_J19 tyJ19_ok nmJ19 4 (by decide) q561 rfl rfl rfl (Nat.le_of_ble_eq_true rfl) dJ19_removeNode_277 (fun w_100 ew_101 H locs hR hL => ?_)
                        have hU : Up (fun q_ => q_ = r) w w_100 := by rw [ew_101]; exact hU.set hF_a_w_97 (by first | exact Or.inl rfl | exact Or.inl (by omega) | exact Or.inr ⟨Nat.succ_ne_zero _, by rw [Nat.add_sub_cancel]; assumption⟩ | exact Or.inr ⟨by omega, by assumption⟩) hG _
                        have hF_a_w_100 : w_100 a = some (r, oE 24 [.null, .null, .ref arr, .null, .int (iI (((n : Int)) - 1)), .int (iI (mo + 1)), .int (iI (12)), .float lf]) := by rw [ew_101]; exact wset_eq _ _ _
                        have hF__eQ_p__w_100 : w_100 ((eQ p)) = some (r, oE 25 [.int (iI (hsp (eL p))), .ref ((eK p)), .ref ((eV p)), .null]) := by rw [ew_101]; exact (wset_ne _ (by first | exact ne__eQ_p__a | exact Ne.symm ne_a__eQ_p_ | exact w_neR hF__eQ_p__w_97 hF_a_w_97 (by omega) | exact w_ne hF__eQ_p__w_97 hF_a_w_97 (by intro h; cases h))).trans hF__eQ_p__w_97
                        have hF_arr_w_100 : w_100 arr = some (r, rE G 5 16 hd) := by rw [ew_101]; exact (wset_ne _ (by first | exact ne_arr_a | exact Ne.symm ne_a_arr | exact w_neR hF_arr_w_97 hF_a_w_97 (by omega) | exact w_ne hF_arr_w_97 hF_a_w_97 (by intro h; cases h))).trans hF_arr_w_97
                        have hP_k_w_100 := hP_k_w_97.mv (w1 := w_100) (S := fun q_ => q_ = r) (by rw [ew_101]; exact Fr.one hF_a_w_97 _) (by first | exact id | (intro q_; (try dsimp only at q_); omega))
                        have hP__eK_p__w_100 := hP__eK_p__w_97.mv (w1 := w_100) (S := fun q_ => q_ = r) (by rw [ew_101]; exact Fr.one hF_a_w_97 _) (by first | exact id | (intro q_; (try dsimp only at q_); omega))
                        have hP__eK_e__w_100 := hP__eK_e__w_97.mv (w1 := w_100) (S := fun q_ => q_ = r) (by rw [ew_101]; exact Fr.one hF_a_w_97 _) (by first | exact id | (intro q_; (try dsimp only at q_); omega))
                        have hK_102 : ∀ (x_ : Nat) (y_ : Nat × Ent), x_ ≠ a ∧ x_ ≠ ((eQ p)) → w x_ = some y_ → w_100 x_ = some y_ := fun x_ y_ hx_ h_ => by rw [ew_101]; exact (wset_ne _ hx_.1).trans (hK_99 x_ y_ hx_ h_)
                        refine lv_aload_n hx hb dJ19_removeNode_280 rfl (lv_at hl 2 rfl) ?_
                        refine lv_aload hx hb dJ19_removeNode_281 (lv_at hl 0 rfl) ?_
                        -- call java/util/HashMap.afterNodeRemoval
                        refine h_kVp (h_runV X hR (hm_anr l G w_100 a ((eQ e))) pn_yJ19_afterNodeRemoval (hasC.of hF_a_w_100 rfl) q1926 q1927 q1928 q143 q1929 ⟨by decide, by decide⟩ hl.1 (Nat.le_of_ble_eq_true rfl) dJ19_removeNode_283 ⟨by omega, by omega⟩) hL (fun H locs hR hL => ?_)
                        refine lv_aload hx hb dJ19_removeNode_286 (lv_at hl 0 rfl) ?_
                        have hkp : ∀ b, b < 16 → ∀ e_ ∈ Bk b, eQ e_ ≠ eQ p → w_100 (eQ e_) = w (eQ e_) := fun b hb e_ he_ hp_ => by obtain ⟨nx_, h1_, -⟩ := (hT2 b hb).1.at e_ he_; rw [h1_]; exact hK_102 _ _ ⟨(fun z_ => by rw [z_, hA] at h1_; simp [nodE] at h1_), hp_⟩ h1_
                        have hT9 : HmT G w_100 r arr (delB Bk L) := HmT.del2 hT2 hBp0 hle0 (by first | exact hsge0 | exact rfl) hF_arr_w_100 (by exact hF__eQ_p__w_100) (fun a_ L_ h_ => h_.mv hU.1 (by intro q_; (try dsimp only at q_); omega)) hkp
                        exact h_areturn hx hb hlk hret (by first | exact Or.inl ⟨_, rfl⟩ | exact Or.inr ⟨_, rfl⟩) hR hL ⟨rfl, ⟨_, by rw [hkp _ (bix_r L).1 _ hme0 hqe]; exact hNoe⟩, ⟨_, hF_a_w_100⟩, hT9, (delB_t (B1 := B1 ++ [p]) hle0 (by rw [hBp0, List.append_assoc]; rfl) hnd).trans htot, hU⟩ (by omega) (by omega) rfl rfl dJ19_removeNode_288
                      ·
                        have hsge0 := hsge
                        obtain ⟨hnx, nx5, hNo5, hKe5, hsg5⟩ := hsge
                        subst hnx
                        refine W.eq (g2 := F0 m9 257 ls [.ref ((eQ e5)), .ref ((eQ p))]) (rfl) ?_
                        have hK0 : ∀ (x_ : Nat) (y_ : Nat × Ent), x_ ≠ a ∧ x_ ≠ ((eQ p)) → w x_ = some y_ → w x_ = some y_ := fun x_ y_ hx_ h_ => h_
                        refine h_put X hR hL hNop hr rfl in_J20 tyJ20_ok nmJ20 3 (by decide) q891 rfl rfl rfl (Nat.le_of_ble_eq_true rfl) dJ19_removeNode_257 (fun w_106 ew_107 H locs hR hL => ?_)
                        have hU : Up (fun q_ => q_ = r) w w_106 := by rw [ew_107]; exact hU.set hNop (by first | exact Or.inl rfl | exact Or.inl (by omega) | exact Or.inr ⟨Nat.succ_ne_zero _, by rw [Nat.add_sub_cancel]; assumption⟩ | exact Or.inr ⟨by omega, by assumption⟩) hG _
                        have hF__eQ_p__w_106 : w_106 ((eQ p)) = some (r, oE 25 [.int (iI (hsp (eL p))), .ref ((eK p)), .ref ((eV p)), .ref ((eQ e5))]) := by rw [ew_107]; exact wset_eq _ _ _
                        have hF_a_w_106 : w_106 a = some (r, oE 24 [.null, .null, .ref arr, .null, .int (iI ((n : Int))), .int (iI (mo)), .int (iI (12)), .float lf]) := by rw [ew_107]; exact (wset_ne _ (by first | exact ne_a__eQ_p_ | exact Ne.symm ne__eQ_p__a | exact w_neR hA hNop (by omega) | exact w_ne hA hNop (by intro h; cases h))).trans hA
                        have hF_arr_w_106 : w_106 arr = some (r, rE G 5 16 hd) := by rw [ew_107]; exact (wset_ne _ (by first | exact ne_arr__eQ_p_ | exact Ne.symm ne__eQ_p__arr | exact w_neR hT1 hNop (by omega) | exact w_ne hT1 hNop (by intro h; cases h))).trans hT1
                        have hP_k_w_106 := hS.mv (w1 := w_106) (S := fun q_ => q_ = r) (by rw [ew_107]; exact Fr.one hNop _) (by first | exact id | (intro q_; (try dsimp only at q_); omega))
                        have hP__eK_p__w_106 := hKep.mv (w1 := w_106) (S := fun q_ => q_ = r) (by rw [ew_107]; exact Fr.one hNop _) (by first | exact id | (intro q_; (try dsimp only at q_); omega))
                        have hP__eK_e__w_106 := hKee.mv (w1 := w_106) (S := fun q_ => q_ = r) (by rw [ew_107]; exact Fr.one hNop _) (by first | exact id | (intro q_; (try dsimp only at q_); omega))
                        have hK_108 : ∀ (x_ : Nat) (y_ : Nat × Ent), x_ ≠ a ∧ x_ ≠ ((eQ p)) → w x_ = some y_ → w_106 x_ = some y_ := fun x_ y_ hx_ h_ => by rw [ew_107]; exact (wset_ne _ hx_.2).trans (hK0 x_ y_ hx_ h_)
                        refine lv_aload_n hx hb dJ19_removeNode_260 rfl (lv_at hl 2 rfl) ?_
                        refine lv_dup hx hb dJ19_removeNode_261 rfl ?_
                        refine h_get X hR hF_a_w_106 rfl in_J19 5 (by decide) q562 rfl dJ19_removeNode_262 ?_
                        refine h_iconst hx hb dJ19_removeNode_265 ?_
                        refine h_iadd hx hb dJ19_removeNode_266 ?_
                        refine h_put X hR hL hF_a_w_106 hr rfl in_J19 tyJ19_ok nmJ19 5 (by decide) q562 rfl rfl rfl (Nat.le_of_ble_eq_true rfl) dJ19_removeNode_267 (fun w_109 ew_110 H locs hR hL => ?_)
                        have hU : Up (fun q_ => q_ = r) w w_109 := by rw [ew_110]; exact hU.set hF_a_w_106 (by first | exact Or.inl rfl | exact Or.inl (by omega) | exact Or.inr ⟨Nat.succ_ne_zero _, by rw [Nat.add_sub_cancel]; assumption⟩ | exact Or.inr ⟨by omega, by assumption⟩) hG _
                        have hF_a_w_109 : w_109 a = some (r, oE 24 [.null, .null, .ref arr, .null, .int (iI ((n : Int))), .int (iI (mo + 1)), .int (iI (12)), .float lf]) := by rw [ew_110]; exact wset_eq _ _ _
                        have hF__eQ_p__w_109 : w_109 ((eQ p)) = some (r, oE 25 [.int (iI (hsp (eL p))), .ref ((eK p)), .ref ((eV p)), .ref ((eQ e5))]) := by rw [ew_110]; exact (wset_ne _ (by first | exact ne__eQ_p__a | exact Ne.symm ne_a__eQ_p_ | exact w_neR hF__eQ_p__w_106 hF_a_w_106 (by omega) | exact w_ne hF__eQ_p__w_106 hF_a_w_106 (by intro h; cases h))).trans hF__eQ_p__w_106
                        have hF_arr_w_109 : w_109 arr = some (r, rE G 5 16 hd) := by rw [ew_110]; exact (wset_ne _ (by first | exact ne_arr_a | exact Ne.symm ne_a_arr | exact w_neR hF_arr_w_106 hF_a_w_106 (by omega) | exact w_ne hF_arr_w_106 hF_a_w_106 (by intro h; cases h))).trans hF_arr_w_106
                        have hP_k_w_109 := hP_k_w_106.mv (w1 := w_109) (S := fun q_ => q_ = r) (by rw [ew_110]; exact Fr.one hF_a_w_106 _) (by first | exact id | (intro q_; (try dsimp only at q_); omega))
                        have hP__eK_p__w_109 := hP__eK_p__w_106.mv (w1 := w_109) (S := fun q_ => q_ = r) (by rw [ew_110]; exact Fr.one hF_a_w_106 _) (by first | exact id | (intro q_; (try dsimp only at q_); omega))
                        have hP__eK_e__w_109 := hP__eK_e__w_106.mv (w1 := w_109) (S := fun q_ => q_ = r) (by rw [ew_110]; exact Fr.one hF_a_w_106 _) (by first | exact id | (intro q_; (try dsimp only at q_); omega))
                        have hK_111 : ∀ (x_ : Nat) (y_ : Nat × Ent), x_ ≠ a ∧ x_ ≠ ((eQ p)) → w x_ = some y_ → w_109 x_ = some y_ := fun x_ y_ hx_ h_ => by rw [ew_110]; exact (wset_ne _ hx_.1).trans (hK_108 x_ y_ hx_ h_)
                        refine lv_aload_n hx hb dJ19_removeNode_270 rfl (lv_at hl 2 rfl) ?_
                        refine lv_dup hx hb dJ19_removeNode_271 rfl ?_
                        refine h_get X hR hF_a_w_109 rfl in_J19 4 (by decide) q561 rfl dJ19_removeNode_272 ?_
                        refine h_iconst hx hb dJ19_removeNode_275 ?_
                        refine h_isub hx hb dJ19_removeNode_276 ?_
                        refine h_put X hR hL hF_a_w_109 hr rfl in_J19 tyJ19_ok nmJ19 4 (by decide) q561 rfl rfl rfl (Nat.le_of_ble_eq_true rfl) dJ19_removeNode_277 (fun w_112 ew_113 H locs hR hL => ?_)
                        have hU : Up (fun q_ => q_ = r) w w_112 := by rw [ew_113]; exact hU.set hF_a_w_109 (by first | exact Or.inl rfl | exact Or.inl (by omega) | exact Or.inr ⟨Nat.succ_ne_zero _, by rw [Nat.add_sub_cancel]; assumption⟩ | exact Or.inr ⟨by omega, by assumption⟩) hG _
                        have hF_a_w_112 : w_112 a = some (r, oE 24 [.null, .null, .ref arr, .null, .int (iI (((n : Int)) - 1)), .int (iI (mo + 1)), .int (iI (12)), .float lf]) := by rw [ew_113]; exact wset_eq _ _ _
                        have hF__eQ_p__w_112 : w_112 ((eQ p)) = some (r, oE 25 [.int (iI (hsp (eL p))), .ref ((eK p)), .ref ((eV p)), .ref ((eQ e5))]) := by rw [ew_113]; exact (wset_ne _ (by first | exact ne__eQ_p__a | exact Ne.symm ne_a__eQ_p_ | exact w_neR hF__eQ_p__w_109 hF_a_w_109 (by omega) | exact w_ne hF__eQ_p__w_109 hF_a_w_109 (by intro h; cases h))).trans hF__eQ_p__w_109
                        have hF_arr_w_112 : w_112 arr = some (r, rE G 5 16 hd) := by rw [ew_113]; exact (wset_ne _ (by first | exact ne_arr_a | exact Ne.symm ne_a_arr | exact w_neR hF_arr_w_109 hF_a_w_109 (by omega) | exact w_ne hF_arr_w_109 hF_a_w_109 (by intro h; cases h))).trans hF_arr_w_109
                        have hP_k_w_112 := hP_k_w_109.mv (w1 := w_112) (S := fun q_ => q_ = r) (by rw [ew_113]; exact Fr.one hF_a_w_109 _) (by first | exact id | (intro q_; (try dsimp only at q_); omega))
                        have hP__eK_p__w_112 := hP__eK_p__w_109.mv (w1 := w_112) (S := fun q_ => q_ = r) (by rw [ew_113]; exact Fr.one hF_a_w_109 _) (by first | exact id | (intro q_; (try dsimp only at q_); omega))
                        have hP__eK_e__w_112 := hP__eK_e__w_109.mv (w1 := w_112) (S := fun q_ => q_ = r) (by rw [ew_113]; exact Fr.one hF_a_w_109 _) (by first | exact id | (intro q_; (try dsimp only at q_); omega))
                        have hK_114 : ∀ (x_ : Nat) (y_ : Nat × Ent), x_ ≠ a ∧ x_ ≠ ((eQ p)) → w x_ = some y_ → w_112 x_ = some y_ := fun x_ y_ hx_ h_ => by rw [ew_113]; exact (wset_ne _ hx_.1).trans (hK_111 x_ y_ hx_ h_)
                        refine lv_aload_n hx hb dJ19_removeNode_280 rfl (lv_at hl 2 rfl) ?_
                        refine lv_aload hx hb dJ19_removeNode_281 (lv_at hl 0 rfl) ?_
                        -- call java/util/HashMap.afterNodeRemoval
                        refine h_kVp (h_runV X hR (hm_anr l G w_112 a ((eQ e))) pn_yJ19_afterNodeRemoval (hasC.of hF_a_w_112 rfl) q1926 q1927 q1928 q143 q1929 ⟨by decide, by decide⟩ hl.1 (Nat.le_of_ble_eq_true rfl) dJ19_removeNode_283 ⟨by omega, by omega⟩) hL (fun H locs hR hL => ?_)
                        refine lv_aload hx hb dJ19_removeNode_286 (lv_at hl 0 rfl) ?_
                        have hkp : ∀ b, b < 16 → ∀ e_ ∈ Bk b, eQ e_ ≠ eQ p → w_112 (eQ e_) = w (eQ e_) := fun b hb e_ he_ hp_ => by obtain ⟨nx_, h1_, -⟩ := (hT2 b hb).1.at e_ he_; rw [h1_]; exact hK_114 _ _ ⟨(fun z_ => by rw [z_, hA] at h1_; simp [nodE] at h1_), hp_⟩ h1_
                        have hT9 : HmT G w_112 r arr (delB Bk L) := HmT.del2 hT2 hBp0 hle0 (by first | exact hsge0 | exact rfl) hF_arr_w_112 (by exact hF__eQ_p__w_112) (fun a_ L_ h_ => h_.mv hU.1 (by intro q_; (try dsimp only at q_); omega)) hkp
                        exact h_areturn hx hb hlk hret (by first | exact Or.inl ⟨_, rfl⟩ | exact Or.inr ⟨_, rfl⟩) hR hL ⟨rfl, ⟨_, by rw [hkp _ (bix_r L).1 _ hme0 hqe]; exact hNoe⟩, ⟨_, hF_a_w_112⟩, hT9, (delB_t (B1 := B1 ++ [p]) hle0 (by rw [hBp0, List.append_assoc]; rfl) hnd).trans htot, hU⟩ (by omega) (by omega) rfl rfl dJ19_removeNode_288
                    ·
                      exact absurd (Option.some.inj c_np) hqe
              ·
                have hfe2 : fndC B2 L = some e0 := by have h_ := hfe; rw [fndC_n c_ee] at h_; exact h_
                refine h_get X hR hNoe rfl in_J20 0 (by decide) q880 rfl dJ19_removeNode_117 ?_
                refine lv_iload_n hx hb dJ19_removeNode_120 rfl (lv_at hl 1 rfl) ?_
                refine h_icmp_ne hx hb 156 dJ19_removeNode_121 (by decide) (by omega) (by omega) (fun c_h5 => ?_) (fun c_h5 => ?_)
                ·
                  refine lv_aload hx hb dJ19_removeNode_156 (lv_at hl 9 rfl) ?_
                  refine lv_astore (lv' := [(7, .ref ((eQ e))), (0, .ref a), (1, .int (iI (hsp L))), (2, .ref k), (4, .int (iI (0))), (5, .int (iI (1))), (6, .ref arr), (8, .int (iI (16))), (9, .int (iI ((bix L : Int)))), (11, .ref ((eQ e)))]) hx hb dJ19_removeNode_158 hl (by decide) rfl (fun ls hl => ?_)
                  refine lv_aload hx hb dJ19_removeNode_160 (lv_at hl 9 rfl) ?_
                  refine h_get X hR hNoe rfl in_J20 3 (by decide) q891 rfl dJ19_removeNode_162 ?_
                  rcases B2 with _ | ⟨e5, B5⟩
                  ·
                    exact absurd hfe2 (by intro h_; cases h_)
                  ·
                    obtain ⟨hnx, nx5, hNo5, hKe5, hsg5⟩ := hsge
                    subst hnx
                    refine W.eq (g2 := F0 m9 165 ls [.ref ((eQ e5))]) (rfl) ?_
                    refine lv_dup hx hb dJ19_removeNode_165 rfl ?_
                    refine lv_astore (lv' := [(11, .ref ((eQ e5))), (7, .ref ((eQ e))), (0, .ref a), (1, .int (iI (hsp L))), (2, .ref k), (4, .int (iI (0))), (5, .int (iI (1))), (6, .ref arr), (8, .int (iI (16))), (9, .int (iI ((bix L : Int))))]) hx hb dJ19_removeNode_166 hl (by decide) rfl (fun ls hl => ?_)
                    refine lv_ifnonnull (tgt := 115) hx hb dJ19_removeNode_168 (by decide) ?_
                    exact ih_61 e e5 (B1 ++ [p]) B5 (by rw [hBp0, List.append_assoc]; rfl) ⟨rfl, _, hNoe, hKee, rfl, nx5, hNo5, hKe5, hsg5⟩ c_ee hfe2 (by simp only [List.length_cons] at hN_; omega) _ _ _ hR hL (lv_sub hl [2, 3, 4, 5, 6, 7, 1, 8, 9, 0] rfl)
                ·
                  refine lv_aload hx hb dJ19_removeNode_124 (lv_at hl 9 rfl) ?_
                  refine h_get X hR hNoe rfl in_J20 1 (by decide) q884 rfl dJ19_removeNode_126 ?_
                  refine lv_dup hx hb dJ19_removeNode_129 rfl ?_
                  refine lv_astore (lv' := [(12, .ref ((eK e))), (0, .ref a), (1, .int (iI (hsp L))), (2, .ref k), (4, .int (iI (0))), (5, .int (iI (1))), (6, .ref arr), (7, .ref ((eQ p))), (8, .int (iI (16))), (9, .int (iI ((bix L : Int)))), (11, .ref ((eQ e)))]) hx hb dJ19_removeNode_130 hl (by decide) rfl (fun ls hl => ?_)
                  refine lv_aload_n hx hb dJ19_removeNode_132 rfl (lv_at hl 3 rfl) ?_
                  refine lv_acmp_eq (rx := (some ((eK e)))) (ry := (some k)) (tgt := 149) hx hb dJ19_removeNode_133 (by decide) (fun c_r5 => ?_) (fun c_r5 => ?_)
                  ·
                    exact absurd (by have q_ := Option.some.inj c_r5; rw [q_] at hKee; exact hKee.eqv hS) c_ee
                  ·
                    refine lv_aload_n hx hb dJ19_removeNode_136 rfl (lv_at hl 3 rfl) ?_
                    refine lv_ifnull hx hb dJ19_removeNode_137 ?_
                    refine lv_aload_n hx hb dJ19_removeNode_140 rfl (lv_at hl 3 rfl) ?_
                    refine lv_aload hx hb dJ19_removeNode_141 (lv_at hl 0 rfl) ?_
                    -- call java/lang/String.equals
                    refine h_kIp (h_runU (x := ⟨"java/lang/Object", "equals", "(Ljava/lang/Object;)Z"⟩) (owner := "java/lang/Object") X hR (s_eq l G w k ((eK e)) L (eL e) hS hKee) (by decide) pn_yJ29_equals (hS.c) q1155 q1157 (h_declC X q1156 q1194) (X.1.2.2.2.2 _ q1185) q1186 q132 q1187 ⟨by decide, by decide⟩ hl.1 (Nat.le_of_ble_eq_true rfl) dJ19_removeNode_143 ⟨by omega, by omega⟩) hL (fun H locs hR hL => ?_)
                    refine W.eq (g2 := F0 m9 146 ls [.int (iI (0))]) (congrArg (fun z_ : Int => F0 m9 146 ls [.int (iI (z_))]) (show (b2i (L = eL e) : Int) = 0 from (by rw [b2i_f (fun q_ => c_ee q_.symm)]))) ?_
                    refine h_if_eq hx hb 156 dJ19_removeNode_146 (by decide) (by decide) (fun _ => ?_) (fun z_ => absurd z_ (by decide))
                    refine lv_aload hx hb dJ19_removeNode_156 (lv_at hl 10 rfl) ?_
                    refine lv_astore (lv' := [(7, .ref ((eQ e))), (12, .ref ((eK e))), (0, .ref a), (1, .int (iI (hsp L))), (2, .ref k), (4, .int (iI (0))), (5, .int (iI (1))), (6, .ref arr), (8, .int (iI (16))), (9, .int (iI ((bix L : Int)))), (11, .ref ((eQ e)))]) hx hb dJ19_removeNode_158 hl (by decide) rfl (fun ls hl => ?_)
                    refine lv_aload hx hb dJ19_removeNode_160 (lv_at hl 10 rfl) ?_
                    refine h_get X hR hNoe rfl in_J20 3 (by decide) q891 rfl dJ19_removeNode_162 ?_
                    rcases B2 with _ | ⟨e5, B5⟩
                    ·
                      exact absurd hfe2 (by intro h_; cases h_)
                    ·
                      obtain ⟨hnx, nx5, hNo5, hKe5, hsg5⟩ := hsge
                      subst hnx
                      refine W.eq (g2 := F0 m9 165 ls [.ref ((eQ e5))]) (rfl) ?_
                      refine lv_dup hx hb dJ19_removeNode_165 rfl ?_
                      refine lv_astore (lv' := [(11, .ref ((eQ e5))), (7, .ref ((eQ e))), (12, .ref ((eK e))), (0, .ref a), (1, .int (iI (hsp L))), (2, .ref k), (4, .int (iI (0))), (5, .int (iI (1))), (6, .ref arr), (8, .int (iI (16))), (9, .int (iI ((bix L : Int))))]) hx hb dJ19_removeNode_166 hl (by decide) rfl (fun ls hl => ?_)
                      refine lv_ifnonnull (tgt := 115) hx hb dJ19_removeNode_168 (by decide) ?_
                      exact ih_61 e e5 (B1 ++ [p]) B5 (by rw [hBp0, List.append_assoc]; rfl) ⟨rfl, _, hNoe, hKee, rfl, nx5, hNo5, hKe5, hsg5⟩ c_ee hfe2 (by simp only [List.length_cons] at hN_; omega) _ _ _ hR hL (lv_sub hl [3, 4, 5, 6, 7, 8, 1, 9, 10, 0] rfl)
          exact LOOP_61 _ en e2 ([]) B2 hBk ⟨rfl, _, hNo, hKe, rfl, nx2, hNo2, hKe2, hsg3⟩ c_en hfd2 (Nat.lt_succ_self _) _ _ _ hR hL (lv_sub hl [6, 7, 8, 10, 11, 5, 2, 4, 3, 0] rfl)
      ·
        refine lv_aload hx hb dJ19_removeNode_49 (lv_at hl 1 rfl) ?_
        refine h_get X hR hNo rfl in_J20 1 (by decide) q884 rfl dJ19_removeNode_51 ?_
        refine lv_dup hx hb dJ19_removeNode_54 rfl ?_
        refine lv_astore (lv' := [(12, .ref ((eK en))), (10, .null), (7, .ref ((eQ en))), (9, .int (iI ((bix L : Int)))), (8, .int (iI (16))), (6, .ref arr), (0, .ref a), (1, .int (iI (hsp L))), (2, .ref k), (3, .null), (4, .int (iI (0))), (5, .int (iI (1)))]) hx hb dJ19_removeNode_55 hl (by decide) rfl (fun ls hl => ?_)
        refine lv_aload_n hx hb dJ19_removeNode_57 rfl (lv_at hl 8 rfl) ?_
        refine lv_acmp_eq (rx := (some ((eK en)))) (ry := (some k)) (tgt := 74) hx hb dJ19_removeNode_58 (by decide) (fun c_r => ?_) (fun c_r => ?_)
        ·
          exact absurd (by have q_ := Option.some.inj c_r; rw [q_] at hKe; exact hKe.eqv hS) c_en
        ·
          refine lv_aload_n hx hb dJ19_removeNode_61 rfl (lv_at hl 8 rfl) ?_
          refine lv_ifnull hx hb dJ19_removeNode_62 ?_
          refine lv_aload_n hx hb dJ19_removeNode_65 rfl (lv_at hl 8 rfl) ?_
          refine lv_aload hx hb dJ19_removeNode_66 (lv_at hl 0 rfl) ?_
          -- call java/lang/String.equals
          refine h_kIp (h_runU (x := ⟨"java/lang/Object", "equals", "(Ljava/lang/Object;)Z"⟩) (owner := "java/lang/Object") X hR (s_eq l G w k ((eK en)) L (eL en) hS hKe) (by decide) pn_yJ29_equals (hS.c) q1155 q1157 (h_declC X q1156 q1194) (X.1.2.2.2.2 _ q1185) q1186 q132 q1187 ⟨by decide, by decide⟩ hl.1 (Nat.le_of_ble_eq_true rfl) dJ19_removeNode_68 ⟨by omega, by omega⟩) hL (fun H locs hR hL => ?_)
          refine W.eq (g2 := F0 m9 71 ls [.int (iI (0))]) (congrArg (fun z_ : Int => F0 m9 71 ls [.int (iI (z_))]) (show (b2i (L = eL en) : Int) = 0 from (by rw [b2i_f (fun q_ => c_en q_.symm)]))) ?_
          refine h_if_eq hx hb 81 dJ19_removeNode_71 (by decide) (by decide) (fun _ => ?_) (fun z_ => absurd z_ (by decide))
          refine lv_aload hx hb dJ19_removeNode_81 (lv_at hl 2 rfl) ?_
          refine h_get X hR hNo rfl in_J20 3 (by decide) q891 rfl dJ19_removeNode_83 ?_
          rcases B with _ | ⟨e2, B2⟩
          ·
            exact absurd hfd2 (by intro h_; cases h_)
          ·
            obtain ⟨hnx, nx2, hNo2, hKe2, hsg3⟩ := hsg2
            subst hnx
            refine W.eq (g2 := F0 m9 86 ls [.ref ((eQ e2))]) (rfl) ?_
            refine lv_dup hx hb dJ19_removeNode_86 rfl ?_
            refine lv_astore (lv' := [(11, .ref ((eQ e2))), (12, .ref ((eK en))), (10, .null), (7, .ref ((eQ en))), (9, .int (iI ((bix L : Int)))), (8, .int (iI (16))), (6, .ref arr), (0, .ref a), (1, .int (iI (hsp L))), (2, .ref k), (3, .null), (4, .int (iI (0))), (5, .int (iI (1)))]) hx hb dJ19_removeNode_87 hl (by decide) rfl (fun ls hl => ?_)
            refine lv_ifnull hx hb dJ19_removeNode_89 ?_
            refine lv_aload hx hb dJ19_removeNode_92 (lv_at hl 3 rfl) ?_
            refine h_instNo X hR (hasC.of hNo rfl) [false, false, true, false, true, true, false, false, false, false] rfl q858 dJ19_removeNode_94 ?_
            refine h_if_eq hx hb 115 dJ19_removeNode_97 (by decide) (by decide) (fun _ => ?_) (fun z_ => absurd z_ (by decide))
            have LOOP_127 : ∀ (N_ : Nat) (p e : En) (B1 B2 : List En), (Bk (bix L) = B1 ++ p :: e :: B2) → (Seg G w r (some (eQ p)) (p :: e :: B2) none) → (eL p ≠ L) → (fndC (e :: B2) L = some e0) → B2.length < N_ → ∀ (H : Heap) (locs : List Loc) (ls : Array Slot), Rp G w H → LK G locs → lv_has ls 14 [(0, .ref a), (1, .int (iI (hsp L))), (2, .ref k), (4, .int (iI (0))), (5, .int (iI (1))), (6, .ref arr), (7, .ref ((eQ p))), (8, .int (iI (16))), (9, .int (iI ((bix L : Int)))), (11, .ref ((eQ e)))] → W p9 l e9 (rmk 3 0 0) s9 m9 a9 b9 meth9 c9 H locs 0 0 (MQ b9 (QR G (fun z_ w_ => z_ = eQ e0 ∧ (∃ nx, w_ (eQ e0) = some (r, nodE e0 nx)) ∧ (∃ mo2 : Int, w_ a = some (r, hmE (.ref arr) ((n : Int) - 1) mo2 12 lf)) ∧ HmT G w_ r arr (delB Bk L) ∧ tot (delB Bk L) 16 + 1 = n ∧ Up (fun q_ => q_ = r) w w_)) a9 s9 0 0 (frG G)) (F0 m9 115 ls []) := by
              intro N_
              induction N_ with
              | zero => intro _ _ _ _ _ _ _ _ h_; exact absurd h_ (Nat.not_lt_zero _)
              | succ N_ ih_ =>
                intro p e B1 B2 hBp0 hsp0 hpn hfe hN_ H locs ls hR hL hl
                have ih_127 := ih_
                clear ih_
                obtain ⟨-, nxp, hNop, hKep, hsgp⟩ := hsp0
                obtain ⟨hnxp, nxe, hNoe, hKee, hsge⟩ := hsgp
                subst hnxp
                have hsr_p := hsp_r (eL p)
                have hsr_e := hsp_r (eL e)
                refine lv_aload hx hb dJ19_removeNode_115 (lv_at hl 9 rfl) ?_
                by_cases c_ee : eL e = L
                ·
                  obtain rfl : e = e0 := by have h_ := hfe; rw [fndC_y c_ee] at h_; exact Option.some.inj h_
                  refine h_get X hR hNoe rfl in_J20 0 (by decide) q880 rfl dJ19_removeNode_117 ?_
                  refine lv_iload_n hx hb dJ19_removeNode_120 rfl (lv_at hl 1 rfl) ?_
                  refine h_icmp_ne hx hb 156 dJ19_removeNode_121 (by decide) (by omega) (by omega) (fun c_h5 => ?_) (fun c_h5 => ?_)
                  ·
                    exact absurd (by rw [c_ee]) c_h5
                  ·
                    refine lv_aload hx hb dJ19_removeNode_124 (lv_at hl 9 rfl) ?_
                    refine h_get X hR hNoe rfl in_J20 1 (by decide) q884 rfl dJ19_removeNode_126 ?_
                    refine lv_dup hx hb dJ19_removeNode_129 rfl ?_
                    refine lv_astore (lv' := [(12, .ref ((eK e))), (0, .ref a), (1, .int (iI (hsp L))), (2, .ref k), (4, .int (iI (0))), (5, .int (iI (1))), (6, .ref arr), (7, .ref ((eQ p))), (8, .int (iI (16))), (9, .int (iI ((bix L : Int)))), (11, .ref ((eQ e)))]) hx hb dJ19_removeNode_130 hl (by decide) rfl (fun ls hl => ?_)
                    refine lv_aload_n hx hb dJ19_removeNode_132 rfl (lv_at hl 3 rfl) ?_
                    refine lv_acmp_eq (rx := (some ((eK e)))) (ry := (some k)) (tgt := 149) hx hb dJ19_removeNode_133 (by decide) (fun c_r5 => ?_) (fun c_r5 => ?_)
                    ·
                      refine lv_aload hx hb dJ19_removeNode_149 (lv_at hl 10 rfl) ?_
                      refine lv_astore (lv' := [(10, .ref ((eQ e))), (12, .ref ((eK e))), (0, .ref a), (1, .int (iI (hsp L))), (2, .ref k), (4, .int (iI (0))), (5, .int (iI (1))), (6, .ref arr), (7, .ref ((eQ p))), (8, .int (iI (16))), (9, .int (iI ((bix L : Int)))), (11, .ref ((eQ e)))]) hx hb dJ19_removeNode_151 hl (by decide) rfl (fun ls hl => ?_)
                      refine lv_goto (tgt := 171) hx hb dJ19_removeNode_153 (by decide) ?_
                      refine lv_aload hx hb dJ19_removeNode_171 (lv_at hl 0 rfl) ?_
                      refine lv_ifnull hx hb dJ19_removeNode_173 ?_
                      refine lv_iload hx hb dJ19_removeNode_176 (lv_at hl 5 rfl) ?_
                      refine h_if_eq hx hb 206 dJ19_removeNode_178 (by decide) (by decide) (fun _ => ?_) (fun z_ => absurd z_ (by decide))
                      refine lv_aload hx hb dJ19_removeNode_206 (lv_at hl 0 rfl) ?_
                      refine h_instNo X hR (hasC.of hNoe rfl) [false, false, true, false, true, true, false, false, false, false] rfl q858 dJ19_removeNode_208 ?_
                      refine h_if_eq hx hb 230 dJ19_removeNode_211 (by decide) (by decide) (fun _ => ?_) (fun z_ => absurd z_ (by decide))
                      refine lv_aload hx hb dJ19_removeNode_230 (lv_at hl 0 rfl) ?_
                      refine lv_aload hx hb dJ19_removeNode_232 (lv_at hl 8 rfl) ?_
                      have hqe : eQ e ≠ eQ p := fun z_ => hpn ((hsg0.inj hsg0 (by rw [hBp0]; exact List.mem_append_right _ List.mem_cons_self) (by rw [hBp0]; exact List.mem_append_right _ (List.mem_cons_of_mem _ List.mem_cons_self)) z_.symm).trans c_ee)
                      refine lv_acmp_ne (rx := (some ((eQ e)))) (ry := (some ((eQ p)))) (tgt := 250) hx hb dJ19_removeNode_234 (by decide) (fun c_np => ?_) (fun c_np => ?_)
                      ·
                        refine lv_aload hx hb dJ19_removeNode_250 (lv_at hl 8 rfl) ?_
                        refine lv_aload hx hb dJ19_removeNode_252 (lv_at hl 0 rfl) ?_
                        refine h_get X hR hNoe rfl in_J20 3 (by decide) q891 rfl dJ19_removeNode_254 ?_
                        rcases B2 with _ | ⟨e5, B5⟩
                        ·
                          obtain rfl : nxe = none := hsge
                          refine W.eq (g2 := F0 m9 257 ls [.null, .ref ((eQ p))]) (rfl) ?_
                          have hK0 : ∀ (x_ : Nat) (y_ : Nat × Ent), x_ ≠ a ∧ x_ ≠ ((eQ p)) → w x_ = some y_ → w x_ = some y_ := fun x_ y_ hx_ h_ => h_
                          refine h_put X hR hL hNop hr rfl in_J20 tyJ20_ok nmJ20 3 (by decide) q891 rfl rfl rfl (Nat.le_of_ble_eq_true rfl) dJ19_removeNode_257 (fun w_130 ew_131 H locs hR hL => ?_)
                          have hU : Up (fun q_ => q_ = r) w w_130 := by rw [ew_131]; exact hU.set hNop (by first | exact Or.inl rfl | exact Or.inl (by omega) | exact Or.inr ⟨Nat.succ_ne_zero _, by rw [Nat.add_sub_cancel]; assumption⟩ | exact Or.inr ⟨by omega, by assumption⟩) hG _
                          have hF__eQ_p__w_130 : w_130 ((eQ p)) = some (r, oE 25 [.int (iI (hsp (eL p))), .ref ((eK p)), .ref ((eV p)), .null]) := by rw [ew_131]; exact wset_eq _ _ _
                          have hF_a_w_130 : w_130 a = some (r, oE 24 [.null, .null, .ref arr, .null, .int (iI ((n : Int))), .int (iI (mo)), .int (iI (12)), .float lf]) := by rw [ew_131]; exact (wset_ne _ (by first | exact ne_a__eQ_p_ | exact Ne.symm ne__eQ_p__a | exact w_neR hA hNop (by omega) | exact w_ne hA hNop (by intro h; cases h))).trans hA
                          have hF_arr_w_130 : w_130 arr = some (r, rE G 5 16 hd) := by rw [ew_131]; exact (wset_ne _ (by first | exact ne_arr__eQ_p_ | exact Ne.symm ne__eQ_p__arr | exact w_neR hT1 hNop (by omega) | exact w_ne hT1 hNop (by intro h; cases h))).trans hT1
                          have hP_k_w_130 := hS.mv (w1 := w_130) (S := fun q_ => q_ = r) (by rw [ew_131]; exact Fr.one hNop _) (by first | exact id | (intro q_; (try dsimp only at q_); omega))
                          have hP__eK_p__w_130 := hKep.mv (w1 := w_130) (S := fun q_ => q_ = r) (by rw [ew_131]; exact Fr.one hNop _) (by first | exact id | (intro q_; (try dsimp only at q_); omega))
                          have hP__eK_e__w_130 := hKee.mv (w1 := w_130) (S := fun q_ => q_ = r) (by rw [ew_131]; exact Fr.one hNop _) (by first | exact id | (intro q_; (try dsimp only at q_); omega))
                          have hK_132 : ∀ (x_ : Nat) (y_ : Nat × Ent), x_ ≠ a ∧ x_ ≠ ((eQ p)) → w x_ = some y_ → w_130 x_ = some y_ := fun x_ y_ hx_ h_ => by rw [ew_131]; exact (wset_ne _ hx_.2).trans (hK0 x_ y_ hx_ h_)
                          refine lv_aload_n hx hb dJ19_removeNode_260 rfl (lv_at hl 2 rfl) ?_
                          refine lv_dup hx hb dJ19_removeNode_261 rfl ?_
                          refine h_get X hR hF_a_w_130 rfl in_J19 5 (by decide) q562 rfl dJ19_removeNode_262 ?_
                          refine h_iconst hx hb dJ19_removeNode_265 ?_
                          refine h_iadd hx hb dJ19_removeNode_266 ?_
                          refine h_put X hR hL hF_a_w_130 hr rfl in_J19 tyJ19_ok nmJ19 5 (by decide) q562 rfl rfl rfl (Nat.le_of_ble_eq_true rfl) dJ19_removeNode_267 (fun w_133 ew_134 H locs hR hL => ?_)
                          have hU : Up (fun q_ => q_ = r) w w_133 := by rw [ew_134]; exact hU.set hF_a_w_130 (by first | exact Or.inl rfl | exact Or.inl (by omega) | exact Or.inr ⟨Nat.succ_ne_zero _, by rw [Nat.add_sub_cancel]; assumption⟩ | exact Or.inr ⟨by omega, by assumption⟩) hG _
                          have hF_a_w_133 : w_133 a = some (r, oE 24 [.null, .null, .ref arr, .null, .int (iI ((n : Int))), .int (iI (mo + 1)), .int (iI (12)), .float lf]) := by rw [ew_134]; exact wset_eq _ _ _
                          have hF__eQ_p__w_133 : w_133 ((eQ p)) = some (r, oE 25 [.int (iI (hsp (eL p))), .ref ((eK p)), .ref ((eV p)), .null]) := by rw [ew_134]; exact (wset_ne _ (by first | exact ne__eQ_p__a | exact Ne.symm ne_a__eQ_p_ | exact w_neR hF__eQ_p__w_130 hF_a_w_130 (by omega) | exact w_ne hF__eQ_p__w_130 hF_a_w_130 (by intro h; cases h))).trans hF__eQ_p__w_130
                          have hF_arr_w_133 : w_133 arr = some (r, rE G 5 16 hd) := by rw [ew_134]; exact (wset_ne _ (by first | exact ne_arr_a | exact Ne.symm ne_a_arr | exact w_neR hF_arr_w_130 hF_a_w_130 (by omega) | exact w_ne hF_arr_w_130 hF_a_w_130 (by intro h; cases h))).trans hF_arr_w_130
                          have hP_k_w_133 := hP_k_w_130.mv (w1 := w_133) (S := fun q_ => q_ = r) (by rw [ew_134]; exact Fr.one hF_a_w_130 _) (by first | exact id | (intro q_; (try dsimp only at q_); omega))
                          have hP__eK_p__w_133 := hP__eK_p__w_130.mv (w1 := w_133) (S := fun q_ => q_ = r) (by rw [ew_134]; exact Fr.one hF_a_w_130 _) (by first | exact id | (intro q_; (try dsimp only at q_); omega))
                          have hP__eK_e__w_133 := hP__eK_e__w_130.mv (w1 := w_133) (S := fun q_ => q_ = r) (by rw [ew_134]; exact Fr.one hF_a_w_130 _) (by first | exact id | (intro q_; (try dsimp only at q_); omega))
                          have hK_135 : ∀ (x_ : Nat) (y_ : Nat × Ent), x_ ≠ a ∧ x_ ≠ ((eQ p)) → w x_ = some y_ → w_133 x_ = some y_ := fun x_ y_ hx_ h_ => by rw [ew_134]; exact (wset_ne _ hx_.1).trans (hK_132 x_ y_ hx_ h_)
                          refine lv_aload_n hx hb dJ19_removeNode_270 rfl (lv_at hl 2 rfl) ?_
                          refine lv_dup hx hb dJ19_removeNode_271 rfl ?_
                          refine h_get X hR hF_a_w_133 rfl in_J19 4 (by decide) q561 rfl dJ19_removeNode_272 ?_
                          refine h_iconst hx hb dJ19_removeNode_275 ?_
                          refine h_isub hx hb dJ19_removeNode_276 ?_
                          refine h_put X hR hL hF_a_w_133 hr rfl in_J19 tyJ19_ok nmJ19 4 (by decide) q561 rfl rfl rfl (Nat.le_of_ble_eq_true rfl) dJ19_removeNode_277 (fun w_136 ew_137 H locs hR hL => ?_)
                          have hU : Up (fun q_ => q_ = r) w w_136 := by rw [ew_137]; exact hU.set hF_a_w_133 (by first | exact Or.inl rfl | exact Or.inl (by omega) | exact Or.inr ⟨Nat.succ_ne_zero _, by rw [Nat.add_sub_cancel]; assumption⟩ | exact Or.inr ⟨by omega, by assumption⟩) hG _
                          have hF_a_w_136 : w_136 a = some (r, oE 24 [.null, .null, .ref arr, .null, .int (iI (((n : Int)) - 1)), .int (iI (mo + 1)), .int (iI (12)), .float lf]) := by rw [ew_137]; exact wset_eq _ _ _
                          have hF__eQ_p__w_136 : w_136 ((eQ p)) = some (r, oE 25 [.int (iI (hsp (eL p))), .ref ((eK p)), .ref ((eV p)), .null]) := by rw [ew_137]; exact (wset_ne _ (by first | exact ne__eQ_p__a | exact Ne.symm ne_a__eQ_p_ | exact w_neR hF__eQ_p__w_133 hF_a_w_133 (by omega) | exact w_ne hF__eQ_p__w_133 hF_a_w_133 (by intro h; cases h))).trans hF__eQ_p__w_133
                          have hF_arr_w_136 : w_136 arr = some (r, rE G 5 16 hd) := by rw [ew_137]; exact (wset_ne _ (by first | exact ne_arr_a | exact Ne.symm ne_a_arr | exact w_neR hF_arr_w_133 hF_a_w_133 (by omega) | exact w_ne hF_arr_w_133 hF_a_w_133 (by intro h; cases h))).trans hF_arr_w_133
                          have hP_k_w_136 := hP_k_w_133.mv (w1 := w_136) (S := fun q_ => q_ = r) (by rw [ew_137]; exact Fr.one hF_a_w_133 _) (by first | exact id | (intro q_; (try dsimp only at q_); omega))
                          have hP__eK_p__w_136 := hP__eK_p__w_133.mv (w1 := w_136) (S := fun q_ => q_ = r) (by rw [ew_137]; exact Fr.one hF_a_w_133 _) (by first | exact id | (intro q_; (try dsimp only at q_); omega))
                          have hP__eK_e__w_136 := hP__eK_e__w_133.mv (w1 := w_136) (S := fun q_ => q_ = r) (by rw [ew_137]; exact Fr.one hF_a_w_133 _) (by first | exact id | (intro q_; (try dsimp only at q_); omega))
                          have hK_138 : ∀ (x_ : Nat) (y_ : Nat × Ent), x_ ≠ a ∧ x_ ≠ ((eQ p)) → w x_ = some y_ → w_136 x_ = some y_ := fun x_ y_ hx_ h_ => by rw [ew_137]; exact (wset_ne _ hx_.1).trans (hK_135 x_ y_ hx_ h_)
                          refine lv_aload_n hx hb dJ19_removeNode_280 rfl (lv_at hl 2 rfl) ?_
                          refine lv_aload hx hb dJ19_removeNode_281 (lv_at hl 0 rfl) ?_
                          -- call java/util/HashMap.afterNodeRemoval
                          refine h_kVp (h_runV X hR (hm_anr l G w_136 a ((eQ e))) pn_yJ19_afterNodeRemoval (hasC.of hF_a_w_136 rfl) q1926 q1927 q1928 q143 q1929 ⟨by decide, by decide⟩ hl.1 (Nat.le_of_ble_eq_true rfl) dJ19_removeNode_283 ⟨by omega, by omega⟩) hL (fun H locs hR hL => ?_)
                          refine lv_aload hx hb dJ19_removeNode_286 (lv_at hl 0 rfl) ?_
                          have hkp : ∀ b, b < 16 → ∀ e_ ∈ Bk b, eQ e_ ≠ eQ p → w_136 (eQ e_) = w (eQ e_) := fun b hb e_ he_ hp_ => by obtain ⟨nx_, h1_, -⟩ := (hT2 b hb).1.at e_ he_; rw [h1_]; exact hK_138 _ _ ⟨(fun z_ => by rw [z_, hA] at h1_; simp [nodE] at h1_), hp_⟩ h1_
                          have hT9 : HmT G w_136 r arr (delB Bk L) := HmT.del2 hT2 hBp0 hle0 (by first | exact hsge0 | exact rfl) hF_arr_w_136 (by exact hF__eQ_p__w_136) (fun a_ L_ h_ => h_.mv hU.1 (by intro q_; (try dsimp only at q_); omega)) hkp
                          exact h_areturn hx hb hlk hret (by first | exact Or.inl ⟨_, rfl⟩ | exact Or.inr ⟨_, rfl⟩) hR hL ⟨rfl, ⟨_, by rw [hkp _ (bix_r L).1 _ hme0 hqe]; exact hNoe⟩, ⟨_, hF_a_w_136⟩, hT9, (delB_t (B1 := B1 ++ [p]) hle0 (by rw [hBp0, List.append_assoc]; rfl) hnd).trans htot, hU⟩ (by omega) (by omega) rfl rfl dJ19_removeNode_288
                        ·
                          have hsge0 := hsge
                          obtain ⟨hnx, nx5, hNo5, hKe5, hsg5⟩ := hsge
                          subst hnx
                          refine W.eq (g2 := F0 m9 257 ls [.ref ((eQ e5)), .ref ((eQ p))]) (rfl) ?_
                          have hK0 : ∀ (x_ : Nat) (y_ : Nat × Ent), x_ ≠ a ∧ x_ ≠ ((eQ p)) → w x_ = some y_ → w x_ = some y_ := fun x_ y_ hx_ h_ => h_
                          refine h_put X hR hL hNop hr rfl in_J20 tyJ20_ok nmJ20 3 (by decide) q891 rfl rfl rfl (Nat.le_of_ble_eq_true rfl) dJ19_removeNode_257 (fun w_142 ew_143 H locs hR hL => ?_)
                          have hU : Up (fun q_ => q_ = r) w w_142 := by rw [ew_143]; exact hU.set hNop (by first | exact Or.inl rfl | exact Or.inl (by omega) | exact Or.inr ⟨Nat.succ_ne_zero _, by rw [Nat.add_sub_cancel]; assumption⟩ | exact Or.inr ⟨by omega, by assumption⟩) hG _
                          have hF__eQ_p__w_142 : w_142 ((eQ p)) = some (r, oE 25 [.int (iI (hsp (eL p))), .ref ((eK p)), .ref ((eV p)), .ref ((eQ e5))]) := by rw [ew_143]; exact wset_eq _ _ _
                          have hF_a_w_142 : w_142 a = some (r, oE 24 [.null, .null, .ref arr, .null, .int (iI ((n : Int))), .int (iI (mo)), .int (iI (12)), .float lf]) := by rw [ew_143]; exact (wset_ne _ (by first | exact ne_a__eQ_p_ | exact Ne.symm ne__eQ_p__a | exact w_neR hA hNop (by omega) | exact w_ne hA hNop (by intro h; cases h))).trans hA
                          have hF_arr_w_142 : w_142 arr = some (r, rE G 5 16 hd) := by rw [ew_143]; exact (wset_ne _ (by first | exact ne_arr__eQ_p_ | exact Ne.symm ne__eQ_p__arr | exact w_neR hT1 hNop (by omega) | exact w_ne hT1 hNop (by intro h; cases h))).trans hT1
                          have hP_k_w_142 := hS.mv (w1 := w_142) (S := fun q_ => q_ = r) (by rw [ew_143]; exact Fr.one hNop _) (by first | exact id | (intro q_; (try dsimp only at q_); omega))
                          have hP__eK_p__w_142 := hKep.mv (w1 := w_142) (S := fun q_ => q_ = r) (by rw [ew_143]; exact Fr.one hNop _) (by first | exact id | (intro q_; (try dsimp only at q_); omega))
                          have hP__eK_e__w_142 := hKee.mv (w1 := w_142) (S := fun q_ => q_ = r) (by rw [ew_143]; exact Fr.one hNop _) (by first | exact id | (intro q_; (try dsimp only at q_); omega))
                          have hK_144 : ∀ (x_ : Nat) (y_ : Nat × Ent), x_ ≠ a ∧ x_ ≠ ((eQ p)) → w x_ = some y_ → w_142 x_ = some y_ := fun x_ y_ hx_ h_ => by rw [ew_143]; exact (wset_ne _ hx_.2).trans (hK0 x_ y_ hx_ h_)
                          refine lv_aload_n hx hb dJ19_removeNode_260 rfl (lv_at hl 2 rfl) ?_
                          refine lv_dup hx hb dJ19_removeNode_261 rfl ?_
                          refine h_get X hR hF_a_w_142 rfl in_J19 5 (by decide) q562 rfl dJ19_removeNode_262 ?_
                          refine h_iconst hx hb dJ19_removeNode_265 ?_
                          refine h_iadd hx hb dJ19_removeNode_266 ?_
                          refine h_put X hR hL hF_a_w_142 hr rfl in_J19 tyJ19_ok nmJ19 5 (by decide) q562 rfl rfl rfl (Nat.le_of_ble_eq_true rfl) dJ19_removeNode_267 (fun w_145 ew_146 H locs hR hL => ?_)
                          have hU : Up (fun q_ => q_ = r) w w_145 := by rw [ew_146]; exact hU.set hF_a_w_142 (by first | exact Or.inl rfl | exact Or.inl (by omega) | exact Or.inr ⟨Nat.succ_ne_zero _, by rw [Nat.add_sub_cancel]; assumption⟩ | exact Or.inr ⟨by omega, by assumption⟩) hG _
                          have hF_a_w_145 : w_145 a = some (r, oE 24 [.null, .null, .ref arr, .null, .int (iI ((n : Int))), .int (iI (mo + 1)), .int (iI (12)), .float lf]) := by rw [ew_146]; exact wset_eq _ _ _
                          have hF__eQ_p__w_145 : w_145 ((eQ p)) = some (r, oE 25 [.int (iI (hsp (eL p))), .ref ((eK p)), .ref ((eV p)), .ref ((eQ e5))]) := by rw [ew_146]; exact (wset_ne _ (by first | exact ne__eQ_p__a | exact Ne.symm ne_a__eQ_p_ | exact w_neR hF__eQ_p__w_142 hF_a_w_142 (by omega) | exact w_ne hF__eQ_p__w_142 hF_a_w_142 (by intro h; cases h))).trans hF__eQ_p__w_142
                          have hF_arr_w_145 : w_145 arr = some (r, rE G 5 16 hd) := by rw [ew_146]; exact (wset_ne _ (by first | exact ne_arr_a | exact Ne.symm ne_a_arr | exact w_neR hF_arr_w_142 hF_a_w_142 (by omega) | exact w_ne hF_arr_w_142 hF_a_w_142 (by intro h; cases h))).trans hF_arr_w_142
                          have hP_k_w_145 := hP_k_w_142.mv (w1 := w_145) (S := fun q_ => q_ = r) (by rw [ew_146]; exact Fr.one hF_a_w_142 _) (by first | exact id | (intro q_; (try dsimp only at q_); omega))
                          have hP__eK_p__w_145 := hP__eK_p__w_142.mv (w1 := w_145) (S := fun q_ => q_ = r) (by rw [ew_146]; exact Fr.one hF_a_w_142 _) (by first | exact id | (intro q_; (try dsimp only at q_); omega))
                          have hP__eK_e__w_145 := hP__eK_e__w_142.mv (w1 := w_145) (S := fun q_ => q_ = r) (by rw [ew_146]; exact Fr.one hF_a_w_142 _) (by first | exact id | (intro q_; (try dsimp only at q_); omega))
                          have hK_147 : ∀ (x_ : Nat) (y_ : Nat × Ent), x_ ≠ a ∧ x_ ≠ ((eQ p)) → w x_ = some y_ → w_145 x_ = some y_ := fun x_ y_ hx_ h_ => by rw [ew_146]; exact (wset_ne _ hx_.1).trans (hK_144 x_ y_ hx_ h_)
                          refine lv_aload_n hx hb dJ19_removeNode_270 rfl (lv_at hl 2 rfl) ?_
                          refine lv_dup hx hb dJ19_removeNode_271 rfl ?_
                          refine h_get X hR hF_a_w_145 rfl in_J19 4 (by decide) q561 rfl dJ19_removeNode_272 ?_
                          refine h_iconst hx hb dJ19_removeNode_275 ?_
                          refine h_isub hx hb dJ19_removeNode_276 ?_
                          refine h_put X hR hL hF_a_w_145 hr rfl in_J19 tyJ19_ok nmJ19 4 (by decide) q561 rfl rfl rfl (Nat.le_of_ble_eq_true rfl) dJ19_removeNode_277 (fun w_148 ew_149 H locs hR hL => ?_)
                          have hU : Up (fun q_ => q_ = r) w w_148 := by rw [ew_149]; exact hU.set hF_a_w_145 (by first | exact Or.inl rfl | exact Or.inl (by omega) | exact Or.inr ⟨Nat.succ_ne_zero _, by rw [Nat.add_sub_cancel]; assumption⟩ | exact Or.inr ⟨by omega, by assumption⟩) hG _
                          have hF_a_w_148 : w_148 a = some (r, oE 24 [.null, .null, .ref arr, .null, .int (iI (((n : Int)) - 1)), .int (iI (mo + 1)), .int (iI (12)), .float lf]) := by rw [ew_149]; exact wset_eq _ _ _
                          have hF__eQ_p__w_148 : w_148 ((eQ p)) = some (r, oE 25 [.int (iI (hsp (eL p))), .ref ((eK p)), .ref ((eV p)), .ref ((eQ e5))]) := by rw [ew_149]; exact (wset_ne _ (by first | exact ne__eQ_p__a | exact Ne.symm ne_a__eQ_p_ | exact w_neR hF__eQ_p__w_145 hF_a_w_145 (by omega) | exact w_ne hF__eQ_p__w_145 hF_a_w_145 (by intro h; cases h))).trans hF__eQ_p__w_145
                          have hF_arr_w_148 : w_148 arr = some (r, rE G 5 16 hd) := by rw [ew_149]; exact (wset_ne _ (by first | exact ne_arr_a | exact Ne.symm ne_a_arr | exact w_neR hF_arr_w_145 hF_a_w_145 (by omega) | exact w_ne hF_arr_w_145 hF_a_w_145 (by intro h; cases h))).trans hF_arr_w_145
                          have hP_k_w_148 := hP_k_w_145.mv (w1 := w_148) (S := fun q_ => q_ = r) (by rw [ew_149]; exact Fr.one hF_a_w_145 _) (by first | exact id | (intro q_; (try dsimp only at q_); omega))
                          have hP__eK_p__w_148 := hP__eK_p__w_145.mv (w1 := w_148) (S := fun q_ => q_ = r) (by rw [ew_149]; exact Fr.one hF_a_w_145 _) (by first | exact id | (intro q_; (try dsimp only at q_); omega))
                          have hP__eK_e__w_148 := hP__eK_e__w_145.mv (w1 := w_148) (S := fun q_ => q_ = r) (by rw [ew_149]; exact Fr.one hF_a_w_145 _) (by first | exact id | (intro q_; (try dsimp only at q_); omega))
                          have hK_150 : ∀ (x_ : Nat) (y_ : Nat × Ent), x_ ≠ a ∧ x_ ≠ ((eQ p)) → w x_ = some y_ → w_148 x_ = some y_ := fun x_ y_ hx_ h_ => by rw [ew_149]; exact (wset_ne _ hx_.1).trans (hK_147 x_ y_ hx_ h_)
                          refine lv_aload_n hx hb dJ19_removeNode_280 rfl (lv_at hl 2 rfl) ?_
                          refine lv_aload hx hb dJ19_removeNode_281 (lv_at hl 0 rfl) ?_
                          -- call java/util/HashMap.afterNodeRemoval
                          refine h_kVp (h_runV X hR (hm_anr l G w_148 a ((eQ e))) pn_yJ19_afterNodeRemoval (hasC.of hF_a_w_148 rfl) q1926 q1927 q1928 q143 q1929 ⟨by decide, by decide⟩ hl.1 (Nat.le_of_ble_eq_true rfl) dJ19_removeNode_283 ⟨by omega, by omega⟩) hL (fun H locs hR hL => ?_)
                          refine lv_aload hx hb dJ19_removeNode_286 (lv_at hl 0 rfl) ?_
                          have hkp : ∀ b, b < 16 → ∀ e_ ∈ Bk b, eQ e_ ≠ eQ p → w_148 (eQ e_) = w (eQ e_) := fun b hb e_ he_ hp_ => by obtain ⟨nx_, h1_, -⟩ := (hT2 b hb).1.at e_ he_; rw [h1_]; exact hK_150 _ _ ⟨(fun z_ => by rw [z_, hA] at h1_; simp [nodE] at h1_), hp_⟩ h1_
                          have hT9 : HmT G w_148 r arr (delB Bk L) := HmT.del2 hT2 hBp0 hle0 (by first | exact hsge0 | exact rfl) hF_arr_w_148 (by exact hF__eQ_p__w_148) (fun a_ L_ h_ => h_.mv hU.1 (by intro q_; (try dsimp only at q_); omega)) hkp
                          exact h_areturn hx hb hlk hret (by first | exact Or.inl ⟨_, rfl⟩ | exact Or.inr ⟨_, rfl⟩) hR hL ⟨rfl, ⟨_, by rw [hkp _ (bix_r L).1 _ hme0 hqe]; exact hNoe⟩, ⟨_, hF_a_w_148⟩, hT9, (delB_t (B1 := B1 ++ [p]) hle0 (by rw [hBp0, List.append_assoc]; rfl) hnd).trans htot, hU⟩ (by omega) (by omega) rfl rfl dJ19_removeNode_288
                      ·
                        exact absurd (Option.some.inj c_np) hqe
                    ·
                      refine lv_aload_n hx hb dJ19_removeNode_136 rfl (lv_at hl 3 rfl) ?_
                      refine lv_ifnull hx hb dJ19_removeNode_137 ?_
                      refine lv_aload_n hx hb dJ19_removeNode_140 rfl (lv_at hl 3 rfl) ?_
                      refine lv_aload hx hb dJ19_removeNode_141 (lv_at hl 0 rfl) ?_
                      -- call java/lang/String.equals
                      refine h_kIp (h_runU (x := ⟨"java/lang/Object", "equals", "(Ljava/lang/Object;)Z"⟩) (owner := "java/lang/Object") X hR (s_eq l G w k ((eK e)) L (eL e) hS hKee) (by decide) pn_yJ29_equals (hS.c) q1155 q1157 (h_declC X q1156 q1194) (X.1.2.2.2.2 _ q1185) q1186 q132 q1187 ⟨by decide, by decide⟩ hl.1 (Nat.le_of_ble_eq_true rfl) dJ19_removeNode_143 ⟨by omega, by omega⟩) hL (fun H locs hR hL => ?_)
                      refine W.eq (g2 := F0 m9 146 ls [.int (iI (1))]) (congrArg (fun z_ : Int => F0 m9 146 ls [.int (iI (z_))]) (show (b2i (L = eL e) : Int) = 1 from (by rw [b2i_t c_ee.symm]))) ?_
                      refine h_if_eq hx hb 156 dJ19_removeNode_146 (by decide) (by decide) (fun z_ => absurd z_ (by decide)) (fun _ => ?_)
                      refine lv_aload hx hb dJ19_removeNode_149 (lv_at hl 10 rfl) ?_
                      refine lv_astore (lv' := [(10, .ref ((eQ e))), (12, .ref ((eK e))), (0, .ref a), (1, .int (iI (hsp L))), (2, .ref k), (4, .int (iI (0))), (5, .int (iI (1))), (6, .ref arr), (7, .ref ((eQ p))), (8, .int (iI (16))), (9, .int (iI ((bix L : Int)))), (11, .ref ((eQ e)))]) hx hb dJ19_removeNode_151 hl (by decide) rfl (fun ls hl => ?_)
                      refine lv_goto (tgt := 171) hx hb dJ19_removeNode_153 (by decide) ?_
                      refine lv_aload hx hb dJ19_removeNode_171 (lv_at hl 0 rfl) ?_
                      refine lv_ifnull hx hb dJ19_removeNode_173 ?_
                      refine lv_iload hx hb dJ19_removeNode_176 (lv_at hl 5 rfl) ?_
                      refine h_if_eq hx hb 206 dJ19_removeNode_178 (by decide) (by decide) (fun _ => ?_) (fun z_ => absurd z_ (by decide))
                      refine lv_aload hx hb dJ19_removeNode_206 (lv_at hl 0 rfl) ?_
                      refine h_instNo X hR (hasC.of hNoe rfl) [false, false, true, false, true, true, false, false, false, false] rfl q858 dJ19_removeNode_208 ?_
                      refine h_if_eq hx hb 230 dJ19_removeNode_211 (by decide) (by decide) (fun _ => ?_) (fun z_ => absurd z_ (by decide))
                      refine lv_aload hx hb dJ19_removeNode_230 (lv_at hl 0 rfl) ?_
                      refine lv_aload hx hb dJ19_removeNode_232 (lv_at hl 8 rfl) ?_
                      have hqe : eQ e ≠ eQ p := fun z_ => hpn ((hsg0.inj hsg0 (by rw [hBp0]; exact List.mem_append_right _ List.mem_cons_self) (by rw [hBp0]; exact List.mem_append_right _ (List.mem_cons_of_mem _ List.mem_cons_self)) z_.symm).trans c_ee)
                      refine lv_acmp_ne (rx := (some ((eQ e)))) (ry := (some ((eQ p)))) (tgt := 250) hx hb dJ19_removeNode_234 (by decide) (fun c_np => ?_) (fun c_np => ?_)
                      ·
                        refine lv_aload hx hb dJ19_removeNode_250 (lv_at hl 8 rfl) ?_
                        refine lv_aload hx hb dJ19_removeNode_252 (lv_at hl 0 rfl) ?_
                        refine h_get X hR hNoe rfl in_J20 3 (by decide) q891 rfl dJ19_removeNode_254 ?_
                        rcases B2 with _ | ⟨e5, B5⟩
                        ·
                          obtain rfl : nxe = none := hsge
                          refine W.eq (g2 := F0 m9 257 ls [.null, .ref ((eQ p))]) (rfl) ?_
                          have hK0 : ∀ (x_ : Nat) (y_ : Nat × Ent), x_ ≠ a ∧ x_ ≠ ((eQ p)) → w x_ = some y_ → w x_ = some y_ := fun x_ y_ hx_ h_ => h_
                          refine h_put X hR hL hNop hr rfl in_J20 tyJ20_ok nmJ20 3 (by decide) q891 rfl rfl rfl (Nat.le_of_ble_eq_true rfl) dJ19_removeNode_257 (fun w_160 ew_161 H locs hR hL => ?_)
                          have hU : Up (fun q_ => q_ = r) w w_160 := by rw [ew_161]; exact hU.set hNop (by first | exact Or.inl rfl | exact Or.inl (by omega) | exact Or.inr ⟨Nat.succ_ne_zero _, by rw [Nat.add_sub_cancel]; assumption⟩ | exact Or.inr ⟨by omega, by assumption⟩) hG _
                          have hF__eQ_p__w_160 : w_160 ((eQ p)) = some (r, oE 25 [.int (iI (hsp (eL p))), .ref ((eK p)), .ref ((eV p)), .null]) := by rw [ew_161]; exact wset_eq _ _ _
                          have hF_a_w_160 : w_160 a = some (r, oE 24 [.null, .null, .ref arr, .null, .int (iI ((n : Int))), .int (iI (mo)), .int (iI (12)), .float lf]) := by rw [ew_161]; exact (wset_ne _ (by first | exact ne_a__eQ_p_ | exact Ne.symm ne__eQ_p__a | exact w_neR hA hNop (by omega) | exact w_ne hA hNop (by intro h; cases h))).trans hA
                          have hF_arr_w_160 : w_160 arr = some (r, rE G 5 16 hd) := by rw [ew_161]; exact (wset_ne _ (by first | exact ne_arr__eQ_p_ | exact Ne.symm ne__eQ_p__arr | exact w_neR hT1 hNop (by omega) | exact w_ne hT1 hNop (by intro h; cases h))).trans hT1
                          have hP_k_w_160 := hS.mv (w1 := w_160) (S := fun q_ => q_ = r) (by rw [ew_161]; exact Fr.one hNop _) (by first | exact id | (intro q_; (try dsimp only at q_); omega))
                          have hP__eK_p__w_160 := hKep.mv (w1 := w_160) (S := fun q_ => q_ = r) (by rw [ew_161]; exact Fr.one hNop _) (by first | exact id | (intro q_; (try dsimp only at q_); omega))
                          have hP__eK_e__w_160 := hKee.mv (w1 := w_160) (S := fun q_ => q_ = r) (by rw [ew_161]; exact Fr.one hNop _) (by first | exact id | (intro q_; (try dsimp only at q_); omega))
                          have hK_162 : ∀ (x_ : Nat) (y_ : Nat × Ent), x_ ≠ a ∧ x_ ≠ ((eQ p)) → w x_ = some y_ → w_160 x_ = some y_ := fun x_ y_ hx_ h_ => by rw [ew_161]; exact (wset_ne _ hx_.2).trans (hK0 x_ y_ hx_ h_)
                          refine lv_aload_n hx hb dJ19_removeNode_260 rfl (lv_at hl 2 rfl) ?_
                          refine lv_dup hx hb dJ19_removeNode_261 rfl ?_
                          refine h_get X hR hF_a_w_160 rfl in_J19 5 (by decide) q562 rfl dJ19_removeNode_262 ?_
                          refine h_iconst hx hb dJ19_removeNode_265 ?_
                          refine h_iadd hx hb dJ19_removeNode_266 ?_
                          refine h_put X hR hL hF_a_w_160 hr rfl in_J19 tyJ19_ok nmJ19 5 (by decide) q562 rfl rfl rfl (Nat.le_of_ble_eq_true rfl) dJ19_removeNode_267 (fun w_163 ew_164 H locs hR hL => ?_)
                          have hU : Up (fun q_ => q_ = r) w w_163 := by rw [ew_164]; exact hU.set hF_a_w_160 (by first | exact Or.inl rfl | exact Or.inl (by omega) | exact Or.inr ⟨Nat.succ_ne_zero _, by rw [Nat.add_sub_cancel]; assumption⟩ | exact Or.inr ⟨by omega, by assumption⟩) hG _
                          have hF_a_w_163 : w_163 a = some (r, oE 24 [.null, .null, .ref arr, .null, .int (iI ((n : Int))), .int (iI (mo + 1)), .int (iI (12)), .float lf]) := by rw [ew_164]; exact wset_eq _ _ _
                          have hF__eQ_p__w_163 : w_163 ((eQ p)) = some (r, oE 25 [.int (iI (hsp (eL p))), .ref ((eK p)), .ref ((eV p)), .null]) := by rw [ew_164]; exact (wset_ne _ (by first | exact ne__eQ_p__a | exact Ne.symm ne_a__eQ_p_ | exact w_neR hF__eQ_p__w_160 hF_a_w_160 (by omega) | exact w_ne hF__eQ_p__w_160 hF_a_w_160 (by intro h; cases h))).trans hF__eQ_p__w_160
                          have hF_arr_w_163 : w_163 arr = some (r, rE G 5 16 hd) := by rw [ew_164]; exact (wset_ne _ (by first | exact ne_arr_a | exact Ne.symm ne_a_arr | exact w_neR hF_arr_w_160 hF_a_w_160 (by omega) | exact w_ne hF_arr_w_160 hF_a_w_160 (by intro h; cases h))).trans hF_arr_w_160
                          have hP_k_w_163 := hP_k_w_160.mv (w1 := w_163) (S := fun q_ => q_ = r) (by rw [ew_164]; exact Fr.one hF_a_w_160 _) (by first | exact id | (intro q_; (try dsimp only at q_); omega))
                          have hP__eK_p__w_163 := hP__eK_p__w_160.mv (w1 := w_163) (S := fun q_ => q_ = r) (by rw [ew_164]; exact Fr.one hF_a_w_160 _) (by first | exact id | (intro q_; (try dsimp only at q_); omega))
                          have hP__eK_e__w_163 := hP__eK_e__w_160.mv (w1 := w_163) (S := fun q_ => q_ = r) (by rw [ew_164]; exact Fr.one hF_a_w_160 _) (by first | exact id | (intro q_; (try dsimp only at q_); omega))
                          have hK_165 : ∀ (x_ : Nat) (y_ : Nat × Ent), x_ ≠ a ∧ x_ ≠ ((eQ p)) → w x_ = some y_ → w_163 x_ = some y_ := fun x_ y_ hx_ h_ => by rw [ew_164]; exact (wset_ne _ hx_.1).trans (hK_162 x_ y_ hx_ h_)
                          refine lv_aload_n hx hb dJ19_removeNode_270 rfl (lv_at hl 2 rfl) ?_
                          refine lv_dup hx hb dJ19_removeNode_271 rfl ?_
                          refine h_get X hR hF_a_w_163 rfl in_J19 4 (by decide) q561 rfl dJ19_removeNode_272 ?_
                          refine h_iconst hx hb dJ19_removeNode_275 ?_
                          refine h_isub hx hb dJ19_removeNode_276 ?_
                          refine h_put X hR hL hF_a_w_163 hr rfl in_J19 tyJ19_ok nmJ19 4 (by decide) q561 rfl rfl rfl (Nat.le_of_ble_eq_true rfl) dJ19_removeNode_277 (fun w_166 ew_167 H locs hR hL => ?_)
                          have hU : Up (fun q_ => q_ = r) w w_166 := by rw [ew_167]; exact hU.set hF_a_w_163 (by first | exact Or.inl rfl | exact Or.inl (by omega) | exact Or.inr ⟨Nat.succ_ne_zero _, by rw [Nat.add_sub_cancel]; assumption⟩ | exact Or.inr ⟨by omega, by assumption⟩) hG _
                          have hF_a_w_166 : w_166 a = some (r, oE 24 [.null, .null, .ref arr, .null, .int (iI (((n : Int)) - 1)), .int (iI (mo + 1)), .int (iI (12)), .float lf]) := by rw [ew_167]; exact wset_eq _ _ _
                          have hF__eQ_p__w_166 : w_166 ((eQ p)) = some (r, oE 25 [.int (iI (hsp (eL p))), .ref ((eK p)), .ref ((eV p)), .null]) := by rw [ew_167]; exact (wset_ne _ (by first | exact ne__eQ_p__a | exact Ne.symm ne_a__eQ_p_ | exact w_neR hF__eQ_p__w_163 hF_a_w_163 (by omega) | exact w_ne hF__eQ_p__w_163 hF_a_w_163 (by intro h; cases h))).trans hF__eQ_p__w_163
                          have hF_arr_w_166 : w_166 arr = some (r, rE G 5 16 hd) := by rw [ew_167]; exact (wset_ne _ (by first | exact ne_arr_a | exact Ne.symm ne_a_arr | exact w_neR hF_arr_w_163 hF_a_w_163 (by omega) | exact w_ne hF_arr_w_163 hF_a_w_163 (by intro h; cases h))).trans hF_arr_w_163
                          have hP_k_w_166 := hP_k_w_163.mv (w1 := w_166) (S := fun q_ => q_ = r) (by rw [ew_167]; exact Fr.one hF_a_w_163 _) (by first | exact id | (intro q_; (try dsimp only at q_); omega))
                          have hP__eK_p__w_166 := hP__eK_p__w_163.mv (w1 := w_166) (S := fun q_ => q_ = r) (by rw [ew_167]; exact Fr.one hF_a_w_163 _) (by first | exact id | (intro q_; (try dsimp only at q_); omega))
                          have hP__eK_e__w_166 := hP__eK_e__w_163.mv (w1 := w_166) (S := fun q_ => q_ = r) (by rw [ew_167]; exact Fr.one hF_a_w_163 _) (by first | exact id | (intro q_; (try dsimp only at q_); omega))
                          have hK_168 : ∀ (x_ : Nat) (y_ : Nat × Ent), x_ ≠ a ∧ x_ ≠ ((eQ p)) → w x_ = some y_ → w_166 x_ = some y_ := fun x_ y_ hx_ h_ => by rw [ew_167]; exact (wset_ne _ hx_.1).trans (hK_165 x_ y_ hx_ h_)
                          refine lv_aload_n hx hb dJ19_removeNode_280 rfl (lv_at hl 2 rfl) ?_
                          refine lv_aload hx hb dJ19_removeNode_281 (lv_at hl 0 rfl) ?_
                          -- call java/util/HashMap.afterNodeRemoval
                          refine h_kVp (h_runV X hR (hm_anr l G w_166 a ((eQ e))) pn_yJ19_afterNodeRemoval (hasC.of hF_a_w_166 rfl) q1926 q1927 q1928 q143 q1929 ⟨by decide, by decide⟩ hl.1 (Nat.le_of_ble_eq_true rfl) dJ19_removeNode_283 ⟨by omega, by omega⟩) hL (fun H locs hR hL => ?_)
                          refine lv_aload hx hb dJ19_removeNode_286 (lv_at hl 0 rfl) ?_
                          have hkp : ∀ b, b < 16 → ∀ e_ ∈ Bk b, eQ e_ ≠ eQ p → w_166 (eQ e_) = w (eQ e_) := fun b hb e_ he_ hp_ => by obtain ⟨nx_, h1_, -⟩ := (hT2 b hb).1.at e_ he_; rw [h1_]; exact hK_168 _ _ ⟨(fun z_ => by rw [z_, hA] at h1_; simp [nodE] at h1_), hp_⟩ h1_
                          have hT9 : HmT G w_166 r arr (delB Bk L) := HmT.del2 hT2 hBp0 hle0 (by first | exact hsge0 | exact rfl) hF_arr_w_166 (by exact hF__eQ_p__w_166) (fun a_ L_ h_ => h_.mv hU.1 (by intro q_; (try dsimp only at q_); omega)) hkp
                          exact h_areturn hx hb hlk hret (by first | exact Or.inl ⟨_, rfl⟩ | exact Or.inr ⟨_, rfl⟩) hR hL ⟨rfl, ⟨_, by rw [hkp _ (bix_r L).1 _ hme0 hqe]; exact hNoe⟩, ⟨_, hF_a_w_166⟩, hT9, (delB_t (B1 := B1 ++ [p]) hle0 (by rw [hBp0, List.append_assoc]; rfl) hnd).trans htot, hU⟩ (by omega) (by omega) rfl rfl dJ19_removeNode_288
                        ·
                          have hsge0 := hsge
                          obtain ⟨hnx, nx5, hNo5, hKe5, hsg5⟩ := hsge
                          subst hnx
                          refine W.eq (g2 := F0 m9 257 ls [.ref ((eQ e5)), .ref ((eQ p))]) (rfl) ?_
                          have hK0 : ∀ (x_ : Nat) (y_ : Nat × Ent), x_ ≠ a ∧ x_ ≠ ((eQ p)) → w x_ = some y_ → w x_ = some y_ := fun x_ y_ hx_ h_ => h_
                          refine h_put X hR hL hNop hr rfl in_J20 tyJ20_ok nmJ20 3 (by decide) q891 rfl rfl rfl (Nat.le_of_ble_eq_true rfl) dJ19_removeNode_257 (fun w_172 ew_173 H locs hR hL => ?_)
                          have hU : Up (fun q_ => q_ = r) w w_172 := by rw [ew_173]; exact hU.set hNop (by first | exact Or.inl rfl | exact Or.inl (by omega) | exact Or.inr ⟨Nat.succ_ne_zero _, by rw [Nat.add_sub_cancel]; assumption⟩ | exact Or.inr ⟨by omega, by assumption⟩) hG _
                          have hF__eQ_p__w_172 : w_172 ((eQ p)) = some (r, oE 25 [.int (iI (hsp (eL p))), .ref ((eK p)), .ref ((eV p)), .ref ((eQ e5))]) := by rw [ew_173]; exact wset_eq _ _ _
                          have hF_a_w_172 : w_172 a = some (r, oE 24 [.null, .null, .ref arr, .null, .int (iI ((n : Int))), .int (iI (mo)), .int (iI (12)), .float lf]) := by rw [ew_173]; exact (wset_ne _ (by first | exact ne_a__eQ_p_ | exact Ne.symm ne__eQ_p__a | exact w_neR hA hNop (by omega) | exact w_ne hA hNop (by intro h; cases h))).trans hA
                          have hF_arr_w_172 : w_172 arr = some (r, rE G 5 16 hd) := by rw [ew_173]; exact (wset_ne _ (by first | exact ne_arr__eQ_p_ | exact Ne.symm ne__eQ_p__arr | exact w_neR hT1 hNop (by omega) | exact w_ne hT1 hNop (by intro h; cases h))).trans hT1
                          have hP_k_w_172 := hS.mv (w1 := w_172) (S := fun q_ => q_ = r) (by rw [ew_173]; exact Fr.one hNop _) (by first | exact id | (intro q_; (try dsimp only at q_); omega))
                          have hP__eK_p__w_172 := hKep.mv (w1 := w_172) (S := fun q_ => q_ = r) (by rw [ew_173]; exact Fr.one hNop _) (by first | exact id | (intro q_; (try dsimp only at q_); omega))
                          have hP__eK_e__w_172 := hKee.mv (w1 := w_172) (S := fun q_ => q_ = r) (by rw [ew_173]; exact Fr.one hNop _) (by first | exact id | (intro q_; (try dsimp only at q_); omega))
                          have hK_174 : ∀ (x_ : Nat) (y_ : Nat × Ent), x_ ≠ a ∧ x_ ≠ ((eQ p)) → w x_ = some y_ → w_172 x_ = some y_ := fun x_ y_ hx_ h_ => by rw [ew_173]; exact (wset_ne _ hx_.2).trans (hK0 x_ y_ hx_ h_)
                          refine lv_aload_n hx hb dJ19_removeNode_260 rfl (lv_at hl 2 rfl) ?_
                          refine lv_dup hx hb dJ19_removeNode_261 rfl ?_
                          refine h_get X hR hF_a_w_172 rfl in_J19 5 (by decide) q562 rfl dJ19_removeNode_262 ?_
                          refine h_iconst hx hb dJ19_removeNode_265 ?_
                          refine h_iadd hx hb dJ19_removeNode_266 ?_
                          refine h_put X hR hL hF_a_w_172 hr rfl in_J19 tyJ19_ok nmJ19 5 (by decide) q562 rfl rfl rfl (Nat.le_of_ble_eq_true rfl) dJ19_removeNode_267 (fun w_175 ew_176 H locs hR hL => ?_)
                          have hU : Up (fun q_ => q_ = r) w w_175 := by rw [ew_176]; exact hU.set hF_a_w_172 (by first | exact Or.inl rfl | exact Or.inl (by omega) | exact Or.inr ⟨Nat.succ_ne_zero _, by rw [Nat.add_sub_cancel]; assumption⟩ | exact Or.inr ⟨by omega, by assumption⟩) hG _
                          have hF_a_w_175 : w_175 a = some (r, oE 24 [.null, .null, .ref arr, .null, .int (iI ((n : Int))), .int (iI (mo + 1)), .int (iI (12)), .float lf]) := by rw [ew_176]; exact wset_eq _ _ _
                          have hF__eQ_p__w_175 : w_175 ((eQ p)) = some (r, oE 25 [.int (iI (hsp (eL p))), .ref ((eK p)), .ref ((eV p)), .ref ((eQ e5))]) := by rw [ew_176]; exact (wset_ne _ (by first | exact ne__eQ_p__a | exact Ne.symm ne_a__eQ_p_ | exact w_neR hF__eQ_p__w_172 hF_a_w_172 (by omega) | exact w_ne hF__eQ_p__w_172 hF_a_w_172 (by intro h; cases h))).trans hF__eQ_p__w_172
                          have hF_arr_w_175 : w_175 arr = some (r, rE G 5 16 hd) := by rw [ew_176]; exact (wset_ne _ (by first | exact ne_arr_a | exact Ne.symm ne_a_arr | exact w_neR hF_arr_w_172 hF_a_w_172 (by omega) | exact w_ne hF_arr_w_172 hF_a_w_172 (by intro h; cases h))).trans hF_arr_w_172
                          have hP_k_w_175 := hP_k_w_172.mv (w1 := w_175) (S := fun q_ => q_ = r) (by rw [ew_176]; exact Fr.one hF_a_w_172 _) (by first | exact id | (intro q_; (try dsimp only at q_); omega))
                          have hP__eK_p__w_175 := hP__eK_p__w_172.mv (w1 := w_175) (S := fun q_ => q_ = r) (by rw [ew_176]; exact Fr.one hF_a_w_172 _) (by first | exact id | (intro q_; (try dsimp only at q_); omega))
                          have hP__eK_e__w_175 := hP__eK_e__w_172.mv (w1 := w_175) (S := fun q_ => q_ = r) (by rw [ew_176]; exact Fr.one hF_a_w_172 _) (by first | exact id | (intro q_; (try dsimp only at q_); omega))
                          have hK_177 : ∀ (x_ : Nat) (y_ : Nat × Ent), x_ ≠ a ∧ x_ ≠ ((eQ p)) → w x_ = some y_ → w_175 x_ = some y_ := fun x_ y_ hx_ h_ => by rw [ew_176]; exact (wset_ne _ hx_.1).trans (hK_174 x_ y_ hx_ h_)
                          refine lv_aload_n hx hb dJ19_removeNode_270 rfl (lv_at hl 2 rfl) ?_
                          refine lv_dup hx hb dJ19_removeNode_271 rfl ?_
                          refine h_get X hR hF_a_w_175 rfl in_J19 4 (by decide) q561 rfl dJ19_removeNode_272 ?_
                          refine h_iconst hx hb dJ19_removeNode_275 ?_
                          refine h_isub hx hb dJ19_removeNode_276 ?_
                          refine h_put X hR hL hF_a_w_175 hr rfl in_J19 tyJ19_ok nmJ19 4 (by decide) q561 rfl rfl rfl (Nat.le_of_ble_eq_true rfl) dJ19_removeNode_277 (fun w_178 ew_179 H locs hR hL => ?_)
                          have hU : Up (fun q_ => q_ = r) w w_178 := by rw [ew_179]; exact hU.set hF_a_w_175 (by first | exact Or.inl rfl | exact Or.inl (by omega) | exact Or.inr ⟨Nat.succ_ne_zero _, by rw [Nat.add_sub_cancel]; assumption⟩ | exact Or.inr ⟨by omega, by assumption⟩) hG _
                          have hF_a_w_178 : w_178 a = some (r, oE 24 [.null, .null, .ref arr, .null, .int (iI (((n : Int)) - 1)), .int (iI (mo + 1)), .int (iI (12)), .float lf]) := by rw [ew_179]; exact wset_eq _ _ _
                          have hF__eQ_p__w_178 : w_178 ((eQ p)) = some (r, oE 25 [.int (iI (hsp (eL p))), .ref ((eK p)), .ref ((eV p)), .ref ((eQ e5))]) := by rw [ew_179]; exact (wset_ne _ (by first | exact ne__eQ_p__a | exact Ne.symm ne_a__eQ_p_ | exact w_neR hF__eQ_p__w_175 hF_a_w_175 (by omega) | exact w_ne hF__eQ_p__w_175 hF_a_w_175 (by intro h; cases h))).trans hF__eQ_p__w_175
                          have hF_arr_w_178 : w_178 arr = some (r, rE G 5 16 hd) := by rw [ew_179]; exact (wset_ne _ (by first | exact ne_arr_a | exact Ne.symm ne_a_arr | exact w_neR hF_arr_w_175 hF_a_w_175 (by omega) | exact w_ne hF_arr_w_175 hF_a_w_175 (by intro h; cases h))).trans hF_arr_w_175
                          have hP_k_w_178 := hP_k_w_175.mv (w1 := w_178) (S := fun q_ => q_ = r) (by rw [ew_179]; exact Fr.one hF_a_w_175 _) (by first | exact id | (intro q_; (try dsimp only at q_); omega))
                          have hP__eK_p__w_178 := hP__eK_p__w_175.mv (w1 := w_178) (S := fun q_ => q_ = r) (by rw [ew_179]; exact Fr.one hF_a_w_175 _) (by first | exact id | (intro q_; (try dsimp only at q_); omega))
                          have hP__eK_e__w_178 := hP__eK_e__w_175.mv (w1 := w_178) (S := fun q_ => q_ = r) (by rw [ew_179]; exact Fr.one hF_a_w_175 _) (by first | exact id | (intro q_; (try dsimp only at q_); omega))
                          have hK_180 : ∀ (x_ : Nat) (y_ : Nat × Ent), x_ ≠ a ∧ x_ ≠ ((eQ p)) → w x_ = some y_ → w_178 x_ = some y_ := fun x_ y_ hx_ h_ => by rw [ew_179]; exact (wset_ne _ hx_.1).trans (hK_177 x_ y_ hx_ h_)
                          refine lv_aload_n hx hb dJ19_removeNode_280 rfl (lv_at hl 2 rfl) ?_
                          refine lv_aload hx hb dJ19_removeNode_281 (lv_at hl 0 rfl) ?_
                          -- call java/util/HashMap.afterNodeRemoval
                          refine h_kVp (h_runV X hR (hm_anr l G w_178 a ((eQ e))) pn_yJ19_afterNodeRemoval (hasC.of hF_a_w_178 rfl) q1926 q1927 q1928 q143 q1929 ⟨by decide, by decide⟩ hl.1 (Nat.le_of_ble_eq_true rfl) dJ19_removeNode_283 ⟨by omega, by omega⟩) hL (fun H locs hR hL => ?_)
                          refine lv_aload hx hb dJ19_removeNode_286 (lv_at hl 0 rfl) ?_
                          have hkp : ∀ b, b < 16 → ∀ e_ ∈ Bk b, eQ e_ ≠ eQ p → w_178 (eQ e_) = w (eQ e_) := fun b hb e_ he_ hp_ => by obtain ⟨nx_, h1_, -⟩ := (hT2 b hb).1.at e_ he_; rw [h1_]; exact hK_180 _ _ ⟨(fun z_ => by rw [z_, hA] at h1_; simp [nodE] at h1_), hp_⟩ h1_
                          have hT9 : HmT G w_178 r arr (delB Bk L) := HmT.del2 hT2 hBp0 hle0 (by first | exact hsge0 | exact rfl) hF_arr_w_178 (by exact hF__eQ_p__w_178) (fun a_ L_ h_ => h_.mv hU.1 (by intro q_; (try dsimp only at q_); omega)) hkp
                          exact h_areturn hx hb hlk hret (by first | exact Or.inl ⟨_, rfl⟩ | exact Or.inr ⟨_, rfl⟩) hR hL ⟨rfl, ⟨_, by rw [hkp _ (bix_r L).1 _ hme0 hqe]; exact hNoe⟩, ⟨_, hF_a_w_178⟩, hT9, (delB_t (B1 := B1 ++ [p]) hle0 (by rw [hBp0, List.append_assoc]; rfl) hnd).trans htot, hU⟩ (by omega) (by omega) rfl rfl dJ19_removeNode_288
                      ·
                        exact absurd (Option.some.inj c_np) hqe
                ·
                  have hfe2 : fndC B2 L = some e0 := by have h_ := hfe; rw [fndC_n c_ee] at h_; exact h_
                  refine h_get X hR hNoe rfl in_J20 0 (by decide) q880 rfl dJ19_removeNode_117 ?_
                  refine lv_iload_n hx hb dJ19_removeNode_120 rfl (lv_at hl 1 rfl) ?_
                  refine h_icmp_ne hx hb 156 dJ19_removeNode_121 (by decide) (by omega) (by omega) (fun c_h5 => ?_) (fun c_h5 => ?_)
                  ·
                    refine lv_aload hx hb dJ19_removeNode_156 (lv_at hl 9 rfl) ?_
                    refine lv_astore (lv' := [(7, .ref ((eQ e))), (0, .ref a), (1, .int (iI (hsp L))), (2, .ref k), (4, .int (iI (0))), (5, .int (iI (1))), (6, .ref arr), (8, .int (iI (16))), (9, .int (iI ((bix L : Int)))), (11, .ref ((eQ e)))]) hx hb dJ19_removeNode_158 hl (by decide) rfl (fun ls hl => ?_)
                    refine lv_aload hx hb dJ19_removeNode_160 (lv_at hl 9 rfl) ?_
                    refine h_get X hR hNoe rfl in_J20 3 (by decide) q891 rfl dJ19_removeNode_162 ?_
                    rcases B2 with _ | ⟨e5, B5⟩
                    ·
                      exact absurd hfe2 (by intro h_; cases h_)
                    ·
                      obtain ⟨hnx, nx5, hNo5, hKe5, hsg5⟩ := hsge
                      subst hnx
                      refine W.eq (g2 := F0 m9 165 ls [.ref ((eQ e5))]) (rfl) ?_
                      refine lv_dup hx hb dJ19_removeNode_165 rfl ?_
                      refine lv_astore (lv' := [(11, .ref ((eQ e5))), (7, .ref ((eQ e))), (0, .ref a), (1, .int (iI (hsp L))), (2, .ref k), (4, .int (iI (0))), (5, .int (iI (1))), (6, .ref arr), (8, .int (iI (16))), (9, .int (iI ((bix L : Int))))]) hx hb dJ19_removeNode_166 hl (by decide) rfl (fun ls hl => ?_)
                      refine lv_ifnonnull (tgt := 115) hx hb dJ19_removeNode_168 (by decide) ?_
                      exact ih_127 e e5 (B1 ++ [p]) B5 (by rw [hBp0, List.append_assoc]; rfl) ⟨rfl, _, hNoe, hKee, rfl, nx5, hNo5, hKe5, hsg5⟩ c_ee hfe2 (by simp only [List.length_cons] at hN_; omega) _ _ _ hR hL (lv_sub hl [2, 3, 4, 5, 6, 7, 1, 8, 9, 0] rfl)
                  ·
                    refine lv_aload hx hb dJ19_removeNode_124 (lv_at hl 9 rfl) ?_
                    refine h_get X hR hNoe rfl in_J20 1 (by decide) q884 rfl dJ19_removeNode_126 ?_
                    refine lv_dup hx hb dJ19_removeNode_129 rfl ?_
                    refine lv_astore (lv' := [(12, .ref ((eK e))), (0, .ref a), (1, .int (iI (hsp L))), (2, .ref k), (4, .int (iI (0))), (5, .int (iI (1))), (6, .ref arr), (7, .ref ((eQ p))), (8, .int (iI (16))), (9, .int (iI ((bix L : Int)))), (11, .ref ((eQ e)))]) hx hb dJ19_removeNode_130 hl (by decide) rfl (fun ls hl => ?_)
                    refine lv_aload_n hx hb dJ19_removeNode_132 rfl (lv_at hl 3 rfl) ?_
                    refine lv_acmp_eq (rx := (some ((eK e)))) (ry := (some k)) (tgt := 149) hx hb dJ19_removeNode_133 (by decide) (fun c_r5 => ?_) (fun c_r5 => ?_)
                    ·
                      exact absurd (by have q_ := Option.some.inj c_r5; rw [q_] at hKee; exact hKee.eqv hS) c_ee
                    ·
                      refine lv_aload_n hx hb dJ19_removeNode_136 rfl (lv_at hl 3 rfl) ?_
                      refine lv_ifnull hx hb dJ19_removeNode_137 ?_
                      refine lv_aload_n hx hb dJ19_removeNode_140 rfl (lv_at hl 3 rfl) ?_
                      refine lv_aload hx hb dJ19_removeNode_141 (lv_at hl 0 rfl) ?_
                      -- call java/lang/String.equals
                      refine h_kIp (h_runU (x := ⟨"java/lang/Object", "equals", "(Ljava/lang/Object;)Z"⟩) (owner := "java/lang/Object") X hR (s_eq l G w k ((eK e)) L (eL e) hS hKee) (by decide) pn_yJ29_equals (hS.c) q1155 q1157 (h_declC X q1156 q1194) (X.1.2.2.2.2 _ q1185) q1186 q132 q1187 ⟨by decide, by decide⟩ hl.1 (Nat.le_of_ble_eq_true rfl) dJ19_removeNode_143 ⟨by omega, by omega⟩) hL (fun H locs hR hL => ?_)
                      refine W.eq (g2 := F0 m9 146 ls [.int (iI (0))]) (congrArg (fun z_ : Int => F0 m9 146 ls [.int (iI (z_))]) (show (b2i (L = eL e) : Int) = 0 from (by rw [b2i_f (fun q_ => c_ee q_.symm)]))) ?_
                      refine h_if_eq hx hb 156 dJ19_removeNode_146 (by decide) (by decide) (fun _ => ?_) (fun z_ => absurd z_ (by decide))
                      refine lv_aload hx hb dJ19_removeNode_156 (lv_at hl 10 rfl) ?_
                      refine lv_astore (lv' := [(7, .ref ((eQ e))), (12, .ref ((eK e))), (0, .ref a), (1, .int (iI (hsp L))), (2, .ref k), (4, .int (iI (0))), (5, .int (iI (1))), (6, .ref arr), (8, .int (iI (16))), (9, .int (iI ((bix L : Int)))), (11, .ref ((eQ e)))]) hx hb dJ19_removeNode_158 hl (by decide) rfl (fun ls hl => ?_)
                      refine lv_aload hx hb dJ19_removeNode_160 (lv_at hl 10 rfl) ?_
                      refine h_get X hR hNoe rfl in_J20 3 (by decide) q891 rfl dJ19_removeNode_162 ?_
                      rcases B2 with _ | ⟨e5, B5⟩
                      ·
                        exact absurd hfe2 (by intro h_; cases h_)
                      ·
                        obtain ⟨hnx, nx5, hNo5, hKe5, hsg5⟩ := hsge
                        subst hnx
                        refine W.eq (g2 := F0 m9 165 ls [.ref ((eQ e5))]) (rfl) ?_
                        refine lv_dup hx hb dJ19_removeNode_165 rfl ?_
                        refine lv_astore (lv' := [(11, .ref ((eQ e5))), (7, .ref ((eQ e))), (12, .ref ((eK e))), (0, .ref a), (1, .int (iI (hsp L))), (2, .ref k), (4, .int (iI (0))), (5, .int (iI (1))), (6, .ref arr), (8, .int (iI (16))), (9, .int (iI ((bix L : Int))))]) hx hb dJ19_removeNode_166 hl (by decide) rfl (fun ls hl => ?_)
                        refine lv_ifnonnull (tgt := 115) hx hb dJ19_removeNode_168 (by decide) ?_
                        exact ih_127 e e5 (B1 ++ [p]) B5 (by rw [hBp0, List.append_assoc]; rfl) ⟨rfl, _, hNoe, hKee, rfl, nx5, hNo5, hKe5, hsg5⟩ c_ee hfe2 (by simp only [List.length_cons] at hN_; omega) _ _ _ hR hL (lv_sub hl [3, 4, 5, 6, 7, 8, 1, 9, 10, 0] rfl)
            exact LOOP_127 _ en e2 ([]) B2 hBk ⟨rfl, _, hNo, hKe, rfl, nx2, hNo2, hKe2, hsg3⟩ c_en hfd2 (Nat.lt_succ_self _) _ _ _ hR hL (lv_sub hl [7, 8, 9, 11, 12, 6, 3, 5, 4, 0] rfl)

set_option maxHeartbeats 4000000 in
set_option maxRecDepth 100000 in
/-- HashMap.remove -/
theorem hm_rmT (l : Launch) (G : Gl) (w : Wd) (r a arr n : Nat) (mo : Int) (lf : UInt32) (Bk : Nat → List En) (hA : w a = some (r, hmE (.ref arr) (n : Int) mo 12 lf)) (hT : HmT G w r arr Bk) (htot : tot Bk 16 = n) (hn9 : n < 100) (hG : RegW w) (hr : r ≠ 0) (k : Nat) (L : List Int) (hS : StrAt G w k L) (e0 : En) (hfd : fndC (Bk (bix L)) L = some e0) : HM l yJ19_remove cJ19_remove 3 (some (.object "java/lang/Object")) 6 0 0 G [.ref a, .ref k] w (QN G (fun z_ w_ => z_ = some (eV e0) ∧ HmAt G w_ r a (n - 1) (fun M => if M = L then none else fndB Bk M) ∧ Up (fun q_ => q_ = r) w w_)) := by
  refine HM.mk (by decide +kernel) (Nat.le_of_ble_eq_true rfl) ?_
  intro p9 e9 s9 m9 a9 b9 meth9 c9 ls X hret hlk hnm hl H hR
  have hx := X.1.1
  have hb := X.1.2.1
  have hl : lv_has ls 3 [(0, .ref a), (1, .ref k)] := hl
  have hL : LK G [] := fun q h => absurd h List.not_mem_nil
  generalize ([] : List Loc) = locs at hL ⊢
  have hU : Up (fun q_ => q_ = r) w w := Up.rf hG
  obtain ⟨hme0, hle0⟩ := fndC_m hfd
  have hnpos : 1 ≤ n := by have h1_ := List.length_pos_of_mem hme0; have h2_ := tot_le (Bk := Bk) (bix_r L).1; omega
  refine lv_aload_n hx hb dJ19_remove_0 rfl (lv_at hl 0 rfl) ?_
  refine lv_aload_n hx hb dJ19_remove_1 rfl (lv_at hl 1 rfl) ?_
  -- call java/util/HashMap.hash
  refine h_kIp (h_runS X hR (hm_hash l G w k L hS) pn_yJ19_hash q744 q745 q143 q746 ⟨by decide, by decide⟩ hl.1 (Nat.le_of_ble_eq_true rfl) dJ19_remove_2 ⟨by omega, by omega⟩) hL (fun H locs hR hL => ?_)
  refine lv_aload_n hx hb dJ19_remove_5 rfl (lv_at hl 1 rfl) ?_
  refine lv_null hx hb dJ19_remove_6 ?_
  refine h_iconst hx hb dJ19_remove_7 ?_
  refine h_iconst hx hb dJ19_remove_8 ?_
  -- call java/util/HashMap.removeNode
  refine h_kR (h_runV X hR (hm_rn l G w r a arr n mo lf Bk hA hT htot hn9 hG hr k L hS e0 hfd) pn_yJ19_removeNode (hasC.of hA rfl) q1915 q1916 q1917 q143 q1918 ⟨by decide, by decide⟩ hl.1 (Nat.le_of_ble_eq_true rfl) dJ19_remove_9 ⟨by omega, by omega⟩) hL (fun z_4 w_5 hp_6 H locs hR hL => ?_)
  obtain ⟨rfl, ⟨nx9, hN9⟩, ⟨mo9, hA9⟩, hT9, htt9, u_7⟩ := hp_6
  have hP_k_w_5 := hS.mv (u_7.1) (by first | exact id | (intro q_; (try dsimp only at q_); omega))
  have hU : Up (fun q_ => q_ = r) w w_5 := hU.tr u_7 (fun q_ h_ => by first | exact absurd h_ id | exact Or.inl h_ | ((try dsimp only at h_); first | exact Or.inl (by omega) | exact Or.inr ⟨by omega, by subst h_; rw [Nat.add_sub_cancel]; assumption⟩)) hG
  refine lv_dup hx hb dJ19_remove_12 rfl ?_
  refine lv_astore_n (lv' := [(2, .ref ((eQ e0))), (0, .ref a), (1, .ref k)]) hx hb dJ19_remove_13 rfl hl (by decide) rfl (fun ls hl => ?_)
  refine lv_ifnonnull (tgt := 21) hx hb dJ19_remove_14 (by decide) ?_
  refine lv_aload_n hx hb dJ19_remove_21 rfl (lv_at hl 0 rfl) ?_
  refine h_get X hR hN9 rfl in_J20 2 (by decide) q886 rfl dJ19_remove_22 ?_
  exact h_nreturn hx hb hlk hret (by first | exact Or.inl ⟨_, rfl⟩ | exact Or.inr ⟨_, rfl⟩) hR hL (some ((eV e0))) rfl ⟨rfl, ⟨_, _, Or.inr ⟨_, _, by have h_ := hA9; rw [show (n : Int) - 1 = ((n - 1 : Nat) : Int) by omega] at h_; exact h_, hT9, by omega, fun M => (delB_f M).symm⟩⟩, hU⟩ (by omega) (by omega) rfl rfl dJ19_remove_25

theorem hm_rm (l : Launch) (G : Gl) (w : Wd) (r a n : Nat) (mp : List Int → Option Nat) (hM : HmAt G w r a n mp) (hn9 : n < 100) (hG : RegW w) (hr : r ≠ 0) (k v : Nat) (L : List Int) (hS : StrAt G w k L) (hmp : mp L = some v) : HM l yJ19_remove cJ19_remove 3 (some (.object "java/lang/Object")) 6 0 0 G [.ref a, .ref k] w (QN G (fun z_ w_ => z_ = some v ∧ HmAt G w_ r a (n - 1) (fun M => if M = L then none else mp M) ∧ Up (fun q_ => q_ = r) w w_)) := by
  obtain ⟨mo, lf, ⟨h1, h2, h3⟩ | ⟨arr, Bk, h1, h2, h3, h4⟩⟩ := hM
  · rw [h2 L] at hmp; cases hmp
  · have e : (fun M => if M = L then none else mp M) = (fun M => if M = L then none else fndB Bk M) := funext (fun M => by rw [h4 M])
    have h5 := (h4 L).symm.trans hmp
    unfold fndB at h5
    obtain ⟨e0, he0, hv⟩ := Option.map_eq_some_iff.mp h5
    rw [e, ← hv]
    exact hm_rmT l G w r a arr n mo lf Bk h1 h2 h3 hn9 hG hr k L hS e0 he0
