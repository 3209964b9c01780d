/-! JDK: HashMap: get, put -/
set_option maxRecDepth 100000
theorem tot_upd {Bk : Nat → List En} {i : Nat} {l : List En} : ∀ n, (i < n → tot (fun b => if b = i then l else Bk b) n + (Bk i).length = tot Bk n + l.length) ∧ (n ≤ i → tot (fun b => if b = i then l else Bk b) n = tot Bk n)
  | 0 => ⟨fun h => absurd h (Nat.not_lt_zero _), fun _ => rfl⟩
  | n + 1 => by
    have h := tot_upd (Bk := Bk) (i := i) (l := l) n
    refine ⟨fun q => ?_, fun q => ?_⟩
    · show tot (fun b => if b = i then l else Bk b) n + (if n = i then l else Bk n).length + (Bk i).length = tot Bk n + (Bk n).length + l.length
      by_cases e : n = i
      · subst e; rw [if_pos rfl, h.2 (Nat.le_refl _)]; omega
      · rw [if_neg e]; have := h.1 (by omega); omega
    · show tot (fun b => if b = i then l else Bk b) n + (if n = i then l else Bk n).length = tot Bk n + (Bk n).length
      rw [if_neg (by omega), h.2 (by omega)]
theorem tot_le {Bk : Nat → List En} {i n : Nat} (h : i < n) : (Bk i).length ≤ tot Bk n := by
  induction n with
  | zero => exact absurd h (Nat.not_lt_zero _)
  | succ n ih =>
    show _ ≤ tot Bk n + (Bk n).length
    by_cases e : i = n
    · subst e; omega
    · have := ih (by omega); omega
theorem fndC_none {B : List En} {L : List Int} (h : fndC B L = none) : ∀ e ∈ B, eL e ≠ L := fun e he q => by
  have := List.find?_eq_none.mp h e he
  simp [q] at this
theorem fndC_no {B : List En} {L : List Int} (h : ∀ e ∈ B, eL e ≠ L) : fndC B L = none := List.find?_eq_none.mpr (fun e he => by simpa using h e he)
theorem fndC_app {B : List En} {e : En} {M : List Int} (h : ∀ e' ∈ B, eL e' ≠ eL e) : fndC (B ++ [e]) M = if M = eL e then some e else fndC B M := by
  unfold fndC
  rw [List.find?_append]
  by_cases q : M = eL e
  · rw [if_pos q, List.find?_eq_none.mpr (fun e' he => by have := h e' he; simp [q, this])]
    simp [q]
  · rw [if_neg q]
    cases hf : List.find? (fun e' => decide (eL e' = M)) B with
    | some x => simp
    | none =>
      have : ¬ eL e = M := fun z => q z.symm
      simp [this]
def insB (Bk : Nat → List En) (e : En) : Nat → List En := fun b => if b = bix (eL e) then Bk (bix (eL e)) ++ [e] else Bk b
theorem insB_f {Bk : Nat → List En} {e : En} (h : ∀ e' ∈ Bk (bix (eL e)), eL e' ≠ eL e) (M : List Int) : fndB (insB Bk e) M = if M = eL e then some (eV e) else fndB Bk M := by
  unfold fndB insB
  by_cases q : bix M = bix (eL e)
  · rw [if_pos q, fndC_app h, q]
    by_cases q2 : M = eL e
    · rw [if_pos q2, if_pos q2]; rfl
    · rw [if_neg q2, if_neg q2]
  · rw [if_neg q, if_neg (fun z => q (by rw [z]))]
theorem insB_t {Bk : Nat → List En} {e : En} : tot (insB Bk e) 16 = tot Bk 16 + 1 := by
  have h := (tot_upd (Bk := Bk) (i := bix (eL e)) (l := Bk (bix (eL e)) ++ [e]) 16).1 (bix_r _).1
  rw [List.length_append, List.length_singleton] at h
  show tot (fun b => if b = bix (eL e) then Bk (bix (eL e)) ++ [e] else Bk b) 16 = _
  omega
abbrev HmB (G : Gl) (w : Wd) (r : Nat) (hd : Nat → Option Nat) (Bk : Nat → List En) : Prop := ∀ b, b < 16 → Seg G w r (hd b) (Bk b) none ∧ (∀ e ∈ Bk b, bix (eL e) = b) ∧ ((Bk b).map eL).Nodup
theorem nodup_app {B : List En} {e : En} (h : (B.map eL).Nodup) (hn : ∀ e' ∈ B, eL e' ≠ eL e) : ((B ++ [e]).map eL).Nodup := by
  rw [List.map_append, List.nodup_append]
  refine ⟨h, by simp, fun x hx y hy => ?_⟩
  obtain ⟨e', he', q⟩ := List.mem_map.mp hx
  simp at hy
  rw [← q, hy]
  exact hn e' he'
/-- an entry comes into an empty bucket -/
theorem HmT.ins1 {G : Gl} {w w1 : Wd} {r arr : Nat} {hd : Nat → Option Nat} {Bk : Nat → List En} {e : En} (hT2 : HmB G w r hd Bk) (hB : Bk (bix (eL e)) = []) (hf : w1 arr = some (r, rE G 5 16 (zset hd (bix (eL e)) (some (eQ e))))) (hq : w1 (eQ e) = some (r, nodE e none)) (hk : StrAt G w1 (eK e) (eL e)) (hS : ∀ a L, StrAt G w a L → StrAt G w1 a L) (hkeep : ∀ b, b < 16 → ∀ e' ∈ Bk b, w1 (eQ e') = w (eQ e')) : HmT G w1 r arr (insB Bk e) := by
  refine ⟨_, hf, fun b hb => ?_⟩
  obtain ⟨h1, h2, h3⟩ := hT2 b hb
  unfold zset insB
  by_cases q : b = bix (eL e)
  · rw [if_pos q, if_pos q, hB]
    exact ⟨⟨rfl, none, hq, hk, rfl⟩, fun e' he' => by rw [List.nil_append, List.mem_singleton] at he'; rw [he', q], by simp⟩
  · rw [if_neg q, if_neg q]
    exact ⟨h1.kp hS (fun e' he' => hkeep b hb e' he'), h2, h3⟩
/-- an entry comes behind the bucket's last one -/
theorem HmT.ins2 {G : Gl} {w w1 : Wd} {r arr : Nat} {hd : Nat → Option Nat} {Bk : Nat → List En} {e p : En} {B1 : List En} (hT2 : HmB G w r hd Bk) (hB : Bk (bix (eL e)) = B1 ++ [p]) (hne : ∀ e' ∈ Bk (bix (eL e)), eL e' ≠ eL e) (hf : w1 arr = some (r, rE G 5 16 hd)) (hp : w1 (eQ p) = some (r, nodE p (some (eQ e)))) (hq : w1 (eQ e) = some (r, nodE e none)) (hk : StrAt G w1 (eK e) (eL e)) (hS : ∀ a L, StrAt G w a L → StrAt G w1 a L) (hkeep : ∀ b, b < 16 → ∀ e' ∈ Bk b, eQ e' ≠ eQ p → w1 (eQ e') = w (eQ e')) : HmT G w1 r arr (insB Bk e) := by
  have hpm : p ∈ Bk (bix (eL e)) := by rw [hB]; exact List.mem_append_right _ List.mem_cons_self
  have hsg0 := (hT2 _ (bix_r (eL e)).1)
  refine ⟨_, hf, fun b hb => ?_⟩
  obtain ⟨h1, h2, h3⟩ := hT2 b hb
  unfold insB
  by_cases q : b = bix (eL e)
  · subst q
    rw [if_pos rfl]
    refine ⟨?_, fun e' he' => ?_, nodup_app h3 hne⟩
    · rw [hB] at h1 h3 ⊢
      have hnp : ∀ e' ∈ B1, eL e' ≠ eL p := by
        rw [List.map_append, List.nodup_append] at h3
        intro e' he' z
        exact h3.2.2 _ (List.mem_map_of_mem he') (eL p) (by simp) z
      have key : ∀ (B : List En) (o : Option Nat), (∀ e' ∈ B, e' ∈ B1) → Seg G w r o (B ++ [p]) none → Seg G w1 r o (B ++ [p] ++ [e]) none := by
        intro B
        induction B with
        | nil =>
          intro o _ hs
          obtain ⟨s1, nx, s2, s3, s4⟩ := hs
          exact ⟨s1, some (eQ e), hp, hS _ _ s3, rfl, none, hq, hk, rfl⟩
        | cons b0 B ih =>
          intro o hm hs
          obtain ⟨s1, nx, s2, s3, s4⟩ := hs
          have hb0 := hm b0 List.mem_cons_self
          refine ⟨s1, nx, ?_, hS _ _ s3, ih nx (fun e' he' => hm e' (List.mem_cons_of_mem _ he')) s4⟩
          rw [hkeep _ hb b0 (by rw [hB]; exact List.mem_append_left _ hb0) (fun z => hnp b0 hb0 (hsg0.1.inj hsg0.1 (by rw [hB]; exact List.mem_append_left _ hb0) hpm z))]
          exact s2
      exact key B1 _ (fun _ h => h) h1
    · rcases List.mem_append.mp he' with z | z
      · exact h2 e' z
      · rw [List.mem_singleton.mp z]
  · rw [if_neg q]
    refine ⟨h1.kp hS (fun e' he' => hkeep b hb e' he' (fun z => q ?_)), h2, h3⟩
    have := h1.inj hsg0.1 he' hpm z
    rw [← h2 e' he', this, hsg0.2.1 p hpm]

theorem pn_yJ18_init : ParN yJ18_init 0 := by decide +kernel
theorem pn_yJ19_getNode : ParN yJ19_getNode 1 := by decide +kernel

set_option maxHeartbeats 4000000 in
set_option maxRecDepth 100000 in
/-- HashMap.getNode -/
theorem hm_gn0 (l : Launch) (G : Gl) (w : Wd) (r a : Nat) (mo : Int) (lf : UInt32) (hA : w a = some (r, hmE .null 0 mo 0 lf)) (k : Nat) : HM l yJ19_getNode cJ19_getNode 8 (some (.object "java/util/HashMap$Node")) 6 0 0 G [.ref a, .ref k] w (QN G (fun z_ w_ => z_ = (none : Option Nat) ∧ w_ = w)) := by
  refine HM.mk (by decide +kernel) (Nat.le_of_ble_eq_true rfl) ?_
  intro p9 e9 s9 m9 a9 b9 meth9 c9 ls X hret hlk hnm hl H hR
  have hx := X.1.1
  have hb := X.1.2.1
  have hl : lv_has ls 8 [(0, .ref a), (1, .ref k)] := hl
  have hL : LK G [] := fun q h => absurd h List.not_mem_nil
  generalize ([] : List Loc) = locs at hL ⊢
  refine lv_aload_n hx hb dJ19_getNode_0 rfl (lv_at hl 0 rfl) ?_
  refine h_get X hR hA rfl in_J19 2 (by decide) q560 rfl dJ19_getNode_1 ?_
  refine lv_dup hx hb dJ19_getNode_4 rfl ?_
  refine lv_astore_nN (lv' := [(2, .null), (0, .ref a), (1, .ref k)]) hx hb dJ19_getNode_5 rfl hl (by decide) rfl (fun ls hl => ?_)
  refine lv_ifnullN (tgt := 148) hx hb dJ19_getNode_6 (by decide) ?_
  refine lv_null hx hb dJ19_getNode_148 ?_
  exact h_nreturn hx hb hlk hret (by first | exact Or.inl ⟨_, rfl⟩ | exact Or.inr ⟨_, rfl⟩) hR hL none rfl ⟨rfl, rfl⟩ (by omega) (by omega) rfl rfl dJ19_getNode_149

set_option maxHeartbeats 4000000 in
set_option maxRecDepth 100000 in
/-- HashMap.get -/
theorem hm_getT (l : Launch) (G : Gl) (w : Wd) (r a arr : Nat) (n mo : Int) (lf : UInt32) (Bk : Nat → List En) (hA : w a = some (r, hmE (.ref arr) n mo 12 lf)) (hT : HmT G w r arr Bk) (k : Nat) (L : List Int) (hS : StrAt G w k L) : HM l yJ19_get cJ19_get 3 (some (.object "java/lang/Object")) 7 0 0 G [.ref a, .ref k] w (QN G (fun z_ w_ => z_ = fndB Bk L ∧ w_ = w)) := by
  refine HM.mk (by decide +kernel) (Nat.le_of_ble_eq_true rfl) ?_
  intro p9 e9 s9 m9 a9 b9 meth9 c9 ls X hret hlk hnm hl H hR
  have hx := X.1.1
  have hb := X.1.2.1
  have hl : lv_has ls 3 [(0, .ref a), (1, .ref k)] := hl
  have hL : LK G [] := fun q h => absurd h List.not_mem_nil
  generalize ([] : List Loc) = locs at hL ⊢
  have hT0 := hT
  obtain ⟨hd, hT1, hT2⟩ := hT
  obtain ⟨hsg, hbx, hnd⟩ := hT2 (bix L) (bix_r L).1
  have hbr := bix_r L
  have hspr := hsp_r L
  refine lv_aload_n hx hb dJ19_get_0 rfl (lv_at hl 0 rfl) ?_
  refine lv_aload_n hx hb dJ19_get_1 rfl (lv_at hl 1 rfl) ?_
  -- call java/util/HashMap.getNode
  refine h_kNp (h_runV X hR (hm_gn l G w r a arr n mo lf Bk hA hT0 k L hS) pn_yJ19_getNode (hasC.of hA rfl) q1411 q1412 q1413 q143 q1414 ⟨by decide, by decide⟩ hl.1 (Nat.le_of_ble_eq_true rfl) dJ19_get_2 ⟨by omega, by omega⟩) hL (fun H locs hR hL => ?_)
  obtain ⟨F0_, hfd⟩ : ∃ x_, fndC (Bk (bix L)) L = x_ := ⟨_, rfl⟩
  rcases F0_ with _ | en
  ·
    refine W.eq (g2 := F0 m9 5 ls [.null]) (by rw [hfd]; rfl) ?_
    refine lv_dup hx hb dJ19_get_5 rfl ?_
    refine lv_astore_nN (lv' := [(2, .null), (0, .ref a), (1, .ref k)]) hx hb dJ19_get_6 rfl hl (by decide) rfl (fun ls hl => ?_)
    refine lv_ifnonnullN hx hb dJ19_get_7 ?_
    refine lv_null hx hb dJ19_get_10 ?_
    refine lv_goto (tgt := 18) hx hb dJ19_get_11 (by decide) ?_
    exact h_nreturn hx hb hlk hret (by first | exact Or.inl ⟨_, rfl⟩ | exact Or.inr ⟨_, rfl⟩) hR hL none rfl ⟨(by unfold fndB; rw [hfd]; rfl), rfl⟩ (by omega) (by omega) rfl rfl dJ19_get_18
  ·
    obtain ⟨hme, hle⟩ := fndC_m hfd
    obtain ⟨nx, hNo, hKe⟩ := hsg.at en hme
    have hsr_en := hsp_r (eL en)
    refine W.eq (g2 := F0 m9 5 ls [.ref ((eQ en))]) (by rw [hfd]; rfl) ?_
    refine lv_dup hx hb dJ19_get_5 rfl ?_
    refine lv_astore_n (lv' := [(2, .ref ((eQ en))), (0, .ref a), (1, .ref k)]) hx hb dJ19_get_6 rfl hl (by decide) rfl (fun ls hl => ?_)
    refine lv_ifnonnull (tgt := 14) hx hb dJ19_get_7 (by decide) ?_
    refine lv_aload_n hx hb dJ19_get_14 rfl (lv_at hl 0 rfl) ?_
    refine h_get X hR hNo rfl in_J20 2 (by decide) q886 rfl dJ19_get_15 ?_
    exact h_nreturn hx hb hlk hret (by first | exact Or.inl ⟨_, rfl⟩ | exact Or.inr ⟨_, rfl⟩) hR hL (some ((eV en))) rfl ⟨(by unfold fndB; rw [hfd]; rfl), rfl⟩ (by omega) (by omega) rfl rfl dJ19_get_18

set_option maxHeartbeats 4000000 in
set_option maxRecDepth 100000 in
/-- HashMap.get -/
theorem hm_get0 (l : Launch) (G : Gl) (w : Wd) (r a : Nat) (mo : Int) (lf : UInt32) (hA : w a = some (r, hmE .null 0 mo 0 lf)) (k : Nat) : HM l yJ19_get cJ19_get 3 (some (.object "java/lang/Object")) 7 0 0 G [.ref a, .ref k] w (QN G (fun z_ w_ => z_ = (none : Option Nat) ∧ w_ = w)) := by
  refine HM.mk (by decide +kernel) (Nat.le_of_ble_eq_true rfl) ?_
  intro p9 e9 s9 m9 a9 b9 meth9 c9 ls X hret hlk hnm hl H hR
  have hx := X.1.1
  have hb := X.1.2.1
  have hl : lv_has ls 3 [(0, .ref a), (1, .ref k)] := hl
  have hL : LK G [] := fun q h => absurd h List.not_mem_nil
  generalize ([] : List Loc) = locs at hL ⊢
  refine lv_aload_n hx hb dJ19_get_0 rfl (lv_at hl 0 rfl) ?_
  refine lv_aload_n hx hb dJ19_get_1 rfl (lv_at hl 1 rfl) ?_
  -- call java/util/HashMap.getNode
  refine h_kNp (h_runV X hR (hm_gn0 l G w r a mo lf hA k) pn_yJ19_getNode (hasC.of hA rfl) q1411 q1412 q1413 q143 q1414 ⟨by decide, by decide⟩ hl.1 (Nat.le_of_ble_eq_true rfl) dJ19_get_2 ⟨by omega, by omega⟩) hL (fun H locs hR hL => ?_)
  refine W.eq (g2 := F0 m9 5 ls [.null]) (rfl) ?_
  refine lv_dup hx hb dJ19_get_5 rfl ?_
  refine lv_astore_nN (lv' := [(2, .null), (0, .ref a), (1, .ref k)]) hx hb dJ19_get_6 rfl hl (by decide) rfl (fun ls hl => ?_)
  refine lv_ifnonnullN hx hb dJ19_get_7 ?_
  refine lv_null hx hb dJ19_get_10 ?_
  refine lv_goto (tgt := 18) hx hb dJ19_get_11 (by decide) ?_
  exact h_nreturn hx hb hlk hret (by first | exact Or.inl ⟨_, rfl⟩ | exact Or.inr ⟨_, rfl⟩) hR hL none rfl ⟨rfl, rfl⟩ (by omega) (by omega) rfl rfl dJ19_get_18

theorem hm_get (l : Launch) (G : Gl) (w : Wd) (r a n : Nat) (mp : List Int → Option Nat) (hM : HmAt G w r a n mp) (k : Nat) (L : List Int) (hS : StrAt G w k L) : HM l yJ19_get cJ19_get 3 (some (.object "java/lang/Object")) 7 0 0 G [.ref a, .ref k] w (QN G (fun z_ w_ => z_ = mp L ∧ w_ = w)) := by
  obtain ⟨mo, lf, h | ⟨arr, Bk, h1, h2, h3, h4⟩⟩ := hM
  · rw [h.2.1 L]; exact hm_get0 l G w r a mo lf h.2.2 k
  · rw [h4 L]; exact hm_getT l G w r a arr n mo lf Bk h1 h2 k L hS

theorem HmAt.mv {G : Gl} {w w1 : Wd} {r a n : Nat} {mp : List Int → Option Nat} {S : Nat → Prop} (h : HmAt G w r a n mp) (hF : Fr S w w1) (h0 : ¬ S r ∧ ¬ S 0) : HmAt G w1 r a n mp := h.mv2 hF h0.1 h0.2

set_option maxHeartbeats 4000000 in
set_option maxRecDepth 100000 in
/-- AbstractMap.<init> -/
theorem jam_init (l : Launch) (G : Gl) (w : Wd) (a : Nat) : HM l yJ18_init cJ18_init 1 none 1 0 0 G [.ref a] w (QV G (fun w_ => w_ = w)) := by
  refine HM.mk (by decide +kernel) (Nat.le_of_ble_eq_true rfl) ?_
  intro p9 e9 s9 m9 a9 b9 meth9 c9 ls X hret hlk hnm hl H hR
  have hx := X.1.1
  have hb := X.1.2.1
  have hl : lv_has ls 1 [(0, .ref a)] := hl
  have hL : LK G [] := fun q h => absurd h List.not_mem_nil
  generalize ([] : List Loc) = locs at hL ⊢
  refine lv_aload_n hx hb dJ18_init_0 rfl (lv_at hl 0 rfl) ?_
  refine W.objInit hx hb X.1.2.2.2.1 (X.1.2.2.2.2 _ q558) (X.1.2.2.2.2 _ q180) (X.1.2.2.2.2 _ q181) rfl (by rw [X.1.2.2.1]; exact hl.1) rfl dJ18_init_1 (Nat.le_of_ble_eq_true rfl) (Nat.le_of_ble_eq_true rfl) ?_
  refine W.eq (g2 := F0 m9 4 ls []) rfl ?_
  exact h_vreturn hx hb hlk hret hR hL (by rfl) (by omega) (by omega) rfl rfl dJ18_init_4

set_option maxHeartbeats 4000000 in
set_option maxRecDepth 100000 in
/-- HashMap.<init> -/
theorem hm_init (l : Launch) (G : Gl) (w : Wd) (r a : Nat) (hG : RegW w) (hr : r ≠ 0) (hA : w a = some (r, oE 24 [.null, .null, .null, .null, .int (iI 0), .int (iI 0), .int (iI 0), .float 0])) : HM l yJ19_init cJ19_init 1 none 2 0 0 G [.ref a] w (QV G (fun w_ => HmAt G w_ r a 0 (fun _ => none) ∧ Up (fun q_ => q_ = r) w w_)) := by
  refine HM.mk (by decide +kernel) (Nat.le_of_ble_eq_true rfl) ?_
  intro p9 e9 s9 m9 a9 b9 meth9 c9 ls X hret hlk hnm hl H hR
  have hx := X.1.1
  have hb := X.1.2.1
  have hl : lv_has ls 1 [(0, .ref a)] := hl
  have hL : LK G [] := fun q h => absurd h List.not_mem_nil
  generalize ([] : List Loc) = locs at hL ⊢
  have hU : Up (fun q_ => q_ = r) w w := Up.rf hG
  refine lv_aload_n hx hb dJ19_init_0 rfl (lv_at hl 0 rfl) ?_
  -- call java/util/AbstractMap.<init>
  refine h_kVp (h_runI X hR (jam_init l G w a) pn_yJ18_init rfl q555 q556 q142 q557 ⟨by decide, by decide⟩ hl.1 (Nat.le_of_ble_eq_true rfl) dJ19_init_1 ⟨by omega, by omega⟩) hL (fun H locs hR hL => ?_)
  refine lv_aload_n hx hb dJ19_init_4 rfl (lv_at hl 0 rfl) ?_
  refine lv_ldcf (v := (1061158912 : UInt32)) hx hb X.1.2.2.2.1 (X.1.2.2.2.2 _ q559) dJ19_init_5 ?_
  refine h_putF X hnm hR hL hA hr rfl in_J19 tyJ19_ok nmJ19 7 (by decide) q564 rfl rfl rfl rfl (Nat.le_of_ble_eq_true rfl) dJ19_init_7 (fun w_4 ew_5 H locs hR hL => ?_)
  have hU : Up (fun q_ => q_ = r) w w_4 := by rw [ew_5]; exact hU.set hA (by first | exact Or.inl rfl | exact Or.inl (by omega) | exact Or.inr ⟨Nat.succ_ne_zero _, by rw [Nat.add_sub_cancel]; assumption⟩ | exact Or.inr ⟨by omega, by assumption⟩) hG _
  have hF_a_w_4 : w_4 a = some (r, oE 24 [.null, .null, .null, .null, .int (iI (0)), .int (iI (0)), .int (iI (0)), .float ((1061158912 : UInt32))]) := by rw [ew_5]; exact wset_eq _ _ _
  exact h_vreturn hx hb hlk hret hR hL ⟨⟨0, _, Or.inl ⟨rfl, fun _ => rfl, hF_a_w_4⟩⟩, hU⟩ (by omega) (by omega) rfl rfl dJ19_init_10
