/-! the twin: a whole text is read -/
set_option maxRecDepth 100000
def newC (sh rm : Int) : Cat := (sh, rm, (List.range sh.toNat).map (fun s : Nat => (s : Int) * 10000 / sh), [], [], fun _ => 0, 1)
def rHd1 (T : List Int) : Rd := if kyB T (.inr (tok T 0)) (kkTx 24) = true then .inr (tok T 0) else rErr 1 (.inr (tok T 0))
def rHd3 (T : List Int) : Rd × Int := rNum T 1 8 (rNext T (rHd1 T))
def rHd4 (T : List Int) : Rd × Int := rNum T 10 999 (rHd3 T).1
def rHd5 (T : List Int) : Rd := rMust T 3 (rHd4 T).1
def rRules (T : List Int) : Nat → Rd × Cat → Rd × Cat
  | 0, q => q
  | n + 1, q => match q.1 with
    | .inl _ => q
    | .inr s => if kyB T q.1 (kkTx 25) = true then rRules T n (rRule T s q.2) else q
def rMarks (T : List Int) : Nat → Rd × Cat → Rd × Cat
  | 0, q => q
  | n + 1, q => match q.1 with
    | .inl _ => q
    | .inr s => if kyB T q.1 (kkTx 26) = true then rMarks T n (rMark T s q.2) else q
def rBody (T : List Int) : Rd × Cat := rMarks T 42 (rRules T 10 (rHd5 T, newC (rHd3 T).2 (rHd4 T).2))
def rText (T : List Int) : Rd × Cat := if wrC (rHd5 T) = 0 then (rEnd (rBody T).1, (rBody T).2) else (rHd5 T, cat0)
theorem kyB_s {T : List Int} {e : Rd} {K : List Int} (h : kyB T e K = true) : ∃ s, e = .inr s := by
  cases e with
  | inl x => exact absurd h kyB_0
  | inr s => exact ⟨s, rfl⟩
theorem rRules_no {T : List Int} {n : Nat} {q : Rd × Cat} (h : ¬ kyB T q.1 (kkTx 25) = true) : rRules T n q = q := by
  cases n with
  | zero => rfl
  | succ n =>
    unfold rRules
    cases hq : q.1 with
    | inl x => rfl
    | inr s => dsimp only; rw [hq] at h; rw [if_neg h]
theorem rRules_go {T : List Int} {n : Nat} {q : Rd × Cat} {s : Sc} (h : q.1 = .inr s) (hk : kyB T q.1 (kkTx 25) = true) (hn : 0 < n) : rRules T n q = rRules T (n - 1) (rRule T s q.2) := by
  obtain ⟨m, rfl⟩ : ∃ m, n = m + 1 := ⟨n - 1, by omega⟩
  show rRules T (m + 1) q = rRules T m _
  conv => lhs; unfold rRules
  rw [h] at hk ⊢
  dsimp only
  rw [if_pos hk]
theorem rMarks_no {T : List Int} {n : Nat} {q : Rd × Cat} (h : ¬ kyB T q.1 (kkTx 26) = true) : rMarks T n q = q := by
  cases n with
  | zero => rfl
  | succ n =>
    unfold rMarks
    cases hq : q.1 with
    | inl x => rfl
    | inr s => dsimp only; rw [hq] at h; rw [if_neg h]
theorem rMarks_go {T : List Int} {n : Nat} {q : Rd × Cat} {s : Sc} (h : q.1 = .inr s) (hk : kyB T q.1 (kkTx 26) = true) (hn : 0 < n) : rMarks T n q = rMarks T (n - 1) (rMark T s q.2) := by
  obtain ⟨m, rfl⟩ : ∃ m, n = m + 1 := ⟨n - 1, by omega⟩
  show rMarks T (m + 1) q = rMarks T m _
  conv => lhs; unfold rMarks
  rw [h] at hk ⊢
  dsimp only
  rw [if_pos hk]
theorem ordA_rl (c : Cat) : cRl (ordA c).1 = cRl c := by unfold ordA; split <;> rfl
theorem rRule_ne {T : List Int} {s s1 : Sc} {c : Cat} (h : (rRule T s c).1 = .inr s1) : ¬ (cRl c).length = 8 ∧ rRl7 T s c = .inr s1 ∧ rRule T s c = (rRl7 T s c, (syA c (rRlQ T s).2 (rRlW T s c).2).1) := by
  by_cases q : (cRl c).length = 8
  · unfold rRule at h; rw [if_pos q] at h; cases h
  · have e : rRule T s c = _ := if_neg q
    rw [e] at h
    refine ⟨q, h, ?_⟩
    rw [e, if_pos (by have h2 : rRl7 T s c = .inr s1 := h; rw [h2]; rfl)]
theorem rRule_len {T : List Int} {s s1 : Sc} {c : Cat} (hW : ScW T s) (h : (rRule T s c).1 = .inr s1) : (cRl (rRule T s c).2).length = (cRl c).length + 1 := by
  obtain ⟨h8, h7, e⟩ := rRule_ne h
  rw [e]
  have hr := (rRl7_ok hW h7).2
  show (cRl (syA c _ _).1).length = _
  unfold syA
  rw [if_neg (fun q => q hr), if_neg h8, ordA_rl]
  show (cRl c ++ [_]).length = _
  simp
theorem rMark_ne {T : List Int} {s s1 : Sc} {c : Cat} (h : (rMark T s c).1 = .inr s1) : ¬ cN c = 40 ∧ rMk6 T s c = .inr s1 ∧ rMark T s c = (rMk6 T s c, cAdd c (rMkQ T s).2 (rMk5 T s c).2) := by
  by_cases q : cN c = 40
  · unfold rMark at h; rw [if_pos q] at h; cases h
  · have e : rMark T s c = _ := if_neg q
    rw [e] at h
    refine ⟨q, h, ?_⟩
    rw [e, if_pos (by have h2 : rMk6 T s c = .inr s1 := h; rw [h2]; rfl)]
theorem cN_add (c : Cat) (g : List Prt) (w : Int) : cN (cAdd c g w) = cN c + 1 := by
  have h1 : (insAt (cMk c) (rkF c g) (newM c g w)).length = cN c + 1 := insAt_len _ _ _ (rkF_le c g)
  unfold cAdd
  split
  · exact (rspL_len _ _ _).trans h1
  · exact h1
theorem rMark_len {T : List Int} {s s1 : Sc} {c : Cat} (h : (rMark T s c).1 = .inr s1) : cN (rMark T s c).2 = cN c + 1 := by
  obtain ⟨-, -, e⟩ := rMark_ne h
  rw [e]; exact cN_add _ _ _
/-- readings whose numbers are no less than 0 -/
def RdG (T : List Int) (e : Rd) : Prop := ∀ s, e = .inr s → ScW T s ∧ (scK s = 2 → 0 ≤ scV s)
theorem nmF_nn {T : List Int} {b : Nat} : ∀ n, (∀ j, j < n → 48 ≤ bat T (b + j)) → 0 ≤ nmF T b n
  | 0, _ => Int.le_refl _
  | n + 1, h => by
    have h1 := nmF_nn (T := T) (b := b) n (fun j hj => h j (by omega))
    have h2 := h n (by omega)
    show 0 ≤ min 1000000 (10 * nmF T b n + bat T (b + n) - 48)
    omega
theorem tok_v {T : List Int} {p : Nat} (h : scK (tok T p) = 2) : 0 ≤ scV (tok T p) := by
  unfold tok at h ⊢
  by_cases q1 : T.length ≤ skp T p
  · rw [if_pos q1]; exact Int.le_refl _
  · rw [if_neg q1] at h ⊢
    by_cases q2 : 97 ≤ bat T (skp T p) ∧ bat T (skp T p) ≤ 122
    · rw [if_pos q2]; exact Int.le_refl _
    · rw [if_neg q2] at h ⊢
      by_cases q3 : 48 ≤ bat T (skp T p) ∧ bat T (skp T p) ≤ 57
      · rw [if_pos q3]
        have h3 := runA_le (P := fun j => 48 ≤ bat T j ∧ bat T j ≤ 57) (T.length - skp T p) (skp T p)
        exact nmF_nn _ (fun j hj => (h3.2.2 _ (by omega) (by show _ < fgE T (skp T p); omega)).1)
      · rw [if_neg q3]; exact Int.le_refl _
theorem RdG.tok {T : List Int} {p : Nat} (hp : p ≤ T.length) : RdG T (.inr (tok T p)) := fun s hs => by cases hs; exact ⟨tok_w hp, tok_v⟩
theorem RdG.w {T : List Int} {e : Rd} (h : RdG T e) : RdW T e := fun s hs => (h s hs).1
theorem rPart_g {T : List Int} {e : Rd} {ps : List Prt} (h : RdG T e) (hp : ps.length ≤ 5 ∧ ∀ x ∈ ps, PrtW x) : RdG T (rPart T e ps).1 ∧ (rPart T e ps).2.length ≤ 5 ∧ ∀ x ∈ (rPart T e ps).2, PrtW x := by
  have hput : ∀ (s : Sc) (x : Prt), ScW T s → PrtW x → RdG T (rPut T s ps x).1 ∧ (rPut T s ps x).2.length ≤ 5 ∧ ∀ y ∈ (rPut T s ps x).2, PrtW y := fun s x hs hx => by
    unfold rPut
    split
    · exact ⟨fun s h => (by cases h), hp⟩
    · refine ⟨RdG.tok hs.2.1, by rw [List.length_append, List.length_singleton]; omega, fun y hy => ?_⟩
      rcases List.mem_append.mp hy with q | q
      · exact hp.2 y q
      · rw [List.mem_singleton.mp q]; exact hx
  cases e with
  | inl x => exact ⟨fun s h => (by cases h), hp⟩
  | inr s =>
    obtain ⟨hW, hv⟩ := h s rfl
    unfold rPart
    dsimp only
    split
    · next q => split
                · next q2 => exact hput s _ hW ⟨hv q, q2⟩
                · exact ⟨fun s h => (by cases h), hp⟩
    · split
      · next q => split
                  · next q2 => exact hput s _ hW (scL_w hW q q2)
                  · exact ⟨fun s h => (by cases h), hp⟩
      · exact ⟨fun s h => (by cases h), hp⟩
theorem rMore_g {T : List Int} : ∀ (n : Nat) (q : Rd × List Prt), RdG T q.1 → (q.2.length ≤ 5 ∧ ∀ x ∈ q.2, PrtW x) → RdG T (rMore T n q).1 ∧ (rMore T n q).2.length ≤ 5 ∧ ∀ x ∈ (rMore T n q).2, PrtW x
  | 0, q, h, hp => ⟨h, hp⟩
  | n + 1, q, h, hp => by
    unfold rMore
    split
    · exact ⟨h, hp⟩
    · split
      · have := rPart_g h hp; exact rMore_g n _ this.1 this.2
      · exact ⟨h, hp⟩
theorem rParts_w {T : List Int} {e : Rd} {s : Sc} (h : RdG T e) (hs : (rParts T e).1 = .inr s) : PrtsW (rParts T e).2 := by
  have h1 := rPart_g (ps := []) h ⟨Nat.zero_le _, fun x hx => absurd hx List.not_mem_nil⟩
  have h2 := rMore_g 6 _ h1.1 h1.2
  exact ⟨rParts_len hs, h2.2⟩
theorem Ok.rule {b : Int} {c : Cat} {T : List Int} {s : Sc} (h : Ok b c) (hb : b < 990000) (hW : ScW T s) (hne : ∀ x, (rRule T s c).1 = .inl x → x.2 ≠ 0) : Ok (b + 41) (rRule T s c).2 := by
  cases hq : (rRule T s c).1 with
  | inr s1 =>
    obtain ⟨h8, h7, e⟩ := rRule_ne hq
    obtain ⟨⟨⟨-, hA⟩, -, hB⟩, -⟩ := rRl7_ok hW h7
    rw [e]; exact h.sy hb hA hB
  | inl x =>
    have hx := hne x hq
    unfold rRule at hq ⊢
    split at hq
    · next q => rw [if_pos q]; exact h.mono (by omega)
    · next q =>
      rw [if_neg q]
      have hq2 : rRl7 T s c = .inl x := hq
      rw [if_neg (by rw [hq2]; exact hx)]; exact h.mono (by omega)
theorem Ok.mark {b : Int} {c : Cat} {T : List Int} {s : Sc} (h : Ok b c) (hb : b < 990000) (hW : ScW T s) (hne : ∀ x, (rMark T s c).1 = .inl x → x.2 ≠ 0) : Ok (b + 41) (rMark T s c).2 := by
  cases hq : (rMark T s c).1 with
  | inr s1 =>
    obtain ⟨h8, h7, e⟩ := rMark_ne hq
    obtain ⟨⟨s2, hs2⟩, ht⟩ := rMk6_ok h7
    have := h.1.s.2.2.2.1.1
    rw [e]
    exact h.1.add (rParts_w (RdG.tok hW.2.1) hs2) (rNum_r (by decide)) ht (by omega) h.2 hb
  | inl x =>
    have hx := hne x hq
    unfold rMark at hq ⊢
    split at hq
    · next q => rw [if_pos q]; exact h.mono (by omega)
    · next q =>
      rw [if_neg q]
      have hq2 : rMk6 T s c = .inl x := hq
      rw [if_neg (by rw [hq2]; exact hx)]; exact h.mono (by omega)
theorem newC_bd {sh rm : Int} (hs : 1 ≤ sh) {s : Nat} (h : (s : Int) < sh) : bd (newC sh rm) s = (s : Int) * 10000 / sh := by
  show ((List.range sh.toNat).map (fun s : Nat => (s : Int) * 10000 / sh)).getD s 0 = _
  simp [show s < sh.toNat by omega]
theorem newC_r {sh : Int} (hs : 1 ≤ sh) {s : Nat} (h : (s : Int) < sh) : 0 ≤ (s : Int) * 10000 / sh ∧ (s : Int) * 10000 / sh ≤ 10000 := ⟨Int.ediv_nonneg (by omega) (by omega), Int.ediv_le_of_le_mul (by omega) (by omega)⟩
theorem newC_s {sh rm : Int} (hs : 1 ≤ sh ∧ sh ≤ 8) (hr : 10 ≤ rm ∧ rm ≤ 999) : CatS (newC sh rm) := by
  have hl : (cBd (newC sh rm)).length = sh.toNat := by show ((List.range sh.toNat).map _).length = _; simp
  refine ⟨hs, hr, ⟨hl, fun s hs2 => ?_⟩, ⟨Nat.zero_le _, fun k hk => absurd hk (Nat.not_lt_zero _)⟩, ⟨Nat.zero_le _, fun q hq => absurd hq List.not_mem_nil⟩, fun k hk => ⟨Int.le_refl _, by show (0 : Int) < 1000000; decide⟩, Int.le_refl _, by show (1 : Int) < 1000000; decide⟩
  rw [hl] at hs2
  rw [newC_bd hs.1 (by omega)]; exact newC_r hs.1 (by omega)
theorem newC_ok {sh rm : Int} (hs : 1 ≤ sh ∧ sh ≤ 8) (hr : 10 ≤ rm ∧ rm ≤ 999) : Ok 1 (newC sh rm) := by
  refine ⟨⟨newC_s hs hr, fun k hk => absurd hk (Nat.not_lt_zero _), fun k hk => absurd hk (Nat.not_lt_zero _), ?_, fun s h => ?_⟩, fun k hk => by show (0 : Int) ≤ 1; decide, Int.le_refl _⟩
  · rw [newC_bd hs.1 (s := 0) (by omega)]; rw [Int.natCast_zero, Int.zero_mul, Int.zero_ediv]
  · have hl : (cBd (newC sh rm)).length = sh.toNat := (newC_s hs hr).2.2.1.1
    rw [hl] at h
    rw [newC_bd hs.1 (by omega), newC_bd hs.1 (by omega)]
    exact Int.ediv_le_ediv (by omega) (by omega)
theorem RowIs.new {f : Nat → Int} {sh rm : Int} (hs : 1 ≤ sh ∧ sh ≤ 8) (hr : 10 ≤ rm ∧ rm ≤ 999) (h0 : f 0 = sh) (h1 : f 1 = rm) (h4 : f 4 = 1) (hz : ∀ i, i < 8 → i ≠ 0 → i ≠ 1 → i ≠ 4 → f i = 0) (hb : ∀ s : Nat, (s : Int) < sh → f (8 + s) = (s : Int) * 10000 / sh) : RowIs f (newC sh rm) := by
  refine ⟨newC_s hs hr, h0, h1, hz 2 (by omega) (by omega) (by omega) (by omega), h4, fun k hk => hz (5 + k) (by omega) (by omega) (by omega) (by omega), fun s hs2 => (hb s hs2).trans (newC_bd hs.1 hs2).symm, ⟨hz 3 (by omega) (by omega) (by omega) (by omega), fun k hk => absurd hk (Nat.not_lt_zero _), (newC_s hs hr).2.2.2.2.1⟩, fun r hr2 => absurd hr2 (Nat.not_lt_zero _)⟩
theorem rHd_r (T : List Int) : (1 ≤ (rHd3 T).2 ∧ (rHd3 T).2 ≤ 8) ∧ 10 ≤ (rHd4 T).2 ∧ (rHd4 T).2 ≤ 999 := ⟨rNum_r (by decide), rNum_r (by decide)⟩

theorem pn_yX10_readsMark : ParN yX10_readsMark 0 := by decide +kernel
theorem pn_yX10_readsRule : ParN yX10_readsRule 0 := by decide +kernel

set_option maxHeartbeats 4000000 in
set_option maxRecDepth 100000 in
/-- readsText -/
theorem m_readsText (l : Launch) (G : Gl) (w : Wd) (a : Nat) (ad : Nat → Nat) (t : Tw) (hT : TwAt G w a ad t)  (T : List Int) (hRd : RdAt t T (.inr (tok T 0))) : HM l yX10_readsText cX10_readsText 4 none 9 0 0 G [.ref a] w (QV G (fun w_ => ∃ t_ : Tw, TwS G w w_ a ad t_ ∧ TwE [1, 2, 3, 17, 18, 19, 20, 21, 22, 23, 24] t t_ ∧ RdAt t_ T (rText T).1 ∧ (wrC (rText T).1 = 0 → RowIs (t_.2 3) (rText T).2 ∧ Ok 2200 (rText T).2))) := by
  refine HM.mk (by decide +kernel) (Nat.le_of_ble_eq_true rfl) ?_
  intro p9 e9 s9 m9 a9 b9 meth9 c9 ls X hret hlk hnm hl H hR
  have hx := X.1.1
  have hb := X.1.2.1
  have hl : lv_has ls 4 [(0, .ref a)] := hl
  have hL : LK G [] := fun q h => absurd h List.not_mem_nil
  generalize ([] : List Loc) = locs at hL ⊢
  have hTb := hT
  have hT : TwS G w w a ad t := TwS.rf hT
  have hT8 := hRd.1.2.1.1
  have hW := hRd.2.2.2.2
  have hWa := hW.1
  have hWb := hW.2.1
  have hWk := hW.2.2.1
  have hr3 := rHd_r T
  refine lv_aload_n hx hb dX10_readsText_0 rfl (lv_at hl 0 rfl) ?_
  refine h_ldcSw X 24 rfl q2767 dX10_readsText_1 ?_
  -- call SpokenMarksModel.isKey
  refine h_kIp (h_runV X hR (m_isKey l G w a ad t hT.1 T ((.inr (tok T 0))) (gC G 24) (kkTx 24) hRd (StrAt.con hR X.2 24 (by decide) (by decide) (by decide))) pn_yX10_isKey (hasC.of hT.1.ob rfl) q2768 q2770 qs39 q161 q2771 ⟨by decide, by decide⟩ hl.1 (Nat.le_of_ble_eq_true rfl) dX10_readsText_4 ⟨by omega, by omega⟩) hL (fun H locs hR hL => ?_)
  refine h_if_ne hx hb 15 dX10_readsText_7 (by decide) (b2i_R _) (fun c_k0 => ?_) (fun c_k0 => ?_)
  ·
    have d_k := b2i_n1.mp c_k0
    have he1 : rHd1 T = .inr (tok T 0) := if_pos d_k
    have hR1 : RdAt t T (rHd1 T) := by rw [he1]; exact hRd
    refine lv_aload_n hx hb dX10_readsText_15 rfl (lv_at hl 0 rfl) ?_
    refine tw_get X hR hT 21 (by decide) q2962 (v := .int (iI (0))) (congrArg (fun z => some (Value.int (iI z))) (hRd.2.1)) dX10_readsText_16 ?_
    refine h_if_ne hx hb 26 dX10_readsText_19 (by decide) (by omega) (fun c_w => ?_) (fun c_w => ?_)
    ·
      exact absurd rfl c_w
    ·
      refine lv_aload_n hx hb dX10_readsText_22 rfl (lv_at hl 0 rfl) ?_
      -- call SpokenMarksModel.next
      refine h_kV (h_runV X hR (m_next l G w a ad t hT.1 T (scA (tok T 0)) hRd.1 hRd.2.2.2.1.2.1 hWb) pn_yX10_next (hasC.of hT.1.ob rfl) q2744 q2746 qs35 q161 q2747 ⟨by decide, by decide⟩ hl.1 (Nat.le_of_ble_eq_true rfl) dX10_readsText_23 ⟨by omega, by omega⟩) hL (fun w_5 hp_6 H locs hR hL => ?_)
      obtain ⟨t_7, hT2, hE_t_7, et_8⟩ := hp_6
      have hT := hT.tr hT2
      clear hT2
      have hR2 : RdAt t_7 T (rNext T (rHd1 T)) := by rw [he1]; exact hRd.nx (TwE.tr (S2 := [17, 18, 19, 20]) (TwE.rf : TwE [] t t) hE_t_7 rfl rfl) (by decide) (by decide) (by decide) (by decide) et_8
      refine lv_aload_n hx hb dX10_readsText_26 rfl (lv_at hl 0 rfl) ?_
      refine h_iconst hx hb dX10_readsText_27 ?_
      refine h_bipush hx hb dX10_readsText_28 (by decide) ?_
      -- call SpokenMarksModel.number0
      refine h_kI (h_runV X hR (m_number0 l G w_5 a ad t_7 hT.1 1 8 T ((rNext T (rHd1 T))) hR2 (by omega) (by omega)) pn_yX10_number0 (hasC.of hT.1.ob rfl) q2776 q2778 qs41 q161 q2779 ⟨by decide, by decide⟩ hl.1 (Nat.le_of_ble_eq_true rfl) dX10_readsText_30 ⟨by omega, by omega⟩) hL (fun z_9 w_10 hp_11 H locs hR hL => ?_)
      obtain ⟨rfl, t_12, hT2, hE_t_12, et_13⟩ := hp_11
      have hT := hT.tr hT2
      clear hT2
      have hR3 : RdAt t_12 T (rHd3 T).1 := et_13
      refine W.eq (g2 := F0 m9 33 ls [.int (iI ((rHd3 T).2))]) (congrArg (fun z_ : Int => F0 m9 33 ls [.int (iI (z_))]) (show ((rNum T 1 8 ((rNext T (rHd1 T)))).2 : Int) = (rHd3 T).2 from (rfl))) ?_
      refine lv_istore_n (lv' := [(1, .int (iI ((rHd3 T).2))), (0, .ref a)]) hx hb dX10_readsText_33 rfl hl (by decide) rfl (fun ls hl => ?_)
      refine lv_aload_n hx hb dX10_readsText_34 rfl (lv_at hl 1 rfl) ?_
      refine h_bipush hx hb dX10_readsText_35 (by decide) ?_
      refine h_sipush hx hb dX10_readsText_37 (by decide) ?_
      -- call SpokenMarksModel.number0
      refine h_kI (h_runV X hR (m_number0 l G w_10 a ad t_12 hT.1 10 999 T ((rHd3 T).1) hR3 (by omega) (by omega)) pn_yX10_number0 (hasC.of hT.1.ob rfl) q2776 q2778 qs41 q161 q2779 ⟨by decide, by decide⟩ hl.1 (Nat.le_of_ble_eq_true rfl) dX10_readsText_40 ⟨by omega, by omega⟩) hL (fun z_14 w_15 hp_16 H locs hR hL => ?_)
      obtain ⟨rfl, t_17, hT2, hE_t_17, et_18⟩ := hp_16
      have hT := hT.tr hT2
      clear hT2
      have hR4 : RdAt t_17 T (rHd4 T).1 := et_18
      refine W.eq (g2 := F0 m9 43 ls [.int (iI ((rHd4 T).2))]) (congrArg (fun z_ : Int => F0 m9 43 ls [.int (iI (z_))]) (show ((rNum T 10 999 ((rHd3 T).1)).2 : Int) = (rHd4 T).2 from (rfl))) ?_
      refine lv_istore_n (lv' := [(2, .int (iI ((rHd4 T).2))), (1, .int (iI ((rHd3 T).2))), (0, .ref a)]) hx hb dX10_readsText_43 rfl hl (by decide) rfl (fun ls hl => ?_)
      refine lv_aload_n hx hb dX10_readsText_44 rfl (lv_at hl 2 rfl) ?_
      refine h_iconst hx hb dX10_readsText_45 ?_
      -- call SpokenMarksModel.must
      refine h_kV (h_runV X hR (m_must l G w_15 a ad t_17 hT.1 3 T ((rHd4 T).1) hR4 ⟨by decide, by decide⟩) pn_yX10_must (hasC.of hT.1.ob rfl) q2780 q2782 qs42 q161 q2783 ⟨by decide, by decide⟩ hl.1 (Nat.le_of_ble_eq_true rfl) dX10_readsText_46 ⟨by omega, by omega⟩) hL (fun w_20 hp_21 H locs hR hL => ?_)
      obtain ⟨t_22, hT2, hE_t_22, et_23⟩ := hp_21
      have hT := hT.tr hT2
      clear hT2
      have hR5 : RdAt t_22 T (rHd5 T) := et_23
      have hx5 := hR5.wr9
      refine lv_aload_n hx hb dX10_readsText_49 rfl (lv_at hl 2 rfl) ?_
      refine tw_get X hR hT 21 (by decide) q2962 (v := .int (iI (wrC (rHd5 T)))) (congrArg (fun z => some (Value.int (iI z))) (hR5.wr)) dX10_readsText_50 ?_
      refine h_if_eq hx hb 57 dX10_readsText_53 (by decide) ⟨by omega, by omega⟩ (fun c_5 => ?_) (fun c_5 => ?_)
      ·
        refine h_iconst hx hb dX10_readsText_57 ?_
        refine lv_istore_n (lv' := [(3, .int (iI (0))), (2, .int (iI ((rHd4 T).2))), (1, .int (iI ((rHd3 T).2))), (0, .ref a)]) hx hb dX10_readsText_58 rfl hl (by decide) rfl (fun ls hl => ?_)
        have LOOP_26 : ∀ (N_ : Nat) (k : Nat) (t_24 : Tw) (w_25 : Wd), (k ≤ 606) → (TwS G w w_25 a ad t_24) → (TwE [3] t_22 t_24) → (∀ i, i < k → t_24.2 3 i = 0) → (606 - k) < N_ → ∀ (H : Heap) (locs : List Loc) (ls : Array Slot), Rp G w_25 H → LK G locs → lv_has ls 4 [(0, .ref a), (1, .int (iI ((rHd3 T).2))), (2, .int (iI ((rHd4 T).2))), (3, .int (iI ((k : Int))))] → W p9 l e9 (rmk 9 0 0) s9 m9 a9 b9 meth9 c9 H locs 0 0 (MQ b9 (QV G (fun w_ => ∃ t_ : Tw, TwS G w w_ a ad t_ ∧ TwE [1, 2, 3, 17, 18, 19, 20, 21, 22, 23, 24] t t_ ∧ RdAt t_ T (rText T).1 ∧ (wrC (rText T).1 = 0 → RowIs (t_.2 3) (rText T).2 ∧ Ok 2200 (rText T).2))) a9 s9 0 0 (frG G)) (F0 m9 59 ls []) := by
          intro N_
          induction N_ with
          | zero => intro _ _ _ _ _ _ _ h_; exact absurd h_ (Nat.not_lt_zero _)
          | succ N_ ih_ =>
            intro k t_24 w_25 hk hT hE_t_24 hz hN_ H locs ls hR hL hl
            have ih_26 := ih_
            clear ih_
            refine lv_iload_n hx hb dX10_readsText_59 rfl (lv_at hl 3 rfl) ?_
            refine h_sipush hx hb dX10_readsText_60 (by decide) ?_
            refine h_icmp_ge hx hb 79 dX10_readsText_63 (by decide) (by omega) (by omega) (fun c_27 => ?_) (fun c_27 => ?_)
            ·
              refine lv_aload_n hx hb dX10_readsText_79 rfl (lv_at hl 0 rfl) ?_
              refine tw_get X hR hT 3 (by decide) q2944 rfl dX10_readsText_80 ?_
              refine h_iconst hx hb dX10_readsText_83 ?_
              refine lv_iload_n hx hb dX10_readsText_84 rfl (lv_at hl 1 rfl) ?_
              refine h_i2l hx hb dX10_readsText_85 (by omega) ?_
              refine tw_last X hR hL hT (k := 3) (by decide) 0 (by omega) (by show _ < _; simp only [twN]; omega) (by omega) dX10_readsText_86 (fun t_28 et_29 w_30 hT H locs hR hL => ?_)
              have hE_t_28 := TwE.ast et_29
              have hv_t_28 := tast_v et_29
              refine lv_aload_n hx hb dX10_readsText_87 rfl (lv_at hl 0 rfl) ?_
              refine tw_get X hR hT 3 (by decide) q2944 rfl dX10_readsText_88 ?_
              refine h_iconst hx hb dX10_readsText_91 ?_
              refine lv_iload_n hx hb dX10_readsText_92 rfl (lv_at hl 2 rfl) ?_
              refine h_i2l hx hb dX10_readsText_93 (by omega) ?_
              refine tw_last X hR hL hT (k := 3) (by decide) 1 (by omega) (by show _ < _; simp only [twN]; omega) (by omega) dX10_readsText_94 (fun t_31 et_32 w_33 hT H locs hR hL => ?_)
              have hE_t_31 := TwE.ast et_32
              have hv_t_31 := tast_v et_32
              refine lv_aload_n hx hb dX10_readsText_95 rfl (lv_at hl 0 rfl) ?_
              refine tw_get X hR hT 3 (by decide) q2944 rfl dX10_readsText_96 ?_
              refine h_iconst hx hb dX10_readsText_99 ?_
              refine h_lconst hx hb 1 dX10_readsText_100 rfl ?_
              refine tw_last X hR hL hT (k := 3) (by decide) 4 (by omega) (by show _ < _; simp only [twN]; omega) (by omega) dX10_readsText_101 (fun t_34 et_35 w_36 hT H locs hR hL => ?_)
              have hE_t_34 := TwE.ast et_35
              have hv_t_34 := tast_v et_35
              have hz3 : ∀ i, i < 606 → t_34.2 3 i = if i = 4 then 1 else if i = 1 then (rHd4 T).2 else if i = 0 then (rHd3 T).2 else 0 := fun i hi => by rw [hv_t_34, hv_t_31, hv_t_28]; unfold zset; rw [hz i (by omega)]
              refine h_iconst hx hb dX10_readsText_102 ?_
              refine lv_istore_n (lv' := [(3, .int (iI (0))), (0, .ref a), (1, .int (iI ((rHd3 T).2))), (2, .int (iI ((rHd4 T).2)))]) hx hb dX10_readsText_103 rfl hl (by decide) rfl (fun ls hl => ?_)
              have LOOP_39 : ∀ (N_ : Nat) (j : Nat) (t_37 : Tw) (w_38 : Wd), ((j : Int) ≤ (rHd3 T).2) → (TwS G w w_38 a ad t_37) → (TwE [3] t_34 t_37) → (∀ i, i < j → t_37.2 3 (8 + i) = (i : Int) * 10000 / (rHd3 T).2) → (∀ i, i < 8 → t_37.2 3 i = t_34.2 3 i) → ((rHd3 T).2.toNat - j) < N_ → ∀ (H : Heap) (locs : List Loc) (ls : Array Slot), Rp G w_38 H → LK G locs → lv_has ls 4 [(0, .ref a), (1, .int (iI ((rHd3 T).2))), (2, .int (iI ((rHd4 T).2))), (3, .int (iI ((j : Int))))] → W p9 l e9 (rmk 9 0 0) s9 m9 a9 b9 meth9 c9 H locs 0 0 (MQ b9 (QV G (fun w_ => ∃ t_ : Tw, TwS G w w_ a ad t_ ∧ TwE [1, 2, 3, 17, 18, 19, 20, 21, 22, 23, 24] t t_ ∧ RdAt t_ T (rText T).1 ∧ (wrC (rText T).1 = 0 → RowIs (t_.2 3) (rText T).2 ∧ Ok 2200 (rText T).2))) a9 s9 0 0 (frG G)) (F0 m9 104 ls []) := by
                intro N_
                induction N_ with
                | zero => intro _ _ _ _ _ _ _ _ h_; exact absurd h_ (Nat.not_lt_zero _)
                | succ N_ ih_ =>
                  intro j t_37 w_38 hj hT hE_t_37 hb1 hb2 hN_ H locs ls hR hL hl
                  have ih_39 := ih_
                  clear ih_
                  refine lv_iload_n hx hb dX10_readsText_104 rfl (lv_at hl 3 rfl) ?_
                  refine lv_iload_n hx hb dX10_readsText_105 rfl (lv_at hl 1 rfl) ?_
                  refine h_icmp_ge hx hb 132 dX10_readsText_106 (by decide) (by omega) (by omega) (fun c_40 => ?_) (fun c_40 => ?_)
                  ·
                    have LOOP_43 : ∀ (N_ : Nat) (k : Nat) (q : Rd × Cat) (t_41 : Tw) (w_42 : Wd), (k ≤ 10) → (rRules T k q = rRules T 10 (rHd5 T, newC (rHd3 T).2 (rHd4 T).2)) → (∀ s_, q.1 = .inr s_ → 9 ≤ k + (cRl q.2).length) → (Ok (1 + 41 * (10 - (k : Int))) q.2) → (TwS G w w_42 a ad t_41) → (TwE [1, 2, 3, 17, 18, 19, 20, 21, 22, 23, 24] t_37 t_41) → (RdAt t_41 T q.1) → (RowIs (t_41.2 3) q.2) → k < N_ → ∀ (H : Heap) (locs : List Loc) (ls : Array Slot), Rp G w_42 H → LK G locs → lv_has ls 4 [(0, .ref a)] → W p9 l e9 (rmk 9 0 0) s9 m9 a9 b9 meth9 c9 H locs 0 0 (MQ b9 (QV G (fun w_ => ∃ t_ : Tw, TwS G w w_ a ad t_ ∧ TwE [1, 2, 3, 17, 18, 19, 20, 21, 22, 23, 24] t t_ ∧ RdAt t_ T (rText T).1 ∧ (wrC (rText T).1 = 0 → RowIs (t_.2 3) (rText T).2 ∧ Ok 2200 (rText T).2))) a9 s9 0 0 (frG G)) (F0 m9 132 ls []) := by
                      intro N_
                      induction N_ with
                      | zero => intro _ _ _ _ _ _ _ _ _ _ _ _ h_; exact absurd h_ (Nat.not_lt_zero _)
                      | succ N_ ih_ =>
                        intro k q t_41 w_42 hk hq hn hok hT hE_t_41 hRq hCq hN_ H locs ls hR hL hl
                        have ih_43 := ih_
                        clear ih_
                        refine lv_aload_n hx hb dX10_readsText_132 rfl (lv_at hl 0 rfl) ?_
                        refine h_ldcSw X 25 rfl q2784 dX10_readsText_133 ?_
                        -- call SpokenMarksModel.isKey
                        refine h_kIp (h_runV X hR (m_isKey l G w_42 a ad t_41 hT.1 T q.1 (gC G 25) (kkTx 25) hRq (StrAt.con hR X.2 25 (by decide) (by decide) (by decide))) pn_yX10_isKey (hasC.of hT.1.ob rfl) q2768 q2770 qs39 q161 q2771 ⟨by decide, by decide⟩ hl.1 (Nat.le_of_ble_eq_true rfl) dX10_readsText_136 ⟨by omega, by omega⟩) hL (fun H locs hR hL => ?_)
                        refine h_if_eq hx hb 149 dX10_readsText_139 (by decide) (b2i_R _) (fun c_r => ?_) (fun c_r => ?_)
                        ·
                          have d_r := b2i_0.mp c_r
                          have LOOP_49 : ∀ (N_ : Nat) (k : Nat) (q : Rd × Cat) (t_47 : Tw) (w_48 : Wd), (k ≤ 42) → (rMarks T k q = rMarks T 42 (rRules T 10 (rHd5 T, newC (rHd3 T).2 (rHd4 T).2))) → (∀ s_, q.1 = .inr s_ → 41 ≤ k + cN q.2) → (Ok (411 + 41 * (42 - (k : Int))) q.2) → (TwS G w w_48 a ad t_47) → (TwE [1, 2, 3, 17, 18, 19, 20, 21, 22, 23, 24] t_41 t_47) → (RdAt t_47 T q.1) → (RowIs (t_47.2 3) q.2) → k < N_ → ∀ (H : Heap) (locs : List Loc) (ls : Array Slot), Rp G w_48 H → LK G locs → lv_has ls 4 [(0, .ref a)] → W p9 l e9 (rmk 9 0 0) s9 m9 a9 b9 meth9 c9 H locs 0 0 (MQ b9 (QV G (fun w_ => ∃ t_ : Tw, TwS G w w_ a ad t_ ∧ TwE [1, 2, 3, 17, 18, 19, 20, 21, 22, 23, 24] t t_ ∧ RdAt t_ T (rText T).1 ∧ (wrC (rText T).1 = 0 → RowIs (t_.2 3) (rText T).2 ∧ Ok 2200 (rText T).2))) a9 s9 0 0 (frG G)) (F0 m9 149 ls []) := by
                            intro N_
                            induction N_ with
                            | zero => intro _ _ _ _ _ _ _ _ _ _ _ _ h_; exact absurd h_ (Nat.not_lt_zero _)
                            | succ N_ ih_ =>
                              intro k q t_47 w_48 hk hq hn hok hT hE_t_47 hRq hCq hN_ H locs ls hR hL hl
                              have ih_49 := ih_
                              clear ih_
                              refine lv_aload_n hx hb dX10_readsText_149 rfl (lv_at hl 0 rfl) ?_
                              refine h_ldcSw X 26 rfl q2891 dX10_readsText_150 ?_
                              -- call SpokenMarksModel.isKey
                              refine h_kIp (h_runV X hR (m_isKey l G w_48 a ad t_47 hT.1 T q.1 (gC G 26) (kkTx 26) hRq (StrAt.con hR X.2 26 (by decide) (by decide) (by decide))) pn_yX10_isKey (hasC.of hT.1.ob rfl) q2768 q2770 qs39 q161 q2771 ⟨by decide, by decide⟩ hl.1 (Nat.le_of_ble_eq_true rfl) dX10_readsText_153 ⟨by omega, by omega⟩) hL (fun H locs hR hL => ?_)
                              refine h_if_eq hx hb 166 dX10_readsText_156 (by decide) (b2i_R _) (fun c_m => ?_) (fun c_m => ?_)
                              ·
                                have d_m := b2i_0.mp c_m
                                have hqb : q = rBody T := by rw [rBody, ← hq, rMarks_no d_m]
                                have hk5 : R32 (t_47.1 19) := hT.1.ri 19 (by decide) (by decide)
                                refine lv_aload_n hx hb dX10_readsText_166 rfl (lv_at hl 0 rfl) ?_
                                refine tw_get X hR hT 19 (by decide) q2960 (v := .int (iI (t_47.1 19))) rfl dX10_readsText_167 ?_
                                have rg_t_47_19 := hT.1.ri 19 (by decide) (by decide)
                                refine h_if_eq hx hb 178 dX10_readsText_170 (by decide) hk5 (fun c_k => ?_) (fun c_k => ?_)
                                ·
                                  exact h_vreturn hx hb hlk hret hR hL ⟨t_47, hT, (TwE.tr (S2 := [1, 2, 3, 17, 18, 19, 20, 21, 22, 23, 24]) (TwE.tr (S2 := [1, 2, 3, 17, 18, 19, 20, 21, 22, 23, 24]) (TwE.tr (S2 := [1, 2, 3, 17, 18, 19, 20, 21, 22, 23, 24]) (TwE.tr (S2 := [1, 2, 3, 17, 18, 19, 20, 21, 22, 23, 24]) (TwE.tr (S2 := [1, 2, 3, 17, 18, 19, 20, 21, 22, 23, 24]) (TwE.tr (S2 := [1, 2, 3, 17, 18, 19, 20, 21, 22, 23, 24]) (TwE.tr (S2 := [1, 2, 3, 17, 18, 19, 20, 21, 22, 23, 24]) (TwE.tr (S2 := [1, 2, 3, 17, 18, 19, 20, 21, 22, 23, 24]) (TwE.tr (S2 := [1, 2, 3, 17, 18, 19, 20, 21, 22, 23, 24]) (TwE.tr (S2 := [1, 2, 3, 17, 18, 19, 20, 21, 22, 23, 24]) (TwE.tr (S2 := [1, 2, 3, 17, 18, 19, 20, 21, 22, 23, 24]) (TwE.rf : TwE [] t t) hE_t_7 rfl rfl) hE_t_12 rfl rfl) hE_t_17 rfl rfl) hE_t_22 rfl rfl) hE_t_24 rfl rfl) hE_t_28 rfl rfl) hE_t_31 rfl rfl) hE_t_34 rfl rfl) hE_t_37 rfl rfl) hE_t_41 rfl rfl) hE_t_47 rfl rfl), (by rw [rText, if_pos c_5, ← hqb]; exact ⟨(by rw [hRq.end0 c_k]; exact hRq), fun _ => ⟨hCq, hok.mono (by omega)⟩⟩)⟩ (by omega) (by omega) rfl rfl dX10_readsText_178
                                ·
                                  refine lv_aload_n hx hb dX10_readsText_173 rfl (lv_at hl 0 rfl) ?_
                                  refine h_iconst hx hb dX10_readsText_174 ?_
                                  -- call SpokenMarksModel.errs
                                  refine h_kV (h_runV X hR (m_errs l G w_48 a ad t_47 hT.1 1 T q.1 hRq (by omega)) pn_yX10_errs (hasC.of hT.1.ob rfl) q2772 q2774 qs40 q161 q2775 ⟨by decide, by decide⟩ hl.1 (Nat.le_of_ble_eq_true rfl) dX10_readsText_175 ⟨by omega, by omega⟩) hL (fun w_54 hp_55 H locs hR hL => ?_)
                                  obtain ⟨t_56, hT2, hE_t_56, et_57⟩ := hp_55
                                  have hT := hT.tr hT2
                                  clear hT2
                                  have hRz : RdAt t_56 T (rEnd q.1) := by rw [← hRq.end1 c_k]; exact et_57
                                  exact h_vreturn hx hb hlk hret hR hL ⟨t_56, hT, (TwE.tr (S2 := [1, 2, 3, 17, 18, 19, 20, 21, 22, 23, 24]) (TwE.tr (S2 := [1, 2, 3, 17, 18, 19, 20, 21, 22, 23, 24]) (TwE.tr (S2 := [1, 2, 3, 17, 18, 19, 20, 21, 22, 23, 24]) (TwE.tr (S2 := [1, 2, 3, 17, 18, 19, 20, 21, 22, 23, 24]) (TwE.tr (S2 := [1, 2, 3, 17, 18, 19, 20, 21, 22, 23, 24]) (TwE.tr (S2 := [1, 2, 3, 17, 18, 19, 20, 21, 22, 23, 24]) (TwE.tr (S2 := [1, 2, 3, 17, 18, 19, 20, 21, 22, 23, 24]) (TwE.tr (S2 := [1, 2, 3, 17, 18, 19, 20, 21, 22, 23, 24]) (TwE.tr (S2 := [1, 2, 3, 17, 18, 19, 20, 21, 22, 23, 24]) (TwE.tr (S2 := [1, 2, 3, 17, 18, 19, 20, 21, 22, 23, 24]) (TwE.tr (S2 := [1, 2, 3, 17, 18, 19, 20, 21, 22, 23, 24]) (TwE.tr (S2 := [1, 2, 3, 17, 18, 19, 20, 21, 22, 23, 24]) (TwE.rf : TwE [] t t) hE_t_7 rfl rfl) hE_t_12 rfl rfl) hE_t_17 rfl rfl) hE_t_22 rfl rfl) hE_t_24 rfl rfl) hE_t_28 rfl rfl) hE_t_31 rfl rfl) hE_t_34 rfl rfl) hE_t_37 rfl rfl) hE_t_41 rfl rfl) hE_t_47 rfl rfl) hE_t_56 rfl rfl), (by rw [rText, if_pos c_5, ← hqb]; exact ⟨hRz, fun _ => ⟨(by rw [(hE_t_56 3 (by decide)).2]; exact hCq), hok.mono (by omega)⟩⟩)⟩ (by omega) (by omega) rfl rfl dX10_readsText_178
                              ·
                                have d_m := b2i_n1.mp c_m
                                obtain ⟨s1, hs1⟩ := kyB_s d_m
                                have hRd_s1 : RdAt t_47 T (.inr s1) := by have h_ := hRq; rwa [hs1] at h_
                                have hW_s1 := hRd_s1.2.2.2.2
                                have hn1_ := hn s1 hs1
                                have hm40_ := hCq.n40
                                refine lv_aload_n hx hb dX10_readsText_159 rfl (lv_at hl 0 rfl) ?_
                                -- call SpokenMarksModel.readsMark
                                refine h_kV (h_runV X hR (m_readsMark l G w_48 a ad t_47 hT.1 T s1 q.2 hRd_s1 hCq (fun k_ hk_ => by have := hok.2.1 k_ hk_; omega) (by have := hok.2.2; omega)) pn_yX10_readsMark (hasC.of hT.1.ob rfl) q2892 q2894 qs66 q161 q2895 ⟨by decide, by decide⟩ hl.1 (Nat.le_of_ble_eq_true rfl) dX10_readsText_160 ⟨by omega, by omega⟩) hL (fun w_59 hp_60 H locs hR hL => ?_)
                                obtain ⟨t_61, hT2, hE_t_61, et_62⟩ := hp_60
                                have hT := hT.tr hT2
                                clear hT2
                                have hRx := et_62.1
                                refine lv_goto (tgt := 149) hx hb dX10_readsText_163 (by decide) ?_
                                exact ih_49 (k - 1) ((rMark T s1 q.2)) t_61 w_59 (by omega) (by rw [← rMarks_go hs1 d_m (by omega)]; exact hq) (fun s2 h2 => by have h3 := rMark_len h2; have := hn s1 hs1; omega) (Ok.mono (hok.mark (by omega) hW_s1 hRx.ne0) (by omega)) hT (TwE.tr (S2 := [1, 2, 3, 17, 18, 19, 20, 21, 22, 23, 24]) (TwE.tr (S2 := [1, 2, 3, 17, 18, 19, 20, 21, 22, 23, 24]) (TwE.rf : TwE [] t_41 t_41) hE_t_47 rfl rfl) hE_t_61 rfl rfl) hRx et_62.2 (by omega) _ _ _ hR hL (lv_sub hl [0] rfl)
                          have hqe : q = (rRules T 10 (rHd5 T, newC (rHd3 T).2 (rHd4 T).2)) := by rw [← hq, rRules_no d_r]
                          exact LOOP_49 _ 42 ((rRules T 10 (rHd5 T, newC (rHd3 T).2 (rHd4 T).2))) t_41 w_42 (by omega) rfl (fun s_ hs_ => by omega) (by rw [← hqe]; exact hok.mono (by omega)) hT (TwE.rf : TwE [1, 2, 3, 17, 18, 19, 20, 21, 22, 23, 24] t_41 t_41) (by rw [← hqe]; exact hRq) (by rw [← hqe]; exact hCq) (Nat.lt_succ_self _) _ _ _ hR hL (lv_sub hl [0] rfl)
                        ·
                          have d_r := b2i_n1.mp c_r
                          obtain ⟨s1, hs1⟩ := kyB_s d_r
                          have hRd_s1 : RdAt t_41 T (.inr s1) := by have h_ := hRq; rwa [hs1] at h_
                          have hW_s1 := hRd_s1.2.2.2.2
                          have hn1_ := hn s1 hs1
                          have hr8_ := hCq.rl.2.2.1
                          refine lv_aload_n hx hb dX10_readsText_142 rfl (lv_at hl 0 rfl) ?_
                          -- call SpokenMarksModel.readsRule
                          refine h_kV (h_runV X hR (m_readsRule l G w_42 a ad t_41 hT.1 T s1 q.2 hRd_s1 hCq hok.pd (fun k_ hk_ => by have := hok.2.1 k_ hk_; omega)) pn_yX10_readsRule (hasC.of hT.1.ob rfl) q2785 q2787 qs43 q161 q2788 ⟨by decide, by decide⟩ hl.1 (Nat.le_of_ble_eq_true rfl) dX10_readsText_143 ⟨by omega, by omega⟩) hL (fun w_64 hp_65 H locs hR hL => ?_)
                          obtain ⟨t_66, hT2, hE_t_66, et_67⟩ := hp_65
                          have hT := hT.tr hT2
                          clear hT2
                          have hRx := et_67.1
                          refine lv_goto (tgt := 132) hx hb dX10_readsText_146 (by decide) ?_
                          exact ih_43 (k - 1) ((rRule T s1 q.2)) t_66 w_64 (by omega) (by rw [← rRules_go hs1 d_r (by omega)]; exact hq) (fun s2 h2 => by have h3 := rRule_len hW_s1 h2; have := hn s1 hs1; omega) (Ok.mono (hok.rule (by omega) hW_s1 hRx.ne0) (by omega)) hT (TwE.tr (S2 := [1, 2, 3, 17, 18, 19, 20, 21, 22, 23, 24]) (TwE.tr (S2 := [1, 2, 3, 17, 18, 19, 20, 21, 22, 23, 24]) (TwE.rf : TwE [] t_37 t_37) hE_t_41 rfl rfl) hE_t_66 rfl rfl) hRx et_67.2 (by omega) _ _ _ hR hL (lv_sub hl [0] rfl)
                    have hz4 : ∀ i, i < 8 → t_37.2 3 i = if i = 4 then 1 else if i = 1 then (rHd4 T).2 else if i = 0 then (rHd3 T).2 else 0 := fun i hi => (hb2 i hi).trans (hz3 i (by omega))
                    have hCn : RowIs (t_37.2 3) (newC (rHd3 T).2 (rHd4 T).2) := RowIs.new hr3.1 hr3.2 (hz4 0 (by omega)) (hz4 1 (by omega)) (hz4 4 (by omega)) (fun i h1 h2 h3 h4 => (hz4 i h1).trans (by rw [if_neg h4, if_neg h3, if_neg h2])) (fun s hs => hb1 s (by omega))
                    have hR6 : RdAt t_37 T (rHd5 T) := (hR5.mv (TwE.tr (S2 := [3]) (TwE.tr (S2 := [3]) (TwE.tr (S2 := [3]) (TwE.tr (S2 := [3]) (TwE.tr (S2 := [3]) (TwE.rf : TwE [] t_22 t_22) hE_t_24 rfl rfl) hE_t_28 rfl rfl) hE_t_31 rfl rfl) hE_t_34 rfl rfl) hE_t_37 rfl rfl) (by decide) (by decide) (by decide) (by decide) (by decide) (by decide) (by decide) (by decide))
                    exact LOOP_43 _ 10 ((rHd5 T, newC (rHd3 T).2 (rHd4 T).2)) t_37 w_38 (by omega) rfl (fun s_ hs_ => by omega) ((newC_ok hr3.1 hr3.2).mono (by omega)) hT (TwE.rf : TwE [1, 2, 3, 17, 18, 19, 20, 21, 22, 23, 24] t_37 t_37) hR6 hCn (Nat.lt_succ_self _) _ _ _ hR hL (lv_sub hl [0] rfl)
                  ·
                    refine lv_aload_n hx hb dX10_readsText_109 rfl (lv_at hl 0 rfl) ?_
                    refine tw_get X hR hT 3 (by decide) q2944 rfl dX10_readsText_110 ?_
                    refine h_bipush hx hb dX10_readsText_113 (by decide) ?_
                    refine lv_iload_n hx hb dX10_readsText_115 rfl (lv_at hl 3 rfl) ?_
                    refine h_iadd hx hb dX10_readsText_116 ?_
                    refine lv_iload_n hx hb dX10_readsText_117 rfl (lv_at hl 3 rfl) ?_
                    refine h_sipush hx hb dX10_readsText_118 (by decide) ?_
                    refine h_imul hx hb dX10_readsText_121 ?_
                    refine lv_iload_n hx hb dX10_readsText_122 rfl (lv_at hl 1 rfl) ?_
                    refine h_idiv hx hb dX10_readsText_123 ⟨⟨by omega, by omega⟩, by omega, by omega⟩ ?_
                    have hbr := newC_r (sh := (rHd3 T).2) hr3.1.1 (s := j) (by omega)
                    refine h_i2l hx hb dX10_readsText_124 (by omega) ?_
                    refine tw_last X hR hL hT (k := 3) (by decide) (8 + j) (by omega) (by show _ < _; simp only [twN]; omega) (by omega) dX10_readsText_125 (fun t_68 et_69 w_70 hT H locs hR hL => ?_)
                    have hE_t_68 := TwE.ast et_69
                    have hv_t_68 := tast_v et_69
                    refine h_iinc (lv' := [(3, .int (iI ((j : Int) + 1))), (0, .ref a), (1, .int (iI ((rHd3 T).2))), (2, .int (iI ((rHd4 T).2)))]) hx hb dX10_readsText_126 hl (k := 3) rfl (by decide) rfl (fun ls hl => ?_)
                    refine lv_goto (tgt := 104) hx hb dX10_readsText_129 (by decide) ?_
                    exact ih_39 (j + 1) t_68 w_70 (by omega) hT (TwE.tr (S2 := [3]) (TwE.tr (S2 := [3]) (TwE.rf : TwE [] t_34 t_34) hE_t_37 rfl rfl) hE_t_68 rfl rfl) (fun i hi => by rw [tast_v et_69]; unfold zset; by_cases q : i = j; (rw [if_pos (by omega), q]); (rw [if_neg (by omega)]; exact hb1 i (by omega))) (fun i hi => by rw [tast_v et_69]; unfold zset; rw [if_neg (by omega)]; exact hb2 i hi) (by omega) _ _ _ hR hL (lv_sub hl [1, 2, 3, 0] rfl)
              exact LOOP_39 _ 0 t_34 w_36 (by omega) hT (TwE.rf : TwE [3] t_34 t_34) (fun i hi => absurd hi (Nat.not_lt_zero _)) (fun i hi => rfl) (Nat.lt_succ_self _) _ _ _ hR hL (lv_sub hl [1, 2, 3, 0] rfl)
            ·
              refine lv_aload_n hx hb dX10_readsText_66 rfl (lv_at hl 0 rfl) ?_
              refine tw_get X hR hT 3 (by decide) q2944 rfl dX10_readsText_67 ?_
              refine lv_iload_n hx hb dX10_readsText_70 rfl (lv_at hl 3 rfl) ?_
              refine h_lconst hx hb 0 dX10_readsText_71 rfl ?_
              refine tw_last X hR hL hT (k := 3) (by decide) k (by omega) (by show _ < _; simp only [twN]; omega) (by omega) dX10_readsText_72 (fun t_71 et_72 w_73 hT H locs hR hL => ?_)
              have hE_t_71 := TwE.ast et_72
              have hv_t_71 := tast_v et_72
              refine h_iinc (lv' := [(3, .int (iI ((k : Int) + 1))), (0, .ref a), (1, .int (iI ((rHd3 T).2))), (2, .int (iI ((rHd4 T).2)))]) hx hb dX10_readsText_73 hl (k := 3) rfl (by decide) rfl (fun ls hl => ?_)
              refine lv_goto (tgt := 59) hx hb dX10_readsText_76 (by decide) ?_
              exact ih_26 (k + 1) t_71 w_73 (by omega) hT (TwE.tr (S2 := [3]) (TwE.tr (S2 := [3]) (TwE.rf : TwE [] t_22 t_22) hE_t_24 rfl rfl) hE_t_71 rfl rfl) (fun i hi => by rw [tast_v et_72]; unfold zset; split; rfl; exact hz i (by omega)) (by omega) _ _ _ hR hL (lv_sub hl [1, 2, 3, 0] rfl)
        exact LOOP_26 _ 0 t_22 w_20 (by omega) hT (TwE.rf : TwE [3] t_22 t_22) (fun i hi => absurd hi (Nat.not_lt_zero _)) (Nat.lt_succ_self _) _ _ _ hR hL (lv_sub hl [3, 2, 1, 0] rfl)
      ·
        exact h_vreturn hx hb hlk hret hR hL ⟨t_22, hT, (TwE.tr (S2 := [1, 2, 3, 17, 18, 19, 20, 21, 22, 23, 24]) (TwE.tr (S2 := [1, 2, 3, 17, 18, 19, 20, 21, 22, 23, 24]) (TwE.tr (S2 := [1, 2, 3, 17, 18, 19, 20, 21, 22, 23, 24]) (TwE.tr (S2 := [1, 2, 3, 17, 18, 19, 20, 21, 22, 23, 24]) (TwE.rf : TwE [] t t) hE_t_7 rfl rfl) hE_t_12 rfl rfl) hE_t_17 rfl rfl) hE_t_22 rfl rfl), (by rw [rText, if_neg c_5]; exact ⟨hR5, fun hw => absurd hw c_5⟩)⟩ (by omega) (by omega) rfl rfl dX10_readsText_56
  ·
    have d_k := b2i_0.mp c_k0
    refine lv_aload_n hx hb dX10_readsText_10 rfl (lv_at hl 0 rfl) ?_
    refine h_iconst hx hb dX10_readsText_11 ?_
    -- call SpokenMarksModel.errs
    refine h_kV (h_runV X hR (m_errs l G w a ad t hT.1 1 T ((.inr (tok T 0))) hRd (by omega)) pn_yX10_errs (hasC.of hT.1.ob rfl) q2772 q2774 qs40 q161 q2775 ⟨by decide, by decide⟩ hl.1 (Nat.le_of_ble_eq_true rfl) dX10_readsText_12 ⟨by omega, by omega⟩) hL (fun w_75 hp_76 H locs hR hL => ?_)
    obtain ⟨t_77, hT2, hE_t_77, et_78⟩ := hp_76
    have hT := hT.tr hT2
    clear hT2
    have hRe : RdAt t_77 T (rErr 1 (.inr (tok T 0))) := et_78
    have he1 : rHd1 T = rErr 1 (.inr (tok T 0)) := if_neg d_k
    have hR1 : RdAt t_77 T (rHd1 T) := by rw [he1]; exact hRe
    refine lv_aload_n hx hb dX10_readsText_15 rfl (lv_at hl 0 rfl) ?_
    refine tw_get X hR hT 21 (by decide) q2962 (v := .int (iI (1))) (congrArg (fun z => some (Value.int (iI z))) (hRe.2.1)) dX10_readsText_16 ?_
    refine h_if_ne hx hb 26 dX10_readsText_19 (by decide) (by omega) (fun c_w => ?_) (fun c_w => ?_)
    ·
      have hR2 : RdAt t_77 T (rNext T (rHd1 T)) := by rw [he1]; exact hRe
      refine lv_aload_n hx hb dX10_readsText_26 rfl (lv_at hl 0 rfl) ?_
      refine h_iconst hx hb dX10_readsText_27 ?_
      refine h_bipush hx hb dX10_readsText_28 (by decide) ?_
      -- call SpokenMarksModel.number0
      refine h_kI (h_runV X hR (m_number0 l G w_75 a ad t_77 hT.1 1 8 T ((rNext T (rHd1 T))) hR2 (by omega) (by omega)) pn_yX10_number0 (hasC.of hT.1.ob rfl) q2776 q2778 qs41 q161 q2779 ⟨by decide, by decide⟩ hl.1 (Nat.le_of_ble_eq_true rfl) dX10_readsText_30 ⟨by omega, by omega⟩) hL (fun z_79 w_80 hp_81 H locs hR hL => ?_)
      obtain ⟨rfl, t_82, hT2, hE_t_82, et_83⟩ := hp_81
      have hT := hT.tr hT2
      clear hT2
      have hR3 : RdAt t_82 T (rHd3 T).1 := et_83
      refine W.eq (g2 := F0 m9 33 ls [.int (iI ((rHd3 T).2))]) (congrArg (fun z_ : Int => F0 m9 33 ls [.int (iI (z_))]) (show ((rNum T 1 8 ((rNext T (rHd1 T)))).2 : Int) = (rHd3 T).2 from (rfl))) ?_
      refine lv_istore_n (lv' := [(1, .int (iI ((rHd3 T).2))), (0, .ref a)]) hx hb dX10_readsText_33 rfl hl (by decide) rfl (fun ls hl => ?_)
      refine lv_aload_n hx hb dX10_readsText_34 rfl (lv_at hl 1 rfl) ?_
      refine h_bipush hx hb dX10_readsText_35 (by decide) ?_
      refine h_sipush hx hb dX10_readsText_37 (by decide) ?_
      -- call SpokenMarksModel.number0
      refine h_kI (h_runV X hR (m_number0 l G w_80 a ad t_82 hT.1 10 999 T ((rHd3 T).1) hR3 (by omega) (by omega)) pn_yX10_number0 (hasC.of hT.1.ob rfl) q2776 q2778 qs41 q161 q2779 ⟨by decide, by decide⟩ hl.1 (Nat.le_of_ble_eq_true rfl) dX10_readsText_40 ⟨by omega, by omega⟩) hL (fun z_84 w_85 hp_86 H locs hR hL => ?_)
      obtain ⟨rfl, t_87, hT2, hE_t_87, et_88⟩ := hp_86
      have hT := hT.tr hT2
      clear hT2
      have hR4 : RdAt t_87 T (rHd4 T).1 := et_88
      refine W.eq (g2 := F0 m9 43 ls [.int (iI ((rHd4 T).2))]) (congrArg (fun z_ : Int => F0 m9 43 ls [.int (iI (z_))]) (show ((rNum T 10 999 ((rHd3 T).1)).2 : Int) = (rHd4 T).2 from (rfl))) ?_
      refine lv_istore_n (lv' := [(2, .int (iI ((rHd4 T).2))), (1, .int (iI ((rHd3 T).2))), (0, .ref a)]) hx hb dX10_readsText_43 rfl hl (by decide) rfl (fun ls hl => ?_)
      refine lv_aload_n hx hb dX10_readsText_44 rfl (lv_at hl 2 rfl) ?_
      refine h_iconst hx hb dX10_readsText_45 ?_
      -- call SpokenMarksModel.must
      refine h_kV (h_runV X hR (m_must l G w_85 a ad t_87 hT.1 3 T ((rHd4 T).1) hR4 ⟨by decide, by decide⟩) pn_yX10_must (hasC.of hT.1.ob rfl) q2780 q2782 qs42 q161 q2783 ⟨by decide, by decide⟩ hl.1 (Nat.le_of_ble_eq_true rfl) dX10_readsText_46 ⟨by omega, by omega⟩) hL (fun w_90 hp_91 H locs hR hL => ?_)
      obtain ⟨t_92, hT2, hE_t_92, et_93⟩ := hp_91
      have hT := hT.tr hT2
      clear hT2
      have hR5 : RdAt t_92 T (rHd5 T) := et_93
      have hx5 := hR5.wr9
      refine lv_aload_n hx hb dX10_readsText_49 rfl (lv_at hl 2 rfl) ?_
      refine tw_get X hR hT 21 (by decide) q2962 (v := .int (iI (wrC (rHd5 T)))) (congrArg (fun z => some (Value.int (iI z))) (hR5.wr)) dX10_readsText_50 ?_
      refine h_if_eq hx hb 57 dX10_readsText_53 (by decide) ⟨by omega, by omega⟩ (fun c_5 => ?_) (fun c_5 => ?_)
      ·
        refine h_iconst hx hb dX10_readsText_57 ?_
        refine lv_istore_n (lv' := [(3, .int (iI (0))), (2, .int (iI ((rHd4 T).2))), (1, .int (iI ((rHd3 T).2))), (0, .ref a)]) hx hb dX10_readsText_58 rfl hl (by decide) rfl (fun ls hl => ?_)
        have LOOP_96 : ∀ (N_ : Nat) (k : Nat) (t_94 : Tw) (w_95 : Wd), (k ≤ 606) → (TwS G w w_95 a ad t_94) → (TwE [3] t_92 t_94) → (∀ i, i < k → t_94.2 3 i = 0) → (606 - k) < N_ → ∀ (H : Heap) (locs : List Loc) (ls : Array Slot), Rp G w_95 H → LK G locs → lv_has ls 4 [(0, .ref a), (1, .int (iI ((rHd3 T).2))), (2, .int (iI ((rHd4 T).2))), (3, .int (iI ((k : Int))))] → W p9 l e9 (rmk 9 0 0) s9 m9 a9 b9 meth9 c9 H locs 0 0 (MQ b9 (QV G (fun w_ => ∃ t_ : Tw, TwS G w w_ a ad t_ ∧ TwE [1, 2, 3, 17, 18, 19, 20, 21, 22, 23, 24] t t_ ∧ RdAt t_ T (rText T).1 ∧ (wrC (rText T).1 = 0 → RowIs (t_.2 3) (rText T).2 ∧ Ok 2200 (rText T).2))) a9 s9 0 0 (frG G)) (F0 m9 59 ls []) := by
          intro N_
          induction N_ with
          | zero => intro _ _ _ _ _ _ _ h_; exact absurd h_ (Nat.not_lt_zero _)
          | succ N_ ih_ =>
            intro k t_94 w_95 hk hT hE_t_94 hz hN_ H locs ls hR hL hl
            have ih_96 := ih_
            clear ih_
            refine lv_iload_n hx hb dX10_readsText_59 rfl (lv_at hl 3 rfl) ?_
            refine h_sipush hx hb dX10_readsText_60 (by decide) ?_
            refine h_icmp_ge hx hb 79 dX10_readsText_63 (by decide) (by omega) (by omega) (fun c_97 => ?_) (fun c_97 => ?_)
            ·
              refine lv_aload_n hx hb dX10_readsText_79 rfl (lv_at hl 0 rfl) ?_
              refine tw_get X hR hT 3 (by decide) q2944 rfl dX10_readsText_80 ?_
              refine h_iconst hx hb dX10_readsText_83 ?_
              refine lv_iload_n hx hb dX10_readsText_84 rfl (lv_at hl 1 rfl) ?_
              refine h_i2l hx hb dX10_readsText_85 (by omega) ?_
              refine tw_last X hR hL hT (k := 3) (by decide) 0 (by omega) (by show _ < _; simp only [twN]; omega) (by omega) dX10_readsText_86 (fun t_98 et_99 w_100 hT H locs hR hL => ?_)
              have hE_t_98 := TwE.ast et_99
              have hv_t_98 := tast_v et_99
              refine lv_aload_n hx hb dX10_readsText_87 rfl (lv_at hl 0 rfl) ?_
              refine tw_get X hR hT 3 (by decide) q2944 rfl dX10_readsText_88 ?_
              refine h_iconst hx hb dX10_readsText_91 ?_
              refine lv_iload_n hx hb dX10_readsText_92 rfl (lv_at hl 2 rfl) ?_
              refine h_i2l hx hb dX10_readsText_93 (by omega) ?_
              refine tw_last X hR hL hT (k := 3) (by decide) 1 (by omega) (by show _ < _; simp only [twN]; omega) (by omega) dX10_readsText_94 (fun t_101 et_102 w_103 hT H locs hR hL => ?_)
              have hE_t_101 := TwE.ast et_102
              have hv_t_101 := tast_v et_102
              refine lv_aload_n hx hb dX10_readsText_95 rfl (lv_at hl 0 rfl) ?_
              refine tw_get X hR hT 3 (by decide) q2944 rfl dX10_readsText_96 ?_
              refine h_iconst hx hb dX10_readsText_99 ?_
              refine h_lconst hx hb 1 dX10_readsText_100 rfl ?_
              refine tw_last X hR hL hT (k := 3) (by decide) 4 (by omega) (by show _ < _; simp only [twN]; omega) (by omega) dX10_readsText_101 (fun t_104 et_105 w_106 hT H locs hR hL => ?_)
              have hE_t_104 := TwE.ast et_105
              have hv_t_104 := tast_v et_105
              have hz3 : ∀ i, i < 606 → t_104.2 3 i = if i = 4 then 1 else if i = 1 then (rHd4 T).2 else if i = 0 then (rHd3 T).2 else 0 := fun i hi => by rw [hv_t_104, hv_t_101, hv_t_98]; unfold zset; rw [hz i (by omega)]
              refine h_iconst hx hb dX10_readsText_102 ?_
              refine lv_istore_n (lv' := [(3, .int (iI (0))), (0, .ref a), (1, .int (iI ((rHd3 T).2))), (2, .int (iI ((rHd4 T).2)))]) hx hb dX10_readsText_103 rfl hl (by decide) rfl (fun ls hl => ?_)
              have LOOP_109 : ∀ (N_ : Nat) (j : Nat) (t_107 : Tw) (w_108 : Wd), ((j : Int) ≤ (rHd3 T).2) → (TwS G w w_108 a ad t_107) → (TwE [3] t_104 t_107) → (∀ i, i < j → t_107.2 3 (8 + i) = (i : Int) * 10000 / (rHd3 T).2) → (∀ i, i < 8 → t_107.2 3 i = t_104.2 3 i) → ((rHd3 T).2.toNat - j) < N_ → ∀ (H : Heap) (locs : List Loc) (ls : Array Slot), Rp G w_108 H → LK G locs → lv_has ls 4 [(0, .ref a), (1, .int (iI ((rHd3 T).2))), (2, .int (iI ((rHd4 T).2))), (3, .int (iI ((j : Int))))] → W p9 l e9 (rmk 9 0 0) s9 m9 a9 b9 meth9 c9 H locs 0 0 (MQ b9 (QV G (fun w_ => ∃ t_ : Tw, TwS G w w_ a ad t_ ∧ TwE [1, 2, 3, 17, 18, 19, 20, 21, 22, 23, 24] t t_ ∧ RdAt t_ T (rText T).1 ∧ (wrC (rText T).1 = 0 → RowIs (t_.2 3) (rText T).2 ∧ Ok 2200 (rText T).2))) a9 s9 0 0 (frG G)) (F0 m9 104 ls []) := by
                intro N_
                induction N_ with
                | zero => intro _ _ _ _ _ _ _ _ h_; exact absurd h_ (Nat.not_lt_zero _)
                | succ N_ ih_ =>
                  intro j t_107 w_108 hj hT hE_t_107 hb1 hb2 hN_ H locs ls hR hL hl
                  have ih_109 := ih_
                  clear ih_
                  refine lv_iload_n hx hb dX10_readsText_104 rfl (lv_at hl 3 rfl) ?_
                  refine lv_iload_n hx hb dX10_readsText_105 rfl (lv_at hl 1 rfl) ?_
                  refine h_icmp_ge hx hb 132 dX10_readsText_106 (by decide) (by omega) (by omega) (fun c_110 => ?_) (fun c_110 => ?_)
                  ·
                    have LOOP_113 : ∀ (N_ : Nat) (k : Nat) (q : Rd × Cat) (t_111 : Tw) (w_112 : Wd), (k ≤ 10) → (rRules T k q = rRules T 10 (rHd5 T, newC (rHd3 T).2 (rHd4 T).2)) → (∀ s_, q.1 = .inr s_ → 9 ≤ k + (cRl q.2).length) → (Ok (1 + 41 * (10 - (k : Int))) q.2) → (TwS G w w_112 a ad t_111) → (TwE [1, 2, 3, 17, 18, 19, 20, 21, 22, 23, 24] t_107 t_111) → (RdAt t_111 T q.1) → (RowIs (t_111.2 3) q.2) → k < N_ → ∀ (H : Heap) (locs : List Loc) (ls : Array Slot), Rp G w_112 H → LK G locs → lv_has ls 4 [(0, .ref a)] → W p9 l e9 (rmk 9 0 0) s9 m9 a9 b9 meth9 c9 H locs 0 0 (MQ b9 (QV G (fun w_ => ∃ t_ : Tw, TwS G w w_ a ad t_ ∧ TwE [1, 2, 3, 17, 18, 19, 20, 21, 22, 23, 24] t t_ ∧ RdAt t_ T (rText T).1 ∧ (wrC (rText T).1 = 0 → RowIs (t_.2 3) (rText T).2 ∧ Ok 2200 (rText T).2))) a9 s9 0 0 (frG G)) (F0 m9 132 ls []) := by
                      intro N_
                      induction N_ with
                      | zero => intro _ _ _ _ _ _ _ _ _ _ _ _ h_; exact absurd h_ (Nat.not_lt_zero _)
                      | succ N_ ih_ =>
                        intro k q t_111 w_112 hk hq hn hok hT hE_t_111 hRq hCq hN_ H locs ls hR hL hl
                        have ih_113 := ih_
                        clear ih_
                        refine lv_aload_n hx hb dX10_readsText_132 rfl (lv_at hl 0 rfl) ?_
                        refine h_ldcSw X 25 rfl q2784 dX10_readsText_133 ?_
                        -- call SpokenMarksModel.isKey
                        refine h_kIp (h_runV X hR (m_isKey l G w_112 a ad t_111 hT.1 T q.1 (gC G 25) (kkTx 25) hRq (StrAt.con hR X.2 25 (by decide) (by decide) (by decide))) pn_yX10_isKey (hasC.of hT.1.ob rfl) q2768 q2770 qs39 q161 q2771 ⟨by decide, by decide⟩ hl.1 (Nat.le_of_ble_eq_true rfl) dX10_readsText_136 ⟨by omega, by omega⟩) hL (fun H locs hR hL => ?_)
                        refine h_if_eq hx hb 149 dX10_readsText_139 (by decide) (b2i_R _) (fun c_r => ?_) (fun c_r => ?_)
                        ·
                          have d_r := b2i_0.mp c_r
                          have LOOP_119 : ∀ (N_ : Nat) (k : Nat) (q : Rd × Cat) (t_117 : Tw) (w_118 : Wd), (k ≤ 42) → (rMarks T k q = rMarks T 42 (rRules T 10 (rHd5 T, newC (rHd3 T).2 (rHd4 T).2))) → (∀ s_, q.1 = .inr s_ → 41 ≤ k + cN q.2) → (Ok (411 + 41 * (42 - (k : Int))) q.2) → (TwS G w w_118 a ad t_117) → (TwE [1, 2, 3, 17, 18, 19, 20, 21, 22, 23, 24] t_111 t_117) → (RdAt t_117 T q.1) → (RowIs (t_117.2 3) q.2) → k < N_ → ∀ (H : Heap) (locs : List Loc) (ls : Array Slot), Rp G w_118 H → LK G locs → lv_has ls 4 [(0, .ref a)] → W p9 l e9 (rmk 9 0 0) s9 m9 a9 b9 meth9 c9 H locs 0 0 (MQ b9 (QV G (fun w_ => ∃ t_ : Tw, TwS G w w_ a ad t_ ∧ TwE [1, 2, 3, 17, 18, 19, 20, 21, 22, 23, 24] t t_ ∧ RdAt t_ T (rText T).1 ∧ (wrC (rText T).1 = 0 → RowIs (t_.2 3) (rText T).2 ∧ Ok 2200 (rText T).2))) a9 s9 0 0 (frG G)) (F0 m9 149 ls []) := by
                            intro N_
                            induction N_ with
                            | zero => intro _ _ _ _ _ _ _ _ _ _ _ _ h_; exact absurd h_ (Nat.not_lt_zero _)
                            | succ N_ ih_ =>
                              intro k q t_117 w_118 hk hq hn hok hT hE_t_117 hRq hCq hN_ H locs ls hR hL hl
                              have ih_119 := ih_
                              clear ih_
                              refine lv_aload_n hx hb dX10_readsText_149 rfl (lv_at hl 0 rfl) ?_
                              refine h_ldcSw X 26 rfl q2891 dX10_readsText_150 ?_
                              -- call SpokenMarksModel.isKey
                              refine h_kIp (h_runV X hR (m_isKey l G w_118 a ad t_117 hT.1 T q.1 (gC G 26) (kkTx 26) hRq (StrAt.con hR X.2 26 (by decide) (by decide) (by decide))) pn_yX10_isKey (hasC.of hT.1.ob rfl) q2768 q2770 qs39 q161 q2771 ⟨by decide, by decide⟩ hl.1 (Nat.le_of_ble_eq_true rfl) dX10_readsText_153 ⟨by omega, by omega⟩) hL (fun H locs hR hL => ?_)
                              refine h_if_eq hx hb 166 dX10_readsText_156 (by decide) (b2i_R _) (fun c_m => ?_) (fun c_m => ?_)
                              ·
                                have d_m := b2i_0.mp c_m
                                have hqb : q = rBody T := by rw [rBody, ← hq, rMarks_no d_m]
                                have hk5 : R32 (t_117.1 19) := hT.1.ri 19 (by decide) (by decide)
                                refine lv_aload_n hx hb dX10_readsText_166 rfl (lv_at hl 0 rfl) ?_
                                refine tw_get X hR hT 19 (by decide) q2960 (v := .int (iI (t_117.1 19))) rfl dX10_readsText_167 ?_
                                have rg_t_117_19 := hT.1.ri 19 (by decide) (by decide)
                                refine h_if_eq hx hb 178 dX10_readsText_170 (by decide) hk5 (fun c_k => ?_) (fun c_k => ?_)
                                ·
                                  exact h_vreturn hx hb hlk hret hR hL ⟨t_117, hT, (TwE.tr (S2 := [1, 2, 3, 17, 18, 19, 20, 21, 22, 23, 24]) (TwE.tr (S2 := [1, 2, 3, 17, 18, 19, 20, 21, 22, 23, 24]) (TwE.tr (S2 := [1, 2, 3, 17, 18, 19, 20, 21, 22, 23, 24]) (TwE.tr (S2 := [1, 2, 3, 17, 18, 19, 20, 21, 22, 23, 24]) (TwE.tr (S2 := [1, 2, 3, 17, 18, 19, 20, 21, 22, 23, 24]) (TwE.tr (S2 := [1, 2, 3, 17, 18, 19, 20, 21, 22, 23, 24]) (TwE.tr (S2 := [1, 2, 3, 17, 18, 19, 20, 21, 22, 23, 24]) (TwE.tr (S2 := [1, 2, 3, 17, 18, 19, 20, 21, 22, 23, 24]) (TwE.tr (S2 := [1, 2, 3, 17, 18, 19, 20, 21, 22, 23, 24]) (TwE.tr (S2 := [1, 2, 3, 17, 18, 19, 20, 21, 22, 23, 24]) (TwE.tr (S2 := [1, 2, 3, 17, 18, 19, 20, 21, 22, 23, 24]) (TwE.rf : TwE [] t t) hE_t_77 rfl rfl) hE_t_82 rfl rfl) hE_t_87 rfl rfl) hE_t_92 rfl rfl) hE_t_94 rfl rfl) hE_t_98 rfl rfl) hE_t_101 rfl rfl) hE_t_104 rfl rfl) hE_t_107 rfl rfl) hE_t_111 rfl rfl) hE_t_117 rfl rfl), (by rw [rText, if_pos c_5, ← hqb]; exact ⟨(by rw [hRq.end0 c_k]; exact hRq), fun _ => ⟨hCq, hok.mono (by omega)⟩⟩)⟩ (by omega) (by omega) rfl rfl dX10_readsText_178
                                ·
                                  refine lv_aload_n hx hb dX10_readsText_173 rfl (lv_at hl 0 rfl) ?_
                                  refine h_iconst hx hb dX10_readsText_174 ?_
                                  -- call SpokenMarksModel.errs
                                  refine h_kV (h_runV X hR (m_errs l G w_118 a ad t_117 hT.1 1 T q.1 hRq (by omega)) pn_yX10_errs (hasC.of hT.1.ob rfl) q2772 q2774 qs40 q161 q2775 ⟨by decide, by decide⟩ hl.1 (Nat.le_of_ble_eq_true rfl) dX10_readsText_175 ⟨by omega, by omega⟩) hL (fun w_124 hp_125 H locs hR hL => ?_)
                                  obtain ⟨t_126, hT2, hE_t_126, et_127⟩ := hp_125
                                  have hT := hT.tr hT2
                                  clear hT2
                                  have hRz : RdAt t_126 T (rEnd q.1) := by rw [← hRq.end1 c_k]; exact et_127
                                  exact h_vreturn hx hb hlk hret hR hL ⟨t_126, hT, (TwE.tr (S2 := [1, 2, 3, 17, 18, 19, 20, 21, 22, 23, 24]) (TwE.tr (S2 := [1, 2, 3, 17, 18, 19, 20, 21, 22, 23, 24]) (TwE.tr (S2 := [1, 2, 3, 17, 18, 19, 20, 21, 22, 23, 24]) (TwE.tr (S2 := [1, 2, 3, 17, 18, 19, 20, 21, 22, 23, 24]) (TwE.tr (S2 := [1, 2, 3, 17, 18, 19, 20, 21, 22, 23, 24]) (TwE.tr (S2 := [1, 2, 3, 17, 18, 19, 20, 21, 22, 23, 24]) (TwE.tr (S2 := [1, 2, 3, 17, 18, 19, 20, 21, 22, 23, 24]) (TwE.tr (S2 := [1, 2, 3, 17, 18, 19, 20, 21, 22, 23, 24]) (TwE.tr (S2 := [1, 2, 3, 17, 18, 19, 20, 21, 22, 23, 24]) (TwE.tr (S2 := [1, 2, 3, 17, 18, 19, 20, 21, 22, 23, 24]) (TwE.tr (S2 := [1, 2, 3, 17, 18, 19, 20, 21, 22, 23, 24]) (TwE.tr (S2 := [1, 2, 3, 17, 18, 19, 20, 21, 22, 23, 24]) (TwE.rf : TwE [] t t) hE_t_77 rfl rfl) hE_t_82 rfl rfl) hE_t_87 rfl rfl) hE_t_92 rfl rfl) hE_t_94 rfl rfl) hE_t_98 rfl rfl) hE_t_101 rfl rfl) hE_t_104 rfl rfl) hE_t_107 rfl rfl) hE_t_111 rfl rfl) hE_t_117 rfl rfl) hE_t_126 rfl rfl), (by rw [rText, if_pos c_5, ← hqb]; exact ⟨hRz, fun _ => ⟨(by rw [(hE_t_126 3 (by decide)).2]; exact hCq), hok.mono (by omega)⟩⟩)⟩ (by omega) (by omega) rfl rfl dX10_readsText_178
                              ·
                                have d_m := b2i_n1.mp c_m
                                obtain ⟨s1, hs1⟩ := kyB_s d_m
                                have hRd_s1 : RdAt t_117 T (.inr s1) := by have h_ := hRq; rwa [hs1] at h_
                                have hW_s1 := hRd_s1.2.2.2.2
                                have hn1_ := hn s1 hs1
                                have hm40_ := hCq.n40
                                refine lv_aload_n hx hb dX10_readsText_159 rfl (lv_at hl 0 rfl) ?_
                                -- call SpokenMarksModel.readsMark
                                refine h_kV (h_runV X hR (m_readsMark l G w_118 a ad t_117 hT.1 T s1 q.2 hRd_s1 hCq (fun k_ hk_ => by have := hok.2.1 k_ hk_; omega) (by have := hok.2.2; omega)) pn_yX10_readsMark (hasC.of hT.1.ob rfl) q2892 q2894 qs66 q161 q2895 ⟨by decide, by decide⟩ hl.1 (Nat.le_of_ble_eq_true rfl) dX10_readsText_160 ⟨by omega, by omega⟩) hL (fun w_129 hp_130 H locs hR hL => ?_)
                                obtain ⟨t_131, hT2, hE_t_131, et_132⟩ := hp_130
                                have hT := hT.tr hT2
                                clear hT2
                                have hRx := et_132.1
                                refine lv_goto (tgt := 149) hx hb dX10_readsText_163 (by decide) ?_
                                exact ih_119 (k - 1) ((rMark T s1 q.2)) t_131 w_129 (by omega) (by rw [← rMarks_go hs1 d_m (by omega)]; exact hq) (fun s2 h2 => by have h3 := rMark_len h2; have := hn s1 hs1; omega) (Ok.mono (hok.mark (by omega) hW_s1 hRx.ne0) (by omega)) hT (TwE.tr (S2 := [1, 2, 3, 17, 18, 19, 20, 21, 22, 23, 24]) (TwE.tr (S2 := [1, 2, 3, 17, 18, 19, 20, 21, 22, 23, 24]) (TwE.rf : TwE [] t_111 t_111) hE_t_117 rfl rfl) hE_t_131 rfl rfl) hRx et_132.2 (by omega) _ _ _ hR hL (lv_sub hl [0] rfl)
                          have hqe : q = (rRules T 10 (rHd5 T, newC (rHd3 T).2 (rHd4 T).2)) := by rw [← hq, rRules_no d_r]
                          exact LOOP_119 _ 42 ((rRules T 10 (rHd5 T, newC (rHd3 T).2 (rHd4 T).2))) t_111 w_112 (by omega) rfl (fun s_ hs_ => by omega) (by rw [← hqe]; exact hok.mono (by omega)) hT (TwE.rf : TwE [1, 2, 3, 17, 18, 19, 20, 21, 22, 23, 24] t_111 t_111) (by rw [← hqe]; exact hRq) (by rw [← hqe]; exact hCq) (Nat.lt_succ_self _) _ _ _ hR hL (lv_sub hl [0] rfl)
                        ·
                          have d_r := b2i_n1.mp c_r
                          obtain ⟨s1, hs1⟩ := kyB_s d_r
                          have hRd_s1 : RdAt t_111 T (.inr s1) := by have h_ := hRq; rwa [hs1] at h_
                          have hW_s1 := hRd_s1.2.2.2.2
                          have hn1_ := hn s1 hs1
                          have hr8_ := hCq.rl.2.2.1
                          refine lv_aload_n hx hb dX10_readsText_142 rfl (lv_at hl 0 rfl) ?_
                          -- call SpokenMarksModel.readsRule
                          refine h_kV (h_runV X hR (m_readsRule l G w_112 a ad t_111 hT.1 T s1 q.2 hRd_s1 hCq hok.pd (fun k_ hk_ => by have := hok.2.1 k_ hk_; omega)) pn_yX10_readsRule (hasC.of hT.1.ob rfl) q2785 q2787 qs43 q161 q2788 ⟨by decide, by decide⟩ hl.1 (Nat.le_of_ble_eq_true rfl) dX10_readsText_143 ⟨by omega, by omega⟩) hL (fun w_134 hp_135 H locs hR hL => ?_)
                          obtain ⟨t_136, hT2, hE_t_136, et_137⟩ := hp_135
                          have hT := hT.tr hT2
                          clear hT2
                          have hRx := et_137.1
                          refine lv_goto (tgt := 132) hx hb dX10_readsText_146 (by decide) ?_
                          exact ih_113 (k - 1) ((rRule T s1 q.2)) t_136 w_134 (by omega) (by rw [← rRules_go hs1 d_r (by omega)]; exact hq) (fun s2 h2 => by have h3 := rRule_len hW_s1 h2; have := hn s1 hs1; omega) (Ok.mono (hok.rule (by omega) hW_s1 hRx.ne0) (by omega)) hT (TwE.tr (S2 := [1, 2, 3, 17, 18, 19, 20, 21, 22, 23, 24]) (TwE.tr (S2 := [1, 2, 3, 17, 18, 19, 20, 21, 22, 23, 24]) (TwE.rf : TwE [] t_107 t_107) hE_t_111 rfl rfl) hE_t_136 rfl rfl) hRx et_137.2 (by omega) _ _ _ hR hL (lv_sub hl [0] rfl)
                    have hz4 : ∀ i, i < 8 → t_107.2 3 i = if i = 4 then 1 else if i = 1 then (rHd4 T).2 else if i = 0 then (rHd3 T).2 else 0 := fun i hi => (hb2 i hi).trans (hz3 i (by omega))
                    have hCn : RowIs (t_107.2 3) (newC (rHd3 T).2 (rHd4 T).2) := RowIs.new hr3.1 hr3.2 (hz4 0 (by omega)) (hz4 1 (by omega)) (hz4 4 (by omega)) (fun i h1 h2 h3 h4 => (hz4 i h1).trans (by rw [if_neg h4, if_neg h3, if_neg h2])) (fun s hs => hb1 s (by omega))
                    have hR6 : RdAt t_107 T (rHd5 T) := (hR5.mv (TwE.tr (S2 := [3]) (TwE.tr (S2 := [3]) (TwE.tr (S2 := [3]) (TwE.tr (S2 := [3]) (TwE.tr (S2 := [3]) (TwE.rf : TwE [] t_92 t_92) hE_t_94 rfl rfl) hE_t_98 rfl rfl) hE_t_101 rfl rfl) hE_t_104 rfl rfl) hE_t_107 rfl rfl) (by decide) (by decide) (by decide) (by decide) (by decide) (by decide) (by decide) (by decide))
                    exact LOOP_113 _ 10 ((rHd5 T, newC (rHd3 T).2 (rHd4 T).2)) t_107 w_108 (by omega) rfl (fun s_ hs_ => by omega) ((newC_ok hr3.1 hr3.2).mono (by omega)) hT (TwE.rf : TwE [1, 2, 3, 17, 18, 19, 20, 21, 22, 23, 24] t_107 t_107) hR6 hCn (Nat.lt_succ_self _) _ _ _ hR hL (lv_sub hl [0] rfl)
                  ·
                    refine lv_aload_n hx hb dX10_readsText_109 rfl (lv_at hl 0 rfl) ?_
                    refine tw_get X hR hT 3 (by decide) q2944 rfl dX10_readsText_110 ?_
                    refine h_bipush hx hb dX10_readsText_113 (by decide) ?_
                    refine lv_iload_n hx hb dX10_readsText_115 rfl (lv_at hl 3 rfl) ?_
                    refine h_iadd hx hb dX10_readsText_116 ?_
                    refine lv_iload_n hx hb dX10_readsText_117 rfl (lv_at hl 3 rfl) ?_
                    refine h_sipush hx hb dX10_readsText_118 (by decide) ?_
                    refine h_imul hx hb dX10_readsText_121 ?_
                    refine lv_iload_n hx hb dX10_readsText_122 rfl (lv_at hl 1 rfl) ?_
                    refine h_idiv hx hb dX10_readsText_123 ⟨⟨by omega, by omega⟩, by omega, by omega⟩ ?_
                    have hbr := newC_r (sh := (rHd3 T).2) hr3.1.1 (s := j) (by omega)
                    refine h_i2l hx hb dX10_readsText_124 (by omega) ?_
                    refine tw_last X hR hL hT (k := 3) (by decide) (8 + j) (by omega) (by show _ < _; simp only [twN]; omega) (by omega) dX10_readsText_125 (fun t_138 et_139 w_140 hT H locs hR hL => ?_)
                    have hE_t_138 := TwE.ast et_139
                    have hv_t_138 := tast_v et_139
                    refine h_iinc (lv' := [(3, .int (iI ((j : Int) + 1))), (0, .ref a), (1, .int (iI ((rHd3 T).2))), (2, .int (iI ((rHd4 T).2)))]) hx hb dX10_readsText_126 hl (k := 3) rfl (by decide) rfl (fun ls hl => ?_)
                    refine lv_goto (tgt := 104) hx hb dX10_readsText_129 (by decide) ?_
                    exact ih_109 (j + 1) t_138 w_140 (by omega) hT (TwE.tr (S2 := [3]) (TwE.tr (S2 := [3]) (TwE.rf : TwE [] t_104 t_104) hE_t_107 rfl rfl) hE_t_138 rfl rfl) (fun i hi => by rw [tast_v et_139]; unfold zset; by_cases q : i = j; (rw [if_pos (by omega), q]); (rw [if_neg (by omega)]; exact hb1 i (by omega))) (fun i hi => by rw [tast_v et_139]; unfold zset; rw [if_neg (by omega)]; exact hb2 i hi) (by omega) _ _ _ hR hL (lv_sub hl [1, 2, 3, 0] rfl)
              exact LOOP_109 _ 0 t_104 w_106 (by omega) hT (TwE.rf : TwE [3] t_104 t_104) (fun i hi => absurd hi (Nat.not_lt_zero _)) (fun i hi => rfl) (Nat.lt_succ_self _) _ _ _ hR hL (lv_sub hl [1, 2, 3, 0] rfl)
            ·
              refine lv_aload_n hx hb dX10_readsText_66 rfl (lv_at hl 0 rfl) ?_
              refine tw_get X hR hT 3 (by decide) q2944 rfl dX10_readsText_67 ?_
              refine lv_iload_n hx hb dX10_readsText_70 rfl (lv_at hl 3 rfl) ?_
              refine h_lconst hx hb 0 dX10_readsText_71 rfl ?_
              refine tw_last X hR hL hT (k := 3) (by decide) k (by omega) (by show _ < _; simp only [twN]; omega) (by omega) dX10_readsText_72 (fun t_141 et_142 w_143 hT H locs hR hL => ?_)
              have hE_t_141 := TwE.ast et_142
              have hv_t_141 := tast_v et_142
              refine h_iinc (lv' := [(3, .int (iI ((k : Int) + 1))), (0, .ref a), (1, .int (iI ((rHd3 T).2))), (2, .int (iI ((rHd4 T).2)))]) hx hb dX10_readsText_73 hl (k := 3) rfl (by decide) rfl (fun ls hl => ?_)
              refine lv_goto (tgt := 59) hx hb dX10_readsText_76 (by decide) ?_
              exact ih_96 (k + 1) t_141 w_143 (by omega) hT (TwE.tr (S2 := [3]) (TwE.tr (S2 := [3]) (TwE.rf : TwE [] t_92 t_92) hE_t_94 rfl rfl) hE_t_141 rfl rfl) (fun i hi => by rw [tast_v et_142]; unfold zset; split; rfl; exact hz i (by omega)) (by omega) _ _ _ hR hL (lv_sub hl [1, 2, 3, 0] rfl)
        exact LOOP_96 _ 0 t_92 w_90 (by omega) hT (TwE.rf : TwE [3] t_92 t_92) (fun i hi => absurd hi (Nat.not_lt_zero _)) (Nat.lt_succ_self _) _ _ _ hR hL (lv_sub hl [3, 2, 1, 0] rfl)
      ·
        exact h_vreturn hx hb hlk hret hR hL ⟨t_92, hT, (TwE.tr (S2 := [1, 2, 3, 17, 18, 19, 20, 21, 22, 23, 24]) (TwE.tr (S2 := [1, 2, 3, 17, 18, 19, 20, 21, 22, 23, 24]) (TwE.tr (S2 := [1, 2, 3, 17, 18, 19, 20, 21, 22, 23, 24]) (TwE.tr (S2 := [1, 2, 3, 17, 18, 19, 20, 21, 22, 23, 24]) (TwE.rf : TwE [] t t) hE_t_77 rfl rfl) hE_t_82 rfl rfl) hE_t_87 rfl rfl) hE_t_92 rfl rfl), (by rw [rText, if_neg c_5]; exact ⟨hR5, fun hw => absurd hw c_5⟩)⟩ (by omega) (by omega) rfl rfl dX10_readsText_56
    ·
      exact absurd c_w (by decide)
