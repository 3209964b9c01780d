/-! changes of a catalogue, and of the row that holds it -/
set_option maxRecDepth 100000
def setMk (c : Cat) (M : List Mrk) : Cat := (cSh c, cRm c, cBd c, M, cRl c, cAc c, cNx c)
def setNx (c : Cat) (v : Int) : Cat := (cSh c, cRm c, cBd c, cMk c, cRl c, cAc c, v)
def setBd (c : Cat) (B : List Int) : Cat := (cSh c, cRm c, B, cMk c, cRl c, cAc c, cNx c)
def setRl (c : Cat) (R : Rls) : Cat := (cSh c, cRm c, cBd c, cMk c, R, cAc c, cNx c)
def incAc (c : Cat) (k : Nat) (v : Int) : Cat := (cSh c, cRm c, cBd c, cMk c, cRl c, zset (cAc c) k (cAc c k + v), cNx c)
def insAt {α : Type} (L : List α) (k : Nat) (m : α) : List α := L.take k ++ m :: L.drop k
def rspL (n : Int) : Nat → List Mrk → List Mrk
  | _, [] => []
  | k, m :: r => (mId m, mPs m, mWd m, spc k n) :: rspL n (k + 1) r
theorem rspL_len (n : Int) (k : Nat) (L : List Mrk) : (rspL n k L).length = L.length := by
  induction L generalizing k with
  | nil => rfl
  | cons m r ih => simp [rspL, ih]
theorem rspL_at (n : Int) (k : Nat) (L : List Mrk) (i : Nat) (hi : i < L.length) : (rspL n k L).getD i mrk0 = (mId (L.getD i mrk0), mPs (L.getD i mrk0), mWd (L.getD i mrk0), spc ((k + i : Nat) : Int) n) := by
  induction L generalizing k i with
  | nil => simp at hi
  | cons m r ih =>
    cases i with
    | zero => simp [rspL]
    | succ i =>
      have h := ih (k + 1) i (by simpa using hi)
      simp only [rspL, List.getD_cons_succ]
      rw [h, show k + 1 + i = k + (i + 1) by omega]
theorem insAt_len {α : Type} (L : List α) (k : Nat) (m : α) (hk : k ≤ L.length) : (insAt L k m).length = L.length + 1 := by
  unfold insAt; rw [List.length_append, List.length_cons, List.length_take, List.length_drop]; omega
theorem insAt_at {α : Type} (L : List α) (k : Nat) (m d : α) (hk : k ≤ L.length) (i : Nat) : (insAt L k m).getD i d = if i < k then L.getD i d else if i = k then m else L.getD (i - 1) d := by
  unfold insAt
  rw [List.getD_eq_getElem?_getD, List.getElem?_append, List.length_take, Nat.min_eq_left hk]
  by_cases h : i < k
  · rw [if_pos h, if_pos h, List.getElem?_take, if_pos h, ← List.getD_eq_getElem?_getD]
  · rw [if_neg h, if_neg h, List.getElem?_cons]
    by_cases h2 : i = k
    · rw [if_pos h2, if_pos (by omega)]; rfl
    · rw [if_neg h2, if_neg (by omega), List.getElem?_drop, ← List.getD_eq_getElem?_getD]; congr 1; omega
def PrtsW (p : List Prt) : Prop := 1 ≤ p.length ∧ p.length ≤ 5 ∧ ∀ x ∈ p, PrtW x
theorem spc_r {k n : Int} (h1 : 0 ≤ k) (h2 : k < n) (h3 : n ≤ 100) : 0 ≤ spc k n ∧ spc k n < 10000 := by
  unfold spc
  constructor
  · exact Int.ediv_nonneg (by omega) (by omega)
  · exact Int.ediv_lt_of_lt_mul (by omega) (by omega)
theorem CatS.mks {c : Cat} (h : CatS c) {M : List Mrk} (hl : M.length ≤ 40) (hm : ∀ k, k < M.length → MrkW (M.getD k mrk0)) : CatS (setMk c M) := ⟨h.1, h.2.1, h.2.2.1, ⟨hl, hm⟩, h.2.2.2.2⟩
theorem RowIs.mks {f g : Nat → Int} {c : Cat} (h : RowIs f c) {M : List Mrk} (hl : M.length ≤ 40) (hm : ∀ k, k < M.length → MrkW (M.getD k mrk0)) (hg : ∀ i, i < 32 → i ≠ 2 → g i = f i) (h2 : g 2 = (M.length : Int)) (hs : ∀ r, r < M.length → SlotM g r (cRl c) (M.getD r mrk0)) : RowIs g (setMk c M) := by
  refine ⟨h.s.mks hl hm, ?_, ?_, h2, ?_, fun k hk => ?_, fun s hs' => ?_, ⟨?_, fun k hk => ?_, h.rl.2.2⟩, hs⟩
  · rw [hg 0 (by omega) (by omega)]; exact h.sh
  · rw [hg 1 (by omega) (by omega)]; exact h.rm
  · rw [hg 4 (by omega) (by omega)]; exact h.nx
  · rw [hg _ (by omega) (by omega)]; exact h.ac k hk
  · have := h.sh8; rw [hg _ (by have : (s : Int) < cSh c := hs'; omega) (by omega)]; exact h.bd s hs'
  · rw [hg 3 (by omega) (by omega)]; exact h.rl.1
  · have := h.rl.2.2.1; have hk' : k < (cRl c).length := hk; rw [hg _ (by omega) (by omega), hg _ (by omega) (by omega)]; exact h.rl.2.1 k hk
theorem RowIs.nxs {f g : Nat → Int} {c : Cat} (h : RowIs f c) {v : Int} (hv : 1 ≤ v ∧ v < 1000000) (hg : ∀ i, i ≠ 4 → g i = f i) (h4 : g 4 = v) : RowIs g (setNx c v) := by
  have hn := h.n40
  refine ⟨⟨h.s.1, h.s.2.1, h.s.2.2.1, h.s.2.2.2.1, h.s.2.2.2.2.1, h.s.2.2.2.2.2.1, hv⟩, ?_, ?_, ?_, h4, fun k hk => ?_, fun s hs => ?_, ⟨?_, fun k hk => ?_, h.rl.2.2⟩, fun r hr => (h.m r hr).mv (fun i _ _ => hg i (by omega))⟩
  · rw [hg 0 (by omega)]; exact h.sh
  · rw [hg 1 (by omega)]; exact h.rm
  · rw [hg 2 (by omega)]; exact h.n
  · rw [hg _ (by omega)]; exact h.ac k hk
  · rw [hg _ (by omega)]; exact h.bd s hs
  · rw [hg 3 (by omega)]; exact h.rl.1
  · rw [hg _ (by omega), hg _ (by omega)]; exact h.rl.2.1 k hk
theorem RowIs.acs {f g : Nat → Int} {c : Cat} (h : RowIs f c) {k : Nat} {v : Int} (hk : k < 3) (hv : 0 ≤ cAc c k + v ∧ cAc c k + v < 1000000) (hg : ∀ i, i ≠ 5 + k → g i = f i) (h5 : g (5 + k) = f (5 + k) + v) : RowIs g (incAc c k v) := by
  have hn := h.n40
  refine ⟨⟨h.s.1, h.s.2.1, h.s.2.2.1, h.s.2.2.2.1, h.s.2.2.2.2.1, fun j hj => ?_, h.s.2.2.2.2.2.2⟩, ?_, ?_, ?_, ?_, fun j hj => ?_, fun s hs => ?_, ⟨?_, fun j hj => ?_, h.rl.2.2⟩, fun r hr => (h.m r hr).mv (fun i _ _ => hg i (by omega))⟩
  · show 0 ≤ zset (cAc c) k _ j ∧ zset (cAc c) k _ j < 1000000
    unfold zset; split
    · exact hv
    · exact h.s.2.2.2.2.2.1 j hj
  · rw [hg 0 (by omega)]; exact h.sh
  · rw [hg 1 (by omega)]; exact h.rm
  · rw [hg 2 (by omega)]; exact h.n
  · rw [hg 4 (by omega)]; exact h.nx
  · show _ = zset (cAc c) k _ j
    unfold zset; split
    · next q => subst q; rw [h5, h.ac j hj]
    · next q => rw [hg _ (by omega)]; exact h.ac j hj
  · rw [hg _ (by omega)]; exact h.bd s hs
  · rw [hg 3 (by omega)]; exact h.rl.1
  · rw [hg _ (by omega), hg _ (by omega)]; exact h.rl.2.1 j hj
/-- all marks given their places anew -/
def plcF (f : Nat → Int) (n : Int) (k : Nat) (i : Nat) : Int := if 34 ≤ i ∧ (i - 34) % 14 = 0 ∧ (i - 34) / 14 < k then spc (((i - 34) / 14 : Nat) : Int) n else f i
theorem plcF_0 (f : Nat → Int) (n : Int) (i : Nat) : plcF f n 0 i = f i := by unfold plcF; rw [if_neg (by omega)]
theorem plcF_s {f g : Nat → Int} {n : Int} {k : Nat} (h : ∀ i, g i = plcF f n k i) (i : Nat) : zset g (32 + 14 * k + 2) (spc (k : Int) n) i = plcF f n (k + 1) i := by
  unfold zset
  by_cases q : i = 32 + 14 * k + 2
  · subst q; rw [if_pos rfl]; unfold plcF; rw [if_pos (by omega)]; congr 2; omega
  · rw [if_neg q, h]
    unfold plcF
    by_cases q2 : 34 ≤ i ∧ (i - 34) % 14 = 0 ∧ (i - 34) / 14 < k
    · have q3 : 34 ≤ i ∧ (i - 34) % 14 = 0 ∧ (i - 34) / 14 < k + 1 := by omega
      rw [if_pos q2, if_pos q3]
    · have q3 : ¬ (34 ≤ i ∧ (i - 34) % 14 = 0 ∧ (i - 34) / 14 < k + 1) := by omega
      rw [if_neg q2, if_neg q3]
theorem plcF_no {f : Nat → Int} {n : Int} {k : Nat} {i : Nat} (h : ¬ (34 ≤ i ∧ (i - 34) % 14 = 0)) : plcF f n k i = f i := by unfold plcF; rw [if_neg (fun q => h ⟨q.1, q.2.1⟩)]
theorem RowIs.plc {f g : Nat → Int} {c : Cat} (h : RowIs f c) (hg : ∀ i, g i = plcF f (cN c) (cN c) i) : RowIs g (setMk c (rspL (cN c) 0 (cMk c))) := by
  have hn := h.n40
  have hlen : (rspL (cN c) 0 (cMk c)).length = cN c := rspL_len _ _ _
  have hcn : (cMk c).length = cN c := rfl
  refine h.mks (by omega) (fun k hk => ?_) (fun i hi _ => ?_) ?_ (fun r hr => ?_)
  · rw [rspL_at _ _ _ _ (by omega), Nat.zero_add]
    have hw := h.mw k (by omega)
    exact ⟨hw.1, hw.2.1, hw.2.2.1, spc_r (by omega) (by omega) (by omega)⟩
  · rw [hg, plcF_no (by omega)]
  · rw [hg, plcF_no (by omega), h.n, hlen]
  · rw [rspL_at _ _ _ _ (by omega), Nat.zero_add]
    have hm := h.m r (by omega)
    have e : ∀ j, j < 14 → j ≠ 2 → g (32 + 14 * r + j) = f (32 + 14 * r + j) := fun j hj hj2 => by rw [hg, plcF_no (by omega)]
    refine ⟨(e 0 (by omega) (by omega)).trans hm.1, (e 1 (by omega) (by omega)).trans hm.2.1, ?_, ⟨⟨(e 3 (by omega) (by omega)).trans hm.2.2.2.1.1, hm.2.2.2.1.2.1, fun k hk => ?_, hm.2.2.2.1.2.2.2⟩, ⟨(e 3 (by omega) (by omega)).trans hm.2.2.2.2.1, hm.2.2.2.2.2.1, fun k hk => ?_, hm.2.2.2.2.2.2.2⟩⟩⟩
    · rw [hg]; unfold plcF; rw [if_pos (by omega)]; congr 2; omega
    · have hk' : k < (letK (mPs (mk c r))).length := hk; have := hm.2.2.2.1.2.1; have e4 := e (4 + k) (by omega) (by omega)
      rw [show 32 + 14 * r + 4 + k = 32 + 14 * r + (4 + k) by omega, e4, show 32 + 14 * r + (4 + k) = 32 + 14 * r + 4 + k by omega]; exact hm.2.2.2.1.2.2.1 k hk
    · have hk' : k < (earK (cRl c) (mPs (mk c r))).length := hk; have := hm.2.2.2.2.2.1; have e4 := e (9 + k) (by omega) (by omega)
      rw [show 32 + 14 * r + 9 + k = 32 + 14 * r + (9 + k) by omega, e4, show 32 + 14 * r + (9 + k) = 32 + 14 * r + 9 + k by omega]; exact hm.2.2.2.2.2.2.1 k hk
/-- two marks changed for each other -/
theorem RowIs.swp {f g : Nat → Int} {c : Cat} (h : RowIs f c) {a b : Nat} (ha : a < cN c) (hb : b < cN c) (hg : ∀ i, g i = swpF f a b i) {M : List Mrk} (hl : M.length = cN c) (hM : ∀ r, r < cN c → M.getD r mrk0 = if r = a then mk c b else if r = b then mk c a else mk c r) : RowIs g (setMk c M) := by
  have hn := h.n40
  refine h.mks (by omega) (fun k hk => ?_) (fun i hi _ => ?_) ?_ (fun r hr => ?_)
  · rw [hM k (by omega)]; split
    · exact h.mw b hb
    · split
      · exact h.mw a ha
      · exact h.mw k (by omega)
  · rw [hg]; unfold swpF; rw [if_neg (by omega), if_neg (by omega)]
  · rw [hg]; unfold swpF; rw [if_neg (by omega), if_neg (by omega), h.n, hl]
  · rw [hM r (by omega)]
    by_cases q : r = a
    · rw [if_pos q]; subst q; exact (h.m b hb).to (fun j hj => by rw [hg]; unfold swpF; rw [if_pos (by omega)]; congr 1; omega)
    · rw [if_neg q]
      by_cases q2 : r = b
      · rw [if_pos q2]; subst q2; exact (h.m a ha).to (fun j hj => by rw [hg]; unfold swpF; rw [if_neg (by omega), if_pos (by omega)]; congr 1; omega)
      · rw [if_neg q2]; exact (h.m r (by omega)).to (fun j hj => by rw [hg]; unfold swpF; rw [if_neg (by omega), if_neg (by omega)])
theorem insAt_swp {α : Type} (L : List α) (m d : α) {k : Nat} (hk : k + 1 ≤ L.length) (r : Nat) : (insAt L k m).getD r d = if r = k + 1 then (insAt L (k + 1) m).getD k d else if r = k then (insAt L (k + 1) m).getD (k + 1) d else (insAt L (k + 1) m).getD r d := by
  rw [insAt_at L k m d (by omega), insAt_at L (k + 1) m d hk, insAt_at L (k + 1) m d hk, insAt_at L (k + 1) m d hk]
  by_cases h1 : r = k + 1
  · subst h1; rw [if_neg (by omega), if_neg (by omega), if_pos rfl, if_pos (by omega)]; congr 1
  · by_cases h2 : r = k
    · subst h2
      have q : ¬ r < r := by omega
      have q2 : r < r + 1 := by omega
      simp only [if_neg h1, if_neg q, if_pos q2, if_true, show ¬ r + 1 < r + 1 by omega, if_false]
    · by_cases h3 : r < k
      · have q : r < k + 1 := by omega
        simp only [if_neg h1, if_neg h2, if_pos h3, if_pos q]
      · have q : ¬ r < k + 1 := by omega
        simp only [if_neg h1, if_neg h2, if_neg h3, if_neg q]
/-- a mark comes -/
def cIns (c : Cat) (g : List Prt) (w : Int) : Cat := incAc (setNx (setMk c (insAt (cMk c) (rkF c g) (cNx c, g, w, plF c (rkF c g : Int)))) (cNx c + 1)) 0 1
def cAdd (c : Cat) (g : List Prt) (w : Int) : Cat := if plA c (rkF c g : Int) - plA c ((rkF c g : Int) - 1) < 2 then incAc (incAc (setMk (cIns c g w) (rspL ((cN c : Int) + 1) 0 (cMk (cIns c g w)))) 1 1) 2 (mvN c (rkF c g : Int)) else cIns c g w
theorem plF_r {c : Cat} (h : CatS c) {r : Nat} (hr : r ≤ cN c) : 0 ≤ plF c (r : Int) ∧ plF c (r : Int) < 10000 := by
  have h1 := plA_r h (r : Int)
  have h2 := plA_r h ((r : Int) - 1)
  have hn := h.2.2.2.1.1
  unfold plF
  split
  · exact spc_r (by omega) (by omega) (by omega)
  · omega
theorem mvN_r (c : Cat) (r : Int) : 0 ≤ mvN c r ∧ mvN c r ≤ (cN c : Int) := by
  have := sumN_bd (f := fun k => b2i (mPl (mk c k) ≠ spc (if (k : Int) < r then k else k + 1) (cN c + 1))) (n := cN c) 0 1 (fun i _ => b2i_01 _)
  unfold mvN
  omega

