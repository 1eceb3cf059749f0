/-! WHAT IS COMPUTED: rows that are changed -/
set_option maxRecDepth 100000
/-- segment g of b: job and source of segment p of a, target of segment q of a -/
def sgM (a : Int → Int) (p q : Int) (b : Int → Int) (g : Int) : Prop := ∀ d : Int, 0 ≤ d → d < 19 → b (67 + 19 * g + d) = a (67 + 19 * (if d = 2 ∨ 11 ≤ d then q else p) + d)
theorem sgM_job {a b : Int → Int} {p q g : Int} (h : sgM a p q b g) : sJob b g = sJob a p := by
  have := h 0 (by decide) (by decide)
  rw [if_neg (by omega)] at this
  unfold sJob
  rw [show 67 + 19 * g = 67 + 19 * g + 0 by omega, this]
  congr 1
  omega
theorem sgM_len0 {a b : Int → Int} {p q g : Int} (h : sgM a p q b g) : sLen b g 0 = sLen a p 0 := h 1 (by decide) (by decide)
theorem sgM_len1 {a b : Int → Int} {p q g : Int} (h : sgM a p q b g) : sLen b g 1 = sLen a q 1 := h 2 (by decide) (by decide)
theorem sgM_wd0 {a b : Int → Int} {p q g k : Int} (h : sgM a p q b g) (h0 : 0 ≤ k) (h1 : k < 8) : sWd b g k 0 = sWd a p k 0 := by
  have := h (3 + k) (by omega) (by omega)
  rw [if_neg (by omega)] at this
  unfold sWd
  rw [if_pos rfl]
  rw [show 67 + 19 * g + 3 + 0 + k = 67 + 19 * g + (3 + k) by omega, this]
  congr 1
  omega
theorem sgM_wd1 {a b : Int → Int} {p q g k : Int} (h : sgM a p q b g) (h0 : 0 ≤ k) (h1 : k < 8) : sWd b g k 1 = sWd a q k 1 := by
  have := h (11 + k) (by omega) (by omega)
  rw [if_pos (by omega)] at this
  unfold sWd
  rw [if_neg (by decide)]
  rw [show 67 + 19 * g + 3 + 8 + k = 67 + 19 * g + (11 + k) by omega, this]
  congr 1
  omega
theorem OkA_seg {a b : Int → Int} (h : OkA a) (h1 : ∀ i : Int, i < 66 → b i = a i) (h2 : 0 ≤ b 66 ∧ b 66 ≤ 20) (h3 : ∀ g : Int, 0 ≤ g → g < b 66 → ∃ p q : Int, (0 ≤ p ∧ p < a 66) ∧ (0 ≤ q ∧ q < a 66) ∧ sgM a p q b g) : OkA b := by
  have hc := h.cnt
  have h9 := h1 9 (by decide)
  have h20 := h1 20 (by decide)
  have h45 := h1 45 (by decide)
  refine ⟨?_, ?_, ?_, ?_, ?_, ?_, ?_, ?_⟩
  · rw [h1 0 (by decide), h1 1 (by decide), h1 2 (by decide), h1 3 (by decide)]; exact h.set
  · intro k k0 k1
    rw [h1 _ (by omega)]
    exact h.pct k k0 k1
  · rw [h9, h20, h45]; exact ⟨hc.1, hc.2.1, hc.2.2.1, h2⟩
  · intro p p0 p1
    rw [h9] at p1
    unfold pNm pCp
    rw [h1 _ (by omega), h1 _ (by omega)]
    exact h.per p p0 p1
  · intro t s t0 t1
    rw [h20] at t1
    unfold tWd
    rw [h1 _ (by split <;> omega)]
    exact h.term t s t0 t1
  · intro j j0 j1
    rw [h45] at j1
    unfold jOf
    rw [h9, h20, h1 (46 + 4 * j + 0) (by omega), h1 (46 + 4 * j + 1) (by omega), h1 (46 + 4 * j + 2) (by omega), h1 (46 + 4 * j + 3) (by omega)]
    exact h.job j j0 j1
  · intro g g0 g1
    obtain ⟨p, q, p0, q0, hs⟩ := h3 g g0 g1
    rw [sgM_job hs, sgM_len0 hs, sgM_len1 hs, h45]
    exact ⟨(h.seg p p0.1 p0.2).1, (h.seg p p0.1 p0.2).2.1, (h.seg q q0.1 q0.2).2.2⟩
  · intro g k t g0 g1 k0 k1
    obtain ⟨p, q, p0, q0, hs⟩ := h3 g g0 g1
    by_cases ht : t = 0
    · subst ht
      rw [sgM_len0 hs] at k1
      have := h.len p 0 p0.1 p0.2
      rw [sgM_wd0 hs k0 (by omega)]
      exact h.wrd p k 0 p0.1 p0.2 k0 k1
    · rw [sLen_1 ht, sgM_len1 hs] at k1
      have := h.len q 1 q0.1 q0.2
      rw [sWd_1 ht, sgM_wd1 hs k0 (by omega)]
      exact h.wrd q k 1 q0.1 q0.2 k0 k1
/-- one segment is taken out -/
def clF (a : Int → Int) (g : Int) : Int → Int := fun i => if i = 66 then a 66 - 1 else if 67 + 19 * g ≤ i ∧ i < 67 + 19 * (a 66 - 1) then a (i + 19) else if 67 + 19 * (a 66 - 1) ≤ i ∧ i < 67 + 19 * (a 66 - 1) + 19 then 0 else a i
theorem clF_n {a : Int → Int} {g : Int} : clF a g 66 = a 66 - 1 := if_pos rfl
theorem clF_lo {a : Int → Int} {g i : Int} (h0 : 0 ≤ g) (h1 : g < a 66) (h : i < 66) : clF a g i = a i := by
  unfold clF
  rw [if_neg (by omega), if_neg (by omega), if_neg (by omega)]
theorem clF_out {a : Int → Int} {g i : Int} (h0 : 0 ≤ g) (h1 : g < a 66) (h2 : a 66 ≤ 20) (h : ¬ (0 ≤ i ∧ i < 447)) : clF a g i = a i := by
  unfold clF
  rw [if_neg (by omega), if_neg (by omega), if_neg (by omega)]
theorem clF_M {a : Int → Int} {g h : Int} (h0 : 0 ≤ g) (h1 : g < a 66) (h2 : 0 ≤ h) (h3 : h < a 66 - 1) : sgM a (if h < g then h else h + 1) (if h < g then h else h + 1) (clF a g) h := by
  intro d d0 d1
  rw [show (if d = 2 ∨ 11 ≤ d then (if h < g then h else h + 1) else (if h < g then h else h + 1)) = (if h < g then h else h + 1) by split <;> rfl]
  unfold clF
  rw [if_neg (by omega)]
  by_cases q : h < g
  · rw [if_pos q, if_neg (by omega), if_neg (by omega)]
  · rw [if_neg q, if_pos (by omega)]
    congr 1
    omega
theorem clF_ok {a : Int → Int} (h : OkA a) {g : Int} (h0 : 0 ≤ g) (h1 : g < a 66) : OkA (clF a g) := by
  have hc := h.cnt
  refine OkA_seg h (fun i hi => clF_lo h0 h1 hi) (by rw [clF_n]; omega) (fun k k0 k1 => ?_)
  rw [clF_n] at k1
  have hp : 0 ≤ (if k < g then k else k + 1) ∧ (if k < g then k else k + 1) < a 66 := by split <;> omega
  exact ⟨_, _, hp, hp, clF_M h0 h1 k0 k1⟩
/-- the segments of one job alone, from behind -/
def alI (a : Int → Int) (j : Int) : Nat → Int → Int
  | 0 => a
  | k + 1 => if sJob (alI a j k) (a 66 - 1 - k) = j then alI a j k else clF (alI a j k) (a 66 - 1 - k)
def alF (a : Int → Int) (j : Int) : Int → Int := alI a j (a 66).toNat
theorem alI_ok {a : Int → Int} (h : OkA a) (j : Int) : ∀ k : Nat, (k : Int) ≤ a 66 → OkA (alI a j k) ∧ a 66 - k ≤ alI a j k 66 ∧ alI a j k 66 ≤ a 66 ∧ alI a j k 45 = a 45
  | 0, _ => by refine ⟨h, ?_, ?_, rfl⟩ <;> simp [alI]
  | k + 1, hk => by
    obtain ⟨h1, h2, h3, h4⟩ := alI_ok h j k (by omega)
    simp only [alI]
    split
    · exact ⟨h1, by omega, h3, h4⟩
    · refine ⟨clF_ok h1 (by omega) (by omega), ?_, ?_, ?_⟩
      · rw [clF_n]; omega
      · rw [clF_n]; omega
      · rw [clF_lo (by omega) (by omega) (by decide)]; exact h4
theorem alI_out {a : Int → Int} (h : OkA a) (j : Int) {i : Int} (hi : ¬ (0 ≤ i ∧ i < 447)) : ∀ k : Nat, (k : Int) ≤ a 66 → alI a j k i = a i
  | 0, _ => rfl
  | k + 1, hk => by
    obtain ⟨h1, h2, h3, h4⟩ := alI_ok h j k (by omega)
    have hc := h.cnt
    simp only [alI]
    split
    · exact alI_out h j hi k (by omega)
    · rw [clF_out (by omega) (by omega) (by omega) hi]; exact alI_out h j hi k (by omega)
/-- one segment is moved -/
def mvF (a : Int → Int) (g t : Int) : Int → Int := fun i => if i = 66 then a 66 else if 67 + 19 * t ≤ i ∧ i < 67 + 19 * t + 19 then a (i - 19 * t + 19 * g) else if 67 + 19 * t + 19 ≤ i ∧ i < 67 + 19 * a 66 then clF a g (i - 19) else clF a g i
theorem mvF_M {a : Int → Int} {g t h : Int} (h0 : 0 ≤ g) (h1 : g < a 66) (t0 : 0 ≤ t) (t1 : t < a 66) (h2 : 0 ≤ h) (h3 : h < a 66) : sgM a (if h = t then g else if h < t then (if h < g then h else h + 1) else (if h - 1 < g then h - 1 else h)) (if h = t then g else if h < t then (if h < g then h else h + 1) else (if h - 1 < g then h - 1 else h)) (mvF a g t) h := by
  intro d d0 d1
  rw [show ∀ x : Int, (if d = 2 ∨ 11 ≤ d then x else x) = x from fun x => by split <;> rfl]
  unfold mvF
  rw [if_neg (by omega)]
  by_cases q : h = t
  · subst q
    rw [if_pos rfl, if_pos (by omega)]
    congr 1
    omega
  · rw [if_neg q, if_neg (by omega)]
    by_cases q2 : h < t
    · rw [if_pos q2, if_neg (by omega)]
      have := clF_M h0 h1 h2 (by omega) d d0 d1
      rw [this]
      congr 1
      split <;> rfl
    · rw [if_neg q2, if_pos (by omega)]
      have := clF_M h0 h1 (h := h - 1) (by omega) (by omega) d d0 d1
      rw [show 67 + 19 * h + d - 19 = 67 + 19 * (h - 1) + d by omega, this]
      congr 1
      repeat' split
      all_goals omega
theorem mvF_ok {a : Int → Int} (h : OkA a) {g t : Int} (h0 : 0 ≤ g) (h1 : g < a 66) (t0 : 0 ≤ t) (t1 : t < a 66) : OkA (mvF a g t) := by
  have hc := h.cnt
  have hn : mvF a g t 66 = a 66 := if_pos rfl
  refine OkA_seg h (fun i hi => ?_) (by rw [hn]; omega) (fun k k0 k1 => ?_)
  · unfold mvF
    rw [if_neg (by omega), if_neg (by omega), if_neg (by omega)]
    exact clF_lo h0 h1 hi
  · rw [hn] at k1
    refine ⟨_, _, ?_, ?_, mvF_M h0 h1 t0 t1 k0 k1⟩ <;> (repeat' split) <;> omega
/-- targets exchanged, up to a word -/
def exR (a : Int → Int) (x y : Int) : Int → Int := fun i => if i = y then a x else if i = x then a y else a i
def swX (a : Int → Int) (g h m : Int) : Int → Int := fun i => if i = 67 + 19 * g + 2 ∨ (67 + 19 * g + 11 ≤ i ∧ i < 67 + 19 * g + 3 + m) then a (i - 19 * g + 19 * h) else if i = 67 + 19 * h + 2 ∨ (67 + 19 * h + 11 ≤ i ∧ i < 67 + 19 * h + 3 + m) then a (i - 19 * h + 19 * g) else a i
theorem swX_0 {a : Int → Int} {g h : Int} : exR a (67 + 19 * g + 2) (67 + 19 * h + 2) = swX a g h 8 := by
  funext i
  unfold exR swX
  by_cases q1 : i = 67 + 19 * h + 2
  · rw [if_pos q1]
    by_cases q2 : g = h
    · subst q2
      rw [if_pos (by omega)]
      exact congrArg a (by omega)
    · rw [if_neg (by omega), if_pos (Or.inl q1)]
      exact congrArg a (by omega)
  · rw [if_neg q1]
    by_cases q2 : i = 67 + 19 * g + 2
    · rw [if_pos q2, if_pos (Or.inl q2)]
      exact congrArg a (by omega)
    · rw [if_neg q2, if_neg (by omega), if_neg (by omega)]
theorem swX_s {a : Int → Int} {g h m : Int} (m0 : 8 ≤ m) (m1 : m < 16) : exR (swX a g h m) (67 + 19 * g + 3 + m) (67 + 19 * h + 3 + m) = swX a g h (m + 1) := by
  funext i
  unfold exR
  by_cases q1 : i = 67 + 19 * h + 3 + m
  · rw [if_pos q1]
    unfold swX
    rw [if_neg (by omega), if_neg (by omega)]
    by_cases q2 : g = h
    · subst q2
      rw [if_pos (by omega)]
      exact congrArg a (by omega)
    · rw [if_neg (by omega), if_pos (by omega)]
      exact congrArg a (by omega)
  · rw [if_neg q1]
    by_cases q2 : i = 67 + 19 * g + 3 + m
    · rw [if_pos q2]
      unfold swX
      rw [if_neg (by omega), if_neg (by omega), if_pos (by omega)]
      exact congrArg a (by omega)
    · rw [if_neg q2]
      unfold swX
      by_cases q3 : i = 67 + 19 * g + 2 ∨ (67 + 19 * g + 11 ≤ i ∧ i < 67 + 19 * g + 3 + m)
      · rw [if_pos q3, if_pos (by omega)]
      · rw [if_neg q3, if_neg (c := i = 67 + 19 * g + 2 ∨ _) (by omega)]
        by_cases q4 : i = 67 + 19 * h + 2 ∨ (67 + 19 * h + 11 ≤ i ∧ i < 67 + 19 * h + 3 + m)
        · rw [if_pos q4, if_pos (by omega)]
        · rw [if_neg q4, if_neg (by omega)]
theorem swX_M {a : Int → Int} {g h k : Int} (g0 : 0 ≤ g) (h0 : 0 ≤ h) (k0 : 0 ≤ k) : sgM a k (if k = g then h else if k = h then g else k) (swX a g h 16) k := by
  intro d d0 d1
  unfold swX
  by_cases q : d = 2 ∨ 11 ≤ d
  · rw [if_pos q]
    by_cases q1 : k = g
    · rw [if_pos q1, if_pos (by omega)]
      exact congrArg a (by omega)
    · rw [if_neg q1, if_neg (by omega)]
      by_cases q2 : k = h
      · rw [if_pos q2, if_pos (by omega)]
        exact congrArg a (by omega)
      · rw [if_neg q2, if_neg (by omega)]
  · rw [if_neg q, if_neg (by omega), if_neg (by omega)]
theorem swX_ok {a : Int → Int} (ha : OkA a) {g h : Int} (g0 : 0 ≤ g) (g1 : g < a 66) (h0 : 0 ≤ h) (h1 : h < a 66) : OkA (swX a g h 16) := by
  have hc := ha.cnt
  have e : ∀ i : Int, i < 67 → swX a g h 16 i = a i := by
    intro i hi
    unfold swX
    rw [if_neg (by omega), if_neg (by omega)]
  refine OkA_seg ha (fun i hi => e i (by omega)) (by rw [e 66 (by decide)]; omega) (fun k k0 k1 => ?_)
  rw [e 66 (by decide)] at k1
  refine ⟨_, _, ⟨k0, k1⟩, ?_, swX_M g0 h0 k0⟩
  repeat' split
  all_goals omega
/-- the rows kept for undo -/
def HsT (τ : TS) (l : List (Int → Int)) : Prop := τ 4 0 = (l.length : Int) ∧ l.length ≤ 10 ∧ ∀ (e : Nat) (r : Int → Int), l[e]? = some r → ∀ i : Int, 0 ≤ i → i < 447 → τ 3 (447 * (e : Int) + i) = r i
theorem HsT_q {ks : List Nat} {σ τ : TS} {l : List (Int → Int)} (h : eqx ks σ τ) (f : HsT σ l) (h0 : 3 ∉ ks) (h1 : 4 ∉ ks) : HsT τ l := by
  unfold HsT
  rw [h 3 h0, h 4 h1]
  exact f
theorem HsT_k {σ τ : TS} {l : List (Int → Int)} (h3 : τ 3 = σ 3) (h4 : τ 4 0 = σ 4 0) (f : HsT σ l) : HsT τ l := by
  unfold HsT
  rw [h3, h4]
  exact f
def hbF (l : List (Int → Int)) : List (Int → Int) := if l.length = 10 then l.drop 1 else l
def rmF (l : List (Int → Int)) (a : Int → Int) : List (Int → Int) := hbF l ++ [a]
theorem hbF_n {l : List (Int → Int)} (h : l.length ≤ 10) : (hbF l).length ≤ 9 := by
  unfold hbF
  split
  · simp; omega
  · omega
theorem rmF_n {l : List (Int → Int)} {a : Int → Int} (h : l.length ≤ 10) : (rmF l a).length ≤ 10 := by
  have := hbF_n h
  unfold rmF
  simp
  omega
theorem HsT_drop {σ τ : TS} {l : List (Int → Int)} (h : HsT σ l) (h10 : l.length = 10) (h3 : ∀ i : Int, 0 ≤ i → i < 4023 → τ 3 i = σ 3 (i + 447)) (h4 : τ 4 0 = 9) : HsT τ (hbF l) := by
  have e : hbF l = l.drop 1 := if_pos h10
  rw [e]
  refine ⟨by rw [h4, List.length_drop, h10]; rfl, by rw [List.length_drop, h10]; decide, fun k r hr i i0 i1 => ?_⟩
  rw [List.getElem?_drop] at hr
  have hk := (List.getElem?_eq_some_iff.mp hr).1
  have := h.2.2 _ r hr i i0 i1
  rw [h3 _ (by omega) (by omega), ← this]
  congr 1
  omega
theorem HsT_same {σ : TS} {l : List (Int → Int)} (h : HsT σ l) (h10 : ¬ l.length = 10) : HsT σ (hbF l) := by
  have e : hbF l = l := if_neg h10
  rw [e]
  exact h
theorem HsT_put {σ τ : TS} {l : List (Int → Int)} {i v : Int} (h : HsT σ l) (e : τ = up σ 3 (447 * (l.length : Int) + i) v) (i0 : 0 ≤ i) : HsT τ l := by
  refine ⟨by rw [up_keep 4 e (by decide)]; exact h.1, h.2.1, fun k r hr j j0 j1 => ?_⟩
  have hk := (List.getElem?_eq_some_iff.mp hr).1
  rw [e, up_s]
  unfold zup
  rw [if_neg (by omega)]
  exact h.2.2 k r hr j j0 j1
theorem HsT_add {σ τ : TS} {l : List (Int → Int)} {a : Int → Int} (h : HsT σ l) (hn : l.length ≤ 9) (ha : ∀ i : Int, 0 ≤ i → i < 447 → σ 3 (447 * (l.length : Int) + i) = a i) (e : τ = up σ 4 0 ((l.length : Int) + 1)) : HsT τ (l ++ [a]) := by
  refine ⟨by rw [up_get e]; simp, by simp; omega, fun k r hr j j0 j1 => ?_⟩
  rw [up_k e (by decide)]
  by_cases hk : k < l.length
  · rw [List.getElem?_append_left hk] at hr
    exact h.2.2 k r hr j j0 j1
  · have h4 := (List.getElem?_eq_some_iff.mp hr).1
    simp at h4
    have hk2 : k = l.length := by omega
    subst hk2
    simp at hr
    subst hr
    exact ha j j0 j1
theorem HsT_pop {σ τ : TS} {l : List (Int → Int)} (h : HsT σ l) (hn : l ≠ []) (h3 : τ 3 = σ 3) (h4 : τ 4 0 = (l.length : Int) - 1) : HsT τ l.dropLast := by
  have hp : 0 < l.length := List.length_pos_iff.mpr hn
  have := h.2.1
  refine ⟨by rw [h4, List.length_dropLast]; omega, by rw [List.length_dropLast]; omega, fun k r hr i i0 i1 => ?_⟩
  rw [h3]
  rw [List.getElem?_dropLast] at hr
  split at hr
  · exact h.2.2 k r hr i i0 i1
  · exact absurd hr (by simp)
theorem HsT_last {σ : TS} {l : List (Int → Int)} {r : Int → Int} (h : HsT σ l) (hr : l.getLast? = some r) (i : Int) (i0 : 0 ≤ i) (i1 : i < 447) : σ 3 (447 * ((l.length : Int) - 1) + i) = r i := by
  rw [List.getLast?_eq_getElem?] at hr
  have hk := (List.getElem?_eq_some_iff.mp hr).1
  have := h.2.2 _ r hr i i0 i1
  rw [← this]
  congr 1
  omega
/-- a job set anew -/
def sjF (a : Int → Int) (j t r h : Int) : Int → Int := zup (zup (zup a (46 + 4 * j + 0) t) (46 + 4 * j + 1) r) (46 + 4 * j + 2) h
/-- what lies outside of a row is nought -/
def cut (a : Int → Int) : Prop := ∀ i : Int, ¬ (0 ≤ i ∧ i < 447) → a i = 0
def tgI (a : Int → Int) (j : Int) : Nat → Int
  | 0 => 0
  | n + 1 => if pmF a j ((n : Int) + 1) = 0 then tgI a j n else (n : Int) + 1
def tgF (a : Int → Int) (j : Int) : Int := if 0 < tgI a j 99 then tgI a j 99 else -1
noncomputable def lgI (a : Int → Int) (g f : Int) : Nat → Int
  | 0 => 0
  | k + 1 => lgI a g f k + cif (lkP a g k f) 1 0
noncomputable def lbI (a : Int → Int) (j f : Int) : Nat → Int
  | 0 => 0
  | g + 1 => lbI a j f g + (if sJob a g = j then lgI a g f (sLen a g 0).toNat else 0)
noncomputable def lbF (a : Int → Int) (j f : Int) : Int := lbI a j f (a 66).toNat
theorem lgI_r (a : Int → Int) (g f : Int) : ∀ k : Nat, 0 ≤ lgI a g f k ∧ lgI a g f k ≤ k
  | 0 => by simp only [lgI]; omega
  | k + 1 => by
    have h1 := lgI_r a g f k
    simp only [lgI]
    by_cases h : lkP a g k f
    · rw [cif_t h]; omega
    · rw [cif_f h]; omega
theorem lbI_r {a : Int → Int} (h : OkA a) (j f : Int) : ∀ g : Nat, (g : Int) ≤ a 66 → 0 ≤ lbI a j f g ∧ lbI a j f g ≤ 8 * g
  | 0, _ => by simp only [lbI]; omega
  | g + 1, hg => by
    have h1 := lbI_r h j f g (by omega)
    have h2 := lgI_r a g f (sLen a g 0).toNat
    have h3 := h.len g 0 (by omega) (by omega)
    simp only [lbI]
    split <;> omega
theorem lbF_r {a : Int → Int} (h : OkA a) (j f : Int) : 0 ≤ lbF a j f ∧ lbF a j f ≤ 160 := by
  have h1 := h.cnt
  have := lbI_r h j f (a 66).toNat (by omega)
  unfold lbF
  omega
noncomputable def bfI (a : Int → Int) (j : Int) : Nat → Int
  | 0 => 0
  | f + 1 => if lbF a j ((f : Int) + 1) ≤ lbF a j (bfI a j f) then (f : Int) + 1 else bfI a j f
theorem bfI_r (a : Int → Int) (j : Int) : ∀ f : Nat, 0 ≤ bfI a j f ∧ bfI a j f ≤ f
  | 0 => by simp only [bfI]; omega
  | f + 1 => by
    have h1 := bfI_r a j f
    simp only [bfI]
    split <;> omega
noncomputable def bfF (a : Int → Int) (j : Int) : Int := bfI a j (a 20).toNat
