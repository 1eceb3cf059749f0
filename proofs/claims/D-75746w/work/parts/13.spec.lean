/-! WHAT IS COMPUTED: an office is its row of numbers a (0..3 settings, 4..8 percentages, 9 persons, 10+2p name, 11+2p capacity, 20 terms, 21+2t word, 22+2t said, 45 jobs, 46+4j.., 66 segments, 67+19g..) -/
set_option maxRecDepth 100000
/-- a word of letters by its number -/
def cdW : List Int → Int → Int
  | [], acc => acc
  | c :: l, acc => cdW l (27 * acc + (c - 96))
def isLt (c : Int) : Prop := 97 ≤ c ∧ c ≤ 122
def okW (w : List Int) : Prop := 1 ≤ w.length ∧ w.length ≤ 8 ∧ ∀ c ∈ w, isLt c
def isWd (x : Int) : Prop := ∃ w : List Int, okW w ∧ cdW w 0 = x
theorem cdW_lo : ∀ (w : List Int) (acc : Int), 0 ≤ acc → (∀ c ∈ w, isLt c) → acc ≤ cdW w acc
  | [], acc, h, _ => Int.le_refl _
  | c :: l, acc, h, hc => by
    have h1 := hc c List.mem_cons_self
    unfold isLt at h1
    have h2 := cdW_lo l (27 * acc + (c - 96)) (by omega) (fun x hx => hc x (List.mem_cons_of_mem _ hx))
    simp only [cdW]
    omega
theorem cdW_hi : ∀ (w : List Int) (acc B : Int), 0 ≤ acc → acc ≤ B → (∀ c ∈ w, isLt c) → cdW w acc ≤ cdW (w.map (fun _ => 122)) B
  | [], acc, B, _, h, _ => h
  | c :: l, acc, B, h0, h, hc => by
    have h1 := hc c List.mem_cons_self
    unfold isLt at h1
    show cdW l (27 * acc + (c - 96)) ≤ cdW (l.map (fun _ => 122)) (27 * B + (122 - 96))
    exact cdW_hi l _ _ (by omega) (by omega) (fun x hx => hc x (List.mem_cons_of_mem _ hx))
theorem isWd_r {x : Int} (h : isWd x) : 1 ≤ x ∧ x < 282429536481 := by
  obtain ⟨w, ⟨h1, h2, h3⟩, rfl⟩ := h
  match w, h1, h2, h3 with
  | c :: l, _, h2, h3 =>
    have hc := h3 c List.mem_cons_self
    unfold isLt at hc
    constructor
    · have := cdW_lo l (27 * 0 + (c - 96)) (by omega) (fun x hx => h3 x (List.mem_cons_of_mem _ hx))
      simp only [cdW]
      omega
    · have h4 := cdW_hi (c :: l) 0 0 (by omega) (by omega) h3
      have h5 : ∀ n : Nat, n ≤ 8 → cdW ((List.replicate n (122 : Int))) 0 < 282429536481 := by decide +kernel
      have h6 := h5 _ h2
      rw [List.map_const'] at h4
      omega
def sJob (a : Int → Int) (g : Int) : Int := a (67 + 19 * g)
def sLen (a : Int → Int) (g t : Int) : Int := a (67 + 19 * g + (if t = 0 then 1 else 2))
def sWd (a : Int → Int) (g k t : Int) : Int := a (67 + 19 * g + 3 + (if t = 0 then 0 else 8) + k)
def jOf (a : Int → Int) (j w : Int) : Int := a (46 + 4 * j + w)
def tWd (a : Int → Int) (t s : Int) : Int := a (21 + 2 * t + (if s = 0 then 0 else 1))
def pNm (a : Int → Int) (p : Int) : Int := a (10 + 2 * p)
def pCp (a : Int → Int) (p : Int) : Int := a (10 + 2 * p + 1)
def OkA (a : Int → Int) : Prop :=
  ((0 ≤ a 0 ∧ a 0 ≤ 999) ∧ (1 ≤ a 1 ∧ a 1 ≤ 999) ∧ (0 ≤ a 2 ∧ a 2 ≤ 100) ∧ (0 ≤ a 3 ∧ a 3 ≤ 999)) ∧
  (∀ b : Int, 0 ≤ b → b < 5 → 0 ≤ a (4 + b) ∧ a (4 + b) ≤ 100) ∧
  ((0 ≤ a 9 ∧ a 9 ≤ 5) ∧ (0 ≤ a 20 ∧ a 20 ≤ 12) ∧ (0 ≤ a 45 ∧ a 45 ≤ 5) ∧ (0 ≤ a 66 ∧ a 66 ≤ 20)) ∧
  (∀ p : Int, 0 ≤ p → p < a 9 → isWd (pNm a p) ∧ 0 ≤ pCp a p ∧ pCp a p ≤ 9999) ∧
  (∀ t s : Int, 0 ≤ t → t < a 20 → isWd (tWd a t s)) ∧
  (∀ j : Int, 0 ≤ j → j < a 45 → (0 ≤ jOf a j 0 ∧ jOf a j 0 < a 9) ∧ (0 ≤ jOf a j 1 ∧ jOf a j 1 < a 9) ∧ (1 ≤ jOf a j 2 ∧ jOf a j 2 ≤ 99) ∧ (0 ≤ jOf a j 3 ∧ jOf a j 3 ≤ a 20)) ∧
  (∀ g : Int, 0 ≤ g → g < a 66 → (0 ≤ sJob a g ∧ sJob a g < a 45) ∧ (1 ≤ sLen a g 0 ∧ sLen a g 0 ≤ 8) ∧ (1 ≤ sLen a g 1 ∧ sLen a g 1 ≤ 8)) ∧
  (∀ g k t : Int, 0 ≤ g → g < a 66 → 0 ≤ k → k < sLen a g t → isWd (sWd a g k t))
theorem OkA.set {a : Int → Int} (h : OkA a) : (0 ≤ a 0 ∧ a 0 ≤ 999) ∧ (1 ≤ a 1 ∧ a 1 ≤ 999) ∧ (0 ≤ a 2 ∧ a 2 ≤ 100) ∧ (0 ≤ a 3 ∧ a 3 ≤ 999) := h.1
theorem OkA.pct {a : Int → Int} (h : OkA a) (b : Int) (h1 : 0 ≤ b) (h2 : b < 5) : 0 ≤ a (4 + b) ∧ a (4 + b) ≤ 100 := h.2.1 b h1 h2
theorem OkA.cnt {a : Int → Int} (h : OkA a) : (0 ≤ a 9 ∧ a 9 ≤ 5) ∧ (0 ≤ a 20 ∧ a 20 ≤ 12) ∧ (0 ≤ a 45 ∧ a 45 ≤ 5) ∧ (0 ≤ a 66 ∧ a 66 ≤ 20) := h.2.2.1
theorem OkA.per {a : Int → Int} (h : OkA a) (p : Int) (h1 : 0 ≤ p) (h2 : p < a 9) : isWd (pNm a p) ∧ 0 ≤ pCp a p ∧ pCp a p ≤ 9999 := h.2.2.2.1 p h1 h2
theorem OkA.term {a : Int → Int} (h : OkA a) (t s : Int) (h1 : 0 ≤ t) (h2 : t < a 20) : isWd (tWd a t s) := h.2.2.2.2.1 t s h1 h2
theorem OkA.job {a : Int → Int} (h : OkA a) (j : Int) (h1 : 0 ≤ j) (h2 : j < a 45) : (0 ≤ jOf a j 0 ∧ jOf a j 0 < a 9) ∧ (0 ≤ jOf a j 1 ∧ jOf a j 1 < a 9) ∧ (1 ≤ jOf a j 2 ∧ jOf a j 2 ≤ 99) ∧ (0 ≤ jOf a j 3 ∧ jOf a j 3 ≤ a 20) := h.2.2.2.2.2.1 j h1 h2
theorem OkA.seg {a : Int → Int} (h : OkA a) (g : Int) (h1 : 0 ≤ g) (h2 : g < a 66) : (0 ≤ sJob a g ∧ sJob a g < a 45) ∧ (1 ≤ sLen a g 0 ∧ sLen a g 0 ≤ 8) ∧ (1 ≤ sLen a g 1 ∧ sLen a g 1 ≤ 8) := h.2.2.2.2.2.2.1 g h1 h2
theorem sLen_1 {a : Int → Int} {g t : Int} (h : ¬ t = 0) : sLen a g t = sLen a g 1 := by unfold sLen; rw [if_neg h, if_neg (by omega)]
theorem sWd_1 {a : Int → Int} {g k t : Int} (h : ¬ t = 0) : sWd a g k t = sWd a g k 1 := by unfold sWd; rw [if_neg h, if_neg (by omega)]
theorem OkA.len {a : Int → Int} (h : OkA a) (g t : Int) (h1 : 0 ≤ g) (h2 : g < a 66) : 1 ≤ sLen a g t ∧ sLen a g t ≤ 8 := by
  have h3 := h.seg g h1 h2
  by_cases ht : t = 0
  · subst ht; exact h3.2.1
  · rw [sLen_1 ht]; exact h3.2.2
theorem OkA.wrd {a : Int → Int} (h : OkA a) (g k t : Int) (h1 : 0 ≤ g) (h2 : g < a 66) (h3 : 0 ≤ k) (h4 : k < sLen a g t) : isWd (sWd a g k t) := h.2.2.2.2.2.2.2 g k t h1 h2 h3 h4
-- the fewest steps
def edD (x y : Nat → Int) : Nat → Nat → Int
  | 0, k => k
  | i + 1, 0 => (i : Int) + 1
  | i + 1, k + 1 => min (edD x y i k + (if x i = y k then 0 else 1)) (1 + min (edD x y i (k + 1)) (edD x y (i + 1) k))
theorem edD_r (x y : Nat → Int) : ∀ i k : Nat, 0 ≤ edD x y i k ∧ edD x y i k ≤ max (i : Int) k
  | 0, k => by simp only [edD]; omega
  | i + 1, 0 => by simp only [edD]; omega
  | i + 1, k + 1 => by
    have h1 := edD_r x y i k
    have h2 := edD_r x y i (k + 1)
    have h3 := edD_r x y (i + 1) k
    simp only [edD]
    split <;> omega
def dstF (a : Int → Int) (g o : Int) : Int := edD (fun i => sWd a g i 0) (fun k => sWd a o k 0) (sLen a g 0).toNat (sLen a o 0).toNat
def simF (a : Int → Int) (g o : Int) : Int := 100 * (max (sLen a g 0) (sLen a o 0) - dstF a g o) / max (sLen a g 0) (sLen a o 0)
theorem dstF_r {a : Int → Int} {g o : Int} (h1 : 1 ≤ sLen a g 0) (h2 : 1 ≤ sLen a o 0) : 0 ≤ dstF a g o ∧ dstF a g o ≤ max (sLen a g 0) (sLen a o 0) := by
  have := edD_r (fun i => sWd a g i 0) (fun k => sWd a o k 0) (sLen a g 0).toNat (sLen a o 0).toNat
  unfold dstF
  omega
theorem simF_r {a : Int → Int} {g o : Int} (h1 : 1 ≤ sLen a g 0) (h2 : 1 ≤ sLen a o 0) : 0 ≤ simF a g o ∧ simF a g o ≤ 100 := by
  have h3 := dstF_r h1 h2
  unfold simF
  generalize hm : max (sLen a g 0) (sLen a o 0) = m at *
  have hm1 : 1 ≤ m := by omega
  constructor
  · exact Int.ediv_nonneg (by omega) (by omega)
  · refine Int.ediv_le_of_le_mul (by omega) ?_
    omega
def mdI (a : Int → Int) (g : Int) : Nat → Int × Int
  | 0 => (-1, 0)
  | k + 1 => if simF a g k ≥ (mdI a g k).2 then (k, simF a g k) else mdI a g k
def mdF (a : Int → Int) (g : Int) : Int := (mdI a g g.toNat).1
theorem mdI_r (a : Int → Int) (g : Int) : ∀ k : Nat, -1 ≤ (mdI a g k).1 ∧ (mdI a g k).1 < k
  | 0 => by simp only [mdI]; omega
  | k + 1 => by
    have := mdI_r a g k
    simp only [mdI]
    split <;> (try simp only) <;> omega
theorem mdF_r {a : Int → Int} {g : Int} (h : 0 ≤ g) : -1 ≤ mdF a g ∧ mdF a g < g := by
  have := mdI_r a g g.toNat
  unfold mdF
  omega
noncomputable def mtF (a : Int → Int) (g : Int) : Int := if mdF a g = -1 then 0 else simF a g (mdF a g)
noncomputable def bdF (a : Int → Int) (g : Int) : Int := if mtF a g = 100 then 4 else if mtF a g ≥ 85 then 3 else if mtF a g ≥ 70 then 2 else if mtF a g ≥ 50 then 1 else 0
theorem bdF_r (a : Int → Int) (g : Int) : 0 ≤ bdF a g ∧ bdF a g ≤ 4 := by
  unfold bdF
  repeat' split
  all_goals omega
theorem mtF_r {a : Int → Int} (h : OkA a) {g : Int} (h1 : 0 ≤ g) (h2 : g < a 66) : 0 ≤ mtF a g ∧ mtF a g ≤ 100 := by
  unfold mtF
  split
  · omega
  · have := mdF_r (a := a) h1
    exact simF_r (h.seg g h1 h2).2.1.1 (h.seg (mdF a g) (by omega) (by omega)).2.1.1

theorem bdF_ret {a : Int → Int} {g m v : Int} (h : m = mtF a g) (h2 : (m = 100 ∧ v = 4) ∨ (¬ m = 100 ∧ 85 ≤ m ∧ v = 3) ∨ (¬ m = 100 ∧ m < 85 ∧ 70 ≤ m ∧ v = 2) ∨ (m < 70 ∧ 50 ≤ m ∧ v = 1) ∨ (m < 50 ∧ v = 0)) : v = bdF a g ∧ 0 ≤ v ∧ v ≤ 4 := by
  have e : v = bdF a g := by
    unfold bdF
    rw [← h]
    repeat' split
    all_goals omega
  have := bdF_r a g
  exact ⟨e, by omega⟩
