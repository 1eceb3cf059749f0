/-! WHAT IS COMPUTED: bands, hours, pay -/
set_option maxRecDepth 100000
noncomputable def bnI (a : Int → Int) (j : Int) : Nat → Int → Int
  | 0 => fun _ => 0
  | k + 1 => if sJob a k = j then zup (bnI a j k) (bdF a k) (bnI a j k (bdF a k) + sLen a k 0) else bnI a j k
noncomputable def bnF (a : Int → Int) (j : Int) : Int → Int := bnI a j (a 66).toNat
theorem bnI_r {a : Int → Int} (h : OkA a) (j : Int) : ∀ (k : Nat), (k : Int) ≤ a 66 → ∀ b : Int, 0 ≤ bnI a j k b ∧ bnI a j k b ≤ 8 * k
  | 0, _, b => by simp only [bnI]; omega
  | k + 1, hk, b => by
    have h1 := fun b => bnI_r h j k (by omega) b
    have h2 := h.seg k (by omega) (by omega)
    simp only [bnI]
    split
    · unfold zup
      have h3 := h1 (bdF a k)
      have h4 := h1 b
      split <;> omega
    · have := h1 b
      omega
theorem bnF_r {a : Int → Int} (h : OkA a) (j b : Int) : 0 ≤ bnF a j b ∧ bnF a j b ≤ 160 := by
  have h1 := h.cnt
  have := bnI_r h j (a 66).toNat (by omega) b
  unfold bnF
  omega
def wjI (a : Int → Int) (j : Int) : Nat → Int
  | 0 => 0
  | k + 1 => if sJob a k = j then wjI a j k + sLen a k 0 else wjI a j k
def wjF (a : Int → Int) (j : Int) : Int := wjI a j (a 66).toNat
theorem wjI_r {a : Int → Int} (h : OkA a) (j : Int) : ∀ (k : Nat), (k : Int) ≤ a 66 → 0 ≤ wjI a j k ∧ wjI a j k ≤ 8 * k
  | 0, _ => by simp only [wjI]; omega
  | k + 1, hk => by
    have h1 := wjI_r h j k (by omega)
    have h2 := h.seg k (by omega) (by omega)
    simp only [wjI]
    split <;> omega
theorem wjF_r {a : Int → Int} (h : OkA a) (j : Int) : 0 ≤ wjF a j ∧ wjF a j ≤ 160 := by
  have h1 := h.cnt
  have := wjI_r h j (a 66).toNat (by omega)
  unfold wjF
  omega
def sgI (a : Int → Int) (j : Int) : Nat → Int
  | 0 => 0
  | k + 1 => if sJob a k = j then sgI a j k + 1 else sgI a j k
def sgF (a : Int → Int) (j : Int) : Int := sgI a j (a 66).toNat
theorem sgI_r (a : Int → Int) (j : Int) : ∀ (k : Nat), 0 ≤ sgI a j k ∧ sgI a j k ≤ k
  | 0 => by simp only [sgI]; omega
  | k + 1 => by
    have h1 := sgI_r a j k
    simp only [sgI]
    split <;> omega
noncomputable def bsT (a : Int → Int) (j b : Int) : Int := bnF a j b * a 0 * a (4 + b) / 100
noncomputable def bsI (a : Int → Int) (j : Int) : Nat → Int
  | 0 => 0
  | b + 1 => bsI a j b + bsT a j b
noncomputable def bsF (a : Int → Int) (j : Int) : Int := bsI a j 5
theorem z_mul {x y X Y : Int} (h1 : 0 ≤ x) (h2 : x ≤ X) (h3 : 0 ≤ y) (h4 : y ≤ Y) : 0 ≤ x * y ∧ x * y ≤ X * Y := ⟨Int.mul_nonneg h1 h3, Int.mul_le_mul h2 h4 h3 (by omega)⟩
theorem bsP_r {a : Int → Int} (h : OkA a) (j b : Int) (h0 : 0 ≤ b) (h5 : b < 5) : 0 ≤ bnF a j b * a 0 * a (4 + b) ∧ bnF a j b * a 0 * a (4 + b) ≤ 15984000 := by
  have h1 := bnF_r h j b
  have h2 := h.set.1
  have h3 := h.pct b h0 h5
  have h4 := z_mul h1.1 h1.2 h2.1 h2.2
  have h6 := z_mul h4.1 h4.2 h3.1 h3.2
  omega
theorem bsT_r {a : Int → Int} (h : OkA a) (j b : Int) (h0 : 0 ≤ b) (h5 : b < 5) : 0 ≤ bsT a j b ∧ bsT a j b ≤ 159840 := by
  have := bsP_r h j b h0 h5
  unfold bsT
  omega
theorem bsI_r {a : Int → Int} (h : OkA a) (j : Int) : ∀ b : Nat, b ≤ 5 → 0 ≤ bsI a j b ∧ bsI a j b ≤ 159840 * b
  | 0, _ => by simp only [bsI]; omega
  | b + 1, hb => by
    have h1 := bsI_r h j b (by omega)
    have h2 := bsT_r h j b (by omega) (by omega)
    simp only [bsI]
    omega
theorem bsF_r {a : Int → Int} (h : OkA a) (j : Int) : 0 ≤ bsF a j ∧ bsF a j ≤ 799200 := by
  have := bsI_r h j 5 (by omega)
  unfold bsF
  omega
def hrF (a : Int → Int) (j : Int) : Int := (wjF a j + a 1 - 1) / a 1
theorem hrF_r {a : Int → Int} (h : OkA a) (j : Int) : 0 ≤ hrF a j ∧ hrF a j ≤ 1158 := by
  have h1 := wjF_r h j
  have h2 := h.set.2.1
  unfold hrF
  constructor
  · exact Int.ediv_nonneg (by omega) (by omega)
  · refine Int.ediv_le_of_le_mul (by omega) ?_
    have := z_mul (x := 1158) (y := a 1 - 1) (X := 1158) (Y := 998) (by omega) (by omega) (by omega) (by omega)
    have e : 1158 * (a 1 - 1) = 1158 * a 1 - 1158 := by omega
    omega
def pmF (a : Int → Int) (j d : Int) : Int := if hrF a j - d ≤ 0 then 0 else min 100 (a 2 * (hrF a j - d))
theorem pmF_r {a : Int → Int} (h : OkA a) (j d : Int) : 0 ≤ pmF a j d ∧ pmF a j d ≤ 100 := by
  have h2 := h.set.2.2.1
  unfold pmF
  split
  · omega
  · have := Int.mul_nonneg h2.1 (show 0 ≤ hrF a j - d by omega)
    omega
noncomputable def exF (a : Int → Int) (j : Int) : Int := bsF a j * pmF a j (jOf a j 2) / 100
theorem exP_r {a : Int → Int} (h : OkA a) (j : Int) : 0 ≤ bsF a j * pmF a j (jOf a j 2) ∧ bsF a j * pmF a j (jOf a j 2) ≤ 79920000 := by
  have h1 := bsF_r h j
  have h2 := pmF_r h j (jOf a j 2)
  have := z_mul h1.1 h1.2 h2.1 h2.2
  omega
theorem exF_r {a : Int → Int} (h : OkA a) (j : Int) : 0 ≤ exF a j ∧ exF a j ≤ 799200 := by
  have := exP_r h j
  unfold exF
  omega
noncomputable def trF (a : Int → Int) (j : Int) : Int := bsF a j + exF a j
noncomputable def rsF (a : Int → Int) (j : Int) : Int := bnF a j 0 + bnF a j 1 + bnF a j 2 + bnF a j 3
noncomputable def rvF (a : Int → Int) (j : Int) : Int := a 3 * rsF a j
theorem trF_r {a : Int → Int} (h : OkA a) (j : Int) : 0 ≤ trF a j ∧ trF a j ≤ 1598400 := by
  have h1 := bsF_r h j
  have h2 := exF_r h j
  unfold trF
  omega
theorem rsF_r {a : Int → Int} (h : OkA a) (j : Int) : 0 ≤ rsF a j ∧ rsF a j ≤ 640 := by
  have h0 := bnF_r h j 0
  have h1 := bnF_r h j 1
  have h2 := bnF_r h j 2
  have h3 := bnF_r h j 3
  unfold rsF
  omega
theorem rvF_r {a : Int → Int} (h : OkA a) (j : Int) : 0 ≤ rvF a j ∧ rvF a j ≤ 639360 := by
  have h1 := rsF_r h j
  have h2 := h.set.2.2.2
  have := z_mul h2.1 h2.2 h1.1 h1.2
  unfold rvF
  omega
noncomputable def toI (a : Int → Int) : Nat → Int
  | 0 => 0
  | j + 1 => toI a j + (trF a j + rvF a j)
noncomputable def toF (a : Int → Int) : Int := toI a (a 45).toNat
theorem toI_r {a : Int → Int} (h : OkA a) : ∀ j : Nat, 0 ≤ toI a j ∧ toI a j ≤ 2237760 * j
  | 0 => by simp only [toI]; omega
  | j + 1 => by
    have h1 := toI_r h j
    have h2 := trF_r h j
    have h3 := rvF_r h j
    simp only [toI]
    omega
def smR (a : Int → Int) (g h t : Int) : Prop := sLen a g t = sLen a h t ∧ ∀ k : Int, 0 ≤ k → k < sLen a g t → sWd a g k t = sWd a h k t
