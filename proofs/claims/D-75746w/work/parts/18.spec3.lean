/-! WHAT IS COMPUTED: loads, pairs, rules, findings -/
set_option maxRecDepth 100000
def hfF (a : Int → Int) (j : Int) : Int := (wjF a j + 1) / 2
theorem hfF_r {a : Int → Int} (h : OkA a) (j : Int) : 0 ≤ hfF a j ∧ hfF a j ≤ 80 := by
  have := wjF_r h j
  unfold hfF
  omega
def ldI (a : Int → Int) (p b : Int) : Nat → Int
  | 0 => 0
  | j + 1 => if (j : Int) = b then ldI a p b j else ldI a p b j + (if jOf a j 0 = p then wjF a j else 0) + (if jOf a j 1 = p then hfF a j else 0)
def ldF (a : Int → Int) (p b : Int) : Int := ldI a p b (a 45).toNat
theorem ldI_r {a : Int → Int} (h : OkA a) (p b : Int) : ∀ j : Nat, 0 ≤ ldI a p b j ∧ ldI a p b j ≤ 240 * j
  | 0 => by simp only [ldI]; omega
  | j + 1 => by
    have h1 := ldI_r h p b j
    have h2 := wjF_r h j
    have h3 := hfF_r h j
    simp only [ldI]
    repeat' split
    all_goals omega
theorem ldF_r {a : Int → Int} (h : OkA a) (p b : Int) : 0 ≤ ldF a p b ∧ ldF a p b ≤ 1200 := by
  have h1 := h.cnt
  have := ldI_r h p b (a 45).toNat
  unfold ldF
  omega
def prI (a : Int → Int) (t r b : Int) : Nat → Int
  | 0 => 0
  | j + 1 => if ¬ (j : Int) = b ∧ jOf a j 0 = t ∧ jOf a j 1 = r then prI a t r b j + 1 else prI a t r b j
def prF (a : Int → Int) (t r b : Int) : Int := prI a t r b (a 45).toNat
theorem prI_r (a : Int → Int) (t r b : Int) : ∀ j : Nat, 0 ≤ prI a t r b j ∧ prI a t r b j ≤ j
  | 0 => by simp only [prI]; omega
  | j + 1 => by
    have h1 := prI_r a t r b j
    simp only [prI]
    split <;> omega
theorem prF_r {a : Int → Int} (h : OkA a) (t r b : Int) : 0 ≤ prF a t r b ∧ prF a t r b ≤ 5 := by
  have h1 := h.cnt
  have := prI_r a t r b (a 45).toNat
  unfold prF
  omega
def muJ (a : Int → Int) (p : Int) : Nat → Int
  | 0 => 0
  | q + 1 => if 0 < prF a p q (-1) ∧ 0 < prF a q p (-1) then muJ a p q + 1 else muJ a p q
def muI (a : Int → Int) : Nat → Int
  | 0 => 0
  | p + 1 => muI a p + muJ a p p
def muF (a : Int → Int) : Int := muI a (a 9).toNat
theorem muJ_r (a : Int → Int) (p : Int) : ∀ q : Nat, 0 ≤ muJ a p q ∧ muJ a p q ≤ q
  | 0 => by simp only [muJ]; omega
  | q + 1 => by
    have h1 := muJ_r a p q
    simp only [muJ]
    split <;> omega
theorem muI_r (a : Int → Int) : ∀ p : Nat, p ≤ 5 → 0 ≤ muI a p ∧ muI a p ≤ 5 * p
  | 0, _ => by simp only [muI]; omega
  | p + 1, h => by
    have h1 := muI_r a p (by omega)
    have h2 := muJ_r a p p
    simp only [muI]
    omega
def suI (a : Int → Int) (j : Int) : Nat → Int × Int × Int
  | 0 => (-1, 0, 0)
  | p + 1 => if (p : Int) = jOf a j 0 ∨ pCp a p < ldF a p j + hfF a j then suI a j p
    else if (suI a j p).1 = -1 ∨ prF a (jOf a j 0) p j < (suI a j p).2.1 ∨ (prF a (jOf a j 0) p j = (suI a j p).2.1 ∧ ldF a p j < (suI a j p).2.2) then (p, prF a (jOf a j 0) p j, ldF a p j) else suI a j p
def suF (a : Int → Int) (j : Int) : Int := (suI a j (a 9).toNat).1
def rlI (a : Int → Int) (x : Int) : Nat → Int
  | 0 => -1
  | t + 1 => if tWd a t 0 = x then t else rlI a x t
def rlF (a : Int → Int) (x f : Int) : Int := rlI a x f.toNat
theorem rlI_r (a : Int → Int) (x : Int) : ∀ t : Nat, -1 ≤ rlI a x t ∧ rlI a x t < t
  | 0 => by simp only [rlI]; omega
  | t + 1 => by
    have h1 := rlI_r a x t
    simp only [rlI]
    split <;> omega
theorem rlF_r (a : Int → Int) (x : Int) {f : Int} (h : 0 ≤ f) : -1 ≤ rlF a x f ∧ rlF a x f < f := by
  have := rlI_r a x f.toNat
  unfold rlF
  omega
def raF (a : Int → Int) (g k : Int) : Int := rlF a (sWd a g k 0) (jOf a (sJob a g) 3)
theorem raF_r {a : Int → Int} (h : OkA a) {g : Int} (k : Int) (h1 : 0 ≤ g) (h2 : g < a 66) : -1 ≤ raF a g k ∧ raF a g k < a 20 := by
  have h3 := h.seg g h1 h2
  have h4 := h.job (sJob a g) (by omega) (by omega)
  have := rlF_r a (sWd a g k 0) h4.2.2.2.1
  unfold raF
  omega
def vsI (a : Int → Int) (t : Int) : Nat → Int
  | 0 => 0
  | k + 1 => if tWd a k 0 = tWd a t 0 then vsI a t k + 1 else vsI a t k
theorem vsI_r (a : Int → Int) (t : Int) : ∀ k : Nat, 0 ≤ vsI a t k ∧ vsI a t k ≤ k
  | 0 => by simp only [vsI]; omega
  | k + 1 => by
    have h1 := vsI_r a t k
    simp only [vsI]
    split <;> omega
noncomputable def cif {α : Type} (P : Prop) (x y : α) : α := @ite α P (Classical.propDecidable P) x y
theorem cif_t {α : Type} {P : Prop} {x y : α} (h : P) : cif P x y = x := by unfold cif; exact if_pos h
theorem cif_f {α : Type} {P : Prop} {x y : α} (h : ¬ P) : cif P x y = y := by unfold cif; exact if_neg h
def usP (a : Int → Int) (t g n : Int) : Prop := ∃ k : Int, 0 ≤ k ∧ k < n ∧ raF a g k = t
noncomputable def usI (a : Int → Int) (t : Int) : Nat → Int
  | 0 => 0
  | g + 1 => usI a t g + cif (usP a t g (sLen a g 0)) 1 0
noncomputable def rpI (a : Int → Int) (g : Int) : Nat → Int
  | 0 => 0
  | k + 1 => rpI a g k + cif (smR a g k 0) 1 0
theorem usI_r (a : Int → Int) (t : Int) : ∀ k : Nat, 0 ≤ usI a t k ∧ usI a t k ≤ k
  | 0 => by simp only [usI]; omega
  | k + 1 => by
    have h1 := usI_r a t k
    simp only [usI]
    by_cases h : usP a t k (sLen a k 0)
    · rw [cif_t h]; omega
    · rw [cif_f h]; omega
theorem rpI_r (a : Int → Int) (g : Int) : ∀ k : Nat, 0 ≤ rpI a g k ∧ rpI a g k ≤ k
  | 0 => by simp only [rpI]; omega
  | k + 1 => by
    have h1 := rpI_r a g k
    simp only [rpI]
    by_cases h : smR a g k 0
    · rw [cif_t h]; omega
    · rw [cif_f h]; omega
noncomputable def eaI (a : Int → Int) (p : Int) : Nat → Int
  | 0 => 0
  | j + 1 => eaI a p j + (if jOf a j 0 = p then trF a j else 0) + (if jOf a j 1 = p then rvF a j else 0)
theorem eaI_r {a : Int → Int} (h : OkA a) (p : Int) : ∀ j : Nat, 0 ≤ eaI a p j ∧ eaI a p j ≤ 2237760 * j
  | 0 => by simp only [eaI]; omega
  | j + 1 => by
    have h1 := eaI_r h p j
    have h2 := trF_r h j
    have h3 := rvF_r h j
    simp only [eaI]
    repeat' split
    all_goals omega
def fpP (a : Int → Int) (g k : Int) : Prop := ∀ j : Int, 0 ≤ j → j < k → ¬ sWd a g j 0 = sWd a g k 0
def itP (a : Int → Int) (g x : Int) : Prop := ∃ j : Int, 0 ≤ j ∧ j < sLen a g 1 ∧ sWd a g j 1 = x
def lkP (a : Int → Int) (g k f : Int) : Prop := ¬ rlF a (sWd a g k 0) f = -1 ∧ fpP a g k ∧ ¬ itP a g (tWd a (rlF a (sWd a g k 0) f) 1)
abbrev FD : Type := List (Int × Int × Int)
noncomputable def msI (a : Int → Int) (g f : Int) : Nat → FD
  | 0 => []
  | k + 1 => msI a g f k ++ cif (lkP a g k f) [(0, g, (k : Int))] []
noncomputable def ulI (a : Int → Int) (g : Int) : Nat → FD
  | 0 => []
  | o + 1 => ulI a g o ++ cif (smR a g o 0 ∧ ¬ smR a g o 1) [(1, g, (o : Int))] []
noncomputable def stF (a : Int → Int) (g : Int) : FD := cif (bdF a g = 4 ∧ ¬ jOf a (sJob a (mdF a g)) 3 = jOf a (sJob a g) 3) [(2, g, mdF a g)] []
noncomputable def fgF (a : Int → Int) (g : Int) : FD := msI a g (jOf a (sJob a g) 3) (sLen a g 0).toNat ++ ulI a g g.toNat ++ stF a g
noncomputable def fdI (a : Int → Int) : Nat → FD
  | 0 => []
  | g + 1 => fdI a g ++ fgF a g
noncomputable def fdF (a : Int → Int) : FD := fdI a (a 66).toNat
theorem cif_len {P : Prop} {x : Int × Int × Int} : (cif P [x] []).length ≤ 1 := by
  by_cases h : P
  · rw [cif_t h]; simp
  · rw [cif_f h]; simp
theorem msI_r (a : Int → Int) (g f : Int) : ∀ k : Nat, (msI a g f k).length ≤ k
  | 0 => by simp [msI]
  | k + 1 => by
    have h1 := msI_r a g f k
    have h2 := @cif_len (lkP a g k f) (0, g, (k : Int))
    simp only [msI, List.length_append]
    omega
theorem ulI_r (a : Int → Int) (g : Int) : ∀ k : Nat, (ulI a g k).length ≤ k
  | 0 => by simp [ulI]
  | k + 1 => by
    have h1 := ulI_r a g k
    have h2 := @cif_len (smR a g k 0 ∧ ¬ smR a g k 1) (1, g, (k : Int))
    simp only [ulI, List.length_append]
    omega
theorem stF_r (a : Int → Int) (g : Int) : (stF a g).length ≤ 1 := cif_len
theorem fgF_r {a : Int → Int} (h : OkA a) (g : Int) (h1 : 0 ≤ g) (h2 : g < a 66) : (fgF a g).length ≤ 29 := by
  have h3 := h.seg g h1 h2
  have h4 := h.cnt
  have h5 := msI_r a g (jOf a (sJob a g) 3) (sLen a g 0).toNat
  have h6 := ulI_r a g g.toNat
  have h7 := stF_r a g
  unfold fgF
  simp only [List.length_append]
  omega
theorem fdI_r {a : Int → Int} (h : OkA a) : ∀ g : Nat, (g : Int) ≤ a 66 → (fdI a g).length ≤ 29 * g
  | 0, _ => by simp [fdI]
  | g + 1, hg => by
    have h1 := fdI_r h g (by omega)
    have h2 := fgF_r h g (by omega) (by omega)
    simp only [fdI, List.length_append]
    omega
