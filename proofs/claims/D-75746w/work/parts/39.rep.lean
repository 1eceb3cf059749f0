/-! words and their numbers -/
set_option maxRecDepth 100000
theorem cdW_inj : ∀ (k : Nat) (v w : List Int), v.length = k → (∀ x ∈ v, isLt x) → (∀ x ∈ w, isLt x) → cdW v 0 = cdW w 0 → v = w
  | 0, v, w, hk, hv, hw, h => by
    have e : v = [] := List.eq_nil_of_length_eq_zero hk
    subst e
    match w, hw, h with
    | [], _, _ => rfl
    | c :: l, hw, h =>
      have h1 := cdW_1 (w2 := c :: l) (by simp) hw
      have h2 : cdW [] 0 = 0 := rfl
      omega
  | k + 1, v, w, hk, hv, hw, h => by
    obtain ⟨v2, c, rfl, hv2⟩ := lst_cat hk
    have hvc := hv c (by simp)
    have hvl : ∀ x ∈ v2, isLt x := fun x hx => hv x (by simp [hx])
    obtain ⟨a1, a2, a3, a4⟩ := cdW_cat hvc hvl
    match hm : w.length with
    | 0 =>
      have e : w = [] := List.eq_nil_of_length_eq_zero hm
      subst e
      have h1 := cdW_1 (w2 := v2 ++ [c]) (by simp) hv
      have h2 : cdW [] 0 = 0 := rfl
      omega
    | m + 1 =>
      obtain ⟨w2, d, rfl, hw2⟩ := lst_cat hm
      have hwd := hw d (by simp)
      have hwl : ∀ x ∈ w2, isLt x := fun x hx => hw x (by simp [hx])
      obtain ⟨b1, b2, b3, b4⟩ := cdW_cat hwd hwl
      have e1 : cdW v2 0 = cdW w2 0 := by rw [← a3, ← b3, h]
      have e2 : c = d := by rw [h] at a4; omega
      rw [cdW_inj k v2 w2 hv2 hvl hwl e1, e2]
