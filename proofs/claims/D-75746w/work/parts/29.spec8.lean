/-! WHAT IS COMPUTED: what the steps of reading keep -/
set_option maxRecDepth 100000
section
variable {B : Int → Int} {n i lo hi c but : Int} {s s' : PS}
theorem flS_n {t : TkS} {w : Int} : ¬ flS t w = .inl s' := fun h => by
  unfold flS at h
  exact absurd h (by simp)
theorem numS_k (hk : TkOk n s.2) (h : numS B n i lo hi s = .inl s') : (lo ≤ s.2.v ∧ s.2.v ≤ hi) ∧ s.2.k = 3 ∧ s' = (zup s.1 i s.2.v, tkF B n s.2.nx) ∧ TkOk n s'.2 ∧ s.2.nx ≤ s'.2.st := by
  by_cases h1 : s.2.k = 3
  · by_cases h2 : lo ≤ s.2.v ∧ s.2.v ≤ hi
    · have e : numS B n i lo hi s = .inl (zup s.1 i s.2.v, tkF B n s.2.nx) := numS_c h1 h2
      rw [e] at h
      have e2 : s' = (zup s.1 i s.2.v, tkF B n s.2.nx) := (Sum.inl.inj h).symm
      have h3 := hk.2.1
      have h4 := tkF_ok (B := B) (n := n) (p := s.2.nx) (by omega) (by omega)
      subst e2
      exact ⟨h2, h1, rfl, h4.1, h4.2⟩
    · have e : numS B n i lo hi s = flS s.2 3 := numS_b h1 h2
      rw [e] at h; exact absurd h flS_n
  · have e : numS B n i lo hi s = flS s.2 2 := numS_a h1
    rw [e] at h; exact absurd h flS_n
theorem wrdS_k (hk : TkOk n s.2) (h : wrdS B n i s = .inl s') : s.2.k = 2 ∧ s' = (zup s.1 i s.2.v, tkF B n s.2.nx) ∧ TkOk n s'.2 ∧ s.2.nx ≤ s'.2.st := by
  by_cases h1 : s.2.k = 2
  · have e : wrdS B n i s = .inl (zup s.1 i s.2.v, tkF B n s.2.nx) := wrdS_c h1
    rw [e] at h
    have e2 : s' = (zup s.1 i s.2.v, tkF B n s.2.nx) := (Sum.inl.inj h).symm
    have h3 := hk.2.1
    have h4 := tkF_ok (B := B) (n := n) (p := s.2.nx) (by omega) (by omega)
    subst e2
    exact ⟨h1, rfl, h4.1, h4.2⟩
  · have e : wrdS B n i s = flS s.2 2 := wrdS_a h1
    rw [e] at h; exact absurd h flS_n
theorem sgnS_k (hk : TkOk n s.2) (h : sgnS B n c s = .inl s') : s.2.k = c ∧ s' = (s.1, tkF B n s.2.nx) ∧ TkOk n s'.2 ∧ s.2.nx ≤ s'.2.st := by
  by_cases h1 : s.2.k = c
  · have e : sgnS B n c s = .inl (s.1, tkF B n s.2.nx) := sgnS_c h1
    rw [e] at h
    have e2 : s' = (s.1, tkF B n s.2.nx) := (Sum.inl.inj h).symm
    have h3 := hk.2.1
    have h4 := tkF_ok (B := B) (n := n) (p := s.2.nx) (by omega) (by omega)
    subst e2
    exact ⟨h1, rfl, h4.1, h4.2⟩
  · have e : sgnS B n c s = flS s.2 2 := sgnS_a h1
    rw [e] at h; exact absurd h flS_n
theorem pnF_r {a : Int → Int} (h : PkA a) (x : Int) : -1 ≤ pnF a x ∧ pnF a x < a 9 := by
  have h1 := h.1
  have := pnI_r a x (a 9).toNat 0 (by decide)
  unfold pnF
  omega
theorem pinS_k (hk : TkOk n s.2) (hp : PkA s.1) (h : pinS B n i but s = .inl s') : s.2.k = 2 ∧ ¬ pnF s.1 s.2.v = -1 ∧ ¬ pnF s.1 s.2.v = but ∧ s' = (zup s.1 i (pnF s.1 s.2.v), tkF B n s.2.nx) ∧ TkOk n s'.2 ∧ s.2.nx ≤ s'.2.st ∧ s'.1 i = pnF s.1 s.2.v ∧ 0 ≤ s'.1 i ∧ s'.1 i < s.1 9 := by
  by_cases h1 : s.2.k = 2
  · by_cases h2 : pnF s.1 s.2.v = -1 ∨ pnF s.1 s.2.v = but
    · have e : pinS B n i but s = flS s.2 4 := pinS_b h1 h2
      rw [e] at h; exact absurd h flS_n
    · have e : pinS B n i but s = .inl (zup s.1 i (pnF s.1 s.2.v), tkF B n s.2.nx) := pinS_c h1 h2
      rw [e] at h
      have e2 : s' = (zup s.1 i (pnF s.1 s.2.v), tkF B n s.2.nx) := (Sum.inl.inj h).symm
      have h3 := hk.2.1
      have h4 := tkF_ok (B := B) (n := n) (p := s.2.nx) (by omega) (by omega)
      have h5 := pnF_r hp s.2.v
      subst e2
      have h6 : zup s.1 i (pnF s.1 s.2.v) i = pnF s.1 s.2.v := if_pos rfl
      refine ⟨h1, fun q => h2 (Or.inl q), fun q => h2 (Or.inr q), rfl, h4.1, h4.2, h6, ?_, ?_⟩
      · show 0 ≤ zup s.1 i (pnF s.1 s.2.v) i
        rw [h6]; omega
      · show zup s.1 i (pnF s.1 s.2.v) i < s.1 9
        rw [h6]; omega
  · have e : pinS B n i but s = flS s.2 2 := pinS_a h1
    rw [e] at h; exact absurd h flS_n
theorem zup_v {a : Int → Int} {i v : Int} : zup a i v i = v := if_pos rfl
theorem wlS_k {m f : Int} (hmf : m < f) : ∀ (u : Nat) (s : PS), TkOk n s.2 → 0 ≤ s.1 m → s.1 m ≤ 8 → (u = 0 → 1 ≤ s.1 m) → (∀ k : Int, 0 ≤ k → k < s.1 m → isWd (s.1 (f + k))) → ∀ s' : PS, wlS B n m f u s = .inl s' → TkOk n s'.2 ∧ s.2.st ≤ s'.2.st ∧ (1 ≤ s'.1 m ∧ s'.1 m ≤ 8) ∧ (∀ k : Int, 0 ≤ k → k < s'.1 m → isWd (s'.1 (f + k))) ∧ (∀ j : Int, ¬ j = m → ¬ (f ≤ j ∧ j < f + 8) → s'.1 j = s.1 j)
  | 0, s, hk, h0, h8, hu, hw, s', h => by
    have e2 : s' = s := (Sum.inl.inj h).symm
    subst e2
    exact ⟨hk, Int.le_refl _, ⟨hu rfl, h8⟩, hw, fun _ _ _ => rfl⟩
  | u + 1, s, hk, h0, h8, hu, hw, s', h => by
    by_cases h1 : s.1 m = 8
    · have e : wlS B n m f (u + 1) s = flS s.2 5 := wlS_a h1
      rw [e] at h; exact absurd h flS_n
    · have e := wlS_b (B := B) (n := n) (a := s.1) (t := s.2) (m := m) (f := f) (u := u) h1
      have h' := e.symm.trans h
      match hx : wrdS B n (f + s.1 m) (s.1, s.2) with
      | .inr er => rw [hx, bnd_r] at h'; exact absurd h' (by simp)
      | .inl s2 =>
        rw [hx, bnd_l] at h'
        obtain ⟨w1, w2, w3, w4⟩ := wrdS_k (s := (s.1, s.2)) hk hx
        have hlt := hk.2.2.1 (by rw [show s.2.k = 2 from w1]; decide)
        have hst : s.2.st ≤ s2.2.st := by
          have : s.2.nx ≤ s2.2.st := w4
          omega
        have em : s2.1 m = s.1 m := by rw [w2]; exact zup_n (by omega)
        have ev : s2.1 (f + s.1 m) = s.2.v := by rw [w2]; exact zup_v
        have eo : ∀ j : Int, ¬ j = f + s.1 m → s2.1 j = s.1 j := fun j hj => by rw [w2]; exact zup_n hj
        have g1 : zup s2.1 m (s2.1 m + 1) m = s.1 m + 1 := by rw [zup_v, em]
        have g2 : ∀ k : Int, 0 ≤ k → k < s.1 m + 1 → isWd (zup s2.1 m (s2.1 m + 1) (f + k)) := fun k k0 k1 => by
          rw [zup_n (by omega)]
          by_cases q : k = s.1 m
          · rw [q, ev]; exact hk.2.2.2.2 w1
          · rw [eo _ (by omega)]; exact hw k k0 (by omega)
        have g3 : ∀ j : Int, ¬ j = m → ¬ (f ≤ j ∧ j < f + 8) → zup s2.1 m (s2.1 m + 1) j = s.1 j := fun j j1 j2 => by
          rw [zup_n j1, eo j (by omega)]
        by_cases h2 : s2.2.k = 2
        · rw [if_pos h2] at h'
          obtain ⟨i1, i2, i3, i4, i5⟩ := wlS_k hmf u (zup s2.1 m (s2.1 m + 1), s2.2) w3 (by show 0 ≤ zup s2.1 m (s2.1 m + 1) m; omega) (by show zup s2.1 m (s2.1 m + 1) m ≤ 8; omega) (fun _ => by show 1 ≤ zup s2.1 m (s2.1 m + 1) m; omega) (fun k k0 k1 => g2 k k0 (by rw [← g1]; exact k1)) s' h'
          exact ⟨i1, Int.le_trans hst i2, i3, i4, fun j j1 j2 => (i5 j j1 j2).trans (g3 j j1 j2)⟩
        · rw [if_neg h2] at h'
          have e2 : s' = (zup s2.1 m (s2.1 m + 1), s2.2) := (Sum.inl.inj h').symm
          subst e2
          refine ⟨w3, hst, ?_, fun k k0 k1 => g2 k k0 (by rw [← g1]; exact k1), fun j j1 j2 => g3 j j1 j2⟩
          show 1 ≤ zup s2.1 m (s2.1 m + 1) m ∧ zup s2.1 m (s2.1 m + 1) m ≤ 8
          omega
end
