/-! WHAT IS COMPUTED: beginnings, finding a name, output -/
set_option maxRecDepth 100000
theorem wlS_k0 {B : Int → Int} {n m f : Int} {a : Int → Int} {t : TkS} {s' : PS} (hmf : m < f) (hk : TkOk n t) (h : wlS B n m f 9 (zup a m 0, t) = .inl s') : TkOk n s'.2 ∧ t.st ≤ s'.2.st ∧ (1 ≤ s'.1 m ∧ s'.1 m ≤ 8) ∧ (∀ k : Int, 0 ≤ k → k < s'.1 m → isWd (s'.1 (f + k))) ∧ (∀ j : Int, ¬ j = m → ¬ (f ≤ j ∧ j < f + 8) → s'.1 j = a j) := by
  have e : zup a m 0 m = 0 := zup_v
  obtain ⟨i1, i2, i3, i4, i5⟩ := wlS_k hmf 9 (zup a m 0, t) hk (by show 0 ≤ zup a m 0 m; omega) (by show zup a m 0 m ≤ 8; omega) (fun q => absurd q (by decide)) (fun k k0 k1 => by exfalso; have : k < zup a m 0 m := k1; omega) s' h
  exact ⟨i1, i2, i3, i4, fun j j1 j2 => (i5 j j1 j2).trans (zup_n j1)⟩
def bgF : Int → Int := fun i => if i = 0 then 10 else if i = 1 then 250 else if i = 2 then 20 else if i = 3 then 4 else if 4 ≤ i ∧ i < 9 then 100 - 20 * (i - 4) else 0
theorem bgF_ok : OkA bgF ∧ cut bgF := by
  have h9 : bgF 9 = 0 := by decide
  have h20 : bgF 20 = 0 := by decide
  have h45 : bgF 45 = 0 := by decide
  have h66 : bgF 66 = 0 := by decide
  refine ⟨⟨by decide, fun b h0 h5 => ?_, by decide, fun p h0 h1 => by omega, fun t s h0 h1 => by omega, fun j h0 h1 => by omega, fun g h0 h1 => by omega, fun g k t h0 h1 => by omega⟩, fun i hi => ?_⟩
  · unfold bgF
    rw [if_neg (by omega), if_neg (by omega), if_neg (by omega), if_neg (by omega), if_pos (by omega)]
    omega
  · unfold bgF
    rw [if_neg (by omega), if_neg (by omega), if_neg (by omega), if_neg (by omega), if_neg (by omega)]
noncomputable def fnF (a B : Int → Int) (n : Int) : Int := cif ((1 ≤ n ∧ n ≤ 8) ∧ ∀ i : Int, 0 ≤ i → i < n → 97 ≤ B i ∧ B i ≤ 122) (pnF a (wcI B 0 n.toNat)) (-1)
theorem wcI_wd {B : Int → Int} {n : Int} (h : (1 ≤ n ∧ n ≤ 8) ∧ ∀ i : Int, 0 ≤ i → i < n → 97 ≤ B i ∧ B i ≤ 122) : isWd (wcI B 0 n.toNat) :=
  ⟨wLs B 0 n.toNat, wLs_ok (by omega) (by omega) (fun i i0 i1 => h.2 i i0 (by omega)), (wcI_cd B 0 _).symm⟩
/-- what was written -/
def OutS (τ : TS) (l : List Int) : Prop := τ 24 0 = (l.length : Int) ∧ ∀ (i : Nat) (c : Int), l[i]? = some c → τ 23 (i : Int) = c
theorem OutS_q {ks : List Nat} {σ τ : TS} {l : List Int} (h : eqx ks σ τ) (f : OutS σ l) (h0 : 23 ∉ ks) (h1 : 24 ∉ ks) : OutS τ l := by
  unfold OutS
  rw [h 23 h0, h 24 h1]
  exact f
theorem OutS_nil {σ τ : TS} (h : τ = up σ 24 0 0) : OutS τ [] := ⟨by rw [up_get h]; rfl, fun i p q => by simp at q⟩
theorem OutS_add {σ τ1 τ2 : TS} {l : List Int} {c : Int} (f : OutS σ l) (e1 : τ1 = up σ 23 (l.length : Int) c) (e2 : τ2 = up τ1 24 0 ((l.length : Int) + 1)) : OutS τ2 (l ++ [c]) := by
  refine ⟨by rw [up_get e2]; simp, fun i p q => ?_⟩
  rw [up_k e2 (by decide), e1, up_s]
  by_cases hi : i < l.length
  · rw [List.getElem?_append_left hi] at q
    have := f.2 i p q
    unfold zup
    rw [if_neg (by omega)]
    exact this
  · have h3 : i = l.length := by
      have h4 := (List.getElem?_eq_some_iff.mp q).1
      simp at h4
      omega
    subst h3
    simp at q
    subst q
    exact zup_v
/-- a number written out -/
def nmO (x : Int) : List Int := if 9 < x then [48 + x / 10 % 10, 48 + x % 10] else [48 + x % 10]
theorem lst_cat {w : List Int} {k : Nat} (h : w.length = k + 1) : ∃ (w2 : List Int) (c : Int), w = w2 ++ [c] ∧ w2.length = k := by
  have hne : w ≠ [] := fun q => by rw [q] at h; simp at h
  exact ⟨w.dropLast, w.getLast hne, (List.dropLast_concat_getLast hne).symm, by rw [List.length_dropLast]; omega⟩
theorem cdW_cat {w2 : List Int} {c : Int} (hc : isLt c) (hw : ∀ x ∈ w2, isLt x) : cdW (w2 ++ [c]) 0 = 27 * cdW w2 0 + (c - 96) ∧ 0 ≤ cdW w2 0 ∧ cdW (w2 ++ [c]) 0 / 27 = cdW w2 0 ∧ cdW (w2 ++ [c]) 0 % 27 = c - 96 := by
  have h1 := cdW_app w2 c 0
  have h2 := cdW_lo w2 0 (by decide) hw
  unfold isLt at hc
  omega
theorem cdW_1 {w2 : List Int} (h : 1 ≤ w2.length) (hw : ∀ x ∈ w2, isLt x) : 1 ≤ cdW w2 0 := by
  match w2, h with
  | c :: l, _ =>
    have hc := hw c List.mem_cons_self
    unfold isLt at hc
    have := cdW_lo l (27 * 0 + (c - 96)) (by omega) (fun x hx => hw x (List.mem_cons_of_mem _ hx))
    simp only [cdW]
    omega
theorem cdW_u {w : List Int} (h : w.length ≤ 8) (hw : ∀ x ∈ w, isLt x) : cdW w 0 < 282429536481 := by
  have h4 := cdW_hi w 0 0 (by omega) (by omega) hw
  have h5 : ∀ n : Nat, n ≤ 8 → cdW ((List.replicate n (122 : Int))) 0 < 282429536481 := by decide +kernel
  have h6 := h5 _ h
  rw [List.map_const'] at h4
  omega
