/-! WHAT IS COMPUTED: small steps -/
set_option maxRecDepth 100000
theorem usP_s {a : Int → Int} {t g n : Int} (hn : 0 ≤ n) : usP a t g (n + 1) ↔ usP a t g n ∨ raF a g n = t := by
  constructor
  · rintro ⟨z, z1, z2, z3⟩
    by_cases q : z < n
    · exact Or.inl ⟨z, z1, q, z3⟩
    · rw [show z = n by omega] at z3
      exact Or.inr z3
  · rintro (⟨z, z1, z2, z3⟩ | q)
    · exact ⟨z, z1, by omega, z3⟩
    · exact ⟨n, hn, by omega, q⟩
theorem usP_0 {a : Int → Int} {t g : Int} : ¬ usP a t g 0 := fun ⟨_, z1, z2, _⟩ => by omega
theorem up_k {σ τ : TS} {k : Nat} {i v : Int} {j : Nat} (h : τ = up σ k i v) (hj : j ≠ k) : τ j = σ j := by rw [h, up_n hj]
/-- the found rows, laid into the reference's array -/
def FdS (τ : TS) (l : FD) : Prop := τ 21 0 = (l.length : Int) ∧ ∀ (i : Nat) (p : Int × Int × Int), l[i]? = some p → τ 20 (3 * (i : Int)) = p.1 ∧ τ 20 (3 * (i : Int) + 1) = p.2.1 ∧ τ 20 (3 * (i : Int) + 2) = p.2.2
theorem FdS_q {ks : List Nat} {σ τ : TS} {l : FD} (h : eqx ks σ τ) (f : FdS σ l) (h0 : 20 ∉ ks) (h1 : 21 ∉ ks) : FdS τ l := by
  unfold FdS
  rw [h 20 h0, h 21 h1]
  exact f
theorem FdS_nil {σ τ : TS} (h : τ = up σ 21 0 0) : FdS τ [] := ⟨by rw [up_get h]; rfl, fun i p q => by simp at q⟩
theorem FdS_add {σ τ1 τ2 τ3 τ4 : TS} {l : FD} {x y z : Int} (f : FdS σ l) (e1 : τ1 = up σ 20 (3 * (l.length : Int)) x) (e2 : τ2 = up τ1 20 (3 * (l.length : Int) + 1) y) (e3 : τ3 = up τ2 20 (3 * (l.length : Int) + 2) z) (e4 : τ4 = up τ3 21 0 ((l.length : Int) + 1)) : FdS τ4 (l ++ [(x, y, z)]) := by
  have h20 : ∀ i : Int, τ4 20 i = if i = 3 * (l.length : Int) + 2 then z else if i = 3 * (l.length : Int) + 1 then y else if i = 3 * (l.length : Int) then x else σ 20 i := by
    intro i
    rw [e4, up_n (by decide), e3, up_s, e2, up_s, e1, up_s]
    rfl
  refine ⟨by rw [up_get e4]; simp, fun i p q => ?_⟩
  rw [h20, h20, h20]
  by_cases hi : i < l.length
  · rw [List.getElem?_append_left hi] at q
    have := f.2 i p q
    rw [if_neg (by omega), if_neg (by omega), if_neg (by omega), if_neg (by omega), if_neg (by omega), if_neg (by omega), if_neg (by omega), if_neg (by omega), if_neg (by omega)]
    exact this
  · have h3 : i = l.length := by
      have h4 := (List.getElem?_eq_some_iff.mp q).1
      simp at h4
      omega
    subst h3
    simp at q
    subst q
    rw [if_neg (by omega), if_neg (by omega), if_pos rfl, if_neg (by omega), if_pos rfl, if_pos rfl]
    exact ⟨rfl, rfl, rfl⟩
def fdg (l : FD) (f w : Int) : Int := if w = 0 then ((l[f.toNat]?).getD (0, 0, 0)).1 else if w = 1 then ((l[f.toNat]?).getD (0, 0, 0)).2.1 else ((l[f.toNat]?).getD (0, 0, 0)).2.2
theorem FdS_g {τ : TS} {l : FD} (h : FdS τ l) {f w : Int} (h0 : 0 ≤ f) (h1 : f < l.length) (h2 : 0 ≤ w) (h3 : w ≤ 2) : τ 20 (3 * f + w) = fdg l f w := by
  have h4 : f.toNat < l.length := by omega
  have h5 := h.2 f.toNat _ (List.getElem?_eq_getElem h4)
  unfold fdg
  rw [List.getElem?_eq_getElem h4, Option.getD_some]
  rw [Int.toNat_of_nonneg h0] at h5
  rcases (show w = 0 ∨ w = 1 ∨ w = 2 by omega) with q | q | q <;> subst q
  · rw [if_pos rfl, show 3 * f + 0 = 3 * f by omega]; exact h5.1
  · exact h5.2.1
  · exact h5.2.2
theorem FdS_g0 {τ : TS} {l : FD} (h : FdS τ l) {f : Int} (h0 : 0 ≤ f) (h1 : f < l.length) : τ 20 (3 * f) = fdg l f 0 := by
  have := FdS_g h h0 h1 (w := 0) (by decide) (by decide)
  rw [show 3 * f + 0 = 3 * f by omega] at this
  exact this
/-- what each row of the found ones keeps to -/
def fdP (a : Int → Int) (p : Int × Int × Int) : Prop := (0 ≤ p.2.1 ∧ p.2.1 < a 66) ∧ 0 ≤ p.2.2 ∧ p.2.2 ≤ 20 ∧ ((p.1 = 0 ∧ p.2.2 < sLen a p.2.1 0 ∧ ¬ raF a p.2.1 p.2.2 = -1) ∨ p.1 = 1 ∨ p.1 = 2)
theorem cif_mem {P : Prop} {p q : Int × Int × Int} (h : q ∈ cif P [p] []) : P ∧ q = p := by
  by_cases hP : P
  · rw [cif_t hP] at h; exact ⟨hP, by simpa using h⟩
  · rw [cif_f hP] at h; simp at h
theorem msI_m {a : Int → Int} {g f : Int} {q : Int × Int × Int} : ∀ k : Nat, q ∈ msI a g f k → q.1 = 0 ∧ q.2.1 = g ∧ 0 ≤ q.2.2 ∧ q.2.2 < k ∧ lkP a g q.2.2 f
  | 0, h => by simp [msI] at h
  | k + 1, h => by
    simp only [msI, List.mem_append] at h
    rcases h with h | h
    · have := msI_m k h
      refine ⟨this.1, this.2.1, this.2.2.1, by omega, this.2.2.2.2⟩
    · obtain ⟨h1, rfl⟩ := cif_mem h
      exact ⟨rfl, rfl, by simp, by simp; omega, h1⟩
theorem ulI_m {a : Int → Int} {g : Int} {q : Int × Int × Int} : ∀ k : Nat, q ∈ ulI a g k → q.1 = 1 ∧ q.2.1 = g ∧ 0 ≤ q.2.2 ∧ q.2.2 < k
  | 0, h => by simp [ulI] at h
  | k + 1, h => by
    simp only [ulI, List.mem_append] at h
    rcases h with h | h
    · have := ulI_m k h
      omega
    · obtain ⟨h1, rfl⟩ := cif_mem h
      simp
      omega
theorem bd_md {a : Int → Int} {g : Int} (h : bdF a g = 4) : ¬ mdF a g = -1 := by
  intro q
  unfold bdF at h
  have : mtF a g = 0 := by unfold mtF; rw [if_pos q]
  rw [this] at h
  simp at h
theorem fgF_m {a : Int → Int} (hok : OkA a) {g : Int} (h0 : 0 ≤ g) (h1 : g < a 66) {q : Int × Int × Int} (h : q ∈ fgF a g) : fdP a q := by
  have hc := hok.cnt
  have hl := hok.seg g h0 h1
  unfold fgF at h
  rw [List.mem_append, List.mem_append] at h
  rcases h with (h | h) | h
  · obtain ⟨h2, h3, h4, h5, h6⟩ := msI_m _ h
    refine ⟨by omega, h4, by omega, Or.inl ⟨h2, by rw [h3]; omega, ?_⟩⟩
    rw [h3]
    exact h6.1
  · obtain ⟨h2, h3, h4, h5⟩ := ulI_m _ h
    exact ⟨by omega, h4, by omega, Or.inr (Or.inl h2)⟩
  · obtain ⟨h2, rfl⟩ := cif_mem h
    have h3 := bd_md h2.1
    have h4 := mdF_r (a := a) h0
    exact ⟨⟨h0, h1⟩, by show 0 ≤ mdF a g; omega, by show mdF a g ≤ 20; omega, Or.inr (Or.inr rfl)⟩
theorem fdI_m {a : Int → Int} (hok : OkA a) {q : Int × Int × Int} : ∀ k : Nat, (k : Int) ≤ a 66 → q ∈ fdI a k → fdP a q
  | 0, _, h => by simp [fdI] at h
  | k + 1, hk, h => by
    simp only [fdI, List.mem_append] at h
    rcases h with h | h
    · exact fdI_m hok k (by omega) h
    · exact fgF_m hok (by omega) (by omega) h
theorem fdF_g {a : Int → Int} (hok : OkA a) {f : Int} (h0 : 0 ≤ f) (h1 : f < (fdF a).length) : (0 ≤ fdg (fdF a) f 1 ∧ fdg (fdF a) f 1 < a 66) ∧ (0 ≤ fdg (fdF a) f 2 ∧ fdg (fdF a) f 2 ≤ 20) ∧ (0 ≤ fdg (fdF a) f 0 ∧ fdg (fdF a) f 0 ≤ 2) ∧ (fdg (fdF a) f 0 = 0 → fdg (fdF a) f 2 < sLen a (fdg (fdF a) f 1) 0 ∧ ¬ raF a (fdg (fdF a) f 1) (fdg (fdF a) f 2) = -1) := by
  have h4 : f.toNat < (fdF a).length := by omega
  have h5 := fdI_m hok (a 66).toNat (by have := hok.cnt; omega) (List.getElem_mem h4)
  have e : ∀ w : Int, fdg (fdF a) f w = if w = 0 then (fdF a)[f.toNat].1 else if w = 1 then (fdF a)[f.toNat].2.1 else (fdF a)[f.toNat].2.2 := by
    intro w
    unfold fdg
    rw [List.getElem?_eq_getElem h4, Option.getD_some]
  have e0 := e 0
  have e1 := e 1
  have e2 := e 2
  simp at e0 e1 e2
  rw [e0, e1, e2]
  refine ⟨h5.1, ⟨h5.2.1, h5.2.2.1⟩, by rcases h5.2.2.2 with q | q | q <;> omega, fun w => ?_⟩
  rcases h5.2.2.2 with q | q | q
  · exact q.2
  · rw [w] at q; omega
  · rw [w] at q; omega
theorem fdF_r {a : Int → Int} (h : OkA a) : ((fdF a).length : Int) ≤ 580 := by
  have h1 := h.cnt
  have := fdI_r h (a 66).toNat (by omega)
  unfold fdF
  omega
def cfI (a : Int → Int) (l : FD) (j n : Int) : Nat → Int
  | 0 => 0
  | k + 1 => if fdg l k 0 = n ∧ sJob a (fdg l k 1) = j then cfI a l j n k + 1 else cfI a l j n k
def noF (l : FD) (g n : Int) : Prop := ∀ i : Int, 0 ≤ i → i < n → ¬ fdg l i 1 = g
theorem noF_0 {l : FD} {g : Int} : noF l g 0 := fun i h1 h2 => by omega
theorem noF_s {l : FD} {g n : Int} (hn : 0 ≤ n) : noF l g (n + 1) ↔ noF l g n ∧ ¬ fdg l n 1 = g := by
  constructor
  · exact fun h => ⟨fun i h1 h2 => h i h1 (by omega), h n hn (by omega)⟩
  · rintro ⟨h1, h2⟩ i h3 h4
    by_cases q : i < n
    · exact h1 i h3 q
    · rw [show i = n by omega]; exact h2
noncomputable def ckI (l : FD) : Nat → Int → Int
  | 0, _ => -1
  | n + 1, g => cif (noF l g l.length) g (ckI l n (g + 1))
noncomputable def ckF (a : Int → Int) (d : Int) : Int := ckI (fdF a) (a 66 - max 0 d).toNat (max 0 d)
