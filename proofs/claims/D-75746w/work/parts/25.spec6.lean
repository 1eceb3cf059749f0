/-! WHAT IS COMPUTED: tokens and statements -/
set_option maxRecDepth 100000
abbrev TkS : Type := Int × Int × Int × Int
def TkS.k (t : TkS) : Int := t.1
def TkS.st (t : TkS) : Int := t.2.1
def TkS.nx (t : TkS) : Int := t.2.2.1
def TkS.v (t : TkS) : Int := t.2.2.2
def skI (B : Int → Int) (n : Int) : Nat → Int → Int
  | 0, p => p
  | f + 1, p => if p < n ∧ (B p = 32 ∨ B p = 10) then skI B n f (p + 1) else p
def skF (B : Int → Int) (n p : Int) : Int := skI B n (n - p).toNat p
def rnI (B : Int → Int) (n lo hi : Int) : Nat → Int → Int
  | 0, p => p
  | f + 1, p => if p < n ∧ lo ≤ B p ∧ B p ≤ hi then rnI B n lo hi f (p + 1) else p
def rnF (B : Int → Int) (n lo hi p : Int) : Int := rnI B n lo hi (n - p).toNat p
def wcI (B : Int → Int) (p : Int) : Nat → Int
  | 0 => 0
  | k + 1 => 27 * wcI B p k + (B (p + k) - 96)
def nmI (B : Int → Int) (p : Int) : Nat → Int
  | 0 => 0
  | k + 1 => 10 * nmI B p k + (B (p + k) - 48)
theorem skI_r (B : Int → Int) (n : Int) : ∀ (f : Nat) (p : Int), p ≤ skI B n f p ∧ skI B n f p ≤ max n p
  | 0, p => by simp only [skI]; omega
  | f + 1, p => by
    have := skI_r B n f (p + 1)
    simp only [skI]
    split <;> omega
theorem skF_r {B : Int → Int} {n p : Int} (h : p ≤ n) : p ≤ skF B n p ∧ skF B n p ≤ n := by
  have := skI_r B n (n - p).toNat p
  unfold skF
  omega
theorem skF_s {B : Int → Int} {n p : Int} (h : p < n) (hb : B p = 32 ∨ B p = 10) : skF B n p = skF B n (p + 1) := by
  unfold skF
  rw [show (n - p).toNat = (n - (p + 1)).toNat + 1 by omega]
  simp only [skI]
  rw [if_pos ⟨h, hb⟩]
theorem skF_e {B : Int → Int} {n p : Int} (h : ¬ (p < n ∧ (B p = 32 ∨ B p = 10))) : skF B n p = p := by
  unfold skF
  match (n - p).toNat with
  | 0 => rfl
  | f + 1 => simp only [skI]; rw [if_neg h]
theorem rnI_r (B : Int → Int) (n lo hi : Int) : ∀ (f : Nat) (p : Int), p ≤ rnI B n lo hi f p ∧ rnI B n lo hi f p ≤ max n p ∧ ∀ i : Int, p ≤ i → i < rnI B n lo hi f p → lo ≤ B i ∧ B i ≤ hi
  | 0, p => by
    simp only [rnI]
    exact ⟨by omega, by omega, fun i h1 h2 => by omega⟩
  | f + 1, p => by
    have := rnI_r B n lo hi f (p + 1)
    simp only [rnI]
    split
    · rename_i hc
      refine ⟨by omega, by omega, fun i h1 h2 => ?_⟩
      by_cases q : i = p
      · subst q; exact hc.2
      · exact this.2.2 i (by omega) h2
    · exact ⟨by omega, by omega, fun i h1 h2 => by omega⟩
theorem rnF_r {B : Int → Int} {n lo hi p : Int} (h : p ≤ n) : p ≤ rnF B n lo hi p ∧ rnF B n lo hi p ≤ n ∧ ∀ i : Int, p ≤ i → i < rnF B n lo hi p → lo ≤ B i ∧ B i ≤ hi := by
  have := rnI_r B n lo hi (n - p).toNat p
  unfold rnF
  exact ⟨this.1, by omega, this.2.2⟩
theorem rnF_s {B : Int → Int} {n lo hi p : Int} (h : p < n) (hb : lo ≤ B p ∧ B p ≤ hi) : rnF B n lo hi p = rnF B n lo hi (p + 1) := by
  unfold rnF
  rw [show (n - p).toNat = (n - (p + 1)).toNat + 1 by omega]
  simp only [rnI]
  rw [if_pos ⟨h, hb⟩]
theorem rnF_e {B : Int → Int} {n lo hi p : Int} (h : ¬ (p < n ∧ lo ≤ B p ∧ B p ≤ hi)) : rnF B n lo hi p = p := by
  unfold rnF
  match (n - p).toNat with
  | 0 => rfl
  | f + 1 => simp only [rnI]; rw [if_neg h]
/-- the token behind place p -/
def tkG (B : Int → Int) (n s : Int) : TkS :=
  if n ≤ s then ⟨0, s, s, 0⟩
  else if 97 ≤ B s ∧ B s ≤ 122 then (if rnF B n 97 122 s - s > 8 then ⟨1, s, rnF B n 97 122 s, 0⟩ else ⟨2, s, rnF B n 97 122 s, wcI B s (rnF B n 97 122 s - s).toNat⟩)
  else if 48 ≤ B s ∧ B s ≤ 57 then (if rnF B n 48 57 s - s > 4 then ⟨1, s, rnF B n 48 57 s, 0⟩ else ⟨3, s, rnF B n 48 57 s, nmI B s (rnF B n 48 57 s - s).toNat⟩)
  else if B s = 59 then ⟨4, s, s + 1, 0⟩ else if B s = 61 then ⟨5, s, s + 1, 0⟩ else ⟨1, s, s + 1, 0⟩
def tkF (B : Int → Int) (n p : Int) : TkS := tkG B n (skF B n p)
def BOk (B : Int → Int) (n : Int) : Prop := (0 ≤ n ∧ n ≤ 900) ∧ ∀ i : Int, 0 ≤ i → i < 900 → 0 ≤ B i ∧ B i ≤ 255
def TkOk (n : Int) (t : TkS) : Prop := (0 ≤ t.k ∧ t.k ≤ 5) ∧ (0 ≤ t.st ∧ t.st ≤ t.nx ∧ t.nx ≤ n) ∧ (t.k ≠ 0 → t.st < t.nx) ∧ (t.k = 3 → 0 ≤ t.v ∧ t.v ≤ 9999) ∧ (t.k = 2 → isWd t.v)
theorem cdW_app : ∀ (w : List Int) (c acc : Int), cdW (w ++ [c]) acc = 27 * cdW w acc + (c - 96)
  | [], c, acc => rfl
  | x :: l, c, acc => by
    show cdW (l ++ [c]) (27 * acc + (x - 96)) = 27 * cdW l (27 * acc + (x - 96)) + (c - 96)
    exact cdW_app l c _
/-- the letters of a word of the text -/
def wLs (B : Int → Int) (p : Int) (k : Nat) : List Int := (List.range k).map (fun i : Nat => B (p + (i : Int)))
theorem wcI_cd (B : Int → Int) (p : Int) : ∀ k : Nat, wcI B p k = cdW (wLs B p k) 0
  | 0 => rfl
  | k + 1 => by
    have e : wLs B p (k + 1) = wLs B p k ++ [B (p + k)] := by
      unfold wLs
      rw [List.range_succ, List.map_append]
      rfl
    rw [e, cdW_app, ← wcI_cd B p k]
    rfl
theorem wLs_ok {B : Int → Int} {p : Int} {k : Nat} (h1 : 1 ≤ k) (h8 : k ≤ 8) (h : ∀ i : Int, p ≤ i → i < p + k → 97 ≤ B i ∧ B i ≤ 122) : okW (wLs B p k) := by
  refine ⟨by unfold wLs; simpa using h1, by unfold wLs; simpa using h8, fun c hc => ?_⟩
  unfold wLs at hc
  obtain ⟨i, hi, rfl⟩ := List.mem_map.mp hc
  have := List.mem_range.mp hi
  exact h _ (by omega) (by omega)
theorem nmI_r {B : Int → Int} {p : Int} : ∀ k : Nat, (∀ i : Int, p ≤ i → i < p + k → 48 ≤ B i ∧ B i ≤ 57) → 0 ≤ nmI B p k ∧ nmI B p k < 10 ^ k
  | 0, _ => by simp only [nmI]; decide
  | k + 1, h => by
    have h1 := nmI_r k (fun i h1 h2 => h i h1 (by omega))
    have h2 := h (p + k) (by omega) (by omega)
    simp only [nmI]
    have h3 : (10 : Int) ^ (k + 1) = 10 ^ k * 10 := Int.pow_succ 10 k
    omega
theorem tk_mk {n k s e v p : Int} (hk : 0 ≤ k ∧ k ≤ 5) (hs : 0 ≤ s ∧ s ≤ e ∧ e ≤ n) (h0 : k ≠ 0 → s < e) (h3 : k = 3 → 0 ≤ v ∧ v ≤ 9999) (h2 : k = 2 → isWd v) (hp : p ≤ s) : TkOk n (k, s, e, v) ∧ p ≤ TkS.st (k, s, e, v) := ⟨⟨hk, hs, h0, h3, h2⟩, hp⟩
theorem tkF_ok {B : Int → Int} {n p : Int} (h0 : 0 ≤ p) (h1 : p ≤ n) : TkOk n (tkF B n p) ∧ p ≤ (tkF B n p).st := by
  have hs := skF_r (B := B) h1
  unfold tkF
  generalize skF B n p = s at hs ⊢
  unfold tkG
  by_cases c0 : n ≤ s
  · rw [if_pos c0]
    exact tk_mk (by decide) (by omega) (fun q => absurd rfl q) (fun q => absurd q (by decide)) (fun q => absurd q (by decide)) hs.1
  rw [if_neg c0]
  by_cases c1 : 97 ≤ B s ∧ B s ≤ 122
  · rw [if_pos c1]
    have hr := rnF_r (B := B) (n := n) (lo := 97) (hi := 122) (p := s) hs.2
    have hs1 : rnF B n 97 122 s = rnF B n 97 122 (s + 1) := rnF_s (by omega) c1
    have hr1 := rnF_r (B := B) (n := n) (lo := 97) (hi := 122) (p := s + 1) (by omega)
    rw [← hs1] at hr1
    generalize rnF B n 97 122 s = e at hr hr1 ⊢
    by_cases c2 : e - s > 8
    · rw [if_pos c2]
      exact tk_mk (by decide) (by omega) (fun _ => by omega) (fun q => absurd q (by decide)) (fun q => absurd q (by decide)) hs.1
    · rw [if_neg c2]
      exact tk_mk (by decide) (by omega) (fun _ => by omega) (fun q => absurd q (by decide)) (fun _ => ⟨wLs B s (e - s).toNat, wLs_ok (by omega) (by omega) (fun i i0 i1 => hr.2.2 i i0 (by omega)), (wcI_cd B s _).symm⟩) hs.1
  rw [if_neg c1]
  by_cases c3 : 48 ≤ B s ∧ B s ≤ 57
  · rw [if_pos c3]
    have hr := rnF_r (B := B) (n := n) (lo := 48) (hi := 57) (p := s) hs.2
    have hs1 : rnF B n 48 57 s = rnF B n 48 57 (s + 1) := rnF_s (by omega) c3
    have hr1 := rnF_r (B := B) (n := n) (lo := 48) (hi := 57) (p := s + 1) (by omega)
    rw [← hs1] at hr1
    generalize rnF B n 48 57 s = e at hr hr1 ⊢
    by_cases c2 : e - s > 4
    · rw [if_pos c2]
      exact tk_mk (by decide) (by omega) (fun _ => by omega) (fun q => absurd q (by decide)) (fun q => absurd q (by decide)) hs.1
    · rw [if_neg c2]
      have h2 := nmI_r (B := B) (p := s) (e - s).toNat (fun i i0 i1 => hr.2.2 i i0 (by omega))
      have h3 : (10 : Int) ^ (e - s).toNat ≤ 10 ^ 4 := by
        rcases (show (e - s).toNat = 0 ∨ (e - s).toNat = 1 ∨ (e - s).toNat = 2 ∨ (e - s).toNat = 3 ∨ (e - s).toNat = 4 by omega) with q | q | q | q | q <;> rw [q] <;> decide
      exact tk_mk (by decide) (by omega) (fun _ => by omega) (fun _ => by omega) (fun q => absurd q (by decide)) hs.1
  rw [if_neg c3]
  by_cases c4 : B s = 59
  · rw [if_pos c4]
    exact tk_mk (by decide) (by omega) (fun _ => by omega) (fun q => absurd q (by decide)) (fun q => absurd q (by decide)) hs.1
  rw [if_neg c4]
  by_cases c5 : B s = 61
  · rw [if_pos c5]
    exact tk_mk (by decide) (by omega) (fun _ => by omega) (fun q => absurd q (by decide)) (fun q => absurd q (by decide)) hs.1
  rw [if_neg c5]
  exact tk_mk (by decide) (by omega) (fun _ => by omega) (fun q => absurd q (by decide)) (fun q => absurd q (by decide)) hs.1
/-- the reference's state holds a token -/
def TkT (τ : TS) (B : Int → Int) (n : Int) (t : TkS) : Prop := τ 6 = B ∧ τ 10 0 = n ∧ τ 11 0 = t.st ∧ τ 12 0 = t.nx ∧ τ 13 0 = t.k ∧ (t.k = 3 → τ 14 0 = t.v) ∧ (t.k = 2 → τ 15 0 = t.v)
theorem TkT_q {ks : List Nat} {σ τ : TS} {B : Int → Int} {n : Int} {t : TkS} (h : eqx ks σ τ) (f : TkT σ B n t) (hs : ∀ k ∈ ks, k ∉ [6, 10, 11, 12, 13, 14, 15]) : TkT τ B n t := by
  have e : ∀ k : Nat, k ∈ [6, 10, 11, 12, 13, 14, 15] → τ k = σ k := fun k hk => h k (fun q => hs k q hk)
  unfold TkT
  rw [e 6 (by decide), e 10 (by decide), e 11 (by decide), e 12 (by decide), e 13 (by decide), e 14 (by decide), e 15 (by decide)]
  exact f
theorem TkT_u {σ τ : TS} {k : Nat} {i v : Int} {B : Int → Int} {n : Int} {t : TkS} (h : τ = up σ k i v) (f : TkT σ B n t) (hk : k ∉ [6, 10, 11, 12, 13, 14, 15]) : TkT τ B n t := TkT_q (ks := [k]) (fun j hj => up_k h (by simpa using hj)) f (fun j hj => by rw [List.mem_singleton.mp hj]; exact hk)
