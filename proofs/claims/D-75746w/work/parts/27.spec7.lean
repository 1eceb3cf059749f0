/-! WHAT IS COMPUTED: statements -/
set_option maxRecDepth 100000
theorem TkT_e {τ : TS} {B : Int → Int} {n s : Int} (h6 : τ 6 = B) (h10 : τ 10 0 = n) (h11 : τ 11 0 = s) (h12 : τ 12 0 = s) (h13 : τ 13 0 = 0) (hs : n ≤ s) : TkT τ B n (tkG B n s) := by
  unfold tkG
  rw [if_pos hs]
  exact ⟨h6, h10, h11, h12, h13, fun q => absurd q (show ¬ (0 : Int) = 3 by decide), fun q => absurd q (show ¬ (0 : Int) = 2 by decide)⟩
theorem TkT_w {τ : TS} {B : Int → Int} {n s : Int} (h6 : τ 6 = B) (h10 : τ 10 0 = n) (h11 : τ 11 0 = s) (hs : s < n) (hl : 97 ≤ B s ∧ B s ≤ 122) (h : τ 12 0 = rnF B n 97 122 s ∧ τ 13 0 = (if rnF B n 97 122 s - s > 8 then 1 else 2) ∧ (¬ rnF B n 97 122 s - s > 8 → τ 15 0 = wcI B s (rnF B n 97 122 s - s).toNat)) : TkT τ B n (tkG B n s) := by
  unfold tkG
  rw [if_neg (by omega), if_pos hl]
  by_cases c : rnF B n 97 122 s - s > 8
  · rw [if_pos c] at h ⊢
    exact ⟨h6, h10, h11, h.1, h.2.1, fun q => absurd q (show ¬ (1 : Int) = 3 by decide), fun q => absurd q (show ¬ (1 : Int) = 2 by decide)⟩
  · rw [if_neg c] at h ⊢
    exact ⟨h6, h10, h11, h.1, h.2.1, fun q => absurd q (show ¬ (2 : Int) = 3 by decide), fun _ => h.2.2 c⟩
theorem TkT_n {τ : TS} {B : Int → Int} {n s : Int} (h6 : τ 6 = B) (h10 : τ 10 0 = n) (h11 : τ 11 0 = s) (hs : s < n) (hl : ¬ (97 ≤ B s ∧ B s ≤ 122)) (hd : 48 ≤ B s ∧ B s ≤ 57) (h : τ 12 0 = rnF B n 48 57 s ∧ τ 13 0 = (if rnF B n 48 57 s - s > 4 then 1 else 3) ∧ (¬ rnF B n 48 57 s - s > 4 → τ 14 0 = nmI B s (rnF B n 48 57 s - s).toNat)) : TkT τ B n (tkG B n s) := by
  unfold tkG
  rw [if_neg (by omega), if_neg hl, if_pos hd]
  by_cases c : rnF B n 48 57 s - s > 4
  · rw [if_pos c] at h ⊢
    exact ⟨h6, h10, h11, h.1, h.2.1, fun q => absurd q (show ¬ (1 : Int) = 3 by decide), fun q => absurd q (show ¬ (1 : Int) = 2 by decide)⟩
  · rw [if_neg c] at h ⊢
    exact ⟨h6, h10, h11, h.1, h.2.1, fun _ => h.2.2 c, fun q => absurd q (show ¬ (3 : Int) = 2 by decide)⟩
theorem TkT_s {τ : TS} {B : Int → Int} {n s c : Int} (h6 : τ 6 = B) (h10 : τ 10 0 = n) (h11 : τ 11 0 = s) (hs : s < n) (hl : ¬ (97 ≤ B s ∧ B s ≤ 122)) (hd : ¬ (48 ≤ B s ∧ B s ≤ 57)) (hc : c = B s) (h12 : τ 12 0 = s + 1) (h13 : τ 13 0 = (if c = 59 then 4 else if c = 61 then 5 else 1)) : TkT τ B n (tkG B n s) := by
  subst hc
  unfold tkG
  rw [if_neg (by omega), if_neg hl, if_neg hd]
  by_cases c4 : B s = 59
  · rw [if_pos c4] at h13 ⊢
    exact ⟨h6, h10, h11, h12, h13, fun q => absurd q (show ¬ (4 : Int) = 3 by decide), fun q => absurd q (show ¬ (4 : Int) = 2 by decide)⟩
  rw [if_neg c4] at h13 ⊢
  by_cases c5 : B s = 61
  · rw [if_pos c5] at h13 ⊢
    exact ⟨h6, h10, h11, h12, h13, fun q => absurd q (show ¬ (5 : Int) = 3 by decide), fun q => absurd q (show ¬ (5 : Int) = 2 by decide)⟩
  rw [if_neg c5] at h13 ⊢
  exact ⟨h6, h10, h11, h12, h13, fun q => absurd q (show ¬ (1 : Int) = 3 by decide), fun q => absurd q (show ¬ (1 : Int) = 2 by decide)⟩
/-- what is read: the row and the token at hand, or the error -/
abbrev PS : Type := (Int → Int) × TkS
abbrev PR : Type := PS ⊕ (Int × Int)
def bnd (r : PR) (f : PS → PR) : PR := match r with | .inl s => f s | .inr e => .inr e
theorem bnd_l {s : PS} {f : PS → PR} : bnd (.inl s) f = f s := rfl
theorem bnd_r {e : Int × Int} {f : PS → PR} : bnd (.inr e) f = .inr e := rfl
def flS (t : TkS) (w : Int) : PR := .inr (if t.k = 1 then 1 else w, t.st)
def numS (B : Int → Int) (n i lo hi : Int) (s : PS) : PR := if ¬ s.2.k = 3 then flS s.2 2 else if ¬ (lo ≤ s.2.v ∧ s.2.v ≤ hi) then flS s.2 3 else .inl (zup s.1 i s.2.v, tkF B n s.2.nx)
def wrdS (B : Int → Int) (n i : Int) (s : PS) : PR := if ¬ s.2.k = 2 then flS s.2 2 else .inl (zup s.1 i s.2.v, tkF B n s.2.nx)
def sgnS (B : Int → Int) (n c : Int) (s : PS) : PR := if ¬ s.2.k = c then flS s.2 2 else .inl (s.1, tkF B n s.2.nx)
section
variable {B a : Int → Int} {n i lo hi c w : Int} {t : TkS}
theorem numS_a (h : ¬ t.k = 3) : numS B n i lo hi (a, t) = flS t 2 := if_pos h
theorem numS_b (h : t.k = 3) (h2 : ¬ (lo ≤ t.v ∧ t.v ≤ hi)) : numS B n i lo hi (a, t) = flS t 3 := (if_neg (fun q => q h)).trans (if_pos h2)
theorem numS_c (h : t.k = 3) (h2 : lo ≤ t.v ∧ t.v ≤ hi) : numS B n i lo hi (a, t) = .inl (zup a i t.v, tkF B n t.nx) := (if_neg (fun q => q h)).trans (if_neg (fun q => q h2))
theorem wrdS_a (h : ¬ t.k = 2) : wrdS B n i (a, t) = flS t 2 := if_pos h
theorem wrdS_c (h : t.k = 2) : wrdS B n i (a, t) = .inl (zup a i t.v, tkF B n t.nx) := if_neg (fun q => q h)
theorem sgnS_a (h : ¬ t.k = c) : sgnS B n c (a, t) = flS t 2 := if_pos h
theorem sgnS_c (h : t.k = c) : sgnS B n c (a, t) = .inl (a, tkF B n t.nx) := if_neg (fun q => q h)
end
def pnI (a : Int → Int) (x : Int) : Nat → Int → Int
  | 0, _ => -1
  | f + 1, p => if pNm a p = x then p else pnI a x f (p + 1)
def pnF (a : Int → Int) (x : Int) : Int := pnI a x (a 9).toNat 0
theorem pnI_r (a : Int → Int) (x : Int) : ∀ (f : Nat) (p : Int), 0 ≤ p → pnI a x f p = -1 ∨ (p ≤ pnI a x f p ∧ pnI a x f p < p + f ∧ pNm a (pnI a x f p) = x)
  | 0, p, _ => Or.inl rfl
  | f + 1, p, h => by
    simp only [pnI]
    split
    · exact Or.inr ⟨by omega, by omega, by assumption⟩
    · rcases pnI_r a x f (p + 1) (by omega) with q | q
      · exact Or.inl q
      · exact Or.inr ⟨by omega, by omega, q.2.2⟩
def perS (B : Int → Int) (n : Int) (s : PS) : PR := if s.1 9 = 5 then flS s.2 5 else if ¬ (tkF B n s.2.nx).k = 2 then flS (tkF B n s.2.nx) 2 else if ¬ pnF s.1 (tkF B n s.2.nx).v = -1 then flS (tkF B n s.2.nx) 4
  else bnd (numS B n (10 + 2 * s.1 9 + 1) 0 9999 (zup s.1 (10 + 2 * s.1 9) (tkF B n s.2.nx).v, tkF B n (tkF B n s.2.nx).nx)) fun s => .inl (zup s.1 9 (s.1 9 + 1), s.2)
def trmS (B : Int → Int) (n : Int) (s : PS) : PR := if s.1 20 = 12 then flS s.2 5 else bnd (wrdS B n (21 + 2 * s.1 20) (s.1, tkF B n s.2.nx)) fun s2 => bnd (sgnS B n 5 s2) fun s3 => bnd (wrdS B n (21 + 2 * s.1 20 + 1) s3) fun s4 => .inl (zup s4.1 20 (s4.1 20 + 1), s4.2)
def pinS (B : Int → Int) (n i but : Int) (s : PS) : PR := if ¬ s.2.k = 2 then flS s.2 2 else if pnF s.1 s.2.v = -1 ∨ pnF s.1 s.2.v = but then flS s.2 4 else .inl (zup s.1 i (pnF s.1 s.2.v), tkF B n s.2.nx)
def jobS (B : Int → Int) (n : Int) (s : PS) : PR := if s.1 45 = 5 then flS s.2 5 else bnd (pinS B n (46 + 4 * s.1 45 + 0) (-1) (s.1, tkF B n s.2.nx)) fun s2 => bnd (pinS B n (46 + 4 * s.1 45 + 1) (s2.1 (46 + 4 * s.1 45 + 0)) s2) fun s3 => bnd (numS B n (46 + 4 * s.1 45 + 2) 1 99 s3) fun s4 => .inl (zup (zup s4.1 (46 + 4 * s.1 45 + 3) (s4.1 20)) 45 (zup s4.1 (46 + 4 * s.1 45 + 3) (s4.1 20) 45 + 1), s4.2)
def wlS (B : Int → Int) (n m f : Int) : Nat → PS → PR
  | 0, s => .inl s
  | u + 1, s => if s.1 m = 8 then flS s.2 5 else bnd (wrdS B n (f + s.1 m) s) fun s2 => if s2.2.k = 2 then wlS B n m f u (zup s2.1 m (s2.1 m + 1), s2.2) else .inl (zup s2.1 m (s2.1 m + 1), s2.2)
def segS (B : Int → Int) (n : Int) (s : PS) : PR := if s.1 45 = 0 then flS s.2 2 else if s.1 66 = 20 then flS s.2 5 else
  bnd (wlS B n (67 + 19 * s.1 66 + 1) (67 + 19 * s.1 66 + 3) 9 (zup s.1 (67 + 19 * s.1 66 + 1) 0, tkF B n s.2.nx)) fun s2 => bnd (sgnS B n 5 s2) fun s3 => bnd (wlS B n (67 + 19 * s.1 66 + 2) (67 + 19 * s.1 66 + 3 + 8) 9 (zup s3.1 (67 + 19 * s.1 66 + 2) 0, s3.2)) fun s4 => .inl (zup (zup s4.1 (67 + 19 * s.1 66 + 0) (s4.1 45 - 1)) 66 (zup s4.1 (67 + 19 * s.1 66 + 0) (s4.1 45 - 1) 66 + 1), s4.2)
def bndS (B : Int → Int) (n : Int) (s : PS) : PR := if ¬ (tkF B n s.2.nx).k = 3 then flS (tkF B n s.2.nx) 2 else if ¬ (tkF B n s.2.nx).v < 5 then flS (tkF B n s.2.nx) 3 else numS B n (4 + (tkF B n s.2.nx).v) 0 100 (s.1, tkF B n (tkF B n s.2.nx).nx)
def setS (B : Int → Int) (n w : Int) (s : PS) : PR := numS B n w (if w = 1 then 1 else 0) (if w = 2 then 100 else 999) (s.1, tkF B n s.2.nx)
section
variable {B a : Int → Int} {n i but w : Int} {t : TkS}
theorem perS_a (h : a 9 = 5) : perS B n (a, t) = flS t 5 := if_pos h
theorem perS_b (h : ¬ a 9 = 5) (h2 : ¬ (tkF B n t.nx).k = 2) : perS B n (a, t) = flS (tkF B n t.nx) 2 := (if_neg h).trans (if_pos h2)
theorem perS_c (h : ¬ a 9 = 5) (h2 : (tkF B n t.nx).k = 2) (h3 : ¬ pnF a (tkF B n t.nx).v = -1) : perS B n (a, t) = flS (tkF B n t.nx) 4 := (if_neg h).trans ((if_neg (fun q => q h2)).trans (if_pos h3))
theorem perS_d (h : ¬ a 9 = 5) (h2 : (tkF B n t.nx).k = 2) (h3 : pnF a (tkF B n t.nx).v = -1) : perS B n (a, t) = bnd (numS B n (10 + 2 * a 9 + 1) 0 9999 (zup a (10 + 2 * a 9) (tkF B n t.nx).v, tkF B n (tkF B n t.nx).nx)) fun s => .inl (zup s.1 9 (s.1 9 + 1), s.2) := (if_neg h).trans ((if_neg (fun q => q h2)).trans (if_neg (fun q => q h3)))
theorem trmS_a (h : a 20 = 12) : trmS B n (a, t) = flS t 5 := if_pos h
theorem trmS_b (h : ¬ a 20 = 12) : trmS B n (a, t) = bnd (wrdS B n (21 + 2 * a 20) (a, tkF B n t.nx)) fun s2 => bnd (sgnS B n 5 s2) fun s3 => bnd (wrdS B n (21 + 2 * a 20 + 1) s3) fun s4 => .inl (zup s4.1 20 (s4.1 20 + 1), s4.2) := if_neg h
theorem pinS_a (h : ¬ t.k = 2) : pinS B n i but (a, t) = flS t 2 := if_pos h
theorem pinS_b (h : t.k = 2) (h2 : pnF a t.v = -1 ∨ pnF a t.v = but) : pinS B n i but (a, t) = flS t 4 := (if_neg (fun q => q h)).trans (if_pos h2)
theorem pinS_c (h : t.k = 2) (h2 : ¬ (pnF a t.v = -1 ∨ pnF a t.v = but)) : pinS B n i but (a, t) = .inl (zup a i (pnF a t.v), tkF B n t.nx) := (if_neg (fun q => q h)).trans (if_neg h2)
theorem jobS_a (h : a 45 = 5) : jobS B n (a, t) = flS t 5 := if_pos h
theorem jobS_b (h : ¬ a 45 = 5) : jobS B n (a, t) = bnd (pinS B n (46 + 4 * a 45 + 0) (-1) (a, tkF B n t.nx)) fun s2 => bnd (pinS B n (46 + 4 * a 45 + 1) (s2.1 (46 + 4 * a 45 + 0)) s2) fun s3 => bnd (numS B n (46 + 4 * a 45 + 2) 1 99 s3) fun s4 => .inl (zup (zup s4.1 (46 + 4 * a 45 + 3) (s4.1 20)) 45 (zup s4.1 (46 + 4 * a 45 + 3) (s4.1 20) 45 + 1), s4.2) := if_neg h
theorem segS_a (h : a 45 = 0) : segS B n (a, t) = flS t 2 := if_pos h
theorem segS_b (h : ¬ a 45 = 0) (h2 : a 66 = 20) : segS B n (a, t) = flS t 5 := (if_neg h).trans (if_pos h2)
theorem segS_c (h : ¬ a 45 = 0) (h2 : ¬ a 66 = 20) : segS B n (a, t) = bnd (wlS B n (67 + 19 * a 66 + 1) (67 + 19 * a 66 + 3) 9 (zup a (67 + 19 * a 66 + 1) 0, tkF B n t.nx)) fun s2 => bnd (sgnS B n 5 s2) fun s3 => bnd (wlS B n (67 + 19 * a 66 + 2) (67 + 19 * a 66 + 3 + 8) 9 (zup s3.1 (67 + 19 * a 66 + 2) 0, s3.2)) fun s4 => .inl (zup (zup s4.1 (67 + 19 * a 66 + 0) (s4.1 45 - 1)) 66 (zup s4.1 (67 + 19 * a 66 + 0) (s4.1 45 - 1) 66 + 1), s4.2) := (if_neg h).trans (if_neg h2)
theorem bndS_a (h : ¬ (tkF B n t.nx).k = 3) : bndS B n (a, t) = flS (tkF B n t.nx) 2 := if_pos h
theorem bndS_b (h : (tkF B n t.nx).k = 3) (h2 : ¬ (tkF B n t.nx).v < 5) : bndS B n (a, t) = flS (tkF B n t.nx) 3 := (if_neg (fun q => q h)).trans (if_pos h2)
theorem bndS_c (h : (tkF B n t.nx).k = 3) (h2 : (tkF B n t.nx).v < 5) : bndS B n (a, t) = numS B n (4 + (tkF B n t.nx).v) 0 100 (a, tkF B n (tkF B n t.nx).nx) := (if_neg (fun q => q h)).trans (if_neg (fun q => q h2))
theorem wlS_a {m f : Int} {u : Nat} (h : a m = 8) : wlS B n m f (u + 1) (a, t) = flS t 5 := if_pos h
theorem wlS_b {m f : Int} {u : Nat} (h : ¬ a m = 8) : wlS B n m f (u + 1) (a, t) = bnd (wrdS B n (f + a m) (a, t)) fun s2 => if s2.2.k = 2 then wlS B n m f u (zup s2.1 m (s2.1 m + 1), s2.2) else .inl (zup s2.1 m (s2.1 m + 1), s2.2) := if_neg h
end
/-- what changes outside of the row's tables and beside the error -/
def Bs (σ τ : TS) : Prop := τ 16 0 = σ 16 0 ∧ τ 17 0 = σ 17 0 ∧ ∀ i : Int, ¬ (0 ≤ i ∧ i < 447) → τ 0 i = σ 0 i
theorem Bs_rf {σ : TS} : Bs σ σ := ⟨rfl, rfl, fun _ _ => rfl⟩
theorem Bs_tr {σ τ ρ : TS} (h : Bs σ τ) (g : Bs τ ρ) : Bs σ ρ := ⟨g.1.trans h.1, g.2.1.trans h.2.1, fun i hi => (g.2.2 i hi).trans (h.2.2 i hi)⟩
theorem Bs_q {ks : List Nat} {σ τ ρ : TS} (h : Bs σ τ) (q : eqx ks τ ρ) (h0 : 0 ∉ ks) (h1 : 16 ∉ ks) (h2 : 17 ∉ ks) : Bs σ ρ := Bs_tr h ⟨by rw [q 16 h1], by rw [q 17 h2], fun i _ => by rw [q 0 h0]⟩
theorem Bs_u {σ τ ρ : TS} {k : Nat} {i v : Int} (h : Bs σ τ) (e : ρ = up τ k i v) (h0 : 0 ≠ k) (h1 : 16 ≠ k) (h2 : 17 ≠ k) : Bs σ ρ := Bs_tr h ⟨by rw [up_k e h1], by rw [up_k e h2], fun i _ => by rw [up_k e h0]⟩
theorem Bs_0 {σ τ ρ : TS} {i v : Int} (h : Bs σ τ) (e : ρ = up τ 0 i v) (hi : 0 ≤ i ∧ i < 447) : Bs σ ρ := Bs_tr h ⟨by rw [up_k e (by decide)], by rw [up_k e (by decide)], fun j hj => by
  rw [e, up_s]
  unfold zup
  rw [if_neg (fun q => hj (by rw [q]; exact hi))]⟩
def PRT (σ : TS) (B : Int → Int) (n : Int) (r : PR) (v : Int) (τ : TS) : Prop := match r with
  | .inl s => v = 1 ∧ τ 0 = s.1 ∧ TkT τ B n s.2 ∧ Bs σ τ
  | .inr e => v = 0 ∧ τ 16 0 = e.1 ∧ τ 17 0 = e.2 ∧ ∀ i : Int, ¬ (0 ≤ i ∧ i < 447) → τ 0 i = σ 0 i
theorem PRT_01 {σ τ : TS} {B : Int → Int} {n v : Int} {r : PR} (h : PRT σ B n r v τ) : v = 0 ∨ v = 1 := by
  match r, h with
  | .inl s, h => exact Or.inr h.1
  | .inr e, h => exact Or.inl h.1
theorem PRT_t {σ τ : TS} {B : Int → Int} {n v : Int} {r : PR} (h : PRT σ B n r v τ) (hv : ¬ v = 0) : v = 1 ∧ ∃ s : PS, r = .inl s ∧ τ 0 = s.1 ∧ TkT τ B n s.2 ∧ Bs σ τ := by
  match r, h with
  | .inl s, h => exact ⟨h.1, s, rfl, h.2⟩
  | .inr e, h => exact absurd h.1 hv
theorem PRT_f {σ τ : TS} {B : Int → Int} {n v : Int} {r : PR} (h : PRT σ B n r v τ) (hv : v = 0) : ∃ e : Int × Int, r = .inr e ∧ τ 16 0 = e.1 ∧ τ 17 0 = e.2 ∧ ∀ i : Int, ¬ (0 ≤ i ∧ i < 447) → τ 0 i = σ 0 i := by
  match r, h with
  | .inl s, h => exact absurd h.1 (by omega)
  | .inr e, h => exact ⟨e, rfl, h.2⟩
theorem PRT_tr {σ ρ τ : TS} {B : Int → Int} {n v : Int} {r : PR} (b : Bs σ ρ) (h : PRT ρ B n r v τ) : PRT σ B n r v τ := by
  match r, h with
  | .inl s, h => exact ⟨h.1, h.2.1, h.2.2.1, Bs_tr b h.2.2.2⟩
  | .inr e, h => exact ⟨h.1, h.2.1, h.2.2.1, fun i hi => (h.2.2.2 i hi).trans (b.2.2 i hi)⟩
theorem PRT_l {σ τ : TS} {B : Int → Int} {n : Int} {s : PS} (h0 : τ 0 = s.1) (h : TkT τ B n s.2) (b : Bs σ τ) : PRT σ B n (.inl s) 1 τ := ⟨rfl, h0, h, b⟩
theorem PRT_r {σ ρ τ : TS} {B : Int → Int} {n : Int} {e : Int × Int} (b : Bs σ ρ) (h : τ 16 0 = e.1 ∧ τ 17 0 = e.2 ∧ ∀ i : Int, ¬ (0 ≤ i ∧ i < 447) → τ 0 i = ρ 0 i) : PRT σ B n (.inr e) 0 τ := PRT_tr b ⟨rfl, h⟩
theorem PRT_e {σ τ : TS} {B : Int → Int} {n v : Int} {r r2 : PR} (h : PRT σ B n r v τ) (e : r2 = r) : PRT σ B n r2 v τ := by rw [e]; exact h
/-- a row in the making: its tables' counts, its persons -/
def PkA (a : Int → Int) : Prop := ((0 ≤ a 9 ∧ a 9 ≤ 5) ∧ (0 ≤ a 20 ∧ a 20 ≤ 12) ∧ (0 ≤ a 45 ∧ a 45 ≤ 5) ∧ (0 ≤ a 66 ∧ a 66 ≤ 20)) ∧ ∀ p : Int, 0 ≤ p → p < a 9 → isWd (pNm a p)
theorem PkA_of {a : Int → Int} (h : OkA a) : PkA a := ⟨h.cnt, fun p h0 h1 => (h.per p h0 h1).1⟩
theorem PkA_z {a : Int → Int} (h : PkA a) {i v : Int} (hi : 10 + 2 * a 9 ≤ i) (h2 : ¬ i = 20) (h3 : ¬ i = 45) (h4 : ¬ i = 66) : PkA (zup a i v) := by
  have hc := h.1
  unfold PkA zup
  rw [if_neg (by omega), if_neg (by omega), if_neg (by omega), if_neg (by omega)]
  refine ⟨hc, fun p h0 h1 => ?_⟩
  show isWd (if 10 + 2 * p = i then v else a (10 + 2 * p))
  rw [if_neg (by omega)]
  exact h.2 p h0 h1
