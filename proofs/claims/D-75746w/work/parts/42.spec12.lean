/-! WHAT IS COMPUTED: what a statement and a text make of an office -/
set_option maxRecDepth 100000
section
variable {B a b : Int → Int} {n : Int} {t : TkS} {s s' : PS}
theorem shF_0 (h : wq t "price") : shF t = 0 := cif_t h
theorem shF_1 (h0 : ¬ wq t "price") (h : wq t "speed") : shF t = 1 := (cif_f h0).trans (cif_t h)
theorem shF_2 (h0 : ¬ wq t "price") (h1 : ¬ wq t "speed") (h : wq t "rush") : shF t = 2 := (cif_f h0).trans ((cif_f h1).trans (cif_t h))
theorem shF_3 (h0 : ¬ wq t "price") (h1 : ¬ wq t "speed") (h2 : ¬ wq t "rush") (h : wq t "revise") : shF t = 3 := (cif_f h0).trans ((cif_f h1).trans ((cif_f h2).trans (cif_t h)))
theorem shF_n (h0 : ¬ wq t "price") (h1 : ¬ wq t "speed") (h2 : ¬ wq t "rush") (h : ¬ wq t "revise") : shF t = -1 := (cif_f h0).trans ((cif_f h1).trans ((cif_f h2).trans (cif_f h)))
theorem shF_r : -1 ≤ shF t ∧ shF t ≤ 3 := by
  by_cases h0 : wq t "price"
  · rw [shF_0 h0]; decide
  · by_cases h1 : wq t "speed"
    · rw [shF_1 h0 h1]; decide
    · by_cases h2 : wq t "rush"
      · rw [shF_2 h0 h1 h2]; decide
      · by_cases h3 : wq t "revise"
        · rw [shF_3 h0 h1 h2 h3]; decide
        · rw [shF_n h0 h1 h2 h3]; decide
theorem stS_1 (h : wq s.2 "band") : stS B n s = bndS B n s := cif_t h
theorem stS_2 (h1 : ¬ wq s.2 "band") (h : wq s.2 "person") : stS B n s = perS B n s := (cif_f h1).trans (cif_t h)
theorem stS_3 (h1 : ¬ wq s.2 "band") (h2 : ¬ wq s.2 "person") (h : wq s.2 "term") : stS B n s = trmS B n s := (cif_f h1).trans ((cif_f h2).trans (cif_t h))
theorem stS_4 (h1 : ¬ wq s.2 "band") (h2 : ¬ wq s.2 "person") (h3 : ¬ wq s.2 "term") (h : wq s.2 "job") : stS B n s = jobS B n s := (cif_f h1).trans ((cif_f h2).trans ((cif_f h3).trans (cif_t h)))
theorem stS_5 (h1 : ¬ wq s.2 "band") (h2 : ¬ wq s.2 "person") (h3 : ¬ wq s.2 "term") (h4 : ¬ wq s.2 "job") (h : wq s.2 "segment") : stS B n s = segS B n s := (cif_f h1).trans ((cif_f h2).trans ((cif_f h3).trans ((cif_f h4).trans (cif_t h))))
theorem stS_6 (h1 : ¬ wq s.2 "band") (h2 : ¬ wq s.2 "person") (h3 : ¬ wq s.2 "term") (h4 : ¬ wq s.2 "job") (h5 : ¬ wq s.2 "segment") (h : shF s.2 = -1) : stS B n s = flS s.2 2 := (cif_f h1).trans ((cif_f h2).trans ((cif_f h3).trans ((cif_f h4).trans ((cif_f h5).trans (if_pos h)))))
theorem stS_7 (h1 : ¬ wq s.2 "band") (h2 : ¬ wq s.2 "person") (h3 : ¬ wq s.2 "term") (h4 : ¬ wq s.2 "job") (h5 : ¬ wq s.2 "segment") (h : ¬ shF s.2 = -1) : stS B n s = setS B n (shF s.2) s := (cif_f h1).trans ((cif_f h2).trans ((cif_f h3).trans ((cif_f h4).trans ((cif_f h5).trans (if_neg h)))))
/-- only settings and percentages are others -/
theorem OkA_lo (h : OkA a) (e : ∀ i : Int, 9 ≤ i → b i = a i) (h1 : (0 ≤ b 0 ∧ b 0 ≤ 999) ∧ (1 ≤ b 1 ∧ b 1 ≤ 999) ∧ (0 ≤ b 2 ∧ b 2 ≤ 100) ∧ (0 ≤ b 3 ∧ b 3 ≤ 999)) (h2 : ∀ k : Int, 0 ≤ k → k < 5 → 0 ≤ b (4 + k) ∧ b (4 + k) ≤ 100) : OkA b := by
  have h9 := e 9 (by decide)
  have h20 := e 20 (by decide)
  have h45 := e 45 (by decide)
  have h66 := e 66 (by decide)
  refine ⟨h1, h2, ?_, ?_, ?_, ?_, ?_, ?_⟩
  · rw [h9, h20, h45, h66]; exact h.cnt
  · intro p p0 p1
    rw [h9] at p1
    unfold pNm pCp
    rw [e _ (by omega), e _ (by omega)]
    exact h.per p p0 p1
  · intro t s t0 t1
    rw [h20] at t1
    unfold tWd
    rw [e _ (by split <;> omega)]
    exact h.term t s t0 t1
  · intro j j0 j1
    rw [h45] at j1
    unfold jOf
    rw [h9, h20, e (46 + 4 * j + 0) (by omega), e (46 + 4 * j + 1) (by omega), e (46 + 4 * j + 2) (by omega), e (46 + 4 * j + 3) (by omega)]
    exact h.job j j0 j1
  · intro g g0 g1
    rw [h66] at g1
    unfold sJob sLen
    rw [h45, e _ (by omega), e _ (by split <;> omega), e _ (by split <;> omega)]
    exact h.seg g g0 g1
  · intro g k t g0 g1 k0 k1
    rw [h66] at g1
    unfold sLen at k1
    rw [e _ (by split <;> omega)] at k1
    unfold sWd
    rw [e _ (by split <;> omega)]
    exact h.wrd g k t g0 g1 k0 k1
/-- a person more -/
theorem OkA_per (h : OkA a) (h5 : ¬ a 9 = 5) (e : ∀ i : Int, ¬ i = 9 → ¬ i = 10 + 2 * a 9 → ¬ i = 10 + 2 * a 9 + 1 → b i = a i) (e9 : b 9 = a 9 + 1) (e1 : isWd (b (10 + 2 * a 9))) (e2 : 0 ≤ b (10 + 2 * a 9 + 1) ∧ b (10 + 2 * a 9 + 1) ≤ 9999) : OkA b := by
  have hc := h.cnt
  have eh : ∀ i : Int, 20 ≤ i → b i = a i := fun i hi => e i (by omega) (by omega) (by omega)
  have el : ∀ i : Int, i < 9 → b i = a i := fun i hi => e i (by omega) (by omega) (by omega)
  have h20 := eh 20 (by decide)
  have h45 := eh 45 (by decide)
  have h66 := eh 66 (by decide)
  refine ⟨?_, ?_, ?_, ?_, ?_, ?_, ?_, ?_⟩
  · rw [el 0 (by decide), el 1 (by decide), el 2 (by decide), el 3 (by decide)]; exact h.set
  · intro k k0 k1
    rw [el _ (by omega)]
    exact h.pct k k0 k1
  · rw [e9, h20, h45, h66]; omega
  · intro p p0 p1
    unfold pNm pCp
    by_cases q : p = a 9
    · rw [q]; exact ⟨e1, e2⟩
    · rw [e _ (by omega) (by omega) (by omega), e _ (by omega) (by omega) (by omega)]
      exact h.per p p0 (by omega)
  · intro t s t0 t1
    rw [h20] at t1
    unfold tWd
    rw [eh _ (by split <;> omega)]
    exact h.term t s t0 t1
  · intro j j0 j1
    rw [h45] at j1
    have := h.job j j0 j1
    unfold jOf at this ⊢
    rw [h20, e9, eh (46 + 4 * j + 0) (by omega), eh (46 + 4 * j + 1) (by omega), eh (46 + 4 * j + 2) (by omega), eh (46 + 4 * j + 3) (by omega)]
    omega
  · intro g g0 g1
    rw [h66] at g1
    unfold sJob sLen
    rw [h45, eh _ (by omega), eh _ (by split <;> omega), eh _ (by split <;> omega)]
    exact h.seg g g0 g1
  · intro g k t g0 g1 k0 k1
    rw [h66] at g1
    unfold sLen at k1
    rw [eh _ (by split <;> omega)] at k1
    unfold sWd
    rw [eh _ (by split <;> omega)]
    exact h.wrd g k t g0 g1 k0 k1
/-- a term more -/
theorem OkA_trm (h : OkA a) (h5 : ¬ a 20 = 12) (e : ∀ i : Int, ¬ i = 20 → ¬ i = 21 + 2 * a 20 → ¬ i = 21 + 2 * a 20 + 1 → b i = a i) (e9 : b 20 = a 20 + 1) (e1 : isWd (b (21 + 2 * a 20))) (e2 : isWd (b (21 + 2 * a 20 + 1))) : OkA b := by
  have hc := h.cnt
  have eh : ∀ i : Int, 45 ≤ i → b i = a i := fun i hi => e i (by omega) (by omega) (by omega)
  have el : ∀ i : Int, i < 20 → b i = a i := fun i hi => e i (by omega) (by omega) (by omega)
  have h9 := el 9 (by decide)
  have h45 := eh 45 (by decide)
  have h66 := eh 66 (by decide)
  refine ⟨?_, ?_, ?_, ?_, ?_, ?_, ?_, ?_⟩
  · rw [el 0 (by decide), el 1 (by decide), el 2 (by decide), el 3 (by decide)]; exact h.set
  · intro k k0 k1
    rw [el _ (by omega)]
    exact h.pct k k0 k1
  · rw [e9, h9, h45, h66]; omega
  · intro p p0 p1
    rw [h9] at p1
    unfold pNm pCp
    rw [el _ (by omega), el _ (by omega)]
    exact h.per p p0 (by omega)
  · intro t s t0 t1
    unfold tWd
    by_cases q : t = a 20
    · subst q
      by_cases q2 : s = 0
      · rw [if_pos q2, Int.add_zero]; exact e1
      · rw [if_neg q2]; exact e2
    · rw [e _ (by split <;> omega) (by split <;> omega) (by split <;> omega)]
      exact h.term t s t0 (by omega)
  · intro j j0 j1
    rw [h45] at j1
    have := h.job j j0 j1
    unfold jOf at this ⊢
    rw [e9, h9, eh (46 + 4 * j + 0) (by omega), eh (46 + 4 * j + 1) (by omega), eh (46 + 4 * j + 2) (by omega), eh (46 + 4 * j + 3) (by omega)]
    omega
  · intro g g0 g1
    rw [h66] at g1
    unfold sJob sLen
    rw [h45, eh _ (by omega), eh _ (by split <;> omega), eh _ (by split <;> omega)]
    exact h.seg g g0 g1
  · intro g k t g0 g1 k0 k1
    rw [h66] at g1
    unfold sLen at k1
    rw [eh _ (by split <;> omega)] at k1
    unfold sWd
    rw [eh _ (by split <;> omega)]
    exact h.wrd g k t g0 g1 k0 k1
/-- a job more -/
theorem OkA_job (h : OkA a) (h5 : ¬ a 45 = 5) (e : ∀ i : Int, ¬ i = 45 → ¬ (46 + 4 * a 45 ≤ i ∧ i < 46 + 4 * a 45 + 4) → b i = a i) (e9 : b 45 = a 45 + 1) (e0 : 0 ≤ b (46 + 4 * a 45 + 0) ∧ b (46 + 4 * a 45 + 0) < a 9) (e1 : 0 ≤ b (46 + 4 * a 45 + 1) ∧ b (46 + 4 * a 45 + 1) < a 9) (e2 : 1 ≤ b (46 + 4 * a 45 + 2) ∧ b (46 + 4 * a 45 + 2) ≤ 99) (e3 : b (46 + 4 * a 45 + 3) = a 20) : OkA b := by
  have hc := h.cnt
  have eh : ∀ i : Int, 66 ≤ i → b i = a i := fun i hi => e i (by omega) (by omega)
  have el : ∀ i : Int, i < 45 → b i = a i := fun i hi => e i (by omega) (by omega)
  have h9 := el 9 (by decide)
  have h20 := el 20 (by decide)
  have h66 := eh 66 (by decide)
  refine ⟨?_, ?_, ?_, ?_, ?_, ?_, ?_, ?_⟩
  · rw [el 0 (by decide), el 1 (by decide), el 2 (by decide), el 3 (by decide)]; exact h.set
  · intro k k0 k1
    rw [el _ (by omega)]
    exact h.pct k k0 k1
  · rw [e9, h9, h20, h66]; omega
  · intro p p0 p1
    rw [h9] at p1
    unfold pNm pCp
    rw [el _ (by omega), el _ (by omega)]
    exact h.per p p0 (by omega)
  · intro t s t0 t1
    rw [h20] at t1
    unfold tWd
    rw [el _ (by split <;> omega)]
    exact h.term t s t0 t1
  · intro j j0 j1
    rw [h9, h20]
    by_cases q : j = a 45
    · rw [q]
      show (0 ≤ b (46 + 4 * a 45 + 0) ∧ b (46 + 4 * a 45 + 0) < a 9) ∧ (0 ≤ b (46 + 4 * a 45 + 1) ∧ b (46 + 4 * a 45 + 1) < a 9) ∧ (1 ≤ b (46 + 4 * a 45 + 2) ∧ b (46 + 4 * a 45 + 2) ≤ 99) ∧ 0 ≤ b (46 + 4 * a 45 + 3) ∧ b (46 + 4 * a 45 + 3) ≤ a 20
      omega
    · have := h.job j j0 (by omega)
      unfold jOf at this ⊢
      rw [e (46 + 4 * j + 0) (by omega) (by omega), e (46 + 4 * j + 1) (by omega) (by omega), e (46 + 4 * j + 2) (by omega) (by omega), e (46 + 4 * j + 3) (by omega) (by omega)]
      exact this
  · intro g g0 g1
    rw [h66] at g1
    have := h.seg g g0 g1
    unfold sJob sLen at this ⊢
    rw [e9, eh _ (by omega), eh _ (by split <;> omega), eh _ (by split <;> omega)]
    omega
  · intro g k t g0 g1 k0 k1
    rw [h66] at g1
    unfold sLen at k1
    rw [eh _ (by split <;> omega)] at k1
    unfold sWd
    rw [eh _ (by split <;> omega)]
    exact h.wrd g k t g0 g1 k0 k1
/-- a segment more -/
theorem OkA_sgm (h : OkA a) (h5 : ¬ a 66 = 20) (h45 : ¬ a 45 = 0) (e : ∀ i : Int, ¬ i = 66 → i < 67 + 19 * a 66 → b i = a i) (e9 : b 66 = a 66 + 1) (e0 : sJob b (a 66) = a 45 - 1) (e1 : 1 ≤ sLen b (a 66) 0 ∧ sLen b (a 66) 0 ≤ 8) (e2 : 1 ≤ sLen b (a 66) 1 ∧ sLen b (a 66) 1 ≤ 8) (e3 : ∀ k : Int, 0 ≤ k → k < sLen b (a 66) 0 → isWd (sWd b (a 66) k 0)) (e4 : ∀ k : Int, 0 ≤ k → k < sLen b (a 66) 1 → isWd (sWd b (a 66) k 1)) : OkA b := by
  have hc := h.cnt
  have el : ∀ i : Int, i < 66 → b i = a i := fun i hi => e i (by omega) (by omega)
  have h9 := el 9 (by decide)
  have h20 := el 20 (by decide)
  have hj := el 45 (by decide)
  have hs : ∀ g d : Int, 0 ≤ g → g < a 66 → 0 ≤ d → d < 19 → b (67 + 19 * g + d) = a (67 + 19 * g + d) := fun g d g0 g1 d0 d1 => e _ (by omega) (by omega)
  refine ⟨?_, ?_, ?_, ?_, ?_, ?_, ?_, ?_⟩
  · rw [el 0 (by decide), el 1 (by decide), el 2 (by decide), el 3 (by decide)]; exact h.set
  · intro k k0 k1
    rw [el _ (by omega)]
    exact h.pct k k0 k1
  · rw [e9, h9, h20, hj]; omega
  · intro p p0 p1
    rw [h9] at p1
    unfold pNm pCp
    rw [el _ (by omega), el _ (by omega)]
    exact h.per p p0 (by omega)
  · intro t s t0 t1
    rw [h20] at t1
    unfold tWd
    rw [el _ (by split <;> omega)]
    exact h.term t s t0 t1
  · intro j j0 j1
    rw [hj] at j1
    unfold jOf
    rw [h9, h20, el (46 + 4 * j + 0) (by omega), el (46 + 4 * j + 1) (by omega), el (46 + 4 * j + 2) (by omega), el (46 + 4 * j + 3) (by omega)]
    exact h.job j j0 j1
  · intro g g0 g1
    by_cases q : g = a 66
    · rw [q, hj, e0]; exact ⟨by omega, e1, e2⟩
    · have q1 : g < a 66 := by omega
      unfold sJob sLen
      rw [hj, e (67 + 19 * g) (by omega) (by omega), hs g _ g0 q1 (by split <;> omega) (by split <;> omega), hs g _ g0 q1 (by split <;> omega) (by split <;> omega)]
      exact h.seg g g0 q1
  · intro g k t g0 g1 k0 k1
    by_cases q : g = a 66
    · subst q
      by_cases q2 : t = 0
      · subst q2; exact e3 k k0 k1
      · rw [sLen_1 q2] at k1
        rw [sWd_1 q2]
        exact e4 k k0 k1
    · have q1 : g < a 66 := by omega
      have k2 : k < sLen a g t := by
        unfold sLen at k1 ⊢
        rw [hs g _ g0 q1 (by split <;> omega) (by split <;> omega)] at k1
        exact k1
      have k3 := h.len g t g0 q1
      unfold sWd
      rw [show 67 + 19 * g + 3 + (if t = 0 then 0 else 8) + k = 67 + 19 * g + (3 + (if t = 0 then 0 else 8) + k) by omega, hs g _ g0 q1 (by split <;> omega) (by split <;> omega), show 67 + 19 * g + (3 + (if t = 0 then 0 else 8) + k) = 67 + 19 * g + 3 + (if t = 0 then 0 else 8) + k by omega]
      exact h.wrd g k t g0 q1 k0 k2
theorem bnd_in {r : PR} {f : PS → PR} (h : bnd r f = .inl s') : ∃ s2 : PS, r = .inl s2 ∧ f s2 = .inl s' := by
  match r, h with
  | .inl s2, h => exact ⟨s2, rfl, h⟩
  | .inr e, h => exact absurd h (fun q => by cases q)
theorem tkN (hk : TkOk n t) : TkOk n (tkF B n t.nx) ∧ t.nx ≤ (tkF B n t.nx).st := tkF_ok (by have := hk.2.1; omega) (by have := hk.2.1; omega)
theorem tkL (hk : TkOk n t) (h : ¬ t.k = 0) : t.st < t.nx := hk.2.2.1 h
theorem setS_ok (h : OkA s.1) (hk : TkOk n s.2) {w : Int} (hw : 0 ≤ w ∧ w ≤ 3) (hr : setS B n w s = .inl s') : OkA s'.1 ∧ TkOk n s'.2 ∧ s.2.nx ≤ s'.2.st := by
  obtain ⟨k1, k2⟩ := tkN (B := B) hk
  obtain ⟨r1, r2, r3, r4, r5⟩ := numS_k (s := (s.1, tkF B n s.2.nx)) k1 hr
  have l1 := k1.2.1
  subst r3
  refine ⟨OkA_lo h (fun i hi => zup_n (by omega)) ?_ (fun k k0 k1 => ?_), r4, ?_⟩
  · have hs := h.set
    have r1' : (if w = 1 then (1 : Int) else 0) ≤ (tkF B n s.2.nx).v ∧ (tkF B n s.2.nx).v ≤ (if w = 2 then 100 else 999) := r1
    show (0 ≤ zup s.1 w (tkF B n s.2.nx).v 0 ∧ zup s.1 w (tkF B n s.2.nx).v 0 ≤ 999) ∧ (1 ≤ zup s.1 w (tkF B n s.2.nx).v 1 ∧ zup s.1 w (tkF B n s.2.nx).v 1 ≤ 999) ∧ (0 ≤ zup s.1 w (tkF B n s.2.nx).v 2 ∧ zup s.1 w (tkF B n s.2.nx).v 2 ≤ 100) ∧ (0 ≤ zup s.1 w (tkF B n s.2.nx).v 3 ∧ zup s.1 w (tkF B n s.2.nx).v 3 ≤ 999)
    unfold zup
    rcases (show w = 0 ∨ w = 1 ∨ w = 2 ∨ w = 3 by omega) with q | q | q | q <;> subst q <;> simp at r1' ⊢ <;> omega
  · show 0 ≤ zup s.1 w (tkF B n s.2.nx).v (4 + k) ∧ zup s.1 w (tkF B n s.2.nx).v (4 + k) ≤ 100
    rw [zup_n (by omega)]; exact h.pct k k0 k1
  · show s.2.nx ≤ (tkF B n (tkF B n s.2.nx).nx).st
    have r5' : (tkF B n s.2.nx).nx ≤ (tkF B n (tkF B n s.2.nx).nx).st := r5
    omega
theorem bndS_ok (h : OkA s.1) (hk : TkOk n s.2) (hr : bndS B n s = .inl s') : OkA s'.1 ∧ TkOk n s'.2 ∧ s.2.nx ≤ s'.2.st := by
  obtain ⟨k1, k2⟩ := tkN (B := B) hk
  have l1 := k1.2.1
  by_cases c1 : (tkF B n s.2.nx).k = 3
  · by_cases c2 : (tkF B n s.2.nx).v < 5
    · have e := bndS_c (B := B) (n := n) (a := s.1) (t := s.2) c1 c2
      have hr2 := e.symm.trans hr
      obtain ⟨k3, k4⟩ := tkN (B := B) k1
      have l3 := k3.2.1
      obtain ⟨r1, r2, r3, r4, r5⟩ := numS_k (s := (s.1, tkF B n (tkF B n s.2.nx).nx)) k3 hr2
      have v0 := k1.2.2.2.1 c1
      subst r3
      refine ⟨OkA_lo h (fun i hi => zup_n (by omega)) ?_ (fun k z0 z1 => ?_), r4, ?_⟩
      · dsimp only
        rw [show zup s.1 (4 + (tkF B n s.2.nx).v) _ 0 = s.1 0 from zup_n (by omega), show zup s.1 (4 + (tkF B n s.2.nx).v) _ 1 = s.1 1 from zup_n (by omega), show zup s.1 (4 + (tkF B n s.2.nx).v) _ 2 = s.1 2 from zup_n (by omega), show zup s.1 (4 + (tkF B n s.2.nx).v) _ 3 = s.1 3 from zup_n (by omega)]
        exact h.set
      · by_cases q : k = (tkF B n s.2.nx).v
        · subst q; dsimp only; rw [zup_v]; exact r1
        · dsimp only; rw [zup_n (by omega)]; exact h.pct k z0 z1
      · have r5' : (tkF B n (tkF B n s.2.nx).nx).nx ≤ _ := r5
        omega
    · have e := bndS_b (B := B) (n := n) (a := s.1) (t := s.2) c1 c2
      exact absurd (e.symm.trans hr) flS_n
  · have e := bndS_a (B := B) (n := n) (a := s.1) (t := s.2) c1
    exact absurd (e.symm.trans hr) flS_n
theorem perS_ok (h : OkA s.1) (hk : TkOk n s.2) (hr : perS B n s = .inl s') : OkA s'.1 ∧ TkOk n s'.2 ∧ s.2.nx ≤ s'.2.st := by
  obtain ⟨k1, k2⟩ := tkN (B := B) hk
  have l1 := k1.2.1
  by_cases c0 : s.1 9 = 5
  · exact absurd ((perS_a (B := B) (n := n) (a := s.1) (t := s.2) c0).symm.trans hr) flS_n
  by_cases c1 : (tkF B n s.2.nx).k = 2
  · by_cases c2 : pnF s.1 (tkF B n s.2.nx).v = -1
    · have hr2 := (perS_d (B := B) (n := n) (a := s.1) (t := s.2) c0 c1 c2).symm.trans hr
      obtain ⟨s2, g1, g2⟩ := bnd_in hr2
      obtain ⟨k3, k4⟩ := tkN (B := B) k1
      have l3 := k3.2.1
      obtain ⟨r1, r2, r3, r4, r5⟩ := numS_k (s := (zup s.1 (10 + 2 * s.1 9) (tkF B n s.2.nx).v, tkF B n (tkF B n s.2.nx).nx)) k3 g1
      have g3 : s' = (zup s2.1 9 (s2.1 9 + 1), s2.2) := (Sum.inl.inj g2).symm
      have hw := k1.2.2.2.2 c1
      have hc := h.cnt
      have r3' : s2.1 = zup (zup s.1 (10 + 2 * s.1 9) (tkF B n s.2.nx).v) (10 + 2 * s.1 9 + 1) (tkF B n (tkF B n s.2.nx).nx).v := by rw [r3]
      have e9 : s2.1 9 = s.1 9 := by rw [r3', zup_n (by omega), zup_n (by omega)]
      subst g3
      refine ⟨OkA_per h c0 (fun i i0 i1 i2 => ?_) ?_ ?_ ?_, r4, ?_⟩
      · show zup s2.1 9 _ i = _
        rw [zup_n i0, r3', zup_n i2, zup_n i1]
      · dsimp only; rw [zup_v, e9]
      · show isWd (zup s2.1 9 _ _)
        rw [zup_n (by omega), r3', zup_n (by omega), zup_v]; exact hw
      · show 0 ≤ zup s2.1 9 _ _ ∧ zup s2.1 9 _ _ ≤ 9999
        rw [zup_n (by omega), r3', zup_v]; exact r1
      · have r5' : (tkF B n (tkF B n s.2.nx).nx).nx ≤ s2.2.st := r5
        show s.2.nx ≤ s2.2.st
        omega
    · exact absurd ((perS_c (B := B) (n := n) (a := s.1) (t := s.2) c0 c1 c2).symm.trans hr) flS_n
  · exact absurd ((perS_b (B := B) (n := n) (a := s.1) (t := s.2) c0 c1).symm.trans hr) flS_n
theorem trmS_ok (h : OkA s.1) (hk : TkOk n s.2) (hr : trmS B n s = .inl s') : OkA s'.1 ∧ TkOk n s'.2 ∧ s.2.nx ≤ s'.2.st := by
  obtain ⟨k1, k2⟩ := tkN (B := B) hk
  have l1 := k1.2.1
  have hc := h.cnt
  by_cases c0 : s.1 20 = 12
  · exact absurd ((trmS_a (B := B) (n := n) (a := s.1) (t := s.2) c0).symm.trans hr) flS_n
  obtain ⟨s2, g1, g2⟩ := bnd_in ((trmS_b (B := B) (n := n) (a := s.1) (t := s.2) c0).symm.trans hr)
  obtain ⟨s3, g3, g4⟩ := bnd_in g2
  obtain ⟨s4, g5, g6⟩ := bnd_in g4
  obtain ⟨p1, p2, p3, p4⟩ := wrdS_k (s := (s.1, tkF B n s.2.nx)) k1 g1
  obtain ⟨q1, q2, q3, q4⟩ := sgnS_k p3 g3
  obtain ⟨r1, r2, r3, r4⟩ := wrdS_k q3 g5
  have g7 : s' = (zup s4.1 20 (s4.1 20 + 1), s4.2) := (Sum.inl.inj g6).symm
  have e2 : s2.1 = zup s.1 (21 + 2 * s.1 20) (tkF B n s.2.nx).v := by rw [p2]
  have e3 : s3.1 = s2.1 := by rw [q2]
  have e4 : s4.1 = zup s3.1 (21 + 2 * s.1 20 + 1) s3.2.v := by rw [r2]
  have e9 : s4.1 20 = s.1 20 := by rw [e4, zup_n (by omega), e3, e2, zup_n (by omega)]
  have m1 := p3.2.1
  have m2 := q3.2.1
  have m3 := r3.2.1
  have p4' : (tkF B n s.2.nx).nx ≤ s2.2.st := p4
  subst g7
  refine ⟨OkA_trm h c0 (fun i i0 i1 i2 => ?_) ?_ ?_ ?_, r3, ?_⟩
  · show zup s4.1 20 _ i = _
    rw [zup_n i0, e4, zup_n i2, e3, e2, zup_n i1]
  · dsimp only; rw [zup_v, e9]
  · show isWd (zup s4.1 20 _ _)
    rw [zup_n (by omega), e4, zup_n (by omega), e3, e2, zup_v]
    exact k1.2.2.2.2 p1
  · show isWd (zup s4.1 20 _ _)
    rw [zup_n (by omega), e4, zup_v]
    exact q3.2.2.2.2 r1
  · show s.2.nx ≤ s4.2.st
    omega
theorem jobS_ok (h : OkA s.1) (hk : TkOk n s.2) (hr : jobS B n s = .inl s') : OkA s'.1 ∧ TkOk n s'.2 ∧ s.2.nx ≤ s'.2.st := by
  obtain ⟨k1, k2⟩ := tkN (B := B) hk
  have l1 := k1.2.1
  have hc := h.cnt
  have hp := PkA_of h
  by_cases c0 : s.1 45 = 5
  · exact absurd ((jobS_a (B := B) (n := n) (a := s.1) (t := s.2) c0).symm.trans hr) flS_n
  obtain ⟨s2, g1, g2⟩ := bnd_in ((jobS_b (B := B) (n := n) (a := s.1) (t := s.2) c0).symm.trans hr)
  obtain ⟨s3, g3, g4⟩ := bnd_in g2
  obtain ⟨s4, g5, g6⟩ := bnd_in g4
  obtain ⟨p1, p2, p3, p4, p5, p6, p7, p8, p9⟩ := pinS_k (s := (s.1, tkF B n s.2.nx)) k1 hp g1
  have p4a : s2.1 = zup s.1 (46 + 4 * s.1 45 + 0) (pnF s.1 (tkF B n s.2.nx).v) := by rw [p4]
  have hp2 : PkA s2.1 := by rw [p4a]; exact PkA_z hp (by omega) (by omega) (by omega) (by omega)
  obtain ⟨q1, q2, q3, q4, q5, q6, q7, q8, q9⟩ := pinS_k p5 hp2 g3
  have q4a : s3.1 = zup s2.1 (46 + 4 * s.1 45 + 1) (pnF s2.1 s2.2.v) := by rw [q4]
  obtain ⟨r1, r2, r3, r4, r5⟩ := numS_k q5 g5
  have r3a : s4.1 = zup s3.1 (46 + 4 * s.1 45 + 2) s3.2.v := by rw [r3]
  have g7 : s' = (zup (zup s4.1 (46 + 4 * s.1 45 + 3) (s4.1 20)) 45 (zup s4.1 (46 + 4 * s.1 45 + 3) (s4.1 20) 45 + 1), s4.2) := (Sum.inl.inj g6).symm
  have m1 := p5.2.1
  have m2 := q5.2.1
  have m3 := r4.2.1
  have p6' : (tkF B n s.2.nx).nx ≤ s2.2.st := p6
  have h2_9 : s2.1 9 = s.1 9 := by rw [p4a, zup_n (by omega)]
  subst g7
  have eo : ∀ i : Int, ¬ i = 45 → ¬ i = 46 + 4 * s.1 45 + 3 → zup (zup s4.1 (46 + 4 * s.1 45 + 3) (s4.1 20)) 45 (zup s4.1 (46 + 4 * s.1 45 + 3) (s4.1 20) 45 + 1) i = s4.1 i := fun i i0 i1 => by rw [zup_n i0, zup_n i1]
  have e4 : ∀ i : Int, ¬ (46 + 4 * s.1 45 ≤ i ∧ i < 46 + 4 * s.1 45 + 4) → s4.1 i = s.1 i := fun i hi => by rw [r3a, zup_n (by omega), q4a, zup_n (by omega), p4a, zup_n (by omega)]
  refine ⟨OkA_job h c0 (fun i i0 i1 => ?_) ?_ ?_ ?_ ?_ ?_, r4, ?_⟩
  · exact (eo i i0 (by omega)).trans (e4 i i1)
  · dsimp only; rw [zup_v, zup_n (by omega), e4 45 (by omega)]
  · show 0 ≤ zup (zup s4.1 _ _) 45 _ _ ∧ zup (zup s4.1 _ _) 45 _ _ < _
    rw [eo _ (by omega) (by omega), r3a, zup_n (by omega), q4a, zup_n (by omega)]
    exact ⟨p8, p9⟩
  · show 0 ≤ zup (zup s4.1 _ _) 45 _ _ ∧ zup (zup s4.1 _ _) 45 _ _ < _
    rw [eo _ (by omega) (by omega), r3a, zup_n (by omega), ← h2_9]
    exact ⟨q8, q9⟩
  · show 1 ≤ zup (zup s4.1 _ _) 45 _ _ ∧ zup (zup s4.1 _ _) 45 _ _ ≤ _
    rw [eo _ (by omega) (by omega), r3a, zup_v]
    exact r1
  · show zup (zup s4.1 _ _) 45 _ _ = _
    rw [zup_n (by omega), zup_v, e4 20 (by omega)]
  · show s.2.nx ≤ s4.2.st
    omega
theorem segS_ok (h : OkA s.1) (hk : TkOk n s.2) (hr : segS B n s = .inl s') : OkA s'.1 ∧ TkOk n s'.2 ∧ s.2.nx ≤ s'.2.st := by
  obtain ⟨k1, k2⟩ := tkN (B := B) hk
  have l1 := k1.2.1
  have hc := h.cnt
  by_cases c0 : s.1 45 = 0
  · exact absurd ((segS_a (B := B) (n := n) (a := s.1) (t := s.2) c0).symm.trans hr) flS_n
  by_cases c1 : s.1 66 = 20
  · exact absurd ((segS_b (B := B) (n := n) (a := s.1) (t := s.2) c0 c1).symm.trans hr) flS_n
  obtain ⟨s2, g1, g2⟩ := bnd_in ((segS_c (B := B) (n := n) (a := s.1) (t := s.2) c0 c1).symm.trans hr)
  obtain ⟨s3, g3, g4⟩ := bnd_in g2
  obtain ⟨s4, g5, g6⟩ := bnd_in g4
  obtain ⟨p1, p2, p3, p4, p5⟩ := wlS_k0 (by omega) k1 g1
  obtain ⟨q1, q2, q3, q4⟩ := sgnS_k p1 g3
  obtain ⟨r1, r2, r3, r4, r5⟩ := wlS_k0 (by omega) q3 g5
  have g7 : s' = (zup (zup s4.1 (67 + 19 * s.1 66 + 0) (s4.1 45 - 1)) 66 (zup s4.1 (67 + 19 * s.1 66 + 0) (s4.1 45 - 1) 66 + 1), s4.2) := (Sum.inl.inj g6).symm
  have e3 : s3.1 = s2.1 := by rw [q2]
  have m1 := p1.2.1
  have m2 := q3.2.1
  have m3 := r1.2.1
  subst g7
  have eo : ∀ i : Int, ¬ i = 66 → ¬ i = 67 + 19 * s.1 66 → zup (zup s4.1 (67 + 19 * s.1 66 + 0) (s4.1 45 - 1)) 66 (zup s4.1 (67 + 19 * s.1 66 + 0) (s4.1 45 - 1) 66 + 1) i = s4.1 i := fun i i0 i1 => by rw [zup_n i0, zup_n (by omega)]
  have e4 : ∀ i : Int, i < 67 + 19 * s.1 66 → s4.1 i = s.1 i := fun i hi => by rw [r5 i (by omega) (by omega), e3, p5 i (by omega) (by omega)]
  have e5 : ∀ i : Int, ¬ i = 67 + 19 * s.1 66 + 2 → ¬ (67 + 19 * s.1 66 + 3 + 8 ≤ i ∧ i < 67 + 19 * s.1 66 + 3 + 8 + 8) → s4.1 i = s2.1 i := fun i i0 i1 => by rw [r5 i i0 i1, e3]
  have eL0 : s4.1 (67 + 19 * s.1 66 + 1) = s2.1 (67 + 19 * s.1 66 + 1) := e5 _ (by omega) (by omega)
  refine ⟨OkA_sgm h c1 c0 (fun i i0 i1 => ?_) ?_ ?_ ?_ ?_ ?_ ?_, r1, ?_⟩
  · exact (eo i i0 (by omega)).trans (e4 i i1)
  · dsimp only; rw [zup_v, zup_n (by omega), e4 66 (by omega)]
  · show zup (zup s4.1 _ _) 66 _ (67 + 19 * s.1 66) = _
    rw [zup_n (by omega), show zup s4.1 (67 + 19 * s.1 66 + 0) (s4.1 45 - 1) (67 + 19 * s.1 66) = s4.1 45 - 1 by rw [Int.add_zero]; exact zup_v, e4 45 (by omega)]
  · show 1 ≤ zup (zup s4.1 _ _) 66 _ (67 + 19 * s.1 66 + 1) ∧ zup (zup s4.1 _ _) 66 _ (67 + 19 * s.1 66 + 1) ≤ 8
    rw [eo _ (by omega) (by omega), eL0]; exact p3
  · show 1 ≤ zup (zup s4.1 _ _) 66 _ (67 + 19 * s.1 66 + 2) ∧ zup (zup s4.1 _ _) 66 _ (67 + 19 * s.1 66 + 2) ≤ 8
    rw [eo _ (by omega) (by omega)]; exact r3
  · intro k z0 z1
    have z2 : k < zup (zup s4.1 (67 + 19 * s.1 66 + 0) (s4.1 45 - 1)) 66 (zup s4.1 (67 + 19 * s.1 66 + 0) (s4.1 45 - 1) 66 + 1) (67 + 19 * s.1 66 + 1) := z1
    rw [eo _ (by omega) (by omega), eL0] at z2
    show isWd (zup (zup s4.1 _ _) 66 _ (67 + 19 * s.1 66 + 3 + 0 + k))
    rw [eo _ (by omega) (by omega), e5 _ (by omega) (by omega), Int.add_zero]
    exact p4 k z0 z2
  · intro k z0 z1
    have z2 : k < zup (zup s4.1 (67 + 19 * s.1 66 + 0) (s4.1 45 - 1)) 66 (zup s4.1 (67 + 19 * s.1 66 + 0) (s4.1 45 - 1) 66 + 1) (67 + 19 * s.1 66 + 2) := z1
    rw [eo _ (by omega) (by omega)] at z2
    show isWd (zup (zup s4.1 _ _) 66 _ (67 + 19 * s.1 66 + 3 + 8 + k))
    rw [eo _ (by omega) (by omega)]
    exact r4 k z0 z2
  · show s.2.nx ≤ s4.2.st
    omega
theorem stS_ok (h : OkA s.1) (hk : TkOk n s.2) (hr : stS B n s = .inl s') : OkA s'.1 ∧ TkOk n s'.2 ∧ s.2.nx ≤ s'.2.st := by
  by_cases h1 : wq s.2 "band"
  · rw [stS_1 h1] at hr; exact bndS_ok h hk hr
  by_cases h2 : wq s.2 "person"
  · rw [stS_2 h1 h2] at hr; exact perS_ok h hk hr
  by_cases h3 : wq s.2 "term"
  · rw [stS_3 h1 h2 h3] at hr; exact trmS_ok h hk hr
  by_cases h4 : wq s.2 "job"
  · rw [stS_4 h1 h2 h3 h4] at hr; exact jobS_ok h hk hr
  by_cases h5 : wq s.2 "segment"
  · rw [stS_5 h1 h2 h3 h4 h5] at hr; exact segS_ok h hk hr
  by_cases h6 : shF s.2 = -1
  · rw [stS_6 h1 h2 h3 h4 h5 h6] at hr; exact absurd hr flS_n
  · rw [stS_7 h1 h2 h3 h4 h5 h6] at hr
    have := shF_r (t := s.2)
    exact setS_ok h hk (by omega) hr
theorem prS_0 {f : Nat} (h : s.2.k = 0) : prS B n (f + 1) s = .inl s := if_pos h
theorem prS_s {f : Nat} (h : ¬ s.2.k = 0) : prS B n (f + 1) s = bnd (stS B n s) fun s2 => bnd (sgnS B n 4 s2) fun s3 => prS B n f s3 := if_neg h
theorem prS_ok : ∀ (f : Nat) (s : PS), OkA s.1 → TkOk n s.2 → ∀ s' : PS, prS B n f s = .inl s' → OkA s'.1
  | 0, s, h, hk, s', hr => by
    have e : s' = s := (Sum.inl.inj hr).symm
    rw [e]; exact h
  | f + 1, s, h, hk, s', hr => by
    by_cases c : s.2.k = 0
    · have e : s' = s := (Sum.inl.inj ((prS_0 (B := B) (n := n) (f := f) c).symm.trans hr)).symm
      rw [e]; exact h
    · obtain ⟨s2, g1, g2⟩ := bnd_in ((prS_s (B := B) (n := n) (f := f) c).symm.trans hr)
      obtain ⟨s3, g3, g4⟩ := bnd_in g2
      obtain ⟨h2, k2, -⟩ := stS_ok h hk g1
      obtain ⟨q1, q2, q3, q4⟩ := sgnS_k k2 g3
      exact prS_ok f s3 (by rw [q2]; exact h2) q3 s' g4
end
