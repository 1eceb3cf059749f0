/-! WHAT IS COMPUTED: a statement, a text -/
set_option maxRecDepth 100000
theorem zgetD_all {w : List Int} (h : ∀ c ∈ w, 0 ≤ c ∧ c ≤ 255) (j : Nat) : 0 ≤ w.getD j 0 ∧ w.getD j 0 ≤ 255 := by
  by_cases q : j < w.length
  · exact h _ (zgetD_mem q)
  · rw [List.getD_eq_getElem?_getD, List.getElem?_eq_none (by omega)]
    simp
def wq (t : TkS) (x : String) : Prop := t.k = 2 ∧ t.v = cdW (zcs x) 0
noncomputable def shF (t : TkS) : Int := cif (wq t "price") 0 (cif (wq t "speed") 1 (cif (wq t "rush") 2 (cif (wq t "revise") 3 (-1))))
noncomputable def stS (B : Int → Int) (n : Int) (s : PS) : PR := cif (wq s.2 "band") (bndS B n s) (cif (wq s.2 "person") (perS B n s) (cif (wq s.2 "term") (trmS B n s) (cif (wq s.2 "job") (jobS B n s) (cif (wq s.2 "segment") (segS B n s) (if shF s.2 = -1 then flS s.2 2 else setS B n (shF s.2) s)))))
noncomputable def prS (B : Int → Int) (n : Int) : Nat → PS → PR
  | 0, s => .inl s
  | f + 1, s => if s.2.k = 0 then .inl s else bnd (stS B n s) fun s2 => bnd (sgnS B n 4 s2) fun s3 => prS B n f s3
