/-! WHAT IS COMPUTED: bytes fed -/
set_option maxRecDepth 100000
theorem z_nc {v : Int} (h : 0 ≤ v ∧ v < 65536) : narrow .char (jI v) = jI v := by
  have e : Int32.ofInt v = nI v.toNat := by rw [← z_nI, Int.toNat_of_nonneg h.1]
  show narrow .char (.int (Int32.ofInt v)) = .int (Int32.ofInt v)
  rw [e]
  exact (pk_charN (by omega)).1
/-- byte j of a word, the highest first -/
def byF (x j : Int) : Int := if j = 0 then x / 2 ^ 24 % 256 else if j = 1 then x / 2 ^ 16 % 256 else if j = 2 then x / 2 ^ 8 % 256 else x / 2 ^ 0 % 256
theorem byF_r (x j : Int) : 0 ≤ byF x j ∧ byF x j ≤ 255 := by
  unfold byF
  repeat' split
  all_goals omega
/-- the bytes of five words -/
def fdB (x1 x2 x3 x4 x5 j : Int) : Int := if j < 4 then byF x1 j else if j < 8 then byF x2 (j - 4) else if j < 12 then byF x3 (j - 8) else if j < 16 then byF x4 (j - 12) else byF x5 (j - 16)
theorem fdB_r (x1 x2 x3 x4 x5 j : Int) : 0 ≤ fdB x1 x2 x3 x4 x5 j ∧ fdB x1 x2 x3 x4 x5 j ≤ 255 := by
  unfold fdB
  repeat' split
  all_goals exact byF_r _ _
