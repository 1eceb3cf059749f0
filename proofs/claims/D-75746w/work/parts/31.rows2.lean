/-! ROWS of GV, more -/
set_option maxRecDepth 100000
theorem z_nI (n : Nat) : Int32.ofInt (n : Int) = nI n := by
  apply Int32.toBitVec_inj.mp
  simp [nI]
theorem z_tb (a : Int) : (Int32.ofInt a).toBitVec = BitVec.ofInt 32 a := rfl
theorem z_tn (a : Int) : ((Int32.ofInt a).toBitVec.toNat : Int) = a % 4294967296 := by
  rw [z_tb, BitVec.toNat_ofInt]
  omega
theorem z_eqn {x : Int32} {a : Int} (h0 : 0 ≤ a) (h1 : a < 4294967296) (h : (x.toBitVec.toNat : Int) = a) : x = Int32.ofInt a := by
  apply Int32.toBitVec_inj.mp
  apply BitVec.eq_of_toNat_eq
  have := z_tn a
  omega
theorem z_i2c {a : Int} (h : 0 ≤ a ∧ a < 65536) : ((Int32.ofInt a).toUInt32 % 65536).toInt32 = Int32.ofInt a := by
  rw [pk_char]
  have e := z_tn a
  rw [show (Int32.ofInt a).toBitVec.toNat % 65536 = a.toNat by omega, ← z_nI, Int.toNat_of_nonneg h.1]
theorem z_i2b (a : Int) : (Int32.ofInt a).toInt8.toInt32 = Int32.ofInt (a.bmod 256) := by
  rw [← Int32.toInt_inj, Int8.toInt_toInt32, Int32.toInt_toInt8, Int32.toInt_ofInt, Int32.toInt_ofInt]
  simp only [Int32.size]
  rw [Int.bmod_bmod_of_dvd (by decide)]
  have h1 := Int.bmod_le (x := a) (m := 256) (by decide)
  have h2 := Int.le_bmod (x := a) (m := 256) (by decide)
  have e : (a.bmod 256).bmod 4294967296 = a.bmod 256 := Int.bmod_eq_of_le (by omega) (by omega)
  exact e.symm
theorem z_and {x : Int32} : ((x &&& 255).toBitVec.toNat : Int) = (x.toBitVec.toNat : Int) % 256 := by
  rw [Int32.toBitVec_and, BitVec.toNat_and]
  have : (255 : Int32).toBitVec.toNat = 2 ^ 8 - 1 := by decide
  rw [this, Nat.and_two_pow_sub_one_eq_mod]
  omega
theorem z_iand (a : Int) : Int32.ofInt a &&& Int32.ofInt 255 = Int32.ofInt (a % 256) := by
  refine z_eqn (by omega) (by omega) ?_
  rw [show Int32.ofInt 255 = 255 by decide, z_and, z_tn]
  omega
theorem z_ishr {a s : Int} (k : Nat) (hs : ((Int32.ofInt s &&& 31).toBitVec.smod 32).toNat = k) (ha : -2147483648 ≤ a ∧ a < 2147483648) : Int32.ofInt a >>> (Int32.ofInt s &&& 31) = Int32.ofInt (a / 2 ^ k) := by
  rw [← Int32.toInt_inj, pk_shr _ _ k hs, Int32_ofInt_range ha, Int.shiftRight_eq_div_pow]
  have h2 : (0 : Int) < 2 ^ k := Int.pow_pos (by decide)
  have h3 : -2147483648 ≤ a / 2 ^ k := by
    rw [Int.le_ediv_iff_mul_le h2]
    have : (1 : Int) ≤ 2 ^ k := h2
    have := Int.mul_le_mul_of_nonpos_left (a := -2147483648) (by decide) this
    omega
  have h4 : a / 2 ^ k < 2147483648 := by
    rw [Int.ediv_lt_iff_lt_mul h2]
    have : (1 : Int) ≤ 2 ^ k := h2
    have := Int.mul_le_mul_of_nonneg_left (c := 2147483648) this (by decide)
    omega
  rw [Int32_ofInt_range ⟨h3, h4⟩]
  norm_cast
theorem z_ushand {a s : Int} (k : Nat) (hs : (((Int32.ofInt s).toUInt32 &&& Int32.toUInt32 31).toBitVec % 32).toNat = k) (hk : k = 0 ∨ k = 8 ∨ k = 16 ∨ k = 24) : ((Int32.ofInt a).toUInt32 >>> ((Int32.ofInt s).toUInt32 &&& Int32.toUInt32 31)).toInt32 &&& Int32.ofInt 255 = Int32.ofInt (a / 2 ^ k % 256) := by
  refine z_eqn (by omega) (by omega) ?_
  rw [show Int32.ofInt 255 = 255 by decide, z_and, pk_ushr _ _ k hs]
  have e := z_tn a
  rcases hk with q | q | q | q <;> subst q <;> simp <;> omega
section ROWS2
variable {own : String} {cc : ByteArray} {Z : ZT} {B : Nat → Prop} {Hb : Heap} {ws : va_W} {kc ks pc : Nat} {L : List (Option Value)} {st : List Value}
theorem zi_i2c {a : Int} (d : decode cc pc = .ok (.i2c, 1)) (h : 0 ≤ a ∧ a < 65536) (k : GV own cc Z B Hb ws kc ks (pc + 1) L (jI a :: st)) : GV own cc Z B Hb ws kc ks pc L (jI a :: st) :=
  zi_s (fun C H locs cells slots ls hL w => lv_i2c C.1 C.2.1 d (z_i2c h) w) k
theorem zi_i2b {a : Int} (d : decode cc pc = .ok (.i2b, 1)) (k : GV own cc Z B Hb ws kc ks (pc + 1) L (jI (a.bmod 256) :: st)) : GV own cc Z B Hb ws kc ks pc L (jI a :: st) :=
  zi_s (fun C H locs cells slots ls hL w => lv_i2b C.1 C.2.1 d (z_i2b a) w) k
theorem zi_iand255 {a : Int} (d : decode cc pc = .ok (.iand, 1)) (k : GV own cc Z B Hb ws kc ks (pc + 1) L (jI (a % 256) :: st)) : GV own cc Z B Hb ws kc ks pc L (jI 255 :: jI a :: st) :=
  zi_s (fun C H locs cells slots ls hL w => lv_iand C.1 C.2.1 d (by rw [z_iand]; exact w)) k
theorem zi_ishr {a s : Int} (n : Nat) (d : decode cc pc = .ok (.ishr, 1)) (hs : ((Int32.ofInt s &&& 31).toBitVec.smod 32).toNat = n) (ha : -2147483648 ≤ a ∧ a < 2147483648) (k : GV own cc Z B Hb ws kc ks (pc + 1) L (jI (a / 2 ^ n) :: st)) : GV own cc Z B Hb ws kc ks pc L (jI s :: jI a :: st) :=
  zi_s (fun C H locs cells slots ls hL w => lv_ishr C.1 C.2.1 d (by rw [z_ishr n hs ha]; exact w)) k
theorem zi_ushand {a s : Int} (n : Nat) (d : decode cc pc = .ok (.iushr, 1)) (d2 : decode cc (pc + 1) = .ok (.sipush 255, 3)) (d3 : decode cc (pc + 4) = .ok (.iand, 1)) (hs : (((Int32.ofInt s).toUInt32 &&& Int32.toUInt32 31).toBitVec % 32).toNat = n) (hk : n = 0 ∨ n = 8 ∨ n = 16 ∨ n = 24) (k : GV own cc Z B Hb ws kc ks (pc + 5) L (jI (a / 2 ^ n % 256) :: st)) : GV own cc Z B Hb ws kc ks pc L (jI s :: jI a :: st) := by
  refine zi_s (fun C H locs cells slots ls hL w => lv_iushr C.1 C.2.1 d rfl w) ?_
  refine zi_sipush d2 (by decide +kernel) ?_
  exact zi_s (fun C H locs cells slots ls hL w => lv_iand C.1 C.2.1 d3 (by rw [z_ushand n hs hk]; exact w)) k
theorem zi_lookup {z dflt : Int} {ps : Array (Int × Int)} {len : Nat} {off : Int} (hz : -2147483648 ≤ z ∧ z < 2147483648) (tgt : Nat) (d : decode cc pc = .ok (.lookupswitch dflt ps, len)) (hp : (ps.toList.zip (ps.toList.drop 1)).all (fun (a, next) => a.1 < next.1) = true) (ho : Op.lookupswitch.offset ps.toList dflt z = off) (ht : (pc : Int) + off = (tgt : Int)) (k : GV own cc Z B Hb ws kc ks tgt L st) : GV own cc Z B Hb ws kc ks pc L (jI z :: st) :=
  zi_s (fun C H locs cells slots ls hL w => lv_lookup C.1 C.2.1 d hp (by rw [Int32_ofInt_range hz]; exact ho) ht w) k
theorem zi_ddiv {x y : UInt64} (d : decode cc pc = .ok (.ddiv, 1)) (hne : vf_n64 (FP.ddiv x y)) (k : GV own cc Z B Hb ws kc ks (pc + 1) L (.double (FP.ddiv x y) :: st)) : GV own cc Z B Hb ws kc ks pc L (.double y :: .double x :: st) :=
  zi_s (fun C H locs cells slots ls hL w => lv_ddiv C.1 C.2.1 d hne w) k
theorem zi_dcmp {x y : UInt64} {op : CmpOp} (d : decode cc pc = .ok (.dcmp op, 1)) (k : GV own cc Z B Hb ws kc ks (pc + 1) L (.int (Op.cmpValue (FP.dcmp x y) op) :: st)) : GV own cc Z B Hb ws kc ks pc L (.double y :: .double x :: st) :=
  zi_s (fun C H locs cells slots ls hL w => lv_dcmp C.1 C.2.1 d w) k
end ROWS2
