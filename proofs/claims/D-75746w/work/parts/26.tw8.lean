/-! THE REFERENCE: tokens -/
set_option maxRecDepth 100000
theorem mw_X3_byteAt : MWV yX3_byteAt cX3_byteAt 2 (some Jvm.ClassFile.FieldType.int) 1 := ⟨q2552, qs45, q128, q2553, by decide, by decide +kernel, by decide +kernel, by decide +kernel⟩
set_option maxHeartbeats 4000000 in
theorem tc_byteAt (l : Launch) (E : ZE) (o : Nat) (ad : Nat → Nat) (σ : TS) (p : Int) (B : Int → Int) (bn : Int) (hB : BOk B bn) (f6 : σ 6 = B) (f10 : σ 10 0 = bn) (hp : 0 ≤ p ∧ p ≤ 2147483646) : TCi l yX3_byteAt (ws_ yX3_byteAt cX3_byteAt 2 (some Jvm.ClassFile.FieldType.int)) 1 E o ad σ [.ref o, jI p] (fun τ v => τ = σ ∧ ((p < bn → v = B p) ∧ (¬ p < bn → v = -1) ∧ -1 ≤ v ∧ v ≤ 255)) := by
  refine tci_of (own := RX3) (cc := cX3_byteAt) (L := [some (.ref o), some (jI p)]) (by decide) rfl rfl (Nat.le_of_ble_eq_true rfl) (fun Z hE hl hrt hR hm hret => ?_)
  subst hE
  have hb1 := hB.1
  refine zi_iload_n dX3_byteAt_0 rfl ?_
  refine zi_aload_n dX3_byteAt_1 rfl ?_
  refine zt_g10 q2441 dX3_byteAt_2 (f10) ?_
  refine zi_icmp_ge 17 dX3_byteAt_5 (by decide) (by omega) (fun c5 => ?_) (fun c5 => ?_)
  · refine zi_iconst dX3_byteAt_17 ?_
    exact zi_ireturn hrt dX3_byteAt_18 (hret _ _ ⟨rfl, by first | exact ⟨fun q => by first | rfl | omega, fun q => by omega, by omega⟩⟩)
  · refine zi_aload_n dX3_byteAt_8 rfl ?_
    refine zt_g6 q2437 dX3_byteAt_9 ?_
    refine zi_iload_n dX3_byteAt_12 rfl ?_
    have hb2 := hB.2 p (by omega) (by omega)
    refine zt_ld6 dX3_byteAt_13 (f6) (by omega) ?_
    refine zi_goto 18 dX3_byteAt_14 (by decide) ?_
    exact zi_ireturn hrt dX3_byteAt_18 (hret _ _ ⟨rfl, by first | exact ⟨fun q => by first | rfl | omega, fun q => by omega, by omega⟩⟩)
theorem mw_X3_readSign : MWV yX3_readSign cX3_readSign 2 none 1 := ⟨q2572, qs48, q128, q2573, by decide, by decide +kernel, by decide +kernel, by decide +kernel⟩
set_option maxHeartbeats 4000000 in
theorem tc_readSign (l : Launch) (E : ZE) (o : Nat) (ad : Nat → Nat) (σ : TS) (c : Int) (rc : -2147483648 ≤ c ∧ c < 2147483648) : TCv l yX3_readSign (ws_ yX3_readSign cX3_readSign 2 none) 1 E o ad σ [.ref o, jI c] (fun τ => eqx [12, 13] σ τ ∧ (τ 12 0 = σ 12 0 + 1 ∧ τ 13 0 = (if c = 59 then 4 else if c = 61 then 5 else 1))) := by
  refine tcv_of (own := RX3) (cc := cX3_readSign) (L := [some (.ref o), some (jI c)]) (by decide) rfl rfl (Nat.le_of_ble_eq_true rfl) (fun Z hE hl hrt hR hm hret => ?_)
  subst hE
  have x0 : eqx [12, 13] σ σ := eqx_rf
  refine zi_aload_n dX3_readSign_0 rfl ?_
  refine zi_dup dX3_readSign_1 rfl ?_
  refine zt_g12 q2443 dX3_readSign_2 (rfl) ?_
  refine zi_iconst dX3_readSign_5 ?_
  refine zi_iadd dX3_readSign_6 ?_
  refine zt_p12 q2443 dX3_readSign_7 (fun τ7_0 eτ7_0 => ?_)
  have gτ7_0 := up_get eτ7_0
  have xτ7_0 : eqx [12, 13] σ τ7_0 := by rw [eτ7_0]; exact eqx_up x0 (by decide)
  refine zi_aload_n dX3_readSign_10 rfl ?_
  refine zi_iconst dX3_readSign_11 ?_
  refine zt_p13 q2444 dX3_readSign_12 (fun τ12_1 eτ12_1 => ?_)
  have gτ12_1 := up_get eτ12_1
  have k12τ12_1 := up_keep 12 eτ12_1 (by decide)
  have xτ12_1 : eqx [12, 13] σ τ12_1 := by rw [eτ12_1]; exact eqx_up xτ7_0 (by decide)
  refine zi_iload_n dX3_readSign_15 rfl ?_
  refine zi_bipush dX3_readSign_16 (by decide +kernel) ?_
  refine zi_icmp_ne 29 dX3_readSign_18 (by decide) (by omega) (fun c18 => ?_) (fun c18 => ?_)
  · refine zi_iload_n dX3_readSign_29 rfl ?_
    refine zi_bipush dX3_readSign_30 (by decide +kernel) ?_
    refine zi_icmp_ne 40 dX3_readSign_32 (by decide) (by omega) (fun c32 => ?_) (fun c32 => ?_)
    · exact zi_return hrt dX3_readSign_40 (hret _ ⟨xτ12_1, ⟨by omega, by (repeat' split) <;> omega⟩⟩)
    · refine zi_aload_n dX3_readSign_35 rfl ?_
      refine zi_iconst dX3_readSign_36 ?_
      refine zt_p13 q2444 dX3_readSign_37 (fun τ37_2 eτ37_2 => ?_)
      have gτ37_2 := up_get eτ37_2
      have k12τ37_2 := up_keep 12 eτ37_2 (by decide)
      have xτ37_2 : eqx [12, 13] σ τ37_2 := by rw [eτ37_2]; exact eqx_up xτ12_1 (by decide)
      exact zi_return hrt dX3_readSign_40 (hret _ ⟨xτ37_2, ⟨by omega, by (repeat' split) <;> omega⟩⟩)
  · refine zi_aload_n dX3_readSign_21 rfl ?_
    refine zi_iconst dX3_readSign_22 ?_
    refine zt_p13 q2444 dX3_readSign_23 (fun τ23_3 eτ23_3 => ?_)
    have gτ23_3 := up_get eτ23_3
    have k12τ23_3 := up_keep 12 eτ23_3 (by decide)
    have xτ23_3 : eqx [12, 13] σ τ23_3 := by rw [eτ23_3]; exact eqx_up xτ12_1 (by decide)
    refine zi_goto 40 dX3_readSign_26 (by decide) ?_
    exact zi_return hrt dX3_readSign_40 (hret _ ⟨xτ23_3, ⟨by omega, by (repeat' split) <;> omega⟩⟩)
theorem mw_X3_readWord : MWV yX3_readWord cX3_readWord 1 none 0 := ⟨q2559, qs46, q128, q2560, by decide, by decide +kernel, by decide +kernel, by decide +kernel⟩
set_option maxHeartbeats 4000000 in
theorem tc_readWord (l : Launch) (E : ZE) (o : Nat) (ad : Nat → Nat) (σ : TS) (B : Int → Int) (bn : Int) (hB : BOk B bn) (f6 : σ 6 = B) (f10 : σ 10 0 = bn) (s0 : Int) (f11 : σ 11 0 = s0) (f12 : σ 12 0 = s0) (hs0 : 0 ≤ s0 ∧ s0 ≤ bn) : TCv l yX3_readWord (ws_ yX3_readWord cX3_readWord 1 none) 2 E o ad σ [.ref o] (fun τ => eqx [12, 13, 15] σ τ ∧ (τ 12 0 = rnF B bn 97 122 s0 ∧ τ 13 0 = (if rnF B bn 97 122 s0 - s0 > 8 then 1 else 2) ∧ (¬ rnF B bn 97 122 s0 - s0 > 8 → τ 15 0 = wcI B s0 (rnF B bn 97 122 s0 - s0).toNat))) := by
  refine tcv_of (own := RX3) (cc := cX3_readWord) (L := [some (.ref o)]) (by decide) rfl rfl (Nat.le_of_ble_eq_true rfl) (fun Z hE hl hrt hR hm hret => ?_)
  subst hE
  have x0 : eqx [12, 13, 15] σ σ := eqx_rf
  have hb1 := hB.1
  have hr0 := rnF_r (B := B) (n := bn) (lo := 97) (hi := 122) (p := s0) hs0.2
  refine zi_aload_n dX3_readWord_0 rfl ?_
  refine zi_lconst (m := 0) dX3_readWord_1 (by decide +kernel) ?_
  refine zt_p15 q2446 dX3_readWord_2 (fun τ2_0 eτ2_0 => ?_)
  have gτ2_0 := up_get eτ2_0
  have k12τ2_0 := up_keep 12 eτ2_0 (by decide)
  have k13τ2_0 := up_keep 13 eτ2_0 (by decide)
  have xτ2_0 : eqx [12, 13, 15] σ τ2_0 := by rw [eτ2_0]; exact eqx_up x0 (by decide)
  have lp5 : ∀ (n : Nat) (p : Int) (τ5 : TS), (eqx [12, 13, 15] σ τ5) → (s0 ≤ p ∧ p ≤ bn) → (τ5 12 0 = p) → (rnF B bn 97 122 s0 = rnF B bn 97 122 p) → (τ5 15 0 = wcI B s0 (if p - s0 < 8 then p - s0 else 8).toNat) → (bn - p).toNat < n → GV RX3 cX3_readWord Z (zA Z) (zs Z).heap (twW (zE Z) o ad τ5) 0 0 5 [some (.ref o)] [] := by
    intro n
    induction n with
    | zero => intro p τ5 y5 i5_0 i5_1 i5_2 i5_3 m5; exact absurd m5 (Nat.not_lt_zero _)
    | succ n ih5 =>
      intro p τ5 y5 i5_0 i5_1 i5_2 i5_3 m5
      refine zi_aload_n dX3_readWord_5 rfl ?_
      refine zi_aload_n dX3_readWord_6 rfl ?_
      refine zt_g12 q2443 dX3_readWord_7 (i5_1) ?_
      refine zt_PVi1 mw_X3_byteAt rfl (tc_byteAt (zl Z) (zE Z) _ _ _ _ (_) (_) (hB) (((y5 6 (by decide)).trans f6)) ((by rw [y5 10 (by decide)]; exact f10)) ((by omega))) q2550 hR (by decide) (by simp [Value.category]) dX3_readWord_10 (fun v10 h10 => ?_)
      refine zt_PSi1 mw_X3_isLetter (tc_isLetter (zl Z) (zE Z) _ _ _ _ (by omega)) q2554 hR (by decide) (by simp [Value.category]) dX3_readWord_13 (fun v13 h13 => ?_)
      subst h13
      refine zi_if_eqB 81 dX3_readWord_16 (by decide) (fun c16 => ?_) (fun c16 => ?_)
      · have he : rnF B bn 97 122 s0 = p := by rw [i5_2]; exact rnF_e (by omega)
        refine zi_aload_n dX3_readWord_81 rfl ?_
        refine zi_aload_n dX3_readWord_82 rfl ?_
        refine zt_g12 q2443 dX3_readWord_83 (i5_1) ?_
        refine zi_aload_n dX3_readWord_86 rfl ?_
        refine zt_g11 q2442 dX3_readWord_87 ((by rw [y5 11 (by decide)]; exact f11 : τ5 11 0 = s0)) ?_
        refine zi_isub dX3_readWord_90 ?_
        refine zi_bipush dX3_readWord_91 (by decide +kernel) ?_
        refine zi_icmp_le 100 dX3_readWord_93 (by decide) (by omega) (fun c93 => ?_) (fun c93 => ?_)
        · refine zi_iconst dX3_readWord_100 ?_
          refine zt_p13 q2444 dX3_readWord_101 (fun τ101_1 eτ101_1 => ?_)
          have gτ101_1 := up_get eτ101_1
          have k12τ101_1 := up_keep 12 eτ101_1 (by decide)
          have k15τ101_1 := up_keep 15 eτ101_1 (by decide)
          have xτ101_1 : eqx [12, 13, 15] σ τ101_1 := by rw [eτ101_1]; exact eqx_up y5 (by decide)
          exact zi_return hrt dX3_readWord_104 (hret _ ⟨xτ101_1, by rw [he]; refine ⟨by omega, by split <;> omega, fun q => ?_⟩; rw [k15τ101_1, i5_3]; congr 2; split <;> omega⟩)
        · refine zi_iconst dX3_readWord_96 ?_
          refine zi_goto 101 dX3_readWord_97 (by decide) ?_
          refine zt_p13 q2444 dX3_readWord_101 (fun τ101_2 eτ101_2 => ?_)
          have gτ101_2 := up_get eτ101_2
          have k12τ101_2 := up_keep 12 eτ101_2 (by decide)
          have k15τ101_2 := up_keep 15 eτ101_2 (by decide)
          have xτ101_2 : eqx [12, 13, 15] σ τ101_2 := by rw [eτ101_2]; exact eqx_up y5 (by decide)
          exact zi_return hrt dX3_readWord_104 (hret _ ⟨xτ101_2, by rw [he]; refine ⟨by omega, by split <;> omega, fun q => ?_⟩; rw [k15τ101_2, i5_3]; congr 2; split <;> omega⟩)
      · refine zi_aload_n dX3_readWord_19 rfl ?_
        refine zi_aload_n dX3_readWord_20 rfl ?_
        refine zt_g12 q2443 dX3_readWord_21 (i5_1) ?_
        refine zi_aload_n dX3_readWord_24 rfl ?_
        refine zt_g11 q2442 dX3_readWord_25 ((by rw [y5 11 (by decide)]; exact f11 : τ5 11 0 = s0)) ?_
        refine zi_isub dX3_readWord_28 ?_
        refine zi_bipush dX3_readWord_29 (by decide +kernel) ?_
        refine zi_icmp_ge 61 dX3_readWord_31 (by decide) (by omega) (fun c31 => ?_) (fun c31 => ?_)
        · refine zi_aload_n dX3_readWord_61 rfl ?_
          refine zt_g15 q2446 dX3_readWord_62 (rfl) ?_
          refine zt_p15 q2446 dX3_readWord_65 (fun τ65_3 eτ65_3 => ?_)
          have gτ65_3 := up_get eτ65_3
          have k12τ65_3 := up_keep 12 eτ65_3 (by decide)
          have k13τ65_3 := up_keep 13 eτ65_3 (by decide)
          have xτ65_3 : eqx [12, 13, 15] σ τ65_3 := by rw [eτ65_3]; exact eqx_up y5 (by decide)
          refine zi_aload_n dX3_readWord_68 rfl ?_
          refine zi_dup dX3_readWord_69 rfl ?_
          refine zt_g12 q2443 dX3_readWord_70 (rfl) ?_
          refine zi_iconst dX3_readWord_73 ?_
          refine zi_iadd dX3_readWord_74 ?_
          refine zt_p12 q2443 dX3_readWord_75 (fun τ75_4 eτ75_4 => ?_)
          have gτ75_4 := up_get eτ75_4
          have k13τ75_4 := up_keep 13 eτ75_4 (by decide)
          have k15τ75_4 := up_keep 15 eτ75_4 (by decide)
          have xτ75_4 : eqx [12, 13, 15] σ τ75_4 := by rw [eτ75_4]; exact eqx_up xτ65_3 (by decide)
          refine zi_goto 5 dX3_readWord_78 (by decide) ?_
          refine ih5 (p + 1) _ xτ75_4 (by omega) (by omega) (by rw [i5_2]; exact rnF_s (by omega) (by omega)) ?_ (by omega)
          · first
              | (rw [if_pos (by omega)] at i5_3; rw [k15τ75_4, show (if p + 1 - s0 < 8 then p + 1 - s0 else 8).toNat = (p - s0).toNat + 1 by split <;> omega]; simp only [wcI]; rw [← i5_3, show s0 + ((p - s0).toNat : Int) = p by omega]; omega)
              | (rw [if_neg (by omega)] at i5_3; rw [k15τ75_4, if_neg (by omega)]; omega)
        · refine zi_ldc2 (m := 27) dX3_readWord_34 q2561 (by decide +kernel) ?_
          refine zi_aload_n dX3_readWord_37 rfl ?_
          refine zt_g15 q2446 dX3_readWord_38 (rfl) ?_
          refine zi_lmul dX3_readWord_41 ?_
          refine zi_aload_n dX3_readWord_42 rfl ?_
          refine zi_aload_n dX3_readWord_43 rfl ?_
          refine zt_g12 q2443 dX3_readWord_44 (i5_1) ?_
          refine zt_PVi1 mw_X3_byteAt rfl (tc_byteAt (zl Z) (zE Z) _ _ _ _ (_) (_) (hB) (((y5 6 (by decide)).trans f6)) ((by rw [y5 10 (by decide)]; exact f10)) ((by omega))) q2550 hR (by decide) (by simp [Value.category]) dX3_readWord_47 (fun v47 h47 => ?_)
          refine zi_i2l dX3_readWord_50 (by omega) ?_
          refine zi_ladd dX3_readWord_51 ?_
          refine zi_ldc2 (m := 97) dX3_readWord_52 q2562 (by decide +kernel) ?_
          refine zi_lsub dX3_readWord_55 ?_
          refine zi_lconst (m := 1) dX3_readWord_56 (by decide +kernel) ?_
          refine zi_ladd dX3_readWord_57 ?_
          refine zi_goto 65 dX3_readWord_58 (by decide) ?_
          refine zt_p15 q2446 dX3_readWord_65 (fun τ65_5 eτ65_5 => ?_)
          have gτ65_5 := up_get eτ65_5
          have k12τ65_5 := up_keep 12 eτ65_5 (by decide)
          have k13τ65_5 := up_keep 13 eτ65_5 (by decide)
          have xτ65_5 : eqx [12, 13, 15] σ τ65_5 := by rw [eτ65_5]; exact eqx_up y5 (by decide)
          refine zi_aload_n dX3_readWord_68 rfl ?_
          refine zi_dup dX3_readWord_69 rfl ?_
          refine zt_g12 q2443 dX3_readWord_70 (rfl) ?_
          refine zi_iconst dX3_readWord_73 ?_
          refine zi_iadd dX3_readWord_74 ?_
          refine zt_p12 q2443 dX3_readWord_75 (fun τ75_6 eτ75_6 => ?_)
          have gτ75_6 := up_get eτ75_6
          have k13τ75_6 := up_keep 13 eτ75_6 (by decide)
          have k15τ75_6 := up_keep 15 eτ75_6 (by decide)
          have xτ75_6 : eqx [12, 13, 15] σ τ75_6 := by rw [eτ75_6]; exact eqx_up xτ65_5 (by decide)
          refine zi_goto 5 dX3_readWord_78 (by decide) ?_
          refine ih5 (p + 1) _ xτ75_6 (by omega) (by omega) (by rw [i5_2]; exact rnF_s (by omega) (by omega)) ?_ (by omega)
          · first
              | (rw [if_pos (by omega)] at i5_3; rw [k15τ75_6, show (if p + 1 - s0 < 8 then p + 1 - s0 else 8).toNat = (p - s0).toNat + 1 by split <;> omega]; simp only [wcI]; rw [← i5_3, show s0 + ((p - s0).toNat : Int) = p by omega]; omega)
              | (rw [if_neg (by omega)] at i5_3; rw [k15τ75_6, if_neg (by omega)]; omega)
  exact lp5 _ (s0) _ xτ2_0 (by omega) (by rw [k12τ2_0]; exact f12) (by rfl) (by rw [if_pos (by omega), show s0 - s0 = (0 : Int) by omega]; exact gτ2_0) (Nat.lt_succ_self _)
theorem mw_X3_readNumber : MWV yX3_readNumber cX3_readNumber 1 none 0 := ⟨q2568, qs47, q128, q2569, by decide, by decide +kernel, by decide +kernel, by decide +kernel⟩
set_option maxHeartbeats 4000000 in
theorem tc_readNumber (l : Launch) (E : ZE) (o : Nat) (ad : Nat → Nat) (σ : TS) (B : Int → Int) (bn : Int) (hB : BOk B bn) (f6 : σ 6 = B) (f10 : σ 10 0 = bn) (s0 : Int) (f11 : σ 11 0 = s0) (f12 : σ 12 0 = s0) (hs0 : 0 ≤ s0 ∧ s0 ≤ bn) : TCv l yX3_readNumber (ws_ yX3_readNumber cX3_readNumber 1 none) 2 E o ad σ [.ref o] (fun τ => eqx [12, 13, 14] σ τ ∧ (τ 12 0 = rnF B bn 48 57 s0 ∧ τ 13 0 = (if rnF B bn 48 57 s0 - s0 > 4 then 1 else 3) ∧ (¬ rnF B bn 48 57 s0 - s0 > 4 → τ 14 0 = nmI B s0 (rnF B bn 48 57 s0 - s0).toNat))) := by
  refine tcv_of (own := RX3) (cc := cX3_readNumber) (L := [some (.ref o)]) (by decide) rfl rfl (Nat.le_of_ble_eq_true rfl) (fun Z hE hl hrt hR hm hret => ?_)
  subst hE
  have x0 : eqx [12, 13, 14] σ σ := eqx_rf
  have hb1 := hB.1
  have hr0 := rnF_r (B := B) (n := bn) (lo := 48) (hi := 57) (p := s0) hs0.2
  refine zi_aload_n dX3_readNumber_0 rfl ?_
  refine zi_iconst dX3_readNumber_1 ?_
  refine zt_p14 q2445 dX3_readNumber_2 (fun τ2_0 eτ2_0 => ?_)
  have gτ2_0 := up_get eτ2_0
  have k12τ2_0 := up_keep 12 eτ2_0 (by decide)
  have k13τ2_0 := up_keep 13 eτ2_0 (by decide)
  have xτ2_0 : eqx [12, 13, 14] σ τ2_0 := by rw [eτ2_0]; exact eqx_up x0 (by decide)
  have lp5 : ∀ (n : Nat) (p : Int) (τ5 : TS), (eqx [12, 13, 14] σ τ5) → (s0 ≤ p ∧ p ≤ bn) → (τ5 12 0 = p) → (rnF B bn 48 57 s0 = rnF B bn 48 57 p) → (τ5 14 0 = nmI B s0 (if p - s0 < 4 then p - s0 else 4).toNat) → (bn - p).toNat < n → GV RX3 cX3_readNumber Z (zA Z) (zs Z).heap (twW (zE Z) o ad τ5) 0 0 5 [some (.ref o)] [] := by
    intro n
    induction n with
    | zero => intro p τ5 y5 i5_0 i5_1 i5_2 i5_3 m5; exact absurd m5 (Nat.not_lt_zero _)
    | succ n ih5 =>
      intro p τ5 y5 i5_0 i5_1 i5_2 i5_3 m5
      refine zi_aload_n dX3_readNumber_5 rfl ?_
      refine zi_aload_n dX3_readNumber_6 rfl ?_
      refine zt_g12 q2443 dX3_readNumber_7 (i5_1) ?_
      refine zt_PVi1 mw_X3_byteAt rfl (tc_byteAt (zl Z) (zE Z) _ _ _ _ (_) (_) (hB) (((y5 6 (by decide)).trans f6)) ((by rw [y5 10 (by decide)]; exact f10)) ((by omega))) q2550 hR (by decide) (by simp [Value.category]) dX3_readNumber_10 (fun v10 h10 => ?_)
      refine zt_PSi1 mw_X3_isDigit (tc_isDigit (zl Z) (zE Z) _ _ _ _ (by omega)) q2563 hR (by decide) (by simp [Value.category]) dX3_readNumber_13 (fun v13 h13 => ?_)
      subst h13
      refine zi_if_eqB 75 dX3_readNumber_16 (by decide) (fun c16 => ?_) (fun c16 => ?_)
      · have he : rnF B bn 48 57 s0 = p := by rw [i5_2]; exact rnF_e (by omega)
        refine zi_aload_n dX3_readNumber_75 rfl ?_
        refine zi_aload_n dX3_readNumber_76 rfl ?_
        refine zt_g12 q2443 dX3_readNumber_77 (i5_1) ?_
        refine zi_aload_n dX3_readNumber_80 rfl ?_
        refine zt_g11 q2442 dX3_readNumber_81 ((by rw [y5 11 (by decide)]; exact f11 : τ5 11 0 = s0)) ?_
        refine zi_isub dX3_readNumber_84 ?_
        refine zi_iconst dX3_readNumber_85 ?_
        refine zi_icmp_le 93 dX3_readNumber_86 (by decide) (by omega) (fun c86 => ?_) (fun c86 => ?_)
        · refine zi_iconst dX3_readNumber_93 ?_
          refine zt_p13 q2444 dX3_readNumber_94 (fun τ94_1 eτ94_1 => ?_)
          have gτ94_1 := up_get eτ94_1
          have k12τ94_1 := up_keep 12 eτ94_1 (by decide)
          have k14τ94_1 := up_keep 14 eτ94_1 (by decide)
          have xτ94_1 : eqx [12, 13, 14] σ τ94_1 := by rw [eτ94_1]; exact eqx_up y5 (by decide)
          exact zi_return hrt dX3_readNumber_97 (hret _ ⟨xτ94_1, by rw [he]; refine ⟨by omega, by split <;> omega, fun q => ?_⟩; rw [k14τ94_1, i5_3]; congr 2; split <;> omega⟩)
        · refine zi_iconst dX3_readNumber_89 ?_
          refine zi_goto 94 dX3_readNumber_90 (by decide) ?_
          refine zt_p13 q2444 dX3_readNumber_94 (fun τ94_2 eτ94_2 => ?_)
          have gτ94_2 := up_get eτ94_2
          have k12τ94_2 := up_keep 12 eτ94_2 (by decide)
          have k14τ94_2 := up_keep 14 eτ94_2 (by decide)
          have xτ94_2 : eqx [12, 13, 14] σ τ94_2 := by rw [eτ94_2]; exact eqx_up y5 (by decide)
          exact zi_return hrt dX3_readNumber_97 (hret _ ⟨xτ94_2, by rw [he]; refine ⟨by omega, by split <;> omega, fun q => ?_⟩; rw [k14τ94_2, i5_3]; congr 2; split <;> omega⟩)
      · refine zi_aload_n dX3_readNumber_19 rfl ?_
        refine zi_aload_n dX3_readNumber_20 rfl ?_
        refine zt_g12 q2443 dX3_readNumber_21 (i5_1) ?_
        refine zi_aload_n dX3_readNumber_24 rfl ?_
        refine zt_g11 q2442 dX3_readNumber_25 ((by rw [y5 11 (by decide)]; exact f11 : τ5 11 0 = s0)) ?_
        refine zi_isub dX3_readNumber_28 ?_
        refine zi_iconst dX3_readNumber_29 ?_
        refine zi_icmp_ge 55 dX3_readNumber_30 (by decide) (by omega) (fun c30 => ?_) (fun c30 => ?_)
        · refine zi_aload_n dX3_readNumber_55 rfl ?_
          refine zt_g14 q2445 dX3_readNumber_56 (rfl) ?_
          refine zt_p14 q2445 dX3_readNumber_59 (fun τ59_3 eτ59_3 => ?_)
          have gτ59_3 := up_get eτ59_3
          have k12τ59_3 := up_keep 12 eτ59_3 (by decide)
          have k13τ59_3 := up_keep 13 eτ59_3 (by decide)
          have xτ59_3 : eqx [12, 13, 14] σ τ59_3 := by rw [eτ59_3]; exact eqx_up y5 (by decide)
          refine zi_aload_n dX3_readNumber_62 rfl ?_
          refine zi_dup dX3_readNumber_63 rfl ?_
          refine zt_g12 q2443 dX3_readNumber_64 (rfl) ?_
          refine zi_iconst dX3_readNumber_67 ?_
          refine zi_iadd dX3_readNumber_68 ?_
          refine zt_p12 q2443 dX3_readNumber_69 (fun τ69_4 eτ69_4 => ?_)
          have gτ69_4 := up_get eτ69_4
          have k13τ69_4 := up_keep 13 eτ69_4 (by decide)
          have k14τ69_4 := up_keep 14 eτ69_4 (by decide)
          have xτ69_4 : eqx [12, 13, 14] σ τ69_4 := by rw [eτ69_4]; exact eqx_up xτ59_3 (by decide)
          refine zi_goto 5 dX3_readNumber_72 (by decide) ?_
          refine ih5 (p + 1) _ xτ69_4 (by omega) (by omega) (by rw [i5_2]; exact rnF_s (by omega) (by omega)) ?_ (by omega)
          · first
              | (rw [if_pos (by omega)] at i5_3; rw [k14τ69_4, show (if p + 1 - s0 < 4 then p + 1 - s0 else 4).toNat = (p - s0).toNat + 1 by split <;> omega]; simp only [nmI]; rw [← i5_3, show s0 + ((p - s0).toNat : Int) = p by omega]; omega)
              | (rw [if_neg (by omega)] at i5_3; rw [k14τ69_4, if_neg (by omega)]; omega)
        · refine zi_bipush dX3_readNumber_33 (by decide +kernel) ?_
          refine zi_aload_n dX3_readNumber_35 rfl ?_
          refine zt_g14 q2445 dX3_readNumber_36 (rfl) ?_
          refine zi_imul dX3_readNumber_39 ?_
          refine zi_aload_n dX3_readNumber_40 rfl ?_
          refine zi_aload_n dX3_readNumber_41 rfl ?_
          refine zt_g12 q2443 dX3_readNumber_42 (i5_1) ?_
          refine zt_PVi1 mw_X3_byteAt rfl (tc_byteAt (zl Z) (zE Z) _ _ _ _ (_) (_) (hB) (((y5 6 (by decide)).trans f6)) ((by rw [y5 10 (by decide)]; exact f10)) ((by omega))) q2550 hR (by decide) (by simp [Value.category]) dX3_readNumber_45 (fun v45 h45 => ?_)
          refine zi_iadd dX3_readNumber_48 ?_
          refine zi_bipush dX3_readNumber_49 (by decide +kernel) ?_
          refine zi_isub dX3_readNumber_51 ?_
          refine zi_goto 59 dX3_readNumber_52 (by decide) ?_
          refine zt_p14 q2445 dX3_readNumber_59 (fun τ59_5 eτ59_5 => ?_)
          have gτ59_5 := up_get eτ59_5
          have k12τ59_5 := up_keep 12 eτ59_5 (by decide)
          have k13τ59_5 := up_keep 13 eτ59_5 (by decide)
          have xτ59_5 : eqx [12, 13, 14] σ τ59_5 := by rw [eτ59_5]; exact eqx_up y5 (by decide)
          refine zi_aload_n dX3_readNumber_62 rfl ?_
          refine zi_dup dX3_readNumber_63 rfl ?_
          refine zt_g12 q2443 dX3_readNumber_64 (rfl) ?_
          refine zi_iconst dX3_readNumber_67 ?_
          refine zi_iadd dX3_readNumber_68 ?_
          refine zt_p12 q2443 dX3_readNumber_69 (fun τ69_6 eτ69_6 => ?_)
          have gτ69_6 := up_get eτ69_6
          have k13τ69_6 := up_keep 13 eτ69_6 (by decide)
          have k14τ69_6 := up_keep 14 eτ69_6 (by decide)
          have xτ69_6 : eqx [12, 13, 14] σ τ69_6 := by rw [eτ69_6]; exact eqx_up xτ59_5 (by decide)
          refine zi_goto 5 dX3_readNumber_72 (by decide) ?_
          refine ih5 (p + 1) _ xτ69_6 (by omega) (by omega) (by rw [i5_2]; exact rnF_s (by omega) (by omega)) ?_ (by omega)
          · first
              | (rw [if_pos (by omega)] at i5_3; rw [k14τ69_6, show (if p + 1 - s0 < 4 then p + 1 - s0 else 4).toNat = (p - s0).toNat + 1 by split <;> omega]; simp only [nmI]; rw [← i5_3, show s0 + ((p - s0).toNat : Int) = p by omega]; omega)
              | (rw [if_neg (by omega)] at i5_3; rw [k14τ69_6, if_neg (by omega)]; omega)
  exact lp5 _ (s0) _ xτ2_0 (by omega) (by rw [k12τ2_0]; exact f12) (by rfl) (by rw [if_pos (by omega), show s0 - s0 = (0 : Int) by omega]; exact gτ2_0) (Nat.lt_succ_self _)
