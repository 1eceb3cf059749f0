/-! THE REFERENCE: matches -/
set_option maxRecDepth 100000
theorem mw_X3_distanceOf : MWV yX3_distanceOf cX3_distanceOf 8 (some Jvm.ClassFile.FieldType.int) 2 := ⟨q2767, qs83, q128, q2768, by decide, by decide +kernel, by decide +kernel, by decide +kernel⟩
set_option maxHeartbeats 4000000 in
theorem tc_distanceOf (l : Launch) (E : ZE) (o : Nat) (ad : Nat → Nat) (σ : TS) (a : Int → Int) (ha : σ 0 = a) (g : Int) (h : Int) (hok : OkA a) (hg0 : 0 ≤ g) (hg1 : g < a 66) (hh0 : 0 ≤ h) (hh1 : h < a 66) : TCi l yX3_distanceOf (ws_ yX3_distanceOf cX3_distanceOf 8 (some Jvm.ClassFile.FieldType.int)) 2 E o ad σ [.ref o, jI g, jI h] (fun τ v => eqx [18] σ τ ∧ (v = dstF a g h ∧ 0 ≤ v ∧ v ≤ 8)) := by
  refine tci_of (own := RX3) (cc := cX3_distanceOf) (L := [some (.ref o), some (jI g), some (jI h), none, none, none, none, none]) (by decide) rfl rfl (Nat.le_of_ble_eq_true rfl) (fun Z hE hl hrt hR hm hret => ?_)
  subst hE
  have x0 : eqx [18] σ σ := eqx_rf
  obtain ⟨X, hX⟩ : ∃ X : Nat → Int, X = fun i : Nat => sWd a g (i : Int) 0 := ⟨_, rfl⟩
  obtain ⟨Y, hY⟩ : ∃ Y : Nat → Int, Y = fun i : Nat => sWd a h (i : Int) 0 := ⟨_, rfl⟩
  have hlg := hok.len g 0 hg0 hg1
  have hlh := hok.len h 0 hh0 hh1
  refine zi_aload_n dX3_distanceOf_0 rfl ?_
  refine zi_iload_n dX3_distanceOf_1 rfl ?_
  refine zi_iconst dX3_distanceOf_2 ?_
  refine zt_PVi2 mw_X3_wordsOf rfl (tc_wordsOf (zl Z) (zE Z) _ _ _ _ ha _ _ (hok) (by omega) (by omega) (by omega)) q2720 hR (by decide) (by simp [Value.category]) dX3_distanceOf_3 (fun v3 h3 => ?_)
  refine zi_istore_3 dX3_distanceOf_6 hm (by decide) rfl ?_
  refine zi_iconst dX3_distanceOf_7 ?_
  refine zi_istore_4 dX3_distanceOf_8 hm (by decide) rfl ?_
  have lp10 : ∀ (n : Nat) (k : Nat) (x4 : Int) (τ10 : TS), (eqx [18] σ τ10) → (x4 = (k : Int) ∧ x4 ≤ v3 + 1) → (∀ j : Int, 0 ≤ j → j < (k : Int) → τ10 18 j = j) → (v3 + 1 - x4).toNat < n → GV RX3 cX3_distanceOf Z (zA Z) (zs Z).heap (twW (zE Z) o ad τ10) 0 0 10 [some (.ref o), some (jI g), some (jI h), some (jI v3), some (jI x4), none, none, none] [] := by
    intro n
    induction n with
    | zero => intro k x4 τ10 y10 i10_0 i10_1 m10; exact absurd m10 (Nat.not_lt_zero _)
    | succ n ih10 =>
      intro k x4 τ10 y10 i10_0 i10_1 m10
      have ha10 : τ10 0 = a := (y10 0 (by decide)).trans ha
      refine zi_iload dX3_distanceOf_10 rfl ?_
      refine zi_iload_n dX3_distanceOf_12 rfl ?_
      refine zi_icmp_gt 31 dX3_distanceOf_13 (by decide) (by omega) (fun c13 => ?_) (fun c13 => ?_)
      · refine zi_iconst dX3_distanceOf_31 ?_
        refine zi_istore_4 dX3_distanceOf_32 hm (by decide) rfl ?_
        have lp34 : ∀ (n : Nat) (i : Nat) (x4 : Int) (τ34 : TS), (eqx [18] σ τ34) → (x4 = (i : Int) + 1) → ((i : Int) ≤ sLen a g 0) → (∀ j : Int, 0 ≤ j → j ≤ v3 → τ34 18 j = edD X Y i j.toNat) → (sLen a g 0 + 1 - x4).toNat < n → GV RX3 cX3_distanceOf Z (zA Z) (zs Z).heap (twW (zE Z) o ad τ34) 0 0 34 [some (.ref o), some (jI g), some (jI h), some (jI v3), some (jI x4), none, none, none] [] := by
          intro n
          induction n with
          | zero => intro i x4 τ34 y34 i34_0 i34_1 i34_2 m34; exact absurd m34 (Nat.not_lt_zero _)
          | succ n ih34 =>
            intro i x4 τ34 y34 i34_0 i34_1 i34_2 m34
            have ha34 : τ34 0 = a := (y34 0 (by decide)).trans ha
            refine zi_iload dX3_distanceOf_34 rfl ?_
            refine zi_aload_n dX3_distanceOf_36 rfl ?_
            refine zi_iload_n dX3_distanceOf_37 rfl ?_
            refine zi_iconst dX3_distanceOf_38 ?_
            refine zt_PVi2 mw_X3_wordsOf rfl (tc_wordsOf (zl Z) (zE Z) _ _ _ _ ha34 _ _ (hok) (by omega) (by omega) (by omega)) q2720 hR (by decide) (by simp [Value.category]) dX3_distanceOf_39 (fun v39 h39 => ?_)
            refine zi_icmp_gt 158 dX3_distanceOf_42 (by decide) (by omega) (fun c42 => ?_) (fun c42 => ?_)
            · refine zi_aload_n dX3_distanceOf_158 rfl ?_
              refine zt_g18 q2449 dX3_distanceOf_159 ?_
              refine zi_iload_n dX3_distanceOf_162 rfl ?_
              refine zt_ld18 dX3_distanceOf_163 (rfl) (by omega) ?_
              have q := i34_2 v3 (by omega) (by omega)
              have q2 := dstF_r (a := a) (g := g) (o := h) (by omega) (by omega)
              have q3 : dstF a g h = edD X Y i v3.toNat := by unfold dstF; rw [hX, hY, show (sLen a g 0).toNat = i by omega, show (sLen a h 0).toNat = v3.toNat by omega]
              exact zi_ireturn hrt dX3_distanceOf_164 (hret _ _ ⟨y34, by omega⟩)
            · refine zi_aload_n dX3_distanceOf_45 rfl ?_
              refine zt_g18 q2449 dX3_distanceOf_46 ?_
              refine zi_iconst dX3_distanceOf_49 ?_
              refine zt_ld18 dX3_distanceOf_50 (rfl) (by omega) ?_
              refine zi_istore_5 dX3_distanceOf_51 hm (by decide) rfl ?_
              refine zi_aload_n dX3_distanceOf_53 rfl ?_
              refine zt_g18 q2449 dX3_distanceOf_54 ?_
              refine zi_iconst dX3_distanceOf_57 ?_
              refine zi_iload dX3_distanceOf_58 rfl ?_
              refine zt_st18 dX3_distanceOf_60 (by omega) (fun τ60_0 eτ60_0 => ?_)
              have gτ60_0 := up_get eτ60_0
              have xτ60_0 : eqx [18] σ τ60_0 := by rw [eτ60_0]; exact eqx_up y34 (by decide)
              have haτ60_0 : τ60_0 0 = a := (xτ60_0 0 (by decide)).trans ha
              refine zi_iconst dX3_distanceOf_61 ?_
              refine zi_istore_6 dX3_distanceOf_62 hm (by decide) rfl ?_
              have lp64 : ∀ (n : Nat) (k : Nat) (x5 : Int) (x6 : Int) (τ64 : TS), (eqx [18] σ τ64) → (x6 = (k : Int) + 1) → ((k : Int) ≤ v3) → (x5 = edD X Y i k) → (∀ j : Int, 0 ≤ j → j ≤ (k : Int) → τ64 18 j = edD X Y (i + 1) j.toNat) → (∀ j : Int, (k : Int) < j → j ≤ v3 → τ64 18 j = edD X Y i j.toNat) → (v3 + 1 - x6).toNat < n → GV RX3 cX3_distanceOf Z (zA Z) (zs Z).heap (twW (zE Z) o ad τ64) 0 0 64 [some (.ref o), some (jI g), some (jI h), some (jI v3), some (jI x4), some (jI x5), some (jI x6), none] [] := by
                intro n
                induction n with
                | zero => intro k x5 x6 τ64 y64 i64_0 i64_1 i64_2 i64_3 i64_4 m64; exact absurd m64 (Nat.not_lt_zero _)
                | succ n ih64 =>
                  intro k x5 x6 τ64 y64 i64_0 i64_1 i64_2 i64_3 i64_4 m64
                  have ha64 : τ64 0 = a := (y64 0 (by decide)).trans ha
                  refine zi_iload dX3_distanceOf_64 rfl ?_
                  refine zi_iload_n dX3_distanceOf_66 rfl ?_
                  refine zi_icmp_gt 152 dX3_distanceOf_67 (by decide) (by omega) (fun c67 => ?_) (fun c67 => ?_)
                  · refine zi_iinc_4 dX3_distanceOf_152 hm (by decide) rfl ?_
                    refine zi_goto 34 dX3_distanceOf_155 (by decide) ?_
                    refine zi_fg (L2 := [_, _, _, _, _, none, none, none]) ⟨Or.inr rfl, Or.inr rfl, Or.inr rfl, Or.inr rfl, Or.inr rfl, Or.inl rfl, Or.inl rfl, Or.inl rfl, trivial⟩ ?_
                    exact ih34 (i + 1) _ _ y64 (by omega) (by omega) (by intro j q1 q2; exact i64_3 j q1 (by omega)) (by omega)
                  · refine zi_iload dX3_distanceOf_70 rfl ?_
                    refine zi_aload_n dX3_distanceOf_72 rfl ?_
                    refine zi_iload_n dX3_distanceOf_73 rfl ?_
                    refine zi_iload dX3_distanceOf_74 rfl ?_
                    refine zi_iconst dX3_distanceOf_76 ?_
                    refine zi_isub dX3_distanceOf_77 ?_
                    refine zi_iconst dX3_distanceOf_78 ?_
                    refine zt_PVl3 mw_X3_wordAt rfl (tc_wordAt (zl Z) (zE Z) _ _ _ _ ha64 _ _ _ (hok) (by omega) (by omega) (by omega) (by omega) (by omega)) q2728 hR (by decide) (by simp [Value.category]) dX3_distanceOf_79 (fun v79 h79 => ?_)
                    refine zi_aload_n dX3_distanceOf_82 rfl ?_
                    refine zi_iload_n dX3_distanceOf_83 rfl ?_
                    refine zi_iload dX3_distanceOf_84 rfl ?_
                    refine zi_iconst dX3_distanceOf_86 ?_
                    refine zi_isub dX3_distanceOf_87 ?_
                    refine zi_iconst dX3_distanceOf_88 ?_
                    refine zt_PVl3 mw_X3_wordAt rfl (tc_wordAt (zl Z) (zE Z) _ _ _ _ ha64 _ _ _ (hok) (by omega) (by omega) (by omega) (by omega) (by omega)) q2728 hR (by decide) (by simp [Value.category]) dX3_distanceOf_89 (fun v89 h89 => ?_)
                    refine zi_lcmp_ne 100 dX3_distanceOf_92 dX3_distanceOf_93 (by decide) (by omega) (fun c92 => ?_) (fun c92 => ?_)
                    · have hw : (if X i = Y k then 0 else 1) = (1 : Int) := by
                        rw [if_neg]
                        rw [hX, hY]; simp only; rw [show ((i : Nat) : Int) = x4 - 1 by omega, show ((k : Nat) : Int) = x6 - 1 by omega]; omega
                      have e1 : τ64 18 x6 = edD X Y i (k + 1) := by rw [i64_4 x6 (by omega) (by omega), show x6.toNat = k + 1 by omega]
                      have e2 : τ64 18 (x6 - 1) = edD X Y (i + 1) k := by rw [i64_3 (x6 - 1) (by omega) (by omega), show (x6 - 1).toNat = k by omega]
                      have hNew : edD X Y (i + 1) (k + 1) = min (x5 + 1) (1 + min (τ64 18 x6) (τ64 18 (x6 - 1))) := by
                        simp only [edD]
                        rw [hw, e1, e2, i64_2]
                      refine zi_iconst dX3_distanceOf_100 ?_
                      refine zi_iadd dX3_distanceOf_101 ?_
                      refine zi_istore_7 dX3_distanceOf_102 hm (by decide) rfl ?_
                      have r1 := edD_r X Y i k
                      have r2 := edD_r X Y i (k + 1)
                      have r3 := edD_r X Y (i + 1) k
                      refine zi_aload_n dX3_distanceOf_104 rfl ?_
                      refine zt_g18 q2449 dX3_distanceOf_105 ?_
                      refine zi_iload dX3_distanceOf_108 rfl ?_
                      refine zt_ld18 dX3_distanceOf_110 (rfl) (by omega) ?_
                      refine zi_istore_5 dX3_distanceOf_111 hm (by decide) rfl ?_
                      refine zi_aload_n dX3_distanceOf_113 rfl ?_
                      refine zt_g18 q2449 dX3_distanceOf_114 ?_
                      refine zi_iload dX3_distanceOf_117 rfl ?_
                      refine zi_iload dX3_distanceOf_119 rfl ?_
                      refine zi_iconst dX3_distanceOf_121 ?_
                      refine zi_aload_n dX3_distanceOf_122 rfl ?_
                      refine zt_g18 q2449 dX3_distanceOf_123 ?_
                      refine zi_iload dX3_distanceOf_126 rfl ?_
                      refine zt_ld18 dX3_distanceOf_128 (rfl) (by omega) ?_
                      refine zi_aload_n dX3_distanceOf_129 rfl ?_
                      refine zt_g18 q2449 dX3_distanceOf_130 ?_
                      refine zi_iload dX3_distanceOf_133 rfl ?_
                      refine zi_iconst dX3_distanceOf_135 ?_
                      refine zi_isub dX3_distanceOf_136 ?_
                      refine zt_ld18 dX3_distanceOf_137 (rfl) (by omega) ?_
                      refine zi_mmin q2769 hR (by decide) (by simp [Value.category]) (by omega) dX3_distanceOf_138 ?_
                      refine zi_iadd dX3_distanceOf_141 ?_
                      refine zi_mmin q2769 hR (by decide) (by simp [Value.category]) (by omega) dX3_distanceOf_142 ?_
                      refine zt_st18 dX3_distanceOf_145 (by omega) (fun τ145_1 eτ145_1 => ?_)
                      have gτ145_1 := up_get eτ145_1
                      have xτ145_1 : eqx [18] σ τ145_1 := by rw [eτ145_1]; exact eqx_up y64 (by decide)
                      have haτ145_1 : τ145_1 0 = a := (xτ145_1 0 (by decide)).trans ha
                      refine zi_iinc_6 dX3_distanceOf_146 hm (by decide) rfl ?_
                      refine zi_goto 64 dX3_distanceOf_149 (by decide) ?_
                      refine zi_fg (L2 := [_, _, _, _, _, _, _, none]) ⟨Or.inr rfl, Or.inr rfl, Or.inr rfl, Or.inr rfl, Or.inr rfl, Or.inr rfl, Or.inr rfl, Or.inl rfl, trivial⟩ ?_
                      refine ih64 (k + 1) _ _ _ xτ145_1 (by omega) (by omega) (by rw [i64_4 x6 (by omega) (by omega), show x6.toNat = k + 1 by omega]) ?_ ?_ (by omega)
                      · intro j q1 q2
                        rw [eτ145_1]
                        by_cases q3 : j = x6
                        · rw [q3, up_v, show x6.toNat = k + 1 by omega, hNew]
                        · rw [up_o q3]; exact i64_3 j q1 (by omega)
                      · intro j q1 q2
                        rw [eτ145_1, up_o (by omega)]
                        exact i64_4 j (by omega) q2
                    · have hw : (if X i = Y k then 0 else 1) = (0 : Int) := by
                        rw [if_pos]
                        rw [hX, hY]; simp only; rw [show ((i : Nat) : Int) = x4 - 1 by omega, show ((k : Nat) : Int) = x6 - 1 by omega]; omega
                      have e1 : τ64 18 x6 = edD X Y i (k + 1) := by rw [i64_4 x6 (by omega) (by omega), show x6.toNat = k + 1 by omega]
                      have e2 : τ64 18 (x6 - 1) = edD X Y (i + 1) k := by rw [i64_3 (x6 - 1) (by omega) (by omega), show (x6 - 1).toNat = k by omega]
                      have hNew : edD X Y (i + 1) (k + 1) = min (x5 + 0) (1 + min (τ64 18 x6) (τ64 18 (x6 - 1))) := by
                        simp only [edD]
                        rw [hw, e1, e2, i64_2]
                      refine zi_iconst dX3_distanceOf_96 ?_
                      refine zi_goto 101 dX3_distanceOf_97 (by decide) ?_
                      refine zi_iadd dX3_distanceOf_101 ?_
                      refine zi_istore_7 dX3_distanceOf_102 hm (by decide) rfl ?_
                      have r1 := edD_r X Y i k
                      have r2 := edD_r X Y i (k + 1)
                      have r3 := edD_r X Y (i + 1) k
                      refine zi_aload_n dX3_distanceOf_104 rfl ?_
                      refine zt_g18 q2449 dX3_distanceOf_105 ?_
                      refine zi_iload dX3_distanceOf_108 rfl ?_
                      refine zt_ld18 dX3_distanceOf_110 (rfl) (by omega) ?_
                      refine zi_istore_5 dX3_distanceOf_111 hm (by decide) rfl ?_
                      refine zi_aload_n dX3_distanceOf_113 rfl ?_
                      refine zt_g18 q2449 dX3_distanceOf_114 ?_
                      refine zi_iload dX3_distanceOf_117 rfl ?_
                      refine zi_iload dX3_distanceOf_119 rfl ?_
                      refine zi_iconst dX3_distanceOf_121 ?_
                      refine zi_aload_n dX3_distanceOf_122 rfl ?_
                      refine zt_g18 q2449 dX3_distanceOf_123 ?_
                      refine zi_iload dX3_distanceOf_126 rfl ?_
                      refine zt_ld18 dX3_distanceOf_128 (rfl) (by omega) ?_
                      refine zi_aload_n dX3_distanceOf_129 rfl ?_
                      refine zt_g18 q2449 dX3_distanceOf_130 ?_
                      refine zi_iload dX3_distanceOf_133 rfl ?_
                      refine zi_iconst dX3_distanceOf_135 ?_
                      refine zi_isub dX3_distanceOf_136 ?_
                      refine zt_ld18 dX3_distanceOf_137 (rfl) (by omega) ?_
                      refine zi_mmin q2769 hR (by decide) (by simp [Value.category]) (by omega) dX3_distanceOf_138 ?_
                      refine zi_iadd dX3_distanceOf_141 ?_
                      refine zi_mmin q2769 hR (by decide) (by simp [Value.category]) (by omega) dX3_distanceOf_142 ?_
                      refine zt_st18 dX3_distanceOf_145 (by omega) (fun τ145_2 eτ145_2 => ?_)
                      have gτ145_2 := up_get eτ145_2
                      have xτ145_2 : eqx [18] σ τ145_2 := by rw [eτ145_2]; exact eqx_up y64 (by decide)
                      have haτ145_2 : τ145_2 0 = a := (xτ145_2 0 (by decide)).trans ha
                      refine zi_iinc_6 dX3_distanceOf_146 hm (by decide) rfl ?_
                      refine zi_goto 64 dX3_distanceOf_149 (by decide) ?_
                      refine zi_fg (L2 := [_, _, _, _, _, _, _, none]) ⟨Or.inr rfl, Or.inr rfl, Or.inr rfl, Or.inr rfl, Or.inr rfl, Or.inr rfl, Or.inr rfl, Or.inl rfl, trivial⟩ ?_
                      refine ih64 (k + 1) _ _ _ xτ145_2 (by omega) (by omega) (by rw [i64_4 x6 (by omega) (by omega), show x6.toNat = k + 1 by omega]) ?_ ?_ (by omega)
                      · intro j q1 q2
                        rw [eτ145_2]
                        by_cases q3 : j = x6
                        · rw [q3, up_v, show x6.toNat = k + 1 by omega, hNew]
                        · rw [up_o q3]; exact i64_3 j q1 (by omega)
                      · intro j q1 q2
                        rw [eτ145_2, up_o (by omega)]
                        exact i64_4 j (by omega) q2
              refine lp64 _ (0) _ _ _ xτ60_0 (by omega) (by omega) (by exact i34_2 0 (by omega) (by omega)) ?_ ?_ (Nat.lt_succ_self _)
              · intro j q1 q2
                have q3 : j = 0 := by omega
                subst q3
                rw [eτ60_0, up_v]
                simp only [Int.toNat_zero, edD]
                omega
              · intro j q1 q2
                rw [eτ60_0, up_o (by omega)]
                exact i34_2 j (by omega) q2
        exact lp34 _ (0) _ _ y10 (by omega) (by omega) (by intro j q1 q2; have q3 := i10_1 j q1 (by omega); simp only [edD]; omega) (Nat.lt_succ_self _)
      · refine zi_aload_n dX3_distanceOf_16 rfl ?_
        refine zt_g18 q2449 dX3_distanceOf_17 ?_
        refine zi_iload dX3_distanceOf_20 rfl ?_
        refine zi_iload dX3_distanceOf_22 rfl ?_
        refine zt_st18 dX3_distanceOf_24 (by omega) (fun τ24_3 eτ24_3 => ?_)
        have gτ24_3 := up_get eτ24_3
        have xτ24_3 : eqx [18] σ τ24_3 := by rw [eτ24_3]; exact eqx_up y10 (by decide)
        have haτ24_3 : τ24_3 0 = a := (xτ24_3 0 (by decide)).trans ha
        refine zi_iinc_4 dX3_distanceOf_25 hm (by decide) rfl ?_
        refine zi_goto 10 dX3_distanceOf_28 (by decide) ?_
        exact ih10 (k + 1) _ _ xτ24_3 (by omega) (by intro j q1 q2; rw [eτ24_3, up_s]; unfold zup; split <;> first | omega | exact i10_1 j q1 (by omega)) (by omega)
  exact lp10 _ (0) _ _ x0 (by omega) (by intro j q1 q2; omega) (Nat.lt_succ_self _)
theorem mw_X3_similarityOf : MWV yX3_similarityOf cX3_similarityOf 4 (some Jvm.ClassFile.FieldType.int) 2 := ⟨q2762, qs82, q128, q2763, by decide, by decide +kernel, by decide +kernel, by decide +kernel⟩
set_option maxHeartbeats 4000000 in
theorem tc_similarityOf (l : Launch) (E : ZE) (o : Nat) (ad : Nat → Nat) (σ : TS) (a : Int → Int) (ha : σ 0 = a) (g : Int) (h : Int) (hok : OkA a) (hg0 : 0 ≤ g) (hg1 : g < a 66) (hh0 : 0 ≤ h) (hh1 : h < a 66) : TCi l yX3_similarityOf (ws_ yX3_similarityOf cX3_similarityOf 4 (some Jvm.ClassFile.FieldType.int)) 3 E o ad σ [.ref o, jI g, jI h] (fun τ v => eqx [18] σ τ ∧ (v = simF a g h ∧ 0 ≤ v ∧ v ≤ 100)) := by
  refine tci_of (own := RX3) (cc := cX3_similarityOf) (L := [some (.ref o), some (jI g), some (jI h), none]) (by decide) rfl rfl (Nat.le_of_ble_eq_true rfl) (fun Z hE hl hrt hR hm hret => ?_)
  subst hE
  have x0 : eqx [18] σ σ := eqx_rf
  refine zi_aload_n dX3_similarityOf_0 rfl ?_
  refine zi_iload_n dX3_similarityOf_1 rfl ?_
  refine zi_iconst dX3_similarityOf_2 ?_
  refine zt_PVi2 mw_X3_wordsOf rfl (tc_wordsOf (zl Z) (zE Z) _ _ _ _ ha _ _ (hok) (by omega) (by omega) (by omega)) q2720 hR (by decide) (by simp [Value.category]) dX3_similarityOf_3 (fun v3 h3 => ?_)
  refine zi_aload_n dX3_similarityOf_6 rfl ?_
  refine zi_iload_n dX3_similarityOf_7 rfl ?_
  refine zi_iconst dX3_similarityOf_8 ?_
  refine zt_PVi2 mw_X3_wordsOf rfl (tc_wordsOf (zl Z) (zE Z) _ _ _ _ ha _ _ (hok) (by omega) (by omega) (by omega)) q2720 hR (by decide) (by simp [Value.category]) dX3_similarityOf_9 (fun v9 h9 => ?_)
  refine zi_mmax q2764 hR (by decide) (by simp [Value.category]) (by omega) dX3_similarityOf_12 ?_
  refine zi_istore_3 dX3_similarityOf_15 hm (by decide) rfl ?_
  refine zi_bipush dX3_similarityOf_16 (by decide +kernel) ?_
  refine zi_iload_n dX3_similarityOf_18 rfl ?_
  refine zi_aload_n dX3_similarityOf_19 rfl ?_
  refine zi_iload_n dX3_similarityOf_20 rfl ?_
  refine zi_iload_n dX3_similarityOf_21 rfl ?_
  refine zt_Vi2 mw_X3_distanceOf rfl (tc_distanceOf (zl Z) (zE Z) _ _ _ _ ha _ _ (hok) (by omega) (by omega) (by omega) (by omega)) q2765 hR (by decide) (by simp [Value.category]) dX3_similarityOf_22 (fun τ22_0 v22 wτ22_0 => ?_)
  obtain ⟨qτ22_0, h22⟩ := wτ22_0
  have xτ22_0 : eqx [18] σ τ22_0 := eqx_tr x0 (eqx_mono qτ22_0 (by decide))
  have haτ22_0 : τ22_0 0 = a := (xτ22_0 0 (by decide)).trans ha
  refine zi_isub dX3_similarityOf_25 ?_
  refine zi_imul dX3_similarityOf_26 ?_
  refine zi_iload_n dX3_similarityOf_27 rfl ?_
  have q0 := dstF_r (a := a) (g := g) (o := h) (by omega) (by omega)
  have q1 : max v3 v9 = max (sLen a g 0) (sLen a h 0) := by omega
  refine zi_idiv dX3_similarityOf_28 (by omega) ?_
  have q2 := simF_r (a := a) (g := g) (o := h) (by omega) (by omega)
  have q3 : 100 * (max v3 v9 - v22) / max v3 v9 = simF a g h := by unfold simF; rw [q1, h22.1]
  exact zi_ireturn hrt dX3_similarityOf_29 (hret _ _ ⟨xτ22_0, by rw [q3]; exact ⟨rfl, q2⟩⟩)
theorem mw_X3_modelOf : MWV yX3_modelOf cX3_modelOf 6 (some Jvm.ClassFile.FieldType.int) 1 := ⟨q2758, qs81, q128, q2759, by decide, by decide +kernel, by decide +kernel, by decide +kernel⟩
set_option maxHeartbeats 4000000 in
theorem tc_modelOf (l : Launch) (E : ZE) (o : Nat) (ad : Nat → Nat) (σ : TS) (a : Int → Int) (ha : σ 0 = a) (g : Int) (hok : OkA a) (hg0 : 0 ≤ g) (hg1 : g < a 66) : TCi l yX3_modelOf (ws_ yX3_modelOf cX3_modelOf 6 (some Jvm.ClassFile.FieldType.int)) 4 E o ad σ [.ref o, jI g] (fun τ v => eqx [18] σ τ ∧ (v = mdF a g ∧ -1 ≤ v ∧ v < g)) := by
  refine tci_of (own := RX3) (cc := cX3_modelOf) (L := [some (.ref o), some (jI g), none, none, none, none]) (by decide) rfl rfl (Nat.le_of_ble_eq_true rfl) (fun Z hE hl hrt hR hm hret => ?_)
  subst hE
  have x0 : eqx [18] σ σ := eqx_rf
  have hc := hok.cnt
  refine zi_iconst dX3_modelOf_0 ?_
  refine zi_istore_2 dX3_modelOf_1 hm (by decide) rfl ?_
  refine zi_iconst dX3_modelOf_2 ?_
  refine zi_istore_3 dX3_modelOf_3 hm (by decide) rfl ?_
  refine zi_iconst dX3_modelOf_4 ?_
  refine zi_istore_4 dX3_modelOf_5 hm (by decide) rfl ?_
  have lp7 : ∀ (n : Nat) (k : Nat) (x2 : Int) (x3 : Int) (x4 : Int) (τ7 : TS), (eqx [18] σ τ7) → (x4 = (k : Int)) → (x4 ≤ g) → (x2 = (mdI a g k).1) → (x3 = (mdI a g k).2) → (0 ≤ x3 ∧ x3 ≤ 100) → (g - x4).toNat < n → GV RX3 cX3_modelOf Z (zA Z) (zs Z).heap (twW (zE Z) o ad τ7) 0 0 7 [some (.ref o), some (jI g), some (jI x2), some (jI x3), some (jI x4), none] [] := by
    intro n
    induction n with
    | zero => intro k x2 x3 x4 τ7 y7 i7_0 i7_1 i7_2 i7_3 i7_4 m7; exact absurd m7 (Nat.not_lt_zero _)
    | succ n ih7 =>
      intro k x2 x3 x4 τ7 y7 i7_0 i7_1 i7_2 i7_3 i7_4 m7
      have ha7 : τ7 0 = a := (y7 0 (by decide)).trans ha
      refine zi_iload dX3_modelOf_7 rfl ?_
      refine zi_iload_n dX3_modelOf_9 rfl ?_
      refine zi_icmp_ge 40 dX3_modelOf_10 (by decide) (by omega) (fun c10 => ?_) (fun c10 => ?_)
      · have q2 := mdF_r (a := a) (g := g) hg0
        have q3 : mdF a g = (mdI a g k).1 := by unfold mdF; rw [show g.toNat = k by omega]
        refine zi_iload_n dX3_modelOf_40 rfl ?_
        exact zi_ireturn hrt dX3_modelOf_41 (hret _ _ ⟨y7, by omega⟩)
      · refine zi_aload_n dX3_modelOf_13 rfl ?_
        refine zi_iload_n dX3_modelOf_14 rfl ?_
        refine zi_iload dX3_modelOf_15 rfl ?_
        refine zt_Vi2 mw_X3_similarityOf rfl (tc_similarityOf (zl Z) (zE Z) _ _ _ _ ha7 _ _ (hok) (by omega) (by omega) (by omega) (by omega)) q2760 hR (by decide) (by simp [Value.category]) dX3_modelOf_17 (fun τ17_0 v17 wτ17_0 => ?_)
        obtain ⟨qτ17_0, h17⟩ := wτ17_0
        have xτ17_0 : eqx [18] σ τ17_0 := eqx_tr y7 (eqx_mono qτ17_0 (by decide))
        have haτ17_0 : τ17_0 0 = a := (xτ17_0 0 (by decide)).trans ha
        refine zi_istore_5 dX3_modelOf_20 hm (by decide) rfl ?_
        refine zi_iload dX3_modelOf_22 rfl ?_
        refine zi_iload_n dX3_modelOf_24 rfl ?_
        refine zi_icmp_lt 34 dX3_modelOf_25 (by decide) (by omega) (fun c25 => ?_) (fun c25 => ?_)
        · have q4 : simF a g k = v17 := by rw [h17.1, i7_0]
          refine zi_iinc_4 dX3_modelOf_34 hm (by decide) rfl ?_
          refine zi_goto 7 dX3_modelOf_37 (by decide) ?_
          refine zi_fg (L2 := [_, _, _, _, _, none]) ⟨Or.inr rfl, Or.inr rfl, Or.inr rfl, Or.inr rfl, Or.inr rfl, Or.inl rfl, trivial⟩ ?_
          exact ih7 (k + 1) _ _ _ _ xτ17_0 (by omega) (by omega) (by simp only [mdI]; split <;> (try simp only) <;> omega) (by simp only [mdI]; split <;> (try simp only) <;> omega) (by omega) (by omega)
        · refine zi_iload dX3_modelOf_28 rfl ?_
          refine zi_istore_2 dX3_modelOf_30 hm (by decide) rfl ?_
          refine zi_iload dX3_modelOf_31 rfl ?_
          refine zi_istore_3 dX3_modelOf_33 hm (by decide) rfl ?_
          have q4 : simF a g k = v17 := by rw [h17.1, i7_0]
          refine zi_iinc_4 dX3_modelOf_34 hm (by decide) rfl ?_
          refine zi_goto 7 dX3_modelOf_37 (by decide) ?_
          refine zi_fg (L2 := [_, _, _, _, _, none]) ⟨Or.inr rfl, Or.inr rfl, Or.inr rfl, Or.inr rfl, Or.inr rfl, Or.inl rfl, trivial⟩ ?_
          exact ih7 (k + 1) _ _ _ _ xτ17_0 (by omega) (by omega) (by simp only [mdI]; split <;> (try simp only) <;> omega) (by simp only [mdI]; split <;> (try simp only) <;> omega) (by omega) (by omega)
  exact lp7 _ (0) _ _ _ _ x0 (by omega) (by omega) (by rfl) (by rfl) (by omega) (Nat.lt_succ_self _)
theorem mw_X3_matchOf : MWV yX3_matchOf cX3_matchOf 3 (some Jvm.ClassFile.FieldType.int) 1 := ⟨q2776, qs85, q128, q2777, by decide, by decide +kernel, by decide +kernel, by decide +kernel⟩
set_option maxHeartbeats 4000000 in
theorem tc_matchOf (l : Launch) (E : ZE) (o : Nat) (ad : Nat → Nat) (σ : TS) (a : Int → Int) (ha : σ 0 = a) (g : Int) (hok : OkA a) (hg0 : 0 ≤ g) (hg1 : g < a 66) : TCi l yX3_matchOf (ws_ yX3_matchOf cX3_matchOf 3 (some Jvm.ClassFile.FieldType.int)) 5 E o ad σ [.ref o, jI g] (fun τ v => eqx [18] σ τ ∧ (v = mtF a g ∧ 0 ≤ v ∧ v ≤ 100)) := by
  refine tci_of (own := RX3) (cc := cX3_matchOf) (L := [some (.ref o), some (jI g), none]) (by decide) rfl rfl (Nat.le_of_ble_eq_true rfl) (fun Z hE hl hrt hR hm hret => ?_)
  subst hE
  have x0 : eqx [18] σ σ := eqx_rf
  have hc := hok.cnt
  have hr := mtF_r hok hg0 hg1
  refine zi_aload_n dX3_matchOf_0 rfl ?_
  refine zi_iload_n dX3_matchOf_1 rfl ?_
  refine zt_Vi1 mw_X3_modelOf rfl (tc_modelOf (zl Z) (zE Z) _ _ _ _ ha _ (hok) (by omega) (by omega)) q2756 hR (by decide) (by simp [Value.category]) dX3_matchOf_2 (fun τ2_0 v2 wτ2_0 => ?_)
  obtain ⟨qτ2_0, h2⟩ := wτ2_0
  have xτ2_0 : eqx [18] σ τ2_0 := eqx_tr x0 (eqx_mono qτ2_0 (by decide))
  have haτ2_0 : τ2_0 0 = a := (xτ2_0 0 (by decide)).trans ha
  refine zi_istore_2 dX3_matchOf_5 hm (by decide) rfl ?_
  refine zi_iload_n dX3_matchOf_6 rfl ?_
  refine zi_iconst dX3_matchOf_7 ?_
  refine zi_icmp_ne 15 dX3_matchOf_8 (by decide) (by omega) (fun c8 => ?_) (fun c8 => ?_)
  · refine zi_aload_n dX3_matchOf_15 rfl ?_
    refine zi_iload_n dX3_matchOf_16 rfl ?_
    refine zi_iload_n dX3_matchOf_17 rfl ?_
    refine zt_Vi2 mw_X3_similarityOf rfl (tc_similarityOf (zl Z) (zE Z) _ _ _ _ haτ2_0 _ _ (hok) (by omega) (by omega) (by omega) (by omega)) q2760 hR (by decide) (by simp [Value.category]) dX3_matchOf_18 (fun τ18_1 v18 wτ18_1 => ?_)
    obtain ⟨qτ18_1, h18⟩ := wτ18_1
    have xτ18_1 : eqx [18] σ τ18_1 := eqx_tr xτ2_0 (eqx_mono qτ18_1 (by decide))
    have haτ18_1 : τ18_1 0 = a := (xτ18_1 0 (by decide)).trans ha
    exact zi_ireturn hrt dX3_matchOf_21 (hret _ _ ⟨xτ18_1, by unfold mtF at hr ⊢; first | (rw [if_pos (by omega)] at hr ⊢; exact ⟨rfl, hr⟩) | (rw [if_neg (by omega)] at hr ⊢; rw [h18.1, h2.1]; exact ⟨rfl, hr⟩)⟩)
  · refine zi_iconst dX3_matchOf_11 ?_
    refine zi_goto 21 dX3_matchOf_12 (by decide) ?_
    exact zi_ireturn hrt dX3_matchOf_21 (hret _ _ ⟨xτ2_0, by unfold mtF at hr ⊢; first | (rw [if_pos (by omega)] at hr ⊢; exact ⟨rfl, hr⟩) | (rw [if_neg (by omega)] at hr ⊢; rw [h18.1, h2.1]; exact ⟨rfl, hr⟩)⟩)
theorem mw_X3_bandOf : MWV yX3_bandOf cX3_bandOf 3 (some Jvm.ClassFile.FieldType.int) 1 := ⟨q2772, qs84, q128, q2773, by decide, by decide +kernel, by decide +kernel, by decide +kernel⟩
set_option maxHeartbeats 4000000 in
theorem tc_bandOf (l : Launch) (E : ZE) (o : Nat) (ad : Nat → Nat) (σ : TS) (a : Int → Int) (ha : σ 0 = a) (g : Int) (hok : OkA a) (hg0 : 0 ≤ g) (hg1 : g < a 66) : TCi l yX3_bandOf (ws_ yX3_bandOf cX3_bandOf 3 (some Jvm.ClassFile.FieldType.int)) 6 E o ad σ [.ref o, jI g] (fun τ v => eqx [18] σ τ ∧ (v = bdF a g ∧ 0 ≤ v ∧ v ≤ 4)) := by
  refine tci_of (own := RX3) (cc := cX3_bandOf) (L := [some (.ref o), some (jI g), none]) (by decide) rfl rfl (Nat.le_of_ble_eq_true rfl) (fun Z hE hl hrt hR hm hret => ?_)
  subst hE
  have x0 : eqx [18] σ σ := eqx_rf
  have hr := bdF_r a g
  refine zi_aload_n dX3_bandOf_0 rfl ?_
  refine zi_iload_n dX3_bandOf_1 rfl ?_
  refine zt_Vi1 mw_X3_matchOf rfl (tc_matchOf (zl Z) (zE Z) _ _ _ _ ha _ (hok) (by omega) (by omega)) q2774 hR (by decide) (by simp [Value.category]) dX3_bandOf_2 (fun τ2_0 v2 wτ2_0 => ?_)
  obtain ⟨qτ2_0, h2⟩ := wτ2_0
  have xτ2_0 : eqx [18] σ τ2_0 := eqx_tr x0 (eqx_mono qτ2_0 (by decide))
  have haτ2_0 : τ2_0 0 = a := (xτ2_0 0 (by decide)).trans ha
  refine zi_istore_2 dX3_bandOf_5 hm (by decide) rfl ?_
  refine zi_iload_n dX3_bandOf_6 rfl ?_
  refine zi_bipush dX3_bandOf_7 (by decide +kernel) ?_
  refine zi_icmp_ne 14 dX3_bandOf_9 (by decide) (by omega) (fun c9 => ?_) (fun c9 => ?_)
  · refine zi_iload_n dX3_bandOf_14 rfl ?_
    refine zi_bipush dX3_bandOf_15 (by decide +kernel) ?_
    refine zi_icmp_lt 22 dX3_bandOf_17 (by decide) (by omega) (fun c17 => ?_) (fun c17 => ?_)
    · refine zi_iload_n dX3_bandOf_22 rfl ?_
      refine zi_bipush dX3_bandOf_23 (by decide +kernel) ?_
      refine zi_icmp_lt 30 dX3_bandOf_25 (by decide) (by omega) (fun c25 => ?_) (fun c25 => ?_)
      · refine zi_iload_n dX3_bandOf_30 rfl ?_
        refine zi_bipush dX3_bandOf_31 (by decide +kernel) ?_
        refine zi_icmp_lt 40 dX3_bandOf_33 (by decide) (by omega) (fun c33 => ?_) (fun c33 => ?_)
        · refine zi_iconst dX3_bandOf_40 ?_
          exact zi_ireturn hrt dX3_bandOf_41 (hret _ _ ⟨xτ2_0, bdF_ret h2.1 (by omega)⟩)
        · refine zi_iconst dX3_bandOf_36 ?_
          refine zi_goto 41 dX3_bandOf_37 (by decide) ?_
          exact zi_ireturn hrt dX3_bandOf_41 (hret _ _ ⟨xτ2_0, bdF_ret h2.1 (by omega)⟩)
      · refine zi_iconst dX3_bandOf_28 ?_
        exact zi_ireturn hrt dX3_bandOf_29 (hret _ _ ⟨xτ2_0, bdF_ret h2.1 (by omega)⟩)
    · refine zi_iconst dX3_bandOf_20 ?_
      exact zi_ireturn hrt dX3_bandOf_21 (hret _ _ ⟨xτ2_0, bdF_ret h2.1 (by omega)⟩)
  · refine zi_iconst dX3_bandOf_12 ?_
    exact zi_ireturn hrt dX3_bandOf_13 (hret _ _ ⟨xτ2_0, bdF_ret h2.1 (by omega)⟩)
