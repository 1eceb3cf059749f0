/-! THE REFERENCE: findings -/
set_option maxRecDepth 100000
theorem mw_X3_finds : MWV yX3_finds cX3_finds 4 none 3 := ⟨q2750, qs79, q128, q2751, by decide, by decide +kernel, by decide +kernel, by decide +kernel⟩
set_option maxHeartbeats 4000000 in
theorem tc_finds (l : Launch) (E : ZE) (o : Nat) (ad : Nat → Nat) (σ : TS) (n : Int) (g : Int) (x : Int) (fl : FD) (hf : FdS σ fl) (hn : fl.length ≤ 599) : TCv l yX3_finds (ws_ yX3_finds cX3_finds 4 none) 1 E o ad σ [.ref o, jI n, jI g, jI x] (fun τ => eqx [20, 21] σ τ ∧ (FdS τ (fl ++ [(n, g, x)]))) := by
  refine tcv_of (own := RX3) (cc := cX3_finds) (L := [some (.ref o), some (jI n), some (jI g), some (jI x)]) (by decide) rfl rfl (Nat.le_of_ble_eq_true rfl) (fun Z hE hl hrt hR hm hret => ?_)
  subst hE
  have x0 : eqx [20, 21] σ σ := eqx_rf
  refine zi_aload_n dX3_finds_0 rfl ?_
  refine zt_g20 q2451 dX3_finds_1 ?_
  refine zi_iconst dX3_finds_4 ?_
  refine zi_aload_n dX3_finds_5 rfl ?_
  refine zt_g21 q2452 dX3_finds_6 (hf.1) ?_
  refine zi_imul dX3_finds_9 ?_
  refine zi_iload_n dX3_finds_10 rfl ?_
  refine zt_st20 dX3_finds_11 (by omega) (fun τ11_0 eτ11_0 => ?_)
  have gτ11_0 := up_get eτ11_0
  have k21τ11_0 := up_keep 21 eτ11_0 (by decide)
  have xτ11_0 : eqx [20, 21] σ τ11_0 := by rw [eτ11_0]; exact eqx_up x0 (by decide)
  refine zi_aload_n dX3_finds_12 rfl ?_
  refine zt_g20 q2451 dX3_finds_13 ?_
  refine zi_iconst dX3_finds_16 ?_
  refine zi_aload_n dX3_finds_17 rfl ?_
  refine zt_g21 q2452 dX3_finds_18 (k21τ11_0.trans hf.1) ?_
  refine zi_imul dX3_finds_21 ?_
  refine zi_iconst dX3_finds_22 ?_
  refine zi_iadd dX3_finds_23 ?_
  refine zi_iload_n dX3_finds_24 rfl ?_
  refine zt_st20 dX3_finds_25 (by omega) (fun τ25_1 eτ25_1 => ?_)
  have gτ25_1 := up_get eτ25_1
  have k21τ25_1 := up_keep 21 eτ25_1 (by decide)
  have xτ25_1 : eqx [20, 21] σ τ25_1 := by rw [eτ25_1]; exact eqx_up xτ11_0 (by decide)
  refine zi_aload_n dX3_finds_26 rfl ?_
  refine zt_g20 q2451 dX3_finds_27 ?_
  refine zi_iconst dX3_finds_30 ?_
  refine zi_aload_n dX3_finds_31 rfl ?_
  refine zt_g21 q2452 dX3_finds_32 (k21τ25_1.trans (k21τ11_0.trans hf.1)) ?_
  refine zi_imul dX3_finds_35 ?_
  refine zi_iconst dX3_finds_36 ?_
  refine zi_iadd dX3_finds_37 ?_
  refine zi_iload_n dX3_finds_38 rfl ?_
  refine zt_st20 dX3_finds_39 (by omega) (fun τ39_2 eτ39_2 => ?_)
  have gτ39_2 := up_get eτ39_2
  have k21τ39_2 := up_keep 21 eτ39_2 (by decide)
  have xτ39_2 : eqx [20, 21] σ τ39_2 := by rw [eτ39_2]; exact eqx_up xτ25_1 (by decide)
  refine zi_aload_n dX3_finds_40 rfl ?_
  refine zi_dup dX3_finds_41 rfl ?_
  refine zt_g21 q2452 dX3_finds_42 (k21τ39_2.trans (k21τ25_1.trans (k21τ11_0.trans hf.1))) ?_
  refine zi_iconst dX3_finds_45 ?_
  refine zi_iadd dX3_finds_46 ?_
  refine zt_p21 q2452 dX3_finds_47 (fun τ47_3 eτ47_3 => ?_)
  have gτ47_3 := up_get eτ47_3
  have xτ47_3 : eqx [20, 21] σ τ47_3 := by rw [eτ47_3]; exact eqx_up xτ39_2 (by decide)
  exact zi_return hrt dX3_finds_50 (hret _ ⟨xτ47_3, FdS_add hf eτ11_0 eτ25_1 eτ39_2 eτ47_3⟩)
theorem mw_X3_isFirstPlace : MWV yX3_isFirstPlace cX3_isFirstPlace 4 (some Jvm.ClassFile.FieldType.boolean) 2 := ⟨q2742, qs77, q128, q2743, by decide, by decide +kernel, by decide +kernel, by decide +kernel⟩
set_option maxHeartbeats 4000000 in
theorem tc_isFirstPlace (l : Launch) (E : ZE) (o : Nat) (ad : Nat → Nat) (σ : TS) (a : Int → Int) (ha : σ 0 = a) (g : Int) (k : Int) (hok : OkA a) (hg0 : 0 ≤ g) (hg1 : g < a 66) (hk0 : 0 ≤ k) (hk1 : k < sLen a g 0) : TCi l yX3_isFirstPlace (ws_ yX3_isFirstPlace cX3_isFirstPlace 4 (some Jvm.ClassFile.FieldType.boolean)) 2 E o ad σ [.ref o, jI g, jI k] (fun τ v => τ = σ ∧ (v = bI (fpP a g k))) := by
  refine tci_of (own := RX3) (cc := cX3_isFirstPlace) (L := [some (.ref o), some (jI g), some (jI k), none]) (by decide) rfl rfl (Nat.le_of_ble_eq_true rfl) (fun Z hE hl hrt hR hm hret => ?_)
  subst hE
  have hc := hok.cnt
  have hl := hok.len g 0 hg0 hg1
  refine zi_iconst dX3_isFirstPlace_0 ?_
  refine zi_istore_3 dX3_isFirstPlace_1 hm (by decide) rfl ?_
  have lp2 : ∀ (n : Nat) (q : Nat) (x3 : Int), (x3 = (q : Int)) → (x3 ≤ k) → (∀ j : Int, 0 ≤ j → j < x3 → ¬ sWd a g j 0 = sWd a g k 0) → (k - x3).toNat < n → GV RX3 cX3_isFirstPlace Z (zA Z) (zs Z).heap (twW (zE Z) o ad σ) 0 0 2 [some (.ref o), some (jI g), some (jI k), some (jI x3)] [] := by
    intro n
    induction n with
    | zero => intro q x3 i2_0 i2_1 i2_2 m2; exact absurd m2 (Nat.not_lt_zero _)
    | succ n ih2 =>
      intro q x3 i2_0 i2_1 i2_2 m2
      subst i2_0
      refine zi_iload_n dX3_isFirstPlace_2 rfl ?_
      refine zi_iload_n dX3_isFirstPlace_3 rfl ?_
      refine zi_icmp_ge 33 dX3_isFirstPlace_4 (by decide) (by omega) (fun c4 => ?_) (fun c4 => ?_)
      · refine zi_iconst dX3_isFirstPlace_33 ?_
        exact zi_zreturn hrt (z_nb (Or.inr rfl)) dX3_isFirstPlace_34 (hret _ _ ⟨rfl, bI_1 (fun j q1 q2 => i2_2 j q1 (by omega))⟩)
      · refine zi_aload_n dX3_isFirstPlace_7 rfl ?_
        refine zi_iload_n dX3_isFirstPlace_8 rfl ?_
        refine zi_iload_n dX3_isFirstPlace_9 rfl ?_
        refine zi_iconst dX3_isFirstPlace_10 ?_
        refine zt_PVl3 mw_X3_wordAt rfl (tc_wordAt (zl Z) (zE Z) _ _ _ _ (ha) _ _ _ (hok) (by omega) (by omega) (by omega) (by omega) (by omega)) q2728 hR (by decide) (by simp [Value.category]) dX3_isFirstPlace_11 (fun v11 h11 => ?_)
        refine zi_aload_n dX3_isFirstPlace_14 rfl ?_
        refine zi_iload_n dX3_isFirstPlace_15 rfl ?_
        refine zi_iload_n dX3_isFirstPlace_16 rfl ?_
        refine zi_iconst dX3_isFirstPlace_17 ?_
        refine zt_PVl3 mw_X3_wordAt rfl (tc_wordAt (zl Z) (zE Z) _ _ _ _ (ha) _ _ _ (hok) (by omega) (by omega) (by omega) (by omega) (by omega)) q2728 hR (by decide) (by simp [Value.category]) dX3_isFirstPlace_18 (fun v18 h18 => ?_)
        refine zi_lcmp_ne 27 dX3_isFirstPlace_21 dX3_isFirstPlace_22 (by decide) (by omega) (fun c21 => ?_) (fun c21 => ?_)
        · refine zi_iinc_3 dX3_isFirstPlace_27 hm (by decide) rfl ?_
          refine zi_goto 2 dX3_isFirstPlace_30 (by decide) ?_
          refine ih2 (q + 1) _ (by omega) (by omega) ?_ (by omega)
          · intro j q1 q2
            by_cases q3 : j < (q : Int)
            · exact i2_2 j q1 q3
            · rw [show j = (q : Int) by omega]; omega
        · refine zi_iconst dX3_isFirstPlace_25 ?_
          exact zi_zreturn hrt (z_nb (Or.inl rfl)) dX3_isFirstPlace_26 (hret _ _ ⟨rfl, bI_0 (fun w => w q (by omega) (by omega) (by omega))⟩)
  exact lp2 _ (0) _ (by omega) (by omega) (fun j q1 q2 => by omega) (Nat.lt_succ_self _)
theorem mw_X3_isInTarget : MWV yX3_isInTarget cX3_isInTarget 5 (some Jvm.ClassFile.FieldType.boolean) 2 := ⟨q2746, qs78, q128, q2747, by decide, by decide +kernel, by decide +kernel, by decide +kernel⟩
set_option maxHeartbeats 4000000 in
theorem tc_isInTarget (l : Launch) (E : ZE) (o : Nat) (ad : Nat → Nat) (σ : TS) (a : Int → Int) (ha : σ 0 = a) (g : Int) (x : Int) (hok : OkA a) (hg0 : 0 ≤ g) (hg1 : g < a 66) (hx : -9223372036854775808 ≤ x ∧ x < 9223372036854775808) : TCi l yX3_isInTarget (ws_ yX3_isInTarget cX3_isInTarget 5 (some Jvm.ClassFile.FieldType.boolean)) 2 E o ad σ [.ref o, jI g, jL x] (fun τ v => τ = σ ∧ (v = bI (itP a g x))) := by
  refine tci_of (own := RX3) (cc := cX3_isInTarget) (L := [some (.ref o), some (jI g), some (jL x), none, none]) (by decide) rfl rfl (Nat.le_of_ble_eq_true rfl) (fun Z hE hl hrt hR hm hret => ?_)
  subst hE
  have hc := hok.cnt
  have hl := hok.len g 1 hg0 hg1
  refine zi_iconst dX3_isInTarget_0 ?_
  refine zi_istore_4 dX3_isInTarget_1 hm (by decide) rfl ?_
  have lp3 : ∀ (n : Nat) (q : Nat) (x4 : Int), (x4 = (q : Int)) → (x4 ≤ sLen a g 1) → (∀ j : Int, 0 ≤ j → j < x4 → ¬ sWd a g j 1 = x) → (sLen a g 1 - x4).toNat < n → GV RX3 cX3_isInTarget Z (zA Z) (zs Z).heap (twW (zE Z) o ad σ) 0 0 3 [some (.ref o), some (jI g), some (jL x), none, some (jI x4)] [] := by
    intro n
    induction n with
    | zero => intro q x4 i3_0 i3_1 i3_2 m3; exact absurd m3 (Nat.not_lt_zero _)
    | succ n ih3 =>
      intro q x4 i3_0 i3_1 i3_2 m3
      subst i3_0
      refine zi_iload dX3_isInTarget_3 rfl ?_
      refine zi_aload_n dX3_isInTarget_5 rfl ?_
      refine zi_iload_n dX3_isInTarget_6 rfl ?_
      refine zi_iconst dX3_isInTarget_7 ?_
      refine zt_PVi2 mw_X3_wordsOf rfl (tc_wordsOf (zl Z) (zE Z) _ _ _ _ (ha) _ _ (hok) (by omega) (by omega) (by omega)) q2720 hR (by decide) (by simp [Value.category]) dX3_isInTarget_8 (fun v8 h8 => ?_)
      refine zi_icmp_ge 35 dX3_isInTarget_11 (by decide) (by omega) (fun c11 => ?_) (fun c11 => ?_)
      · refine zi_iconst dX3_isInTarget_35 ?_
        exact zi_zreturn hrt (z_nb (Or.inl rfl)) dX3_isInTarget_36 (hret _ _ ⟨rfl, bI_0 (fun ⟨j, q1, q2, q3⟩ => i3_2 j q1 (by omega) q3)⟩)
      · refine zi_aload_n dX3_isInTarget_14 rfl ?_
        refine zi_iload_n dX3_isInTarget_15 rfl ?_
        refine zi_iload dX3_isInTarget_16 rfl ?_
        refine zi_iconst dX3_isInTarget_18 ?_
        refine zt_PVl3 mw_X3_wordAt rfl (tc_wordAt (zl Z) (zE Z) _ _ _ _ (ha) _ _ _ (hok) (by omega) (by omega) (by omega) (by omega) (by omega)) q2728 hR (by decide) (by simp [Value.category]) dX3_isInTarget_19 (fun v19 h19 => ?_)
        refine zi_lload_n dX3_isInTarget_22 rfl ?_
        refine zi_lcmp_ne 29 dX3_isInTarget_23 dX3_isInTarget_24 (by decide) (by omega) (fun c23 => ?_) (fun c23 => ?_)
        · refine zi_iinc_4 dX3_isInTarget_29 hm (by decide) rfl ?_
          refine zi_goto 3 dX3_isInTarget_32 (by decide) ?_
          refine ih3 (q + 1) _ (by omega) (by omega) ?_ (by omega)
          · intro j q1 q2
            by_cases q3 : j < (q : Int)
            · exact i3_2 j q1 q3
            · rw [show j = (q : Int) by omega]; omega
        · refine zi_iconst dX3_isInTarget_27 ?_
          exact zi_zreturn hrt (z_nb (Or.inr rfl)) dX3_isInTarget_28 (hret _ _ ⟨rfl, bI_1 ⟨q, by omega, by omega, by omega⟩⟩)
  exact lp3 _ (0) _ (by omega) (by omega) (fun j q1 q2 => by omega) (Nat.lt_succ_self _)
theorem mw_X3_lacks : MWV yX3_lacks cX3_lacks 5 (some Jvm.ClassFile.FieldType.boolean) 3 := ⟨q2726, qs73, q128, q2727, by decide, by decide +kernel, by decide +kernel, by decide +kernel⟩
set_option maxHeartbeats 4000000 in
theorem tc_lacks (l : Launch) (E : ZE) (o : Nat) (ad : Nat → Nat) (σ : TS) (a : Int → Int) (ha : σ 0 = a) (g : Int) (k : Int) (f : Int) (hok : OkA a) (hg0 : 0 ≤ g) (hg1 : g < a 66) (hk0 : 0 ≤ k) (hk1 : k < sLen a g 0) (hf : 0 ≤ f ∧ f ≤ a 20) : TCi l yX3_lacks (ws_ yX3_lacks cX3_lacks 5 (some Jvm.ClassFile.FieldType.boolean)) 3 E o ad σ [.ref o, jI g, jI k, jI f] (fun τ v => τ = σ ∧ (v = bI (lkP a g k f))) := by
  refine tci_of (own := RX3) (cc := cX3_lacks) (L := [some (.ref o), some (jI g), some (jI k), some (jI f), none]) (by decide) rfl rfl (Nat.le_of_ble_eq_true rfl) (fun Z hE hl hrt hR hm hret => ?_)
  subst hE
  have hc := hok.cnt
  have hl := hok.len g 0 hg0 hg1
  refine zi_aload_n dX3_lacks_0 rfl ?_
  refine zi_aload_n dX3_lacks_1 rfl ?_
  refine zi_iload_n dX3_lacks_2 rfl ?_
  refine zi_iload_n dX3_lacks_3 rfl ?_
  refine zi_iconst dX3_lacks_4 ?_
  refine zt_PVl3 mw_X3_wordAt rfl (tc_wordAt (zl Z) (zE Z) _ _ _ _ (ha) _ _ _ (hok) (by omega) (by omega) (by omega) (by omega) (by omega)) q2728 hR (by decide) (by simp [Value.category]) dX3_lacks_5 (fun v5 h5 => ?_)
  obtain ⟨h5a, h5b⟩ := h5
  subst h5a
  refine zi_iload_n dX3_lacks_8 rfl ?_
  refine zt_PVi2 mw_X3_ruleBy rfl (tc_ruleBy (zl Z) (zE Z) _ _ _ _ (ha) _ _ (hok) (by omega) (by omega)) q2732 hR (by decide) (by simp [Value.category]) dX3_lacks_9 (fun v9 h9 => ?_)
  obtain ⟨h9a, h9b⟩ := h9
  subst h9a
  refine zi_istore_4 dX3_lacks_12 hm (by decide) rfl ?_
  refine zi_iload dX3_lacks_14 rfl ?_
  refine zi_iconst dX3_lacks_16 ?_
  refine zi_icmp_eq 48 dX3_lacks_17 (by decide) (by omega) (fun c17 => ?_) (fun c17 => ?_)
  · refine zi_iconst dX3_lacks_48 ?_
    exact zi_zreturn hrt (z_nb (Or.inl rfl)) dX3_lacks_49 (hret _ _ ⟨rfl, by first | exact bI_1 ⟨c17, c26, c41⟩ | exact bI_0 (fun w => w.1 c17) | exact bI_0 (fun w => c26 w.2.1) | exact bI_0 (fun w => w.2.2 c41)⟩)
  · refine zi_aload_n dX3_lacks_20 rfl ?_
    refine zi_iload_n dX3_lacks_21 rfl ?_
    refine zi_iload_n dX3_lacks_22 rfl ?_
    refine zt_PVi2 mw_X3_isFirstPlace rfl (tc_isFirstPlace (zl Z) (zE Z) _ _ _ _ (ha) _ _ (hok) (by omega) (by omega) (by omega) (by omega)) q2740 hR (by decide) (by simp [Value.category]) dX3_lacks_23 (fun v23 h23 => ?_)
    subst h23
    refine zi_if_eqB 48 dX3_lacks_26 (by decide) (fun c26 => ?_) (fun c26 => ?_)
    · refine zi_iconst dX3_lacks_48 ?_
      exact zi_zreturn hrt (z_nb (Or.inl rfl)) dX3_lacks_49 (hret _ _ ⟨rfl, by first | exact bI_1 ⟨c17, c26, c41⟩ | exact bI_0 (fun w => w.1 c17) | exact bI_0 (fun w => c26 w.2.1) | exact bI_0 (fun w => w.2.2 c41)⟩)
    · refine zi_aload_n dX3_lacks_29 rfl ?_
      refine zi_iload_n dX3_lacks_30 rfl ?_
      refine zi_aload_n dX3_lacks_31 rfl ?_
      refine zi_iload dX3_lacks_32 rfl ?_
      refine zi_iconst dX3_lacks_34 ?_
      refine zt_PVl2 mw_X3_termWord rfl (tc_termWord (zl Z) (zE Z) _ _ _ _ (ha) _ _ (hok) (by omega) (by omega) (by omega)) q2736 hR (by decide) (by simp [Value.category]) dX3_lacks_35 (fun v35 h35 => ?_)
      obtain ⟨h35a, h35b⟩ := h35
      subst h35a
      refine zt_PVi2 mw_X3_isInTarget rfl (tc_isInTarget (zl Z) (zE Z) _ _ _ _ (ha) _ _ (hok) (by omega) (by omega) (by omega)) q2744 hR (by decide) (by simp [Value.category]) dX3_lacks_38 (fun v38 h38 => ?_)
      subst h38
      refine zi_if_neB 48 dX3_lacks_41 (by decide) (fun c41 => ?_) (fun c41 => ?_)
      · refine zi_iconst dX3_lacks_48 ?_
        exact zi_zreturn hrt (z_nb (Or.inl rfl)) dX3_lacks_49 (hret _ _ ⟨rfl, by first | exact bI_1 ⟨c17, c26, c41⟩ | exact bI_0 (fun w => w.1 c17) | exact bI_0 (fun w => c26 w.2.1) | exact bI_0 (fun w => w.2.2 c41)⟩)
      · refine zi_iconst dX3_lacks_44 ?_
        refine zi_goto 49 dX3_lacks_45 (by decide) ?_
        exact zi_zreturn hrt (z_nb (Or.inr rfl)) dX3_lacks_49 (hret _ _ ⟨rfl, by first | exact bI_1 ⟨c17, c26, c41⟩ | exact bI_0 (fun w => w.1 c17) | exact bI_0 (fun w => c26 w.2.1) | exact bI_0 (fun w => w.2.2 c41)⟩)
theorem mw_X3_findsOf : MWV yX3_findsOf cX3_findsOf 4 none 1 := ⟨q2710, qs69, q128, q2711, by decide, by decide +kernel, by decide +kernel, by decide +kernel⟩
set_option maxHeartbeats 4000000 in
theorem tc_findsOf (l : Launch) (E : ZE) (o : Nat) (ad : Nat → Nat) (σ : TS) (a : Int → Int) (ha : σ 0 = a) (g : Int) (hok : OkA a) (hg0 : 0 ≤ g) (hg1 : g < a 66) (fl : FD) (hf : FdS σ fl) (hn : fl.length ≤ 570) : TCv l yX3_findsOf (ws_ yX3_findsOf cX3_findsOf 4 none) 7 E o ad σ [.ref o, jI g] (fun τ => eqx [18, 20, 21] σ τ ∧ (FdS τ (fl ++ fgF a g))) := by
  refine tcv_of (own := RX3) (cc := cX3_findsOf) (L := [some (.ref o), some (jI g), none, none]) (by decide) rfl rfl (Nat.le_of_ble_eq_true rfl) (fun Z hE hl hrt hR hm hret => ?_)
  subst hE
  have x0 : eqx [18, 20, 21] σ σ := eqx_rf
  have hc := hok.cnt
  have hl := hok.len g 0 hg0 hg1
  refine zi_aload_n dX3_findsOf_0 rfl ?_
  refine zi_aload_n dX3_findsOf_1 rfl ?_
  refine zi_iload_n dX3_findsOf_2 rfl ?_
  refine zt_PVi1 mw_X3_jobNow rfl (tc_jobNow (zl Z) (zE Z) _ _ _ _ (ha) _ (hok) (by omega) (by omega)) q2712 hR (by decide) (by simp [Value.category]) dX3_findsOf_3 (fun v3 h3 => ?_)
  obtain ⟨h3a, h3b⟩ := h3
  subst h3a
  have hj := hok.job (sJob a g) (by omega) (by omega)
  refine zi_iconst dX3_findsOf_6 ?_
  refine zt_PVi2 mw_X3_ofJob rfl (tc_ofJob (zl Z) (zE Z) _ _ _ _ (ha) _ _ (hok) (by omega) (by omega) (by omega)) q2716 hR (by decide) (by simp [Value.category]) dX3_findsOf_7 (fun v7 h7 => ?_)
  obtain ⟨h7a, h7b⟩ := h7
  subst h7a
  refine zi_istore_2 dX3_findsOf_10 hm (by decide) rfl ?_
  refine zi_iconst dX3_findsOf_11 ?_
  refine zi_istore_3 dX3_findsOf_12 hm (by decide) rfl ?_
  have lp13 : ∀ (n : Nat) (k : Nat) (x3 : Int) (τ13 : TS), (eqx [18, 20, 21] σ τ13) → (x3 = (k : Int)) → (x3 ≤ sLen a g 0) → (FdS τ13 (fl ++ msI a g (jOf a (sJob a g) 3) k)) → (sLen a g 0 - x3).toNat < n → GV RX3 cX3_findsOf Z (zA Z) (zs Z).heap (twW (zE Z) o ad τ13) 0 0 13 [some (.ref o), some (jI g), some (jI (jOf a (sJob a g) 3)), some (jI x3)] [] := by
    intro n
    induction n with
    | zero => intro k x3 τ13 y13 i13_0 i13_1 i13_2 m13; exact absurd m13 (Nat.not_lt_zero _)
    | succ n ih13 =>
      intro k x3 τ13 y13 i13_0 i13_1 i13_2 m13
      have ha13 : τ13 0 = a := (y13 0 (by decide)).trans ha
      subst i13_0
      have n2 := msI_r a g (jOf a (sJob a g) 3) k
      refine zi_iload_n dX3_findsOf_13 rfl ?_
      refine zi_aload_n dX3_findsOf_14 rfl ?_
      refine zi_iload_n dX3_findsOf_15 rfl ?_
      refine zi_iconst dX3_findsOf_16 ?_
      refine zt_PVi2 mw_X3_wordsOf rfl (tc_wordsOf (zl Z) (zE Z) _ _ _ _ (ha13) _ _ (hok) (by omega) (by omega) (by omega)) q2720 hR (by decide) (by simp [Value.category]) dX3_findsOf_17 (fun v17 h17 => ?_)
      refine zi_icmp_ge 46 dX3_findsOf_20 (by decide) (by omega) (fun c20 => ?_) (fun c20 => ?_)
      · refine zi_iconst dX3_findsOf_46 ?_
        refine zi_istore_3 dX3_findsOf_47 hm (by decide) rfl ?_
        have lp48 : ∀ (n : Nat) (q : Nat) (x3 : Int) (τ48 : TS), (eqx [18, 20, 21] σ τ48) → (x3 = (q : Int)) → (x3 ≤ g) → (FdS τ48 (fl ++ (msI a g (jOf a (sJob a g) 3) (sLen a g 0).toNat ++ ulI a g q))) → (g - x3).toNat < n → GV RX3 cX3_findsOf Z (zA Z) (zs Z).heap (twW (zE Z) o ad τ48) 0 0 48 [some (.ref o), some (jI g), some (jI (jOf a (sJob a g) 3)), some (jI x3)] [] := by
          intro n
          induction n with
          | zero => intro q x3 τ48 y48 i48_0 i48_1 i48_2 m48; exact absurd m48 (Nat.not_lt_zero _)
          | succ n ih48 =>
            intro q x3 τ48 y48 i48_0 i48_1 i48_2 m48
            have ha48 : τ48 0 = a := (y48 0 (by decide)).trans ha
            subst i48_0
            have n1 := ulI_r a g q
            have n2 := msI_r a g (jOf a (sJob a g) 3) (sLen a g 0).toNat
            refine zi_iload_n dX3_findsOf_48 rfl ?_
            refine zi_iload_n dX3_findsOf_49 rfl ?_
            refine zi_icmp_ge 86 dX3_findsOf_50 (by decide) (by omega) (fun c50 => ?_) (fun c50 => ?_)
            · refine zi_aload_n dX3_findsOf_86 rfl ?_
              refine zi_iload_n dX3_findsOf_87 rfl ?_
              refine zt_Vi1 mw_X3_modelOf rfl (tc_modelOf (zl Z) (zE Z) _ _ _ _ (ha48) _ (hok) (by omega) (by omega)) q2756 hR (by decide) (by simp [Value.category]) dX3_findsOf_88 (fun τ88_0 v88 wτ88_0 => ?_)
              obtain ⟨qτ88_0, h88⟩ := wτ88_0
              have xτ88_0 : eqx [18, 20, 21] σ τ88_0 := eqx_tr y48 (eqx_mono qτ88_0 (by decide))
              have haτ88_0 : τ88_0 0 = a := (xτ88_0 0 (by decide)).trans ha
              have f1 := FdS_q qτ88_0 i48_2 (by decide) (by decide)
              have n1 := ulI_r a g q
              have n2 := msI_r a g (jOf a (sJob a g) 3) (sLen a g 0).toNat
              obtain ⟨h88a, h88b⟩ := h88
              subst h88a
              refine zi_istore_3 dX3_findsOf_91 hm (by decide) rfl ?_
              refine zi_aload_n dX3_findsOf_92 rfl ?_
              refine zi_iload_n dX3_findsOf_93 rfl ?_
              refine zt_Vi1 mw_X3_bandOf rfl (tc_bandOf (zl Z) (zE Z) _ _ _ _ (haτ88_0) _ (hok) (by omega) (by omega)) q2770 hR (by decide) (by simp [Value.category]) dX3_findsOf_94 (fun τ94_1 v94 wτ94_1 => ?_)
              obtain ⟨qτ94_1, h94⟩ := wτ94_1
              have xτ94_1 : eqx [18, 20, 21] σ τ94_1 := eqx_tr xτ88_0 (eqx_mono qτ94_1 (by decide))
              have haτ94_1 : τ94_1 0 = a := (xτ94_1 0 (by decide)).trans ha
              have f2 := FdS_q qτ94_1 f1 (by decide) (by decide)
              have f3 : g.toNat = q := by omega
              rw [← f3] at f2 n1
              refine zi_iconst dX3_findsOf_97 ?_
              refine zi_icmp_ne 122 dX3_findsOf_98 (by decide) (by omega) (fun c98 => ?_) (fun c98 => ?_)
              · exact zi_return hrt dX3_findsOf_122 (hret _ ⟨xτ94_1, by unfold fgF stF; first | (rw [cif_f (fun w => absurd w.1 (by omega)), List.append_nil]; exact f2) | (rw [cif_f (fun w => absurd w.2 (by omega)), List.append_nil]; exact f2) | (rw [cif_t ⟨by omega, by omega⟩]; simpa only [List.append_assoc] using h119)⟩)
              · have q7 := bd_md (a := a) (g := g) (by omega)
                refine zi_aload_n dX3_findsOf_101 rfl ?_
                refine zi_aload_n dX3_findsOf_102 rfl ?_
                refine zi_iload_n dX3_findsOf_103 rfl ?_
                refine zt_PVi1 mw_X3_jobNow rfl (tc_jobNow (zl Z) (zE Z) _ _ _ _ (haτ94_1) _ (hok) (by omega) (by omega)) q2712 hR (by decide) (by simp [Value.category]) dX3_findsOf_104 (fun v104 h104 => ?_)
                obtain ⟨h104a, h104b⟩ := h104
                subst h104a
                refine zi_iconst dX3_findsOf_107 ?_
                refine zt_PVi2 mw_X3_ofJob rfl (tc_ofJob (zl Z) (zE Z) _ _ _ _ (haτ94_1) _ _ (hok) (by omega) (by omega) (by omega)) q2716 hR (by decide) (by simp [Value.category]) dX3_findsOf_108 (fun v108 h108 => ?_)
                refine zi_iload_n dX3_findsOf_111 rfl ?_
                refine zi_icmp_eq 122 dX3_findsOf_112 (by decide) (by omega) (fun c112 => ?_) (fun c112 => ?_)
                · exact zi_return hrt dX3_findsOf_122 (hret _ ⟨xτ94_1, by unfold fgF stF; first | (rw [cif_f (fun w => absurd w.1 (by omega)), List.append_nil]; exact f2) | (rw [cif_f (fun w => absurd w.2 (by omega)), List.append_nil]; exact f2) | (rw [cif_t ⟨by omega, by omega⟩]; simpa only [List.append_assoc] using h119)⟩)
                · refine zi_aload_n dX3_findsOf_115 rfl ?_
                  refine zi_iconst dX3_findsOf_116 ?_
                  refine zi_iload_n dX3_findsOf_117 rfl ?_
                  refine zi_iload_n dX3_findsOf_118 rfl ?_
                  refine zt_Vv3 mw_X3_finds rfl (tc_finds (zl Z) (zE Z) _ _ _ _ _ _ (_) (f2) (by simp only [List.length_append]; omega)) q2748 hR (by decide) (by simp [Value.category]) dX3_findsOf_119 (fun τ119_2 wτ119_2 => ?_)
                  obtain ⟨qτ119_2, h119⟩ := wτ119_2
                  have xτ119_2 : eqx [18, 20, 21] σ τ119_2 := eqx_tr xτ94_1 (eqx_mono qτ119_2 (by decide))
                  have haτ119_2 : τ119_2 0 = a := (xτ119_2 0 (by decide)).trans ha
                  exact zi_return hrt dX3_findsOf_122 (hret _ ⟨xτ119_2, by unfold fgF stF; first | (rw [cif_f (fun w => absurd w.1 (by omega)), List.append_nil]; exact f2) | (rw [cif_f (fun w => absurd w.2 (by omega)), List.append_nil]; exact f2) | (rw [cif_t ⟨by omega, by omega⟩]; simpa only [List.append_assoc] using h119)⟩)
            · refine zi_aload_n dX3_findsOf_53 rfl ?_
              refine zi_iload_n dX3_findsOf_54 rfl ?_
              refine zi_iload_n dX3_findsOf_55 rfl ?_
              refine zi_iconst dX3_findsOf_56 ?_
              refine zt_PVi3 mw_X3_isSameRow rfl (tc_isSameRow (zl Z) (zE Z) _ _ _ _ (ha48) _ _ _ (hok) (by omega) (by omega) (by omega) (by omega) (by omega)) q2752 hR (by decide) (by simp [Value.category]) dX3_findsOf_57 (fun v57 h57 => ?_)
              subst h57
              refine zi_if_eqB 80 dX3_findsOf_60 (by decide) (fun c60 => ?_) (fun c60 => ?_)
              · refine zi_iinc_3 dX3_findsOf_80 hm (by decide) rfl ?_
                refine zi_goto 48 dX3_findsOf_83 (by decide) ?_
                exact ih48 (q + 1) _ _ y48 (by omega) (by omega) (by simp only [ulI]; first | (rw [cif_f (fun w => c60 w.1), List.append_nil]; exact i48_2) | (rw [cif_f (fun w => w.2 c70), List.append_nil]; exact i48_2) | (rw [cif_t ⟨c60, c70⟩]; simpa only [List.append_assoc] using h77)) (by omega)
              · refine zi_aload_n dX3_findsOf_63 rfl ?_
                refine zi_iload_n dX3_findsOf_64 rfl ?_
                refine zi_iload_n dX3_findsOf_65 rfl ?_
                refine zi_iconst dX3_findsOf_66 ?_
                refine zt_PVi3 mw_X3_isSameRow rfl (tc_isSameRow (zl Z) (zE Z) _ _ _ _ (ha48) _ _ _ (hok) (by omega) (by omega) (by omega) (by omega) (by omega)) q2752 hR (by decide) (by simp [Value.category]) dX3_findsOf_67 (fun v67 h67 => ?_)
                subst h67
                refine zi_if_neB 80 dX3_findsOf_70 (by decide) (fun c70 => ?_) (fun c70 => ?_)
                · refine zi_iinc_3 dX3_findsOf_80 hm (by decide) rfl ?_
                  refine zi_goto 48 dX3_findsOf_83 (by decide) ?_
                  exact ih48 (q + 1) _ _ y48 (by omega) (by omega) (by simp only [ulI]; first | (rw [cif_f (fun w => c60 w.1), List.append_nil]; exact i48_2) | (rw [cif_f (fun w => w.2 c70), List.append_nil]; exact i48_2) | (rw [cif_t ⟨c60, c70⟩]; simpa only [List.append_assoc] using h77)) (by omega)
                · refine zi_aload_n dX3_findsOf_73 rfl ?_
                  refine zi_iconst dX3_findsOf_74 ?_
                  refine zi_iload_n dX3_findsOf_75 rfl ?_
                  refine zi_iload_n dX3_findsOf_76 rfl ?_
                  refine zt_Vv3 mw_X3_finds rfl (tc_finds (zl Z) (zE Z) _ _ _ _ _ _ (_) (i48_2) (by simp only [List.length_append]; omega)) q2748 hR (by decide) (by simp [Value.category]) dX3_findsOf_77 (fun τ77_3 wτ77_3 => ?_)
                  obtain ⟨qτ77_3, h77⟩ := wτ77_3
                  have xτ77_3 : eqx [18, 20, 21] σ τ77_3 := eqx_tr y48 (eqx_mono qτ77_3 (by decide))
                  have haτ77_3 : τ77_3 0 = a := (xτ77_3 0 (by decide)).trans ha
                  refine zi_iinc_3 dX3_findsOf_80 hm (by decide) rfl ?_
                  refine zi_goto 48 dX3_findsOf_83 (by decide) ?_
                  exact ih48 (q + 1) _ _ xτ77_3 (by omega) (by omega) (by simp only [ulI]; first | (rw [cif_f (fun w => c60 w.1), List.append_nil]; exact i48_2) | (rw [cif_f (fun w => w.2 c70), List.append_nil]; exact i48_2) | (rw [cif_t ⟨c60, c70⟩]; simpa only [List.append_assoc] using h77)) (by omega)
        exact lp48 _ (0) _ _ y13 (by omega) (by omega) (by rw [show (sLen a g 0).toNat = k by omega]; simp only [ulI, List.append_nil]; exact i13_2) (Nat.lt_succ_self _)
      · refine zi_aload_n dX3_findsOf_23 rfl ?_
        refine zi_iload_n dX3_findsOf_24 rfl ?_
        refine zi_iload_n dX3_findsOf_25 rfl ?_
        refine zi_iload_n dX3_findsOf_26 rfl ?_
        refine zt_PVi3 mw_X3_lacks rfl (tc_lacks (zl Z) (zE Z) _ _ _ _ (ha13) _ _ _ (hok) (by omega) (by omega) (by omega) (by omega) (by omega)) q2724 hR (by decide) (by simp [Value.category]) dX3_findsOf_27 (fun v27 h27 => ?_)
        subst h27
        refine zi_if_eqB 40 dX3_findsOf_30 (by decide) (fun c30 => ?_) (fun c30 => ?_)
        · refine zi_iinc_3 dX3_findsOf_40 hm (by decide) rfl ?_
          refine zi_goto 13 dX3_findsOf_43 (by decide) ?_
          exact ih13 (k + 1) _ _ y13 (by omega) (by omega) (by simp only [msI]; first | (rw [cif_f c30, List.append_nil]; exact i13_2) | (rw [cif_t c30]; simpa only [List.append_assoc] using h37)) (by omega)
        · refine zi_aload_n dX3_findsOf_33 rfl ?_
          refine zi_iconst dX3_findsOf_34 ?_
          refine zi_iload_n dX3_findsOf_35 rfl ?_
          refine zi_iload_n dX3_findsOf_36 rfl ?_
          refine zt_Vv3 mw_X3_finds rfl (tc_finds (zl Z) (zE Z) _ _ _ _ _ _ (_) (i13_2) (by simp only [List.length_append]; omega)) q2748 hR (by decide) (by simp [Value.category]) dX3_findsOf_37 (fun τ37_4 wτ37_4 => ?_)
          obtain ⟨qτ37_4, h37⟩ := wτ37_4
          have xτ37_4 : eqx [18, 20, 21] σ τ37_4 := eqx_tr y13 (eqx_mono qτ37_4 (by decide))
          have haτ37_4 : τ37_4 0 = a := (xτ37_4 0 (by decide)).trans ha
          refine zi_iinc_3 dX3_findsOf_40 hm (by decide) rfl ?_
          refine zi_goto 13 dX3_findsOf_43 (by decide) ?_
          exact ih13 (k + 1) _ _ xτ37_4 (by omega) (by omega) (by simp only [msI]; first | (rw [cif_f c30, List.append_nil]; exact i13_2) | (rw [cif_t c30]; simpa only [List.append_assoc] using h37)) (by omega)
  exact lp13 _ (0) _ _ x0 (by omega) (by omega) (by simp only [msI, List.append_nil]; exact hf) (Nat.lt_succ_self _)
theorem mw_X3_layFindings : MWV yX3_layFindings cX3_layFindings 2 none 0 := ⟨q2706, qs68, q128, q2707, by decide, by decide +kernel, by decide +kernel, by decide +kernel⟩
set_option maxHeartbeats 4000000 in
theorem tc_layFindings (l : Launch) (E : ZE) (o : Nat) (ad : Nat → Nat) (σ : TS) (a : Int → Int) (ha : σ 0 = a) (hok : OkA a) : TCv l yX3_layFindings (ws_ yX3_layFindings cX3_layFindings 2 none) 8 E o ad σ [.ref o] (fun τ => eqx [18, 20, 21] σ τ ∧ (FdS τ (fdF a))) := by
  refine tcv_of (own := RX3) (cc := cX3_layFindings) (L := [some (.ref o), none]) (by decide) rfl rfl (Nat.le_of_ble_eq_true rfl) (fun Z hE hl hrt hR hm hret => ?_)
  subst hE
  have x0 : eqx [18, 20, 21] σ σ := eqx_rf
  have hc := hok.cnt
  refine zi_aload_n dX3_layFindings_0 rfl ?_
  refine zi_iconst dX3_layFindings_1 ?_
  refine zt_p21 q2452 dX3_layFindings_2 (fun τ2_0 eτ2_0 => ?_)
  have gτ2_0 := up_get eτ2_0
  have xτ2_0 : eqx [18, 20, 21] σ τ2_0 := by rw [eτ2_0]; exact eqx_up x0 (by decide)
  have haτ2_0 : τ2_0 0 = a := (xτ2_0 0 (by decide)).trans ha
  refine zi_iconst dX3_layFindings_5 ?_
  refine zi_istore_1 dX3_layFindings_6 hm (by decide) rfl ?_
  have lp7 : ∀ (n : Nat) (k : Nat) (x1 : Int) (τ7 : TS), (eqx [18, 20, 21] σ τ7) → (x1 = (k : Int)) → (x1 ≤ a 66) → (FdS τ7 (fdI a k)) → (a 66 - x1).toNat < n → GV RX3 cX3_layFindings Z (zA Z) (zs Z).heap (twW (zE Z) o ad τ7) 0 0 7 [some (.ref o), some (jI x1)] [] := by
    intro n
    induction n with
    | zero => intro k x1 τ7 y7 i7_0 i7_1 i7_2 m7; exact absurd m7 (Nat.not_lt_zero _)
    | succ n ih7 =>
      intro k x1 τ7 y7 i7_0 i7_1 i7_2 m7
      have ha7 : τ7 0 = a := (y7 0 (by decide)).trans ha
      subst i7_0
      have n1 := fdI_r hok k (by omega)
      refine zi_iload_n dX3_layFindings_7 rfl ?_
      refine zi_aload_n dX3_layFindings_8 rfl ?_
      refine zt_PVi0 mw_X3_segments rfl (tc_segments (zl Z) (zE Z) _ _ _ _ (ha7)  (hok)) q2700 hR (by decide) (by simp [Value.category]) dX3_layFindings_9 (fun v9 h9 => ?_)
      refine zi_icmp_ge 26 dX3_layFindings_12 (by decide) (by omega) (fun c12 => ?_) (fun c12 => ?_)
      · exact zi_return hrt dX3_layFindings_26 (hret _ ⟨y7, by unfold fdF; rw [show (a 66).toNat = k by omega]; exact i7_2⟩)
      · refine zi_aload_n dX3_layFindings_15 rfl ?_
        refine zi_iload_n dX3_layFindings_16 rfl ?_
        refine zt_Vv1 mw_X3_findsOf rfl (tc_findsOf (zl Z) (zE Z) _ _ _ _ (ha7) _ (hok) (by omega) (by omega) (_) (i7_2) (by omega)) q2708 hR (by decide) (by simp [Value.category]) dX3_layFindings_17 (fun τ17_1 wτ17_1 => ?_)
        obtain ⟨qτ17_1, h17⟩ := wτ17_1
        have xτ17_1 : eqx [18, 20, 21] σ τ17_1 := eqx_tr y7 (eqx_mono qτ17_1 (by decide))
        have haτ17_1 : τ17_1 0 = a := (xτ17_1 0 (by decide)).trans ha
        refine zi_iinc_1 dX3_layFindings_20 hm (by decide) rfl ?_
        refine zi_goto 7 dX3_layFindings_23 (by decide) ?_
        exact ih7 (k + 1) _ _ xτ17_1 (by omega) (by omega) (by simp only [fdI]; exact h17) (by omega)
  exact lp7 _ (0) _ _ xτ2_0 (by omega) (by omega) (FdS_nil eτ2_0) (Nat.lt_succ_self _)
theorem mw_X3_goodFinding : MWV yX3_goodFinding cX3_goodFinding 2 (some Jvm.ClassFile.FieldType.boolean) 1 := ⟨q2983, qs108, q128, q2984, by decide, by decide +kernel, by decide +kernel, by decide +kernel⟩
set_option maxHeartbeats 4000000 in
theorem tc_goodFinding (l : Launch) (E : ZE) (o : Nat) (ad : Nat → Nat) (σ : TS) (a : Int → Int) (ha : σ 0 = a) (f : Int) (hok : OkA a) (rf : -2147483648 ≤ f ∧ f < 2147483648) : TCi l yX3_goodFinding (ws_ yX3_goodFinding cX3_goodFinding 2 (some Jvm.ClassFile.FieldType.boolean)) 9 E o ad σ [.ref o, jI f] (fun τ v => eqx [18, 20, 21] σ τ ∧ (v = bI (0 ≤ f ∧ f < (fdF a).length) ∧ FdS τ (fdF a))) := by
  refine tci_of (own := RX3) (cc := cX3_goodFinding) (L := [some (.ref o), some (jI f)]) (by decide) rfl rfl (Nat.le_of_ble_eq_true rfl) (fun Z hE hl hrt hR hm hret => ?_)
  subst hE
  have x0 : eqx [18, 20, 21] σ σ := eqx_rf
  have n1 := fdF_r hok
  refine zi_aload_n dX3_goodFinding_0 rfl ?_
  refine zt_Vv0 mw_X3_layFindings rfl (tc_layFindings (zl Z) (zE Z) _ _ _ _ (ha)  (hok)) q2704 hR (by decide) (by simp [Value.category]) dX3_goodFinding_1 (fun τ1_0 wτ1_0 => ?_)
  obtain ⟨qτ1_0, h1⟩ := wτ1_0
  have xτ1_0 : eqx [18, 20, 21] σ τ1_0 := eqx_tr x0 (eqx_mono qτ1_0 (by decide))
  have haτ1_0 : τ1_0 0 = a := (xτ1_0 0 (by decide)).trans ha
  refine zi_iload_n dX3_goodFinding_4 rfl ?_
  refine zi_i2l dX3_goodFinding_5 (by omega) ?_
  refine zi_lconst (m := 0) dX3_goodFinding_6 (by decide +kernel) ?_
  refine zi_aload_n dX3_goodFinding_7 rfl ?_
  refine zt_g21 q2452 dX3_goodFinding_8 (h1.1) ?_
  refine zi_iconst dX3_goodFinding_11 ?_
  refine zi_isub dX3_goodFinding_12 ?_
  refine zi_i2l dX3_goodFinding_13 (by omega) ?_
  refine zt_PSi3 mw_X3_isIn (tc_isIn (zl Z) (zE Z) _ _ _ _ _ _ (by omega) (by omega) (by omega)) q2528 hR (by decide) (by simp [Value.category]) dX3_goodFinding_14 (fun v14 h14 => ?_)
  subst h14
  exact zi_zreturn hrt (z_nb (bI_01 _)) dX3_goodFinding_17 (hret _ _ ⟨xτ1_0, ⟨by exact bI_c (by omega), h1⟩⟩)
theorem mw_X3_finding : MWV yX3_finding cX3_finding 3 (some Jvm.ClassFile.FieldType.int) 2 := ⟨q2978, q2979, q128, q2980, by decide, by decide +kernel, by decide +kernel, by decide +kernel⟩
set_option maxHeartbeats 4000000 in
theorem tc_finding (l : Launch) (E : ZE) (o : Nat) (ad : Nat → Nat) (σ : TS) (a : Int → Int) (ha : σ 0 = a) (f : Int) (w : Int) (hok : OkA a) (rf : -2147483648 ≤ f ∧ f < 2147483648) (rw : -2147483648 ≤ w ∧ w < 2147483648) : TCi l yX3_finding (ws_ yX3_finding cX3_finding 3 (some Jvm.ClassFile.FieldType.int)) 10 E o ad σ [.ref o, jI f, jI w] (fun τ v => eqx [5, 18, 20, 21] σ τ ∧ ((0 ≤ f ∧ f < (fdF a).length → 0 ≤ w ∧ w ≤ 2 → τ 5 0 = 0 ∧ v = fdg (fdF a) f w) ∧ (¬ (0 ≤ f ∧ f < (fdF a).length) → τ 5 0 = 1) ∧ (0 ≤ f ∧ f < (fdF a).length → ¬ (0 ≤ w ∧ w ≤ 2) → τ 5 0 = 2))) := by
  refine tci_of (own := RX3) (cc := cX3_finding) (L := [some (.ref o), some (jI f), some (jI w)]) (by decide) rfl rfl (Nat.le_of_ble_eq_true rfl) (fun Z hE hl hrt hR hm hret => ?_)
  subst hE
  have x0 : eqx [5, 18, 20, 21] σ σ := eqx_rf
  have n1 := fdF_r hok
  refine zi_aload_n dX3_finding_0 rfl ?_
  refine zi_aload_n dX3_finding_1 rfl ?_
  refine zi_iload_n dX3_finding_2 rfl ?_
  refine zt_Vi1 mw_X3_goodFinding rfl (tc_goodFinding (zl Z) (zE Z) _ _ _ _ (ha) _ (hok) (by omega)) q2981 hR (by decide) (by simp [Value.category]) dX3_finding_3 (fun τ3_0 v3 wτ3_0 => ?_)
  obtain ⟨qτ3_0, h3⟩ := wτ3_0
  obtain ⟨eh3, h3⟩ := h3
  subst eh3
  have k5τ3_0 := eq_keep 5 qτ3_0 (by decide)
  have xτ3_0 : eqx [5, 18, 20, 21] σ τ3_0 := eqx_tr x0 (eqx_mono qτ3_0 (by decide))
  have haτ3_0 : τ3_0 0 = a := (xτ3_0 0 (by decide)).trans ha
  refine zi_iload_n dX3_finding_6 rfl ?_
  refine zi_i2l dX3_finding_7 (by omega) ?_
  refine zi_lconst (m := 0) dX3_finding_8 (by decide +kernel) ?_
  refine zi_ldc2 (m := 2) dX3_finding_9 q2985 (by decide +kernel) ?_
  refine zt_PSi3 mw_X3_isIn (tc_isIn (zl Z) (zE Z) _ _ _ _ _ _ (by omega) (by omega) (by omega)) q2528 hR (by decide) (by simp [Value.category]) dX3_finding_12 (fun v12 h12 => ?_)
  subst h12
  refine zt_Vi2 mw_X3_good_2 rfl (tc_good_2_bb (zl Z) (zE Z) _ _ _ _ _) q2806 hR (by decide) (by simp [Value.category]) dX3_finding_15 (fun τ15_1 v15 wτ15_1 => ?_)
  obtain ⟨qτ15_1, h15⟩ := wτ15_1
  obtain ⟨eh15, h15⟩ := h15
  subst eh15
  have xτ15_1 : eqx [5, 18, 20, 21] σ τ15_1 := eqx_tr xτ3_0 (eqx_mono qτ15_1 (by decide))
  have haτ15_1 : τ15_1 0 = a := (xτ15_1 0 (by decide)).trans ha
  refine zi_if_eqB 34 dX3_finding_18 (by decide) (fun c18 => ?_) (fun c18 => ?_)
  · refine zi_iconst dX3_finding_34 ?_
    exact zi_ireturn hrt dX3_finding_35 (hret _ _ ⟨xτ15_1, by first | exact ⟨fun p q => ⟨by omega, f2⟩, fun p => absurd c18.1 p, fun p q => absurd c18.2 q⟩ | exact ⟨fun p q => absurd ⟨p, q⟩ c18, h15.2.1, h15.2.2⟩⟩)
  · have tc18 := h15.1 c18.1 c18.2; clear h15
    have f1 := FdS_q qτ15_1 h3 (by decide) (by decide)
    have f2 := FdS_g f1 c18.1.1 c18.1.2 c18.2.1 c18.2.2
    refine zi_aload_n dX3_finding_21 rfl ?_
    refine zt_g20 q2451 dX3_finding_22 ?_
    refine zi_iconst dX3_finding_25 ?_
    refine zi_iload_n dX3_finding_26 rfl ?_
    refine zi_imul dX3_finding_27 ?_
    refine zi_iload_n dX3_finding_28 rfl ?_
    refine zi_iadd dX3_finding_29 ?_
    refine zt_ld20 dX3_finding_30 (rfl) (by omega) ?_
    refine zi_goto 35 dX3_finding_31 (by decide) ?_
    exact zi_ireturn hrt dX3_finding_35 (hret _ _ ⟨xτ15_1, by first | exact ⟨fun p q => ⟨by omega, f2⟩, fun p => absurd c18.1 p, fun p q => absurd c18.2 q⟩ | exact ⟨fun p q => absurd ⟨p, q⟩ c18, h15.2.1, h15.2.2⟩⟩)
theorem mw_X3_findings : MWV yX3_findings cX3_findings 5 (some Jvm.ClassFile.FieldType.int) 2 := ⟨q2987, q2988, q128, q2989, by decide, by decide +kernel, by decide +kernel, by decide +kernel⟩
set_option maxHeartbeats 4000000 in
theorem tc_findings (l : Launch) (E : ZE) (o : Nat) (ad : Nat → Nat) (σ : TS) (a : Int → Int) (ha : σ 0 = a) (j : Int) (u : Int) (hok : OkA a) (rj : -2147483648 ≤ j ∧ j < 2147483648) (ru : -2147483648 ≤ u ∧ u < 2147483648) : TCi l yX3_findings (ws_ yX3_findings cX3_findings 5 (some Jvm.ClassFile.FieldType.int)) 9 E o ad σ [.ref o, jI j, jI u] (fun τ v => eqx [5, 18, 20, 21] σ τ ∧ ((0 ≤ j ∧ j < a 45 → 0 ≤ u ∧ u ≤ 2 → τ 5 0 = 0 ∧ v = cfI a (fdF a) j u (fdF a).length) ∧ (¬ (0 ≤ j ∧ j < a 45) → τ 5 0 = 1) ∧ (0 ≤ j ∧ j < a 45 → ¬ (0 ≤ u ∧ u ≤ 2) → τ 5 0 = 2))) := by
  refine tci_of (own := RX3) (cc := cX3_findings) (L := [some (.ref o), some (jI j), some (jI u), none, none]) (by decide) rfl rfl (Nat.le_of_ble_eq_true rfl) (fun Z hE hl hrt hR hm hret => ?_)
  subst hE
  have x0 : eqx [5, 18, 20, 21] σ σ := eqx_rf
  have n1 := fdF_r hok
  have hc := hok.cnt
  refine zi_aload_n dX3_findings_0 rfl ?_
  refine zi_aload_n dX3_findings_1 rfl ?_
  refine zi_iload_n dX3_findings_2 rfl ?_
  refine zt_PVi1 mw_X3_isJob rfl (tc_isJob (zl Z) (zE Z) _ _ _ _ (ha) _ (hok) (by omega)) q2802 hR (by decide) (by simp [Value.category]) dX3_findings_3 (fun v3 h3 => ?_)
  subst h3
  refine zi_iload_n dX3_findings_6 rfl ?_
  refine zi_i2l dX3_findings_7 (by omega) ?_
  refine zi_lconst (m := 0) dX3_findings_8 (by decide +kernel) ?_
  refine zi_ldc2 (m := 2) dX3_findings_9 q2985 (by decide +kernel) ?_
  refine zt_PSi3 mw_X3_isIn (tc_isIn (zl Z) (zE Z) _ _ _ _ _ _ (by omega) (by omega) (by omega)) q2528 hR (by decide) (by simp [Value.category]) dX3_findings_12 (fun v12 h12 => ?_)
  subst h12
  refine zt_Vi2 mw_X3_good_2 rfl (tc_good_2_bb (zl Z) (zE Z) _ _ _ _ _) q2806 hR (by decide) (by simp [Value.category]) dX3_findings_15 (fun τ15_0 v15 wτ15_0 => ?_)
  obtain ⟨qτ15_0, h15⟩ := wτ15_0
  obtain ⟨eh15, h15⟩ := h15
  subst eh15
  have xτ15_0 : eqx [5, 18, 20, 21] σ τ15_0 := eqx_tr x0 (eqx_mono qτ15_0 (by decide))
  have haτ15_0 : τ15_0 0 = a := (xτ15_0 0 (by decide)).trans ha
  refine zi_if_neB 23 dX3_findings_18 (by decide) (fun c18 => ?_) (fun c18 => ?_)
  · have tc18 := h15.1 c18.1 c18.2; clear h15
    refine zi_aload_n dX3_findings_23 rfl ?_
    refine zt_Vv0 mw_X3_layFindings rfl (tc_layFindings (zl Z) (zE Z) _ _ _ _ (haτ15_0)  (hok)) q2704 hR (by decide) (by simp [Value.category]) dX3_findings_24 (fun τ24_1 wτ24_1 => ?_)
    obtain ⟨qτ24_1, h24⟩ := wτ24_1
    have k5τ24_1 := eq_keep 5 qτ24_1 (by decide)
    have xτ24_1 : eqx [5, 18, 20, 21] σ τ24_1 := eqx_tr xτ15_0 (eqx_mono qτ24_1 (by decide))
    have haτ24_1 : τ24_1 0 = a := (xτ24_1 0 (by decide)).trans ha
    refine zi_iconst dX3_findings_27 ?_
    refine zi_istore_3 dX3_findings_28 hm (by decide) rfl ?_
    refine zi_iconst dX3_findings_29 ?_
    refine zi_istore_4 dX3_findings_30 hm (by decide) rfl ?_
    have lp32 : ∀ (n : Nat) (k : Nat) (x3 : Int) (x4 : Int), (x4 = (k : Int)) → (x4 ≤ (fdF a).length) → (x3 = cfI a (fdF a) j u k) → ((fdF a).length - x4).toNat < n → GV RX3 cX3_findings Z (zA Z) (zs Z).heap (twW (zE Z) o ad τ24_1) 0 0 32 [some (.ref o), some (jI j), some (jI u), some (jI x3), some (jI x4)] [] := by
      intro n
      induction n with
      | zero => intro k x3 x4 i32_0 i32_1 i32_2 m32; exact absurd m32 (Nat.not_lt_zero _)
      | succ n ih32 =>
        intro k x3 x4 i32_0 i32_1 i32_2 m32
        subst i32_0
        refine zi_iload dX3_findings_32 rfl ?_
        refine zi_aload_n dX3_findings_34 rfl ?_
        refine zt_g21 q2452 dX3_findings_35 (h24.1) ?_
        refine zi_icmp_ge 82 dX3_findings_38 (by decide) (by omega) (fun c38 => ?_) (fun c38 => ?_)
        · have q8 : (fdF a).length = k := by omega
          refine zi_iload_n dX3_findings_82 rfl ?_
          exact zi_ireturn hrt dX3_findings_83 (hret _ _ ⟨xτ24_1, by rw [q8]; exact ⟨fun p q => ⟨by omega, i32_2⟩, fun p => absurd c18.1 p, fun p q => absurd c18.2 q⟩⟩)
        · have q7 := fdF_g hok (f := (k : Int)) (by omega) (by omega)
          refine zi_aload_n dX3_findings_41 rfl ?_
          refine zt_g20 q2451 dX3_findings_42 ?_
          refine zi_iconst dX3_findings_45 ?_
          refine zi_iload dX3_findings_46 rfl ?_
          refine zi_imul dX3_findings_48 ?_
          refine zt_ld20 dX3_findings_49 (rfl) (by omega) ?_
          rw [FdS_g0 h24 (f := (k : Int)) (by omega) (by omega)]
          refine zi_iload_n dX3_findings_50 rfl ?_
          refine zi_icmp_ne 76 dX3_findings_51 (by decide) (by omega) (fun c51 => ?_) (fun c51 => ?_)
          · refine zi_iinc_4 dX3_findings_76 hm (by decide) rfl ?_
            refine zi_goto 32 dX3_findings_79 (by decide) ?_
            exact ih32 (k + 1) _ _ (by omega) (by omega) (by simp only [cfI]; split <;> omega) (by omega)
          · refine zi_aload_n dX3_findings_54 rfl ?_
            refine zi_aload_n dX3_findings_55 rfl ?_
            refine zt_g20 q2451 dX3_findings_56 ?_
            refine zi_iconst dX3_findings_59 ?_
            refine zi_iload dX3_findings_60 rfl ?_
            refine zi_imul dX3_findings_62 ?_
            refine zi_iconst dX3_findings_63 ?_
            refine zi_iadd dX3_findings_64 ?_
            refine zt_ld20 dX3_findings_65 (rfl) (by omega) ?_
            rw [FdS_g h24 (f := (k : Int)) (w := 1) (by omega) (by omega) (by decide) (by decide)]
            refine zt_PVi1 mw_X3_jobNow rfl (tc_jobNow (zl Z) (zE Z) _ _ _ _ (haτ24_1) _ (hok) (by omega) (by omega)) q2712 hR (by decide) (by simp [Value.category]) dX3_findings_66 (fun v66 h66 => ?_)
            refine zi_iload_n dX3_findings_69 rfl ?_
            refine zi_icmp_ne 76 dX3_findings_70 (by decide) (by omega) (fun c70 => ?_) (fun c70 => ?_)
            · refine zi_iinc_4 dX3_findings_76 hm (by decide) rfl ?_
              refine zi_goto 32 dX3_findings_79 (by decide) ?_
              exact ih32 (k + 1) _ _ (by omega) (by omega) (by simp only [cfI]; split <;> omega) (by omega)
            · refine zi_iinc_3 dX3_findings_73 hm (by decide) rfl ?_
              refine zi_iinc_4 dX3_findings_76 hm (by decide) rfl ?_
              refine zi_goto 32 dX3_findings_79 (by decide) ?_
              exact ih32 (k + 1) _ _ (by omega) (by omega) (by simp only [cfI]; split <;> omega) (by omega)
    exact lp32 _ (0) _ _ (by omega) (by omega) (by rfl) (Nat.lt_succ_self _)
  · refine zi_iconst dX3_findings_21 ?_
    exact zi_ireturn hrt dX3_findings_22 (hret _ _ ⟨xτ15_0, ⟨fun p q => absurd ⟨p, q⟩ c18, h15.2.1, h15.2.2⟩⟩)
theorem mw_X3_clean : MWV yX3_clean cX3_clean 5 (some Jvm.ClassFile.FieldType.int) 1 := ⟨q2991, q2992, q128, q2993, by decide, by decide +kernel, by decide +kernel, by decide +kernel⟩
set_option maxHeartbeats 4000000 in
theorem tc_clean (l : Launch) (E : ZE) (o : Nat) (ad : Nat → Nat) (σ : TS) (a : Int → Int) (ha : σ 0 = a) (d : Int) (hok : OkA a) (rd : -2147483648 ≤ d ∧ d < 2147483648) : TCi l yX3_clean (ws_ yX3_clean cX3_clean 5 (some Jvm.ClassFile.FieldType.int)) 9 E o ad σ [.ref o, jI d] (fun τ v => eqx [5, 18, 20, 21] σ τ ∧ ((¬ ckF a d = -1 → τ 5 0 = 0 ∧ v = ckF a d) ∧ (¬ (¬ ckF a d = -1) → τ 5 0 = 1))) := by
  refine tci_of (own := RX3) (cc := cX3_clean) (L := [some (.ref o), some (jI d), none, none, none]) (by decide) rfl rfl (Nat.le_of_ble_eq_true rfl) (fun Z hE hl hrt hR hm hret => ?_)
  subst hE
  have x0 : eqx [5, 18, 20, 21] σ σ := eqx_rf
  have n1 := fdF_r hok
  have hc := hok.cnt
  refine zi_aload_n dX3_clean_0 rfl ?_
  refine zt_Vv0 mw_X3_layFindings rfl (tc_layFindings (zl Z) (zE Z) _ _ _ _ (ha)  (hok)) q2704 hR (by decide) (by simp [Value.category]) dX3_clean_1 (fun τ1_0 wτ1_0 => ?_)
  obtain ⟨qτ1_0, h1⟩ := wτ1_0
  have k5τ1_0 := eq_keep 5 qτ1_0 (by decide)
  have xτ1_0 : eqx [5, 18, 20, 21] σ τ1_0 := eqx_tr x0 (eqx_mono qτ1_0 (by decide))
  have haτ1_0 : τ1_0 0 = a := (xτ1_0 0 (by decide)).trans ha
  refine zi_iconst dX3_clean_4 ?_
  refine zi_iload_n dX3_clean_5 rfl ?_
  refine zi_mmax q2764 hR (by decide) (by simp [Value.category]) (by omega) dX3_clean_6 ?_
  refine zi_istore_2 dX3_clean_9 hm (by decide) rfl ?_
  have lp10 : ∀ (n : Nat) (k : Nat) (x2 : Int), (0 ≤ x2 ∧ x2 ≤ 2147483647) → (k = (a 66 - x2).toNat) → (ckF a d = ckI (fdF a) k x2) → (a 66 - x2).toNat < n → GV RX3 cX3_clean Z (zA Z) (zs Z).heap (twW (zE Z) o ad τ1_0) 0 0 10 [some (.ref o), some (jI d), some (jI x2), none, none] [] := by
    intro n
    induction n with
    | zero => intro k x2 i10_0 i10_1 i10_2 m10; exact absurd m10 (Nat.not_lt_zero _)
    | succ n ih10 =>
      intro k x2 i10_0 i10_1 i10_2 m10
      refine zi_iload_n dX3_clean_10 rfl ?_
      refine zi_aload_n dX3_clean_11 rfl ?_
      refine zt_PVi0 mw_X3_segments rfl (tc_segments (zl Z) (zE Z) _ _ _ _ (haτ1_0)  (hok)) q2700 hR (by decide) (by simp [Value.category]) dX3_clean_12 (fun v12 h12 => ?_)
      refine zi_icmp_ge 80 dX3_clean_15 (by decide) (by omega) (fun c15 => ?_) (fun c15 => ?_)
      · refine zi_aload_n dX3_clean_80 rfl ?_
        refine zi_iconst dX3_clean_81 ?_
        refine zt_p5 q2436 dX3_clean_82 (fun τ82_1 eτ82_1 => ?_)
        have gτ82_1 := up_get eτ82_1
        have xτ82_1 : eqx [5, 18, 20, 21] σ τ82_1 := by rw [eτ82_1]; exact eqx_up xτ1_0 (by decide)
        have haτ82_1 : τ82_1 0 = a := (xτ82_1 0 (by decide)).trans ha
        refine zi_iconst dX3_clean_85 ?_
        refine zi_ireturn hrt dX3_clean_86 (hret _ _ ⟨xτ82_1, ?_⟩)
        · have q7 : ckF a d = -1 := by rw [i10_2, show k = 0 by omega]; rfl
          exact ⟨fun p => absurd q7 p, fun _ => gτ82_1⟩
      · refine zi_iconst dX3_clean_18 ?_
        refine zi_istore_3 dX3_clean_19 hm (by decide) rfl ?_
        refine zi_iconst dX3_clean_20 ?_
        refine zi_istore_4 dX3_clean_21 hm (by decide) rfl ?_
        have lp23 : ∀ (n : Nat) (q : Nat) (x3 : Int) (x4 : Int), (x4 = (q : Int)) → (x4 ≤ (fdF a).length) → (x3 = 0 ∨ x3 = 1) → (x3 = 1 ↔ noF (fdF a) x2 x4) → ((fdF a).length - x4).toNat < n → GV RX3 cX3_clean Z (zA Z) (zs Z).heap (twW (zE Z) o ad τ1_0) 0 0 23 [some (.ref o), some (jI d), some (jI x2), some (jI x3), some (jI x4)] [] := by
          intro n
          induction n with
          | zero => intro q x3 x4 i23_0 i23_1 i23_2 i23_3 m23; exact absurd m23 (Nat.not_lt_zero _)
          | succ n ih23 =>
            intro q x3 x4 i23_0 i23_1 i23_2 i23_3 m23
            subst i23_0
            refine zi_iload dX3_clean_23 rfl ?_
            refine zi_aload_n dX3_clean_25 rfl ?_
            refine zt_g21 q2452 dX3_clean_26 (h1.1) ?_
            refine zi_icmp_ge 63 dX3_clean_29 (by decide) (by omega) (fun c29 => ?_) (fun c29 => ?_)
            · have q9 : (q : Int) = (fdF a).length := by omega
              rw [q9] at i23_3
              refine zi_iload_n dX3_clean_63 rfl ?_
              refine zi_if_eq 74 dX3_clean_64 (by decide) (by omega) (fun c64 => ?_) (fun c64 => ?_)
              · refine zi_iinc_2 dX3_clean_74 hm (by decide) rfl ?_
                refine zi_goto 10 dX3_clean_77 (by decide) ?_
                refine zi_fg (L2 := [_, _, _, none, none]) ⟨Or.inr rfl, Or.inr rfl, Or.inr rfl, Or.inl rfl, Or.inl rfl, trivial⟩ ?_
                exact ih10 (k - 1) _ (by omega) (by omega) (by rw [i10_2]; obtain ⟨k2, q7⟩ : ∃ k2, k = k2 + 1 := ⟨k - 1, by omega⟩; rw [q7]; simp only [ckI]; rw [cif_f (fun w => absurd (i23_3.mpr w) (by omega))]; rfl) (by omega)
              · refine zi_aload_n dX3_clean_67 rfl ?_
                refine zi_iconst dX3_clean_68 ?_
                refine zt_p5 q2436 dX3_clean_69 (fun τ69_2 eτ69_2 => ?_)
                have gτ69_2 := up_get eτ69_2
                have xτ69_2 : eqx [5, 18, 20, 21] σ τ69_2 := by rw [eτ69_2]; exact eqx_up xτ1_0 (by decide)
                have haτ69_2 : τ69_2 0 = a := (xτ69_2 0 (by decide)).trans ha
                refine zi_iload_n dX3_clean_72 rfl ?_
                refine zi_ireturn hrt dX3_clean_73 (hret _ _ ⟨xτ69_2, ?_⟩)
                · obtain ⟨k2, q7⟩ : ∃ k2, k = k2 + 1 := ⟨k - 1, by omega⟩
                  rw [i10_2, q7]; simp only [ckI]; rw [cif_t (i23_3.mp (by omega))]; exact ⟨fun _ => ⟨gτ69_2, rfl⟩, fun p => absurd p (by omega)⟩
            · refine zi_iload_n dX3_clean_32 rfl ?_
              refine zi_if_eq 55 dX3_clean_33 (by decide) (by omega) (fun c33 => ?_) (fun c33 => ?_)
              · refine zi_iconst dX3_clean_55 ?_
                refine zi_istore_3 dX3_clean_56 hm (by decide) rfl ?_
                refine zi_iinc_4 dX3_clean_57 hm (by decide) rfl ?_
                refine zi_goto 23 dX3_clean_60 (by decide) ?_
                exact ih23 (q + 1) _ _ (by omega) (by omega) (by first | exact Or.inl rfl | exact Or.inr rfl) (by rw [noF_s (by omega), ← i23_3]; omega) (by omega)
              · have q7 := fdF_g hok (f := (q : Int)) (by omega) (by omega)
                refine zi_aload_n dX3_clean_36 rfl ?_
                refine zt_g20 q2451 dX3_clean_37 ?_
                refine zi_iconst dX3_clean_40 ?_
                refine zi_iload dX3_clean_41 rfl ?_
                refine zi_imul dX3_clean_43 ?_
                refine zi_iconst dX3_clean_44 ?_
                refine zi_iadd dX3_clean_45 ?_
                refine zt_ld20 dX3_clean_46 (rfl) (by omega) ?_
                rw [FdS_g h1 (f := (q : Int)) (w := 1) (by omega) (by omega) (by decide) (by decide)]
                refine zi_iload_n dX3_clean_47 rfl ?_
                refine zi_icmp_eq 55 dX3_clean_48 (by decide) (by omega) (fun c48 => ?_) (fun c48 => ?_)
                · refine zi_iconst dX3_clean_55 ?_
                  refine zi_istore_3 dX3_clean_56 hm (by decide) rfl ?_
                  refine zi_iinc_4 dX3_clean_57 hm (by decide) rfl ?_
                  refine zi_goto 23 dX3_clean_60 (by decide) ?_
                  exact ih23 (q + 1) _ _ (by omega) (by omega) (by first | exact Or.inl rfl | exact Or.inr rfl) (by rw [noF_s (by omega), ← i23_3]; omega) (by omega)
                · refine zi_iconst dX3_clean_51 ?_
                  refine zi_goto 56 dX3_clean_52 (by decide) ?_
                  refine zi_istore_3 dX3_clean_56 hm (by decide) rfl ?_
                  refine zi_iinc_4 dX3_clean_57 hm (by decide) rfl ?_
                  refine zi_goto 23 dX3_clean_60 (by decide) ?_
                  exact ih23 (q + 1) _ _ (by omega) (by omega) (by first | exact Or.inl rfl | exact Or.inr rfl) (by rw [noF_s (by omega), ← i23_3]; omega) (by omega)
        exact lp23 _ (0) _ _ (by omega) (by omega) (by first | exact Or.inl rfl | exact Or.inr rfl) (⟨fun _ => noF_0, fun _ => rfl⟩) (Nat.lt_succ_self _)
  exact lp10 _ ((a 66 - max 0 d).toNat) _ (by omega) (by rfl) (by rfl) (Nat.lt_succ_self _)
theorem mw_X3_count : MWV yX3_count cX3_count 2 (some Jvm.ClassFile.FieldType.int) 1 := ⟨q2697, q2698, q128, q2699, by decide, by decide +kernel, by decide +kernel, by decide +kernel⟩
set_option maxHeartbeats 4000000 in
theorem tc_count (l : Launch) (E : ZE) (o : Nat) (ad : Nat → Nat) (σ : TS) (a : Int → Int) (ha : σ 0 = a) (w : Int) (hok : OkA a) (rw : -2147483648 ≤ w ∧ w < 2147483648) : TCi l yX3_count (ws_ yX3_count cX3_count 2 (some Jvm.ClassFile.FieldType.int)) 9 E o ad σ [.ref o, jI w] (fun τ v => eqx [5, 18, 20, 21] σ τ ∧ ((0 ≤ w ∧ w ≤ 4 → τ 5 0 = 0 ∧ (w = 0 → v = a 9) ∧ (w = 1 → v = a 20) ∧ (w = 2 → v = a 45) ∧ (w = 3 → v = a 66) ∧ (w = 4 → v = (fdF a).length)) ∧ (¬ (0 ≤ w ∧ w ≤ 4) → τ 5 0 = 1))) := by
  refine tci_of (own := RX3) (cc := cX3_count) (L := [some (.ref o), some (jI w)]) (by decide) rfl rfl (Nat.le_of_ble_eq_true rfl) (fun Z hE hl hrt hR hm hret => ?_)
  subst hE
  have x0 : eqx [5, 18, 20, 21] σ σ := eqx_rf
  have n1 := fdF_r hok
  have hc := hok.cnt
  refine zi_aload_n dX3_count_0 rfl ?_
  refine zi_iload_n dX3_count_1 rfl ?_
  refine zi_i2l dX3_count_2 (by omega) ?_
  refine zi_lconst (m := 0) dX3_count_3 (by decide +kernel) ?_
  refine zi_ldc2 (m := 4) dX3_count_4 q2429 (by decide +kernel) ?_
  refine zt_PSi3 mw_X3_isIn (tc_isIn (zl Z) (zE Z) _ _ _ _ _ _ (by omega) (by omega) (by omega)) q2528 hR (by decide) (by simp [Value.category]) dX3_count_7 (fun v7 h7 => ?_)
  subst h7
  refine zt_Vi1 mw_X3_good rfl (tc_good_b (zl Z) (zE Z) _ _ _ _) q2531 hR (by decide) (by simp [Value.category]) dX3_count_10 (fun τ10_0 v10 wτ10_0 => ?_)
  obtain ⟨qτ10_0, h10⟩ := wτ10_0
  obtain ⟨eh10, h10⟩ := h10
  subst eh10
  have xτ10_0 : eqx [5, 18, 20, 21] σ τ10_0 := eqx_tr x0 (eqx_mono qτ10_0 (by decide))
  have haτ10_0 : τ10_0 0 = a := (xτ10_0 0 (by decide)).trans ha
  refine zi_if_neB 18 dX3_count_13 (by decide) (fun c13 => ?_) (fun c13 => ?_)
  · have tc13 := h10.1 c13; clear h10
    refine zi_iload_n dX3_count_18 rfl ?_
    by_cases c19_0 : w = 0
    · refine zi_tsw_in 0 c19_0 (by decide) 48 dX3_count_19 (by decide) rfl (by decide) ?_
      refine zi_aload_n dX3_count_48 rfl ?_
      refine zt_g0 q2431 dX3_count_49 ?_
      refine zi_bipush dX3_count_52 (by decide +kernel) ?_
      refine zt_ld0 dX3_count_54 (haτ10_0) (by omega) ?_
      refine zi_l2i dX3_count_55 ?_
      exact zi_ireturn hrt dX3_count_56 (hret _ _ ⟨xτ10_0, by omega⟩)
    by_cases c19_1 : w = 1
    · refine zi_tsw_in 1 c19_1 (by decide) 57 dX3_count_19 (by decide) rfl (by decide) ?_
      refine zi_aload_n dX3_count_57 rfl ?_
      refine zt_g0 q2431 dX3_count_58 ?_
      refine zi_bipush dX3_count_61 (by decide +kernel) ?_
      refine zt_ld0 dX3_count_63 (haτ10_0) (by omega) ?_
      refine zi_l2i dX3_count_64 ?_
      exact zi_ireturn hrt dX3_count_65 (hret _ _ ⟨xτ10_0, by omega⟩)
    by_cases c19_2 : w = 2
    · refine zi_tsw_in 2 c19_2 (by decide) 66 dX3_count_19 (by decide) rfl (by decide) ?_
      refine zi_aload_n dX3_count_66 rfl ?_
      refine zt_g0 q2431 dX3_count_67 ?_
      refine zi_bipush dX3_count_70 (by decide +kernel) ?_
      refine zt_ld0 dX3_count_72 (haτ10_0) (by omega) ?_
      refine zi_l2i dX3_count_73 ?_
      exact zi_ireturn hrt dX3_count_74 (hret _ _ ⟨xτ10_0, by omega⟩)
    by_cases c19_3 : w = 3
    · refine zi_tsw_in 3 c19_3 (by decide) 75 dX3_count_19 (by decide) rfl (by decide) ?_
      refine zi_aload_n dX3_count_75 rfl ?_
      refine zt_PVi0 mw_X3_segments rfl (tc_segments (zl Z) (zE Z) _ _ _ _ (haτ10_0)  (hok)) q2700 hR (by decide) (by simp [Value.category]) dX3_count_76 (fun v76 h76 => ?_)
      exact zi_ireturn hrt dX3_count_79 (hret _ _ ⟨xτ10_0, by omega⟩)
    refine zi_tsw_out (by omega) 80 dX3_count_19 (by omega) (by decide) ?_
    refine zi_aload_n dX3_count_80 rfl ?_
    refine zt_Vv0 mw_X3_layFindings rfl (tc_layFindings (zl Z) (zE Z) _ _ _ _ (haτ10_0)  (hok)) q2704 hR (by decide) (by simp [Value.category]) dX3_count_81 (fun τ81_1 wτ81_1 => ?_)
    obtain ⟨qτ81_1, h81⟩ := wτ81_1
    have k5τ81_1 := eq_keep 5 qτ81_1 (by decide)
    have xτ81_1 : eqx [5, 18, 20, 21] σ τ81_1 := eqx_tr xτ10_0 (eqx_mono qτ81_1 (by decide))
    have haτ81_1 : τ81_1 0 = a := (xτ81_1 0 (by decide)).trans ha
    refine zi_aload_n dX3_count_84 rfl ?_
    refine zt_g21 q2452 dX3_count_85 (h81.1) ?_
    exact zi_ireturn hrt dX3_count_88 (hret _ _ ⟨xτ81_1, by omega⟩)
  · have tc13 := h10.2 c13; clear h10
    refine zi_iconst dX3_count_16 ?_
    exact zi_ireturn hrt dX3_count_17 (hret _ _ ⟨xτ10_0, by omega⟩)
