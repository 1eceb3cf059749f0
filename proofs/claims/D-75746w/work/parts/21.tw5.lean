/-! THE REFERENCE: persons, terms -/
set_option maxRecDepth 100000
theorem mw_X3_halfOf : MWV yX3_halfOf cX3_halfOf 2 (some Jvm.ClassFile.FieldType.int) 1 := ⟨q2931, qs103, q128, q2932, by decide, by decide +kernel, by decide +kernel, by decide +kernel⟩
set_option maxHeartbeats 4000000 in
theorem tc_halfOf (l : Launch) (E : ZE) (o : Nat) (ad : Nat → Nat) (σ : TS) (a : Int → Int) (ha : σ 0 = a) (j : Int) (hok : OkA a) (rj : -2147483648 ≤ j ∧ j < 2147483648) : TCi l yX3_halfOf (ws_ yX3_halfOf cX3_halfOf 2 (some Jvm.ClassFile.FieldType.int)) 3 E o ad σ [.ref o, jI j] (fun τ v => τ = σ ∧ (v = hfF a j ∧ 0 ≤ v ∧ v ≤ 80)) := by
  refine tci_of (own := RX3) (cc := cX3_halfOf) (L := [some (.ref o), some (jI j)]) (by decide) rfl rfl (Nat.le_of_ble_eq_true rfl) (fun Z hE hl hrt hR hm hret => ?_)
  subst hE
  have hr := hfF_r hok j
  refine zi_aload_n dX3_halfOf_0 rfl ?_
  refine zi_iload_n dX3_halfOf_1 rfl ?_
  refine zt_PVi1 mw_X3_wordsOfJob rfl (tc_wordsOfJob (zl Z) (zE Z) _ _ _ _ (ha) _ (hok) (by omega)) q2818 hR (by decide) (by simp [Value.category]) dX3_halfOf_2 (fun v2 h2 => ?_)
  refine zi_iconst dX3_halfOf_5 ?_
  refine zi_iadd dX3_halfOf_6 ?_
  refine zi_iconst dX3_halfOf_7 ?_
  refine zi_idiv dX3_halfOf_8 (by omega) ?_
  exact zi_ireturn hrt dX3_halfOf_9 (hret _ _ ⟨rfl, by unfold hfF at hr ⊢; omega⟩)
theorem mw_X3_loadBut : MWV yX3_loadBut cX3_loadBut 5 (some Jvm.ClassFile.FieldType.int) 2 := ⟨q2927, qs102, q128, q2928, by decide, by decide +kernel, by decide +kernel, by decide +kernel⟩
set_option maxHeartbeats 4000000 in
theorem tc_loadBut (l : Launch) (E : ZE) (o : Nat) (ad : Nat → Nat) (σ : TS) (a : Int → Int) (ha : σ 0 = a) (p : Int) (b : Int) (hok : OkA a) (rp : -2147483648 ≤ p ∧ p < 2147483648) (rb : -2147483648 ≤ b ∧ b < 2147483648) : TCi l yX3_loadBut (ws_ yX3_loadBut cX3_loadBut 5 (some Jvm.ClassFile.FieldType.int)) 4 E o ad σ [.ref o, jI p, jI b] (fun τ v => τ = σ ∧ (v = ldF a p b ∧ 0 ≤ v ∧ v ≤ 1200)) := by
  refine tci_of (own := RX3) (cc := cX3_loadBut) (L := [some (.ref o), some (jI p), some (jI b), none, none]) (by decide) rfl rfl (Nat.le_of_ble_eq_true rfl) (fun Z hE hl hrt hR hm hret => ?_)
  subst hE
  have hc := hok.cnt
  refine zi_iconst dX3_loadBut_0 ?_
  refine zi_istore_3 dX3_loadBut_1 hm (by decide) rfl ?_
  refine zi_iconst dX3_loadBut_2 ?_
  refine zi_istore_4 dX3_loadBut_3 hm (by decide) rfl ?_
  have lp5 : ∀ (n : Nat) (k : Nat) (x3 : Int) (x4 : Int), (x4 = (k : Int)) → (x4 ≤ a 45) → (x3 = ldI a p b k) → (a 45 - x4).toNat < n → GV RX3 cX3_loadBut Z (zA Z) (zs Z).heap (twW (zE Z) o ad σ) 0 0 5 [some (.ref o), some (jI p), some (jI b), some (jI x3), some (jI x4)] [] := by
    intro n
    induction n with
    | zero => intro k x3 x4 i5_0 i5_1 i5_2 m5; exact absurd m5 (Nat.not_lt_zero _)
    | succ n ih5 =>
      intro k x3 x4 i5_0 i5_1 i5_2 m5
      subst i5_0
      refine zi_iload dX3_loadBut_5 rfl ?_
      refine zi_i2l dX3_loadBut_7 (by omega) ?_
      refine zi_aload_n dX3_loadBut_8 rfl ?_
      refine zt_g0 q2431 dX3_loadBut_9 ?_
      refine zi_bipush dX3_loadBut_12 (by decide +kernel) ?_
      refine zt_ld0 dX3_loadBut_14 (ha) (by omega) ?_
      refine zi_lcmp_ge 74 dX3_loadBut_15 dX3_loadBut_16 (by decide) (by omega) (fun c15 => ?_) (fun c15 => ?_)
      · have q1 := ldF_r hok p b
        have q2 : ldF a p b = ldI a p b k := by unfold ldF; rw [show (a 45).toNat = k by omega]
        refine zi_iload_n dX3_loadBut_74 rfl ?_
        exact zi_ireturn hrt dX3_loadBut_75 (hret _ _ ⟨rfl, by omega⟩)
      · refine zi_iload dX3_loadBut_19 rfl ?_
        refine zi_iload_n dX3_loadBut_21 rfl ?_
        refine zi_icmp_ne 28 dX3_loadBut_22 (by decide) (by omega) (fun c22 => ?_) (fun c22 => ?_)
        · refine zi_aload_n dX3_loadBut_28 rfl ?_
          refine zi_iload dX3_loadBut_29 rfl ?_
          refine zi_iconst dX3_loadBut_31 ?_
          refine zt_PVi2 mw_X3_ofJob rfl (tc_ofJob (zl Z) (zE Z) _ _ _ _ (ha) _ _ (hok) (by omega) (by omega) (by omega)) q2716 hR (by decide) (by simp [Value.category]) dX3_loadBut_32 (fun v32 h32 => ?_)
          refine zi_iload_n dX3_loadBut_35 rfl ?_
          refine zi_icmp_ne 48 dX3_loadBut_36 (by decide) (by omega) (fun c36 => ?_) (fun c36 => ?_)
          · refine zi_aload_n dX3_loadBut_48 rfl ?_
            refine zi_iload dX3_loadBut_49 rfl ?_
            refine zi_iconst dX3_loadBut_51 ?_
            refine zt_PVi2 mw_X3_ofJob rfl (tc_ofJob (zl Z) (zE Z) _ _ _ _ (ha) _ _ (hok) (by omega) (by omega) (by omega)) q2716 hR (by decide) (by simp [Value.category]) dX3_loadBut_52 (fun v52 h52 => ?_)
            refine zi_iload_n dX3_loadBut_55 rfl ?_
            refine zi_icmp_ne 68 dX3_loadBut_56 (by decide) (by omega) (fun c56 => ?_) (fun c56 => ?_)
            · refine zi_iinc_4 dX3_loadBut_68 hm (by decide) rfl ?_
              refine zi_goto 5 dX3_loadBut_71 (by decide) ?_
              exact ih5 (k + 1) _ _ (by omega) (by omega) (by simp only [ldI]; (repeat' split) <;> omega) (by omega)
            · refine zi_iload_n dX3_loadBut_59 rfl ?_
              refine zi_aload_n dX3_loadBut_60 rfl ?_
              refine zi_iload dX3_loadBut_61 rfl ?_
              refine zt_PVi1 mw_X3_halfOf rfl (tc_halfOf (zl Z) (zE Z) _ _ _ _ (ha) _ (hok) (by omega)) q2929 hR (by decide) (by simp [Value.category]) dX3_loadBut_63 (fun v63 h63 => ?_)
              refine zi_iadd dX3_loadBut_66 ?_
              refine zi_istore_3 dX3_loadBut_67 hm (by decide) rfl ?_
              refine zi_iinc_4 dX3_loadBut_68 hm (by decide) rfl ?_
              refine zi_goto 5 dX3_loadBut_71 (by decide) ?_
              exact ih5 (k + 1) _ _ (by omega) (by omega) (by simp only [ldI]; (repeat' split) <;> omega) (by omega)
          · refine zi_iload_n dX3_loadBut_39 rfl ?_
            refine zi_aload_n dX3_loadBut_40 rfl ?_
            refine zi_iload dX3_loadBut_41 rfl ?_
            refine zt_PVi1 mw_X3_wordsOfJob rfl (tc_wordsOfJob (zl Z) (zE Z) _ _ _ _ (ha) _ (hok) (by omega)) q2818 hR (by decide) (by simp [Value.category]) dX3_loadBut_43 (fun v43 h43 => ?_)
            refine zi_iadd dX3_loadBut_46 ?_
            refine zi_istore_3 dX3_loadBut_47 hm (by decide) rfl ?_
            refine zi_aload_n dX3_loadBut_48 rfl ?_
            refine zi_iload dX3_loadBut_49 rfl ?_
            refine zi_iconst dX3_loadBut_51 ?_
            refine zt_PVi2 mw_X3_ofJob rfl (tc_ofJob (zl Z) (zE Z) _ _ _ _ (ha) _ _ (hok) (by omega) (by omega) (by omega)) q2716 hR (by decide) (by simp [Value.category]) dX3_loadBut_52 (fun v52_0 h52_0 => ?_)
            refine zi_iload_n dX3_loadBut_55 rfl ?_
            refine zi_icmp_ne 68 dX3_loadBut_56 (by decide) (by omega) (fun c56_1 => ?_) (fun c56_1 => ?_)
            · refine zi_iinc_4 dX3_loadBut_68 hm (by decide) rfl ?_
              refine zi_goto 5 dX3_loadBut_71 (by decide) ?_
              exact ih5 (k + 1) _ _ (by omega) (by omega) (by simp only [ldI]; (repeat' split) <;> omega) (by omega)
            · refine zi_iload_n dX3_loadBut_59 rfl ?_
              refine zi_aload_n dX3_loadBut_60 rfl ?_
              refine zi_iload dX3_loadBut_61 rfl ?_
              refine zt_PVi1 mw_X3_halfOf rfl (tc_halfOf (zl Z) (zE Z) _ _ _ _ (ha) _ (hok) (by omega)) q2929 hR (by decide) (by simp [Value.category]) dX3_loadBut_63 (fun v63_2 h63_2 => ?_)
              refine zi_iadd dX3_loadBut_66 ?_
              refine zi_istore_3 dX3_loadBut_67 hm (by decide) rfl ?_
              refine zi_iinc_4 dX3_loadBut_68 hm (by decide) rfl ?_
              refine zi_goto 5 dX3_loadBut_71 (by decide) ?_
              exact ih5 (k + 1) _ _ (by omega) (by omega) (by simp only [ldI]; (repeat' split) <;> omega) (by omega)
        · refine zi_goto 68 dX3_loadBut_25 (by decide) ?_
          refine zi_iinc_4 dX3_loadBut_68 hm (by decide) rfl ?_
          refine zi_goto 5 dX3_loadBut_71 (by decide) ?_
          exact ih5 (k + 1) _ _ (by omega) (by omega) (by simp only [ldI]; (repeat' split) <;> omega) (by omega)
  exact lp5 _ (0) _ _ (by omega) (by omega) (by rfl) (Nat.lt_succ_self _)
theorem mw_X3_loadOf : MWV yX3_loadOf cX3_loadOf 2 (some Jvm.ClassFile.FieldType.int) 1 := ⟨q2922, q2923, q128, q2924, by decide, by decide +kernel, by decide +kernel, by decide +kernel⟩
set_option maxHeartbeats 4000000 in
theorem tc_loadOf (l : Launch) (E : ZE) (o : Nat) (ad : Nat → Nat) (σ : TS) (a : Int → Int) (ha : σ 0 = a) (p : Int) (hok : OkA a) (rp : -2147483648 ≤ p ∧ p < 2147483648) : TCi l yX3_loadOf (ws_ yX3_loadOf cX3_loadOf 2 (some Jvm.ClassFile.FieldType.int)) 5 E o ad σ [.ref o, jI p] (fun τ v => eqx [5] σ τ ∧ ((0 ≤ p ∧ p < a 9 → τ 5 0 = 0 ∧ v = ldF a p (-1)) ∧ (¬ (0 ≤ p ∧ p < a 9) → τ 5 0 = 1))) := by
  refine tci_of (own := RX3) (cc := cX3_loadOf) (L := [some (.ref o), some (jI p)]) (by decide) rfl rfl (Nat.le_of_ble_eq_true rfl) (fun Z hE hl hrt hR hm hret => ?_)
  subst hE
  have x0 : eqx [5] σ σ := eqx_rf
  have hc := hok.cnt
  refine zi_aload_n dX3_loadOf_0 rfl ?_
  refine zi_aload_n dX3_loadOf_1 rfl ?_
  refine zi_iload_n dX3_loadOf_2 rfl ?_
  refine zt_PVi1 mw_X3_isPerson rfl (tc_isPerson (zl Z) (zE Z) _ _ _ _ (ha) _ (hok) (by omega)) q2794 hR (by decide) (by simp [Value.category]) dX3_loadOf_3 (fun v3 h3 => ?_)
  subst h3
  refine zt_Vi1 mw_X3_good rfl (tc_good_b (zl Z) (zE Z) _ _ _ _) q2531 hR (by decide) (by simp [Value.category]) dX3_loadOf_6 (fun τ6_0 v6 wτ6_0 => ?_)
  obtain ⟨qτ6_0, h6⟩ := wτ6_0
  obtain ⟨eh6, h6⟩ := h6
  subst eh6
  have xτ6_0 : eqx [5] σ τ6_0 := eqx_tr x0 (eqx_mono qτ6_0 (by decide))
  have haτ6_0 : τ6_0 0 = a := (xτ6_0 0 (by decide)).trans ha
  refine zi_if_eqB 21 dX3_loadOf_9 (by decide) (fun c9 => ?_) (fun c9 => ?_)
  · have tc9 := h6.2 c9; clear h6
    refine zi_iconst dX3_loadOf_21 ?_
    exact zi_ireturn hrt dX3_loadOf_22 (hret _ _ ⟨xτ6_0, by omega⟩)
  · have tc9 := h6.1 c9; clear h6
    refine zi_aload_n dX3_loadOf_12 rfl ?_
    refine zi_iload_n dX3_loadOf_13 rfl ?_
    refine zi_iconst dX3_loadOf_14 ?_
    refine zt_PVi2 mw_X3_loadBut rfl (tc_loadBut (zl Z) (zE Z) _ _ _ _ (haτ6_0) _ _ (hok) (by omega) (by omega)) q2925 hR (by decide) (by simp [Value.category]) dX3_loadOf_15 (fun v15 h15 => ?_)
    refine zi_goto 22 dX3_loadOf_18 (by decide) ?_
    exact zi_ireturn hrt dX3_loadOf_22 (hret _ _ ⟨xτ6_0, by omega⟩)
theorem mw_X3_isTooMuch : MWV yX3_isTooMuch cX3_isTooMuch 3 (some Jvm.ClassFile.FieldType.boolean) 2 := ⟨q2939, qs104, q128, q2940, by decide, by decide +kernel, by decide +kernel, by decide +kernel⟩
set_option maxHeartbeats 4000000 in
theorem tc_isTooMuch (l : Launch) (E : ZE) (o : Nat) (ad : Nat → Nat) (σ : TS) (a : Int → Int) (ha : σ 0 = a) (p : Int) (d : Int) (hok : OkA a) (hp0 : 0 ≤ p) (hp1 : p < a 9) (rd : -2147483648 ≤ d ∧ d < 2147483648) : TCi l yX3_isTooMuch (ws_ yX3_isTooMuch cX3_isTooMuch 3 (some Jvm.ClassFile.FieldType.boolean)) 1 E o ad σ [.ref o, jI p, jI d] (fun τ v => τ = σ ∧ (v = bI (pCp a p < d))) := by
  refine tci_of (own := RX3) (cc := cX3_isTooMuch) (L := [some (.ref o), some (jI p), some (jI d)]) (by decide) rfl rfl (Nat.le_of_ble_eq_true rfl) (fun Z hE hl hrt hR hm hret => ?_)
  subst hE
  have hc := hok.cnt
  have hp := hok.per p hp0 hp1
  unfold pCp at hp
  refine zi_iload_n dX3_isTooMuch_0 rfl ?_
  refine zi_i2l dX3_isTooMuch_1 (by omega) ?_
  refine zi_aload_n dX3_isTooMuch_2 rfl ?_
  refine zt_g0 q2431 dX3_isTooMuch_3 ?_
  refine zi_bipush dX3_isTooMuch_6 (by decide +kernel) ?_
  refine zi_iconst dX3_isTooMuch_8 ?_
  refine zi_iload_n dX3_isTooMuch_9 rfl ?_
  refine zi_imul dX3_isTooMuch_10 ?_
  refine zi_iadd dX3_isTooMuch_11 ?_
  refine zi_iconst dX3_isTooMuch_12 ?_
  refine zi_iadd dX3_isTooMuch_13 ?_
  refine zt_ld0 dX3_isTooMuch_14 (ha) (by omega) ?_
  refine zi_lcmp_le 23 dX3_isTooMuch_15 dX3_isTooMuch_16 (by decide) (by omega) (fun c15 => ?_) (fun c15 => ?_)
  · refine zi_iconst dX3_isTooMuch_23 ?_
    exact zi_zreturn hrt (z_nb (Or.inl rfl)) dX3_isTooMuch_24 (hret _ _ ⟨rfl, by unfold pCp; first | exact bI_1 (by omega) | exact bI_0 (by omega)⟩)
  · refine zi_iconst dX3_isTooMuch_19 ?_
    refine zi_goto 24 dX3_isTooMuch_20 (by decide) ?_
    exact zi_zreturn hrt (z_nb (Or.inr rfl)) dX3_isTooMuch_24 (hret _ _ ⟨rfl, by unfold pCp; first | exact bI_1 (by omega) | exact bI_0 (by omega)⟩)
theorem mw_X3_isOverloaded : MWV yX3_isOverloaded cX3_isOverloaded 2 (some Jvm.ClassFile.FieldType.boolean) 1 := ⟨q2934, q2935, q128, q2936, by decide, by decide +kernel, by decide +kernel, by decide +kernel⟩
set_option maxHeartbeats 4000000 in
theorem tc_isOverloaded (l : Launch) (E : ZE) (o : Nat) (ad : Nat → Nat) (σ : TS) (a : Int → Int) (ha : σ 0 = a) (p : Int) (hok : OkA a) (rp : -2147483648 ≤ p ∧ p < 2147483648) : TCi l yX3_isOverloaded (ws_ yX3_isOverloaded cX3_isOverloaded 2 (some Jvm.ClassFile.FieldType.boolean)) 5 E o ad σ [.ref o, jI p] (fun τ v => eqx [5] σ τ ∧ ((0 ≤ p ∧ p < a 9 → τ 5 0 = 0 ∧ v = bI (pCp a p < ldF a p (-1))) ∧ (¬ (0 ≤ p ∧ p < a 9) → τ 5 0 = 1))) := by
  refine tci_of (own := RX3) (cc := cX3_isOverloaded) (L := [some (.ref o), some (jI p)]) (by decide) rfl rfl (Nat.le_of_ble_eq_true rfl) (fun Z hE hl hrt hR hm hret => ?_)
  subst hE
  have x0 : eqx [5] σ σ := eqx_rf
  have hc := hok.cnt
  refine zi_aload_n dX3_isOverloaded_0 rfl ?_
  refine zi_aload_n dX3_isOverloaded_1 rfl ?_
  refine zi_iload_n dX3_isOverloaded_2 rfl ?_
  refine zt_PVi1 mw_X3_isPerson rfl (tc_isPerson (zl Z) (zE Z) _ _ _ _ (ha) _ (hok) (by omega)) q2794 hR (by decide) (by simp [Value.category]) dX3_isOverloaded_3 (fun v3 h3 => ?_)
  subst h3
  refine zt_Vi1 mw_X3_good rfl (tc_good_b (zl Z) (zE Z) _ _ _ _) q2531 hR (by decide) (by simp [Value.category]) dX3_isOverloaded_6 (fun τ6_0 v6 wτ6_0 => ?_)
  obtain ⟨qτ6_0, h6⟩ := wτ6_0
  obtain ⟨eh6, h6⟩ := h6
  subst eh6
  have xτ6_0 : eqx [5] σ τ6_0 := eqx_tr x0 (eqx_mono qτ6_0 (by decide))
  have haτ6_0 : τ6_0 0 = a := (xτ6_0 0 (by decide)).trans ha
  refine zi_if_eqB 30 dX3_isOverloaded_9 (by decide) (fun c9 => ?_) (fun c9 => ?_)
  · have tc9 := h6.2 c9; clear h6
    refine zi_iconst dX3_isOverloaded_30 ?_
    exact zi_zreturn hrt (z_nb (Or.inl rfl)) dX3_isOverloaded_31 (hret _ _ ⟨xτ6_0, by refine ⟨fun q => ?_, fun q => ?_⟩ <;> first | omega | (exact ⟨by omega, by first | exact bI_1 (by omega) | exact bI_0 (by omega)⟩)⟩)
  · have tc9 := h6.1 c9; clear h6
    refine zi_aload_n dX3_isOverloaded_12 rfl ?_
    refine zi_iload_n dX3_isOverloaded_13 rfl ?_
    refine zi_aload_n dX3_isOverloaded_14 rfl ?_
    refine zi_iload_n dX3_isOverloaded_15 rfl ?_
    refine zi_iconst dX3_isOverloaded_16 ?_
    refine zt_PVi2 mw_X3_loadBut rfl (tc_loadBut (zl Z) (zE Z) _ _ _ _ (haτ6_0) _ _ (hok) (by omega) (by omega)) q2925 hR (by decide) (by simp [Value.category]) dX3_isOverloaded_17 (fun v17 h17 => ?_)
    refine zt_PVi2 mw_X3_isTooMuch rfl (tc_isTooMuch (zl Z) (zE Z) _ _ _ _ (haτ6_0) _ _ (hok) (by omega) (by omega) (by omega)) q2937 hR (by decide) (by simp [Value.category]) dX3_isOverloaded_20 (fun v20 h20 => ?_)
    subst h20
    refine zi_if_eqB 30 dX3_isOverloaded_23 (by decide) (fun c23 => ?_) (fun c23 => ?_)
    · refine zi_iconst dX3_isOverloaded_30 ?_
      exact zi_zreturn hrt (z_nb (Or.inl rfl)) dX3_isOverloaded_31 (hret _ _ ⟨xτ6_0, by refine ⟨fun q => ?_, fun q => ?_⟩ <;> first | omega | (exact ⟨by omega, by first | exact bI_1 (by omega) | exact bI_0 (by omega)⟩)⟩)
    · refine zi_iconst dX3_isOverloaded_26 ?_
      refine zi_goto 31 dX3_isOverloaded_27 (by decide) ?_
      exact zi_zreturn hrt (z_nb (Or.inr rfl)) dX3_isOverloaded_31 (hret _ _ ⟨xτ6_0, by refine ⟨fun q => ?_, fun q => ?_⟩ <;> first | omega | (exact ⟨by omega, by first | exact bI_1 (by omega) | exact bI_0 (by omega)⟩)⟩)
theorem mw_X3_pairsBut : MWV yX3_pairsBut cX3_pairsBut 6 (some Jvm.ClassFile.FieldType.int) 3 := ⟨q2947, qs105, q128, q2948, by decide, by decide +kernel, by decide +kernel, by decide +kernel⟩
set_option maxHeartbeats 4000000 in
theorem tc_pairsBut (l : Launch) (E : ZE) (o : Nat) (ad : Nat → Nat) (σ : TS) (a : Int → Int) (ha : σ 0 = a) (t : Int) (r : Int) (b : Int) (hok : OkA a) (rt : -2147483648 ≤ t ∧ t < 2147483648) (rr : -2147483648 ≤ r ∧ r < 2147483648) (rb : -2147483648 ≤ b ∧ b < 2147483648) : TCi l yX3_pairsBut (ws_ yX3_pairsBut cX3_pairsBut 6 (some Jvm.ClassFile.FieldType.int)) 2 E o ad σ [.ref o, jI t, jI r, jI b] (fun τ v => τ = σ ∧ (v = prF a t r b ∧ 0 ≤ v ∧ v ≤ 5)) := by
  refine tci_of (own := RX3) (cc := cX3_pairsBut) (L := [some (.ref o), some (jI t), some (jI r), some (jI b), none, none]) (by decide) rfl rfl (Nat.le_of_ble_eq_true rfl) (fun Z hE hl hrt hR hm hret => ?_)
  subst hE
  have hc := hok.cnt
  refine zi_iconst dX3_pairsBut_0 ?_
  refine zi_istore_4 dX3_pairsBut_1 hm (by decide) rfl ?_
  refine zi_iconst dX3_pairsBut_3 ?_
  refine zi_istore_5 dX3_pairsBut_4 hm (by decide) rfl ?_
  have lp6 : ∀ (n : Nat) (k : Nat) (x4 : Int) (x5 : Int), (x5 = (k : Int)) → (x5 ≤ a 45) → (x4 = prI a t r b k) → (a 45 - x5).toNat < n → GV RX3 cX3_pairsBut Z (zA Z) (zs Z).heap (twW (zE Z) o ad σ) 0 0 6 [some (.ref o), some (jI t), some (jI r), some (jI b), some (jI x4), some (jI x5)] [] := by
    intro n
    induction n with
    | zero => intro k x4 x5 i6_0 i6_1 i6_2 m6; exact absurd m6 (Nat.not_lt_zero _)
    | succ n ih6 =>
      intro k x4 x5 i6_0 i6_1 i6_2 m6
      subst i6_0
      refine zi_iload dX3_pairsBut_6 rfl ?_
      refine zi_i2l dX3_pairsBut_8 (by omega) ?_
      refine zi_aload_n dX3_pairsBut_9 rfl ?_
      refine zt_g0 q2431 dX3_pairsBut_10 ?_
      refine zi_bipush dX3_pairsBut_13 (by decide +kernel) ?_
      refine zt_ld0 dX3_pairsBut_15 (ha) (by omega) ?_
      refine zi_lcmp_ge 57 dX3_pairsBut_16 dX3_pairsBut_17 (by decide) (by omega) (fun c16 => ?_) (fun c16 => ?_)
      · have q1 := prF_r hok t r b
        have q2 : prF a t r b = prI a t r b k := by unfold prF; rw [show (a 45).toNat = k by omega]
        refine zi_iload dX3_pairsBut_57 rfl ?_
        exact zi_ireturn hrt dX3_pairsBut_59 (hret _ _ ⟨rfl, by omega⟩)
      · refine zi_iload dX3_pairsBut_20 rfl ?_
        refine zi_iload_n dX3_pairsBut_22 rfl ?_
        refine zi_icmp_eq 51 dX3_pairsBut_23 (by decide) (by omega) (fun c23 => ?_) (fun c23 => ?_)
        · refine zi_iinc_5 dX3_pairsBut_51 hm (by decide) rfl ?_
          refine zi_goto 6 dX3_pairsBut_54 (by decide) ?_
          exact ih6 (k + 1) _ _ (by omega) (by omega) (by simp only [prI]; split <;> omega) (by omega)
        · refine zi_aload_n dX3_pairsBut_26 rfl ?_
          refine zi_iload dX3_pairsBut_27 rfl ?_
          refine zi_iconst dX3_pairsBut_29 ?_
          refine zt_PVi2 mw_X3_ofJob rfl (tc_ofJob (zl Z) (zE Z) _ _ _ _ (ha) _ _ (hok) (by omega) (by omega) (by omega)) q2716 hR (by decide) (by simp [Value.category]) dX3_pairsBut_30 (fun v30 h30 => ?_)
          refine zi_iload_n dX3_pairsBut_33 rfl ?_
          refine zi_icmp_ne 51 dX3_pairsBut_34 (by decide) (by omega) (fun c34 => ?_) (fun c34 => ?_)
          · refine zi_iinc_5 dX3_pairsBut_51 hm (by decide) rfl ?_
            refine zi_goto 6 dX3_pairsBut_54 (by decide) ?_
            exact ih6 (k + 1) _ _ (by omega) (by omega) (by simp only [prI]; split <;> omega) (by omega)
          · refine zi_aload_n dX3_pairsBut_37 rfl ?_
            refine zi_iload dX3_pairsBut_38 rfl ?_
            refine zi_iconst dX3_pairsBut_40 ?_
            refine zt_PVi2 mw_X3_ofJob rfl (tc_ofJob (zl Z) (zE Z) _ _ _ _ (ha) _ _ (hok) (by omega) (by omega) (by omega)) q2716 hR (by decide) (by simp [Value.category]) dX3_pairsBut_41 (fun v41 h41 => ?_)
            refine zi_iload_n dX3_pairsBut_44 rfl ?_
            refine zi_icmp_ne 51 dX3_pairsBut_45 (by decide) (by omega) (fun c45 => ?_) (fun c45 => ?_)
            · refine zi_iinc_5 dX3_pairsBut_51 hm (by decide) rfl ?_
              refine zi_goto 6 dX3_pairsBut_54 (by decide) ?_
              exact ih6 (k + 1) _ _ (by omega) (by omega) (by simp only [prI]; split <;> omega) (by omega)
            · refine zi_iinc_4 dX3_pairsBut_48 hm (by decide) rfl ?_
              refine zi_iinc_5 dX3_pairsBut_51 hm (by decide) rfl ?_
              refine zi_goto 6 dX3_pairsBut_54 (by decide) ?_
              exact ih6 (k + 1) _ _ (by omega) (by omega) (by simp only [prI]; split <;> omega) (by omega)
  exact lp6 _ (0) _ _ (by omega) (by omega) (by rfl) (Nat.lt_succ_self _)
theorem mw_X3_pairs : MWV yX3_pairs cX3_pairs 3 (some Jvm.ClassFile.FieldType.int) 2 := ⟨q2942, q2943, q128, q2944, by decide, by decide +kernel, by decide +kernel, by decide +kernel⟩
set_option maxHeartbeats 4000000 in
theorem tc_pairs (l : Launch) (E : ZE) (o : Nat) (ad : Nat → Nat) (σ : TS) (a : Int → Int) (ha : σ 0 = a) (t : Int) (r : Int) (hok : OkA a) (rt : -2147483648 ≤ t ∧ t < 2147483648) (rr : -2147483648 ≤ r ∧ r < 2147483648) : TCi l yX3_pairs (ws_ yX3_pairs cX3_pairs 3 (some Jvm.ClassFile.FieldType.int)) 3 E o ad σ [.ref o, jI t, jI r] (fun τ v => eqx [5] σ τ ∧ (((0 ≤ t ∧ t < a 9) ∧ (0 ≤ r ∧ r < a 9) → τ 5 0 = 0 ∧ v = prF a t r (-1)) ∧ (¬ ((0 ≤ t ∧ t < a 9) ∧ (0 ≤ r ∧ r < a 9)) → τ 5 0 = 1))) := by
  refine tci_of (own := RX3) (cc := cX3_pairs) (L := [some (.ref o), some (jI t), some (jI r)]) (by decide) rfl rfl (Nat.le_of_ble_eq_true rfl) (fun Z hE hl hrt hR hm hret => ?_)
  subst hE
  have x0 : eqx [5] σ σ := eqx_rf
  have hc := hok.cnt
  refine zi_aload_n dX3_pairs_0 rfl ?_
  refine zi_aload_n dX3_pairs_1 rfl ?_
  refine zi_iload_n dX3_pairs_2 rfl ?_
  refine zt_PVi1 mw_X3_isPerson rfl (tc_isPerson (zl Z) (zE Z) _ _ _ _ (ha) _ (hok) (by omega)) q2794 hR (by decide) (by simp [Value.category]) dX3_pairs_3 (fun v3 h3 => ?_)
  subst h3
  refine zi_if_eqB 21 dX3_pairs_6 (by decide) (fun c6 => ?_) (fun c6 => ?_)
  · refine zi_iconst dX3_pairs_21 ?_
    refine zt_Vi1 mw_X3_good rfl (tc_good_f (zl Z) (zE Z) _ _ _ ) q2531 hR (by decide) (by simp [Value.category]) dX3_pairs_22 (fun τ22_0 v22 wτ22_0 => ?_)
    obtain ⟨qτ22_0, h22⟩ := wτ22_0
    obtain ⟨eh22, h22⟩ := h22
    subst eh22
    have xτ22_0 : eqx [5] σ τ22_0 := eqx_tr x0 (eqx_mono qτ22_0 (by decide))
    have haτ22_0 : τ22_0 0 = a := (xτ22_0 0 (by decide)).trans ha
    refine zi_if_eq 38 dX3_pairs_25 (by decide) (by decide) (fun _ => ?_) (fun h => absurd h (by decide))
    refine zi_iconst dX3_pairs_38 ?_
    exact zi_ireturn hrt dX3_pairs_39 (hret _ _ ⟨xτ22_0, by omega⟩)
  · refine zi_aload_n dX3_pairs_9 rfl ?_
    refine zi_iload_n dX3_pairs_10 rfl ?_
    refine zt_PVi1 mw_X3_isPerson rfl (tc_isPerson (zl Z) (zE Z) _ _ _ _ (ha) _ (hok) (by omega)) q2794 hR (by decide) (by simp [Value.category]) dX3_pairs_11 (fun v11 h11 => ?_)
    subst h11
    refine zi_if_eqB 21 dX3_pairs_14 (by decide) (fun c14 => ?_) (fun c14 => ?_)
    · refine zi_iconst dX3_pairs_21 ?_
      refine zt_Vi1 mw_X3_good rfl (tc_good_f (zl Z) (zE Z) _ _ _ ) q2531 hR (by decide) (by simp [Value.category]) dX3_pairs_22 (fun τ22_2 v22_1 wτ22_2 => ?_)
      obtain ⟨qτ22_2, h22_1⟩ := wτ22_2
      obtain ⟨eh22_1, h22_1⟩ := h22_1
      subst eh22_1
      have xτ22_2 : eqx [5] σ τ22_2 := eqx_tr x0 (eqx_mono qτ22_2 (by decide))
      have haτ22_2 : τ22_2 0 = a := (xτ22_2 0 (by decide)).trans ha
      refine zi_if_eq 38 dX3_pairs_25 (by decide) (by decide) (fun _ => ?_) (fun h => absurd h (by decide))
      refine zi_iconst dX3_pairs_38 ?_
      exact zi_ireturn hrt dX3_pairs_39 (hret _ _ ⟨xτ22_2, by omega⟩)
    · refine zi_iconst dX3_pairs_17 ?_
      refine zi_goto 22 dX3_pairs_18 (by decide) ?_
      refine zt_Vi1 mw_X3_good rfl (tc_good_t (zl Z) (zE Z) _ _ _ ) q2531 hR (by decide) (by simp [Value.category]) dX3_pairs_22 (fun τ22_5 v22_4 wτ22_5 => ?_)
      obtain ⟨qτ22_5, h22_4⟩ := wτ22_5
      obtain ⟨eh22_4, h22_4⟩ := h22_4
      subst eh22_4
      have xτ22_5 : eqx [5] σ τ22_5 := eqx_tr x0 (eqx_mono qτ22_5 (by decide))
      have haτ22_5 : τ22_5 0 = a := (xτ22_5 0 (by decide)).trans ha
      refine zi_if_eq 38 dX3_pairs_25 (by decide) (by decide) (fun h => absurd h (by decide)) (fun _ => ?_)
      refine zi_aload_n dX3_pairs_28 rfl ?_
      refine zi_iload_n dX3_pairs_29 rfl ?_
      refine zi_iload_n dX3_pairs_30 rfl ?_
      refine zi_iconst dX3_pairs_31 ?_
      refine zt_PVi3 mw_X3_pairsBut rfl (tc_pairsBut (zl Z) (zE Z) _ _ _ _ (haτ22_5) _ _ _ (hok) (by omega) (by omega) (by omega)) q2945 hR (by decide) (by simp [Value.category]) dX3_pairs_32 (fun v32 h32 => ?_)
      refine zi_goto 39 dX3_pairs_35 (by decide) ?_
      exact zi_ireturn hrt dX3_pairs_39 (hret _ _ ⟨xτ22_5, by omega⟩)
theorem mw_X3_mutual : MWV yX3_mutual cX3_mutual 4 (some Jvm.ClassFile.FieldType.int) 0 := ⟨q2950, q2951, q128, q2952, by decide, by decide +kernel, by decide +kernel, by decide +kernel⟩
set_option maxHeartbeats 4000000 in
theorem tc_mutual (l : Launch) (E : ZE) (o : Nat) (ad : Nat → Nat) (σ : TS) (a : Int → Int) (ha : σ 0 = a) (hok : OkA a) : TCi l yX3_mutual (ws_ yX3_mutual cX3_mutual 4 (some Jvm.ClassFile.FieldType.int)) 3 E o ad σ [.ref o] (fun τ v => eqx [5] σ τ ∧ (v = muF a ∧ τ 5 0 = 0)) := by
  refine tci_of (own := RX3) (cc := cX3_mutual) (L := [some (.ref o), none, none, none]) (by decide) rfl rfl (Nat.le_of_ble_eq_true rfl) (fun Z hE hl hrt hR hm hret => ?_)
  subst hE
  have x0 : eqx [5] σ σ := eqx_rf
  have hc := hok.cnt
  refine zi_aload_n dX3_mutual_0 rfl ?_
  refine zi_iconst dX3_mutual_1 ?_
  refine zt_p5 q2436 dX3_mutual_2 (fun τ2_0 eτ2_0 => ?_)
  have gτ2_0 := up_get eτ2_0
  have xτ2_0 : eqx [5] σ τ2_0 := by rw [eτ2_0]; exact eqx_up x0 (by decide)
  have haτ2_0 : τ2_0 0 = a := (xτ2_0 0 (by decide)).trans ha
  refine zi_iconst dX3_mutual_5 ?_
  refine zi_istore_1 dX3_mutual_6 hm (by decide) rfl ?_
  refine zi_iconst dX3_mutual_7 ?_
  refine zi_istore_2 dX3_mutual_8 hm (by decide) rfl ?_
  have lp9 : ∀ (n : Nat) (k : Nat) (x1 : Int) (x2 : Int), (x2 = (k : Int)) → (x2 ≤ a 9) → (x1 = muI a k) → (a 9 - x2).toNat < n → GV RX3 cX3_mutual Z (zA Z) (zs Z).heap (twW (zE Z) o ad τ2_0) 0 0 9 [some (.ref o), some (jI x1), some (jI x2), none] [] := by
    intro n
    induction n with
    | zero => intro k x1 x2 i9_0 i9_1 i9_2 m9; exact absurd m9 (Nat.not_lt_zero _)
    | succ n ih9 =>
      intro k x1 x2 i9_0 i9_1 i9_2 m9
      subst i9_0
      refine zi_iload_n dX3_mutual_9 rfl ?_
      refine zi_i2l dX3_mutual_10 (by omega) ?_
      refine zi_aload_n dX3_mutual_11 rfl ?_
      refine zt_g0 q2431 dX3_mutual_12 ?_
      refine zi_bipush dX3_mutual_15 (by decide +kernel) ?_
      refine zt_ld0 dX3_mutual_17 (haτ2_0) (by omega) ?_
      refine zi_lcmp_ge 64 dX3_mutual_18 dX3_mutual_19 (by decide) (by omega) (fun c18 => ?_) (fun c18 => ?_)
      · have q9 : muF a = muI a k := by unfold muF; rw [show (a 9).toNat = k by omega]
        refine zi_iload_n dX3_mutual_64 rfl ?_
        exact zi_ireturn hrt dX3_mutual_65 (hret _ _ ⟨xτ2_0, ⟨by omega, gτ2_0⟩⟩)
      · refine zi_iconst dX3_mutual_22 ?_
        refine zi_istore_3 dX3_mutual_23 hm (by decide) rfl ?_
        have lp24 : ∀ (n : Nat) (q : Nat) (x1 : Int) (x3 : Int), (x3 = (q : Int)) → (x3 ≤ (k : Int)) → (x1 = muI a k + muJ a k q) → ((k : Int) - x3).toNat < n → GV RX3 cX3_mutual Z (zA Z) (zs Z).heap (twW (zE Z) o ad τ2_0) 0 0 24 [some (.ref o), some (jI x1), some (jI (k : Int)), some (jI x3)] [] := by
          intro n
          induction n with
          | zero => intro q x1 x3 i24_0 i24_1 i24_2 m24; exact absurd m24 (Nat.not_lt_zero _)
          | succ n ih24 =>
            intro q x1 x3 i24_0 i24_1 i24_2 m24
            subst i24_0
            refine zi_iload_n dX3_mutual_24 rfl ?_
            refine zi_iload_n dX3_mutual_25 rfl ?_
            refine zi_icmp_ge 58 dX3_mutual_26 (by decide) (by omega) (fun c26 => ?_) (fun c26 => ?_)
            · have q9 : q = k := by omega
              rw [q9] at i24_2
              refine zi_iinc_2 dX3_mutual_58 hm (by decide) rfl ?_
              refine zi_goto 9 dX3_mutual_61 (by decide) ?_
              refine zi_fg (L2 := [_, _, _, none]) ⟨Or.inr rfl, Or.inr rfl, Or.inr rfl, Or.inl rfl, trivial⟩ ?_
              exact ih9 (k + 1) _ _ (by omega) (by omega) (by simp only [muI]; omega) (by omega)
            · refine zi_aload_n dX3_mutual_29 rfl ?_
              refine zi_iload_n dX3_mutual_30 rfl ?_
              refine zi_iload_n dX3_mutual_31 rfl ?_
              refine zi_iconst dX3_mutual_32 ?_
              refine zt_PVi3 mw_X3_pairsBut rfl (tc_pairsBut (zl Z) (zE Z) _ _ _ _ (haτ2_0) _ _ _ (hok) (by omega) (by omega) (by omega)) q2945 hR (by decide) (by simp [Value.category]) dX3_mutual_33 (fun v33 h33 => ?_)
              refine zi_if_le 52 dX3_mutual_36 (by decide) (by omega) (fun c36 => ?_) (fun c36 => ?_)
              · refine zi_iinc_3 dX3_mutual_52 hm (by decide) rfl ?_
                refine zi_goto 24 dX3_mutual_55 (by decide) ?_
                exact ih24 (q + 1) _ _ (by omega) (by omega) (by simp only [muJ]; split <;> omega) (by omega)
              · refine zi_aload_n dX3_mutual_39 rfl ?_
                refine zi_iload_n dX3_mutual_40 rfl ?_
                refine zi_iload_n dX3_mutual_41 rfl ?_
                refine zi_iconst dX3_mutual_42 ?_
                refine zt_PVi3 mw_X3_pairsBut rfl (tc_pairsBut (zl Z) (zE Z) _ _ _ _ (haτ2_0) _ _ _ (hok) (by omega) (by omega) (by omega)) q2945 hR (by decide) (by simp [Value.category]) dX3_mutual_43 (fun v43 h43 => ?_)
                refine zi_if_le 52 dX3_mutual_46 (by decide) (by omega) (fun c46 => ?_) (fun c46 => ?_)
                · refine zi_iinc_3 dX3_mutual_52 hm (by decide) rfl ?_
                  refine zi_goto 24 dX3_mutual_55 (by decide) ?_
                  exact ih24 (q + 1) _ _ (by omega) (by omega) (by simp only [muJ]; split <;> omega) (by omega)
                · refine zi_iinc_1 dX3_mutual_49 hm (by decide) rfl ?_
                  refine zi_iinc_3 dX3_mutual_52 hm (by decide) rfl ?_
                  refine zi_goto 24 dX3_mutual_55 (by decide) ?_
                  exact ih24 (q + 1) _ _ (by omega) (by omega) (by simp only [muJ]; split <;> omega) (by omega)
        exact lp24 _ (0) _ _ (by omega) (by omega) (by simp only [muJ]; omega) (Nat.lt_succ_self _)
  exact lp9 _ (0) _ _ (by omega) (by omega) (by rfl) (Nat.lt_succ_self _)
theorem mw_X3_suggested : MWV yX3_suggested cX3_suggested 9 (some Jvm.ClassFile.FieldType.int) 1 := ⟨q2954, q2955, q128, q2956, by decide, by decide +kernel, by decide +kernel, by decide +kernel⟩
set_option maxHeartbeats 4000000 in
theorem tc_suggested (l : Launch) (E : ZE) (o : Nat) (ad : Nat → Nat) (σ : TS) (a : Int → Int) (ha : σ 0 = a) (j : Int) (hok : OkA a) (rj : -2147483648 ≤ j ∧ j < 2147483648) : TCi l yX3_suggested (ws_ yX3_suggested cX3_suggested 9 (some Jvm.ClassFile.FieldType.int)) 5 E o ad σ [.ref o, jI j] (fun τ v => eqx [5] σ τ ∧ ((0 ≤ j ∧ j < a 45 → τ 5 0 = 0 ∧ v = suF a j) ∧ (¬ (0 ≤ j ∧ j < a 45) → τ 5 0 = 1))) := by
  refine tci_of (own := RX3) (cc := cX3_suggested) (L := [some (.ref o), some (jI j), none, none, none, none, none, none, none]) (by decide) rfl rfl (Nat.le_of_ble_eq_true rfl) (fun Z hE hl hrt hR hm hret => ?_)
  subst hE
  have x0 : eqx [5] σ σ := eqx_rf
  have hc := hok.cnt
  refine zi_aload_n dX3_suggested_0 rfl ?_
  refine zi_aload_n dX3_suggested_1 rfl ?_
  refine zi_iload_n dX3_suggested_2 rfl ?_
  refine zt_PVi1 mw_X3_isJob rfl (tc_isJob (zl Z) (zE Z) _ _ _ _ (ha) _ (hok) (by omega)) q2802 hR (by decide) (by simp [Value.category]) dX3_suggested_3 (fun v3 h3 => ?_)
  subst h3
  refine zt_Vi1 mw_X3_good rfl (tc_good_b (zl Z) (zE Z) _ _ _ _) q2531 hR (by decide) (by simp [Value.category]) dX3_suggested_6 (fun τ6_0 v6 wτ6_0 => ?_)
  obtain ⟨qτ6_0, h6⟩ := wτ6_0
  obtain ⟨eh6, h6⟩ := h6
  subst eh6
  have xτ6_0 : eqx [5] σ τ6_0 := eqx_tr x0 (eqx_mono qτ6_0 (by decide))
  have haτ6_0 : τ6_0 0 = a := (xτ6_0 0 (by decide)).trans ha
  refine zi_if_neB 14 dX3_suggested_9 (by decide) (fun c9 => ?_) (fun c9 => ?_)
  · have tc9 := h6.1 c9; clear h6
    refine zi_aload_n dX3_suggested_14 rfl ?_
    refine zi_iload_n dX3_suggested_15 rfl ?_
    refine zi_iconst dX3_suggested_16 ?_
    refine zt_PVi2 mw_X3_ofJob rfl (tc_ofJob (zl Z) (zE Z) _ _ _ _ (haτ6_0) _ _ (hok) (by omega) (by omega) (by omega)) q2716 hR (by decide) (by simp [Value.category]) dX3_suggested_17 (fun v17 h17 => ?_)
    obtain ⟨h17a, h17b⟩ := h17
    subst h17a
    refine zi_istore_2 dX3_suggested_20 hm (by decide) rfl ?_
    refine zi_iconst dX3_suggested_21 ?_
    refine zi_istore_3 dX3_suggested_22 hm (by decide) rfl ?_
    refine zi_iconst dX3_suggested_23 ?_
    refine zi_istore_4 dX3_suggested_24 hm (by decide) rfl ?_
    refine zi_iconst dX3_suggested_26 ?_
    refine zi_istore_5 dX3_suggested_27 hm (by decide) rfl ?_
    refine zi_iconst dX3_suggested_29 ?_
    refine zi_istore_6 dX3_suggested_30 hm (by decide) rfl ?_
    have lp32 : ∀ (n : Nat) (k : Nat) (x3 : Int) (x4 : Int) (x5 : Int) (x6 : Int), (x6 = (k : Int)) → (x6 ≤ a 9) → (-1 ≤ x3 ∧ x3 ≤ 5 ∧ 0 ≤ x4 ∧ x4 ≤ 5 ∧ 0 ≤ x5 ∧ x5 ≤ 1200) → (x3 = (suI a j k).1) → (x4 = (suI a j k).2.1) → (x5 = (suI a j k).2.2) → (a 9 - x6).toNat < n → GV RX3 cX3_suggested Z (zA Z) (zs Z).heap (twW (zE Z) o ad τ6_0) 0 0 32 [some (.ref o), some (jI j), some (jI (jOf a j 0)), some (jI x3), some (jI x4), some (jI x5), some (jI x6), none, none] [] := by
      intro n
      induction n with
      | zero => intro k x3 x4 x5 x6 i32_0 i32_1 i32_2 i32_3 i32_4 i32_5 m32; exact absurd m32 (Nat.not_lt_zero _)
      | succ n ih32 =>
        intro k x3 x4 x5 x6 i32_0 i32_1 i32_2 i32_3 i32_4 i32_5 m32
        subst i32_0
        refine zi_iload dX3_suggested_32 rfl ?_
        refine zi_i2l dX3_suggested_34 (by omega) ?_
        refine zi_aload_n dX3_suggested_35 rfl ?_
        refine zt_g0 q2431 dX3_suggested_36 ?_
        refine zi_bipush dX3_suggested_39 (by decide +kernel) ?_
        refine zt_ld0 dX3_suggested_41 (haτ6_0) (by omega) ?_
        refine zi_lcmp_ge 134 dX3_suggested_42 dX3_suggested_43 (by decide) (by omega) (fun c42 => ?_) (fun c42 => ?_)
        · have q9 : suF a j = (suI a j k).1 := by unfold suF; rw [show (a 9).toNat = k by omega]
          refine zi_iload_n dX3_suggested_134 rfl ?_
          exact zi_ireturn hrt dX3_suggested_135 (hret _ _ ⟨xτ6_0, by omega⟩)
        · refine zi_aload_n dX3_suggested_46 rfl ?_
          refine zi_iload dX3_suggested_47 rfl ?_
          refine zi_iload_n dX3_suggested_49 rfl ?_
          refine zt_PVi2 mw_X3_loadBut rfl (tc_loadBut (zl Z) (zE Z) _ _ _ _ (haτ6_0) _ _ (hok) (by omega) (by omega)) q2925 hR (by decide) (by simp [Value.category]) dX3_suggested_50 (fun v50 h50 => ?_)
          refine zi_istore_7 dX3_suggested_53 hm (by decide) rfl ?_
          refine zi_iload dX3_suggested_55 rfl ?_
          refine zi_iload_n dX3_suggested_57 rfl ?_
          refine zi_icmp_eq 128 dX3_suggested_58 (by decide) (by omega) (fun c58 => ?_) (fun c58 => ?_)
          · refine zi_iinc_6 dX3_suggested_128 hm (by decide) rfl ?_
            refine zi_goto 32 dX3_suggested_131 (by decide) ?_
            refine zi_fg (L2 := [_, _, _, _, _, _, _, none, none]) ⟨Or.inr rfl, Or.inr rfl, Or.inr rfl, Or.inr rfl, Or.inr rfl, Or.inr rfl, Or.inr rfl, Or.inl rfl, Or.inl rfl, trivial⟩ ?_
            exact ih32 (k + 1) _ _ _ _ (by omega) (by omega) (by omega) (by simp only [suI]; (repeat' split) <;> (try simp only) <;> omega) (by simp only [suI]; (repeat' split) <;> (try simp only) <;> omega) (by simp only [suI]; (repeat' split) <;> (try simp only) <;> omega) (by omega)
          · refine zi_aload_n dX3_suggested_61 rfl ?_
            refine zi_iload dX3_suggested_62 rfl ?_
            refine zi_iload dX3_suggested_64 rfl ?_
            refine zi_aload_n dX3_suggested_66 rfl ?_
            refine zi_iload_n dX3_suggested_67 rfl ?_
            refine zt_PVi1 mw_X3_halfOf rfl (tc_halfOf (zl Z) (zE Z) _ _ _ _ (haτ6_0) _ (hok) (by omega)) q2929 hR (by decide) (by simp [Value.category]) dX3_suggested_68 (fun v68 h68 => ?_)
            refine zi_iadd dX3_suggested_71 ?_
            refine zt_PVi2 mw_X3_isTooMuch rfl (tc_isTooMuch (zl Z) (zE Z) _ _ _ _ (haτ6_0) _ _ (hok) (by omega) (by omega) (by omega)) q2937 hR (by decide) (by simp [Value.category]) dX3_suggested_72 (fun v72 h72 => ?_)
            subst h72
            refine zi_if_eqB 81 dX3_suggested_75 (by decide) (fun c75 => ?_) (fun c75 => ?_)
            · refine zi_aload_n dX3_suggested_81 rfl ?_
              refine zi_iload_n dX3_suggested_82 rfl ?_
              refine zi_iload dX3_suggested_83 rfl ?_
              refine zi_iload_n dX3_suggested_85 rfl ?_
              refine zt_PVi3 mw_X3_pairsBut rfl (tc_pairsBut (zl Z) (zE Z) _ _ _ _ (haτ6_0) _ _ _ (hok) (by omega) (by omega) (by omega)) q2945 hR (by decide) (by simp [Value.category]) dX3_suggested_86 (fun v86 h86 => ?_)
              refine zi_istore_8 dX3_suggested_89 hm (by decide) rfl ?_
              refine zi_iload_n dX3_suggested_91 rfl ?_
              refine zi_iconst dX3_suggested_92 ?_
              refine zi_icmp_eq 117 dX3_suggested_93 (by decide) (by omega) (fun c93 => ?_) (fun c93 => ?_)
              · refine zi_iload dX3_suggested_117 rfl ?_
                refine zi_istore_3 dX3_suggested_119 hm (by decide) rfl ?_
                refine zi_iload dX3_suggested_120 rfl ?_
                refine zi_istore_4 dX3_suggested_122 hm (by decide) rfl ?_
                refine zi_iload dX3_suggested_124 rfl ?_
                refine zi_istore_5 dX3_suggested_126 hm (by decide) rfl ?_
                refine zi_iinc_6 dX3_suggested_128 hm (by decide) rfl ?_
                refine zi_goto 32 dX3_suggested_131 (by decide) ?_
                refine zi_fg (L2 := [_, _, _, _, _, _, _, none, none]) ⟨Or.inr rfl, Or.inr rfl, Or.inr rfl, Or.inr rfl, Or.inr rfl, Or.inr rfl, Or.inr rfl, Or.inl rfl, Or.inl rfl, trivial⟩ ?_
                exact ih32 (k + 1) _ _ _ _ (by omega) (by omega) (by omega) (by simp only [suI]; (repeat' split) <;> (try simp only) <;> omega) (by simp only [suI]; (repeat' split) <;> (try simp only) <;> omega) (by simp only [suI]; (repeat' split) <;> (try simp only) <;> omega) (by omega)
              · refine zi_iload dX3_suggested_96 rfl ?_
                refine zi_iload dX3_suggested_98 rfl ?_
                refine zi_icmp_lt 117 dX3_suggested_100 (by decide) (by omega) (fun c100 => ?_) (fun c100 => ?_)
                · refine zi_iload dX3_suggested_117 rfl ?_
                  refine zi_istore_3 dX3_suggested_119 hm (by decide) rfl ?_
                  refine zi_iload dX3_suggested_120 rfl ?_
                  refine zi_istore_4 dX3_suggested_122 hm (by decide) rfl ?_
                  refine zi_iload dX3_suggested_124 rfl ?_
                  refine zi_istore_5 dX3_suggested_126 hm (by decide) rfl ?_
                  refine zi_iinc_6 dX3_suggested_128 hm (by decide) rfl ?_
                  refine zi_goto 32 dX3_suggested_131 (by decide) ?_
                  refine zi_fg (L2 := [_, _, _, _, _, _, _, none, none]) ⟨Or.inr rfl, Or.inr rfl, Or.inr rfl, Or.inr rfl, Or.inr rfl, Or.inr rfl, Or.inr rfl, Or.inl rfl, Or.inl rfl, trivial⟩ ?_
                  exact ih32 (k + 1) _ _ _ _ (by omega) (by omega) (by omega) (by simp only [suI]; (repeat' split) <;> (try simp only) <;> omega) (by simp only [suI]; (repeat' split) <;> (try simp only) <;> omega) (by simp only [suI]; (repeat' split) <;> (try simp only) <;> omega) (by omega)
                · refine zi_iload dX3_suggested_103 rfl ?_
                  refine zi_iload dX3_suggested_105 rfl ?_
                  refine zi_icmp_ne 128 dX3_suggested_107 (by decide) (by omega) (fun c107 => ?_) (fun c107 => ?_)
                  · refine zi_iinc_6 dX3_suggested_128 hm (by decide) rfl ?_
                    refine zi_goto 32 dX3_suggested_131 (by decide) ?_
                    refine zi_fg (L2 := [_, _, _, _, _, _, _, none, none]) ⟨Or.inr rfl, Or.inr rfl, Or.inr rfl, Or.inr rfl, Or.inr rfl, Or.inr rfl, Or.inr rfl, Or.inl rfl, Or.inl rfl, trivial⟩ ?_
                    exact ih32 (k + 1) _ _ _ _ (by omega) (by omega) (by omega) (by simp only [suI]; (repeat' split) <;> (try simp only) <;> omega) (by simp only [suI]; (repeat' split) <;> (try simp only) <;> omega) (by simp only [suI]; (repeat' split) <;> (try simp only) <;> omega) (by omega)
                  · refine zi_iload dX3_suggested_110 rfl ?_
                    refine zi_iload dX3_suggested_112 rfl ?_
                    refine zi_icmp_ge 128 dX3_suggested_114 (by decide) (by omega) (fun c114 => ?_) (fun c114 => ?_)
                    · refine zi_iinc_6 dX3_suggested_128 hm (by decide) rfl ?_
                      refine zi_goto 32 dX3_suggested_131 (by decide) ?_
                      refine zi_fg (L2 := [_, _, _, _, _, _, _, none, none]) ⟨Or.inr rfl, Or.inr rfl, Or.inr rfl, Or.inr rfl, Or.inr rfl, Or.inr rfl, Or.inr rfl, Or.inl rfl, Or.inl rfl, trivial⟩ ?_
                      exact ih32 (k + 1) _ _ _ _ (by omega) (by omega) (by omega) (by simp only [suI]; (repeat' split) <;> (try simp only) <;> omega) (by simp only [suI]; (repeat' split) <;> (try simp only) <;> omega) (by simp only [suI]; (repeat' split) <;> (try simp only) <;> omega) (by omega)
                    · refine zi_iload dX3_suggested_117 rfl ?_
                      refine zi_istore_3 dX3_suggested_119 hm (by decide) rfl ?_
                      refine zi_iload dX3_suggested_120 rfl ?_
                      refine zi_istore_4 dX3_suggested_122 hm (by decide) rfl ?_
                      refine zi_iload dX3_suggested_124 rfl ?_
                      refine zi_istore_5 dX3_suggested_126 hm (by decide) rfl ?_
                      refine zi_iinc_6 dX3_suggested_128 hm (by decide) rfl ?_
                      refine zi_goto 32 dX3_suggested_131 (by decide) ?_
                      refine zi_fg (L2 := [_, _, _, _, _, _, _, none, none]) ⟨Or.inr rfl, Or.inr rfl, Or.inr rfl, Or.inr rfl, Or.inr rfl, Or.inr rfl, Or.inr rfl, Or.inl rfl, Or.inl rfl, trivial⟩ ?_
                      exact ih32 (k + 1) _ _ _ _ (by omega) (by omega) (by omega) (by simp only [suI]; (repeat' split) <;> (try simp only) <;> omega) (by simp only [suI]; (repeat' split) <;> (try simp only) <;> omega) (by simp only [suI]; (repeat' split) <;> (try simp only) <;> omega) (by omega)
            · refine zi_goto 128 dX3_suggested_78 (by decide) ?_
              refine zi_iinc_6 dX3_suggested_128 hm (by decide) rfl ?_
              refine zi_goto 32 dX3_suggested_131 (by decide) ?_
              refine zi_fg (L2 := [_, _, _, _, _, _, _, none, none]) ⟨Or.inr rfl, Or.inr rfl, Or.inr rfl, Or.inr rfl, Or.inr rfl, Or.inr rfl, Or.inr rfl, Or.inl rfl, Or.inl rfl, trivial⟩ ?_
              exact ih32 (k + 1) _ _ _ _ (by omega) (by omega) (by omega) (by simp only [suI]; (repeat' split) <;> (try simp only) <;> omega) (by simp only [suI]; (repeat' split) <;> (try simp only) <;> omega) (by simp only [suI]; (repeat' split) <;> (try simp only) <;> omega) (by omega)
    exact lp32 _ (0) _ _ _ _ (by omega) (by omega) (by omega) (by rfl) (by rfl) (by rfl) (Nat.lt_succ_self _)
  · have tc9 := h6.2 c9; clear h6
    refine zi_iconst dX3_suggested_12 ?_
    exact zi_ireturn hrt dX3_suggested_13 (hret _ _ ⟨xτ6_0, by omega⟩)
theorem mw_X3_version : MWV yX3_version cX3_version 4 (some Jvm.ClassFile.FieldType.int) 1 := ⟨q2958, q2959, q128, q2960, by decide, by decide +kernel, by decide +kernel, by decide +kernel⟩
set_option maxHeartbeats 4000000 in
theorem tc_version (l : Launch) (E : ZE) (o : Nat) (ad : Nat → Nat) (σ : TS) (a : Int → Int) (ha : σ 0 = a) (t : Int) (hok : OkA a) (rt : -2147483648 ≤ t ∧ t < 2147483648) : TCi l yX3_version (ws_ yX3_version cX3_version 4 (some Jvm.ClassFile.FieldType.int)) 3 E o ad σ [.ref o, jI t] (fun τ v => eqx [5] σ τ ∧ ((0 ≤ t ∧ t < a 20 → τ 5 0 = 0 ∧ v = vsI a t (t + 1).toNat) ∧ (¬ (0 ≤ t ∧ t < a 20) → τ 5 0 = 1))) := by
  refine tci_of (own := RX3) (cc := cX3_version) (L := [some (.ref o), some (jI t), none, none]) (by decide) rfl rfl (Nat.le_of_ble_eq_true rfl) (fun Z hE hl hrt hR hm hret => ?_)
  subst hE
  have x0 : eqx [5] σ σ := eqx_rf
  have hc := hok.cnt
  refine zi_aload_n dX3_version_0 rfl ?_
  refine zi_aload_n dX3_version_1 rfl ?_
  refine zi_iload_n dX3_version_2 rfl ?_
  refine zt_PVi1 mw_X3_isTerm rfl (tc_isTerm (zl Z) (zE Z) _ _ _ _ (ha) _ (hok) (by omega)) q2961 hR (by decide) (by simp [Value.category]) dX3_version_3 (fun v3 h3 => ?_)
  subst h3
  refine zt_Vi1 mw_X3_good rfl (tc_good_b (zl Z) (zE Z) _ _ _ _) q2531 hR (by decide) (by simp [Value.category]) dX3_version_6 (fun τ6_0 v6 wτ6_0 => ?_)
  obtain ⟨qτ6_0, h6⟩ := wτ6_0
  obtain ⟨eh6, h6⟩ := h6
  subst eh6
  have xτ6_0 : eqx [5] σ τ6_0 := eqx_tr x0 (eqx_mono qτ6_0 (by decide))
  have haτ6_0 : τ6_0 0 = a := (xτ6_0 0 (by decide)).trans ha
  refine zi_if_neB 14 dX3_version_9 (by decide) (fun c9 => ?_) (fun c9 => ?_)
  · have tc9 := h6.1 c9; clear h6
    refine zi_iconst dX3_version_14 ?_
    refine zi_istore_2 dX3_version_15 hm (by decide) rfl ?_
    refine zi_iconst dX3_version_16 ?_
    refine zi_istore_3 dX3_version_17 hm (by decide) rfl ?_
    have lp18 : ∀ (n : Nat) (k : Nat) (x2 : Int) (x3 : Int), (x3 = (k : Int)) → (x3 ≤ t + 1) → (x2 = vsI a t k) → (t + 1 - x3).toNat < n → GV RX3 cX3_version Z (zA Z) (zs Z).heap (twW (zE Z) o ad τ6_0) 0 0 18 [some (.ref o), some (jI t), some (jI x2), some (jI x3)] [] := by
      intro n
      induction n with
      | zero => intro k x2 x3 i18_0 i18_1 i18_2 m18; exact absurd m18 (Nat.not_lt_zero _)
      | succ n ih18 =>
        intro k x2 x3 i18_0 i18_1 i18_2 m18
        subst i18_0
        refine zi_iload_n dX3_version_18 rfl ?_
        refine zi_iload_n dX3_version_19 rfl ?_
        refine zi_icmp_gt 48 dX3_version_20 (by decide) (by omega) (fun c20 => ?_) (fun c20 => ?_)
        · have q9 : (t + 1).toNat = k := by omega
          rw [← q9] at i18_2
          refine zi_iload_n dX3_version_48 rfl ?_
          exact zi_ireturn hrt dX3_version_49 (hret _ _ ⟨xτ6_0, by omega⟩)
        · refine zi_aload_n dX3_version_23 rfl ?_
          refine zi_iload_n dX3_version_24 rfl ?_
          refine zi_iconst dX3_version_25 ?_
          refine zt_PVl2 mw_X3_termWord rfl (tc_termWord (zl Z) (zE Z) _ _ _ _ (haτ6_0) _ _ (hok) (by omega) (by omega) (by omega)) q2736 hR (by decide) (by simp [Value.category]) dX3_version_26 (fun v26 h26 => ?_)
          refine zi_aload_n dX3_version_29 rfl ?_
          refine zi_iload_n dX3_version_30 rfl ?_
          refine zi_iconst dX3_version_31 ?_
          refine zt_PVl2 mw_X3_termWord rfl (tc_termWord (zl Z) (zE Z) _ _ _ _ (haτ6_0) _ _ (hok) (by omega) (by omega) (by omega)) q2736 hR (by decide) (by simp [Value.category]) dX3_version_32 (fun v32 h32 => ?_)
          refine zi_lcmp_ne 42 dX3_version_35 dX3_version_36 (by decide) (by omega) (fun c35 => ?_) (fun c35 => ?_)
          · refine zi_iinc_3 dX3_version_42 hm (by decide) rfl ?_
            refine zi_goto 18 dX3_version_45 (by decide) ?_
            exact ih18 (k + 1) _ _ (by omega) (by omega) (by simp only [vsI]; split <;> omega) (by omega)
          · refine zi_iinc_2 dX3_version_39 hm (by decide) rfl ?_
            refine zi_iinc_3 dX3_version_42 hm (by decide) rfl ?_
            refine zi_goto 18 dX3_version_45 (by decide) ?_
            exact ih18 (k + 1) _ _ (by omega) (by omega) (by simp only [vsI]; split <;> omega) (by omega)
    exact lp18 _ (0) _ _ (by omega) (by omega) (by rfl) (Nat.lt_succ_self _)
  · have tc9 := h6.2 c9; clear h6
    refine zi_iconst dX3_version_12 ?_
    exact zi_ireturn hrt dX3_version_13 (hret _ _ ⟨xτ6_0, by omega⟩)
theorem mw_X3_ruleBy : MWV yX3_ruleBy cX3_ruleBy 6 (some Jvm.ClassFile.FieldType.int) 2 := ⟨q2734, qs75, q128, q2735, by decide, by decide +kernel, by decide +kernel, by decide +kernel⟩
set_option maxHeartbeats 4000000 in
theorem tc_ruleBy (l : Launch) (E : ZE) (o : Nat) (ad : Nat → Nat) (σ : TS) (a : Int → Int) (ha : σ 0 = a) (x : Int) (f : Int) (hok : OkA a) (hx : -9223372036854775808 ≤ x ∧ x < 9223372036854775808) (hf : 0 ≤ f ∧ f ≤ a 20) : TCi l yX3_ruleBy (ws_ yX3_ruleBy cX3_ruleBy 6 (some Jvm.ClassFile.FieldType.int)) 2 E o ad σ [.ref o, jL x, jI f] (fun τ v => τ = σ ∧ (v = rlF a x f ∧ -1 ≤ v ∧ v < f)) := by
  refine tci_of (own := RX3) (cc := cX3_ruleBy) (L := [some (.ref o), some (jL x), none, some (jI f), none, none]) (by decide) rfl rfl (Nat.le_of_ble_eq_true rfl) (fun Z hE hl hrt hR hm hret => ?_)
  subst hE
  have hc := hok.cnt
  refine zi_iconst dX3_ruleBy_0 ?_
  refine zi_istore_4 dX3_ruleBy_1 hm (by decide) rfl ?_
  refine zi_iconst dX3_ruleBy_3 ?_
  refine zi_istore_5 dX3_ruleBy_4 hm (by decide) rfl ?_
  have lp6 : ∀ (n : Nat) (k : Nat) (x4 : Int) (x5 : Int), (x5 = (k : Int)) → (x5 ≤ f) → (x4 = rlI a x k) → (f - x5).toNat < n → GV RX3 cX3_ruleBy Z (zA Z) (zs Z).heap (twW (zE Z) o ad σ) 0 0 6 [some (.ref o), some (jL x), none, some (jI f), some (jI x4), some (jI x5)] [] := by
    intro n
    induction n with
    | zero => intro k x4 x5 i6_0 i6_1 i6_2 m6; exact absurd m6 (Nat.not_lt_zero _)
    | succ n ih6 =>
      intro k x4 x5 i6_0 i6_1 i6_2 m6
      subst i6_0
      refine zi_iload dX3_ruleBy_6 rfl ?_
      refine zi_iload_n dX3_ruleBy_8 rfl ?_
      refine zi_icmp_ge 34 dX3_ruleBy_9 (by decide) (by omega) (fun c9 => ?_) (fun c9 => ?_)
      · have q1 := rlI_r a x k
        have q9 : rlF a x f = rlI a x k := by unfold rlF; rw [show f.toNat = k by omega]
        refine zi_iload dX3_ruleBy_34 rfl ?_
        exact zi_ireturn hrt dX3_ruleBy_36 (hret _ _ ⟨rfl, by omega⟩)
      · refine zi_aload_n dX3_ruleBy_12 rfl ?_
        refine zi_iload dX3_ruleBy_13 rfl ?_
        refine zi_iconst dX3_ruleBy_15 ?_
        refine zt_PVl2 mw_X3_termWord rfl (tc_termWord (zl Z) (zE Z) _ _ _ _ (ha) _ _ (hok) (by omega) (by omega) (by omega)) q2736 hR (by decide) (by simp [Value.category]) dX3_ruleBy_16 (fun v16 h16 => ?_)
        refine zi_lload_n dX3_ruleBy_19 rfl ?_
        refine zi_lcmp_ne 28 dX3_ruleBy_20 dX3_ruleBy_21 (by decide) (by omega) (fun c20 => ?_) (fun c20 => ?_)
        · refine zi_iinc_5 dX3_ruleBy_28 hm (by decide) rfl ?_
          refine zi_goto 6 dX3_ruleBy_31 (by decide) ?_
          exact ih6 (k + 1) _ _ (by omega) (by omega) (by simp only [rlI]; split <;> omega) (by omega)
        · refine zi_iload dX3_ruleBy_24 rfl ?_
          refine zi_istore_4 dX3_ruleBy_26 hm (by decide) rfl ?_
          refine zi_iinc_5 dX3_ruleBy_28 hm (by decide) rfl ?_
          refine zi_goto 6 dX3_ruleBy_31 (by decide) ?_
          exact ih6 (k + 1) _ _ (by omega) (by omega) (by simp only [rlI]; split <;> omega) (by omega)
  exact lp6 _ (0) _ _ (by omega) (by omega) (by rfl) (Nat.lt_succ_self _)
theorem mw_X3_ruleAt : MWV yX3_ruleAt cX3_ruleAt 3 (some Jvm.ClassFile.FieldType.int) 2 := ⟨q2971, qs107, q128, q2972, by decide, by decide +kernel, by decide +kernel, by decide +kernel⟩
set_option maxHeartbeats 4000000 in
theorem tc_ruleAt (l : Launch) (E : ZE) (o : Nat) (ad : Nat → Nat) (σ : TS) (a : Int → Int) (ha : σ 0 = a) (g : Int) (k : Int) (hok : OkA a) (hg0 : 0 ≤ g) (hg1 : g < a 66) (hk0 : 0 ≤ k) (hk1 : k < sLen a g 0) : TCi l yX3_ruleAt (ws_ yX3_ruleAt cX3_ruleAt 3 (some Jvm.ClassFile.FieldType.int)) 3 E o ad σ [.ref o, jI g, jI k] (fun τ v => τ = σ ∧ (v = raF a g k ∧ -1 ≤ v ∧ v < a 20)) := by
  refine tci_of (own := RX3) (cc := cX3_ruleAt) (L := [some (.ref o), some (jI g), some (jI k)]) (by decide) rfl rfl (Nat.le_of_ble_eq_true rfl) (fun Z hE hl hrt hR hm hret => ?_)
  subst hE
  have hc := hok.cnt
  have hl := hok.len g 0 hg0 hg1
  refine zi_aload_n dX3_ruleAt_0 rfl ?_
  refine zi_aload_n dX3_ruleAt_1 rfl ?_
  refine zi_iload_n dX3_ruleAt_2 rfl ?_
  refine zi_iload_n dX3_ruleAt_3 rfl ?_
  refine zi_iconst dX3_ruleAt_4 ?_
  refine zt_PVl3 mw_X3_wordAt rfl (tc_wordAt (zl Z) (zE Z) _ _ _ _ (ha) _ _ _ (hok) (by omega) (by omega) (by omega) (by omega) (by omega)) q2728 hR (by decide) (by simp [Value.category]) dX3_ruleAt_5 (fun v5 h5 => ?_)
  refine zi_aload_n dX3_ruleAt_8 rfl ?_
  refine zi_aload_n dX3_ruleAt_9 rfl ?_
  refine zi_iload_n dX3_ruleAt_10 rfl ?_
  refine zt_PVi1 mw_X3_jobNow rfl (tc_jobNow (zl Z) (zE Z) _ _ _ _ (ha) _ (hok) (by omega) (by omega)) q2712 hR (by decide) (by simp [Value.category]) dX3_ruleAt_11 (fun v11 h11 => ?_)
  refine zi_iconst dX3_ruleAt_14 ?_
  refine zt_PVi2 mw_X3_ofJob rfl (tc_ofJob (zl Z) (zE Z) _ _ _ _ (ha) _ _ (hok) (by omega) (by omega) (by omega)) q2716 hR (by decide) (by simp [Value.category]) dX3_ruleAt_15 (fun v15 h15 => ?_)
  have q1 := hok.job v11 (by omega) (by omega)
  refine zt_PVi2 mw_X3_ruleBy rfl (tc_ruleBy (zl Z) (zE Z) _ _ _ _ (ha) _ _ (hok) (by omega) (by omega)) q2732 hR (by decide) (by simp [Value.category]) dX3_ruleAt_18 (fun v18 h18 => ?_)
  exact zi_ireturn hrt dX3_ruleAt_21 (hret _ _ ⟨rfl, by unfold raF; rw [← h11.1, ← h15.1, ← h5.1]; omega⟩)
theorem mw_X3_rule : MWV yX3_rule cX3_rule 3 (some Jvm.ClassFile.FieldType.int) 2 := ⟨q2966, q2967, q128, q2968, by decide, by decide +kernel, by decide +kernel, by decide +kernel⟩
set_option maxHeartbeats 4000000 in
theorem tc_rule (l : Launch) (E : ZE) (o : Nat) (ad : Nat → Nat) (σ : TS) (a : Int → Int) (ha : σ 0 = a) (g : Int) (k : Int) (hok : OkA a) (rg : -2147483648 ≤ g ∧ g < 2147483648) (rk : -2147483648 ≤ k ∧ k < 2147483648) : TCi l yX3_rule (ws_ yX3_rule cX3_rule 3 (some Jvm.ClassFile.FieldType.int)) 4 E o ad σ [.ref o, jI g, jI k] (fun τ v => eqx [5] σ τ ∧ (((0 ≤ g ∧ g < a 66) ∧ 0 ≤ k ∧ k < sLen a g 0 → τ 5 0 = 0 ∧ v = raF a g k) ∧ (¬ ((0 ≤ g ∧ g < a 66) ∧ 0 ≤ k ∧ k < sLen a g 0) → τ 5 0 = 1))) := by
  refine tci_of (own := RX3) (cc := cX3_rule) (L := [some (.ref o), some (jI g), some (jI k)]) (by decide) rfl rfl (Nat.le_of_ble_eq_true rfl) (fun Z hE hl hrt hR hm hret => ?_)
  subst hE
  have x0 : eqx [5] σ σ := eqx_rf
  have hc := hok.cnt
  refine zi_aload_n dX3_rule_0 rfl ?_
  refine zi_aload_n dX3_rule_1 rfl ?_
  refine zi_iload_n dX3_rule_2 rfl ?_
  refine zi_iload_n dX3_rule_3 rfl ?_
  refine zi_iconst dX3_rule_4 ?_
  refine zt_PVi3 mw_X3_isPlace rfl (tc_isPlace (zl Z) (zE Z) _ _ _ _ (ha) _ _ _ (hok) (by omega) (by omega) (by omega)) q2838 hR (by decide) (by simp [Value.category]) dX3_rule_5 (fun v5 h5 => ?_)
  subst h5
  refine zt_Vi1 mw_X3_good rfl (tc_good_b (zl Z) (zE Z) _ _ _ _) q2531 hR (by decide) (by simp [Value.category]) dX3_rule_8 (fun τ8_0 v8 wτ8_0 => ?_)
  obtain ⟨qτ8_0, h8⟩ := wτ8_0
  obtain ⟨eh8, h8⟩ := h8
  subst eh8
  have xτ8_0 : eqx [5] σ τ8_0 := eqx_tr x0 (eqx_mono qτ8_0 (by decide))
  have haτ8_0 : τ8_0 0 = a := (xτ8_0 0 (by decide)).trans ha
  refine zi_if_eqB 23 dX3_rule_11 (by decide) (fun c11 => ?_) (fun c11 => ?_)
  · have tc11 := h8.2 c11; clear h8
    refine zi_iconst dX3_rule_23 ?_
    exact zi_ireturn hrt dX3_rule_24 (hret _ _ ⟨xτ8_0, by omega⟩)
  · have tc11 := h8.1 c11; clear h8
    refine zi_aload_n dX3_rule_14 rfl ?_
    refine zi_iload_n dX3_rule_15 rfl ?_
    refine zi_iload_n dX3_rule_16 rfl ?_
    refine zt_PVi2 mw_X3_ruleAt rfl (tc_ruleAt (zl Z) (zE Z) _ _ _ _ (haτ8_0) _ _ (hok) (by omega) (by omega) (by omega) (by omega)) q2969 hR (by decide) (by simp [Value.category]) dX3_rule_17 (fun v17 h17 => ?_)
    refine zi_goto 24 dX3_rule_20 (by decide) ?_
    exact zi_ireturn hrt dX3_rule_24 (hret _ _ ⟨xτ8_0, by omega⟩)
theorem mw_X3_uses : MWV yX3_uses cX3_uses 6 (some Jvm.ClassFile.FieldType.int) 1 := ⟨q2974, q2975, q128, q2976, by decide, by decide +kernel, by decide +kernel, by decide +kernel⟩
set_option maxHeartbeats 4000000 in
theorem tc_uses (l : Launch) (E : ZE) (o : Nat) (ad : Nat → Nat) (σ : TS) (a : Int → Int) (ha : σ 0 = a) (t : Int) (hok : OkA a) (rt : -2147483648 ≤ t ∧ t < 2147483648) : TCi l yX3_uses (ws_ yX3_uses cX3_uses 6 (some Jvm.ClassFile.FieldType.int)) 4 E o ad σ [.ref o, jI t] (fun τ v => eqx [5] σ τ ∧ ((0 ≤ t ∧ t < a 20 → τ 5 0 = 0 ∧ v = usI a t (a 66).toNat) ∧ (¬ (0 ≤ t ∧ t < a 20) → τ 5 0 = 1))) := by
  refine tci_of (own := RX3) (cc := cX3_uses) (L := [some (.ref o), some (jI t), none, none, none, none]) (by decide) rfl rfl (Nat.le_of_ble_eq_true rfl) (fun Z hE hl hrt hR hm hret => ?_)
  subst hE
  have x0 : eqx [5] σ σ := eqx_rf
  have hc := hok.cnt
  refine zi_aload_n dX3_uses_0 rfl ?_
  refine zi_aload_n dX3_uses_1 rfl ?_
  refine zi_iload_n dX3_uses_2 rfl ?_
  refine zt_PVi1 mw_X3_isTerm rfl (tc_isTerm (zl Z) (zE Z) _ _ _ _ (ha) _ (hok) (by omega)) q2961 hR (by decide) (by simp [Value.category]) dX3_uses_3 (fun v3 h3 => ?_)
  subst h3
  refine zt_Vi1 mw_X3_good rfl (tc_good_b (zl Z) (zE Z) _ _ _ _) q2531 hR (by decide) (by simp [Value.category]) dX3_uses_6 (fun τ6_0 v6 wτ6_0 => ?_)
  obtain ⟨qτ6_0, h6⟩ := wτ6_0
  obtain ⟨eh6, h6⟩ := h6
  subst eh6
  have xτ6_0 : eqx [5] σ τ6_0 := eqx_tr x0 (eqx_mono qτ6_0 (by decide))
  have haτ6_0 : τ6_0 0 = a := (xτ6_0 0 (by decide)).trans ha
  refine zi_if_neB 14 dX3_uses_9 (by decide) (fun c9 => ?_) (fun c9 => ?_)
  · have tc9 := h6.1 c9; clear h6
    refine zi_iconst dX3_uses_14 ?_
    refine zi_istore_2 dX3_uses_15 hm (by decide) rfl ?_
    refine zi_iconst dX3_uses_16 ?_
    refine zi_istore_3 dX3_uses_17 hm (by decide) rfl ?_
    have lp18 : ∀ (n : Nat) (k : Nat) (x2 : Int) (x3 : Int), (x3 = (k : Int)) → (x3 ≤ a 66) → (x2 = usI a t k) → (a 66 - x3).toNat < n → GV RX3 cX3_uses Z (zA Z) (zs Z).heap (twW (zE Z) o ad τ6_0) 0 0 18 [some (.ref o), some (jI t), some (jI x2), some (jI x3), none, none] [] := by
      intro n
      induction n with
      | zero => intro k x2 x3 i18_0 i18_1 i18_2 m18; exact absurd m18 (Nat.not_lt_zero _)
      | succ n ih18 =>
        intro k x2 x3 i18_0 i18_1 i18_2 m18
        subst i18_0
        refine zi_iload_n dX3_uses_18 rfl ?_
        refine zi_aload_n dX3_uses_19 rfl ?_
        refine zt_PVi0 mw_X3_segments rfl (tc_segments (zl Z) (zE Z) _ _ _ _ (haτ6_0)  (hok)) q2700 hR (by decide) (by simp [Value.category]) dX3_uses_20 (fun v20 h20 => ?_)
        refine zi_icmp_ge 91 dX3_uses_23 (by decide) (by omega) (fun c23 => ?_) (fun c23 => ?_)
        · have q8 : (a 66).toNat = k := by omega
          rw [← q8] at i18_2
          refine zi_iload_n dX3_uses_91 rfl ?_
          exact zi_ireturn hrt dX3_uses_92 (hret _ _ ⟨xτ6_0, by omega⟩)
        · have q7 := hok.len k 0 (by omega) (by omega)
          refine zi_iconst dX3_uses_26 ?_
          refine zi_istore_4 dX3_uses_27 hm (by decide) rfl ?_
          refine zi_iconst dX3_uses_29 ?_
          refine zi_istore_5 dX3_uses_30 hm (by decide) rfl ?_
          have lp32 : ∀ (n : Nat) (q : Nat) (x4 : Int) (x5 : Int), (x5 = (q : Int)) → (x5 ≤ sLen a k 0) → (x4 = 0 ∨ x4 = 1) → (x4 = 1 ↔ usP a t k x5) → (sLen a k 0 - x5).toNat < n → GV RX3 cX3_uses Z (zA Z) (zs Z).heap (twW (zE Z) o ad τ6_0) 0 0 32 [some (.ref o), some (jI t), some (jI x2), some (jI (k : Int)), some (jI x4), some (jI x5)] [] := by
            intro n
            induction n with
            | zero => intro q x4 x5 i32_0 i32_1 i32_2 i32_3 m32; exact absurd m32 (Nat.not_lt_zero _)
            | succ n ih32 =>
              intro q x4 x5 i32_0 i32_1 i32_2 i32_3 m32
              subst i32_0
              refine zi_iload dX3_uses_32 rfl ?_
              refine zi_aload_n dX3_uses_34 rfl ?_
              refine zi_iload_n dX3_uses_35 rfl ?_
              refine zi_iconst dX3_uses_36 ?_
              refine zt_PVi2 mw_X3_wordsOf rfl (tc_wordsOf (zl Z) (zE Z) _ _ _ _ (haτ6_0) _ _ (hok) (by omega) (by omega) (by omega)) q2720 hR (by decide) (by simp [Value.category]) dX3_uses_37 (fun v37 h37 => ?_)
              refine zi_icmp_ge 72 dX3_uses_40 (by decide) (by omega) (fun c40 => ?_) (fun c40 => ?_)
              · have q9 : sLen a k 0 = (q : Int) := by omega
                rw [← q9] at i32_3
                refine zi_iload_n dX3_uses_72 rfl ?_
                refine zi_iload dX3_uses_73 rfl ?_
                refine zi_if_eq 82 dX3_uses_75 (by decide) (by omega) (fun c75 => ?_) (fun c75 => ?_)
                · refine zi_iconst dX3_uses_82 ?_
                  refine zi_iadd dX3_uses_83 ?_
                  refine zi_istore_2 dX3_uses_84 hm (by decide) rfl ?_
                  refine zi_iinc_3 dX3_uses_85 hm (by decide) rfl ?_
                  refine zi_goto 18 dX3_uses_88 (by decide) ?_
                  refine zi_fg (L2 := [_, _, _, _, none, none]) ⟨Or.inr rfl, Or.inr rfl, Or.inr rfl, Or.inr rfl, Or.inl rfl, Or.inl rfl, trivial⟩ ?_
                  exact ih18 (k + 1) _ _ (by omega) (by omega) (by simp only [usI]; first | (rw [cif_t (i32_3.mp (by omega))]; omega) | (rw [cif_f (fun w => absurd (i32_3.mpr w) (by omega))]; omega)) (by omega)
                · refine zi_iconst dX3_uses_78 ?_
                  refine zi_goto 83 dX3_uses_79 (by decide) ?_
                  refine zi_iadd dX3_uses_83 ?_
                  refine zi_istore_2 dX3_uses_84 hm (by decide) rfl ?_
                  refine zi_iinc_3 dX3_uses_85 hm (by decide) rfl ?_
                  refine zi_goto 18 dX3_uses_88 (by decide) ?_
                  refine zi_fg (L2 := [_, _, _, _, none, none]) ⟨Or.inr rfl, Or.inr rfl, Or.inr rfl, Or.inr rfl, Or.inl rfl, Or.inl rfl, trivial⟩ ?_
                  exact ih18 (k + 1) _ _ (by omega) (by omega) (by simp only [usI]; first | (rw [cif_t (i32_3.mp (by omega))]; omega) | (rw [cif_f (fun w => absurd (i32_3.mpr w) (by omega))]; omega)) (by omega)
              · refine zi_iload dX3_uses_43 rfl ?_
                refine zi_if_ne 59 dX3_uses_45 (by decide) (by omega) (fun c45 => ?_) (fun c45 => ?_)
                · refine zi_iconst dX3_uses_59 ?_
                  refine zi_goto 64 dX3_uses_60 (by decide) ?_
                  refine zi_istore_4 dX3_uses_64 hm (by decide) rfl ?_
                  refine zi_iinc_5 dX3_uses_66 hm (by decide) rfl ?_
                  refine zi_goto 32 dX3_uses_69 (by decide) ?_
                  exact ih32 (q + 1) _ _ (by omega) (by omega) (by first | exact Or.inl rfl | exact Or.inr rfl) (by rw [usP_s (by omega), ← i32_3]; omega) (by omega)
                · refine zi_aload_n dX3_uses_48 rfl ?_
                  refine zi_iload_n dX3_uses_49 rfl ?_
                  refine zi_iload dX3_uses_50 rfl ?_
                  refine zt_PVi2 mw_X3_ruleAt rfl (tc_ruleAt (zl Z) (zE Z) _ _ _ _ (haτ6_0) _ _ (hok) (by omega) (by omega) (by omega) (by omega)) q2969 hR (by decide) (by simp [Value.category]) dX3_uses_52 (fun v52 h52 => ?_)
                  refine zi_iload_n dX3_uses_55 rfl ?_
                  refine zi_icmp_ne 63 dX3_uses_56 (by decide) (by omega) (fun c56 => ?_) (fun c56 => ?_)
                  · refine zi_iconst dX3_uses_63 ?_
                    refine zi_istore_4 dX3_uses_64 hm (by decide) rfl ?_
                    refine zi_iinc_5 dX3_uses_66 hm (by decide) rfl ?_
                    refine zi_goto 32 dX3_uses_69 (by decide) ?_
                    exact ih32 (q + 1) _ _ (by omega) (by omega) (by first | exact Or.inl rfl | exact Or.inr rfl) (by rw [usP_s (by omega), ← i32_3]; omega) (by omega)
                  · refine zi_iconst dX3_uses_59 ?_
                    refine zi_goto 64 dX3_uses_60 (by decide) ?_
                    refine zi_istore_4 dX3_uses_64 hm (by decide) rfl ?_
                    refine zi_iinc_5 dX3_uses_66 hm (by decide) rfl ?_
                    refine zi_goto 32 dX3_uses_69 (by decide) ?_
                    exact ih32 (q + 1) _ _ (by omega) (by omega) (by first | exact Or.inl rfl | exact Or.inr rfl) (by rw [usP_s (by omega), ← i32_3]; omega) (by omega)
          exact lp32 _ (0) _ _ (by omega) (by omega) (by first | exact Or.inl rfl | exact Or.inr rfl) (⟨fun w => by omega, fun w => absurd w usP_0⟩) (Nat.lt_succ_self _)
    exact lp18 _ (0) _ _ (by omega) (by omega) (by rfl) (Nat.lt_succ_self _)
  · have tc9 := h6.2 c9; clear h6
    refine zi_iconst dX3_uses_12 ?_
    exact zi_ireturn hrt dX3_uses_13 (hret _ _ ⟨xτ6_0, by omega⟩)
theorem mw_X3_total : MWV yX3_total cX3_total 1 (some Jvm.ClassFile.FieldType.int) 0 := ⟨q2910, q2911, q128, q2912, by decide, by decide +kernel, by decide +kernel, by decide +kernel⟩
set_option maxHeartbeats 4000000 in
theorem tc_total (l : Launch) (E : ZE) (o : Nat) (ad : Nat → Nat) (σ : TS) (a : Int → Int) (ha : σ 0 = a) (hok : OkA a) : TCi l yX3_total (ws_ yX3_total cX3_total 1 (some Jvm.ClassFile.FieldType.int)) 12 E o ad σ [.ref o] (fun τ v => eqx [5, 18, 19] σ τ ∧ (v = toF a ∧ τ 5 0 = 0)) := by
  refine tci_of (own := RX3) (cc := cX3_total) (L := [some (.ref o)]) (by decide) rfl rfl (Nat.le_of_ble_eq_true rfl) (fun Z hE hl hrt hR hm hret => ?_)
  subst hE
  have x0 : eqx [5, 18, 19] σ σ := eqx_rf
  refine zi_aload_n dX3_total_0 rfl ?_
  refine zi_iconst dX3_total_1 ?_
  refine zt_p5 q2436 dX3_total_2 (fun τ2_0 eτ2_0 => ?_)
  have gτ2_0 := up_get eτ2_0
  have xτ2_0 : eqx [5, 18, 19] σ τ2_0 := by rw [eτ2_0]; exact eqx_up x0 (by decide)
  have haτ2_0 : τ2_0 0 = a := (xτ2_0 0 (by decide)).trans ha
  refine zi_aload_n dX3_total_5 rfl ?_
  refine zt_Vi0 mw_X3_totalNow rfl (tc_totalNow (zl Z) (zE Z) _ _ _ _ (haτ2_0)  (hok)) q2913 hR (by decide) (by simp [Value.category]) dX3_total_6 (fun τ6_1 v6 wτ6_1 => ?_)
  obtain ⟨qτ6_1, h6⟩ := wτ6_1
  have k5τ6_1 := eq_keep 5 qτ6_1 (by decide)
  have xτ6_1 : eqx [5, 18, 19] σ τ6_1 := eqx_tr xτ2_0 (eqx_mono qτ6_1 (by decide))
  have haτ6_1 : τ6_1 0 = a := (xτ6_1 0 (by decide)).trans ha
  exact zi_ireturn hrt dX3_total_9 (hret _ _ ⟨xτ6_1, ⟨h6.1, by omega⟩⟩)
