/-! THE REFERENCE: segments read, beginnings, output -/
set_option maxRecDepth 100000
theorem mw_X3_segmentStatement : MWV yX3_segmentStatement cX3_segmentStatement 2 (some Jvm.ClassFile.FieldType.boolean) 0 := ⟨q2647, qs61, q128, q2648, by decide, by decide +kernel, by decide +kernel, by decide +kernel⟩
set_option maxHeartbeats 4000000 in
theorem tc_segmentStatement (l : Launch) (E : ZE) (o : Nat) (ad : Nat → Nat) (σ : TS) (a : Int → Int) (ha : σ 0 = a) (B : Int → Int) (bn : Int) (t : TkS) (hB : BOk B bn) (ht : TkT σ B bn t) (hk : TkOk bn t) (hpk : PkA a) : TCi l yX3_segmentStatement (ws_ yX3_segmentStatement cX3_segmentStatement 2 (some Jvm.ClassFile.FieldType.boolean)) 6 E o ad σ [.ref o] (fun τ v => eqx [0, 11, 12, 13, 14, 15, 16, 17] σ τ ∧ (PRT σ B bn (segS B bn (a, t)) v τ)) := by
  refine tci_of (own := RX3) (cc := cX3_segmentStatement) (L := [some (.ref o), none]) (by decide) rfl rfl (Nat.le_of_ble_eq_true rfl) (fun Z hE hl hrt hR hm hret => ?_)
  subst hE
  have x0 : eqx [0, 11, 12, 13, 14, 15, 16, 17] σ σ := eqx_rf
  have hk1 := hk.1
  have hk2 := hk.2.1
  have hc := hpk.1
  refine zi_bipush dX3_segmentStatement_0 (by decide +kernel) ?_
  refine zi_bipush dX3_segmentStatement_2 (by decide +kernel) ?_
  refine zi_aload_n dX3_segmentStatement_4 rfl ?_
  refine zt_g0 q2431 dX3_segmentStatement_5 ?_
  refine zi_bipush dX3_segmentStatement_8 (by decide +kernel) ?_
  refine zt_ld0 dX3_segmentStatement_10 (ha) (by omega) ?_
  refine zi_l2i dX3_segmentStatement_11 ?_
  refine zi_imul dX3_segmentStatement_12 ?_
  refine zi_iadd dX3_segmentStatement_13 ?_
  refine zi_istore_1 dX3_segmentStatement_14 hm (by decide) rfl ?_
  refine zi_aload_n dX3_segmentStatement_15 rfl ?_
  refine zt_g0 q2431 dX3_segmentStatement_16 ?_
  refine zi_bipush dX3_segmentStatement_19 (by decide +kernel) ?_
  refine zt_ld0 dX3_segmentStatement_21 (ha) (by omega) ?_
  refine zi_lconst (m := 0) dX3_segmentStatement_22 (by decide +kernel) ?_
  refine zi_lcmp_ne 33 dX3_segmentStatement_23 dX3_segmentStatement_24 (by decide) (by omega) (fun c23 => ?_) (fun c23 => ?_)
  · refine zi_aload_n dX3_segmentStatement_33 rfl ?_
    refine zt_g0 q2431 dX3_segmentStatement_34 ?_
    refine zi_bipush dX3_segmentStatement_37 (by decide +kernel) ?_
    refine zt_ld0 dX3_segmentStatement_39 (ha) (by omega) ?_
    refine zi_ldc2 (m := 20) dX3_segmentStatement_40 q2428 (by decide +kernel) ?_
    refine zi_lcmp_ne 53 dX3_segmentStatement_43 dX3_segmentStatement_44 (by decide) (by omega) (fun c43 => ?_) (fun c43 => ?_)
    · refine zi_aload_n dX3_segmentStatement_53 rfl ?_
      refine zt_Vi0 mw_X3_advance rfl (tc_advance (zl Z) (zE Z) _ _ _  (_) (_) (hB) (ht.1) (ht.2.1) (_) (ht.2.2.2.1) (by omega)) q2546 hR (by decide) (by simp [Value.category]) dX3_segmentStatement_54 (fun τ54_0 v54 wτ54_0 => ?_)
      obtain ⟨qτ54_0, h54⟩ := wτ54_0
      obtain ⟨eh54, h54⟩ := h54
      subst eh54
      have bsτ54_0 := Bs_q Bs_rf qτ54_0 (by decide) (by decide) (by decide)
      have xτ54_0 : eqx [0, 11, 12, 13, 14, 15, 16, 17] σ τ54_0 := eqx_tr x0 (eqx_mono qτ54_0 (by decide))
      have haτ54_0 := (qτ54_0 0 (by decide)).trans ha
      have k1 := (tkF_ok (B := B) (n := bn) (p := t.nx) (by omega) (by omega)).1
      have k1a := k1.1
      have k1b := k1.2.1
      refine zi_pop dX3_segmentStatement_57 rfl ?_
      refine zi_aload_n dX3_segmentStatement_58 rfl ?_
      refine zi_iload_n dX3_segmentStatement_59 rfl ?_
      refine zi_iconst dX3_segmentStatement_60 ?_
      refine zi_iadd dX3_segmentStatement_61 ?_
      refine zi_iload_n dX3_segmentStatement_62 rfl ?_
      refine zi_iconst dX3_segmentStatement_63 ?_
      refine zi_iadd dX3_segmentStatement_64 ?_
      refine zt_Vi2 mw_X3_wordsInto rfl (tc_wordsInto (zl Z) (zE Z) _ _ _ _ (haτ54_0) _ _ (_) (_) ((tkF B bn t.nx)) (hB) (h54) (k1) (by omega)) q2649 hR (by decide) (by simp [Value.category]) dX3_segmentStatement_65 (fun τ65_1 v65 wτ65_1 => ?_)
      obtain ⟨qτ65_1, h65⟩ := wτ65_1
      have xτ65_1 : eqx [0, 11, 12, 13, 14, 15, 16, 17] σ τ65_1 := eqx_tr xτ54_0 (eqx_mono qτ65_1 (by decide))
      refine zi_if_eq 95 dX3_segmentStatement_68 (by decide) (by have := PRT_01 h65; omega) (fun c68 => ?_) (fun c68 => ?_)
      · obtain ⟨eh65, rh65, fh65⟩ := PRT_f h65 c68
        refine zi_iconst dX3_segmentStatement_95 ?_
        exact zi_zreturn hrt (z_nb (Or.inl rfl)) dX3_segmentStatement_96 (hret _ _ ⟨xτ65_1, by first | exact PRT_e (PRT_r bsτ54_0 fh89) (by rw [segS_c c23 c43, rh65, bnd_l, rh73, bnd_l, rh89, bnd_r]) | exact PRT_e (PRT_r bsτ54_0 fh73) (by rw [segS_c c23 c43, rh65, bnd_l, rh73, bnd_r]) | exact PRT_e (PRT_r bsτ54_0 fh65) (by rw [segS_c c23 c43, rh65, bnd_r])⟩)
      · obtain ⟨_, sh65, rh65, ah65, nh65, bh65⟩ := PRT_t h65 c68
        have dh65 := Bs_tr bsτ54_0 bh65
        have k2 := wlS_k0 (by omega) k1 rh65
        refine zi_aload_n dX3_segmentStatement_71 rfl ?_
        refine zi_iconst dX3_segmentStatement_72 ?_
        refine zt_Vi1 mw_X3_sign rfl (tc_sign (zl Z) (zE Z) _ _ _ _ (ah65) _ (_) (_) (sh65.2) (hB) (nh65) (k2.1) (by omega)) q2630 hR (by decide) (by simp [Value.category]) dX3_segmentStatement_73 (fun τ73_2 v73 wτ73_2 => ?_)
        obtain ⟨qτ73_2, h73⟩ := wτ73_2
        have xτ73_2 : eqx [0, 11, 12, 13, 14, 15, 16, 17] σ τ73_2 := eqx_tr xτ65_1 (eqx_mono qτ73_2 (by decide))
        have haτ73_2 := (qτ73_2 0 (by decide)).trans ah65
        refine zi_if_eq 95 dX3_segmentStatement_76 (by decide) (by have := PRT_01 h73; omega) (fun c76 => ?_) (fun c76 => ?_)
        · obtain ⟨eh73, rh73, fh73⟩ := PRT_f h73 c76
          refine zi_iconst dX3_segmentStatement_95 ?_
          exact zi_zreturn hrt (z_nb (Or.inl rfl)) dX3_segmentStatement_96 (hret _ _ ⟨xτ73_2, by first | exact PRT_e (PRT_r dh65 fh89) (by rw [segS_c c23 c43, rh65, bnd_l, rh73, bnd_l, rh89, bnd_r]) | exact PRT_e (PRT_r dh65 fh73) (by rw [segS_c c23 c43, rh65, bnd_l, rh73, bnd_r]) | exact PRT_e (PRT_r dh65 fh65) (by rw [segS_c c23 c43, rh65, bnd_r])⟩)
        · obtain ⟨_, sh73, rh73, ah73, nh73, bh73⟩ := PRT_t h73 c76
          have dh73 := Bs_tr dh65 bh73
          have k3 := sgnS_k (s := sh65) k2.1 rh73
          refine zi_aload_n dX3_segmentStatement_79 rfl ?_
          refine zi_iload_n dX3_segmentStatement_80 rfl ?_
          refine zi_iconst dX3_segmentStatement_81 ?_
          refine zi_iadd dX3_segmentStatement_82 ?_
          refine zi_iload_n dX3_segmentStatement_83 rfl ?_
          refine zi_iconst dX3_segmentStatement_84 ?_
          refine zi_iadd dX3_segmentStatement_85 ?_
          refine zi_bipush dX3_segmentStatement_86 (by decide +kernel) ?_
          refine zi_iadd dX3_segmentStatement_88 ?_
          refine zt_Vi2 mw_X3_wordsInto rfl (tc_wordsInto (zl Z) (zE Z) _ _ _ _ (ah73) _ _ (_) (_) (sh73.2) (hB) (nh73) (k3.2.2.1) (by omega)) q2649 hR (by decide) (by simp [Value.category]) dX3_segmentStatement_89 (fun τ89_3 v89 wτ89_3 => ?_)
          obtain ⟨qτ89_3, h89⟩ := wτ89_3
          have xτ89_3 : eqx [0, 11, 12, 13, 14, 15, 16, 17] σ τ89_3 := eqx_tr xτ73_2 (eqx_mono qτ89_3 (by decide))
          refine zi_if_ne 97 dX3_segmentStatement_92 (by decide) (by have := PRT_01 h89; omega) (fun c92 => ?_) (fun c92 => ?_)
          · obtain ⟨_, sh89, rh89, ah89, nh89, bh89⟩ := PRT_t h89 c92
            have dh89 := Bs_tr dh73 bh89
            refine zi_aload_n dX3_segmentStatement_97 rfl ?_
            refine zt_g0 q2431 dX3_segmentStatement_98 ?_
            refine zi_iload_n dX3_segmentStatement_101 rfl ?_
            refine zi_iconst dX3_segmentStatement_102 ?_
            refine zi_iadd dX3_segmentStatement_103 ?_
            refine zi_aload_n dX3_segmentStatement_104 rfl ?_
            refine zt_g0 q2431 dX3_segmentStatement_105 ?_
            refine zi_bipush dX3_segmentStatement_108 (by decide +kernel) ?_
            refine zt_ld0 dX3_segmentStatement_110 (ah89) (by omega) ?_
            refine zi_lconst (m := 1) dX3_segmentStatement_111 (by decide +kernel) ?_
            refine zi_lsub dX3_segmentStatement_112 ?_
            refine zt_st0 dX3_segmentStatement_113 (by omega) (fun τ113_4 eτ113_4 => ?_)
            have bsτ113_4 := Bs_0 dh89 eτ113_4 (by omega)
            have ntτ113_4 := TkT_u eτ113_4 nh89 (by decide)
            have gτ113_4 := up_get eτ113_4
            have xτ113_4 : eqx [0, 11, 12, 13, 14, 15, 16, 17] σ τ113_4 := by rw [eτ113_4]; exact eqx_up xτ89_3 (by decide)
            have r2 : τ113_4 0 = zup sh89.1 (67 + 19 * a 66 + 0) (sh89.1 45 - 1) := by funext j; rw [eτ113_4, up_s, ah89]
            refine zi_aload_n dX3_segmentStatement_114 rfl ?_
            refine zt_g0 q2431 dX3_segmentStatement_115 ?_
            refine zi_bipush dX3_segmentStatement_118 (by decide +kernel) ?_
            refine zi_dup2 dX3_segmentStatement_120 rfl rfl ?_
            refine zt_ld0 dX3_segmentStatement_121 (r2) (by omega) ?_
            refine zi_lconst (m := 1) dX3_segmentStatement_122 (by decide +kernel) ?_
            refine zi_ladd dX3_segmentStatement_123 ?_
            refine zt_st0 dX3_segmentStatement_124 (by omega) (fun τ124_5 eτ124_5 => ?_)
            have bsτ124_5 := Bs_0 bsτ113_4 eτ124_5 (by omega)
            have ntτ124_5 := TkT_u eτ124_5 ntτ113_4 (by decide)
            have gτ124_5 := up_get eτ124_5
            have xτ124_5 : eqx [0, 11, 12, 13, 14, 15, 16, 17] σ τ124_5 := by rw [eτ124_5]; exact eqx_up xτ113_4 (by decide)
            have r3 : τ124_5 0 = zup (zup sh89.1 (67 + 19 * a 66 + 0) (sh89.1 45 - 1)) 66 (zup sh89.1 (67 + 19 * a 66 + 0) (sh89.1 45 - 1) 66 + 1) := by funext j; rw [eτ124_5, up_s, r2]
            refine zi_iconst dX3_segmentStatement_125 ?_
            exact zi_zreturn hrt (z_nb (Or.inr rfl)) dX3_segmentStatement_126 (hret _ _ ⟨xτ124_5, PRT_e (PRT_l (s := (zup (zup sh89.1 (67 + 19 * a 66 + 0) (sh89.1 45 - 1)) 66 (zup sh89.1 (67 + 19 * a 66 + 0) (sh89.1 45 - 1) 66 + 1), sh89.2)) r3 ntτ124_5 bsτ124_5) (by rw [segS_c c23 c43, rh65, bnd_l, rh73, bnd_l, rh89, bnd_l])⟩)
          · obtain ⟨eh89, rh89, fh89⟩ := PRT_f h89 c92
            refine zi_iconst dX3_segmentStatement_95 ?_
            exact zi_zreturn hrt (z_nb (Or.inl rfl)) dX3_segmentStatement_96 (hret _ _ ⟨xτ89_3, by first | exact PRT_e (PRT_r dh73 fh89) (by rw [segS_c c23 c43, rh65, bnd_l, rh73, bnd_l, rh89, bnd_r]) | exact PRT_e (PRT_r dh73 fh73) (by rw [segS_c c23 c43, rh65, bnd_l, rh73, bnd_r]) | exact PRT_e (PRT_r dh73 fh65) (by rw [segS_c c23 c43, rh65, bnd_r])⟩)
    · refine zi_aload_n dX3_segmentStatement_47 rfl ?_
      refine zi_iconst dX3_segmentStatement_48 ?_
      refine zt_Vi1 mw_X3_fail rfl (tc_fail (zl Z) (zE Z) _ _ _ _ (_) (_) (t) (hB) (ht) (hk) (by omega)) q2602 hR (by decide) (by simp [Value.category]) dX3_segmentStatement_49 (fun τ49_6 v49 wτ49_6 => ?_)
      obtain ⟨qτ49_6, h49⟩ := wτ49_6
      obtain ⟨eh49, h49⟩ := h49
      subst eh49
      have ntτ49_6 := TkT_q qτ49_6 ht (by decide)
      have xτ49_6 : eqx [0, 11, 12, 13, 14, 15, 16, 17] σ τ49_6 := eqx_tr x0 (eqx_mono qτ49_6 (by decide))
      have haτ49_6 := (qτ49_6 0 (by decide)).trans ha
      exact zi_zreturn hrt (z_nb (Or.inl rfl)) dX3_segmentStatement_52 (hret _ _ ⟨xτ49_6, PRT_e (PRT_tr Bs_rf h49) (segS_b c23 c43)⟩)
  · refine zi_aload_n dX3_segmentStatement_27 rfl ?_
    refine zi_iconst dX3_segmentStatement_28 ?_
    refine zt_Vi1 mw_X3_fail rfl (tc_fail (zl Z) (zE Z) _ _ _ _ (_) (_) (t) (hB) (ht) (hk) (by omega)) q2602 hR (by decide) (by simp [Value.category]) dX3_segmentStatement_29 (fun τ29_7 v29 wτ29_7 => ?_)
    obtain ⟨qτ29_7, h29⟩ := wτ29_7
    obtain ⟨eh29, h29⟩ := h29
    subst eh29
    have ntτ29_7 := TkT_q qτ29_7 ht (by decide)
    have xτ29_7 : eqx [0, 11, 12, 13, 14, 15, 16, 17] σ τ29_7 := eqx_tr x0 (eqx_mono qτ29_7 (by decide))
    have haτ29_7 := (qτ29_7 0 (by decide)).trans ha
    exact zi_zreturn hrt (z_nb (Or.inl rfl)) dX3_segmentStatement_32 (hret _ _ ⟨xτ29_7, PRT_e (PRT_tr Bs_rf h29) (segS_a c23)⟩)
theorem mw_X3_begins : MWV yX3_begins cX3_begins 2 none 0 := ⟨q2424, qs39, q128, q2425, by decide, by decide +kernel, by decide +kernel, by decide +kernel⟩
set_option maxHeartbeats 4000000 in
theorem tc_begins (l : Launch) (E : ZE) (o : Nat) (ad : Nat → Nat) (σ : TS) (a : Int → Int) (ha : σ 0 = a) (hc : cut a) : TCv l yX3_begins (ws_ yX3_begins cX3_begins 2 none) 1 E o ad σ [.ref o] (fun τ => eqx [0] σ τ ∧ (τ 0 = bgF)) := by
  refine tcv_of (own := RX3) (cc := cX3_begins) (L := [some (.ref o), none]) (by decide) rfl rfl (Nat.le_of_ble_eq_true rfl) (fun Z hE hl hrt hR hm hret => ?_)
  subst hE
  have x0 : eqx [0] σ σ := eqx_rf
  refine zi_iconst dX3_begins_0 ?_
  refine zi_istore_1 dX3_begins_1 hm (by decide) rfl ?_
  have lp2 : ∀ (n : Nat) (x1 : Int) (τ2 : TS), (eqx [0] σ τ2) → (0 ≤ x1 ∧ x1 ≤ 447) → (∀ i : Int, τ2 0 i = if 0 ≤ i ∧ i < x1 then 0 else a i) → (447 - x1).toNat < n → GV RX3 cX3_begins Z (zA Z) (zs Z).heap (twW (zE Z) o ad τ2) 0 0 2 [some (.ref o), some (jI x1)] [] := by
    intro n
    induction n with
    | zero => intro x1 τ2 y2 i2_0 i2_1 m2; exact absurd m2 (Nat.not_lt_zero _)
    | succ n ih2 =>
      intro x1 τ2 y2 i2_0 i2_1 m2
      refine zi_iload_n dX3_begins_2 rfl ?_
      refine zi_sipush dX3_begins_3 (by decide +kernel) ?_
      refine zi_icmp_ge 22 dX3_begins_6 (by decide) (by omega) (fun c6 => ?_) (fun c6 => ?_)
      · have z1 : ∀ i : Int, τ2 0 i = 0 := fun i => by rw [i2_1]; by_cases q : 0 ≤ i ∧ i < x1 <;> first | (rw [if_pos q]) | (rw [if_neg q]; exact hc i (by omega))
        refine zi_aload_n dX3_begins_22 rfl ?_
        refine zt_g0 q2431 dX3_begins_23 ?_
        refine zi_iconst dX3_begins_26 ?_
        refine zi_ldc2 (m := 10) dX3_begins_27 q2426 (by decide +kernel) ?_
        refine zt_st0 dX3_begins_30 (by omega) (fun τ30_0 eτ30_0 => ?_)
        have gτ30_0 := up_get eτ30_0
        have xτ30_0 : eqx [0] σ τ30_0 := by rw [eτ30_0]; exact eqx_up y2 (by decide)
        have z2 : ∀ i : Int, τ30_0 0 i = if i = 0 then 10 else 0 := fun i => by rw [eτ30_0, up_s]; unfold zup; rw [z1]
        refine zi_aload_n dX3_begins_31 rfl ?_
        refine zt_g0 q2431 dX3_begins_32 ?_
        refine zi_iconst dX3_begins_35 ?_
        refine zi_ldc2 (m := 250) dX3_begins_36 q2427 (by decide +kernel) ?_
        refine zt_st0 dX3_begins_39 (by omega) (fun τ39_1 eτ39_1 => ?_)
        have gτ39_1 := up_get eτ39_1
        have xτ39_1 : eqx [0] σ τ39_1 := by rw [eτ39_1]; exact eqx_up xτ30_0 (by decide)
        have z3 : ∀ i : Int, τ39_1 0 i = if i = 1 then 250 else if i = 0 then 10 else 0 := fun i => by rw [eτ39_1, up_s]; unfold zup; rw [z2]
        refine zi_aload_n dX3_begins_40 rfl ?_
        refine zt_g0 q2431 dX3_begins_41 ?_
        refine zi_iconst dX3_begins_44 ?_
        refine zi_ldc2 (m := 20) dX3_begins_45 q2428 (by decide +kernel) ?_
        refine zt_st0 dX3_begins_48 (by omega) (fun τ48_2 eτ48_2 => ?_)
        have gτ48_2 := up_get eτ48_2
        have xτ48_2 : eqx [0] σ τ48_2 := by rw [eτ48_2]; exact eqx_up xτ39_1 (by decide)
        have z4 : ∀ i : Int, τ48_2 0 i = if i = 2 then 20 else if i = 1 then 250 else if i = 0 then 10 else 0 := fun i => by rw [eτ48_2, up_s]; unfold zup; rw [z3]
        refine zi_aload_n dX3_begins_49 rfl ?_
        refine zt_g0 q2431 dX3_begins_50 ?_
        refine zi_iconst dX3_begins_53 ?_
        refine zi_ldc2 (m := 4) dX3_begins_54 q2429 (by decide +kernel) ?_
        refine zt_st0 dX3_begins_57 (by omega) (fun τ57_3 eτ57_3 => ?_)
        have gτ57_3 := up_get eτ57_3
        have xτ57_3 : eqx [0] σ τ57_3 := by rw [eτ57_3]; exact eqx_up xτ48_2 (by decide)
        have z5 : ∀ i : Int, τ57_3 0 i = if i = 3 then 4 else if i = 2 then 20 else if i = 1 then 250 else if i = 0 then 10 else 0 := fun i => by rw [eτ57_3, up_s]; unfold zup; rw [z4]
        refine zi_aload_n dX3_begins_58 rfl ?_
        refine zt_g0 q2431 dX3_begins_59 ?_
        refine zi_iconst dX3_begins_62 ?_
        refine zi_ldc2 (m := 100) dX3_begins_63 q2430 (by decide +kernel) ?_
        refine zt_st0 dX3_begins_66 (by omega) (fun τ66_4 eτ66_4 => ?_)
        have gτ66_4 := up_get eτ66_4
        have xτ66_4 : eqx [0] σ τ66_4 := by rw [eτ66_4]; exact eqx_up xτ57_3 (by decide)
        have z0 : ∀ i : Int, τ66_4 0 i = if i = 4 then 100 else if i = 3 then 4 else if i = 2 then 20 else if i = 1 then 250 else if i = 0 then 10 else 0 := fun i => by rw [eτ66_4, up_s]; unfold zup; rw [z5]
        refine zi_iconst dX3_begins_67 ?_
        refine zi_istore_1 dX3_begins_68 hm (by decide) rfl ?_
        have lp69 : ∀ (n : Nat) (x1 : Int) (τ69 : TS), (eqx [0] σ τ69) → (1 ≤ x1 ∧ x1 ≤ 5) → (∀ i : Int, τ69 0 i = if i = 0 then 10 else if i = 1 then 250 else if i = 2 then 20 else if i = 3 then 4 else if 4 ≤ i ∧ i < 4 + x1 then 100 - 20 * (i - 4) else 0) → (5 - x1).toNat < n → GV RX3 cX3_begins Z (zA Z) (zs Z).heap (twW (zE Z) o ad τ69) 0 0 69 [some (.ref o), some (jI x1)] [] := by
          intro n
          induction n with
          | zero => intro x1 τ69 y69 i69_0 i69_1 m69; exact absurd m69 (Nat.not_lt_zero _)
          | succ n ih69 =>
            intro x1 τ69 y69 i69_0 i69_1 m69
            refine zi_iload_n dX3_begins_69 rfl ?_
            refine zi_iconst dX3_begins_70 ?_
            refine zi_icmp_ge 98 dX3_begins_71 (by decide) (by omega) (fun c71 => ?_) (fun c71 => ?_)
            · exact zi_return hrt dX3_begins_98 (hret _ ⟨y69, by funext i; rw [i69_1]; unfold bgF; (repeat' split) <;> first | rfl | omega⟩)
            · refine zi_aload_n dX3_begins_74 rfl ?_
              refine zt_g0 q2431 dX3_begins_75 ?_
              refine zi_iconst dX3_begins_78 ?_
              refine zi_iload_n dX3_begins_79 rfl ?_
              refine zi_iadd dX3_begins_80 ?_
              refine zi_ldc2 (m := 100) dX3_begins_81 q2430 (by decide +kernel) ?_
              refine zi_ldc2 (m := 20) dX3_begins_84 q2428 (by decide +kernel) ?_
              refine zi_iload_n dX3_begins_87 rfl ?_
              refine zi_i2l dX3_begins_88 (by omega) ?_
              refine zi_lmul dX3_begins_89 ?_
              refine zi_lsub dX3_begins_90 ?_
              refine zt_st0 dX3_begins_91 (by omega) (fun τ91_5 eτ91_5 => ?_)
              have gτ91_5 := up_get eτ91_5
              have xτ91_5 : eqx [0] σ τ91_5 := by rw [eτ91_5]; exact eqx_up y69 (by decide)
              refine zi_iinc_1 dX3_begins_92 hm (by decide) rfl ?_
              refine zi_goto 69 dX3_begins_95 (by decide) ?_
              refine ih69 _ _ xτ91_5 (by omega) ?_ (by omega)
              · intro i
                rw [eτ91_5, up_s]
                unfold zup
                by_cases q : i = 4 + x1
                · rw [if_pos q, if_neg (by omega), if_neg (by omega), if_neg (by omega), if_neg (by omega), if_pos (by omega)]; omega
                · rw [if_neg q, i69_1]; (repeat' split) <;> first | rfl | omega
        refine lp69 _ _ _ xτ66_4 (by omega) ?_ (Nat.lt_succ_self _)
        · intro i
          rw [z0]
          (repeat' split) <;> first | rfl | omega
      · refine zi_aload_n dX3_begins_9 rfl ?_
        refine zt_g0 q2431 dX3_begins_10 ?_
        refine zi_iload_n dX3_begins_13 rfl ?_
        refine zi_lconst (m := 0) dX3_begins_14 (by decide +kernel) ?_
        refine zt_st0 dX3_begins_15 (by omega) (fun τ15_6 eτ15_6 => ?_)
        have gτ15_6 := up_get eτ15_6
        have xτ15_6 : eqx [0] σ τ15_6 := by rw [eτ15_6]; exact eqx_up y2 (by decide)
        refine zi_iinc_1 dX3_begins_16 hm (by decide) rfl ?_
        refine zi_goto 2 dX3_begins_19 (by decide) ?_
        refine ih2 _ _ xτ15_6 (by omega) ?_ (by omega)
        · intro i
          rw [eτ15_6, up_s]
          unfold zup
          by_cases q : i = x1
          · rw [if_pos q, if_pos (by omega)]
          · rw [if_neg q, i2_1]; (repeat' split) <;> first | rfl | omega
  exact lp2 _ _ _ x0 (by omega) (by intro i; rw [if_neg (by omega), ha]) (Nat.lt_succ_self _)
theorem mw_X3_errorKind : MWV yX3_errorKind cX3_errorKind 1 (some Jvm.ClassFile.FieldType.int) 0 := ⟨q2685, q2686, q128, q2687, by decide, by decide +kernel, by decide +kernel, by decide +kernel⟩
set_option maxHeartbeats 4000000 in
theorem tc_errorKind (l : Launch) (E : ZE) (o : Nat) (ad : Nat → Nat) (σ : TS)  : TCi l yX3_errorKind (ws_ yX3_errorKind cX3_errorKind 1 (some Jvm.ClassFile.FieldType.int)) 1 E o ad σ [.ref o] (fun τ v => eqx [5] σ τ ∧ (v = σ 8 0 ∧ τ 5 0 = 0)) := by
  refine tci_of (own := RX3) (cc := cX3_errorKind) (L := [some (.ref o)]) (by decide) rfl rfl (Nat.le_of_ble_eq_true rfl) (fun Z hE hl hrt hR hm hret => ?_)
  subst hE
  have x0 : eqx [5] σ σ := eqx_rf
  refine zi_aload_n dX3_errorKind_0 rfl ?_
  refine zi_iconst dX3_errorKind_1 ?_
  refine zt_p5 q2436 dX3_errorKind_2 (fun τ2_0 eτ2_0 => ?_)
  have gτ2_0 := up_get eτ2_0
  have xτ2_0 : eqx [5] σ τ2_0 := by rw [eτ2_0]; exact eqx_up x0 (by decide)
  refine zi_aload_n dX3_errorKind_5 rfl ?_
  refine zt_g8 q2439 dX3_errorKind_6 (rfl) ?_
  exact zi_ireturn hrt dX3_errorKind_9 (hret _ _ ⟨xτ2_0, ⟨congrFun (xτ2_0 8 (by decide)) 0, gτ2_0⟩⟩)
theorem mw_X3_errorPosition : MWV yX3_errorPosition cX3_errorPosition 1 (some Jvm.ClassFile.FieldType.int) 0 := ⟨q2689, q2690, q128, q2691, by decide, by decide +kernel, by decide +kernel, by decide +kernel⟩
set_option maxHeartbeats 4000000 in
theorem tc_errorPosition (l : Launch) (E : ZE) (o : Nat) (ad : Nat → Nat) (σ : TS)  : TCi l yX3_errorPosition (ws_ yX3_errorPosition cX3_errorPosition 1 (some Jvm.ClassFile.FieldType.int)) 1 E o ad σ [.ref o] (fun τ v => eqx [5] σ τ ∧ (v = σ 9 0 ∧ τ 5 0 = 0)) := by
  refine tci_of (own := RX3) (cc := cX3_errorPosition) (L := [some (.ref o)]) (by decide) rfl rfl (Nat.le_of_ble_eq_true rfl) (fun Z hE hl hrt hR hm hret => ?_)
  subst hE
  have x0 : eqx [5] σ σ := eqx_rf
  refine zi_aload_n dX3_errorPosition_0 rfl ?_
  refine zi_iconst dX3_errorPosition_1 ?_
  refine zt_p5 q2436 dX3_errorPosition_2 (fun τ2_0 eτ2_0 => ?_)
  have gτ2_0 := up_get eτ2_0
  have xτ2_0 : eqx [5] σ τ2_0 := by rw [eτ2_0]; exact eqx_up x0 (by decide)
  refine zi_aload_n dX3_errorPosition_5 rfl ?_
  refine zt_g9 q2440 dX3_errorPosition_6 (rfl) ?_
  exact zi_ireturn hrt dX3_errorPosition_9 (hret _ _ ⟨xτ2_0, ⟨congrFun (xτ2_0 9 (by decide)) 0, gτ2_0⟩⟩)
theorem mw_X3_find : MWV yX3_find cX3_find 6 (some Jvm.ClassFile.FieldType.int) 1 := ⟨q2693, q2694, q128, q2695, by decide, by decide +kernel, by decide +kernel, by decide +kernel⟩
set_option maxHeartbeats 4000000 in
theorem tc_find (l : Launch) (E : ZE) (o : Nat) (ad : Nat → Nat) (σ : TS) (a : Int → Int) (ha : σ 0 = a) (bn : Int) (hok : OkA a) (B : Int → Int) (b0 : Int) (hB : BOk B b0) (f6 : σ 6 = B) (f7 : σ 7 0 = b0) (rbn : -2147483648 ≤ bn ∧ bn < 2147483648) : TCi l yX3_find (ws_ yX3_find cX3_find 6 (some Jvm.ClassFile.FieldType.int)) 2 E o ad σ [.ref o, jI bn] (fun τ v => eqx [5, 7] σ τ ∧ ((0 ≤ bn ∧ bn ≤ b0 → τ 5 0 = 0 ∧ τ 7 0 = 0 ∧ v = fnF a B bn) ∧ (¬ (0 ≤ bn ∧ bn ≤ b0) → τ 5 0 = 1 ∧ τ 7 0 = b0))) := by
  refine tci_of (own := RX3) (cc := cX3_find) (L := [some (.ref o), some (jI bn), none, none, none, none]) (by decide) rfl rfl (Nat.le_of_ble_eq_true rfl) (fun Z hE hl hrt hR hm hret => ?_)
  subst hE
  have x0 : eqx [5, 7] σ σ := eqx_rf
  have hb1 := hB.1
  have hpk := PkA_of hok
  refine zi_aload_n dX3_find_0 rfl ?_
  refine zi_iload_n dX3_find_1 rfl ?_
  refine zi_i2l dX3_find_2 (by omega) ?_
  refine zi_lconst (m := 0) dX3_find_3 (by decide +kernel) ?_
  refine zi_aload_n dX3_find_4 rfl ?_
  refine zt_g7 q2438 dX3_find_5 (f7) ?_
  refine zi_i2l dX3_find_8 (by omega) ?_
  refine zt_PSi3 mw_X3_isIn (tc_isIn (zl Z) (zE Z) _ _ _ _ _ _ (by omega) (by omega) (by omega)) q2528 hR (by decide) (by simp [Value.category]) dX3_find_9 (fun v9 h9 => ?_)
  subst h9
  refine zt_Vi1 mw_X3_good rfl (tc_good_b (zl Z) (zE Z) _ _ _ _) q2531 hR (by decide) (by simp [Value.category]) dX3_find_12 (fun τ12_0 v12 wτ12_0 => ?_)
  obtain ⟨qτ12_0, h12⟩ := wτ12_0
  obtain ⟨eh12, h12⟩ := h12
  subst eh12
  have k7τ12_0 := eq_keep 7 qτ12_0 (by decide)
  have xτ12_0 : eqx [5, 7] σ τ12_0 := eqx_tr x0 (eqx_mono qτ12_0 (by decide))
  have haτ12_0 : τ12_0 0 = a := (xτ12_0 0 (by decide)).trans ha
  refine zi_if_neB 20 dX3_find_15 (by decide) (fun c15 => ?_) (fun c15 => ?_)
  · have tc15 := h12.1 c15; clear h12
    refine zi_aload_n dX3_find_20 rfl ?_
    refine zi_iconst dX3_find_21 ?_
    refine zt_p7 q2438 dX3_find_22 (fun τ22_1 eτ22_1 => ?_)
    have gτ22_1 := up_get eτ22_1
    have k5τ22_1 := up_keep 5 eτ22_1 (by decide)
    have xτ22_1 : eqx [5, 7] σ τ22_1 := by rw [eτ22_1]; exact eqx_up xτ12_0 (by decide)
    have haτ22_1 : τ22_1 0 = a := (xτ22_1 0 (by decide)).trans ha
    refine zi_lconst (m := 0) dX3_find_25 (by decide +kernel) ?_
    refine zi_lstore_2 dX3_find_26 hm (by decide) rfl ?_
    refine zi_iload_n dX3_find_27 rfl ?_
    refine zi_i2l dX3_find_28 (by omega) ?_
    refine zi_lconst (m := 1) dX3_find_29 (by decide +kernel) ?_
    refine zi_ldc2 (m := 8) dX3_find_30 q2653 (by decide +kernel) ?_
    refine zt_PSi3 mw_X3_isIn (tc_isIn (zl Z) (zE Z) _ _ _ _ _ _ (by omega) (by omega) (by omega)) q2528 hR (by decide) (by simp [Value.category]) dX3_find_33 (fun v33 h33 => ?_)
    subst h33
    refine zi_istore_4 dX3_find_36 hm (by decide) rfl ?_
    refine zi_iconst dX3_find_38 ?_
    refine zi_istore_5 dX3_find_39 hm (by decide) rfl ?_
    have lp41 : ∀ (n : Nat) (k : Nat) (x2 : Int) (x4 : Int) (x5 : Int), (x5 = (k : Int)) → (0 ≤ bn ∧ bn ≤ 900) → (x5 ≤ bn) → (x4 = 0 ∨ x4 = 1) → (x4 = 1 ↔ ((1 ≤ bn ∧ bn ≤ 8) ∧ ∀ i : Int, 0 ≤ i → i < x5 → 97 ≤ B i ∧ B i ≤ 122)) → (x2 = wcI B 0 k) → (bn - x5).toNat < n → GV RX3 cX3_find Z (zA Z) (zs Z).heap (twW (zE Z) o ad τ22_1) 0 0 41 [some (.ref o), some (jI bn), some (jL x2), none, some (jI x4), some (jI x5)] [] := by
      intro n
      induction n with
      | zero => intro k x2 x4 x5 i41_0 i41_1 i41_2 i41_3 i41_4 i41_5 m41; exact absurd m41 (Nat.not_lt_zero _)
      | succ n ih41 =>
        intro k x2 x4 x5 i41_0 i41_1 i41_2 i41_3 i41_4 i41_5 m41
        subst i41_0
        refine zi_iload dX3_find_41 rfl ?_
        refine zi_iload_n dX3_find_43 rfl ?_
        refine zi_icmp_ge 91 dX3_find_44 (by decide) (by omega) (fun c44 => ?_) (fun c44 => ?_)
        · have q9 : x4 = 1 → (k : Int) = bn := fun q => by omega
          refine zi_iload dX3_find_91 rfl ?_
          refine zi_if_eq 104 dX3_find_93 (by decide) (by omega) (fun c93 => ?_) (fun c93 => ?_)
          · refine zi_iconst dX3_find_104 ?_
            exact zi_ireturn hrt dX3_find_105 (hret _ _ ⟨xτ22_1, by first | exact ⟨fun _ => ⟨by omega, by omega, by unfold fnF; rw [cif_t w2, e8, ← i41_5]; exact h33.1⟩, fun p => absurd c15 p⟩ | exact ⟨fun _ => ⟨by omega, by omega, by unfold fnF; rw [cif_f (fun w => absurd (i41_4.mpr ⟨w.1, fun i i0 i1 => w.2 i i0 (by omega)⟩) (by omega))]⟩, fun p => absurd c15 p⟩⟩)
          · have e9 : (k : Int) = bn := q9 (by omega)
            have w2 := i41_4.mp (by omega)
            rw [e9] at w2
            have e8 : bn.toNat = k := by omega
            have w1 := isWd_r (wcI_wd w2)
            rw [e8, ← i41_5] at w1
            refine zi_aload_n dX3_find_96 rfl ?_
            refine zi_lload_n dX3_find_97 rfl ?_
            refine zt_PVi1 mw_X3_personNamed rfl (tc_personNamed (zl Z) (zE Z) _ _ _ _ (haτ22_1) _ (hpk) (by omega)) q2616 hR (by decide) (by simp [Value.category]) dX3_find_98 (fun v98 h98 => ?_)
            refine zi_goto 105 dX3_find_101 (by decide) ?_
            exact zi_ireturn hrt dX3_find_105 (hret _ _ ⟨xτ22_1, by first | exact ⟨fun _ => ⟨by omega, by omega, by unfold fnF; rw [cif_t w2, e8, ← i41_5]; exact h98.1⟩, fun p => absurd c15 p⟩ | exact ⟨fun _ => ⟨by omega, by omega, by unfold fnF; rw [cif_f (fun w => absurd (i41_4.mpr ⟨w.1, fun i i0 i1 => w.2 i i0 (by omega)⟩) (by omega))]⟩, fun p => absurd c15 p⟩⟩)
        · refine zi_iload dX3_find_47 rfl ?_
          refine zi_if_eq 91 dX3_find_49 (by decide) (by omega) (fun c49 => ?_) (fun c49 => ?_)
          · have q9 : x4 = 1 → (k : Int) = bn := fun q => by omega
            refine zi_iload dX3_find_91 rfl ?_
            refine zi_if_eq 104 dX3_find_93 (by decide) (by omega) (fun c93_2 => ?_) (fun c93_2 => ?_)
            · refine zi_iconst dX3_find_104 ?_
              exact zi_ireturn hrt dX3_find_105 (hret _ _ ⟨xτ22_1, by first | exact ⟨fun _ => ⟨by omega, by omega, by unfold fnF; rw [cif_t w2, e8, ← i41_5]; exact h33.1⟩, fun p => absurd c15 p⟩ | exact ⟨fun _ => ⟨by omega, by omega, by unfold fnF; rw [cif_f (fun w => absurd (i41_4.mpr ⟨w.1, fun i i0 i1 => w.2 i i0 (by omega)⟩) (by omega))]⟩, fun p => absurd c15 p⟩⟩)
            · have e9 : (k : Int) = bn := q9 (by omega)
              have w2 := i41_4.mp (by omega)
              rw [e9] at w2
              have e8 : bn.toNat = k := by omega
              have w1 := isWd_r (wcI_wd w2)
              rw [e8, ← i41_5] at w1
              refine zi_aload_n dX3_find_96 rfl ?_
              refine zi_lload_n dX3_find_97 rfl ?_
              refine zt_PVi1 mw_X3_personNamed rfl (tc_personNamed (zl Z) (zE Z) _ _ _ _ (haτ22_1) _ (hpk) (by omega)) q2616 hR (by decide) (by simp [Value.category]) dX3_find_98 (fun v98_3 h98_3 => ?_)
              refine zi_goto 105 dX3_find_101 (by decide) ?_
              exact zi_ireturn hrt dX3_find_105 (hret _ _ ⟨xτ22_1, by first | exact ⟨fun _ => ⟨by omega, by omega, by unfold fnF; rw [cif_t w2, e8, ← i41_5]; exact h98_3.1⟩, fun p => absurd c15 p⟩ | exact ⟨fun _ => ⟨by omega, by omega, by unfold fnF; rw [cif_f (fun w => absurd (i41_4.mpr ⟨w.1, fun i i0 i1 => w.2 i i0 (by omega)⟩) (by omega))]⟩, fun p => absurd c15 p⟩⟩)
          · have hb2 := hB.2 k (by omega) (by omega)
            refine zi_aload_n dX3_find_52 rfl ?_
            refine zt_g6 q2437 dX3_find_53 ?_
            refine zi_iload dX3_find_56 rfl ?_
            refine zt_ld6 dX3_find_58 ((xτ22_1 6 (by decide)).trans f6) (by omega) ?_
            refine zt_PSi1 mw_X3_isLetter (tc_isLetter (zl Z) (zE Z) _ _ _ _ (by omega)) q2554 hR (by decide) (by simp [Value.category]) dX3_find_59 (fun v59 h59 => ?_)
            subst h59
            refine zi_istore_4 dX3_find_62 hm (by decide) rfl ?_
            refine zi_ldc2 (m := 27) dX3_find_64 q2561 (by decide +kernel) ?_
            refine zi_lload_n dX3_find_67 rfl ?_
            refine zi_lmul dX3_find_68 ?_
            refine zi_aload_n dX3_find_69 rfl ?_
            refine zt_g6 q2437 dX3_find_70 ?_
            refine zi_iload dX3_find_73 rfl ?_
            refine zt_ld6 dX3_find_75 ((xτ22_1 6 (by decide)).trans f6) (by omega) ?_
            refine zi_i2l dX3_find_76 (by omega) ?_
            refine zi_ladd dX3_find_77 ?_
            refine zi_ldc2 (m := 97) dX3_find_78 q2562 (by decide +kernel) ?_
            refine zi_lsub dX3_find_81 ?_
            refine zi_lconst (m := 1) dX3_find_82 (by decide +kernel) ?_
            refine zi_ladd dX3_find_83 ?_
            refine zi_lstore_2 dX3_find_84 hm (by decide) rfl ?_
            refine zi_iinc_5 dX3_find_85 hm (by decide) rfl ?_
            refine zi_goto 41 dX3_find_88 (by decide) ?_
            refine ih41 (k + 1) _ _ _ (by omega) (by omega) (by omega) (bI_01 _) ?_ (by simp only [wcI]; rw [← i41_5, show (0 : Int) + (k : Int) = k by omega]; omega) (by omega)
            · rw [bI_iff]
              have w := i41_4.mp (by omega)
              constructor
              · exact fun q => ⟨w.1, fun i i0 i1 => by
                  by_cases q2 : i < (k : Int)
                  · exact w.2 i i0 q2
                  · rw [show i = (k : Int) by omega]; exact q⟩
              · exact fun q => q.2 k (by omega) (by omega)
    exact lp41 _ (0) _ _ _ (by omega) (by omega) (by omega) (bI_01 _) (by rw [bI_iff]; exact ⟨fun q => ⟨q, fun i i0 i1 => by omega⟩, fun q => q.1⟩) (by rfl) (Nat.lt_succ_self _)
  · have tc15 := h12.2 c15; clear h12
    refine zi_iconst dX3_find_18 ?_
    exact zi_ireturn hrt dX3_find_19 (hret _ _ ⟨xτ12_0, ⟨fun p => absurd p (by omega), fun _ => ⟨by omega, by omega⟩⟩⟩)
theorem mw_X3_says : MWV yX3_says cX3_says 2 none 1 := ⟨q3065, qs114, q128, q3066, by decide, by decide +kernel, by decide +kernel, by decide +kernel⟩
set_option maxHeartbeats 4000000 in
theorem tc_says (l : Launch) (E : ZE) (o : Nat) (ad : Nat → Nat) (σ : TS) (c : Int) (l0 : List Int) (hl0 : OutS σ l0) (hn : l0.length ≤ 59) : TCv l yX3_says (ws_ yX3_says cX3_says 2 none) 1 E o ad σ [.ref o, jI c] (fun τ => eqx [23, 24] σ τ ∧ (OutS τ (l0 ++ [c]))) := by
  refine tcv_of (own := RX3) (cc := cX3_says) (L := [some (.ref o), some (jI c)]) (by decide) rfl rfl (Nat.le_of_ble_eq_true rfl) (fun Z hE hl hrt hR hm hret => ?_)
  subst hE
  have x0 : eqx [23, 24] σ σ := eqx_rf
  refine zi_aload_n dX3_says_0 rfl ?_
  refine zt_g23 q2454 dX3_says_1 ?_
  refine zi_aload_n dX3_says_4 rfl ?_
  refine zt_g24 q2455 dX3_says_5 (hl0.1) ?_
  refine zi_iload_n dX3_says_8 rfl ?_
  refine zt_st23 dX3_says_9 (by omega) (fun τ9_0 eτ9_0 => ?_)
  have gτ9_0 := up_get eτ9_0
  have k24τ9_0 := up_keep 24 eτ9_0 (by decide)
  have xτ9_0 : eqx [23, 24] σ τ9_0 := by rw [eτ9_0]; exact eqx_up x0 (by decide)
  refine zi_aload_n dX3_says_10 rfl ?_
  refine zi_dup dX3_says_11 rfl ?_
  refine zt_g24 q2455 dX3_says_12 (k24τ9_0.trans hl0.1) ?_
  refine zi_iconst dX3_says_15 ?_
  refine zi_iadd dX3_says_16 ?_
  refine zt_p24 q2455 dX3_says_17 (fun τ17_1 eτ17_1 => ?_)
  have gτ17_1 := up_get eτ17_1
  have xτ17_1 : eqx [23, 24] σ τ17_1 := by rw [eτ17_1]; exact eqx_up xτ9_0 (by decide)
  exact zi_return hrt dX3_says_20 (hret _ ⟨xτ17_1, OutS_add hl0 eτ9_0 eτ17_1⟩)
theorem mw_X3_saysNumber : MWV yX3_saysNumber cX3_saysNumber 2 none 1 := ⟨q3061, qs113, q128, q3062, by decide, by decide +kernel, by decide +kernel, by decide +kernel⟩
set_option maxHeartbeats 4000000 in
theorem tc_saysNumber_0 (l : Launch) (E : ZE) (o : Nat) (ad : Nat → Nat) (σ : TS) (x : Int) (l0 : List Int) (hl0 : OutS σ l0) (hn : l0.length ≤ 59) (hx : 0 ≤ x ∧ x ≤ 9) : TCv l yX3_saysNumber (ws_ yX3_saysNumber cX3_saysNumber 2 none) 2 E o ad σ [.ref o, jI x] (fun τ => eqx [23, 24] σ τ ∧ (OutS τ (l0 ++ [48 + x % 10]))) := by
  refine tcv_of (own := RX3) (cc := cX3_saysNumber) (L := [some (.ref o), some (jI x)]) (by decide) rfl rfl (Nat.le_of_ble_eq_true rfl) (fun Z hE hl hrt hR hm hret => ?_)
  subst hE
  have x0 : eqx [23, 24] σ σ := eqx_rf
  refine zi_iload_n dX3_saysNumber_0 rfl ?_
  refine zi_bipush dX3_saysNumber_1 (by decide +kernel) ?_
  refine zi_icmp_le 14 dX3_saysNumber_3 (by decide) (by omega) (fun c3 => ?_) (fun c3 => ?_)
  · refine zi_aload_n dX3_saysNumber_14 rfl ?_
    refine zi_bipush dX3_saysNumber_15 (by decide +kernel) ?_
    refine zi_iload_n dX3_saysNumber_17 rfl ?_
    refine zi_bipush dX3_saysNumber_18 (by decide +kernel) ?_
    refine zi_irem dX3_saysNumber_20 (by omega) ?_
    refine zi_iadd dX3_saysNumber_21 ?_
    refine zt_Vv1 mw_X3_says rfl (tc_says (zl Z) (zE Z) _ _ _ _ (_) (hl0) (hn)) q3063 hR (by decide) (by simp [Value.category]) dX3_saysNumber_22 (fun τ22_0 wτ22_0 => ?_)
    obtain ⟨qτ22_0, h22⟩ := wτ22_0
    have xτ22_0 : eqx [23, 24] σ τ22_0 := eqx_tr x0 (eqx_mono qτ22_0 (by decide))
    exact zi_return hrt dX3_saysNumber_25 (hret _ ⟨xτ22_0, h22⟩)
  · exact absurd c3 (by omega)
set_option maxHeartbeats 4000000 in
theorem tc_saysNumber (l : Launch) (E : ZE) (o : Nat) (ad : Nat → Nat) (σ : TS) (x : Int) (l0 : List Int) (hl0 : OutS σ l0) (hn : l0.length ≤ 58) (hx : 0 ≤ x ∧ x ≤ 99) : TCv l yX3_saysNumber (ws_ yX3_saysNumber cX3_saysNumber 2 none) 3 E o ad σ [.ref o, jI x] (fun τ => eqx [23, 24] σ τ ∧ (OutS τ (l0 ++ nmO x))) := by
  refine tcv_of (own := RX3) (cc := cX3_saysNumber) (L := [some (.ref o), some (jI x)]) (by decide) rfl rfl (Nat.le_of_ble_eq_true rfl) (fun Z hE hl hrt hR hm hret => ?_)
  subst hE
  have x0 : eqx [23, 24] σ σ := eqx_rf
  refine zi_iload_n dX3_saysNumber_0 rfl ?_
  refine zi_bipush dX3_saysNumber_1 (by decide +kernel) ?_
  refine zi_icmp_le 14 dX3_saysNumber_3 (by decide) (by omega) (fun c3 => ?_) (fun c3 => ?_)
  · refine zi_aload_n dX3_saysNumber_14 rfl ?_
    refine zi_bipush dX3_saysNumber_15 (by decide +kernel) ?_
    refine zi_iload_n dX3_saysNumber_17 rfl ?_
    refine zi_bipush dX3_saysNumber_18 (by decide +kernel) ?_
    refine zi_irem dX3_saysNumber_20 (by omega) ?_
    refine zi_iadd dX3_saysNumber_21 ?_
    refine zt_Vv1 mw_X3_says rfl (tc_says (zl Z) (zE Z) _ _ _ _ (_) (by first | exact h11 | exact hl0) (by first | (simp only [List.length_append, List.length_singleton]; omega) | omega)) q3063 hR (by decide) (by simp [Value.category]) dX3_saysNumber_22 (fun τ22_0 wτ22_0 => ?_)
    obtain ⟨qτ22_0, h22⟩ := wτ22_0
    have xτ22_0 : eqx [23, 24] σ τ22_0 := eqx_tr x0 (eqx_mono qτ22_0 (by decide))
    exact zi_return hrt dX3_saysNumber_25 (hret _ ⟨xτ22_0, by unfold nmO; first | (rw [if_pos (by omega)]; simpa only [List.append_assoc, List.cons_append, List.nil_append] using h22) | (rw [if_neg (by omega)]; exact h22)⟩)
  · refine zi_aload_n dX3_saysNumber_6 rfl ?_
    refine zi_iload_n dX3_saysNumber_7 rfl ?_
    refine zi_bipush dX3_saysNumber_8 (by decide +kernel) ?_
    refine zi_idiv dX3_saysNumber_10 (by omega) ?_
    refine zt_Vv1 mw_X3_saysNumber rfl (tc_saysNumber_0 (zl Z) (zE Z) _ _ _ _ (_) (hl0) (by omega) (by omega)) q3059 hR (by decide) (by simp [Value.category]) dX3_saysNumber_11 (fun τ11_1 wτ11_1 => ?_)
    obtain ⟨qτ11_1, h11⟩ := wτ11_1
    have xτ11_1 : eqx [23, 24] σ τ11_1 := eqx_tr x0 (eqx_mono qτ11_1 (by decide))
    refine zi_aload_n dX3_saysNumber_14 rfl ?_
    refine zi_bipush dX3_saysNumber_15 (by decide +kernel) ?_
    refine zi_iload_n dX3_saysNumber_17 rfl ?_
    refine zi_bipush dX3_saysNumber_18 (by decide +kernel) ?_
    refine zi_irem dX3_saysNumber_20 (by omega) ?_
    refine zi_iadd dX3_saysNumber_21 ?_
    refine zt_Vv1 mw_X3_says rfl (tc_says (zl Z) (zE Z) _ _ _ _ (_) (by first | exact h11 | exact hl0) (by first | (simp only [List.length_append, List.length_singleton]; omega) | omega)) q3063 hR (by decide) (by simp [Value.category]) dX3_saysNumber_22 (fun τ22_3 wτ22_3 => ?_)
    obtain ⟨qτ22_3, h22_2⟩ := wτ22_3
    have xτ22_3 : eqx [23, 24] σ τ22_3 := eqx_tr xτ11_1 (eqx_mono qτ22_3 (by decide))
    exact zi_return hrt dX3_saysNumber_25 (hret _ ⟨xτ22_3, by unfold nmO; first | (rw [if_pos (by omega)]; simpa only [List.append_assoc, List.cons_append, List.nil_append] using h22_2) | (rw [if_neg (by omega)]; exact h22_2)⟩)
theorem mw_X3_saysWord : MWV yX3_saysWord cX3_saysWord 3 none 1 := ⟨q3075, qs116, q128, q3076, by decide, by decide +kernel, by decide +kernel, by decide +kernel⟩
set_option maxHeartbeats 4000000 in
theorem tc_saysWord_1 (l : Launch) (E : ZE) (o : Nat) (ad : Nat → Nat) (σ : TS) (x : Int) (l0 : List Int) (hl0 : OutS σ l0) (hn : l0.length ≤ 59) (w : List Int) (hw : w.length = 1) (hL : ∀ c ∈ w, isLt c) (hx : x = cdW w 0) : TCv l yX3_saysWord (ws_ yX3_saysWord cX3_saysWord 3 none) 2 E o ad σ [.ref o, jL x] (fun τ => eqx [23, 24] σ τ ∧ (OutS τ (l0 ++ w))) := by
  refine tcv_of (own := RX3) (cc := cX3_saysWord) (L := [some (.ref o), some (jL x), none]) (by decide) rfl rfl (Nat.le_of_ble_eq_true rfl) (fun Z hE hl hrt hR hm hret => ?_)
  subst hE
  have x0 : eqx [23, 24] σ σ := eqx_rf
  obtain ⟨w2, c, hw1, hw2⟩ := lst_cat hw
  subst hw1
  have hc := hL c (by simp)
  have hL2 : ∀ y ∈ w2, isLt y := fun y hy => hL y (by simp [hy])
  obtain ⟨q1, q2, q3, q4⟩ := cdW_cat hc hL2
  have q5 := cdW_u (w := w2) (by omega) hL2
  unfold isLt at hc
  have q6 : cdW w2 0 = 0 := by rw [List.eq_nil_of_length_eq_zero hw2]; rfl
  refine zi_lload_n dX3_saysWord_0 rfl ?_
  refine zi_ldc2 (m := 27) dX3_saysWord_1 q2561 (by decide +kernel) ?_
  refine zi_lcmp_lt 17 dX3_saysWord_4 dX3_saysWord_5 (by decide) (by omega) (fun c4 => ?_) (fun c4 => ?_)
  · refine zi_aload_n dX3_saysWord_17 rfl ?_
    refine zi_bipush dX3_saysWord_18 (by decide +kernel) ?_
    refine zi_lload_n dX3_saysWord_20 rfl ?_
    refine zi_ldc2 (m := 27) dX3_saysWord_21 q2561 (by decide +kernel) ?_
    refine zi_lrem dX3_saysWord_24 (by omega) ?_
    refine zi_l2i dX3_saysWord_25 ?_
    refine zi_iadd dX3_saysWord_26 ?_
    refine zt_Vv1 mw_X3_says rfl (tc_says (zl Z) (zE Z) _ _ _ _ (_) (by first | exact h14 | exact hl0) (by first | (simp only [List.length_append]; omega) | omega)) q3063 hR (by decide) (by simp [Value.category]) dX3_saysWord_27 (fun τ27_0 wτ27_0 => ?_)
    obtain ⟨qτ27_0, h27⟩ := wτ27_0
    have xτ27_0 : eqx [23, 24] σ τ27_0 := eqx_tr x0 (eqx_mono qτ27_0 (by decide))
    refine zi_return hrt dX3_saysWord_30 (hret _ ⟨xτ27_0, ?_⟩)
    · have e : 96 + x % 27 = c := by omega
      rw [e] at h27
      rw [List.eq_nil_of_length_eq_zero hw2]; exact h27
  · exact absurd c4 (by omega)
set_option maxHeartbeats 4000000 in
theorem tc_saysWord_2 (l : Launch) (E : ZE) (o : Nat) (ad : Nat → Nat) (σ : TS) (x : Int) (l0 : List Int) (hl0 : OutS σ l0) (hn : l0.length ≤ 58) (w : List Int) (hw : w.length = 2) (hL : ∀ c ∈ w, isLt c) (hx : x = cdW w 0) : TCv l yX3_saysWord (ws_ yX3_saysWord cX3_saysWord 3 none) 3 E o ad σ [.ref o, jL x] (fun τ => eqx [23, 24] σ τ ∧ (OutS τ (l0 ++ w))) := by
  refine tcv_of (own := RX3) (cc := cX3_saysWord) (L := [some (.ref o), some (jL x), none]) (by decide) rfl rfl (Nat.le_of_ble_eq_true rfl) (fun Z hE hl hrt hR hm hret => ?_)
  subst hE
  have x0 : eqx [23, 24] σ σ := eqx_rf
  obtain ⟨w2, c, hw1, hw2⟩ := lst_cat hw
  subst hw1
  have hc := hL c (by simp)
  have hL2 : ∀ y ∈ w2, isLt y := fun y hy => hL y (by simp [hy])
  obtain ⟨q1, q2, q3, q4⟩ := cdW_cat hc hL2
  have q5 := cdW_u (w := w2) (by omega) hL2
  unfold isLt at hc
  have q6 := cdW_1 (w2 := w2) (by omega) hL2
  refine zi_lload_n dX3_saysWord_0 rfl ?_
  refine zi_ldc2 (m := 27) dX3_saysWord_1 q2561 (by decide +kernel) ?_
  refine zi_lcmp_lt 17 dX3_saysWord_4 dX3_saysWord_5 (by decide) (by omega) (fun c4 => ?_) (fun c4 => ?_)
  · exact absurd c4 (by omega)
  · refine zi_aload_n dX3_saysWord_8 rfl ?_
    refine zi_lload_n dX3_saysWord_9 rfl ?_
    refine zi_ldc2 (m := 27) dX3_saysWord_10 q2561 (by decide +kernel) ?_
    refine zi_ldiv dX3_saysWord_13 (by omega) ?_
    refine zt_Vv1 mw_X3_saysWord rfl (tc_saysWord_1 (zl Z) (zE Z) _ _ _ _ (_) (hl0) (by omega) (w2) (hw2) (hL2) (by rw [hx, q3])) q3073 hR (by decide) (by simp [Value.category]) dX3_saysWord_14 (fun τ14_0 wτ14_0 => ?_)
    obtain ⟨qτ14_0, h14⟩ := wτ14_0
    have xτ14_0 : eqx [23, 24] σ τ14_0 := eqx_tr x0 (eqx_mono qτ14_0 (by decide))
    refine zi_aload_n dX3_saysWord_17 rfl ?_
    refine zi_bipush dX3_saysWord_18 (by decide +kernel) ?_
    refine zi_lload_n dX3_saysWord_20 rfl ?_
    refine zi_ldc2 (m := 27) dX3_saysWord_21 q2561 (by decide +kernel) ?_
    refine zi_lrem dX3_saysWord_24 (by omega) ?_
    refine zi_l2i dX3_saysWord_25 ?_
    refine zi_iadd dX3_saysWord_26 ?_
    refine zt_Vv1 mw_X3_says rfl (tc_says (zl Z) (zE Z) _ _ _ _ (_) (by first | exact h14 | exact hl0) (by first | (simp only [List.length_append]; omega) | omega)) q3063 hR (by decide) (by simp [Value.category]) dX3_saysWord_27 (fun τ27_1 wτ27_1 => ?_)
    obtain ⟨qτ27_1, h27⟩ := wτ27_1
    have xτ27_1 : eqx [23, 24] σ τ27_1 := eqx_tr xτ14_0 (eqx_mono qτ27_1 (by decide))
    refine zi_return hrt dX3_saysWord_30 (hret _ ⟨xτ27_1, ?_⟩)
    · have e : 96 + x % 27 = c := by omega
      rw [e] at h27
      first
        | exact absurd c4 (by omega)
        | simpa only [List.append_assoc] using h27
set_option maxHeartbeats 4000000 in
theorem tc_saysWord_3 (l : Launch) (E : ZE) (o : Nat) (ad : Nat → Nat) (σ : TS) (x : Int) (l0 : List Int) (hl0 : OutS σ l0) (hn : l0.length ≤ 57) (w : List Int) (hw : w.length = 3) (hL : ∀ c ∈ w, isLt c) (hx : x = cdW w 0) : TCv l yX3_saysWord (ws_ yX3_saysWord cX3_saysWord 3 none) 4 E o ad σ [.ref o, jL x] (fun τ => eqx [23, 24] σ τ ∧ (OutS τ (l0 ++ w))) := by
  refine tcv_of (own := RX3) (cc := cX3_saysWord) (L := [some (.ref o), some (jL x), none]) (by decide) rfl rfl (Nat.le_of_ble_eq_true rfl) (fun Z hE hl hrt hR hm hret => ?_)
  subst hE
  have x0 : eqx [23, 24] σ σ := eqx_rf
  obtain ⟨w2, c, hw1, hw2⟩ := lst_cat hw
  subst hw1
  have hc := hL c (by simp)
  have hL2 : ∀ y ∈ w2, isLt y := fun y hy => hL y (by simp [hy])
  obtain ⟨q1, q2, q3, q4⟩ := cdW_cat hc hL2
  have q5 := cdW_u (w := w2) (by omega) hL2
  unfold isLt at hc
  have q6 := cdW_1 (w2 := w2) (by omega) hL2
  refine zi_lload_n dX3_saysWord_0 rfl ?_
  refine zi_ldc2 (m := 27) dX3_saysWord_1 q2561 (by decide +kernel) ?_
  refine zi_lcmp_lt 17 dX3_saysWord_4 dX3_saysWord_5 (by decide) (by omega) (fun c4 => ?_) (fun c4 => ?_)
  · exact absurd c4 (by omega)
  · refine zi_aload_n dX3_saysWord_8 rfl ?_
    refine zi_lload_n dX3_saysWord_9 rfl ?_
    refine zi_ldc2 (m := 27) dX3_saysWord_10 q2561 (by decide +kernel) ?_
    refine zi_ldiv dX3_saysWord_13 (by omega) ?_
    refine zt_Vv1 mw_X3_saysWord rfl (tc_saysWord_2 (zl Z) (zE Z) _ _ _ _ (_) (hl0) (by omega) (w2) (hw2) (hL2) (by rw [hx, q3])) q3073 hR (by decide) (by simp [Value.category]) dX3_saysWord_14 (fun τ14_0 wτ14_0 => ?_)
    obtain ⟨qτ14_0, h14⟩ := wτ14_0
    have xτ14_0 : eqx [23, 24] σ τ14_0 := eqx_tr x0 (eqx_mono qτ14_0 (by decide))
    refine zi_aload_n dX3_saysWord_17 rfl ?_
    refine zi_bipush dX3_saysWord_18 (by decide +kernel) ?_
    refine zi_lload_n dX3_saysWord_20 rfl ?_
    refine zi_ldc2 (m := 27) dX3_saysWord_21 q2561 (by decide +kernel) ?_
    refine zi_lrem dX3_saysWord_24 (by omega) ?_
    refine zi_l2i dX3_saysWord_25 ?_
    refine zi_iadd dX3_saysWord_26 ?_
    refine zt_Vv1 mw_X3_says rfl (tc_says (zl Z) (zE Z) _ _ _ _ (_) (by first | exact h14 | exact hl0) (by first | (simp only [List.length_append]; omega) | omega)) q3063 hR (by decide) (by simp [Value.category]) dX3_saysWord_27 (fun τ27_1 wτ27_1 => ?_)
    obtain ⟨qτ27_1, h27⟩ := wτ27_1
    have xτ27_1 : eqx [23, 24] σ τ27_1 := eqx_tr xτ14_0 (eqx_mono qτ27_1 (by decide))
    refine zi_return hrt dX3_saysWord_30 (hret _ ⟨xτ27_1, ?_⟩)
    · have e : 96 + x % 27 = c := by omega
      rw [e] at h27
      first
        | exact absurd c4 (by omega)
        | simpa only [List.append_assoc] using h27
set_option maxHeartbeats 4000000 in
theorem tc_saysWord_4 (l : Launch) (E : ZE) (o : Nat) (ad : Nat → Nat) (σ : TS) (x : Int) (l0 : List Int) (hl0 : OutS σ l0) (hn : l0.length ≤ 56) (w : List Int) (hw : w.length = 4) (hL : ∀ c ∈ w, isLt c) (hx : x = cdW w 0) : TCv l yX3_saysWord (ws_ yX3_saysWord cX3_saysWord 3 none) 5 E o ad σ [.ref o, jL x] (fun τ => eqx [23, 24] σ τ ∧ (OutS τ (l0 ++ w))) := by
  refine tcv_of (own := RX3) (cc := cX3_saysWord) (L := [some (.ref o), some (jL x), none]) (by decide) rfl rfl (Nat.le_of_ble_eq_true rfl) (fun Z hE hl hrt hR hm hret => ?_)
  subst hE
  have x0 : eqx [23, 24] σ σ := eqx_rf
  obtain ⟨w2, c, hw1, hw2⟩ := lst_cat hw
  subst hw1
  have hc := hL c (by simp)
  have hL2 : ∀ y ∈ w2, isLt y := fun y hy => hL y (by simp [hy])
  obtain ⟨q1, q2, q3, q4⟩ := cdW_cat hc hL2
  have q5 := cdW_u (w := w2) (by omega) hL2
  unfold isLt at hc
  have q6 := cdW_1 (w2 := w2) (by omega) hL2
  refine zi_lload_n dX3_saysWord_0 rfl ?_
  refine zi_ldc2 (m := 27) dX3_saysWord_1 q2561 (by decide +kernel) ?_
  refine zi_lcmp_lt 17 dX3_saysWord_4 dX3_saysWord_5 (by decide) (by omega) (fun c4 => ?_) (fun c4 => ?_)
  · exact absurd c4 (by omega)
  · refine zi_aload_n dX3_saysWord_8 rfl ?_
    refine zi_lload_n dX3_saysWord_9 rfl ?_
    refine zi_ldc2 (m := 27) dX3_saysWord_10 q2561 (by decide +kernel) ?_
    refine zi_ldiv dX3_saysWord_13 (by omega) ?_
    refine zt_Vv1 mw_X3_saysWord rfl (tc_saysWord_3 (zl Z) (zE Z) _ _ _ _ (_) (hl0) (by omega) (w2) (hw2) (hL2) (by rw [hx, q3])) q3073 hR (by decide) (by simp [Value.category]) dX3_saysWord_14 (fun τ14_0 wτ14_0 => ?_)
    obtain ⟨qτ14_0, h14⟩ := wτ14_0
    have xτ14_0 : eqx [23, 24] σ τ14_0 := eqx_tr x0 (eqx_mono qτ14_0 (by decide))
    refine zi_aload_n dX3_saysWord_17 rfl ?_
    refine zi_bipush dX3_saysWord_18 (by decide +kernel) ?_
    refine zi_lload_n dX3_saysWord_20 rfl ?_
    refine zi_ldc2 (m := 27) dX3_saysWord_21 q2561 (by decide +kernel) ?_
    refine zi_lrem dX3_saysWord_24 (by omega) ?_
    refine zi_l2i dX3_saysWord_25 ?_
    refine zi_iadd dX3_saysWord_26 ?_
    refine zt_Vv1 mw_X3_says rfl (tc_says (zl Z) (zE Z) _ _ _ _ (_) (by first | exact h14 | exact hl0) (by first | (simp only [List.length_append]; omega) | omega)) q3063 hR (by decide) (by simp [Value.category]) dX3_saysWord_27 (fun τ27_1 wτ27_1 => ?_)
    obtain ⟨qτ27_1, h27⟩ := wτ27_1
    have xτ27_1 : eqx [23, 24] σ τ27_1 := eqx_tr xτ14_0 (eqx_mono qτ27_1 (by decide))
    refine zi_return hrt dX3_saysWord_30 (hret _ ⟨xτ27_1, ?_⟩)
    · have e : 96 + x % 27 = c := by omega
      rw [e] at h27
      first
        | exact absurd c4 (by omega)
        | simpa only [List.append_assoc] using h27
set_option maxHeartbeats 4000000 in
theorem tc_saysWord_5 (l : Launch) (E : ZE) (o : Nat) (ad : Nat → Nat) (σ : TS) (x : Int) (l0 : List Int) (hl0 : OutS σ l0) (hn : l0.length ≤ 55) (w : List Int) (hw : w.length = 5) (hL : ∀ c ∈ w, isLt c) (hx : x = cdW w 0) : TCv l yX3_saysWord (ws_ yX3_saysWord cX3_saysWord 3 none) 6 E o ad σ [.ref o, jL x] (fun τ => eqx [23, 24] σ τ ∧ (OutS τ (l0 ++ w))) := by
  refine tcv_of (own := RX3) (cc := cX3_saysWord) (L := [some (.ref o), some (jL x), none]) (by decide) rfl rfl (Nat.le_of_ble_eq_true rfl) (fun Z hE hl hrt hR hm hret => ?_)
  subst hE
  have x0 : eqx [23, 24] σ σ := eqx_rf
  obtain ⟨w2, c, hw1, hw2⟩ := lst_cat hw
  subst hw1
  have hc := hL c (by simp)
  have hL2 : ∀ y ∈ w2, isLt y := fun y hy => hL y (by simp [hy])
  obtain ⟨q1, q2, q3, q4⟩ := cdW_cat hc hL2
  have q5 := cdW_u (w := w2) (by omega) hL2
  unfold isLt at hc
  have q6 := cdW_1 (w2 := w2) (by omega) hL2
  refine zi_lload_n dX3_saysWord_0 rfl ?_
  refine zi_ldc2 (m := 27) dX3_saysWord_1 q2561 (by decide +kernel) ?_
  refine zi_lcmp_lt 17 dX3_saysWord_4 dX3_saysWord_5 (by decide) (by omega) (fun c4 => ?_) (fun c4 => ?_)
  · exact absurd c4 (by omega)
  · refine zi_aload_n dX3_saysWord_8 rfl ?_
    refine zi_lload_n dX3_saysWord_9 rfl ?_
    refine zi_ldc2 (m := 27) dX3_saysWord_10 q2561 (by decide +kernel) ?_
    refine zi_ldiv dX3_saysWord_13 (by omega) ?_
    refine zt_Vv1 mw_X3_saysWord rfl (tc_saysWord_4 (zl Z) (zE Z) _ _ _ _ (_) (hl0) (by omega) (w2) (hw2) (hL2) (by rw [hx, q3])) q3073 hR (by decide) (by simp [Value.category]) dX3_saysWord_14 (fun τ14_0 wτ14_0 => ?_)
    obtain ⟨qτ14_0, h14⟩ := wτ14_0
    have xτ14_0 : eqx [23, 24] σ τ14_0 := eqx_tr x0 (eqx_mono qτ14_0 (by decide))
    refine zi_aload_n dX3_saysWord_17 rfl ?_
    refine zi_bipush dX3_saysWord_18 (by decide +kernel) ?_
    refine zi_lload_n dX3_saysWord_20 rfl ?_
    refine zi_ldc2 (m := 27) dX3_saysWord_21 q2561 (by decide +kernel) ?_
    refine zi_lrem dX3_saysWord_24 (by omega) ?_
    refine zi_l2i dX3_saysWord_25 ?_
    refine zi_iadd dX3_saysWord_26 ?_
    refine zt_Vv1 mw_X3_says rfl (tc_says (zl Z) (zE Z) _ _ _ _ (_) (by first | exact h14 | exact hl0) (by first | (simp only [List.length_append]; omega) | omega)) q3063 hR (by decide) (by simp [Value.category]) dX3_saysWord_27 (fun τ27_1 wτ27_1 => ?_)
    obtain ⟨qτ27_1, h27⟩ := wτ27_1
    have xτ27_1 : eqx [23, 24] σ τ27_1 := eqx_tr xτ14_0 (eqx_mono qτ27_1 (by decide))
    refine zi_return hrt dX3_saysWord_30 (hret _ ⟨xτ27_1, ?_⟩)
    · have e : 96 + x % 27 = c := by omega
      rw [e] at h27
      first
        | exact absurd c4 (by omega)
        | simpa only [List.append_assoc] using h27
set_option maxHeartbeats 4000000 in
theorem tc_saysWord_6 (l : Launch) (E : ZE) (o : Nat) (ad : Nat → Nat) (σ : TS) (x : Int) (l0 : List Int) (hl0 : OutS σ l0) (hn : l0.length ≤ 54) (w : List Int) (hw : w.length = 6) (hL : ∀ c ∈ w, isLt c) (hx : x = cdW w 0) : TCv l yX3_saysWord (ws_ yX3_saysWord cX3_saysWord 3 none) 7 E o ad σ [.ref o, jL x] (fun τ => eqx [23, 24] σ τ ∧ (OutS τ (l0 ++ w))) := by
  refine tcv_of (own := RX3) (cc := cX3_saysWord) (L := [some (.ref o), some (jL x), none]) (by decide) rfl rfl (Nat.le_of_ble_eq_true rfl) (fun Z hE hl hrt hR hm hret => ?_)
  subst hE
  have x0 : eqx [23, 24] σ σ := eqx_rf
  obtain ⟨w2, c, hw1, hw2⟩ := lst_cat hw
  subst hw1
  have hc := hL c (by simp)
  have hL2 : ∀ y ∈ w2, isLt y := fun y hy => hL y (by simp [hy])
  obtain ⟨q1, q2, q3, q4⟩ := cdW_cat hc hL2
  have q5 := cdW_u (w := w2) (by omega) hL2
  unfold isLt at hc
  have q6 := cdW_1 (w2 := w2) (by omega) hL2
  refine zi_lload_n dX3_saysWord_0 rfl ?_
  refine zi_ldc2 (m := 27) dX3_saysWord_1 q2561 (by decide +kernel) ?_
  refine zi_lcmp_lt 17 dX3_saysWord_4 dX3_saysWord_5 (by decide) (by omega) (fun c4 => ?_) (fun c4 => ?_)
  · exact absurd c4 (by omega)
  · refine zi_aload_n dX3_saysWord_8 rfl ?_
    refine zi_lload_n dX3_saysWord_9 rfl ?_
    refine zi_ldc2 (m := 27) dX3_saysWord_10 q2561 (by decide +kernel) ?_
    refine zi_ldiv dX3_saysWord_13 (by omega) ?_
    refine zt_Vv1 mw_X3_saysWord rfl (tc_saysWord_5 (zl Z) (zE Z) _ _ _ _ (_) (hl0) (by omega) (w2) (hw2) (hL2) (by rw [hx, q3])) q3073 hR (by decide) (by simp [Value.category]) dX3_saysWord_14 (fun τ14_0 wτ14_0 => ?_)
    obtain ⟨qτ14_0, h14⟩ := wτ14_0
    have xτ14_0 : eqx [23, 24] σ τ14_0 := eqx_tr x0 (eqx_mono qτ14_0 (by decide))
    refine zi_aload_n dX3_saysWord_17 rfl ?_
    refine zi_bipush dX3_saysWord_18 (by decide +kernel) ?_
    refine zi_lload_n dX3_saysWord_20 rfl ?_
    refine zi_ldc2 (m := 27) dX3_saysWord_21 q2561 (by decide +kernel) ?_
    refine zi_lrem dX3_saysWord_24 (by omega) ?_
    refine zi_l2i dX3_saysWord_25 ?_
    refine zi_iadd dX3_saysWord_26 ?_
    refine zt_Vv1 mw_X3_says rfl (tc_says (zl Z) (zE Z) _ _ _ _ (_) (by first | exact h14 | exact hl0) (by first | (simp only [List.length_append]; omega) | omega)) q3063 hR (by decide) (by simp [Value.category]) dX3_saysWord_27 (fun τ27_1 wτ27_1 => ?_)
    obtain ⟨qτ27_1, h27⟩ := wτ27_1
    have xτ27_1 : eqx [23, 24] σ τ27_1 := eqx_tr xτ14_0 (eqx_mono qτ27_1 (by decide))
    refine zi_return hrt dX3_saysWord_30 (hret _ ⟨xτ27_1, ?_⟩)
    · have e : 96 + x % 27 = c := by omega
      rw [e] at h27
      first
        | exact absurd c4 (by omega)
        | simpa only [List.append_assoc] using h27
set_option maxHeartbeats 4000000 in
theorem tc_saysWord_7 (l : Launch) (E : ZE) (o : Nat) (ad : Nat → Nat) (σ : TS) (x : Int) (l0 : List Int) (hl0 : OutS σ l0) (hn : l0.length ≤ 53) (w : List Int) (hw : w.length = 7) (hL : ∀ c ∈ w, isLt c) (hx : x = cdW w 0) : TCv l yX3_saysWord (ws_ yX3_saysWord cX3_saysWord 3 none) 8 E o ad σ [.ref o, jL x] (fun τ => eqx [23, 24] σ τ ∧ (OutS τ (l0 ++ w))) := by
  refine tcv_of (own := RX3) (cc := cX3_saysWord) (L := [some (.ref o), some (jL x), none]) (by decide) rfl rfl (Nat.le_of_ble_eq_true rfl) (fun Z hE hl hrt hR hm hret => ?_)
  subst hE
  have x0 : eqx [23, 24] σ σ := eqx_rf
  obtain ⟨w2, c, hw1, hw2⟩ := lst_cat hw
  subst hw1
  have hc := hL c (by simp)
  have hL2 : ∀ y ∈ w2, isLt y := fun y hy => hL y (by simp [hy])
  obtain ⟨q1, q2, q3, q4⟩ := cdW_cat hc hL2
  have q5 := cdW_u (w := w2) (by omega) hL2
  unfold isLt at hc
  have q6 := cdW_1 (w2 := w2) (by omega) hL2
  refine zi_lload_n dX3_saysWord_0 rfl ?_
  refine zi_ldc2 (m := 27) dX3_saysWord_1 q2561 (by decide +kernel) ?_
  refine zi_lcmp_lt 17 dX3_saysWord_4 dX3_saysWord_5 (by decide) (by omega) (fun c4 => ?_) (fun c4 => ?_)
  · exact absurd c4 (by omega)
  · refine zi_aload_n dX3_saysWord_8 rfl ?_
    refine zi_lload_n dX3_saysWord_9 rfl ?_
    refine zi_ldc2 (m := 27) dX3_saysWord_10 q2561 (by decide +kernel) ?_
    refine zi_ldiv dX3_saysWord_13 (by omega) ?_
    refine zt_Vv1 mw_X3_saysWord rfl (tc_saysWord_6 (zl Z) (zE Z) _ _ _ _ (_) (hl0) (by omega) (w2) (hw2) (hL2) (by rw [hx, q3])) q3073 hR (by decide) (by simp [Value.category]) dX3_saysWord_14 (fun τ14_0 wτ14_0 => ?_)
    obtain ⟨qτ14_0, h14⟩ := wτ14_0
    have xτ14_0 : eqx [23, 24] σ τ14_0 := eqx_tr x0 (eqx_mono qτ14_0 (by decide))
    refine zi_aload_n dX3_saysWord_17 rfl ?_
    refine zi_bipush dX3_saysWord_18 (by decide +kernel) ?_
    refine zi_lload_n dX3_saysWord_20 rfl ?_
    refine zi_ldc2 (m := 27) dX3_saysWord_21 q2561 (by decide +kernel) ?_
    refine zi_lrem dX3_saysWord_24 (by omega) ?_
    refine zi_l2i dX3_saysWord_25 ?_
    refine zi_iadd dX3_saysWord_26 ?_
    refine zt_Vv1 mw_X3_says rfl (tc_says (zl Z) (zE Z) _ _ _ _ (_) (by first | exact h14 | exact hl0) (by first | (simp only [List.length_append]; omega) | omega)) q3063 hR (by decide) (by simp [Value.category]) dX3_saysWord_27 (fun τ27_1 wτ27_1 => ?_)
    obtain ⟨qτ27_1, h27⟩ := wτ27_1
    have xτ27_1 : eqx [23, 24] σ τ27_1 := eqx_tr xτ14_0 (eqx_mono qτ27_1 (by decide))
    refine zi_return hrt dX3_saysWord_30 (hret _ ⟨xτ27_1, ?_⟩)
    · have e : 96 + x % 27 = c := by omega
      rw [e] at h27
      first
        | exact absurd c4 (by omega)
        | simpa only [List.append_assoc] using h27
set_option maxHeartbeats 4000000 in
theorem tc_saysWord_8 (l : Launch) (E : ZE) (o : Nat) (ad : Nat → Nat) (σ : TS) (x : Int) (l0 : List Int) (hl0 : OutS σ l0) (hn : l0.length ≤ 52) (w : List Int) (hw : w.length = 8) (hL : ∀ c ∈ w, isLt c) (hx : x = cdW w 0) : TCv l yX3_saysWord (ws_ yX3_saysWord cX3_saysWord 3 none) 9 E o ad σ [.ref o, jL x] (fun τ => eqx [23, 24] σ τ ∧ (OutS τ (l0 ++ w))) := by
  refine tcv_of (own := RX3) (cc := cX3_saysWord) (L := [some (.ref o), some (jL x), none]) (by decide) rfl rfl (Nat.le_of_ble_eq_true rfl) (fun Z hE hl hrt hR hm hret => ?_)
  subst hE
  have x0 : eqx [23, 24] σ σ := eqx_rf
  obtain ⟨w2, c, hw1, hw2⟩ := lst_cat hw
  subst hw1
  have hc := hL c (by simp)
  have hL2 : ∀ y ∈ w2, isLt y := fun y hy => hL y (by simp [hy])
  obtain ⟨q1, q2, q3, q4⟩ := cdW_cat hc hL2
  have q5 := cdW_u (w := w2) (by omega) hL2
  unfold isLt at hc
  have q6 := cdW_1 (w2 := w2) (by omega) hL2
  refine zi_lload_n dX3_saysWord_0 rfl ?_
  refine zi_ldc2 (m := 27) dX3_saysWord_1 q2561 (by decide +kernel) ?_
  refine zi_lcmp_lt 17 dX3_saysWord_4 dX3_saysWord_5 (by decide) (by omega) (fun c4 => ?_) (fun c4 => ?_)
  · exact absurd c4 (by omega)
  · refine zi_aload_n dX3_saysWord_8 rfl ?_
    refine zi_lload_n dX3_saysWord_9 rfl ?_
    refine zi_ldc2 (m := 27) dX3_saysWord_10 q2561 (by decide +kernel) ?_
    refine zi_ldiv dX3_saysWord_13 (by omega) ?_
    refine zt_Vv1 mw_X3_saysWord rfl (tc_saysWord_7 (zl Z) (zE Z) _ _ _ _ (_) (hl0) (by omega) (w2) (hw2) (hL2) (by rw [hx, q3])) q3073 hR (by decide) (by simp [Value.category]) dX3_saysWord_14 (fun τ14_0 wτ14_0 => ?_)
    obtain ⟨qτ14_0, h14⟩ := wτ14_0
    have xτ14_0 : eqx [23, 24] σ τ14_0 := eqx_tr x0 (eqx_mono qτ14_0 (by decide))
    refine zi_aload_n dX3_saysWord_17 rfl ?_
    refine zi_bipush dX3_saysWord_18 (by decide +kernel) ?_
    refine zi_lload_n dX3_saysWord_20 rfl ?_
    refine zi_ldc2 (m := 27) dX3_saysWord_21 q2561 (by decide +kernel) ?_
    refine zi_lrem dX3_saysWord_24 (by omega) ?_
    refine zi_l2i dX3_saysWord_25 ?_
    refine zi_iadd dX3_saysWord_26 ?_
    refine zt_Vv1 mw_X3_says rfl (tc_says (zl Z) (zE Z) _ _ _ _ (_) (by first | exact h14 | exact hl0) (by first | (simp only [List.length_append]; omega) | omega)) q3063 hR (by decide) (by simp [Value.category]) dX3_saysWord_27 (fun τ27_1 wτ27_1 => ?_)
    obtain ⟨qτ27_1, h27⟩ := wτ27_1
    have xτ27_1 : eqx [23, 24] σ τ27_1 := eqx_tr xτ14_0 (eqx_mono qτ27_1 (by decide))
    refine zi_return hrt dX3_saysWord_30 (hret _ ⟨xτ27_1, ?_⟩)
    · have e : 96 + x % 27 = c := by omega
      rw [e] at h27
      first
        | exact absurd c4 (by omega)
        | simpa only [List.append_assoc] using h27
