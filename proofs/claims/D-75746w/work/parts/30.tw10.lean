/-! THE REFERENCE: statements, two -/
set_option maxRecDepth 100000
theorem mw_X3_personStatement : MWV yX3_personStatement cX3_personStatement 2 (some Jvm.ClassFile.FieldType.boolean) 0 := ⟨q2613, qs54, q128, q2614, by decide, by decide +kernel, by decide +kernel, by decide +kernel⟩
set_option maxHeartbeats 4000000 in
theorem tc_personStatement (l : Launch) (E : ZE) (o : Nat) (ad : Nat → Nat) (σ : TS) (a : Int → Int) (ha : σ 0 = a) (B : Int → Int) (bn : Int) (t : TkS) (hB : BOk B bn) (ht : TkT σ B bn t) (hk : TkOk bn t) (hpk : PkA a) : TCi l yX3_personStatement (ws_ yX3_personStatement cX3_personStatement 2 (some Jvm.ClassFile.FieldType.boolean)) 5 E o ad σ [.ref o] (fun τ v => eqx [0, 11, 12, 13, 14, 15, 16, 17] σ τ ∧ (PRT σ B bn (perS B bn (a, t)) v τ)) := by
  refine tci_of (own := RX3) (cc := cX3_personStatement) (L := [some (.ref o), none]) (by decide) rfl rfl (Nat.le_of_ble_eq_true rfl) (fun Z hE hl hrt hR hm hret => ?_)
  subst hE
  have x0 : eqx [0, 11, 12, 13, 14, 15, 16, 17] σ σ := eqx_rf
  have hk1 := hk.1
  have hk2 := hk.2.1
  have hc := hpk.1
  refine zi_bipush dX3_personStatement_0 (by decide +kernel) ?_
  refine zi_iconst dX3_personStatement_2 ?_
  refine zi_aload_n dX3_personStatement_3 rfl ?_
  refine zt_g0 q2431 dX3_personStatement_4 ?_
  refine zi_bipush dX3_personStatement_7 (by decide +kernel) ?_
  refine zt_ld0 dX3_personStatement_9 (ha) (by omega) ?_
  refine zi_l2i dX3_personStatement_10 ?_
  refine zi_imul dX3_personStatement_11 ?_
  refine zi_iadd dX3_personStatement_12 ?_
  refine zi_istore_1 dX3_personStatement_13 hm (by decide) rfl ?_
  refine zi_aload_n dX3_personStatement_14 rfl ?_
  refine zt_g0 q2431 dX3_personStatement_15 ?_
  refine zi_bipush dX3_personStatement_18 (by decide +kernel) ?_
  refine zt_ld0 dX3_personStatement_20 (ha) (by omega) ?_
  refine zi_ldc2 (m := 5) dX3_personStatement_21 q2615 (by decide +kernel) ?_
  refine zi_lcmp_ne 34 dX3_personStatement_24 dX3_personStatement_25 (by decide) (by omega) (fun c24 => ?_) (fun c24 => ?_)
  · refine zi_aload_n dX3_personStatement_34 rfl ?_
    refine zt_Vi0 mw_X3_advance rfl (tc_advance (zl Z) (zE Z) _ _ _  (_) (_) (hB) (ht.1) (ht.2.1) (_) (ht.2.2.2.1) (by omega)) q2546 hR (by decide) (by simp [Value.category]) dX3_personStatement_35 (fun τ35_0 v35 wτ35_0 => ?_)
    obtain ⟨qτ35_0, h35⟩ := wτ35_0
    obtain ⟨eh35, h35⟩ := h35
    subst eh35
    have bsτ35_0 := Bs_q Bs_rf qτ35_0 (by decide) (by decide) (by decide)
    have xτ35_0 : eqx [0, 11, 12, 13, 14, 15, 16, 17] σ τ35_0 := eqx_tr x0 (eqx_mono qτ35_0 (by decide))
    have haτ35_0 := (qτ35_0 0 (by decide)).trans ha
    have k1 := (tkF_ok (B := B) (n := bn) (p := t.nx) (by omega) (by omega)).1
    have k1a := k1.1
    have k1b := k1.2.1
    refine zi_pop dX3_personStatement_38 rfl ?_
    refine zi_aload_n dX3_personStatement_39 rfl ?_
    refine zt_g13 q2444 dX3_personStatement_40 (h35.2.2.2.2.1) ?_
    refine zi_iconst dX3_personStatement_43 ?_
    refine zi_icmp_eq 53 dX3_personStatement_44 (by decide) (by omega) (fun c44 => ?_) (fun c44 => ?_)
    · have w1 := isWd_r (k1.2.2.2.2 (by omega))
      refine zi_aload_n dX3_personStatement_53 rfl ?_
      refine zi_aload_n dX3_personStatement_54 rfl ?_
      refine zt_g15 q2446 dX3_personStatement_55 (h35.2.2.2.2.2.2 (by omega)) ?_
      refine zt_PVi1 mw_X3_personNamed rfl (tc_personNamed (zl Z) (zE Z) _ _ _ _ (haτ35_0) _ (hpk) (by omega)) q2616 hR (by decide) (by simp [Value.category]) dX3_personStatement_58 (fun v58 h58 => ?_)
      refine zi_iconst dX3_personStatement_61 ?_
      refine zi_icmp_eq 71 dX3_personStatement_62 (by decide) (by omega) (fun c62 => ?_) (fun c62 => ?_)
      · have r0 := haτ35_0
        refine zi_aload_n dX3_personStatement_71 rfl ?_
        refine zt_g0 q2431 dX3_personStatement_72 ?_
        refine zi_iload_n dX3_personStatement_75 rfl ?_
        refine zi_aload_n dX3_personStatement_76 rfl ?_
        refine zt_g15 q2446 dX3_personStatement_77 (h35.2.2.2.2.2.2 (by omega)) ?_
        refine zt_st0 dX3_personStatement_80 (by omega) (fun τ80_1 eτ80_1 => ?_)
        have bsτ80_1 := Bs_0 bsτ35_0 eτ80_1 (by omega)
        have ntτ80_1 := TkT_u eτ80_1 h35 (by decide)
        have gτ80_1 := up_get eτ80_1
        have xτ80_1 : eqx [0, 11, 12, 13, 14, 15, 16, 17] σ τ80_1 := by rw [eτ80_1]; exact eqx_up xτ35_0 (by decide)
        have r1 : τ80_1 0 = zup a (10 + 2 * a 9) (tkF B bn t.nx).v := by funext j; rw [eτ80_1, up_s, r0]
        refine zi_aload_n dX3_personStatement_81 rfl ?_
        refine zt_Vi0 mw_X3_advance rfl (tc_advance (zl Z) (zE Z) _ _ _  (_) (_) (hB) (ntτ80_1.1) (ntτ80_1.2.1) (_) (ntτ80_1.2.2.2.1) (by omega)) q2546 hR (by decide) (by simp [Value.category]) dX3_personStatement_82 (fun τ82_2 v82 wτ82_2 => ?_)
        obtain ⟨qτ82_2, h82⟩ := wτ82_2
        obtain ⟨eh82, h82⟩ := h82
        subst eh82
        have bsτ82_2 := Bs_q bsτ80_1 qτ82_2 (by decide) (by decide) (by decide)
        have xτ82_2 : eqx [0, 11, 12, 13, 14, 15, 16, 17] σ τ82_2 := eqx_tr xτ80_1 (eqx_mono qτ82_2 (by decide))
        have haτ82_2 := (qτ82_2 0 (by decide)).trans r1
        have k2 := (tkF_ok (B := B) (n := bn) (p := (tkF B bn t.nx).nx) (by omega) (by omega)).1
        have k2a := k2.1
        have k2b := k2.2.1
        refine zi_pop dX3_personStatement_85 rfl ?_
        refine zi_aload_n dX3_personStatement_86 rfl ?_
        refine zi_iload_n dX3_personStatement_87 rfl ?_
        refine zi_iconst dX3_personStatement_88 ?_
        refine zi_iadd dX3_personStatement_89 ?_
        refine zi_iconst dX3_personStatement_90 ?_
        refine zi_sipush dX3_personStatement_91 (by decide +kernel) ?_
        refine zt_Vi3 mw_X3_number rfl (tc_number (zl Z) (zE Z) _ _ _ _ (haτ82_2) _ _ _ (_) (_) ((tkF B bn (tkF B bn t.nx).nx)) (hB) (h82) (k2) (by omega) (by omega) (by omega)) q2606 hR (by decide) (by simp [Value.category]) dX3_personStatement_94 (fun τ94_3 v94 wτ94_3 => ?_)
        obtain ⟨qτ94_3, h94⟩ := wτ94_3
        have xτ94_3 : eqx [0, 11, 12, 13, 14, 15, 16, 17] σ τ94_3 := eqx_tr xτ82_2 (eqx_mono qτ94_3 (by decide))
        refine zi_if_ne 102 dX3_personStatement_97 (by decide) (by have := PRT_01 h94; omega) (fun c97 => ?_) (fun c97 => ?_)
        · obtain ⟨_, sh94, rh94, ah94, nh94, bh94⟩ := PRT_t h94 c97
          have dh94 := Bs_tr bsτ82_2 bh94
          refine zi_aload_n dX3_personStatement_102 rfl ?_
          refine zt_g0 q2431 dX3_personStatement_103 ?_
          refine zi_bipush dX3_personStatement_106 (by decide +kernel) ?_
          refine zi_dup2 dX3_personStatement_108 rfl rfl ?_
          refine zt_ld0 dX3_personStatement_109 (ah94) (by omega) ?_
          refine zi_lconst (m := 1) dX3_personStatement_110 (by decide +kernel) ?_
          refine zi_ladd dX3_personStatement_111 ?_
          refine zt_st0 dX3_personStatement_112 (by omega) (fun τ112_4 eτ112_4 => ?_)
          have bsτ112_4 := Bs_0 dh94 eτ112_4 (by omega)
          have ntτ112_4 := TkT_u eτ112_4 nh94 (by decide)
          have gτ112_4 := up_get eτ112_4
          have xτ112_4 : eqx [0, 11, 12, 13, 14, 15, 16, 17] σ τ112_4 := by rw [eτ112_4]; exact eqx_up xτ94_3 (by decide)
          have r2 : τ112_4 0 = zup sh94.1 9 (sh94.1 9 + 1) := by funext j; rw [eτ112_4, up_s, ah94]
          refine zi_iconst dX3_personStatement_113 ?_
          exact zi_zreturn hrt (z_nb (Or.inr rfl)) dX3_personStatement_114 (hret _ _ ⟨xτ112_4, PRT_e (PRT_l (s := (zup sh94.1 9 (sh94.1 9 + 1), sh94.2)) r2 ntτ112_4 bsτ112_4) (by rw [perS_d c24 (by omega) (by omega), rh94, bnd_l])⟩)
        · obtain ⟨eh94, rh94, fh94⟩ := PRT_f h94 c97
          refine zi_iconst dX3_personStatement_100 ?_
          exact zi_zreturn hrt (z_nb (Or.inl rfl)) dX3_personStatement_101 (hret _ _ ⟨xτ94_3, PRT_e (PRT_r bsτ82_2 fh94) (by rw [perS_d c24 (by omega) (by omega), rh94, bnd_r])⟩)
      · refine zi_aload_n dX3_personStatement_65 rfl ?_
        refine zi_iconst dX3_personStatement_66 ?_
        refine zt_Vi1 mw_X3_fail rfl (tc_fail (zl Z) (zE Z) _ _ _ _ (_) (_) ((tkF B bn t.nx)) (hB) (h35) (k1) (by omega)) q2602 hR (by decide) (by simp [Value.category]) dX3_personStatement_67 (fun τ67_5 v67 wτ67_5 => ?_)
        obtain ⟨qτ67_5, h67⟩ := wτ67_5
        obtain ⟨eh67, h67⟩ := h67
        subst eh67
        have ntτ67_5 := TkT_q qτ67_5 h35 (by decide)
        have xτ67_5 : eqx [0, 11, 12, 13, 14, 15, 16, 17] σ τ67_5 := eqx_tr xτ35_0 (eqx_mono qτ67_5 (by decide))
        have haτ67_5 := (qτ67_5 0 (by decide)).trans haτ35_0
        exact zi_zreturn hrt (z_nb (Or.inl rfl)) dX3_personStatement_70 (hret _ _ ⟨xτ67_5, PRT_e (PRT_tr bsτ35_0 h67) (perS_c c24 (by omega) (by omega))⟩)
    · refine zi_aload_n dX3_personStatement_47 rfl ?_
      refine zi_iconst dX3_personStatement_48 ?_
      refine zt_Vi1 mw_X3_fail rfl (tc_fail (zl Z) (zE Z) _ _ _ _ (_) (_) ((tkF B bn t.nx)) (hB) (h35) (k1) (by omega)) q2602 hR (by decide) (by simp [Value.category]) dX3_personStatement_49 (fun τ49_6 v49 wτ49_6 => ?_)
      obtain ⟨qτ49_6, h49⟩ := wτ49_6
      obtain ⟨eh49, h49⟩ := h49
      subst eh49
      have ntτ49_6 := TkT_q qτ49_6 h35 (by decide)
      have xτ49_6 : eqx [0, 11, 12, 13, 14, 15, 16, 17] σ τ49_6 := eqx_tr xτ35_0 (eqx_mono qτ49_6 (by decide))
      have haτ49_6 := (qτ49_6 0 (by decide)).trans haτ35_0
      exact zi_zreturn hrt (z_nb (Or.inl rfl)) dX3_personStatement_52 (hret _ _ ⟨xτ49_6, PRT_e (PRT_tr bsτ35_0 h49) (perS_b c24 c44)⟩)
  · refine zi_aload_n dX3_personStatement_28 rfl ?_
    refine zi_iconst dX3_personStatement_29 ?_
    refine zt_Vi1 mw_X3_fail rfl (tc_fail (zl Z) (zE Z) _ _ _ _ (_) (_) (t) (hB) (ht) (hk) (by omega)) q2602 hR (by decide) (by simp [Value.category]) dX3_personStatement_30 (fun τ30_7 v30 wτ30_7 => ?_)
    obtain ⟨qτ30_7, h30⟩ := wτ30_7
    obtain ⟨eh30, h30⟩ := h30
    subst eh30
    have ntτ30_7 := TkT_q qτ30_7 ht (by decide)
    have xτ30_7 : eqx [0, 11, 12, 13, 14, 15, 16, 17] σ τ30_7 := eqx_tr x0 (eqx_mono qτ30_7 (by decide))
    have haτ30_7 := (qτ30_7 0 (by decide)).trans ha
    exact zi_zreturn hrt (z_nb (Or.inl rfl)) dX3_personStatement_33 (hret _ _ ⟨xτ30_7, PRT_e (PRT_tr Bs_rf h30) (perS_a c24)⟩)
theorem mw_X3_termStatement : MWV yX3_termStatement cX3_termStatement 2 (some Jvm.ClassFile.FieldType.boolean) 0 := ⟨q2623, qs56, q128, q2624, by decide, by decide +kernel, by decide +kernel, by decide +kernel⟩
set_option maxHeartbeats 4000000 in
theorem tc_termStatement (l : Launch) (E : ZE) (o : Nat) (ad : Nat → Nat) (σ : TS) (a : Int → Int) (ha : σ 0 = a) (B : Int → Int) (bn : Int) (t : TkS) (hB : BOk B bn) (ht : TkT σ B bn t) (hk : TkOk bn t) (hpk : PkA a) : TCi l yX3_termStatement (ws_ yX3_termStatement cX3_termStatement 2 (some Jvm.ClassFile.FieldType.boolean)) 5 E o ad σ [.ref o] (fun τ v => eqx [0, 11, 12, 13, 14, 15, 16, 17] σ τ ∧ (PRT σ B bn (trmS B bn (a, t)) v τ)) := by
  refine tci_of (own := RX3) (cc := cX3_termStatement) (L := [some (.ref o), none]) (by decide) rfl rfl (Nat.le_of_ble_eq_true rfl) (fun Z hE hl hrt hR hm hret => ?_)
  subst hE
  have x0 : eqx [0, 11, 12, 13, 14, 15, 16, 17] σ σ := eqx_rf
  have hk1 := hk.1
  have hk2 := hk.2.1
  have hc := hpk.1
  refine zi_bipush dX3_termStatement_0 (by decide +kernel) ?_
  refine zi_iconst dX3_termStatement_2 ?_
  refine zi_aload_n dX3_termStatement_3 rfl ?_
  refine zt_g0 q2431 dX3_termStatement_4 ?_
  refine zi_bipush dX3_termStatement_7 (by decide +kernel) ?_
  refine zt_ld0 dX3_termStatement_9 (ha) (by omega) ?_
  refine zi_l2i dX3_termStatement_10 ?_
  refine zi_imul dX3_termStatement_11 ?_
  refine zi_iadd dX3_termStatement_12 ?_
  refine zi_istore_1 dX3_termStatement_13 hm (by decide) rfl ?_
  refine zi_aload_n dX3_termStatement_14 rfl ?_
  refine zt_g0 q2431 dX3_termStatement_15 ?_
  refine zi_bipush dX3_termStatement_18 (by decide +kernel) ?_
  refine zt_ld0 dX3_termStatement_20 (ha) (by omega) ?_
  refine zi_ldc2 (m := 12) dX3_termStatement_21 q2625 (by decide +kernel) ?_
  refine zi_lcmp_ne 34 dX3_termStatement_24 dX3_termStatement_25 (by decide) (by omega) (fun c24 => ?_) (fun c24 => ?_)
  · refine zi_aload_n dX3_termStatement_34 rfl ?_
    refine zt_Vi0 mw_X3_advance rfl (tc_advance (zl Z) (zE Z) _ _ _  (_) (_) (hB) (ht.1) (ht.2.1) (_) (ht.2.2.2.1) (by omega)) q2546 hR (by decide) (by simp [Value.category]) dX3_termStatement_35 (fun τ35_0 v35 wτ35_0 => ?_)
    obtain ⟨qτ35_0, h35⟩ := wτ35_0
    obtain ⟨eh35, h35⟩ := h35
    subst eh35
    have bsτ35_0 := Bs_q Bs_rf qτ35_0 (by decide) (by decide) (by decide)
    have xτ35_0 : eqx [0, 11, 12, 13, 14, 15, 16, 17] σ τ35_0 := eqx_tr x0 (eqx_mono qτ35_0 (by decide))
    have haτ35_0 := (qτ35_0 0 (by decide)).trans ha
    have k1 := (tkF_ok (B := B) (n := bn) (p := t.nx) (by omega) (by omega)).1
    have k1a := k1.1
    have k1b := k1.2.1
    refine zi_pop dX3_termStatement_38 rfl ?_
    refine zi_aload_n dX3_termStatement_39 rfl ?_
    refine zi_iload_n dX3_termStatement_40 rfl ?_
    refine zt_Vi1 mw_X3_wordInto rfl (tc_wordInto (zl Z) (zE Z) _ _ _ _ (haτ35_0) _ (_) (_) ((tkF B bn t.nx)) (hB) (h35) (k1) (by omega)) q2626 hR (by decide) (by simp [Value.category]) dX3_termStatement_41 (fun τ41_1 v41 wτ41_1 => ?_)
    obtain ⟨qτ41_1, h41⟩ := wτ41_1
    have xτ41_1 : eqx [0, 11, 12, 13, 14, 15, 16, 17] σ τ41_1 := eqx_tr xτ35_0 (eqx_mono qτ41_1 (by decide))
    refine zi_if_eq 65 dX3_termStatement_44 (by decide) (by have := PRT_01 h41; omega) (fun c44 => ?_) (fun c44 => ?_)
    · obtain ⟨eh41, rh41, fh41⟩ := PRT_f h41 c44
      refine zi_iconst dX3_termStatement_65 ?_
      exact zi_zreturn hrt (z_nb (Or.inl rfl)) dX3_termStatement_66 (hret _ _ ⟨xτ41_1, by first | exact PRT_e (PRT_r bsτ35_0 fh59) (by rw [trmS_b c24, rh41, bnd_l, rh49, bnd_l, rh59, bnd_r]) | exact PRT_e (PRT_r bsτ35_0 fh49) (by rw [trmS_b c24, rh41, bnd_l, rh49, bnd_r]) | exact PRT_e (PRT_r bsτ35_0 fh41) (by rw [trmS_b c24, rh41, bnd_r])⟩)
    · obtain ⟨_, sh41, rh41, ah41, nh41, bh41⟩ := PRT_t h41 c44
      have dh41 := Bs_tr bsτ35_0 bh41
      have k2 := wrdS_k (s := (a, (tkF B bn t.nx))) k1 rh41
      refine zi_aload_n dX3_termStatement_47 rfl ?_
      refine zi_iconst dX3_termStatement_48 ?_
      refine zt_Vi1 mw_X3_sign rfl (tc_sign (zl Z) (zE Z) _ _ _ _ (ah41) _ (_) (_) (sh41.2) (hB) (nh41) (k2.2.2.1) (by omega)) q2630 hR (by decide) (by simp [Value.category]) dX3_termStatement_49 (fun τ49_2 v49 wτ49_2 => ?_)
      obtain ⟨qτ49_2, h49⟩ := wτ49_2
      have xτ49_2 : eqx [0, 11, 12, 13, 14, 15, 16, 17] σ τ49_2 := eqx_tr xτ41_1 (eqx_mono qτ49_2 (by decide))
      have haτ49_2 := (qτ49_2 0 (by decide)).trans ah41
      refine zi_if_eq 65 dX3_termStatement_52 (by decide) (by have := PRT_01 h49; omega) (fun c52 => ?_) (fun c52 => ?_)
      · obtain ⟨eh49, rh49, fh49⟩ := PRT_f h49 c52
        refine zi_iconst dX3_termStatement_65 ?_
        exact zi_zreturn hrt (z_nb (Or.inl rfl)) dX3_termStatement_66 (hret _ _ ⟨xτ49_2, by first | exact PRT_e (PRT_r dh41 fh59) (by rw [trmS_b c24, rh41, bnd_l, rh49, bnd_l, rh59, bnd_r]) | exact PRT_e (PRT_r dh41 fh49) (by rw [trmS_b c24, rh41, bnd_l, rh49, bnd_r]) | exact PRT_e (PRT_r dh41 fh41) (by rw [trmS_b c24, rh41, bnd_r])⟩)
      · obtain ⟨_, sh49, rh49, ah49, nh49, bh49⟩ := PRT_t h49 c52
        have dh49 := Bs_tr dh41 bh49
        have k3 := sgnS_k (s := sh41) k2.2.2.1 rh49
        refine zi_aload_n dX3_termStatement_55 rfl ?_
        refine zi_iload_n dX3_termStatement_56 rfl ?_
        refine zi_iconst dX3_termStatement_57 ?_
        refine zi_iadd dX3_termStatement_58 ?_
        refine zt_Vi1 mw_X3_wordInto rfl (tc_wordInto (zl Z) (zE Z) _ _ _ _ (ah49) _ (_) (_) (sh49.2) (hB) (nh49) (k3.2.2.1) (by omega)) q2626 hR (by decide) (by simp [Value.category]) dX3_termStatement_59 (fun τ59_3 v59 wτ59_3 => ?_)
        obtain ⟨qτ59_3, h59⟩ := wτ59_3
        have xτ59_3 : eqx [0, 11, 12, 13, 14, 15, 16, 17] σ τ59_3 := eqx_tr xτ49_2 (eqx_mono qτ59_3 (by decide))
        refine zi_if_ne 67 dX3_termStatement_62 (by decide) (by have := PRT_01 h59; omega) (fun c62 => ?_) (fun c62 => ?_)
        · obtain ⟨_, sh59, rh59, ah59, nh59, bh59⟩ := PRT_t h59 c62
          have dh59 := Bs_tr dh49 bh59
          refine zi_aload_n dX3_termStatement_67 rfl ?_
          refine zt_g0 q2431 dX3_termStatement_68 ?_
          refine zi_bipush dX3_termStatement_71 (by decide +kernel) ?_
          refine zi_dup2 dX3_termStatement_73 rfl rfl ?_
          refine zt_ld0 dX3_termStatement_74 (ah59) (by omega) ?_
          refine zi_lconst (m := 1) dX3_termStatement_75 (by decide +kernel) ?_
          refine zi_ladd dX3_termStatement_76 ?_
          refine zt_st0 dX3_termStatement_77 (by omega) (fun τ77_4 eτ77_4 => ?_)
          have bsτ77_4 := Bs_0 dh59 eτ77_4 (by omega)
          have ntτ77_4 := TkT_u eτ77_4 nh59 (by decide)
          have gτ77_4 := up_get eτ77_4
          have xτ77_4 : eqx [0, 11, 12, 13, 14, 15, 16, 17] σ τ77_4 := by rw [eτ77_4]; exact eqx_up xτ59_3 (by decide)
          have r2 : τ77_4 0 = zup sh59.1 20 (sh59.1 20 + 1) := by funext j; rw [eτ77_4, up_s, ah59]
          refine zi_iconst dX3_termStatement_78 ?_
          exact zi_zreturn hrt (z_nb (Or.inr rfl)) dX3_termStatement_79 (hret _ _ ⟨xτ77_4, PRT_e (PRT_l (s := (zup sh59.1 20 (sh59.1 20 + 1), sh59.2)) r2 ntτ77_4 bsτ77_4) (by rw [trmS_b c24, rh41, bnd_l, rh49, bnd_l, rh59, bnd_l])⟩)
        · obtain ⟨eh59, rh59, fh59⟩ := PRT_f h59 c62
          refine zi_iconst dX3_termStatement_65 ?_
          exact zi_zreturn hrt (z_nb (Or.inl rfl)) dX3_termStatement_66 (hret _ _ ⟨xτ59_3, by first | exact PRT_e (PRT_r dh49 fh59) (by rw [trmS_b c24, rh41, bnd_l, rh49, bnd_l, rh59, bnd_r]) | exact PRT_e (PRT_r dh49 fh49) (by rw [trmS_b c24, rh41, bnd_l, rh49, bnd_r]) | exact PRT_e (PRT_r dh49 fh41) (by rw [trmS_b c24, rh41, bnd_r])⟩)
  · refine zi_aload_n dX3_termStatement_28 rfl ?_
    refine zi_iconst dX3_termStatement_29 ?_
    refine zt_Vi1 mw_X3_fail rfl (tc_fail (zl Z) (zE Z) _ _ _ _ (_) (_) (t) (hB) (ht) (hk) (by omega)) q2602 hR (by decide) (by simp [Value.category]) dX3_termStatement_30 (fun τ30_5 v30 wτ30_5 => ?_)
    obtain ⟨qτ30_5, h30⟩ := wτ30_5
    obtain ⟨eh30, h30⟩ := h30
    subst eh30
    have ntτ30_5 := TkT_q qτ30_5 ht (by decide)
    have xτ30_5 : eqx [0, 11, 12, 13, 14, 15, 16, 17] σ τ30_5 := eqx_tr x0 (eqx_mono qτ30_5 (by decide))
    have haτ30_5 := (qτ30_5 0 (by decide)).trans ha
    exact zi_zreturn hrt (z_nb (Or.inl rfl)) dX3_termStatement_33 (hret _ _ ⟨xτ30_5, PRT_e (PRT_tr Bs_rf h30) (trmS_a c24)⟩)
theorem mw_X3_personInto : MWV yX3_personInto cX3_personInto 5 (some Jvm.ClassFile.FieldType.boolean) 2 := ⟨q2642, qs60, q128, q2643, by decide, by decide +kernel, by decide +kernel, by decide +kernel⟩
set_option maxHeartbeats 4000000 in
theorem tc_personInto (l : Launch) (E : ZE) (o : Nat) (ad : Nat → Nat) (σ : TS) (a : Int → Int) (ha : σ 0 = a) (i : Int) (x : Int) (B : Int → Int) (bn : Int) (t : TkS) (hB : BOk B bn) (ht : TkT σ B bn t) (hk : TkOk bn t) (hpk : PkA a) (ri : 0 ≤ i ∧ i < 447) (hx : -9223372036854775808 ≤ x ∧ x < 9223372036854775808) : TCi l yX3_personInto (ws_ yX3_personInto cX3_personInto 5 (some Jvm.ClassFile.FieldType.boolean)) 4 E o ad σ [.ref o, jI i, jL x] (fun τ v => eqx [0, 11, 12, 13, 14, 15, 16, 17] σ τ ∧ (PRT σ B bn (pinS B bn i x (a, t)) v τ)) := by
  refine tci_of (own := RX3) (cc := cX3_personInto) (L := [some (.ref o), some (jI i), some (jL x), none, none]) (by decide) rfl rfl (Nat.le_of_ble_eq_true rfl) (fun Z hE hl hrt hR hm hret => ?_)
  subst hE
  have x0 : eqx [0, 11, 12, 13, 14, 15, 16, 17] σ σ := eqx_rf
  have hk1 := hk.1
  have hk2 := hk.2.1
  have hc := hpk.1
  refine zi_aload_n dX3_personInto_0 rfl ?_
  refine zt_g13 q2444 dX3_personInto_1 (ht.2.2.2.2.1) ?_
  refine zi_iconst dX3_personInto_4 ?_
  refine zi_icmp_eq 14 dX3_personInto_5 (by decide) (by omega) (fun c5 => ?_) (fun c5 => ?_)
  · have w1 := isWd_r (hk.2.2.2.2 (by omega))
    refine zi_aload_n dX3_personInto_14 rfl ?_
    refine zi_aload_n dX3_personInto_15 rfl ?_
    refine zt_g15 q2446 dX3_personInto_16 (ht.2.2.2.2.2.2 (by omega)) ?_
    refine zt_PVi1 mw_X3_personNamed rfl (tc_personNamed (zl Z) (zE Z) _ _ _ _ (ha) _ (hpk) (by omega)) q2616 hR (by decide) (by simp [Value.category]) dX3_personInto_19 (fun v19 h19 => ?_)
    refine zi_istore_4 dX3_personInto_22 hm (by decide) rfl ?_
    refine zi_iload dX3_personInto_24 rfl ?_
    refine zi_iconst dX3_personInto_26 ?_
    refine zi_icmp_eq 38 dX3_personInto_27 (by decide) (by omega) (fun c27 => ?_) (fun c27 => ?_)
    · refine zi_aload_n dX3_personInto_38 rfl ?_
      refine zi_iconst dX3_personInto_39 ?_
      refine zt_Vi1 mw_X3_fail rfl (tc_fail (zl Z) (zE Z) _ _ _ _ (_) (_) (t) (hB) (ht) (hk) (by omega)) q2602 hR (by decide) (by simp [Value.category]) dX3_personInto_40 (fun τ40_0 v40 wτ40_0 => ?_)
      obtain ⟨qτ40_0, h40⟩ := wτ40_0
      obtain ⟨eh40, h40⟩ := h40
      subst eh40
      have ntτ40_0 := TkT_q qτ40_0 ht (by decide)
      have xτ40_0 : eqx [0, 11, 12, 13, 14, 15, 16, 17] σ τ40_0 := eqx_tr x0 (eqx_mono qτ40_0 (by decide))
      have haτ40_0 := (qτ40_0 0 (by decide)).trans ha
      exact zi_zreturn hrt (z_nb (Or.inl rfl)) dX3_personInto_43 (hret _ _ ⟨xτ40_0, PRT_e (PRT_tr Bs_rf h40) (pinS_b (by omega) (by omega))⟩)
    · refine zi_iload dX3_personInto_30 rfl ?_
      refine zi_i2l dX3_personInto_32 (by omega) ?_
      refine zi_lload_n dX3_personInto_33 rfl ?_
      refine zi_lcmp_ne 44 dX3_personInto_34 dX3_personInto_35 (by decide) (by omega) (fun c34 => ?_) (fun c34 => ?_)
      · have r0 := ha
        refine zi_aload_n dX3_personInto_44 rfl ?_
        refine zt_g0 q2431 dX3_personInto_45 ?_
        refine zi_iload_n dX3_personInto_48 rfl ?_
        refine zi_iload dX3_personInto_49 rfl ?_
        refine zi_i2l dX3_personInto_51 (by omega) ?_
        refine zt_st0 dX3_personInto_52 (by omega) (fun τ52_1 eτ52_1 => ?_)
        have bsτ52_1 := Bs_0 Bs_rf eτ52_1 (by omega)
        have ntτ52_1 := TkT_u eτ52_1 ht (by decide)
        have gτ52_1 := up_get eτ52_1
        have xτ52_1 : eqx [0, 11, 12, 13, 14, 15, 16, 17] σ τ52_1 := by rw [eτ52_1]; exact eqx_up x0 (by decide)
        have r1 : τ52_1 0 = zup a i v19 := by funext j; rw [eτ52_1, up_s, r0]
        refine zi_aload_n dX3_personInto_53 rfl ?_
        refine zt_Vi0 mw_X3_advance rfl (tc_advance (zl Z) (zE Z) _ _ _  (_) (_) (hB) (ntτ52_1.1) (ntτ52_1.2.1) (_) (ntτ52_1.2.2.2.1) (by omega)) q2546 hR (by decide) (by simp [Value.category]) dX3_personInto_54 (fun τ54_2 v54 wτ54_2 => ?_)
        obtain ⟨qτ54_2, h54⟩ := wτ54_2
        obtain ⟨eh54, h54⟩ := h54
        subst eh54
        have bsτ54_2 := Bs_q bsτ52_1 qτ54_2 (by decide) (by decide) (by decide)
        have xτ54_2 : eqx [0, 11, 12, 13, 14, 15, 16, 17] σ τ54_2 := eqx_tr xτ52_1 (eqx_mono qτ54_2 (by decide))
        have haτ54_2 := (qτ54_2 0 (by decide)).trans r1
        exact zi_zreturn hrt (z_nb (Or.inr rfl)) dX3_personInto_57 (hret _ _ ⟨xτ54_2, PRT_e (PRT_l (s := (zup a i v19, tkF B bn t.nx)) haτ54_2 h54 bsτ54_2) (by rw [pinS_c (by omega) (by omega), ← h19.1])⟩)
      · refine zi_aload_n dX3_personInto_38 rfl ?_
        refine zi_iconst dX3_personInto_39 ?_
        refine zt_Vi1 mw_X3_fail rfl (tc_fail (zl Z) (zE Z) _ _ _ _ (_) (_) (t) (hB) (ht) (hk) (by omega)) q2602 hR (by decide) (by simp [Value.category]) dX3_personInto_40 (fun τ40_4 v40_3 wτ40_4 => ?_)
        obtain ⟨qτ40_4, h40_3⟩ := wτ40_4
        obtain ⟨eh40_3, h40_3⟩ := h40_3
        subst eh40_3
        have ntτ40_4 := TkT_q qτ40_4 ht (by decide)
        have xτ40_4 : eqx [0, 11, 12, 13, 14, 15, 16, 17] σ τ40_4 := eqx_tr x0 (eqx_mono qτ40_4 (by decide))
        have haτ40_4 := (qτ40_4 0 (by decide)).trans ha
        exact zi_zreturn hrt (z_nb (Or.inl rfl)) dX3_personInto_43 (hret _ _ ⟨xτ40_4, PRT_e (PRT_tr Bs_rf h40_3) (pinS_b (by omega) (by omega))⟩)
  · refine zi_aload_n dX3_personInto_8 rfl ?_
    refine zi_iconst dX3_personInto_9 ?_
    refine zt_Vi1 mw_X3_fail rfl (tc_fail (zl Z) (zE Z) _ _ _ _ (_) (_) (t) (hB) (ht) (hk) (by omega)) q2602 hR (by decide) (by simp [Value.category]) dX3_personInto_10 (fun τ10_5 v10 wτ10_5 => ?_)
    obtain ⟨qτ10_5, h10⟩ := wτ10_5
    obtain ⟨eh10, h10⟩ := h10
    subst eh10
    have ntτ10_5 := TkT_q qτ10_5 ht (by decide)
    have xτ10_5 : eqx [0, 11, 12, 13, 14, 15, 16, 17] σ τ10_5 := eqx_tr x0 (eqx_mono qτ10_5 (by decide))
    have haτ10_5 := (qτ10_5 0 (by decide)).trans ha
    exact zi_zreturn hrt (z_nb (Or.inl rfl)) dX3_personInto_13 (hret _ _ ⟨xτ10_5, PRT_e (PRT_tr Bs_rf h10) (pinS_a c5)⟩)
theorem mw_X3_jobStatement : MWV yX3_jobStatement cX3_jobStatement 2 (some Jvm.ClassFile.FieldType.boolean) 0 := ⟨q2637, qs59, q128, q2638, by decide, by decide +kernel, by decide +kernel, by decide +kernel⟩
set_option maxHeartbeats 4000000 in
theorem tc_jobStatement (l : Launch) (E : ZE) (o : Nat) (ad : Nat → Nat) (σ : TS) (a : Int → Int) (ha : σ 0 = a) (B : Int → Int) (bn : Int) (t : TkS) (hB : BOk B bn) (ht : TkT σ B bn t) (hk : TkOk bn t) (hpk : PkA a) : TCi l yX3_jobStatement (ws_ yX3_jobStatement cX3_jobStatement 2 (some Jvm.ClassFile.FieldType.boolean)) 5 E o ad σ [.ref o] (fun τ v => eqx [0, 11, 12, 13, 14, 15, 16, 17] σ τ ∧ (PRT σ B bn (jobS B bn (a, t)) v τ)) := by
  refine tci_of (own := RX3) (cc := cX3_jobStatement) (L := [some (.ref o), none]) (by decide) rfl rfl (Nat.le_of_ble_eq_true rfl) (fun Z hE hl hrt hR hm hret => ?_)
  subst hE
  have x0 : eqx [0, 11, 12, 13, 14, 15, 16, 17] σ σ := eqx_rf
  have hk1 := hk.1
  have hk2 := hk.2.1
  have hc := hpk.1
  refine zi_bipush dX3_jobStatement_0 (by decide +kernel) ?_
  refine zi_iconst dX3_jobStatement_2 ?_
  refine zi_aload_n dX3_jobStatement_3 rfl ?_
  refine zt_g0 q2431 dX3_jobStatement_4 ?_
  refine zi_bipush dX3_jobStatement_7 (by decide +kernel) ?_
  refine zt_ld0 dX3_jobStatement_9 (ha) (by omega) ?_
  refine zi_l2i dX3_jobStatement_10 ?_
  refine zi_imul dX3_jobStatement_11 ?_
  refine zi_iadd dX3_jobStatement_12 ?_
  refine zi_istore_1 dX3_jobStatement_13 hm (by decide) rfl ?_
  refine zi_aload_n dX3_jobStatement_14 rfl ?_
  refine zt_g0 q2431 dX3_jobStatement_15 ?_
  refine zi_bipush dX3_jobStatement_18 (by decide +kernel) ?_
  refine zt_ld0 dX3_jobStatement_20 (ha) (by omega) ?_
  refine zi_ldc2 (m := 5) dX3_jobStatement_21 q2615 (by decide +kernel) ?_
  refine zi_lcmp_ne 34 dX3_jobStatement_24 dX3_jobStatement_25 (by decide) (by omega) (fun c24 => ?_) (fun c24 => ?_)
  · refine zi_aload_n dX3_jobStatement_34 rfl ?_
    refine zt_Vi0 mw_X3_advance rfl (tc_advance (zl Z) (zE Z) _ _ _  (_) (_) (hB) (ht.1) (ht.2.1) (_) (ht.2.2.2.1) (by omega)) q2546 hR (by decide) (by simp [Value.category]) dX3_jobStatement_35 (fun τ35_0 v35 wτ35_0 => ?_)
    obtain ⟨qτ35_0, h35⟩ := wτ35_0
    obtain ⟨eh35, h35⟩ := h35
    subst eh35
    have bsτ35_0 := Bs_q Bs_rf qτ35_0 (by decide) (by decide) (by decide)
    have xτ35_0 : eqx [0, 11, 12, 13, 14, 15, 16, 17] σ τ35_0 := eqx_tr x0 (eqx_mono qτ35_0 (by decide))
    have haτ35_0 := (qτ35_0 0 (by decide)).trans ha
    have k1 := (tkF_ok (B := B) (n := bn) (p := t.nx) (by omega) (by omega)).1
    have k1a := k1.1
    have k1b := k1.2.1
    refine zi_pop dX3_jobStatement_38 rfl ?_
    refine zi_aload_n dX3_jobStatement_39 rfl ?_
    refine zi_iload_n dX3_jobStatement_40 rfl ?_
    refine zi_iconst dX3_jobStatement_41 ?_
    refine zi_iadd dX3_jobStatement_42 ?_
    refine zi_ldc2 (m := -1) dX3_jobStatement_43 q2639 (by decide +kernel) ?_
    refine zt_Vi2 mw_X3_personInto rfl (tc_personInto (zl Z) (zE Z) _ _ _ _ (haτ35_0) _ _ (_) (_) ((tkF B bn t.nx)) (hB) (h35) (k1) (hpk) (by omega) (by omega)) q2640 hR (by decide) (by simp [Value.category]) dX3_jobStatement_46 (fun τ46_1 v46 wτ46_1 => ?_)
    obtain ⟨qτ46_1, h46⟩ := wτ46_1
    have xτ46_1 : eqx [0, 11, 12, 13, 14, 15, 16, 17] σ τ46_1 := eqx_tr xτ35_0 (eqx_mono qτ46_1 (by decide))
    refine zi_if_eq 83 dX3_jobStatement_49 (by decide) (by have := PRT_01 h46; omega) (fun c49 => ?_) (fun c49 => ?_)
    · obtain ⟨eh46, rh46, fh46⟩ := PRT_f h46 c49
      refine zi_iconst dX3_jobStatement_83 ?_
      exact zi_zreturn hrt (z_nb (Or.inl rfl)) dX3_jobStatement_84 (hret _ _ ⟨xτ46_1, by first | exact PRT_e (PRT_r bsτ35_0 fh77) (by rw [jobS_b c24, rh46, bnd_l, rh64, bnd_l, rh77, bnd_r]) | exact PRT_e (PRT_r bsτ35_0 fh64) (by rw [jobS_b c24, rh46, bnd_l, rh64, bnd_r]) | exact PRT_e (PRT_r bsτ35_0 fh46) (by rw [jobS_b c24, rh46, bnd_r])⟩)
    · obtain ⟨_, sh46, rh46, ah46, nh46, bh46⟩ := PRT_t h46 c49
      have dh46 := Bs_tr bsτ35_0 bh46
      have k2 := pinS_k (s := (a, (tkF B bn t.nx))) k1 hpk rh46
      have p2 : PkA sh46.1 := by rw [k2.2.2.2.1]; exact PkA_z hpk (by omega) (by omega) (by omega) (by omega)
      have k2c : sh46.1 (46 + 4 * a 45 + 0) < a 9 := k2.2.2.2.2.2.2.2.2
      refine zi_aload_n dX3_jobStatement_52 rfl ?_
      refine zi_iload_n dX3_jobStatement_53 rfl ?_
      refine zi_iconst dX3_jobStatement_54 ?_
      refine zi_iadd dX3_jobStatement_55 ?_
      refine zi_aload_n dX3_jobStatement_56 rfl ?_
      refine zt_g0 q2431 dX3_jobStatement_57 ?_
      refine zi_iload_n dX3_jobStatement_60 rfl ?_
      refine zi_iconst dX3_jobStatement_61 ?_
      refine zi_iadd dX3_jobStatement_62 ?_
      refine zt_ld0 dX3_jobStatement_63 (ah46) (by omega) ?_
      refine zt_Vi2 mw_X3_personInto rfl (tc_personInto (zl Z) (zE Z) _ _ _ _ (ah46) _ _ (_) (_) (sh46.2) (hB) (nh46) (k2.2.2.2.2.1) (p2) (by omega) (by omega)) q2640 hR (by decide) (by simp [Value.category]) dX3_jobStatement_64 (fun τ64_2 v64 wτ64_2 => ?_)
      obtain ⟨qτ64_2, h64⟩ := wτ64_2
      have xτ64_2 : eqx [0, 11, 12, 13, 14, 15, 16, 17] σ τ64_2 := eqx_tr xτ46_1 (eqx_mono qτ64_2 (by decide))
      refine zi_if_eq 83 dX3_jobStatement_67 (by decide) (by have := PRT_01 h64; omega) (fun c67 => ?_) (fun c67 => ?_)
      · obtain ⟨eh64, rh64, fh64⟩ := PRT_f h64 c67
        refine zi_iconst dX3_jobStatement_83 ?_
        exact zi_zreturn hrt (z_nb (Or.inl rfl)) dX3_jobStatement_84 (hret _ _ ⟨xτ64_2, by first | exact PRT_e (PRT_r dh46 fh77) (by rw [jobS_b c24, rh46, bnd_l, rh64, bnd_l, rh77, bnd_r]) | exact PRT_e (PRT_r dh46 fh64) (by rw [jobS_b c24, rh46, bnd_l, rh64, bnd_r]) | exact PRT_e (PRT_r dh46 fh46) (by rw [jobS_b c24, rh46, bnd_r])⟩)
      · obtain ⟨_, sh64, rh64, ah64, nh64, bh64⟩ := PRT_t h64 c67
        have dh64 := Bs_tr dh46 bh64
        have k3 := pinS_k (s := sh46) k2.2.2.2.2.1 p2 rh64
        refine zi_aload_n dX3_jobStatement_70 rfl ?_
        refine zi_iload_n dX3_jobStatement_71 rfl ?_
        refine zi_iconst dX3_jobStatement_72 ?_
        refine zi_iadd dX3_jobStatement_73 ?_
        refine zi_iconst dX3_jobStatement_74 ?_
        refine zi_bipush dX3_jobStatement_75 (by decide +kernel) ?_
        refine zt_Vi3 mw_X3_number rfl (tc_number (zl Z) (zE Z) _ _ _ _ (ah64) _ _ _ (_) (_) (sh64.2) (hB) (nh64) (k3.2.2.2.2.1) (by omega) (by omega) (by omega)) q2606 hR (by decide) (by simp [Value.category]) dX3_jobStatement_77 (fun τ77_3 v77 wτ77_3 => ?_)
        obtain ⟨qτ77_3, h77⟩ := wτ77_3
        have xτ77_3 : eqx [0, 11, 12, 13, 14, 15, 16, 17] σ τ77_3 := eqx_tr xτ64_2 (eqx_mono qτ77_3 (by decide))
        refine zi_if_ne 85 dX3_jobStatement_80 (by decide) (by have := PRT_01 h77; omega) (fun c80 => ?_) (fun c80 => ?_)
        · obtain ⟨_, sh77, rh77, ah77, nh77, bh77⟩ := PRT_t h77 c80
          have dh77 := Bs_tr dh64 bh77
          refine zi_aload_n dX3_jobStatement_85 rfl ?_
          refine zt_g0 q2431 dX3_jobStatement_86 ?_
          refine zi_iload_n dX3_jobStatement_89 rfl ?_
          refine zi_iconst dX3_jobStatement_90 ?_
          refine zi_iadd dX3_jobStatement_91 ?_
          refine zi_aload_n dX3_jobStatement_92 rfl ?_
          refine zt_g0 q2431 dX3_jobStatement_93 ?_
          refine zi_bipush dX3_jobStatement_96 (by decide +kernel) ?_
          refine zt_ld0 dX3_jobStatement_98 (ah77) (by omega) ?_
          refine zt_st0 dX3_jobStatement_99 (by omega) (fun τ99_4 eτ99_4 => ?_)
          have bsτ99_4 := Bs_0 dh77 eτ99_4 (by omega)
          have ntτ99_4 := TkT_u eτ99_4 nh77 (by decide)
          have gτ99_4 := up_get eτ99_4
          have xτ99_4 : eqx [0, 11, 12, 13, 14, 15, 16, 17] σ τ99_4 := by rw [eτ99_4]; exact eqx_up xτ77_3 (by decide)
          have r2 : τ99_4 0 = zup sh77.1 (46 + 4 * a 45 + 3) (sh77.1 20) := by funext j; rw [eτ99_4, up_s, ah77]
          refine zi_aload_n dX3_jobStatement_100 rfl ?_
          refine zt_g0 q2431 dX3_jobStatement_101 ?_
          refine zi_bipush dX3_jobStatement_104 (by decide +kernel) ?_
          refine zi_dup2 dX3_jobStatement_106 rfl rfl ?_
          refine zt_ld0 dX3_jobStatement_107 (r2) (by omega) ?_
          refine zi_lconst (m := 1) dX3_jobStatement_108 (by decide +kernel) ?_
          refine zi_ladd dX3_jobStatement_109 ?_
          refine zt_st0 dX3_jobStatement_110 (by omega) (fun τ110_5 eτ110_5 => ?_)
          have bsτ110_5 := Bs_0 bsτ99_4 eτ110_5 (by omega)
          have ntτ110_5 := TkT_u eτ110_5 ntτ99_4 (by decide)
          have gτ110_5 := up_get eτ110_5
          have xτ110_5 : eqx [0, 11, 12, 13, 14, 15, 16, 17] σ τ110_5 := by rw [eτ110_5]; exact eqx_up xτ99_4 (by decide)
          have r3 : τ110_5 0 = zup (zup sh77.1 (46 + 4 * a 45 + 3) (sh77.1 20)) 45 (zup sh77.1 (46 + 4 * a 45 + 3) (sh77.1 20) 45 + 1) := by funext j; rw [eτ110_5, up_s, r2]
          refine zi_iconst dX3_jobStatement_111 ?_
          exact zi_zreturn hrt (z_nb (Or.inr rfl)) dX3_jobStatement_112 (hret _ _ ⟨xτ110_5, PRT_e (PRT_l (s := (zup (zup sh77.1 (46 + 4 * a 45 + 3) (sh77.1 20)) 45 (zup sh77.1 (46 + 4 * a 45 + 3) (sh77.1 20) 45 + 1), sh77.2)) r3 ntτ110_5 bsτ110_5) (by rw [jobS_b c24, rh46, bnd_l, rh64, bnd_l, rh77, bnd_l])⟩)
        · obtain ⟨eh77, rh77, fh77⟩ := PRT_f h77 c80
          refine zi_iconst dX3_jobStatement_83 ?_
          exact zi_zreturn hrt (z_nb (Or.inl rfl)) dX3_jobStatement_84 (hret _ _ ⟨xτ77_3, by first | exact PRT_e (PRT_r dh64 fh77) (by rw [jobS_b c24, rh46, bnd_l, rh64, bnd_l, rh77, bnd_r]) | exact PRT_e (PRT_r dh64 fh64) (by rw [jobS_b c24, rh46, bnd_l, rh64, bnd_r]) | exact PRT_e (PRT_r dh64 fh46) (by rw [jobS_b c24, rh46, bnd_r])⟩)
  · refine zi_aload_n dX3_jobStatement_28 rfl ?_
    refine zi_iconst dX3_jobStatement_29 ?_
    refine zt_Vi1 mw_X3_fail rfl (tc_fail (zl Z) (zE Z) _ _ _ _ (_) (_) (t) (hB) (ht) (hk) (by omega)) q2602 hR (by decide) (by simp [Value.category]) dX3_jobStatement_30 (fun τ30_6 v30 wτ30_6 => ?_)
    obtain ⟨qτ30_6, h30⟩ := wτ30_6
    obtain ⟨eh30, h30⟩ := h30
    subst eh30
    have ntτ30_6 := TkT_q qτ30_6 ht (by decide)
    have xτ30_6 : eqx [0, 11, 12, 13, 14, 15, 16, 17] σ τ30_6 := eqx_tr x0 (eqx_mono qτ30_6 (by decide))
    have haτ30_6 := (qτ30_6 0 (by decide)).trans ha
    exact zi_zreturn hrt (z_nb (Or.inl rfl)) dX3_jobStatement_33 (hret _ _ ⟨xτ30_6, PRT_e (PRT_tr Bs_rf h30) (jobS_a c24)⟩)
theorem mw_X3_bandStatement : MWV yX3_bandStatement cX3_bandStatement 2 (some Jvm.ClassFile.FieldType.boolean) 0 := ⟨q2600, qs51, q128, q2601, by decide, by decide +kernel, by decide +kernel, by decide +kernel⟩
set_option maxHeartbeats 4000000 in
theorem tc_bandStatement (l : Launch) (E : ZE) (o : Nat) (ad : Nat → Nat) (σ : TS) (a : Int → Int) (ha : σ 0 = a) (B : Int → Int) (bn : Int) (t : TkS) (hB : BOk B bn) (ht : TkT σ B bn t) (hk : TkOk bn t) : TCi l yX3_bandStatement (ws_ yX3_bandStatement cX3_bandStatement 2 (some Jvm.ClassFile.FieldType.boolean)) 5 E o ad σ [.ref o] (fun τ v => eqx [0, 11, 12, 13, 14, 15, 16, 17] σ τ ∧ (PRT σ B bn (bndS B bn (a, t)) v τ)) := by
  refine tci_of (own := RX3) (cc := cX3_bandStatement) (L := [some (.ref o), none]) (by decide) rfl rfl (Nat.le_of_ble_eq_true rfl) (fun Z hE hl hrt hR hm hret => ?_)
  subst hE
  have x0 : eqx [0, 11, 12, 13, 14, 15, 16, 17] σ σ := eqx_rf
  have hk1 := hk.1
  have hk2 := hk.2.1
  refine zi_aload_n dX3_bandStatement_0 rfl ?_
  refine zt_Vi0 mw_X3_advance rfl (tc_advance (zl Z) (zE Z) _ _ _  (_) (_) (hB) (ht.1) (ht.2.1) (_) (ht.2.2.2.1) (by omega)) q2546 hR (by decide) (by simp [Value.category]) dX3_bandStatement_1 (fun τ1_0 v1 wτ1_0 => ?_)
  obtain ⟨qτ1_0, h1⟩ := wτ1_0
  obtain ⟨eh1, h1⟩ := h1
  subst eh1
  have bsτ1_0 := Bs_q Bs_rf qτ1_0 (by decide) (by decide) (by decide)
  have xτ1_0 : eqx [0, 11, 12, 13, 14, 15, 16, 17] σ τ1_0 := eqx_tr x0 (eqx_mono qτ1_0 (by decide))
  have haτ1_0 := (qτ1_0 0 (by decide)).trans ha
  have k1 := (tkF_ok (B := B) (n := bn) (p := t.nx) (by omega) (by omega)).1
  have k1a := k1.1
  have k1b := k1.2.1
  have k1c := k1.2.2.2.1
  refine zi_pop dX3_bandStatement_4 rfl ?_
  refine zi_aload_n dX3_bandStatement_5 rfl ?_
  refine zt_g13 q2444 dX3_bandStatement_6 (h1.2.2.2.2.1) ?_
  refine zi_iconst dX3_bandStatement_9 ?_
  refine zi_icmp_eq 19 dX3_bandStatement_10 (by decide) (by omega) (fun c10 => ?_) (fun c10 => ?_)
  · refine zi_aload_n dX3_bandStatement_19 rfl ?_
    refine zt_g14 q2445 dX3_bandStatement_20 (h1.2.2.2.2.2.1 (by omega)) ?_
    refine zi_iconst dX3_bandStatement_23 ?_
    refine zi_icmp_lt 33 dX3_bandStatement_24 (by decide) (by omega) (fun c24 => ?_) (fun c24 => ?_)
    · refine zi_aload_n dX3_bandStatement_33 rfl ?_
      refine zt_g14 q2445 dX3_bandStatement_34 (h1.2.2.2.2.2.1 (by omega)) ?_
      refine zi_istore_1 dX3_bandStatement_37 hm (by decide) rfl ?_
      refine zi_aload_n dX3_bandStatement_38 rfl ?_
      refine zt_Vi0 mw_X3_advance rfl (tc_advance (zl Z) (zE Z) _ _ _  (_) (_) (hB) (h1.1) (h1.2.1) (_) (h1.2.2.2.1) (by omega)) q2546 hR (by decide) (by simp [Value.category]) dX3_bandStatement_39 (fun τ39_1 v39 wτ39_1 => ?_)
      obtain ⟨qτ39_1, h39⟩ := wτ39_1
      obtain ⟨eh39, h39⟩ := h39
      subst eh39
      have bsτ39_1 := Bs_q bsτ1_0 qτ39_1 (by decide) (by decide) (by decide)
      have xτ39_1 : eqx [0, 11, 12, 13, 14, 15, 16, 17] σ τ39_1 := eqx_tr xτ1_0 (eqx_mono qτ39_1 (by decide))
      have haτ39_1 := (qτ39_1 0 (by decide)).trans haτ1_0
      have k2 := (tkF_ok (B := B) (n := bn) (p := (tkF B bn t.nx).nx) (by omega) (by omega)).1
      have k2a := k2.1
      have k2b := k2.2.1
      refine zi_pop dX3_bandStatement_42 rfl ?_
      refine zi_aload_n dX3_bandStatement_43 rfl ?_
      refine zi_iconst dX3_bandStatement_44 ?_
      refine zi_iload_n dX3_bandStatement_45 rfl ?_
      refine zi_iadd dX3_bandStatement_46 ?_
      refine zi_iconst dX3_bandStatement_47 ?_
      refine zi_bipush dX3_bandStatement_48 (by decide +kernel) ?_
      refine zt_Vi3 mw_X3_number rfl (tc_number (zl Z) (zE Z) _ _ _ _ (haτ39_1) _ _ _ (_) (_) ((tkF B bn (tkF B bn t.nx).nx)) (hB) (h39) (k2) (by omega) (by omega) (by omega)) q2606 hR (by decide) (by simp [Value.category]) dX3_bandStatement_50 (fun τ50_2 v50 wτ50_2 => ?_)
      obtain ⟨qτ50_2, h50⟩ := wτ50_2
      have xτ50_2 : eqx [0, 11, 12, 13, 14, 15, 16, 17] σ τ50_2 := eqx_tr xτ39_1 (eqx_mono qτ50_2 (by decide))
      exact zi_zreturn hrt (z_nb (PRT_01 h50)) dX3_bandStatement_53 (hret _ _ ⟨xτ50_2, PRT_e (PRT_tr bsτ39_1 h50) (bndS_c (by omega) (by omega))⟩)
    · refine zi_aload_n dX3_bandStatement_27 rfl ?_
      refine zi_iconst dX3_bandStatement_28 ?_
      refine zt_Vi1 mw_X3_fail rfl (tc_fail (zl Z) (zE Z) _ _ _ _ (_) (_) ((tkF B bn t.nx)) (hB) (h1) (k1) (by omega)) q2602 hR (by decide) (by simp [Value.category]) dX3_bandStatement_29 (fun τ29_3 v29 wτ29_3 => ?_)
      obtain ⟨qτ29_3, h29⟩ := wτ29_3
      obtain ⟨eh29, h29⟩ := h29
      subst eh29
      have ntτ29_3 := TkT_q qτ29_3 h1 (by decide)
      have xτ29_3 : eqx [0, 11, 12, 13, 14, 15, 16, 17] σ τ29_3 := eqx_tr xτ1_0 (eqx_mono qτ29_3 (by decide))
      have haτ29_3 := (qτ29_3 0 (by decide)).trans haτ1_0
      exact zi_zreturn hrt (z_nb (Or.inl rfl)) dX3_bandStatement_32 (hret _ _ ⟨xτ29_3, PRT_e (PRT_tr bsτ1_0 h29) (bndS_b (by omega) (by omega))⟩)
  · refine zi_aload_n dX3_bandStatement_13 rfl ?_
    refine zi_iconst dX3_bandStatement_14 ?_
    refine zt_Vi1 mw_X3_fail rfl (tc_fail (zl Z) (zE Z) _ _ _ _ (_) (_) ((tkF B bn t.nx)) (hB) (h1) (k1) (by omega)) q2602 hR (by decide) (by simp [Value.category]) dX3_bandStatement_15 (fun τ15_4 v15 wτ15_4 => ?_)
    obtain ⟨qτ15_4, h15⟩ := wτ15_4
    obtain ⟨eh15, h15⟩ := h15
    subst eh15
    have ntτ15_4 := TkT_q qτ15_4 h1 (by decide)
    have xτ15_4 : eqx [0, 11, 12, 13, 14, 15, 16, 17] σ τ15_4 := eqx_tr xτ1_0 (eqx_mono qτ15_4 (by decide))
    have haτ15_4 := (qτ15_4 0 (by decide)).trans haτ1_0
    exact zi_zreturn hrt (z_nb (Or.inl rfl)) dX3_bandStatement_18 (hret _ _ ⟨xτ15_4, PRT_e (PRT_tr bsτ1_0 h15) (bndS_a c10)⟩)
theorem mw_X3_settingStatement : MWV yX3_settingStatement cX3_settingStatement 2 (some Jvm.ClassFile.FieldType.boolean) 1 := ⟨q2664, qs64, q128, q2665, by decide, by decide +kernel, by decide +kernel, by decide +kernel⟩
set_option maxHeartbeats 4000000 in
theorem tc_settingStatement (l : Launch) (E : ZE) (o : Nat) (ad : Nat → Nat) (σ : TS) (a : Int → Int) (ha : σ 0 = a) (w : Int) (B : Int → Int) (bn : Int) (t : TkS) (hB : BOk B bn) (ht : TkT σ B bn t) (hk : TkOk bn t) (rw : 0 ≤ w ∧ w ≤ 3) : TCi l yX3_settingStatement (ws_ yX3_settingStatement cX3_settingStatement 2 (some Jvm.ClassFile.FieldType.boolean)) 5 E o ad σ [.ref o, jI w] (fun τ v => eqx [0, 11, 12, 13, 14, 15, 16, 17] σ τ ∧ (PRT σ B bn (setS B bn w (a, t)) v τ)) := by
  refine tci_of (own := RX3) (cc := cX3_settingStatement) (L := [some (.ref o), some (jI w)]) (by decide) rfl rfl (Nat.le_of_ble_eq_true rfl) (fun Z hE hl hrt hR hm hret => ?_)
  subst hE
  have x0 : eqx [0, 11, 12, 13, 14, 15, 16, 17] σ σ := eqx_rf
  have hk1 := hk.1
  have hk2 := hk.2.1
  refine zi_aload_n dX3_settingStatement_0 rfl ?_
  refine zt_Vi0 mw_X3_advance rfl (tc_advance (zl Z) (zE Z) _ _ _  (_) (_) (hB) (ht.1) (ht.2.1) (_) (ht.2.2.2.1) (by omega)) q2546 hR (by decide) (by simp [Value.category]) dX3_settingStatement_1 (fun τ1_0 v1 wτ1_0 => ?_)
  obtain ⟨qτ1_0, h1⟩ := wτ1_0
  obtain ⟨eh1, h1⟩ := h1
  subst eh1
  have bsτ1_0 := Bs_q Bs_rf qτ1_0 (by decide) (by decide) (by decide)
  have xτ1_0 : eqx [0, 11, 12, 13, 14, 15, 16, 17] σ τ1_0 := eqx_tr x0 (eqx_mono qτ1_0 (by decide))
  have haτ1_0 := (qτ1_0 0 (by decide)).trans ha
  have k1 := (tkF_ok (B := B) (n := bn) (p := t.nx) (by omega) (by omega)).1
  have k1a := k1.1
  have k1b := k1.2.1
  refine zi_pop dX3_settingStatement_4 rfl ?_
  refine zi_aload_n dX3_settingStatement_5 rfl ?_
  refine zi_iload_n dX3_settingStatement_6 rfl ?_
  refine zi_iload_n dX3_settingStatement_7 rfl ?_
  refine zt_PSi1 mw_X3_lowest (tc_lowest (zl Z) (zE Z) _ _ _ _ (by omega)) q2666 hR (by decide) (by simp [Value.category]) dX3_settingStatement_8 (fun v8 h8 => ?_)
  refine zi_iload_n dX3_settingStatement_11 rfl ?_
  refine zt_PSi1 mw_X3_highest (tc_highest (zl Z) (zE Z) _ _ _ _ (by omega)) q2669 hR (by decide) (by simp [Value.category]) dX3_settingStatement_12 (fun v12 h12 => ?_)
  refine zt_Vi3 mw_X3_number rfl (tc_number (zl Z) (zE Z) _ _ _ _ (haτ1_0) _ _ _ (_) (_) ((tkF B bn t.nx)) (hB) (h1) (k1) (by omega) (by omega) (by omega)) q2606 hR (by decide) (by simp [Value.category]) dX3_settingStatement_15 (fun τ15_1 v15 wτ15_1 => ?_)
  obtain ⟨qτ15_1, h15⟩ := wτ15_1
  have xτ15_1 : eqx [0, 11, 12, 13, 14, 15, 16, 17] σ τ15_1 := eqx_tr xτ1_0 (eqx_mono qτ15_1 (by decide))
  exact zi_zreturn hrt (z_nb (PRT_01 h15)) dX3_settingStatement_18 (hret _ _ ⟨xτ15_1, PRT_e (PRT_tr bsτ1_0 h15) (by unfold setS; rw [h8.1, h12.1])⟩)
theorem mw_X3_wordsInto : MWV yX3_wordsInto cX3_wordsInto 3 (some Jvm.ClassFile.FieldType.boolean) 2 := ⟨q2651, qs62, q128, q2652, by decide, by decide +kernel, by decide +kernel, by decide +kernel⟩
set_option maxHeartbeats 4000000 in
theorem tc_wordsInto (l : Launch) (E : ZE) (o : Nat) (ad : Nat → Nat) (σ : TS) (a : Int → Int) (ha : σ 0 = a) (m : Int) (f : Int) (B : Int → Int) (bn : Int) (t : TkS) (hB : BOk B bn) (ht : TkT σ B bn t) (hk : TkOk bn t) (hm : 0 ≤ m ∧ m < f ∧ f + 8 ≤ 447) : TCi l yX3_wordsInto (ws_ yX3_wordsInto cX3_wordsInto 3 (some Jvm.ClassFile.FieldType.boolean)) 5 E o ad σ [.ref o, jI m, jI f] (fun τ v => eqx [0, 11, 12, 13, 14, 15, 16, 17] σ τ ∧ (PRT σ B bn (wlS B bn m f 9 (zup a m 0, t)) v τ)) := by
  refine tci_of (own := RX3) (cc := cX3_wordsInto) (L := [some (.ref o), some (jI m), some (jI f)]) (by decide) rfl rfl (Nat.le_of_ble_eq_true rfl) (fun Z hE hl hrt hR hm hret => ?_)
  subst hE
  have x0 : eqx [0, 11, 12, 13, 14, 15, 16, 17] σ σ := eqx_rf
  have hk1 := hk.1
  have hk2 := hk.2.1
  refine zi_aload_n dX3_wordsInto_0 rfl ?_
  refine zt_g0 q2431 dX3_wordsInto_1 ?_
  refine zi_iload_n dX3_wordsInto_4 rfl ?_
  refine zi_lconst (m := 0) dX3_wordsInto_5 (by decide +kernel) ?_
  refine zt_st0 dX3_wordsInto_6 (by omega) (fun τ6_0 eτ6_0 => ?_)
  have bsτ6_0 := Bs_0 Bs_rf eτ6_0 (by omega)
  have ntτ6_0 := TkT_u eτ6_0 ht (by decide)
  have gτ6_0 := up_get eτ6_0
  have xτ6_0 : eqx [0, 11, 12, 13, 14, 15, 16, 17] σ τ6_0 := by rw [eτ6_0]; exact eqx_up x0 (by decide)
  have lp7 : ∀ (n : Nat) (u : Nat) (c : Int → Int) (t2 : TkS) (τ7 : TS), (eqx [0, 11, 12, 13, 14, 15, 16, 17] σ τ7) → ((0 ≤ c m ∧ c m ≤ 8) ∧ (u : Int) = 9 - c m) → (τ7 0 = c) → (TkT τ7 B bn t2) → (TkOk bn t2) → (Bs σ τ7) → (wlS B bn m f 9 (zup a m 0, t) = if c m = 0 ∨ t2.k = 2 then wlS B bn m f u (c, t2) else .inl (c, t2)) → u < n → GV RX3 cX3_wordsInto Z (zA Z) (zs Z).heap (twW (zE Z) o ad τ7) 0 0 7 [some (.ref o), some (jI m), some (jI f)] [] := by
    intro n
    induction n with
    | zero => intro u c t2 τ7 y7 i7_0 i7_1 i7_2 i7_3 i7_4 i7_5 m7; exact absurd m7 (Nat.not_lt_zero _)
    | succ n ih7 =>
      intro u c t2 τ7 y7 i7_0 i7_1 i7_2 i7_3 i7_4 i7_5 m7
      have hk3 := i7_3.1
      have hk4 := i7_3.2.1
      refine zi_aload_n dX3_wordsInto_7 rfl ?_
      refine zt_g0 q2431 dX3_wordsInto_8 ?_
      refine zi_iload_n dX3_wordsInto_11 rfl ?_
      refine zt_ld0 dX3_wordsInto_12 (i7_1) (by omega) ?_
      refine zi_lconst (m := 0) dX3_wordsInto_13 (by decide +kernel) ?_
      refine zi_lcmp_eq 26 dX3_wordsInto_14 dX3_wordsInto_15 (by decide) (by omega) (fun c14 => ?_) (fun c14 => ?_)
      · refine zi_aload_n dX3_wordsInto_26 rfl ?_
        refine zt_g0 q2431 dX3_wordsInto_27 ?_
        refine zi_iload_n dX3_wordsInto_30 rfl ?_
        refine zt_ld0 dX3_wordsInto_31 (i7_1) (by omega) ?_
        refine zi_ldc2 (m := 8) dX3_wordsInto_32 q2653 (by decide +kernel) ?_
        refine zi_lcmp_ne 45 dX3_wordsInto_35 dX3_wordsInto_36 (by decide) (by omega) (fun c35 => ?_) (fun c35 => ?_)
        · refine zi_aload_n dX3_wordsInto_45 rfl ?_
          refine zi_iload_n dX3_wordsInto_46 rfl ?_
          refine zi_aload_n dX3_wordsInto_47 rfl ?_
          refine zt_g0 q2431 dX3_wordsInto_48 ?_
          refine zi_iload_n dX3_wordsInto_51 rfl ?_
          refine zt_ld0 dX3_wordsInto_52 (i7_1) (by omega) ?_
          refine zi_l2i dX3_wordsInto_53 ?_
          refine zi_iadd dX3_wordsInto_54 ?_
          refine zt_Vi1 mw_X3_wordInto rfl (tc_wordInto (zl Z) (zE Z) _ _ _ _ (i7_1) _ (_) (_) (t2) (hB) (i7_2) (i7_3) (by omega)) q2626 hR (by decide) (by simp [Value.category]) dX3_wordsInto_55 (fun τ55_1 v55 wτ55_1 => ?_)
          obtain ⟨qτ55_1, h55⟩ := wτ55_1
          have xτ55_1 : eqx [0, 11, 12, 13, 14, 15, 16, 17] σ τ55_1 := eqx_tr y7 (eqx_mono qτ55_1 (by decide))
          refine zi_if_ne 63 dX3_wordsInto_58 (by decide) (by have := PRT_01 h55; omega) (fun c58 => ?_) (fun c58 => ?_)
          · obtain ⟨_, sh55, rh55, ah55, nh55, bh55⟩ := PRT_t h55 c58
            have dh55 := Bs_tr i7_4 bh55
            have k2 := wrdS_k (s := (c, t2)) i7_3 rh55
            have em : sh55.1 m = c m := by rw [k2.2.1]; exact zup_n (by omega)
            refine zi_aload_n dX3_wordsInto_63 rfl ?_
            refine zt_g0 q2431 dX3_wordsInto_64 ?_
            refine zi_iload_n dX3_wordsInto_67 rfl ?_
            refine zi_dup2 dX3_wordsInto_68 rfl rfl ?_
            refine zt_ld0 dX3_wordsInto_69 (ah55) (by omega) ?_
            refine zi_lconst (m := 1) dX3_wordsInto_70 (by decide +kernel) ?_
            refine zi_ladd dX3_wordsInto_71 ?_
            refine zt_st0 dX3_wordsInto_72 (by omega) (fun τ72_2 eτ72_2 => ?_)
            have bsτ72_2 := Bs_0 dh55 eτ72_2 (by omega)
            have ntτ72_2 := TkT_u eτ72_2 nh55 (by decide)
            have gτ72_2 := up_get eτ72_2
            have xτ72_2 : eqx [0, 11, 12, 13, 14, 15, 16, 17] σ τ72_2 := by rw [eτ72_2]; exact eqx_up xτ55_1 (by decide)
            refine zi_goto 7 dX3_wordsInto_73 (by decide) ?_
            refine ih7 (u - 1) (zup sh55.1 m (sh55.1 m + 1)) (sh55.2) _ xτ72_2 (by rw [zup_v, em]; omega) (by funext j; rw [eτ72_2, up_s, ah55]) (ntτ72_2) (k2.2.2.1) (bsτ72_2) ?_ (by omega)
            · rw [i7_5, if_pos (by omega)]
              obtain ⟨u2, q7⟩ : ∃ u2, u = u2 + 1 := ⟨u - 1, by omega⟩
              subst q7
              rw [wlS_b (by omega), rh55, bnd_l]
              by_cases q : sh55.2.k = 2
              · rw [if_pos q, if_pos (Or.inr q)]; rfl
              · rw [if_neg q, if_neg (by rw [zup_v, em]; omega)]
          · obtain ⟨eh55, rh55, fh55⟩ := PRT_f h55 c58
            refine zi_iconst dX3_wordsInto_61 ?_
            exact zi_zreturn hrt (z_nb (Or.inl rfl)) dX3_wordsInto_62 (hret _ _ ⟨xτ55_1, PRT_e (PRT_r i7_4 fh55) (by rw [i7_5, if_pos (by omega)]; obtain ⟨u2, q7⟩ : ∃ u2, u = u2 + 1 := ⟨u - 1, by omega⟩; rw [q7, wlS_b (by omega), rh55, bnd_r])⟩)
        · refine zi_aload_n dX3_wordsInto_39 rfl ?_
          refine zi_iconst dX3_wordsInto_40 ?_
          refine zt_Vi1 mw_X3_fail rfl (tc_fail (zl Z) (zE Z) _ _ _ _ (_) (_) (t2) (hB) (i7_2) (i7_3) (by omega)) q2602 hR (by decide) (by simp [Value.category]) dX3_wordsInto_41 (fun τ41_3 v41 wτ41_3 => ?_)
          obtain ⟨qτ41_3, h41⟩ := wτ41_3
          obtain ⟨eh41, h41⟩ := h41
          subst eh41
          have ntτ41_3 := TkT_q qτ41_3 i7_2 (by decide)
          have xτ41_3 : eqx [0, 11, 12, 13, 14, 15, 16, 17] σ τ41_3 := eqx_tr y7 (eqx_mono qτ41_3 (by decide))
          have haτ41_3 := (qτ41_3 0 (by decide)).trans i7_1
          exact zi_zreturn hrt (z_nb (Or.inl rfl)) dX3_wordsInto_44 (hret _ _ ⟨xτ41_3, PRT_e (PRT_tr i7_4 h41) (by rw [i7_5, if_pos (by omega)]; obtain ⟨u2, q7⟩ : ∃ u2, u = u2 + 1 := ⟨u - 1, by omega⟩; rw [q7]; exact wlS_a (by omega))⟩)
      · refine zi_aload_n dX3_wordsInto_18 rfl ?_
        refine zt_g13 q2444 dX3_wordsInto_19 (i7_2.2.2.2.2.1) ?_
        refine zi_iconst dX3_wordsInto_22 ?_
        refine zi_icmp_ne 76 dX3_wordsInto_23 (by decide) (by omega) (fun c23 => ?_) (fun c23 => ?_)
        · refine zi_iconst dX3_wordsInto_76 ?_
          exact zi_zreturn hrt (z_nb (Or.inr rfl)) dX3_wordsInto_77 (hret _ _ ⟨y7, PRT_e (PRT_l (s := (c, t2)) i7_1 i7_2 i7_4) (by rw [i7_5, if_neg (by omega)])⟩)
        · refine zi_aload_n dX3_wordsInto_26 rfl ?_
          refine zt_g0 q2431 dX3_wordsInto_27 ?_
          refine zi_iload_n dX3_wordsInto_30 rfl ?_
          refine zt_ld0 dX3_wordsInto_31 (i7_1) (by omega) ?_
          refine zi_ldc2 (m := 8) dX3_wordsInto_32 q2653 (by decide +kernel) ?_
          refine zi_lcmp_ne 45 dX3_wordsInto_35 dX3_wordsInto_36 (by decide) (by omega) (fun c35_4 => ?_) (fun c35_4 => ?_)
          · refine zi_aload_n dX3_wordsInto_45 rfl ?_
            refine zi_iload_n dX3_wordsInto_46 rfl ?_
            refine zi_aload_n dX3_wordsInto_47 rfl ?_
            refine zt_g0 q2431 dX3_wordsInto_48 ?_
            refine zi_iload_n dX3_wordsInto_51 rfl ?_
            refine zt_ld0 dX3_wordsInto_52 (i7_1) (by omega) ?_
            refine zi_l2i dX3_wordsInto_53 ?_
            refine zi_iadd dX3_wordsInto_54 ?_
            refine zt_Vi1 mw_X3_wordInto rfl (tc_wordInto (zl Z) (zE Z) _ _ _ _ (i7_1) _ (_) (_) (t2) (hB) (i7_2) (i7_3) (by omega)) q2626 hR (by decide) (by simp [Value.category]) dX3_wordsInto_55 (fun τ55_6 v55_5 wτ55_6 => ?_)
            obtain ⟨qτ55_6, h55_5⟩ := wτ55_6
            have xτ55_6 : eqx [0, 11, 12, 13, 14, 15, 16, 17] σ τ55_6 := eqx_tr y7 (eqx_mono qτ55_6 (by decide))
            refine zi_if_ne 63 dX3_wordsInto_58 (by decide) (by have := PRT_01 h55_5; omega) (fun c58_7 => ?_) (fun c58_7 => ?_)
            · obtain ⟨_, sh55_5, rh55_5, ah55_5, nh55_5, bh55_5⟩ := PRT_t h55_5 c58_7
              have dh55_5 := Bs_tr i7_4 bh55_5
              have k2 := wrdS_k (s := (c, t2)) i7_3 rh55_5
              have em : sh55_5.1 m = c m := by rw [k2.2.1]; exact zup_n (by omega)
              refine zi_aload_n dX3_wordsInto_63 rfl ?_
              refine zt_g0 q2431 dX3_wordsInto_64 ?_
              refine zi_iload_n dX3_wordsInto_67 rfl ?_
              refine zi_dup2 dX3_wordsInto_68 rfl rfl ?_
              refine zt_ld0 dX3_wordsInto_69 (ah55_5) (by omega) ?_
              refine zi_lconst (m := 1) dX3_wordsInto_70 (by decide +kernel) ?_
              refine zi_ladd dX3_wordsInto_71 ?_
              refine zt_st0 dX3_wordsInto_72 (by omega) (fun τ72_8 eτ72_8 => ?_)
              have bsτ72_8 := Bs_0 dh55_5 eτ72_8 (by omega)
              have ntτ72_8 := TkT_u eτ72_8 nh55_5 (by decide)
              have gτ72_8 := up_get eτ72_8
              have xτ72_8 : eqx [0, 11, 12, 13, 14, 15, 16, 17] σ τ72_8 := by rw [eτ72_8]; exact eqx_up xτ55_6 (by decide)
              refine zi_goto 7 dX3_wordsInto_73 (by decide) ?_
              refine ih7 (u - 1) (zup sh55_5.1 m (sh55_5.1 m + 1)) (sh55_5.2) _ xτ72_8 (by rw [zup_v, em]; omega) (by funext j; rw [eτ72_8, up_s, ah55_5]) (ntτ72_8) (k2.2.2.1) (bsτ72_8) ?_ (by omega)
              · rw [i7_5, if_pos (by omega)]
                obtain ⟨u2, q7⟩ : ∃ u2, u = u2 + 1 := ⟨u - 1, by omega⟩
                subst q7
                rw [wlS_b (by omega), rh55_5, bnd_l]
                by_cases q : sh55_5.2.k = 2
                · rw [if_pos q, if_pos (Or.inr q)]; rfl
                · rw [if_neg q, if_neg (by rw [zup_v, em]; omega)]
            · obtain ⟨eh55_5, rh55_5, fh55_5⟩ := PRT_f h55_5 c58_7
              refine zi_iconst dX3_wordsInto_61 ?_
              exact zi_zreturn hrt (z_nb (Or.inl rfl)) dX3_wordsInto_62 (hret _ _ ⟨xτ55_6, PRT_e (PRT_r i7_4 fh55_5) (by rw [i7_5, if_pos (by omega)]; obtain ⟨u2, q7⟩ : ∃ u2, u = u2 + 1 := ⟨u - 1, by omega⟩; rw [q7, wlS_b (by omega), rh55_5, bnd_r])⟩)
          · refine zi_aload_n dX3_wordsInto_39 rfl ?_
            refine zi_iconst dX3_wordsInto_40 ?_
            refine zt_Vi1 mw_X3_fail rfl (tc_fail (zl Z) (zE Z) _ _ _ _ (_) (_) (t2) (hB) (i7_2) (i7_3) (by omega)) q2602 hR (by decide) (by simp [Value.category]) dX3_wordsInto_41 (fun τ41_10 v41_9 wτ41_10 => ?_)
            obtain ⟨qτ41_10, h41_9⟩ := wτ41_10
            obtain ⟨eh41_9, h41_9⟩ := h41_9
            subst eh41_9
            have ntτ41_10 := TkT_q qτ41_10 i7_2 (by decide)
            have xτ41_10 : eqx [0, 11, 12, 13, 14, 15, 16, 17] σ τ41_10 := eqx_tr y7 (eqx_mono qτ41_10 (by decide))
            have haτ41_10 := (qτ41_10 0 (by decide)).trans i7_1
            exact zi_zreturn hrt (z_nb (Or.inl rfl)) dX3_wordsInto_44 (hret _ _ ⟨xτ41_10, PRT_e (PRT_tr i7_4 h41_9) (by rw [i7_5, if_pos (by omega)]; obtain ⟨u2, q7⟩ : ∃ u2, u = u2 + 1 := ⟨u - 1, by omega⟩; rw [q7]; exact wlS_a (by omega))⟩)
  exact lp7 _ (9) (zup a m 0) (t) _ xτ6_0 (by rw [zup_v]; omega) (by funext j; rw [eτ6_0, up_s, ha]) (ntτ6_0) (hk) (bsτ6_0) (by rw [if_pos (Or.inl zup_v)]) (Nat.lt_succ_self _)
