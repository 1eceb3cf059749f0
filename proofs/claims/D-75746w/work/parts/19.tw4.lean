/-! THE REFERENCE: what is asked -/
set_option maxRecDepth 100000
theorem mw_X3_good : MWV yX3_good cX3_good 2 (some Jvm.ClassFile.FieldType.boolean) 1 := ⟨q2533, qs41, q128, q2534, by decide, by decide +kernel, by decide +kernel, by decide +kernel⟩
set_option maxHeartbeats 4000000 in
theorem tc_good_b (l : Launch) (E : ZE) (o : Nat) (ad : Nat → Nat) (σ : TS) (P : Prop) : TCi l yX3_good (ws_ yX3_good cX3_good 2 (some Jvm.ClassFile.FieldType.boolean)) 1 E o ad σ [.ref o, jI (bI P)] (fun τ v => eqx [5] σ τ ∧ (v = bI P ∧ (P → τ 5 0 = 0) ∧ (¬ P → τ 5 0 = 1))) := by
  refine tci_of (own := RX3) (cc := cX3_good) (L := [some (.ref o), some (jI (bI P))]) (by decide) rfl rfl (Nat.le_of_ble_eq_true rfl) (fun Z hE hl hrt hR hm hret => ?_)
  subst hE
  have x0 : eqx [5] σ σ := eqx_rf
  refine zi_aload_n dX3_good_0 rfl ?_
  refine zi_iload_n dX3_good_1 rfl ?_
  refine zi_if_eqB 9 dX3_good_2 (by decide) (fun c2 => ?_) (fun c2 => ?_)
  · refine zi_iconst dX3_good_9 ?_
    refine zt_p5 q2436 dX3_good_10 (fun τ10_0 eτ10_0 => ?_)
    have gτ10_0 := up_get eτ10_0
    have xτ10_0 : eqx [5] σ τ10_0 := by rw [eτ10_0]; exact eqx_up x0 (by decide)
    refine zi_iload_n dX3_good_13 rfl ?_
    exact zi_zreturn hrt (z_nb (bI_01 _)) dX3_good_14 (hret _ _ ⟨xτ10_0, ⟨rfl, fun q => by first | exact absurd q c2 | exact gτ10_0, fun q => by first | exact absurd c2 q | exact gτ10_0⟩⟩)
  · refine zi_iconst dX3_good_5 ?_
    refine zi_goto 10 dX3_good_6 (by decide) ?_
    refine zt_p5 q2436 dX3_good_10 (fun τ10_1 eτ10_1 => ?_)
    have gτ10_1 := up_get eτ10_1
    have xτ10_1 : eqx [5] σ τ10_1 := by rw [eτ10_1]; exact eqx_up x0 (by decide)
    refine zi_iload_n dX3_good_13 rfl ?_
    exact zi_zreturn hrt (z_nb (bI_01 _)) dX3_good_14 (hret _ _ ⟨xτ10_1, ⟨rfl, fun q => by first | exact absurd q c2 | exact gτ10_1, fun q => by first | exact absurd c2 q | exact gτ10_1⟩⟩)
set_option maxHeartbeats 4000000 in
theorem tc_good_t (l : Launch) (E : ZE) (o : Nat) (ad : Nat → Nat) (σ : TS)  : TCi l yX3_good (ws_ yX3_good cX3_good 2 (some Jvm.ClassFile.FieldType.boolean)) 1 E o ad σ [.ref o, jI 1] (fun τ v => eqx [5] σ τ ∧ (v = 1 ∧ τ 5 0 = 0)) := by
  refine tci_of (own := RX3) (cc := cX3_good) (L := [some (.ref o), some (jI 1)]) (by decide) rfl rfl (Nat.le_of_ble_eq_true rfl) (fun Z hE hl hrt hR hm hret => ?_)
  subst hE
  have x0 : eqx [5] σ σ := eqx_rf
  refine zi_aload_n dX3_good_0 rfl ?_
  refine zi_iload_n dX3_good_1 rfl ?_
  refine zi_if_eq 9 dX3_good_2 (by decide) (by decide) (fun h => absurd h (by decide)) (fun _ => ?_)
  refine zi_iconst dX3_good_5 ?_
  refine zi_goto 10 dX3_good_6 (by decide) ?_
  refine zt_p5 q2436 dX3_good_10 (fun τ10_0 eτ10_0 => ?_)
  have gτ10_0 := up_get eτ10_0
  have xτ10_0 : eqx [5] σ τ10_0 := by rw [eτ10_0]; exact eqx_up x0 (by decide)
  refine zi_iload_n dX3_good_13 rfl ?_
  exact zi_zreturn hrt (z_nb (Or.inr rfl)) dX3_good_14 (hret _ _ ⟨xτ10_0, ⟨rfl, gτ10_0⟩⟩)
set_option maxHeartbeats 4000000 in
theorem tc_good_f (l : Launch) (E : ZE) (o : Nat) (ad : Nat → Nat) (σ : TS)  : TCi l yX3_good (ws_ yX3_good cX3_good 2 (some Jvm.ClassFile.FieldType.boolean)) 1 E o ad σ [.ref o, jI 0] (fun τ v => eqx [5] σ τ ∧ (v = 0 ∧ τ 5 0 = 1)) := by
  refine tci_of (own := RX3) (cc := cX3_good) (L := [some (.ref o), some (jI 0)]) (by decide) rfl rfl (Nat.le_of_ble_eq_true rfl) (fun Z hE hl hrt hR hm hret => ?_)
  subst hE
  have x0 : eqx [5] σ σ := eqx_rf
  refine zi_aload_n dX3_good_0 rfl ?_
  refine zi_iload_n dX3_good_1 rfl ?_
  refine zi_if_eq 9 dX3_good_2 (by decide) (by decide) (fun _ => ?_) (fun h => absurd h (by decide))
  refine zi_iconst dX3_good_9 ?_
  refine zt_p5 q2436 dX3_good_10 (fun τ10_0 eτ10_0 => ?_)
  have gτ10_0 := up_get eτ10_0
  have xτ10_0 : eqx [5] σ τ10_0 := by rw [eτ10_0]; exact eqx_up x0 (by decide)
  refine zi_iload_n dX3_good_13 rfl ?_
  exact zi_zreturn hrt (z_nb (Or.inl rfl)) dX3_good_14 (hret _ _ ⟨xτ10_0, ⟨rfl, gτ10_0⟩⟩)
theorem mw_X3_good_3 : MWV yX3_good_3 cX3_good_3 4 (some Jvm.ClassFile.FieldType.boolean) 3 := ⟨q2812, qs89, q128, q2813, by decide, by decide +kernel, by decide +kernel, by decide +kernel⟩
set_option maxHeartbeats 4000000 in
theorem tc_good_3_bbt (l : Launch) (E : ZE) (o : Nat) (ad : Nat → Nat) (σ : TS) (P : Prop) (Q : Prop) : TCi l yX3_good_3 (ws_ yX3_good_3 cX3_good_3 4 (some Jvm.ClassFile.FieldType.boolean)) 1 E o ad σ [.ref o, jI (bI P), jI (bI Q), jI 1] (fun τ v => eqx [5] σ τ ∧ (v = bI (P ∧ Q) ∧ (P → Q → τ 5 0 = 0) ∧ (¬ P → τ 5 0 = 1) ∧ (P → ¬ Q → τ 5 0 = 2))) := by
  refine tci_of (own := RX3) (cc := cX3_good_3) (L := [some (.ref o), some (jI (bI P)), some (jI (bI Q)), some (jI 1)]) (by decide) rfl rfl (Nat.le_of_ble_eq_true rfl) (fun Z hE hl hrt hR hm hret => ?_)
  subst hE
  have x0 : eqx [5] σ σ := eqx_rf
  refine zi_aload_n dX3_good_3_0 rfl ?_
  refine zi_iconst dX3_good_3_1 ?_
  refine zt_p5 q2436 dX3_good_3_2 (fun τ2_0 eτ2_0 => ?_)
  have gτ2_0 := up_get eτ2_0
  have xτ2_0 : eqx [5] σ τ2_0 := by rw [eτ2_0]; exact eqx_up x0 (by decide)
  refine zi_iload_n dX3_good_3_5 rfl ?_
  refine zi_if_neB 17 dX3_good_3_6 (by decide) (fun c6 => ?_) (fun c6 => ?_)
  · refine zi_iload_n dX3_good_3_17 rfl ?_
    refine zi_if_neB 29 dX3_good_3_18 (by decide) (fun c18 => ?_) (fun c18 => ?_)
    · refine zi_iload_n dX3_good_3_29 rfl ?_
      refine zi_if_ne 38 dX3_good_3_30 (by decide) (by decide) (fun _ => ?_) (fun h => absurd h (by decide))
      refine zi_aload_n dX3_good_3_38 rfl ?_
      have z9 := gτ2_0
      refine zt_g5 q2436 dX3_good_3_39 (gτ2_0) ?_
      refine zi_if_ne 49 dX3_good_3_42 (by decide) (by decide) (fun h => absurd h (by decide)) (fun _ => ?_)
      refine zi_iconst dX3_good_3_45 ?_
      refine zi_goto 50 dX3_good_3_46 (by decide) ?_
      exact zi_zreturn hrt (z_nb (Or.inr rfl)) dX3_good_3_50 (hret _ _ ⟨xτ2_0, by refine ⟨?_, ?_, ?_, ?_⟩ <;> first | exact bI_1 ⟨c6, c18⟩ | exact bI_0 (fun q => c6 q.1) | exact bI_0 (fun q => c18 q.2) | (intros; first | exact z9 | contradiction)⟩)
    · refine zi_aload_n dX3_good_3_21 rfl ?_
      refine zi_iconst dX3_good_3_22 ?_
      refine zt_p5 q2436 dX3_good_3_23 (fun τ23_1 eτ23_1 => ?_)
      have gτ23_1 := up_get eτ23_1
      have xτ23_1 : eqx [5] σ τ23_1 := by rw [eτ23_1]; exact eqx_up xτ2_0 (by decide)
      refine zi_goto 38 dX3_good_3_26 (by decide) ?_
      refine zi_aload_n dX3_good_3_38 rfl ?_
      have z9 := gτ23_1
      refine zt_g5 q2436 dX3_good_3_39 (gτ23_1) ?_
      refine zi_if_ne 49 dX3_good_3_42 (by decide) (by decide) (fun _ => ?_) (fun h => absurd h (by decide))
      refine zi_iconst dX3_good_3_49 ?_
      exact zi_zreturn hrt (z_nb (Or.inl rfl)) dX3_good_3_50 (hret _ _ ⟨xτ23_1, by refine ⟨?_, ?_, ?_, ?_⟩ <;> first | exact bI_1 ⟨c6, c18⟩ | exact bI_0 (fun q => c6 q.1) | exact bI_0 (fun q => c18 q.2) | (intros; first | exact z9 | contradiction)⟩)
  · refine zi_aload_n dX3_good_3_9 rfl ?_
    refine zi_iconst dX3_good_3_10 ?_
    refine zt_p5 q2436 dX3_good_3_11 (fun τ11_3 eτ11_3 => ?_)
    have gτ11_3 := up_get eτ11_3
    have xτ11_3 : eqx [5] σ τ11_3 := by rw [eτ11_3]; exact eqx_up xτ2_0 (by decide)
    refine zi_goto 38 dX3_good_3_14 (by decide) ?_
    refine zi_aload_n dX3_good_3_38 rfl ?_
    have z9 := gτ11_3
    refine zt_g5 q2436 dX3_good_3_39 (gτ11_3) ?_
    refine zi_if_ne 49 dX3_good_3_42 (by decide) (by decide) (fun _ => ?_) (fun h => absurd h (by decide))
    refine zi_iconst dX3_good_3_49 ?_
    exact zi_zreturn hrt (z_nb (Or.inl rfl)) dX3_good_3_50 (hret _ _ ⟨xτ11_3, by refine ⟨?_, ?_, ?_, ?_⟩ <;> first | exact bI_1 ⟨c6, c18⟩ | exact bI_0 (fun q => c6 q.1) | exact bI_0 (fun q => c18 q.2) | (intros; first | exact z9 | contradiction)⟩)
set_option maxHeartbeats 4000000 in
theorem tc_good_3_btt (l : Launch) (E : ZE) (o : Nat) (ad : Nat → Nat) (σ : TS) (P : Prop) : TCi l yX3_good_3 (ws_ yX3_good_3 cX3_good_3 4 (some Jvm.ClassFile.FieldType.boolean)) 1 E o ad σ [.ref o, jI (bI P), jI 1, jI 1] (fun τ v => eqx [5] σ τ ∧ (v = bI P ∧ (P → τ 5 0 = 0) ∧ (¬ P → τ 5 0 = 1))) := by
  refine tci_of (own := RX3) (cc := cX3_good_3) (L := [some (.ref o), some (jI (bI P)), some (jI 1), some (jI 1)]) (by decide) rfl rfl (Nat.le_of_ble_eq_true rfl) (fun Z hE hl hrt hR hm hret => ?_)
  subst hE
  have x0 : eqx [5] σ σ := eqx_rf
  refine zi_aload_n dX3_good_3_0 rfl ?_
  refine zi_iconst dX3_good_3_1 ?_
  refine zt_p5 q2436 dX3_good_3_2 (fun τ2_0 eτ2_0 => ?_)
  have gτ2_0 := up_get eτ2_0
  have xτ2_0 : eqx [5] σ τ2_0 := by rw [eτ2_0]; exact eqx_up x0 (by decide)
  refine zi_iload_n dX3_good_3_5 rfl ?_
  refine zi_if_neB 17 dX3_good_3_6 (by decide) (fun c6 => ?_) (fun c6 => ?_)
  · refine zi_iload_n dX3_good_3_17 rfl ?_
    refine zi_if_ne 29 dX3_good_3_18 (by decide) (by decide) (fun _ => ?_) (fun h => absurd h (by decide))
    refine zi_iload_n dX3_good_3_29 rfl ?_
    refine zi_if_ne 38 dX3_good_3_30 (by decide) (by decide) (fun _ => ?_) (fun h => absurd h (by decide))
    refine zi_aload_n dX3_good_3_38 rfl ?_
    have z9 := gτ2_0
    refine zt_g5 q2436 dX3_good_3_39 (gτ2_0) ?_
    refine zi_if_ne 49 dX3_good_3_42 (by decide) (by decide) (fun h => absurd h (by decide)) (fun _ => ?_)
    refine zi_iconst dX3_good_3_45 ?_
    refine zi_goto 50 dX3_good_3_46 (by decide) ?_
    exact zi_zreturn hrt (z_nb (Or.inr rfl)) dX3_good_3_50 (hret _ _ ⟨xτ2_0, by refine ⟨?_, ?_, ?_⟩ <;> first | exact bI_1 c6 | exact bI_0 c6 | (intros; first | exact z9 | contradiction)⟩)
  · refine zi_aload_n dX3_good_3_9 rfl ?_
    refine zi_iconst dX3_good_3_10 ?_
    refine zt_p5 q2436 dX3_good_3_11 (fun τ11_1 eτ11_1 => ?_)
    have gτ11_1 := up_get eτ11_1
    have xτ11_1 : eqx [5] σ τ11_1 := by rw [eτ11_1]; exact eqx_up xτ2_0 (by decide)
    refine zi_goto 38 dX3_good_3_14 (by decide) ?_
    refine zi_aload_n dX3_good_3_38 rfl ?_
    have z9 := gτ11_1
    refine zt_g5 q2436 dX3_good_3_39 (gτ11_1) ?_
    refine zi_if_ne 49 dX3_good_3_42 (by decide) (by decide) (fun _ => ?_) (fun h => absurd h (by decide))
    refine zi_iconst dX3_good_3_49 ?_
    exact zi_zreturn hrt (z_nb (Or.inl rfl)) dX3_good_3_50 (hret _ _ ⟨xτ11_1, by refine ⟨?_, ?_, ?_⟩ <;> first | exact bI_1 c6 | exact bI_0 c6 | (intros; first | exact z9 | contradiction)⟩)
set_option maxHeartbeats 4000000 in
theorem tc_good_3_bft (l : Launch) (E : ZE) (o : Nat) (ad : Nat → Nat) (σ : TS) (P : Prop) : TCi l yX3_good_3 (ws_ yX3_good_3 cX3_good_3 4 (some Jvm.ClassFile.FieldType.boolean)) 1 E o ad σ [.ref o, jI (bI P), jI 0, jI 1] (fun τ v => eqx [5] σ τ ∧ (v = 0 ∧ (P → τ 5 0 = 2) ∧ (¬ P → τ 5 0 = 1))) := by
  refine tci_of (own := RX3) (cc := cX3_good_3) (L := [some (.ref o), some (jI (bI P)), some (jI 0), some (jI 1)]) (by decide) rfl rfl (Nat.le_of_ble_eq_true rfl) (fun Z hE hl hrt hR hm hret => ?_)
  subst hE
  have x0 : eqx [5] σ σ := eqx_rf
  refine zi_aload_n dX3_good_3_0 rfl ?_
  refine zi_iconst dX3_good_3_1 ?_
  refine zt_p5 q2436 dX3_good_3_2 (fun τ2_0 eτ2_0 => ?_)
  have gτ2_0 := up_get eτ2_0
  have xτ2_0 : eqx [5] σ τ2_0 := by rw [eτ2_0]; exact eqx_up x0 (by decide)
  refine zi_iload_n dX3_good_3_5 rfl ?_
  refine zi_if_neB 17 dX3_good_3_6 (by decide) (fun c6 => ?_) (fun c6 => ?_)
  · refine zi_iload_n dX3_good_3_17 rfl ?_
    refine zi_if_ne 29 dX3_good_3_18 (by decide) (by decide) (fun h => absurd h (by decide)) (fun _ => ?_)
    refine zi_aload_n dX3_good_3_21 rfl ?_
    refine zi_iconst dX3_good_3_22 ?_
    refine zt_p5 q2436 dX3_good_3_23 (fun τ23_1 eτ23_1 => ?_)
    have gτ23_1 := up_get eτ23_1
    have xτ23_1 : eqx [5] σ τ23_1 := by rw [eτ23_1]; exact eqx_up xτ2_0 (by decide)
    refine zi_goto 38 dX3_good_3_26 (by decide) ?_
    refine zi_aload_n dX3_good_3_38 rfl ?_
    have z9 := gτ23_1
    refine zt_g5 q2436 dX3_good_3_39 (gτ23_1) ?_
    refine zi_if_ne 49 dX3_good_3_42 (by decide) (by decide) (fun _ => ?_) (fun h => absurd h (by decide))
    refine zi_iconst dX3_good_3_49 ?_
    exact zi_zreturn hrt (z_nb (Or.inl rfl)) dX3_good_3_50 (hret _ _ ⟨xτ23_1, by refine ⟨rfl, ?_, ?_⟩ <;> (intros; first | exact z9 | contradiction)⟩)
  · refine zi_aload_n dX3_good_3_9 rfl ?_
    refine zi_iconst dX3_good_3_10 ?_
    refine zt_p5 q2436 dX3_good_3_11 (fun τ11_2 eτ11_2 => ?_)
    have gτ11_2 := up_get eτ11_2
    have xτ11_2 : eqx [5] σ τ11_2 := by rw [eτ11_2]; exact eqx_up xτ2_0 (by decide)
    refine zi_goto 38 dX3_good_3_14 (by decide) ?_
    refine zi_aload_n dX3_good_3_38 rfl ?_
    have z9 := gτ11_2
    refine zt_g5 q2436 dX3_good_3_39 (gτ11_2) ?_
    refine zi_if_ne 49 dX3_good_3_42 (by decide) (by decide) (fun _ => ?_) (fun h => absurd h (by decide))
    refine zi_iconst dX3_good_3_49 ?_
    exact zi_zreturn hrt (z_nb (Or.inl rfl)) dX3_good_3_50 (hret _ _ ⟨xτ11_2, by refine ⟨rfl, ?_, ?_⟩ <;> (intros; first | exact z9 | contradiction)⟩)
theorem mw_X3_good_2 : MWV yX3_good_2 cX3_good_2 3 (some Jvm.ClassFile.FieldType.boolean) 2 := ⟨q2808, qs88, q128, q2809, by decide, by decide +kernel, by decide +kernel, by decide +kernel⟩
set_option maxHeartbeats 4000000 in
theorem tc_good_2_bb (l : Launch) (E : ZE) (o : Nat) (ad : Nat → Nat) (σ : TS) (P : Prop) (Q : Prop) : TCi l yX3_good_2 (ws_ yX3_good_2 cX3_good_2 3 (some Jvm.ClassFile.FieldType.boolean)) 2 E o ad σ [.ref o, jI (bI P), jI (bI Q)] (fun τ v => eqx [5] σ τ ∧ (v = bI (P ∧ Q) ∧ (P → Q → τ 5 0 = 0) ∧ (¬ P → τ 5 0 = 1) ∧ (P → ¬ Q → τ 5 0 = 2))) := by
  refine tci_of (own := RX3) (cc := cX3_good_2) (L := [some (.ref o), some (jI (bI P)), some (jI (bI Q))]) (by decide) rfl rfl (Nat.le_of_ble_eq_true rfl) (fun Z hE hl hrt hR hm hret => ?_)
  subst hE
  have x0 : eqx [5] σ σ := eqx_rf
  refine zi_aload_n dX3_good_2_0 rfl ?_
  refine zi_iload_n dX3_good_2_1 rfl ?_
  refine zi_iload_n dX3_good_2_2 rfl ?_
  refine zi_iconst dX3_good_2_3 ?_
  refine zt_Vi3 mw_X3_good_3 rfl (tc_good_3_bbt (zl Z) (zE Z) _ _ _ _ _) q2810 hR (by decide) (by simp [Value.category]) dX3_good_2_4 (fun τ4_0 v4 wτ4_0 => ?_)
  obtain ⟨qτ4_0, h4⟩ := wτ4_0
  obtain ⟨eh4, h4⟩ := h4
  subst eh4
  have xτ4_0 : eqx [5] σ τ4_0 := eqx_tr x0 (eqx_mono qτ4_0 (by decide))
  exact zi_zreturn hrt (z_nb (bI_01 _)) dX3_good_2_7 (hret _ _ ⟨xτ4_0, ⟨rfl, h4⟩⟩)
set_option maxHeartbeats 4000000 in
theorem tc_good_2_bt (l : Launch) (E : ZE) (o : Nat) (ad : Nat → Nat) (σ : TS) (P : Prop) : TCi l yX3_good_2 (ws_ yX3_good_2 cX3_good_2 3 (some Jvm.ClassFile.FieldType.boolean)) 2 E o ad σ [.ref o, jI (bI P), jI 1] (fun τ v => eqx [5] σ τ ∧ (v = bI P ∧ (P → τ 5 0 = 0) ∧ (¬ P → τ 5 0 = 1))) := by
  refine tci_of (own := RX3) (cc := cX3_good_2) (L := [some (.ref o), some (jI (bI P)), some (jI 1)]) (by decide) rfl rfl (Nat.le_of_ble_eq_true rfl) (fun Z hE hl hrt hR hm hret => ?_)
  subst hE
  have x0 : eqx [5] σ σ := eqx_rf
  refine zi_aload_n dX3_good_2_0 rfl ?_
  refine zi_iload_n dX3_good_2_1 rfl ?_
  refine zi_iload_n dX3_good_2_2 rfl ?_
  refine zi_iconst dX3_good_2_3 ?_
  refine zt_Vi3 mw_X3_good_3 rfl (tc_good_3_btt (zl Z) (zE Z) _ _ _ _) q2810 hR (by decide) (by simp [Value.category]) dX3_good_2_4 (fun τ4_0 v4 wτ4_0 => ?_)
  obtain ⟨qτ4_0, h4⟩ := wτ4_0
  obtain ⟨eh4, h4⟩ := h4
  subst eh4
  have xτ4_0 : eqx [5] σ τ4_0 := eqx_tr x0 (eqx_mono qτ4_0 (by decide))
  exact zi_zreturn hrt (z_nb (bI_01 _)) dX3_good_2_7 (hret _ _ ⟨xτ4_0, ⟨rfl, h4⟩⟩)
set_option maxHeartbeats 4000000 in
theorem tc_good_2_bf (l : Launch) (E : ZE) (o : Nat) (ad : Nat → Nat) (σ : TS) (P : Prop) : TCi l yX3_good_2 (ws_ yX3_good_2 cX3_good_2 3 (some Jvm.ClassFile.FieldType.boolean)) 2 E o ad σ [.ref o, jI (bI P), jI 0] (fun τ v => eqx [5] σ τ ∧ (v = 0 ∧ (P → τ 5 0 = 2) ∧ (¬ P → τ 5 0 = 1))) := by
  refine tci_of (own := RX3) (cc := cX3_good_2) (L := [some (.ref o), some (jI (bI P)), some (jI 0)]) (by decide) rfl rfl (Nat.le_of_ble_eq_true rfl) (fun Z hE hl hrt hR hm hret => ?_)
  subst hE
  have x0 : eqx [5] σ σ := eqx_rf
  refine zi_aload_n dX3_good_2_0 rfl ?_
  refine zi_iload_n dX3_good_2_1 rfl ?_
  refine zi_iload_n dX3_good_2_2 rfl ?_
  refine zi_iconst dX3_good_2_3 ?_
  refine zt_Vi3 mw_X3_good_3 rfl (tc_good_3_bft (zl Z) (zE Z) _ _ _ _) q2810 hR (by decide) (by simp [Value.category]) dX3_good_2_4 (fun τ4_0 v4 wτ4_0 => ?_)
  obtain ⟨qτ4_0, h4⟩ := wτ4_0
  obtain ⟨eh4, h4⟩ := h4
  subst eh4
  have xτ4_0 : eqx [5] σ τ4_0 := eqx_tr x0 (eqx_mono qτ4_0 (by decide))
  exact zi_zreturn hrt (z_nb (Or.inl rfl)) dX3_good_2_7 (hret _ _ ⟨xτ4_0, ⟨rfl, h4⟩⟩)
theorem mw_X3_isPerson : MWV yX3_isPerson cX3_isPerson 2 (some Jvm.ClassFile.FieldType.boolean) 1 := ⟨q2796, qs86, q128, q2797, by decide, by decide +kernel, by decide +kernel, by decide +kernel⟩
set_option maxHeartbeats 4000000 in
theorem tc_isPerson (l : Launch) (E : ZE) (o : Nat) (ad : Nat → Nat) (σ : TS) (a : Int → Int) (ha : σ 0 = a) (p : Int) (hok : OkA a) (rp : -2147483648 ≤ p ∧ p < 2147483648) : TCi l yX3_isPerson (ws_ yX3_isPerson cX3_isPerson 2 (some Jvm.ClassFile.FieldType.boolean)) 2 E o ad σ [.ref o, jI p] (fun τ v => τ = σ ∧ (v = bI (0 ≤ p ∧ p < a 9))) := by
  refine tci_of (own := RX3) (cc := cX3_isPerson) (L := [some (.ref o), some (jI p)]) (by decide) rfl rfl (Nat.le_of_ble_eq_true rfl) (fun Z hE hl hrt hR hm hret => ?_)
  subst hE
  have hc := hok.cnt
  refine zi_iload_n dX3_isPerson_0 rfl ?_
  refine zi_i2l dX3_isPerson_1 (by omega) ?_
  refine zi_lconst (m := 0) dX3_isPerson_2 (by decide +kernel) ?_
  refine zi_aload_n dX3_isPerson_3 rfl ?_
  refine zt_g0 q2431 dX3_isPerson_4 ?_
  refine zi_bipush dX3_isPerson_7 (by decide +kernel) ?_
  refine zt_ld0 dX3_isPerson_9 (ha) (by omega) ?_
  refine zi_lconst (m := 1) dX3_isPerson_10 (by decide +kernel) ?_
  refine zi_lsub dX3_isPerson_11 ?_
  refine zt_PSi3 mw_X3_isIn (tc_isIn (zl Z) (zE Z) _ _ _ _ _ _ (by omega) (by omega) (by omega)) q2528 hR (by decide) (by simp [Value.category]) dX3_isPerson_12 (fun v12 h12 => ?_)
  subst h12
  exact zi_zreturn hrt (z_nb (bI_01 _)) dX3_isPerson_15 (hret _ _ ⟨rfl, bI_c (by omega)⟩)
theorem mw_X3_isTerm : MWV yX3_isTerm cX3_isTerm 2 (some Jvm.ClassFile.FieldType.boolean) 1 := ⟨q2963, qs106, q128, q2964, by decide, by decide +kernel, by decide +kernel, by decide +kernel⟩
set_option maxHeartbeats 4000000 in
theorem tc_isTerm (l : Launch) (E : ZE) (o : Nat) (ad : Nat → Nat) (σ : TS) (a : Int → Int) (ha : σ 0 = a) (t : Int) (hok : OkA a) (rt : -2147483648 ≤ t ∧ t < 2147483648) : TCi l yX3_isTerm (ws_ yX3_isTerm cX3_isTerm 2 (some Jvm.ClassFile.FieldType.boolean)) 2 E o ad σ [.ref o, jI t] (fun τ v => τ = σ ∧ (v = bI (0 ≤ t ∧ t < a 20))) := by
  refine tci_of (own := RX3) (cc := cX3_isTerm) (L := [some (.ref o), some (jI t)]) (by decide) rfl rfl (Nat.le_of_ble_eq_true rfl) (fun Z hE hl hrt hR hm hret => ?_)
  subst hE
  have hc := hok.cnt
  refine zi_iload_n dX3_isTerm_0 rfl ?_
  refine zi_i2l dX3_isTerm_1 (by omega) ?_
  refine zi_lconst (m := 0) dX3_isTerm_2 (by decide +kernel) ?_
  refine zi_aload_n dX3_isTerm_3 rfl ?_
  refine zt_g0 q2431 dX3_isTerm_4 ?_
  refine zi_bipush dX3_isTerm_7 (by decide +kernel) ?_
  refine zt_ld0 dX3_isTerm_9 (ha) (by omega) ?_
  refine zi_lconst (m := 1) dX3_isTerm_10 (by decide +kernel) ?_
  refine zi_lsub dX3_isTerm_11 ?_
  refine zt_PSi3 mw_X3_isIn (tc_isIn (zl Z) (zE Z) _ _ _ _ _ _ (by omega) (by omega) (by omega)) q2528 hR (by decide) (by simp [Value.category]) dX3_isTerm_12 (fun v12 h12 => ?_)
  subst h12
  exact zi_zreturn hrt (z_nb (bI_01 _)) dX3_isTerm_15 (hret _ _ ⟨rfl, bI_c (by omega)⟩)
theorem mw_X3_isJob : MWV yX3_isJob cX3_isJob 2 (some Jvm.ClassFile.FieldType.boolean) 1 := ⟨q2804, qs87, q128, q2805, by decide, by decide +kernel, by decide +kernel, by decide +kernel⟩
set_option maxHeartbeats 4000000 in
theorem tc_isJob (l : Launch) (E : ZE) (o : Nat) (ad : Nat → Nat) (σ : TS) (a : Int → Int) (ha : σ 0 = a) (j : Int) (hok : OkA a) (rj : -2147483648 ≤ j ∧ j < 2147483648) : TCi l yX3_isJob (ws_ yX3_isJob cX3_isJob 2 (some Jvm.ClassFile.FieldType.boolean)) 2 E o ad σ [.ref o, jI j] (fun τ v => τ = σ ∧ (v = bI (0 ≤ j ∧ j < a 45))) := by
  refine tci_of (own := RX3) (cc := cX3_isJob) (L := [some (.ref o), some (jI j)]) (by decide) rfl rfl (Nat.le_of_ble_eq_true rfl) (fun Z hE hl hrt hR hm hret => ?_)
  subst hE
  have hc := hok.cnt
  refine zi_iload_n dX3_isJob_0 rfl ?_
  refine zi_i2l dX3_isJob_1 (by omega) ?_
  refine zi_lconst (m := 0) dX3_isJob_2 (by decide +kernel) ?_
  refine zi_aload_n dX3_isJob_3 rfl ?_
  refine zt_g0 q2431 dX3_isJob_4 ?_
  refine zi_bipush dX3_isJob_7 (by decide +kernel) ?_
  refine zt_ld0 dX3_isJob_9 (ha) (by omega) ?_
  refine zi_lconst (m := 1) dX3_isJob_10 (by decide +kernel) ?_
  refine zi_lsub dX3_isJob_11 ?_
  refine zt_PSi3 mw_X3_isIn (tc_isIn (zl Z) (zE Z) _ _ _ _ _ _ (by omega) (by omega) (by omega)) q2528 hR (by decide) (by simp [Value.category]) dX3_isJob_12 (fun v12 h12 => ?_)
  subst h12
  exact zi_zreturn hrt (z_nb (bI_01 _)) dX3_isJob_15 (hret _ _ ⟨rfl, bI_c (by omega)⟩)
theorem mw_X3_isSegment : MWV yX3_isSegment cX3_isSegment 2 (some Jvm.ClassFile.FieldType.boolean) 1 := ⟨q2828, qs92, q128, q2829, by decide, by decide +kernel, by decide +kernel, by decide +kernel⟩
set_option maxHeartbeats 4000000 in
theorem tc_isSegment (l : Launch) (E : ZE) (o : Nat) (ad : Nat → Nat) (σ : TS) (a : Int → Int) (ha : σ 0 = a) (g : Int) (hok : OkA a) (rg : -2147483648 ≤ g ∧ g < 2147483648) : TCi l yX3_isSegment (ws_ yX3_isSegment cX3_isSegment 2 (some Jvm.ClassFile.FieldType.boolean)) 2 E o ad σ [.ref o, jI g] (fun τ v => τ = σ ∧ (v = bI (0 ≤ g ∧ g < a 66))) := by
  refine tci_of (own := RX3) (cc := cX3_isSegment) (L := [some (.ref o), some (jI g)]) (by decide) rfl rfl (Nat.le_of_ble_eq_true rfl) (fun Z hE hl hrt hR hm hret => ?_)
  subst hE
  have hc := hok.cnt
  refine zi_iload_n dX3_isSegment_0 rfl ?_
  refine zi_i2l dX3_isSegment_1 (by omega) ?_
  refine zi_lconst (m := 0) dX3_isSegment_2 (by decide +kernel) ?_
  refine zi_aload_n dX3_isSegment_3 rfl ?_
  refine zt_g0 q2431 dX3_isSegment_4 ?_
  refine zi_bipush dX3_isSegment_7 (by decide +kernel) ?_
  refine zt_ld0 dX3_isSegment_9 (ha) (by omega) ?_
  refine zi_lconst (m := 1) dX3_isSegment_10 (by decide +kernel) ?_
  refine zi_lsub dX3_isSegment_11 ?_
  refine zt_PSi3 mw_X3_isIn (tc_isIn (zl Z) (zE Z) _ _ _ _ _ _ (by omega) (by omega) (by omega)) q2528 hR (by decide) (by simp [Value.category]) dX3_isSegment_12 (fun v12 h12 => ?_)
  subst h12
  exact zi_zreturn hrt (z_nb (bI_01 _)) dX3_isSegment_15 (hret _ _ ⟨rfl, bI_c (by omega)⟩)
theorem mw_X3_isBand : MWS yX3_isBand cX3_isBand 1 (some Jvm.ClassFile.FieldType.boolean) 1 := ⟨q2788, q128, q2789, by decide, by decide +kernel, by decide +kernel, by decide +kernel⟩
set_option maxHeartbeats 4000000 in
theorem tc_isBand (l : Launch) (E : ZE) (o : Nat) (ad : Nat → Nat) (σ : TS) (b : Int) (rb : -2147483648 ≤ b ∧ b < 2147483648) : TCi l yX3_isBand (ws_ yX3_isBand cX3_isBand 1 (some Jvm.ClassFile.FieldType.boolean)) 2 E o ad σ [jI b] (fun τ v => τ = σ ∧ (v = bI (0 ≤ b ∧ b ≤ 4))) := by
  refine tci_of (own := RX3) (cc := cX3_isBand) (L := [some (jI b)]) (by decide) rfl rfl (Nat.le_of_ble_eq_true rfl) (fun Z hE hl hrt hR hm hret => ?_)
  subst hE
  refine zi_iload_n dX3_isBand_0 rfl ?_
  refine zi_i2l dX3_isBand_1 (by omega) ?_
  refine zi_lconst (m := 0) dX3_isBand_2 (by decide +kernel) ?_
  refine zi_ldc2 (m := 4) dX3_isBand_3 q2429 (by decide +kernel) ?_
  refine zt_PSi3 mw_X3_isIn (tc_isIn (zl Z) (zE Z) _ _ _ _ _ _ (by omega) (by omega) (by omega)) q2528 hR (by decide) (by simp [Value.category]) dX3_isBand_6 (fun v6 h6 => ?_)
  subst h6
  exact zi_zreturn hrt (z_nb (bI_01 _)) dX3_isBand_9 (hret _ _ ⟨rfl, bI_c (by omega)⟩)
theorem mw_X3_setting : MWV yX3_setting cX3_setting 2 (some Jvm.ClassFile.FieldType.int) 1 := ⟨q2779, q2780, q128, q2781, by decide, by decide +kernel, by decide +kernel, by decide +kernel⟩
set_option maxHeartbeats 4000000 in
theorem tc_setting (l : Launch) (E : ZE) (o : Nat) (ad : Nat → Nat) (σ : TS) (a : Int → Int) (ha : σ 0 = a) (w : Int) (hok : OkA a) (rw : -2147483648 ≤ w ∧ w < 2147483648) : TCi l yX3_setting (ws_ yX3_setting cX3_setting 2 (some Jvm.ClassFile.FieldType.int)) 2 E o ad σ [.ref o, jI w] (fun τ v => eqx [5] σ τ ∧ ((0 ≤ w ∧ w ≤ 3 → τ 5 0 = 0 ∧ v = a w) ∧ (¬ (0 ≤ w ∧ w ≤ 3) → τ 5 0 = 1))) := by
  refine tci_of (own := RX3) (cc := cX3_setting) (L := [some (.ref o), some (jI w)]) (by decide) rfl rfl (Nat.le_of_ble_eq_true rfl) (fun Z hE hl hrt hR hm hret => ?_)
  subst hE
  have x0 : eqx [5] σ σ := eqx_rf
  refine zi_aload_n dX3_setting_0 rfl ?_
  refine zi_iload_n dX3_setting_1 rfl ?_
  refine zi_i2l dX3_setting_2 (by omega) ?_
  refine zi_lconst (m := 0) dX3_setting_3 (by decide +kernel) ?_
  refine zi_ldc2 (m := 3) dX3_setting_4 q2782 (by decide +kernel) ?_
  refine zt_PSi3 mw_X3_isIn (tc_isIn (zl Z) (zE Z) _ _ _ _ _ _ (by omega) (by omega) (by omega)) q2528 hR (by decide) (by simp [Value.category]) dX3_setting_7 (fun v7 h7 => ?_)
  subst h7
  refine zt_Vi1 mw_X3_good rfl (tc_good_b (zl Z) (zE Z) _ _ _ _) q2531 hR (by decide) (by simp [Value.category]) dX3_setting_10 (fun τ10_0 v10 wτ10_0 => ?_)
  obtain ⟨qτ10_0, h10⟩ := wτ10_0
  obtain ⟨eh10, h10⟩ := h10
  subst eh10
  have xτ10_0 : eqx [5] σ τ10_0 := eqx_tr x0 (eqx_mono qτ10_0 (by decide))
  have haτ10_0 : τ10_0 0 = a := (xτ10_0 0 (by decide)).trans ha
  refine zi_if_eqB 26 dX3_setting_13 (by decide) (fun c13 => ?_) (fun c13 => ?_)
  · have tc13 := h10.2 c13; clear h10
    refine zi_iconst dX3_setting_26 ?_
    exact zi_ireturn hrt dX3_setting_27 (hret _ _ ⟨xτ10_0, by omega⟩)
  · have tc13 := h10.1 c13; clear h10
    refine zi_aload_n dX3_setting_16 rfl ?_
    refine zt_g0 q2431 dX3_setting_17 ?_
    refine zi_iload_n dX3_setting_20 rfl ?_
    refine zt_ld0 dX3_setting_21 (haτ10_0) (by omega) ?_
    refine zi_l2i dX3_setting_22 ?_
    refine zi_goto 27 dX3_setting_23 (by decide) ?_
    exact zi_ireturn hrt dX3_setting_27 (hret _ _ ⟨xτ10_0, by omega⟩)
theorem mw_X3_percentage : MWV yX3_percentage cX3_percentage 2 (some Jvm.ClassFile.FieldType.int) 1 := ⟨q2784, q2785, q128, q2786, by decide, by decide +kernel, by decide +kernel, by decide +kernel⟩
set_option maxHeartbeats 4000000 in
theorem tc_percentage (l : Launch) (E : ZE) (o : Nat) (ad : Nat → Nat) (σ : TS) (a : Int → Int) (ha : σ 0 = a) (b : Int) (hok : OkA a) (rb : -2147483648 ≤ b ∧ b < 2147483648) : TCi l yX3_percentage (ws_ yX3_percentage cX3_percentage 2 (some Jvm.ClassFile.FieldType.int)) 3 E o ad σ [.ref o, jI b] (fun τ v => eqx [5] σ τ ∧ ((0 ≤ b ∧ b ≤ 4 → τ 5 0 = 0 ∧ v = a (4 + b)) ∧ (¬ (0 ≤ b ∧ b ≤ 4) → τ 5 0 = 1))) := by
  refine tci_of (own := RX3) (cc := cX3_percentage) (L := [some (.ref o), some (jI b)]) (by decide) rfl rfl (Nat.le_of_ble_eq_true rfl) (fun Z hE hl hrt hR hm hret => ?_)
  subst hE
  have x0 : eqx [5] σ σ := eqx_rf
  refine zi_aload_n dX3_percentage_0 rfl ?_
  refine zi_iload_n dX3_percentage_1 rfl ?_
  refine zt_PSi1 mw_X3_isBand (tc_isBand (zl Z) (zE Z) _ _ _ _ (by omega)) q2787 hR (by decide) (by simp [Value.category]) dX3_percentage_2 (fun v2 h2 => ?_)
  subst h2
  refine zt_Vi1 mw_X3_good rfl (tc_good_b (zl Z) (zE Z) _ _ _ _) q2531 hR (by decide) (by simp [Value.category]) dX3_percentage_5 (fun τ5_0 v5 wτ5_0 => ?_)
  obtain ⟨qτ5_0, h5⟩ := wτ5_0
  obtain ⟨eh5, h5⟩ := h5
  subst eh5
  have xτ5_0 : eqx [5] σ τ5_0 := eqx_tr x0 (eqx_mono qτ5_0 (by decide))
  have haτ5_0 : τ5_0 0 = a := (xτ5_0 0 (by decide)).trans ha
  refine zi_if_eqB 23 dX3_percentage_8 (by decide) (fun c8 => ?_) (fun c8 => ?_)
  · have tc8 := h5.2 c8; clear h5
    refine zi_iconst dX3_percentage_23 ?_
    exact zi_ireturn hrt dX3_percentage_24 (hret _ _ ⟨xτ5_0, by omega⟩)
  · have tc8 := h5.1 c8; clear h5
    refine zi_aload_n dX3_percentage_11 rfl ?_
    refine zt_g0 q2431 dX3_percentage_12 ?_
    refine zi_iconst dX3_percentage_15 ?_
    refine zi_iload_n dX3_percentage_16 rfl ?_
    refine zi_iadd dX3_percentage_17 ?_
    refine zt_ld0 dX3_percentage_18 (haτ5_0) (by omega) ?_
    refine zi_l2i dX3_percentage_19 ?_
    refine zi_goto 24 dX3_percentage_20 (by decide) ?_
    exact zi_ireturn hrt dX3_percentage_24 (hret _ _ ⟨xτ5_0, by omega⟩)
theorem mw_X3_capacity : MWV yX3_capacity cX3_capacity 2 (some Jvm.ClassFile.FieldType.int) 1 := ⟨q2791, q2792, q128, q2793, by decide, by decide +kernel, by decide +kernel, by decide +kernel⟩
set_option maxHeartbeats 4000000 in
theorem tc_capacity (l : Launch) (E : ZE) (o : Nat) (ad : Nat → Nat) (σ : TS) (a : Int → Int) (ha : σ 0 = a) (p : Int) (hok : OkA a) (rp : -2147483648 ≤ p ∧ p < 2147483648) : TCi l yX3_capacity (ws_ yX3_capacity cX3_capacity 2 (some Jvm.ClassFile.FieldType.int)) 3 E o ad σ [.ref o, jI p] (fun τ v => eqx [5] σ τ ∧ ((0 ≤ p ∧ p < a 9 → τ 5 0 = 0 ∧ v = pCp a p) ∧ (¬ (0 ≤ p ∧ p < a 9) → τ 5 0 = 1))) := by
  refine tci_of (own := RX3) (cc := cX3_capacity) (L := [some (.ref o), some (jI p)]) (by decide) rfl rfl (Nat.le_of_ble_eq_true rfl) (fun Z hE hl hrt hR hm hret => ?_)
  subst hE
  have x0 : eqx [5] σ σ := eqx_rf
  have hc := hok.cnt
  refine zi_aload_n dX3_capacity_0 rfl ?_
  refine zi_aload_n dX3_capacity_1 rfl ?_
  refine zi_iload_n dX3_capacity_2 rfl ?_
  refine zt_PVi1 mw_X3_isPerson rfl (tc_isPerson (zl Z) (zE Z) _ _ _ _ ha _ (hok) (by omega)) q2794 hR (by decide) (by simp [Value.category]) dX3_capacity_3 (fun v3 h3 => ?_)
  subst h3
  refine zt_Vi1 mw_X3_good rfl (tc_good_b (zl Z) (zE Z) _ _ _ _) q2531 hR (by decide) (by simp [Value.category]) dX3_capacity_6 (fun τ6_0 v6 wτ6_0 => ?_)
  obtain ⟨qτ6_0, h6⟩ := wτ6_0
  obtain ⟨eh6, h6⟩ := h6
  subst eh6
  have xτ6_0 : eqx [5] σ τ6_0 := eqx_tr x0 (eqx_mono qτ6_0 (by decide))
  have haτ6_0 : τ6_0 0 = a := (xτ6_0 0 (by decide)).trans ha
  refine zi_if_eqB 29 dX3_capacity_9 (by decide) (fun c9 => ?_) (fun c9 => ?_)
  · have tc9 := h6.2 c9; clear h6
    refine zi_iconst dX3_capacity_29 ?_
    exact zi_ireturn hrt dX3_capacity_30 (hret _ _ ⟨xτ6_0, by unfold pCp; omega⟩)
  · have tc9 := h6.1 c9; clear h6
    refine zi_aload_n dX3_capacity_12 rfl ?_
    refine zt_g0 q2431 dX3_capacity_13 ?_
    refine zi_bipush dX3_capacity_16 (by decide +kernel) ?_
    refine zi_iconst dX3_capacity_18 ?_
    refine zi_iload_n dX3_capacity_19 rfl ?_
    refine zi_imul dX3_capacity_20 ?_
    refine zi_iadd dX3_capacity_21 ?_
    refine zi_iconst dX3_capacity_22 ?_
    refine zi_iadd dX3_capacity_23 ?_
    refine zt_ld0 dX3_capacity_24 (haτ6_0) (by omega) ?_
    refine zi_l2i dX3_capacity_25 ?_
    refine zi_goto 30 dX3_capacity_26 (by decide) ?_
    exact zi_ireturn hrt dX3_capacity_30 (hret _ _ ⟨xτ6_0, by unfold pCp; omega⟩)
theorem mw_X3_jobOf : MWV yX3_jobOf cX3_jobOf 2 (some Jvm.ClassFile.FieldType.int) 1 := ⟨q2823, q2824, q128, q2825, by decide, by decide +kernel, by decide +kernel, by decide +kernel⟩
set_option maxHeartbeats 4000000 in
theorem tc_jobOf (l : Launch) (E : ZE) (o : Nat) (ad : Nat → Nat) (σ : TS) (a : Int → Int) (ha : σ 0 = a) (g : Int) (hok : OkA a) (rg : -2147483648 ≤ g ∧ g < 2147483648) : TCi l yX3_jobOf (ws_ yX3_jobOf cX3_jobOf 2 (some Jvm.ClassFile.FieldType.int)) 3 E o ad σ [.ref o, jI g] (fun τ v => eqx [5] σ τ ∧ ((0 ≤ g ∧ g < a 66 → τ 5 0 = 0 ∧ v = sJob a g) ∧ (¬ (0 ≤ g ∧ g < a 66) → τ 5 0 = 1))) := by
  refine tci_of (own := RX3) (cc := cX3_jobOf) (L := [some (.ref o), some (jI g)]) (by decide) rfl rfl (Nat.le_of_ble_eq_true rfl) (fun Z hE hl hrt hR hm hret => ?_)
  subst hE
  have x0 : eqx [5] σ σ := eqx_rf
  have hc := hok.cnt
  refine zi_aload_n dX3_jobOf_0 rfl ?_
  refine zi_aload_n dX3_jobOf_1 rfl ?_
  refine zi_iload_n dX3_jobOf_2 rfl ?_
  refine zt_PVi1 mw_X3_isSegment rfl (tc_isSegment (zl Z) (zE Z) _ _ _ _ ha _ (hok) (by omega)) q2826 hR (by decide) (by simp [Value.category]) dX3_jobOf_3 (fun v3 h3 => ?_)
  subst h3
  refine zt_Vi1 mw_X3_good rfl (tc_good_b (zl Z) (zE Z) _ _ _ _) q2531 hR (by decide) (by simp [Value.category]) dX3_jobOf_6 (fun τ6_0 v6 wτ6_0 => ?_)
  obtain ⟨qτ6_0, h6⟩ := wτ6_0
  obtain ⟨eh6, h6⟩ := h6
  subst eh6
  have xτ6_0 : eqx [5] σ τ6_0 := eqx_tr x0 (eqx_mono qτ6_0 (by decide))
  have haτ6_0 : τ6_0 0 = a := (xτ6_0 0 (by decide)).trans ha
  refine zi_if_eqB 20 dX3_jobOf_9 (by decide) (fun c9 => ?_) (fun c9 => ?_)
  · have tc9 := h6.2 c9; clear h6
    refine zi_iconst dX3_jobOf_20 ?_
    exact zi_ireturn hrt dX3_jobOf_21 (hret _ _ ⟨xτ6_0, by omega⟩)
  · have tc9 := h6.1 c9; clear h6
    refine zi_aload_n dX3_jobOf_12 rfl ?_
    refine zi_iload_n dX3_jobOf_13 rfl ?_
    refine zt_PVi1 mw_X3_jobNow rfl (tc_jobNow (zl Z) (zE Z) _ _ _ _ haτ6_0 _ (hok) (by omega) (by omega)) q2712 hR (by decide) (by simp [Value.category]) dX3_jobOf_14 (fun v14 h14 => ?_)
    refine zi_goto 21 dX3_jobOf_17 (by decide) ?_
    exact zi_ireturn hrt dX3_jobOf_21 (hret _ _ ⟨xτ6_0, by omega⟩)
theorem mw_X3_words : MWV yX3_words cX3_words 3 (some Jvm.ClassFile.FieldType.int) 2 := ⟨q2831, q2832, q128, q2833, by decide, by decide +kernel, by decide +kernel, by decide +kernel⟩
set_option maxHeartbeats 4000000 in
theorem tc_words (l : Launch) (E : ZE) (o : Nat) (ad : Nat → Nat) (σ : TS) (a : Int → Int) (ha : σ 0 = a) (g : Int) (t : Int) (hok : OkA a) (rg : -2147483648 ≤ g ∧ g < 2147483648) (rt : -2147483648 ≤ t ∧ t < 2147483648) : TCi l yX3_words (ws_ yX3_words cX3_words 3 (some Jvm.ClassFile.FieldType.int)) 3 E o ad σ [.ref o, jI g, jI t] (fun τ v => eqx [5] σ τ ∧ ((0 ≤ g ∧ g < a 66 → τ 5 0 = 0 ∧ v = sLen a g t) ∧ (¬ (0 ≤ g ∧ g < a 66) → τ 5 0 = 1))) := by
  refine tci_of (own := RX3) (cc := cX3_words) (L := [some (.ref o), some (jI g), some (jI t)]) (by decide) rfl rfl (Nat.le_of_ble_eq_true rfl) (fun Z hE hl hrt hR hm hret => ?_)
  subst hE
  have x0 : eqx [5] σ σ := eqx_rf
  have hc := hok.cnt
  refine zi_aload_n dX3_words_0 rfl ?_
  refine zi_aload_n dX3_words_1 rfl ?_
  refine zi_iload_n dX3_words_2 rfl ?_
  refine zt_PVi1 mw_X3_isSegment rfl (tc_isSegment (zl Z) (zE Z) _ _ _ _ ha _ (hok) (by omega)) q2826 hR (by decide) (by simp [Value.category]) dX3_words_3 (fun v3 h3 => ?_)
  subst h3
  refine zt_Vi1 mw_X3_good rfl (tc_good_b (zl Z) (zE Z) _ _ _ _) q2531 hR (by decide) (by simp [Value.category]) dX3_words_6 (fun τ6_0 v6 wτ6_0 => ?_)
  obtain ⟨qτ6_0, h6⟩ := wτ6_0
  obtain ⟨eh6, h6⟩ := h6
  subst eh6
  have xτ6_0 : eqx [5] σ τ6_0 := eqx_tr x0 (eqx_mono qτ6_0 (by decide))
  have haτ6_0 : τ6_0 0 = a := (xτ6_0 0 (by decide)).trans ha
  refine zi_if_eqB 21 dX3_words_9 (by decide) (fun c9 => ?_) (fun c9 => ?_)
  · have tc9 := h6.2 c9; clear h6
    refine zi_iconst dX3_words_21 ?_
    exact zi_ireturn hrt dX3_words_22 (hret _ _ ⟨xτ6_0, by omega⟩)
  · have tc9 := h6.1 c9; clear h6
    refine zi_aload_n dX3_words_12 rfl ?_
    refine zi_iload_n dX3_words_13 rfl ?_
    refine zi_iload_n dX3_words_14 rfl ?_
    refine zt_PVi2 mw_X3_wordsOf rfl (tc_wordsOf (zl Z) (zE Z) _ _ _ _ haτ6_0 _ _ (hok) (by omega) (by omega) (by omega)) q2720 hR (by decide) (by simp [Value.category]) dX3_words_15 (fun v15 h15 => ?_)
    refine zi_goto 22 dX3_words_18 (by decide) ?_
    exact zi_ireturn hrt dX3_words_22 (hret _ _ ⟨xτ6_0, by omega⟩)
theorem mw_X3_job : MWV yX3_job cX3_job 3 (some Jvm.ClassFile.FieldType.int) 2 := ⟨q2799, q2800, q128, q2801, by decide, by decide +kernel, by decide +kernel, by decide +kernel⟩
set_option maxHeartbeats 4000000 in
theorem tc_job (l : Launch) (E : ZE) (o : Nat) (ad : Nat → Nat) (σ : TS) (a : Int → Int) (ha : σ 0 = a) (j : Int) (w : Int) (hok : OkA a) (rj : -2147483648 ≤ j ∧ j < 2147483648) (rw : -2147483648 ≤ w ∧ w < 2147483648) : TCi l yX3_job (ws_ yX3_job cX3_job 3 (some Jvm.ClassFile.FieldType.int)) 3 E o ad σ [.ref o, jI j, jI w] (fun τ v => eqx [5] σ τ ∧ ((0 ≤ j ∧ j < a 45 → 0 ≤ w ∧ w ≤ 5 → τ 5 0 = 0 ∧ v = v ∧ (w = 4 → v = sgF a j) ∧ (w = 5 → v = wjF a j) ∧ (w ≤ 3 → v = jOf a j w)) ∧ (¬ (0 ≤ j ∧ j < a 45) → τ 5 0 = 1) ∧ (0 ≤ j ∧ j < a 45 → ¬ (0 ≤ w ∧ w ≤ 5) → τ 5 0 = 2))) := by
  refine tci_of (own := RX3) (cc := cX3_job) (L := [some (.ref o), some (jI j), some (jI w)]) (by decide) rfl rfl (Nat.le_of_ble_eq_true rfl) (fun Z hE hl hrt hR hm hret => ?_)
  subst hE
  have x0 : eqx [5] σ σ := eqx_rf
  have hc := hok.cnt
  refine zi_aload_n dX3_job_0 rfl ?_
  refine zi_aload_n dX3_job_1 rfl ?_
  refine zi_iload_n dX3_job_2 rfl ?_
  refine zt_PVi1 mw_X3_isJob rfl (tc_isJob (zl Z) (zE Z) _ _ _ _ ha _ (hok) (by omega)) q2802 hR (by decide) (by simp [Value.category]) dX3_job_3 (fun v3 h3 => ?_)
  subst h3
  refine zi_iload_n dX3_job_6 rfl ?_
  refine zi_i2l dX3_job_7 (by omega) ?_
  refine zi_lconst (m := 0) dX3_job_8 (by decide +kernel) ?_
  refine zi_ldc2 (m := 5) dX3_job_9 q2615 (by decide +kernel) ?_
  refine zt_PSi3 mw_X3_isIn (tc_isIn (zl Z) (zE Z) _ _ _ _ _ _ (by omega) (by omega) (by omega)) q2528 hR (by decide) (by simp [Value.category]) dX3_job_12 (fun v12 h12 => ?_)
  subst h12
  refine zt_Vi2 mw_X3_good_2 rfl (tc_good_2_bb (zl Z) (zE Z) _ _ _ _ _) q2806 hR (by decide) (by simp [Value.category]) dX3_job_15 (fun τ15_0 v15 wτ15_0 => ?_)
  obtain ⟨qτ15_0, h15⟩ := wτ15_0
  obtain ⟨eh15, h15⟩ := h15
  subst eh15
  have xτ15_0 : eqx [5] σ τ15_0 := eqx_tr x0 (eqx_mono qτ15_0 (by decide))
  have haτ15_0 : τ15_0 0 = a := (xτ15_0 0 (by decide)).trans ha
  refine zi_if_neB 23 dX3_job_18 (by decide) (fun c18 => ?_) (fun c18 => ?_)
  · have tc18 := h15.1 c18.1 c18.2; clear h15
    refine zi_iload_n dX3_job_23 rfl ?_
    refine zi_iconst dX3_job_24 ?_
    refine zi_icmp_ge 35 dX3_job_25 (by decide) (by omega) (fun c25 => ?_) (fun c25 => ?_)
    · refine zi_iload_n dX3_job_35 rfl ?_
      refine zi_iconst dX3_job_36 ?_
      refine zi_icmp_ne 48 dX3_job_37 (by decide) (by omega) (fun c37 => ?_) (fun c37 => ?_)
      · refine zi_aload_n dX3_job_48 rfl ?_
        refine zi_iload_n dX3_job_49 rfl ?_
        refine zt_PVi1 mw_X3_wordsOfJob rfl (tc_wordsOfJob (zl Z) (zE Z) _ _ _ _ haτ15_0 _ (hok) (by omega)) q2818 hR (by decide) (by simp [Value.category]) dX3_job_50 (fun v50 h50 => ?_)
        exact zi_ireturn hrt dX3_job_53 (hret _ _ ⟨xτ15_0, by omega⟩)
      · refine zi_aload_n dX3_job_40 rfl ?_
        refine zi_iload_n dX3_job_41 rfl ?_
        refine zt_PVi1 mw_X3_segmentsOf rfl (tc_segmentsOf (zl Z) (zE Z) _ _ _ _ haτ15_0 _ (hok) (by omega)) q2814 hR (by decide) (by simp [Value.category]) dX3_job_42 (fun v42 h42 => ?_)
        refine zi_goto 53 dX3_job_45 (by decide) ?_
        exact zi_ireturn hrt dX3_job_53 (hret _ _ ⟨xτ15_0, by omega⟩)
    · refine zi_aload_n dX3_job_28 rfl ?_
      refine zi_iload_n dX3_job_29 rfl ?_
      refine zi_iload_n dX3_job_30 rfl ?_
      refine zt_PVi2 mw_X3_ofJob rfl (tc_ofJob (zl Z) (zE Z) _ _ _ _ haτ15_0 _ _ (hok) (by omega) (by omega) (by omega)) q2716 hR (by decide) (by simp [Value.category]) dX3_job_31 (fun v31 h31 => ?_)
      exact zi_ireturn hrt dX3_job_34 (hret _ _ ⟨xτ15_0, by omega⟩)
  · refine zi_iconst dX3_job_21 ?_
    exact zi_ireturn hrt dX3_job_22 (hret _ _ ⟨xτ15_0, ⟨fun p q => absurd ⟨p, q⟩ c18, h15.2.1, h15.2.2⟩⟩)
theorem mw_X3_isPlace : MWV yX3_isPlace cX3_isPlace 4 (some Jvm.ClassFile.FieldType.boolean) 3 := ⟨q2840, qs93, q128, q2841, by decide, by decide +kernel, by decide +kernel, by decide +kernel⟩
set_option maxHeartbeats 4000000 in
theorem tc_isPlace (l : Launch) (E : ZE) (o : Nat) (ad : Nat → Nat) (σ : TS) (a : Int → Int) (ha : σ 0 = a) (g : Int) (k : Int) (t : Int) (hok : OkA a) (rg : -2147483648 ≤ g ∧ g < 2147483648) (rk : -2147483648 ≤ k ∧ k < 2147483648) (rt : -2147483648 ≤ t ∧ t < 2147483648) : TCi l yX3_isPlace (ws_ yX3_isPlace cX3_isPlace 4 (some Jvm.ClassFile.FieldType.boolean)) 3 E o ad σ [.ref o, jI g, jI k, jI t] (fun τ v => τ = σ ∧ (v = bI ((0 ≤ g ∧ g < a 66) ∧ 0 ≤ k ∧ k < sLen a g t))) := by
  refine tci_of (own := RX3) (cc := cX3_isPlace) (L := [some (.ref o), some (jI g), some (jI k), some (jI t)]) (by decide) rfl rfl (Nat.le_of_ble_eq_true rfl) (fun Z hE hl hrt hR hm hret => ?_)
  subst hE
  have hc := hok.cnt
  refine zi_aload_n dX3_isPlace_0 rfl ?_
  refine zi_iload_n dX3_isPlace_1 rfl ?_
  refine zt_PVi1 mw_X3_isSegment rfl (tc_isSegment (zl Z) (zE Z) _ _ _ _ ha _ (hok) (by omega)) q2826 hR (by decide) (by simp [Value.category]) dX3_isPlace_2 (fun v2 h2 => ?_)
  subst h2
  refine zi_if_eqB 30 dX3_isPlace_5 (by decide) (fun c5 => ?_) (fun c5 => ?_)
  · refine zi_iconst dX3_isPlace_30 ?_
    exact zi_zreturn hrt (z_nb (Or.inl rfl)) dX3_isPlace_31 (hret _ _ ⟨rfl, by first | exact bI_1 (by omega) | exact bI_0 (by omega)⟩)
  · refine zi_iload_n dX3_isPlace_8 rfl ?_
    refine zi_i2l dX3_isPlace_9 (by omega) ?_
    refine zi_lconst (m := 0) dX3_isPlace_10 (by decide +kernel) ?_
    refine zi_aload_n dX3_isPlace_11 rfl ?_
    refine zi_iload_n dX3_isPlace_12 rfl ?_
    refine zi_iload_n dX3_isPlace_13 rfl ?_
    refine zt_PVi2 mw_X3_wordsOf rfl (tc_wordsOf (zl Z) (zE Z) _ _ _ _ ha _ _ (hok) (by omega) (by omega) (by omega)) q2720 hR (by decide) (by simp [Value.category]) dX3_isPlace_14 (fun v14 h14 => ?_)
    refine zi_iconst dX3_isPlace_17 ?_
    refine zi_isub dX3_isPlace_18 ?_
    refine zi_i2l dX3_isPlace_19 (by omega) ?_
    refine zt_PSi3 mw_X3_isIn (tc_isIn (zl Z) (zE Z) _ _ _ _ _ _ (by omega) (by omega) (by omega)) q2528 hR (by decide) (by simp [Value.category]) dX3_isPlace_20 (fun v20 h20 => ?_)
    subst h20
    refine zi_if_eqB 30 dX3_isPlace_23 (by decide) (fun c23 => ?_) (fun c23 => ?_)
    · refine zi_iconst dX3_isPlace_30 ?_
      exact zi_zreturn hrt (z_nb (Or.inl rfl)) dX3_isPlace_31 (hret _ _ ⟨rfl, by first | exact bI_1 (by omega) | exact bI_0 (by omega)⟩)
    · refine zi_iconst dX3_isPlace_26 ?_
      refine zi_goto 31 dX3_isPlace_27 (by decide) ?_
      exact zi_zreturn hrt (z_nb (Or.inr rfl)) dX3_isPlace_31 (hret _ _ ⟨rfl, by first | exact bI_1 (by omega) | exact bI_0 (by omega)⟩)
theorem mw_X3_isSameWord : MWV yX3_isSameWord cX3_isSameWord 8 (some Jvm.ClassFile.FieldType.boolean) 6 := ⟨q2835, q2836, q128, q2837, by decide, by decide +kernel, by decide +kernel, by decide +kernel⟩
set_option maxHeartbeats 4000000 in
theorem tc_isSameWord (l : Launch) (E : ZE) (o : Nat) (ad : Nat → Nat) (σ : TS) (a : Int → Int) (ha : σ 0 = a) (g : Int) (k : Int) (t : Int) (h : Int) (m : Int) (u : Int) (hok : OkA a) (rg : -2147483648 ≤ g ∧ g < 2147483648) (rk : -2147483648 ≤ k ∧ k < 2147483648) (rt : -2147483648 ≤ t ∧ t < 2147483648) (rh : -2147483648 ≤ h ∧ h < 2147483648) (rm : -2147483648 ≤ m ∧ m < 2147483648) (ru : -2147483648 ≤ u ∧ u < 2147483648) : TCi l yX3_isSameWord (ws_ yX3_isSameWord cX3_isSameWord 8 (some Jvm.ClassFile.FieldType.boolean)) 4 E o ad σ [.ref o, jI g, jI k, jI t, jI h, jI m, jI u] (fun τ v => eqx [5] σ τ ∧ ((((0 ≤ g ∧ g < a 66) ∧ 0 ≤ k ∧ k < sLen a g t) ∧ ((0 ≤ h ∧ h < a 66) ∧ 0 ≤ m ∧ m < sLen a h u) → τ 5 0 = 0 ∧ v = bI (sWd a g k t = sWd a h m u)) ∧ (¬ (((0 ≤ g ∧ g < a 66) ∧ 0 ≤ k ∧ k < sLen a g t) ∧ ((0 ≤ h ∧ h < a 66) ∧ 0 ≤ m ∧ m < sLen a h u)) → τ 5 0 = 1))) := by
  refine tci_of (own := RX3) (cc := cX3_isSameWord) (L := [some (.ref o), some (jI g), some (jI k), some (jI t), some (jI h), some (jI m), some (jI u), none]) (by decide) rfl rfl (Nat.le_of_ble_eq_true rfl) (fun Z hE hl hrt hR hm hret => ?_)
  subst hE
  have x0 : eqx [5] σ σ := eqx_rf
  have hc := hok.cnt
  refine zi_aload_n dX3_isSameWord_0 rfl ?_
  refine zi_iload_n dX3_isSameWord_1 rfl ?_
  refine zi_iload_n dX3_isSameWord_2 rfl ?_
  refine zi_iload_n dX3_isSameWord_3 rfl ?_
  refine zt_PVi3 mw_X3_isPlace rfl (tc_isPlace (zl Z) (zE Z) _ _ _ _ ha _ _ _ (hok) (by omega) (by omega) (by omega)) q2838 hR (by decide) (by simp [Value.category]) dX3_isSameWord_4 (fun v4 h4 => ?_)
  subst h4
  refine zi_if_eqB 27 dX3_isSameWord_7 (by decide) (fun c7 => ?_) (fun c7 => ?_)
  · refine zi_iconst dX3_isSameWord_27 ?_
    refine zi_istore_7 dX3_isSameWord_28 hm (by decide) rfl ?_
    refine zi_aload_n dX3_isSameWord_30 rfl ?_
    refine zi_iload dX3_isSameWord_31 rfl ?_
    refine zt_Vi1 mw_X3_good rfl (tc_good_f (zl Z) (zE Z) _ _ _ ) q2531 hR (by decide) (by simp [Value.category]) dX3_isSameWord_33 (fun τ33_0 v33 wτ33_0 => ?_)
    obtain ⟨qτ33_0, h33⟩ := wτ33_0
    obtain ⟨eh33, h33⟩ := h33
    subst eh33
    have xτ33_0 : eqx [5] σ τ33_0 := eqx_tr x0 (eqx_mono qτ33_0 (by decide))
    have haτ33_0 : τ33_0 0 = a := (xτ33_0 0 (by decide)).trans ha
    refine zi_if_eq 64 dX3_isSameWord_36 (by decide) (by decide) (fun _ => ?_) (fun h => absurd h (by decide))
    refine zi_iconst dX3_isSameWord_64 ?_
    exact zi_zreturn hrt (z_nb (Or.inl rfl)) dX3_isSameWord_65 (hret _ _ ⟨xτ33_0, by refine ⟨fun q => ?_, fun q => ?_⟩ <;> first | omega | (exact ⟨by omega, by first | exact bI_1 (by omega) | exact bI_0 (by omega)⟩)⟩)
  · refine zi_aload_n dX3_isSameWord_10 rfl ?_
    refine zi_iload dX3_isSameWord_11 rfl ?_
    refine zi_iload dX3_isSameWord_13 rfl ?_
    refine zi_iload dX3_isSameWord_15 rfl ?_
    refine zt_PVi3 mw_X3_isPlace rfl (tc_isPlace (zl Z) (zE Z) _ _ _ _ ha _ _ _ (hok) (by omega) (by omega) (by omega)) q2838 hR (by decide) (by simp [Value.category]) dX3_isSameWord_17 (fun v17 h17 => ?_)
    subst h17
    refine zi_if_eqB 27 dX3_isSameWord_20 (by decide) (fun c20 => ?_) (fun c20 => ?_)
    · refine zi_iconst dX3_isSameWord_27 ?_
      refine zi_istore_7 dX3_isSameWord_28 hm (by decide) rfl ?_
      refine zi_aload_n dX3_isSameWord_30 rfl ?_
      refine zi_iload dX3_isSameWord_31 rfl ?_
      refine zt_Vi1 mw_X3_good rfl (tc_good_f (zl Z) (zE Z) _ _ _ ) q2531 hR (by decide) (by simp [Value.category]) dX3_isSameWord_33 (fun τ33_2 v33_1 wτ33_2 => ?_)
      obtain ⟨qτ33_2, h33_1⟩ := wτ33_2
      obtain ⟨eh33_1, h33_1⟩ := h33_1
      subst eh33_1
      have xτ33_2 : eqx [5] σ τ33_2 := eqx_tr x0 (eqx_mono qτ33_2 (by decide))
      have haτ33_2 : τ33_2 0 = a := (xτ33_2 0 (by decide)).trans ha
      refine zi_if_eq 64 dX3_isSameWord_36 (by decide) (by decide) (fun _ => ?_) (fun h => absurd h (by decide))
      refine zi_iconst dX3_isSameWord_64 ?_
      exact zi_zreturn hrt (z_nb (Or.inl rfl)) dX3_isSameWord_65 (hret _ _ ⟨xτ33_2, by refine ⟨fun q => ?_, fun q => ?_⟩ <;> first | omega | (exact ⟨by omega, by first | exact bI_1 (by omega) | exact bI_0 (by omega)⟩)⟩)
    · refine zi_iconst dX3_isSameWord_23 ?_
      refine zi_goto 28 dX3_isSameWord_24 (by decide) ?_
      refine zi_istore_7 dX3_isSameWord_28 hm (by decide) rfl ?_
      refine zi_aload_n dX3_isSameWord_30 rfl ?_
      refine zi_iload dX3_isSameWord_31 rfl ?_
      refine zt_Vi1 mw_X3_good rfl (tc_good_t (zl Z) (zE Z) _ _ _ ) q2531 hR (by decide) (by simp [Value.category]) dX3_isSameWord_33 (fun τ33_5 v33_4 wτ33_5 => ?_)
      obtain ⟨qτ33_5, h33_4⟩ := wτ33_5
      obtain ⟨eh33_4, h33_4⟩ := h33_4
      subst eh33_4
      have xτ33_5 : eqx [5] σ τ33_5 := eqx_tr x0 (eqx_mono qτ33_5 (by decide))
      have haτ33_5 : τ33_5 0 = a := (xτ33_5 0 (by decide)).trans ha
      refine zi_if_eq 64 dX3_isSameWord_36 (by decide) (by decide) (fun h => absurd h (by decide)) (fun _ => ?_)
      refine zi_aload_n dX3_isSameWord_39 rfl ?_
      refine zi_iload_n dX3_isSameWord_40 rfl ?_
      refine zi_iload_n dX3_isSameWord_41 rfl ?_
      refine zi_iload_n dX3_isSameWord_42 rfl ?_
      refine zt_PVl3 mw_X3_wordAt rfl (tc_wordAt (zl Z) (zE Z) _ _ _ _ haτ33_5 _ _ _ (hok) (by omega) (by omega) (by omega) (by omega) (by omega)) q2728 hR (by decide) (by simp [Value.category]) dX3_isSameWord_43 (fun v43 h43 => ?_)
      refine zi_aload_n dX3_isSameWord_46 rfl ?_
      refine zi_iload dX3_isSameWord_47 rfl ?_
      refine zi_iload dX3_isSameWord_49 rfl ?_
      refine zi_iload dX3_isSameWord_51 rfl ?_
      refine zt_PVl3 mw_X3_wordAt rfl (tc_wordAt (zl Z) (zE Z) _ _ _ _ haτ33_5 _ _ _ (hok) (by omega) (by omega) (by omega) (by omega) (by omega)) q2728 hR (by decide) (by simp [Value.category]) dX3_isSameWord_53 (fun v53 h53 => ?_)
      refine zi_lcmp_ne 64 dX3_isSameWord_56 dX3_isSameWord_57 (by decide) (by omega) (fun c56 => ?_) (fun c56 => ?_)
      · refine zi_iconst dX3_isSameWord_64 ?_
        exact zi_zreturn hrt (z_nb (Or.inl rfl)) dX3_isSameWord_65 (hret _ _ ⟨xτ33_5, by refine ⟨fun q => ?_, fun q => ?_⟩ <;> first | omega | (exact ⟨by omega, by first | exact bI_1 (by omega) | exact bI_0 (by omega)⟩)⟩)
      · refine zi_iconst dX3_isSameWord_60 ?_
        refine zi_goto 65 dX3_isSameWord_61 (by decide) ?_
        exact zi_zreturn hrt (z_nb (Or.inr rfl)) dX3_isSameWord_65 (hret _ _ ⟨xτ33_5, by refine ⟨fun q => ?_, fun q => ?_⟩ <;> first | omega | (exact ⟨by omega, by first | exact bI_1 (by omega) | exact bI_0 (by omega)⟩)⟩)
theorem mw_X3_distance : MWV yX3_distance cX3_distance 3 (some Jvm.ClassFile.FieldType.int) 2 := ⟨q2843, q2844, q128, q2845, by decide, by decide +kernel, by decide +kernel, by decide +kernel⟩
set_option maxHeartbeats 4000000 in
theorem tc_distance (l : Launch) (E : ZE) (o : Nat) (ad : Nat → Nat) (σ : TS) (a : Int → Int) (ha : σ 0 = a) (g : Int) (h : Int) (hok : OkA a) (rg : -2147483648 ≤ g ∧ g < 2147483648) (rh : -2147483648 ≤ h ∧ h < 2147483648) : TCi l yX3_distance (ws_ yX3_distance cX3_distance 3 (some Jvm.ClassFile.FieldType.int)) 3 E o ad σ [.ref o, jI g, jI h] (fun τ v => eqx [5, 18] σ τ ∧ (((0 ≤ g ∧ g < a 66) ∧ (0 ≤ h ∧ h < a 66) → τ 5 0 = 0 ∧ v = dstF a g h) ∧ (¬ ((0 ≤ g ∧ g < a 66) ∧ (0 ≤ h ∧ h < a 66)) → τ 5 0 = 1))) := by
  refine tci_of (own := RX3) (cc := cX3_distance) (L := [some (.ref o), some (jI g), some (jI h)]) (by decide) rfl rfl (Nat.le_of_ble_eq_true rfl) (fun Z hE hl hrt hR hm hret => ?_)
  subst hE
  have x0 : eqx [5, 18] σ σ := eqx_rf
  have hc := hok.cnt
  refine zi_aload_n dX3_distance_0 rfl ?_
  refine zi_aload_n dX3_distance_1 rfl ?_
  refine zi_iload_n dX3_distance_2 rfl ?_
  refine zt_PVi1 mw_X3_isSegment rfl (tc_isSegment (zl Z) (zE Z) _ _ _ _ ha _ (hok) (by omega)) q2826 hR (by decide) (by simp [Value.category]) dX3_distance_3 (fun v3 h3 => ?_)
  subst h3
  refine zi_if_eqB 21 dX3_distance_6 (by decide) (fun c6 => ?_) (fun c6 => ?_)
  · refine zi_iconst dX3_distance_21 ?_
    refine zt_Vi1 mw_X3_good rfl (tc_good_f (zl Z) (zE Z) _ _ _ ) q2531 hR (by decide) (by simp [Value.category]) dX3_distance_22 (fun τ22_0 v22 wτ22_0 => ?_)
    obtain ⟨qτ22_0, h22⟩ := wτ22_0
    obtain ⟨eh22, h22⟩ := h22
    subst eh22
    have xτ22_0 : eqx [5, 18] σ τ22_0 := eqx_tr x0 (eqx_mono qτ22_0 (by decide))
    have haτ22_0 : τ22_0 0 = a := (xτ22_0 0 (by decide)).trans ha
    refine zi_if_eq 37 dX3_distance_25 (by decide) (by decide) (fun _ => ?_) (fun h => absurd h (by decide))
    refine zi_iconst dX3_distance_37 ?_
    exact zi_ireturn hrt dX3_distance_38 (hret _ _ ⟨xτ22_0, by omega⟩)
  · refine zi_aload_n dX3_distance_9 rfl ?_
    refine zi_iload_n dX3_distance_10 rfl ?_
    refine zt_PVi1 mw_X3_isSegment rfl (tc_isSegment (zl Z) (zE Z) _ _ _ _ ha _ (hok) (by omega)) q2826 hR (by decide) (by simp [Value.category]) dX3_distance_11 (fun v11 h11 => ?_)
    subst h11
    refine zi_if_eqB 21 dX3_distance_14 (by decide) (fun c14 => ?_) (fun c14 => ?_)
    · refine zi_iconst dX3_distance_21 ?_
      refine zt_Vi1 mw_X3_good rfl (tc_good_f (zl Z) (zE Z) _ _ _ ) q2531 hR (by decide) (by simp [Value.category]) dX3_distance_22 (fun τ22_2 v22_1 wτ22_2 => ?_)
      obtain ⟨qτ22_2, h22_1⟩ := wτ22_2
      obtain ⟨eh22_1, h22_1⟩ := h22_1
      subst eh22_1
      have xτ22_2 : eqx [5, 18] σ τ22_2 := eqx_tr x0 (eqx_mono qτ22_2 (by decide))
      have haτ22_2 : τ22_2 0 = a := (xτ22_2 0 (by decide)).trans ha
      refine zi_if_eq 37 dX3_distance_25 (by decide) (by decide) (fun _ => ?_) (fun h => absurd h (by decide))
      refine zi_iconst dX3_distance_37 ?_
      exact zi_ireturn hrt dX3_distance_38 (hret _ _ ⟨xτ22_2, by omega⟩)
    · refine zi_iconst dX3_distance_17 ?_
      refine zi_goto 22 dX3_distance_18 (by decide) ?_
      refine zt_Vi1 mw_X3_good rfl (tc_good_t (zl Z) (zE Z) _ _ _ ) q2531 hR (by decide) (by simp [Value.category]) dX3_distance_22 (fun τ22_5 v22_4 wτ22_5 => ?_)
      obtain ⟨qτ22_5, h22_4⟩ := wτ22_5
      obtain ⟨eh22_4, h22_4⟩ := h22_4
      subst eh22_4
      have xτ22_5 : eqx [5, 18] σ τ22_5 := eqx_tr x0 (eqx_mono qτ22_5 (by decide))
      have haτ22_5 : τ22_5 0 = a := (xτ22_5 0 (by decide)).trans ha
      refine zi_if_eq 37 dX3_distance_25 (by decide) (by decide) (fun h => absurd h (by decide)) (fun _ => ?_)
      refine zi_aload_n dX3_distance_28 rfl ?_
      refine zi_iload_n dX3_distance_29 rfl ?_
      refine zi_iload_n dX3_distance_30 rfl ?_
      refine zt_Vi2 mw_X3_distanceOf rfl (tc_distanceOf (zl Z) (zE Z) _ _ _ _ haτ22_5 _ _ (hok) (by omega) (by omega) (by omega) (by omega)) q2765 hR (by decide) (by simp [Value.category]) dX3_distance_31 (fun τ31_7 v31 wτ31_7 => ?_)
      obtain ⟨qτ31_7, h31⟩ := wτ31_7
      have k5τ31_7 := eq_keep 5 qτ31_7 (by decide)
      have xτ31_7 : eqx [5, 18] σ τ31_7 := eqx_tr xτ22_5 (eqx_mono qτ31_7 (by decide))
      have haτ31_7 : τ31_7 0 = a := (xτ31_7 0 (by decide)).trans ha
      refine zi_goto 38 dX3_distance_34 (by decide) ?_
      exact zi_ireturn hrt dX3_distance_38 (hret _ _ ⟨xτ31_7, by omega⟩)
theorem mw_X3_similarity : MWV yX3_similarity cX3_similarity 3 (some Jvm.ClassFile.FieldType.int) 2 := ⟨q2847, q2848, q128, q2849, by decide, by decide +kernel, by decide +kernel, by decide +kernel⟩
set_option maxHeartbeats 4000000 in
theorem tc_similarity (l : Launch) (E : ZE) (o : Nat) (ad : Nat → Nat) (σ : TS) (a : Int → Int) (ha : σ 0 = a) (g : Int) (h : Int) (hok : OkA a) (rg : -2147483648 ≤ g ∧ g < 2147483648) (rh : -2147483648 ≤ h ∧ h < 2147483648) : TCi l yX3_similarity (ws_ yX3_similarity cX3_similarity 3 (some Jvm.ClassFile.FieldType.int)) 4 E o ad σ [.ref o, jI g, jI h] (fun τ v => eqx [5, 18] σ τ ∧ (((0 ≤ g ∧ g < a 66) ∧ (0 ≤ h ∧ h < a 66) → τ 5 0 = 0 ∧ v = simF a g h) ∧ (¬ ((0 ≤ g ∧ g < a 66) ∧ (0 ≤ h ∧ h < a 66)) → τ 5 0 = 1))) := by
  refine tci_of (own := RX3) (cc := cX3_similarity) (L := [some (.ref o), some (jI g), some (jI h)]) (by decide) rfl rfl (Nat.le_of_ble_eq_true rfl) (fun Z hE hl hrt hR hm hret => ?_)
  subst hE
  have x0 : eqx [5, 18] σ σ := eqx_rf
  have hc := hok.cnt
  refine zi_aload_n dX3_similarity_0 rfl ?_
  refine zi_aload_n dX3_similarity_1 rfl ?_
  refine zi_iload_n dX3_similarity_2 rfl ?_
  refine zt_PVi1 mw_X3_isSegment rfl (tc_isSegment (zl Z) (zE Z) _ _ _ _ ha _ (hok) (by omega)) q2826 hR (by decide) (by simp [Value.category]) dX3_similarity_3 (fun v3 h3 => ?_)
  subst h3
  refine zi_if_eqB 21 dX3_similarity_6 (by decide) (fun c6 => ?_) (fun c6 => ?_)
  · refine zi_iconst dX3_similarity_21 ?_
    refine zt_Vi1 mw_X3_good rfl (tc_good_f (zl Z) (zE Z) _ _ _ ) q2531 hR (by decide) (by simp [Value.category]) dX3_similarity_22 (fun τ22_0 v22 wτ22_0 => ?_)
    obtain ⟨qτ22_0, h22⟩ := wτ22_0
    obtain ⟨eh22, h22⟩ := h22
    subst eh22
    have xτ22_0 : eqx [5, 18] σ τ22_0 := eqx_tr x0 (eqx_mono qτ22_0 (by decide))
    have haτ22_0 : τ22_0 0 = a := (xτ22_0 0 (by decide)).trans ha
    refine zi_if_eq 37 dX3_similarity_25 (by decide) (by decide) (fun _ => ?_) (fun h => absurd h (by decide))
    refine zi_iconst dX3_similarity_37 ?_
    exact zi_ireturn hrt dX3_similarity_38 (hret _ _ ⟨xτ22_0, by omega⟩)
  · refine zi_aload_n dX3_similarity_9 rfl ?_
    refine zi_iload_n dX3_similarity_10 rfl ?_
    refine zt_PVi1 mw_X3_isSegment rfl (tc_isSegment (zl Z) (zE Z) _ _ _ _ ha _ (hok) (by omega)) q2826 hR (by decide) (by simp [Value.category]) dX3_similarity_11 (fun v11 h11 => ?_)
    subst h11
    refine zi_if_eqB 21 dX3_similarity_14 (by decide) (fun c14 => ?_) (fun c14 => ?_)
    · refine zi_iconst dX3_similarity_21 ?_
      refine zt_Vi1 mw_X3_good rfl (tc_good_f (zl Z) (zE Z) _ _ _ ) q2531 hR (by decide) (by simp [Value.category]) dX3_similarity_22 (fun τ22_2 v22_1 wτ22_2 => ?_)
      obtain ⟨qτ22_2, h22_1⟩ := wτ22_2
      obtain ⟨eh22_1, h22_1⟩ := h22_1
      subst eh22_1
      have xτ22_2 : eqx [5, 18] σ τ22_2 := eqx_tr x0 (eqx_mono qτ22_2 (by decide))
      have haτ22_2 : τ22_2 0 = a := (xτ22_2 0 (by decide)).trans ha
      refine zi_if_eq 37 dX3_similarity_25 (by decide) (by decide) (fun _ => ?_) (fun h => absurd h (by decide))
      refine zi_iconst dX3_similarity_37 ?_
      exact zi_ireturn hrt dX3_similarity_38 (hret _ _ ⟨xτ22_2, by omega⟩)
    · refine zi_iconst dX3_similarity_17 ?_
      refine zi_goto 22 dX3_similarity_18 (by decide) ?_
      refine zt_Vi1 mw_X3_good rfl (tc_good_t (zl Z) (zE Z) _ _ _ ) q2531 hR (by decide) (by simp [Value.category]) dX3_similarity_22 (fun τ22_5 v22_4 wτ22_5 => ?_)
      obtain ⟨qτ22_5, h22_4⟩ := wτ22_5
      obtain ⟨eh22_4, h22_4⟩ := h22_4
      subst eh22_4
      have xτ22_5 : eqx [5, 18] σ τ22_5 := eqx_tr x0 (eqx_mono qτ22_5 (by decide))
      have haτ22_5 : τ22_5 0 = a := (xτ22_5 0 (by decide)).trans ha
      refine zi_if_eq 37 dX3_similarity_25 (by decide) (by decide) (fun h => absurd h (by decide)) (fun _ => ?_)
      refine zi_aload_n dX3_similarity_28 rfl ?_
      refine zi_iload_n dX3_similarity_29 rfl ?_
      refine zi_iload_n dX3_similarity_30 rfl ?_
      refine zt_Vi2 mw_X3_similarityOf rfl (tc_similarityOf (zl Z) (zE Z) _ _ _ _ haτ22_5 _ _ (hok) (by omega) (by omega) (by omega) (by omega)) q2760 hR (by decide) (by simp [Value.category]) dX3_similarity_31 (fun τ31_7 v31 wτ31_7 => ?_)
      obtain ⟨qτ31_7, h31⟩ := wτ31_7
      have k5τ31_7 := eq_keep 5 qτ31_7 (by decide)
      have xτ31_7 : eqx [5, 18] σ τ31_7 := eqx_tr xτ22_5 (eqx_mono qτ31_7 (by decide))
      have haτ31_7 : τ31_7 0 = a := (xτ31_7 0 (by decide)).trans ha
      refine zi_goto 38 dX3_similarity_34 (by decide) ?_
      exact zi_ireturn hrt dX3_similarity_38 (hret _ _ ⟨xτ31_7, by omega⟩)
theorem mw_X3_match : MWV yX3_match cX3_match 2 (some Jvm.ClassFile.FieldType.int) 1 := ⟨q2851, q2852, q128, q2853, by decide, by decide +kernel, by decide +kernel, by decide +kernel⟩
set_option maxHeartbeats 4000000 in
theorem tc_match (l : Launch) (E : ZE) (o : Nat) (ad : Nat → Nat) (σ : TS) (a : Int → Int) (ha : σ 0 = a) (g : Int) (hok : OkA a) (rg : -2147483648 ≤ g ∧ g < 2147483648) : TCi l yX3_match (ws_ yX3_match cX3_match 2 (some Jvm.ClassFile.FieldType.int)) 6 E o ad σ [.ref o, jI g] (fun τ v => eqx [5, 18] σ τ ∧ ((0 ≤ g ∧ g < a 66 → τ 5 0 = 0 ∧ v = mtF a g) ∧ (¬ (0 ≤ g ∧ g < a 66) → τ 5 0 = 1))) := by
  refine tci_of (own := RX3) (cc := cX3_match) (L := [some (.ref o), some (jI g)]) (by decide) rfl rfl (Nat.le_of_ble_eq_true rfl) (fun Z hE hl hrt hR hm hret => ?_)
  subst hE
  have x0 : eqx [5, 18] σ σ := eqx_rf
  have hc := hok.cnt
  refine zi_aload_n dX3_match_0 rfl ?_
  refine zi_aload_n dX3_match_1 rfl ?_
  refine zi_iload_n dX3_match_2 rfl ?_
  refine zt_PVi1 mw_X3_isSegment rfl (tc_isSegment (zl Z) (zE Z) _ _ _ _ ha _ (hok) (by omega)) q2826 hR (by decide) (by simp [Value.category]) dX3_match_3 (fun v3 h3 => ?_)
  subst h3
  refine zt_Vi1 mw_X3_good rfl (tc_good_b (zl Z) (zE Z) _ _ _ _) q2531 hR (by decide) (by simp [Value.category]) dX3_match_6 (fun τ6_0 v6 wτ6_0 => ?_)
  obtain ⟨qτ6_0, h6⟩ := wτ6_0
  obtain ⟨eh6, h6⟩ := h6
  subst eh6
  have xτ6_0 : eqx [5, 18] σ τ6_0 := eqx_tr x0 (eqx_mono qτ6_0 (by decide))
  have haτ6_0 : τ6_0 0 = a := (xτ6_0 0 (by decide)).trans ha
  refine zi_if_eqB 20 dX3_match_9 (by decide) (fun c9 => ?_) (fun c9 => ?_)
  · have tc9 := h6.2 c9; clear h6
    refine zi_iconst dX3_match_20 ?_
    exact zi_ireturn hrt dX3_match_21 (hret _ _ ⟨xτ6_0, by omega⟩)
  · have tc9 := h6.1 c9; clear h6
    refine zi_aload_n dX3_match_12 rfl ?_
    refine zi_iload_n dX3_match_13 rfl ?_
    refine zt_Vi1 mw_X3_matchOf rfl (tc_matchOf (zl Z) (zE Z) _ _ _ _ haτ6_0 _ (hok) (by omega) (by omega)) q2774 hR (by decide) (by simp [Value.category]) dX3_match_14 (fun τ14_1 v14 wτ14_1 => ?_)
    obtain ⟨qτ14_1, h14⟩ := wτ14_1
    have k5τ14_1 := eq_keep 5 qτ14_1 (by decide)
    have xτ14_1 : eqx [5, 18] σ τ14_1 := eqx_tr xτ6_0 (eqx_mono qτ14_1 (by decide))
    have haτ14_1 : τ14_1 0 = a := (xτ14_1 0 (by decide)).trans ha
    refine zi_goto 21 dX3_match_17 (by decide) ?_
    exact zi_ireturn hrt dX3_match_21 (hret _ _ ⟨xτ14_1, by omega⟩)
theorem mw_X3_band : MWV yX3_band cX3_band 2 (some Jvm.ClassFile.FieldType.int) 1 := ⟨q2859, q2860, q128, q2861, by decide, by decide +kernel, by decide +kernel, by decide +kernel⟩
set_option maxHeartbeats 4000000 in
theorem tc_band (l : Launch) (E : ZE) (o : Nat) (ad : Nat → Nat) (σ : TS) (a : Int → Int) (ha : σ 0 = a) (g : Int) (hok : OkA a) (rg : -2147483648 ≤ g ∧ g < 2147483648) : TCi l yX3_band (ws_ yX3_band cX3_band 2 (some Jvm.ClassFile.FieldType.int)) 7 E o ad σ [.ref o, jI g] (fun τ v => eqx [5, 18] σ τ ∧ ((0 ≤ g ∧ g < a 66 → τ 5 0 = 0 ∧ v = bdF a g) ∧ (¬ (0 ≤ g ∧ g < a 66) → τ 5 0 = 1))) := by
  refine tci_of (own := RX3) (cc := cX3_band) (L := [some (.ref o), some (jI g)]) (by decide) rfl rfl (Nat.le_of_ble_eq_true rfl) (fun Z hE hl hrt hR hm hret => ?_)
  subst hE
  have x0 : eqx [5, 18] σ σ := eqx_rf
  have hc := hok.cnt
  refine zi_aload_n dX3_band_0 rfl ?_
  refine zi_aload_n dX3_band_1 rfl ?_
  refine zi_iload_n dX3_band_2 rfl ?_
  refine zt_PVi1 mw_X3_isSegment rfl (tc_isSegment (zl Z) (zE Z) _ _ _ _ ha _ (hok) (by omega)) q2826 hR (by decide) (by simp [Value.category]) dX3_band_3 (fun v3 h3 => ?_)
  subst h3
  refine zt_Vi1 mw_X3_good rfl (tc_good_b (zl Z) (zE Z) _ _ _ _) q2531 hR (by decide) (by simp [Value.category]) dX3_band_6 (fun τ6_0 v6 wτ6_0 => ?_)
  obtain ⟨qτ6_0, h6⟩ := wτ6_0
  obtain ⟨eh6, h6⟩ := h6
  subst eh6
  have xτ6_0 : eqx [5, 18] σ τ6_0 := eqx_tr x0 (eqx_mono qτ6_0 (by decide))
  have haτ6_0 : τ6_0 0 = a := (xτ6_0 0 (by decide)).trans ha
  refine zi_if_eqB 20 dX3_band_9 (by decide) (fun c9 => ?_) (fun c9 => ?_)
  · have tc9 := h6.2 c9; clear h6
    refine zi_iconst dX3_band_20 ?_
    exact zi_ireturn hrt dX3_band_21 (hret _ _ ⟨xτ6_0, by omega⟩)
  · have tc9 := h6.1 c9; clear h6
    refine zi_aload_n dX3_band_12 rfl ?_
    refine zi_iload_n dX3_band_13 rfl ?_
    refine zt_Vi1 mw_X3_bandOf rfl (tc_bandOf (zl Z) (zE Z) _ _ _ _ haτ6_0 _ (hok) (by omega) (by omega)) q2770 hR (by decide) (by simp [Value.category]) dX3_band_14 (fun τ14_1 v14 wτ14_1 => ?_)
    obtain ⟨qτ14_1, h14⟩ := wτ14_1
    have k5τ14_1 := eq_keep 5 qτ14_1 (by decide)
    have xτ14_1 : eqx [5, 18] σ τ14_1 := eqx_tr xτ6_0 (eqx_mono qτ14_1 (by decide))
    have haτ14_1 : τ14_1 0 = a := (xτ14_1 0 (by decide)).trans ha
    refine zi_goto 21 dX3_band_17 (by decide) ?_
    exact zi_ireturn hrt dX3_band_21 (hret _ _ ⟨xτ14_1, by omega⟩)
theorem mw_X3_model : MWV yX3_model cX3_model 3 (some Jvm.ClassFile.FieldType.int) 1 := ⟨q2855, q2856, q128, q2857, by decide, by decide +kernel, by decide +kernel, by decide +kernel⟩
set_option maxHeartbeats 4000000 in
theorem tc_model (l : Launch) (E : ZE) (o : Nat) (ad : Nat → Nat) (σ : TS) (a : Int → Int) (ha : σ 0 = a) (g : Int) (hok : OkA a) (rg : -2147483648 ≤ g ∧ g < 2147483648) : TCi l yX3_model (ws_ yX3_model cX3_model 3 (some Jvm.ClassFile.FieldType.int)) 5 E o ad σ [.ref o, jI g] (fun τ v => eqx [5, 18] σ τ ∧ ((0 ≤ g ∧ g < a 66 → ¬ mdF a g = -1 → τ 5 0 = 0 ∧ v = mdF a g) ∧ (¬ (0 ≤ g ∧ g < a 66) → τ 5 0 = 1) ∧ (0 ≤ g ∧ g < a 66 → ¬ (¬ mdF a g = -1) → τ 5 0 = 2))) := by
  refine tci_of (own := RX3) (cc := cX3_model) (L := [some (.ref o), some (jI g), none]) (by decide) rfl rfl (Nat.le_of_ble_eq_true rfl) (fun Z hE hl hrt hR hm hret => ?_)
  subst hE
  have x0 : eqx [5, 18] σ σ := eqx_rf
  have hc := hok.cnt
  refine zi_aload_n dX3_model_0 rfl ?_
  refine zi_iload_n dX3_model_1 rfl ?_
  refine zt_PVi1 mw_X3_isSegment rfl (tc_isSegment (zl Z) (zE Z) _ _ _ _ ha _ (hok) (by omega)) q2826 hR (by decide) (by simp [Value.category]) dX3_model_2 (fun v2 h2 => ?_)
  subst h2
  refine zi_istore_2 dX3_model_5 hm (by decide) rfl ?_
  refine zi_aload_n dX3_model_6 rfl ?_
  refine zi_iload_n dX3_model_7 rfl ?_
  refine zi_iload_n dX3_model_8 rfl ?_
  refine zi_if_eqB 25 dX3_model_9 (by decide) (fun c9 => ?_) (fun c9 => ?_)
  · refine zi_iconst dX3_model_25 ?_
    refine zt_Vi2 mw_X3_good_2 rfl (tc_good_2_bf (zl Z) (zE Z) _ _ _ _) q2806 hR (by decide) (by simp [Value.category]) dX3_model_26 (fun τ26_0 v26 wτ26_0 => ?_)
    obtain ⟨qτ26_0, h26⟩ := wτ26_0
    obtain ⟨eh26, h26⟩ := h26
    subst eh26
    have xτ26_0 : eqx [5, 18] σ τ26_0 := eqx_tr x0 (eqx_mono qτ26_0 (by decide))
    have haτ26_0 : τ26_0 0 = a := (xτ26_0 0 (by decide)).trans ha
    refine zi_if_eq 40 dX3_model_29 (by decide) (by decide) (fun _ => ?_) (fun h => absurd h (by decide))
    refine zi_iconst dX3_model_40 ?_
    exact zi_ireturn hrt dX3_model_41 (hret _ _ ⟨xτ26_0, by omega⟩)
  · refine zi_aload_n dX3_model_12 rfl ?_
    refine zi_iload_n dX3_model_13 rfl ?_
    refine zt_Vi1 mw_X3_modelOf rfl (tc_modelOf (zl Z) (zE Z) _ _ _ _ ha _ (hok) (by omega) (by omega)) q2756 hR (by decide) (by simp [Value.category]) dX3_model_14 (fun τ14_1 v14 wτ14_1 => ?_)
    obtain ⟨qτ14_1, h14⟩ := wτ14_1
    have k5τ14_1 := eq_keep 5 qτ14_1 (by decide)
    have xτ14_1 : eqx [5, 18] σ τ14_1 := eqx_tr x0 (eqx_mono qτ14_1 (by decide))
    have haτ14_1 : τ14_1 0 = a := (xτ14_1 0 (by decide)).trans ha
    refine zi_iconst dX3_model_17 ?_
    refine zi_icmp_eq 25 dX3_model_18 (by decide) (by omega) (fun c18 => ?_) (fun c18 => ?_)
    · refine zi_iconst dX3_model_25 ?_
      refine zt_Vi2 mw_X3_good_2 rfl (tc_good_2_bf (zl Z) (zE Z) _ _ _ _) q2806 hR (by decide) (by simp [Value.category]) dX3_model_26 (fun τ26_3 v26_2 wτ26_3 => ?_)
      obtain ⟨qτ26_3, h26_2⟩ := wτ26_3
      obtain ⟨eh26_2, h26_2⟩ := h26_2
      subst eh26_2
      have xτ26_3 : eqx [5, 18] σ τ26_3 := eqx_tr xτ14_1 (eqx_mono qτ26_3 (by decide))
      have haτ26_3 : τ26_3 0 = a := (xτ26_3 0 (by decide)).trans ha
      refine zi_if_eq 40 dX3_model_29 (by decide) (by decide) (fun _ => ?_) (fun h => absurd h (by decide))
      refine zi_iconst dX3_model_40 ?_
      exact zi_ireturn hrt dX3_model_41 (hret _ _ ⟨xτ26_3, by omega⟩)
    · refine zi_iconst dX3_model_21 ?_
      refine zi_goto 26 dX3_model_22 (by decide) ?_
      refine zt_Vi2 mw_X3_good_2 rfl (tc_good_2_bt (zl Z) (zE Z) _ _ _ _) q2806 hR (by decide) (by simp [Value.category]) dX3_model_26 (fun τ26_6 v26_5 wτ26_6 => ?_)
      obtain ⟨qτ26_6, h26_5⟩ := wτ26_6
      obtain ⟨eh26_5, h26_5⟩ := h26_5
      subst eh26_5
      have xτ26_6 : eqx [5, 18] σ τ26_6 := eqx_tr xτ14_1 (eqx_mono qτ26_6 (by decide))
      have haτ26_6 : τ26_6 0 = a := (xτ26_6 0 (by decide)).trans ha
      refine zi_if_eqB 40 dX3_model_29 (by decide) (fun c29_7 => ?_) (fun c29_7 => ?_)
      · have tc29_7 := h26_5.2 c29_7; clear h26_5
        refine zi_iconst dX3_model_40 ?_
        exact zi_ireturn hrt dX3_model_41 (hret _ _ ⟨xτ26_6, by omega⟩)
      · have tc29_7 := h26_5.1 c29_7; clear h26_5
        refine zi_aload_n dX3_model_32 rfl ?_
        refine zi_iload_n dX3_model_33 rfl ?_
        refine zt_Vi1 mw_X3_modelOf rfl (tc_modelOf (zl Z) (zE Z) _ _ _ _ haτ26_6 _ (hok) (by omega) (by omega)) q2756 hR (by decide) (by simp [Value.category]) dX3_model_34 (fun τ34_8 v34 wτ34_8 => ?_)
        obtain ⟨qτ34_8, h34⟩ := wτ34_8
        have k5τ34_8 := eq_keep 5 qτ34_8 (by decide)
        have xτ34_8 : eqx [5, 18] σ τ34_8 := eqx_tr xτ26_6 (eqx_mono qτ34_8 (by decide))
        have haτ34_8 : τ34_8 0 = a := (xτ34_8 0 (by decide)).trans ha
        refine zi_goto 41 dX3_model_37 (by decide) ?_
        exact zi_ireturn hrt dX3_model_41 (hret _ _ ⟨xτ34_8, by omega⟩)
theorem mw_X3_bandWords : MWV yX3_bandWords cX3_bandWords 3 (some Jvm.ClassFile.FieldType.int) 2 := ⟨q2863, q2864, q128, q2865, by decide, by decide +kernel, by decide +kernel, by decide +kernel⟩
set_option maxHeartbeats 4000000 in
theorem tc_bandWords (l : Launch) (E : ZE) (o : Nat) (ad : Nat → Nat) (σ : TS) (a : Int → Int) (ha : σ 0 = a) (j : Int) (b : Int) (hok : OkA a) (rj : -2147483648 ≤ j ∧ j < 2147483648) (rb : -2147483648 ≤ b ∧ b < 2147483648) : TCi l yX3_bandWords (ws_ yX3_bandWords cX3_bandWords 3 (some Jvm.ClassFile.FieldType.int)) 8 E o ad σ [.ref o, jI j, jI b] (fun τ v => eqx [5, 18, 19] σ τ ∧ (((0 ≤ j ∧ j < a 45) ∧ (0 ≤ b ∧ b ≤ 4) → τ 5 0 = 0 ∧ v = bnF a j b) ∧ (¬ ((0 ≤ j ∧ j < a 45) ∧ (0 ≤ b ∧ b ≤ 4)) → τ 5 0 = 1))) := by
  refine tci_of (own := RX3) (cc := cX3_bandWords) (L := [some (.ref o), some (jI j), some (jI b)]) (by decide) rfl rfl (Nat.le_of_ble_eq_true rfl) (fun Z hE hl hrt hR hm hret => ?_)
  subst hE
  have x0 : eqx [5, 18, 19] σ σ := eqx_rf
  have hc := hok.cnt
  refine zi_aload_n dX3_bandWords_0 rfl ?_
  refine zi_aload_n dX3_bandWords_1 rfl ?_
  refine zi_iload_n dX3_bandWords_2 rfl ?_
  refine zt_PVi1 mw_X3_isJob rfl (tc_isJob (zl Z) (zE Z) _ _ _ _ ha _ (hok) (by omega)) q2802 hR (by decide) (by simp [Value.category]) dX3_bandWords_3 (fun v3 h3 => ?_)
  subst h3
  refine zi_if_eqB 20 dX3_bandWords_6 (by decide) (fun c6 => ?_) (fun c6 => ?_)
  · refine zi_iconst dX3_bandWords_20 ?_
    refine zt_Vi1 mw_X3_good rfl (tc_good_f (zl Z) (zE Z) _ _ _ ) q2531 hR (by decide) (by simp [Value.category]) dX3_bandWords_21 (fun τ21_0 v21 wτ21_0 => ?_)
    obtain ⟨qτ21_0, h21⟩ := wτ21_0
    obtain ⟨eh21, h21⟩ := h21
    subst eh21
    have xτ21_0 : eqx [5, 18, 19] σ τ21_0 := eqx_tr x0 (eqx_mono qτ21_0 (by decide))
    have haτ21_0 : τ21_0 0 = a := (xτ21_0 0 (by decide)).trans ha
    refine zi_if_ne 29 dX3_bandWords_24 (by decide) (by decide) (fun h => absurd h (by decide)) (fun _ => ?_)
    refine zi_iconst dX3_bandWords_27 ?_
    exact zi_ireturn hrt dX3_bandWords_28 (hret _ _ ⟨xτ21_0, by omega⟩)
  · refine zi_iload_n dX3_bandWords_9 rfl ?_
    refine zt_PSi1 mw_X3_isBand (tc_isBand (zl Z) (zE Z) _ _ _ _ (by omega)) q2787 hR (by decide) (by simp [Value.category]) dX3_bandWords_10 (fun v10 h10 => ?_)
    subst h10
    refine zi_if_eqB 20 dX3_bandWords_13 (by decide) (fun c13 => ?_) (fun c13 => ?_)
    · refine zi_iconst dX3_bandWords_20 ?_
      refine zt_Vi1 mw_X3_good rfl (tc_good_f (zl Z) (zE Z) _ _ _ ) q2531 hR (by decide) (by simp [Value.category]) dX3_bandWords_21 (fun τ21_2 v21_1 wτ21_2 => ?_)
      obtain ⟨qτ21_2, h21_1⟩ := wτ21_2
      obtain ⟨eh21_1, h21_1⟩ := h21_1
      subst eh21_1
      have xτ21_2 : eqx [5, 18, 19] σ τ21_2 := eqx_tr x0 (eqx_mono qτ21_2 (by decide))
      have haτ21_2 : τ21_2 0 = a := (xτ21_2 0 (by decide)).trans ha
      refine zi_if_ne 29 dX3_bandWords_24 (by decide) (by decide) (fun h => absurd h (by decide)) (fun _ => ?_)
      refine zi_iconst dX3_bandWords_27 ?_
      exact zi_ireturn hrt dX3_bandWords_28 (hret _ _ ⟨xτ21_2, by omega⟩)
    · refine zi_iconst dX3_bandWords_16 ?_
      refine zi_goto 21 dX3_bandWords_17 (by decide) ?_
      refine zt_Vi1 mw_X3_good rfl (tc_good_t (zl Z) (zE Z) _ _ _ ) q2531 hR (by decide) (by simp [Value.category]) dX3_bandWords_21 (fun τ21_5 v21_4 wτ21_5 => ?_)
      obtain ⟨qτ21_5, h21_4⟩ := wτ21_5
      obtain ⟨eh21_4, h21_4⟩ := h21_4
      subst eh21_4
      have xτ21_5 : eqx [5, 18, 19] σ τ21_5 := eqx_tr x0 (eqx_mono qτ21_5 (by decide))
      have haτ21_5 : τ21_5 0 = a := (xτ21_5 0 (by decide)).trans ha
      refine zi_if_ne 29 dX3_bandWords_24 (by decide) (by decide) (fun _ => ?_) (fun h => absurd h (by decide))
      refine zi_aload_n dX3_bandWords_29 rfl ?_
      refine zi_iload_n dX3_bandWords_30 rfl ?_
      refine zt_Vv1 mw_X3_layBands rfl (tc_layBands (zl Z) (zE Z) _ _ _ _ haτ21_5 _ (hok) (by omega)) q2866 hR (by decide) (by simp [Value.category]) dX3_bandWords_31 (fun τ31_7 wτ31_7 => ?_)
      obtain ⟨qτ31_7, h31⟩ := wτ31_7
      have k5τ31_7 := eq_keep 5 qτ31_7 (by decide)
      have xτ31_7 : eqx [5, 18, 19] σ τ31_7 := eqx_tr xτ21_5 (eqx_mono qτ31_7 (by decide))
      have haτ31_7 : τ31_7 0 = a := (xτ31_7 0 (by decide)).trans ha
      refine zi_aload_n dX3_bandWords_34 rfl ?_
      refine zt_g19 q2450 dX3_bandWords_35 ?_
      refine zi_iload_n dX3_bandWords_38 rfl ?_
      refine zt_ld19 dX3_bandWords_39 (rfl) (by omega) ?_
      have q9 := h31 b (by omega) (by omega)
      exact zi_ireturn hrt dX3_bandWords_40 (hret _ _ ⟨xτ31_7, by omega⟩)
theorem mw_X3_repetitions : MWV yX3_repetitions cX3_repetitions 4 (some Jvm.ClassFile.FieldType.int) 1 := ⟨q2871, q2872, q128, q2873, by decide, by decide +kernel, by decide +kernel, by decide +kernel⟩
set_option maxHeartbeats 4000000 in
theorem tc_repetitions (l : Launch) (E : ZE) (o : Nat) (ad : Nat → Nat) (σ : TS) (a : Int → Int) (ha : σ 0 = a) (g : Int) (hok : OkA a) (rg : -2147483648 ≤ g ∧ g < 2147483648) : TCi l yX3_repetitions (ws_ yX3_repetitions cX3_repetitions 4 (some Jvm.ClassFile.FieldType.int)) 3 E o ad σ [.ref o, jI g] (fun τ v => eqx [5] σ τ ∧ ((0 ≤ g ∧ g < a 66 → τ 5 0 = 0 ∧ v = rpI a g (a 66).toNat) ∧ (¬ (0 ≤ g ∧ g < a 66) → τ 5 0 = 1))) := by
  refine tci_of (own := RX3) (cc := cX3_repetitions) (L := [some (.ref o), some (jI g), none, none]) (by decide) rfl rfl (Nat.le_of_ble_eq_true rfl) (fun Z hE hl hrt hR hm hret => ?_)
  subst hE
  have x0 : eqx [5] σ σ := eqx_rf
  have hc := hok.cnt
  refine zi_aload_n dX3_repetitions_0 rfl ?_
  refine zi_aload_n dX3_repetitions_1 rfl ?_
  refine zi_iload_n dX3_repetitions_2 rfl ?_
  refine zt_PVi1 mw_X3_isSegment rfl (tc_isSegment (zl Z) (zE Z) _ _ _ _ ha _ (hok) (by omega)) q2826 hR (by decide) (by simp [Value.category]) dX3_repetitions_3 (fun v3 h3 => ?_)
  subst h3
  refine zt_Vi1 mw_X3_good rfl (tc_good_b (zl Z) (zE Z) _ _ _ _) q2531 hR (by decide) (by simp [Value.category]) dX3_repetitions_6 (fun τ6_0 v6 wτ6_0 => ?_)
  obtain ⟨qτ6_0, h6⟩ := wτ6_0
  obtain ⟨eh6, h6⟩ := h6
  subst eh6
  have xτ6_0 : eqx [5] σ τ6_0 := eqx_tr x0 (eqx_mono qτ6_0 (by decide))
  have haτ6_0 : τ6_0 0 = a := (xτ6_0 0 (by decide)).trans ha
  refine zi_if_neB 14 dX3_repetitions_9 (by decide) (fun c9 => ?_) (fun c9 => ?_)
  · have tc9 := h6.1 c9; clear h6
    refine zi_iconst dX3_repetitions_14 ?_
    refine zi_istore_2 dX3_repetitions_15 hm (by decide) rfl ?_
    refine zi_iconst dX3_repetitions_16 ?_
    refine zi_istore_3 dX3_repetitions_17 hm (by decide) rfl ?_
    have lp18 : ∀ (n : Nat) (k : Nat) (x2 : Int) (x3 : Int), (x3 = (k : Int)) → (x3 ≤ a 66) → (x2 = rpI a g k) → (a 66 - x3).toNat < n → GV RX3 cX3_repetitions Z (zA Z) (zs Z).heap (twW (zE Z) o ad τ6_0) 0 0 18 [some (.ref o), some (jI g), some (jI x2), some (jI x3)] [] := by
      intro n
      induction n with
      | zero => intro k x2 x3 i18_0 i18_1 i18_2 m18; exact absurd m18 (Nat.not_lt_zero _)
      | succ n ih18 =>
        intro k x2 x3 i18_0 i18_1 i18_2 m18
        subst i18_0
        refine zi_iload_n dX3_repetitions_18 rfl ?_
        refine zi_aload_n dX3_repetitions_19 rfl ?_
        refine zt_PVi0 mw_X3_segments rfl (tc_segments (zl Z) (zE Z) _ _ _ _ haτ6_0  (hok)) q2700 hR (by decide) (by simp [Value.category]) dX3_repetitions_20 (fun v20 h20 => ?_)
        refine zi_icmp_ge 45 dX3_repetitions_23 (by decide) (by omega) (fun c23 => ?_) (fun c23 => ?_)
        · have q9 : (a 66).toNat = k := by omega
          rw [i18_2]
          rw [← q9]
          refine zi_iload_n dX3_repetitions_45 rfl ?_
          exact zi_ireturn hrt dX3_repetitions_46 (hret _ _ ⟨xτ6_0, by omega⟩)
        · refine zi_aload_n dX3_repetitions_26 rfl ?_
          refine zi_iload_n dX3_repetitions_27 rfl ?_
          refine zi_iload_n dX3_repetitions_28 rfl ?_
          refine zi_iconst dX3_repetitions_29 ?_
          refine zt_PVi3 mw_X3_isSameRow rfl (tc_isSameRow (zl Z) (zE Z) _ _ _ _ haτ6_0 _ _ _ (hok) (by omega) (by omega) (by omega) (by omega) (by omega)) q2752 hR (by decide) (by simp [Value.category]) dX3_repetitions_30 (fun v30 h30 => ?_)
          subst h30
          refine zi_if_eqB 39 dX3_repetitions_33 (by decide) (fun c33 => ?_) (fun c33 => ?_)
          · refine zi_iinc_3 dX3_repetitions_39 hm (by decide) rfl ?_
            refine zi_goto 18 dX3_repetitions_42 (by decide) ?_
            exact ih18 (k + 1) _ _ (by omega) (by omega) (by simp only [rpI]; first | (rw [cif_t (by assumption)]; omega) | (rw [cif_f (by assumption)]; omega)) (by omega)
          · refine zi_iinc_2 dX3_repetitions_36 hm (by decide) rfl ?_
            refine zi_iinc_3 dX3_repetitions_39 hm (by decide) rfl ?_
            refine zi_goto 18 dX3_repetitions_42 (by decide) ?_
            exact ih18 (k + 1) _ _ (by omega) (by omega) (by simp only [rpI]; first | (rw [cif_t (by assumption)]; omega) | (rw [cif_f (by assumption)]; omega)) (by omega)
    exact lp18 _ (0) _ _ (by omega) (by omega) (by rfl) (Nat.lt_succ_self _)
  · have tc9 := h6.2 c9; clear h6
    refine zi_iconst dX3_repetitions_12 ?_
    exact zi_ireturn hrt dX3_repetitions_13 (hret _ _ ⟨xτ6_0, by omega⟩)
theorem mw_X3_account : MWV yX3_account cX3_account 3 (some Jvm.ClassFile.FieldType.int) 2 := ⟨q2875, q2876, q128, q2877, by decide, by decide +kernel, by decide +kernel, by decide +kernel⟩
set_option maxHeartbeats 4000000 in
theorem tc_account (l : Launch) (E : ZE) (o : Nat) (ad : Nat → Nat) (σ : TS) (a : Int → Int) (ha : σ 0 = a) (j : Int) (w : Int) (hok : OkA a) (rj : -2147483648 ≤ j ∧ j < 2147483648) (rw : -2147483648 ≤ w ∧ w < 2147483648) : TCi l yX3_account (ws_ yX3_account cX3_account 3 (some Jvm.ClassFile.FieldType.int)) 11 E o ad σ [.ref o, jI j, jI w] (fun τ v => eqx [5, 18, 19] σ τ ∧ ((0 ≤ j ∧ j < a 45 → 0 ≤ w ∧ w ≤ 5 → τ 5 0 = 0 ∧ v = v ∧ (w = 0 → v = bsF a j) ∧ (w = 1 → v = hrF a j) ∧ (w = 2 → v = pmF a j (jOf a j 2)) ∧ (w = 3 → v = exF a j) ∧ (w = 4 → v = trF a j) ∧ (w = 5 → v = rvF a j)) ∧ (¬ (0 ≤ j ∧ j < a 45) → τ 5 0 = 1) ∧ (0 ≤ j ∧ j < a 45 → ¬ (0 ≤ w ∧ w ≤ 5) → τ 5 0 = 2))) := by
  refine tci_of (own := RX3) (cc := cX3_account) (L := [some (.ref o), some (jI j), some (jI w)]) (by decide) rfl rfl (Nat.le_of_ble_eq_true rfl) (fun Z hE hl hrt hR hm hret => ?_)
  subst hE
  have x0 : eqx [5, 18, 19] σ σ := eqx_rf
  have hc := hok.cnt
  refine zi_aload_n dX3_account_0 rfl ?_
  refine zi_aload_n dX3_account_1 rfl ?_
  refine zi_iload_n dX3_account_2 rfl ?_
  refine zt_PVi1 mw_X3_isJob rfl (tc_isJob (zl Z) (zE Z) _ _ _ _ ha _ (hok) (by omega)) q2802 hR (by decide) (by simp [Value.category]) dX3_account_3 (fun v3 h3 => ?_)
  subst h3
  refine zi_iload_n dX3_account_6 rfl ?_
  refine zi_i2l dX3_account_7 (by omega) ?_
  refine zi_lconst (m := 0) dX3_account_8 (by decide +kernel) ?_
  refine zi_ldc2 (m := 5) dX3_account_9 q2615 (by decide +kernel) ?_
  refine zt_PSi3 mw_X3_isIn (tc_isIn (zl Z) (zE Z) _ _ _ _ _ _ (by omega) (by omega) (by omega)) q2528 hR (by decide) (by simp [Value.category]) dX3_account_12 (fun v12 h12 => ?_)
  subst h12
  refine zt_Vi2 mw_X3_good_2 rfl (tc_good_2_bb (zl Z) (zE Z) _ _ _ _ _) q2806 hR (by decide) (by simp [Value.category]) dX3_account_15 (fun τ15_0 v15 wτ15_0 => ?_)
  obtain ⟨qτ15_0, h15⟩ := wτ15_0
  obtain ⟨eh15, h15⟩ := h15
  subst eh15
  have xτ15_0 : eqx [5, 18, 19] σ τ15_0 := eqx_tr x0 (eqx_mono qτ15_0 (by decide))
  have haτ15_0 : τ15_0 0 = a := (xτ15_0 0 (by decide)).trans ha
  refine zi_if_neB 23 dX3_account_18 (by decide) (fun c18 => ?_) (fun c18 => ?_)
  · have tc18 := h15.1 c18.1 c18.2; clear h15
    refine zi_iload_n dX3_account_23 rfl ?_
    by_cases c24_0 : w = 0
    · refine zi_tsw_in 0 c24_0 (by decide) 60 dX3_account_24 (by decide) rfl (by decide) ?_
      refine zi_aload_n dX3_account_60 rfl ?_
      refine zi_iload_n dX3_account_61 rfl ?_
      refine zt_Vi1 mw_X3_basicOf rfl (tc_basicOf (zl Z) (zE Z) _ _ _ _ haτ15_0 _ (hok) (by omega)) q2878 hR (by decide) (by simp [Value.category]) dX3_account_62 (fun τ62_1 v62 wτ62_1 => ?_)
      obtain ⟨qτ62_1, h62⟩ := wτ62_1
      have k5τ62_1 := eq_keep 5 qτ62_1 (by decide)
      have xτ62_1 : eqx [5, 18, 19] σ τ62_1 := eqx_tr xτ15_0 (eqx_mono qτ62_1 (by decide))
      have haτ62_1 : τ62_1 0 = a := (xτ62_1 0 (by decide)).trans ha
      exact zi_ireturn hrt dX3_account_65 (hret _ _ ⟨xτ62_1, by omega⟩)
    by_cases c24_1 : w = 1
    · refine zi_tsw_in 1 c24_1 (by decide) 66 dX3_account_24 (by decide) rfl (by decide) ?_
      refine zi_aload_n dX3_account_66 rfl ?_
      refine zi_iload_n dX3_account_67 rfl ?_
      refine zt_PVi1 mw_X3_hoursOf rfl (tc_hoursOf (zl Z) (zE Z) _ _ _ _ haτ15_0 _ (hok) (by omega)) q2882 hR (by decide) (by simp [Value.category]) dX3_account_68 (fun v68 h68 => ?_)
      exact zi_ireturn hrt dX3_account_71 (hret _ _ ⟨xτ15_0, by omega⟩)
    by_cases c24_2 : w = 2
    · refine zi_tsw_in 2 c24_2 (by decide) 72 dX3_account_24 (by decide) rfl (by decide) ?_
      refine zi_aload_n dX3_account_72 rfl ?_
      refine zi_iload_n dX3_account_73 rfl ?_
      refine zi_aload_n dX3_account_74 rfl ?_
      refine zi_iload_n dX3_account_75 rfl ?_
      refine zi_iconst dX3_account_76 ?_
      refine zt_PVi2 mw_X3_ofJob rfl (tc_ofJob (zl Z) (zE Z) _ _ _ _ haτ15_0 _ _ (hok) (by omega) (by omega) (by omega)) q2716 hR (by decide) (by simp [Value.category]) dX3_account_77 (fun v77 h77 => ?_)
      refine zt_PVi2 mw_X3_premiumBy rfl (tc_premiumBy (zl Z) (zE Z) _ _ _ _ haτ15_0 _ _ (hok) (by omega) (by omega)) q2886 hR (by decide) (by simp [Value.category]) dX3_account_80 (fun v80 h80 => ?_)
      rw [h77.1] at h80
      exact zi_ireturn hrt dX3_account_83 (hret _ _ ⟨xτ15_0, by omega⟩)
    by_cases c24_3 : w = 3
    · refine zi_tsw_in 3 c24_3 (by decide) 84 dX3_account_24 (by decide) rfl (by decide) ?_
      refine zi_aload_n dX3_account_84 rfl ?_
      refine zi_iload_n dX3_account_85 rfl ?_
      refine zt_Vi1 mw_X3_extraOf rfl (tc_extraOf (zl Z) (zE Z) _ _ _ _ haτ15_0 _ (hok) (by omega) (by omega)) q2893 hR (by decide) (by simp [Value.category]) dX3_account_86 (fun τ86_2 v86 wτ86_2 => ?_)
      obtain ⟨qτ86_2, h86⟩ := wτ86_2
      have k5τ86_2 := eq_keep 5 qτ86_2 (by decide)
      have xτ86_2 : eqx [5, 18, 19] σ τ86_2 := eqx_tr xτ15_0 (eqx_mono qτ86_2 (by decide))
      have haτ86_2 : τ86_2 0 = a := (xτ86_2 0 (by decide)).trans ha
      exact zi_ireturn hrt dX3_account_89 (hret _ _ ⟨xτ86_2, by omega⟩)
    by_cases c24_4 : w = 4
    · refine zi_tsw_in 4 c24_4 (by decide) 90 dX3_account_24 (by decide) rfl (by decide) ?_
      refine zi_aload_n dX3_account_90 rfl ?_
      refine zi_iload_n dX3_account_91 rfl ?_
      refine zt_Vi1 mw_X3_translatorGets rfl (tc_translatorGets (zl Z) (zE Z) _ _ _ _ haτ15_0 _ (hok) (by omega) (by omega)) q2897 hR (by decide) (by simp [Value.category]) dX3_account_92 (fun τ92_3 v92 wτ92_3 => ?_)
      obtain ⟨qτ92_3, h92⟩ := wτ92_3
      have k5τ92_3 := eq_keep 5 qτ92_3 (by decide)
      have xτ92_3 : eqx [5, 18, 19] σ τ92_3 := eqx_tr xτ15_0 (eqx_mono qτ92_3 (by decide))
      have haτ92_3 : τ92_3 0 = a := (xτ92_3 0 (by decide)).trans ha
      exact zi_ireturn hrt dX3_account_95 (hret _ _ ⟨xτ92_3, by omega⟩)
    refine zi_tsw_out (by omega) 96 dX3_account_24 (by omega) (by decide) ?_
    refine zi_aload_n dX3_account_96 rfl ?_
    refine zi_iload_n dX3_account_97 rfl ?_
    refine zt_Vi1 mw_X3_reviserGets rfl (tc_reviserGets (zl Z) (zE Z) _ _ _ _ haτ15_0 _ (hok) (by omega)) q2901 hR (by decide) (by simp [Value.category]) dX3_account_98 (fun τ98_4 v98 wτ98_4 => ?_)
    obtain ⟨qτ98_4, h98⟩ := wτ98_4
    have k5τ98_4 := eq_keep 5 qτ98_4 (by decide)
    have xτ98_4 : eqx [5, 18, 19] σ τ98_4 := eqx_tr xτ15_0 (eqx_mono qτ98_4 (by decide))
    have haτ98_4 : τ98_4 0 = a := (xτ98_4 0 (by decide)).trans ha
    exact zi_ireturn hrt dX3_account_101 (hret _ _ ⟨xτ98_4, by omega⟩)
  · refine zi_iconst dX3_account_21 ?_
    exact zi_ireturn hrt dX3_account_22 (hret _ _ ⟨xτ15_0, ⟨fun p q => absurd ⟨p, q⟩ c18, h15.2.1, h15.2.2⟩⟩)
theorem mw_X3_earned : MWV yX3_earned cX3_earned 4 (some Jvm.ClassFile.FieldType.int) 1 := ⟨q2906, q2907, q128, q2908, by decide, by decide +kernel, by decide +kernel, by decide +kernel⟩
set_option maxHeartbeats 4000000 in
theorem tc_earned (l : Launch) (E : ZE) (o : Nat) (ad : Nat → Nat) (σ : TS) (a : Int → Int) (ha : σ 0 = a) (p : Int) (hok : OkA a) (rp : -2147483648 ≤ p ∧ p < 2147483648) : TCi l yX3_earned (ws_ yX3_earned cX3_earned 4 (some Jvm.ClassFile.FieldType.int)) 11 E o ad σ [.ref o, jI p] (fun τ v => eqx [5, 18, 19] σ τ ∧ ((0 ≤ p ∧ p < a 9 → τ 5 0 = 0 ∧ v = eaI a p (a 45).toNat) ∧ (¬ (0 ≤ p ∧ p < a 9) → τ 5 0 = 1))) := by
  refine tci_of (own := RX3) (cc := cX3_earned) (L := [some (.ref o), some (jI p), none, none]) (by decide) rfl rfl (Nat.le_of_ble_eq_true rfl) (fun Z hE hl hrt hR hm hret => ?_)
  subst hE
  have x0 : eqx [5, 18, 19] σ σ := eqx_rf
  have hc := hok.cnt
  refine zi_aload_n dX3_earned_0 rfl ?_
  refine zi_aload_n dX3_earned_1 rfl ?_
  refine zi_iload_n dX3_earned_2 rfl ?_
  refine zt_PVi1 mw_X3_isPerson rfl (tc_isPerson (zl Z) (zE Z) _ _ _ _ ha _ (hok) (by omega)) q2794 hR (by decide) (by simp [Value.category]) dX3_earned_3 (fun v3 h3 => ?_)
  subst h3
  refine zt_Vi1 mw_X3_good rfl (tc_good_b (zl Z) (zE Z) _ _ _ _) q2531 hR (by decide) (by simp [Value.category]) dX3_earned_6 (fun τ6_0 v6 wτ6_0 => ?_)
  obtain ⟨qτ6_0, h6⟩ := wτ6_0
  obtain ⟨eh6, h6⟩ := h6
  subst eh6
  have xτ6_0 : eqx [5, 18, 19] σ τ6_0 := eqx_tr x0 (eqx_mono qτ6_0 (by decide))
  have haτ6_0 : τ6_0 0 = a := (xτ6_0 0 (by decide)).trans ha
  refine zi_if_neB 14 dX3_earned_9 (by decide) (fun c9 => ?_) (fun c9 => ?_)
  · have tc9 := h6.1 c9; clear h6
    refine zi_iconst dX3_earned_14 ?_
    refine zi_istore_2 dX3_earned_15 hm (by decide) rfl ?_
    refine zi_iconst dX3_earned_16 ?_
    refine zi_istore_3 dX3_earned_17 hm (by decide) rfl ?_
    have lp18 : ∀ (n : Nat) (k : Nat) (x2 : Int) (x3 : Int) (τ18 : TS), (eqx [5, 18, 19] σ τ18) → (x3 = (k : Int)) → (x3 ≤ a 45) → (x2 = eaI a p k) → (τ18 5 0 = 0) → (a 45 - x3).toNat < n → GV RX3 cX3_earned Z (zA Z) (zs Z).heap (twW (zE Z) o ad τ18) 0 0 18 [some (.ref o), some (jI p), some (jI x2), some (jI x3)] [] := by
      intro n
      induction n with
      | zero => intro k x2 x3 τ18 y18 i18_0 i18_1 i18_2 i18_3 m18; exact absurd m18 (Nat.not_lt_zero _)
      | succ n ih18 =>
        intro k x2 x3 τ18 y18 i18_0 i18_1 i18_2 i18_3 m18
        have ha18 : τ18 0 = a := (y18 0 (by decide)).trans ha
        subst i18_0
        have z0 := eaI_r hok p k
        refine zi_iload_n dX3_earned_18 rfl ?_
        refine zi_i2l dX3_earned_19 (by omega) ?_
        refine zi_aload_n dX3_earned_20 rfl ?_
        refine zt_g0 q2431 dX3_earned_21 ?_
        refine zi_bipush dX3_earned_24 (by decide +kernel) ?_
        refine zt_ld0 dX3_earned_26 (ha18) (by omega) ?_
        refine zi_lcmp_ge 73 dX3_earned_27 dX3_earned_28 (by decide) (by omega) (fun c27 => ?_) (fun c27 => ?_)
        · have q9 : (a 45).toNat = k := by omega
          rw [← q9] at i18_2
          refine zi_iload_n dX3_earned_73 rfl ?_
          exact zi_ireturn hrt dX3_earned_74 (hret _ _ ⟨y18, by omega⟩)
        · refine zi_aload_n dX3_earned_31 rfl ?_
          refine zi_iload_n dX3_earned_32 rfl ?_
          refine zi_iconst dX3_earned_33 ?_
          refine zt_PVi2 mw_X3_ofJob rfl (tc_ofJob (zl Z) (zE Z) _ _ _ _ ha18 _ _ (hok) (by omega) (by omega) (by omega)) q2716 hR (by decide) (by simp [Value.category]) dX3_earned_34 (fun v34 h34 => ?_)
          refine zi_iload_n dX3_earned_37 rfl ?_
          refine zi_icmp_ne 49 dX3_earned_38 (by decide) (by omega) (fun c38 => ?_) (fun c38 => ?_)
          · refine zi_aload_n dX3_earned_49 rfl ?_
            refine zi_iload_n dX3_earned_50 rfl ?_
            refine zi_iconst dX3_earned_51 ?_
            refine zt_PVi2 mw_X3_ofJob rfl (tc_ofJob (zl Z) (zE Z) _ _ _ _ ha18 _ _ (hok) (by omega) (by omega) (by omega)) q2716 hR (by decide) (by simp [Value.category]) dX3_earned_52 (fun v52 h52 => ?_)
            refine zi_iload_n dX3_earned_55 rfl ?_
            refine zi_icmp_ne 67 dX3_earned_56 (by decide) (by omega) (fun c56 => ?_) (fun c56 => ?_)
            · refine zi_iinc_3 dX3_earned_67 hm (by decide) rfl ?_
              refine zi_goto 18 dX3_earned_70 (by decide) ?_
              exact ih18 (k + 1) _ _ _ y18 (by omega) (by omega) (by simp only [eaI]; (repeat' split) <;> omega) (by omega) (by omega)
            · refine zi_iload_n dX3_earned_59 rfl ?_
              refine zi_aload_n dX3_earned_60 rfl ?_
              refine zi_iload_n dX3_earned_61 rfl ?_
              refine zt_Vi1 mw_X3_reviserGets rfl (tc_reviserGets (zl Z) (zE Z) _ _ _ _ ha18 _ (hok) (by omega)) q2901 hR (by decide) (by simp [Value.category]) dX3_earned_62 (fun τ62_1 v62 wτ62_1 => ?_)
              obtain ⟨qτ62_1, h62⟩ := wτ62_1
              have k5τ62_1 := eq_keep 5 qτ62_1 (by decide)
              have xτ62_1 : eqx [5, 18, 19] σ τ62_1 := eqx_tr y18 (eqx_mono qτ62_1 (by decide))
              have haτ62_1 : τ62_1 0 = a := (xτ62_1 0 (by decide)).trans ha
              refine zi_iadd dX3_earned_65 ?_
              refine zi_istore_2 dX3_earned_66 hm (by decide) rfl ?_
              refine zi_iinc_3 dX3_earned_67 hm (by decide) rfl ?_
              refine zi_goto 18 dX3_earned_70 (by decide) ?_
              exact ih18 (k + 1) _ _ _ xτ62_1 (by omega) (by omega) (by simp only [eaI]; (repeat' split) <;> omega) (by omega) (by omega)
          · refine zi_iload_n dX3_earned_41 rfl ?_
            refine zi_aload_n dX3_earned_42 rfl ?_
            refine zi_iload_n dX3_earned_43 rfl ?_
            refine zt_Vi1 mw_X3_translatorGets rfl (tc_translatorGets (zl Z) (zE Z) _ _ _ _ ha18 _ (hok) (by omega) (by omega)) q2897 hR (by decide) (by simp [Value.category]) dX3_earned_44 (fun τ44_2 v44 wτ44_2 => ?_)
            obtain ⟨qτ44_2, h44⟩ := wτ44_2
            have k5τ44_2 := eq_keep 5 qτ44_2 (by decide)
            have xτ44_2 : eqx [5, 18, 19] σ τ44_2 := eqx_tr y18 (eqx_mono qτ44_2 (by decide))
            have haτ44_2 : τ44_2 0 = a := (xτ44_2 0 (by decide)).trans ha
            refine zi_iadd dX3_earned_47 ?_
            refine zi_istore_2 dX3_earned_48 hm (by decide) rfl ?_
            refine zi_aload_n dX3_earned_49 rfl ?_
            refine zi_iload_n dX3_earned_50 rfl ?_
            refine zi_iconst dX3_earned_51 ?_
            refine zt_PVi2 mw_X3_ofJob rfl (tc_ofJob (zl Z) (zE Z) _ _ _ _ haτ44_2 _ _ (hok) (by omega) (by omega) (by omega)) q2716 hR (by decide) (by simp [Value.category]) dX3_earned_52 (fun v52_3 h52_3 => ?_)
            refine zi_iload_n dX3_earned_55 rfl ?_
            refine zi_icmp_ne 67 dX3_earned_56 (by decide) (by omega) (fun c56_4 => ?_) (fun c56_4 => ?_)
            · refine zi_iinc_3 dX3_earned_67 hm (by decide) rfl ?_
              refine zi_goto 18 dX3_earned_70 (by decide) ?_
              exact ih18 (k + 1) _ _ _ xτ44_2 (by omega) (by omega) (by simp only [eaI]; (repeat' split) <;> omega) (by omega) (by omega)
            · refine zi_iload_n dX3_earned_59 rfl ?_
              refine zi_aload_n dX3_earned_60 rfl ?_
              refine zi_iload_n dX3_earned_61 rfl ?_
              refine zt_Vi1 mw_X3_reviserGets rfl (tc_reviserGets (zl Z) (zE Z) _ _ _ _ haτ44_2 _ (hok) (by omega)) q2901 hR (by decide) (by simp [Value.category]) dX3_earned_62 (fun τ62_6 v62_5 wτ62_6 => ?_)
              obtain ⟨qτ62_6, h62_5⟩ := wτ62_6
              have k5τ62_6 := eq_keep 5 qτ62_6 (by decide)
              have xτ62_6 : eqx [5, 18, 19] σ τ62_6 := eqx_tr xτ44_2 (eqx_mono qτ62_6 (by decide))
              have haτ62_6 : τ62_6 0 = a := (xτ62_6 0 (by decide)).trans ha
              refine zi_iadd dX3_earned_65 ?_
              refine zi_istore_2 dX3_earned_66 hm (by decide) rfl ?_
              refine zi_iinc_3 dX3_earned_67 hm (by decide) rfl ?_
              refine zi_goto 18 dX3_earned_70 (by decide) ?_
              exact ih18 (k + 1) _ _ _ xτ62_6 (by omega) (by omega) (by simp only [eaI]; (repeat' split) <;> omega) (by omega) (by omega)
    exact lp18 _ (0) _ _ _ xτ6_0 (by omega) (by omega) (by rfl) (by omega) (Nat.lt_succ_self _)
  · have tc9 := h6.2 c9; clear h6
    refine zi_iconst dX3_earned_12 ?_
    exact zi_ireturn hrt dX3_earned_13 (hret _ _ ⟨xτ6_0, by omega⟩)
