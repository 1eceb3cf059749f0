/-! THE REFERENCE: feeding -/
set_option maxRecDepth 100000
theorem mw_X3_append : MWV yX3_append cX3_append 3 none 1 := ⟨q2522, qs40, q128, q2523, by decide, by decide +kernel, by decide +kernel, by decide +kernel⟩
set_option maxHeartbeats 4000000 in
theorem tc_append (l : Launch) (E : ZE) (o : Nat) (ad : Nat → Nat) (σ : TS) (x : Int) (b0 : Int) (f7 : σ 7 0 = b0) (hb : 0 ≤ b0 ∧ b0 ≤ 896) : TCv l yX3_append (ws_ yX3_append cX3_append 3 none) 1 E o ad σ [.ref o, jI x] (fun τ => eqx [6, 7] σ τ ∧ (τ 7 0 = b0 + 4 ∧ ∀ i : Int, τ 6 i = if b0 ≤ i ∧ i < b0 + 4 then byF x (i - b0) else σ 6 i)) := by
  refine tcv_of (own := RX3) (cc := cX3_append) (L := [some (.ref o), some (jI x), none]) (by decide) rfl rfl (Nat.le_of_ble_eq_true rfl) (fun Z hE hl hrt hR hm hret => ?_)
  subst hE
  have x0 : eqx [6, 7] σ σ := eqx_rf
  refine zi_bipush dX3_append_0 (by decide +kernel) ?_
  refine zi_istore_2 dX3_append_2 hm (by decide) rfl ?_
  refine zi_iload_n dX3_append_3 rfl ?_
  refine zi_if_lt 39 dX3_append_4 (by decide) (by decide) (fun h => absurd h (by decide)) (fun _ => ?_)
  refine zi_aload_n dX3_append_7 rfl ?_
  refine zt_g6 q2437 dX3_append_8 ?_
  refine zi_aload_n dX3_append_11 rfl ?_
  refine zt_g7 q2438 dX3_append_12 (rfl) ?_
  refine zi_iload_n dX3_append_15 rfl ?_
  refine zi_iload_n dX3_append_16 rfl ?_
  refine zi_ushand 24 dX3_append_17 dX3_append_18 dX3_append_21 (by decide) (by decide) ?_
  refine zt_st6 dX3_append_22 (by omega) (fun τ22_0 eτ22_0 => ?_)
  have gτ22_0 := up_get eτ22_0
  have k7τ22_0 := up_keep 7 eτ22_0 (by decide)
  have xτ22_0 : eqx [6, 7] σ τ22_0 := by rw [eτ22_0]; exact eqx_up x0 (by decide)
  refine zi_aload_n dX3_append_23 rfl ?_
  refine zi_dup dX3_append_24 rfl ?_
  refine zt_g7 q2438 dX3_append_25 (rfl) ?_
  refine zi_iconst dX3_append_28 ?_
  refine zi_iadd dX3_append_29 ?_
  refine zt_p7 q2438 dX3_append_30 (fun τ30_1 eτ30_1 => ?_)
  have gτ30_1 := up_get eτ30_1
  have xτ30_1 : eqx [6, 7] σ τ30_1 := by rw [eτ30_1]; exact eqx_up xτ22_0 (by decide)
  refine zi_iinc_2 dX3_append_33 hm (by decide) rfl ?_
  refine zi_goto 3 dX3_append_36 (by decide) ?_
  refine zi_iload_n dX3_append_3 rfl ?_
  refine zi_if_lt 39 dX3_append_4 (by decide) (by decide) (fun h => absurd h (by decide)) (fun _ => ?_)
  refine zi_aload_n dX3_append_7 rfl ?_
  refine zt_g6 q2437 dX3_append_8 ?_
  refine zi_aload_n dX3_append_11 rfl ?_
  refine zt_g7 q2438 dX3_append_12 (rfl) ?_
  refine zi_iload_n dX3_append_15 rfl ?_
  refine zi_iload_n dX3_append_16 rfl ?_
  refine zi_ushand 16 dX3_append_17 dX3_append_18 dX3_append_21 (by decide) (by decide) ?_
  refine zt_st6 dX3_append_22 (by omega) (fun τ22_3 eτ22_3 => ?_)
  have gτ22_3 := up_get eτ22_3
  have k7τ22_3 := up_keep 7 eτ22_3 (by decide)
  have xτ22_3 : eqx [6, 7] σ τ22_3 := by rw [eτ22_3]; exact eqx_up xτ30_1 (by decide)
  refine zi_aload_n dX3_append_23 rfl ?_
  refine zi_dup dX3_append_24 rfl ?_
  refine zt_g7 q2438 dX3_append_25 (rfl) ?_
  refine zi_iconst dX3_append_28 ?_
  refine zi_iadd dX3_append_29 ?_
  refine zt_p7 q2438 dX3_append_30 (fun τ30_4 eτ30_4 => ?_)
  have gτ30_4 := up_get eτ30_4
  have xτ30_4 : eqx [6, 7] σ τ30_4 := by rw [eτ30_4]; exact eqx_up xτ22_3 (by decide)
  refine zi_iinc_2 dX3_append_33 hm (by decide) rfl ?_
  refine zi_goto 3 dX3_append_36 (by decide) ?_
  refine zi_iload_n dX3_append_3 rfl ?_
  refine zi_if_lt 39 dX3_append_4 (by decide) (by decide) (fun h => absurd h (by decide)) (fun _ => ?_)
  refine zi_aload_n dX3_append_7 rfl ?_
  refine zt_g6 q2437 dX3_append_8 ?_
  refine zi_aload_n dX3_append_11 rfl ?_
  refine zt_g7 q2438 dX3_append_12 (rfl) ?_
  refine zi_iload_n dX3_append_15 rfl ?_
  refine zi_iload_n dX3_append_16 rfl ?_
  refine zi_ushand 8 dX3_append_17 dX3_append_18 dX3_append_21 (by decide) (by decide) ?_
  refine zt_st6 dX3_append_22 (by omega) (fun τ22_6 eτ22_6 => ?_)
  have gτ22_6 := up_get eτ22_6
  have k7τ22_6 := up_keep 7 eτ22_6 (by decide)
  have xτ22_6 : eqx [6, 7] σ τ22_6 := by rw [eτ22_6]; exact eqx_up xτ30_4 (by decide)
  refine zi_aload_n dX3_append_23 rfl ?_
  refine zi_dup dX3_append_24 rfl ?_
  refine zt_g7 q2438 dX3_append_25 (rfl) ?_
  refine zi_iconst dX3_append_28 ?_
  refine zi_iadd dX3_append_29 ?_
  refine zt_p7 q2438 dX3_append_30 (fun τ30_7 eτ30_7 => ?_)
  have gτ30_7 := up_get eτ30_7
  have xτ30_7 : eqx [6, 7] σ τ30_7 := by rw [eτ30_7]; exact eqx_up xτ22_6 (by decide)
  refine zi_iinc_2 dX3_append_33 hm (by decide) rfl ?_
  refine zi_goto 3 dX3_append_36 (by decide) ?_
  refine zi_iload_n dX3_append_3 rfl ?_
  refine zi_if_lt 39 dX3_append_4 (by decide) (by decide) (fun h => absurd h (by decide)) (fun _ => ?_)
  refine zi_aload_n dX3_append_7 rfl ?_
  refine zt_g6 q2437 dX3_append_8 ?_
  refine zi_aload_n dX3_append_11 rfl ?_
  refine zt_g7 q2438 dX3_append_12 (rfl) ?_
  refine zi_iload_n dX3_append_15 rfl ?_
  refine zi_iload_n dX3_append_16 rfl ?_
  refine zi_ushand 0 dX3_append_17 dX3_append_18 dX3_append_21 (by decide) (by decide) ?_
  refine zt_st6 dX3_append_22 (by omega) (fun τ22_9 eτ22_9 => ?_)
  have gτ22_9 := up_get eτ22_9
  have k7τ22_9 := up_keep 7 eτ22_9 (by decide)
  have xτ22_9 : eqx [6, 7] σ τ22_9 := by rw [eτ22_9]; exact eqx_up xτ30_7 (by decide)
  refine zi_aload_n dX3_append_23 rfl ?_
  refine zi_dup dX3_append_24 rfl ?_
  refine zt_g7 q2438 dX3_append_25 (rfl) ?_
  refine zi_iconst dX3_append_28 ?_
  refine zi_iadd dX3_append_29 ?_
  refine zt_p7 q2438 dX3_append_30 (fun τ30_10 eτ30_10 => ?_)
  have gτ30_10 := up_get eτ30_10
  have xτ30_10 : eqx [6, 7] σ τ30_10 := by rw [eτ30_10]; exact eqx_up xτ22_9 (by decide)
  refine zi_iinc_2 dX3_append_33 hm (by decide) rfl ?_
  refine zi_goto 3 dX3_append_36 (by decide) ?_
  refine zi_iload_n dX3_append_3 rfl ?_
  refine zi_if_lt 39 dX3_append_4 (by decide) (by decide) (fun _ => ?_) (fun h => absurd h (by decide))
  refine zi_return hrt dX3_append_39 (hret _ ⟨xτ30_10, ?_⟩)
  · refine ⟨by omega, fun i => ?_⟩
    rw [up_k eτ30_10 (by decide), eτ22_9, up_s, up_k eτ30_7 (by decide), eτ22_6, up_s, up_k eτ30_4 (by decide), eτ22_3, up_s, up_k eτ30_1 (by decide), eτ22_0, up_s]
    unfold zup byF
    (repeat' split) <;> first | rfl | omega
theorem mw_X3_feed : MWV yX3_feed cX3_feed 6 (some Jvm.ClassFile.FieldType.int) 5 := ⟨q2517, q2518, q128, q2519, by decide, by decide +kernel, by decide +kernel, by decide +kernel⟩
set_option maxHeartbeats 4000000 in
theorem tc_feed (l : Launch) (E : ZE) (o : Nat) (ad : Nat → Nat) (σ : TS) (x1 : Int) (x2 : Int) (x3 : Int) (x4 : Int) (x5 : Int) (b0 : Int) (f7 : σ 7 0 = b0) (hb : 0 ≤ b0 ∧ b0 ≤ 900) : TCi l yX3_feed (ws_ yX3_feed cX3_feed 6 (some Jvm.ClassFile.FieldType.int)) 2 E o ad σ [.ref o, jI x1, jI x2, jI x3, jI x4, jI x5] (fun τ v => eqx [5, 6, 7] σ τ ∧ ((b0 + 20 ≤ 900 → v = b0 + 20 ∧ τ 7 0 = b0 + 20 ∧ ∀ i : Int, τ 6 i = if b0 ≤ i ∧ i < b0 + 20 then fdB x1 x2 x3 x4 x5 (i - b0) else σ 6 i) ∧ (¬ b0 + 20 ≤ 900 → v = -2 ∧ τ 7 0 = b0 ∧ τ 6 = σ 6) ∧ τ 5 0 = 0)) := by
  refine tci_of (own := RX3) (cc := cX3_feed) (L := [some (.ref o), some (jI x1), some (jI x2), some (jI x3), some (jI x4), some (jI x5)]) (by decide) rfl rfl (Nat.le_of_ble_eq_true rfl) (fun Z hE hl hrt hR hm hret => ?_)
  subst hE
  have x0 : eqx [5, 6, 7] σ σ := eqx_rf
  refine zi_aload_n dX3_feed_0 rfl ?_
  refine zi_iconst dX3_feed_1 ?_
  refine zt_p5 q2436 dX3_feed_2 (fun τ2_0 eτ2_0 => ?_)
  have gτ2_0 := up_get eτ2_0
  have k7τ2_0 := up_keep 7 eτ2_0 (by decide)
  have xτ2_0 : eqx [5, 6, 7] σ τ2_0 := by rw [eτ2_0]; exact eqx_up x0 (by decide)
  refine zi_aload_n dX3_feed_5 rfl ?_
  refine zt_g7 q2438 dX3_feed_6 (rfl) ?_
  refine zi_bipush dX3_feed_9 (by decide +kernel) ?_
  refine zi_iadd dX3_feed_11 ?_
  refine zi_sipush dX3_feed_12 (by decide +kernel) ?_
  refine zi_icmp_le 21 dX3_feed_15 (by decide) (by omega) (fun c15 => ?_) (fun c15 => ?_)
  · refine zi_aload_n dX3_feed_21 rfl ?_
    refine zi_iload_n dX3_feed_22 rfl ?_
    refine zt_Vv1 mw_X3_append rfl (tc_append (zl Z) (zE Z) _ _ _ _ (b0) (by omega) (by omega)) q2520 hR (by decide) (by simp [Value.category]) dX3_feed_23 (fun τ23_1 wτ23_1 => ?_)
    obtain ⟨qτ23_1, h23⟩ := wτ23_1
    have k5τ23_1 := eq_keep 5 qτ23_1 (by decide)
    have xτ23_1 : eqx [5, 6, 7] σ τ23_1 := eqx_tr xτ2_0 (eqx_mono qτ23_1 (by decide))
    refine zi_aload_n dX3_feed_26 rfl ?_
    refine zi_iload_n dX3_feed_27 rfl ?_
    refine zt_Vv1 mw_X3_append rfl (tc_append (zl Z) (zE Z) _ _ _ _ (b0 + 4) (by omega) (by omega)) q2520 hR (by decide) (by simp [Value.category]) dX3_feed_28 (fun τ28_2 wτ28_2 => ?_)
    obtain ⟨qτ28_2, h28⟩ := wτ28_2
    have k5τ28_2 := eq_keep 5 qτ28_2 (by decide)
    have xτ28_2 : eqx [5, 6, 7] σ τ28_2 := eqx_tr xτ23_1 (eqx_mono qτ28_2 (by decide))
    refine zi_aload_n dX3_feed_31 rfl ?_
    refine zi_iload_n dX3_feed_32 rfl ?_
    refine zt_Vv1 mw_X3_append rfl (tc_append (zl Z) (zE Z) _ _ _ _ (b0 + 8) (by omega) (by omega)) q2520 hR (by decide) (by simp [Value.category]) dX3_feed_33 (fun τ33_3 wτ33_3 => ?_)
    obtain ⟨qτ33_3, h33⟩ := wτ33_3
    have k5τ33_3 := eq_keep 5 qτ33_3 (by decide)
    have xτ33_3 : eqx [5, 6, 7] σ τ33_3 := eqx_tr xτ28_2 (eqx_mono qτ33_3 (by decide))
    refine zi_aload_n dX3_feed_36 rfl ?_
    refine zi_iload dX3_feed_37 rfl ?_
    refine zt_Vv1 mw_X3_append rfl (tc_append (zl Z) (zE Z) _ _ _ _ (b0 + 12) (by omega) (by omega)) q2520 hR (by decide) (by simp [Value.category]) dX3_feed_39 (fun τ39_4 wτ39_4 => ?_)
    obtain ⟨qτ39_4, h39⟩ := wτ39_4
    have k5τ39_4 := eq_keep 5 qτ39_4 (by decide)
    have xτ39_4 : eqx [5, 6, 7] σ τ39_4 := eqx_tr xτ33_3 (eqx_mono qτ39_4 (by decide))
    refine zi_aload_n dX3_feed_42 rfl ?_
    refine zi_iload dX3_feed_43 rfl ?_
    refine zt_Vv1 mw_X3_append rfl (tc_append (zl Z) (zE Z) _ _ _ _ (b0 + 16) (by omega) (by omega)) q2520 hR (by decide) (by simp [Value.category]) dX3_feed_45 (fun τ45_5 wτ45_5 => ?_)
    obtain ⟨qτ45_5, h45⟩ := wτ45_5
    have k5τ45_5 := eq_keep 5 qτ45_5 (by decide)
    have xτ45_5 : eqx [5, 6, 7] σ τ45_5 := eqx_tr xτ39_4 (eqx_mono qτ45_5 (by decide))
    refine zi_aload_n dX3_feed_48 rfl ?_
    refine zt_g7 q2438 dX3_feed_49 (rfl) ?_
    refine zi_ireturn hrt dX3_feed_52 (hret _ _ ⟨xτ45_5, ?_⟩)
    · refine ⟨fun _ => ⟨by omega, by omega, fun i => ?_⟩, fun p => absurd p (by omega), by omega⟩
      rw [h45.2, h39.2, h33.2, h28.2, h23.2]
      rw [show τ2_0 6 = σ 6 from up_k eτ2_0 (by decide)]
      unfold fdB
      (repeat' split) <;> first | rfl | omega | exact congrArg (byF _) (by omega)
  · refine zi_bipush dX3_feed_18 (by decide +kernel) ?_
    exact zi_ireturn hrt dX3_feed_20 (hret _ _ ⟨xτ2_0, ⟨fun p => absurd p (by omega), fun _ => ⟨rfl, by omega, up_k eτ2_0 (by decide)⟩, gτ2_0⟩⟩)
theorem mw_X3_written : MWV yX3_written cX3_written 2 (some Jvm.ClassFile.FieldType.char) 1 := ⟨q3081, q3082, q128, q3083, by decide, by decide +kernel, by decide +kernel, by decide +kernel⟩
set_option maxHeartbeats 4000000 in
theorem tc_written (l : Launch) (E : ZE) (o : Nat) (ad : Nat → Nat) (σ : TS) (k : Int) (l0 : List Int) (hl0 : OutS σ l0) (hn : l0.length ≤ 60) (hch : ∀ c ∈ l0, 0 ≤ c ∧ c < 65536) (rk : -2147483648 ≤ k ∧ k < 2147483648) : TCi l yX3_written (ws_ yX3_written cX3_written 2 (some Jvm.ClassFile.FieldType.char)) 2 E o ad σ [.ref o, jI k] (fun τ v => eqx [5] σ τ ∧ ((0 ≤ k ∧ k < l0.length → τ 5 0 = 0 ∧ l0[k.toNat]? = some v) ∧ (¬ (0 ≤ k ∧ k < l0.length) → τ 5 0 = 1))) := by
  refine tci_of (own := RX3) (cc := cX3_written) (L := [some (.ref o), some (jI k)]) (by decide) rfl rfl (Nat.le_of_ble_eq_true rfl) (fun Z hE hl hrt hR hm hret => ?_)
  subst hE
  have x0 : eqx [5] σ σ := eqx_rf
  refine zi_aload_n dX3_written_0 rfl ?_
  refine zi_iload_n dX3_written_1 rfl ?_
  refine zi_i2l dX3_written_2 (by omega) ?_
  refine zi_lconst (m := 0) dX3_written_3 (by decide +kernel) ?_
  refine zi_aload_n dX3_written_4 rfl ?_
  refine zt_g24 q2455 dX3_written_5 (hl0.1) ?_
  refine zi_iconst dX3_written_8 ?_
  refine zi_isub dX3_written_9 ?_
  refine zi_i2l dX3_written_10 (by omega) ?_
  refine zt_PSi3 mw_X3_isIn (tc_isIn (zl Z) (zE Z) _ _ _ _ _ _ (by omega) (by omega) (by omega)) q2528 hR (by decide) (by simp [Value.category]) dX3_written_11 (fun v11 h11 => ?_)
  subst h11
  refine zt_Vi1 mw_X3_good rfl (tc_good_b (zl Z) (zE Z) _ _ _ _) q2531 hR (by decide) (by simp [Value.category]) dX3_written_14 (fun τ14_0 v14 wτ14_0 => ?_)
  obtain ⟨qτ14_0, h14⟩ := wτ14_0
  obtain ⟨eh14, h14⟩ := h14
  subst eh14
  have xτ14_0 : eqx [5] σ τ14_0 := eqx_tr x0 (eqx_mono qτ14_0 (by decide))
  refine zi_if_eqB 30 dX3_written_17 (by decide) (fun c17 => ?_) (fun c17 => ?_)
  · have tc17 := h14.2 c17; clear h14
    refine zi_iconst dX3_written_30 ?_
    exact zi_zreturn hrt (by exact z_nc (by omega)) dX3_written_31 (hret _ _ ⟨xτ14_0, by first | exact ⟨fun _ => ⟨by omega, hc⟩, fun p => absurd (by omega) p⟩ | exact ⟨fun p => absurd p (by omega), fun _ => by omega⟩⟩)
  · have tc17 := h14.1 c17; clear h14
    refine zi_aload_n dX3_written_20 rfl ?_
    refine zt_g23 q2454 dX3_written_21 ?_
    refine zi_iload_n dX3_written_24 rfl ?_
    refine zt_ld23 dX3_written_25 (rfl) (by omega) ?_
    obtain ⟨c, hc⟩ : ∃ c, l0[k.toNat]? = some c := ⟨_, List.getElem?_eq_getElem (by omega)⟩
    have e1 : τ14_0 23 k = c := by
      have := hl0.2 k.toNat c hc
      rw [Int.toNat_of_nonneg (by omega)] at this
      rw [xτ14_0 23 (by decide)]; exact this
    have e2 := hch c (List.mem_of_getElem? hc)
    rw [e1]
    refine zi_i2c dX3_written_26 (by omega) ?_
    refine zi_goto 31 dX3_written_27 (by decide) ?_
    exact zi_zreturn hrt (by exact z_nc (by omega)) dX3_written_31 (hret _ _ ⟨xτ14_0, by first | exact ⟨fun _ => ⟨by omega, hc⟩, fun p => absurd (by omega) p⟩ | exact ⟨fun p => absurd p (by omega), fun _ => by omega⟩⟩)
