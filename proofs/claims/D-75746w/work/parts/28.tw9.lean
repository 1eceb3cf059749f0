/-! THE REFERENCE: statements -/
set_option maxRecDepth 100000
theorem mw_X3_advance : MWV yX3_advance cX3_advance 2 (some Jvm.ClassFile.FieldType.boolean) 0 := ⟨q2548, qs44, q128, q2549, by decide, by decide +kernel, by decide +kernel, by decide +kernel⟩
set_option maxHeartbeats 4000000 in
theorem tc_advance (l : Launch) (E : ZE) (o : Nat) (ad : Nat → Nat) (σ : TS) (B : Int → Int) (bn : Int) (hB : BOk B bn) (f6 : σ 6 = B) (f10 : σ 10 0 = bn) (s0 : Int) (f12 : σ 12 0 = s0) (hs0 : 0 ≤ s0 ∧ s0 ≤ bn) : TCi l yX3_advance (ws_ yX3_advance cX3_advance 2 (some Jvm.ClassFile.FieldType.boolean)) 3 E o ad σ [.ref o] (fun τ v => eqx [11, 12, 13, 14, 15] σ τ ∧ (v = 1 ∧ TkT τ B bn (tkF B bn s0))) := by
  refine tci_of (own := RX3) (cc := cX3_advance) (L := [some (.ref o), none]) (by decide) rfl rfl (Nat.le_of_ble_eq_true rfl) (fun Z hE hl hrt hR hm hret => ?_)
  subst hE
  have x0 : eqx [11, 12, 13, 14, 15] σ σ := eqx_rf
  have hb1 := hB.1
  have lp0 : ∀ (n : Nat) (p : Int) (τ0 : TS), (eqx [11, 12, 13, 14, 15] σ τ0) → (s0 ≤ p ∧ p ≤ bn) → (τ0 12 0 = p) → (skF B bn s0 = skF B bn p) → (bn - p).toNat < n → GV RX3 cX3_advance Z (zA Z) (zs Z).heap (twW (zE Z) o ad τ0) 0 0 0 [some (.ref o), none] [] := by
    intro n
    induction n with
    | zero => intro p τ0 y0 i0_0 i0_1 i0_2 m0; exact absurd m0 (Nat.not_lt_zero _)
    | succ n ih0 =>
      intro p τ0 y0 i0_0 i0_1 i0_2 m0
      refine zi_aload_n dX3_advance_0 rfl ?_
      refine zi_aload_n dX3_advance_1 rfl ?_
      refine zt_g12 q2443 dX3_advance_2 (i0_1) ?_
      refine zt_PVi1 mw_X3_byteAt rfl (tc_byteAt (zl Z) (zE Z) _ _ _ _ (_) (_) (hB) (((y0 6 (by decide)).trans f6)) ((by rw [y0 10 (by decide)]; exact f10)) ((by omega))) q2550 hR (by decide) (by simp [Value.category]) dX3_advance_5 (fun v5 h5 => ?_)
      refine zi_bipush dX3_advance_8 (by decide +kernel) ?_
      refine zi_icmp_eq 26 dX3_advance_10 (by decide) (by omega) (fun c10 => ?_) (fun c10 => ?_)
      · refine zi_aload_n dX3_advance_26 rfl ?_
        refine zi_dup dX3_advance_27 rfl ?_
        refine zt_g12 q2443 dX3_advance_28 (i0_1) ?_
        refine zi_iconst dX3_advance_31 ?_
        refine zi_iadd dX3_advance_32 ?_
        refine zt_p12 q2443 dX3_advance_33 (fun τ33_0 eτ33_0 => ?_)
        have gτ33_0 := up_get eτ33_0
        have k11τ33_0 := up_keep 11 eτ33_0 (by decide)
        have k13τ33_0 := up_keep 13 eτ33_0 (by decide)
        have xτ33_0 : eqx [11, 12, 13, 14, 15] σ τ33_0 := by rw [eτ33_0]; exact eqx_up y0 (by decide)
        refine zi_goto 0 dX3_advance_36 (by decide) ?_
        exact ih0 (p + 1) _ xτ33_0 (by omega) (by omega) (by rw [i0_2]; exact skF_s (by omega) (by omega)) (by omega)
      · refine zi_aload_n dX3_advance_13 rfl ?_
        refine zi_aload_n dX3_advance_14 rfl ?_
        refine zt_g12 q2443 dX3_advance_15 (i0_1) ?_
        refine zt_PVi1 mw_X3_byteAt rfl (tc_byteAt (zl Z) (zE Z) _ _ _ _ (_) (_) (hB) (((y0 6 (by decide)).trans f6)) ((by rw [y0 10 (by decide)]; exact f10)) ((by omega))) q2550 hR (by decide) (by simp [Value.category]) dX3_advance_18 (fun v18 h18 => ?_)
        refine zi_bipush dX3_advance_21 (by decide +kernel) ?_
        refine zi_icmp_ne 39 dX3_advance_23 (by decide) (by omega) (fun c23 => ?_) (fun c23 => ?_)
        · have hb2 : p < bn → 0 ≤ B p := fun q => (hB.2 p (by omega) (by omega)).1
          have he : skF B bn s0 = p := by rw [i0_2]; exact skF_e (by omega)
          refine zi_aload_n dX3_advance_39 rfl ?_
          refine zi_aload_n dX3_advance_40 rfl ?_
          refine zt_g12 q2443 dX3_advance_41 (i0_1) ?_
          refine zt_p11 q2442 dX3_advance_44 (fun τ44_1 eτ44_1 => ?_)
          have gτ44_1 := up_get eτ44_1
          have k12τ44_1 := up_keep 12 eτ44_1 (by decide)
          have k13τ44_1 := up_keep 13 eτ44_1 (by decide)
          have xτ44_1 : eqx [11, 12, 13, 14, 15] σ τ44_1 := by rw [eτ44_1]; exact eqx_up y0 (by decide)
          refine zi_aload_n dX3_advance_47 rfl ?_
          refine zi_aload_n dX3_advance_48 rfl ?_
          refine zt_g12 q2443 dX3_advance_49 (k12τ44_1.trans i0_1) ?_
          refine zt_PVi1 mw_X3_byteAt rfl (tc_byteAt (zl Z) (zE Z) _ _ _ _ (_) (_) (hB) (((xτ44_1 6 (by decide)).trans f6)) ((by rw [xτ44_1 10 (by decide)]; exact f10)) ((by omega))) q2550 hR (by decide) (by simp [Value.category]) dX3_advance_52 (fun v52 h52 => ?_)
          refine zi_istore_1 dX3_advance_55 hm (by decide) rfl ?_
          refine zi_iload_n dX3_advance_56 rfl ?_
          refine zi_iconst dX3_advance_57 ?_
          refine zi_icmp_ne 69 dX3_advance_58 (by decide) (by omega) (fun c58 => ?_) (fun c58 => ?_)
          · refine zi_iload_n dX3_advance_69 rfl ?_
            refine zt_PSi1 mw_X3_isLetter (tc_isLetter (zl Z) (zE Z) _ _ _ _ (by omega)) q2554 hR (by decide) (by simp [Value.category]) dX3_advance_70 (fun v70 h70 => ?_)
            subst h70
            refine zi_if_eqB 83 dX3_advance_73 (by decide) (fun c73 => ?_) (fun c73 => ?_)
            · refine zi_iload_n dX3_advance_83 rfl ?_
              refine zt_PSi1 mw_X3_isDigit (tc_isDigit (zl Z) (zE Z) _ _ _ _ (by omega)) q2563 hR (by decide) (by simp [Value.category]) dX3_advance_84 (fun v84 h84 => ?_)
              subst h84
              refine zi_if_eqB 97 dX3_advance_87 (by decide) (fun c87 => ?_) (fun c87 => ?_)
              · have kq : τ44_1 11 0 = p := gτ44_1
                have kr : τ44_1 12 0 = p := k12τ44_1.trans i0_1
                refine zi_aload_n dX3_advance_97 rfl ?_
                refine zi_iload_n dX3_advance_98 rfl ?_
                refine zt_Vv1 mw_X3_readSign rfl (tc_readSign (zl Z) (zE Z) _ _ _ _ (by omega)) q2570 hR (by decide) (by simp [Value.category]) dX3_advance_99 (fun τ99_2 wτ99_2 => ?_)
                obtain ⟨qτ99_2, h99⟩ := wτ99_2
                have k11τ99_2 := eq_keep 11 qτ99_2 (by decide)
                have xτ99_2 : eqx [11, 12, 13, 14, 15] σ τ99_2 := eqx_tr xτ44_1 (eqx_mono qτ99_2 (by decide))
                refine zi_iconst dX3_advance_102 ?_
                refine zi_zreturn hrt (z_nb (Or.inr rfl)) dX3_advance_103 (hret _ _ ⟨xτ99_2, ?_⟩)
                · show (1 : Int) = 1 ∧ TkT τ99_2 B bn (tkG B bn (skF B bn s0))
                  rw [he]
                  have z6 : τ99_2 6 = B := (xτ99_2 6 (by decide)).trans f6
                  have z10 : τ99_2 10 0 = bn := by rw [xτ99_2 10 (by decide)]; exact f10
                  refine ⟨rfl, ?_⟩
                  first
                    | exact TkT_e z6 z10 (by omega) (by omega) (by omega) (by omega)
                    | exact TkT_w z6 z10 (by omega) (by omega) (by omega) h77
                    | exact TkT_n z6 z10 (by omega) (by omega) (by omega) (by omega) h91
                    | exact TkT_s z6 z10 (by omega) (by omega) (by omega) (by omega) (by omega) (by omega) h99.2
              · have kq : τ44_1 11 0 = p := gτ44_1
                have kr : τ44_1 12 0 = p := k12τ44_1.trans i0_1
                refine zi_aload_n dX3_advance_90 rfl ?_
                refine zt_Vv0 mw_X3_readNumber rfl (tc_readNumber (zl Z) (zE Z) _ _ _  (_) (_) (hB) (((xτ44_1 6 (by decide)).trans f6)) ((by rw [xτ44_1 10 (by decide)]; exact f10)) (_) (kq) (kr) (by omega)) q2566 hR (by decide) (by simp [Value.category]) dX3_advance_91 (fun τ91_3 wτ91_3 => ?_)
                obtain ⟨qτ91_3, h91⟩ := wτ91_3
                have k11τ91_3 := eq_keep 11 qτ91_3 (by decide)
                have xτ91_3 : eqx [11, 12, 13, 14, 15] σ τ91_3 := eqx_tr xτ44_1 (eqx_mono qτ91_3 (by decide))
                refine zi_goto 102 dX3_advance_94 (by decide) ?_
                refine zi_iconst dX3_advance_102 ?_
                refine zi_zreturn hrt (z_nb (Or.inr rfl)) dX3_advance_103 (hret _ _ ⟨xτ91_3, ?_⟩)
                · show (1 : Int) = 1 ∧ TkT τ91_3 B bn (tkG B bn (skF B bn s0))
                  rw [he]
                  have z6 : τ91_3 6 = B := (xτ91_3 6 (by decide)).trans f6
                  have z10 : τ91_3 10 0 = bn := by rw [xτ91_3 10 (by decide)]; exact f10
                  refine ⟨rfl, ?_⟩
                  first
                    | exact TkT_e z6 z10 (by omega) (by omega) (by omega) (by omega)
                    | exact TkT_w z6 z10 (by omega) (by omega) (by omega) h77
                    | exact TkT_n z6 z10 (by omega) (by omega) (by omega) (by omega) h91
                    | exact TkT_s z6 z10 (by omega) (by omega) (by omega) (by omega) (by omega) (by omega) h99.2
            · have kq : τ44_1 11 0 = p := gτ44_1
              have kr : τ44_1 12 0 = p := k12τ44_1.trans i0_1
              refine zi_aload_n dX3_advance_76 rfl ?_
              refine zt_Vv0 mw_X3_readWord rfl (tc_readWord (zl Z) (zE Z) _ _ _  (_) (_) (hB) (((xτ44_1 6 (by decide)).trans f6)) ((by rw [xτ44_1 10 (by decide)]; exact f10)) (_) (kq) (kr) (by omega)) q2557 hR (by decide) (by simp [Value.category]) dX3_advance_77 (fun τ77_4 wτ77_4 => ?_)
              obtain ⟨qτ77_4, h77⟩ := wτ77_4
              have k11τ77_4 := eq_keep 11 qτ77_4 (by decide)
              have xτ77_4 : eqx [11, 12, 13, 14, 15] σ τ77_4 := eqx_tr xτ44_1 (eqx_mono qτ77_4 (by decide))
              refine zi_goto 102 dX3_advance_80 (by decide) ?_
              refine zi_iconst dX3_advance_102 ?_
              refine zi_zreturn hrt (z_nb (Or.inr rfl)) dX3_advance_103 (hret _ _ ⟨xτ77_4, ?_⟩)
              · show (1 : Int) = 1 ∧ TkT τ77_4 B bn (tkG B bn (skF B bn s0))
                rw [he]
                have z6 : τ77_4 6 = B := (xτ77_4 6 (by decide)).trans f6
                have z10 : τ77_4 10 0 = bn := by rw [xτ77_4 10 (by decide)]; exact f10
                refine ⟨rfl, ?_⟩
                first
                  | exact TkT_e z6 z10 (by omega) (by omega) (by omega) (by omega)
                  | exact TkT_w z6 z10 (by omega) (by omega) (by omega) h77
                  | exact TkT_n z6 z10 (by omega) (by omega) (by omega) (by omega) h91
                  | exact TkT_s z6 z10 (by omega) (by omega) (by omega) (by omega) (by omega) (by omega) h99.2
          · have kq : τ44_1 11 0 = p := gτ44_1
            have kr : τ44_1 12 0 = p := k12τ44_1.trans i0_1
            refine zi_aload_n dX3_advance_61 rfl ?_
            refine zi_iconst dX3_advance_62 ?_
            refine zt_p13 q2444 dX3_advance_63 (fun τ63_5 eτ63_5 => ?_)
            have gτ63_5 := up_get eτ63_5
            have k11τ63_5 := up_keep 11 eτ63_5 (by decide)
            have k12τ63_5 := up_keep 12 eτ63_5 (by decide)
            have xτ63_5 : eqx [11, 12, 13, 14, 15] σ τ63_5 := by rw [eτ63_5]; exact eqx_up xτ44_1 (by decide)
            refine zi_goto 102 dX3_advance_66 (by decide) ?_
            refine zi_iconst dX3_advance_102 ?_
            refine zi_zreturn hrt (z_nb (Or.inr rfl)) dX3_advance_103 (hret _ _ ⟨xτ63_5, ?_⟩)
            · show (1 : Int) = 1 ∧ TkT τ63_5 B bn (tkG B bn (skF B bn s0))
              rw [he]
              have z6 : τ63_5 6 = B := (xτ63_5 6 (by decide)).trans f6
              have z10 : τ63_5 10 0 = bn := by rw [xτ63_5 10 (by decide)]; exact f10
              refine ⟨rfl, ?_⟩
              first
                | exact TkT_e z6 z10 (by omega) (by omega) (by omega) (by omega)
                | exact TkT_w z6 z10 (by omega) (by omega) (by omega) h77
                | exact TkT_n z6 z10 (by omega) (by omega) (by omega) (by omega) h91
                | exact TkT_s z6 z10 (by omega) (by omega) (by omega) (by omega) (by omega) (by omega) h99.2
        · refine zi_aload_n dX3_advance_26 rfl ?_
          refine zi_dup dX3_advance_27 rfl ?_
          refine zt_g12 q2443 dX3_advance_28 (i0_1) ?_
          refine zi_iconst dX3_advance_31 ?_
          refine zi_iadd dX3_advance_32 ?_
          refine zt_p12 q2443 dX3_advance_33 (fun τ33_6 eτ33_6 => ?_)
          have gτ33_6 := up_get eτ33_6
          have k11τ33_6 := up_keep 11 eτ33_6 (by decide)
          have k13τ33_6 := up_keep 13 eτ33_6 (by decide)
          have xτ33_6 : eqx [11, 12, 13, 14, 15] σ τ33_6 := by rw [eτ33_6]; exact eqx_up y0 (by decide)
          refine zi_goto 0 dX3_advance_36 (by decide) ?_
          exact ih0 (p + 1) _ xτ33_6 (by omega) (by omega) (by rw [i0_2]; exact skF_s (by omega) (by omega)) (by omega)
  exact lp0 _ (s0) _ x0 (by omega) (f12) (by rfl) (Nat.lt_succ_self _)
theorem mw_X3_fail : MWV yX3_fail cX3_fail 2 (some Jvm.ClassFile.FieldType.boolean) 1 := ⟨q2604, qs52, q128, q2605, by decide, by decide +kernel, by decide +kernel, by decide +kernel⟩
set_option maxHeartbeats 4000000 in
theorem tc_fail (l : Launch) (E : ZE) (o : Nat) (ad : Nat → Nat) (σ : TS) (w : Int) (B : Int → Int) (bn : Int) (t : TkS) (hB : BOk B bn) (ht : TkT σ B bn t) (hk : TkOk bn t) (rw : -2147483648 ≤ w ∧ w < 2147483648) : TCi l yX3_fail (ws_ yX3_fail cX3_fail 2 (some Jvm.ClassFile.FieldType.boolean)) 1 E o ad σ [.ref o, jI w] (fun τ v => eqx [16, 17] σ τ ∧ (v = 0 ∧ PRT σ B bn (flS t w) 0 τ)) := by
  refine tci_of (own := RX3) (cc := cX3_fail) (L := [some (.ref o), some (jI w)]) (by decide) rfl rfl (Nat.le_of_ble_eq_true rfl) (fun Z hE hl hrt hR hm hret => ?_)
  subst hE
  have x0 : eqx [16, 17] σ σ := eqx_rf
  have hk1 := hk.1
  refine zi_aload_n dX3_fail_0 rfl ?_
  refine zi_aload_n dX3_fail_1 rfl ?_
  refine zt_g13 q2444 dX3_fail_2 (ht.2.2.2.2.1) ?_
  refine zi_iconst dX3_fail_5 ?_
  refine zi_icmp_ne 13 dX3_fail_6 (by decide) (by omega) (fun c6 => ?_) (fun c6 => ?_)
  · refine zi_iload_n dX3_fail_13 rfl ?_
    refine zt_p16 q2447 dX3_fail_14 (fun τ14_0 eτ14_0 => ?_)
    have gτ14_0 := up_get eτ14_0
    have xτ14_0 : eqx [16, 17] σ τ14_0 := by rw [eτ14_0]; exact eqx_up x0 (by decide)
    refine zi_aload_n dX3_fail_17 rfl ?_
    refine zi_aload_n dX3_fail_18 rfl ?_
    refine zt_g11 q2442 dX3_fail_19 ((congrFun (xτ14_0 11 (by decide)) 0).trans ht.2.2.1) ?_
    refine zt_p17 q2448 dX3_fail_22 (fun τ22_1 eτ22_1 => ?_)
    have gτ22_1 := up_get eτ22_1
    have k16τ22_1 := up_keep 16 eτ22_1 (by decide)
    have xτ22_1 : eqx [16, 17] σ τ22_1 := by rw [eτ22_1]; exact eqx_up xτ14_0 (by decide)
    refine zi_iconst dX3_fail_25 ?_
    exact zi_zreturn hrt (z_nb (Or.inl rfl)) dX3_fail_26 (hret _ _ ⟨xτ22_1, by refine ⟨rfl, rfl, ?_, gτ22_1, fun i _ => by rw [xτ22_1 0 (by decide)]⟩; rw [k16τ22_1]; show _ = (if t.k = 1 then 1 else w); split <;> omega⟩)
  · refine zi_iconst dX3_fail_9 ?_
    refine zi_goto 14 dX3_fail_10 (by decide) ?_
    refine zt_p16 q2447 dX3_fail_14 (fun τ14_2 eτ14_2 => ?_)
    have gτ14_2 := up_get eτ14_2
    have xτ14_2 : eqx [16, 17] σ τ14_2 := by rw [eτ14_2]; exact eqx_up x0 (by decide)
    refine zi_aload_n dX3_fail_17 rfl ?_
    refine zi_aload_n dX3_fail_18 rfl ?_
    refine zt_g11 q2442 dX3_fail_19 ((congrFun (xτ14_2 11 (by decide)) 0).trans ht.2.2.1) ?_
    refine zt_p17 q2448 dX3_fail_22 (fun τ22_3 eτ22_3 => ?_)
    have gτ22_3 := up_get eτ22_3
    have k16τ22_3 := up_keep 16 eτ22_3 (by decide)
    have xτ22_3 : eqx [16, 17] σ τ22_3 := by rw [eτ22_3]; exact eqx_up xτ14_2 (by decide)
    refine zi_iconst dX3_fail_25 ?_
    exact zi_zreturn hrt (z_nb (Or.inl rfl)) dX3_fail_26 (hret _ _ ⟨xτ22_3, by refine ⟨rfl, rfl, ?_, gτ22_3, fun i _ => by rw [xτ22_3 0 (by decide)]⟩; rw [k16τ22_3]; show _ = (if t.k = 1 then 1 else w); split <;> omega⟩)
theorem mw_X3_number : MWV yX3_number cX3_number 4 (some Jvm.ClassFile.FieldType.boolean) 3 := ⟨q2608, qs53, q128, q2609, by decide, by decide +kernel, by decide +kernel, by decide +kernel⟩
set_option maxHeartbeats 4000000 in
theorem tc_number (l : Launch) (E : ZE) (o : Nat) (ad : Nat → Nat) (σ : TS) (a : Int → Int) (ha : σ 0 = a) (i : Int) (lo : Int) (hi : Int) (B : Int → Int) (bn : Int) (t : TkS) (hB : BOk B bn) (ht : TkT σ B bn t) (hk : TkOk bn t) (ri : 0 ≤ i ∧ i < 447) (rlo : -2147483648 ≤ lo ∧ lo < 2147483648) (rhi : -2147483648 ≤ hi ∧ hi < 2147483648) : TCi l yX3_number (ws_ yX3_number cX3_number 4 (some Jvm.ClassFile.FieldType.boolean)) 4 E o ad σ [.ref o, jI i, jI lo, jI hi] (fun τ v => eqx [0, 11, 12, 13, 14, 15, 16, 17] σ τ ∧ (PRT σ B bn (numS B bn i lo hi (a, t)) v τ)) := by
  refine tci_of (own := RX3) (cc := cX3_number) (L := [some (.ref o), some (jI i), some (jI lo), some (jI hi)]) (by decide) rfl rfl (Nat.le_of_ble_eq_true rfl) (fun Z hE hl hrt hR hm hret => ?_)
  subst hE
  have x0 : eqx [0, 11, 12, 13, 14, 15, 16, 17] σ σ := eqx_rf
  have hk1 := hk.1
  have hk2 := hk.2.1
  have hk3 := hk.2.2.2.1
  refine zi_aload_n dX3_number_0 rfl ?_
  refine zt_g13 q2444 dX3_number_1 (ht.2.2.2.2.1) ?_
  refine zi_iconst dX3_number_4 ?_
  refine zi_icmp_eq 14 dX3_number_5 (by decide) (by omega) (fun c5 => ?_) (fun c5 => ?_)
  · refine zi_aload_n dX3_number_14 rfl ?_
    refine zt_g14 q2445 dX3_number_15 (ht.2.2.2.2.2.1 (by omega)) ?_
    refine zi_i2l dX3_number_18 (by omega) ?_
    refine zi_iload_n dX3_number_19 rfl ?_
    refine zi_i2l dX3_number_20 (by omega) ?_
    refine zi_iload_n dX3_number_21 rfl ?_
    refine zi_i2l dX3_number_22 (by omega) ?_
    refine zt_PSi3 mw_X3_isIn (tc_isIn (zl Z) (zE Z) _ _ _ _ _ _ (by omega) (by omega) (by omega)) q2528 hR (by decide) (by simp [Value.category]) dX3_number_23 (fun v23 h23 => ?_)
    subst h23
    refine zi_if_neB 35 dX3_number_26 (by decide) (fun c26 => ?_) (fun c26 => ?_)
    · refine zi_aload_n dX3_number_35 rfl ?_
      refine zt_g0 q2431 dX3_number_36 ?_
      refine zi_iload_n dX3_number_39 rfl ?_
      refine zi_aload_n dX3_number_40 rfl ?_
      refine zt_g14 q2445 dX3_number_41 (ht.2.2.2.2.2.1 (by omega)) ?_
      refine zi_i2l dX3_number_44 (by omega) ?_
      refine zt_st0 dX3_number_45 (by omega) (fun τ45_0 eτ45_0 => ?_)
      have bsτ45_0 := Bs_0 Bs_rf eτ45_0 (by omega)
      have ntτ45_0 := TkT_u eτ45_0 ht (by decide)
      have gτ45_0 := up_get eτ45_0
      have xτ45_0 : eqx [0, 11, 12, 13, 14, 15, 16, 17] σ τ45_0 := by rw [eτ45_0]; exact eqx_up x0 (by decide)
      have r0 : τ45_0 0 = zup a i t.v := by funext j; rw [eτ45_0, up_s, ha]
      refine zi_aload_n dX3_number_46 rfl ?_
      refine zt_Vi0 mw_X3_advance rfl (tc_advance (zl Z) (zE Z) _ _ _  (_) (_) (hB) (ntτ45_0.1) (ntτ45_0.2.1) (_) (ntτ45_0.2.2.2.1) (by omega)) q2546 hR (by decide) (by simp [Value.category]) dX3_number_47 (fun τ47_1 v47 wτ47_1 => ?_)
      obtain ⟨qτ47_1, h47⟩ := wτ47_1
      obtain ⟨eh47, h47⟩ := h47
      subst eh47
      have bsτ47_1 := Bs_q bsτ45_0 qτ47_1 (by decide) (by decide) (by decide)
      have xτ47_1 : eqx [0, 11, 12, 13, 14, 15, 16, 17] σ τ47_1 := eqx_tr xτ45_0 (eqx_mono qτ47_1 (by decide))
      have haτ47_1 := (qτ47_1 0 (by decide)).trans r0
      exact zi_zreturn hrt (z_nb (Or.inr rfl)) dX3_number_50 (hret _ _ ⟨xτ47_1, PRT_e (PRT_l (s := (zup a i t.v, tkF B bn t.nx)) haτ47_1 h47 bsτ47_1) (numS_c (by omega) c26)⟩)
    · refine zi_aload_n dX3_number_29 rfl ?_
      refine zi_iconst dX3_number_30 ?_
      refine zt_Vi1 mw_X3_fail rfl (tc_fail (zl Z) (zE Z) _ _ _ _ (_) (_) (t) (hB) (ht) (hk) (by omega)) q2602 hR (by decide) (by simp [Value.category]) dX3_number_31 (fun τ31_2 v31 wτ31_2 => ?_)
      obtain ⟨qτ31_2, h31⟩ := wτ31_2
      obtain ⟨eh31, h31⟩ := h31
      subst eh31
      have ntτ31_2 := TkT_q qτ31_2 ht (by decide)
      have xτ31_2 : eqx [0, 11, 12, 13, 14, 15, 16, 17] σ τ31_2 := eqx_tr x0 (eqx_mono qτ31_2 (by decide))
      have haτ31_2 := (qτ31_2 0 (by decide)).trans ha
      exact zi_zreturn hrt (z_nb (Or.inl rfl)) dX3_number_34 (hret _ _ ⟨xτ31_2, PRT_e (PRT_tr Bs_rf h31) (numS_b (by omega) c26)⟩)
  · refine zi_aload_n dX3_number_8 rfl ?_
    refine zi_iconst dX3_number_9 ?_
    refine zt_Vi1 mw_X3_fail rfl (tc_fail (zl Z) (zE Z) _ _ _ _ (_) (_) (t) (hB) (ht) (hk) (by omega)) q2602 hR (by decide) (by simp [Value.category]) dX3_number_10 (fun τ10_3 v10 wτ10_3 => ?_)
    obtain ⟨qτ10_3, h10⟩ := wτ10_3
    obtain ⟨eh10, h10⟩ := h10
    subst eh10
    have ntτ10_3 := TkT_q qτ10_3 ht (by decide)
    have xτ10_3 : eqx [0, 11, 12, 13, 14, 15, 16, 17] σ τ10_3 := eqx_tr x0 (eqx_mono qτ10_3 (by decide))
    have haτ10_3 := (qτ10_3 0 (by decide)).trans ha
    exact zi_zreturn hrt (z_nb (Or.inl rfl)) dX3_number_13 (hret _ _ ⟨xτ10_3, PRT_e (PRT_tr Bs_rf h10) (numS_a c5)⟩)
theorem mw_X3_wordInto : MWV yX3_wordInto cX3_wordInto 2 (some Jvm.ClassFile.FieldType.boolean) 1 := ⟨q2628, qs57, q128, q2629, by decide, by decide +kernel, by decide +kernel, by decide +kernel⟩
set_option maxHeartbeats 4000000 in
theorem tc_wordInto (l : Launch) (E : ZE) (o : Nat) (ad : Nat → Nat) (σ : TS) (a : Int → Int) (ha : σ 0 = a) (i : Int) (B : Int → Int) (bn : Int) (t : TkS) (hB : BOk B bn) (ht : TkT σ B bn t) (hk : TkOk bn t) (ri : 0 ≤ i ∧ i < 447) : TCi l yX3_wordInto (ws_ yX3_wordInto cX3_wordInto 2 (some Jvm.ClassFile.FieldType.boolean)) 4 E o ad σ [.ref o, jI i] (fun τ v => eqx [0, 11, 12, 13, 14, 15, 16, 17] σ τ ∧ (PRT σ B bn (wrdS B bn i (a, t)) v τ)) := by
  refine tci_of (own := RX3) (cc := cX3_wordInto) (L := [some (.ref o), some (jI i)]) (by decide) rfl rfl (Nat.le_of_ble_eq_true rfl) (fun Z hE hl hrt hR hm hret => ?_)
  subst hE
  have x0 : eqx [0, 11, 12, 13, 14, 15, 16, 17] σ σ := eqx_rf
  have hk1 := hk.1
  have hk2 := hk.2.1
  refine zi_aload_n dX3_wordInto_0 rfl ?_
  refine zt_g13 q2444 dX3_wordInto_1 (ht.2.2.2.2.1) ?_
  refine zi_iconst dX3_wordInto_4 ?_
  refine zi_icmp_eq 14 dX3_wordInto_5 (by decide) (by omega) (fun c5 => ?_) (fun c5 => ?_)
  · refine zi_aload_n dX3_wordInto_14 rfl ?_
    refine zt_g0 q2431 dX3_wordInto_15 ?_
    refine zi_iload_n dX3_wordInto_18 rfl ?_
    refine zi_aload_n dX3_wordInto_19 rfl ?_
    refine zt_g15 q2446 dX3_wordInto_20 (ht.2.2.2.2.2.2 (by omega)) ?_
    refine zt_st0 dX3_wordInto_23 (by omega) (fun τ23_0 eτ23_0 => ?_)
    have bsτ23_0 := Bs_0 Bs_rf eτ23_0 (by omega)
    have ntτ23_0 := TkT_u eτ23_0 ht (by decide)
    have gτ23_0 := up_get eτ23_0
    have xτ23_0 : eqx [0, 11, 12, 13, 14, 15, 16, 17] σ τ23_0 := by rw [eτ23_0]; exact eqx_up x0 (by decide)
    have r0 : τ23_0 0 = zup a i t.v := by funext j; rw [eτ23_0, up_s, ha]
    refine zi_aload_n dX3_wordInto_24 rfl ?_
    refine zt_Vi0 mw_X3_advance rfl (tc_advance (zl Z) (zE Z) _ _ _  (_) (_) (hB) (ntτ23_0.1) (ntτ23_0.2.1) (_) (ntτ23_0.2.2.2.1) (by omega)) q2546 hR (by decide) (by simp [Value.category]) dX3_wordInto_25 (fun τ25_1 v25 wτ25_1 => ?_)
    obtain ⟨qτ25_1, h25⟩ := wτ25_1
    obtain ⟨eh25, h25⟩ := h25
    subst eh25
    have bsτ25_1 := Bs_q bsτ23_0 qτ25_1 (by decide) (by decide) (by decide)
    have xτ25_1 : eqx [0, 11, 12, 13, 14, 15, 16, 17] σ τ25_1 := eqx_tr xτ23_0 (eqx_mono qτ25_1 (by decide))
    have haτ25_1 := (qτ25_1 0 (by decide)).trans r0
    exact zi_zreturn hrt (z_nb (Or.inr rfl)) dX3_wordInto_28 (hret _ _ ⟨xτ25_1, PRT_e (PRT_l (s := (zup a i t.v, tkF B bn t.nx)) haτ25_1 h25 bsτ25_1) (wrdS_c (by omega))⟩)
  · refine zi_aload_n dX3_wordInto_8 rfl ?_
    refine zi_iconst dX3_wordInto_9 ?_
    refine zt_Vi1 mw_X3_fail rfl (tc_fail (zl Z) (zE Z) _ _ _ _ (_) (_) (t) (hB) (ht) (hk) (by omega)) q2602 hR (by decide) (by simp [Value.category]) dX3_wordInto_10 (fun τ10_2 v10 wτ10_2 => ?_)
    obtain ⟨qτ10_2, h10⟩ := wτ10_2
    obtain ⟨eh10, h10⟩ := h10
    subst eh10
    have ntτ10_2 := TkT_q qτ10_2 ht (by decide)
    have xτ10_2 : eqx [0, 11, 12, 13, 14, 15, 16, 17] σ τ10_2 := eqx_tr x0 (eqx_mono qτ10_2 (by decide))
    have haτ10_2 := (qτ10_2 0 (by decide)).trans ha
    exact zi_zreturn hrt (z_nb (Or.inl rfl)) dX3_wordInto_13 (hret _ _ ⟨xτ10_2, PRT_e (PRT_tr Bs_rf h10) (wrdS_a c5)⟩)
theorem mw_X3_sign : MWV yX3_sign cX3_sign 2 (some Jvm.ClassFile.FieldType.boolean) 1 := ⟨q2632, qs58, q128, q2633, by decide, by decide +kernel, by decide +kernel, by decide +kernel⟩
set_option maxHeartbeats 4000000 in
theorem tc_sign (l : Launch) (E : ZE) (o : Nat) (ad : Nat → Nat) (σ : TS) (a : Int → Int) (ha : σ 0 = a) (c : Int) (B : Int → Int) (bn : Int) (t : TkS) (hB : BOk B bn) (ht : TkT σ B bn t) (hk : TkOk bn t) (rc : -2147483648 ≤ c ∧ c < 2147483648) : TCi l yX3_sign (ws_ yX3_sign cX3_sign 2 (some Jvm.ClassFile.FieldType.boolean)) 4 E o ad σ [.ref o, jI c] (fun τ v => eqx [11, 12, 13, 14, 15, 16, 17] σ τ ∧ (PRT σ B bn (sgnS B bn c (a, t)) v τ)) := by
  refine tci_of (own := RX3) (cc := cX3_sign) (L := [some (.ref o), some (jI c)]) (by decide) rfl rfl (Nat.le_of_ble_eq_true rfl) (fun Z hE hl hrt hR hm hret => ?_)
  subst hE
  have x0 : eqx [11, 12, 13, 14, 15, 16, 17] σ σ := eqx_rf
  have hk1 := hk.1
  have hk2 := hk.2.1
  refine zi_aload_n dX3_sign_0 rfl ?_
  refine zt_g13 q2444 dX3_sign_1 (ht.2.2.2.2.1) ?_
  refine zi_iload_n dX3_sign_4 rfl ?_
  refine zi_icmp_eq 14 dX3_sign_5 (by decide) (by omega) (fun c5 => ?_) (fun c5 => ?_)
  · refine zi_aload_n dX3_sign_14 rfl ?_
    refine zt_Vi0 mw_X3_advance rfl (tc_advance (zl Z) (zE Z) _ _ _  (_) (_) (hB) (ht.1) (ht.2.1) (_) (ht.2.2.2.1) (by omega)) q2546 hR (by decide) (by simp [Value.category]) dX3_sign_15 (fun τ15_0 v15 wτ15_0 => ?_)
    obtain ⟨qτ15_0, h15⟩ := wτ15_0
    obtain ⟨eh15, h15⟩ := h15
    subst eh15
    have bsτ15_0 := Bs_q Bs_rf qτ15_0 (by decide) (by decide) (by decide)
    have xτ15_0 : eqx [11, 12, 13, 14, 15, 16, 17] σ τ15_0 := eqx_tr x0 (eqx_mono qτ15_0 (by decide))
    have haτ15_0 : τ15_0 0 = a := (xτ15_0 0 (by decide)).trans ha
    exact zi_zreturn hrt (z_nb (Or.inr rfl)) dX3_sign_18 (hret _ _ ⟨xτ15_0, PRT_e (PRT_l (s := (a, tkF B bn t.nx)) haτ15_0 h15 bsτ15_0) (sgnS_c (by omega))⟩)
  · refine zi_aload_n dX3_sign_8 rfl ?_
    refine zi_iconst dX3_sign_9 ?_
    refine zt_Vi1 mw_X3_fail rfl (tc_fail (zl Z) (zE Z) _ _ _ _ (_) (_) (t) (hB) (ht) (hk) (by omega)) q2602 hR (by decide) (by simp [Value.category]) dX3_sign_10 (fun τ10_1 v10 wτ10_1 => ?_)
    obtain ⟨qτ10_1, h10⟩ := wτ10_1
    obtain ⟨eh10, h10⟩ := h10
    subst eh10
    have ntτ10_1 := TkT_q qτ10_1 ht (by decide)
    have xτ10_1 : eqx [11, 12, 13, 14, 15, 16, 17] σ τ10_1 := eqx_tr x0 (eqx_mono qτ10_1 (by decide))
    have haτ10_1 : τ10_1 0 = a := (xτ10_1 0 (by decide)).trans ha
    exact zi_zreturn hrt (z_nb (Or.inl rfl)) dX3_sign_13 (hret _ _ ⟨xτ10_1, PRT_e (PRT_tr Bs_rf h10) (sgnS_a c5)⟩)
theorem mw_X3_personNamed : MWV yX3_personNamed cX3_personNamed 4 (some Jvm.ClassFile.FieldType.int) 1 := ⟨q2618, qs55, q128, q2619, by decide, by decide +kernel, by decide +kernel, by decide +kernel⟩
set_option maxHeartbeats 4000000 in
theorem tc_personNamed (l : Launch) (E : ZE) (o : Nat) (ad : Nat → Nat) (σ : TS) (a : Int → Int) (ha : σ 0 = a) (x : Int) (hpk : PkA a) (hx : -9223372036854775808 ≤ x ∧ x < 9223372036854775808) : TCi l yX3_personNamed (ws_ yX3_personNamed cX3_personNamed 4 (some Jvm.ClassFile.FieldType.int)) 1 E o ad σ [.ref o, jL x] (fun τ v => τ = σ ∧ (v = pnF a x ∧ -1 ≤ v ∧ v < a 9 ∧ v ≤ 4)) := by
  refine tci_of (own := RX3) (cc := cX3_personNamed) (L := [some (.ref o), some (jL x), none, none]) (by decide) rfl rfl (Nat.le_of_ble_eq_true rfl) (fun Z hE hl hrt hR hm hret => ?_)
  subst hE
  have hc := hpk.1
  refine zi_iconst dX3_personNamed_0 ?_
  refine zi_istore_3 dX3_personNamed_1 hm (by decide) rfl ?_
  have lp2 : ∀ (n : Nat) (k : Nat) (x3 : Int), (0 ≤ x3 ∧ x3 ≤ a 9) → (k = (a 9 - x3).toNat) → (pnF a x = pnI a x k x3) → (a 9 - x3).toNat < n → GV RX3 cX3_personNamed Z (zA Z) (zs Z).heap (twW (zE Z) o ad σ) 0 0 2 [some (.ref o), some (jL x), none, some (jI x3)] [] := by
    intro n
    induction n with
    | zero => intro k x3 i2_0 i2_1 i2_2 m2; exact absurd m2 (Nat.not_lt_zero _)
    | succ n ih2 =>
      intro k x3 i2_0 i2_1 i2_2 m2
      refine zi_iload_n dX3_personNamed_2 rfl ?_
      refine zi_i2l dX3_personNamed_3 (by omega) ?_
      refine zi_aload_n dX3_personNamed_4 rfl ?_
      refine zt_g0 q2431 dX3_personNamed_5 ?_
      refine zi_bipush dX3_personNamed_8 (by decide +kernel) ?_
      refine zt_ld0 dX3_personNamed_10 (ha) (by omega) ?_
      refine zi_lcmp_ge 39 dX3_personNamed_11 dX3_personNamed_12 (by decide) (by omega) (fun c11 => ?_) (fun c11 => ?_)
      · refine zi_iconst dX3_personNamed_39 ?_
        refine zi_ireturn hrt dX3_personNamed_40 (hret _ _ ⟨rfl, ?_⟩)
        · have q8 : pnF a x = -1 := by
            rw [i2_2, show k = 0 by omega]; rfl
          omega
      · have hw := isWd_r (hpk.2 x3 (by omega) (by omega))
        unfold pNm at hw
        refine zi_aload_n dX3_personNamed_15 rfl ?_
        refine zt_g0 q2431 dX3_personNamed_16 ?_
        refine zi_bipush dX3_personNamed_19 (by decide +kernel) ?_
        refine zi_iconst dX3_personNamed_21 ?_
        refine zi_iload_n dX3_personNamed_22 rfl ?_
        refine zi_imul dX3_personNamed_23 ?_
        refine zi_iadd dX3_personNamed_24 ?_
        refine zt_ld0 dX3_personNamed_25 (ha) (by omega) ?_
        refine zi_lload_n dX3_personNamed_26 rfl ?_
        refine zi_lcmp_ne 33 dX3_personNamed_27 dX3_personNamed_28 (by decide) (by omega) (fun c27 => ?_) (fun c27 => ?_)
        · refine zi_iinc_3 dX3_personNamed_33 hm (by decide) rfl ?_
          refine zi_goto 2 dX3_personNamed_36 (by decide) ?_
          exact ih2 (k - 1) _ (by omega) (by omega) (by rw [i2_2]; obtain ⟨k2, q7⟩ : ∃ k2, k = k2 + 1 := ⟨k - 1, by omega⟩; subst q7; simp only [pnI]; rw [if_neg (by unfold pNm; omega)]; rfl) (by omega)
        · refine zi_iload_n dX3_personNamed_31 rfl ?_
          refine zi_ireturn hrt dX3_personNamed_32 (hret _ _ ⟨rfl, ?_⟩)
          · have q8 : pnF a x = x3 := by
              rw [i2_2]; obtain ⟨k2, q7⟩ : ∃ k2, k = k2 + 1 := ⟨k - 1, by omega⟩; subst q7; simp only [pnI]; rw [if_pos (by unfold pNm; omega)]
            omega
  exact lp2 _ ((a 9).toNat) _ (by omega) (by omega) (by rfl) (Nat.lt_succ_self _)
