/-! THE REFERENCE: what would be, edits -/
set_option maxRecDepth 100000
set_option maxHeartbeats 4000000 in
theorem tc_segments_w (l : Launch) (E : ZE) (o : Nat) (ad : Nat → Nat) (σ : TS) (a : Int → Int) (ha : σ 0 = a) (hw : 0 ≤ a 66 ∧ a 66 ≤ 20) : TCi l yX3_segments (ws_ yX3_segments cX3_segments 1 (some Jvm.ClassFile.FieldType.int)) 1 E o ad σ [.ref o] (fun τ v => τ = σ ∧ (v = a 66)) := by
  refine tci_of (own := RX3) (cc := cX3_segments) (L := [some (.ref o)]) (by decide) rfl rfl (Nat.le_of_ble_eq_true rfl) (fun Z hE hl hrt hR hm hret => ?_)
  subst hE
  refine zi_aload_n dX3_segments_0 rfl ?_
  refine zt_g0 q2431 dX3_segments_1 ?_
  refine zi_bipush dX3_segments_4 (by decide +kernel) ?_
  refine zt_ld0 dX3_segments_6 (ha) (by omega) ?_
  refine zi_l2i dX3_segments_7 ?_
  exact zi_ireturn hrt dX3_segments_8 (hret _ _ ⟨rfl, by omega⟩)
theorem mw_X3_copy : MWS yX3_copy cX3_copy 3 none 2 := ⟨q2540, q128, q2541, by decide, by decide +kernel, by decide +kernel, by decide +kernel⟩
set_option maxHeartbeats 4000000 in
theorem tc_copy_0_1 (l : Launch) (E : ZE) (o : Nat) (ad : Nat → Nat) (σ : TS)  : TCv l yX3_copy (ws_ yX3_copy cX3_copy 3 none) 1 E o ad σ [.ref (ad 0), .ref (ad 1)] (fun τ => eqx [1] σ τ ∧ (∀ i : Int, τ 1 i = if 0 ≤ i ∧ i < 447 then σ 0 i else σ 1 i)) := by
  refine tcv_of (own := RX3) (cc := cX3_copy) (L := [some (.ref (ad 0)), some (.ref (ad 1)), none]) (by decide) rfl rfl (Nat.le_of_ble_eq_true rfl) (fun Z hE hl hrt hR hm hret => ?_)
  subst hE
  have x0 : eqx [1] σ σ := eqx_rf
  refine zi_iconst dX3_copy_0 ?_
  refine zi_istore_2 dX3_copy_1 hm (by decide) rfl ?_
  have lp2 : ∀ (n : Nat) (x2 : Int) (τ2 : TS), (eqx [1] σ τ2) → (0 ≤ x2 ∧ x2 ≤ 447) → (∀ i : Int, τ2 1 i = if 0 ≤ i ∧ i < x2 then σ 0 i else σ 1 i) → (447 - x2).toNat < n → GV RX3 cX3_copy Z (zA Z) (zs Z).heap (twW (zE Z) o ad τ2) 0 0 2 [some (.ref (ad 0)), some (.ref (ad 1)), some (jI x2)] [] := by
    intro n
    induction n with
    | zero => intro x2 τ2 y2 i2_0 i2_1 m2; exact absurd m2 (Nat.not_lt_zero _)
    | succ n ih2 =>
      intro x2 τ2 y2 i2_0 i2_1 m2
      refine zi_iload_n dX3_copy_2 rfl ?_
      refine zi_sipush dX3_copy_3 (by decide +kernel) ?_
      refine zi_icmp_ge 21 dX3_copy_6 (by decide) (by omega) (fun c6 => ?_) (fun c6 => ?_)
      · exact zi_return hrt dX3_copy_21 (hret _ ⟨y2, by intro i; rw [i2_1]; split <;> first | (rw [if_pos (by omega)]) | (rw [if_neg (by omega)])⟩)
      · refine zi_aload_n dX3_copy_9 rfl ?_
        refine zi_iload_n dX3_copy_10 rfl ?_
        refine zi_aload_n dX3_copy_11 rfl ?_
        refine zi_iload_n dX3_copy_12 rfl ?_
        refine zt_ld0 dX3_copy_13 (rfl) (by omega) ?_
        refine zt_st1 dX3_copy_14 (by omega) (fun τ14_0 eτ14_0 => ?_)
        have gτ14_0 := up_get eτ14_0
        have xτ14_0 : eqx [1] σ τ14_0 := by rw [eτ14_0]; exact eqx_up y2 (by decide)
        refine zi_iinc_2 dX3_copy_15 hm (by decide) rfl ?_
        refine zi_goto 2 dX3_copy_18 (by decide) ?_
        refine ih2 _ _ xτ14_0 (by omega) ?_ (by omega)
        · intro i
          rw [eτ14_0, up_s]
          unfold zup
          by_cases q : i = x2
          · rw [if_pos q, if_pos (by omega), y2 0 (by decide), q]
          · rw [if_neg q, i2_1]; split <;> first | (rw [if_pos (by omega)]) | (rw [if_neg (by omega)])
  exact lp2 _ _ _ x0 (by omega) (by intro i; rw [if_neg (by omega)]) (Nat.lt_succ_self _)
set_option maxHeartbeats 4000000 in
theorem tc_copy_1_0 (l : Launch) (E : ZE) (o : Nat) (ad : Nat → Nat) (σ : TS)  : TCv l yX3_copy (ws_ yX3_copy cX3_copy 3 none) 1 E o ad σ [.ref (ad 1), .ref (ad 0)] (fun τ => eqx [0] σ τ ∧ (∀ i : Int, τ 0 i = if 0 ≤ i ∧ i < 447 then σ 1 i else σ 0 i)) := by
  refine tcv_of (own := RX3) (cc := cX3_copy) (L := [some (.ref (ad 1)), some (.ref (ad 0)), none]) (by decide) rfl rfl (Nat.le_of_ble_eq_true rfl) (fun Z hE hl hrt hR hm hret => ?_)
  subst hE
  have x0 : eqx [0] σ σ := eqx_rf
  refine zi_iconst dX3_copy_0 ?_
  refine zi_istore_2 dX3_copy_1 hm (by decide) rfl ?_
  have lp2 : ∀ (n : Nat) (x2 : Int) (τ2 : TS), (eqx [0] σ τ2) → (0 ≤ x2 ∧ x2 ≤ 447) → (∀ i : Int, τ2 0 i = if 0 ≤ i ∧ i < x2 then σ 1 i else σ 0 i) → (447 - x2).toNat < n → GV RX3 cX3_copy Z (zA Z) (zs Z).heap (twW (zE Z) o ad τ2) 0 0 2 [some (.ref (ad 1)), some (.ref (ad 0)), some (jI x2)] [] := by
    intro n
    induction n with
    | zero => intro x2 τ2 y2 i2_0 i2_1 m2; exact absurd m2 (Nat.not_lt_zero _)
    | succ n ih2 =>
      intro x2 τ2 y2 i2_0 i2_1 m2
      refine zi_iload_n dX3_copy_2 rfl ?_
      refine zi_sipush dX3_copy_3 (by decide +kernel) ?_
      refine zi_icmp_ge 21 dX3_copy_6 (by decide) (by omega) (fun c6 => ?_) (fun c6 => ?_)
      · exact zi_return hrt dX3_copy_21 (hret _ ⟨y2, by intro i; rw [i2_1]; split <;> first | (rw [if_pos (by omega)]) | (rw [if_neg (by omega)])⟩)
      · refine zi_aload_n dX3_copy_9 rfl ?_
        refine zi_iload_n dX3_copy_10 rfl ?_
        refine zi_aload_n dX3_copy_11 rfl ?_
        refine zi_iload_n dX3_copy_12 rfl ?_
        refine zt_ld1 dX3_copy_13 (rfl) (by omega) ?_
        refine zt_st0 dX3_copy_14 (by omega) (fun τ14_0 eτ14_0 => ?_)
        have gτ14_0 := up_get eτ14_0
        have xτ14_0 : eqx [0] σ τ14_0 := by rw [eτ14_0]; exact eqx_up y2 (by decide)
        refine zi_iinc_2 dX3_copy_15 hm (by decide) rfl ?_
        refine zi_goto 2 dX3_copy_18 (by decide) ?_
        refine ih2 _ _ xτ14_0 (by omega) ?_ (by omega)
        · intro i
          rw [eτ14_0, up_s]
          unfold zup
          by_cases q : i = x2
          · rw [if_pos q, if_pos (by omega), y2 1 (by decide), q]
          · rw [if_neg q, i2_1]; split <;> first | (rw [if_pos (by omega)]) | (rw [if_neg (by omega)])
  exact lp2 _ _ _ x0 (by omega) (by intro i; rw [if_neg (by omega)]) (Nat.lt_succ_self _)
set_option maxHeartbeats 4000000 in
theorem tc_copy_0_2 (l : Launch) (E : ZE) (o : Nat) (ad : Nat → Nat) (σ : TS)  : TCv l yX3_copy (ws_ yX3_copy cX3_copy 3 none) 1 E o ad σ [.ref (ad 0), .ref (ad 2)] (fun τ => eqx [2] σ τ ∧ (∀ i : Int, τ 2 i = if 0 ≤ i ∧ i < 447 then σ 0 i else σ 2 i)) := by
  refine tcv_of (own := RX3) (cc := cX3_copy) (L := [some (.ref (ad 0)), some (.ref (ad 2)), none]) (by decide) rfl rfl (Nat.le_of_ble_eq_true rfl) (fun Z hE hl hrt hR hm hret => ?_)
  subst hE
  have x0 : eqx [2] σ σ := eqx_rf
  refine zi_iconst dX3_copy_0 ?_
  refine zi_istore_2 dX3_copy_1 hm (by decide) rfl ?_
  have lp2 : ∀ (n : Nat) (x2 : Int) (τ2 : TS), (eqx [2] σ τ2) → (0 ≤ x2 ∧ x2 ≤ 447) → (∀ i : Int, τ2 2 i = if 0 ≤ i ∧ i < x2 then σ 0 i else σ 2 i) → (447 - x2).toNat < n → GV RX3 cX3_copy Z (zA Z) (zs Z).heap (twW (zE Z) o ad τ2) 0 0 2 [some (.ref (ad 0)), some (.ref (ad 2)), some (jI x2)] [] := by
    intro n
    induction n with
    | zero => intro x2 τ2 y2 i2_0 i2_1 m2; exact absurd m2 (Nat.not_lt_zero _)
    | succ n ih2 =>
      intro x2 τ2 y2 i2_0 i2_1 m2
      refine zi_iload_n dX3_copy_2 rfl ?_
      refine zi_sipush dX3_copy_3 (by decide +kernel) ?_
      refine zi_icmp_ge 21 dX3_copy_6 (by decide) (by omega) (fun c6 => ?_) (fun c6 => ?_)
      · exact zi_return hrt dX3_copy_21 (hret _ ⟨y2, by intro i; rw [i2_1]; split <;> first | (rw [if_pos (by omega)]) | (rw [if_neg (by omega)])⟩)
      · refine zi_aload_n dX3_copy_9 rfl ?_
        refine zi_iload_n dX3_copy_10 rfl ?_
        refine zi_aload_n dX3_copy_11 rfl ?_
        refine zi_iload_n dX3_copy_12 rfl ?_
        refine zt_ld0 dX3_copy_13 (rfl) (by omega) ?_
        refine zt_st2 dX3_copy_14 (by omega) (fun τ14_0 eτ14_0 => ?_)
        have gτ14_0 := up_get eτ14_0
        have xτ14_0 : eqx [2] σ τ14_0 := by rw [eτ14_0]; exact eqx_up y2 (by decide)
        refine zi_iinc_2 dX3_copy_15 hm (by decide) rfl ?_
        refine zi_goto 2 dX3_copy_18 (by decide) ?_
        refine ih2 _ _ xτ14_0 (by omega) ?_ (by omega)
        · intro i
          rw [eτ14_0, up_s]
          unfold zup
          by_cases q : i = x2
          · rw [if_pos q, if_pos (by omega), y2 0 (by decide), q]
          · rw [if_neg q, i2_1]; split <;> first | (rw [if_pos (by omega)]) | (rw [if_neg (by omega)])
  exact lp2 _ _ _ x0 (by omega) (by intro i; rw [if_neg (by omega)]) (Nat.lt_succ_self _)
set_option maxHeartbeats 4000000 in
theorem tc_copy_2_0 (l : Launch) (E : ZE) (o : Nat) (ad : Nat → Nat) (σ : TS)  : TCv l yX3_copy (ws_ yX3_copy cX3_copy 3 none) 1 E o ad σ [.ref (ad 2), .ref (ad 0)] (fun τ => eqx [0] σ τ ∧ (∀ i : Int, τ 0 i = if 0 ≤ i ∧ i < 447 then σ 2 i else σ 0 i)) := by
  refine tcv_of (own := RX3) (cc := cX3_copy) (L := [some (.ref (ad 2)), some (.ref (ad 0)), none]) (by decide) rfl rfl (Nat.le_of_ble_eq_true rfl) (fun Z hE hl hrt hR hm hret => ?_)
  subst hE
  have x0 : eqx [0] σ σ := eqx_rf
  refine zi_iconst dX3_copy_0 ?_
  refine zi_istore_2 dX3_copy_1 hm (by decide) rfl ?_
  have lp2 : ∀ (n : Nat) (x2 : Int) (τ2 : TS), (eqx [0] σ τ2) → (0 ≤ x2 ∧ x2 ≤ 447) → (∀ i : Int, τ2 0 i = if 0 ≤ i ∧ i < x2 then σ 2 i else σ 0 i) → (447 - x2).toNat < n → GV RX3 cX3_copy Z (zA Z) (zs Z).heap (twW (zE Z) o ad τ2) 0 0 2 [some (.ref (ad 2)), some (.ref (ad 0)), some (jI x2)] [] := by
    intro n
    induction n with
    | zero => intro x2 τ2 y2 i2_0 i2_1 m2; exact absurd m2 (Nat.not_lt_zero _)
    | succ n ih2 =>
      intro x2 τ2 y2 i2_0 i2_1 m2
      refine zi_iload_n dX3_copy_2 rfl ?_
      refine zi_sipush dX3_copy_3 (by decide +kernel) ?_
      refine zi_icmp_ge 21 dX3_copy_6 (by decide) (by omega) (fun c6 => ?_) (fun c6 => ?_)
      · exact zi_return hrt dX3_copy_21 (hret _ ⟨y2, by intro i; rw [i2_1]; split <;> first | (rw [if_pos (by omega)]) | (rw [if_neg (by omega)])⟩)
      · refine zi_aload_n dX3_copy_9 rfl ?_
        refine zi_iload_n dX3_copy_10 rfl ?_
        refine zi_aload_n dX3_copy_11 rfl ?_
        refine zi_iload_n dX3_copy_12 rfl ?_
        refine zt_ld2 dX3_copy_13 (rfl) (by omega) ?_
        refine zt_st0 dX3_copy_14 (by omega) (fun τ14_0 eτ14_0 => ?_)
        have gτ14_0 := up_get eτ14_0
        have xτ14_0 : eqx [0] σ τ14_0 := by rw [eτ14_0]; exact eqx_up y2 (by decide)
        refine zi_iinc_2 dX3_copy_15 hm (by decide) rfl ?_
        refine zi_goto 2 dX3_copy_18 (by decide) ?_
        refine ih2 _ _ xτ14_0 (by omega) ?_ (by omega)
        · intro i
          rw [eτ14_0, up_s]
          unfold zup
          by_cases q : i = x2
          · rw [if_pos q, if_pos (by omega), y2 2 (by decide), q]
          · rw [if_neg q, i2_1]; split <;> first | (rw [if_pos (by omega)]) | (rw [if_neg (by omega)])
  exact lp2 _ _ _ x0 (by omega) (by intro i; rw [if_neg (by omega)]) (Nat.lt_succ_self _)
theorem mw_X3_putAside : MWV yX3_putAside cX3_putAside 1 none 0 := ⟨q2537, qs42, q128, q2538, by decide, by decide +kernel, by decide +kernel, by decide +kernel⟩
set_option maxHeartbeats 4000000 in
theorem tc_putAside (l : Launch) (E : ZE) (o : Nat) (ad : Nat → Nat) (σ : TS)  : TCv l yX3_putAside (ws_ yX3_putAside cX3_putAside 1 none) 2 E o ad σ [.ref o] (fun τ => eqx [1] σ τ ∧ (∀ i : Int, 0 ≤ i → i < 447 → τ 1 i = σ 0 i)) := by
  refine tcv_of (own := RX3) (cc := cX3_putAside) (L := [some (.ref o)]) (by decide) rfl rfl (Nat.le_of_ble_eq_true rfl) (fun Z hE hl hrt hR hm hret => ?_)
  subst hE
  have x0 : eqx [1] σ σ := eqx_rf
  refine zi_aload_n dX3_putAside_0 rfl ?_
  refine zt_g0 q2431 dX3_putAside_1 ?_
  refine zi_aload_n dX3_putAside_4 rfl ?_
  refine zt_g1 q2432 dX3_putAside_5 ?_
  refine zt_Sv2 mw_X3_copy (tc_copy_0_1 (zl Z) (zE Z) _ _ _ ) q2539 hR (by decide) (by simp [Value.category]) dX3_putAside_8 (fun τ8_0 wτ8_0 => ?_)
  obtain ⟨qτ8_0, h8⟩ := wτ8_0
  have xτ8_0 : eqx [1] σ τ8_0 := eqx_tr x0 (eqx_mono qτ8_0 (by decide))
  exact zi_return hrt dX3_putAside_11 (hret _ ⟨xτ8_0, by intro i i0 i1; rw [h8, if_pos ⟨i0, i1⟩]⟩)
theorem mw_X3_layBack : MWV yX3_layBack cX3_layBack 1 none 0 := ⟨q2674, qs65, q128, q2675, by decide, by decide +kernel, by decide +kernel, by decide +kernel⟩
set_option maxHeartbeats 4000000 in
theorem tc_layBack (l : Launch) (E : ZE) (o : Nat) (ad : Nat → Nat) (σ : TS)  : TCv l yX3_layBack (ws_ yX3_layBack cX3_layBack 1 none) 2 E o ad σ [.ref o] (fun τ => eqx [0] σ τ ∧ ((∀ i : Int, 0 ≤ i → i < 447 → τ 0 i = σ 1 i) ∧ (∀ i : Int, ¬ (0 ≤ i ∧ i < 447) → τ 0 i = σ 0 i))) := by
  refine tcv_of (own := RX3) (cc := cX3_layBack) (L := [some (.ref o)]) (by decide) rfl rfl (Nat.le_of_ble_eq_true rfl) (fun Z hE hl hrt hR hm hret => ?_)
  subst hE
  have x0 : eqx [0] σ σ := eqx_rf
  refine zi_aload_n dX3_layBack_0 rfl ?_
  refine zt_g1 q2432 dX3_layBack_1 ?_
  refine zi_aload_n dX3_layBack_4 rfl ?_
  refine zt_g0 q2431 dX3_layBack_5 ?_
  refine zt_Sv2 mw_X3_copy (tc_copy_1_0 (zl Z) (zE Z) _ _ _ ) q2539 hR (by decide) (by simp [Value.category]) dX3_layBack_8 (fun τ8_0 wτ8_0 => ?_)
  obtain ⟨qτ8_0, h8⟩ := wτ8_0
  have xτ8_0 : eqx [0] σ τ8_0 := eqx_tr x0 (eqx_mono qτ8_0 (by decide))
  exact zi_return hrt dX3_layBack_11 (hret _ ⟨xτ8_0, ⟨by intro i i0 i1; rw [h8, if_pos ⟨i0, i1⟩], by intro i i0; rw [h8, if_neg i0]⟩⟩)
theorem mw_X3_closes : MWV yX3_closes cX3_closes 3 none 1 := ⟨q3000, qs109, q128, q3001, by decide, by decide +kernel, by decide +kernel, by decide +kernel⟩
set_option maxHeartbeats 4000000 in
theorem tc_closes (l : Launch) (E : ZE) (o : Nat) (ad : Nat → Nat) (σ : TS) (a : Int → Int) (ha : σ 0 = a) (g : Int) (hok : OkA a) (hg0 : 0 ≤ g) (hg1 : g < a 66) : TCv l yX3_closes (ws_ yX3_closes cX3_closes 3 none) 2 E o ad σ [.ref o, jI g] (fun τ => eqx [0] σ τ ∧ (τ 0 = clF a g)) := by
  refine tcv_of (own := RX3) (cc := cX3_closes) (L := [some (.ref o), some (jI g), none]) (by decide) rfl rfl (Nat.le_of_ble_eq_true rfl) (fun Z hE hl hrt hR hm hret => ?_)
  subst hE
  have x0 : eqx [0] σ σ := eqx_rf
  have hc := hok.cnt
  refine zi_aload_n dX3_closes_0 rfl ?_
  refine zt_g0 q2431 dX3_closes_1 ?_
  refine zi_bipush dX3_closes_4 (by decide +kernel) ?_
  refine zi_dup2 dX3_closes_6 rfl rfl ?_
  refine zt_ld0 dX3_closes_7 (ha) (by omega) ?_
  refine zi_lconst (m := 1) dX3_closes_8 (by decide +kernel) ?_
  refine zi_lsub dX3_closes_9 ?_
  refine zt_st0 dX3_closes_10 (by omega) (fun τ10_0 eτ10_0 => ?_)
  have gτ10_0 := up_get eτ10_0
  have xτ10_0 : eqx [0] σ τ10_0 := by rw [eτ10_0]; exact eqx_up x0 (by decide)
  refine zi_bipush dX3_closes_11 (by decide +kernel) ?_
  refine zi_bipush dX3_closes_13 (by decide +kernel) ?_
  refine zi_iload_n dX3_closes_15 rfl ?_
  refine zi_imul dX3_closes_16 ?_
  refine zi_iadd dX3_closes_17 ?_
  refine zi_istore_2 dX3_closes_18 hm (by decide) rfl ?_
  have lp19 : ∀ (n : Nat) (x2 : Int) (τ19 : TS), (eqx [0] σ τ19) → (67 + 19 * g ≤ x2 ∧ x2 ≤ 67 + 19 * (a 66 - 1)) → (∀ i : Int, τ19 0 i = if i = 66 then a 66 - 1 else if 67 + 19 * g ≤ i ∧ i < x2 then a (i + 19) else a i) → (67 + 19 * (a 66 - 1) - x2).toNat < n → GV RX3 cX3_closes Z (zA Z) (zs Z).heap (twW (zE Z) o ad τ19) 0 0 19 [some (.ref o), some (jI g), some (jI x2)] [] := by
    intro n
    induction n with
    | zero => intro x2 τ19 y19 i19_0 i19_1 m19; exact absurd m19 (Nat.not_lt_zero _)
    | succ n ih19 =>
      intro x2 τ19 y19 i19_0 i19_1 m19
      have q6 := i19_1 66
      rw [if_pos rfl] at q6
      refine zi_iload_n dX3_closes_19 rfl ?_
      refine zi_bipush dX3_closes_20 (by decide +kernel) ?_
      refine zi_bipush dX3_closes_22 (by decide +kernel) ?_
      refine zi_aload_n dX3_closes_24 rfl ?_
      refine zt_PVi0 mw_X3_segments rfl (tc_segments_w (zl Z) (zE Z) _ _ _ _ (rfl)  (by omega)) q2700 hR (by decide) (by simp [Value.category]) dX3_closes_25 (fun v25 h25 => ?_)
      refine zi_imul dX3_closes_28 ?_
      refine zi_iadd dX3_closes_29 ?_
      refine zi_icmp_ge 54 dX3_closes_30 (by decide) (by omega) (fun c30 => ?_) (fun c30 => ?_)
      · refine zi_iconst dX3_closes_54 ?_
        refine zi_istore_2 dX3_closes_55 hm (by decide) rfl ?_
        have lp56 : ∀ (n : Nat) (x2 : Int) (τ56 : TS), (eqx [0] σ τ56) → (0 ≤ x2 ∧ x2 ≤ 19) → (∀ i : Int, τ56 0 i = if i = 66 then a 66 - 1 else if 67 + 19 * g ≤ i ∧ i < 67 + 19 * (a 66 - 1) then a (i + 19) else if 67 + 19 * (a 66 - 1) ≤ i ∧ i < 67 + 19 * (a 66 - 1) + x2 then 0 else a i) → (19 - x2).toNat < n → GV RX3 cX3_closes Z (zA Z) (zs Z).heap (twW (zE Z) o ad τ56) 0 0 56 [some (.ref o), some (jI g), some (jI x2)] [] := by
          intro n
          induction n with
          | zero => intro x2 τ56 y56 i56_0 i56_1 m56; exact absurd m56 (Nat.not_lt_zero _)
          | succ n ih56 =>
            intro x2 τ56 y56 i56_0 i56_1 m56
            have q6 := i56_1 66
            rw [if_pos rfl] at q6
            refine zi_iload_n dX3_closes_56 rfl ?_
            refine zi_bipush dX3_closes_57 (by decide +kernel) ?_
            refine zi_icmp_ge 86 dX3_closes_59 (by decide) (by omega) (fun c59 => ?_) (fun c59 => ?_)
            · exact zi_return hrt dX3_closes_86 (hret _ ⟨y56, by funext i; rw [i56_1]; unfold clF; (repeat' split) <;> first | rfl | omega⟩)
            · refine zi_aload_n dX3_closes_62 rfl ?_
              refine zt_g0 q2431 dX3_closes_63 ?_
              refine zi_bipush dX3_closes_66 (by decide +kernel) ?_
              refine zi_bipush dX3_closes_68 (by decide +kernel) ?_
              refine zi_aload_n dX3_closes_70 rfl ?_
              refine zt_PVi0 mw_X3_segments rfl (tc_segments_w (zl Z) (zE Z) _ _ _ _ (rfl)  (by omega)) q2700 hR (by decide) (by simp [Value.category]) dX3_closes_71 (fun v71 h71 => ?_)
              refine zi_imul dX3_closes_74 ?_
              refine zi_iadd dX3_closes_75 ?_
              refine zi_iload_n dX3_closes_76 rfl ?_
              refine zi_iadd dX3_closes_77 ?_
              refine zi_lconst (m := 0) dX3_closes_78 (by decide +kernel) ?_
              refine zt_st0 dX3_closes_79 (by omega) (fun τ79_1 eτ79_1 => ?_)
              have gτ79_1 := up_get eτ79_1
              have xτ79_1 : eqx [0] σ τ79_1 := by rw [eτ79_1]; exact eqx_up y56 (by decide)
              refine zi_iinc_2 dX3_closes_80 hm (by decide) rfl ?_
              refine zi_goto 56 dX3_closes_83 (by decide) ?_
              refine ih56 _ _ xτ79_1 (by omega) ?_ (by omega)
              · intro i
                rw [eτ79_1, up_s]
                unfold zup
                by_cases q : i = 67 + 19 * v71 + x2
                · rw [if_pos q]; (repeat' split) <;> first | rfl | omega
                · rw [if_neg q, i56_1]; (repeat' split) <;> first | rfl | omega
        refine lp56 _ _ _ y19 (by omega) ?_ (Nat.lt_succ_self _)
        · intro i
          rw [i19_1]
          (repeat' split) <;> first | rfl | omega
      · refine zi_aload_n dX3_closes_33 rfl ?_
        refine zt_g0 q2431 dX3_closes_34 ?_
        refine zi_iload_n dX3_closes_37 rfl ?_
        refine zi_aload_n dX3_closes_38 rfl ?_
        refine zt_g0 q2431 dX3_closes_39 ?_
        refine zi_iload_n dX3_closes_42 rfl ?_
        refine zi_bipush dX3_closes_43 (by decide +kernel) ?_
        refine zi_iadd dX3_closes_45 ?_
        refine zt_ld0 dX3_closes_46 (rfl) (by omega) ?_
        refine zt_st0 dX3_closes_47 (by omega) (fun τ47_2 eτ47_2 => ?_)
        have gτ47_2 := up_get eτ47_2
        have xτ47_2 : eqx [0] σ τ47_2 := by rw [eτ47_2]; exact eqx_up y19 (by decide)
        refine zi_iinc_2 dX3_closes_48 hm (by decide) rfl ?_
        refine zi_goto 19 dX3_closes_51 (by decide) ?_
        refine ih19 _ _ xτ47_2 (by omega) ?_ (by omega)
        · intro i
          rw [eτ47_2, up_s]
          unfold zup
          by_cases q : i = x2
          · rw [if_pos q, i19_1, q]; (repeat' split) <;> first | rfl | omega
          · rw [if_neg q, i19_1]; (repeat' split) <;> first | rfl | omega
  refine lp19 _ _ _ xτ10_0 (by omega) ?_ (Nat.lt_succ_self _)
  · intro i
    rw [eτ10_0, up_s, ha]
    unfold zup
    (repeat' split) <;> first | rfl | omega
theorem mw_X3_without : MWV yX3_without cX3_without 4 (some Jvm.ClassFile.FieldType.int) 1 := ⟨q2995, q2996, q128, q2997, by decide, by decide +kernel, by decide +kernel, by decide +kernel⟩
set_option maxHeartbeats 4000000 in
theorem tc_without (l : Launch) (E : ZE) (o : Nat) (ad : Nat → Nat) (σ : TS) (a : Int → Int) (ha : σ 0 = a) (g : Int) (hok : OkA a) (rg : -2147483648 ≤ g ∧ g < 2147483648) : TCi l yX3_without (ws_ yX3_without cX3_without 4 (some Jvm.ClassFile.FieldType.int)) 12 E o ad σ [.ref o, jI g] (fun τ v => eqx [0, 1, 5, 18, 19] σ τ ∧ (((0 ≤ g ∧ g < a 66 → τ 5 0 = 0 ∧ v = toF (clF a g) - toF a) ∧ (¬ (0 ≤ g ∧ g < a 66) → τ 5 0 = 1)) ∧ τ 0 = a)) := by
  refine tci_of (own := RX3) (cc := cX3_without) (L := [some (.ref o), some (jI g), none, none]) (by decide) rfl rfl (Nat.le_of_ble_eq_true rfl) (fun Z hE hl hrt hR hm hret => ?_)
  subst hE
  have x0 : eqx [0, 1, 5, 18, 19] σ σ := eqx_rf
  have hc := hok.cnt
  refine zi_aload_n dX3_without_0 rfl ?_
  refine zi_aload_n dX3_without_1 rfl ?_
  refine zi_iload_n dX3_without_2 rfl ?_
  refine zt_PVi1 mw_X3_isSegment rfl (tc_isSegment (zl Z) (zE Z) _ _ _ _ (ha) _ (hok) (by omega)) q2826 hR (by decide) (by simp [Value.category]) dX3_without_3 (fun v3 h3 => ?_)
  subst h3
  refine zt_Vi1 mw_X3_good rfl (tc_good_b (zl Z) (zE Z) _ _ _ _) q2531 hR (by decide) (by simp [Value.category]) dX3_without_6 (fun τ6_0 v6 wτ6_0 => ?_)
  obtain ⟨qτ6_0, h6⟩ := wτ6_0
  obtain ⟨eh6, h6⟩ := h6
  subst eh6
  have xτ6_0 : eqx [0, 1, 5, 18, 19] σ τ6_0 := eqx_tr x0 (eqx_mono qτ6_0 (by decide))
  have haτ6_0 := (qτ6_0 0 (by decide)).trans ha
  refine zi_if_neB 14 dX3_without_9 (by decide) (fun c9 => ?_) (fun c9 => ?_)
  · have tc9 := h6.1 c9; clear h6
    refine zi_aload_n dX3_without_14 rfl ?_
    refine zt_Vi0 mw_X3_totalNow rfl (tc_totalNow (zl Z) (zE Z) _ _ _ _ (haτ6_0)  (hok)) q2913 hR (by decide) (by simp [Value.category]) dX3_without_15 (fun τ15_1 v15 wτ15_1 => ?_)
    obtain ⟨qτ15_1, h15⟩ := wτ15_1
    have k5τ15_1 := eq_keep 5 qτ15_1 (by decide)
    have xτ15_1 : eqx [0, 1, 5, 18, 19] σ τ15_1 := eqx_tr xτ6_0 (eqx_mono qτ15_1 (by decide))
    have haτ15_1 := (qτ15_1 0 (by decide)).trans haτ6_0
    refine zi_istore_2 dX3_without_18 hm (by decide) rfl ?_
    refine zi_aload_n dX3_without_19 rfl ?_
    refine zt_Vv0 mw_X3_putAside rfl (tc_putAside (zl Z) (zE Z) _ _ _ ) q2535 hR (by decide) (by simp [Value.category]) dX3_without_20 (fun τ20_2 wτ20_2 => ?_)
    obtain ⟨qτ20_2, h20⟩ := wτ20_2
    have k5τ20_2 := eq_keep 5 qτ20_2 (by decide)
    have xτ20_2 : eqx [0, 1, 5, 18, 19] σ τ20_2 := eqx_tr xτ15_1 (eqx_mono qτ20_2 (by decide))
    have haτ20_2 := (qτ20_2 0 (by decide)).trans haτ15_1
    have q1 : ∀ i : Int, 0 ≤ i → i < 447 → τ20_2 1 i = a i := fun i i0 i1 => by rw [h20 i i0 i1, haτ15_1]
    refine zi_aload_n dX3_without_23 rfl ?_
    refine zi_iload_n dX3_without_24 rfl ?_
    refine zt_Vv1 mw_X3_closes rfl (tc_closes (zl Z) (zE Z) _ _ _ _ (haτ20_2) _ (hok) (by omega) (by omega)) q2998 hR (by decide) (by simp [Value.category]) dX3_without_25 (fun τ25_3 wτ25_3 => ?_)
    obtain ⟨qτ25_3, h25⟩ := wτ25_3
    have k5τ25_3 := eq_keep 5 qτ25_3 (by decide)
    have xτ25_3 : eqx [0, 1, 5, 18, 19] σ τ25_3 := eqx_tr xτ20_2 (eqx_mono qτ25_3 (by decide))
    have q2 : τ25_3 1 = τ20_2 1 := qτ25_3 1 (by decide)
    refine zi_aload_n dX3_without_28 rfl ?_
    refine zt_Vi0 mw_X3_totalNow rfl (tc_totalNow (zl Z) (zE Z) _ _ _ _ (h25)  ((clF_ok hok c9.1 c9.2))) q2913 hR (by decide) (by simp [Value.category]) dX3_without_29 (fun τ29_4 v29 wτ29_4 => ?_)
    obtain ⟨qτ29_4, h29⟩ := wτ29_4
    have k5τ29_4 := eq_keep 5 qτ29_4 (by decide)
    have xτ29_4 : eqx [0, 1, 5, 18, 19] σ τ29_4 := eqx_tr xτ25_3 (eqx_mono qτ29_4 (by decide))
    have haτ29_4 := (qτ29_4 0 (by decide)).trans h25
    have q3 : τ29_4 1 = τ20_2 1 := (qτ29_4 1 (by decide)).trans q2
    have q4 : τ29_4 0 = clF a g := (qτ29_4 0 (by decide)).trans h25
    refine zi_istore_3 dX3_without_32 hm (by decide) rfl ?_
    refine zi_aload_n dX3_without_33 rfl ?_
    refine zt_Vv0 mw_X3_layBack rfl (tc_layBack (zl Z) (zE Z) _ _ _ ) q2672 hR (by decide) (by simp [Value.category]) dX3_without_34 (fun τ34_5 wτ34_5 => ?_)
    obtain ⟨qτ34_5, h34⟩ := wτ34_5
    have k5τ34_5 := eq_keep 5 qτ34_5 (by decide)
    have xτ34_5 : eqx [0, 1, 5, 18, 19] σ τ34_5 := eqx_tr xτ29_4 (eqx_mono qτ34_5 (by decide))
    have q5 : τ34_5 0 = a := by
        funext i
        by_cases q : 0 ≤ i ∧ i < 447
        · rw [h34.1 i q.1 q.2, q3, q1 i q.1 q.2]
        · rw [h34.2 i q, q4, clF_out c9.1 c9.2 (by omega) q]
    refine zi_iload_n dX3_without_37 rfl ?_
    refine zi_iload_n dX3_without_38 rfl ?_
    refine zi_isub dX3_without_39 ?_
    exact zi_ireturn hrt dX3_without_40 (hret _ _ ⟨xτ34_5, ⟨⟨fun _ => ⟨by omega, by rw [h29.1, h15.1]⟩, fun p => absurd c9 p⟩, q5⟩⟩)
  · have tc9 := h6.2 c9; clear h6
    refine zi_iconst dX3_without_12 ?_
    exact zi_ireturn hrt dX3_without_13 (hret _ _ ⟨xτ6_0, ⟨by omega, haτ6_0⟩⟩)
theorem mw_X3_alone : MWV yX3_alone cX3_alone 3 (some Jvm.ClassFile.FieldType.int) 1 := ⟨q3003, q3004, q128, q3005, by decide, by decide +kernel, by decide +kernel, by decide +kernel⟩
set_option maxHeartbeats 4000000 in
theorem tc_alone (l : Launch) (E : ZE) (o : Nat) (ad : Nat → Nat) (σ : TS) (a : Int → Int) (ha : σ 0 = a) (j : Int) (hok : OkA a) (rj : -2147483648 ≤ j ∧ j < 2147483648) : TCi l yX3_alone (ws_ yX3_alone cX3_alone 3 (some Jvm.ClassFile.FieldType.int)) 9 E o ad σ [.ref o, jI j] (fun τ v => eqx [0, 1, 5, 18, 19] σ τ ∧ (((0 ≤ j ∧ j < a 45 → τ 5 0 = 0 ∧ v = bsF (alF a j) j) ∧ (¬ (0 ≤ j ∧ j < a 45) → τ 5 0 = 1)) ∧ τ 0 = a)) := by
  refine tci_of (own := RX3) (cc := cX3_alone) (L := [some (.ref o), some (jI j), none]) (by decide) rfl rfl (Nat.le_of_ble_eq_true rfl) (fun Z hE hl hrt hR hm hret => ?_)
  subst hE
  have x0 : eqx [0, 1, 5, 18, 19] σ σ := eqx_rf
  have hc := hok.cnt
  refine zi_aload_n dX3_alone_0 rfl ?_
  refine zi_aload_n dX3_alone_1 rfl ?_
  refine zi_iload_n dX3_alone_2 rfl ?_
  refine zt_PVi1 mw_X3_isJob rfl (tc_isJob (zl Z) (zE Z) _ _ _ _ (ha) _ (hok) (by omega)) q2802 hR (by decide) (by simp [Value.category]) dX3_alone_3 (fun v3 h3 => ?_)
  subst h3
  refine zt_Vi1 mw_X3_good rfl (tc_good_b (zl Z) (zE Z) _ _ _ _) q2531 hR (by decide) (by simp [Value.category]) dX3_alone_6 (fun τ6_0 v6 wτ6_0 => ?_)
  obtain ⟨qτ6_0, h6⟩ := wτ6_0
  obtain ⟨eh6, h6⟩ := h6
  subst eh6
  have xτ6_0 : eqx [0, 1, 5, 18, 19] σ τ6_0 := eqx_tr x0 (eqx_mono qτ6_0 (by decide))
  have haτ6_0 := (qτ6_0 0 (by decide)).trans ha
  refine zi_if_neB 14 dX3_alone_9 (by decide) (fun c9 => ?_) (fun c9 => ?_)
  · have tc9 := h6.1 c9; clear h6
    refine zi_aload_n dX3_alone_14 rfl ?_
    refine zt_Vv0 mw_X3_putAside rfl (tc_putAside (zl Z) (zE Z) _ _ _ ) q2535 hR (by decide) (by simp [Value.category]) dX3_alone_15 (fun τ15_1 wτ15_1 => ?_)
    obtain ⟨qτ15_1, h15⟩ := wτ15_1
    have k5τ15_1 := eq_keep 5 qτ15_1 (by decide)
    have xτ15_1 : eqx [0, 1, 5, 18, 19] σ τ15_1 := eqx_tr xτ6_0 (eqx_mono qτ15_1 (by decide))
    have haτ15_1 := (qτ15_1 0 (by decide)).trans haτ6_0
    have q1 : ∀ i : Int, 0 ≤ i → i < 447 → τ15_1 1 i = a i := fun i i0 i1 => by rw [h15 i i0 i1, haτ6_0]
    refine zi_aload_n dX3_alone_18 rfl ?_
    refine zt_PVi0 mw_X3_segments rfl (tc_segments (zl Z) (zE Z) _ _ _ _ (haτ15_1)  (hok)) q2700 hR (by decide) (by simp [Value.category]) dX3_alone_19 (fun v19 h19 => ?_)
    refine zi_iconst dX3_alone_22 ?_
    refine zi_isub dX3_alone_23 ?_
    refine zi_istore_2 dX3_alone_24 hm (by decide) rfl ?_
    have lp25 : ∀ (n : Nat) (k : Nat) (x2 : Int) (τ25 : TS), (eqx [0, 1, 5, 18, 19] σ τ25) → (x2 = a 66 - 1 - (k : Int)) → ((k : Int) ≤ a 66) → (τ25 0 = alI a j k) → (∀ i : Int, 0 ≤ i → i < 447 → τ25 1 i = a i) → (τ25 5 0 = 0) → (a 66 - k).toNat < n → GV RX3 cX3_alone Z (zA Z) (zs Z).heap (twW (zE Z) o ad τ25) 0 0 25 [some (.ref o), some (jI j), some (jI x2)] [] := by
      intro n
      induction n with
      | zero => intro k x2 τ25 y25 i25_0 i25_1 i25_2 i25_3 i25_4 m25; exact absurd m25 (Nat.not_lt_zero _)
      | succ n ih25 =>
        intro k x2 τ25 y25 i25_0 i25_1 i25_2 i25_3 i25_4 m25
        have h3 := alI_ok hok j k (by omega)
        refine zi_iload_n dX3_alone_25 rfl ?_
        refine zi_if_lt 49 dX3_alone_26 (by decide) (by omega) (fun c26 => ?_) (fun c26 => ?_)
        · refine zi_aload_n dX3_alone_49 rfl ?_
          refine zi_iload_n dX3_alone_50 rfl ?_
          refine zt_Vi1 mw_X3_basicOf rfl (tc_basicOf (zl Z) (zE Z) _ _ _ _ (i25_2) _ (h3.1) (by omega)) q2878 hR (by decide) (by simp [Value.category]) dX3_alone_51 (fun τ51_2 v51 wτ51_2 => ?_)
          obtain ⟨qτ51_2, h51⟩ := wτ51_2
          have k5τ51_2 := eq_keep 5 qτ51_2 (by decide)
          have xτ51_2 : eqx [0, 1, 5, 18, 19] σ τ51_2 := eqx_tr y25 (eqx_mono qτ51_2 (by decide))
          have haτ51_2 := (qτ51_2 0 (by decide)).trans i25_2
          have q2 : τ51_2 1 = τ25 1 := qτ51_2 1 (by decide)
          have q4 : τ51_2 0 = alI a j k := (qτ51_2 0 (by decide)).trans i25_2
          refine zi_istore_2 dX3_alone_54 hm (by decide) rfl ?_
          refine zi_aload_n dX3_alone_55 rfl ?_
          refine zt_Vv0 mw_X3_layBack rfl (tc_layBack (zl Z) (zE Z) _ _ _ ) q2672 hR (by decide) (by simp [Value.category]) dX3_alone_56 (fun τ56_3 wτ56_3 => ?_)
          obtain ⟨qτ56_3, h56⟩ := wτ56_3
          have k5τ56_3 := eq_keep 5 qτ56_3 (by decide)
          have xτ56_3 : eqx [0, 1, 5, 18, 19] σ τ56_3 := eqx_tr xτ51_2 (eqx_mono qτ56_3 (by decide))
          have q5 : τ56_3 0 = a := by
              funext i
              by_cases q : 0 ≤ i ∧ i < 447
              · rw [h56.1 i q.1 q.2, q2, i25_3 i q.1 q.2]
              · rw [h56.2 i q, q4, alI_out hok j q k (by omega)]
          refine zi_iload_n dX3_alone_59 rfl ?_
          exact zi_ireturn hrt dX3_alone_60 (hret _ _ ⟨xτ56_3, ⟨⟨fun _ => ⟨by omega, by rw [h51.1]; unfold alF; rw [show (a 66).toNat = k by omega]⟩, fun p => absurd c9 p⟩, q5⟩⟩)
        · refine zi_aload_n dX3_alone_29 rfl ?_
          refine zi_iload_n dX3_alone_30 rfl ?_
          refine zt_PVi1 mw_X3_jobNow rfl (tc_jobNow (zl Z) (zE Z) _ _ _ _ (i25_2) _ (h3.1) (by omega) (by omega)) q2712 hR (by decide) (by simp [Value.category]) dX3_alone_31 (fun v31 h31 => ?_)
          refine zi_iload_n dX3_alone_34 rfl ?_
          refine zi_icmp_eq 43 dX3_alone_35 (by decide) (by omega) (fun c35 => ?_) (fun c35 => ?_)
          · refine zi_iinc_2 dX3_alone_43 hm (by decide) rfl ?_
            refine zi_goto 25 dX3_alone_46 (by decide) ?_
            exact ih25 (k + 1) _ _ y25 (by omega) (by omega) (by simp only [alI]; first | (rw [if_pos (by rw [← i25_0]; omega)]; exact i25_2) | (rw [if_neg (by rw [← i25_0]; omega), ← i25_0]; exact h40)) (by first | exact i25_3 | (rw [qτ25 1 (by decide)]; exact i25_3)) (by first | exact i25_4 | omega) (by omega)
          · refine zi_aload_n dX3_alone_38 rfl ?_
            refine zi_iload_n dX3_alone_39 rfl ?_
            refine zt_Vv1 mw_X3_closes rfl (tc_closes (zl Z) (zE Z) _ _ _ _ (i25_2) _ (h3.1) (by omega) (by omega)) q2998 hR (by decide) (by simp [Value.category]) dX3_alone_40 (fun τ40_4 wτ40_4 => ?_)
            obtain ⟨qτ40_4, h40⟩ := wτ40_4
            have k5τ40_4 := eq_keep 5 qτ40_4 (by decide)
            have xτ40_4 : eqx [0, 1, 5, 18, 19] σ τ40_4 := eqx_tr y25 (eqx_mono qτ40_4 (by decide))
            refine zi_iinc_2 dX3_alone_43 hm (by decide) rfl ?_
            refine zi_goto 25 dX3_alone_46 (by decide) ?_
            exact ih25 (k + 1) _ _ xτ40_4 (by omega) (by omega) (by simp only [alI]; first | (rw [if_pos (by rw [← i25_0]; omega)]; exact i25_2) | (rw [if_neg (by rw [← i25_0]; omega), ← i25_0]; exact h40)) (by first | exact i25_3 | (rw [qτ40_4 1 (by decide)]; exact i25_3)) (by first | exact i25_4 | omega) (by omega)
    exact lp25 _ (0) _ _ xτ15_1 (by omega) (by omega) (haτ15_1) (q1) (by omega) (Nat.lt_succ_self _)
  · have tc9 := h6.2 c9; clear h6
    refine zi_iconst dX3_alone_12 ?_
    exact zi_ireturn hrt dX3_alone_13 (hret _ _ ⟨xτ6_0, ⟨by omega, haτ6_0⟩⟩)
theorem mw_X3_tightest : MWV yX3_tightest cX3_tightest 3 (some Jvm.ClassFile.FieldType.int) 1 := ⟨q3007, q3008, q128, q3009, by decide, by decide +kernel, by decide +kernel, by decide +kernel⟩
set_option maxHeartbeats 4000000 in
theorem tc_tightest (l : Launch) (E : ZE) (o : Nat) (ad : Nat → Nat) (σ : TS) (a : Int → Int) (ha : σ 0 = a) (j : Int) (hok : OkA a) (rj : -2147483648 ≤ j ∧ j < 2147483648) : TCi l yX3_tightest (ws_ yX3_tightest cX3_tightest 3 (some Jvm.ClassFile.FieldType.int)) 5 E o ad σ [.ref o, jI j] (fun τ v => eqx [5] σ τ ∧ ((0 ≤ j ∧ j < a 45 → τ 5 0 = 0 ∧ v = tgF a j) ∧ (¬ (0 ≤ j ∧ j < a 45) → τ 5 0 = 1))) := by
  refine tci_of (own := RX3) (cc := cX3_tightest) (L := [some (.ref o), some (jI j), none]) (by decide) rfl rfl (Nat.le_of_ble_eq_true rfl) (fun Z hE hl hrt hR hm hret => ?_)
  subst hE
  have x0 : eqx [5] σ σ := eqx_rf
  have hc := hok.cnt
  refine zi_aload_n dX3_tightest_0 rfl ?_
  refine zi_aload_n dX3_tightest_1 rfl ?_
  refine zi_iload_n dX3_tightest_2 rfl ?_
  refine zt_PVi1 mw_X3_isJob rfl (tc_isJob (zl Z) (zE Z) _ _ _ _ (ha) _ (hok) (by omega)) q2802 hR (by decide) (by simp [Value.category]) dX3_tightest_3 (fun v3 h3 => ?_)
  subst h3
  refine zt_Vi1 mw_X3_good rfl (tc_good_b (zl Z) (zE Z) _ _ _ _) q2531 hR (by decide) (by simp [Value.category]) dX3_tightest_6 (fun τ6_0 v6 wτ6_0 => ?_)
  obtain ⟨qτ6_0, h6⟩ := wτ6_0
  obtain ⟨eh6, h6⟩ := h6
  subst eh6
  have xτ6_0 : eqx [5] σ τ6_0 := eqx_tr x0 (eqx_mono qτ6_0 (by decide))
  have haτ6_0 : τ6_0 0 = a := (xτ6_0 0 (by decide)).trans ha
  refine zi_if_neB 14 dX3_tightest_9 (by decide) (fun c9 => ?_) (fun c9 => ?_)
  · have tc9 := h6.1 c9; clear h6
    refine zi_bipush dX3_tightest_14 (by decide +kernel) ?_
    refine zi_istore_2 dX3_tightest_16 hm (by decide) rfl ?_
    have lp17 : ∀ (n : Nat) (k : Nat) (x2 : Int), (x2 = (k : Int)) → (x2 ≤ 99) → (tgI a j 99 = tgI a j k) → x2.toNat < n → GV RX3 cX3_tightest Z (zA Z) (zs Z).heap (twW (zE Z) o ad τ6_0) 0 0 17 [some (.ref o), some (jI j), some (jI x2)] [] := by
      intro n
      induction n with
      | zero => intro k x2 i17_0 i17_1 i17_2 m17; exact absurd m17 (Nat.not_lt_zero _)
      | succ n ih17 =>
        intro k x2 i17_0 i17_1 i17_2 m17
        subst i17_0
        refine zi_iload_n dX3_tightest_17 rfl ?_
        refine zi_if_le 36 dX3_tightest_18 (by decide) (by omega) (fun c18 => ?_) (fun c18 => ?_)
        · refine zi_iload_n dX3_tightest_36 rfl ?_
          refine zi_if_le 44 dX3_tightest_37 (by decide) (by omega) (fun c37 => ?_) (fun c37 => ?_)
          · refine zi_iconst dX3_tightest_44 ?_
            refine zi_ireturn hrt dX3_tightest_45 (hret _ _ ⟨xτ6_0, ?_⟩)
            · have q5 : tgI a j k = k := by
                rcases (show k = 0 ∨ 0 < k by omega) with q | q
                · rw [q]; rfl
                · obtain ⟨k2, q7⟩ : ∃ k2, k = k2 + 1 := ⟨k - 1, by omega⟩
                  subst q7; simp only [tgI]; rw [if_neg (by rw [show ((k2 : Int) + 1) = ((k2 + 1 : Nat) : Int) by omega]; omega)]; omega
              unfold tgF; rw [i17_2, q5]; exact ⟨fun _ => ⟨by omega, by split <;> omega⟩, fun p => absurd c9 p⟩
          · refine zi_iload_n dX3_tightest_40 rfl ?_
            refine zi_goto 45 dX3_tightest_41 (by decide) ?_
            refine zi_ireturn hrt dX3_tightest_45 (hret _ _ ⟨xτ6_0, ?_⟩)
            · have q5 : tgI a j k = k := by
                rcases (show k = 0 ∨ 0 < k by omega) with q | q
                · rw [q]; rfl
                · obtain ⟨k2, q7⟩ : ∃ k2, k = k2 + 1 := ⟨k - 1, by omega⟩
                  subst q7; simp only [tgI]; rw [if_neg (by rw [show ((k2 : Int) + 1) = ((k2 + 1 : Nat) : Int) by omega]; omega)]; omega
              unfold tgF; rw [i17_2, q5]; exact ⟨fun _ => ⟨by omega, by split <;> omega⟩, fun p => absurd c9 p⟩
        · refine zi_aload_n dX3_tightest_21 rfl ?_
          refine zi_iload_n dX3_tightest_22 rfl ?_
          refine zi_iload_n dX3_tightest_23 rfl ?_
          refine zt_PVi2 mw_X3_premiumBy rfl (tc_premiumBy (zl Z) (zE Z) _ _ _ _ (haτ6_0) _ _ (hok) (by omega) (by omega)) q2886 hR (by decide) (by simp [Value.category]) dX3_tightest_24 (fun v24 h24 => ?_)
          refine zi_if_ne 36 dX3_tightest_27 (by decide) (by omega) (fun c27 => ?_) (fun c27 => ?_)
          · refine zi_iload_n dX3_tightest_36 rfl ?_
            refine zi_if_le 44 dX3_tightest_37 (by decide) (by omega) (fun c37_1 => ?_) (fun c37_1 => ?_)
            · refine zi_iconst dX3_tightest_44 ?_
              refine zi_ireturn hrt dX3_tightest_45 (hret _ _ ⟨xτ6_0, ?_⟩)
              · have q5 : tgI a j k = k := by
                  rcases (show k = 0 ∨ 0 < k by omega) with q | q
                  · rw [q]; rfl
                  · obtain ⟨k2, q7⟩ : ∃ k2, k = k2 + 1 := ⟨k - 1, by omega⟩
                    subst q7; simp only [tgI]; rw [if_neg (by rw [show ((k2 : Int) + 1) = ((k2 + 1 : Nat) : Int) by omega]; omega)]; omega
                unfold tgF; rw [i17_2, q5]; exact ⟨fun _ => ⟨by omega, by split <;> omega⟩, fun p => absurd c9 p⟩
            · refine zi_iload_n dX3_tightest_40 rfl ?_
              refine zi_goto 45 dX3_tightest_41 (by decide) ?_
              refine zi_ireturn hrt dX3_tightest_45 (hret _ _ ⟨xτ6_0, ?_⟩)
              · have q5 : tgI a j k = k := by
                  rcases (show k = 0 ∨ 0 < k by omega) with q | q
                  · rw [q]; rfl
                  · obtain ⟨k2, q7⟩ : ∃ k2, k = k2 + 1 := ⟨k - 1, by omega⟩
                    subst q7; simp only [tgI]; rw [if_neg (by rw [show ((k2 : Int) + 1) = ((k2 + 1 : Nat) : Int) by omega]; omega)]; omega
                unfold tgF; rw [i17_2, q5]; exact ⟨fun _ => ⟨by omega, by split <;> omega⟩, fun p => absurd c9 p⟩
          · refine zi_iinc_2 dX3_tightest_30 hm (by decide) rfl ?_
            refine zi_goto 17 dX3_tightest_33 (by decide) ?_
            exact ih17 (k - 1) _ (by omega) (by omega) (by rw [i17_2]; obtain ⟨k2, q7⟩ : ∃ k2, k = k2 + 1 := ⟨k - 1, by omega⟩; subst q7; simp only [tgI]; rw [if_pos (by rw [show ((k2 : Int) + 1) = ((k2 + 1 : Nat) : Int) by omega]; omega)]; rfl) (by omega)
    exact lp17 _ (99) _ (by omega) (by omega) (by rfl) (Nat.lt_succ_self _)
  · have tc9 := h6.2 c9; clear h6
    refine zi_iconst dX3_tightest_12 ?_
    exact zi_ireturn hrt dX3_tightest_13 (hret _ _ ⟨xτ6_0, by omega⟩)
theorem mw_X3_lackingBy : MWV yX3_lackingBy cX3_lackingBy 6 (some Jvm.ClassFile.FieldType.int) 2 := ⟨q3016, qs110, q128, q3017, by decide, by decide +kernel, by decide +kernel, by decide +kernel⟩
set_option maxHeartbeats 4000000 in
theorem tc_lackingBy (l : Launch) (E : ZE) (o : Nat) (ad : Nat → Nat) (σ : TS) (a : Int → Int) (ha : σ 0 = a) (j : Int) (f : Int) (hok : OkA a) (rj : -2147483648 ≤ j ∧ j < 2147483648) (hf : 0 ≤ f ∧ f ≤ a 20) : TCi l yX3_lackingBy (ws_ yX3_lackingBy cX3_lackingBy 6 (some Jvm.ClassFile.FieldType.int)) 4 E o ad σ [.ref o, jI j, jI f] (fun τ v => τ = σ ∧ (v = lbF a j f ∧ 0 ≤ v ∧ v ≤ 160)) := by
  refine tci_of (own := RX3) (cc := cX3_lackingBy) (L := [some (.ref o), some (jI j), some (jI f), none, none, none]) (by decide) rfl rfl (Nat.le_of_ble_eq_true rfl) (fun Z hE hl hrt hR hm hret => ?_)
  subst hE
  have hc := hok.cnt
  refine zi_iconst dX3_lackingBy_0 ?_
  refine zi_istore_3 dX3_lackingBy_1 hm (by decide) rfl ?_
  refine zi_iconst dX3_lackingBy_2 ?_
  refine zi_istore_4 dX3_lackingBy_3 hm (by decide) rfl ?_
  have lp5 : ∀ (n : Nat) (k : Nat) (x3 : Int) (x4 : Int), (x4 = (k : Int)) → (x4 ≤ a 66) → (x3 = lbI a j f k) → (a 66 - x4).toNat < n → GV RX3 cX3_lackingBy Z (zA Z) (zs Z).heap (twW (zE Z) o ad σ) 0 0 5 [some (.ref o), some (jI j), some (jI f), some (jI x3), some (jI x4), none] [] := by
    intro n
    induction n with
    | zero => intro k x3 x4 i5_0 i5_1 i5_2 m5; exact absurd m5 (Nat.not_lt_zero _)
    | succ n ih5 =>
      intro k x3 x4 i5_0 i5_1 i5_2 m5
      subst i5_0
      refine zi_iload dX3_lackingBy_5 rfl ?_
      refine zi_aload_n dX3_lackingBy_7 rfl ?_
      refine zt_PVi0 mw_X3_segments rfl (tc_segments (zl Z) (zE Z) _ _ _ _ (ha)  (hok)) q2700 hR (by decide) (by simp [Value.category]) dX3_lackingBy_8 (fun v8 h8 => ?_)
      refine zi_icmp_ge 66 dX3_lackingBy_11 (by decide) (by omega) (fun c11 => ?_) (fun c11 => ?_)
      · have q1 := lbF_r hok j f
        have q2 : lbF a j f = lbI a j f k := by unfold lbF; rw [show (a 66).toNat = k by omega]
        refine zi_iload_n dX3_lackingBy_66 rfl ?_
        exact zi_ireturn hrt dX3_lackingBy_67 (hret _ _ ⟨rfl, by omega⟩)
      · have q7 := hok.len k 0 (by omega) (by omega)
        refine zi_iconst dX3_lackingBy_14 ?_
        refine zi_istore_5 dX3_lackingBy_15 hm (by decide) rfl ?_
        have lp17 : ∀ (n : Nat) (q : Nat) (x3 : Int) (x5 : Int), (x5 = (q : Int)) → (x5 ≤ sLen a k 0) → (x3 = lbI a j f k + lgI a k f q) → (q = 0 ∨ sJob a k = j) → (x3 = lbI a j f k + (if sJob a k = j then lgI a k f q else 0)) → (sLen a k 0 - x5).toNat < n → GV RX3 cX3_lackingBy Z (zA Z) (zs Z).heap (twW (zE Z) o ad σ) 0 0 17 [some (.ref o), some (jI j), some (jI f), some (jI x3), some (jI (k : Int)), some (jI x5)] [] := by
          intro n
          induction n with
          | zero => intro q x3 x5 i17_0 i17_1 i17_2 i17_3 i17_4 m17; exact absurd m17 (Nat.not_lt_zero _)
          | succ n ih17 =>
            intro q x3 x5 i17_0 i17_1 i17_2 i17_3 i17_4 m17
            subst i17_0
            refine zi_iload dX3_lackingBy_17 rfl ?_
            refine zi_aload_n dX3_lackingBy_19 rfl ?_
            refine zi_iload dX3_lackingBy_20 rfl ?_
            refine zi_iconst dX3_lackingBy_22 ?_
            refine zt_PVi2 mw_X3_wordsOf rfl (tc_wordsOf (zl Z) (zE Z) _ _ _ _ (ha) _ _ (hok) (by omega) (by omega) (by omega)) q2720 hR (by decide) (by simp [Value.category]) dX3_lackingBy_23 (fun v23 h23 => ?_)
            refine zi_icmp_ge 60 dX3_lackingBy_26 (by decide) (by omega) (fun c26 => ?_) (fun c26 => ?_)
            · have q8 : x3 = lbI a j f k + (if sJob a k = j then lgI a k f q else 0) := i17_4
              refine zi_iinc_4 dX3_lackingBy_60 hm (by decide) rfl ?_
              refine zi_goto 5 dX3_lackingBy_63 (by decide) ?_
              refine zi_fg (L2 := [_, _, _, _, _, none]) ⟨Or.inr rfl, Or.inr rfl, Or.inr rfl, Or.inr rfl, Or.inr rfl, Or.inl rfl, trivial⟩ ?_
              exact ih5 (k + 1) _ _ (by omega) (by omega) (by simp only [lbI]; split <;> first | omega | (rw [show (sLen a k 0).toNat = q by omega]; omega)) (by omega)
            · refine zi_aload_n dX3_lackingBy_29 rfl ?_
              refine zi_iload dX3_lackingBy_30 rfl ?_
              refine zt_PVi1 mw_X3_jobNow rfl (tc_jobNow (zl Z) (zE Z) _ _ _ _ (ha) _ (hok) (by omega) (by omega)) q2712 hR (by decide) (by simp [Value.category]) dX3_lackingBy_32 (fun v32 h32 => ?_)
              refine zi_iload_n dX3_lackingBy_35 rfl ?_
              refine zi_icmp_ne 60 dX3_lackingBy_36 (by decide) (by omega) (fun c36 => ?_) (fun c36 => ?_)
              · have q8 : x3 = lbI a j f k + (if sJob a k = j then lgI a k f q else 0) := i17_4
                refine zi_iinc_4 dX3_lackingBy_60 hm (by decide) rfl ?_
                refine zi_goto 5 dX3_lackingBy_63 (by decide) ?_
                refine zi_fg (L2 := [_, _, _, _, _, none]) ⟨Or.inr rfl, Or.inr rfl, Or.inr rfl, Or.inr rfl, Or.inr rfl, Or.inl rfl, trivial⟩ ?_
                exact ih5 (k + 1) _ _ (by omega) (by omega) (by simp only [lbI]; split <;> first | omega | (rw [show (sLen a k 0).toNat = q by omega]; omega)) (by omega)
              · refine zi_aload_n dX3_lackingBy_39 rfl ?_
                refine zi_iload dX3_lackingBy_40 rfl ?_
                refine zi_iload dX3_lackingBy_42 rfl ?_
                refine zi_iload_n dX3_lackingBy_44 rfl ?_
                refine zt_PVi3 mw_X3_lacks rfl (tc_lacks (zl Z) (zE Z) _ _ _ _ (ha) _ _ _ (hok) (by omega) (by omega) (by omega) (by omega) (by omega)) q2724 hR (by decide) (by simp [Value.category]) dX3_lackingBy_45 (fun v45 h45 => ?_)
                subst h45
                refine zi_if_eqB 54 dX3_lackingBy_48 (by decide) (fun c48 => ?_) (fun c48 => ?_)
                · refine zi_iinc_5 dX3_lackingBy_54 hm (by decide) rfl ?_
                  refine zi_goto 17 dX3_lackingBy_57 (by decide) ?_
                  exact ih17 (q + 1) _ _ (by omega) (by omega) (by simp only [lgI]; first | (rw [cif_t (by assumption)]; omega) | (rw [cif_f (by assumption)]; omega)) (by omega) (by rw [if_pos (by omega)]; simp only [lgI]; first | (rw [cif_t (by assumption)]; omega) | (rw [cif_f (by assumption)]; omega)) (by omega)
                · refine zi_iinc_3 dX3_lackingBy_51 hm (by decide) rfl ?_
                  refine zi_iinc_5 dX3_lackingBy_54 hm (by decide) rfl ?_
                  refine zi_goto 17 dX3_lackingBy_57 (by decide) ?_
                  exact ih17 (q + 1) _ _ (by omega) (by omega) (by simp only [lgI]; first | (rw [cif_t (by assumption)]; omega) | (rw [cif_f (by assumption)]; omega)) (by omega) (by rw [if_pos (by omega)]; simp only [lgI]; first | (rw [cif_t (by assumption)]; omega) | (rw [cif_f (by assumption)]; omega)) (by omega)
        exact lp17 _ (0) _ _ (by omega) (by omega) (by simp only [lgI]; omega) (Or.inl rfl) (by simp only [lgI]; split <;> omega) (Nat.lt_succ_self _)
  exact lp5 _ (0) _ _ (by omega) (by omega) (by rfl) (Nat.lt_succ_self _)
theorem mw_X3_bestFollowed : MWV yX3_bestFollowed cX3_bestFollowed 4 (some Jvm.ClassFile.FieldType.int) 1 := ⟨q3011, q3012, q128, q3013, by decide, by decide +kernel, by decide +kernel, by decide +kernel⟩
set_option maxHeartbeats 4000000 in
theorem tc_bestFollowed (l : Launch) (E : ZE) (o : Nat) (ad : Nat → Nat) (σ : TS) (a : Int → Int) (ha : σ 0 = a) (j : Int) (hok : OkA a) (rj : -2147483648 ≤ j ∧ j < 2147483648) : TCi l yX3_bestFollowed (ws_ yX3_bestFollowed cX3_bestFollowed 4 (some Jvm.ClassFile.FieldType.int)) 5 E o ad σ [.ref o, jI j] (fun τ v => eqx [5] σ τ ∧ ((0 ≤ j ∧ j < a 45 → τ 5 0 = 0 ∧ v = bfF a j) ∧ (¬ (0 ≤ j ∧ j < a 45) → τ 5 0 = 1))) := by
  refine tci_of (own := RX3) (cc := cX3_bestFollowed) (L := [some (.ref o), some (jI j), none, none]) (by decide) rfl rfl (Nat.le_of_ble_eq_true rfl) (fun Z hE hl hrt hR hm hret => ?_)
  subst hE
  have x0 : eqx [5] σ σ := eqx_rf
  have hc := hok.cnt
  refine zi_aload_n dX3_bestFollowed_0 rfl ?_
  refine zi_aload_n dX3_bestFollowed_1 rfl ?_
  refine zi_iload_n dX3_bestFollowed_2 rfl ?_
  refine zt_PVi1 mw_X3_isJob rfl (tc_isJob (zl Z) (zE Z) _ _ _ _ (ha) _ (hok) (by omega)) q2802 hR (by decide) (by simp [Value.category]) dX3_bestFollowed_3 (fun v3 h3 => ?_)
  subst h3
  refine zt_Vi1 mw_X3_good rfl (tc_good_b (zl Z) (zE Z) _ _ _ _) q2531 hR (by decide) (by simp [Value.category]) dX3_bestFollowed_6 (fun τ6_0 v6 wτ6_0 => ?_)
  obtain ⟨qτ6_0, h6⟩ := wτ6_0
  obtain ⟨eh6, h6⟩ := h6
  subst eh6
  have xτ6_0 : eqx [5] σ τ6_0 := eqx_tr x0 (eqx_mono qτ6_0 (by decide))
  have haτ6_0 : τ6_0 0 = a := (xτ6_0 0 (by decide)).trans ha
  refine zi_if_neB 14 dX3_bestFollowed_9 (by decide) (fun c9 => ?_) (fun c9 => ?_)
  · have tc9 := h6.1 c9; clear h6
    refine zi_iconst dX3_bestFollowed_14 ?_
    refine zi_istore_2 dX3_bestFollowed_15 hm (by decide) rfl ?_
    refine zi_iconst dX3_bestFollowed_16 ?_
    refine zi_istore_3 dX3_bestFollowed_17 hm (by decide) rfl ?_
    have lp18 : ∀ (n : Nat) (k : Nat) (x2 : Int) (x3 : Int), (x3 = (k : Int) + 1) → ((k : Int) ≤ a 20) → (x2 = bfI a j k) → (a 20 - k).toNat < n → GV RX3 cX3_bestFollowed Z (zA Z) (zs Z).heap (twW (zE Z) o ad τ6_0) 0 0 18 [some (.ref o), some (jI j), some (jI x2), some (jI x3)] [] := by
      intro n
      induction n with
      | zero => intro k x2 x3 i18_0 i18_1 i18_2 m18; exact absurd m18 (Nat.not_lt_zero _)
      | succ n ih18 =>
        intro k x2 x3 i18_0 i18_1 i18_2 m18
        have z0 := bfI_r a j k
        refine zi_iload_n dX3_bestFollowed_18 rfl ?_
        refine zi_i2l dX3_bestFollowed_19 (by omega) ?_
        refine zi_aload_n dX3_bestFollowed_20 rfl ?_
        refine zt_g0 q2431 dX3_bestFollowed_21 ?_
        refine zi_bipush dX3_bestFollowed_24 (by decide +kernel) ?_
        refine zt_ld0 dX3_bestFollowed_26 (haτ6_0) (by omega) ?_
        refine zi_lcmp_gt 54 dX3_bestFollowed_27 dX3_bestFollowed_28 (by decide) (by omega) (fun c27 => ?_) (fun c27 => ?_)
        · have q9 : (a 20).toNat = k := by omega
          rw [← q9] at i18_2
          have q8 : bfF a j = bfI a j (a 20).toNat := rfl
          refine zi_iload_n dX3_bestFollowed_54 rfl ?_
          exact zi_ireturn hrt dX3_bestFollowed_55 (hret _ _ ⟨xτ6_0, by omega⟩)
        · refine zi_aload_n dX3_bestFollowed_31 rfl ?_
          refine zi_iload_n dX3_bestFollowed_32 rfl ?_
          refine zi_iload_n dX3_bestFollowed_33 rfl ?_
          refine zt_PVi2 mw_X3_lackingBy rfl (tc_lackingBy (zl Z) (zE Z) _ _ _ _ (haτ6_0) _ _ (hok) (by omega) (by omega)) q3014 hR (by decide) (by simp [Value.category]) dX3_bestFollowed_34 (fun v34 h34 => ?_)
          refine zi_aload_n dX3_bestFollowed_37 rfl ?_
          refine zi_iload_n dX3_bestFollowed_38 rfl ?_
          refine zi_iload_n dX3_bestFollowed_39 rfl ?_
          refine zt_PVi2 mw_X3_lackingBy rfl (tc_lackingBy (zl Z) (zE Z) _ _ _ _ (haτ6_0) _ _ (hok) (by omega) (by omega)) q3014 hR (by decide) (by simp [Value.category]) dX3_bestFollowed_40 (fun v40 h40 => ?_)
          refine zi_icmp_gt 48 dX3_bestFollowed_43 (by decide) (by omega) (fun c43 => ?_) (fun c43 => ?_)
          · refine zi_iinc_3 dX3_bestFollowed_48 hm (by decide) rfl ?_
            refine zi_goto 18 dX3_bestFollowed_51 (by decide) ?_
            exact ih18 (k + 1) _ _ (by omega) (by omega) (by simp only [bfI]; rw [← i18_0, ← i18_2]; split <;> omega) (by omega)
          · refine zi_iload_n dX3_bestFollowed_46 rfl ?_
            refine zi_istore_2 dX3_bestFollowed_47 hm (by decide) rfl ?_
            refine zi_iinc_3 dX3_bestFollowed_48 hm (by decide) rfl ?_
            refine zi_goto 18 dX3_bestFollowed_51 (by decide) ?_
            exact ih18 (k + 1) _ _ (by omega) (by omega) (by simp only [bfI]; rw [← i18_0, ← i18_2]; split <;> omega) (by omega)
    exact lp18 _ (0) _ _ (by omega) (by omega) (by rfl) (Nat.lt_succ_self _)
  · have tc9 := h6.2 c9; clear h6
    refine zi_iconst dX3_bestFollowed_12 ?_
    exact zi_ireturn hrt dX3_bestFollowed_13 (hret _ _ ⟨xτ6_0, by omega⟩)
theorem mw_X3_remember : MWV yX3_remember cX3_remember 2 none 0 := ⟨q2682, qs66, q128, q2683, by decide, by decide +kernel, by decide +kernel, by decide +kernel⟩
set_option maxHeartbeats 4000000 in
theorem tc_remember (l : Launch) (E : ZE) (o : Nat) (ad : Nat → Nat) (σ : TS) (a : Int → Int) (ha : σ 0 = a) (hst : List (Int → Int)) (hh : HsT σ hst) : TCv l yX3_remember (ws_ yX3_remember cX3_remember 2 none) 1 E o ad σ [.ref o] (fun τ => eqx [3, 4] σ τ ∧ (HsT τ (rmF hst a))) := by
  refine tcv_of (own := RX3) (cc := cX3_remember) (L := [some (.ref o), none]) (by decide) rfl rfl (Nat.le_of_ble_eq_true rfl) (fun Z hE hl hrt hR hm hret => ?_)
  subst hE
  have x0 : eqx [3, 4] σ σ := eqx_rf
  have hn := hh.2.1
  have hn9 := hbF_n hn
  refine zi_aload_n dX3_remember_0 rfl ?_
  refine zt_g4 q2435 dX3_remember_1 (hh.1) ?_
  refine zi_bipush dX3_remember_4 (by decide +kernel) ?_
  refine zi_icmp_ne 52 dX3_remember_6 (by decide) (by omega) (fun c6 => ?_) (fun c6 => ?_)
  · refine zi_iconst dX3_remember_52 ?_
    refine zi_istore_1 dX3_remember_53 hm (by decide) rfl ?_
    have lp54 : ∀ (n : Nat) (x1 : Int) (τ54 : TS), (eqx [3, 4] σ τ54) → (0 ≤ x1 ∧ x1 ≤ 447) → (HsT τ54 (hbF hst)) → (∀ i : Int, 0 ≤ i → i < x1 → τ54 3 (447 * ((hbF hst).length : Int) + i) = a i) → (447 - x1).toNat < n → GV RX3 cX3_remember Z (zA Z) (zs Z).heap (twW (zE Z) o ad τ54) 0 0 54 [some (.ref o), some (jI x1)] [] := by
      intro n
      induction n with
      | zero => intro x1 τ54 y54 i54_0 i54_1 i54_2 m54; exact absurd m54 (Nat.not_lt_zero _)
      | succ n ih54 =>
        intro x1 τ54 y54 i54_0 i54_1 i54_2 m54
        have ha54 : τ54 0 = a := (y54 0 (by decide)).trans ha
        refine zi_iload_n dX3_remember_54 rfl ?_
        refine zi_sipush dX3_remember_55 (by decide +kernel) ?_
        refine zi_icmp_ge 88 dX3_remember_58 (by decide) (by omega) (fun c58 => ?_) (fun c58 => ?_)
        · refine zi_aload_n dX3_remember_88 rfl ?_
          refine zi_dup dX3_remember_89 rfl ?_
          refine zt_g4 q2435 dX3_remember_90 (i54_1.1) ?_
          refine zi_iconst dX3_remember_93 ?_
          refine zi_iadd dX3_remember_94 ?_
          refine zt_p4 q2435 dX3_remember_95 (fun τ95_0 eτ95_0 => ?_)
          have gτ95_0 := up_get eτ95_0
          have xτ95_0 : eqx [3, 4] σ τ95_0 := by rw [eτ95_0]; exact eqx_up y54 (by decide)
          have haτ95_0 : τ95_0 0 = a := (xτ95_0 0 (by decide)).trans ha
          exact zi_return hrt dX3_remember_98 (hret _ ⟨xτ95_0, by unfold rmF; exact HsT_add i54_1 hn9 (fun i i0 i1 => i54_2 i i0 (by omega)) eτ95_0⟩)
        · refine zi_aload_n dX3_remember_61 rfl ?_
          refine zt_g3 q2434 dX3_remember_62 ?_
          refine zi_sipush dX3_remember_65 (by decide +kernel) ?_
          refine zi_aload_n dX3_remember_68 rfl ?_
          refine zt_g4 q2435 dX3_remember_69 (i54_1.1) ?_
          refine zi_imul dX3_remember_72 ?_
          refine zi_iload_n dX3_remember_73 rfl ?_
          refine zi_iadd dX3_remember_74 ?_
          refine zi_aload_n dX3_remember_75 rfl ?_
          refine zt_g0 q2431 dX3_remember_76 ?_
          refine zi_iload_n dX3_remember_79 rfl ?_
          refine zt_ld0 dX3_remember_80 (ha54) (by omega) ?_
          refine zt_st3 dX3_remember_81 (by omega) (fun τ81_1 eτ81_1 => ?_)
          have gτ81_1 := up_get eτ81_1
          have k4τ81_1 := up_keep 4 eτ81_1 (by decide)
          have xτ81_1 : eqx [3, 4] σ τ81_1 := by rw [eτ81_1]; exact eqx_up y54 (by decide)
          have haτ81_1 : τ81_1 0 = a := (xτ81_1 0 (by decide)).trans ha
          refine zi_iinc_1 dX3_remember_82 hm (by decide) rfl ?_
          refine zi_goto 54 dX3_remember_85 (by decide) ?_
          refine ih54 _ _ xτ81_1 (by omega) (HsT_put i54_1 eτ81_1 (by omega)) ?_ (by omega)
          · intro i i0 i1
            rw [eτ81_1, up_s]
            unfold zup
            by_cases q : i = x1
            · rw [if_pos (by omega), q]
            · rw [if_neg (by omega)]; exact i54_2 i i0 (by omega)
    exact lp54 _ _ _ x0 (by omega) (by first | exact HsT_same hh (by omega) | exact HsT_drop hh (by omega) (fun i i0 i1 => by rw [up_k eσ (by decide), i13_1, if_pos (by omega)]) (by rw [up_get eσ]; rfl)) (fun i i0 i1 => by omega) (Nat.lt_succ_self _)
  · refine zi_sipush dX3_remember_9 (by decide +kernel) ?_
    refine zi_istore_1 dX3_remember_12 hm (by decide) rfl ?_
    have lp13 : ∀ (n : Nat) (x1 : Int) (τ13 : TS), (eqx [3, 4] σ τ13) → (447 ≤ x1 ∧ x1 ≤ 4470) → (∀ i : Int, τ13 3 i = if 0 ≤ i ∧ i < x1 - 447 then σ 3 (i + 447) else σ 3 i) → (τ13 4 0 = 10) → (4470 - x1).toNat < n → GV RX3 cX3_remember Z (zA Z) (zs Z).heap (twW (zE Z) o ad τ13) 0 0 13 [some (.ref o), some (jI x1)] [] := by
      intro n
      induction n with
      | zero => intro x1 τ13 y13 i13_0 i13_1 i13_2 m13; exact absurd m13 (Nat.not_lt_zero _)
      | succ n ih13 =>
        intro x1 τ13 y13 i13_0 i13_1 i13_2 m13
        have ha13 : τ13 0 = a := (y13 0 (by decide)).trans ha
        refine zi_iload_n dX3_remember_13 rfl ?_
        refine zi_sipush dX3_remember_14 (by decide +kernel) ?_
        refine zi_icmp_ge 42 dX3_remember_17 (by decide) (by omega) (fun c17 => ?_) (fun c17 => ?_)
        · refine zi_aload_n dX3_remember_42 rfl ?_
          refine zi_dup dX3_remember_43 rfl ?_
          refine zt_g4 q2435 dX3_remember_44 (i13_2) ?_
          refine zi_iconst dX3_remember_47 ?_
          refine zi_isub dX3_remember_48 ?_
          refine zt_p4 q2435 dX3_remember_49 (fun τ49_2 eτ49_2 => ?_)
          have gτ49_2 := up_get eτ49_2
          have xτ49_2 : eqx [3, 4] σ τ49_2 := by rw [eτ49_2]; exact eqx_up y13 (by decide)
          have haτ49_2 : τ49_2 0 = a := (xτ49_2 0 (by decide)).trans ha
          refine zi_iconst dX3_remember_52 ?_
          refine zi_istore_1 dX3_remember_53 hm (by decide) rfl ?_
          have lp54 : ∀ (n : Nat) (x1 : Int) (τ54 : TS), (eqx [3, 4] σ τ54) → (0 ≤ x1 ∧ x1 ≤ 447) → (HsT τ54 (hbF hst)) → (∀ i : Int, 0 ≤ i → i < x1 → τ54 3 (447 * ((hbF hst).length : Int) + i) = a i) → (447 - x1).toNat < n → GV RX3 cX3_remember Z (zA Z) (zs Z).heap (twW (zE Z) o ad τ54) 0 0 54 [some (.ref o), some (jI x1)] [] := by
            intro n
            induction n with
            | zero => intro x1 τ54 y54 i54_0 i54_1 i54_2 m54; exact absurd m54 (Nat.not_lt_zero _)
            | succ n ih54 =>
              intro x1 τ54 y54 i54_0 i54_1 i54_2 m54
              have ha54 : τ54 0 = a := (y54 0 (by decide)).trans ha
              refine zi_iload_n dX3_remember_54 rfl ?_
              refine zi_sipush dX3_remember_55 (by decide +kernel) ?_
              refine zi_icmp_ge 88 dX3_remember_58 (by decide) (by omega) (fun c58_3 => ?_) (fun c58_3 => ?_)
              · refine zi_aload_n dX3_remember_88 rfl ?_
                refine zi_dup dX3_remember_89 rfl ?_
                refine zt_g4 q2435 dX3_remember_90 (i54_1.1) ?_
                refine zi_iconst dX3_remember_93 ?_
                refine zi_iadd dX3_remember_94 ?_
                refine zt_p4 q2435 dX3_remember_95 (fun τ95_4 eτ95_4 => ?_)
                have gτ95_4 := up_get eτ95_4
                have xτ95_4 : eqx [3, 4] σ τ95_4 := by rw [eτ95_4]; exact eqx_up y54 (by decide)
                have haτ95_4 : τ95_4 0 = a := (xτ95_4 0 (by decide)).trans ha
                exact zi_return hrt dX3_remember_98 (hret _ ⟨xτ95_4, by unfold rmF; exact HsT_add i54_1 hn9 (fun i i0 i1 => i54_2 i i0 (by omega)) eτ95_4⟩)
              · refine zi_aload_n dX3_remember_61 rfl ?_
                refine zt_g3 q2434 dX3_remember_62 ?_
                refine zi_sipush dX3_remember_65 (by decide +kernel) ?_
                refine zi_aload_n dX3_remember_68 rfl ?_
                refine zt_g4 q2435 dX3_remember_69 (i54_1.1) ?_
                refine zi_imul dX3_remember_72 ?_
                refine zi_iload_n dX3_remember_73 rfl ?_
                refine zi_iadd dX3_remember_74 ?_
                refine zi_aload_n dX3_remember_75 rfl ?_
                refine zt_g0 q2431 dX3_remember_76 ?_
                refine zi_iload_n dX3_remember_79 rfl ?_
                refine zt_ld0 dX3_remember_80 (ha54) (by omega) ?_
                refine zt_st3 dX3_remember_81 (by omega) (fun τ81_5 eτ81_5 => ?_)
                have gτ81_5 := up_get eτ81_5
                have k4τ81_5 := up_keep 4 eτ81_5 (by decide)
                have xτ81_5 : eqx [3, 4] σ τ81_5 := by rw [eτ81_5]; exact eqx_up y54 (by decide)
                have haτ81_5 : τ81_5 0 = a := (xτ81_5 0 (by decide)).trans ha
                refine zi_iinc_1 dX3_remember_82 hm (by decide) rfl ?_
                refine zi_goto 54 dX3_remember_85 (by decide) ?_
                refine ih54 _ _ xτ81_5 (by omega) (HsT_put i54_1 eτ81_5 (by omega)) ?_ (by omega)
                · intro i i0 i1
                  rw [eτ81_5, up_s]
                  unfold zup
                  by_cases q : i = x1
                  · rw [if_pos (by omega), q]
                  · rw [if_neg (by omega)]; exact i54_2 i i0 (by omega)
          exact lp54 _ _ _ xτ49_2 (by omega) (by first | exact HsT_same hh (by omega) | exact HsT_drop hh (by omega) (fun i i0 i1 => by rw [up_k eτ49_2 (by decide), i13_1, if_pos (by omega)]) (by rw [up_get eτ49_2]; rfl)) (fun i i0 i1 => by omega) (Nat.lt_succ_self _)
        · refine zi_aload_n dX3_remember_20 rfl ?_
          refine zt_g3 q2434 dX3_remember_21 ?_
          refine zi_iload_n dX3_remember_24 rfl ?_
          refine zi_sipush dX3_remember_25 (by decide +kernel) ?_
          refine zi_isub dX3_remember_28 ?_
          refine zi_aload_n dX3_remember_29 rfl ?_
          refine zt_g3 q2434 dX3_remember_30 ?_
          refine zi_iload_n dX3_remember_33 rfl ?_
          refine zt_ld3 dX3_remember_34 (rfl) (by omega) ?_
          refine zt_st3 dX3_remember_35 (by omega) (fun τ35_6 eτ35_6 => ?_)
          have gτ35_6 := up_get eτ35_6
          have k4τ35_6 := up_keep 4 eτ35_6 (by decide)
          have xτ35_6 : eqx [3, 4] σ τ35_6 := by rw [eτ35_6]; exact eqx_up y13 (by decide)
          have haτ35_6 : τ35_6 0 = a := (xτ35_6 0 (by decide)).trans ha
          refine zi_iinc_1 dX3_remember_36 hm (by decide) rfl ?_
          refine zi_goto 13 dX3_remember_39 (by decide) ?_
          refine ih13 _ _ xτ35_6 (by omega) ?_ (by rw [k4τ35_6]; exact i13_2) (by omega)
          · intro i
            rw [eτ35_6, up_s]
            unfold zup
            by_cases q : i = x1 - 447
            · rw [if_pos q, if_pos (by omega), i13_1, if_neg (by omega), q]; exact congrArg (σ 3) (by omega)
            · rw [if_neg q, i13_1]; split <;> first | (rw [if_pos (by omega)]) | (rw [if_neg (by omega)])
    exact lp13 _ _ _ x0 (by omega) (by intro i; rw [if_neg (by omega)]) (by rw [hh.1]; omega) (Nat.lt_succ_self _)
set_option maxHeartbeats 4000000 in
theorem tc_good_3_tbt (l : Launch) (E : ZE) (o : Nat) (ad : Nat → Nat) (σ : TS) (Q : Prop) : TCi l yX3_good_3 (ws_ yX3_good_3 cX3_good_3 4 (some Jvm.ClassFile.FieldType.boolean)) 1 E o ad σ [.ref o, jI 1, jI (bI Q), jI 1] (fun τ v => eqx [5] σ τ ∧ (v = bI Q ∧ (Q → τ 5 0 = 0) ∧ (¬ Q → τ 5 0 = 2))) := by
  refine tci_of (own := RX3) (cc := cX3_good_3) (L := [some (.ref o), some (jI 1), some (jI (bI Q)), some (jI 1)]) (by decide) rfl rfl (Nat.le_of_ble_eq_true rfl) (fun Z hE hl hrt hR hm hret => ?_)
  subst hE
  have x0 : eqx [5] σ σ := eqx_rf
  refine zi_aload_n dX3_good_3_0 rfl ?_
  refine zi_iconst dX3_good_3_1 ?_
  refine zt_p5 q2436 dX3_good_3_2 (fun τ2_0 eτ2_0 => ?_)
  have gτ2_0 := up_get eτ2_0
  have xτ2_0 : eqx [5] σ τ2_0 := by rw [eτ2_0]; exact eqx_up x0 (by decide)
  refine zi_iload_n dX3_good_3_5 rfl ?_
  refine zi_if_ne 17 dX3_good_3_6 (by decide) (by decide) (fun _ => ?_) (fun h => absurd h (by decide))
  refine zi_iload_n dX3_good_3_17 rfl ?_
  refine zi_if_neB 29 dX3_good_3_18 (by decide) (fun c18 => ?_) (fun c18 => ?_)
  · refine zi_iload_n dX3_good_3_29 rfl ?_
    refine zi_if_ne 38 dX3_good_3_30 (by decide) (by decide) (fun _ => ?_) (fun h => absurd h (by decide))
    refine zi_aload_n dX3_good_3_38 rfl ?_
    have z9 := gτ2_0
    refine zt_g5 q2436 dX3_good_3_39 (gτ2_0) ?_
    refine zi_if_ne 49 dX3_good_3_42 (by decide) (by decide) (fun h => absurd h (by decide)) (fun _ => ?_)
    refine zi_iconst dX3_good_3_45 ?_
    refine zi_goto 50 dX3_good_3_46 (by decide) ?_
    exact zi_zreturn hrt (z_nb (Or.inr rfl)) dX3_good_3_50 (hret _ _ ⟨xτ2_0, by refine ⟨?_, ?_, ?_⟩ <;> first | exact bI_1 c18 | exact bI_0 c18 | (intros; first | exact z9 | contradiction)⟩)
  · refine zi_aload_n dX3_good_3_21 rfl ?_
    refine zi_iconst dX3_good_3_22 ?_
    refine zt_p5 q2436 dX3_good_3_23 (fun τ23_1 eτ23_1 => ?_)
    have gτ23_1 := up_get eτ23_1
    have xτ23_1 : eqx [5] σ τ23_1 := by rw [eτ23_1]; exact eqx_up xτ2_0 (by decide)
    refine zi_goto 38 dX3_good_3_26 (by decide) ?_
    refine zi_aload_n dX3_good_3_38 rfl ?_
    have z9 := gτ23_1
    refine zt_g5 q2436 dX3_good_3_39 (gτ23_1) ?_
    refine zi_if_ne 49 dX3_good_3_42 (by decide) (by decide) (fun _ => ?_) (fun h => absurd h (by decide))
    refine zi_iconst dX3_good_3_49 ?_
    exact zi_zreturn hrt (z_nb (Or.inl rfl)) dX3_good_3_50 (hret _ _ ⟨xτ23_1, by refine ⟨?_, ?_, ?_⟩ <;> first | exact bI_1 c18 | exact bI_0 c18 | (intros; first | exact z9 | contradiction)⟩)
set_option maxHeartbeats 4000000 in
theorem tc_good_3_tbf (l : Launch) (E : ZE) (o : Nat) (ad : Nat → Nat) (σ : TS) (Q : Prop) : TCi l yX3_good_3 (ws_ yX3_good_3 cX3_good_3 4 (some Jvm.ClassFile.FieldType.boolean)) 1 E o ad σ [.ref o, jI 1, jI (bI Q), jI 0] (fun τ v => eqx [5] σ τ ∧ (v = 0 ∧ (Q → τ 5 0 = 3) ∧ (¬ Q → τ 5 0 = 2))) := by
  refine tci_of (own := RX3) (cc := cX3_good_3) (L := [some (.ref o), some (jI 1), some (jI (bI Q)), some (jI 0)]) (by decide) rfl rfl (Nat.le_of_ble_eq_true rfl) (fun Z hE hl hrt hR hm hret => ?_)
  subst hE
  have x0 : eqx [5] σ σ := eqx_rf
  refine zi_aload_n dX3_good_3_0 rfl ?_
  refine zi_iconst dX3_good_3_1 ?_
  refine zt_p5 q2436 dX3_good_3_2 (fun τ2_0 eτ2_0 => ?_)
  have gτ2_0 := up_get eτ2_0
  have xτ2_0 : eqx [5] σ τ2_0 := by rw [eτ2_0]; exact eqx_up x0 (by decide)
  refine zi_iload_n dX3_good_3_5 rfl ?_
  refine zi_if_ne 17 dX3_good_3_6 (by decide) (by decide) (fun _ => ?_) (fun h => absurd h (by decide))
  refine zi_iload_n dX3_good_3_17 rfl ?_
  refine zi_if_neB 29 dX3_good_3_18 (by decide) (fun c18 => ?_) (fun c18 => ?_)
  · refine zi_iload_n dX3_good_3_29 rfl ?_
    refine zi_if_ne 38 dX3_good_3_30 (by decide) (by decide) (fun h => absurd h (by decide)) (fun _ => ?_)
    refine zi_aload_n dX3_good_3_33 rfl ?_
    refine zi_iconst dX3_good_3_34 ?_
    refine zt_p5 q2436 dX3_good_3_35 (fun τ35_1 eτ35_1 => ?_)
    have gτ35_1 := up_get eτ35_1
    have xτ35_1 : eqx [5] σ τ35_1 := by rw [eτ35_1]; exact eqx_up xτ2_0 (by decide)
    refine zi_aload_n dX3_good_3_38 rfl ?_
    have z9 := gτ35_1
    refine zt_g5 q2436 dX3_good_3_39 (gτ35_1) ?_
    refine zi_if_ne 49 dX3_good_3_42 (by decide) (by decide) (fun _ => ?_) (fun h => absurd h (by decide))
    refine zi_iconst dX3_good_3_49 ?_
    exact zi_zreturn hrt (z_nb (Or.inl rfl)) dX3_good_3_50 (hret _ _ ⟨xτ35_1, by refine ⟨rfl, ?_, ?_⟩ <;> (intros; first | exact z9 | contradiction)⟩)
  · refine zi_aload_n dX3_good_3_21 rfl ?_
    refine zi_iconst dX3_good_3_22 ?_
    refine zt_p5 q2436 dX3_good_3_23 (fun τ23_2 eτ23_2 => ?_)
    have gτ23_2 := up_get eτ23_2
    have xτ23_2 : eqx [5] σ τ23_2 := by rw [eτ23_2]; exact eqx_up xτ2_0 (by decide)
    refine zi_goto 38 dX3_good_3_26 (by decide) ?_
    refine zi_aload_n dX3_good_3_38 rfl ?_
    have z9 := gτ23_2
    refine zt_g5 q2436 dX3_good_3_39 (gτ23_2) ?_
    refine zi_if_ne 49 dX3_good_3_42 (by decide) (by decide) (fun _ => ?_) (fun h => absurd h (by decide))
    refine zi_iconst dX3_good_3_49 ?_
    exact zi_zreturn hrt (z_nb (Or.inl rfl)) dX3_good_3_50 (hret _ _ ⟨xτ23_2, by refine ⟨rfl, ?_, ?_⟩ <;> (intros; first | exact z9 | contradiction)⟩)
set_option maxHeartbeats 4000000 in
theorem tc_good_3_fbt (l : Launch) (E : ZE) (o : Nat) (ad : Nat → Nat) (σ : TS) (Q : Prop) : TCi l yX3_good_3 (ws_ yX3_good_3 cX3_good_3 4 (some Jvm.ClassFile.FieldType.boolean)) 1 E o ad σ [.ref o, jI 0, jI (bI Q), jI 1] (fun τ v => eqx [5] σ τ ∧ (v = 0 ∧ τ 5 0 = 1)) := by
  refine tci_of (own := RX3) (cc := cX3_good_3) (L := [some (.ref o), some (jI 0), some (jI (bI Q)), some (jI 1)]) (by decide) rfl rfl (Nat.le_of_ble_eq_true rfl) (fun Z hE hl hrt hR hm hret => ?_)
  subst hE
  have x0 : eqx [5] σ σ := eqx_rf
  refine zi_aload_n dX3_good_3_0 rfl ?_
  refine zi_iconst dX3_good_3_1 ?_
  refine zt_p5 q2436 dX3_good_3_2 (fun τ2_0 eτ2_0 => ?_)
  have gτ2_0 := up_get eτ2_0
  have xτ2_0 : eqx [5] σ τ2_0 := by rw [eτ2_0]; exact eqx_up x0 (by decide)
  refine zi_iload_n dX3_good_3_5 rfl ?_
  refine zi_if_ne 17 dX3_good_3_6 (by decide) (by decide) (fun h => absurd h (by decide)) (fun _ => ?_)
  refine zi_aload_n dX3_good_3_9 rfl ?_
  refine zi_iconst dX3_good_3_10 ?_
  refine zt_p5 q2436 dX3_good_3_11 (fun τ11_1 eτ11_1 => ?_)
  have gτ11_1 := up_get eτ11_1
  have xτ11_1 : eqx [5] σ τ11_1 := by rw [eτ11_1]; exact eqx_up xτ2_0 (by decide)
  refine zi_goto 38 dX3_good_3_14 (by decide) ?_
  refine zi_aload_n dX3_good_3_38 rfl ?_
  have z9 := gτ11_1
  refine zt_g5 q2436 dX3_good_3_39 (gτ11_1) ?_
  refine zi_if_ne 49 dX3_good_3_42 (by decide) (by decide) (fun _ => ?_) (fun h => absurd h (by decide))
  refine zi_iconst dX3_good_3_49 ?_
  exact zi_zreturn hrt (z_nb (Or.inl rfl)) dX3_good_3_50 (hret _ _ ⟨xτ11_1, ⟨rfl, z9⟩⟩)
set_option maxHeartbeats 4000000 in
theorem tc_good_3_fbf (l : Launch) (E : ZE) (o : Nat) (ad : Nat → Nat) (σ : TS) (Q : Prop) : TCi l yX3_good_3 (ws_ yX3_good_3 cX3_good_3 4 (some Jvm.ClassFile.FieldType.boolean)) 1 E o ad σ [.ref o, jI 0, jI (bI Q), jI 0] (fun τ v => eqx [5] σ τ ∧ (v = 0 ∧ τ 5 0 = 1)) := by
  refine tci_of (own := RX3) (cc := cX3_good_3) (L := [some (.ref o), some (jI 0), some (jI (bI Q)), some (jI 0)]) (by decide) rfl rfl (Nat.le_of_ble_eq_true rfl) (fun Z hE hl hrt hR hm hret => ?_)
  subst hE
  have x0 : eqx [5] σ σ := eqx_rf
  refine zi_aload_n dX3_good_3_0 rfl ?_
  refine zi_iconst dX3_good_3_1 ?_
  refine zt_p5 q2436 dX3_good_3_2 (fun τ2_0 eτ2_0 => ?_)
  have gτ2_0 := up_get eτ2_0
  have xτ2_0 : eqx [5] σ τ2_0 := by rw [eτ2_0]; exact eqx_up x0 (by decide)
  refine zi_iload_n dX3_good_3_5 rfl ?_
  refine zi_if_ne 17 dX3_good_3_6 (by decide) (by decide) (fun h => absurd h (by decide)) (fun _ => ?_)
  refine zi_aload_n dX3_good_3_9 rfl ?_
  refine zi_iconst dX3_good_3_10 ?_
  refine zt_p5 q2436 dX3_good_3_11 (fun τ11_1 eτ11_1 => ?_)
  have gτ11_1 := up_get eτ11_1
  have xτ11_1 : eqx [5] σ τ11_1 := by rw [eτ11_1]; exact eqx_up xτ2_0 (by decide)
  refine zi_goto 38 dX3_good_3_14 (by decide) ?_
  refine zi_aload_n dX3_good_3_38 rfl ?_
  have z9 := gτ11_1
  refine zt_g5 q2436 dX3_good_3_39 (gτ11_1) ?_
  refine zi_if_ne 49 dX3_good_3_42 (by decide) (by decide) (fun _ => ?_) (fun h => absurd h (by decide))
  refine zi_iconst dX3_good_3_49 ?_
  exact zi_zreturn hrt (z_nb (Or.inl rfl)) dX3_good_3_50 (hret _ _ ⟨xτ11_1, ⟨rfl, z9⟩⟩)
theorem mw_X3_undo : MWV yX3_undo cX3_undo 2 (some Jvm.ClassFile.FieldType.int) 0 := ⟨q2513, q2514, q128, q2515, by decide, by decide +kernel, by decide +kernel, by decide +kernel⟩
set_option maxHeartbeats 4000000 in
theorem tc_undo (l : Launch) (E : ZE) (o : Nat) (ad : Nat → Nat) (σ : TS) (a : Int → Int) (ha : σ 0 = a) (hst : List (Int → Int)) (hh : HsT σ hst) (hc : cut a) (hr : ∀ r ∈ hst, cut r) : TCi l yX3_undo (ws_ yX3_undo cX3_undo 2 (some Jvm.ClassFile.FieldType.int)) 1 E o ad σ [.ref o] (fun τ v => eqx [0, 4, 5] σ τ ∧ (τ 5 0 = 0 ∧ v = (hst.length : Int) - 1 ∧ HsT τ hst.dropLast ∧ (hst = [] → τ 0 = a) ∧ (∀ r, hst.getLast? = some r → τ 0 = r))) := by
  refine tci_of (own := RX3) (cc := cX3_undo) (L := [some (.ref o), none]) (by decide) rfl rfl (Nat.le_of_ble_eq_true rfl) (fun Z hE hl hrt hR hm hret => ?_)
  subst hE
  have x0 : eqx [0, 4, 5] σ σ := eqx_rf
  have hn := hh.2.1
  refine zi_aload_n dX3_undo_0 rfl ?_
  refine zi_iconst dX3_undo_1 ?_
  refine zt_p5 q2436 dX3_undo_2 (fun τ2_0 eτ2_0 => ?_)
  have gτ2_0 := up_get eτ2_0
  have k4τ2_0 := up_keep 4 eτ2_0 (by decide)
  have xτ2_0 : eqx [0, 4, 5] σ τ2_0 := by rw [eτ2_0]; exact eqx_up x0 (by decide)
  have haτ2_0 := (up_k eτ2_0 (by decide : 0 ≠ 5)).trans ha
  refine zi_aload_n dX3_undo_5 rfl ?_
  refine zt_g4 q2435 dX3_undo_6 (k4τ2_0.trans hh.1) ?_
  refine zi_if_ne 14 dX3_undo_9 (by decide) (by omega) (fun c9 => ?_) (fun c9 => ?_)
  · refine zi_aload_n dX3_undo_14 rfl ?_
    refine zi_dup dX3_undo_15 rfl ?_
    refine zt_g4 q2435 dX3_undo_16 (k4τ2_0.trans hh.1) ?_
    refine zi_iconst dX3_undo_19 ?_
    refine zi_isub dX3_undo_20 ?_
    refine zt_p4 q2435 dX3_undo_21 (fun τ21_1 eτ21_1 => ?_)
    have gτ21_1 := up_get eτ21_1
    have k5τ21_1 := up_keep 5 eτ21_1 (by decide)
    have xτ21_1 : eqx [0, 4, 5] σ τ21_1 := by rw [eτ21_1]; exact eqx_up xτ2_0 (by decide)
    have haτ21_1 := (up_k eτ21_1 (by decide : 0 ≠ 4)).trans haτ2_0
    refine zi_iconst dX3_undo_24 ?_
    refine zi_istore_1 dX3_undo_25 hm (by decide) rfl ?_
    have lp26 : ∀ (n : Nat) (x1 : Int) (τ26 : TS), (eqx [0, 4, 5] σ τ26) → (0 ≤ x1 ∧ x1 ≤ 447) → (τ26 4 0 = (hst.length : Int) - 1) → (τ26 3 = σ 3) → (τ26 5 0 = 0) → (∀ i : Int, τ26 0 i = if 0 ≤ i ∧ i < x1 then σ 3 (447 * ((hst.length : Int) - 1) + i) else a i) → (447 - x1).toNat < n → GV RX3 cX3_undo Z (zA Z) (zs Z).heap (twW (zE Z) o ad τ26) 0 0 26 [some (.ref o), some (jI x1)] [] := by
      intro n
      induction n with
      | zero => intro x1 τ26 y26 i26_0 i26_1 i26_2 i26_3 i26_4 m26; exact absurd m26 (Nat.not_lt_zero _)
      | succ n ih26 =>
        intro x1 τ26 y26 i26_0 i26_1 i26_2 i26_3 i26_4 m26
        refine zi_iload_n dX3_undo_26 rfl ?_
        refine zi_sipush dX3_undo_27 (by decide +kernel) ?_
        refine zi_icmp_ge 60 dX3_undo_30 (by decide) (by omega) (fun c30 => ?_) (fun c30 => ?_)
        · refine zi_aload_n dX3_undo_60 rfl ?_
          refine zt_g4 q2435 dX3_undo_61 (i26_1) ?_
          refine zi_ireturn hrt dX3_undo_64 (hret _ _ ⟨y26, ?_⟩)
          · have q0 : hst ≠ [] := fun q => by rw [q] at c9; exact c9 rfl
            refine ⟨i26_3, rfl, HsT_pop hh q0 i26_2 i26_1, fun q => absurd q q0, fun r hr => ?_⟩
            have hcr := ‹∀ r ∈ hst, cut r› r (List.mem_of_getLast? hr)
            funext i
            rw [i26_4]
            split
            · exact HsT_last hh hr i (by omega) (by omega)
            · rw [hc i (by omega), hcr i (by omega)]
        · refine zi_aload_n dX3_undo_33 rfl ?_
          refine zt_g0 q2431 dX3_undo_34 ?_
          refine zi_iload_n dX3_undo_37 rfl ?_
          refine zi_aload_n dX3_undo_38 rfl ?_
          refine zt_g3 q2434 dX3_undo_39 ?_
          refine zi_sipush dX3_undo_42 (by decide +kernel) ?_
          refine zi_aload_n dX3_undo_45 rfl ?_
          refine zt_g4 q2435 dX3_undo_46 (i26_1) ?_
          refine zi_imul dX3_undo_49 ?_
          refine zi_iload_n dX3_undo_50 rfl ?_
          refine zi_iadd dX3_undo_51 ?_
          refine zt_ld3 dX3_undo_52 (rfl) (by omega) ?_
          refine zt_st0 dX3_undo_53 (by omega) (fun τ53_2 eτ53_2 => ?_)
          have gτ53_2 := up_get eτ53_2
          have k4τ53_2 := up_keep 4 eτ53_2 (by decide)
          have k5τ53_2 := up_keep 5 eτ53_2 (by decide)
          have xτ53_2 : eqx [0, 4, 5] σ τ53_2 := by rw [eτ53_2]; exact eqx_up y26 (by decide)
          refine zi_iinc_1 dX3_undo_54 hm (by decide) rfl ?_
          refine zi_goto 26 dX3_undo_57 (by decide) ?_
          refine ih26 _ _ xτ53_2 (by omega) (by rw [k4τ53_2]; exact i26_1) (xτ53_2 3 (by decide)) (by omega) ?_ (by omega)
          · intro i
            rw [eτ53_2, up_s]
            unfold zup
            by_cases q : i = x1
            · rw [if_pos q, if_pos (by omega), i26_2, q]
            · rw [if_neg q, i26_4]; split <;> first | (rw [if_pos (by omega)]) | (rw [if_neg (by omega)])
    exact lp26 _ _ _ xτ21_1 (by omega) (by rw [up_get eτ21_1]) (xτ21_1 3 (by decide)) (by omega) (by intro i; rw [if_neg (by omega), haτ21_1]) (Nat.lt_succ_self _)
  · refine zi_iconst dX3_undo_12 ?_
    refine zi_ireturn hrt dX3_undo_13 (hret _ _ ⟨xτ2_0, ?_⟩)
    · have q0 : hst = [] := List.eq_nil_of_length_eq_zero (by omega)
      subst q0
      exact ⟨by omega, rfl, HsT_k (xτ2_0 3 (by decide)) k4τ2_0 hh, fun _ => haτ2_0, fun r hr => by simp at hr⟩
theorem mw_X3_removeSegment : MWV yX3_removeSegment cX3_removeSegment 2 (some Jvm.ClassFile.FieldType.int) 1 := ⟨q3019, q3020, q128, q3021, by decide, by decide +kernel, by decide +kernel, by decide +kernel⟩
set_option maxHeartbeats 4000000 in
theorem tc_removeSegment (l : Launch) (E : ZE) (o : Nat) (ad : Nat → Nat) (σ : TS) (a : Int → Int) (ha : σ 0 = a) (g : Int) (hok : OkA a) (hst : List (Int → Int)) (hh : HsT σ hst) (rg : -2147483648 ≤ g ∧ g < 2147483648) : TCi l yX3_removeSegment (ws_ yX3_removeSegment cX3_removeSegment 2 (some Jvm.ClassFile.FieldType.int)) 3 E o ad σ [.ref o, jI g] (fun τ v => eqx [0, 3, 4, 5] σ τ ∧ ((0 ≤ g ∧ g < a 66 → τ 5 0 = 0 ∧ v = a 66 - 1 ∧ τ 0 = clF a g ∧ HsT τ (rmF hst a)) ∧ (¬ (0 ≤ g ∧ g < a 66) → τ 5 0 = 1 ∧ τ 0 = a ∧ HsT τ hst))) := by
  refine tci_of (own := RX3) (cc := cX3_removeSegment) (L := [some (.ref o), some (jI g)]) (by decide) rfl rfl (Nat.le_of_ble_eq_true rfl) (fun Z hE hl hrt hR hm hret => ?_)
  subst hE
  have x0 : eqx [0, 3, 4, 5] σ σ := eqx_rf
  have hc := hok.cnt
  refine zi_aload_n dX3_removeSegment_0 rfl ?_
  refine zi_aload_n dX3_removeSegment_1 rfl ?_
  refine zi_iload_n dX3_removeSegment_2 rfl ?_
  refine zt_PVi1 mw_X3_isSegment rfl (tc_isSegment (zl Z) (zE Z) _ _ _ _ (ha) _ (hok) (by omega)) q2826 hR (by decide) (by simp [Value.category]) dX3_removeSegment_3 (fun v3 h3 => ?_)
  subst h3
  refine zt_Vi1 mw_X3_good rfl (tc_good_b (zl Z) (zE Z) _ _ _ _) q2531 hR (by decide) (by simp [Value.category]) dX3_removeSegment_6 (fun τ6_0 v6 wτ6_0 => ?_)
  obtain ⟨qτ6_0, h6⟩ := wτ6_0
  obtain ⟨eh6, h6⟩ := h6
  subst eh6
  have xτ6_0 : eqx [0, 3, 4, 5] σ τ6_0 := eqx_tr x0 (eqx_mono qτ6_0 (by decide))
  have haτ6_0 := (qτ6_0 0 (by decide)).trans ha
  refine zi_if_neB 14 dX3_removeSegment_9 (by decide) (fun c9 => ?_) (fun c9 => ?_)
  · have tc9 := h6.1 c9; clear h6
    refine zi_aload_n dX3_removeSegment_14 rfl ?_
    refine zt_Vv0 mw_X3_remember rfl (tc_remember (zl Z) (zE Z) _ _ _ _ (haτ6_0)  (_) (HsT_q qτ6_0 hh (by decide) (by decide))) q2680 hR (by decide) (by simp [Value.category]) dX3_removeSegment_15 (fun τ15_1 wτ15_1 => ?_)
    obtain ⟨qτ15_1, h15⟩ := wτ15_1
    have k5τ15_1 := eq_keep 5 qτ15_1 (by decide)
    have xτ15_1 : eqx [0, 3, 4, 5] σ τ15_1 := eqx_tr xτ6_0 (eqx_mono qτ15_1 (by decide))
    have haτ15_1 := (qτ15_1 0 (by decide)).trans haτ6_0
    refine zi_aload_n dX3_removeSegment_18 rfl ?_
    refine zi_iload_n dX3_removeSegment_19 rfl ?_
    refine zt_Vv1 mw_X3_closes rfl (tc_closes (zl Z) (zE Z) _ _ _ _ (haτ15_1) _ (hok) (by omega) (by omega)) q2998 hR (by decide) (by simp [Value.category]) dX3_removeSegment_20 (fun τ20_2 wτ20_2 => ?_)
    obtain ⟨qτ20_2, h20⟩ := wτ20_2
    have k5τ20_2 := eq_keep 5 qτ20_2 (by decide)
    have xτ20_2 : eqx [0, 3, 4, 5] σ τ20_2 := eqx_tr xτ15_1 (eqx_mono qτ20_2 (by decide))
    have q1 := HsT_q qτ20_2 h15 (by decide) (by decide)
    refine zi_aload_n dX3_removeSegment_23 rfl ?_
    refine zt_PVi0 mw_X3_segments rfl (tc_segments (zl Z) (zE Z) _ _ _ _ (h20)  ((clF_ok hok c9.1 c9.2))) q2700 hR (by decide) (by simp [Value.category]) dX3_removeSegment_24 (fun v24 h24 => ?_)
    exact zi_ireturn hrt dX3_removeSegment_27 (hret _ _ ⟨xτ20_2, ⟨fun _ => ⟨by omega, by rw [h24.1, clF_n], h20, q1⟩, fun p => absurd c9 p⟩⟩)
  · have tc9 := h6.2 c9; clear h6
    refine zi_iconst dX3_removeSegment_12 ?_
    exact zi_ireturn hrt dX3_removeSegment_13 (hret _ _ ⟨xτ6_0, ⟨fun p => absurd p (by omega), fun _ => ⟨by omega, haτ6_0, HsT_q qτ6_0 hh (by decide) (by decide)⟩⟩⟩)
theorem mw_X3_moveSegment : MWV yX3_moveSegment cX3_moveSegment 4 (some Jvm.ClassFile.FieldType.int) 2 := ⟨q3023, q3024, q128, q3025, by decide, by decide +kernel, by decide +kernel, by decide +kernel⟩
set_option maxHeartbeats 4000000 in
theorem tc_moveSegment (l : Launch) (E : ZE) (o : Nat) (ad : Nat → Nat) (σ : TS) (a : Int → Int) (ha : σ 0 = a) (g : Int) (t : Int) (hok : OkA a) (hst : List (Int → Int)) (hh : HsT σ hst) (rg : -2147483648 ≤ g ∧ g < 2147483648) (rt : -2147483648 ≤ t ∧ t < 2147483648) : TCi l yX3_moveSegment (ws_ yX3_moveSegment cX3_moveSegment 4 (some Jvm.ClassFile.FieldType.int)) 6 E o ad σ [.ref o, jI g, jI t] (fun τ v => eqx [0, 3, 4, 5, 18, 22] σ τ ∧ (((0 ≤ g ∧ g < a 66) ∧ (0 ≤ t ∧ t < a 66) → τ 5 0 = 0 ∧ v = mtF (mvF a g t) t ∧ τ 0 = mvF a g t ∧ HsT τ (rmF hst a)) ∧ (¬ ((0 ≤ g ∧ g < a 66) ∧ (0 ≤ t ∧ t < a 66)) → τ 5 0 = 1 ∧ τ 0 = a ∧ HsT τ hst))) := by
  refine tci_of (own := RX3) (cc := cX3_moveSegment) (L := [some (.ref o), some (jI g), some (jI t), none]) (by decide) rfl rfl (Nat.le_of_ble_eq_true rfl) (fun Z hE hl hrt hR hm hret => ?_)
  subst hE
  have x0 : eqx [0, 3, 4, 5, 18, 22] σ σ := eqx_rf
  have hc := hok.cnt
  refine zi_aload_n dX3_moveSegment_0 rfl ?_
  refine zi_aload_n dX3_moveSegment_1 rfl ?_
  refine zi_iload_n dX3_moveSegment_2 rfl ?_
  refine zt_PVi1 mw_X3_isSegment rfl (tc_isSegment (zl Z) (zE Z) _ _ _ _ (ha) _ (hok) (by omega)) q2826 hR (by decide) (by simp [Value.category]) dX3_moveSegment_3 (fun v3 h3 => ?_)
  subst h3
  refine zi_if_eqB 21 dX3_moveSegment_6 (by decide) (fun c6 => ?_) (fun c6 => ?_)
  · refine zi_iconst dX3_moveSegment_21 ?_
    refine zt_Vi1 mw_X3_good rfl (tc_good_f (zl Z) (zE Z) _ _ _ ) q2531 hR (by decide) (by simp [Value.category]) dX3_moveSegment_22 (fun τ22_0 v22 wτ22_0 => ?_)
    obtain ⟨qτ22_0, h22⟩ := wτ22_0
    obtain ⟨eh22, h22⟩ := h22
    subst eh22
    have k4τ22_0 := eq_keep 4 qτ22_0 (by decide)
    have xτ22_0 : eqx [0, 3, 4, 5, 18, 22] σ τ22_0 := eqx_tr x0 (eqx_mono qτ22_0 (by decide))
    have haτ22_0 := (qτ22_0 0 (by decide)).trans ha
    refine zi_if_ne 30 dX3_moveSegment_25 (by decide) (by decide) (fun h => absurd h (by decide)) (fun _ => ?_)
    refine zi_iconst dX3_moveSegment_28 ?_
    exact zi_ireturn hrt dX3_moveSegment_29 (hret _ _ ⟨xτ22_0, ⟨fun p => absurd p (by omega), fun _ => ⟨by omega, haτ22_0, HsT_q qτ22_0 hh (by decide) (by decide)⟩⟩⟩)
  · refine zi_aload_n dX3_moveSegment_9 rfl ?_
    refine zi_iload_n dX3_moveSegment_10 rfl ?_
    refine zt_PVi1 mw_X3_isSegment rfl (tc_isSegment (zl Z) (zE Z) _ _ _ _ (ha) _ (hok) (by omega)) q2826 hR (by decide) (by simp [Value.category]) dX3_moveSegment_11 (fun v11 h11 => ?_)
    subst h11
    refine zi_if_eqB 21 dX3_moveSegment_14 (by decide) (fun c14 => ?_) (fun c14 => ?_)
    · refine zi_iconst dX3_moveSegment_21 ?_
      refine zt_Vi1 mw_X3_good rfl (tc_good_f (zl Z) (zE Z) _ _ _ ) q2531 hR (by decide) (by simp [Value.category]) dX3_moveSegment_22 (fun τ22_2 v22_1 wτ22_2 => ?_)
      obtain ⟨qτ22_2, h22_1⟩ := wτ22_2
      obtain ⟨eh22_1, h22_1⟩ := h22_1
      subst eh22_1
      have k4τ22_2 := eq_keep 4 qτ22_2 (by decide)
      have xτ22_2 : eqx [0, 3, 4, 5, 18, 22] σ τ22_2 := eqx_tr x0 (eqx_mono qτ22_2 (by decide))
      have haτ22_2 := (qτ22_2 0 (by decide)).trans ha
      refine zi_if_ne 30 dX3_moveSegment_25 (by decide) (by decide) (fun h => absurd h (by decide)) (fun _ => ?_)
      refine zi_iconst dX3_moveSegment_28 ?_
      exact zi_ireturn hrt dX3_moveSegment_29 (hret _ _ ⟨xτ22_2, ⟨fun p => absurd p (by omega), fun _ => ⟨by omega, haτ22_2, HsT_q qτ22_2 hh (by decide) (by decide)⟩⟩⟩)
    · refine zi_iconst dX3_moveSegment_17 ?_
      refine zi_goto 22 dX3_moveSegment_18 (by decide) ?_
      refine zt_Vi1 mw_X3_good rfl (tc_good_t (zl Z) (zE Z) _ _ _ ) q2531 hR (by decide) (by simp [Value.category]) dX3_moveSegment_22 (fun τ22_5 v22_4 wτ22_5 => ?_)
      obtain ⟨qτ22_5, h22_4⟩ := wτ22_5
      obtain ⟨eh22_4, h22_4⟩ := h22_4
      subst eh22_4
      have k4τ22_5 := eq_keep 4 qτ22_5 (by decide)
      have xτ22_5 : eqx [0, 3, 4, 5, 18, 22] σ τ22_5 := eqx_tr x0 (eqx_mono qτ22_5 (by decide))
      have haτ22_5 := (qτ22_5 0 (by decide)).trans ha
      refine zi_if_ne 30 dX3_moveSegment_25 (by decide) (by decide) (fun _ => ?_) (fun h => absurd h (by decide))
      refine zi_aload_n dX3_moveSegment_30 rfl ?_
      refine zt_Vv0 mw_X3_remember rfl (tc_remember (zl Z) (zE Z) _ _ _ _ (haτ22_5)  (_) (HsT_q qτ22_5 hh (by decide) (by decide))) q2680 hR (by decide) (by simp [Value.category]) dX3_moveSegment_31 (fun τ31_7 wτ31_7 => ?_)
      obtain ⟨qτ31_7, h31⟩ := wτ31_7
      have k5τ31_7 := eq_keep 5 qτ31_7 (by decide)
      have xτ31_7 : eqx [0, 3, 4, 5, 18, 22] σ τ31_7 := eqx_tr xτ22_5 (eqx_mono qτ31_7 (by decide))
      have haτ31_7 := (qτ31_7 0 (by decide)).trans haτ22_5
      refine zi_iconst dX3_moveSegment_34 ?_
      refine zi_istore_3 dX3_moveSegment_35 hm (by decide) rfl ?_
      have lp36 : ∀ (n : Nat) (x3 : Int) (τ36 : TS), (eqx [0, 3, 4, 5, 18, 22] σ τ36) → (0 ≤ x3 ∧ x3 ≤ 19) → (∀ i : Int, 0 ≤ i → i < x3 → τ36 22 i = a (67 + 19 * g + i)) → (τ36 0 = a) → (HsT τ36 (rmF hst a)) → (τ36 5 0 = 0) → (19 - x3).toNat < n → GV RX3 cX3_moveSegment Z (zA Z) (zs Z).heap (twW (zE Z) o ad τ36) 0 0 36 [some (.ref o), some (jI g), some (jI t), some (jI x3)] [] := by
        intro n
        induction n with
        | zero => intro x3 τ36 y36 i36_0 i36_1 i36_2 i36_3 i36_4 m36; exact absurd m36 (Nat.not_lt_zero _)
        | succ n ih36 =>
          intro x3 τ36 y36 i36_0 i36_1 i36_2 i36_3 i36_4 m36
          refine zi_iload_n dX3_moveSegment_36 rfl ?_
          refine zi_bipush dX3_moveSegment_37 (by decide +kernel) ?_
          refine zi_icmp_ge 68 dX3_moveSegment_39 (by decide) (by omega) (fun c39 => ?_) (fun c39 => ?_)
          · refine zi_aload_n dX3_moveSegment_68 rfl ?_
            refine zi_iload_n dX3_moveSegment_69 rfl ?_
            refine zt_Vv1 mw_X3_closes rfl (tc_closes (zl Z) (zE Z) _ _ _ _ (i36_2) _ (hok) (by omega) (by omega)) q2998 hR (by decide) (by simp [Value.category]) dX3_moveSegment_70 (fun τ70_8 wτ70_8 => ?_)
            obtain ⟨qτ70_8, h70⟩ := wτ70_8
            have k4τ70_8 := eq_keep 4 qτ70_8 (by decide)
            have k5τ70_8 := eq_keep 5 qτ70_8 (by decide)
            have xτ70_8 : eqx [0, 3, 4, 5, 18, 22] σ τ70_8 := eqx_tr y36 (eqx_mono qτ70_8 (by decide))
            have q2 : clF a g 66 = a 66 - 1 := clF_n
            refine zi_bipush dX3_moveSegment_73 (by decide +kernel) ?_
            refine zi_bipush dX3_moveSegment_75 (by decide +kernel) ?_
            refine zi_aload_n dX3_moveSegment_77 rfl ?_
            refine zt_PVi0 mw_X3_segments rfl (tc_segments (zl Z) (zE Z) _ _ _ _ (h70)  ((clF_ok hok c6.1 c6.2))) q2700 hR (by decide) (by simp [Value.category]) dX3_moveSegment_78 (fun v78 h78 => ?_)
            refine zi_imul dX3_moveSegment_81 ?_
            refine zi_iadd dX3_moveSegment_82 ?_
            refine zi_iconst dX3_moveSegment_83 ?_
            refine zi_isub dX3_moveSegment_84 ?_
            refine zi_istore_3 dX3_moveSegment_85 hm (by decide) rfl ?_
            have lp86 : ∀ (n : Nat) (x3 : Int) (τ86 : TS), (eqx [0, 3, 4, 5, 18, 22] σ τ86) → (67 + 19 * t - 1 ≤ x3 ∧ x3 ≤ 67 + 19 * (a 66 - 1) - 1) → (∀ i : Int, τ86 0 i = if x3 + 19 < i ∧ i < 67 + 19 * a 66 then clF a g (i - 19) else clF a g i) → (∀ i : Int, 0 ≤ i → i < 19 → τ86 22 i = a (67 + 19 * g + i)) → (HsT τ86 (rmF hst a)) → (τ86 5 0 = 0) → (x3 + 1 - (67 + 19 * t)).toNat < n → GV RX3 cX3_moveSegment Z (zA Z) (zs Z).heap (twW (zE Z) o ad τ86) 0 0 86 [some (.ref o), some (jI g), some (jI t), some (jI x3)] [] := by
              intro n
              induction n with
              | zero => intro x3 τ86 y86 i86_0 i86_1 i86_2 i86_3 i86_4 m86; exact absurd m86 (Nat.not_lt_zero _)
              | succ n ih86 =>
                intro x3 τ86 y86 i86_0 i86_1 i86_2 i86_3 i86_4 m86
                refine zi_iload_n dX3_moveSegment_86 rfl ?_
                refine zi_bipush dX3_moveSegment_87 (by decide +kernel) ?_
                refine zi_bipush dX3_moveSegment_89 (by decide +kernel) ?_
                refine zi_iload_n dX3_moveSegment_91 rfl ?_
                refine zi_imul dX3_moveSegment_92 ?_
                refine zi_iadd dX3_moveSegment_93 ?_
                refine zi_icmp_lt 118 dX3_moveSegment_94 (by decide) (by omega) (fun c94 => ?_) (fun c94 => ?_)
                · refine zi_iconst dX3_moveSegment_118 ?_
                  refine zi_istore_3 dX3_moveSegment_119 hm (by decide) rfl ?_
                  have lp120 : ∀ (n : Nat) (x3 : Int) (τ120 : TS), (eqx [0, 3, 4, 5, 18, 22] σ τ120) → (0 ≤ x3 ∧ x3 ≤ 19) → (∀ i : Int, τ120 0 i = if 67 + 19 * t ≤ i ∧ i < 67 + 19 * t + x3 then a (i - 19 * t + 19 * g) else if 67 + 19 * t + 19 ≤ i ∧ i < 67 + 19 * a 66 then clF a g (i - 19) else clF a g i) → (∀ i : Int, 0 ≤ i → i < 19 → τ120 22 i = a (67 + 19 * g + i)) → (HsT τ120 (rmF hst a)) → (τ120 5 0 = 0) → (19 - x3).toNat < n → GV RX3 cX3_moveSegment Z (zA Z) (zs Z).heap (twW (zE Z) o ad τ120) 0 0 120 [some (.ref o), some (jI g), some (jI t), some (jI x3)] [] := by
                    intro n
                    induction n with
                    | zero => intro x3 τ120 y120 i120_0 i120_1 i120_2 i120_3 i120_4 m120; exact absurd m120 (Nat.not_lt_zero _)
                    | succ n ih120 =>
                      intro x3 τ120 y120 i120_0 i120_1 i120_2 i120_3 i120_4 m120
                      refine zi_iload_n dX3_moveSegment_120 rfl ?_
                      refine zi_bipush dX3_moveSegment_121 (by decide +kernel) ?_
                      refine zi_icmp_ge 152 dX3_moveSegment_123 (by decide) (by omega) (fun c123 => ?_) (fun c123 => ?_)
                      · refine zi_aload_n dX3_moveSegment_152 rfl ?_
                        refine zt_g0 q2431 dX3_moveSegment_153 ?_
                        refine zi_bipush dX3_moveSegment_156 (by decide +kernel) ?_
                        refine zi_dup2 dX3_moveSegment_158 rfl rfl ?_
                        refine zt_ld0 dX3_moveSegment_159 (rfl) (by omega) ?_
                        refine zi_lconst (m := 1) dX3_moveSegment_160 (by decide +kernel) ?_
                        refine zi_ladd dX3_moveSegment_161 ?_
                        refine zt_st0 dX3_moveSegment_162 (by omega) (fun τ162_9 eτ162_9 => ?_)
                        have gτ162_9 := up_get eτ162_9
                        have k4τ162_9 := up_keep 4 eτ162_9 (by decide)
                        have k5τ162_9 := up_keep 5 eτ162_9 (by decide)
                        have xτ162_9 : eqx [0, 3, 4, 5, 18, 22] σ τ162_9 := by rw [eτ162_9]; exact eqx_up y120 (by decide)
                        have q7 : mvF a g t 66 = a 66 := if_pos rfl
                        have q3 : HsT τ162_9 (rmF hst a) := ⟨by rw [k4τ162_9]; exact i120_3.1, i120_3.2.1, fun e r hr i i0 i1 => by rw [up_k eτ162_9 (by decide)]; exact i120_3.2.2 e r hr i i0 i1⟩
                        have q4 : τ162_9 0 = mvF a g t := by
                          funext i
                          rw [eτ162_9, up_s]
                          unfold zup mvF
                          by_cases q : i = 66
                          · rw [if_pos q, if_pos q, i120_1, if_neg (by omega), if_neg (by omega), clF_n]; omega
                          · rw [if_neg q, if_neg q, i120_1, show x3 = 19 by omega]
                        refine zi_aload_n dX3_moveSegment_163 rfl ?_
                        refine zi_iload_n dX3_moveSegment_164 rfl ?_
                        refine zt_Vi1 mw_X3_matchOf rfl (tc_matchOf (zl Z) (zE Z) _ _ _ _ (q4) _ ((mvF_ok hok c6.1 c6.2 c14.1 c14.2)) (by omega) (by omega)) q2774 hR (by decide) (by simp [Value.category]) dX3_moveSegment_165 (fun τ165_10 v165 wτ165_10 => ?_)
                        obtain ⟨qτ165_10, h165⟩ := wτ165_10
                        have k4τ165_10 := eq_keep 4 qτ165_10 (by decide)
                        have k5τ165_10 := eq_keep 5 qτ165_10 (by decide)
                        have xτ165_10 : eqx [0, 3, 4, 5, 18, 22] σ τ165_10 := eqx_tr xτ162_9 (eqx_mono qτ165_10 (by decide))
                        have haτ165_10 := (qτ165_10 0 (by decide)).trans q4
                        have q5 := HsT_q qτ165_10 q3 (by decide) (by decide)
                        have q6 := (qτ165_10 0 (by decide)).trans q4
                        exact zi_ireturn hrt dX3_moveSegment_168 (hret _ _ ⟨xτ165_10, ⟨fun _ => ⟨by omega, h165.1, q6, q5⟩, fun p => absurd ⟨c6, c14⟩ p⟩⟩)
                      · refine zi_aload_n dX3_moveSegment_126 rfl ?_
                        refine zt_g0 q2431 dX3_moveSegment_127 ?_
                        refine zi_bipush dX3_moveSegment_130 (by decide +kernel) ?_
                        refine zi_bipush dX3_moveSegment_132 (by decide +kernel) ?_
                        refine zi_iload_n dX3_moveSegment_134 rfl ?_
                        refine zi_imul dX3_moveSegment_135 ?_
                        refine zi_iadd dX3_moveSegment_136 ?_
                        refine zi_iload_n dX3_moveSegment_137 rfl ?_
                        refine zi_iadd dX3_moveSegment_138 ?_
                        refine zi_aload_n dX3_moveSegment_139 rfl ?_
                        refine zt_g22 q2453 dX3_moveSegment_140 ?_
                        refine zi_iload_n dX3_moveSegment_143 rfl ?_
                        refine zt_ld22 dX3_moveSegment_144 (rfl) (by omega) ?_
                        refine zt_st0 dX3_moveSegment_145 (by omega) (fun τ145_11 eτ145_11 => ?_)
                        have gτ145_11 := up_get eτ145_11
                        have k4τ145_11 := up_keep 4 eτ145_11 (by decide)
                        have k5τ145_11 := up_keep 5 eτ145_11 (by decide)
                        have xτ145_11 : eqx [0, 3, 4, 5, 18, 22] σ τ145_11 := by rw [eτ145_11]; exact eqx_up y120 (by decide)
                        refine zi_iinc_3 dX3_moveSegment_146 hm (by decide) rfl ?_
                        refine zi_goto 120 dX3_moveSegment_149 (by decide) ?_
                        refine ih120 _ _ xτ145_11 (by omega) ?_ (fun i i0 i1 => by rw [up_k eτ145_11 (by decide)]; exact i120_2 i i0 i1) (⟨by rw [k4τ145_11]; exact i120_3.1, i120_3.2.1, fun e r hr i i0 i1 => by rw [up_k eτ145_11 (by decide)]; exact i120_3.2.2 e r hr i i0 i1⟩) (by omega) (by omega)
                        · intro i
                          rw [eτ145_11, up_s]
                          unfold zup
                          by_cases q : i = 67 + 19 * t + x3
                          · rw [if_pos q, if_pos (by omega), i120_2 _ (by omega) (by omega)]; exact congrArg a (by omega)
                          · rw [if_neg q, i120_1]; (repeat' split) <;> first | rfl | omega
                  refine lp120 _ _ _ y86 (by omega) ?_ (i86_2) (i86_3) (by omega) (Nat.lt_succ_self _)
                  · intro i
                    rw [i86_1]
                    (repeat' split) <;> first | rfl | omega
                · refine zi_aload_n dX3_moveSegment_97 rfl ?_
                  refine zt_g0 q2431 dX3_moveSegment_98 ?_
                  refine zi_iload_n dX3_moveSegment_101 rfl ?_
                  refine zi_bipush dX3_moveSegment_102 (by decide +kernel) ?_
                  refine zi_iadd dX3_moveSegment_104 ?_
                  refine zi_aload_n dX3_moveSegment_105 rfl ?_
                  refine zt_g0 q2431 dX3_moveSegment_106 ?_
                  refine zi_iload_n dX3_moveSegment_109 rfl ?_
                  refine zt_ld0 dX3_moveSegment_110 (rfl) (by omega) ?_
                  refine zt_st0 dX3_moveSegment_111 (by omega) (fun τ111_12 eτ111_12 => ?_)
                  have gτ111_12 := up_get eτ111_12
                  have k4τ111_12 := up_keep 4 eτ111_12 (by decide)
                  have k5τ111_12 := up_keep 5 eτ111_12 (by decide)
                  have xτ111_12 : eqx [0, 3, 4, 5, 18, 22] σ τ111_12 := by rw [eτ111_12]; exact eqx_up y86 (by decide)
                  refine zi_iinc_3 dX3_moveSegment_112 hm (by decide) rfl ?_
                  refine zi_goto 86 dX3_moveSegment_115 (by decide) ?_
                  refine ih86 _ _ xτ111_12 (by omega) ?_ (fun i i0 i1 => by rw [up_k eτ111_12 (by decide)]; exact i86_2 i i0 i1) (⟨by rw [k4τ111_12]; exact i86_3.1, i86_3.2.1, fun e r hr i i0 i1 => by rw [up_k eτ111_12 (by decide)]; exact i86_3.2.2 e r hr i i0 i1⟩) (by omega) (by omega)
                  · intro i
                    rw [eτ111_12, up_s]
                    unfold zup
                    by_cases q : i = x3 + 19
                    · rw [if_pos q, if_pos (by omega), i86_1, if_neg (by omega)]; exact congrArg (clF a g) (by omega)
                    · rw [if_neg q, i86_1]; split <;> first | (rw [if_pos (by omega)]) | (rw [if_neg (by omega)])
            exact lp86 _ _ _ xτ70_8 (by omega) (by intro i; rw [if_neg (by omega), h70]) (fun i i0 i1 => by rw [qτ70_8 22 (by decide)]; exact i36_1 i i0 (by omega)) (HsT_q qτ70_8 i36_3 (by decide) (by decide)) (by omega) (Nat.lt_succ_self _)
          · refine zi_aload_n dX3_moveSegment_42 rfl ?_
            refine zt_g22 q2453 dX3_moveSegment_43 ?_
            refine zi_iload_n dX3_moveSegment_46 rfl ?_
            refine zi_aload_n dX3_moveSegment_47 rfl ?_
            refine zt_g0 q2431 dX3_moveSegment_48 ?_
            refine zi_bipush dX3_moveSegment_51 (by decide +kernel) ?_
            refine zi_bipush dX3_moveSegment_53 (by decide +kernel) ?_
            refine zi_iload_n dX3_moveSegment_55 rfl ?_
            refine zi_imul dX3_moveSegment_56 ?_
            refine zi_iadd dX3_moveSegment_57 ?_
            refine zi_iload_n dX3_moveSegment_58 rfl ?_
            refine zi_iadd dX3_moveSegment_59 ?_
            refine zt_ld0 dX3_moveSegment_60 (i36_2) (by omega) ?_
            refine zt_st22 dX3_moveSegment_61 (by omega) (fun τ61_13 eτ61_13 => ?_)
            have gτ61_13 := up_get eτ61_13
            have k4τ61_13 := up_keep 4 eτ61_13 (by decide)
            have k5τ61_13 := up_keep 5 eτ61_13 (by decide)
            have xτ61_13 : eqx [0, 3, 4, 5, 18, 22] σ τ61_13 := by rw [eτ61_13]; exact eqx_up y36 (by decide)
            have haτ61_13 := (up_k eτ61_13 (by decide : 0 ≠ 22)).trans i36_2
            refine zi_iinc_3 dX3_moveSegment_62 hm (by decide) rfl ?_
            refine zi_goto 36 dX3_moveSegment_65 (by decide) ?_
            refine ih36 _ _ xτ61_13 (by omega) ?_ (haτ61_13) (⟨by rw [k4τ61_13]; exact i36_3.1, i36_3.2.1, fun e r hr i i0 i1 => by rw [up_k eτ61_13 (by decide)]; exact i36_3.2.2 e r hr i i0 i1⟩) (by omega) (by omega)
            · intro i i0 i1
              rw [eτ61_13, up_s]
              unfold zup
              by_cases q : i = x3
              · rw [if_pos q, q]
              · rw [if_neg q]; exact i36_1 i i0 (by omega)
      exact lp36 _ _ _ xτ31_7 (by omega) (fun i i0 i1 => by omega) (haτ31_7) (h31) (by omega) (Nat.lt_succ_self _)
theorem mw_X3_sets : MWV yX3_sets cX3_sets 4 (some Jvm.ClassFile.FieldType.int) 2 := ⟨q3037, qs111, q128, q3038, by decide, by decide +kernel, by decide +kernel, by decide +kernel⟩
set_option maxHeartbeats 4000000 in
theorem tc_sets (l : Launch) (E : ZE) (o : Nat) (ad : Nat → Nat) (σ : TS) (a : Int → Int) (ha : σ 0 = a) (x : Int) (u : Int) (hst : List (Int → Int)) (hh : HsT σ hst) (hx : 0 ≤ x ∧ x < 447) (ru : -2147483648 ≤ u ∧ u < 2147483648) : TCi l yX3_sets (ws_ yX3_sets cX3_sets 4 (some Jvm.ClassFile.FieldType.int)) 2 E o ad σ [.ref o, jI x, jI u] (fun τ v => eqx [0, 3, 4] σ τ ∧ (v = a x ∧ τ 0 = zup a x u ∧ HsT τ (rmF hst a))) := by
  refine tci_of (own := RX3) (cc := cX3_sets) (L := [some (.ref o), some (jI x), some (jI u), none]) (by decide) rfl rfl (Nat.le_of_ble_eq_true rfl) (fun Z hE hl hrt hR hm hret => ?_)
  subst hE
  have x0 : eqx [0, 3, 4] σ σ := eqx_rf
  refine zi_aload_n dX3_sets_0 rfl ?_
  refine zt_Vv0 mw_X3_remember rfl (tc_remember (zl Z) (zE Z) _ _ _ _ (ha)  (by omega) (by omega)) q2680 hR (by decide) (by simp [Value.category]) dX3_sets_1 (fun τ1_0 wτ1_0 => ?_)
  obtain ⟨qτ1_0, h1⟩ := wτ1_0
  have xτ1_0 : eqx [0, 3, 4] σ τ1_0 := eqx_tr x0 (eqx_mono qτ1_0 (by decide))
  have haτ1_0 := (qτ1_0 0 (by decide)).trans ha
  refine zi_aload_n dX3_sets_4 rfl ?_
  refine zt_g0 q2431 dX3_sets_5 ?_
  refine zi_iload_n dX3_sets_8 rfl ?_
  refine zt_ld0 dX3_sets_9 (haτ1_0) (by omega) ?_
  refine zi_l2i dX3_sets_10 ?_
  refine zi_istore_3 dX3_sets_11 hm (by decide) rfl ?_
  refine zi_aload_n dX3_sets_12 rfl ?_
  refine zt_g0 q2431 dX3_sets_13 ?_
  refine zi_iload_n dX3_sets_16 rfl ?_
  refine zi_iload_n dX3_sets_17 rfl ?_
  refine zi_i2l dX3_sets_18 (by omega) ?_
  refine zt_st0 dX3_sets_19 (by omega) (fun τ19_1 eτ19_1 => ?_)
  have gτ19_1 := up_get eτ19_1
  have k4τ19_1 := up_keep 4 eτ19_1 (by decide)
  have xτ19_1 : eqx [0, 3, 4] σ τ19_1 := by rw [eτ19_1]; exact eqx_up xτ1_0 (by decide)
  have q1 : HsT τ19_1 (rmF hst a) := ⟨by rw [k4τ19_1]; exact h1.1, h1.2.1, fun e r hr i i0 i1 => by rw [up_k eτ19_1 (by decide)]; exact h1.2.2 e r hr i i0 i1⟩
  have q2 : τ19_1 0 = zup a x u := by funext i; rw [eτ19_1, up_s, haτ1_0]
  refine zi_iload_n dX3_sets_20 rfl ?_
  exact zi_ireturn hrt dX3_sets_21 (hret _ _ ⟨xτ19_1, ⟨rfl, q2, q1⟩⟩)
theorem mw_X3_exchanges : MWV yX3_exchanges cX3_exchanges 5 none 2 := ⟨q3053, qs112, q128, q3054, by decide, by decide +kernel, by decide +kernel, by decide +kernel⟩
set_option maxHeartbeats 4000000 in
theorem tc_exchanges (l : Launch) (E : ZE) (o : Nat) (ad : Nat → Nat) (σ : TS) (a : Int → Int) (ha : σ 0 = a) (x : Int) (y : Int) (hx : 0 ≤ x ∧ x < 447) (hy : 0 ≤ y ∧ y < 447) : TCv l yX3_exchanges (ws_ yX3_exchanges cX3_exchanges 5 none) 1 E o ad σ [.ref o, jI x, jI y] (fun τ => eqx [0] σ τ ∧ (τ 0 = exR a x y)) := by
  refine tcv_of (own := RX3) (cc := cX3_exchanges) (L := [some (.ref o), some (jI x), some (jI y), none, none]) (by decide) rfl rfl (Nat.le_of_ble_eq_true rfl) (fun Z hE hl hrt hR hm hret => ?_)
  subst hE
  have x0 : eqx [0] σ σ := eqx_rf
  refine zi_aload_n dX3_exchanges_0 rfl ?_
  refine zt_g0 q2431 dX3_exchanges_1 ?_
  refine zi_iload_n dX3_exchanges_4 rfl ?_
  refine zt_ld0 dX3_exchanges_5 (ha) (by omega) ?_
  refine zi_lstore_3 dX3_exchanges_6 hm (by decide) rfl ?_
  refine zi_aload_n dX3_exchanges_7 rfl ?_
  refine zt_g0 q2431 dX3_exchanges_8 ?_
  refine zi_iload_n dX3_exchanges_11 rfl ?_
  refine zi_aload_n dX3_exchanges_12 rfl ?_
  refine zt_g0 q2431 dX3_exchanges_13 ?_
  refine zi_iload_n dX3_exchanges_16 rfl ?_
  refine zt_ld0 dX3_exchanges_17 (ha) (by omega) ?_
  refine zt_st0 dX3_exchanges_18 (by omega) (fun τ18_0 eτ18_0 => ?_)
  have gτ18_0 := up_get eτ18_0
  have xτ18_0 : eqx [0] σ τ18_0 := by rw [eτ18_0]; exact eqx_up x0 (by decide)
  refine zi_aload_n dX3_exchanges_19 rfl ?_
  refine zt_g0 q2431 dX3_exchanges_20 ?_
  refine zi_iload_n dX3_exchanges_23 rfl ?_
  refine zi_lload_n dX3_exchanges_24 rfl ?_
  refine zt_st0 dX3_exchanges_25 (by omega) (fun τ25_1 eτ25_1 => ?_)
  have gτ25_1 := up_get eτ25_1
  have xτ25_1 : eqx [0] σ τ25_1 := by rw [eτ25_1]; exact eqx_up xτ18_0 (by decide)
  exact zi_return hrt dX3_exchanges_26 (hret _ ⟨xτ25_1, by funext i; rw [eτ25_1, up_s]; unfold zup exR; rw [eτ18_0, up_s, ha]; rfl⟩)
theorem mw_X3_swapTargets : MWV yX3_swapTargets cX3_swapTargets 6 (some Jvm.ClassFile.FieldType.int) 2 := ⟨q3048, q3049, q128, q3050, by decide, by decide +kernel, by decide +kernel, by decide +kernel⟩
set_option maxHeartbeats 4000000 in
theorem tc_swapTargets (l : Launch) (E : ZE) (o : Nat) (ad : Nat → Nat) (σ : TS) (a : Int → Int) (ha : σ 0 = a) (g : Int) (h : Int) (hok : OkA a) (hst : List (Int → Int)) (hh : HsT σ hst) (rg : -2147483648 ≤ g ∧ g < 2147483648) (rh : -2147483648 ≤ h ∧ h < 2147483648) : TCi l yX3_swapTargets (ws_ yX3_swapTargets cX3_swapTargets 6 (some Jvm.ClassFile.FieldType.int)) 9 E o ad σ [.ref o, jI g, jI h] (fun τ v => eqx [0, 3, 4, 5, 18, 20, 21] σ τ ∧ (((0 ≤ g ∧ g < a 66) ∧ (0 ≤ h ∧ h < a 66) → τ 5 0 = 0 ∧ v = ((fdF (swX a g h 16)).length : Int) ∧ τ 0 = swX a g h 16 ∧ HsT τ (rmF hst a)) ∧ (¬ ((0 ≤ g ∧ g < a 66) ∧ (0 ≤ h ∧ h < a 66)) → τ 5 0 = 1 ∧ τ 0 = a ∧ HsT τ hst))) := by
  refine tci_of (own := RX3) (cc := cX3_swapTargets) (L := [some (.ref o), some (jI g), some (jI h), none, none, none]) (by decide) rfl rfl (Nat.le_of_ble_eq_true rfl) (fun Z hE hl hrt hR hm hret => ?_)
  subst hE
  have x0 : eqx [0, 3, 4, 5, 18, 20, 21] σ σ := eqx_rf
  have hc := hok.cnt
  refine zi_aload_n dX3_swapTargets_0 rfl ?_
  refine zi_aload_n dX3_swapTargets_1 rfl ?_
  refine zi_iload_n dX3_swapTargets_2 rfl ?_
  refine zt_PVi1 mw_X3_isSegment rfl (tc_isSegment (zl Z) (zE Z) _ _ _ _ (ha) _ (hok) (by omega)) q2826 hR (by decide) (by simp [Value.category]) dX3_swapTargets_3 (fun v3 h3 => ?_)
  subst h3
  refine zi_if_eqB 21 dX3_swapTargets_6 (by decide) (fun c6 => ?_) (fun c6 => ?_)
  · refine zi_iconst dX3_swapTargets_21 ?_
    refine zt_Vi1 mw_X3_good rfl (tc_good_f (zl Z) (zE Z) _ _ _ ) q2531 hR (by decide) (by simp [Value.category]) dX3_swapTargets_22 (fun τ22_0 v22 wτ22_0 => ?_)
    obtain ⟨qτ22_0, h22⟩ := wτ22_0
    obtain ⟨eh22, h22⟩ := h22
    subst eh22
    have xτ22_0 : eqx [0, 3, 4, 5, 18, 20, 21] σ τ22_0 := eqx_tr x0 (eqx_mono qτ22_0 (by decide))
    have haτ22_0 := (qτ22_0 0 (by decide)).trans ha
    refine zi_if_ne 30 dX3_swapTargets_25 (by decide) (by decide) (fun h => absurd h (by decide)) (fun _ => ?_)
    refine zi_iconst dX3_swapTargets_28 ?_
    exact zi_ireturn hrt dX3_swapTargets_29 (hret _ _ ⟨xτ22_0, ⟨fun p => absurd p (by omega), fun _ => ⟨by omega, haτ22_0, HsT_q qτ22_0 hh (by decide) (by decide)⟩⟩⟩)
  · refine zi_aload_n dX3_swapTargets_9 rfl ?_
    refine zi_iload_n dX3_swapTargets_10 rfl ?_
    refine zt_PVi1 mw_X3_isSegment rfl (tc_isSegment (zl Z) (zE Z) _ _ _ _ (ha) _ (hok) (by omega)) q2826 hR (by decide) (by simp [Value.category]) dX3_swapTargets_11 (fun v11 h11 => ?_)
    subst h11
    refine zi_if_eqB 21 dX3_swapTargets_14 (by decide) (fun c14 => ?_) (fun c14 => ?_)
    · refine zi_iconst dX3_swapTargets_21 ?_
      refine zt_Vi1 mw_X3_good rfl (tc_good_f (zl Z) (zE Z) _ _ _ ) q2531 hR (by decide) (by simp [Value.category]) dX3_swapTargets_22 (fun τ22_2 v22_1 wτ22_2 => ?_)
      obtain ⟨qτ22_2, h22_1⟩ := wτ22_2
      obtain ⟨eh22_1, h22_1⟩ := h22_1
      subst eh22_1
      have xτ22_2 : eqx [0, 3, 4, 5, 18, 20, 21] σ τ22_2 := eqx_tr x0 (eqx_mono qτ22_2 (by decide))
      have haτ22_2 := (qτ22_2 0 (by decide)).trans ha
      refine zi_if_ne 30 dX3_swapTargets_25 (by decide) (by decide) (fun h => absurd h (by decide)) (fun _ => ?_)
      refine zi_iconst dX3_swapTargets_28 ?_
      exact zi_ireturn hrt dX3_swapTargets_29 (hret _ _ ⟨xτ22_2, ⟨fun p => absurd p (by omega), fun _ => ⟨by omega, haτ22_2, HsT_q qτ22_2 hh (by decide) (by decide)⟩⟩⟩)
    · refine zi_iconst dX3_swapTargets_17 ?_
      refine zi_goto 22 dX3_swapTargets_18 (by decide) ?_
      refine zt_Vi1 mw_X3_good rfl (tc_good_t (zl Z) (zE Z) _ _ _ ) q2531 hR (by decide) (by simp [Value.category]) dX3_swapTargets_22 (fun τ22_5 v22_4 wτ22_5 => ?_)
      obtain ⟨qτ22_5, h22_4⟩ := wτ22_5
      obtain ⟨eh22_4, h22_4⟩ := h22_4
      subst eh22_4
      have xτ22_5 : eqx [0, 3, 4, 5, 18, 20, 21] σ τ22_5 := eqx_tr x0 (eqx_mono qτ22_5 (by decide))
      have haτ22_5 := (qτ22_5 0 (by decide)).trans ha
      refine zi_if_ne 30 dX3_swapTargets_25 (by decide) (by decide) (fun _ => ?_) (fun h => absurd h (by decide))
      refine zi_aload_n dX3_swapTargets_30 rfl ?_
      refine zt_Vv0 mw_X3_remember rfl (tc_remember (zl Z) (zE Z) _ _ _ _ (haτ22_5)  (_) (HsT_q qτ22_5 hh (by decide) (by decide))) q2680 hR (by decide) (by simp [Value.category]) dX3_swapTargets_31 (fun τ31_7 wτ31_7 => ?_)
      obtain ⟨qτ31_7, h31⟩ := wτ31_7
      have k5τ31_7 := eq_keep 5 qτ31_7 (by decide)
      have xτ31_7 : eqx [0, 3, 4, 5, 18, 20, 21] σ τ31_7 := eqx_tr xτ22_5 (eqx_mono qτ31_7 (by decide))
      have haτ31_7 := (qτ31_7 0 (by decide)).trans haτ22_5
      refine zi_bipush dX3_swapTargets_34 (by decide +kernel) ?_
      refine zi_bipush dX3_swapTargets_36 (by decide +kernel) ?_
      refine zi_iload_n dX3_swapTargets_38 rfl ?_
      refine zi_imul dX3_swapTargets_39 ?_
      refine zi_iadd dX3_swapTargets_40 ?_
      refine zi_istore_3 dX3_swapTargets_41 hm (by decide) rfl ?_
      refine zi_bipush dX3_swapTargets_42 (by decide +kernel) ?_
      refine zi_bipush dX3_swapTargets_44 (by decide +kernel) ?_
      refine zi_iload_n dX3_swapTargets_46 rfl ?_
      refine zi_imul dX3_swapTargets_47 ?_
      refine zi_iadd dX3_swapTargets_48 ?_
      refine zi_istore_4 dX3_swapTargets_49 hm (by decide) rfl ?_
      refine zi_aload_n dX3_swapTargets_51 rfl ?_
      refine zi_iload_n dX3_swapTargets_52 rfl ?_
      refine zi_iconst dX3_swapTargets_53 ?_
      refine zi_iadd dX3_swapTargets_54 ?_
      refine zi_iload dX3_swapTargets_55 rfl ?_
      refine zi_iconst dX3_swapTargets_57 ?_
      refine zi_iadd dX3_swapTargets_58 ?_
      refine zt_Vv2 mw_X3_exchanges rfl (tc_exchanges (zl Z) (zE Z) _ _ _ _ (haτ31_7) _ _ (by omega) (by omega)) q3051 hR (by decide) (by simp [Value.category]) dX3_swapTargets_59 (fun τ59_8 wτ59_8 => ?_)
      obtain ⟨qτ59_8, h59⟩ := wτ59_8
      have k5τ59_8 := eq_keep 5 qτ59_8 (by decide)
      have xτ59_8 : eqx [0, 3, 4, 5, 18, 20, 21] σ τ59_8 := eqx_tr xτ31_7 (eqx_mono qτ59_8 (by decide))
      refine zi_bipush dX3_swapTargets_62 (by decide +kernel) ?_
      refine zi_istore_5 dX3_swapTargets_64 hm (by decide) rfl ?_
      have lp66 : ∀ (n : Nat) (x5 : Int) (τ66 : TS), (eqx [0, 3, 4, 5, 18, 20, 21] σ τ66) → (8 ≤ x5 ∧ x5 ≤ 16) → (τ66 0 = swX a g h x5) → (HsT τ66 (rmF hst a)) → (τ66 5 0 = 0) → (16 - x5).toNat < n → GV RX3 cX3_swapTargets Z (zA Z) (zs Z).heap (twW (zE Z) o ad τ66) 0 0 66 [some (.ref o), some (jI g), some (jI h), some (jI (67 + 19 * g)), some (jI (67 + 19 * h)), some (jI x5)] [] := by
        intro n
        induction n with
        | zero => intro x5 τ66 y66 i66_0 i66_1 i66_2 i66_3 m66; exact absurd m66 (Nat.not_lt_zero _)
        | succ n ih66 =>
          intro x5 τ66 y66 i66_0 i66_1 i66_2 i66_3 m66
          refine zi_iload dX3_swapTargets_66 rfl ?_
          refine zi_bipush dX3_swapTargets_68 (by decide +kernel) ?_
          refine zi_icmp_ge 96 dX3_swapTargets_70 (by decide) (by omega) (fun c70 => ?_) (fun c70 => ?_)
          · refine zi_aload_n dX3_swapTargets_96 rfl ?_
            have q4 : τ66 0 = swX a g h 16 := by rw [i66_1, show x5 = 16 by omega]
            refine zt_Vv0 mw_X3_layFindings rfl (tc_layFindings (zl Z) (zE Z) _ _ _ _ (q4)  ((swX_ok hok c6.1 c6.2 c14.1 c14.2))) q2704 hR (by decide) (by simp [Value.category]) dX3_swapTargets_97 (fun τ97_9 wτ97_9 => ?_)
            obtain ⟨qτ97_9, h97⟩ := wτ97_9
            have k5τ97_9 := eq_keep 5 qτ97_9 (by decide)
            have xτ97_9 : eqx [0, 3, 4, 5, 18, 20, 21] σ τ97_9 := eqx_tr y66 (eqx_mono qτ97_9 (by decide))
            have haτ97_9 := (qτ97_9 0 (by decide)).trans q4
            have q5 := HsT_q qτ97_9 i66_2 (by decide) (by decide)
            have q6 := (qτ97_9 0 (by decide)).trans q4
            refine zi_aload_n dX3_swapTargets_100 rfl ?_
            refine zt_g21 q2452 dX3_swapTargets_101 (h97.1) ?_
            exact zi_ireturn hrt dX3_swapTargets_104 (hret _ _ ⟨xτ97_9, ⟨fun _ => ⟨by omega, rfl, q6, q5⟩, fun p => absurd ⟨c6, c14⟩ p⟩⟩)
          · refine zi_aload_n dX3_swapTargets_73 rfl ?_
            refine zi_iload_n dX3_swapTargets_74 rfl ?_
            refine zi_iconst dX3_swapTargets_75 ?_
            refine zi_iadd dX3_swapTargets_76 ?_
            refine zi_iload dX3_swapTargets_77 rfl ?_
            refine zi_iadd dX3_swapTargets_79 ?_
            refine zi_iload dX3_swapTargets_80 rfl ?_
            refine zi_iconst dX3_swapTargets_82 ?_
            refine zi_iadd dX3_swapTargets_83 ?_
            refine zi_iload dX3_swapTargets_84 rfl ?_
            refine zi_iadd dX3_swapTargets_86 ?_
            refine zt_Vv2 mw_X3_exchanges rfl (tc_exchanges (zl Z) (zE Z) _ _ _ _ (i66_1) _ _ (by omega) (by omega)) q3051 hR (by decide) (by simp [Value.category]) dX3_swapTargets_87 (fun τ87_10 wτ87_10 => ?_)
            obtain ⟨qτ87_10, h87⟩ := wτ87_10
            have k5τ87_10 := eq_keep 5 qτ87_10 (by decide)
            have xτ87_10 : eqx [0, 3, 4, 5, 18, 20, 21] σ τ87_10 := eqx_tr y66 (eqx_mono qτ87_10 (by decide))
            refine zi_iinc_5 dX3_swapTargets_90 hm (by decide) rfl ?_
            refine zi_goto 66 dX3_swapTargets_93 (by decide) ?_
            exact ih66 _ _ xτ87_10 (by omega) (by rw [← swX_s (by omega) (by omega)]; exact h87) (HsT_q qτ87_10 i66_2 (by decide) (by decide)) (by omega) (by omega)
      exact lp66 _ _ _ xτ59_8 (by omega) (by rw [← swX_0]; exact h59) (HsT_q qτ59_8 h31 (by decide) (by decide)) (by omega) (Nat.lt_succ_self _)
theorem mw_X3_setFollowed : MWV yX3_setFollowed cX3_setFollowed 3 (some Jvm.ClassFile.FieldType.int) 2 := ⟨q3032, q3033, q128, q3034, by decide, by decide +kernel, by decide +kernel, by decide +kernel⟩
set_option maxHeartbeats 4000000 in
theorem tc_setFollowed (l : Launch) (E : ZE) (o : Nat) (ad : Nat → Nat) (σ : TS) (a : Int → Int) (ha : σ 0 = a) (j : Int) (u : Int) (hok : OkA a) (hst : List (Int → Int)) (hh : HsT σ hst) (rj : -2147483648 ≤ j ∧ j < 2147483648) (ru : -2147483648 ≤ u ∧ u < 2147483648) : TCi l yX3_setFollowed (ws_ yX3_setFollowed cX3_setFollowed 3 (some Jvm.ClassFile.FieldType.int)) 3 E o ad σ [.ref o, jI j, jI u] (fun τ v => eqx [0, 3, 4, 5] σ τ ∧ ((0 ≤ j ∧ j < a 45 → 0 ≤ u ∧ u ≤ a 20 → τ 5 0 = 0 ∧ v = jOf a j 3 ∧ τ 0 = zup a (46 + 4 * j + 3) u ∧ HsT τ (rmF hst a)) ∧ (¬ ((0 ≤ j ∧ j < a 45) ∧ (0 ≤ u ∧ u ≤ a 20)) → τ 0 = a ∧ HsT τ hst) ∧ (¬ (0 ≤ j ∧ j < a 45) → τ 5 0 = 1) ∧ (0 ≤ j ∧ j < a 45 → ¬ (0 ≤ u ∧ u ≤ a 20) → τ 5 0 = 2))) := by
  refine tci_of (own := RX3) (cc := cX3_setFollowed) (L := [some (.ref o), some (jI j), some (jI u)]) (by decide) rfl rfl (Nat.le_of_ble_eq_true rfl) (fun Z hE hl hrt hR hm hret => ?_)
  subst hE
  have x0 : eqx [0, 3, 4, 5] σ σ := eqx_rf
  have hc := hok.cnt
  refine zi_aload_n dX3_setFollowed_0 rfl ?_
  refine zi_aload_n dX3_setFollowed_1 rfl ?_
  refine zi_iload_n dX3_setFollowed_2 rfl ?_
  refine zt_PVi1 mw_X3_isJob rfl (tc_isJob (zl Z) (zE Z) _ _ _ _ (ha) _ (hok) (by omega)) q2802 hR (by decide) (by simp [Value.category]) dX3_setFollowed_3 (fun v3 h3 => ?_)
  subst h3
  refine zi_iload_n dX3_setFollowed_6 rfl ?_
  refine zi_i2l dX3_setFollowed_7 (by omega) ?_
  refine zi_lconst (m := 0) dX3_setFollowed_8 (by decide +kernel) ?_
  refine zi_aload_n dX3_setFollowed_9 rfl ?_
  refine zt_g0 q2431 dX3_setFollowed_10 ?_
  refine zi_bipush dX3_setFollowed_13 (by decide +kernel) ?_
  refine zt_ld0 dX3_setFollowed_15 (ha) (by omega) ?_
  refine zt_PSi3 mw_X3_isIn (tc_isIn (zl Z) (zE Z) _ _ _ _ _ _ (by omega) (by omega) (by omega)) q2528 hR (by decide) (by simp [Value.category]) dX3_setFollowed_16 (fun v16 h16 => ?_)
  subst h16
  refine zt_Vi2 mw_X3_good_2 rfl (tc_good_2_bb (zl Z) (zE Z) _ _ _ _ _) q2806 hR (by decide) (by simp [Value.category]) dX3_setFollowed_19 (fun τ19_0 v19 wτ19_0 => ?_)
  obtain ⟨qτ19_0, h19⟩ := wτ19_0
  obtain ⟨eh19, h19⟩ := h19
  subst eh19
  have xτ19_0 : eqx [0, 3, 4, 5] σ τ19_0 := eqx_tr x0 (eqx_mono qτ19_0 (by decide))
  have haτ19_0 := (qτ19_0 0 (by decide)).trans ha
  refine zi_if_eqB 41 dX3_setFollowed_22 (by decide) (fun c22 => ?_) (fun c22 => ?_)
  · refine zi_iconst dX3_setFollowed_41 ?_
    exact zi_ireturn hrt dX3_setFollowed_42 (hret _ _ ⟨xτ19_0, by first | exact ⟨fun p q => ⟨by omega, h35.1, h35.2.1, h35.2.2⟩, fun p => absurd c22 p, fun p => absurd c22.1 p, fun p q => absurd c22.2 q⟩ | exact ⟨fun p q => absurd ⟨p, q⟩ c22, fun p => ⟨haτ19_0, HsT_q qτ19_0 hh (by decide) (by decide)⟩, h19.2.1, h19.2.2⟩⟩)
  · have tc22 := h19.1 c22.1 c22.2; clear h19
    refine zi_aload_n dX3_setFollowed_25 rfl ?_
    refine zi_bipush dX3_setFollowed_26 (by decide +kernel) ?_
    refine zi_iconst dX3_setFollowed_28 ?_
    refine zi_iload_n dX3_setFollowed_29 rfl ?_
    refine zi_imul dX3_setFollowed_30 ?_
    refine zi_iadd dX3_setFollowed_31 ?_
    refine zi_iconst dX3_setFollowed_32 ?_
    refine zi_iadd dX3_setFollowed_33 ?_
    refine zi_iload_n dX3_setFollowed_34 rfl ?_
    refine zt_Vi2 mw_X3_sets rfl (tc_sets (zl Z) (zE Z) _ _ _ _ (haτ19_0) _ _ (_) (HsT_q qτ19_0 hh (by decide) (by decide)) (by omega) (by omega)) q3035 hR (by decide) (by simp [Value.category]) dX3_setFollowed_35 (fun τ35_1 v35 wτ35_1 => ?_)
    obtain ⟨qτ35_1, h35⟩ := wτ35_1
    have k5τ35_1 := eq_keep 5 qτ35_1 (by decide)
    have xτ35_1 : eqx [0, 3, 4, 5] σ τ35_1 := eqx_tr xτ19_0 (eqx_mono qτ35_1 (by decide))
    refine zi_goto 42 dX3_setFollowed_38 (by decide) ?_
    exact zi_ireturn hrt dX3_setFollowed_42 (hret _ _ ⟨xτ35_1, by first | exact ⟨fun p q => ⟨by omega, h35.1, h35.2.1, h35.2.2⟩, fun p => absurd c22 p, fun p => absurd c22.1 p, fun p q => absurd c22.2 q⟩ | exact ⟨fun p q => absurd ⟨p, q⟩ c22, fun p => ⟨haτ35_1, HsT_q qτ35_1 hh (by decide) (by decide)⟩, h19.2.1, h19.2.2⟩⟩)
theorem mw_X3_setBand : MWV yX3_setBand cX3_setBand 3 (some Jvm.ClassFile.FieldType.int) 2 := ⟨q3040, q3041, q128, q3042, by decide, by decide +kernel, by decide +kernel, by decide +kernel⟩
set_option maxHeartbeats 4000000 in
theorem tc_setBand (l : Launch) (E : ZE) (o : Nat) (ad : Nat → Nat) (σ : TS) (a : Int → Int) (ha : σ 0 = a) (b : Int) (u : Int) (hok : OkA a) (hst : List (Int → Int)) (hh : HsT σ hst) (rb : -2147483648 ≤ b ∧ b < 2147483648) (ru : -2147483648 ≤ u ∧ u < 2147483648) : TCi l yX3_setBand (ws_ yX3_setBand cX3_setBand 3 (some Jvm.ClassFile.FieldType.int)) 3 E o ad σ [.ref o, jI b, jI u] (fun τ v => eqx [0, 3, 4, 5] σ τ ∧ ((0 ≤ b ∧ b ≤ 4 → 0 ≤ u ∧ u ≤ 100 → τ 5 0 = 0 ∧ v = a (4 + b) ∧ τ 0 = zup a (4 + b) u ∧ HsT τ (rmF hst a)) ∧ (¬ ((0 ≤ b ∧ b ≤ 4) ∧ (0 ≤ u ∧ u ≤ 100)) → τ 0 = a ∧ HsT τ hst) ∧ (¬ (0 ≤ b ∧ b ≤ 4) → τ 5 0 = 1) ∧ (0 ≤ b ∧ b ≤ 4 → ¬ (0 ≤ u ∧ u ≤ 100) → τ 5 0 = 2))) := by
  refine tci_of (own := RX3) (cc := cX3_setBand) (L := [some (.ref o), some (jI b), some (jI u)]) (by decide) rfl rfl (Nat.le_of_ble_eq_true rfl) (fun Z hE hl hrt hR hm hret => ?_)
  subst hE
  have x0 : eqx [0, 3, 4, 5] σ σ := eqx_rf
  have hc := hok.cnt
  refine zi_aload_n dX3_setBand_0 rfl ?_
  refine zi_iload_n dX3_setBand_1 rfl ?_
  refine zt_PSi1 mw_X3_isBand (tc_isBand (zl Z) (zE Z) _ _ _ _ (by omega)) q2787 hR (by decide) (by simp [Value.category]) dX3_setBand_2 (fun v2 h2 => ?_)
  subst h2
  refine zi_iload_n dX3_setBand_5 rfl ?_
  refine zi_i2l dX3_setBand_6 (by omega) ?_
  refine zi_lconst (m := 0) dX3_setBand_7 (by decide +kernel) ?_
  refine zi_ldc2 (m := 100) dX3_setBand_8 q2430 (by decide +kernel) ?_
  refine zt_PSi3 mw_X3_isIn (tc_isIn (zl Z) (zE Z) _ _ _ _ _ _ (by omega) (by omega) (by omega)) q2528 hR (by decide) (by simp [Value.category]) dX3_setBand_11 (fun v11 h11 => ?_)
  subst h11
  refine zt_Vi2 mw_X3_good_2 rfl (tc_good_2_bb (zl Z) (zE Z) _ _ _ _ _) q2806 hR (by decide) (by simp [Value.category]) dX3_setBand_14 (fun τ14_0 v14 wτ14_0 => ?_)
  obtain ⟨qτ14_0, h14⟩ := wτ14_0
  obtain ⟨eh14, h14⟩ := h14
  subst eh14
  have xτ14_0 : eqx [0, 3, 4, 5] σ τ14_0 := eqx_tr x0 (eqx_mono qτ14_0 (by decide))
  have haτ14_0 := (qτ14_0 0 (by decide)).trans ha
  refine zi_if_eqB 31 dX3_setBand_17 (by decide) (fun c17 => ?_) (fun c17 => ?_)
  · refine zi_iconst dX3_setBand_31 ?_
    exact zi_ireturn hrt dX3_setBand_32 (hret _ _ ⟨xτ14_0, by first | exact ⟨fun p q => ⟨by omega, h25.1, h25.2.1, h25.2.2⟩, fun p => absurd c17 p, fun p => absurd c17.1 p, fun p q => absurd c17.2 q⟩ | exact ⟨fun p q => absurd ⟨p, q⟩ c17, fun p => ⟨haτ14_0, HsT_q qτ14_0 hh (by decide) (by decide)⟩, h14.2.1, h14.2.2⟩⟩)
  · have tc17 := h14.1 c17.1 c17.2; clear h14
    refine zi_aload_n dX3_setBand_20 rfl ?_
    refine zi_iconst dX3_setBand_21 ?_
    refine zi_iload_n dX3_setBand_22 rfl ?_
    refine zi_iadd dX3_setBand_23 ?_
    refine zi_iload_n dX3_setBand_24 rfl ?_
    refine zt_Vi2 mw_X3_sets rfl (tc_sets (zl Z) (zE Z) _ _ _ _ (haτ14_0) _ _ (_) (HsT_q qτ14_0 hh (by decide) (by decide)) (by omega) (by omega)) q3035 hR (by decide) (by simp [Value.category]) dX3_setBand_25 (fun τ25_1 v25 wτ25_1 => ?_)
    obtain ⟨qτ25_1, h25⟩ := wτ25_1
    have k5τ25_1 := eq_keep 5 qτ25_1 (by decide)
    have xτ25_1 : eqx [0, 3, 4, 5] σ τ25_1 := eqx_tr xτ14_0 (eqx_mono qτ25_1 (by decide))
    refine zi_goto 32 dX3_setBand_28 (by decide) ?_
    exact zi_ireturn hrt dX3_setBand_32 (hret _ _ ⟨xτ25_1, by first | exact ⟨fun p q => ⟨by omega, h25.1, h25.2.1, h25.2.2⟩, fun p => absurd c17 p, fun p => absurd c17.1 p, fun p q => absurd c17.2 q⟩ | exact ⟨fun p q => absurd ⟨p, q⟩ c17, fun p => ⟨haτ25_1, HsT_q qτ25_1 hh (by decide) (by decide)⟩, h14.2.1, h14.2.2⟩⟩)
theorem mw_X3_setSetting : MWV yX3_setSetting cX3_setSetting 4 (some Jvm.ClassFile.FieldType.int) 2 := ⟨q3044, q3045, q128, q3046, by decide, by decide +kernel, by decide +kernel, by decide +kernel⟩
set_option maxHeartbeats 4000000 in
theorem tc_setSetting (l : Launch) (E : ZE) (o : Nat) (ad : Nat → Nat) (σ : TS) (a : Int → Int) (ha : σ 0 = a) (w : Int) (u : Int) (hok : OkA a) (hst : List (Int → Int)) (hh : HsT σ hst) (rw : -2147483648 ≤ w ∧ w < 2147483648) (ru : -2147483648 ≤ u ∧ u < 2147483648) : TCi l yX3_setSetting (ws_ yX3_setSetting cX3_setSetting 4 (some Jvm.ClassFile.FieldType.int)) 3 E o ad σ [.ref o, jI w, jI u] (fun τ v => eqx [0, 3, 4, 5] σ τ ∧ (((0 ≤ w ∧ w ≤ 3) ∧ ((if w = 1 then 1 else 0) ≤ u ∧ u ≤ (if w = 2 then 100 else 999)) → τ 5 0 = 0 ∧ v = a w ∧ τ 0 = zup a w u ∧ HsT τ (rmF hst a)) ∧ (¬ ((0 ≤ w ∧ w ≤ 3) ∧ ((if w = 1 then 1 else 0) ≤ u ∧ u ≤ (if w = 2 then 100 else 999))) → τ 5 0 = 1 ∧ τ 0 = a ∧ HsT τ hst))) := by
  refine tci_of (own := RX3) (cc := cX3_setSetting) (L := [some (.ref o), some (jI w), some (jI u), none]) (by decide) rfl rfl (Nat.le_of_ble_eq_true rfl) (fun Z hE hl hrt hR hm hret => ?_)
  subst hE
  have x0 : eqx [0, 3, 4, 5] σ σ := eqx_rf
  have hc := hok.cnt
  refine zi_iload_n dX3_setSetting_0 rfl ?_
  refine zi_i2l dX3_setSetting_1 (by omega) ?_
  refine zi_lconst (m := 0) dX3_setSetting_2 (by decide +kernel) ?_
  refine zi_ldc2 (m := 3) dX3_setSetting_3 q2782 (by decide +kernel) ?_
  refine zt_PSi3 mw_X3_isIn (tc_isIn (zl Z) (zE Z) _ _ _ _ _ _ (by omega) (by omega) (by omega)) q2528 hR (by decide) (by simp [Value.category]) dX3_setSetting_6 (fun v6 h6 => ?_)
  subst h6
  refine zi_if_eqB 34 dX3_setSetting_9 (by decide) (fun c9 => ?_) (fun c9 => ?_)
  · refine zi_iconst dX3_setSetting_34 ?_
    refine zi_istore_3 dX3_setSetting_35 hm (by decide) rfl ?_
    refine zi_aload_n dX3_setSetting_36 rfl ?_
    refine zi_iload_n dX3_setSetting_37 rfl ?_
    refine zt_Vi1 mw_X3_good rfl (tc_good_f (zl Z) (zE Z) _ _ _ ) q2531 hR (by decide) (by simp [Value.category]) dX3_setSetting_38 (fun τ38_0 v38 wτ38_0 => ?_)
    obtain ⟨qτ38_0, h38⟩ := wτ38_0
    obtain ⟨eh38, h38⟩ := h38
    subst eh38
    have xτ38_0 : eqx [0, 3, 4, 5] σ τ38_0 := eqx_tr x0 (eqx_mono qτ38_0 (by decide))
    have haτ38_0 := (qτ38_0 0 (by decide)).trans ha
    refine zi_if_eq 53 dX3_setSetting_41 (by decide) (by decide) (fun _ => ?_) (fun h => absurd h (by decide))
    refine zi_iconst dX3_setSetting_53 ?_
    exact zi_ireturn hrt dX3_setSetting_54 (hret _ _ ⟨xτ38_0, by first | exact ⟨fun p => ⟨by omega, h47.1, h47.2.1, h47.2.2⟩, fun p => absurd ⟨c9, by rw [← h15.1, ← h20.1]; exact c27⟩ p⟩ | exact ⟨fun p => absurd p (fun w9 => by first | exact c9 w9.1 | exact c27 (by rw [h15.1, h20.1]; exact w9.2)), fun _ => ⟨by omega, haτ38_0, HsT_q qτ38_0 hh (by decide) (by decide)⟩⟩⟩)
  · refine zi_iload_n dX3_setSetting_12 rfl ?_
    refine zi_i2l dX3_setSetting_13 (by omega) ?_
    refine zi_iload_n dX3_setSetting_14 rfl ?_
    refine zt_PSi1 mw_X3_lowest (tc_lowest (zl Z) (zE Z) _ _ _ _ (by omega)) q2666 hR (by decide) (by simp [Value.category]) dX3_setSetting_15 (fun v15 h15 => ?_)
    refine zi_i2l dX3_setSetting_18 (by omega) ?_
    refine zi_iload_n dX3_setSetting_19 rfl ?_
    refine zt_PSi1 mw_X3_highest (tc_highest (zl Z) (zE Z) _ _ _ _ (by omega)) q2669 hR (by decide) (by simp [Value.category]) dX3_setSetting_20 (fun v20 h20 => ?_)
    refine zi_i2l dX3_setSetting_23 (by omega) ?_
    refine zt_PSi3 mw_X3_isIn (tc_isIn (zl Z) (zE Z) _ _ _ _ _ _ (by omega) (by omega) (by omega)) q2528 hR (by decide) (by simp [Value.category]) dX3_setSetting_24 (fun v24 h24 => ?_)
    subst h24
    refine zi_if_eqB 34 dX3_setSetting_27 (by decide) (fun c27 => ?_) (fun c27 => ?_)
    · refine zi_iconst dX3_setSetting_34 ?_
      refine zi_istore_3 dX3_setSetting_35 hm (by decide) rfl ?_
      refine zi_aload_n dX3_setSetting_36 rfl ?_
      refine zi_iload_n dX3_setSetting_37 rfl ?_
      refine zt_Vi1 mw_X3_good rfl (tc_good_f (zl Z) (zE Z) _ _ _ ) q2531 hR (by decide) (by simp [Value.category]) dX3_setSetting_38 (fun τ38_2 v38_1 wτ38_2 => ?_)
      obtain ⟨qτ38_2, h38_1⟩ := wτ38_2
      obtain ⟨eh38_1, h38_1⟩ := h38_1
      subst eh38_1
      have xτ38_2 : eqx [0, 3, 4, 5] σ τ38_2 := eqx_tr x0 (eqx_mono qτ38_2 (by decide))
      have haτ38_2 := (qτ38_2 0 (by decide)).trans ha
      refine zi_if_eq 53 dX3_setSetting_41 (by decide) (by decide) (fun _ => ?_) (fun h => absurd h (by decide))
      refine zi_iconst dX3_setSetting_53 ?_
      exact zi_ireturn hrt dX3_setSetting_54 (hret _ _ ⟨xτ38_2, by first | exact ⟨fun p => ⟨by omega, h47.1, h47.2.1, h47.2.2⟩, fun p => absurd ⟨c9, by rw [← h15.1, ← h20.1]; exact c27⟩ p⟩ | exact ⟨fun p => absurd p (fun w9 => by first | exact c9 w9.1 | exact c27 (by rw [h15.1, h20.1]; exact w9.2)), fun _ => ⟨by omega, haτ38_2, HsT_q qτ38_2 hh (by decide) (by decide)⟩⟩⟩)
    · refine zi_iconst dX3_setSetting_30 ?_
      refine zi_goto 35 dX3_setSetting_31 (by decide) ?_
      refine zi_istore_3 dX3_setSetting_35 hm (by decide) rfl ?_
      refine zi_aload_n dX3_setSetting_36 rfl ?_
      refine zi_iload_n dX3_setSetting_37 rfl ?_
      refine zt_Vi1 mw_X3_good rfl (tc_good_t (zl Z) (zE Z) _ _ _ ) q2531 hR (by decide) (by simp [Value.category]) dX3_setSetting_38 (fun τ38_5 v38_4 wτ38_5 => ?_)
      obtain ⟨qτ38_5, h38_4⟩ := wτ38_5
      obtain ⟨eh38_4, h38_4⟩ := h38_4
      subst eh38_4
      have xτ38_5 : eqx [0, 3, 4, 5] σ τ38_5 := eqx_tr x0 (eqx_mono qτ38_5 (by decide))
      have haτ38_5 := (qτ38_5 0 (by decide)).trans ha
      refine zi_if_eq 53 dX3_setSetting_41 (by decide) (by decide) (fun h => absurd h (by decide)) (fun _ => ?_)
      refine zi_aload_n dX3_setSetting_44 rfl ?_
      refine zi_iload_n dX3_setSetting_45 rfl ?_
      refine zi_iload_n dX3_setSetting_46 rfl ?_
      refine zt_Vi2 mw_X3_sets rfl (tc_sets (zl Z) (zE Z) _ _ _ _ (haτ38_5) _ _ (_) (HsT_q qτ38_5 hh (by decide) (by decide)) (by omega) (by omega)) q3035 hR (by decide) (by simp [Value.category]) dX3_setSetting_47 (fun τ47_7 v47 wτ47_7 => ?_)
      obtain ⟨qτ47_7, h47⟩ := wτ47_7
      have k5τ47_7 := eq_keep 5 qτ47_7 (by decide)
      have xτ47_7 : eqx [0, 3, 4, 5] σ τ47_7 := eqx_tr xτ38_5 (eqx_mono qτ47_7 (by decide))
      refine zi_goto 54 dX3_setSetting_50 (by decide) ?_
      exact zi_ireturn hrt dX3_setSetting_54 (hret _ _ ⟨xτ47_7, by first | exact ⟨fun p => ⟨by omega, h47.1, h47.2.1, h47.2.2⟩, fun p => absurd ⟨c9, by rw [← h15.1, ← h20.1]; exact c27⟩ p⟩ | exact ⟨fun p => absurd p (fun w9 => by first | exact c9 w9.1 | exact c27 (by rw [h15.1, h20.1]; exact w9.2)), fun _ => ⟨by omega, haτ47_7, HsT_q qτ47_7 hh (by decide) (by decide)⟩⟩⟩)
theorem mw_X3_setJob : MWV yX3_setJob cX3_setJob 7 (some Jvm.ClassFile.FieldType.int) 4 := ⟨q3027, q3028, q128, q3029, by decide, by decide +kernel, by decide +kernel, by decide +kernel⟩
set_option maxHeartbeats 4000000 in
theorem tc_setJob (l : Launch) (E : ZE) (o : Nat) (ad : Nat → Nat) (σ : TS) (a : Int → Int) (ha : σ 0 = a) (j : Int) (t : Int) (r : Int) (h : Int) (hok : OkA a) (hst : List (Int → Int)) (hh : HsT σ hst) (rj : -2147483648 ≤ j ∧ j < 2147483648) (rt : -2147483648 ≤ t ∧ t < 2147483648) (rr : -2147483648 ≤ r ∧ r < 2147483648) (rh : -2147483648 ≤ h ∧ h < 2147483648) : TCi l yX3_setJob (ws_ yX3_setJob cX3_setJob 7 (some Jvm.ClassFile.FieldType.int)) 3 E o ad σ [.ref o, jI j, jI t, jI r, jI h] (fun τ v => eqx [0, 3, 4, 5] σ τ ∧ (((0 ≤ j ∧ j < a 45) ∧ (0 ≤ t ∧ t < a 9) ∧ (0 ≤ r ∧ r < a 9) → 1 ≤ h ∧ h ≤ 99 → ¬ t = r → τ 5 0 = 0 ∧ v = jOf a j 2 ∧ τ 0 = sjF a j t r h ∧ HsT τ (rmF hst a)) ∧ (¬ (((0 ≤ j ∧ j < a 45) ∧ (0 ≤ t ∧ t < a 9) ∧ (0 ≤ r ∧ r < a 9)) ∧ (1 ≤ h ∧ h ≤ 99) ∧ ¬ t = r) → τ 0 = a ∧ HsT τ hst) ∧ (¬ ((0 ≤ j ∧ j < a 45) ∧ (0 ≤ t ∧ t < a 9) ∧ (0 ≤ r ∧ r < a 9)) → τ 5 0 = 1) ∧ ((0 ≤ j ∧ j < a 45) ∧ (0 ≤ t ∧ t < a 9) ∧ (0 ≤ r ∧ r < a 9) → ¬ (1 ≤ h ∧ h ≤ 99) → τ 5 0 = 2) ∧ ((0 ≤ j ∧ j < a 45) ∧ (0 ≤ t ∧ t < a 9) ∧ (0 ≤ r ∧ r < a 9) → 1 ≤ h ∧ h ≤ 99 → ¬ ¬ t = r → τ 5 0 = 3))) := by
  refine tci_of (own := RX3) (cc := cX3_setJob) (L := [some (.ref o), some (jI j), some (jI t), some (jI r), some (jI h), none, none]) (by decide) rfl rfl (Nat.le_of_ble_eq_true rfl) (fun Z hE hl hrt hR hm hret => ?_)
  subst hE
  have x0 : eqx [0, 3, 4, 5] σ σ := eqx_rf
  have hc := hok.cnt
  refine zi_aload_n dX3_setJob_0 rfl ?_
  refine zi_iload_n dX3_setJob_1 rfl ?_
  refine zt_PVi1 mw_X3_isJob rfl (tc_isJob (zl Z) (zE Z) _ _ _ _ (ha) _ (hok) (by omega)) q2802 hR (by decide) (by simp [Value.category]) dX3_setJob_2 (fun v2 h2 => ?_)
  subst h2
  refine zi_if_eqB 28 dX3_setJob_5 (by decide) (fun c5 => ?_) (fun c5 => ?_)
  · refine zi_iconst dX3_setJob_28 ?_
    refine zi_istore_5 dX3_setJob_29 hm (by decide) rfl ?_
    refine zi_aload_n dX3_setJob_31 rfl ?_
    refine zi_iload dX3_setJob_32 rfl ?_
    refine zi_iload dX3_setJob_34 rfl ?_
    refine zi_i2l dX3_setJob_36 (by omega) ?_
    refine zi_lconst (m := 1) dX3_setJob_37 (by decide +kernel) ?_
    refine zi_ldc2 (m := 99) dX3_setJob_38 q3030 (by decide +kernel) ?_
    refine zt_PSi3 mw_X3_isIn (tc_isIn (zl Z) (zE Z) _ _ _ _ _ _ (by omega) (by omega) (by omega)) q2528 hR (by decide) (by simp [Value.category]) dX3_setJob_41 (fun v41 h41 => ?_)
    subst h41
    refine zi_iload_n dX3_setJob_44 rfl ?_
    refine zi_iload_n dX3_setJob_45 rfl ?_
    refine zi_icmp_eq 53 dX3_setJob_46 (by decide) (by omega) (fun c46 => ?_) (fun c46 => ?_)
    · refine zi_iconst dX3_setJob_53 ?_
      refine zt_Vi3 mw_X3_good_3 rfl (tc_good_3_fbf (zl Z) (zE Z) _ _ _ _) q2810 hR (by decide) (by simp [Value.category]) dX3_setJob_54 (fun τ54_0 v54 wτ54_0 => ?_)
      obtain ⟨qτ54_0, h54⟩ := wτ54_0
      obtain ⟨eh54, h54⟩ := h54
      subst eh54
      have k4τ54_0 := eq_keep 4 qτ54_0 (by decide)
      have xτ54_0 : eqx [0, 3, 4, 5] σ τ54_0 := eqx_tr x0 (eqx_mono qτ54_0 (by decide))
      have haτ54_0 := (qτ54_0 0 (by decide)).trans ha
      refine zi_if_ne 62 dX3_setJob_57 (by decide) (by decide) (fun h => absurd h (by decide)) (fun _ => ?_)
      refine zi_iconst dX3_setJob_60 ?_
      exact zi_ireturn hrt dX3_setJob_61 (hret _ _ ⟨xτ54_0, by first | exact ⟨fun p => absurd p (by omega), fun _ => ⟨haτ54_0, HsT_q qτ54_0 hh (by decide) (by decide)⟩, fun _ => by omega, fun p => absurd p (by omega), fun p => absurd p (by omega)⟩ | exact ⟨fun p q r9 => absurd q (by omega), fun _ => ⟨haτ54_0, HsT_q qτ54_0 hh (by decide) (by decide)⟩, fun p => absurd p (by omega), fun p q => by omega, fun p q => absurd q (by omega)⟩ | exact ⟨fun p q r9 => absurd r9 (by omega), fun _ => ⟨haτ54_0, HsT_q qτ54_0 hh (by decide) (by decide)⟩, fun p => absurd p (by omega), fun _ => h54.2, fun p q _ => h54.1 q⟩⟩)
    · refine zi_iconst dX3_setJob_49 ?_
      refine zi_goto 54 dX3_setJob_50 (by decide) ?_
      refine zt_Vi3 mw_X3_good_3 rfl (tc_good_3_fbt (zl Z) (zE Z) _ _ _ _) q2810 hR (by decide) (by simp [Value.category]) dX3_setJob_54 (fun τ54_2 v54_1 wτ54_2 => ?_)
      obtain ⟨qτ54_2, h54_1⟩ := wτ54_2
      obtain ⟨eh54_1, h54_1⟩ := h54_1
      subst eh54_1
      have k4τ54_2 := eq_keep 4 qτ54_2 (by decide)
      have xτ54_2 : eqx [0, 3, 4, 5] σ τ54_2 := eqx_tr x0 (eqx_mono qτ54_2 (by decide))
      have haτ54_2 := (qτ54_2 0 (by decide)).trans ha
      refine zi_if_ne 62 dX3_setJob_57 (by decide) (by decide) (fun h => absurd h (by decide)) (fun _ => ?_)
      refine zi_iconst dX3_setJob_60 ?_
      exact zi_ireturn hrt dX3_setJob_61 (hret _ _ ⟨xτ54_2, by first | exact ⟨fun p => absurd p (by omega), fun _ => ⟨haτ54_2, HsT_q qτ54_2 hh (by decide) (by decide)⟩, fun _ => by omega, fun p => absurd p (by omega), fun p => absurd p (by omega)⟩ | exact ⟨fun p q r9 => absurd q (by omega), fun _ => ⟨haτ54_2, HsT_q qτ54_2 hh (by decide) (by decide)⟩, fun p => absurd p (by omega), fun p q => by omega, fun p q => absurd q (by omega)⟩ | exact ⟨fun p q r9 => absurd r9 (by omega), fun _ => ⟨haτ54_2, HsT_q qτ54_2 hh (by decide) (by decide)⟩, fun p => absurd p (by omega), fun _ => h54_1.2, fun p q _ => h54_1.1 q⟩⟩)
  · refine zi_aload_n dX3_setJob_8 rfl ?_
    refine zi_iload_n dX3_setJob_9 rfl ?_
    refine zt_PVi1 mw_X3_isPerson rfl (tc_isPerson (zl Z) (zE Z) _ _ _ _ (ha) _ (hok) (by omega)) q2794 hR (by decide) (by simp [Value.category]) dX3_setJob_10 (fun v10 h10 => ?_)
    subst h10
    refine zi_if_eqB 28 dX3_setJob_13 (by decide) (fun c13 => ?_) (fun c13 => ?_)
    · refine zi_iconst dX3_setJob_28 ?_
      refine zi_istore_5 dX3_setJob_29 hm (by decide) rfl ?_
      refine zi_aload_n dX3_setJob_31 rfl ?_
      refine zi_iload dX3_setJob_32 rfl ?_
      refine zi_iload dX3_setJob_34 rfl ?_
      refine zi_i2l dX3_setJob_36 (by omega) ?_
      refine zi_lconst (m := 1) dX3_setJob_37 (by decide +kernel) ?_
      refine zi_ldc2 (m := 99) dX3_setJob_38 q3030 (by decide +kernel) ?_
      refine zt_PSi3 mw_X3_isIn (tc_isIn (zl Z) (zE Z) _ _ _ _ _ _ (by omega) (by omega) (by omega)) q2528 hR (by decide) (by simp [Value.category]) dX3_setJob_41 (fun v41_4 h41_4 => ?_)
      subst h41_4
      refine zi_iload_n dX3_setJob_44 rfl ?_
      refine zi_iload_n dX3_setJob_45 rfl ?_
      refine zi_icmp_eq 53 dX3_setJob_46 (by decide) (by omega) (fun c46_5 => ?_) (fun c46_5 => ?_)
      · refine zi_iconst dX3_setJob_53 ?_
        refine zt_Vi3 mw_X3_good_3 rfl (tc_good_3_fbf (zl Z) (zE Z) _ _ _ _) q2810 hR (by decide) (by simp [Value.category]) dX3_setJob_54 (fun τ54_7 v54_6 wτ54_7 => ?_)
        obtain ⟨qτ54_7, h54_6⟩ := wτ54_7
        obtain ⟨eh54_6, h54_6⟩ := h54_6
        subst eh54_6
        have k4τ54_7 := eq_keep 4 qτ54_7 (by decide)
        have xτ54_7 : eqx [0, 3, 4, 5] σ τ54_7 := eqx_tr x0 (eqx_mono qτ54_7 (by decide))
        have haτ54_7 := (qτ54_7 0 (by decide)).trans ha
        refine zi_if_ne 62 dX3_setJob_57 (by decide) (by decide) (fun h => absurd h (by decide)) (fun _ => ?_)
        refine zi_iconst dX3_setJob_60 ?_
        exact zi_ireturn hrt dX3_setJob_61 (hret _ _ ⟨xτ54_7, by first | exact ⟨fun p => absurd p (by omega), fun _ => ⟨haτ54_7, HsT_q qτ54_7 hh (by decide) (by decide)⟩, fun _ => by omega, fun p => absurd p (by omega), fun p => absurd p (by omega)⟩ | exact ⟨fun p q r9 => absurd q (by omega), fun _ => ⟨haτ54_7, HsT_q qτ54_7 hh (by decide) (by decide)⟩, fun p => absurd p (by omega), fun p q => by omega, fun p q => absurd q (by omega)⟩ | exact ⟨fun p q r9 => absurd r9 (by omega), fun _ => ⟨haτ54_7, HsT_q qτ54_7 hh (by decide) (by decide)⟩, fun p => absurd p (by omega), fun _ => h54_6.2, fun p q _ => h54_6.1 q⟩⟩)
      · refine zi_iconst dX3_setJob_49 ?_
        refine zi_goto 54 dX3_setJob_50 (by decide) ?_
        refine zt_Vi3 mw_X3_good_3 rfl (tc_good_3_fbt (zl Z) (zE Z) _ _ _ _) q2810 hR (by decide) (by simp [Value.category]) dX3_setJob_54 (fun τ54_10 v54_9 wτ54_10 => ?_)
        obtain ⟨qτ54_10, h54_9⟩ := wτ54_10
        obtain ⟨eh54_9, h54_9⟩ := h54_9
        subst eh54_9
        have k4τ54_10 := eq_keep 4 qτ54_10 (by decide)
        have xτ54_10 : eqx [0, 3, 4, 5] σ τ54_10 := eqx_tr x0 (eqx_mono qτ54_10 (by decide))
        have haτ54_10 := (qτ54_10 0 (by decide)).trans ha
        refine zi_if_ne 62 dX3_setJob_57 (by decide) (by decide) (fun h => absurd h (by decide)) (fun _ => ?_)
        refine zi_iconst dX3_setJob_60 ?_
        exact zi_ireturn hrt dX3_setJob_61 (hret _ _ ⟨xτ54_10, by first | exact ⟨fun p => absurd p (by omega), fun _ => ⟨haτ54_10, HsT_q qτ54_10 hh (by decide) (by decide)⟩, fun _ => by omega, fun p => absurd p (by omega), fun p => absurd p (by omega)⟩ | exact ⟨fun p q r9 => absurd q (by omega), fun _ => ⟨haτ54_10, HsT_q qτ54_10 hh (by decide) (by decide)⟩, fun p => absurd p (by omega), fun p q => by omega, fun p q => absurd q (by omega)⟩ | exact ⟨fun p q r9 => absurd r9 (by omega), fun _ => ⟨haτ54_10, HsT_q qτ54_10 hh (by decide) (by decide)⟩, fun p => absurd p (by omega), fun _ => h54_9.2, fun p q _ => h54_9.1 q⟩⟩)
    · refine zi_aload_n dX3_setJob_16 rfl ?_
      refine zi_iload_n dX3_setJob_17 rfl ?_
      refine zt_PVi1 mw_X3_isPerson rfl (tc_isPerson (zl Z) (zE Z) _ _ _ _ (ha) _ (hok) (by omega)) q2794 hR (by decide) (by simp [Value.category]) dX3_setJob_18 (fun v18 h18 => ?_)
      subst h18
      refine zi_if_eqB 28 dX3_setJob_21 (by decide) (fun c21 => ?_) (fun c21 => ?_)
      · refine zi_iconst dX3_setJob_28 ?_
        refine zi_istore_5 dX3_setJob_29 hm (by decide) rfl ?_
        refine zi_aload_n dX3_setJob_31 rfl ?_
        refine zi_iload dX3_setJob_32 rfl ?_
        refine zi_iload dX3_setJob_34 rfl ?_
        refine zi_i2l dX3_setJob_36 (by omega) ?_
        refine zi_lconst (m := 1) dX3_setJob_37 (by decide +kernel) ?_
        refine zi_ldc2 (m := 99) dX3_setJob_38 q3030 (by decide +kernel) ?_
        refine zt_PSi3 mw_X3_isIn (tc_isIn (zl Z) (zE Z) _ _ _ _ _ _ (by omega) (by omega) (by omega)) q2528 hR (by decide) (by simp [Value.category]) dX3_setJob_41 (fun v41_12 h41_12 => ?_)
        subst h41_12
        refine zi_iload_n dX3_setJob_44 rfl ?_
        refine zi_iload_n dX3_setJob_45 rfl ?_
        refine zi_icmp_eq 53 dX3_setJob_46 (by decide) (by omega) (fun c46_13 => ?_) (fun c46_13 => ?_)
        · refine zi_iconst dX3_setJob_53 ?_
          refine zt_Vi3 mw_X3_good_3 rfl (tc_good_3_fbf (zl Z) (zE Z) _ _ _ _) q2810 hR (by decide) (by simp [Value.category]) dX3_setJob_54 (fun τ54_15 v54_14 wτ54_15 => ?_)
          obtain ⟨qτ54_15, h54_14⟩ := wτ54_15
          obtain ⟨eh54_14, h54_14⟩ := h54_14
          subst eh54_14
          have k4τ54_15 := eq_keep 4 qτ54_15 (by decide)
          have xτ54_15 : eqx [0, 3, 4, 5] σ τ54_15 := eqx_tr x0 (eqx_mono qτ54_15 (by decide))
          have haτ54_15 := (qτ54_15 0 (by decide)).trans ha
          refine zi_if_ne 62 dX3_setJob_57 (by decide) (by decide) (fun h => absurd h (by decide)) (fun _ => ?_)
          refine zi_iconst dX3_setJob_60 ?_
          exact zi_ireturn hrt dX3_setJob_61 (hret _ _ ⟨xτ54_15, by first | exact ⟨fun p => absurd p (by omega), fun _ => ⟨haτ54_15, HsT_q qτ54_15 hh (by decide) (by decide)⟩, fun _ => by omega, fun p => absurd p (by omega), fun p => absurd p (by omega)⟩ | exact ⟨fun p q r9 => absurd q (by omega), fun _ => ⟨haτ54_15, HsT_q qτ54_15 hh (by decide) (by decide)⟩, fun p => absurd p (by omega), fun p q => by omega, fun p q => absurd q (by omega)⟩ | exact ⟨fun p q r9 => absurd r9 (by omega), fun _ => ⟨haτ54_15, HsT_q qτ54_15 hh (by decide) (by decide)⟩, fun p => absurd p (by omega), fun _ => h54_14.2, fun p q _ => h54_14.1 q⟩⟩)
        · refine zi_iconst dX3_setJob_49 ?_
          refine zi_goto 54 dX3_setJob_50 (by decide) ?_
          refine zt_Vi3 mw_X3_good_3 rfl (tc_good_3_fbt (zl Z) (zE Z) _ _ _ _) q2810 hR (by decide) (by simp [Value.category]) dX3_setJob_54 (fun τ54_18 v54_17 wτ54_18 => ?_)
          obtain ⟨qτ54_18, h54_17⟩ := wτ54_18
          obtain ⟨eh54_17, h54_17⟩ := h54_17
          subst eh54_17
          have k4τ54_18 := eq_keep 4 qτ54_18 (by decide)
          have xτ54_18 : eqx [0, 3, 4, 5] σ τ54_18 := eqx_tr x0 (eqx_mono qτ54_18 (by decide))
          have haτ54_18 := (qτ54_18 0 (by decide)).trans ha
          refine zi_if_ne 62 dX3_setJob_57 (by decide) (by decide) (fun h => absurd h (by decide)) (fun _ => ?_)
          refine zi_iconst dX3_setJob_60 ?_
          exact zi_ireturn hrt dX3_setJob_61 (hret _ _ ⟨xτ54_18, by first | exact ⟨fun p => absurd p (by omega), fun _ => ⟨haτ54_18, HsT_q qτ54_18 hh (by decide) (by decide)⟩, fun _ => by omega, fun p => absurd p (by omega), fun p => absurd p (by omega)⟩ | exact ⟨fun p q r9 => absurd q (by omega), fun _ => ⟨haτ54_18, HsT_q qτ54_18 hh (by decide) (by decide)⟩, fun p => absurd p (by omega), fun p q => by omega, fun p q => absurd q (by omega)⟩ | exact ⟨fun p q r9 => absurd r9 (by omega), fun _ => ⟨haτ54_18, HsT_q qτ54_18 hh (by decide) (by decide)⟩, fun p => absurd p (by omega), fun _ => h54_17.2, fun p q _ => h54_17.1 q⟩⟩)
      · refine zi_iconst dX3_setJob_24 ?_
        refine zi_goto 29 dX3_setJob_25 (by decide) ?_
        refine zi_istore_5 dX3_setJob_29 hm (by decide) rfl ?_
        refine zi_aload_n dX3_setJob_31 rfl ?_
        refine zi_iload dX3_setJob_32 rfl ?_
        refine zi_iload dX3_setJob_34 rfl ?_
        refine zi_i2l dX3_setJob_36 (by omega) ?_
        refine zi_lconst (m := 1) dX3_setJob_37 (by decide +kernel) ?_
        refine zi_ldc2 (m := 99) dX3_setJob_38 q3030 (by decide +kernel) ?_
        refine zt_PSi3 mw_X3_isIn (tc_isIn (zl Z) (zE Z) _ _ _ _ _ _ (by omega) (by omega) (by omega)) q2528 hR (by decide) (by simp [Value.category]) dX3_setJob_41 (fun v41_20 h41_20 => ?_)
        subst h41_20
        refine zi_iload_n dX3_setJob_44 rfl ?_
        refine zi_iload_n dX3_setJob_45 rfl ?_
        refine zi_icmp_eq 53 dX3_setJob_46 (by decide) (by omega) (fun c46_21 => ?_) (fun c46_21 => ?_)
        · refine zi_iconst dX3_setJob_53 ?_
          refine zt_Vi3 mw_X3_good_3 rfl (tc_good_3_tbf (zl Z) (zE Z) _ _ _ _) q2810 hR (by decide) (by simp [Value.category]) dX3_setJob_54 (fun τ54_23 v54_22 wτ54_23 => ?_)
          obtain ⟨qτ54_23, h54_22⟩ := wτ54_23
          obtain ⟨eh54_22, h54_22⟩ := h54_22
          subst eh54_22
          have k4τ54_23 := eq_keep 4 qτ54_23 (by decide)
          have xτ54_23 : eqx [0, 3, 4, 5] σ τ54_23 := eqx_tr x0 (eqx_mono qτ54_23 (by decide))
          have haτ54_23 := (qτ54_23 0 (by decide)).trans ha
          refine zi_if_ne 62 dX3_setJob_57 (by decide) (by decide) (fun h => absurd h (by decide)) (fun _ => ?_)
          refine zi_iconst dX3_setJob_60 ?_
          exact zi_ireturn hrt dX3_setJob_61 (hret _ _ ⟨xτ54_23, by first | exact ⟨fun p => absurd p (by omega), fun _ => ⟨haτ54_23, HsT_q qτ54_23 hh (by decide) (by decide)⟩, fun _ => by omega, fun p => absurd p (by omega), fun p => absurd p (by omega)⟩ | exact ⟨fun p q r9 => absurd q (by omega), fun _ => ⟨haτ54_23, HsT_q qτ54_23 hh (by decide) (by decide)⟩, fun p => absurd p (by omega), fun p q => by omega, fun p q => absurd q (by omega)⟩ | exact ⟨fun p q r9 => absurd r9 (by omega), fun _ => ⟨haτ54_23, HsT_q qτ54_23 hh (by decide) (by decide)⟩, fun p => absurd p (by omega), fun _ => h54_22.2, fun p q _ => h54_22.1 q⟩⟩)
        · refine zi_iconst dX3_setJob_49 ?_
          refine zi_goto 54 dX3_setJob_50 (by decide) ?_
          refine zt_Vi3 mw_X3_good_3 rfl (tc_good_3_tbt (zl Z) (zE Z) _ _ _ _) q2810 hR (by decide) (by simp [Value.category]) dX3_setJob_54 (fun τ54_26 v54_25 wτ54_26 => ?_)
          obtain ⟨qτ54_26, h54_25⟩ := wτ54_26
          obtain ⟨eh54_25, h54_25⟩ := h54_25
          subst eh54_25
          have k4τ54_26 := eq_keep 4 qτ54_26 (by decide)
          have xτ54_26 : eqx [0, 3, 4, 5] σ τ54_26 := eqx_tr x0 (eqx_mono qτ54_26 (by decide))
          have haτ54_26 := (qτ54_26 0 (by decide)).trans ha
          refine zi_if_neB 62 dX3_setJob_57 (by decide) (fun c57_27 => ?_) (fun c57_27 => ?_)
          · have tc57_27 := h54_25.1 c57_27; clear h54_25
            refine zi_aload_n dX3_setJob_62 rfl ?_
            refine zt_Vv0 mw_X3_remember rfl (tc_remember (zl Z) (zE Z) _ _ _ _ (haτ54_26)  (_) (HsT_q qτ54_26 hh (by decide) (by decide))) q2680 hR (by decide) (by simp [Value.category]) dX3_setJob_63 (fun τ63_28 wτ63_28 => ?_)
            obtain ⟨qτ63_28, h63⟩ := wτ63_28
            have k5τ63_28 := eq_keep 5 qτ63_28 (by decide)
            have xτ63_28 : eqx [0, 3, 4, 5] σ τ63_28 := eqx_tr xτ54_26 (eqx_mono qτ63_28 (by decide))
            have haτ63_28 := (qτ63_28 0 (by decide)).trans haτ54_26
            have r0 : τ63_28 0 = a := haτ63_28
            refine zi_aload_n dX3_setJob_66 rfl ?_
            refine zi_iload_n dX3_setJob_67 rfl ?_
            refine zi_iconst dX3_setJob_68 ?_
            refine zt_PVi2 mw_X3_ofJob rfl (tc_ofJob (zl Z) (zE Z) _ _ _ _ (haτ63_28) _ _ (hok) (by omega) (by omega) (by omega)) q2716 hR (by decide) (by simp [Value.category]) dX3_setJob_69 (fun v69 h69 => ?_)
            refine zi_istore_6 dX3_setJob_72 hm (by decide) rfl ?_
            refine zi_aload_n dX3_setJob_74 rfl ?_
            refine zt_g0 q2431 dX3_setJob_75 ?_
            refine zi_bipush dX3_setJob_78 (by decide +kernel) ?_
            refine zi_iconst dX3_setJob_80 ?_
            refine zi_iload_n dX3_setJob_81 rfl ?_
            refine zi_imul dX3_setJob_82 ?_
            refine zi_iadd dX3_setJob_83 ?_
            refine zi_iconst dX3_setJob_84 ?_
            refine zi_iadd dX3_setJob_85 ?_
            refine zi_iload_n dX3_setJob_86 rfl ?_
            refine zi_i2l dX3_setJob_87 (by omega) ?_
            refine zt_st0 dX3_setJob_88 (by omega) (fun τ88_29 eτ88_29 => ?_)
            have gτ88_29 := up_get eτ88_29
            have k4τ88_29 := up_keep 4 eτ88_29 (by decide)
            have k5τ88_29 := up_keep 5 eτ88_29 (by decide)
            have xτ88_29 : eqx [0, 3, 4, 5] σ τ88_29 := by rw [eτ88_29]; exact eqx_up xτ63_28 (by decide)
            have q1 := HsT_k (up_k eτ88_29 (by decide)) k4τ88_29 h63
            have r1 : τ88_29 0 = zup a (46 + 4 * j + 0) t := by funext i; rw [eτ88_29, up_s, r0]
            refine zi_aload_n dX3_setJob_89 rfl ?_
            refine zt_g0 q2431 dX3_setJob_90 ?_
            refine zi_bipush dX3_setJob_93 (by decide +kernel) ?_
            refine zi_iconst dX3_setJob_95 ?_
            refine zi_iload_n dX3_setJob_96 rfl ?_
            refine zi_imul dX3_setJob_97 ?_
            refine zi_iadd dX3_setJob_98 ?_
            refine zi_iconst dX3_setJob_99 ?_
            refine zi_iadd dX3_setJob_100 ?_
            refine zi_iload_n dX3_setJob_101 rfl ?_
            refine zi_i2l dX3_setJob_102 (by omega) ?_
            refine zt_st0 dX3_setJob_103 (by omega) (fun τ103_30 eτ103_30 => ?_)
            have gτ103_30 := up_get eτ103_30
            have k4τ103_30 := up_keep 4 eτ103_30 (by decide)
            have k5τ103_30 := up_keep 5 eτ103_30 (by decide)
            have xτ103_30 : eqx [0, 3, 4, 5] σ τ103_30 := by rw [eτ103_30]; exact eqx_up xτ88_29 (by decide)
            have q2 := HsT_k (up_k eτ103_30 (by decide)) k4τ103_30 q1
            have r2 : τ103_30 0 = zup (zup a (46 + 4 * j + 0) t) (46 + 4 * j + 1) r := by funext i; rw [eτ103_30, up_s, r1]
            refine zi_aload_n dX3_setJob_104 rfl ?_
            refine zt_g0 q2431 dX3_setJob_105 ?_
            refine zi_bipush dX3_setJob_108 (by decide +kernel) ?_
            refine zi_iconst dX3_setJob_110 ?_
            refine zi_iload_n dX3_setJob_111 rfl ?_
            refine zi_imul dX3_setJob_112 ?_
            refine zi_iadd dX3_setJob_113 ?_
            refine zi_iconst dX3_setJob_114 ?_
            refine zi_iadd dX3_setJob_115 ?_
            refine zi_iload dX3_setJob_116 rfl ?_
            refine zi_i2l dX3_setJob_118 (by omega) ?_
            refine zt_st0 dX3_setJob_119 (by omega) (fun τ119_31 eτ119_31 => ?_)
            have gτ119_31 := up_get eτ119_31
            have k4τ119_31 := up_keep 4 eτ119_31 (by decide)
            have k5τ119_31 := up_keep 5 eτ119_31 (by decide)
            have xτ119_31 : eqx [0, 3, 4, 5] σ τ119_31 := by rw [eτ119_31]; exact eqx_up xτ103_30 (by decide)
            have q3 := HsT_k (up_k eτ119_31 (by decide)) k4τ119_31 q2
            have r3 : τ119_31 0 = sjF a j t r h := by funext i; rw [eτ119_31, up_s, r2]; rfl
            refine zi_iload dX3_setJob_120 rfl ?_
            exact zi_ireturn hrt dX3_setJob_122 (hret _ _ ⟨xτ119_31, ⟨fun _ _ _ => ⟨by omega, h69.1, r3, q3⟩, fun p => absurd p (by omega), fun p => absurd p (by omega), fun _ p => absurd p (by omega), fun _ _ p => absurd p (by omega)⟩⟩)
          · have tc57_27 := h54_25.2 c57_27; clear h54_25
            refine zi_iconst dX3_setJob_60 ?_
            exact zi_ireturn hrt dX3_setJob_61 (hret _ _ ⟨xτ54_26, by first | exact ⟨fun p => absurd p (by omega), fun _ => ⟨haτ54_26, HsT_q qτ54_26 hh (by decide) (by decide)⟩, fun _ => by omega, fun p => absurd p (by omega), fun p => absurd p (by omega)⟩ | exact ⟨fun p q r9 => absurd q (by omega), fun _ => ⟨haτ54_26, HsT_q qτ54_26 hh (by decide) (by decide)⟩, fun p => absurd p (by omega), fun p q => by omega, fun p q => absurd q (by omega)⟩ | exact ⟨fun p q r9 => absurd r9 (by omega), fun _ => ⟨haτ54_26, HsT_q qτ54_26 hh (by decide) (by decide)⟩, fun p => absurd p (by omega), fun _ => h54_25.2, fun p q _ => h54_25.1 q⟩⟩)
