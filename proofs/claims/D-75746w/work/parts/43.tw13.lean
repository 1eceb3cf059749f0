/-! THE REFERENCE: words by their letters -/
set_option maxRecDepth 100000
theorem cdW_take {w : List Int} {k : Nat} (h : k < w.length) : cdW (w.take (k + 1)) 0 = 27 * cdW (w.take k) 0 + (w.getD k 0 - 96) := by
  rw [List.take_succ, List.getElem?_eq_getElem h]
  simp only [Option.toList_some]
  rw [cdW_app, List.getD_eq_getElem?_getD, List.getElem?_eq_getElem h]
  rfl
theorem mw_X3_codeOf : MWS yX3_codeOf cX3_codeOf 4 (some Jvm.ClassFile.FieldType.long) 1 := ⟨q2584, q128, q2585, by decide, by decide +kernel, by decide +kernel, by decide +kernel⟩
set_option maxHeartbeats 4000000 in
theorem tc_codeOf (l : Launch) (E : ZE) (o : Nat) (ad : Nat → Nat) (σ : TS) (i : Nat) (w : List Int) (tx : String × Nat × String) (hi : zLit[i]? = some tx) (hw : zcs tx.2.2 = w) (hlen : w.length ≤ 100000) (hch : ∀ j : Nat, 0 ≤ w.getD j 0 ∧ w.getD j 0 ≤ 255) : TCl l yX3_codeOf (ws_ yX3_codeOf cX3_codeOf 4 (some Jvm.ClassFile.FieldType.long)) 5 E o ad σ [.ref (E.2.2 (20 + i))] (fun τ v => τ = σ ∧ (v = cdW w 0)) := by
  refine tcl_of (own := RX3) (cc := cX3_codeOf) (L := [some (.ref (E.2.2 (20 + i))), none, none, none]) (by decide) rfl rfl (Nat.le_of_ble_eq_true rfl) (fun Z hE hl hrt hR hm hret => ?_)
  subst hE
  subst hw
  refine zi_cx (fun C9 => ?_)
  have hS9 := (C9.2.2.2.2.2.2.2.2.1.2.2.2.2.2.2.2.1 i _ hi).2
  have hS8 := hS9
  obtain ⟨vb9, hO9, -⟩ := hS8
  refine zi_lconst (m := 0) dX3_codeOf_0 (by decide +kernel) ?_
  refine zi_lstore_1 dX3_codeOf_1 hm (by decide) rfl ?_
  refine zi_iconst dX3_codeOf_2 ?_
  refine zi_istore_3 dX3_codeOf_3 hm (by decide) rfl ?_
  have lp4 : ∀ (n : Nat) (k : Nat) (x1 : Int) (x3 : Int), (x3 = (k : Int)) → (x3 ≤ (zcs tx.2.2).length) → (x1 = cdW ((zcs tx.2.2).take k) 0) → ((zcs tx.2.2).length - x3).toNat < n → GV RX3 cX3_codeOf Z (zA Z) (zs Z).heap (twW (zE Z) o ad σ) 0 0 4 [some (.ref ((zE Z).2.2 (20 + i))), some (jL x1), none, some (jI x3)] [] := by
    intro n
    induction n with
    | zero => intro k x1 x3 i4_0 i4_1 i4_2 m4; exact absurd m4 (Nat.not_lt_zero _)
    | succ n ih4 =>
      intro k x1 x3 i4_0 i4_1 i4_2 m4
      subst i4_0
      have hk9 := hch k
      refine zi_iload_n dX3_codeOf_4 rfl ?_
      refine zi_aload_n dX3_codeOf_5 rfl ?_
      refine zp_V (As := []) mw_J6_length (qc_J6_length (zl Z) (zE Z) _ (zcs tx.2.2) hlen) q2586 (zr_fro hO9 (fun _ h => h)) hR (by decide) rfl (by simp [Value.category]) dX3_codeOf_6 ⟨Nat.le_refl _, Nat.le_refl _⟩ hS9 (fun A U H A2 U2 H2 h r => zStr_tr h r) (fun r6 e6 => ?_)
      subst e6
      refine zi_icmp_ge 37 dX3_codeOf_9 (by decide) (by omega) (fun c9 => ?_) (fun c9 => ?_)
      · have e9 : (zcs tx.2.2).take k = zcs tx.2.2 := List.take_of_length_le (by omega)
        rw [e9] at i4_2
        refine zi_lload_n dX3_codeOf_37 rfl ?_
        exact zi_lreturn hrt dX3_codeOf_38 (hret _ _ ⟨rfl, by omega⟩)
      · refine zi_ldc2 (m := 27) dX3_codeOf_12 q2561 (by decide +kernel) ?_
        refine zi_lload_n dX3_codeOf_15 rfl ?_
        refine zi_lmul dX3_codeOf_16 ?_
        refine zi_aload_n dX3_codeOf_17 rfl ?_
        refine zi_iload_n dX3_codeOf_18 rfl ?_
        refine zp_V (As := [_]) mw_J6_charAt (qc_J6_charAt (zl Z) (zE Z) _ _ (zcs tx.2.2) (by omega) hlen (hch _)) q2587 (zr_fro hO9 (fun _ h => h)) hR (by decide) rfl (by simp [Value.category]) dX3_codeOf_19 ⟨Nat.le_refl _, Nat.le_refl _⟩ hS9 (fun A U H A2 U2 H2 h r => zStr_tr h r) (fun r19 e19 => ?_)
        subst e19
        refine zi_i2l dX3_codeOf_22 (by simp only [Int.toNat_natCast]; omega) ?_
        refine zi_ladd dX3_codeOf_23 ?_
        refine zi_ldc2 (m := 97) dX3_codeOf_24 q2562 (by decide +kernel) ?_
        refine zi_lsub dX3_codeOf_27 ?_
        refine zi_lconst (m := 1) dX3_codeOf_28 (by decide +kernel) ?_
        refine zi_ladd dX3_codeOf_29 ?_
        refine zi_lstore_1 dX3_codeOf_30 hm (by decide) rfl ?_
        refine zi_iinc_3 dX3_codeOf_31 hm (by decide) rfl ?_
        refine zi_goto 4 dX3_codeOf_34 (by decide) ?_
        exact ih4 (k + 1) _ _ (by omega) (by omega) (by rw [cdW_take (by omega), i4_2]; simp only [Int.toNat_natCast]; omega) (by omega)
  exact lp4 _ (0) _ _ (by omega) (by omega) (by rfl) (Nat.lt_succ_self _)
theorem mw_X3_isWord : MWV yX3_isWord cX3_isWord 2 (some Jvm.ClassFile.FieldType.boolean) 1 := ⟨q2581, qs50, q128, q2582, by decide, by decide +kernel, by decide +kernel, by decide +kernel⟩
set_option maxHeartbeats 4000000 in
theorem tc_isWord (l : Launch) (E : ZE) (o : Nat) (ad : Nat → Nat) (σ : TS) (i : Nat) (w : List Int) (tx : String × Nat × String) (hi : zLit[i]? = some tx) (hw : zcs tx.2.2 = w) (hlen : w.length ≤ 100000) (hch : ∀ j : Nat, 0 ≤ w.getD j 0 ∧ w.getD j 0 ≤ 255) (hr : 0 ≤ cdW w 0 ∧ cdW w 0 < 9223372036854775808) (B : Int → Int) (bn : Int) (t : TkS) (ht : TkT σ B bn t) (hk : TkOk bn t) : TCi l yX3_isWord (ws_ yX3_isWord cX3_isWord 2 (some Jvm.ClassFile.FieldType.boolean)) 6 E o ad σ [.ref o, .ref (E.2.2 (20 + i))] (fun τ v => τ = σ ∧ (v = bI (t.k = 2 ∧ t.v = cdW w 0))) := by
  refine tci_of (own := RX3) (cc := cX3_isWord) (L := [some (.ref o), some (.ref (E.2.2 (20 + i)))]) (by decide) rfl rfl (Nat.le_of_ble_eq_true rfl) (fun Z hE hl hrt hR hm hret => ?_)
  subst hE
  have hk1 := hk.1
  refine zi_aload_n dX3_isWord_0 rfl ?_
  refine zt_g13 q2444 dX3_isWord_1 (ht.2.2.2.2.1) ?_
  refine zi_iconst dX3_isWord_4 ?_
  refine zi_icmp_ne 24 dX3_isWord_5 (by decide) (by omega) (fun c5 => ?_) (fun c5 => ?_)
  · refine zi_iconst dX3_isWord_24 ?_
    exact zi_zreturn hrt (z_nb (Or.inl rfl)) dX3_isWord_25 (hret _ _ ⟨rfl, by first | exact bI_1 (by omega) | exact bI_0 (by omega)⟩)
  · have w1 := isWd_r (hk.2.2.2.2 (by omega))
    refine zi_aload_n dX3_isWord_8 rfl ?_
    refine zt_g15 q2446 dX3_isWord_9 (ht.2.2.2.2.2.2 (by omega)) ?_
    refine zi_aload_n dX3_isWord_12 rfl ?_
    refine zt_PSl1 mw_X3_codeOf (tc_codeOf (zl Z) (zE Z) _ _ _ _ (_) (_) (hi) (hw) (hlen) (hch)) q2583 hR (by decide) (by simp [Value.category]) dX3_isWord_13 (fun v13 h13 => ?_)
    refine zi_lcmp_ne 24 dX3_isWord_16 dX3_isWord_17 (by decide) (by omega) (fun c16 => ?_) (fun c16 => ?_)
    · refine zi_iconst dX3_isWord_24 ?_
      exact zi_zreturn hrt (z_nb (Or.inl rfl)) dX3_isWord_25 (hret _ _ ⟨rfl, by first | exact bI_1 (by omega) | exact bI_0 (by omega)⟩)
    · refine zi_iconst dX3_isWord_20 ?_
      refine zi_goto 25 dX3_isWord_21 (by decide) ?_
      exact zi_zreturn hrt (z_nb (Or.inr rfl)) dX3_isWord_25 (hret _ _ ⟨rfl, by first | exact bI_1 (by omega) | exact bI_0 (by omega)⟩)
theorem mw_X3_settingHere : MWV yX3_settingHere cX3_settingHere 1 (some Jvm.ClassFile.FieldType.int) 0 := ⟨q2656, qs63, q128, q2657, by decide, by decide +kernel, by decide +kernel, by decide +kernel⟩
set_option maxHeartbeats 4000000 in
theorem tc_settingHere (l : Launch) (E : ZE) (o : Nat) (ad : Nat → Nat) (σ : TS) (B : Int → Int) (bn : Int) (t : TkS) (ht : TkT σ B bn t) (hk : TkOk bn t) : TCi l yX3_settingHere (ws_ yX3_settingHere cX3_settingHere 1 (some Jvm.ClassFile.FieldType.int)) 7 E o ad σ [.ref o] (fun τ v => τ = σ ∧ (v = shF t ∧ -1 ≤ v ∧ v ≤ 3)) := by
  refine tci_of (own := RX3) (cc := cX3_settingHere) (L := [some (.ref o)]) (by decide) rfl rfl (Nat.le_of_ble_eq_true rfl) (fun Z hE hl hrt hR hm hret => ?_)
  subst hE
  refine zi_aload_n dX3_settingHere_0 rfl ?_
  refine zi_ldcS 20 rfl dX3_settingHere_1 ?_
  refine zt_PVi1 mw_X3_isWord rfl (tc_isWord (zl Z) (zE Z) _ _ _ _ ((zcs "price")) (_) ((by rfl)) ((by rfl)) ((by decide +kernel)) ((zgetD_all (by decide +kernel))) ((by decide +kernel)) (_) (_) (_) (ht) (hk)) q2579 hR (by decide) (by simp [Value.category]) dX3_settingHere_3 (fun v3 h3 => ?_)
  subst h3
  refine zi_if_eqB 11 dX3_settingHere_6 (by decide) (fun c6 => ?_) (fun c6 => ?_)
  · refine zi_aload_n dX3_settingHere_11 rfl ?_
    refine zi_ldcS 21 rfl dX3_settingHere_12 ?_
    refine zt_PVi1 mw_X3_isWord rfl (tc_isWord (zl Z) (zE Z) _ _ _ _ ((zcs "speed")) (_) ((by rfl)) ((by rfl)) ((by decide +kernel)) ((zgetD_all (by decide +kernel))) ((by decide +kernel)) (_) (_) (_) (ht) (hk)) q2579 hR (by decide) (by simp [Value.category]) dX3_settingHere_14 (fun v14 h14 => ?_)
    subst h14
    refine zi_if_eqB 22 dX3_settingHere_17 (by decide) (fun c17 => ?_) (fun c17 => ?_)
    · refine zi_aload_n dX3_settingHere_22 rfl ?_
      refine zi_ldcS 22 rfl dX3_settingHere_23 ?_
      refine zt_PVi1 mw_X3_isWord rfl (tc_isWord (zl Z) (zE Z) _ _ _ _ ((zcs "rush")) (_) ((by rfl)) ((by rfl)) ((by decide +kernel)) ((zgetD_all (by decide +kernel))) ((by decide +kernel)) (_) (_) (_) (ht) (hk)) q2579 hR (by decide) (by simp [Value.category]) dX3_settingHere_25 (fun v25 h25 => ?_)
      subst h25
      refine zi_if_eqB 33 dX3_settingHere_28 (by decide) (fun c28 => ?_) (fun c28 => ?_)
      · refine zi_aload_n dX3_settingHere_33 rfl ?_
        refine zi_ldcS 23 rfl dX3_settingHere_34 ?_
        refine zt_PVi1 mw_X3_isWord rfl (tc_isWord (zl Z) (zE Z) _ _ _ _ ((zcs "revise")) (_) ((by rfl)) ((by rfl)) ((by decide +kernel)) ((zgetD_all (by decide +kernel))) ((by decide +kernel)) (_) (_) (_) (ht) (hk)) q2579 hR (by decide) (by simp [Value.category]) dX3_settingHere_36 (fun v36 h36 => ?_)
        subst h36
        refine zi_if_eqB 46 dX3_settingHere_39 (by decide) (fun c39 => ?_) (fun c39 => ?_)
        · refine zi_iconst dX3_settingHere_46 ?_
          exact zi_ireturn hrt dX3_settingHere_47 (hret _ _ ⟨rfl, by first | exact ⟨(shF_0 c6).symm, by decide, by decide⟩ | exact ⟨(shF_1 c6 c17).symm, by decide, by decide⟩ | exact ⟨(shF_2 c6 c17 c28).symm, by decide, by decide⟩ | exact ⟨(shF_3 c6 c17 c28 c39).symm, by decide, by decide⟩ | exact ⟨(shF_n c6 c17 c28 c39).symm, by decide, by decide⟩⟩)
        · refine zi_iconst dX3_settingHere_42 ?_
          refine zi_goto 47 dX3_settingHere_43 (by decide) ?_
          exact zi_ireturn hrt dX3_settingHere_47 (hret _ _ ⟨rfl, by first | exact ⟨(shF_0 c6).symm, by decide, by decide⟩ | exact ⟨(shF_1 c6 c17).symm, by decide, by decide⟩ | exact ⟨(shF_2 c6 c17 c28).symm, by decide, by decide⟩ | exact ⟨(shF_3 c6 c17 c28 c39).symm, by decide, by decide⟩ | exact ⟨(shF_n c6 c17 c28 c39).symm, by decide, by decide⟩⟩)
      · refine zi_iconst dX3_settingHere_31 ?_
        exact zi_ireturn hrt dX3_settingHere_32 (hret _ _ ⟨rfl, by first | exact ⟨(shF_0 c6).symm, by decide, by decide⟩ | exact ⟨(shF_1 c6 c17).symm, by decide, by decide⟩ | exact ⟨(shF_2 c6 c17 c28).symm, by decide, by decide⟩ | exact ⟨(shF_3 c6 c17 c28 c39).symm, by decide, by decide⟩ | exact ⟨(shF_n c6 c17 c28 c39).symm, by decide, by decide⟩⟩)
    · refine zi_iconst dX3_settingHere_20 ?_
      exact zi_ireturn hrt dX3_settingHere_21 (hret _ _ ⟨rfl, by first | exact ⟨(shF_0 c6).symm, by decide, by decide⟩ | exact ⟨(shF_1 c6 c17).symm, by decide, by decide⟩ | exact ⟨(shF_2 c6 c17 c28).symm, by decide, by decide⟩ | exact ⟨(shF_3 c6 c17 c28 c39).symm, by decide, by decide⟩ | exact ⟨(shF_n c6 c17 c28 c39).symm, by decide, by decide⟩⟩)
  · refine zi_iconst dX3_settingHere_9 ?_
    exact zi_ireturn hrt dX3_settingHere_10 (hret _ _ ⟨rfl, by first | exact ⟨(shF_0 c6).symm, by decide, by decide⟩ | exact ⟨(shF_1 c6 c17).symm, by decide, by decide⟩ | exact ⟨(shF_2 c6 c17 c28).symm, by decide, by decide⟩ | exact ⟨(shF_3 c6 c17 c28 c39).symm, by decide, by decide⟩ | exact ⟨(shF_n c6 c17 c28 c39).symm, by decide, by decide⟩⟩)
