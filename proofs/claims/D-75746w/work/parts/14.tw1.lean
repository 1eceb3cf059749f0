/-! THE REFERENCE: leaves -/
set_option maxRecDepth 100000
theorem mw_X3_thrown : MWV yX3_thrown cX3_thrown 1 (some Jvm.ClassFile.FieldType.int) 0 := ⟨q2509, q2510, q128, q2511, by decide, by decide +kernel, by decide +kernel, by decide +kernel⟩
set_option maxHeartbeats 4000000 in
theorem tc_thrown (l : Launch) (E : ZE) (o : Nat) (ad : Nat → Nat) (σ : TS)  : TCi l yX3_thrown (ws_ yX3_thrown cX3_thrown 1 (some Jvm.ClassFile.FieldType.int)) 1 E o ad σ [.ref o] (fun τ v => τ = σ ∧ (v = σ 5 0)) := by
  refine tci_of (own := RX3) (cc := cX3_thrown) (L := [some (.ref o)]) (by decide) rfl rfl (Nat.le_of_ble_eq_true rfl) (fun Z hE hl hrt hR hm hret => ?_)
  subst hE
  refine zi_aload_n dX3_thrown_0 rfl ?_
  refine zt_g5 q2436 dX3_thrown_1 (rfl) ?_
  exact zi_ireturn hrt dX3_thrown_4 (hret _ _ ⟨rfl, rfl⟩)
theorem mw_X3_isIn : MWS yX3_isIn cX3_isIn 6 (some Jvm.ClassFile.FieldType.boolean) 3 := ⟨q2529, q128, q2530, by decide, by decide +kernel, by decide +kernel, by decide +kernel⟩
set_option maxHeartbeats 4000000 in
theorem tc_isIn (l : Launch) (E : ZE) (o : Nat) (ad : Nat → Nat) (σ : TS) (x : Int) (lo : Int) (hi : Int) (h1 : -9223372036854775808 ≤ x ∧ x < 9223372036854775808) (h2 : -9223372036854775808 ≤ lo ∧ lo < 9223372036854775808) (h3 : -9223372036854775808 ≤ hi ∧ hi < 9223372036854775808) : TCi l yX3_isIn (ws_ yX3_isIn cX3_isIn 6 (some Jvm.ClassFile.FieldType.boolean)) 1 E o ad σ [jL x, jL lo, jL hi] (fun τ v => τ = σ ∧ (v = bI (lo ≤ x ∧ x ≤ hi))) := by
  refine tci_of (own := RX3) (cc := cX3_isIn) (L := [some (jL x), none, some (jL lo), none, some (jL hi), none]) (by decide) rfl rfl (Nat.le_of_ble_eq_true rfl) (fun Z hE hl hrt hR hm hret => ?_)
  subst hE
  refine zi_lload_n dX3_isIn_0 rfl ?_
  refine zi_lload_n dX3_isIn_1 rfl ?_
  refine zi_lcmp_lt 17 dX3_isIn_2 dX3_isIn_3 (by decide) (by omega) (fun c2 => ?_) (fun c2 => ?_)
  · refine zi_iconst dX3_isIn_17 ?_
    exact zi_zreturn hrt (z_nb (Or.inl rfl)) dX3_isIn_18 (hret _ _ ⟨rfl, by first | exact bI_1 (by omega) | exact bI_0 (by omega)⟩)
  · refine zi_lload_n dX3_isIn_6 rfl ?_
    refine zi_lload dX3_isIn_7 rfl ?_
    refine zi_lcmp_gt 17 dX3_isIn_9 dX3_isIn_10 (by decide) (by omega) (fun c9 => ?_) (fun c9 => ?_)
    · refine zi_iconst dX3_isIn_17 ?_
      exact zi_zreturn hrt (z_nb (Or.inl rfl)) dX3_isIn_18 (hret _ _ ⟨rfl, by first | exact bI_1 (by omega) | exact bI_0 (by omega)⟩)
    · refine zi_iconst dX3_isIn_13 ?_
      refine zi_goto 18 dX3_isIn_14 (by decide) ?_
      exact zi_zreturn hrt (z_nb (Or.inr rfl)) dX3_isIn_18 (hret _ _ ⟨rfl, by first | exact bI_1 (by omega) | exact bI_0 (by omega)⟩)
theorem mw_X3_isLetter : MWS yX3_isLetter cX3_isLetter 1 (some Jvm.ClassFile.FieldType.boolean) 1 := ⟨q2555, q128, q2556, by decide, by decide +kernel, by decide +kernel, by decide +kernel⟩
set_option maxHeartbeats 4000000 in
theorem tc_isLetter (l : Launch) (E : ZE) (o : Nat) (ad : Nat → Nat) (σ : TS) (c : Int) (h1 : -2147483648 ≤ c ∧ c < 2147483648) : TCi l yX3_isLetter (ws_ yX3_isLetter cX3_isLetter 1 (some Jvm.ClassFile.FieldType.boolean)) 1 E o ad σ [jI c] (fun τ v => τ = σ ∧ (v = bI (97 ≤ c ∧ c ≤ 122))) := by
  refine tci_of (own := RX3) (cc := cX3_isLetter) (L := [some (jI c)]) (by decide) rfl rfl (Nat.le_of_ble_eq_true rfl) (fun Z hE hl hrt hR hm hret => ?_)
  subst hE
  refine zi_iload_n dX3_isLetter_0 rfl ?_
  refine zi_bipush dX3_isLetter_1 (by decide +kernel) ?_
  refine zi_icmp_lt 16 dX3_isLetter_3 (by decide) (by omega) (fun c3 => ?_) (fun c3 => ?_)
  · refine zi_iconst dX3_isLetter_16 ?_
    exact zi_zreturn hrt (z_nb (Or.inl rfl)) dX3_isLetter_17 (hret _ _ ⟨rfl, by first | exact bI_1 (by omega) | exact bI_0 (by omega)⟩)
  · refine zi_iload_n dX3_isLetter_6 rfl ?_
    refine zi_bipush dX3_isLetter_7 (by decide +kernel) ?_
    refine zi_icmp_gt 16 dX3_isLetter_9 (by decide) (by omega) (fun c9 => ?_) (fun c9 => ?_)
    · refine zi_iconst dX3_isLetter_16 ?_
      exact zi_zreturn hrt (z_nb (Or.inl rfl)) dX3_isLetter_17 (hret _ _ ⟨rfl, by first | exact bI_1 (by omega) | exact bI_0 (by omega)⟩)
    · refine zi_iconst dX3_isLetter_12 ?_
      refine zi_goto 17 dX3_isLetter_13 (by decide) ?_
      exact zi_zreturn hrt (z_nb (Or.inr rfl)) dX3_isLetter_17 (hret _ _ ⟨rfl, by first | exact bI_1 (by omega) | exact bI_0 (by omega)⟩)
theorem mw_X3_isDigit : MWS yX3_isDigit cX3_isDigit 1 (some Jvm.ClassFile.FieldType.boolean) 1 := ⟨q2564, q128, q2565, by decide, by decide +kernel, by decide +kernel, by decide +kernel⟩
set_option maxHeartbeats 4000000 in
theorem tc_isDigit (l : Launch) (E : ZE) (o : Nat) (ad : Nat → Nat) (σ : TS) (c : Int) (h1 : -2147483648 ≤ c ∧ c < 2147483648) : TCi l yX3_isDigit (ws_ yX3_isDigit cX3_isDigit 1 (some Jvm.ClassFile.FieldType.boolean)) 1 E o ad σ [jI c] (fun τ v => τ = σ ∧ (v = bI (48 ≤ c ∧ c ≤ 57))) := by
  refine tci_of (own := RX3) (cc := cX3_isDigit) (L := [some (jI c)]) (by decide) rfl rfl (Nat.le_of_ble_eq_true rfl) (fun Z hE hl hrt hR hm hret => ?_)
  subst hE
  refine zi_iload_n dX3_isDigit_0 rfl ?_
  refine zi_bipush dX3_isDigit_1 (by decide +kernel) ?_
  refine zi_icmp_lt 16 dX3_isDigit_3 (by decide) (by omega) (fun c3 => ?_) (fun c3 => ?_)
  · refine zi_iconst dX3_isDigit_16 ?_
    exact zi_zreturn hrt (z_nb (Or.inl rfl)) dX3_isDigit_17 (hret _ _ ⟨rfl, by first | exact bI_1 (by omega) | exact bI_0 (by omega)⟩)
  · refine zi_iload_n dX3_isDigit_6 rfl ?_
    refine zi_bipush dX3_isDigit_7 (by decide +kernel) ?_
    refine zi_icmp_gt 16 dX3_isDigit_9 (by decide) (by omega) (fun c9 => ?_) (fun c9 => ?_)
    · refine zi_iconst dX3_isDigit_16 ?_
      exact zi_zreturn hrt (z_nb (Or.inl rfl)) dX3_isDigit_17 (hret _ _ ⟨rfl, by first | exact bI_1 (by omega) | exact bI_0 (by omega)⟩)
    · refine zi_iconst dX3_isDigit_12 ?_
      refine zi_goto 17 dX3_isDigit_13 (by decide) ?_
      exact zi_zreturn hrt (z_nb (Or.inr rfl)) dX3_isDigit_17 (hret _ _ ⟨rfl, by first | exact bI_1 (by omega) | exact bI_0 (by omega)⟩)
theorem mw_X3_lowest : MWS yX3_lowest cX3_lowest 1 (some Jvm.ClassFile.FieldType.int) 1 := ⟨q2667, q128, q2668, by decide, by decide +kernel, by decide +kernel, by decide +kernel⟩
set_option maxHeartbeats 4000000 in
theorem tc_lowest (l : Launch) (E : ZE) (o : Nat) (ad : Nat → Nat) (σ : TS) (w : Int) (h1 : -2147483648 ≤ w ∧ w < 2147483648) : TCi l yX3_lowest (ws_ yX3_lowest cX3_lowest 1 (some Jvm.ClassFile.FieldType.int)) 1 E o ad σ [jI w] (fun τ v => τ = σ ∧ (v = (if w = 1 then 1 else 0) ∧ 0 ≤ v ∧ v ≤ 1)) := by
  refine tci_of (own := RX3) (cc := cX3_lowest) (L := [some (jI w)]) (by decide) rfl rfl (Nat.le_of_ble_eq_true rfl) (fun Z hE hl hrt hR hm hret => ?_)
  subst hE
  refine zi_iload_n dX3_lowest_0 rfl ?_
  refine zi_iconst dX3_lowest_1 ?_
  refine zi_icmp_ne 9 dX3_lowest_2 (by decide) (by omega) (fun c2 => ?_) (fun c2 => ?_)
  · refine zi_iconst dX3_lowest_9 ?_
    exact zi_ireturn hrt dX3_lowest_10 (hret _ _ ⟨rfl, by split <;> omega⟩)
  · refine zi_iconst dX3_lowest_5 ?_
    refine zi_goto 10 dX3_lowest_6 (by decide) ?_
    exact zi_ireturn hrt dX3_lowest_10 (hret _ _ ⟨rfl, by split <;> omega⟩)
theorem mw_X3_highest : MWS yX3_highest cX3_highest 1 (some Jvm.ClassFile.FieldType.int) 1 := ⟨q2670, q128, q2671, by decide, by decide +kernel, by decide +kernel, by decide +kernel⟩
set_option maxHeartbeats 4000000 in
theorem tc_highest (l : Launch) (E : ZE) (o : Nat) (ad : Nat → Nat) (σ : TS) (w : Int) (h1 : -2147483648 ≤ w ∧ w < 2147483648) : TCi l yX3_highest (ws_ yX3_highest cX3_highest 1 (some Jvm.ClassFile.FieldType.int)) 1 E o ad σ [jI w] (fun τ v => τ = σ ∧ (v = (if w = 2 then 100 else 999) ∧ 100 ≤ v ∧ v ≤ 999)) := by
  refine tci_of (own := RX3) (cc := cX3_highest) (L := [some (jI w)]) (by decide) rfl rfl (Nat.le_of_ble_eq_true rfl) (fun Z hE hl hrt hR hm hret => ?_)
  subst hE
  refine zi_iload_n dX3_highest_0 rfl ?_
  refine zi_iconst dX3_highest_1 ?_
  refine zi_icmp_ne 10 dX3_highest_2 (by decide) (by omega) (fun c2 => ?_) (fun c2 => ?_)
  · refine zi_sipush dX3_highest_10 (by decide +kernel) ?_
    exact zi_ireturn hrt dX3_highest_13 (hret _ _ ⟨rfl, by split <;> omega⟩)
  · refine zi_bipush dX3_highest_5 (by decide +kernel) ?_
    refine zi_goto 13 dX3_highest_7 (by decide) ?_
    exact zi_ireturn hrt dX3_highest_13 (hret _ _ ⟨rfl, by split <;> omega⟩)
theorem mw_X3_segments : MWV yX3_segments cX3_segments 1 (some Jvm.ClassFile.FieldType.int) 0 := ⟨q2702, qs67, q128, q2703, by decide, by decide +kernel, by decide +kernel, by decide +kernel⟩
set_option maxHeartbeats 4000000 in
theorem tc_segments (l : Launch) (E : ZE) (o : Nat) (ad : Nat → Nat) (σ : TS) (a : Int → Int) (ha : σ 0 = a) (hok : OkA a) : TCi l yX3_segments (ws_ yX3_segments cX3_segments 1 (some Jvm.ClassFile.FieldType.int)) 1 E o ad σ [.ref o] (fun τ v => τ = σ ∧ (v = a 66 ∧ 0 ≤ v ∧ v ≤ 20)) := by
  refine tci_of (own := RX3) (cc := cX3_segments) (L := [some (.ref o)]) (by decide) rfl rfl (Nat.le_of_ble_eq_true rfl) (fun Z hE hl hrt hR hm hret => ?_)
  subst hE
  refine zi_aload_n dX3_segments_0 rfl ?_
  refine zt_g0 q2431 dX3_segments_1 ?_
  refine zi_bipush dX3_segments_4 (by decide +kernel) ?_
  refine zt_ld0 dX3_segments_6 (ha) (by omega) ?_
  refine zi_l2i dX3_segments_7 ?_
  exact zi_ireturn hrt dX3_segments_8 (hret _ _ ⟨rfl, by have := hok.cnt; omega⟩)
theorem mw_X3_ofJob : MWV yX3_ofJob cX3_ofJob 3 (some Jvm.ClassFile.FieldType.int) 2 := ⟨q2718, qs71, q128, q2719, by decide, by decide +kernel, by decide +kernel, by decide +kernel⟩
set_option maxHeartbeats 4000000 in
theorem tc_ofJob (l : Launch) (E : ZE) (o : Nat) (ad : Nat → Nat) (σ : TS) (a : Int → Int) (ha : σ 0 = a) (j : Int) (w : Int) (hok : OkA a) (hj0 : 0 ≤ j) (hj1 : j < a 45) (hw : 0 ≤ w ∧ w ≤ 3) : TCi l yX3_ofJob (ws_ yX3_ofJob cX3_ofJob 3 (some Jvm.ClassFile.FieldType.int)) 1 E o ad σ [.ref o, jI j, jI w] (fun τ v => τ = σ ∧ (v = jOf a j w ∧ -1 ≤ v ∧ v ≤ 99)) := by
  refine tci_of (own := RX3) (cc := cX3_ofJob) (L := [some (.ref o), some (jI j), some (jI w)]) (by decide) rfl rfl (Nat.le_of_ble_eq_true rfl) (fun Z hE hl hrt hR hm hret => ?_)
  subst hE
  have hc := hok.cnt
  have hj := hok.job j hj0 hj1
  refine zi_aload_n dX3_ofJob_0 rfl ?_
  refine zt_g0 q2431 dX3_ofJob_1 ?_
  refine zi_bipush dX3_ofJob_4 (by decide +kernel) ?_
  refine zi_iconst dX3_ofJob_6 ?_
  refine zi_iload_n dX3_ofJob_7 rfl ?_
  refine zi_imul dX3_ofJob_8 ?_
  refine zi_iadd dX3_ofJob_9 ?_
  refine zi_iload_n dX3_ofJob_10 rfl ?_
  refine zi_iadd dX3_ofJob_11 ?_
  refine zt_ld0 dX3_ofJob_12 (ha) (by omega) ?_
  refine zi_l2i dX3_ofJob_13 ?_
  exact zi_ireturn hrt dX3_ofJob_14 (hret _ _ ⟨rfl, by refine ⟨rfl, ?_⟩; show -1 ≤ jOf a j w ∧ jOf a j w ≤ 99; rcases (show w = 0 ∨ w = 1 ∨ w = 2 ∨ w = 3 by omega) with q | q | q | q <;> subst q <;> omega⟩)
theorem mw_X3_jobNow : MWV yX3_jobNow cX3_jobNow 2 (some Jvm.ClassFile.FieldType.int) 1 := ⟨q2714, qs70, q128, q2715, by decide, by decide +kernel, by decide +kernel, by decide +kernel⟩
set_option maxHeartbeats 4000000 in
theorem tc_jobNow (l : Launch) (E : ZE) (o : Nat) (ad : Nat → Nat) (σ : TS) (a : Int → Int) (ha : σ 0 = a) (g : Int) (hok : OkA a) (hg0 : 0 ≤ g) (hg1 : g < a 66) : TCi l yX3_jobNow (ws_ yX3_jobNow cX3_jobNow 2 (some Jvm.ClassFile.FieldType.int)) 1 E o ad σ [.ref o, jI g] (fun τ v => τ = σ ∧ (v = sJob a g ∧ 0 ≤ v ∧ v < a 45 ∧ v ≤ 4)) := by
  refine tci_of (own := RX3) (cc := cX3_jobNow) (L := [some (.ref o), some (jI g)]) (by decide) rfl rfl (Nat.le_of_ble_eq_true rfl) (fun Z hE hl hrt hR hm hret => ?_)
  subst hE
  have hc := hok.cnt
  have hs := hok.seg g hg0 hg1
  refine zi_aload_n dX3_jobNow_0 rfl ?_
  refine zt_g0 q2431 dX3_jobNow_1 ?_
  refine zi_bipush dX3_jobNow_4 (by decide +kernel) ?_
  refine zi_bipush dX3_jobNow_6 (by decide +kernel) ?_
  refine zi_iload_n dX3_jobNow_8 rfl ?_
  refine zi_imul dX3_jobNow_9 ?_
  refine zi_iadd dX3_jobNow_10 ?_
  refine zi_iconst dX3_jobNow_11 ?_
  refine zi_iadd dX3_jobNow_12 ?_
  refine zt_ld0 dX3_jobNow_13 (ha) (by omega) ?_
  refine zi_l2i dX3_jobNow_14 ?_
  exact zi_ireturn hrt dX3_jobNow_15 (hret _ _ ⟨rfl, by rw [show 67 + 19 * g + 0 = 67 + 19 * g by omega]; exact ⟨rfl, by unfold sJob at hs; omega⟩⟩)
theorem mw_X3_wordsOf : MWV yX3_wordsOf cX3_wordsOf 3 (some Jvm.ClassFile.FieldType.int) 2 := ⟨q2722, qs72, q128, q2723, by decide, by decide +kernel, by decide +kernel, by decide +kernel⟩
set_option maxHeartbeats 4000000 in
theorem tc_wordsOf (l : Launch) (E : ZE) (o : Nat) (ad : Nat → Nat) (σ : TS) (a : Int → Int) (ha : σ 0 = a) (g : Int) (t : Int) (hok : OkA a) (hg0 : 0 ≤ g) (hg1 : g < a 66) (ht : -2147483648 ≤ t ∧ t < 2147483648) : TCi l yX3_wordsOf (ws_ yX3_wordsOf cX3_wordsOf 3 (some Jvm.ClassFile.FieldType.int)) 1 E o ad σ [.ref o, jI g, jI t] (fun τ v => τ = σ ∧ (v = sLen a g t ∧ 1 ≤ v ∧ v ≤ 8)) := by
  refine tci_of (own := RX3) (cc := cX3_wordsOf) (L := [some (.ref o), some (jI g), some (jI t)]) (by decide) rfl rfl (Nat.le_of_ble_eq_true rfl) (fun Z hE hl hrt hR hm hret => ?_)
  subst hE
  have hc := hok.cnt
  have hs := hok.len g t hg0 hg1
  refine zi_aload_n dX3_wordsOf_0 rfl ?_
  refine zt_g0 q2431 dX3_wordsOf_1 ?_
  refine zi_bipush dX3_wordsOf_4 (by decide +kernel) ?_
  refine zi_bipush dX3_wordsOf_6 (by decide +kernel) ?_
  refine zi_iload_n dX3_wordsOf_8 rfl ?_
  refine zi_imul dX3_wordsOf_9 ?_
  refine zi_iadd dX3_wordsOf_10 ?_
  refine zi_iload_n dX3_wordsOf_11 rfl ?_
  refine zi_if_eq 19 dX3_wordsOf_12 (by decide) (by omega) (fun c12 => ?_) (fun c12 => ?_)
  · refine zi_iconst dX3_wordsOf_19 ?_
    refine zi_iadd dX3_wordsOf_20 ?_
    refine zt_ld0 dX3_wordsOf_21 (ha) (by omega) ?_
    refine zi_l2i dX3_wordsOf_22 ?_
    exact zi_ireturn hrt dX3_wordsOf_23 (hret _ _ ⟨rfl, by unfold sLen at hs ⊢; first | (rw [if_neg (by omega)] at hs ⊢; exact ⟨rfl, hs⟩) | (rw [if_pos (by omega)] at hs ⊢; exact ⟨rfl, hs⟩)⟩)
  · refine zi_iconst dX3_wordsOf_15 ?_
    refine zi_goto 20 dX3_wordsOf_16 (by decide) ?_
    refine zi_iadd dX3_wordsOf_20 ?_
    refine zt_ld0 dX3_wordsOf_21 (ha) (by omega) ?_
    refine zi_l2i dX3_wordsOf_22 ?_
    exact zi_ireturn hrt dX3_wordsOf_23 (hret _ _ ⟨rfl, by unfold sLen at hs ⊢; first | (rw [if_neg (by omega)] at hs ⊢; exact ⟨rfl, hs⟩) | (rw [if_pos (by omega)] at hs ⊢; exact ⟨rfl, hs⟩)⟩)
theorem mw_X3_wordAt : MWV yX3_wordAt cX3_wordAt 4 (some Jvm.ClassFile.FieldType.long) 3 := ⟨q2730, qs74, q128, q2731, by decide, by decide +kernel, by decide +kernel, by decide +kernel⟩
set_option maxHeartbeats 4000000 in
theorem tc_wordAt (l : Launch) (E : ZE) (o : Nat) (ad : Nat → Nat) (σ : TS) (a : Int → Int) (ha : σ 0 = a) (g : Int) (k : Int) (t : Int) (hok : OkA a) (hg0 : 0 ≤ g) (hg1 : g < a 66) (ht : -2147483648 ≤ t ∧ t < 2147483648) (hk0 : 0 ≤ k) (hk1 : k < sLen a g t) : TCl l yX3_wordAt (ws_ yX3_wordAt cX3_wordAt 4 (some Jvm.ClassFile.FieldType.long)) 1 E o ad σ [.ref o, jI g, jI k, jI t] (fun τ v => τ = σ ∧ (v = sWd a g k t ∧ 1 ≤ v ∧ v < 282429536481)) := by
  refine tcl_of (own := RX3) (cc := cX3_wordAt) (L := [some (.ref o), some (jI g), some (jI k), some (jI t)]) (by decide) rfl rfl (Nat.le_of_ble_eq_true rfl) (fun Z hE hl hrt hR hm hret => ?_)
  subst hE
  have hc := hok.cnt
  have hs := hok.len g t hg0 hg1
  have hw := isWd_r (hok.wrd g k t hg0 hg1 hk0 hk1)
  refine zi_aload_n dX3_wordAt_0 rfl ?_
  refine zt_g0 q2431 dX3_wordAt_1 ?_
  refine zi_bipush dX3_wordAt_4 (by decide +kernel) ?_
  refine zi_bipush dX3_wordAt_6 (by decide +kernel) ?_
  refine zi_iload_n dX3_wordAt_8 rfl ?_
  refine zi_imul dX3_wordAt_9 ?_
  refine zi_iadd dX3_wordAt_10 ?_
  refine zi_iconst dX3_wordAt_11 ?_
  refine zi_iadd dX3_wordAt_12 ?_
  refine zi_iload_n dX3_wordAt_13 rfl ?_
  refine zi_if_eq 22 dX3_wordAt_14 (by decide) (by omega) (fun c14 => ?_) (fun c14 => ?_)
  · refine zi_iconst dX3_wordAt_22 ?_
    refine zi_iadd dX3_wordAt_23 ?_
    refine zi_iload_n dX3_wordAt_24 rfl ?_
    refine zi_iadd dX3_wordAt_25 ?_
    refine zt_ld0 dX3_wordAt_26 (ha) (by omega) ?_
    exact zi_lreturn hrt dX3_wordAt_27 (hret _ _ ⟨rfl, by unfold sWd at hw ⊢; first | (rw [if_neg (by omega)] at hw ⊢; exact ⟨rfl, hw⟩) | (rw [if_pos (by omega)] at hw ⊢; exact ⟨rfl, hw⟩)⟩)
  · refine zi_bipush dX3_wordAt_17 (by decide +kernel) ?_
    refine zi_goto 23 dX3_wordAt_19 (by decide) ?_
    refine zi_iadd dX3_wordAt_23 ?_
    refine zi_iload_n dX3_wordAt_24 rfl ?_
    refine zi_iadd dX3_wordAt_25 ?_
    refine zt_ld0 dX3_wordAt_26 (ha) (by omega) ?_
    exact zi_lreturn hrt dX3_wordAt_27 (hret _ _ ⟨rfl, by unfold sWd at hw ⊢; first | (rw [if_neg (by omega)] at hw ⊢; exact ⟨rfl, hw⟩) | (rw [if_pos (by omega)] at hw ⊢; exact ⟨rfl, hw⟩)⟩)
theorem mw_X3_termWord : MWV yX3_termWord cX3_termWord 3 (some Jvm.ClassFile.FieldType.long) 2 := ⟨q2738, qs76, q128, q2739, by decide, by decide +kernel, by decide +kernel, by decide +kernel⟩
set_option maxHeartbeats 4000000 in
theorem tc_termWord (l : Launch) (E : ZE) (o : Nat) (ad : Nat → Nat) (σ : TS) (a : Int → Int) (ha : σ 0 = a) (t : Int) (w : Int) (hok : OkA a) (ht0 : 0 ≤ t) (ht1 : t < a 20) (hw0 : -2147483648 ≤ w ∧ w < 2147483648) : TCl l yX3_termWord (ws_ yX3_termWord cX3_termWord 3 (some Jvm.ClassFile.FieldType.long)) 1 E o ad σ [.ref o, jI t, jI w] (fun τ v => τ = σ ∧ (v = tWd a t w ∧ 1 ≤ v ∧ v < 282429536481)) := by
  refine tcl_of (own := RX3) (cc := cX3_termWord) (L := [some (.ref o), some (jI t), some (jI w)]) (by decide) rfl rfl (Nat.le_of_ble_eq_true rfl) (fun Z hE hl hrt hR hm hret => ?_)
  subst hE
  have hc := hok.cnt
  have hw := isWd_r (hok.term t w ht0 ht1)
  refine zi_aload_n dX3_termWord_0 rfl ?_
  refine zt_g0 q2431 dX3_termWord_1 ?_
  refine zi_bipush dX3_termWord_4 (by decide +kernel) ?_
  refine zi_iconst dX3_termWord_6 ?_
  refine zi_iload_n dX3_termWord_7 rfl ?_
  refine zi_imul dX3_termWord_8 ?_
  refine zi_iadd dX3_termWord_9 ?_
  refine zi_iload_n dX3_termWord_10 rfl ?_
  refine zi_if_eq 18 dX3_termWord_11 (by decide) (by omega) (fun c11 => ?_) (fun c11 => ?_)
  · refine zi_iconst dX3_termWord_18 ?_
    refine zi_iadd dX3_termWord_19 ?_
    refine zt_ld0 dX3_termWord_20 (ha) (by omega) ?_
    exact zi_lreturn hrt dX3_termWord_21 (hret _ _ ⟨rfl, by unfold tWd at hw ⊢; first | (rw [if_neg (by omega)] at hw ⊢; exact ⟨rfl, hw⟩) | (rw [if_pos (by omega)] at hw ⊢; exact ⟨rfl, hw⟩)⟩)
  · refine zi_iconst dX3_termWord_14 ?_
    refine zi_goto 19 dX3_termWord_15 (by decide) ?_
    refine zi_iadd dX3_termWord_19 ?_
    refine zt_ld0 dX3_termWord_20 (ha) (by omega) ?_
    exact zi_lreturn hrt dX3_termWord_21 (hret _ _ ⟨rfl, by unfold tWd at hw ⊢; first | (rw [if_neg (by omega)] at hw ⊢; exact ⟨rfl, hw⟩) | (rw [if_pos (by omega)] at hw ⊢; exact ⟨rfl, hw⟩)⟩)
