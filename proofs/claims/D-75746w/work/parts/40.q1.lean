/-! STRINGS -/
set_option maxRecDepth 100000
theorem zgetD_mem {w : List Int} {k : Nat} (h : k < w.length) : w.getD k 0 ∈ w := by
  rw [List.getD_eq_getElem?_getD, List.getElem?_eq_getElem h]
  exact List.getElem_mem h
theorem zgetD_ext {w u : List Int} (h : w.length = u.length) (h2 : ∀ j : Nat, j < w.length → w.getD j 0 = u.getD j 0) : w = u := by
  apply List.ext_getElem h
  intro i hi hi2
  have := h2 i hi
  rw [List.getD_eq_getElem?_getD, List.getD_eq_getElem?_getD, List.getElem?_eq_getElem hi, List.getElem?_eq_getElem hi2] at this
  exact this
theorem zStr_fun {a : Nat} {w u : List Int} {A : Nat → Prop} {U : State} {H : Heap} (hw : w.length ≤ 100000) (hu : u.length ≤ 100000) (hcw : ∀ c ∈ w, -128 ≤ c ∧ c ≤ 127) (hcu : ∀ c ∈ u, -128 ≤ c ∧ c ≤ 127) (h1 : zStr a w A U H) (h2 : zStr a u A U H) : w = u := by
  obtain ⟨b, -, -, ⟨cf, k, i, f, cell, p1, -, p3, -, p5, -⟩, x, y1, -, -, -, y5, y6, -⟩ := h1
  obtain ⟨b', -, -, ⟨cf', k', i', f', cell', p1', -, p3', -, p5', -⟩, x', y1', -, -, -, y5', y6', -⟩ := h2
  have e1 := p1.symm.trans p1'
  simp only [Option.some.injEq, Prod.mk.injEq] at e1
  obtain ⟨-, -, -, e4⟩ := e1
  have e2 : cell = cell' := Option.some.inj (p3.symm.trans p3')
  subst e2 e4
  have e3 : b = b' := by simpa using p5.symm.trans p5'
  subst e3
  have e5 : x = x' := Option.some.inj (y1.symm.trans y1')
  subst e5
  have e6 := y5.symm.trans y5'
  have hl : w.length = u.length := by
    have := congrArg Int32.toInt e6
    rw [z_nat, z_nat, Int32_ofInt_range (by omega), Int32_ofInt_range (by omega)] at this
    omega
  refine zgetD_ext hl (fun j hj => ?_)
  have e7 := (y6 j hj).symm.trans (y6' j (by omega))
  have r1 := hcw _ (zgetD_mem (w := w) (k := j) hj)
  have r2 := hcu _ (zgetD_mem (w := u) (k := j) (by omega))
  have e8 : Int32.ofInt (w.getD j 0) = Int32.ofInt (u.getD j 0) := by simpa using e7
  have e9 := congrArg Int32.toInt e8
  rw [Int32_ofInt_range (by omega), Int32_ofInt_range (by omega)] at e9
  exact e9
theorem mw_J6_isLatin1 : MWV yJ6_isLatin1 cJ6_isLatin1 1 (some Jvm.ClassFile.FieldType.boolean) 0 := ⟨q1056, q1057, q126, q1058, by decide, by decide +kernel, by decide +kernel, by decide +kernel⟩
set_option maxHeartbeats 4000000 in
theorem qc_J6_isLatin1 (l : Launch) (E : ZE) (a : Nat) (w : List Int) : QC l yJ6_isLatin1 (ws_ yJ6_isLatin1 cJ6_isLatin1 1 (some Jvm.ClassFile.FieldType.boolean)) 1 0 0 E [.ref a] (fun A U H => zStr a w A U H) (fun r => r = some (jI 1)) := by
  refine qc_of (own := RJ6) (cc := cJ6_isLatin1) (L := [some (.ref a)]) (by decide) rfl rfl (Nat.le_of_ble_eq_true rfl) (fun Z hE hl hrt hR hm hnm hret hF => ?_)
  subst hE
  obtain ⟨vb, hO, hc, hv, hT⟩ := hF
  refine zi_gets (v := jI 1) (fun h => h.2.2.2.1) q612 dJ6_isLatin1_0 ?_
  refine zi_if_eq 17 dJ6_isLatin1_3 (by decide) (by decide) (fun h => absurd h (by decide)) (fun _ => ?_)
  refine zi_aload_n dJ6_isLatin1_6 rfl ?_
  refine zi_gff hc (fun _ h => h) q978 dJ6_isLatin1_7 ?_
  refine zi_if_ne 17 dJ6_isLatin1_10 (by decide) (by decide) (fun h => absurd h (by decide)) (fun _ => ?_)
  refine zi_iconst dJ6_isLatin1_13 ?_
  refine zi_goto 18 dJ6_isLatin1_14 (by decide) ?_
  exact fun C0 b9 => (zi_zreturn hrt (z_nb (Or.inr rfl)) dJ6_isLatin1_18 (fun H h1 h2 h3 h4 t h5 h6 => hret _ _ _ _ (rfl) b9.1 H h1 h2 h3 h4 t h5 h6)) C0 b9
theorem mw_J6_coder : MWV yJ6_coder cJ6_coder 1 (some Jvm.ClassFile.FieldType.byte) 0 := ⟨q933, q934, q126, q935, by decide, by decide +kernel, by decide +kernel, by decide +kernel⟩
set_option maxHeartbeats 4000000 in
theorem qc_J6_coder (l : Launch) (E : ZE) (a : Nat) (w : List Int) : QC l yJ6_coder (ws_ yJ6_coder cJ6_coder 1 (some Jvm.ClassFile.FieldType.byte)) 1 0 0 E [.ref a] (fun A U H => zStr a w A U H) (fun r => r = some (jI 0)) := by
  refine qc_of (own := RJ6) (cc := cJ6_coder) (L := [some (.ref a)]) (by decide) rfl rfl (Nat.le_of_ble_eq_true rfl) (fun Z hE hl hrt hR hm hnm hret hF => ?_)
  subst hE
  obtain ⟨vb, hO, hc, hv, hT⟩ := hF
  refine zi_gets (v := jI 1) (fun h => h.2.2.2.1) q612 dJ6_coder_0 ?_
  refine zi_if_eq 13 dJ6_coder_3 (by decide) (by decide) (fun h => absurd h (by decide)) (fun _ => ?_)
  refine zi_aload_n dJ6_coder_6 rfl ?_
  refine zi_gff hc (fun _ h => h) q978 dJ6_coder_7 ?_
  refine zi_goto 14 dJ6_coder_10 (by decide) ?_
  exact fun C0 b9 => (zi_zreturn hrt (rfl) dJ6_coder_14 (fun H h1 h2 h3 h4 t h5 h6 => hret _ _ _ _ (rfl) b9.1 H h1 h2 h3 h4 t h5 h6)) C0 b9
theorem mw_J6_length : MWV yJ6_length cJ6_length 1 (some Jvm.ClassFile.FieldType.int) 0 := ⟨q929, q930, q126, q931, by decide, by decide +kernel, by decide +kernel, by decide +kernel⟩
set_option maxHeartbeats 4000000 in
theorem qc_J6_length (l : Launch) (E : ZE) (a : Nat) (w : List Int) (hw : w.length ≤ 100000) : QC l yJ6_length (ws_ yJ6_length cJ6_length 1 (some Jvm.ClassFile.FieldType.int)) 2 0 0 E [.ref a] (fun A U H => zStr a w A U H) (fun r => r = some (jI w.length)) := by
  refine qc_of (own := RJ6) (cc := cJ6_length) (L := [some (.ref a)]) (by decide) rfl rfl (Nat.le_of_ble_eq_true rfl) (fun Z hE hl hrt hR hm hnm hret hF => ?_)
  subst hE
  have hF0 := hF
  obtain ⟨vb, hO, hc, hv, hT⟩ := hF
  refine zi_aload_n dJ6_length_0 rfl ?_
  refine zi_gff hv (fun _ h => h) q977 dJ6_length_1 ?_
  refine zi_lenF hT (fun _ h => h) dJ6_length_4 ?_
  refine zi_aload_n dJ6_length_5 rfl ?_
  refine zp_V (As := []) mw_J6_coder (qc_J6_coder (zl Z) (zE Z) a w) q932 (zr_fro hO (fun _ h => h)) hR (by decide) rfl (by simp [Value.category]) dJ6_length_6 ⟨Nat.le_refl _, Nat.le_refl _⟩ (hF0) ((fun A U H A' U' H' h r => zStr_tr h r)) (fun r6 e6 => ?_)
  subst e6
  refine zi_ishr 0 dJ6_length_9 (by decide) (by omega) ?_
  exact fun C0 b9 => (zi_ireturn hrt dJ6_length_10 (fun H h1 h2 h3 h4 t h5 h6 => hret _ _ _ _ (by simp) b9.1 H h1 h2 h3 h4 t h5 h6)) C0 b9
theorem mw_J17_checkIndex : MWS yJ17_checkIndex cJ17_checkIndex 3 (some Jvm.ClassFile.FieldType.int) 3 := ⟨q420, q142, q421, by decide, by decide +kernel, by decide +kernel, by decide +kernel⟩
set_option maxHeartbeats 4000000 in
theorem qc_J17_checkIndex_n (l : Launch) (E : ZE) (i : Int) (n : Int) (h1 : 0 ≤ i ∧ i < n) (h2 : n ≤ 100000) : QC l yJ17_checkIndex (ws_ yJ17_checkIndex cJ17_checkIndex 3 (some Jvm.ClassFile.FieldType.int)) 1 0 0 E [jI i, jI n, .null] zF0 (fun r => r = some (jI i)) := by
  refine qc_of (own := RJ17) (cc := cJ17_checkIndex) (L := [some (jI i), some (jI n), some (.null)]) (by decide) rfl rfl (Nat.le_of_ble_eq_true rfl) (fun Z hE hl hrt hR hm hnm hret hF => ?_)
  subst hE
  refine zi_iload_n dJ17_checkIndex_0 rfl ?_
  refine zi_if_lt 9 dJ17_checkIndex_1 (by decide) (by omega) (fun c1 => ?_) (fun c1 => ?_)
  · omega
  · refine zi_iload_n dJ17_checkIndex_4 rfl ?_
    refine zi_iload_n dJ17_checkIndex_5 rfl ?_
    refine zi_icmp_lt 16 dJ17_checkIndex_6 (by decide) (by omega) (fun c6 => ?_) (fun c6 => ?_)
    · refine zi_iload_n dJ17_checkIndex_16 rfl ?_
      exact fun C0 b9 => (zi_ireturn hrt dJ17_checkIndex_17 (fun H h1 h2 h3 h4 t h5 h6 => hret _ _ _ _ (rfl) b9.1 H h1 h2 h3 h4 t h5 h6)) C0 b9
    · omega
set_option maxHeartbeats 4000000 in
theorem qc_J17_checkIndex (l : Launch) (E : ZE) (i : Int) (n : Int) (f : Nat) (h1 : 0 ≤ i ∧ i < n) (h2 : n ≤ 100000) : QC l yJ17_checkIndex (ws_ yJ17_checkIndex cJ17_checkIndex 3 (some Jvm.ClassFile.FieldType.int)) 1 0 0 E [jI i, jI n, .ref f] zF0 (fun r => r = some (jI i)) := by
  refine qc_of (own := RJ17) (cc := cJ17_checkIndex) (L := [some (jI i), some (jI n), some (.ref f)]) (by decide) rfl rfl (Nat.le_of_ble_eq_true rfl) (fun Z hE hl hrt hR hm hnm hret hF => ?_)
  subst hE
  refine zi_iload_n dJ17_checkIndex_0 rfl ?_
  refine zi_if_lt 9 dJ17_checkIndex_1 (by decide) (by omega) (fun c1 => ?_) (fun c1 => ?_)
  · omega
  · refine zi_iload_n dJ17_checkIndex_4 rfl ?_
    refine zi_iload_n dJ17_checkIndex_5 rfl ?_
    refine zi_icmp_lt 16 dJ17_checkIndex_6 (by decide) (by omega) (fun c6 => ?_) (fun c6 => ?_)
    · refine zi_iload_n dJ17_checkIndex_16 rfl ?_
      exact fun C0 b9 => (zi_ireturn hrt dJ17_checkIndex_17 (fun H h1 h2 h3 h4 t h5 h6 => hret _ _ _ _ (rfl) b9.1 H h1 h2 h3 h4 t h5 h6)) C0 b9
    · omega
theorem mw_J6_checkIndex : MWS yJ6_checkIndex cJ6_checkIndex 2 none 2 := ⟨q837, q126, q838, by decide, by decide +kernel, by decide +kernel, by decide +kernel⟩
set_option maxHeartbeats 4000000 in
theorem qc_J6_checkIndex (l : Launch) (E : ZE) (i : Int) (n : Int) (h1 : 0 ≤ i ∧ i < n) (h2 : n ≤ 100000) : QC l yJ6_checkIndex (ws_ yJ6_checkIndex cJ6_checkIndex 2 none) 2 0 0 E [jI i, jI n] zF0 (fun r => r = none) := by
  refine qc_of (own := RJ6) (cc := cJ6_checkIndex) (L := [some (jI i), some (jI n)]) (by decide) rfl rfl (Nat.le_of_ble_eq_true rfl) (fun Z hE hl hrt hR hm hnm hret hF => ?_)
  subst hE
  refine zi_iload_n dJ6_checkIndex_0 rfl ?_
  refine zi_iload_n dJ6_checkIndex_1 rfl ?_
  refine zi_getsq (fun h => h.2.2.2.2.2.2.1) q816 dJ6_checkIndex_2 (fun r9 hr9 => ?_)
  rcases hr9 with rfl | ⟨t9, rfl⟩
  · refine zp_S (As := [_, _, .null]) mw_J17_checkIndex (qc_J17_checkIndex_n (zl Z) (zE Z) _ _ h1 h2) q839 hR (by decide) rfl (by simp [Value.category]) dJ6_checkIndex_5 ⟨Nat.le_refl _, Nat.le_refl _⟩ (trivial) (zF0_ok) (fun r5 e5 => ?_)
    subst e5
    refine zi_pop dJ6_checkIndex_8 rfl ?_
    exact fun C0 b9 => (zi_return hrt dJ6_checkIndex_9 (fun H h1 h2 h3 h4 t h5 h6 => hret _ _ _ _ (rfl) b9.1 H h1 h2 h3 h4 t h5 h6)) C0 b9
  · refine zp_S (As := [_, _, _]) mw_J17_checkIndex (qc_J17_checkIndex (zl Z) (zE Z) _ _ _ h1 h2) q839 hR (by decide) rfl (by simp [Value.category]) dJ6_checkIndex_5 ⟨Nat.le_refl _, Nat.le_refl _⟩ (trivial) (zF0_ok) (fun r5 e5 => ?_)
    subst e5
    refine zi_pop dJ6_checkIndex_8 rfl ?_
    exact fun C0 b9 => (zi_return hrt dJ6_checkIndex_9 (fun H h1 h2 h3 h4 t h5 h6 => hret _ _ _ _ (rfl) b9.1 H h1 h2 h3 h4 t h5 h6)) C0 b9
theorem mw_J20_checkIndex : MWS yJ20_checkIndex cJ20_checkIndex 2 (some Jvm.ClassFile.FieldType.int) 2 := ⟨q417, q158, q418, by decide, by decide +kernel, by decide +kernel, by decide +kernel⟩
set_option maxHeartbeats 4000000 in
theorem qc_J20_checkIndex (l : Launch) (E : ZE) (i : Int) (n : Int) (h1 : 0 ≤ i ∧ i < n) (h2 : n ≤ 100000) : QC l yJ20_checkIndex (ws_ yJ20_checkIndex cJ20_checkIndex 2 (some Jvm.ClassFile.FieldType.int)) 2 0 0 E [jI i, jI n] zF0 (fun r => r = some (jI i)) := by
  refine qc_of (own := RJ20) (cc := cJ20_checkIndex) (L := [some (jI i), some (jI n)]) (by decide) rfl rfl (Nat.le_of_ble_eq_true rfl) (fun Z hE hl hrt hR hm hnm hret hF => ?_)
  subst hE
  refine zi_iload_n dJ20_checkIndex_0 rfl ?_
  refine zi_iload_n dJ20_checkIndex_1 rfl ?_
  refine zi_null dJ20_checkIndex_2 ?_
  refine zp_S (As := [_, _, .null]) mw_J17_checkIndex (qc_J17_checkIndex_n (zl Z) (zE Z) _ _ h1 h2) q419 hR (by decide) rfl (by simp [Value.category]) dJ20_checkIndex_3 ⟨Nat.le_refl _, Nat.le_refl _⟩ (trivial) (zF0_ok) (fun r3 e3 => ?_)
  subst e3
  exact fun C0 b9 => (zi_ireturn hrt dJ20_checkIndex_6 (fun H h1 h2 h3 h4 t h5 h6 => hret _ _ _ _ (rfl) b9.1 H h1 h2 h3 h4 t h5 h6)) C0 b9
theorem mw_J16_charAt : MWS yJ16_charAt cJ16_charAt 2 (some Jvm.ClassFile.FieldType.char) 2 := ⟨q2592, q141, q2593, by decide, by decide +kernel, by decide +kernel, by decide +kernel⟩
set_option maxHeartbeats 4000000 in
theorem qc_J16_charAt (l : Launch) (E : ZE) (b : Nat) (i : Int) (w : List Int) (h1 : 0 ≤ i ∧ i < w.length) (hw : w.length ≤ 100000) (hch : 0 ≤ w.getD i.toNat 0 ∧ w.getD i.toNat 0 ≤ 255) : QC l yJ16_charAt (ws_ yJ16_charAt cJ16_charAt 2 (some Jvm.ClassFile.FieldType.char)) 3 0 0 E [.ref b, jI i] (fun A U H => (fun A U H => va_T .byte b w.length (fun j => jI (w.getD j 0)) A U H) A U H) (fun r => r = some (jI (w.getD i.toNat 0))) := by
  refine qc_of (own := RJ16) (cc := cJ16_charAt) (L := [some (.ref b), some (jI i)]) (by decide) rfl rfl (Nat.le_of_ble_eq_true rfl) (fun Z hE hl hrt hR hm hnm hret hF => ?_)
  subst hE
  refine zi_iload_n dJ16_charAt_0 rfl ?_
  refine zi_aload_n dJ16_charAt_1 rfl ?_
  refine zi_lenF hF (fun _ h => h) dJ16_charAt_2 ?_
  refine zp_S (As := [_, _]) mw_J6_checkIndex (qc_J6_checkIndex (zl Z) (zE Z) _ _ h1 (by omega)) q2594 hR (by decide) rfl (by simp [Value.category]) dJ16_charAt_3 ⟨Nat.le_refl _, Nat.le_refl _⟩ (trivial) (zF0_ok) (fun r3 e3 => ?_)
  subst e3
  refine zi_aload_n dJ16_charAt_6 rfl ?_
  refine zi_iload_n dJ16_charAt_7 rfl ?_
  refine zi_ldBF hF (fun _ h => h) (by omega) (by omega) (rfl) dJ16_charAt_8 ?_
  refine zi_sipush dJ16_charAt_9 (by decide +kernel) ?_
  refine zi_iand255 dJ16_charAt_12 ?_
  refine zi_i2c dJ16_charAt_13 (by omega) ?_
  exact fun C0 b9 => (zi_zreturn hrt (z_nc (by omega)) dJ16_charAt_14 (fun H h1 h2 h3 h4 t h5 h6 => hret _ _ _ _ (by rw [Int.emod_eq_of_lt hch.1 (by omega)]) b9.1 H h1 h2 h3 h4 t h5 h6)) C0 b9
theorem mw_J6_charAt : MWV yJ6_charAt cJ6_charAt 2 (some Jvm.ClassFile.FieldType.char) 1 := ⟨q2588, q2589, q126, q2590, by decide, by decide +kernel, by decide +kernel, by decide +kernel⟩
set_option maxHeartbeats 4000000 in
theorem qc_J6_charAt (l : Launch) (E : ZE) (a : Nat) (i : Int) (w : List Int) (h1 : 0 ≤ i ∧ i < w.length) (hw : w.length ≤ 100000) (hch : 0 ≤ w.getD i.toNat 0 ∧ w.getD i.toNat 0 ≤ 255) : QC l yJ6_charAt (ws_ yJ6_charAt cJ6_charAt 2 (some Jvm.ClassFile.FieldType.char)) 4 0 0 E [.ref a, jI i] (fun A U H => zStr a w A U H) (fun r => r = some (jI (w.getD i.toNat 0))) := by
  refine qc_of (own := RJ6) (cc := cJ6_charAt) (L := [some (.ref a), some (jI i)]) (by decide) rfl rfl (Nat.le_of_ble_eq_true rfl) (fun Z hE hl hrt hR hm hnm hret hF => ?_)
  subst hE
  have hF0 := hF
  obtain ⟨vb, hO, hc, hv, hT⟩ := hF
  refine zi_aload_n dJ6_charAt_0 rfl ?_
  refine zp_V (As := []) mw_J6_isLatin1 (qc_J6_isLatin1 (zl Z) (zE Z) a w) q1055 (zr_fro hO (fun _ h => h)) hR (by decide) rfl (by simp [Value.category]) dJ6_charAt_1 ⟨Nat.le_refl _, Nat.le_refl _⟩ (hF0) ((fun A U H A' U' H' h r => zStr_tr h r)) (fun r1 e1 => ?_)
  subst e1
  refine zi_if_eq 16 dJ6_charAt_4 (by decide) (by decide) (fun h => absurd h (by decide)) (fun _ => ?_)
  refine zi_aload_n dJ6_charAt_7 rfl ?_
  refine zi_gff hv (fun _ h => h) q977 dJ6_charAt_8 ?_
  refine zi_iload_n dJ6_charAt_11 rfl ?_
  refine zp_S (As := [_, _]) mw_J16_charAt (qc_J16_charAt (zl Z) (zE Z) _ _ w h1 hw hch) q2591 hR (by decide) rfl (by simp [Value.category]) dJ6_charAt_12 ⟨Nat.le_refl _, Nat.le_refl _⟩ (hT) ((fun A U H A' U' H' h r => zT_tr h r)) (fun r12 e12 => ?_)
  subst e12
  exact fun C0 b9 => (zi_zreturn hrt (z_nc (by omega)) dJ6_charAt_15 (fun H h1 h2 h3 h4 t h5 h6 => hret _ _ _ _ (rfl) b9.1 H h1 h2 h3 h4 t h5 h6)) C0 b9
theorem mw_J16_equals : MWS yJ16_equals cJ16_equals 3 (some Jvm.ClassFile.FieldType.boolean) 2 := ⟨q614, q141, q615, by decide, by decide +kernel, by decide +kernel, by decide +kernel⟩
set_option maxHeartbeats 4000000 in
theorem qc_J16_equals (l : Launch) (E : ZE) (b : Nat) (c : Nat) (w : List Int) (u : List Int) (hw : w.length ≤ 100000) (hu : u.length ≤ 100000) (hcw : ∀ c ∈ w, -128 ≤ c ∧ c ≤ 127) (hcu : ∀ c ∈ u, -128 ≤ c ∧ c ≤ 127) : QC l yJ16_equals (ws_ yJ16_equals cJ16_equals 3 (some Jvm.ClassFile.FieldType.boolean)) 1 0 0 E [.ref b, .ref c] (fun A U H => (fun A U H => va_T .byte b w.length (fun j => jI (w.getD j 0)) A U H) A U H ∧ (fun A U H => va_T .byte c u.length (fun j => jI (u.getD j 0)) A U H) A U H) (fun r => r = some (jI (bI (w = u)))) := by
  refine qc_of (own := RJ16) (cc := cJ16_equals) (L := [some (.ref b), some (.ref c), none]) (by decide) rfl rfl (Nat.le_of_ble_eq_true rfl) (fun Z hE hl hrt hR hm hnm hret hF => ?_)
  subst hE
  refine zi_aload_n dJ16_equals_0 rfl ?_
  refine zi_lenF hF.1 (fun _ h => h) dJ16_equals_1 ?_
  refine zi_aload_n dJ16_equals_2 rfl ?_
  refine zi_lenF hF.2 (fun _ h => h) dJ16_equals_3 ?_
  refine zi_icmp_ne 34 dJ16_equals_4 (by decide) (by omega) (fun c4 => ?_) (fun c4 => ?_)
  · refine zi_iconst dJ16_equals_34 ?_
    exact fun C0 b9 => (zi_zreturn hrt (z_nb (by first | exact bI_01 _ | exact Or.inl rfl | exact Or.inr rfl)) dJ16_equals_35 (fun H h1 h2 h3 h4 t h5 h6 => hret _ _ _ _ (congrArg (fun z => some (jI z)) (bI_0 (fun q => c4 (by rw [q])))) b9.1 H h1 h2 h3 h4 t h5 h6)) C0 b9
  · refine zi_iconst dJ16_equals_7 ?_
    refine zi_istore_2 dJ16_equals_8 hm (by decide) rfl ?_
    have lp9 : ∀ (n : Nat) (k : Nat) (x2 : Int), (x2 = (k : Int)) → (x2 ≤ w.length) → (∀ j : Nat, j < k → w.getD j 0 = u.getD j 0) → (w.length - x2).toNat < n → GV RJ16 cJ16_equals Z (zA Z) (zs Z).heap [] 0 0 9 [some (.ref b), some (.ref c), some (jI x2)] [] := by
      intro n
      induction n with
      | zero => intro k x2 i9_0 i9_1 i9_2 m9; exact absurd m9 (Nat.not_lt_zero _)
      | succ n ih9 =>
        intro k x2 i9_0 i9_1 i9_2 m9
        subst i9_0
        refine zi_iload_n dJ16_equals_9 rfl ?_
        refine zi_aload_n dJ16_equals_10 rfl ?_
        refine zi_lenF hF.1 (fun _ h => h) dJ16_equals_11 ?_
        refine zi_icmp_ge 32 dJ16_equals_12 (by decide) (by omega) (fun c12 => ?_) (fun c12 => ?_)
        · refine zi_iconst dJ16_equals_32 ?_
          exact fun C0 b9 => (zi_zreturn hrt (z_nb (by first | exact bI_01 _ | exact Or.inl rfl | exact Or.inr rfl)) dJ16_equals_33 (fun H h1 h2 h3 h4 t h5 h6 => hret _ _ _ _ (congrArg (fun z => some (jI z)) (bI_1 (zgetD_ext (by omega) (fun j hj => i9_2 j (by omega))))) b9.1 H h1 h2 h3 h4 t h5 h6)) C0 b9
        · have r1 : -128 ≤ w.getD k 0 ∧ w.getD k 0 ≤ 127 := hcw _ (zgetD_mem (by omega))
          have r2 : -128 ≤ u.getD k 0 ∧ u.getD k 0 ≤ 127 := hcu _ (zgetD_mem (by omega))
          refine zi_aload_n dJ16_equals_15 rfl ?_
          refine zi_iload_n dJ16_equals_16 rfl ?_
          refine zi_ldBF hF.1 (fun _ h => h) (by omega) (by omega) (rfl) dJ16_equals_17 ?_
          refine zi_aload_n dJ16_equals_18 rfl ?_
          refine zi_iload_n dJ16_equals_19 rfl ?_
          refine zi_ldBF hF.2 (fun _ h => h) (by omega) (by omega) (rfl) dJ16_equals_20 ?_
          refine zi_icmp_eq 26 dJ16_equals_21 (by decide) (by simp only [Int.toNat_natCast]; omega) (fun c21 => ?_) (fun c21 => ?_)
          · refine zi_iinc_2 dJ16_equals_26 hm (by decide) rfl ?_
            refine zi_goto 9 dJ16_equals_29 (by decide) ?_
            refine ih9 (k + 1) _ (by omega) (by omega) ?_ (by omega)
            · intro j hj
              by_cases q : j < k
              · exact i9_2 j q
              · rw [show j = k by omega]; simpa using c21
          · refine zi_iconst dJ16_equals_24 ?_
            exact fun C0 b9 => (zi_zreturn hrt (z_nb (by first | exact bI_01 _ | exact Or.inl rfl | exact Or.inr rfl)) dJ16_equals_25 (fun H h1 h2 h3 h4 t h5 h6 => hret _ _ _ _ (congrArg (fun z => some (jI z)) (bI_0 (fun q => c21 (by rw [q])))) b9.1 H h1 h2 h3 h4 t h5 h6)) C0 b9
    exact lp9 _ (0) _ (by omega) (by omega) (fun j hj => by omega) (Nat.lt_succ_self _)
theorem mw_J6_equals : MWV yJ6_equals cJ6_equals 3 (some Jvm.ClassFile.FieldType.boolean) 1 := ⟨q608, q609, q126, q610, by decide, by decide +kernel, by decide +kernel, by decide +kernel⟩
set_option maxHeartbeats 4000000 in
theorem qc_J6_equals (l : Launch) (E : ZE) (b : Nat) (c : Nat) (w : List Int) (u : List Int) (hw : w.length ≤ 100000) (hu : u.length ≤ 100000) (hcw : ∀ c ∈ w, -128 ≤ c ∧ c ≤ 127) (hcu : ∀ c ∈ u, -128 ≤ c ∧ c ≤ 127) : QC l yJ6_equals (ws_ yJ6_equals cJ6_equals 3 (some Jvm.ClassFile.FieldType.boolean)) 2 0 0 E [.ref b, .ref c] (fun A U H => zStr b w A U H ∧ zStr c u A U H) (fun r => r = some (jI (bI (w = u)))) := by
  refine qc_of (own := RJ6) (cc := cJ6_equals) (L := [some (.ref b), some (.ref c), none]) (by decide) rfl rfl (Nat.le_of_ble_eq_true rfl) (fun Z hE hl hrt hR hm hnm hret hF => ?_)
  subst hE
  have hF0 := hF
  obtain ⟨⟨vb, hO, hc, hv, hT⟩, ub, hO2, hc2, hv2, hT2⟩ := hF
  refine zi_aload_n dJ6_equals_0 rfl ?_
  refine zi_aload_n dJ6_equals_1 rfl ?_
  refine zi_acmp_ne 7 dJ6_equals_2 (by decide) (fun c2 => ?_) (fun c2 => ?_)
  · refine zi_aload_n dJ6_equals_7 rfl ?_
    refine zi_instE (zr_fro hO2 (fun _ h => h)) q611 dJ6_equals_8 ?_
    refine zi_if_eq 54 dJ6_equals_11 (by decide) (by decide) (fun h => absurd h (by decide)) (fun _ => ?_)
    refine zi_aload_n dJ6_equals_14 rfl ?_
    refine zi_castE (zr_fro hO2 (fun _ h => h)) q611 dJ6_equals_15 ?_
    refine zi_astore_2 dJ6_equals_18 hm (by decide) rfl ?_
    refine zi_gets (v := jI 1) (fun h => h.2.2.2.1) q612 dJ6_equals_19 ?_
    refine zi_if_eq 36 dJ6_equals_22 (by decide) (by decide) (fun h => absurd h (by decide)) (fun _ => ?_)
    refine zi_aload_n dJ6_equals_25 rfl ?_
    refine zi_gff hc (fun _ h => h) q978 dJ6_equals_26 ?_
    refine zi_aload_n dJ6_equals_29 rfl ?_
    refine zi_gff hc2 (fun _ h => h) q978 dJ6_equals_30 ?_
    refine zi_icmp_ne 54 dJ6_equals_33 (by decide) (by decide) (fun h => absurd h (by decide)) (fun _ => ?_)
    refine zi_aload_n dJ6_equals_36 rfl ?_
    refine zi_gff hv (fun _ h => h) q977 dJ6_equals_37 ?_
    refine zi_aload_n dJ6_equals_40 rfl ?_
    refine zi_gff hv2 (fun _ h => h) q977 dJ6_equals_41 ?_
    refine zp_S (As := [_, _]) mw_J16_equals (qc_J16_equals (zl Z) (zE Z) _ _ w u hw hu hcw hcu) q613 hR (by decide) rfl (by simp [Value.category]) dJ6_equals_44 ⟨Nat.le_refl _, Nat.le_refl _⟩ (⟨hT, hT2⟩) ((fun A U H A' U' H' h r => ⟨zT_tr (h.1) r, zT_tr (h.2) r⟩)) (fun r44 e44 => ?_)
    subst e44
    refine zi_if_eqB 54 dJ6_equals_47 (by decide) (fun c47 => ?_) (fun c47 => ?_)
    · refine zi_iconst dJ6_equals_54 ?_
      exact fun C0 b9 => (zi_zreturn hrt (z_nb (by first | exact bI_01 _ | exact Or.inl rfl | exact Or.inr rfl)) dJ6_equals_55 (fun H h1 h2 h3 h4 t h5 h6 => hret _ _ _ _ (congrArg (fun z => some (jI z)) (by first | exact bI_1 c47 | exact bI_0 c47)) b9.1 H h1 h2 h3 h4 t h5 h6)) C0 b9
    · refine zi_iconst dJ6_equals_50 ?_
      refine zi_goto 55 dJ6_equals_51 (by decide) ?_
      exact fun C0 b9 => (zi_zreturn hrt (z_nb (by first | exact bI_01 _ | exact Or.inl rfl | exact Or.inr rfl)) dJ6_equals_55 (fun H h1 h2 h3 h4 t h5 h6 => hret _ _ _ _ (congrArg (fun z => some (jI z)) (by first | exact bI_1 c47 | exact bI_0 c47)) b9.1 H h1 h2 h3 h4 t h5 h6)) C0 b9
  · refine zi_iconst dJ6_equals_5 ?_
    exact fun C0 b9 => (zi_zreturn hrt (z_nb (by first | exact bI_01 _ | exact Or.inl rfl | exact Or.inr rfl)) dJ6_equals_6 (fun H h1 h2 h3 h4 t h5 h6 => hret _ _ _ _ (congrArg (fun z => some (jI z)) (bI_1 (zStr_fun hw hu hcw hcu hF0.1 (by rw [c2]; exact hF0.2)))) b9.1 H h1 h2 h3 h4 t h5 h6)) C0 b9
