/-! LISTS OF WORDS: equality, places -/
set_option maxRecDepth 100000
/-- the first place of u among the first n of wf; none: -1 -/
def ixP (wf : Int → List Int) (u : List Int) (n v : Int) : Prop := (v = -1 ∧ ∀ j : Int, 0 ≤ j → j < n → ¬ wf j = u) ∨ (0 ≤ v ∧ v < n ∧ wf v = u ∧ ∀ j : Int, 0 ≤ j → j < v → ¬ wf j = u)
theorem zr_strP {own : String} {cc : ByteArray} {Z : ZT} {ws : va_W} {C : CT0} {x : Nat} {w : List Int} (hC : zC (zE Z) C (zA Z) (zs Z) (zs Z).heap) (h : strP (zE Z) C x w) : zRc own cc Z (zA Z) (zs Z).heap ws "java/lang/String" x := by
  rcases h with h | ⟨i, q, h1, rfl, rfl⟩
  · exact zr_str hC h
  · exact zr_base (fun C0 => by
      obtain ⟨b, h2, -⟩ := (C0.2.2.2.2.2.2.2.2.1.2.2.2.2.2.2.2.1 i q h1).2
      exact h2)
set_option maxHeartbeats 4000000 in
theorem cc_J6_equals (l : Launch) (E : ZE) (C : CT0) (b : Nat) (c : Nat) (w : List Int) (u : List Int) (hw1 : w.length ≤ 100000) (hy1 : ∀ c ∈ w, -128 ≤ c ∧ c ≤ 127) (hs1 : strP E C b w) (hw2 : u.length ≤ 100000) (hy2 : ∀ c ∈ u, -128 ≤ c ∧ c ≤ 127) (hs2 : strP E C c u) : CB l yJ6_equals (ws_ yJ6_equals cJ6_equals 3 (some Jvm.ClassFile.FieldType.boolean)) 4 (0) (0) E [.ref (b), .ref (c)] C [] (fun (UU : Unit) r => r = some (jI (bI (w = u))) ∧ (True)) (fun (UU : Unit) => []) (fun (_ : Unit) _ _ => False) (fun _ => []) := by
  refine cb_of (own := RJ6) (cc := cJ6_equals) (L := [some (.ref (b)), some (.ref (c)), none]) (by decide) rfl rfl (Nat.le_of_ble_eq_true rfl) (fun Z hE hl hrt hR hm hnm hret hxc hC hx0 => ?_)
  subst hE
  refine zi_cx (fun C0 => ?_)
  have hz1 := strP_z C0 hw1 hs1 hC C0.2.2.2.2.2.2.2.2.1
  have hz2 := strP_z C0 hw2 hs2 hC C0.2.2.2.2.2.2.2.2.1
  have hz3 := hz1
  have hz4 := hz2
  obtain ⟨vb1, hO1, hd1, hv1, hT1⟩ := hz3
  obtain ⟨vb2, hO2, hd2, hv2, hT2⟩ := hz4
  refine zi_aload_n dJ6_equals_0 rfl ?_
  refine zi_aload_n dJ6_equals_1 rfl ?_
  refine zi_acmp_ne 7 dJ6_equals_2 (by decide) (fun c2 => ?_) (fun c2 => ?_)
  · refine zi_aload_n dJ6_equals_7 rfl ?_
    refine zi_instE (zr_fro hO2 (fun _ h => h)) q611 dJ6_equals_8 ?_
    refine zi_if_eq 54 dJ6_equals_11 (by decide) (by omega) (fun h => absurd h (by omega)) (fun _ => ?_)
    refine zi_aload_n dJ6_equals_14 rfl ?_
    refine zi_castE (zr_fro hO2 (fun _ h => h)) q611 dJ6_equals_15 ?_
    refine zi_astore_2 dJ6_equals_18 hm (by decide) rfl ?_
    refine zi_gets (v := jI (1)) (fun h => h.2.2.2.1) q612 dJ6_equals_19 ?_
    refine zi_if_eq 36 dJ6_equals_22 (by decide) (by omega) (fun h => absurd h (by omega)) (fun _ => ?_)
    refine zi_aload_n dJ6_equals_25 rfl ?_
    refine zi_gff hd1 (fun _ h => h) q978 dJ6_equals_26 ?_
    refine zi_aload_n dJ6_equals_29 rfl ?_
    refine zi_gff hd2 (fun _ h => h) q978 dJ6_equals_30 ?_
    refine zi_icmp_ne 54 dJ6_equals_33 (by decide) (by omega) (fun h => absurd h (by omega)) (fun _ => ?_)
    refine zi_aload_n dJ6_equals_36 rfl ?_
    refine zi_gff hv1 (fun _ h => h) q977 dJ6_equals_37 ?_
    refine zi_aload_n dJ6_equals_40 rfl ?_
    refine zi_gff hv2 (fun _ h => h) q977 dJ6_equals_41 ?_
    refine zp_S (As := [_, _]) mw_J16_equals (qc_J16_equals (zl Z) (zE Z) _ _ w u hw1 hw2 hy1 hy2) q613 hR (by decide) rfl (by simp [Value.category]) dJ6_equals_44 ⟨Nat.le_refl _, Nat.le_refl _⟩ ⟨hT1, hT2⟩ (fun A U H A2 U2 H2 h r => ⟨zT_tr h.1 r, zT_tr h.2 r⟩) (fun r44 e44 => ?_)
    subst e44
    refine zi_if_eqB 54 dJ6_equals_47 (by decide) (fun c47 => ?_) (fun c47 => ?_)
    · refine zi_iconst dJ6_equals_54 ?_
      exact zi_zreturn hrt (z_nb (by first | exact Or.inl rfl | exact Or.inr rfl | exact bI_01 _)) dJ6_equals_55 (hret () _ _ [] [] (⟨congrArg (fun z => some (jI z)) (by first | exact (bI_1 c47) | exact (bI_0 c47)), trivial⟩) rfl rfl)
    · refine zi_iconst dJ6_equals_50 ?_
      refine zi_goto 55 dJ6_equals_51 (by decide) ?_
      exact zi_zreturn hrt (z_nb (by first | exact Or.inl rfl | exact Or.inr rfl | exact bI_01 _)) dJ6_equals_55 (hret () _ _ [] [] (⟨congrArg (fun z => some (jI z)) (by first | exact (bI_1 c47) | exact (bI_0 c47)), trivial⟩) rfl rfl)
  · refine zi_iconst dJ6_equals_5 ?_
    exact zi_zreturn hrt (z_nb (by first | exact Or.inl rfl | exact Or.inr rfl | exact bI_01 _)) dJ6_equals_6 (hret () _ _ [] [] (⟨congrArg (fun z => some (jI z)) (bI_1 (zStr_fun hw1 hw2 hy1 hy2 hz1 (by rw [c2]; exact hz2))), trivial⟩) rfl rfl)
set_option maxHeartbeats 4000000 in
theorem cc_J2_indexOfRange (l : Launch) (E : ZE) (C : CT0) (a : Nat) (n : Int) (f : Int → Nat) (wf : Int → List Int) (x : Nat) (u : List Int) (h : lstC E C a n f) (hel : ∀ i : Int, 0 ≤ i → i < n → strC E C (f i) (wf i) ∧ (wf i).length ≤ 100000 ∧ ∀ c ∈ wf i, -128 ≤ c ∧ c ≤ 127) (hw : u.length ≤ 100000) (hy : ∀ c ∈ u, -128 ≤ c ∧ c ≤ 127) (hs : strP E C x u) : CB l yJ2_indexOfRange (ws_ yJ2_indexOfRange cJ2_indexOfRange 6 (some Jvm.ClassFile.FieldType.int)) 5 (0) (0) E [.ref (a), .ref (x), jI (0), jI (n)] C [] (fun (UU : (Int)) r => r = some (jI UU) ∧ (ixP wf u n UU)) (fun (UU : (Int)) => []) (fun (_ : Unit) _ _ => False) (fun _ => []) := by
  refine cb_of (own := RJ2) (cc := cJ2_indexOfRange) (L := [some (.ref (a)), some (.ref (x)), some (jI (0)), some (jI (n)), none, none]) (by decide) rfl rfl (Nat.le_of_ble_eq_true rfl) (fun Z hE hl hrt hR hm hnm hret hxc hC hx0 => ?_)
  subst hE
  have hn := lstC_n h
  have h0 := h
  obtain ⟨b, mc, h1, h2⟩ := h0
  refine zi_aload_n dJ2_indexOfRange_0 rfl ?_
  refine zf_getf zk_J2 (hC _ (h1)) 1 (by decide) rfl q199 rfl dJ2_indexOfRange_1 ?_
  refine zi_astore_4 dJ2_indexOfRange_4 hm (by decide) rfl ?_
  refine zi_aload_n dJ2_indexOfRange_6 rfl ?_
  refine zi_ifnonnull 39 dJ2_indexOfRange_7 (by decide) ?_
  refine zi_iload_n dJ2_indexOfRange_39 rfl ?_
  refine zi_istore_5 dJ2_indexOfRange_40 hm (by decide) rfl ?_
  have lp42 : ∀ (N9 : Nat) (x5 : Int), (0 ≤ x5 ∧ x5 ≤ n) → (∀ j : Int, 0 ≤ j → j < x5 → ¬ wf j = u) → (n - x5).toNat < N9 → GV RJ2 cJ2_indexOfRange Z (zA Z) (zs Z).heap (List.flatten []) 0 0 42 [some (.ref (a)), some (.ref (x)), some (jI (0)), some (jI (n)), some (.ref (b)), some (jI (x5))] [] := by
    intro N9
    induction N9 with
    | zero => intro x5 i42_0 i42_1 m42; exact absurd m42 (Nat.not_lt_zero _)
    | succ N9 ih42 =>
      intro x5 i42_0 i42_1 m42
      refine zi_iload dJ2_indexOfRange_42 rfl ?_
      refine zi_iload_n dJ2_indexOfRange_44 rfl ?_
      refine zi_icmp_ge 69 dJ2_indexOfRange_45 (by decide) (by omega) (fun c45 => ?_) (fun c45 => ?_)
      · refine zi_iconst dJ2_indexOfRange_69 ?_
        exact zi_ireturn hrt dJ2_indexOfRange_70 (hret (-1) _ _ [] [] (⟨rfl, Or.inl ⟨rfl, fun j j0 j1 => i42_1 j j0 (by omega)⟩⟩) rfl rfl)
      · obtain ⟨m, g, hA, hr, hg⟩ : ∃ (m : Nat) (g : Int → Option Nat), C (b, aR (zE Z) m g) ∧ (0 ≤ n ∧ n ≤ m ∧ m ≤ 100000) ∧ ∀ i : Int, 0 ≤ i → i < n → g i = some (f i) := h2.resolve_right (fun q => by omega)
        refine zi_aload_n dJ2_indexOfRange_48 rfl ?_
        refine zi_aload dJ2_indexOfRange_49 rfl ?_
        refine zi_iload dJ2_indexOfRange_51 rfl ?_
        refine zf_ldR (hC _ (hA)) (by omega) (by omega) (hg x5 (by omega) (by omega)) dJ2_indexOfRange_53 ?_
        refine bc_O (n := 1) (As := [_]) (br := []) (kc' := 0) (ks' := 0) (x := ⟨"java/lang/Object", "equals", "(Ljava/lang/Object;)Z"⟩) (owner := "java/lang/Object") q1329 q608 q126 q610 (by decide) ⟨by decide, by decide, by decide +kernel⟩ q1295 q1333 (cc_J6_equals (zl Z) (zE Z) C _ _ _ _ (hw) (hy) (hs) ((hel (x5) (by omega) (by omega)).2.1) ((hel (x5) (by omega) (by omega)).2.2) (Or.inl (hel (x5) (by omega) (by omega)).1)) q1294 q1296 (zr_strP hC (hs)) hR (by decide) rfl (by simp [Value.category]) dJ2_indexOfRange_54 [] [] [] rfl rfl rfl ⟨by omega, by omega⟩ (zC_F hC (fun e h => Or.inl h)) zC_ok (fun _ _ _ h => h.elim) (fun u54 r54 p54 => ?_)
        obtain ⟨e54, h54⟩ := p54
        subst e54
        refine zi_if_eqB 63 dJ2_indexOfRange_57 (by decide) (fun c57 => ?_) (fun c57 => ?_)
        · refine zi_iinc_5 dJ2_indexOfRange_63 hm (by decide) rfl ?_
          refine zi_goto 42 dJ2_indexOfRange_66 (by decide) ?_
          refine ih42 ((x5 + 1)) (by omega) ?_ (by omega)
          · intro j j0 j1
            by_cases q : j = x5
            · rw [q]; exact fun e => c57 e.symm
            · exact i42_1 j j0 (by omega)
        · refine zi_iload dJ2_indexOfRange_60 rfl ?_
          exact zi_ireturn hrt dJ2_indexOfRange_62 (hret x5 _ _ [] [] (⟨rfl, Or.inr ⟨by omega, by omega, c57.symm, i42_1⟩⟩) rfl rfl)
  exact lp42 _ (0) (by omega) (fun j j0 j1 => by omega) (Nat.lt_succ_self _)
theorem mw_J2_indexOfRange : MWV yJ2_indexOfRange cJ2_indexOfRange 6 (some Jvm.ClassFile.FieldType.int) 3 := ⟨q1290, q1291, q122, q1292, by decide, by decide +kernel, by decide +kernel, by decide +kernel⟩
set_option maxHeartbeats 4000000 in
theorem cc_J2_indexOf (l : Launch) (E : ZE) (C : CT0) (a : Nat) (n : Int) (f : Int → Nat) (wf : Int → List Int) (x : Nat) (u : List Int) (h : lstC E C a n f) (hel : ∀ i : Int, 0 ≤ i → i < n → strC E C (f i) (wf i) ∧ (wf i).length ≤ 100000 ∧ ∀ c ∈ wf i, -128 ≤ c ∧ c ≤ 127) (hw : u.length ≤ 100000) (hy : ∀ c ∈ u, -128 ≤ c ∧ c ≤ 127) (hs : strP E C x u) : CB l yJ2_indexOf (ws_ yJ2_indexOf cJ2_indexOf 2 (some Jvm.ClassFile.FieldType.int)) 6 (0) (0) E [.ref (a), .ref (x)] C [] (fun (UU : (Int)) r => r = some (jI UU) ∧ (ixP wf u n UU)) (fun (UU : (Int)) => []) (fun (_ : Unit) _ _ => False) (fun _ => []) := by
  refine cb_of (own := RJ2) (cc := cJ2_indexOf) (L := [some (.ref (a)), some (.ref (x))]) (by decide) rfl rfl (Nat.le_of_ble_eq_true rfl) (fun Z hE hl hrt hR hm hnm hret hxc hC hx0 => ?_)
  subst hE
  have hn := lstC_n h
  have h0 := h
  obtain ⟨b, mc, h1, h2⟩ := h0
  refine zi_aload_n dJ2_indexOf_0 rfl ?_
  refine zi_aload_n dJ2_indexOf_1 rfl ?_
  refine zi_iconst dJ2_indexOf_2 ?_
  refine zi_aload_n dJ2_indexOf_3 rfl ?_
  refine zf_getf zk_J2 (hC _ (h1)) 2 (by decide) rfl q202 rfl dJ2_indexOf_4 ?_
  refine bc_V (As := [_, _, _]) (br := []) (kc' := 0) (ks' := 0) mw_J2_indexOfRange (cc_J2_indexOfRange (zl Z) (zE Z) C _ _ _ (wf) _ _ (h) (hel) (hw) (hy) (hs)) q1289 (zr_lst hC (h)) hR (by decide) rfl (by simp [Value.category]) dJ2_indexOf_7 [] [] [] rfl rfl rfl ⟨by omega, by omega⟩ (zC_F hC (fun e h => Or.inl h)) zC_ok (fun _ _ _ h => h.elim) (fun u7 r7 p7 => ?_)
  obtain ⟨e7, h7⟩ := p7
  subst e7
  exact zi_ireturn hrt dJ2_indexOf_10 (hret u7 _ _ [] [] (⟨rfl, h7⟩) rfl rfl)
set_option maxHeartbeats 4000000 in
theorem cc_J20_equals (l : Launch) (E : ZE) (C : CT0) (x : Nat) (y : Nat) (u : List Int) (w : List Int) (hw1 : u.length ≤ 100000) (hy1 : ∀ c ∈ u, -128 ≤ c ∧ c ≤ 127) (hs1 : strP E C x u) (hw2 : w.length ≤ 100000) (hy2 : ∀ c ∈ w, -128 ≤ c ∧ c ≤ 127) (hs2 : strP E C y w) : CB l yJ20_equals (ws_ yJ20_equals cJ20_equals 2 (some Jvm.ClassFile.FieldType.boolean)) 5 (0) (0) E [.ref (x), .ref (y)] C [] (fun (UU : Unit) r => r = some (jI (bI (u = w))) ∧ (True)) (fun (UU : Unit) => []) (fun (_ : Unit) _ _ => False) (fun _ => []) := by
  refine cb_of (own := RJ20) (cc := cJ20_equals) (L := [some (.ref (x)), some (.ref (y))]) (by decide) rfl rfl (Nat.le_of_ble_eq_true rfl) (fun Z hE hl hrt hR hm hnm hret hxc hC hx0 => ?_)
  subst hE
  refine zi_cx (fun C0 => ?_)
  have hz1 := strP_z C0 hw1 hs1 hC C0.2.2.2.2.2.2.2.2.1
  have hz2 := strP_z C0 hw2 hs2 hC C0.2.2.2.2.2.2.2.2.1
  refine zi_aload_n dJ20_equals_0 rfl ?_
  refine zi_aload_n dJ20_equals_1 rfl ?_
  refine zi_acmp_eq 17 dJ20_equals_2 (by decide) (fun c2 => ?_) (fun c2 => ?_)
  · refine zi_iconst dJ20_equals_17 ?_
    refine zi_goto 22 dJ20_equals_18 (by decide) ?_
    exact zi_zreturn hrt (z_nb (by first | exact Or.inl rfl | exact Or.inr rfl | exact bI_01 _)) dJ20_equals_22 (hret () _ _ [] [] (⟨congrArg (fun z => some (jI z)) (by first | exact bI_1 c14 | exact bI_0 c14 | exact bI_1 (zStr_fun hw1 hw2 hy1 hy2 hz1 (by rw [c2]; exact hz2))), trivial⟩) rfl rfl)
  · refine zi_aload_n dJ20_equals_5 rfl ?_
    refine zi_ifnull dJ20_equals_6 ?_
    refine zi_aload_n dJ20_equals_9 rfl ?_
    refine zi_aload_n dJ20_equals_10 rfl ?_
    refine bc_O (n := 1) (As := [_]) (br := []) (kc' := 0) (ks' := 0) (x := ⟨"java/lang/Object", "equals", "(Ljava/lang/Object;)Z"⟩) (owner := "java/lang/Object") q1329 q608 q126 q610 (by decide) ⟨by decide, by decide, by decide +kernel⟩ q1295 q1333 (cc_J6_equals (zl Z) (zE Z) C _ _ _ _ (hw1) (hy1) (hs1) (hw2) (hy2) (hs2)) q1745 q1296 (zr_strP hC (hs1)) hR (by decide) rfl (by simp [Value.category]) dJ20_equals_11 [] [] [] rfl rfl rfl ⟨by omega, by omega⟩ (zC_F hC (fun e h => Or.inl h)) zC_ok (fun _ _ _ h => h.elim) (fun u11 r11 p11 => ?_)
    obtain ⟨e11, h11⟩ := p11
    subst e11
    refine zi_if_eqB 21 dJ20_equals_14 (by decide) (fun c14 => ?_) (fun c14 => ?_)
    · refine zi_iconst dJ20_equals_21 ?_
      exact zi_zreturn hrt (z_nb (by first | exact Or.inl rfl | exact Or.inr rfl | exact bI_01 _)) dJ20_equals_22 (hret () _ _ [] [] (⟨congrArg (fun z => some (jI z)) (by first | exact bI_1 c14 | exact bI_0 c14 | exact bI_1 (zStr_fun hw1 hw2 hy1 hy2 hz1 (by rw [c2]; exact hz2))), trivial⟩) rfl rfl)
    · refine zi_iconst dJ20_equals_17 ?_
      refine zi_goto 22 dJ20_equals_18 (by decide) ?_
      exact zi_zreturn hrt (z_nb (by first | exact Or.inl rfl | exact Or.inr rfl | exact bI_01 _)) dJ20_equals_22 (hret () _ _ [] [] (⟨congrArg (fun z => some (jI z)) (by first | exact bI_1 c14 | exact bI_0 c14 | exact bI_1 (zStr_fun hw1 hw2 hy1 hy2 hz1 (by rw [c2]; exact hz2))), trivial⟩) rfl rfl)
set_option maxHeartbeats 4000000 in
theorem cc_J2_checkForComodification (l : Launch) (E : ZE) (C : CT0) (a : Nat) (n : Int) (b : Nat) (mc : Int) (h1 : C (a, .inr (3, [jI mc, .ref b, jI n]))) : CB l yJ2_checkForComodification (ws_ yJ2_checkForComodification cJ2_checkForComodification 2 none) 6 (0) (0) E [.ref (a), jI (mc)] C [] (fun (UU : Unit) r => r = none ∧ (True)) (fun (UU : Unit) => []) (fun (_ : Unit) _ _ => False) (fun _ => []) := by
  refine cb_of (own := RJ2) (cc := cJ2_checkForComodification) (L := [some (.ref (a)), some (jI (mc))]) (by decide) rfl rfl (Nat.le_of_ble_eq_true rfl) (fun Z hE hl hrt hR hm hnm hret hxc hC hx0 => ?_)
  subst hE
  refine zi_aload_n dJ2_checkForComodification_0 rfl ?_
  refine zf_getfS zk_J2 (hC _ (h1)) 0 (by decide) q205 q206 rfl dJ2_checkForComodification_1 ?_
  refine zi_iload_n dJ2_checkForComodification_4 rfl ?_
  refine zi_icmp_eqS 16 dJ2_checkForComodification_5 (by decide) ?_
  exact zi_return hrt dJ2_checkForComodification_16 (hret () _ _ [] [] (⟨rfl, trivial⟩) rfl rfl)
