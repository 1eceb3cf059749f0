/-! LISTS AND TEXTS: what is only read -/
set_option maxRecDepth 100000
set_option maxHeartbeats 4000000 in
theorem cc_J0_init (l : Launch) (E : ZE) (C : CT0) (a : Nat) : CB l yJ0_init (ws_ yJ0_init cJ0_init 1 none) 1 (0) (0) E [.ref (a)] C [] (fun (UU : Unit) r => r = none ∧ (True)) (fun (UU : Unit) => []) (fun (_ : Unit) _ _ => False) (fun _ => []) := by
  refine cb_of (own := RJ0) (cc := cJ0_init) (L := [some (.ref (a))]) (by decide) rfl rfl (Nat.le_of_ble_eq_true rfl) (fun Z hE hl hrt hR hm hnm hret hxc hC hx0 => ?_)
  subst hE
  refine zi_aload_n dJ0_init_0 rfl ?_
  refine zi_oinit q196 hR (by decide) (by simp [Value.category]) dJ0_init_1 ?_
  exact zi_return hrt dJ0_init_4 (hret () _ _ [] [] (⟨rfl, trivial⟩) rfl rfl)
theorem mw_J0_init : MWI yJ0_init cJ0_init 1 0 := ⟨rfl, q194, q120, q195, by decide, by decide +kernel, by decide +kernel, by decide +kernel⟩
set_option maxHeartbeats 4000000 in
theorem cc_J1_init (l : Launch) (E : ZE) (C : CT0) (a : Nat) : CB l yJ1_init (ws_ yJ1_init cJ1_init 1 none) 2 (0) (0) E [.ref (a)] C [[(a, .inr (3, [jI (0), .null, jI (0)]))]] (fun (UU : Unit) r => r = none ∧ (True)) (fun (UU : Unit) => [[(a, .inr (3, [jI (0), .null, jI (0)]))]]) (fun (_ : Unit) _ _ => False) (fun _ => []) := by
  refine cb_of (own := RJ1) (cc := cJ1_init) (L := [some (.ref (a))]) (by decide) rfl rfl (Nat.le_of_ble_eq_true rfl) (fun Z hE hl hrt hR hm hnm hret hxc hC hx0 => ?_)
  subst hE
  refine zi_aload_n dJ1_init_0 rfl ?_
  refine bc_I (As := []) (br := [_]) (kc' := 0) (ks' := 0) mw_J0_init (cc_J0_init (zl Z) (zE Z) C _) q193 hR (by decide) rfl (by simp [Value.category]) dJ1_init_1 [] [0] [] rfl rfl rfl ⟨by omega, by omega⟩ (zC_F hC (fun e h => Or.inl h)) zC_ok (fun _ _ _ h => h.elim) (fun u1 r1 p1 => ?_)
  obtain ⟨e1, h1⟩ := p1
  subst e1
  refine zi_aload_n dJ1_init_4 rfl ?_
  refine zi_iconst dJ1_init_5 ?_
  refine zb_putf zk_J2 0 rfl 0 (by decide) rfl rfl q203 rfl rfl (Nat.le_of_ble_eq_true rfl) dJ1_init_6 ?_
  refine zi_shape (bs' := [[(a, .inr (3, [jI (0), .null, jI (0)]))]]) rfl ?_
  exact zi_return hrt dJ1_init_9 (hret () _ _ [0] [] (⟨rfl, trivial⟩) rfl rfl)
theorem mw_J1_init : MWI yJ1_init cJ1_init 1 0 := ⟨rfl, q191, q121, q192, by decide, by decide +kernel, by decide +kernel, by decide +kernel⟩
set_option maxHeartbeats 4000000 in
theorem cc_J2_init (l : Launch) (E : ZE) (C : CT0) (a : Nat) : CB l yJ2_init (ws_ yJ2_init cJ2_init 1 none) 3 (0) (0) E [.ref (a)] C [[(a, .inr (3, [jI (0), .null, jI (0)]))]] (fun (UU : (va_W)) r => r = none ∧ (∀ f, LstK E a 0 f 0 UU)) (fun (UU : (va_W)) => [UU]) (fun (_ : Unit) _ _ => False) (fun _ => []) := by
  refine cb_of (own := RJ2) (cc := cJ2_init) (L := [some (.ref (a))]) (by decide) rfl rfl (Nat.le_of_ble_eq_true rfl) (fun Z hE hl hrt hR hm hnm hret hxc hC hx0 => ?_)
  subst hE
  refine zi_aload_n dJ2_init_0 rfl ?_
  refine bc_I (As := []) (br := []) (kc' := 0) (ks' := 0) mw_J1_init (cc_J1_init (zl Z) (zE Z) C _) q190 hR (by decide) rfl (by simp [Value.category]) dJ2_init_1 [0] [] [] rfl rfl rfl ⟨by omega, by omega⟩ (zC_F hC (fun e h => Or.inl h)) zC_ok (fun _ _ _ h => h.elim) (fun u1 r1 p1 => ?_)
  obtain ⟨e1, h1⟩ := p1
  subst e1
  refine zi_shape (bs' := [[(a, .inr (3, [jI (0), .null, jI (0)]))]]) rfl ?_
  refine zi_aload_n dJ2_init_4 rfl ?_
  refine zi_gets (v := .ref ((zE Z).2.2 6)) (fun h => h.2.1.1) q197 dJ2_init_5 ?_
  refine zb_putf zk_J2 0 rfl 1 (by decide) rfl rfl q199 rfl rfl (Nat.le_of_ble_eq_true rfl) dJ2_init_8 ?_
  refine zi_shape (bs' := [[(a, .inr (3, [jI (0), .ref ((zE Z).2.2 6), jI (0)]))]]) rfl ?_
  exact zi_return hrt dJ2_init_11 (hret [(a, .inr (3, [jI 0, .ref ((zE Z).2.2 6), jI 0]))] _ _ [0] [] (⟨rfl, fun f => ⟨_, 0, Or.inr ⟨rfl, rfl, rfl, rfl⟩⟩⟩) rfl rfl)
set_option maxHeartbeats 4000000 in
theorem cc_J2_size (l : Launch) (E : ZE) (C : CT0) (a : Nat) (n : Int) (f : Int → Nat) (h : lstC E C a n f) : CB l yJ2_size (ws_ yJ2_size cJ2_size 1 (some Jvm.ClassFile.FieldType.int)) 1 (0) (0) E [.ref (a)] C [] (fun (UU : Unit) r => r = some (jI n) ∧ (True)) (fun (UU : Unit) => []) (fun (_ : Unit) _ _ => False) (fun _ => []) := by
  refine cb_of (own := RJ2) (cc := cJ2_size) (L := [some (.ref (a))]) (by decide) rfl rfl (Nat.le_of_ble_eq_true rfl) (fun Z hE hl hrt hR hm hnm hret hxc hC hx0 => ?_)
  subst hE
  have hn := lstC_n h
  have h0 := h
  obtain ⟨b, mc, h1, h2⟩ := h0
  refine zi_aload_n dJ2_size_0 rfl ?_
  refine zf_getf zk_J2 (hC _ (h1)) 2 (by decide) rfl q202 rfl dJ2_size_1 ?_
  exact zi_ireturn hrt dJ2_size_4 (hret () _ _ [] [] (⟨rfl, trivial⟩) rfl rfl)
set_option maxHeartbeats 4000000 in
theorem cc_J2_isEmpty (l : Launch) (E : ZE) (C : CT0) (a : Nat) (n : Int) (f : Int → Nat) (h : lstC E C a n f) : CB l yJ2_isEmpty (ws_ yJ2_isEmpty cJ2_isEmpty 1 (some Jvm.ClassFile.FieldType.boolean)) 1 (0) (0) E [.ref (a)] C [] (fun (UU : Unit) r => r = some (jI (bI (n = 0))) ∧ (True)) (fun (UU : Unit) => []) (fun (_ : Unit) _ _ => False) (fun _ => []) := by
  refine cb_of (own := RJ2) (cc := cJ2_isEmpty) (L := [some (.ref (a))]) (by decide) rfl rfl (Nat.le_of_ble_eq_true rfl) (fun Z hE hl hrt hR hm hnm hret hxc hC hx0 => ?_)
  subst hE
  have hn := lstC_n h
  have h0 := h
  obtain ⟨b, mc, h1, h2⟩ := h0
  refine zi_aload_n dJ2_isEmpty_0 rfl ?_
  refine zf_getf zk_J2 (hC _ (h1)) 2 (by decide) rfl q202 rfl dJ2_isEmpty_1 ?_
  refine zi_if_ne 11 dJ2_isEmpty_4 (by decide) (by omega) (fun c4 => ?_) (fun c4 => ?_)
  · refine zi_iconst dJ2_isEmpty_11 ?_
    exact zi_zreturn hrt (z_nb (by first | exact Or.inl rfl | exact Or.inr rfl | exact bI_01 _)) dJ2_isEmpty_12 (hret () _ _ [] [] (by first | exact ⟨congrArg (fun z => some (jI z)) (bI_1 (by omega)), trivial⟩ | exact ⟨congrArg (fun z => some (jI z)) (bI_0 (by omega)), trivial⟩) rfl rfl)
  · refine zi_iconst dJ2_isEmpty_7 ?_
    refine zi_goto 12 dJ2_isEmpty_8 (by decide) ?_
    exact zi_zreturn hrt (z_nb (by first | exact Or.inl rfl | exact Or.inr rfl | exact bI_01 _)) dJ2_isEmpty_12 (hret () _ _ [] [] (by first | exact ⟨congrArg (fun z => some (jI z)) (bI_1 (by omega)), trivial⟩ | exact ⟨congrArg (fun z => some (jI z)) (bI_0 (by omega)), trivial⟩) rfl rfl)
set_option maxHeartbeats 4000000 in
theorem cc_J17_checkIndex_n (l : Launch) (E : ZE) (C : CT0) (i : Int) (n : Int) (h1 : 0 ≤ i ∧ i < n) (h2 : n ≤ 100000) : CB l yJ17_checkIndex (ws_ yJ17_checkIndex cJ17_checkIndex 3 (some Jvm.ClassFile.FieldType.int)) 1 (0) (0) E [jI (i), jI (n), .null] C [] (fun (UU : Unit) r => r = some (jI i) ∧ (True)) (fun (UU : Unit) => []) (fun (_ : Unit) _ _ => False) (fun _ => []) := by
  refine cb_of (own := RJ17) (cc := cJ17_checkIndex) (L := [some (jI (i)), some (jI (n)), some (.null)]) (by decide) rfl rfl (Nat.le_of_ble_eq_true rfl) (fun Z hE hl hrt hR hm hnm hret hxc hC hx0 => ?_)
  subst hE
  refine zi_iload_n dJ17_checkIndex_0 rfl ?_
  refine zi_if_lt 9 dJ17_checkIndex_1 (by decide) (by omega) (fun c1 => ?_) (fun c1 => ?_)
  · omega
  · refine zi_iload_n dJ17_checkIndex_4 rfl ?_
    refine zi_iload_n dJ17_checkIndex_5 rfl ?_
    refine zi_icmp_lt 16 dJ17_checkIndex_6 (by decide) (by omega) (fun c6 => ?_) (fun c6 => ?_)
    · refine zi_iload_n dJ17_checkIndex_16 rfl ?_
      exact zi_ireturn hrt dJ17_checkIndex_17 (hret () _ _ [] [] (⟨rfl, trivial⟩) rfl rfl)
    · omega
set_option maxHeartbeats 4000000 in
theorem cc_J17_checkIndex (l : Launch) (E : ZE) (C : CT0) (i : Int) (n : Int) (f : Nat) (h1 : 0 ≤ i ∧ i < n) (h2 : n ≤ 100000) : CB l yJ17_checkIndex (ws_ yJ17_checkIndex cJ17_checkIndex 3 (some Jvm.ClassFile.FieldType.int)) 1 (0) (0) E [jI (i), jI (n), .ref (f)] C [] (fun (UU : Unit) r => r = some (jI i) ∧ (True)) (fun (UU : Unit) => []) (fun (_ : Unit) _ _ => False) (fun _ => []) := by
  refine cb_of (own := RJ17) (cc := cJ17_checkIndex) (L := [some (jI (i)), some (jI (n)), some (.ref (f))]) (by decide) rfl rfl (Nat.le_of_ble_eq_true rfl) (fun Z hE hl hrt hR hm hnm hret hxc hC hx0 => ?_)
  subst hE
  refine zi_iload_n dJ17_checkIndex_0 rfl ?_
  refine zi_if_lt 9 dJ17_checkIndex_1 (by decide) (by omega) (fun c1 => ?_) (fun c1 => ?_)
  · omega
  · refine zi_iload_n dJ17_checkIndex_4 rfl ?_
    refine zi_iload_n dJ17_checkIndex_5 rfl ?_
    refine zi_icmp_lt 16 dJ17_checkIndex_6 (by decide) (by omega) (fun c6 => ?_) (fun c6 => ?_)
    · refine zi_iload_n dJ17_checkIndex_16 rfl ?_
      exact zi_ireturn hrt dJ17_checkIndex_17 (hret () _ _ [] [] (⟨rfl, trivial⟩) rfl rfl)
    · omega
set_option maxHeartbeats 4000000 in
theorem cc_J20_checkIndex (l : Launch) (E : ZE) (C : CT0) (i : Int) (n : Int) (h1 : 0 ≤ i ∧ i < n) (h2 : n ≤ 100000) : CB l yJ20_checkIndex (ws_ yJ20_checkIndex cJ20_checkIndex 2 (some Jvm.ClassFile.FieldType.int)) 2 (0) (0) E [jI (i), jI (n)] C [] (fun (UU : Unit) r => r = some (jI i) ∧ (True)) (fun (UU : Unit) => []) (fun (_ : Unit) _ _ => False) (fun _ => []) := by
  refine cb_of (own := RJ20) (cc := cJ20_checkIndex) (L := [some (jI (i)), some (jI (n))]) (by decide) rfl rfl (Nat.le_of_ble_eq_true rfl) (fun Z hE hl hrt hR hm hnm hret hxc hC hx0 => ?_)
  subst hE
  refine zi_iload_n dJ20_checkIndex_0 rfl ?_
  refine zi_iload_n dJ20_checkIndex_1 rfl ?_
  refine zi_null dJ20_checkIndex_2 ?_
  refine bc_S (As := [_, _, _]) (br := []) (kc' := 0) (ks' := 0) mw_J17_checkIndex (cc_J17_checkIndex_n (zl Z) (zE Z) C _ _ (h1) (h2)) q419 hR (by decide) rfl (by simp [Value.category]) dJ20_checkIndex_3 [] [] [] rfl rfl rfl ⟨by omega, by omega⟩ (zC_F hC (fun e h => Or.inl h)) zC_ok (fun _ _ _ h => h.elim) (fun u3 r3 p3 => ?_)
  obtain ⟨e3, h3⟩ := p3
  subst e3
  exact zi_ireturn hrt dJ20_checkIndex_6 (hret () _ _ [] [] (⟨rfl, trivial⟩) rfl rfl)
set_option maxHeartbeats 4000000 in
theorem cc_J6_checkIndex (l : Launch) (E : ZE) (C : CT0) (i : Int) (n : Int) (h1 : 0 ≤ i ∧ i < n) (h2 : n ≤ 100000) : CB l yJ6_checkIndex (ws_ yJ6_checkIndex cJ6_checkIndex 2 none) 2 (0) (0) E [jI (i), jI (n)] C [] (fun (UU : Unit) r => r = none ∧ (True)) (fun (UU : Unit) => []) (fun (_ : Unit) _ _ => False) (fun _ => []) := by
  refine cb_of (own := RJ6) (cc := cJ6_checkIndex) (L := [some (jI (i)), some (jI (n))]) (by decide) rfl rfl (Nat.le_of_ble_eq_true rfl) (fun Z hE hl hrt hR hm hnm hret hxc hC hx0 => ?_)
  subst hE
  refine zi_iload_n dJ6_checkIndex_0 rfl ?_
  refine zi_iload_n dJ6_checkIndex_1 rfl ?_
  refine zi_getsq (fun h => h.2.2.2.2.2.2.1) q816 dJ6_checkIndex_2 (fun r9 hr9 => ?_)
  rcases hr9 with rfl | ⟨tr9, rfl⟩
  · refine bc_S (As := [_, _, _]) (br := []) (kc' := 0) (ks' := 0) mw_J17_checkIndex (cc_J17_checkIndex_n (zl Z) (zE Z) C _ _ (h1) (h2)) q839 hR (by decide) rfl (by simp [Value.category]) dJ6_checkIndex_5 [] [] [] rfl rfl rfl ⟨by omega, by omega⟩ (zC_F hC (fun e h => Or.inl h)) zC_ok (fun _ _ _ h => h.elim) (fun u5 r5 p5 => ?_)
    obtain ⟨e5, h5⟩ := p5
    subst e5
    refine zi_pop dJ6_checkIndex_8 rfl ?_
    exact zi_return hrt dJ6_checkIndex_9 (hret () _ _ [] [] (⟨rfl, trivial⟩) rfl rfl)
  · refine bc_S (As := [_, _, _]) (br := []) (kc' := 0) (ks' := 0) mw_J17_checkIndex (cc_J17_checkIndex (zl Z) (zE Z) C _ _ _ (h1) (h2)) q839 hR (by decide) rfl (by simp [Value.category]) dJ6_checkIndex_5 [] [] [] rfl rfl rfl ⟨by omega, by omega⟩ (zC_F hC (fun e h => Or.inl h)) zC_ok (fun _ _ _ h => h.elim) (fun u5_1 r5_2 p5_3 => ?_)
    obtain ⟨e5_4, h5_5⟩ := p5_3
    subst e5_4
    refine zi_pop dJ6_checkIndex_8 rfl ?_
    exact zi_return hrt dJ6_checkIndex_9 (hret () _ _ [] [] (⟨rfl, trivial⟩) rfl rfl)
set_option maxHeartbeats 4000000 in
theorem cc_J2_elementData (l : Launch) (E : ZE) (C : CT0) (a : Nat) (n : Int) (f : Int → Nat) (i : Int) (h : lstC E C a n f) (hi : 0 ≤ i ∧ i < n) : CB l yJ2_elementData (ws_ yJ2_elementData cJ2_elementData 2 (some (Jvm.ClassFile.FieldType.object "java/lang/Object"))) 1 (0) (0) E [.ref (a), jI (i)] C [] (fun (UU : Unit) r => r = some (.ref (f i)) ∧ (True)) (fun (UU : Unit) => []) (fun (_ : Unit) _ _ => False) (fun _ => []) := by
  refine cb_of (own := RJ2) (cc := cJ2_elementData) (L := [some (.ref (a)), some (jI (i))]) (by decide) rfl rfl (Nat.le_of_ble_eq_true rfl) (fun Z hE hl hrt hR hm hnm hret hxc hC hx0 => ?_)
  subst hE
  have hn := lstC_n h
  have h0 := h
  obtain ⟨b, mc, h1, h2⟩ := h0
  obtain ⟨m, g, hA, hr, hg⟩ : ∃ (m : Nat) (g : Int → Option Nat), C (b, aR (zE Z) m g) ∧ (0 ≤ n ∧ n ≤ m ∧ m ≤ 100000) ∧ ∀ i : Int, 0 ≤ i → i < n → g i = some (f i) := h2.resolve_right (fun q => by omega)
  refine zi_aload_n dJ2_elementData_0 rfl ?_
  refine zf_getf zk_J2 (hC _ (h1)) 1 (by decide) rfl q199 rfl dJ2_elementData_1 ?_
  refine zi_iload_n dJ2_elementData_4 rfl ?_
  refine zf_ldR (hC _ (hA)) (by omega) (by omega) (hg i hi.1 hi.2) dJ2_elementData_5 ?_
  exact zi_areturn hrt (Or.inl ⟨_, rfl⟩) dJ2_elementData_6 (hret () _ _ [] [] (⟨rfl, trivial⟩) rfl rfl)
theorem mw_J2_elementData : MWV yJ2_elementData cJ2_elementData 2 (some (Jvm.ClassFile.FieldType.object "java/lang/Object")) 1 := ⟨q423, q424, q122, q425, by decide, by decide +kernel, by decide +kernel, by decide +kernel⟩
set_option maxHeartbeats 4000000 in
theorem cc_J2_get (l : Launch) (E : ZE) (C : CT0) (a : Nat) (n : Int) (f : Int → Nat) (i : Int) (h : lstC E C a n f) (hi : 0 ≤ i ∧ i < n) : CB l yJ2_get (ws_ yJ2_get cJ2_get 2 (some (Jvm.ClassFile.FieldType.object "java/lang/Object"))) 3 (0) (0) E [.ref (a), jI (i)] C [] (fun (UU : Unit) r => r = some (.ref (f i)) ∧ (True)) (fun (UU : Unit) => []) (fun (_ : Unit) _ _ => False) (fun _ => []) := by
  refine cb_of (own := RJ2) (cc := cJ2_get) (L := [some (.ref (a)), some (jI (i))]) (by decide) rfl rfl (Nat.le_of_ble_eq_true rfl) (fun Z hE hl hrt hR hm hnm hret hxc hC hx0 => ?_)
  subst hE
  have hn := lstC_n h
  have h0 := h
  obtain ⟨b, mc, h1, h2⟩ := h0
  refine zi_iload_n dJ2_get_0 rfl ?_
  refine zi_aload_n dJ2_get_1 rfl ?_
  refine zf_getf zk_J2 (hC _ (h1)) 2 (by decide) rfl q202 rfl dJ2_get_2 ?_
  refine bc_S (As := [_, _]) (br := []) (kc' := 0) (ks' := 0) mw_J20_checkIndex (cc_J20_checkIndex (zl Z) (zE Z) C _ _ (hi) (by omega)) q416 hR (by decide) rfl (by simp [Value.category]) dJ2_get_5 [] [] [] rfl rfl rfl ⟨by omega, by omega⟩ (zC_F hC (fun e h => Or.inl h)) zC_ok (fun _ _ _ h => h.elim) (fun u5 r5 p5 => ?_)
  obtain ⟨e5, h5⟩ := p5
  subst e5
  refine zi_pop dJ2_get_8 rfl ?_
  refine zi_aload_n dJ2_get_9 rfl ?_
  refine zi_iload_n dJ2_get_10 rfl ?_
  refine bc_V (As := [_]) (br := []) (kc' := 0) (ks' := 0) mw_J2_elementData (cc_J2_elementData (zl Z) (zE Z) C _ _ _ _ (h) (hi)) q422 (zr_lst hC (h)) hR (by decide) rfl (by simp [Value.category]) dJ2_get_11 [] [] [] rfl rfl rfl ⟨by omega, by omega⟩ (zC_F hC (fun e h => Or.inl h)) zC_ok (fun _ _ _ h => h.elim) (fun u11 r11 p11 => ?_)
  obtain ⟨e11, h11⟩ := p11
  subst e11
  exact zi_areturn hrt (Or.inl ⟨_, rfl⟩) dJ2_get_14 (hret () _ _ [] [] (⟨rfl, trivial⟩) rfl rfl)
set_option maxHeartbeats 4000000 in
theorem cc_J6_isLatin1 (l : Launch) (E : ZE) (C : CT0) (a : Nat) (w : List Int) (hw : w.length ≤ 100000) (hs : strP E C a w) : CB l yJ6_isLatin1 (ws_ yJ6_isLatin1 cJ6_isLatin1 1 (some Jvm.ClassFile.FieldType.boolean)) 1 (0) (0) E [.ref (a)] C [] (fun (UU : Unit) r => r = some (jI 1) ∧ (True)) (fun (UU : Unit) => []) (fun (_ : Unit) _ _ => False) (fun _ => []) := by
  refine cb_of (own := RJ6) (cc := cJ6_isLatin1) (L := [some (.ref (a))]) (by decide) rfl rfl (Nat.le_of_ble_eq_true rfl) (fun Z hE hl hrt hR hm hnm hret hxc hC hx0 => ?_)
  subst hE
  refine zi_cx (fun C0 => ?_)
  obtain ⟨vb, hO, hd, hv, hT⟩ := strP_z C0 hw hs hC C0.2.2.2.2.2.2.2.2.1
  refine zi_gets (v := jI (1)) (fun h => h.2.2.2.1) q612 dJ6_isLatin1_0 ?_
  refine zi_if_eq 17 dJ6_isLatin1_3 (by decide) (by omega) (fun h => absurd h (by omega)) (fun _ => ?_)
  refine zi_aload_n dJ6_isLatin1_6 rfl ?_
  refine zi_gff hd (fun _ h => h) q978 dJ6_isLatin1_7 ?_
  refine zi_if_ne 17 dJ6_isLatin1_10 (by decide) (by omega) (fun h => absurd h (by omega)) (fun _ => ?_)
  refine zi_iconst dJ6_isLatin1_13 ?_
  refine zi_goto 18 dJ6_isLatin1_14 (by decide) ?_
  exact zi_zreturn hrt (z_nb (by first | exact Or.inl rfl | exact Or.inr rfl | exact bI_01 _)) dJ6_isLatin1_18 (hret () _ _ [] [] (⟨rfl, trivial⟩) rfl rfl)
set_option maxHeartbeats 4000000 in
theorem cc_J6_coder (l : Launch) (E : ZE) (C : CT0) (a : Nat) (w : List Int) (hw : w.length ≤ 100000) (hs : strP E C a w) : CB l yJ6_coder (ws_ yJ6_coder cJ6_coder 1 (some Jvm.ClassFile.FieldType.byte)) 1 (0) (0) E [.ref (a)] C [] (fun (UU : Unit) r => r = some (jI 0) ∧ (True)) (fun (UU : Unit) => []) (fun (_ : Unit) _ _ => False) (fun _ => []) := by
  refine cb_of (own := RJ6) (cc := cJ6_coder) (L := [some (.ref (a))]) (by decide) rfl rfl (Nat.le_of_ble_eq_true rfl) (fun Z hE hl hrt hR hm hnm hret hxc hC hx0 => ?_)
  subst hE
  refine zi_cx (fun C0 => ?_)
  obtain ⟨vb, hO, hd, hv, hT⟩ := strP_z C0 hw hs hC C0.2.2.2.2.2.2.2.2.1
  refine zi_gets (v := jI (1)) (fun h => h.2.2.2.1) q612 dJ6_coder_0 ?_
  refine zi_if_eq 13 dJ6_coder_3 (by decide) (by omega) (fun h => absurd h (by omega)) (fun _ => ?_)
  refine zi_aload_n dJ6_coder_6 rfl ?_
  refine zi_gff hd (fun _ h => h) q978 dJ6_coder_7 ?_
  refine zi_goto 14 dJ6_coder_10 (by decide) ?_
  exact zi_zreturn hrt (rfl) dJ6_coder_14 (hret () _ _ [] [] (⟨rfl, trivial⟩) rfl rfl)
set_option maxHeartbeats 4000000 in
theorem cc_J6_length (l : Launch) (E : ZE) (C : CT0) (a : Nat) (w : List Int) (hw : w.length ≤ 100000) (hs : strP E C a w) : CB l yJ6_length (ws_ yJ6_length cJ6_length 1 (some Jvm.ClassFile.FieldType.int)) 2 (0) (0) E [.ref (a)] C [] (fun (UU : Unit) r => r = some (jI (w.length : Int)) ∧ (True)) (fun (UU : Unit) => []) (fun (_ : Unit) _ _ => False) (fun _ => []) := by
  refine cb_of (own := RJ6) (cc := cJ6_length) (L := [some (.ref (a))]) (by decide) rfl rfl (Nat.le_of_ble_eq_true rfl) (fun Z hE hl hrt hR hm hnm hret hxc hC hx0 => ?_)
  subst hE
  refine zi_cx (fun C0 => ?_)
  obtain ⟨vb, hO, hd, hv, hT⟩ := strP_z C0 hw hs hC C0.2.2.2.2.2.2.2.2.1
  refine zi_aload_n dJ6_length_0 rfl ?_
  refine zi_gff hv (fun _ h => h) q977 dJ6_length_1 ?_
  refine zi_lenF hT (fun _ h => h) dJ6_length_4 ?_
  refine zi_aload_n dJ6_length_5 rfl ?_
  refine bc_V (As := []) (br := []) (kc' := 0) (ks' := 0) mw_J6_coder (cc_J6_coder (zl Z) (zE Z) C _ _ (hw) (hs)) q932 (zr_fro hO (fun _ h => h)) hR (by decide) rfl (by simp [Value.category]) dJ6_length_6 [] [] [] rfl rfl rfl ⟨by omega, by omega⟩ (zC_F hC (fun e h => Or.inl h)) zC_ok (fun _ _ _ h => h.elim) (fun u6 r6 p6 => ?_)
  obtain ⟨e6, h6⟩ := p6
  subst e6
  refine zi_ishr 0 dJ6_length_9 (by decide) (by omega) ?_
  exact zi_ireturn hrt dJ6_length_10 (hret () _ _ [] [] (⟨congrArg (fun z : Int => some (jI z)) (by omega), trivial⟩) rfl rfl)
