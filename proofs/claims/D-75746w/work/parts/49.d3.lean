/-! LISTS THAT ARE CHANGED -/
set_option maxRecDepth 100000
theorem cpI_all {α : Type} {f g : Int → α} {n i : Int} (h : 0 ≤ i ∧ i < n) : cpI f g 0 0 n i = f i := by
  unfold cpI
  rw [if_pos (by omega), show (0 : Int) + (i - 0) = i by omega]
set_option maxHeartbeats 4000000 in
theorem cc_J13_newLength (l : Launch) (E : ZE) (C : CT0) (o : Int) (k : Int) (p : Int) (h : (0 ≤ o ∧ 0 ≤ p) ∧ 1 ≤ k ∧ o + max k p ≤ 100000) : CB l yJ13_newLength (ws_ yJ13_newLength cJ13_newLength 4 (some Jvm.ClassFile.FieldType.int)) 1 (0) (0) E [jI (o), jI (k), jI (p)] C [] (fun (UU : Unit) r => r = some (jI (o + max k p)) ∧ (True)) (fun (UU : Unit) => []) (fun (_ : Unit) _ _ => False) (fun _ => []) := by
  refine cb_of (own := RJ13) (cc := cJ13_newLength) (L := [some (jI (o)), some (jI (k)), some (jI (p)), none]) (by decide) rfl rfl (Nat.le_of_ble_eq_true rfl) (fun Z hE hl hrt hR hm hnm hret hxc hC hx0 => ?_)
  subst hE
  refine zi_iload_n dJ13_newLength_0 rfl ?_
  refine zi_iload_n dJ13_newLength_1 rfl ?_
  refine zi_iload_n dJ13_newLength_2 rfl ?_
  refine zi_mmax q769 hR (by decide) (by simp [Value.category]) (by omega) dJ13_newLength_3 ?_
  refine zi_iadd dJ13_newLength_6 ?_
  refine zi_istore_3 dJ13_newLength_7 hm (by decide) rfl ?_
  refine zi_iconst dJ13_newLength_8 ?_
  refine zi_iload_n dJ13_newLength_9 rfl ?_
  refine zi_icmp_ge 21 dJ13_newLength_10 (by decide) (by omega) (fun c10 => ?_) (fun c10 => ?_)
  · exact absurd h (by omega)
  · refine zi_iload_n dJ13_newLength_13 rfl ?_
    refine zi_ldc (m := 2147483639) dJ13_newLength_14 q770 (by decide +kernel) ?_
    refine zi_icmp_gt 21 dJ13_newLength_16 (by decide) (by omega) (fun c16 => ?_) (fun c16 => ?_)
    · exact absurd h (by omega)
    · refine zi_iload_n dJ13_newLength_19 rfl ?_
      exact zi_ireturn hrt dJ13_newLength_20 (hret () _ _ [] [] (⟨rfl, trivial⟩) rfl rfl)
set_option maxHeartbeats 4000000 in
theorem cc_J15_copyOf_3 (l : Launch) (E : ZE) (C : CT0) (x : Nat) (m : Nat) (g : Int → Option Nat) (k : Int) (hx : C (x, aR E m g)) (hm9 : m ≤ 100000) (hk : 0 ≤ k ∧ k ≤ 100000) (hob : ∀ i : Int, 0 ≤ i → i < min ((m : Nat) : Int) k → ∀ y, g i = some y → objC E C y) : CB l yJ15_copyOf_3 (ws_ yJ15_copyOf_3 cJ15_copyOf_3 4 (some (Jvm.ClassFile.FieldType.array (Jvm.ClassFile.FieldType.object "java/lang/Object")))) 1 (1) (k.toNat) E [.ref (x), jI (k), .ref (E.2.2 8)] C [] (fun (UU : (Nat)) r => r = some (.ref UU) ∧ (True)) (fun (UU : (Nat)) => [[(UU, aR E ((k).toNat) (cpI g (fun _ => none) 0 0 (min ((m : Nat) : Int) k)))]]) (fun (_ : Unit) _ _ => False) (fun _ => []) := by
  refine cb_of (own := RJ15) (cc := cJ15_copyOf_3) (L := [some (.ref (x)), some (jI (k)), some (.ref (E.2.2 8)), none]) (by decide) rfl rfl (Nat.le_of_ble_eq_true rfl) (fun Z hE hl hrt hR hm hnm hret hxc hC hx0 => ?_)
  subst hE
  refine zi_aload_n dJ15_copyOf_3_0 rfl ?_
  refine zi_ldcM (mi := (zE Z).2.2 8) (fun h => h.2.2.2.2.2) q1406 dJ15_copyOf_3_1 ?_
  refine zi_acmp_ne 13 dJ15_copyOf_3_3 (by decide) (fun c3 => ?_) (fun c3 => ?_)
  · exact absurd rfl c3
  · refine zi_iload_n dJ15_copyOf_3_6 rfl ?_
    refine zb_newR (kc' := 0) (ks' := (k.toNat - (k).toNat)) q1407 q260 (by omega) ⟨by omega, by omega⟩ dJ15_copyOf_3_7 (fun o7 ho7 => ?_)
    refine zi_shape (bs' := [[(o7, aR (zE Z) ((k).toNat) (fun _ => none))]]) rfl ?_
    refine zi_goto 24 dJ15_copyOf_3_10 (by decide) ?_
    refine zi_astore_3 dJ15_copyOf_3_24 hm (by decide) rfl ?_
    refine zi_aload_n dJ15_copyOf_3_25 rfl ?_
    refine zi_iconst dJ15_copyOf_3_26 ?_
    refine zi_aload_n dJ15_copyOf_3_27 rfl ?_
    refine zi_iconst dJ15_copyOf_3_28 ?_
    refine zi_aload_n dJ15_copyOf_3_29 rfl ?_
    refine zf_alen 4 (hC _ (hx)) rfl dJ15_copyOf_3_30 ?_
    refine zi_iload_n dJ15_copyOf_3_31 rfl ?_
    refine zi_mmin q785 hR (by decide) (by simp [Value.category]) (by omega) dJ15_copyOf_3_32 ?_
    refine zb_copyR (f := g) (g := fun _ => none) (fun C0 H hU hP i i0 i1 y hy => zAny_obj hC (by rw [Int.zero_add] at hy; exact hob i i0 (by omega) y hy) C0 H hU hP) (zIs_C hC (hx)) 0 rfl (by omega) q786 hR (by decide) (by simp [Value.category]) dJ15_copyOf_3_35 ?_
    refine zi_shape (bs' := [[(o7, aR (zE Z) ((k).toNat) (cpI (g) (fun _ => none) (0) (0) ((min ((m : Nat) : Int) k))))]]) rfl ?_
    refine zi_aload_n dJ15_copyOf_3_38 rfl ?_
    exact zi_areturn hrt (Or.inr ⟨_, rfl⟩) dJ15_copyOf_3_39 (hret o7 _ _ [0] [] (⟨rfl, trivial⟩) rfl rfl)
theorem mw_J15_copyOf_3 : MWS yJ15_copyOf_3 cJ15_copyOf_3 4 (some (Jvm.ClassFile.FieldType.array (Jvm.ClassFile.FieldType.object "java/lang/Object"))) 3 := ⟨q1404, q139, q1405, by decide, by decide +kernel, by decide +kernel, by decide +kernel⟩
set_option maxHeartbeats 4000000 in
theorem cc_J15_copyOf_2 (l : Launch) (E : ZE) (C : CT0) (x : Nat) (m : Nat) (g : Int → Option Nat) (k : Int) (hx : C (x, aR E m g)) (hm9 : m ≤ 100000) (hk : 0 ≤ k ∧ k ≤ 100000) (hob : ∀ i : Int, 0 ≤ i → i < min ((m : Nat) : Int) k → ∀ y, g i = some y → objC E C y) : CB l yJ15_copyOf_2 (ws_ yJ15_copyOf_2 cJ15_copyOf_2 2 (some (Jvm.ClassFile.FieldType.array (Jvm.ClassFile.FieldType.object "java/lang/Object")))) 2 (1) (k.toNat) E [.ref (x), jI (k)] C [] (fun (UU : (Nat)) r => r = some (.ref UU) ∧ (True)) (fun (UU : (Nat)) => [[(UU, aR E ((k).toNat) (cpI g (fun _ => none) 0 0 (min ((m : Nat) : Int) k)))]]) (fun (_ : Unit) _ _ => False) (fun _ => []) := by
  refine cb_of (own := RJ15) (cc := cJ15_copyOf_2) (L := [some (.ref (x)), some (jI (k))]) (by decide) rfl rfl (Nat.le_of_ble_eq_true rfl) (fun Z hE hl hrt hR hm hnm hret hxc hC hx0 => ?_)
  subst hE
  refine zi_aload_n dJ15_copyOf_2_0 rfl ?_
  refine zi_iload_n dJ15_copyOf_2_1 rfl ?_
  refine zi_aload_n dJ15_copyOf_2_2 rfl ?_
  refine zi_getC (C := "[Ljava/lang/Object;") (mi := (zE Z).2.2 8) (fun h => h.2.2.2.2.2) (zr_arrR (zIs_C hC hx)) q1364 q3143 q3142 q1365 q1402 hR (by decide) (by simp [Value.category]) dJ15_copyOf_2_3 ?_
  refine bc_S (As := [_, _, _]) (br := []) (kc' := 0) (ks' := (k.toNat - (k).toNat)) mw_J15_copyOf_3 (cc_J15_copyOf_3 (zl Z) (zE Z) C _ (m) (g) (k) (hx) (hm9) (hk) (hob)) q1403 hR (by decide) rfl (by simp [Value.category]) dJ15_copyOf_2_6 [] [] [] rfl rfl rfl ⟨by omega, by omega⟩ (zC_F hC (fun e h => Or.inl h)) zC_ok (fun _ _ _ h => h.elim) (fun u6 r6 p6 => ?_)
  obtain ⟨e6, h6⟩ := p6
  subst e6
  refine zi_shape (bs' := [[(u6, aR (zE Z) (((k)).toNat) (cpI (g) (fun _ => none) 0 0 (min (((m) : Nat) : Int) (k))))]]) rfl ?_
  exact zi_areturn hrt (Or.inr ⟨_, rfl⟩) dJ15_copyOf_2_9 (hret u6 _ _ [0] [] (⟨rfl, trivial⟩) rfl rfl)
set_option maxHeartbeats 4000000 in
theorem cc_J15_copyOf_3_e (l : Launch) (E : ZE) (C : CT0)  : CB l yJ15_copyOf_3 (ws_ yJ15_copyOf_3 cJ15_copyOf_3 4 (some (Jvm.ClassFile.FieldType.array (Jvm.ClassFile.FieldType.object "java/lang/Object")))) 1 (1) (0) E [.ref (E.2.2 6), jI (0), .ref (E.2.2 8)] C [] (fun (UU : (Nat)) r => r = some (.ref UU) ∧ (True)) (fun (UU : (Nat)) => [[(UU, aR E ((0 : Int).toNat) (fun _ => none))]]) (fun (_ : Unit) _ _ => False) (fun _ => []) := by
  refine cb_of (own := RJ15) (cc := cJ15_copyOf_3) (L := [some (.ref (E.2.2 6)), some (jI (0)), some (.ref (E.2.2 8)), none]) (by decide) rfl rfl (Nat.le_of_ble_eq_true rfl) (fun Z hE hl hrt hR hm hnm hret hxc hC hx0 => ?_)
  subst hE
  refine zi_cx (fun C0 => ?_)
  refine zi_aload_n dJ15_copyOf_3_0 rfl ?_
  refine zi_ldcM (mi := (zE Z).2.2 8) (fun h => h.2.2.2.2.2) q1406 dJ15_copyOf_3_1 ?_
  refine zi_acmp_ne 13 dJ15_copyOf_3_3 (by decide) (fun c3 => ?_) (fun c3 => ?_)
  · exact absurd rfl c3
  · refine zi_iload_n dJ15_copyOf_3_6 rfl ?_
    refine zb_newR (kc' := 0) (ks' := 0) q1407 q260 (by omega) ⟨by omega, by omega⟩ dJ15_copyOf_3_7 (fun o7 ho7 => ?_)
    refine zi_shape (bs' := [[(o7, aR (zE Z) ((0 : Int).toNat) (fun _ => none))]]) rfl ?_
    refine zi_goto 24 dJ15_copyOf_3_10 (by decide) ?_
    refine zi_astore_3 dJ15_copyOf_3_24 hm (by decide) rfl ?_
    refine zi_aload_n dJ15_copyOf_3_25 rfl ?_
    refine zi_iconst dJ15_copyOf_3_26 ?_
    refine zi_aload_n dJ15_copyOf_3_27 rfl ?_
    refine zi_iconst dJ15_copyOf_3_28 ?_
    refine zi_aload_n dJ15_copyOf_3_29 rfl ?_
    refine zi_lenF C0.2.2.2.2.2.2.2.2.1.2.1.2.1 (fun _ h => h) dJ15_copyOf_3_30 ?_
    refine zi_iload_n dJ15_copyOf_3_31 rfl ?_
    refine zi_mmin q785 hR (by decide) (by simp [Value.category]) (by omega) dJ15_copyOf_3_32 ?_
    refine zb_copyG 0 rfl q786 hR (by decide) (by simp [Value.category]) dJ15_copyOf_3_35 ?_
    refine zi_aload_n dJ15_copyOf_3_38 rfl ?_
    exact zi_areturn hrt (Or.inr ⟨_, rfl⟩) dJ15_copyOf_3_39 (hret o7 _ _ [0] [] (⟨rfl, trivial⟩) rfl rfl)
set_option maxHeartbeats 4000000 in
theorem cc_J15_copyOf_2_e (l : Launch) (E : ZE) (C : CT0)  : CB l yJ15_copyOf_2 (ws_ yJ15_copyOf_2 cJ15_copyOf_2 2 (some (Jvm.ClassFile.FieldType.array (Jvm.ClassFile.FieldType.object "java/lang/Object")))) 2 (1) (0) E [.ref (E.2.2 6), jI (0)] C [] (fun (UU : (Nat)) r => r = some (.ref UU) ∧ (True)) (fun (UU : (Nat)) => [[(UU, aR E ((0 : Int).toNat) (fun _ => none))]]) (fun (_ : Unit) _ _ => False) (fun _ => []) := by
  refine cb_of (own := RJ15) (cc := cJ15_copyOf_2) (L := [some (.ref (E.2.2 6)), some (jI (0))]) (by decide) rfl rfl (Nat.le_of_ble_eq_true rfl) (fun Z hE hl hrt hR hm hnm hret hxc hC hx0 => ?_)
  subst hE
  refine zi_aload_n dJ15_copyOf_2_0 rfl ?_
  refine zi_iload_n dJ15_copyOf_2_1 rfl ?_
  refine zi_aload_n dJ15_copyOf_2_2 rfl ?_
  refine zi_getC (C := "[Ljava/lang/Object;") (mi := (zE Z).2.2 8) (fun h => h.2.2.2.2.2) (zr_base (fun C0 => C0.2.2.2.2.2.2.2.2.1.2.1.2.2)) q1364 q3143 q3142 q1365 q1402 hR (by decide) (by simp [Value.category]) dJ15_copyOf_2_3 ?_
  refine bc_S (As := [_, _, _]) (br := []) (kc' := 0) (ks' := 0) mw_J15_copyOf_3 (cc_J15_copyOf_3_e (zl Z) (zE Z) C ) q1403 hR (by decide) rfl (by simp [Value.category]) dJ15_copyOf_2_6 [] [] [] rfl rfl rfl ⟨by omega, by omega⟩ (zC_F hC (fun e h => Or.inl h)) zC_ok (fun _ _ _ h => h.elim) (fun u6 r6 p6 => ?_)
  obtain ⟨e6, h6⟩ := p6
  subst e6
  refine zi_shape (bs' := [[(u6, aR (zE Z) ((0 : Int).toNat) (fun _ => none))]]) rfl ?_
  exact zi_areturn hrt (Or.inr ⟨_, rfl⟩) dJ15_copyOf_2_9 (hret u6 _ _ [0] [] (⟨rfl, trivial⟩) rfl rfl)
theorem mw_J15_copyOf_2 : MWS yJ15_copyOf_2 cJ15_copyOf_2 2 (some (Jvm.ClassFile.FieldType.array (Jvm.ClassFile.FieldType.object "java/lang/Object"))) 2 := ⟨q1362, q139, q1363, by decide, by decide +kernel, by decide +kernel, by decide +kernel⟩
set_option maxHeartbeats 4000000 in
theorem cc_J2_toArray (l : Launch) (E : ZE) (C : CT0) (a : Nat) (n : Int) (f : Int → Nat) (h : lstC E C a n f) (hob : ∀ i : Int, 0 ≤ i → i < n → objC E C (f i)) : CB l yJ2_toArray (ws_ yJ2_toArray cJ2_toArray 1 (some (Jvm.ClassFile.FieldType.array (Jvm.ClassFile.FieldType.object "java/lang/Object")))) 3 (1) (n.toNat) E [.ref (a)] C [] (fun (UU : (Nat) × (Int → Option Nat)) r => r = some (.ref (UU.1)) ∧ (∀ i : Int, 0 ≤ i → i < n → (UU.2) i = some (f i))) (fun (UU : (Nat) × (Int → Option Nat)) => [[((UU.1), aR E ((n).toNat) ((UU.2)))]]) (fun (_ : Unit) _ _ => False) (fun _ => []) := by
  refine cb_of (own := RJ2) (cc := cJ2_toArray) (L := [some (.ref (a))]) (by decide) rfl rfl (Nat.le_of_ble_eq_true rfl) (fun Z hE hl hrt hR hm hnm hret hxc hC hx0 => ?_)
  subst hE
  have hn := lstC_n h
  have h0 := h
  obtain ⟨b, mc, h1, h2⟩ := h0
  rcases h2 with ⟨m, g, hA, hr, hg⟩ | ⟨hn0, hb0⟩
  · refine zi_aload_n dJ2_toArray_0 rfl ?_
    refine zf_getf zk_J2 (hC _ (h1)) 1 (by decide) rfl q199 rfl dJ2_toArray_1 ?_
    refine zi_aload_n dJ2_toArray_4 rfl ?_
    refine zf_getf zk_J2 (hC _ (h1)) 2 (by decide) rfl q202 rfl dJ2_toArray_5 ?_
    refine bc_S (As := [_, _]) (br := []) (kc' := 0) (ks' := (n.toNat - (n).toNat)) mw_J15_copyOf_2 (cc_J15_copyOf_2 (zl Z) (zE Z) C _ (m) (g) (n) (hA) (by omega) (by omega) (fun i i0 i1 y hy => by have e := hg i i0 (by omega); rw [hy] at e; cases e; exact hob i i0 (by omega))) q1361 hR (by decide) rfl (by simp [Value.category]) dJ2_toArray_8 [] [] [] rfl rfl rfl ⟨by omega, by omega⟩ (zC_F hC (fun e h => Or.inl h)) zC_ok (fun _ _ _ h => h.elim) (fun u8 r8 p8 => ?_)
    obtain ⟨e8, h8⟩ := p8
    subst e8
    refine zi_shape (bs' := [[(u8, aR (zE Z) (((n)).toNat) (cpI (g) (fun _ => none) 0 0 (min (((m) : Nat) : Int) (n))))]]) rfl ?_
    refine zi_areturn hrt (Or.inr ⟨_, rfl⟩) dJ2_toArray_11 (hret (u8, cpI g (fun _ => none) 0 0 (min ((m : Nat) : Int) n)) _ _ [0] [] ?_ rfl rfl)
    · refine ⟨rfl, fun i i0 i1 => ?_⟩
      dsimp only
      exact (cpI_all (n := min ((m : Nat) : Int) n) (by omega)).trans (hg i i0 i1)
  · subst hn0 hb0
    refine zi_aload_n dJ2_toArray_0 rfl ?_
    refine zf_getf zk_J2 (hC _ (h1)) 1 (by decide) rfl q199 rfl dJ2_toArray_1 ?_
    refine zi_aload_n dJ2_toArray_4 rfl ?_
    refine zf_getf zk_J2 (hC _ (h1)) 2 (by decide) rfl q202 rfl dJ2_toArray_5 ?_
    refine bc_S (As := [_, _]) (br := []) (kc' := 0) (ks' := (0 : Int).toNat) mw_J15_copyOf_2 (cc_J15_copyOf_2_e (zl Z) (zE Z) C ) q1361 hR (by decide) rfl (by simp [Value.category]) dJ2_toArray_8 [] [] [] rfl rfl rfl ⟨by omega, by omega⟩ (zC_F hC (fun e h => Or.inl h)) zC_ok (fun _ _ _ h => h.elim) (fun u8_1 r8_2 p8_3 => ?_)
    obtain ⟨e8_5, h8_6⟩ := p8_3
    subst e8_5
    refine zi_shape (bs' := [[(u8_1, aR (zE Z) ((0 : Int).toNat) (fun _ => none))]]) rfl ?_
    exact zi_areturn hrt (Or.inr ⟨_, rfl⟩) dJ2_toArray_11 (hret (u8_1, fun _ => none) _ _ [0] [] (⟨rfl, fun i i0 i1 => by omega⟩) rfl rfl)
theorem mw_J13_newLength : MWS yJ13_newLength cJ13_newLength 4 (some Jvm.ClassFile.FieldType.int) 3 := ⟨q767, q137, q768, by decide, by decide +kernel, by decide +kernel, by decide +kernel⟩
set_option maxHeartbeats 4000000 in
theorem cc_J2_grow_2 (l : Launch) (E : ZE) (C : CT0) (a : Nat) (b : Nat) (mc : Int) (m : Nat) (g : Int → Option Nat) (mn : Int) (kk : Nat) (hm : 10 ≤ m ∧ m ≤ 50000) (hmn : (m : Int) < mn ∧ mn ≤ 50000) (hkk : (kk : Int) = m + max (mn - m) (m / 2 ^ 1)) (hob : ∀ i : Int, 0 ≤ i → i < m → ∃ y, g i = some y ∧ objC E C y) : CB l yJ2_grow_2 (ws_ yJ2_grow_2 cJ2_grow_2 4 (some (Jvm.ClassFile.FieldType.array (Jvm.ClassFile.FieldType.object "java/lang/Object")))) 3 (1) (kk) E [.ref (a), jI (mn)] C [[(a, .inr (3, [jI (mc), .ref (b), jI (m)]))], [(b, aR E (m) (g))]] (fun (UU : (Nat)) r => r = some (.ref UU) ∧ (True)) (fun (UU : (Nat)) => [[(a, .inr (3, [jI (mc), .ref (UU), jI (m)]))], [(UU, aR E (kk) (cpI g (fun _ => none) 0 0 ((m : Nat) : Int)))]]) (fun (_ : Unit) _ _ => False) (fun _ => []) := by
  refine cb_of (own := RJ2) (cc := cJ2_grow_2) (L := [some (.ref (a)), some (jI (mn)), none, none]) (by decide) rfl rfl (Nat.le_of_ble_eq_true rfl) (fun Z hE hl hrt hR hm hnm hret hxc hC hx0 => ?_)
  subst hE
  refine zi_aload_n dJ2_grow_2_0 rfl ?_
  refine zb_getf zk_J2 0 rfl 1 (by decide) rfl q199 rfl dJ2_grow_2_1 ?_
  refine zb_alen 1 4 rfl rfl dJ2_grow_2_4 ?_
  refine zi_istore_2 dJ2_grow_2_5 hm (by decide) rfl ?_
  refine zi_iload_n dJ2_grow_2_6 rfl ?_
  refine zi_if_gt 20 dJ2_grow_2_7 (by decide) (by omega) (fun c7 => ?_) (fun c7 => ?_)
  · refine zi_iload_n dJ2_grow_2_20 rfl ?_
    refine zi_iload_n dJ2_grow_2_21 rfl ?_
    refine zi_iload_n dJ2_grow_2_22 rfl ?_
    refine zi_isub dJ2_grow_2_23 ?_
    refine zi_iload_n dJ2_grow_2_24 rfl ?_
    refine zi_iconst dJ2_grow_2_25 ?_
    refine zi_ishr 1 dJ2_grow_2_26 (by decide) (by omega) ?_
    refine bc_S (As := [_, _, _]) (br := [_, _]) (kc' := 1) (ks' := kk) mw_J13_newLength (cc_J13_newLength (zl Z) (zE Z) C _ _ _ (by omega)) q1360 hR (by decide) rfl (by simp [Value.category]) dJ2_grow_2_27 [] [0, 1] [] rfl rfl rfl ⟨by omega, by omega⟩ (zC_F hC (fun e h => Or.inl h)) zC_ok (fun _ _ _ h => h.elim) (fun u27 r27 p27 => ?_)
    obtain ⟨e27, h27⟩ := p27
    subst e27
    refine zi_istore_3 dJ2_grow_2_30 hm (by decide) rfl ?_
    refine zi_aload_n dJ2_grow_2_31 rfl ?_
    refine zi_aload_n dJ2_grow_2_32 rfl ?_
    refine zb_getf zk_J2 0 rfl 1 (by decide) rfl q199 rfl dJ2_grow_2_33 ?_
    refine zi_iload_n dJ2_grow_2_36 rfl ?_
    refine bc_S (As := [_, _]) (br := [_, _]) (kc' := 0) (ks' := (kk - (((m : Nat) : Int) + max (mn - ((m : Nat) : Int)) (((m : Nat) : Int) / 2 ^ 1)).toNat)) mw_J15_copyOf_2 (cc_J15_copyOf_2 (zl Z) (zE Z) ((fun e => C e ∨ e = (b, aR (zE Z) m g))) _ (m) (g) (((m : Nat) : Int) + max (mn - ((m : Nat) : Int)) (((m : Nat) : Int) / 2 ^ 1)) (Or.inr rfl) (by omega) (by omega) (fun i i0 i1 y hy => by obtain ⟨y2, e2, h2⟩ := hob i i0 (by omega); rw [hy] at e2; cases e2; exact objC_mono h2 (fun _ h => Or.inl h))) q1361 hR (by decide) rfl (by simp [Value.category]) dJ2_grow_2_37 [] [0, 1] [] rfl rfl rfl ⟨by omega, by omega⟩ (zC_F hC (fun e h => h.imp id (fun h => by rw [h]; simp))) zC_ok (fun _ _ _ h => h.elim) (fun u37 r37 p37 => ?_)
    obtain ⟨e37, h37⟩ := p37
    subst e37
    refine zi_shape (bs' := [[(a, .inr (3, [jI (mc), .ref (b), jI (m)]))], [(b, aR (zE Z) (m) (g))], [(u37, aR (zE Z) (((((m : Nat) : Int) + max (mn - ((m : Nat) : Int)) (((m : Nat) : Int) / 2 ^ 1))).toNat) (cpI (g) (fun _ => none) 0 0 (min (((m) : Nat) : Int) (((m : Nat) : Int) + max (mn - ((m : Nat) : Int)) (((m : Nat) : Int) / 2 ^ 1)))))]]) rfl ?_
    refine zi_dup_x1 dJ2_grow_2_40 rfl rfl ?_
    refine zb_putf zk_J2 0 rfl 1 (by decide) rfl rfl q199 rfl rfl (Nat.le_of_ble_eq_true rfl) dJ2_grow_2_41 ?_
    refine zi_shape (bs' := [[(a, .inr (3, [jI (mc), .ref (u37), jI (m)]))], [(b, aR (zE Z) (m) (g))], [(u37, aR (zE Z) (((((m : Nat) : Int) + max (mn - ((m : Nat) : Int)) (((m : Nat) : Int) / 2 ^ 1))).toNat) (cpI (g) (fun _ => none) 0 0 (min (((m) : Nat) : Int) (((m : Nat) : Int) + max (mn - ((m : Nat) : Int)) (((m : Nat) : Int) / 2 ^ 1)))))]]) rfl ?_
    refine zi_pick (bs' := [[(a, .inr (3, [jI (mc), .ref (u37), jI (m)]))], [(u37, aR (zE Z) (((((m : Nat) : Int) + max (mn - ((m : Nat) : Int)) (((m : Nat) : Int) / 2 ^ 1))).toNat) (cpI (g) (fun _ => none) 0 0 (min (((m) : Nat) : Int) (((m : Nat) : Int) + max (mn - ((m : Nat) : Int)) (((m : Nat) : Int) / 2 ^ 1)))))]]) [0, 2] [1] rfl rfl ?_
    refine zi_shape (bs' := [[(a, .inr (3, [jI (mc), .ref (u37), jI (m)]))], [(u37, aR (zE Z) (kk) (cpI g (fun _ => none) 0 0 ((m : Nat) : Int)))]]) (by rw [show (((m : Nat) : Int) + max (mn - ((m : Nat) : Int)) (((m : Nat) : Int) / 2 ^ 1)).toNat = kk by omega, show min ((m : Nat) : Int) (((m : Nat) : Int) + max (mn - ((m : Nat) : Int)) (((m : Nat) : Int) / 2 ^ 1)) = ((m : Nat) : Int) by omega]) ?_
    exact zi_areturn hrt (Or.inr ⟨_, rfl⟩) dJ2_grow_2_44 (hret u37 _ _ [0, 1] [] (⟨rfl, trivial⟩) rfl rfl)
  · exact absurd c7 (by omega)
set_option maxHeartbeats 4000000 in
theorem cc_J2_grow_2_s (l : Launch) (E : ZE) (C : CT0) (a : Nat) (mc : Int) (mn : Int) (kk : Nat) (hmn : 1 ≤ mn ∧ mn ≤ 50000) (hkk : (kk : Int) = max 10 mn) : CB l yJ2_grow_2 (ws_ yJ2_grow_2 cJ2_grow_2 4 (some (Jvm.ClassFile.FieldType.array (Jvm.ClassFile.FieldType.object "java/lang/Object")))) 1 (1) (kk) E [.ref (a), jI (mn)] C [[(a, .inr (3, [jI (mc), .ref (E.2.2 6), jI (0)]))]] (fun (UU : (Nat)) r => r = some (.ref UU) ∧ (True)) (fun (UU : (Nat)) => [[(a, .inr (3, [jI (mc), .ref (UU), jI (0)]))], [(UU, aR E (kk) (fun _ => none))]]) (fun (_ : Unit) _ _ => False) (fun _ => []) := by
  refine cb_of (own := RJ2) (cc := cJ2_grow_2) (L := [some (.ref (a)), some (jI (mn)), none, none]) (by decide) rfl rfl (Nat.le_of_ble_eq_true rfl) (fun Z hE hl hrt hR hm hnm hret hxc hC hx0 => ?_)
  subst hE
  refine zi_cx (fun C0 => ?_)
  refine zi_aload_n dJ2_grow_2_0 rfl ?_
  refine zb_getf zk_J2 0 rfl 1 (by decide) rfl q199 rfl dJ2_grow_2_1 ?_
  refine zi_lenF C0.2.2.2.2.2.2.2.2.1.2.1.2.1 (fun _ h => h) dJ2_grow_2_4 ?_
  refine zi_istore_2 dJ2_grow_2_5 hm (by decide) rfl ?_
  refine zi_iload_n dJ2_grow_2_6 rfl ?_
  refine zi_if_gt 20 dJ2_grow_2_7 (by decide) (by omega) (fun h => absurd h (by omega)) (fun _ => ?_)
  refine zi_aload_n dJ2_grow_2_10 rfl ?_
  refine zb_getf zk_J2 0 rfl 1 (by decide) rfl q199 rfl dJ2_grow_2_11 ?_
  refine zi_gets (v := .ref ((zE Z).2.2 6)) (fun h => h.2.1.1) q197 dJ2_grow_2_14 ?_
  refine zi_acmp_eq 45 dJ2_grow_2_17 (by decide) (fun c17 => ?_) (fun c17 => ?_)
  · refine zi_aload_n dJ2_grow_2_45 rfl ?_
    refine zi_bipush dJ2_grow_2_46 (by decide +kernel) ?_
    refine zi_iload_n dJ2_grow_2_48 rfl ?_
    refine zi_mmax q1408 hR (by decide) (by simp [Value.category]) (by omega) dJ2_grow_2_49 ?_
    refine zb_newR (kc' := 0) (ks' := (kk - (max 10 mn).toNat)) q1409 q260 (by omega) ⟨by omega, by omega⟩ dJ2_grow_2_52 (fun o52 ho52 => ?_)
    refine zi_shape (bs' := [[(a, .inr (3, [jI (mc), .ref ((zE Z).2.2 6), jI (0)]))], [(o52, aR (zE Z) (((max 10 mn)).toNat) (fun _ => none))]]) rfl ?_
    refine zi_dup_x1 dJ2_grow_2_55 rfl rfl ?_
    refine zb_putf zk_J2 0 rfl 1 (by decide) rfl rfl q199 rfl rfl (Nat.le_of_ble_eq_true rfl) dJ2_grow_2_56 ?_
    refine zi_shape (bs' := [[(a, .inr (3, [jI (mc), .ref (o52), jI (0)]))], [(o52, aR (zE Z) (((max 10 mn)).toNat) (fun _ => none))]]) rfl ?_
    refine zi_shape (bs' := [[(a, .inr (3, [jI (mc), .ref (o52), jI (0)]))], [(o52, aR (zE Z) (kk) (fun _ => none))]]) (by rw [show (max (10 : Int) mn).toNat = kk by omega]) ?_
    exact zi_areturn hrt (Or.inr ⟨_, rfl⟩) dJ2_grow_2_59 (hret o52 _ _ [0, 1] [] (⟨rfl, trivial⟩) rfl rfl)
  · exact absurd rfl c17
