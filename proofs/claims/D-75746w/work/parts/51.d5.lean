/-! LISTS THAT ARE CHANGED, three -/
set_option maxRecDepth 100000
theorem mwf_J2_toArray_Collection : MWF "java/util/ArrayList" ⟨"java/util/Collection", "toArray", "()[Ljava/lang/Object;"⟩ yJ2_toArray cJ2_toArray 1 (some (Jvm.ClassFile.FieldType.array (Jvm.ClassFile.FieldType.object "java/lang/Object"))) 0 := ⟨by decide +kernel, q1611, q1613, q122, q1615, by decide, by decide +kernel, by decide +kernel, by decide +kernel⟩
set_option maxHeartbeats 4000000 in
theorem cc_J2_addAll (l : Launch) (E : ZE) (C : CT0) (a : Nat) (f : Int → Nat) (w : va_W) (c : Nat) (n2 : Int) (f2 : Int → Nat) (hl : LstK E a 0 f 0 w) (hc : lstC E C c n2 f2) (h20 : n2 ≤ 20) (hob : ∀ i : Int, 0 ≤ i → i < n2 → objC E C (f2 i)) : CB l yJ2_addAll (ws_ yJ2_addAll cJ2_addAll 6 (some Jvm.ClassFile.FieldType.boolean)) 4 (2) (40) E [.ref (a), .ref (c)] C [w] (fun (UU : (va_W) × (Int)) r => r = some (jI (UU.2)) ∧ (LstO E a n2 f2 (UU.1) ∧ ((UU.2) = 0 ∨ (UU.2) = 1))) (fun (UU : (va_W) × (Int)) => [(UU.1)]) (fun (_ : Unit) _ _ => False) (fun _ => []) := by
  refine cb_of (own := RJ2) (cc := cJ2_addAll) (L := [some (.ref (a)), some (.ref (c)), none, none, none, none]) (by decide) rfl rfl (Nat.le_of_ble_eq_true rfl) (fun Z hE hl hrt hR hm hnm hret hxc hC hx0 => ?_)
  subst hE
  refine zi_cx (fun C0 => ?_)
  have hn2 := lstC_n hc
  obtain ⟨b, mc, ⟨g, -, hr, -⟩ | ⟨rfl, -, -, hb0⟩⟩ := hl
  · exact absurd hr.2.2.1 (by decide)
  subst hb0
  refine zi_eqb (bs' := [[(a, .inr (3, [jI (mc), .ref ((zE Z).2.2 6), jI (0)]))]]) (rfl) ?_
  refine zi_aload_n dJ2_addAll_0 rfl ?_
  refine bc_F (As := []) (br := [_]) (kc' := 1) (ks' := (40 - (n2).toNat)) (ci := 3) rfl mwf_J2_toArray_Collection (cc_J2_toArray (zl Z) (zE Z) C _ (n2) _ (hc) (hob)) q1592 (zr_lst hC (hc)) hR (by decide) rfl (by simp [Value.category]) dJ2_addAll_1 [] [0] [] rfl rfl rfl ⟨by omega, by omega⟩ (zC_F hC (fun e h => Or.inl h)) zC_ok (fun _ _ _ h => h.elim) (fun u1 r1 p1 => ?_)
  obtain ⟨q_1, G_1⟩ := u1
  obtain ⟨e1, h1⟩ := p1
  subst e1
  try dsimp only at h1
  refine zi_shape (bs' := [[(a, .inr (3, [jI (mc), .ref ((zE Z).2.2 6), jI (0)]))], [(q_1, aR (zE Z) (((n2)).toNat) (G_1))]]) rfl ?_
  refine zi_astore_2 dJ2_addAll_6 hm (by decide) rfl ?_
  refine zi_aload_n dJ2_addAll_7 rfl ?_
  refine zi_dup dJ2_addAll_8 rfl ?_
  refine zb_getfS zk_J2 0 rfl 0 (by decide) q205 q206 rfl dJ2_addAll_9 ?_
  refine zi_iconst dJ2_addAll_12 ?_
  refine zi_iadd dJ2_addAll_13 ?_
  refine zb_putfS zk_J2 0 rfl 0 (by decide) q205 rfl q206 rfl rfl (Nat.le_of_ble_eq_true rfl) dJ2_addAll_14 ?_
  refine zi_shape (bs' := [[(a, .inr (3, [jI ((mc + 1)), .ref ((zE Z).2.2 6), jI (0)]))], [(q_1, aR (zE Z) (((n2)).toNat) (G_1))]]) rfl ?_
  refine zi_aload_n dJ2_addAll_17 rfl ?_
  refine zb_alen 1 4 rfl rfl dJ2_addAll_18 ?_
  refine zi_istore_3 dJ2_addAll_19 hm (by decide) rfl ?_
  refine zi_iload_n dJ2_addAll_20 rfl ?_
  refine zi_if_ne 26 dJ2_addAll_21 (by decide) (by omega) (fun c21 => ?_) (fun c21 => ?_)
  · refine zi_iload_n dJ2_addAll_26 rfl ?_
    refine zi_aload_n dJ2_addAll_27 rfl ?_
    refine zb_getf zk_J2 0 rfl 1 (by decide) rfl q199 rfl dJ2_addAll_28 ?_
    refine zi_dup dJ2_addAll_31 rfl ?_
    refine zi_astore_4 dJ2_addAll_32 hm (by decide) rfl ?_
    refine zi_lenF C0.2.2.2.2.2.2.2.2.1.2.1.2.1 (fun _ h => h) dJ2_addAll_34 ?_
    refine zi_aload_n dJ2_addAll_35 rfl ?_
    refine zb_getf zk_J2 0 rfl 2 (by decide) rfl q202 rfl dJ2_addAll_36 ?_
    refine zi_dup dJ2_addAll_39 rfl ?_
    refine zi_istore_5 dJ2_addAll_40 hm (by decide) rfl ?_
    refine zi_isub dJ2_addAll_42 ?_
    refine zi_icmp_le 56 dJ2_addAll_43 (by decide) (by omega) (fun c43 => ?_) (fun c43 => ?_)
    · exact absurd c21 (by omega)
    · refine zi_aload_n dJ2_addAll_46 rfl ?_
      refine zi_iload dJ2_addAll_47 rfl ?_
      refine zi_iload_n dJ2_addAll_49 rfl ?_
      refine zi_iadd dJ2_addAll_50 ?_
      refine bc_V (As := [_]) (br := [_]) (kc' := 0) (ks' := ((40 - (n2).toNat) - ((max 10 (n2).toNat)))) mw_J2_grow_2 (cc_J2_grow_2_s (zl Z) (zE Z) C _ _ _ ((max 10 (n2).toNat)) (by omega) (by omega)) q1356 (zr_blk (q := (RJ2, TJ2, 3)) 0 rfl rfl) hR (by decide) rfl (by simp [Value.category]) dJ2_addAll_51 [0] [1] [] rfl rfl rfl ⟨by omega, by omega⟩ (zC_F hC (fun e h => Or.inl h)) zC_ok (fun _ _ _ h => h.elim) (fun u51 r51 p51 => ?_)
      obtain ⟨e51, h51⟩ := p51
      subst e51
      refine zi_shape (bs' := [[(q_1, aR (zE Z) (((n2)).toNat) (G_1))], [(a, .inr (3, [jI ((mc + 1)), .ref (u51), jI (0)]))], [(u51, aR (zE Z) ((max 10 (n2).toNat)) (fun _ => none))]]) rfl ?_
      refine zi_astore_4 dJ2_addAll_54 hm (by decide) rfl ?_
      refine zi_aload_n dJ2_addAll_56 rfl ?_
      refine zi_iconst dJ2_addAll_57 ?_
      refine zi_aload dJ2_addAll_58 rfl ?_
      refine zi_iload dJ2_addAll_60 rfl ?_
      refine zi_iload_n dJ2_addAll_62 rfl ?_
      refine zb_copyR (f := G_1) (g := fun _ => none) (fun C0 H hU hP i i0 i1 y hy => zAny_obj hC (by rw [Int.zero_add, h1 i i0 (by omega)] at hy; cases hy; exact hob i i0 (by omega)) C0 H hU hP) (zIs_b 0 rfl) 2 rfl (by omega) q1616 hR (by decide) (by simp [Value.category]) dJ2_addAll_63 ?_
      refine zi_shape (bs' := [[(q_1, aR (zE Z) (((n2)).toNat) (G_1))], [(a, .inr (3, [jI ((mc + 1)), .ref (u51), jI (0)]))], [(u51, aR (zE Z) ((max 10 (n2).toNat)) (cpI (G_1) (fun _ => none) (0) (0) (((((n2)).toNat : Nat) : Int))))]]) rfl ?_
      refine zi_aload_n dJ2_addAll_66 rfl ?_
      refine zi_iload dJ2_addAll_67 rfl ?_
      refine zi_iload_n dJ2_addAll_69 rfl ?_
      refine zi_iadd dJ2_addAll_70 ?_
      refine zb_putf zk_J2 1 rfl 2 (by decide) rfl rfl q202 rfl rfl (Nat.le_of_ble_eq_true rfl) dJ2_addAll_71 ?_
      refine zi_shape (bs' := [[(q_1, aR (zE Z) (((n2)).toNat) (G_1))], [(a, .inr (3, [jI ((mc + 1)), .ref (u51), jI ((0 + ((((n2)).toNat : Nat) : Int)))]))], [(u51, aR (zE Z) ((max 10 (n2).toNat)) (cpI (G_1) (fun _ => none) (0) (0) (((((n2)).toNat : Nat) : Int))))]]) rfl ?_
      refine zi_iconst dJ2_addAll_74 ?_
      refine zi_shape (bs' := [[(q_1, aR (zE Z) (((n2)).toNat) (G_1))], [(a, .inr (3, [jI ((mc + 1)), .ref (u51), jI (n2)]))], [(u51, aR (zE Z) ((max 10 (n2).toNat)) (cpI (G_1) (fun _ => none) (0) (0) (((((n2)).toNat : Nat) : Int))))]]) (by rw [show (0 : Int) + (((n2).toNat : Nat) : Int) = n2 by omega]) ?_
      refine zi_eqb (bs' := [[(q_1, aR (zE Z) (((n2)).toNat) (G_1))], [(a, .inr (3, [jI ((mc + 1)), .ref (u51), jI (n2)])), (u51, aR (zE Z) ((max 10 (n2).toNat)) (cpI (G_1) (fun _ => none) (0) (0) (((((n2)).toNat : Nat) : Int))))]]) rfl ?_
      have hz : ∀ i : Int, 0 ≤ i → i < n2 → (cpI (G_1) (fun _ => none) (0) (0) (((((n2)).toNat : Nat) : Int))) i = some (f2 i) := by
        intro i i0 i1
        rw [cpI_all (by omega)]
        exact h1 i i0 i1
      exact zi_zreturn hrt (z_nb (by first | exact Or.inl rfl | exact Or.inr rfl | exact bI_01 _)) dJ2_addAll_75 (hret ([(a, .inr (3, [jI (mc + 1), .ref u51, jI n2])), (u51, aR (zE Z) (max 10 (n2).toNat) (cpI (G_1) (fun _ => none) (0) (0) (((((n2)).toNat : Nat) : Int))))], 1) _ _ [1] [0] (⟨rfl, ⟨_, _, _, Or.inl ⟨_, rfl, by omega, hz⟩⟩, Or.inr rfl⟩) rfl rfl)
  · refine zi_iconst dJ2_addAll_24 ?_
    refine zi_pick (bs' := [[(a, .inr (3, [jI ((mc + 1)), .ref ((zE Z).2.2 6), jI (0)]))]]) [0] [1] rfl rfl ?_
    have hn0 : n2 = 0 := by omega
    subst hn0
    exact zi_zreturn hrt (z_nb (by first | exact Or.inl rfl | exact Or.inr rfl | exact bI_01 _)) dJ2_addAll_25 (hret ([(a, .inr (3, [jI (mc + 1), .ref ((zE Z).2.2 6), jI 0]))], 0) _ _ [0] [] (⟨rfl, ⟨_, _, _, Or.inr ⟨rfl, rfl, rfl, rfl⟩⟩, Or.inl rfl⟩) rfl rfl)
set_option maxHeartbeats 4000000 in
theorem cc_J2_fastRemove (l : Launch) (E : ZE) (C : CT0) (a : Nat) (b : Nat) (mc : Int) (m : Nat) (n : Int) (g : Int → Option Nat) (i : Int) (hr : 0 ≤ i ∧ i < n ∧ n ≤ m ∧ m ≤ 100000) (hob : ∀ j : Int, 0 ≤ j → j < n → ∃ y, g j = some y ∧ objC E C y) : CB l yJ2_fastRemove (ws_ yJ2_fastRemove cJ2_fastRemove 4 none) 1 (0) (0) E [.ref (a), .ref (b), jI (i)] C [[(a, .inr (3, [jI (mc), .ref (b), jI (n)]))], [(b, aR E (m) (g))]] (fun (UU : (Int → Option Nat)) r => r = none ∧ (∀ j : Int, 0 ≤ j → j < n - 1 → UU j = (if j < i then g j else g (j + 1)))) (fun (UU : (Int → Option Nat)) => [[(a, .inr (3, [jI ((mc + 1)), .ref (b), jI ((n - 1))]))], [(b, aR E (m) (UU))]]) (fun (_ : Unit) _ _ => False) (fun _ => []) := by
  refine cb_of (own := RJ2) (cc := cJ2_fastRemove) (L := [some (.ref (a)), some (.ref (b)), some (jI (i)), none]) (by decide) rfl rfl (Nat.le_of_ble_eq_true rfl) (fun Z hE hl hrt hR hm hnm hret hxc hC hx0 => ?_)
  subst hE
  refine zi_aload_n dJ2_fastRemove_0 rfl ?_
  refine zi_dup dJ2_fastRemove_1 rfl ?_
  refine zb_getfS zk_J2 0 rfl 0 (by decide) q205 q206 rfl dJ2_fastRemove_2 ?_
  refine zi_iconst dJ2_fastRemove_5 ?_
  refine zi_iadd dJ2_fastRemove_6 ?_
  refine zb_putfS zk_J2 0 rfl 0 (by decide) q205 rfl q206 rfl rfl (Nat.le_of_ble_eq_true rfl) dJ2_fastRemove_7 ?_
  refine zi_shape (bs' := [[(a, .inr (3, [jI ((mc + 1)), .ref (b), jI (n)]))], [(b, aR (zE Z) (m) (g))]]) rfl ?_
  refine zi_aload_n dJ2_fastRemove_10 rfl ?_
  refine zb_getf zk_J2 0 rfl 2 (by decide) rfl q202 rfl dJ2_fastRemove_11 ?_
  refine zi_iconst dJ2_fastRemove_14 ?_
  refine zi_isub dJ2_fastRemove_15 ?_
  refine zi_dup dJ2_fastRemove_16 rfl ?_
  refine zi_istore_3 dJ2_fastRemove_17 hm (by decide) rfl ?_
  refine zi_iload_n dJ2_fastRemove_18 rfl ?_
  refine zi_icmp_le 34 dJ2_fastRemove_19 (by decide) (by omega) (fun c19 => ?_) (fun c19 => ?_)
  · refine zi_aload_n dJ2_fastRemove_34 rfl ?_
    refine zi_aload_n dJ2_fastRemove_35 rfl ?_
    refine zi_iload_n dJ2_fastRemove_36 rfl ?_
    refine zi_dup_x1 dJ2_fastRemove_37 rfl rfl ?_
    refine zb_putf zk_J2 0 rfl 2 (by decide) rfl rfl q202 rfl rfl (Nat.le_of_ble_eq_true rfl) dJ2_fastRemove_38 ?_
    refine zi_shape (bs' := [[(a, .inr (3, [jI ((mc + 1)), .ref (b), jI ((n - 1))]))], [(b, aR (zE Z) (m) (g))]]) rfl ?_
    refine zi_null dJ2_fastRemove_41 ?_
    refine zb_stRN 1 rfl (by omega) (by omega) dJ2_fastRemove_42 ?_
    refine zi_return hrt dJ2_fastRemove_43 (hret (zup (g) ((n - 1)) none) _ _ [0, 1] [] ?_ rfl rfl)
    · refine ⟨rfl, fun j j0 j1 => ?_⟩
      try dsimp only
      rw [zup_n (by omega), if_pos (by omega)]
  · refine zi_aload_n dJ2_fastRemove_22 rfl ?_
    refine zi_iload_n dJ2_fastRemove_23 rfl ?_
    refine zi_iconst dJ2_fastRemove_24 ?_
    refine zi_iadd dJ2_fastRemove_25 ?_
    refine zi_aload_n dJ2_fastRemove_26 rfl ?_
    refine zi_iload_n dJ2_fastRemove_27 rfl ?_
    refine zi_iload_n dJ2_fastRemove_28 rfl ?_
    refine zi_iload_n dJ2_fastRemove_29 rfl ?_
    refine zi_isub dJ2_fastRemove_30 ?_
    refine zb_copyR (f := g) (g := g) (fun C0 H hU hP j j0 j1 y hy => zAny_obj hC (by obtain ⟨y2, e2, h2⟩ := hob (i + 1 + j) (by omega) (by omega); rw [hy] at e2; cases e2; exact h2) C0 H hU hP) (zIs_b 1 rfl) 1 rfl (by omega) q1616 hR (by decide) (by simp [Value.category]) dJ2_fastRemove_31 ?_
    refine zi_shape (bs' := [[(a, .inr (3, [jI ((mc + 1)), .ref (b), jI (n)]))], [(b, aR (zE Z) (m) (cpI (g) (g) ((i + 1)) (i) (((n - 1) - i))))]]) rfl ?_
    refine zi_aload_n dJ2_fastRemove_34 rfl ?_
    refine zi_aload_n dJ2_fastRemove_35 rfl ?_
    refine zi_iload_n dJ2_fastRemove_36 rfl ?_
    refine zi_dup_x1 dJ2_fastRemove_37 rfl rfl ?_
    refine zb_putf zk_J2 0 rfl 2 (by decide) rfl rfl q202 rfl rfl (Nat.le_of_ble_eq_true rfl) dJ2_fastRemove_38 ?_
    refine zi_shape (bs' := [[(a, .inr (3, [jI ((mc + 1)), .ref (b), jI ((n - 1))]))], [(b, aR (zE Z) (m) (cpI (g) (g) ((i + 1)) (i) (((n - 1) - i))))]]) rfl ?_
    refine zi_null dJ2_fastRemove_41 ?_
    refine zb_stRN 1 rfl (by omega) (by omega) dJ2_fastRemove_42 ?_
    refine zi_return hrt dJ2_fastRemove_43 (hret (zup (cpI (g) (g) ((i + 1)) (i) (((n - 1) - i))) ((n - 1)) none) _ _ [0, 1] [] ?_ rfl rfl)
    · refine ⟨rfl, fun j j0 j1 => ?_⟩
      try dsimp only
      rw [zup_n (by omega)]; unfold cpI; by_cases q : j < i
      · rw [if_neg (by omega), if_pos q]
      · rw [if_pos (by omega), if_neg q, show i + 1 + (j - i) = j + 1 by omega]
theorem mw_J2_fastRemove : MWV yJ2_fastRemove cJ2_fastRemove 4 none 2 := ⟨q2181, qs35, q122, q2182, by decide, by decide +kernel, by decide +kernel, by decide +kernel⟩
set_option maxHeartbeats 4000000 in
theorem cc_J2_remove (l : Launch) (E : ZE) (C : CT0) (a : Nat) (n : Int) (f : Int → Nat) (m : Nat) (w : va_W) (i : Int) (hl : LstK E a n f m w) (hi : 0 ≤ i ∧ i < n) (hob : ∀ i : Int, 0 ≤ i → i < n → objC E C (f i)) : CB l yJ2_remove (ws_ yJ2_remove cJ2_remove 4 (some (Jvm.ClassFile.FieldType.object "java/lang/Object"))) 3 (0) (0) E [.ref (a), jI (i)] C [w] (fun (UU : (va_W)) r => r = some (.ref (f i)) ∧ (LstK E a (n - 1) (fun j => if j < i then f j else f (j + 1)) m UU)) (fun (UU : (va_W)) => [UU]) (fun (_ : Unit) _ _ => False) (fun _ => []) := by
  refine cb_of (own := RJ2) (cc := cJ2_remove) (L := [some (.ref (a)), some (jI (i)), none, none]) (by decide) rfl rfl (Nat.le_of_ble_eq_true rfl) (fun Z hE hl hrt hR hm hnm hret hxc hC hx0 => ?_)
  subst hE
  obtain ⟨b, mc, ⟨g, rfl, hr, hg⟩ | ⟨-, hn0, -, -⟩⟩ := hl
  rotate_left
  · omega
  refine zi_eqb (bs' := [[(a, .inr (3, [jI (mc), .ref (b), jI (n)]))], [(b, aR (zE Z) (m) (g))]]) (rfl) ?_
  refine zi_iload_n dJ2_remove_0 rfl ?_
  refine zi_aload_n dJ2_remove_1 rfl ?_
  refine zb_getf zk_J2 0 rfl 2 (by decide) rfl q202 rfl dJ2_remove_2 ?_
  refine bc_S (As := [_, _]) (br := [_, _]) (kc' := 0) (ks' := 0) mw_J20_checkIndex (cc_J20_checkIndex (zl Z) (zE Z) C _ _ (hi) (by omega)) q416 hR (by decide) rfl (by simp [Value.category]) dJ2_remove_5 [] [0, 1] [] rfl rfl rfl ⟨by omega, by omega⟩ (zC_F hC (fun e h => Or.inl h)) zC_ok (fun _ _ _ h => h.elim) (fun u5 r5 p5 => ?_)
  obtain ⟨e5, h5⟩ := p5
  subst e5
  refine zi_pop dJ2_remove_8 rfl ?_
  refine zi_aload_n dJ2_remove_9 rfl ?_
  refine zb_getf zk_J2 0 rfl 1 (by decide) rfl q199 rfl dJ2_remove_10 ?_
  refine zi_astore_2 dJ2_remove_13 hm (by decide) rfl ?_
  refine zi_aload_n dJ2_remove_14 rfl ?_
  refine zi_iload_n dJ2_remove_15 rfl ?_
  refine zb_ldR 1 rfl (by omega) (by omega) (hg i hi.1 hi.2) dJ2_remove_16 ?_
  refine zi_astore_3 dJ2_remove_17 hm (by decide) rfl ?_
  refine zi_aload_n dJ2_remove_18 rfl ?_
  refine zi_aload_n dJ2_remove_19 rfl ?_
  refine zi_iload_n dJ2_remove_20 rfl ?_
  refine bc_V (As := [_, _]) (br := []) (kc' := 0) (ks' := 0) mw_J2_fastRemove (cc_J2_fastRemove (zl Z) (zE Z) C _ _ _ _ _ (g) _ (by omega) (fun j j0 j1 => ⟨f j, hg j j0 j1, hob j j0 j1⟩)) q2179 (zr_blk (q := (RJ2, TJ2, 3)) 0 rfl rfl) hR (by decide) rfl (by simp [Value.category]) dJ2_remove_21 [0, 1] [] [] rfl rfl rfl ⟨by omega, by omega⟩ (zC_F hC (fun e h => Or.inl h)) zC_ok (fun _ _ _ h => h.elim) (fun u21 r21 p21 => ?_)
  obtain ⟨e21, h21⟩ := p21
  subst e21
  refine zi_shape (bs' := [[(a, .inr (3, [jI ((mc + 1)), .ref (b), jI ((n - 1))]))], [(b, aR (zE Z) (m) (u21))]]) rfl ?_
  refine zi_aload_n dJ2_remove_24 rfl ?_
  refine zi_eqb (bs' := [[(a, .inr (3, [jI ((mc + 1)), .ref (b), jI ((n - 1))])), (b, aR (zE Z) (m) (u21))]]) rfl ?_
  refine zi_areturn hrt (Or.inl ⟨_, rfl⟩) dJ2_remove_25 (hret [(a, .inr (3, [jI (mc + 1), .ref b, jI (n - 1)])), (b, aR (zE Z) m (u21))] _ _ [0] [] ?_ rfl rfl)
  · refine ⟨rfl, _, _, Or.inl ⟨_, rfl, by omega, fun j j0 j1 => ?_⟩⟩
    rw [h21 j j0 j1]
    by_cases q : j < i
    · rw [if_pos q]; dsimp only; rw [if_pos q]; exact hg j j0 (by omega)
    · rw [if_neg q]; dsimp only; rw [if_neg q]; exact hg (j + 1) (by omega) (by omega)
set_option maxHeartbeats 4000000 in
theorem cc_J2_clear (l : Launch) (E : ZE) (C : CT0) (a : Nat) (n : Int) (f : Int → Nat) (m : Nat) (w : va_W) (hl : LstK E a n f m w) : CB l yJ2_clear (ws_ yJ2_clear cJ2_clear 4 none) 1 (0) (0) E [.ref (a)] C [w] (fun (UU : (va_W)) r => r = none ∧ (∀ f9, LstO E a 0 f9 UU)) (fun (UU : (va_W)) => [UU]) (fun (_ : Unit) _ _ => False) (fun _ => []) := by
  refine cb_of (own := RJ2) (cc := cJ2_clear) (L := [some (.ref (a)), none, none, none]) (by decide) rfl rfl (Nat.le_of_ble_eq_true rfl) (fun Z hE hl hrt hR hm hnm hret hxc hC hx0 => ?_)
  subst hE
  refine zi_cx (fun C0 => ?_)
  obtain ⟨b, mc, ⟨g, rfl, hr, hg⟩ | ⟨rfl, hn0, -, hb0⟩⟩ := hl
  · refine zi_eqb (bs' := [[(a, .inr (3, [jI (mc), .ref (b), jI (n)]))], [(b, aR (zE Z) (m) (g))]]) (rfl) ?_
    refine zi_aload_n dJ2_clear_0 rfl ?_
    refine zi_dup dJ2_clear_1 rfl ?_
    refine zb_getfS zk_J2 0 rfl 0 (by decide) q205 q206 rfl dJ2_clear_2 ?_
    refine zi_iconst dJ2_clear_5 ?_
    refine zi_iadd dJ2_clear_6 ?_
    refine zb_putfS zk_J2 0 rfl 0 (by decide) q205 rfl q206 rfl rfl (Nat.le_of_ble_eq_true rfl) dJ2_clear_7 ?_
    refine zi_shape (bs' := [[(a, .inr (3, [jI ((mc + 1)), .ref (b), jI (n)]))], [(b, aR (zE Z) (m) (g))]]) rfl ?_
    refine zi_aload_n dJ2_clear_10 rfl ?_
    refine zb_getf zk_J2 0 rfl 1 (by decide) rfl q199 rfl dJ2_clear_11 ?_
    refine zi_astore_1 dJ2_clear_14 hm (by decide) rfl ?_
    refine zi_aload_n dJ2_clear_15 rfl ?_
    refine zb_getf zk_J2 0 rfl 2 (by decide) rfl q202 rfl dJ2_clear_16 ?_
    refine zi_istore_2 dJ2_clear_19 hm (by decide) rfl ?_
    refine zi_aload_n dJ2_clear_20 rfl ?_
    refine zi_iconst dJ2_clear_21 ?_
    refine zi_dup_x1 dJ2_clear_22 rfl rfl ?_
    refine zb_putf zk_J2 0 rfl 2 (by decide) rfl rfl q202 rfl rfl (Nat.le_of_ble_eq_true rfl) dJ2_clear_23 ?_
    refine zi_shape (bs' := [[(a, .inr (3, [jI ((mc + 1)), .ref (b), jI (0)]))], [(b, aR (zE Z) (m) (g))]]) rfl ?_
    refine zi_istore_3 dJ2_clear_26 hm (by decide) rfl ?_
    have lp27 : ∀ (N9 : Nat) (g9 : Int → Option Nat) (x3 : Int), (0 ≤ x3 ∧ x3 ≤ n) → (100000 - x3).toNat < N9 → GV RJ2 cJ2_clear Z (zA Z) (zs Z).heap (List.flatten [[(a, .inr (3, [jI ((mc + 1)), .ref (b), jI (0)]))], [(b, aR (zE Z) (m) (g9))]]) 0 0 27 [some (.ref (a)), some (.ref (b)), some (jI (n)), some (jI (x3))] [] := by
      intro N9
      induction N9 with
      | zero => intro g9 x3 i27_0 m27; exact absurd m27 (Nat.not_lt_zero _)
      | succ N9 ih27 =>
        intro g9 x3 i27_0 m27
        refine zi_iload_n dJ2_clear_27 rfl ?_
        refine zi_iload_n dJ2_clear_28 rfl ?_
        refine zi_icmp_ge 42 dJ2_clear_29 (by decide) (by omega) (fun c29 => ?_) (fun c29 => ?_)
        · refine zi_eqb (bs' := [[(a, .inr (3, [jI ((mc + 1)), .ref (b), jI (0)])), (b, aR (zE Z) (m) (g9))]]) rfl ?_
          exact zi_return hrt dJ2_clear_42 (hret [(a, .inr (3, [jI (mc + 1), .ref b, jI 0])), (b, aR (zE Z) m g9)] _ _ [0] [] (⟨rfl, fun f9 => ⟨_, _, _, Or.inl ⟨_, rfl, by omega, fun j j0 j1 => absurd j1 (by omega)⟩⟩⟩) rfl rfl)
        · refine zi_aload_n dJ2_clear_32 rfl ?_
          refine zi_iload_n dJ2_clear_33 rfl ?_
          refine zi_null dJ2_clear_34 ?_
          refine zb_stRN 1 rfl (by omega) (by omega) dJ2_clear_35 ?_
          refine zi_iinc_3 dJ2_clear_36 hm (by decide) rfl ?_
          refine zi_goto 27 dJ2_clear_39 (by decide) ?_
          exact ih27 (zup (g9) (x3) none) ((x3 + 1)) (by omega) (by omega)
    exact lp27 _ (g) (0) (by omega) (Nat.lt_succ_self _)
  · subst hn0 hb0
    refine zi_eqb (bs' := [[(a, .inr (3, [jI (mc), .ref ((zE Z).2.2 6), jI (0)]))]]) (rfl) ?_
    refine zi_aload_n dJ2_clear_0 rfl ?_
    refine zi_dup dJ2_clear_1 rfl ?_
    refine zb_getfS zk_J2 0 rfl 0 (by decide) q205 q206 rfl dJ2_clear_2 ?_
    refine zi_iconst dJ2_clear_5 ?_
    refine zi_iadd dJ2_clear_6 ?_
    refine zb_putfS zk_J2 0 rfl 0 (by decide) q205 rfl q206 rfl rfl (Nat.le_of_ble_eq_true rfl) dJ2_clear_7 ?_
    refine zi_shape (bs' := [[(a, .inr (3, [jI ((mc + 1)), .ref ((zE Z).2.2 6), jI (0)]))]]) rfl ?_
    refine zi_aload_n dJ2_clear_10 rfl ?_
    refine zb_getf zk_J2 0 rfl 1 (by decide) rfl q199 rfl dJ2_clear_11 ?_
    refine zi_astore_1 dJ2_clear_14 hm (by decide) rfl ?_
    refine zi_aload_n dJ2_clear_15 rfl ?_
    refine zb_getf zk_J2 0 rfl 2 (by decide) rfl q202 rfl dJ2_clear_16 ?_
    refine zi_istore_2 dJ2_clear_19 hm (by decide) rfl ?_
    refine zi_aload_n dJ2_clear_20 rfl ?_
    refine zi_iconst dJ2_clear_21 ?_
    refine zi_dup_x1 dJ2_clear_22 rfl rfl ?_
    refine zb_putf zk_J2 0 rfl 2 (by decide) rfl rfl q202 rfl rfl (Nat.le_of_ble_eq_true rfl) dJ2_clear_23 ?_
    refine zi_shape (bs' := [[(a, .inr (3, [jI ((mc + 1)), .ref ((zE Z).2.2 6), jI (0)]))]]) rfl ?_
    refine zi_istore_3 dJ2_clear_26 hm (by decide) rfl ?_
    have lp27 : ∀ (N9 : Nat) (g9 : Int → Option Nat) (x3 : Int), (0 ≤ x3 ∧ x3 ≤ 0) → (100000 - x3).toNat < N9 → GV RJ2 cJ2_clear Z (zA Z) (zs Z).heap (List.flatten [[(a, .inr (3, [jI ((mc + 1)), .ref ((zE Z).2.2 6), jI (0)]))]]) 0 0 27 [some (.ref (a)), some (.ref ((zE Z).2.2 6)), some (jI (0)), some (jI (x3))] [] := by
      intro N9
      induction N9 with
      | zero => intro g9 x3 i27_0 m27; exact absurd m27 (Nat.not_lt_zero _)
      | succ N9 ih27 =>
        intro g9 x3 i27_0 m27
        refine zi_iload_n dJ2_clear_27 rfl ?_
        refine zi_iload_n dJ2_clear_28 rfl ?_
        refine zi_icmp_ge 42 dJ2_clear_29 (by decide) (by omega) (fun c29_1 => ?_) (fun c29_1 => ?_)
        · exact zi_return hrt dJ2_clear_42 (hret [(a, .inr (3, [jI (mc + 1), .ref ((zE Z).2.2 6), jI 0]))] _ _ [0] [] (⟨rfl, fun f9 => ⟨_, _, _, Or.inr ⟨rfl, rfl, rfl, rfl⟩⟩⟩) rfl rfl)
        · exact absurd c29_1 (by omega)
    exact lp27 _ ((fun _ => none)) (0) (by omega) (Nat.lt_succ_self _)
