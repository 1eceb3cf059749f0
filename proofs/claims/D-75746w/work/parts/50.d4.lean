/-! LISTS THAT ARE CHANGED, two -/
set_option maxRecDepth 100000
theorem mw_J2_grow_2 : MWV yJ2_grow_2 cJ2_grow_2 4 (some (Jvm.ClassFile.FieldType.array (Jvm.ClassFile.FieldType.object "java/lang/Object"))) 1 := ⟨q1358, qs14, q122, q1359, by decide, by decide +kernel, by decide +kernel, by decide +kernel⟩
set_option maxHeartbeats 4000000 in
theorem cc_J2_grow (l : Launch) (E : ZE) (C : CT0) (a : Nat) (b : Nat) (mc : Int) (m : Nat) (g : Int → Option Nat) (kk : Nat) (hm : 10 ≤ m ∧ m ≤ 49999) (hkk : (kk : Int) = m + m / 2 ^ 1) (hob : ∀ i : Int, 0 ≤ i → i < m → ∃ y, g i = some y ∧ objC E C y) : CB l yJ2_grow (ws_ yJ2_grow cJ2_grow 1 (some (Jvm.ClassFile.FieldType.array (Jvm.ClassFile.FieldType.object "java/lang/Object")))) 4 (1) (kk) E [.ref (a)] C [[(a, .inr (3, [jI (mc), .ref (b), jI (m)]))], [(b, aR E (m) (g))]] (fun (UU : (Nat)) r => r = some (.ref UU) ∧ (True)) (fun (UU : (Nat)) => [[(a, .inr (3, [jI (mc), .ref (UU), jI (m)]))], [(UU, aR E (kk) (cpI g (fun _ => none) 0 0 ((m : Nat) : Int)))]]) (fun (_ : Unit) _ _ => False) (fun _ => []) := by
  refine cb_of (own := RJ2) (cc := cJ2_grow) (L := [some (.ref (a))]) (by decide) rfl rfl (Nat.le_of_ble_eq_true rfl) (fun Z hE hl hrt hR hm hnm hret hxc hC hx0 => ?_)
  subst hE
  refine zi_aload_n dJ2_grow_0 rfl ?_
  refine zi_aload_n dJ2_grow_1 rfl ?_
  refine zb_getf zk_J2 0 rfl 2 (by decide) rfl q202 rfl dJ2_grow_2 ?_
  refine zi_iconst dJ2_grow_5 ?_
  refine zi_iadd dJ2_grow_6 ?_
  refine bc_V (As := [_]) (br := []) (kc' := 0) (ks' := (kk - (kk))) mw_J2_grow_2 (cc_J2_grow_2 (zl Z) (zE Z) C _ _ _ (m) (g) _ (kk) (by omega) (by omega) (by omega) (hob)) q1356 (zr_blk (q := (RJ2, TJ2, 3)) 0 rfl rfl) hR (by decide) rfl (by simp [Value.category]) dJ2_grow_7 [0, 1] [] [] rfl rfl rfl ⟨by omega, by omega⟩ (zC_F hC (fun e h => Or.inl h)) zC_ok (fun _ _ _ h => h.elim) (fun u7 r7 p7 => ?_)
  obtain ⟨e7, h7⟩ := p7
  subst e7
  refine zi_shape (bs' := [[(a, .inr (3, [jI (mc), .ref (u7), jI (m)]))], [(u7, aR (zE Z) (kk) (cpI g (fun _ => none) 0 0 ((m : Nat) : Int)))]]) rfl ?_
  exact zi_areturn hrt (Or.inr ⟨_, rfl⟩) dJ2_grow_10 (hret u7 _ _ [0, 1] [] (⟨rfl, trivial⟩) rfl rfl)
set_option maxHeartbeats 4000000 in
theorem cc_J2_grow_s (l : Launch) (E : ZE) (C : CT0) (a : Nat) (mc : Int) : CB l yJ2_grow (ws_ yJ2_grow cJ2_grow 1 (some (Jvm.ClassFile.FieldType.array (Jvm.ClassFile.FieldType.object "java/lang/Object")))) 2 (1) (10) E [.ref (a)] C [[(a, .inr (3, [jI (mc), .ref (E.2.2 6), jI (0)]))]] (fun (UU : (Nat)) r => r = some (.ref UU) ∧ (True)) (fun (UU : (Nat)) => [[(a, .inr (3, [jI (mc), .ref (UU), jI (0)]))], [(UU, aR E (10) (fun _ => none))]]) (fun (_ : Unit) _ _ => False) (fun _ => []) := by
  refine cb_of (own := RJ2) (cc := cJ2_grow) (L := [some (.ref (a))]) (by decide) rfl rfl (Nat.le_of_ble_eq_true rfl) (fun Z hE hl hrt hR hm hnm hret hxc hC hx0 => ?_)
  subst hE
  refine zi_aload_n dJ2_grow_0 rfl ?_
  refine zi_aload_n dJ2_grow_1 rfl ?_
  refine zb_getf zk_J2 0 rfl 2 (by decide) rfl q202 rfl dJ2_grow_2 ?_
  refine zi_iconst dJ2_grow_5 ?_
  refine zi_iadd dJ2_grow_6 ?_
  refine bc_V (As := [_]) (br := []) (kc' := 0) (ks' := (10 - (10))) mw_J2_grow_2 (cc_J2_grow_2_s (zl Z) (zE Z) C _ _ _ (10) (by omega) (by omega)) q1356 (zr_blk (q := (RJ2, TJ2, 3)) 0 rfl rfl) hR (by decide) rfl (by simp [Value.category]) dJ2_grow_7 [0] [] [] rfl rfl rfl ⟨by omega, by omega⟩ (zC_F hC (fun e h => Or.inl h)) zC_ok (fun _ _ _ h => h.elim) (fun u7 r7 p7 => ?_)
  obtain ⟨e7, h7⟩ := p7
  subst e7
  refine zi_shape (bs' := [[(a, .inr (3, [jI (mc), .ref (u7), jI (0)]))], [(u7, aR (zE Z) (10) (fun _ => none))]]) rfl ?_
  exact zi_areturn hrt (Or.inr ⟨_, rfl⟩) dJ2_grow_10 (hret u7 _ _ [0, 1] [] (⟨rfl, trivial⟩) rfl rfl)
set_option maxHeartbeats 4000000 in
theorem cc_J2_add_2_n (l : Launch) (E : ZE) (C : CT0) (a : Nat) (b : Nat) (mc : Int) (m : Nat) (n : Int) (g : Int → Option Nat) (x : Nat) (hr : 0 ≤ n ∧ n < m ∧ m ≤ 100000) (ho : objC E C x) : CB l yJ2_add_2 (ws_ yJ2_add_2 cJ2_add_2 4 none) 1 (0) (0) E [.ref (a), .ref (x), .ref (b), jI (n)] C [[(a, .inr (3, [jI (mc), .ref (b), jI (n)]))], [(b, aR E (m) (g))]] (fun (UU : Unit) r => r = none ∧ (True)) (fun (UU : Unit) => [[(a, .inr (3, [jI (mc), .ref (b), jI ((n + 1))]))], [(b, aR E (m) (zup g n (some x)))]]) (fun (_ : Unit) _ _ => False) (fun _ => []) := by
  refine cb_of (own := RJ2) (cc := cJ2_add_2) (L := [some (.ref (a)), some (.ref (x)), some (.ref (b)), some (jI (n))]) (by decide) rfl rfl (Nat.le_of_ble_eq_true rfl) (fun Z hE hl hrt hR hm hnm hret hxc hC hx0 => ?_)
  subst hE
  refine zi_iload_n dJ2_add_2_0 rfl ?_
  refine zi_aload_n dJ2_add_2_1 rfl ?_
  refine zb_alen 1 4 rfl rfl dJ2_add_2_2 ?_
  refine zi_icmp_ne 11 dJ2_add_2_3 (by decide) (by omega) (fun c3 => ?_) (fun c3 => ?_)
  · refine zi_aload_n dJ2_add_2_11 rfl ?_
    refine zi_iload_n dJ2_add_2_12 rfl ?_
    refine zi_aload_n dJ2_add_2_13 rfl ?_
    refine zb_stRo hC ho 1 rfl (by omega) (by omega) dJ2_add_2_14 ?_
    refine zi_aload_n dJ2_add_2_15 rfl ?_
    refine zi_iload_n dJ2_add_2_16 rfl ?_
    refine zi_iconst dJ2_add_2_17 ?_
    refine zi_iadd dJ2_add_2_18 ?_
    refine zb_putf zk_J2 0 rfl 2 (by decide) rfl rfl q202 rfl rfl (Nat.le_of_ble_eq_true rfl) dJ2_add_2_19 ?_
    refine zi_shape (bs' := [[(a, .inr (3, [jI (mc), .ref (b), jI ((n + 1))]))], [(b, aR (zE Z) (m) (zup (g) (n) (some x)))]]) rfl ?_
    exact zi_return hrt dJ2_add_2_22 (hret () _ _ [0, 1] [] (⟨rfl, trivial⟩) rfl rfl)
  · exact absurd c3 (by omega)
theorem mw_J2_grow : MWV yJ2_grow cJ2_grow 1 (some (Jvm.ClassFile.FieldType.array (Jvm.ClassFile.FieldType.object "java/lang/Object"))) 0 := ⟨q1354, qs13, q122, q1355, by decide, by decide +kernel, by decide +kernel, by decide +kernel⟩
set_option maxHeartbeats 4000000 in
theorem cc_J2_add_2_f (l : Launch) (E : ZE) (C : CT0) (a : Nat) (b : Nat) (mc : Int) (m : Nat) (g : Int → Option Nat) (kk : Nat) (x : Nat) (hm : 10 ≤ m ∧ m ≤ 49999) (hkk : (kk : Int) = m + m / 2 ^ 1) (hob : ∀ i : Int, 0 ≤ i → i < m → ∃ y, g i = some y ∧ objC E C y) (ho : objC E C x) : CB l yJ2_add_2 (ws_ yJ2_add_2 cJ2_add_2 4 none) 5 (1) (kk) E [.ref (a), .ref (x), .ref (b), jI (m)] C [[(a, .inr (3, [jI (mc), .ref (b), jI (m)]))], [(b, aR E (m) (g))]] (fun (UU : (Nat)) r => r = none ∧ (True)) (fun (UU : (Nat)) => [[(a, .inr (3, [jI (mc), .ref (UU), jI ((((m : Nat) : Int) + 1))]))], [(UU, aR E (kk) (zup (cpI g (fun _ => none) 0 0 ((m : Nat) : Int)) ((m : Nat) : Int) (some x)))]]) (fun (_ : Unit) _ _ => False) (fun _ => []) := by
  refine cb_of (own := RJ2) (cc := cJ2_add_2) (L := [some (.ref (a)), some (.ref (x)), some (.ref (b)), some (jI (m))]) (by decide) rfl rfl (Nat.le_of_ble_eq_true rfl) (fun Z hE hl hrt hR hm hnm hret hxc hC hx0 => ?_)
  subst hE
  refine zi_iload_n dJ2_add_2_0 rfl ?_
  refine zi_aload_n dJ2_add_2_1 rfl ?_
  refine zb_alen 1 4 rfl rfl dJ2_add_2_2 ?_
  refine zi_icmp_ne 11 dJ2_add_2_3 (by decide) (by omega) (fun c3 => ?_) (fun c3 => ?_)
  · exact absurd rfl c3
  · refine zi_aload_n dJ2_add_2_6 rfl ?_
    refine bc_V (As := []) (br := []) (kc' := 0) (ks' := (kk - (kk))) mw_J2_grow (cc_J2_grow (zl Z) (zE Z) C _ _ _ (m) (g) (kk) (by omega) (hkk) (hob)) q1352 (zr_blk (q := (RJ2, TJ2, 3)) 0 rfl rfl) hR (by decide) rfl (by simp [Value.category]) dJ2_add_2_7 [0, 1] [] [] rfl rfl rfl ⟨by omega, by omega⟩ (zC_F hC (fun e h => Or.inl h)) zC_ok (fun _ _ _ h => h.elim) (fun u7 r7 p7 => ?_)
    obtain ⟨e7, h7⟩ := p7
    subst e7
    refine zi_shape (bs' := [[(a, .inr (3, [jI (mc), .ref (u7), jI (((m : Nat) : Int))]))], [(u7, aR (zE Z) (kk) (cpI g (fun _ => none) 0 0 ((m : Nat) : Int)))]]) rfl ?_
    refine zi_astore_2 dJ2_add_2_10 hm (by decide) rfl ?_
    refine zi_aload_n dJ2_add_2_11 rfl ?_
    refine zi_iload_n dJ2_add_2_12 rfl ?_
    refine zi_aload_n dJ2_add_2_13 rfl ?_
    refine zb_stRo hC ho 1 rfl (by omega) (by omega) dJ2_add_2_14 ?_
    refine zi_aload_n dJ2_add_2_15 rfl ?_
    refine zi_iload_n dJ2_add_2_16 rfl ?_
    refine zi_iconst dJ2_add_2_17 ?_
    refine zi_iadd dJ2_add_2_18 ?_
    refine zb_putf zk_J2 0 rfl 2 (by decide) rfl rfl q202 rfl rfl (Nat.le_of_ble_eq_true rfl) dJ2_add_2_19 ?_
    refine zi_shape (bs' := [[(a, .inr (3, [jI (mc), .ref (u7), jI ((m + 1))]))], [(u7, aR (zE Z) (kk) (zup (cpI g (fun _ => none) 0 0 ((m : Nat) : Int)) (m) (some x)))]]) rfl ?_
    exact zi_return hrt dJ2_add_2_22 (hret u7 _ _ [0, 1] [] (⟨rfl, trivial⟩) rfl rfl)
set_option maxHeartbeats 4000000 in
theorem cc_J2_add_2_s (l : Launch) (E : ZE) (C : CT0) (a : Nat) (mc : Int) (x : Nat) (ho : objC E C x) : CB l yJ2_add_2 (ws_ yJ2_add_2 cJ2_add_2 4 none) 3 (1) (10) E [.ref (a), .ref (x), .ref (E.2.2 6), jI (0)] C [[(a, .inr (3, [jI (mc), .ref (E.2.2 6), jI (0)]))]] (fun (UU : (Nat)) r => r = none ∧ (True)) (fun (UU : (Nat)) => [[(a, .inr (3, [jI (mc), .ref (UU), jI (1)]))], [(UU, aR E (10) (zup (fun _ => none) 0 (some x)))]]) (fun (_ : Unit) _ _ => False) (fun _ => []) := by
  refine cb_of (own := RJ2) (cc := cJ2_add_2) (L := [some (.ref (a)), some (.ref (x)), some (.ref (E.2.2 6)), some (jI (0))]) (by decide) rfl rfl (Nat.le_of_ble_eq_true rfl) (fun Z hE hl hrt hR hm hnm hret hxc hC hx0 => ?_)
  subst hE
  refine zi_cx (fun C0 => ?_)
  refine zi_iload_n dJ2_add_2_0 rfl ?_
  refine zi_aload_n dJ2_add_2_1 rfl ?_
  refine zi_lenF C0.2.2.2.2.2.2.2.2.1.2.1.2.1 (fun _ h => h) dJ2_add_2_2 ?_
  refine zi_icmp_ne 11 dJ2_add_2_3 (by decide) (by omega) (fun h => absurd h (by omega)) (fun _ => ?_)
  refine zi_aload_n dJ2_add_2_6 rfl ?_
  refine bc_V (As := []) (br := []) (kc' := 0) (ks' := 0) mw_J2_grow (cc_J2_grow_s (zl Z) (zE Z) C _ _) q1352 (zr_blk (q := (RJ2, TJ2, 3)) 0 rfl rfl) hR (by decide) rfl (by simp [Value.category]) dJ2_add_2_7 [0] [] [] rfl rfl rfl ⟨by omega, by omega⟩ (zC_F hC (fun e h => Or.inl h)) zC_ok (fun _ _ _ h => h.elim) (fun u7 r7 p7 => ?_)
  obtain ⟨e7, h7⟩ := p7
  subst e7
  refine zi_shape (bs' := [[(a, .inr (3, [jI (mc), .ref (u7), jI (0)]))], [(u7, aR (zE Z) (10) (fun _ => none))]]) rfl ?_
  refine zi_astore_2 dJ2_add_2_10 hm (by decide) rfl ?_
  refine zi_aload_n dJ2_add_2_11 rfl ?_
  refine zi_iload_n dJ2_add_2_12 rfl ?_
  refine zi_aload_n dJ2_add_2_13 rfl ?_
  refine zb_stRo hC ho 1 rfl (by omega) (by omega) dJ2_add_2_14 ?_
  refine zi_aload_n dJ2_add_2_15 rfl ?_
  refine zi_iload_n dJ2_add_2_16 rfl ?_
  refine zi_iconst dJ2_add_2_17 ?_
  refine zi_iadd dJ2_add_2_18 ?_
  refine zb_putf zk_J2 0 rfl 2 (by decide) rfl rfl q202 rfl rfl (Nat.le_of_ble_eq_true rfl) dJ2_add_2_19 ?_
  refine zi_shape (bs' := [[(a, .inr (3, [jI (mc), .ref (u7), jI ((0 + 1))]))], [(u7, aR (zE Z) (10) (zup (fun _ => none) (0) (some x)))]]) rfl ?_
  exact zi_return hrt dJ2_add_2_22 (hret u7 _ _ [0, 1] [] (⟨rfl, trivial⟩) rfl rfl)
theorem mw_J2_add_2 : MWV yJ2_add_2 cJ2_add_2 4 none 3 := ⟨q1350, qs12, q122, q1351, by decide, by decide +kernel, by decide +kernel, by decide +kernel⟩
set_option maxHeartbeats 4000000 in
theorem cc_J2_add (l : Launch) (E : ZE) (C : CT0) (a : Nat) (n : Int) (f : Int → Nat) (m : Nat) (w : va_W) (kc9 : Nat) (ks9 : Nat) (x : Nat) (hl : LstK E a n f m w) (hob : ∀ i : Int, 0 ≤ i → i < n → objC E C (f i)) (hk : (n < m ∨ (1 ≤ kc9 ∧ max 10 (m + m / 2) ≤ ks9)) ∧ n ≤ 49999) (ho : objC E C x) : CB l yJ2_add (ws_ yJ2_add cJ2_add 2 (some Jvm.ClassFile.FieldType.boolean)) 6 (kc9) (ks9) E [.ref (a), .ref (x)] C [w] (fun (UU : (va_W) × (Nat)) r => r = some (jI 1) ∧ (LstK E a (n + 1) (zup f n x) (UU.2) (UU.1) ∧ ((n < m ∧ (UU.2) = m) ∨ (n = (m : Int) ∧ (UU.2) = max 10 (m + m / 2))))) (fun (UU : (va_W) × (Nat)) => [(UU.1)]) (fun (_ : Unit) _ _ => False) (fun _ => []) := by
  refine cb_of (own := RJ2) (cc := cJ2_add) (L := [some (.ref (a)), some (.ref (x))]) (by decide) rfl rfl (Nat.le_of_ble_eq_true rfl) (fun Z hE hl hrt hR hm hnm hret hxc hC hx0 => ?_)
  subst hE
  refine zi_cx (fun C0 => ?_)
  obtain ⟨b, mc, hl0⟩ := hl
  rcases (show (∃ g : Int → Option Nat, w = [(a, .inr (3, [jI mc, .ref b, jI n])), (b, aR (zE Z) m g)] ∧ (0 ≤ n ∧ n ≤ m ∧ 10 ≤ m ∧ m ≤ 100000) ∧ (∀ i : Int, 0 ≤ i → i < n → g i = some (f i)) ∧ n < m) ∨ (∃ g : Int → Option Nat, w = [(a, .inr (3, [jI mc, .ref b, jI n])), (b, aR (zE Z) m g)] ∧ (0 ≤ n ∧ n ≤ m ∧ 10 ≤ m ∧ m ≤ 100000) ∧ (∀ i : Int, 0 ≤ i → i < n → g i = some (f i)) ∧ n = m) ∨ (w = [(a, .inr (3, [jI mc, .ref b, jI n]))] ∧ n = 0 ∧ m = 0 ∧ b = (zE Z).2.2 6) from by
      rcases hl0 with ⟨g, h1, h2, h3⟩ | h
      · rcases (show n < m ∨ n = m by omega) with q | q
        · exact Or.inl ⟨g, h1, h2, h3, q⟩
        · exact Or.inr (Or.inl ⟨g, h1, h2, h3, q⟩)
      · exact Or.inr (Or.inr h)) with ⟨g, rfl, hr, hg, hn1⟩ | ⟨g, rfl, hr, hg, hn1⟩ | ⟨rfl, hn0, hm0, hb0⟩
  · refine zi_eqb (bs' := [[(a, .inr (3, [jI (mc), .ref (b), jI (n)]))], [(b, aR (zE Z) (m) (g))]]) (rfl) ?_
    refine zi_aload_n dJ2_add_0 rfl ?_
    refine zi_dup dJ2_add_1 rfl ?_
    refine zb_getfS zk_J2 0 rfl 0 (by decide) q205 q206 rfl dJ2_add_2 ?_
    refine zi_iconst dJ2_add_5 ?_
    refine zi_iadd dJ2_add_6 ?_
    refine zb_putfS zk_J2 0 rfl 0 (by decide) q205 rfl q206 rfl rfl (Nat.le_of_ble_eq_true rfl) dJ2_add_7 ?_
    refine zi_shape (bs' := [[(a, .inr (3, [jI ((mc + 1)), .ref (b), jI (n)]))], [(b, aR (zE Z) (m) (g))]]) rfl ?_
    refine zi_aload_n dJ2_add_10 rfl ?_
    refine zi_aload_n dJ2_add_11 rfl ?_
    refine zi_aload_n dJ2_add_12 rfl ?_
    refine zb_getf zk_J2 0 rfl 1 (by decide) rfl q199 rfl dJ2_add_13 ?_
    refine zi_aload_n dJ2_add_16 rfl ?_
    refine zb_getf zk_J2 0 rfl 2 (by decide) rfl q202 rfl dJ2_add_17 ?_
    refine bc_V (As := [_, _, _]) (br := []) (kc' := kc9) (ks' := ks9) mw_J2_add_2 (cc_J2_add_2_n (zl Z) (zE Z) C _ _ _ (m) (n) (g) _ (by omega) (ho)) q1348 (zr_blk (q := (RJ2, TJ2, 3)) 0 rfl rfl) hR (by decide) rfl (by simp [Value.category]) dJ2_add_20 [0, 1] [] [] rfl rfl rfl ⟨by omega, by omega⟩ (zC_F hC (fun e h => Or.inl h)) zC_ok (fun _ _ _ h => h.elim) (fun u20 r20 p20 => ?_)
    obtain ⟨e20, h20⟩ := p20
    subst e20
    refine zi_shape (bs' := [[(a, .inr (3, [jI ((mc + 1)), .ref (b), jI ((n + 1))]))], [(b, aR (zE Z) (m) (zup g n (some x)))]]) rfl ?_
    refine zi_iconst dJ2_add_23 ?_
    refine zi_eqb (bs' := [[(a, .inr (3, [jI ((mc + 1)), .ref (b), jI ((n + 1))])), (b, aR (zE Z) (m) (zup g n (some x)))]]) rfl ?_
    have hzn : ∀ i : Int, 0 ≤ i → i < n + 1 → (zup g n (some x)) i = some (zup f n x i) := by
      intro i i0 i1
      unfold zup
      by_cases q : i = n
      · rw [if_pos q, if_pos q]
      · rw [if_neg q, if_neg q]
        exact hg i i0 (by omega)
    exact zi_zreturn hrt (z_nb (by first | exact Or.inl rfl | exact Or.inr rfl | exact bI_01 _)) dJ2_add_24 (hret ([(a, .inr (3, [jI (mc + 1), .ref b, jI (n + 1)])), (b, aR (zE Z) m (zup g n (some x)))], m) _ _ [0] [] (⟨rfl, ⟨_, _, Or.inl ⟨_, rfl, by omega, hzn⟩⟩, Or.inl ⟨by omega, rfl⟩⟩) rfl rfl)
  · subst hn1
    refine zi_eqb (bs' := [[(a, .inr (3, [jI (mc), .ref (b), jI (((m : Nat) : Int))]))], [(b, aR (zE Z) (m) (g))]]) (rfl) ?_
    refine zi_aload_n dJ2_add_0 rfl ?_
    refine zi_dup dJ2_add_1 rfl ?_
    refine zb_getfS zk_J2 0 rfl 0 (by decide) q205 q206 rfl dJ2_add_2 ?_
    refine zi_iconst dJ2_add_5 ?_
    refine zi_iadd dJ2_add_6 ?_
    refine zb_putfS zk_J2 0 rfl 0 (by decide) q205 rfl q206 rfl rfl (Nat.le_of_ble_eq_true rfl) dJ2_add_7 ?_
    refine zi_shape (bs' := [[(a, .inr (3, [jI ((mc + 1)), .ref (b), jI (((m : Nat) : Int))]))], [(b, aR (zE Z) (m) (g))]]) rfl ?_
    refine zi_aload_n dJ2_add_10 rfl ?_
    refine zi_aload_n dJ2_add_11 rfl ?_
    refine zi_aload_n dJ2_add_12 rfl ?_
    refine zb_getf zk_J2 0 rfl 1 (by decide) rfl q199 rfl dJ2_add_13 ?_
    refine zi_aload_n dJ2_add_16 rfl ?_
    refine zb_getf zk_J2 0 rfl 2 (by decide) rfl q202 rfl dJ2_add_17 ?_
    refine bc_V (As := [_, _, _]) (br := []) (kc' := (kc9 - 1)) (ks' := (ks9 - ((m + m / 2)))) mw_J2_add_2 (cc_J2_add_2_f (zl Z) (zE Z) C _ _ _ (m) (g) ((m + m / 2)) _ (by omega) (by omega) (fun i i0 i1 => ⟨f i, hg i i0 i1, hob i i0 i1⟩) (ho)) q1348 (zr_blk (q := (RJ2, TJ2, 3)) 0 rfl rfl) hR (by decide) rfl (by simp [Value.category]) dJ2_add_20 [0, 1] [] [] rfl rfl rfl ⟨by omega, by omega⟩ (zC_F hC (fun e h => Or.inl h)) zC_ok (fun _ _ _ h => h.elim) (fun u20_1 r20_2 p20_3 => ?_)
    obtain ⟨e20_4, h20_5⟩ := p20_3
    subst e20_4
    refine zi_shape (bs' := [[(a, .inr (3, [jI ((mc + 1)), .ref (u20_1), jI ((((m : Nat) : Int) + 1))]))], [(u20_1, aR (zE Z) ((m + m / 2)) (zup (cpI g (fun _ => none) 0 0 ((m : Nat) : Int)) ((m : Nat) : Int) (some x)))]]) rfl ?_
    refine zi_iconst dJ2_add_23 ?_
    refine zi_eqb (bs' := [[(a, .inr (3, [jI ((mc + 1)), .ref (u20_1), jI ((((m : Nat) : Int) + 1))])), (u20_1, aR (zE Z) ((m + m / 2)) (zup (cpI g (fun _ => none) 0 0 ((m : Nat) : Int)) ((m : Nat) : Int) (some x)))]]) rfl ?_
    have hzf : ∀ i : Int, 0 ≤ i → i < ((m : Nat) : Int) + 1 → (zup (cpI g (fun _ => none) 0 0 ((m : Nat) : Int)) ((m : Nat) : Int) (some x)) i = some (zup f ((m : Nat) : Int) x i) := by
      intro i i0 i1
      unfold zup
      by_cases q : i = ((m : Nat) : Int)
      · rw [if_pos q, if_pos q]
      · rw [if_neg q, if_neg q]
        rw [cpI_all (by omega)]; exact hg i i0 (by omega)
    exact zi_zreturn hrt (z_nb (by first | exact Or.inl rfl | exact Or.inr rfl | exact bI_01 _)) dJ2_add_24 (hret ([(a, .inr (3, [jI (mc + 1), .ref u20_1, jI (((m : Nat) : Int) + 1)])), (u20_1, aR (zE Z) (m + m / 2) (zup (cpI g (fun _ => none) 0 0 ((m : Nat) : Int)) ((m : Nat) : Int) (some x)))], m + m / 2) _ _ [0] [] (⟨rfl, ⟨_, _, Or.inl ⟨_, rfl, by omega, hzf⟩⟩, Or.inr ⟨rfl, by omega⟩⟩) rfl rfl)
  · subst hn0 hm0 hb0
    refine zi_eqb (bs' := [[(a, .inr (3, [jI (mc), .ref ((zE Z).2.2 6), jI (0)]))]]) (rfl) ?_
    refine zi_aload_n dJ2_add_0 rfl ?_
    refine zi_dup dJ2_add_1 rfl ?_
    refine zb_getfS zk_J2 0 rfl 0 (by decide) q205 q206 rfl dJ2_add_2 ?_
    refine zi_iconst dJ2_add_5 ?_
    refine zi_iadd dJ2_add_6 ?_
    refine zb_putfS zk_J2 0 rfl 0 (by decide) q205 rfl q206 rfl rfl (Nat.le_of_ble_eq_true rfl) dJ2_add_7 ?_
    refine zi_shape (bs' := [[(a, .inr (3, [jI ((mc + 1)), .ref ((zE Z).2.2 6), jI (0)]))]]) rfl ?_
    refine zi_aload_n dJ2_add_10 rfl ?_
    refine zi_aload_n dJ2_add_11 rfl ?_
    refine zi_aload_n dJ2_add_12 rfl ?_
    refine zb_getf zk_J2 0 rfl 1 (by decide) rfl q199 rfl dJ2_add_13 ?_
    refine zi_aload_n dJ2_add_16 rfl ?_
    refine zb_getf zk_J2 0 rfl 2 (by decide) rfl q202 rfl dJ2_add_17 ?_
    refine bc_V (As := [_, _, _]) (br := []) (kc' := (kc9 - 1)) (ks' := (ks9 - 10)) mw_J2_add_2 (cc_J2_add_2_s (zl Z) (zE Z) C _ _ _ (ho)) q1348 (zr_blk (q := (RJ2, TJ2, 3)) 0 rfl rfl) hR (by decide) rfl (by simp [Value.category]) dJ2_add_20 [0] [] [] rfl rfl rfl ⟨by omega, by omega⟩ (zC_F hC (fun e h => Or.inl h)) zC_ok (fun _ _ _ h => h.elim) (fun u20_6 r20_7 p20_8 => ?_)
    obtain ⟨e20_10, h20_11⟩ := p20_8
    subst e20_10
    refine zi_shape (bs' := [[(a, .inr (3, [jI ((mc + 1)), .ref (u20_6), jI (1)]))], [(u20_6, aR (zE Z) (10) (zup (fun _ => none) 0 (some x)))]]) rfl ?_
    refine zi_iconst dJ2_add_23 ?_
    refine zi_eqb (bs' := [[(a, .inr (3, [jI ((mc + 1)), .ref (u20_6), jI (1)])), (u20_6, aR (zE Z) (10) (zup (fun _ => none) 0 (some x)))]]) rfl ?_
    have hzs : ∀ i : Int, 0 ≤ i → i < 0 + 1 → (zup (fun _ => none) 0 (some x)) i = some (zup f 0 x i) := by
      intro i i0 i1
      unfold zup
      by_cases q : i = 0
      · rw [if_pos q, if_pos q]
      · rw [if_neg q, if_neg q]
        exact absurd i1 (by omega)
    exact zi_zreturn hrt (z_nb (by first | exact Or.inl rfl | exact Or.inr rfl | exact bI_01 _)) dJ2_add_24 (hret ([(a, .inr (3, [jI (mc + 1), .ref u20_6, jI 1])), (u20_6, aR (zE Z) 10 (zup (fun _ => none) 0 (some x)))], 10) _ _ [0] [] (⟨rfl, ⟨_, _, Or.inl ⟨_, rfl, by omega, hzs⟩⟩, Or.inr ⟨rfl, by omega⟩⟩) rfl rfl)
