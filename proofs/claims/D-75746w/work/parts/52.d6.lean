/-! LISTS: insertion, exchange, equality -/
set_option maxRecDepth 100000
theorem zFz_inj {E : ZE} {a ci : Nat} {fs fs' : List Value} {A : Nat → Prop} {H : Heap} {q : vw_C} (h : zFz E (a, .inr (ci, fs)) A H) (h' : zFz E (a, .inr (ci, fs')) A H) (hc : clA[ci]? = some q) : ∀ k : Nat, k < q.2.2 → vp_V fs k = vp_V fs' k := by
  obtain ⟨⟨r, h1, cell, g1, g2, g3, g4⟩, -⟩ := h
  obtain ⟨⟨r', h1', cell', g1', g2', g3', g4'⟩, -⟩ := h'
  have hr : r = q := Option.some.inj (h1.symm.trans hc)
  have hr' : r' = q := Option.some.inj (h1'.symm.trans hc)
  subst hr hr'
  have e : cell = cell' := Option.some.inj (g1.symm.trans g1')
  subst e
  exact fun k hk => Option.some.inj ((g4 k hk).symm.trans (g4' k hk))
theorem aR_inj {E : ZE} {a n n' : Nat} {f f' : Int → Option Nat} {A : Nat → Prop} {H : Heap} (h : zFz E (a, aR E n f) A H) (h' : zFz E (a, aR E n' f') A H) : n = n' ∧ ∀ i : Int, 0 ≤ i → i < n → f i = f' i := by
  have h1 : H[a]? = some (vp_cell (E.2.1 4) (n, .inr (.inr (.inr (.inr (fun j => f j)))))) := h.1
  have h2 : H[a]? = some (vp_cell (E.2.1 4) (n', .inr (.inr (.inr (.inr (fun j => f' j)))))) := h'.1
  have e := Option.some.inj (h1.symm.trans h2)
  rw [vp_cell_q, vp_cell_q] at e
  have hs : n = n' := by
    have := congrArg (fun c : Cell => c.slots.size) e
    simpa only [arrV_size] using this
  refine ⟨hs, fun i i0 i1 => ?_⟩
  have := congrArg (fun c : Cell => c.slots[i.toNat]?) e
  rw [arrV_read _ _ (by omega), arrV_read _ _ (by omega), Int.toNat_of_nonneg i0] at this
  have e2 := Option.some.inj this
  cases hx : f i with
  | none => rw [hx] at e2; cases hy : f' i with
    | none => rfl
    | some y => rw [hy] at e2; cases e2
  | some x => rw [hx] at e2; cases hy : f' i with
    | none => rw [hy] at e2; cases e2
    | some y => rw [hy] at e2; cases e2; rfl
theorem jI_inj {x y : Int} (h : jI x = jI y) (hx : -2147483648 ≤ x ∧ x < 2147483648) (hy : -2147483648 ≤ y ∧ y < 2147483648) : x = y := by
  have e : Int32.ofInt x = Int32.ofInt y := by injection h
  have := congrArg Int32.toInt e
  rw [Int32_ofInt_range hx, Int32_ofInt_range hy] at this
  exact this
/-- a list seen twice -/
theorem zeqL {own : String} {cc : ByteArray} {Z : ZT} {C : CT0} (C0 : Cx own cc Z) (hC : zC (zE Z) C (zA Z) (zs Z) (zs Z).heap) {a b bk m m2 : Nat} {mc mk n n2 : Int} {g g2 : Int → Option Nat} {f f2 : Int → Nat} {wf wg : Int → List Int} (h1 : C (a, .inr (3, [jI mc, .ref b, jI n]))) (k1 : C (a, .inr (3, [jI mk, .ref bk, jI n2]))) (hA : C (b, aR (zE Z) m g)) (kA : C (bk, aR (zE Z) m2 g2)) (hr : 0 ≤ n ∧ n ≤ m ∧ m ≤ 100000) (kr : 0 ≤ n2 ∧ n2 ≤ m2 ∧ m2 ≤ 100000) (hg : ∀ i : Int, 0 ≤ i → i < n → g i = some (f i)) (kg : ∀ i : Int, 0 ≤ i → i < n2 → g2 i = some (f2 i))
    (he1 : ∀ i : Int, 0 ≤ i → i < n → strC (zE Z) C (f i) (wf i) ∧ (wf i).length ≤ 100000 ∧ ∀ c ∈ wf i, -128 ≤ c ∧ c ≤ 127) (he2 : ∀ i : Int, 0 ≤ i → i < n2 → strC (zE Z) C (f2 i) (wg i) ∧ (wg i).length ≤ 100000 ∧ ∀ c ∈ wg i, -128 ≤ c ∧ c ≤ 127) : n = n2 ∧ ∀ i : Int, 0 ≤ i → i < n → wf i = wg i := by
  have e := zFz_inj (q := (RJ2, TJ2, 3)) (hC _ h1) (hC _ k1) rfl
  have e1 : jI n = jI n2 := e 2 (by decide)
  have e2 : Value.ref b = Value.ref bk := e 1 (by decide)
  have en := jI_inj e1 (by omega) (by omega)
  have eb : b = bk := by injection e2
  subst en eb
  obtain ⟨-, ea⟩ := aR_inj (hC _ hA) (hC _ kA)
  refine ⟨rfl, fun i i0 i1 => ?_⟩
  have ef : f i = f2 i := by
    have := ea i i0 (by omega)
    rw [hg i i0 i1, kg i i0 i1] at this
    exact Option.some.inj this
  obtain ⟨s1, s2, s3⟩ := he1 i i0 i1
  obtain ⟨t1, t2, t3⟩ := he2 i i0 i1
  exact zStr_fun s2 t2 s3 t3 (strC_z C0 s2 s1 hC) (by rw [ef]; exact strC_z C0 t2 t1 hC)
set_option maxHeartbeats 4000000 in
theorem cc_J2_rangeCheckForAdd (l : Launch) (E : ZE) (C : CT0) (a : Nat) (n : Int) (f : Int → Nat) (i : Int) (h : lstC E C a n f) (hi : 0 ≤ i ∧ i ≤ n) : CB l yJ2_rangeCheckForAdd (ws_ yJ2_rangeCheckForAdd cJ2_rangeCheckForAdd 2 none) 6 (0) (0) E [.ref (a), jI (i)] C [] (fun (UU : Unit) r => r = none ∧ (True)) (fun (UU : Unit) => []) (fun (_ : Unit) _ _ => False) (fun _ => []) := by
  refine cb_of (own := RJ2) (cc := cJ2_rangeCheckForAdd) (L := [some (.ref (a)), some (jI (i))]) (by decide) rfl rfl (Nat.le_of_ble_eq_true rfl) (fun Z hE hl hrt hR hm hnm hret hxc hC hx0 => ?_)
  subst hE
  have hn := lstC_n h
  have h0 := h
  obtain ⟨b, mc, h1, h2⟩ := h0
  refine zi_iload_n dJ2_rangeCheckForAdd_0 rfl ?_
  refine zi_aload_n dJ2_rangeCheckForAdd_1 rfl ?_
  refine zf_getf zk_J2 (hC _ (h1)) 2 (by decide) rfl q202 rfl dJ2_rangeCheckForAdd_2 ?_
  refine zi_icmp_gt 12 dJ2_rangeCheckForAdd_5 (by decide) (by omega) (fun c5 => ?_) (fun c5 => ?_)
  · exact absurd c5 (by omega)
  · refine zi_iload_n dJ2_rangeCheckForAdd_8 rfl ?_
    refine zi_if_ge 25 dJ2_rangeCheckForAdd_9 (by decide) (by omega) (fun c9 => ?_) (fun c9 => ?_)
    · exact zi_return hrt dJ2_rangeCheckForAdd_25 (hret () _ _ [] [] (⟨rfl, trivial⟩) rfl rfl)
    · exact absurd c9 (by omega)
theorem mw_J2_rangeCheckForAdd : MWV yJ2_rangeCheckForAdd cJ2_rangeCheckForAdd 2 none 1 := ⟨q2248, qs36, q122, q2249, by decide, by decide +kernel, by decide +kernel, by decide +kernel⟩
set_option maxHeartbeats 4000000 in
theorem cc_J2_add_3 (l : Launch) (E : ZE) (C : CT0) (a : Nat) (n : Int) (f : Int → Nat) (m : Nat) (w : va_W) (i : Int) (x : Nat) (hl : LstK E a n f m w) (hi : (0 ≤ i ∧ i ≤ n) ∧ n < m) (hob : ∀ i : Int, 0 ≤ i → i < n → objC E C (f i)) (ho : objC E C x) : CB l yJ2_add_3 (ws_ yJ2_add_3 cJ2_add_3 5 none) 7 (0) (0) E [.ref (a), jI (i), .ref (x)] C [w] (fun (UU : (va_W)) r => r = none ∧ (LstK E a (n + 1) (fun j => if j < i then f j else if j = i then x else f (j - 1)) m UU)) (fun (UU : (va_W)) => [UU]) (fun (_ : Unit) _ _ => False) (fun _ => []) := by
  refine cb_of (own := RJ2) (cc := cJ2_add_3) (L := [some (.ref (a)), some (jI (i)), some (.ref (x)), none, none]) (by decide) rfl rfl (Nat.le_of_ble_eq_true rfl) (fun Z hE hl hrt hR hm hnm hret hxc hC hx0 => ?_)
  subst hE
  obtain ⟨b, mc, ⟨g, rfl, hr, hg⟩ | ⟨-, hn0, hm0, -⟩⟩ := hl
  rotate_left
  · omega
  refine zi_eqb (bs' := [[(a, .inr (3, [jI (mc), .ref (b), jI (n)]))], [(b, aR (zE Z) (m) (g))]]) (rfl) ?_
  refine zi_aload_n dJ2_add_3_0 rfl ?_
  refine zi_iload_n dJ2_add_3_1 rfl ?_
  refine bc_V (As := [_]) (br := [_, _]) (kc' := 0) (ks' := 0) mw_J2_rangeCheckForAdd (cc_J2_rangeCheckForAdd (zl Z) (zE Z) ((fun e => C e ∨ e ∈ [(a, .inr (3, [jI mc, .ref b, jI n])), (b, aR (zE Z) m g)])) _ (n) (f) _ (⟨b, mc, Or.inr (by simp), Or.inl ⟨m, g, Or.inr (by simp), by omega, hg⟩⟩) (hi.1)) q2246 (zr_blk (q := (RJ2, TJ2, 3)) 0 rfl rfl) hR (by decide) rfl (by simp [Value.category]) dJ2_add_3_2 [] [0, 1] [] rfl rfl rfl ⟨by omega, by omega⟩ (zC_F hC (fun e h => h.imp id (fun h => by simpa using h))) zC_ok (fun _ _ _ h => h.elim) (fun u2 r2 p2 => ?_)
  obtain ⟨e2, h2⟩ := p2
  subst e2
  refine zi_aload_n dJ2_add_3_5 rfl ?_
  refine zi_dup dJ2_add_3_6 rfl ?_
  refine zb_getfS zk_J2 0 rfl 0 (by decide) q205 q206 rfl dJ2_add_3_7 ?_
  refine zi_iconst dJ2_add_3_10 ?_
  refine zi_iadd dJ2_add_3_11 ?_
  refine zb_putfS zk_J2 0 rfl 0 (by decide) q205 rfl q206 rfl rfl (Nat.le_of_ble_eq_true rfl) dJ2_add_3_12 ?_
  refine zi_shape (bs' := [[(a, .inr (3, [jI ((mc + 1)), .ref (b), jI (n)]))], [(b, aR (zE Z) (m) (g))]]) rfl ?_
  refine zi_aload_n dJ2_add_3_15 rfl ?_
  refine zb_getf zk_J2 0 rfl 2 (by decide) rfl q202 rfl dJ2_add_3_16 ?_
  refine zi_dup dJ2_add_3_19 rfl ?_
  refine zi_istore_3 dJ2_add_3_20 hm (by decide) rfl ?_
  refine zi_aload_n dJ2_add_3_21 rfl ?_
  refine zb_getf zk_J2 0 rfl 1 (by decide) rfl q199 rfl dJ2_add_3_22 ?_
  refine zi_dup dJ2_add_3_25 rfl ?_
  refine zi_astore_4 dJ2_add_3_26 hm (by decide) rfl ?_
  refine zb_alen 1 4 rfl rfl dJ2_add_3_28 ?_
  refine zi_icmp_ne 38 dJ2_add_3_29 (by decide) (by omega) (fun c29 => ?_) (fun c29 => ?_)
  · refine zi_aload dJ2_add_3_38 rfl ?_
    refine zi_iload_n dJ2_add_3_40 rfl ?_
    refine zi_aload dJ2_add_3_41 rfl ?_
    refine zi_iload_n dJ2_add_3_43 rfl ?_
    refine zi_iconst dJ2_add_3_44 ?_
    refine zi_iadd dJ2_add_3_45 ?_
    refine zi_iload_n dJ2_add_3_46 rfl ?_
    refine zi_iload_n dJ2_add_3_47 rfl ?_
    refine zi_isub dJ2_add_3_48 ?_
    refine zb_copyR (f := g) (g := g) (fun C0 H hU hP j j0 j1 y hy => zAny_obj hC (by rw [hg (i + j) (by omega) (by omega)] at hy; cases hy; exact hob (i + j) (by omega) (by omega)) C0 H hU hP) (zIs_b 1 rfl) 1 rfl (by omega) q1616 hR (by decide) (by simp [Value.category]) dJ2_add_3_49 ?_
    refine zi_shape (bs' := [[(a, .inr (3, [jI ((mc + 1)), .ref (b), jI (n)]))], [(b, aR (zE Z) (m) (cpI (g) (g) (i) ((i + 1)) ((n - i))))]]) rfl ?_
    refine zi_aload dJ2_add_3_52 rfl ?_
    refine zi_iload_n dJ2_add_3_54 rfl ?_
    refine zi_aload_n dJ2_add_3_55 rfl ?_
    refine zb_stRo hC ho 1 rfl (by omega) (by omega) dJ2_add_3_56 ?_
    refine zi_aload_n dJ2_add_3_57 rfl ?_
    refine zi_iload_n dJ2_add_3_58 rfl ?_
    refine zi_iconst dJ2_add_3_59 ?_
    refine zi_iadd dJ2_add_3_60 ?_
    refine zb_putf zk_J2 0 rfl 2 (by decide) rfl rfl q202 rfl rfl (Nat.le_of_ble_eq_true rfl) dJ2_add_3_61 ?_
    refine zi_shape (bs' := [[(a, .inr (3, [jI ((mc + 1)), .ref (b), jI ((n + 1))]))], [(b, aR (zE Z) (m) (zup (cpI (g) (g) (i) ((i + 1)) ((n - i))) (i) (some x)))]]) rfl ?_
    refine zi_eqb (bs' := [[(a, .inr (3, [jI ((mc + 1)), .ref (b), jI ((n + 1))])), (b, aR (zE Z) (m) (zup (cpI (g) (g) (i) ((i + 1)) ((n - i))) (i) (some x)))]]) rfl ?_
    refine zi_return hrt dJ2_add_3_64 (hret [(a, .inr (3, [jI (mc + 1), .ref b, jI (n + 1)])), (b, aR (zE Z) m (zup (cpI (g) (g) (i) ((i + 1)) ((n - i))) (i) (some x)))] _ _ [0] [] ?_ rfl rfl)
    · refine ⟨rfl, _, _, Or.inl ⟨_, rfl, by omega, fun j j0 j1 => ?_⟩⟩
      dsimp only
      by_cases q : j = i
      · rw [if_neg (by omega), if_pos q, q]; exact zup_s
      · rw [zup_n q]
        unfold cpI
        by_cases q2 : j < i
        · rw [if_neg (by omega), if_pos q2]; exact hg j j0 (by omega)
        · rw [if_pos (by omega), if_neg q2, if_neg q, show i + (j - (i + 1)) = j - 1 by omega]; exact hg (j - 1) (by omega) (by omega)
  · exact absurd c29 (by omega)
set_option maxHeartbeats 4000000 in
theorem cc_J2_set (l : Launch) (E : ZE) (C : CT0) (a : Nat) (n : Int) (f : Int → Nat) (m : Nat) (w : va_W) (i : Int) (x : Nat) (hl : LstK E a n f m w) (hi : 0 ≤ i ∧ i < n) (ho : objC E C x) : CB l yJ2_set (ws_ yJ2_set cJ2_set 4 (some (Jvm.ClassFile.FieldType.object "java/lang/Object"))) 3 (0) (0) E [.ref (a), jI (i), .ref (x)] C [w] (fun (UU : (va_W)) r => r = some (.ref (f i)) ∧ (LstK E a n (zup f i x) m UU)) (fun (UU : (va_W)) => [UU]) (fun (_ : Unit) _ _ => False) (fun _ => []) := by
  refine cb_of (own := RJ2) (cc := cJ2_set) (L := [some (.ref (a)), some (jI (i)), some (.ref (x)), none]) (by decide) rfl rfl (Nat.le_of_ble_eq_true rfl) (fun Z hE hl hrt hR hm hnm hret hxc hC hx0 => ?_)
  subst hE
  obtain ⟨b, mc, ⟨g, rfl, hr, hg⟩ | ⟨-, hn0, -, -⟩⟩ := hl
  rotate_left
  · omega
  refine zi_eqb (bs' := [[(a, .inr (3, [jI (mc), .ref (b), jI (n)]))], [(b, aR (zE Z) (m) (g))]]) (rfl) ?_
  refine zi_iload_n dJ2_set_0 rfl ?_
  refine zi_aload_n dJ2_set_1 rfl ?_
  refine zb_getf zk_J2 0 rfl 2 (by decide) rfl q202 rfl dJ2_set_2 ?_
  refine bc_S (As := [_, _]) (br := [_, _]) (kc' := 0) (ks' := 0) mw_J20_checkIndex (cc_J20_checkIndex (zl Z) (zE Z) C _ _ (hi) (by omega)) q416 hR (by decide) rfl (by simp [Value.category]) dJ2_set_5 [] [0, 1] [] rfl rfl rfl ⟨by omega, by omega⟩ (zC_F hC (fun e h => Or.inl h)) zC_ok (fun _ _ _ h => h.elim) (fun u5 r5 p5 => ?_)
  obtain ⟨e5, h5⟩ := p5
  subst e5
  refine zi_pop dJ2_set_8 rfl ?_
  refine zi_aload_n dJ2_set_9 rfl ?_
  refine zi_iload_n dJ2_set_10 rfl ?_
  refine bc_V (As := [_]) (br := [_, _]) (kc' := 0) (ks' := 0) mw_J2_elementData (cc_J2_elementData (zl Z) (zE Z) ((fun e => C e ∨ e ∈ [(a, .inr (3, [jI mc, .ref b, jI n])), (b, aR (zE Z) m g)])) _ (n) (f) _ (⟨b, mc, Or.inr (by simp), Or.inl ⟨m, g, Or.inr (by simp), by omega, hg⟩⟩) (hi)) q422 (zr_blk (q := (RJ2, TJ2, 3)) 0 rfl rfl) hR (by decide) rfl (by simp [Value.category]) dJ2_set_11 [] [0, 1] [] rfl rfl rfl ⟨by omega, by omega⟩ (zC_F hC (fun e h => h.imp id (fun h => by simpa using h))) zC_ok (fun _ _ _ h => h.elim) (fun u11 r11 p11 => ?_)
  obtain ⟨e11, h11⟩ := p11
  subst e11
  refine zi_astore_3 dJ2_set_14 hm (by decide) rfl ?_
  refine zi_aload_n dJ2_set_15 rfl ?_
  refine zb_getf zk_J2 0 rfl 1 (by decide) rfl q199 rfl dJ2_set_16 ?_
  refine zi_iload_n dJ2_set_19 rfl ?_
  refine zi_aload_n dJ2_set_20 rfl ?_
  refine zb_stRo hC ho 1 rfl (by omega) (by omega) dJ2_set_21 ?_
  refine zi_aload_n dJ2_set_22 rfl ?_
  refine zi_eqb (bs' := [[(a, .inr (3, [jI (mc), .ref (b), jI (n)])), (b, aR (zE Z) (m) (zup (g) (i) (some x)))]]) rfl ?_
  refine zi_areturn hrt (Or.inl ⟨_, rfl⟩) dJ2_set_23 (hret [(a, .inr (3, [jI mc, .ref b, jI n])), (b, aR (zE Z) m (zup g i (some x)))] _ _ [0] [] ?_ rfl rfl)
  · refine ⟨rfl, _, _, Or.inl ⟨_, rfl, by omega, fun j j0 j1 => ?_⟩⟩
    by_cases q : j = i
    · rw [q, zup_s, zup_s]
    · rw [zup_n q, zup_n q]; exact hg j j0 j1
theorem mw_J2_checkForComodification : MWV yJ2_checkForComodification cJ2_checkForComodification 2 none 1 := ⟨q1748, qs27, q122, q1749, by decide, by decide +kernel, by decide +kernel, by decide +kernel⟩
theorem mw_J20_equals : MWS yJ20_equals cJ20_equals 2 (some Jvm.ClassFile.FieldType.boolean) 2 := ⟨q1743, q158, q1744, by decide, by decide +kernel, by decide +kernel, by decide +kernel⟩
set_option maxHeartbeats 4000000 in
theorem cc_J2_equalsArrayList (l : Launch) (E : ZE) (C : CT0) (a : Nat) (n : Int) (f : Int → Nat) (wf : Int → List Int) (c : Nat) (n2 : Int) (f2 : Int → Nat) (wg : Int → List Int) (h : lstC E C a n f) (hh : lstC E C c n2 f2) (he1 : ∀ i : Int, 0 ≤ i → i < n → strC E C (f i) (wf i) ∧ (wf i).length ≤ 100000 ∧ ∀ c ∈ wf i, -128 ≤ c ∧ c ≤ 127) (he2 : ∀ i : Int, 0 ≤ i → i < n2 → strC E C (f2 i) (wg i) ∧ (wg i).length ≤ 100000 ∧ ∀ c ∈ wg i, -128 ≤ c ∧ c ≤ 127) (hn1 : 1 ≤ n ∧ 1 ≤ n2) : CB l yJ2_equalsArrayList (ws_ yJ2_equalsArrayList cJ2_equalsArrayList 8 (some Jvm.ClassFile.FieldType.boolean)) 7 (0) (0) E [.ref (a), .ref (c)] C [] (fun (UU : Unit) r => r = some (jI (bI (n = n2 ∧ ∀ i : Int, 0 ≤ i → i < n → wf i = wg i))) ∧ (True)) (fun (UU : Unit) => []) (fun (_ : Unit) _ _ => False) (fun _ => []) := by
  refine cb_of (own := RJ2) (cc := cJ2_equalsArrayList) (L := [some (.ref (a)), some (.ref (c)), none, none, none, none, none, none]) (by decide) rfl rfl (Nat.le_of_ble_eq_true rfl) (fun Z hE hl hrt hR hm hnm hret hxc hC hx0 => ?_)
  subst hE
  have hn := lstC_n h
  have hn2 := lstC_n hh
  have h0 := h
  have k0 := hh
  obtain ⟨b, mc, h1, h2⟩ := h0
  obtain ⟨bk, mk, k1, k2⟩ := k0
  obtain ⟨m, g, hA, hr, hg⟩ : ∃ (m : Nat) (g : Int → Option Nat), C (b, aR (zE Z) m g) ∧ (0 ≤ n ∧ n ≤ m ∧ m ≤ 100000) ∧ ∀ i : Int, 0 ≤ i → i < n → g i = some (f i) := h2.resolve_right (fun q => by omega)
  obtain ⟨m2, g2, kA, kr, kg⟩ : ∃ (m : Nat) (g : Int → Option Nat), C (bk, aR (zE Z) m g) ∧ (0 ≤ n2 ∧ n2 ≤ m ∧ m ≤ 100000) ∧ ∀ i : Int, 0 ≤ i → i < n2 → g i = some (f2 i) := k2.resolve_right (fun q => by omega)
  refine zi_aload_n dJ2_equalsArrayList_0 rfl ?_
  refine zf_getfS zk_J2 (hC _ (k1)) 0 (by decide) q205 q206 rfl dJ2_equalsArrayList_1 ?_
  refine zi_istore_2 dJ2_equalsArrayList_4 hm (by decide) rfl ?_
  refine zi_aload_n dJ2_equalsArrayList_5 rfl ?_
  refine zf_getf zk_J2 (hC _ (h1)) 2 (by decide) rfl q202 rfl dJ2_equalsArrayList_6 ?_
  refine zi_istore_3 dJ2_equalsArrayList_9 hm (by decide) rfl ?_
  refine zi_iload_n dJ2_equalsArrayList_10 rfl ?_
  refine zi_aload_n dJ2_equalsArrayList_11 rfl ?_
  refine zf_getf zk_J2 (hC _ (k1)) 2 (by decide) rfl q202 rfl dJ2_equalsArrayList_12 ?_
  refine zi_icmp_ne 22 dJ2_equalsArrayList_15 (by decide) (by omega) (fun c15 => ?_) (fun c15 => ?_)
  · refine zi_iconst dJ2_equalsArrayList_22 ?_
    refine zi_dup dJ2_equalsArrayList_23 rfl ?_
    refine zi_istore_4 dJ2_equalsArrayList_24 hm (by decide) rfl ?_
    refine zi_if_eq 100 dJ2_equalsArrayList_26 (by decide) (by omega) (fun _ => ?_) (fun h => absurd h (by omega))
    refine zi_aload_n dJ2_equalsArrayList_100 rfl ?_
    refine zi_iload_n dJ2_equalsArrayList_101 rfl ?_
    refine bc_V (As := [_]) (br := []) (kc' := 0) (ks' := 0) mw_J2_checkForComodification (cc_J2_checkForComodification (zl Z) (zE Z) C _ _ _ _ (k1)) q1746 (zr_lst hC (hh)) hR (by decide) rfl (by simp [Value.category]) dJ2_equalsArrayList_102 [] [] [] rfl rfl rfl ⟨by omega, by omega⟩ (zC_F hC (fun e h => Or.inl h)) zC_ok (fun _ _ _ h => h.elim) (fun u102 r102 p102 => ?_)
    obtain ⟨e102, h102⟩ := p102
    subst e102
    refine zi_iload dJ2_equalsArrayList_105 rfl ?_
    exact zi_zreturn hrt (z_nb (by first | exact Or.inl rfl | exact Or.inr rfl)) dJ2_equalsArrayList_107 (hret () _ _ [] [] (by first | exact ⟨congrArg (fun z => some (jI z)) (bI_0 (fun q => c15 q.1)), trivial⟩ | exact ⟨congrArg (fun z => some (jI z)) (bI_0 (fun q => c85 (q.2 x7 (by omega) (by omega)))), trivial⟩ | exact ⟨congrArg (fun z => some (jI z)) (bI_1 ⟨c15, fun j j0 j1 => i66_1 j j0 (by omega)⟩), trivial⟩) rfl rfl)
  · refine zi_iconst dJ2_equalsArrayList_18 ?_
    refine zi_goto 23 dJ2_equalsArrayList_19 (by decide) ?_
    refine zi_dup dJ2_equalsArrayList_23 rfl ?_
    refine zi_istore_4 dJ2_equalsArrayList_24 hm (by decide) rfl ?_
    refine zi_if_eq 100 dJ2_equalsArrayList_26 (by decide) (by omega) (fun h => absurd h (by omega)) (fun _ => ?_)
    refine zi_aload_n dJ2_equalsArrayList_29 rfl ?_
    refine zf_getf zk_J2 (hC _ (k1)) 1 (by decide) rfl q199 rfl dJ2_equalsArrayList_30 ?_
    refine zi_astore_5 dJ2_equalsArrayList_33 hm (by decide) rfl ?_
    refine zi_aload_n dJ2_equalsArrayList_35 rfl ?_
    refine zf_getf zk_J2 (hC _ (h1)) 1 (by decide) rfl q199 rfl dJ2_equalsArrayList_36 ?_
    refine zi_astore_6 dJ2_equalsArrayList_39 hm (by decide) rfl ?_
    refine zi_iload_n dJ2_equalsArrayList_41 rfl ?_
    refine zi_aload dJ2_equalsArrayList_42 rfl ?_
    refine zf_alen 4 (hC _ (hA)) rfl dJ2_equalsArrayList_44 ?_
    refine zi_icmp_gt 55 dJ2_equalsArrayList_45 (by decide) (by omega) (fun c45 => ?_) (fun c45 => ?_)
    · exact absurd c45 (by omega)
    · refine zi_iload_n dJ2_equalsArrayList_48 rfl ?_
      refine zi_aload dJ2_equalsArrayList_49 rfl ?_
      refine zf_alen 4 (hC _ (kA)) rfl dJ2_equalsArrayList_51 ?_
      refine zi_icmp_le 63 dJ2_equalsArrayList_52 (by decide) (by omega) (fun c52 => ?_) (fun c52 => ?_)
      · refine zi_iconst dJ2_equalsArrayList_63 ?_
        refine zi_istore_7 dJ2_equalsArrayList_64 hm (by decide) rfl ?_
        have lp66 : ∀ (N9 : Nat) (x7 : Int), (0 ≤ x7 ∧ x7 ≤ n) → (∀ j : Int, 0 ≤ j → j < x7 → wf j = wg j) → (n - x7).toNat < N9 → GV RJ2 cJ2_equalsArrayList Z (zA Z) (zs Z).heap (List.flatten []) 0 0 66 [some (.ref (a)), some (.ref (c)), some (jI (mk)), some (jI (n)), some (jI (1)), some (.ref (bk)), some (.ref (b)), some (jI (x7))] [] := by
          intro N9
          induction N9 with
          | zero => intro x7 i66_0 i66_1 m66; exact absurd m66 (Nat.not_lt_zero _)
          | succ N9 ih66 =>
            intro x7 i66_0 i66_1 m66
            refine zi_iload dJ2_equalsArrayList_66 rfl ?_
            refine zi_iload_n dJ2_equalsArrayList_68 rfl ?_
            refine zi_icmp_ge 100 dJ2_equalsArrayList_69 (by decide) (by omega) (fun c69 => ?_) (fun c69 => ?_)
            · refine zi_aload_n dJ2_equalsArrayList_100 rfl ?_
              refine zi_iload_n dJ2_equalsArrayList_101 rfl ?_
              refine bc_V (As := [_]) (br := []) (kc' := 0) (ks' := 0) mw_J2_checkForComodification (cc_J2_checkForComodification (zl Z) (zE Z) C _ _ _ _ (k1)) q1746 (zr_lst hC (hh)) hR (by decide) rfl (by simp [Value.category]) dJ2_equalsArrayList_102 [] [] [] rfl rfl rfl ⟨by omega, by omega⟩ (zC_F hC (fun e h => Or.inl h)) zC_ok (fun _ _ _ h => h.elim) (fun u102_1 r102_2 p102_3 => ?_)
              obtain ⟨e102_4, h102_5⟩ := p102_3
              subst e102_4
              refine zi_iload dJ2_equalsArrayList_105 rfl ?_
              exact zi_zreturn hrt (z_nb (by first | exact Or.inl rfl | exact Or.inr rfl)) dJ2_equalsArrayList_107 (hret () _ _ [] [] (by first | exact ⟨congrArg (fun z => some (jI z)) (bI_0 (fun q => c15 q.1)), trivial⟩ | exact ⟨congrArg (fun z => some (jI z)) (bI_0 (fun q => c85 (q.2 x7 (by omega) (by omega)))), trivial⟩ | exact ⟨congrArg (fun z => some (jI z)) (bI_1 ⟨c15, fun j j0 j1 => i66_1 j j0 (by omega)⟩), trivial⟩) rfl rfl)
            · refine zi_aload dJ2_equalsArrayList_72 rfl ?_
              refine zi_iload dJ2_equalsArrayList_74 rfl ?_
              refine zf_ldR (hC _ (hA)) (by omega) (by omega) (hg x7 (by omega) (by omega)) dJ2_equalsArrayList_76 ?_
              refine zi_aload dJ2_equalsArrayList_77 rfl ?_
              refine zi_iload dJ2_equalsArrayList_79 rfl ?_
              refine zf_ldR (hC _ (kA)) (by omega) (by omega) (kg x7 (by omega) (by omega)) dJ2_equalsArrayList_81 ?_
              refine bc_S (As := [_, _]) (br := []) (kc' := 0) (ks' := 0) mw_J20_equals (cc_J20_equals (zl Z) (zE Z) C _ _ _ _ ((he1 (x7) (by omega) (by omega)).2.1) ((he1 (x7) (by omega) (by omega)).2.2) (Or.inl (he1 (x7) (by omega) (by omega)).1) ((he2 (x7) (by omega) (by omega)).2.1) ((he2 (x7) (by omega) (by omega)).2.2) (Or.inl (he2 (x7) (by omega) (by omega)).1)) q1742 hR (by decide) rfl (by simp [Value.category]) dJ2_equalsArrayList_82 [] [] [] rfl rfl rfl ⟨by omega, by omega⟩ (zC_F hC (fun e h => Or.inl h)) zC_ok (fun _ _ _ h => h.elim) (fun u82 r82 p82 => ?_)
              obtain ⟨e82, h82⟩ := p82
              subst e82
              refine zi_if_neB 94 dJ2_equalsArrayList_85 (by decide) (fun c85 => ?_) (fun c85 => ?_)
              · refine zi_iinc_7 dJ2_equalsArrayList_94 hm (by decide) rfl ?_
                refine zi_goto 66 dJ2_equalsArrayList_97 (by decide) ?_
                refine ih66 ((x7 + 1)) (by omega) ?_ (by omega)
                · intro j j0 j1
                  by_cases q : j = x7
                  · rw [q]; exact c85
                  · exact i66_1 j j0 (by omega)
              · refine zi_iconst dJ2_equalsArrayList_88 ?_
                refine zi_istore_4 dJ2_equalsArrayList_89 hm (by decide) rfl ?_
                refine zi_goto 100 dJ2_equalsArrayList_91 (by decide) ?_
                refine zi_aload_n dJ2_equalsArrayList_100 rfl ?_
                refine zi_iload_n dJ2_equalsArrayList_101 rfl ?_
                refine bc_V (As := [_]) (br := []) (kc' := 0) (ks' := 0) mw_J2_checkForComodification (cc_J2_checkForComodification (zl Z) (zE Z) C _ _ _ _ (k1)) q1746 (zr_lst hC (hh)) hR (by decide) rfl (by simp [Value.category]) dJ2_equalsArrayList_102 [] [] [] rfl rfl rfl ⟨by omega, by omega⟩ (zC_F hC (fun e h => Or.inl h)) zC_ok (fun _ _ _ h => h.elim) (fun u102_6 r102_7 p102_8 => ?_)
                obtain ⟨e102_9, h102_10⟩ := p102_8
                subst e102_9
                refine zi_iload dJ2_equalsArrayList_105 rfl ?_
                exact zi_zreturn hrt (z_nb (by first | exact Or.inl rfl | exact Or.inr rfl)) dJ2_equalsArrayList_107 (hret () _ _ [] [] (by first | exact ⟨congrArg (fun z => some (jI z)) (bI_0 (fun q => c15 q.1)), trivial⟩ | exact ⟨congrArg (fun z => some (jI z)) (bI_0 (fun q => c85 (q.2 x7 (by omega) (by omega)))), trivial⟩ | exact ⟨congrArg (fun z => some (jI z)) (bI_1 ⟨c15, fun j j0 j1 => i66_1 j j0 (by omega)⟩), trivial⟩) rfl rfl)
        exact lp66 _ (0) (by omega) (fun j j0 j1 => by omega) (Nat.lt_succ_self _)
      · exact absurd c52 (by omega)
theorem mw_J2_equalsArrayList : MWV yJ2_equalsArrayList cJ2_equalsArrayList 8 (some Jvm.ClassFile.FieldType.boolean) 1 := ⟨q1740, qs26, q122, q1741, by decide, by decide +kernel, by decide +kernel, by decide +kernel⟩
set_option maxHeartbeats 4000000 in
theorem cc_J2_equals (l : Launch) (E : ZE) (C : CT0) (a : Nat) (n : Int) (f : Int → Nat) (wf : Int → List Int) (c : Nat) (n2 : Int) (f2 : Int → Nat) (wg : Int → List Int) (h : lstC E C a n f) (hh : lstC E C c n2 f2) (he1 : ∀ i : Int, 0 ≤ i → i < n → strC E C (f i) (wf i) ∧ (wf i).length ≤ 100000 ∧ ∀ c ∈ wf i, -128 ≤ c ∧ c ≤ 127) (he2 : ∀ i : Int, 0 ≤ i → i < n2 → strC E C (f2 i) (wg i) ∧ (wg i).length ≤ 100000 ∧ ∀ c ∈ wg i, -128 ≤ c ∧ c ≤ 127) (hn1 : 1 ≤ n ∧ 1 ≤ n2) : CB l yJ2_equals (ws_ yJ2_equals cJ2_equals 4 (some Jvm.ClassFile.FieldType.boolean)) 8 (0) (0) E [.ref (a), .ref (c)] C [] (fun (UU : Unit) r => r = some (jI (bI (n = n2 ∧ ∀ i : Int, 0 ≤ i → i < n → wf i = wg i))) ∧ (True)) (fun (UU : Unit) => []) (fun (_ : Unit) _ _ => False) (fun _ => []) := by
  refine cb_of (own := RJ2) (cc := cJ2_equals) (L := [some (.ref (a)), some (.ref (c)), none, none]) (by decide) rfl rfl (Nat.le_of_ble_eq_true rfl) (fun Z hE hl hrt hR hm hnm hret hxc hC hx0 => ?_)
  subst hE
  refine zi_cx (fun C0 => ?_)
  have hn := lstC_n h
  have hn2 := lstC_n hh
  have h0 := h
  have k0 := hh
  obtain ⟨b, mc, h1, h2⟩ := h0
  obtain ⟨bk, mk, k1, k2⟩ := k0
  obtain ⟨m, g, hA, hr, hg⟩ : ∃ (m : Nat) (g : Int → Option Nat), C (b, aR (zE Z) m g) ∧ (0 ≤ n ∧ n ≤ m ∧ m ≤ 100000) ∧ ∀ i : Int, 0 ≤ i → i < n → g i = some (f i) := h2.resolve_right (fun q => by omega)
  obtain ⟨m2, g2, kA, kr, kg⟩ : ∃ (m : Nat) (g : Int → Option Nat), C (bk, aR (zE Z) m g) ∧ (0 ≤ n2 ∧ n2 ≤ m ∧ m ≤ 100000) ∧ ∀ i : Int, 0 ≤ i → i < n2 → g i = some (f2 i) := k2.resolve_right (fun q => by omega)
  refine zi_aload_n dJ2_equals_0 rfl ?_
  refine zi_aload_n dJ2_equals_1 rfl ?_
  refine zi_acmp_ne 7 dJ2_equals_2 (by decide) (fun c2 => ?_) (fun c2 => ?_)
  · refine zi_aload_n dJ2_equals_7 rfl ?_
    refine zi_instY (zr_lst hC (hh)) q354 q1735 dJ2_equals_8 ?_
    refine zi_if_ne 16 dJ2_equals_11 (by decide) (by omega) (fun _ => ?_) (fun h => absurd h (by omega))
    refine zi_aload_n dJ2_equals_16 rfl ?_
    refine zf_getfS zk_J2 (hC _ (h1)) 0 (by decide) q205 q206 rfl dJ2_equals_17 ?_
    refine zi_istore_2 dJ2_equals_20 hm (by decide) rfl ?_
    refine zi_aload_n dJ2_equals_21 rfl ?_
    refine zi_getC (C := "java/util/ArrayList") (mi := (zE Z).2.2 7) (fun h => h.2.2.2.2.1) (zr_lst hC (hh)) q1736 q3143 q1399 q1365 q1402 hR (by decide) (by simp [Value.category]) dJ2_equals_22 ?_
    refine zi_ldcM (mi := (zE Z).2.2 7) (fun h => h.2.2.2.2.1) q1737 dJ2_equals_25 ?_
    refine zi_acmp_ne 41 dJ2_equals_27 (by decide) (fun c27 => ?_) (fun c27 => ?_)
    · exact absurd rfl c27
    · refine zi_aload_n dJ2_equals_30 rfl ?_
      refine zi_aload_n dJ2_equals_31 rfl ?_
      refine zi_castE (zr_lst hC (hh)) q1737 dJ2_equals_32 ?_
      refine bc_V (As := [_]) (br := []) (kc' := 0) (ks' := 0) mw_J2_equalsArrayList (cc_J2_equalsArrayList (zl Z) (zE Z) C _ _ _ (wf) _ _ _ (wg) (h) (hh) (he1) (he2) (hn1)) q1738 (zr_lst hC (h)) hR (by decide) rfl (by simp [Value.category]) dJ2_equals_35 [] [] [] rfl rfl rfl ⟨by omega, by omega⟩ (zC_F hC (fun e h => Or.inl h)) zC_ok (fun _ _ _ h => h.elim) (fun u35 r35 p35 => ?_)
      obtain ⟨e35, h35⟩ := p35
      subst e35
      refine zi_goto 54 dJ2_equals_38 (by decide) ?_
      refine zi_istore_3 dJ2_equals_54 hm (by decide) rfl ?_
      refine zi_aload_n dJ2_equals_55 rfl ?_
      refine zi_iload_n dJ2_equals_56 rfl ?_
      refine bc_V (As := [_]) (br := []) (kc' := 0) (ks' := 0) mw_J2_checkForComodification (cc_J2_checkForComodification (zl Z) (zE Z) C _ _ _ _ (h1)) q1746 (zr_lst hC (h)) hR (by decide) rfl (by simp [Value.category]) dJ2_equals_57 [] [] [] rfl rfl rfl ⟨by omega, by omega⟩ (zC_F hC (fun e h => Or.inl h)) zC_ok (fun _ _ _ h => h.elim) (fun u57 r57 p57 => ?_)
      obtain ⟨e57, h57⟩ := p57
      subst e57
      refine zi_iload_n dJ2_equals_60 rfl ?_
      exact zi_zreturn hrt (z_nb (by first | exact Or.inl rfl | exact Or.inr rfl | exact bI_01 _)) dJ2_equals_61 (hret () _ _ [] [] (⟨rfl, trivial⟩) rfl rfl)
  · refine zi_iconst dJ2_equals_5 ?_
    exact zi_zreturn hrt (z_nb (by first | exact Or.inl rfl | exact Or.inr rfl | exact bI_01 _)) dJ2_equals_6 (hret () _ _ [] [] (⟨congrArg (fun z => some (jI z)) (bI_1 (zeqL C0 hC h1 (by rw [← c2]; exact k1) hA kA (by omega) (by omega) hg kg he1 he2)), trivial⟩) rfl rfl)
set_option maxHeartbeats 4000000 in
theorem cc_J18_init (l : Launch) (E : ZE) (C : CT0) (a : Nat) : CB l yJ18_init (ws_ yJ18_init cJ18_init 1 none) 1 (0) (0) E [.ref (a)] C [] (fun (UU : Unit) r => r = none ∧ (True)) (fun (UU : Unit) => []) (fun (_ : Unit) _ _ => False) (fun _ => []) := by
  refine cb_of (own := RJ18) (cc := cJ18_init) (L := [some (.ref (a))]) (by decide) rfl rfl (Nat.le_of_ble_eq_true rfl) (fun Z hE hl hrt hR hm hnm hret hxc hC hx0 => ?_)
  subst hE
  refine zi_aload_n dJ18_init_0 rfl ?_
  refine zi_oinit q551 hR (by decide) (by simp [Value.category]) dJ18_init_1 ?_
  exact zi_return hrt dJ18_init_4 (hret () _ _ [] [] (⟨rfl, trivial⟩) rfl rfl)
theorem mw_J18_init : MWI yJ18_init cJ18_init 1 0 := ⟨rfl, q549, q143, q550, by decide, by decide +kernel, by decide +kernel, by decide +kernel⟩
set_option maxHeartbeats 4000000 in
theorem cc_J19_init (l : Launch) (E : ZE) (C : CT0) (a : Nat) (v : Int) : CB l yJ19_init (ws_ yJ19_init cJ19_init 2 none) 2 (0) (0) E [.ref (a), jI (v)] C [[(a, .inr (7, [jI (0)]))]] (fun (UU : Unit) r => r = none ∧ (True)) (fun (UU : Unit) => [[(a, .inr (7, [jI (v)]))]]) (fun (_ : Unit) _ _ => False) (fun _ => []) := by
  refine cb_of (own := RJ19) (cc := cJ19_init) (L := [some (.ref (a)), some (jI (v))]) (by decide) rfl rfl (Nat.le_of_ble_eq_true rfl) (fun Z hE hl hrt hR hm hnm hret hxc hC hx0 => ?_)
  subst hE
  refine zi_aload_n dJ19_init_0 rfl ?_
  refine bc_I (As := []) (br := [_]) (kc' := 0) (ks' := 0) mw_J18_init (cc_J18_init (zl Z) (zE Z) C _) q548 hR (by decide) rfl (by simp [Value.category]) dJ19_init_1 [] [0] [] rfl rfl rfl ⟨by omega, by omega⟩ (zC_F hC (fun e h => Or.inl h)) zC_ok (fun _ _ _ h => h.elim) (fun u1 r1 p1 => ?_)
  obtain ⟨e1, h1⟩ := p1
  subst e1
  refine zi_aload_n dJ19_init_4 rfl ?_
  refine zi_iload_n dJ19_init_5 rfl ?_
  refine zb_putfF hnm zk_J19 0 rfl 0 (by decide) rfl rfl q552 rfl rfl (Nat.le_of_ble_eq_true rfl) dJ19_init_6 ?_
  refine zi_shape (bs' := [[(a, .inr (7, [jI (v)]))]]) rfl ?_
  exact zi_return hrt dJ19_init_9 (hret () _ _ [0] [] (⟨rfl, trivial⟩) rfl rfl)
