/-! WORDS, NUMBERS, SEGMENTS -/
set_option maxRecDepth 100000
def ixC (c : Int → Int) (d n v : Int) : Prop := (v = -1 ∧ ∀ j : Int, 0 ≤ j → j < n → ¬ c j = d) ∨ (0 ≤ v ∧ v < n ∧ c v = d ∧ ∀ j : Int, 0 ≤ j → j < v → ¬ c j = d)
theorem zr_wd {own : String} {cc : ByteArray} {Z : ZT} {B : Nat → Prop} {Hb : Heap} {ws : va_W} {C : CT0} {x : Nat} {c : Int} (hC : zC (zE Z) C B (zs Z) Hb) (h : wdC (zE Z) C x c) : zRc own cc Z B Hb ws "java/lang/String" x := by
  obtain ⟨w, -, -, hs⟩ := h
  exact zr_str hC hs
theorem zcache {own : String} {cc : ByteArray} {Z : ZT} (C0 : Cx own cc Z) : va_O "java/lang/Integer" ((zE Z).2.2 1000) (zA Z) (zs Z) (zs Z).heap ∧ ∀ j : Nat, j < 256 → va_OF "java/lang/Integer" "value" "I" (jI ((j : Int) - 128)) ((zE Z).2.2 (1000 + j)) (zA Z) (zs Z) (zs Z).heap := by
  have h := C0.2.2.2.2.2.2.2.2.1.2.2.1.2.2
  refine ⟨h.1 0 (by decide), fun j hj => ?_⟩
  have := h.2 j hj
  have e : vb_c j = Int32.ofInt ((j : Int) - 128) := by unfold vb_c; rw [Int32.ofInt_sub, ← Int32.ofInt_eq_ofNat]; rfl
  show va_OF _ _ _ (.int (Int32.ofInt ((j : Int) - 128))) _ _ _ _
  rw [← e]
  exact this
theorem ct_post {S SX : Type} {l : Launch} {y : MethodName} {cw : List Cond} {dp mc ms : Nat} {E : ZE} {As : List Value} {wc : va_W} {Fz : zF} {post post' : S → Option Value → Prop} {w1 : S → va_W} {Frz : S → zF} {postx : SX → Nat → String → Prop} {wx : SX → va_W} (k : CT l y cw dp mc ms E As wc Fz post w1 Frz postx wx) (h : ∀ u r, post u r → post' u r) : CT l y cw dp mc ms E As wc Fz post' w1 Frz postx wx := by
  intro hst sz p e h1 h2 h3 s m args below hf ha hp hk
  obtain ⟨n, o, a, b, c, hQ⟩ := k hst sz p e h1 h2 h3 s m args below hf ha hp hk
  refine ⟨n, o, a, b, c, ?_⟩
  rcases hQ with ⟨⟨r, ho, ⟨u, hu, q1, q2, q3⟩, hun⟩, hL⟩ | hx
  · exact Or.inl ⟨⟨r, ho, ⟨u, h u r hu, q1, q2, q3⟩, hun⟩, hL⟩
  · exact Or.inr hx
theorem cc_J6_weq (l : Launch) (E : ZE) (C : CT0) (b : Nat) (c : Nat) (x : Int) (y : Int) (h1 : wdC E C b x) (h2 : wdC E C c y) : CB l yJ6_equals (ws_ yJ6_equals cJ6_equals 3 (some Jvm.ClassFile.FieldType.boolean)) 4 0 0 E [.ref (b), .ref (c)] C [] (fun (UU : Unit) r => r = some (jI (bI (x = y))) ∧ (True)) (fun (UU : Unit) => []) (fun (_ : Unit) _ _ => False) (fun _ => []) := by
  obtain ⟨w, ⟨o1, o2, o3⟩, rfl, hs⟩ := h1
  obtain ⟨u, ⟨q1, q2, q3⟩, rfl, hu⟩ := h2
  have k := cc_J6_equals l E C b c w u (by omega) (fun c hc => by have := o3 c hc; unfold isLt at this; omega) (Or.inl hs) (by omega) (fun c hc => by have := q3 c hc; unfold isLt at this; omega) (Or.inl hu)
  have e : bI (w = u) = bI (cdW w 0 = cdW u 0) := bI_c ⟨fun h => by rw [h], fun h => cdW_inj _ w u rfl o3 q3 h⟩
  rw [e] at k
  exact k
theorem cc_J2_windexOf (l : Launch) (E : ZE) (C : CT0) (a : Nat) (n : Int) (f : Int → Nat) (x : Nat) (cf : Int → Int) (d : Int) (h : lstC E C a n f) (hf : ∀ i : Int, 0 ≤ i → i < n → wdC E C (f i) (cf i)) (hx : wdC E C x d) : CB l yJ2_indexOf (ws_ yJ2_indexOf cJ2_indexOf 2 (some Jvm.ClassFile.FieldType.int)) 6 0 0 E [.ref (a), .ref (x)] C [] (fun (UU : (Int)) r => r = some (jI UU) ∧ (ixC cf d n UU)) (fun (UU : (Int)) => []) (fun (_ : Unit) _ _ => False) (fun _ => []) := by
  obtain ⟨wf, hwf⟩ := Classical.axiomOfChoice (r := fun (i : Int) (w : List Int) => 0 ≤ i → i < n → okW w ∧ cdW w 0 = cf i ∧ strC E C (f i) w) (fun i => by
    by_cases q : 0 ≤ i ∧ i < n
    · obtain ⟨w, h⟩ := hf i q.1 q.2
      exact ⟨w, fun _ _ => h⟩
    · exact ⟨[], fun h0 h1 => absurd ⟨h0, h1⟩ q⟩)
  have hel : ∀ i : Int, 0 ≤ i → i < n → strC E C (f i) (wf i) ∧ (wf i).length ≤ 100000 ∧ ∀ c ∈ wf i, -128 ≤ c ∧ c ≤ 127 := fun i i0 i1 => by
    obtain ⟨⟨o1, o2, o3⟩, e, hs⟩ := hwf i i0 i1
    exact ⟨hs, by omega, fun c hc => by have := o3 c hc; unfold isLt at this; omega⟩
  have hcd : ∀ i : Int, 0 ≤ i → i < n → cdW (wf i) 0 = cf i ∧ ∀ c ∈ wf i, isLt c := fun i i0 i1 => ⟨(hwf i i0 i1).2.1, (hwf i i0 i1).1.2.2⟩
  obtain ⟨u, ⟨q1, q2, q3⟩, rfl, hu⟩ := hx
  have k := cc_J2_indexOf l E C a n f wf x u h hel (by omega) (fun c hc => by have := q3 c hc; unfold isLt at this; omega) (Or.inl hu)
  refine ct_post k (fun v r hp => ⟨hp.1, ?_⟩)
  have hne : ∀ j : Int, 0 ≤ j → j < n → ¬ wf j = u → ¬ cf j = cdW u 0 := fun j j0 j1 hj e => hj (cdW_inj _ _ _ rfl (hcd j j0 j1).2 q3 ((hcd j j0 j1).1.trans e))
  rcases hp.2 with ⟨e, h1⟩ | ⟨h0, h1, h2, h3⟩
  · exact Or.inl ⟨e, fun j j0 j1 => hne j j0 j1 (h1 j j0 j1)⟩
  · exact Or.inr ⟨h0, h1, by rw [← (hcd v h0 h1).1, h2], fun j j0 j1 => hne j j0 (by omega) (h3 j j0 j1)⟩
theorem cc_J2_wequals (l : Launch) (E : ZE) (C : CT0) (a : Nat) (n : Int) (f : Int → Nat) (c : Nat) (n2 : Int) (f2 : Int → Nat) (c1 : Int → Int) (c2 : Int → Int) (h : lstC E C a n f) (hh : lstC E C c n2 f2) (hf : ∀ i : Int, 0 ≤ i → i < n → wdC E C (f i) (c1 i)) (hf2 : ∀ i : Int, 0 ≤ i → i < n2 → wdC E C (f2 i) (c2 i)) (hn1 : 1 ≤ n ∧ 1 ≤ n2) : CB l yJ2_equals (ws_ yJ2_equals cJ2_equals 4 (some Jvm.ClassFile.FieldType.boolean)) 8 0 0 E [.ref (a), .ref (c)] C [] (fun (UU : Unit) r => r = some (jI (bI (n = n2 ∧ ∀ i : Int, 0 ≤ i → i < n → c1 i = c2 i))) ∧ (True)) (fun (UU : Unit) => []) (fun (_ : Unit) _ _ => False) (fun _ => []) := by
  obtain ⟨wf, hwf⟩ := Classical.axiomOfChoice (r := fun (i : Int) (w : List Int) => 0 ≤ i → i < n → okW w ∧ cdW w 0 = c1 i ∧ strC E C (f i) w) (fun i => by
    by_cases q : 0 ≤ i ∧ i < n
    · obtain ⟨w, h⟩ := hf i q.1 q.2
      exact ⟨w, fun _ _ => h⟩
    · exact ⟨[], fun h0 h1 => absurd ⟨h0, h1⟩ q⟩)
  have hel : ∀ i : Int, 0 ≤ i → i < n → strC E C (f i) (wf i) ∧ (wf i).length ≤ 100000 ∧ ∀ c ∈ wf i, -128 ≤ c ∧ c ≤ 127 := fun i i0 i1 => by
    obtain ⟨⟨o1, o2, o3⟩, e, hs⟩ := hwf i i0 i1
    exact ⟨hs, by omega, fun c hc => by have := o3 c hc; unfold isLt at this; omega⟩
  have hcd : ∀ i : Int, 0 ≤ i → i < n → cdW (wf i) 0 = c1 i ∧ ∀ c ∈ wf i, isLt c := fun i i0 i1 => ⟨(hwf i i0 i1).2.1, (hwf i i0 i1).1.2.2⟩
  obtain ⟨wf2, hwf2⟩ := Classical.axiomOfChoice (r := fun (i : Int) (w : List Int) => 0 ≤ i → i < n2 → okW w ∧ cdW w 0 = c2 i ∧ strC E C (f2 i) w) (fun i => by
    by_cases q : 0 ≤ i ∧ i < n2
    · obtain ⟨w, h⟩ := hf2 i q.1 q.2
      exact ⟨w, fun _ _ => h⟩
    · exact ⟨[], fun h0 h1 => absurd ⟨h0, h1⟩ q⟩)
  have hel2 : ∀ i : Int, 0 ≤ i → i < n2 → strC E C (f2 i) (wf2 i) ∧ (wf2 i).length ≤ 100000 ∧ ∀ c ∈ wf2 i, -128 ≤ c ∧ c ≤ 127 := fun i i0 i1 => by
    obtain ⟨⟨o1, o2, o3⟩, e, hs⟩ := hwf2 i i0 i1
    exact ⟨hs, by omega, fun c hc => by have := o3 c hc; unfold isLt at this; omega⟩
  have hcd2 : ∀ i : Int, 0 ≤ i → i < n2 → cdW (wf2 i) 0 = c2 i ∧ ∀ c ∈ wf2 i, isLt c := fun i i0 i1 => ⟨(hwf2 i i0 i1).2.1, (hwf2 i i0 i1).1.2.2⟩
  have k := cc_J2_equals l E C a n f wf c n2 f2 wf2 h hh hel hel2 hn1
  have e : bI (n = n2 ∧ ∀ i : Int, 0 ≤ i → i < n → wf i = wf2 i) = bI (n = n2 ∧ ∀ i : Int, 0 ≤ i → i < n → c1 i = c2 i) := bI_c ⟨fun q => ⟨q.1, fun i i0 i1 => by rw [← (hcd i i0 i1).1, ← (hcd2 i i0 (by omega)).1, q.2 i i0 i1]⟩, fun q => ⟨q.1, fun i i0 i1 => cdW_inj _ _ _ rfl (hcd i i0 i1).2 (hcd2 i i0 (by omega)).2 (by rw [(hcd i i0 i1).1, (hcd2 i i0 (by omega)).1, q.2 i i0 i1])⟩⟩
  rw [e] at k
  exact k
set_option maxHeartbeats 4000000 in
theorem cc_J19_intValue (l : Launch) (E : ZE) (C : CT0) (x : Nat) (v : Int) (hx : intC E C x v) : CB l yJ19_intValue (ws_ yJ19_intValue cJ19_intValue 1 (some Jvm.ClassFile.FieldType.int)) 1 (0) (0) E [.ref (x)] C [] (fun (UU : Unit) r => r = some (jI v) ∧ (True)) (fun (UU : Unit) => []) (fun (_ : Unit) _ _ => False) (fun _ => []) := by
  refine cb_of (own := RJ19) (cc := cJ19_intValue) (L := [some (.ref (x))]) (by decide) rfl rfl (Nat.le_of_ble_eq_true rfl) (fun Z hE hl hrt hR hm hnm hret hxc hC hx0 => ?_)
  subst hE
  refine zi_cx (fun C0 => ?_)
  have hOF := (zcache C0).2
  rcases hx with hx | ⟨j, hj, hx1, hx2⟩
  · refine zi_aload_n dJ19_intValue_0 rfl ?_
    refine zf_getf zk_J19 (hC _ (hx)) 0 (by decide) rfl q552 rfl dJ19_intValue_1 ?_
    exact zi_ireturn hrt dJ19_intValue_4 (hret () _ _ [] [] (⟨rfl, trivial⟩) rfl rfl)
  · subst hx1 hx2
    refine zi_aload_n dJ19_intValue_0 rfl ?_
    refine zi_gff (hOF j hj) (fun _ h => h) q552 dJ19_intValue_1 ?_
    exact zi_ireturn hrt dJ19_intValue_4 (hret () _ _ [] [] (⟨rfl, trivial⟩) rfl rfl)
set_option maxHeartbeats 4000000 in
theorem cc_J19_valueOf (l : Launch) (E : ZE) (C : CT0) (v : Int) (hv : -128 ≤ v ∧ v ≤ 127) : CB l yJ19_valueOf (ws_ yJ19_valueOf cJ19_valueOf 1 (some (Jvm.ClassFile.FieldType.object "java/lang/Integer"))) 6 (0) (0) E [jI (v)] C [] (fun (UU : Unit) r => r = some (.ref (E.2.2 (1000 + (v + 128).toNat))) ∧ (True)) (fun (UU : Unit) => []) (fun (_ : Unit) _ _ => False) (fun _ => []) := by
  refine cb_of (own := RJ19) (cc := cJ19_valueOf) (L := [some (jI (v))]) (by decide) rfl rfl (Nat.le_of_ble_eq_true rfl) (fun Z hE hl hrt hR hm hnm hret hxc hC hx0 => ?_)
  subst hE
  refine zi_cx (fun C0 => ?_)
  obtain ⟨tc, hc1, hc2⟩ := C0.2.2.2.2.2.2.2.2.1.2.2.1.2.1
  refine zi_iload_n dJ19_valueOf_0 rfl ?_
  refine zi_bipush dJ19_valueOf_1 (by decide +kernel) ?_
  refine zi_icmp_lt 23 dJ19_valueOf_3 (by decide) (by omega) (fun c3 => ?_) (fun c3 => ?_)
  · exact absurd c3 (by omega)
  · refine zi_iload_n dJ19_valueOf_6 rfl ?_
    refine zi_gets (v := jI (127)) (fun h => h.2.2.1.1) q539 dJ19_valueOf_7 ?_
    refine zi_icmp_gt 23 dJ19_valueOf_10 (by decide) (by omega) (fun c10 => ?_) (fun c10 => ?_)
    · exact absurd c10 (by omega)
    · refine zi_gets (v := .ref (tc)) (fun _ => hc1) q541 dJ19_valueOf_13 ?_
      refine zi_iload_n dJ19_valueOf_16 rfl ?_
      refine zi_sipush dJ19_valueOf_17 (by decide +kernel) ?_
      refine zi_iadd dJ19_valueOf_20 ?_
      refine zi_ldRF hc2 (fun _ h => h) (by omega) (by omega) rfl dJ19_valueOf_21 ?_
      exact zi_areturn hrt (Or.inl ⟨_, rfl⟩) dJ19_valueOf_22 (hret () _ _ [] [] (⟨rfl, trivial⟩) rfl rfl)
theorem mwf_J2_size_List : MWF "java/util/ArrayList" ⟨"java/util/List", "size", "()I"⟩ yJ2_size cJ2_size 1 (some Jvm.ClassFile.FieldType.int) 0 := ⟨by decide +kernel, q355, q357, q122, q359, by decide, by decide +kernel, by decide +kernel, by decide +kernel⟩
set_option maxHeartbeats 4000000 in
theorem cc_X17_many (l : Launch) (E : ZE) (C : CT0) (a : Int → Int) (x : Nat) (g : Int) (hsg : segC E C x a g) (hle : (1 ≤ sLen a g 0 ∧ sLen a g 0 ≤ 8) ∧ (1 ≤ sLen a g 1 ∧ sLen a g 1 ≤ 8)) : CB l yX17_many (ws_ yX17_many cX17_many 1 (some Jvm.ClassFile.FieldType.int)) 2 (0) (0) E [.ref (x)] C [] (fun (UU : Unit) r => r = some (jI (sLen a g 0)) ∧ (True)) (fun (UU : Unit) => []) (fun (_ : Unit) _ _ => False) (fun _ => []) := by
  refine cb_of (own := RX17) (cc := cX17_many) (L := [some (.ref (x))]) (by decide) rfl rfl (Nat.le_of_ble_eq_true rfl) (fun Z hE hl hrt hR hm hnm hret hxc hC hx0 => ?_)
  subst hE
  have hsh := hsg
  obtain ⟨s, t, fu, fv, hX, hS, hSw, hT, hTw⟩ := hsh
  refine zi_aload_n dX17_many_0 rfl ?_
  refine zf_getf zk_X17 (hC _ (hX)) 1 (by decide) rfl q1519 rfl dX17_many_1 ?_
  refine bc_F (As := []) (br := []) (kc' := 0) (ks' := 0) (ci := 3) rfl mwf_J2_size_List (cc_J2_size (zl Z) (zE Z) C _ _ _ (hS)) q596 (zr_lst hC (hS)) hR (by decide) rfl (by simp [Value.category]) dX17_many_4 [] [] [] rfl rfl rfl ⟨by omega, by omega⟩ (zC_F hC (fun e h => Or.inl h)) zC_ok (fun _ _ _ h => h.elim) (fun u4 r4 p4 => ?_)
  obtain ⟨e4, h4⟩ := p4
  subst e4
  exact zi_ireturn hrt dX17_many_9 (hret () _ _ [] [] (⟨rfl, trivial⟩) rfl rfl)
