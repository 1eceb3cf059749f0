/-! SEGMENTS, MATCHES -/
set_option maxRecDepth 100000
theorem fp_ix {a : Int → Int} {g k v : Int} (hk : 0 ≤ k ∧ k < sLen a g 0) (h : ixC (fun i => sWd a g i 0) (sWd a g k 0) (sLen a g 0) v) : v = k ↔ fpP a g k := by
  unfold fpP
  rcases h with ⟨h1, h2⟩ | ⟨h0, h1, h2, h3⟩
  · exact absurd rfl (h2 k hk.1 hk.2)
  · constructor
    · intro q j j0 j1
      exact h3 j j0 (by omega)
    · intro q
      rcases Int.lt_trichotomy v k with e | e | e
      · exact absurd h2 (q v h0 e)
      · exact e
      · exact absurd rfl (h3 k hk.1 e)
theorem mw_X17_many : MWV yX17_many cX17_many 1 (some Jvm.ClassFile.FieldType.int) 0 := ⟨q592, q593, q157, q594, by decide, by decide +kernel, by decide +kernel, by decide +kernel⟩
theorem mwf_J2_get_List : MWF "java/util/ArrayList" ⟨"java/util/List", "get", "(I)Ljava/lang/Object;"⟩ yJ2_get cJ2_get 2 (some (Jvm.ClassFile.FieldType.object "java/lang/Object")) 1 := ⟨by decide +kernel, q411, q413, q122, q415, by decide, by decide +kernel, by decide +kernel, by decide +kernel⟩
set_option maxHeartbeats 4000000 in
theorem cc_X17_stepsTo (l : Launch) (E : ZE) (C : CT0) (a : Int → Int) (x : Nat) (g : Int) (y : Nat) (h : Int) (hsg : segC E C x a g) (hle : (1 ≤ sLen a g 0 ∧ sLen a g 0 ≤ 8) ∧ (1 ≤ sLen a g 1 ∧ sLen a g 1 ≤ 8)) (hsgo : segC E C y a h) (hleo : (1 ≤ sLen a h 0 ∧ sLen a h 0 ≤ 8) ∧ (1 ≤ sLen a h 1 ∧ sLen a h 1 ≤ 8)) : CB l yX17_stepsTo (ws_ yX17_stepsTo cX17_stepsTo 7 (some Jvm.ClassFile.FieldType.int)) 5 (1) (9) E [.ref (x), .ref (y)] C [] (fun (UU : Unit) r => r = some (jI (dstF a g h)) ∧ (0 ≤ dstF a g h ∧ dstF a g h ≤ max (sLen a g 0) (sLen a h 0))) (fun (UU : Unit) => []) (fun (_ : Unit) _ _ => False) (fun _ => []) := by
  refine cb_of (own := RX17) (cc := cX17_stepsTo) (L := [some (.ref (x)), some (.ref (y)), none, none, none, none, none]) (by decide) rfl rfl (Nat.le_of_ble_eq_true rfl) (fun Z hE hl hrt hR hm hnm hret hxc hC hx0 => ?_)
  subst hE
  have hsh := hsg
  obtain ⟨s, t, fu, fv, hX, hS, hSw, hT, hTw⟩ := hsh
  have hsho := hsgo
  obtain ⟨so, to, fuo, fvo, hXo, hSo, hSwo, hTo, hTwo⟩ := hsho
  obtain ⟨X, hXX⟩ : ∃ X : Nat → Int, X = fun i : Nat => sWd a g (i : Int) 0 := ⟨_, rfl⟩
  obtain ⟨Y, hYY⟩ : ∃ Y : Nat → Int, Y = fun i : Nat => sWd a h (i : Int) 0 := ⟨_, rfl⟩
  refine zi_aload_n dX17_stepsTo_0 rfl ?_
  refine bc_V (As := []) (br := []) (kc' := 1) (ks' := 9) mw_X17_many (cc_X17_many (zl Z) (zE Z) C (a) _ (h) (hsgo) (hleo)) q591 (zr_fz (q := (RX17, TX17, 3)) (hC _ (hXo)) rfl) hR (by decide) rfl (by simp [Value.category]) dX17_stepsTo_1 [] [] [] rfl rfl rfl ⟨by omega, by omega⟩ (zC_F hC (fun e h => Or.inl h)) zC_ok (fun _ _ _ h => h.elim) (fun u1 r1 p1 => ?_)
  obtain ⟨e1, h1⟩ := p1
  subst e1
  refine zi_iconst dX17_stepsTo_4 ?_
  refine zi_iadd dX17_stepsTo_5 ?_
  refine zb_newI (kc' := 0) (ks' := (9 - (((sLen a h 0) + 1)).toNat)) q252 (by omega) ⟨by omega, by omega⟩ dX17_stepsTo_6 (fun o6 ho6 => ?_)
  refine zi_shape (bs' := [[(o6, aI (zE Z) ((((sLen a h 0) + 1)).toNat) (fun _ => 0))]]) rfl ?_
  refine zi_astore_2 dX17_stepsTo_8 hm (by decide) rfl ?_
  refine zi_iconst dX17_stepsTo_9 ?_
  refine zi_istore_3 dX17_stepsTo_10 hm (by decide) rfl ?_
  have lp11 : ∀ (N9 : Nat) (r : Int → Int) (x3 : Int), (0 ≤ x3 ∧ x3 ≤ ((sLen a h 0) + 1)) → (∀ j : Int, 0 ≤ j → j < x3 → r j = j) → (((sLen a h 0) + 1) - x3).toNat < N9 → GV RX17 cX17_stepsTo Z (zA Z) (zs Z).heap (List.flatten [[(o6, aI (zE Z) ((((sLen a h 0) + 1)).toNat) (r))]]) 0 (9 - (((sLen a h 0) + 1)).toNat) 11 [some (.ref (x)), some (.ref (y)), some (.ref (o6)), some (jI (x3)), none, none, none] [] := by
    intro N9
    induction N9 with
    | zero => intro r x3 i11_0 i11_1 m11; exact absurd m11 (Nat.not_lt_zero _)
    | succ N9 ih11 =>
      intro r x3 i11_0 i11_1 m11
      refine zi_iload_n dX17_stepsTo_11 rfl ?_
      refine zi_aload_n dX17_stepsTo_12 rfl ?_
      refine zb_alen 0 0 rfl rfl dX17_stepsTo_13 ?_
      refine zi_icmp_ge 27 dX17_stepsTo_14 (by decide) (by omega) (fun c14 => ?_) (fun c14 => ?_)
      · refine zi_iconst dX17_stepsTo_27 ?_
        refine zi_istore_3 dX17_stepsTo_28 hm (by decide) rfl ?_
        have lp29 : ∀ (N9 : Nat) (i : Nat) (r1 : Int → Int) (x3 : Int), (x3 = (i : Int)) → ((i : Int) ≤ sLen a g 0) → (∀ j : Int, 0 ≤ j → j ≤ sLen a h 0 → r1 j = edD X Y i j.toNat) → (sLen a g 0 - x3).toNat < N9 → GV RX17 cX17_stepsTo Z (zA Z) (zs Z).heap (List.flatten [[(o6, aI (zE Z) ((((sLen a h 0) + 1)).toNat) (r1))]]) 0 (9 - (((sLen a h 0) + 1)).toNat) 29 [some (.ref (x)), some (.ref (y)), some (.ref (o6)), some (jI (x3)), none, none, none] [] := by
          intro N9
          induction N9 with
          | zero => intro i r1 x3 i29_0 i29_1 i29_2 m29; exact absurd m29 (Nat.not_lt_zero _)
          | succ N9 ih29 =>
            intro i r1 x3 i29_0 i29_1 i29_2 m29
            refine zi_iload_n dX17_stepsTo_29 rfl ?_
            refine zi_aload_n dX17_stepsTo_30 rfl ?_
            refine bc_V (As := []) (br := [_]) (kc' := 0) (ks' := (9 - (((sLen a h 0) + 1)).toNat)) mw_X17_many (cc_X17_many (zl Z) (zE Z) C (a) _ (g) (hsg) (hle)) q591 (zr_fz (q := (RX17, TX17, 3)) (hC _ (hX)) rfl) hR (by decide) rfl (by simp [Value.category]) dX17_stepsTo_31 [] [0] [] rfl rfl rfl ⟨by omega, by omega⟩ (zC_F hC (fun e h => Or.inl h)) zC_ok (fun _ _ _ h => h.elim) (fun u31 r31 p31 => ?_)
            obtain ⟨e31, h31⟩ := p31
            subst e31
            refine zi_icmp_ge 142 dX17_stepsTo_34 (by decide) (by omega) (fun c34 => ?_) (fun c34 => ?_)
            · refine zi_aload_n dX17_stepsTo_142 rfl ?_
              refine zi_aload_n dX17_stepsTo_143 rfl ?_
              refine zb_alen 0 0 rfl rfl dX17_stepsTo_144 ?_
              refine zi_iconst dX17_stepsTo_145 ?_
              refine zi_isub dX17_stepsTo_146 ?_
              refine zb_ldI 0 rfl (by omega) (by omega) dX17_stepsTo_147 ?_
              have hq9 : r1 (((((sLen a h 0) + 1).toNat : Nat) : Int) - 1) = dstF a g h := by
                rw [i29_2 _ (by omega) (by omega)]
                unfold dstF
                rw [hXX, hYY, show (sLen a g 0).toNat = i by omega, show ((((sLen a h 0) + 1).toNat : Nat) : Int) - 1 = sLen a h 0 by omega]
              exact zi_ireturn hrt dX17_stepsTo_148 (hret () _ _ [] [0] (⟨congrArg (fun z : Int => some (jI z)) hq9, dstF_r (by omega) (by omega)⟩) rfl rfl)
            · refine zi_aload_n dX17_stepsTo_37 rfl ?_
              refine zi_iconst dX17_stepsTo_38 ?_
              refine zb_ldI 0 rfl (by omega) (by omega) dX17_stepsTo_39 ?_
              refine zi_istore_4 dX17_stepsTo_40 hm (by decide) rfl ?_
              refine zi_aload_n dX17_stepsTo_42 rfl ?_
              refine zi_iconst dX17_stepsTo_43 ?_
              refine zi_iload_n dX17_stepsTo_44 rfl ?_
              refine zi_iconst dX17_stepsTo_45 ?_
              refine zi_iadd dX17_stepsTo_46 ?_
              refine zb_stI 0 rfl (by omega) (by omega) dX17_stepsTo_47 ?_
              refine zi_iconst dX17_stepsTo_48 ?_
              refine zi_istore_5 dX17_stepsTo_49 hm (by decide) rfl ?_
              have lp51 : ∀ (N9 : Nat) (k : Nat) (r2 : Int → Int) (x4 : Int) (x5 : Int), (x5 = (k : Int) + 1) → ((k : Int) ≤ sLen a h 0) → (x4 = edD X Y i k) → (∀ j : Int, 0 ≤ j → j ≤ (k : Int) → r2 j = edD X Y (i + 1) j.toNat) → (∀ j : Int, (k : Int) < j → j ≤ sLen a h 0 → r2 j = edD X Y i j.toNat) → (((sLen a h 0) + 1) - x5).toNat < N9 → GV RX17 cX17_stepsTo Z (zA Z) (zs Z).heap (List.flatten [[(o6, aI (zE Z) ((((sLen a h 0) + 1)).toNat) (r2))]]) 0 (9 - (((sLen a h 0) + 1)).toNat) 51 [some (.ref (x)), some (.ref (y)), some (.ref (o6)), some (jI (x3)), some (jI (x4)), some (jI (x5)), none] [] := by
                intro N9
                induction N9 with
                | zero => intro k r2 x4 x5 i51_0 i51_1 i51_2 i51_3 i51_4 m51; exact absurd m51 (Nat.not_lt_zero _)
                | succ N9 ih51 =>
                  intro k r2 x4 x5 i51_0 i51_1 i51_2 i51_3 i51_4 m51
                  refine zi_iload dX17_stepsTo_51 rfl ?_
                  refine zi_aload_n dX17_stepsTo_53 rfl ?_
                  refine zb_alen 0 0 rfl rfl dX17_stepsTo_54 ?_
                  refine zi_icmp_ge 136 dX17_stepsTo_55 (by decide) (by omega) (fun c55 => ?_) (fun c55 => ?_)
                  · refine zi_iinc_3 dX17_stepsTo_136 hm (by decide) rfl ?_
                    refine zi_goto 29 dX17_stepsTo_139 (by decide) ?_
                    refine zi_fg (L2 := [_, _, _, _, none, none, none]) ⟨Or.inr rfl, Or.inr rfl, Or.inr rfl, Or.inr rfl, Or.inl rfl, Or.inl rfl, Or.inl rfl, trivial⟩ ?_
                    refine ih29 (i + 1) (r2) ((x3 + 1)) (by omega) (by omega) ?_ (by omega)
                    · intro j j0 j1
                      exact i51_3 j j0 (by omega)
                  · refine zi_iload dX17_stepsTo_58 rfl ?_
                    refine zi_aload_n dX17_stepsTo_60 rfl ?_
                    refine zf_getf zk_X17 (hC _ (hX)) 1 (by decide) rfl q1519 rfl dX17_stepsTo_61 ?_
                    refine zi_iload_n dX17_stepsTo_64 rfl ?_
                    refine bc_F (As := [_]) (br := [_]) (kc' := 0) (ks' := (9 - (((sLen a h 0) + 1)).toNat)) (ci := 3) rfl mwf_J2_get_List (cc_J2_get (zl Z) (zE Z) C _ ((sLen a g 0)) _ _ (hS) (by omega)) q605 (zr_lst hC (hS)) hR (by decide) rfl (by simp [Value.category]) dX17_stepsTo_65 [] [0] [] rfl rfl rfl ⟨by omega, by omega⟩ (zC_F hC (fun e h => Or.inl h)) zC_ok (fun _ _ _ h => h.elim) (fun u65 r65 p65 => ?_)
                    obtain ⟨e65, h65⟩ := p65
                    subst e65
                    refine zi_castE (zr_wd hC (hSw (x3) (by omega) (by omega))) q606 dX17_stepsTo_70 ?_
                    refine zi_aload_n dX17_stepsTo_73 rfl ?_
                    refine zf_getf zk_X17 (hC _ (hXo)) 1 (by decide) rfl q1519 rfl dX17_stepsTo_74 ?_
                    refine zi_iload dX17_stepsTo_77 rfl ?_
                    refine zi_iconst dX17_stepsTo_79 ?_
                    refine zi_isub dX17_stepsTo_80 ?_
                    refine bc_F (As := [_]) (br := [_]) (kc' := 0) (ks' := (9 - (((sLen a h 0) + 1)).toNat)) (ci := 3) rfl mwf_J2_get_List (cc_J2_get (zl Z) (zE Z) C _ ((sLen a h 0)) _ _ (hSo) (by omega)) q605 (zr_lst hC (hSo)) hR (by decide) rfl (by simp [Value.category]) dX17_stepsTo_81 [] [0] [] rfl rfl rfl ⟨by omega, by omega⟩ (zC_F hC (fun e h => Or.inl h)) zC_ok (fun _ _ _ h => h.elim) (fun u81 r81 p81 => ?_)
                    obtain ⟨e81, h81⟩ := p81
                    subst e81
                    refine bc_V (As := [_]) (br := [_]) (kc' := 0) (ks' := (9 - (((sLen a h 0) + 1)).toNat)) mw_J6_equals (cc_J6_weq (zl Z) (zE Z) C _ _ ((sWd a g (x3) 0)) ((sWd a h ((x5 - 1)) 0)) (hSw (x3) (by omega) (by omega)) (hSwo ((x5 - 1)) (by omega) (by omega))) q607 (zr_wd hC (hSw (x3) (by omega) (by omega))) hR (by decide) rfl (by simp [Value.category]) dX17_stepsTo_86 [] [0] [] rfl rfl rfl ⟨by omega, by omega⟩ (zC_F hC (fun e h => Or.inl h)) zC_ok (fun _ _ _ h => h.elim) (fun u86 r86 p86 => ?_)
                    obtain ⟨e86, h86⟩ := p86
                    subst e86
                    refine zi_if_eqB 96 dX17_stepsTo_89 (by decide) (fun c89 => ?_) (fun c89 => ?_)
                    · have e1 : r2 x5 = edD X Y i (k + 1) := by rw [i51_4 x5 (by omega) (by omega), show x5.toNat = k + 1 by omega]
                      have e2 : r2 (x5 - 1) = edD X Y (i + 1) k := by rw [i51_3 (x5 - 1) (by omega) (by omega), show (x5 - 1).toNat = k by omega]
                      have hw9 : (if X i = Y k then 0 else 1) = (1 : Int) := by
                        rw [if_neg]
                        rw [hXX, hYY]; simp only; rw [show ((i : Nat) : Int) = x3 by omega, show ((k : Nat) : Int) = x5 - 1 by omega]; exact c89
                      have hNew : edD X Y (i + 1) (k + 1) = min (x4 + 1) (min (r2 x5) (r2 (x5 - 1)) + 1) := by
                        simp only [edD]
                        rw [hw9, e1, e2, i51_2]; omega
                      have r1 := edD_r X Y i k
                      have r3 := edD_r X Y i (k + 1)
                      have r4 := edD_r X Y (i + 1) k
                      refine zi_iconst dX17_stepsTo_96 ?_
                      refine zi_iadd dX17_stepsTo_97 ?_
                      refine zi_istore_6 dX17_stepsTo_98 hm (by decide) rfl ?_
                      refine zi_aload_n dX17_stepsTo_100 rfl ?_
                      refine zi_iload dX17_stepsTo_101 rfl ?_
                      refine zb_ldI 0 rfl (by omega) (by omega) dX17_stepsTo_103 ?_
                      refine zi_istore_4 dX17_stepsTo_104 hm (by decide) rfl ?_
                      refine zi_aload_n dX17_stepsTo_106 rfl ?_
                      refine zi_iload dX17_stepsTo_107 rfl ?_
                      refine zi_iload dX17_stepsTo_109 rfl ?_
                      refine zi_aload_n dX17_stepsTo_111 rfl ?_
                      refine zi_iload dX17_stepsTo_112 rfl ?_
                      refine zb_ldI 0 rfl (by omega) (by omega) dX17_stepsTo_114 ?_
                      refine zi_aload_n dX17_stepsTo_115 rfl ?_
                      refine zi_iload dX17_stepsTo_116 rfl ?_
                      refine zi_iconst dX17_stepsTo_118 ?_
                      refine zi_isub dX17_stepsTo_119 ?_
                      refine zb_ldI 0 rfl (by omega) (by omega) dX17_stepsTo_120 ?_
                      refine zi_mmin q616 hR (by decide) (by simp [Value.category]) (by omega) dX17_stepsTo_121 ?_
                      refine zi_iconst dX17_stepsTo_124 ?_
                      refine zi_iadd dX17_stepsTo_125 ?_
                      refine zi_mmin q616 hR (by decide) (by simp [Value.category]) (by omega) dX17_stepsTo_126 ?_
                      refine zb_stI 0 rfl (by omega) (by omega) dX17_stepsTo_129 ?_
                      refine zi_iinc_5 dX17_stepsTo_130 hm (by decide) rfl ?_
                      refine zi_goto 51 dX17_stepsTo_133 (by decide) ?_
                      refine zi_fg (L2 := [_, _, _, _, _, _, none]) ⟨Or.inr rfl, Or.inr rfl, Or.inr rfl, Or.inr rfl, Or.inr rfl, Or.inr rfl, Or.inl rfl, trivial⟩ ?_
                      refine ih51 (k + 1) (zup (r2) (x5) ((min (x4 + 1) ((min ((r2) (x5)) ((r2) ((x5 - 1)))) + 1)))) (((r2) (x5))) ((x5 + 1)) (by omega) (by omega) ?_ ?_ ?_ (by omega)
                      · exact e1
                        
                      · intro j j0 j1
                        by_cases q : j = x5
                        · rw [q, zup_s, show x5.toNat = k + 1 by omega, hNew]
                        · rw [zup_n q]; exact i51_3 j j0 (by omega)
                      · intro j j0 j1
                        rw [zup_n (by omega)]
                        exact i51_4 j (by omega) j1
                    · have e1 : r2 x5 = edD X Y i (k + 1) := by rw [i51_4 x5 (by omega) (by omega), show x5.toNat = k + 1 by omega]
                      have e2 : r2 (x5 - 1) = edD X Y (i + 1) k := by rw [i51_3 (x5 - 1) (by omega) (by omega), show (x5 - 1).toNat = k by omega]
                      have hw9 : (if X i = Y k then 0 else 1) = (0 : Int) := by
                        rw [if_pos]
                        rw [hXX, hYY]; simp only; rw [show ((i : Nat) : Int) = x3 by omega, show ((k : Nat) : Int) = x5 - 1 by omega]; exact c89
                      have hNew : edD X Y (i + 1) (k + 1) = min (x4 + 0) (min (r2 x5) (r2 (x5 - 1)) + 1) := by
                        simp only [edD]
                        rw [hw9, e1, e2, i51_2]; omega
                      have r1 := edD_r X Y i k
                      have r3 := edD_r X Y i (k + 1)
                      have r4 := edD_r X Y (i + 1) k
                      refine zi_iconst dX17_stepsTo_92 ?_
                      refine zi_goto 97 dX17_stepsTo_93 (by decide) ?_
                      refine zi_iadd dX17_stepsTo_97 ?_
                      refine zi_istore_6 dX17_stepsTo_98 hm (by decide) rfl ?_
                      refine zi_aload_n dX17_stepsTo_100 rfl ?_
                      refine zi_iload dX17_stepsTo_101 rfl ?_
                      refine zb_ldI 0 rfl (by omega) (by omega) dX17_stepsTo_103 ?_
                      refine zi_istore_4 dX17_stepsTo_104 hm (by decide) rfl ?_
                      refine zi_aload_n dX17_stepsTo_106 rfl ?_
                      refine zi_iload dX17_stepsTo_107 rfl ?_
                      refine zi_iload dX17_stepsTo_109 rfl ?_
                      refine zi_aload_n dX17_stepsTo_111 rfl ?_
                      refine zi_iload dX17_stepsTo_112 rfl ?_
                      refine zb_ldI 0 rfl (by omega) (by omega) dX17_stepsTo_114 ?_
                      refine zi_aload_n dX17_stepsTo_115 rfl ?_
                      refine zi_iload dX17_stepsTo_116 rfl ?_
                      refine zi_iconst dX17_stepsTo_118 ?_
                      refine zi_isub dX17_stepsTo_119 ?_
                      refine zb_ldI 0 rfl (by omega) (by omega) dX17_stepsTo_120 ?_
                      refine zi_mmin q616 hR (by decide) (by simp [Value.category]) (by omega) dX17_stepsTo_121 ?_
                      refine zi_iconst dX17_stepsTo_124 ?_
                      refine zi_iadd dX17_stepsTo_125 ?_
                      refine zi_mmin q616 hR (by decide) (by simp [Value.category]) (by omega) dX17_stepsTo_126 ?_
                      refine zb_stI 0 rfl (by omega) (by omega) dX17_stepsTo_129 ?_
                      refine zi_iinc_5 dX17_stepsTo_130 hm (by decide) rfl ?_
                      refine zi_goto 51 dX17_stepsTo_133 (by decide) ?_
                      refine zi_fg (L2 := [_, _, _, _, _, _, none]) ⟨Or.inr rfl, Or.inr rfl, Or.inr rfl, Or.inr rfl, Or.inr rfl, Or.inr rfl, Or.inl rfl, trivial⟩ ?_
                      refine ih51 (k + 1) (zup (r2) (x5) ((min (x4 + 0) ((min ((r2) (x5)) ((r2) ((x5 - 1)))) + 1)))) (((r2) (x5))) ((x5 + 1)) (by omega) (by omega) ?_ ?_ ?_ (by omega)
                      · exact e1
                        
                      · intro j j0 j1
                        by_cases q : j = x5
                        · rw [q, zup_s, show x5.toNat = k + 1 by omega, hNew]
                        · rw [zup_n q]; exact i51_3 j j0 (by omega)
                      · intro j j0 j1
                        rw [zup_n (by omega)]
                        exact i51_4 j (by omega) j1
              refine lp51 _ (0) (zup (r1) (0) ((x3 + 1))) (((r1) (0))) (1) (by omega) (by omega) ?_ ?_ ?_ (Nat.lt_succ_self _)
              · exact i29_2 0 (by omega) (by omega)
                
              · intro j j0 j1
                have q : j = 0 := by omega
                subst q
                rw [zup_s]
                simp only [Int.toNat_zero, edD]
                omega
              · intro j j0 j1
                rw [zup_n (by omega)]
                exact i29_2 j (by omega) j1
        refine lp29 _ (0) (r) (0) (by omega) (by omega) ?_ (Nat.lt_succ_self _)
        · intro j j0 j1
          have q := i11_1 j j0 (by omega)
          simp only [edD]
          omega
      · refine zi_aload_n dX17_stepsTo_17 rfl ?_
        refine zi_iload_n dX17_stepsTo_18 rfl ?_
        refine zi_iload_n dX17_stepsTo_19 rfl ?_
        refine zb_stI 0 rfl (by omega) (by omega) dX17_stepsTo_20 ?_
        refine zi_iinc_3 dX17_stepsTo_21 hm (by decide) rfl ?_
        refine zi_goto 11 dX17_stepsTo_24 (by decide) ?_
        refine ih11 (zup (r) (x3) (x3)) ((x3 + 1)) (by omega) ?_ (by omega)
        · intro j j0 j1
          unfold zup
          split
          · omega
          · exact i11_1 j j0 (by omega)
  exact lp11 _ (fun _ => 0) (0) (by omega) (fun j j0 j1 => by omega) (Nat.lt_succ_self _)
theorem mw_X17_stepsTo : MWV yX17_stepsTo cX17_stepsTo 7 (some Jvm.ClassFile.FieldType.int) 1 := ⟨q601, q602, q157, q603, by decide, by decide +kernel, by decide +kernel, by decide +kernel⟩
set_option maxHeartbeats 4000000 in
theorem cc_X17_likenessTo (l : Launch) (E : ZE) (C : CT0) (a : Int → Int) (x : Nat) (g : Int) (y : Nat) (h : Int) (hsg : segC E C x a g) (hle : (1 ≤ sLen a g 0 ∧ sLen a g 0 ≤ 8) ∧ (1 ≤ sLen a g 1 ∧ sLen a g 1 ≤ 8)) (hsgo : segC E C y a h) (hleo : (1 ≤ sLen a h 0 ∧ sLen a h 0 ≤ 8) ∧ (1 ≤ sLen a h 1 ∧ sLen a h 1 ≤ 8)) : CB l yX17_likenessTo (ws_ yX17_likenessTo cX17_likenessTo 3 (some Jvm.ClassFile.FieldType.int)) 6 (1) (9) E [.ref (x), .ref (y)] C [] (fun (UU : Unit) r => r = some (jI (simF a g h)) ∧ (0 ≤ simF a g h ∧ simF a g h ≤ 100)) (fun (UU : Unit) => []) (fun (_ : Unit) _ _ => False) (fun _ => []) := by
  refine cb_of (own := RX17) (cc := cX17_likenessTo) (L := [some (.ref (x)), some (.ref (y)), none]) (by decide) rfl rfl (Nat.le_of_ble_eq_true rfl) (fun Z hE hl hrt hR hm hnm hret hxc hC hx0 => ?_)
  subst hE
  have hsh := hsg
  obtain ⟨s, t, fu, fv, hX, hS, hSw, hT, hTw⟩ := hsh
  have hsho := hsgo
  obtain ⟨so, to, fuo, fvo, hXo, hSo, hSwo, hTo, hTwo⟩ := hsho
  refine zi_aload_n dX17_likenessTo_0 rfl ?_
  refine bc_V (As := []) (br := []) (kc' := 1) (ks' := 9) mw_X17_many (cc_X17_many (zl Z) (zE Z) C (a) _ (g) (hsg) (hle)) q591 (zr_fz (q := (RX17, TX17, 3)) (hC _ (hX)) rfl) hR (by decide) rfl (by simp [Value.category]) dX17_likenessTo_1 [] [] [] rfl rfl rfl ⟨by omega, by omega⟩ (zC_F hC (fun e h => Or.inl h)) zC_ok (fun _ _ _ h => h.elim) (fun u1 r1 p1 => ?_)
  obtain ⟨e1, h1⟩ := p1
  subst e1
  refine zi_aload_n dX17_likenessTo_4 rfl ?_
  refine bc_V (As := []) (br := []) (kc' := 1) (ks' := 9) mw_X17_many (cc_X17_many (zl Z) (zE Z) C (a) _ (h) (hsgo) (hleo)) q591 (zr_fz (q := (RX17, TX17, 3)) (hC _ (hXo)) rfl) hR (by decide) rfl (by simp [Value.category]) dX17_likenessTo_5 [] [] [] rfl rfl rfl ⟨by omega, by omega⟩ (zC_F hC (fun e h => Or.inl h)) zC_ok (fun _ _ _ h => h.elim) (fun u5 r5 p5 => ?_)
  obtain ⟨e5, h5⟩ := p5
  subst e5
  refine zi_mmax q597 hR (by decide) (by simp [Value.category]) (by omega) dX17_likenessTo_8 ?_
  refine zi_istore_2 dX17_likenessTo_11 hm (by decide) rfl ?_
  refine zi_bipush dX17_likenessTo_12 (by decide +kernel) ?_
  refine zi_iload_n dX17_likenessTo_14 rfl ?_
  refine zi_aload_n dX17_likenessTo_15 rfl ?_
  refine zi_aload_n dX17_likenessTo_16 rfl ?_
  refine bc_V (As := [_]) (br := []) (kc' := 0) (ks' := 0) mw_X17_stepsTo (cc_X17_stepsTo (zl Z) (zE Z) C (a) _ (g) _ (h) (hsg) (hle) (hsgo) (hleo)) q600 (zr_fz (q := (RX17, TX17, 3)) (hC _ (hX)) rfl) hR (by decide) rfl (by simp [Value.category]) dX17_likenessTo_17 [] [] [] rfl rfl rfl ⟨by omega, by omega⟩ (zC_F hC (fun e h => Or.inl h)) zC_ok (fun _ _ _ h => h.elim) (fun u17 r17 p17 => ?_)
  obtain ⟨e17, h17⟩ := p17
  subst e17
  refine zi_isub dX17_likenessTo_20 ?_
  refine zi_imul dX17_likenessTo_21 ?_
  refine zi_iload_n dX17_likenessTo_22 rfl ?_
  refine zi_idiv dX17_likenessTo_23 (by omega) ?_
  exact zi_ireturn hrt dX17_likenessTo_24 (hret () _ _ [] [] (⟨rfl, simF_r (by omega) (by omega)⟩) rfl rfl)
theorem mwf_J2_indexOf_List : MWF "java/util/ArrayList" ⟨"java/util/List", "indexOf", "(Ljava/lang/Object;)I"⟩ yJ2_indexOf cJ2_indexOf 2 (some Jvm.ClassFile.FieldType.int) 1 := ⟨by decide +kernel, q1284, q1286, q122, q1288, by decide, by decide +kernel, by decide +kernel, by decide +kernel⟩
set_option maxHeartbeats 4000000 in
theorem cc_X17_isFirstPlace (l : Launch) (E : ZE) (C : CT0) (a : Int → Int) (x : Nat) (g : Int) (k : Int) (hsg : segC E C x a g) (hle : (1 ≤ sLen a g 0 ∧ sLen a g 0 ≤ 8) ∧ (1 ≤ sLen a g 1 ∧ sLen a g 1 ≤ 8)) (hk : 0 ≤ k ∧ k < sLen a g 0) : CB l yX17_isFirstPlace (ws_ yX17_isFirstPlace cX17_isFirstPlace 2 (some Jvm.ClassFile.FieldType.boolean)) 7 (0) (0) E [.ref (x), jI (k)] C [] (fun (UU : Unit) r => r = some (jI (bI (fpP a g k))) ∧ (True)) (fun (UU : Unit) => []) (fun (_ : Unit) _ _ => False) (fun _ => []) := by
  refine cb_of (own := RX17) (cc := cX17_isFirstPlace) (L := [some (.ref (x)), some (jI (k))]) (by decide) rfl rfl (Nat.le_of_ble_eq_true rfl) (fun Z hE hl hrt hR hm hnm hret hxc hC hx0 => ?_)
  subst hE
  have hsh := hsg
  obtain ⟨s, t, fu, fv, hX, hS, hSw, hT, hTw⟩ := hsh
  refine zi_aload_n dX17_isFirstPlace_0 rfl ?_
  refine zf_getf zk_X17 (hC _ (hX)) 1 (by decide) rfl q1519 rfl dX17_isFirstPlace_1 ?_
  refine zi_aload_n dX17_isFirstPlace_4 rfl ?_
  refine zf_getf zk_X17 (hC _ (hX)) 1 (by decide) rfl q1519 rfl dX17_isFirstPlace_5 ?_
  refine zi_iload_n dX17_isFirstPlace_8 rfl ?_
  refine bc_F (As := [_]) (br := []) (kc' := 0) (ks' := 0) (ci := 3) rfl mwf_J2_get_List (cc_J2_get (zl Z) (zE Z) C _ ((sLen a g 0)) _ _ (hS) (by omega)) q605 (zr_lst hC (hS)) hR (by decide) rfl (by simp [Value.category]) dX17_isFirstPlace_9 [] [] [] rfl rfl rfl ⟨by omega, by omega⟩ (zC_F hC (fun e h => Or.inl h)) zC_ok (fun _ _ _ h => h.elim) (fun u9 r9 p9 => ?_)
  obtain ⟨e9, h9⟩ := p9
  subst e9
  refine bc_F (As := [_]) (br := []) (kc' := 0) (ks' := 0) (ci := 3) rfl mwf_J2_indexOf_List (cc_J2_windexOf (zl Z) (zE Z) C _ ((sLen a g 0)) (fu) _ (fun i => (sWd a g (i) 0)) ((sWd a g (k) 0)) (hS) (hSw) (hSw (k) (by omega) (by omega))) q1692 (zr_lst hC (hS)) hR (by decide) rfl (by simp [Value.category]) dX17_isFirstPlace_14 [] [] [] rfl rfl rfl ⟨by omega, by omega⟩ (zC_F hC (fun e h => Or.inl h)) zC_ok (fun _ _ _ h => h.elim) (fun u14 r14 p14 => ?_)
  obtain ⟨e14, h14⟩ := p14
  subst e14
  refine zi_iload_n dX17_isFirstPlace_19 rfl ?_
  have hfp := fp_ix hk h14
  have hrv : -1 ≤ u14 ∧ u14 < sLen a g 0 := by rcases h14 with q | q <;> omega
  refine zi_icmp_ne 27 dX17_isFirstPlace_20 (by decide) (by omega) (fun c20 => ?_) (fun c20 => ?_)
  · refine zi_iconst dX17_isFirstPlace_27 ?_
    exact zi_zreturn hrt (z_nb (by first | exact Or.inl rfl | exact Or.inr rfl | exact bI_01 _)) dX17_isFirstPlace_28 (hret () _ _ [] [] (by first | exact ⟨congrArg (fun z => some (jI z)) (bI_1 (hfp.mp c20)), trivial⟩ | exact ⟨congrArg (fun z => some (jI z)) (bI_0 (fun q => c20 (hfp.mpr q))), trivial⟩) rfl rfl)
  · refine zi_iconst dX17_isFirstPlace_23 ?_
    refine zi_goto 28 dX17_isFirstPlace_24 (by decide) ?_
    exact zi_zreturn hrt (z_nb (by first | exact Or.inl rfl | exact Or.inr rfl | exact bI_01 _)) dX17_isFirstPlace_28 (hret () _ _ [] [] (by first | exact ⟨congrArg (fun z => some (jI z)) (bI_1 (hfp.mp c20)), trivial⟩ | exact ⟨congrArg (fun z => some (jI z)) (bI_0 (fun q => c20 (hfp.mpr q))), trivial⟩) rfl rfl)
theorem mw_X17_likenessTo : MWV yX17_likenessTo cX17_likenessTo 3 (some Jvm.ClassFile.FieldType.int) 1 := ⟨q588, q589, q157, q590, by decide, by decide +kernel, by decide +kernel, by decide +kernel⟩
set_option maxHeartbeats 4000000 in
theorem cc_X2_modelOf (l : Launch) (E : ZE) (C : CT0) (o : Nat) (a : Int → Int) (g : Int) (hof : offC E C o a) (hg : 0 ≤ g ∧ g < a 66) : CB l yX2_modelOf (ws_ yX2_modelOf cX2_modelOf 6 (some Jvm.ClassFile.FieldType.int)) 7 (21) (189) E [.ref (o), jI (g)] C [] (fun (UU : Unit) r => r = some (jI (mdF a g)) ∧ (-1 ≤ mdF a g ∧ mdF a g < g)) (fun (UU : Unit) => []) (fun (_ : Unit) _ _ => False) (fun _ => []) := by
  refine cb_of (own := RX2) (cc := cX2_modelOf) (L := [some (.ref (o)), some (jI (g)), none, none, none, none]) (by decide) rfl rfl (Nat.le_of_ble_eq_true rfl) (fun Z hE hl hrt hR hm hnm hret hxc hC hx0 => ?_)
  subst hE
  have hof0 := hof
  obtain ⟨hok, ad, F, hO, ⟨hL1, hL2, hL3, hL4, hL5⟩, ⟨hE1, hE2, hE3, hE4⟩, hJb, hSt, hPc⟩ := hof0
  have hcn := hok.cnt
  have hst := hok.set
  refine zi_iconst dX2_modelOf_0 ?_
  refine zi_istore_2 dX2_modelOf_1 hm (by decide) rfl ?_
  refine zi_iconst dX2_modelOf_2 ?_
  refine zi_istore_3 dX2_modelOf_3 hm (by decide) rfl ?_
  refine zi_iconst dX2_modelOf_4 ?_
  refine zi_istore_4 dX2_modelOf_5 hm (by decide) rfl ?_
  have lp7 : ∀ (N9 : Nat) (k : Nat) (x2 : Int) (x3 : Int) (x4 : Int), (x4 = (k : Int)) → (x4 ≤ g) → (x2 = (mdI a g k).1) → (x3 = (mdI a g k).2) → (0 ≤ x3 ∧ x3 ≤ 100) → (g - x4).toNat < N9 → GV RX2 cX2_modelOf Z (zA Z) (zs Z).heap (List.flatten []) (0 + N9 * 1) (0 + N9 * 9) 7 [some (.ref (o)), some (jI (g)), some (jI (x2)), some (jI (x3)), some (jI (x4)), none] [] := by
    intro N9
    induction N9 with
    | zero => intro k x2 x3 x4 i7_0 i7_1 i7_2 i7_3 i7_4 m7; exact absurd m7 (Nat.not_lt_zero _)
    | succ N9 ih7 =>
      intro k x2 x3 x4 i7_0 i7_1 i7_2 i7_3 i7_4 m7
      refine zi_iload dX2_modelOf_7 rfl ?_
      refine zi_iload_n dX2_modelOf_9 rfl ?_
      refine zi_icmp_ge 71 dX2_modelOf_10 (by decide) (by omega) (fun c10 => ?_) (fun c10 => ?_)
      · refine zi_iload_n dX2_modelOf_71 rfl ?_
        exact zi_ireturn hrt dX2_modelOf_72 (hret () _ _ [] [] (⟨congrArg (fun z : Int => some (jI z)) (by rw [i7_2]; unfold mdF; rw [show g.toNat = k by omega]), mdF_r hg.1⟩) rfl rfl)
      · refine zi_aload_n dX2_modelOf_13 rfl ?_
        refine zf_getf zk_X2 (hC _ (hO)) 4 (by decide) rfl q227 rfl dX2_modelOf_14 ?_
        refine zi_iload_n dX2_modelOf_17 rfl ?_
        refine bc_F (As := [_]) (br := []) (kc' := (0 + (N9 + 1) * 1)) (ks' := (0 + (N9 + 1) * 9)) (ci := 3) rfl mwf_J2_get_List (cc_J2_get (zl Z) (zE Z) C _ ((a 66)) _ _ (hL5) (by omega)) q585 (zr_lst hC (hL5)) hR (by decide) rfl (by simp [Value.category]) dX2_modelOf_18 [] [] [] rfl rfl rfl ⟨by omega, by omega⟩ (zC_F hC (fun e h => Or.inl h)) zC_ok (fun _ _ _ h => h.elim) (fun u18 r18 p18 => ?_)
        obtain ⟨e18, h18⟩ := p18
        subst e18
        have hgz18 := hE4 (g) (by omega) (by omega)
        have hlez18 := (hok.seg (g) (by omega) (by omega)).2
        have hjz18 := (hok.seg (g) (by omega) (by omega)).1
        have hhz18 := hgz18
        obtain ⟨sz18, tz18, fuz18, fvz18, hXz18, hSz18, hSwz18, hTz18, hTwz18⟩ := hhz18
        refine zi_castE (zr_fz (q := (RX17, TX17, 3)) (hC _ (hXz18)) rfl) q586 dX2_modelOf_23 ?_
        refine zi_aload_n dX2_modelOf_26 rfl ?_
        refine zf_getf zk_X2 (hC _ (hO)) 4 (by decide) rfl q227 rfl dX2_modelOf_27 ?_
        refine zi_iload dX2_modelOf_30 rfl ?_
        refine bc_F (As := [_]) (br := []) (kc' := (0 + (N9 + 1) * 1)) (ks' := (0 + (N9 + 1) * 9)) (ci := 3) rfl mwf_J2_get_List (cc_J2_get (zl Z) (zE Z) C _ ((a 66)) _ _ (hL5) (by omega)) q585 (zr_lst hC (hL5)) hR (by decide) rfl (by simp [Value.category]) dX2_modelOf_32 [] [] [] rfl rfl rfl ⟨by omega, by omega⟩ (zC_F hC (fun e h => Or.inl h)) zC_ok (fun _ _ _ h => h.elim) (fun u32 r32 p32 => ?_)
        obtain ⟨e32, h32⟩ := p32
        subst e32
        have hgz32 := hE4 (x4) (by omega) (by omega)
        have hlez32 := (hok.seg (x4) (by omega) (by omega)).2
        have hjz32 := (hok.seg (x4) (by omega) (by omega)).1
        have hhz32 := hgz32
        obtain ⟨sz32, tz32, fuz32, fvz32, hXz32, hSz32, hSwz32, hTz32, hTwz32⟩ := hhz32
        refine zi_castE (zr_fz (q := (RX17, TX17, 3)) (hC _ (hXz32)) rfl) q586 dX2_modelOf_37 ?_
        refine bc_V (As := [_]) (br := []) (kc' := ((0 + (N9 + 1) * 1) - 1)) (ks' := ((0 + (N9 + 1) * 9) - 9)) mw_X17_likenessTo (cc_X17_likenessTo (zl Z) (zE Z) C (a) _ ((g)) _ ((x4)) (hgz18) (hlez18) (hgz32) (hlez32)) q587 (zr_fz (q := (RX17, TX17, 3)) (hC _ (hXz18)) rfl) hR (by decide) rfl (by simp [Value.category]) dX2_modelOf_40 [] [] [] rfl rfl rfl ⟨by omega, by omega⟩ (zC_F hC (fun e h => Or.inl h)) zC_ok (fun _ _ _ h => h.elim) (fun u40 r40 p40 => ?_)
        obtain ⟨e40, h40⟩ := p40
        subst e40
        refine zi_istore_5 dX2_modelOf_43 hm (by decide) rfl ?_
        refine zi_iload dX2_modelOf_45 rfl ?_
        refine zi_iload_n dX2_modelOf_47 rfl ?_
        refine zi_icmp_lt 56 dX2_modelOf_48 (by decide) (by omega) (fun c48 => ?_) (fun c48 => ?_)
        · refine zi_iload_n dX2_modelOf_56 rfl ?_
          refine zi_istore_2 dX2_modelOf_57 hm (by decide) rfl ?_
          refine zi_iload_n dX2_modelOf_58 rfl ?_
          refine zi_iload dX2_modelOf_59 rfl ?_
          refine zi_mmax q619 hR (by decide) (by simp [Value.category]) (by omega) dX2_modelOf_61 ?_
          refine zi_istore_3 dX2_modelOf_64 hm (by decide) rfl ?_
          refine zi_iinc_4 dX2_modelOf_65 hm (by decide) rfl ?_
          refine zi_goto 7 dX2_modelOf_68 (by decide) ?_
          refine zi_fg (L2 := [_, _, _, _, _, none]) ⟨Or.inr rfl, Or.inr rfl, Or.inr rfl, Or.inr rfl, Or.inr rfl, Or.inl rfl, trivial⟩ ?_
          refine zi_widen (kc' := (0 + N9 * 1)) (ks' := (0 + N9 * 9)) ⟨by omega, by omega⟩ ?_
          refine ih7 (k + 1) (x2) ((max x3 (simF a (g) (x4)))) ((x4 + 1)) (by omega) (by omega) ?_ ?_ (by omega) (by omega)
          · simp only [mdI]
            rw [← i7_0, ← i7_3]
            first
              | (rw [if_pos (by omega)]; done)
              | (rw [if_pos (by omega)])
              | (rw [if_neg (by omega)]; exact i7_2)
          · simp only [mdI]
            rw [← i7_0, ← i7_3]
            first
              | (rw [if_pos (by omega)]; dsimp only; omega)
              | (rw [if_neg (by omega)]; omega)
        · refine zi_iload dX2_modelOf_51 rfl ?_
          refine zi_goto 57 dX2_modelOf_53 (by decide) ?_
          refine zi_istore_2 dX2_modelOf_57 hm (by decide) rfl ?_
          refine zi_iload_n dX2_modelOf_58 rfl ?_
          refine zi_iload dX2_modelOf_59 rfl ?_
          refine zi_mmax q619 hR (by decide) (by simp [Value.category]) (by omega) dX2_modelOf_61 ?_
          refine zi_istore_3 dX2_modelOf_64 hm (by decide) rfl ?_
          refine zi_iinc_4 dX2_modelOf_65 hm (by decide) rfl ?_
          refine zi_goto 7 dX2_modelOf_68 (by decide) ?_
          refine zi_fg (L2 := [_, _, _, _, _, none]) ⟨Or.inr rfl, Or.inr rfl, Or.inr rfl, Or.inr rfl, Or.inr rfl, Or.inl rfl, trivial⟩ ?_
          refine zi_widen (kc' := (0 + N9 * 1)) (ks' := (0 + N9 * 9)) ⟨by omega, by omega⟩ ?_
          refine ih7 (k + 1) (x4) ((max x3 (simF a (g) (x4)))) ((x4 + 1)) (by omega) (by omega) ?_ ?_ (by omega) (by omega)
          · simp only [mdI]
            rw [← i7_0, ← i7_3]
            first
              | (rw [if_pos (by omega)]; done)
              | (rw [if_pos (by omega)])
              | (rw [if_neg (by omega)]; exact i7_2)
          · simp only [mdI]
            rw [← i7_0, ← i7_3]
            first
              | (rw [if_pos (by omega)]; dsimp only; omega)
              | (rw [if_neg (by omega)]; omega)
  refine zi_widen (kc' := (0 + ((g.toNat + 1)) * 1)) (ks' := (0 + ((g.toNat + 1)) * 9)) ⟨by omega, by omega⟩ ?_
  exact lp7 (g.toNat + 1) (0) (-1) (0) (0) (by omega) (by omega) (by rfl) (by rfl) (by omega) (by omega)
