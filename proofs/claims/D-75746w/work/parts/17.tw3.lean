/-! THE REFERENCE: rows, bands, pay -/
set_option maxRecDepth 100000
theorem mw_X3_layBands : MWV yX3_layBands cX3_layBands 3 none 1 := ⟨q2868, qs94, q128, q2869, by decide, by decide +kernel, by decide +kernel, by decide +kernel⟩
set_option maxHeartbeats 4000000 in
theorem tc_layBands (l : Launch) (E : ZE) (o : Nat) (ad : Nat → Nat) (σ : TS) (a : Int → Int) (ha : σ 0 = a) (j : Int) (hok : OkA a) (hj : -2147483648 ≤ j ∧ j < 2147483648) : TCv l yX3_layBands (ws_ yX3_layBands cX3_layBands 3 none) 7 E o ad σ [.ref o, jI j] (fun τ => eqx [18, 19] σ τ ∧ (∀ b : Int, 0 ≤ b → b < 5 → τ 19 b = bnF a j b)) := by
  refine tcv_of (own := RX3) (cc := cX3_layBands) (L := [some (.ref o), some (jI j), none]) (by decide) rfl rfl (Nat.le_of_ble_eq_true rfl) (fun Z hE hl hrt hR hm hret => ?_)
  subst hE
  have x0 : eqx [18, 19] σ σ := eqx_rf
  have hc := hok.cnt
  refine zi_iconst dX3_layBands_0 ?_
  refine zi_istore_2 dX3_layBands_1 hm (by decide) rfl ?_
  have lp2 : ∀ (n : Nat) (x2 : Int) (τ2 : TS), (eqx [18, 19] σ τ2) → (0 ≤ x2 ∧ x2 ≤ 5) → (∀ b : Int, 0 ≤ b → b < x2 → τ2 19 b = 0) → (5 - x2).toNat < n → GV RX3 cX3_layBands Z (zA Z) (zs Z).heap (twW (zE Z) o ad τ2) 0 0 2 [some (.ref o), some (jI j), some (jI x2)] [] := by
    intro n
    induction n with
    | zero => intro x2 τ2 y2 i2_0 i2_1 m2; exact absurd m2 (Nat.not_lt_zero _)
    | succ n ih2 =>
      intro x2 τ2 y2 i2_0 i2_1 m2
      have ha2 : τ2 0 = a := (y2 0 (by decide)).trans ha
      refine zi_iload_n dX3_layBands_2 rfl ?_
      refine zi_iconst dX3_layBands_3 ?_
      refine zi_icmp_ge 20 dX3_layBands_4 (by decide) (by omega) (fun c4 => ?_) (fun c4 => ?_)
      · refine zi_iconst dX3_layBands_20 ?_
        refine zi_istore_2 dX3_layBands_21 hm (by decide) rfl ?_
        have lp22 : ∀ (n : Nat) (k : Nat) (x2 : Int) (τ22 : TS), (eqx [18, 19] σ τ22) → (x2 = (k : Int)) → (x2 ≤ a 66) → (∀ b : Int, 0 ≤ b → b < 5 → τ22 19 b = bnI a j k b) → (a 66 - x2).toNat < n → GV RX3 cX3_layBands Z (zA Z) (zs Z).heap (twW (zE Z) o ad τ22) 0 0 22 [some (.ref o), some (jI j), some (jI x2)] [] := by
          intro n
          induction n with
          | zero => intro k x2 τ22 y22 i22_0 i22_1 i22_2 m22; exact absurd m22 (Nat.not_lt_zero _)
          | succ n ih22 =>
            intro k x2 τ22 y22 i22_0 i22_1 i22_2 m22
            have ha22 : τ22 0 = a := (y22 0 (by decide)).trans ha
            refine zi_iload_n dX3_layBands_22 rfl ?_
            refine zi_aload_n dX3_layBands_23 rfl ?_
            refine zt_PVi0 mw_X3_segments rfl (tc_segments (zl Z) (zE Z) _ _ _ _ ha22  (hok)) q2700 hR (by decide) (by simp [Value.category]) dX3_layBands_24 (fun v24 h24 => ?_)
            refine zi_icmp_ge 64 dX3_layBands_27 (by decide) (by omega) (fun c27 => ?_) (fun c27 => ?_)
            · exact zi_return hrt dX3_layBands_64 (hret _ ⟨y22, by intro b q1 q2; rw [i22_2 b q1 q2]; unfold bnF; rw [show (a 66).toNat = k by omega]⟩)
            · refine zi_aload_n dX3_layBands_30 rfl ?_
              refine zi_iload_n dX3_layBands_31 rfl ?_
              refine zt_PVi1 mw_X3_jobNow rfl (tc_jobNow (zl Z) (zE Z) _ _ _ _ ha22 _ (hok) (by omega) (by omega)) q2712 hR (by decide) (by simp [Value.category]) dX3_layBands_32 (fun v32 h32 => ?_)
              refine zi_iload_n dX3_layBands_35 rfl ?_
              refine zi_icmp_ne 58 dX3_layBands_36 (by decide) (by omega) (fun c36 => ?_) (fun c36 => ?_)
              · refine zi_iinc_2 dX3_layBands_58 hm (by decide) rfl ?_
                refine zi_goto 22 dX3_layBands_61 (by decide) ?_
                refine ih22 (k + 1) _ _ y22 (by omega) (by omega) ?_ (by omega)
                · intro b q1 q2
                  simp only [bnI]
                  first
                    | (rw [if_neg (by rw [← i22_0]; omega)]; exact i22_2 b q1 q2)
                    | (rw [if_pos (by rw [← i22_0]; omega), eτ22, up_s]; unfold zup; rw [← i22_0, ← h45.1]; split
                       · rw [hu, i22_2 v45 (by omega) (by omega), ← h53.1]
                       · rw [hu]; exact i22_2 b q1 q2)
              · refine zi_aload_n dX3_layBands_39 rfl ?_
                refine zt_g19 q2450 dX3_layBands_40 ?_
                refine zi_aload_n dX3_layBands_43 rfl ?_
                refine zi_iload_n dX3_layBands_44 rfl ?_
                refine zt_Vi1 mw_X3_bandOf rfl (tc_bandOf (zl Z) (zE Z) _ _ _ _ ha22 _ (hok) (by omega) (by omega)) q2770 hR (by decide) (by simp [Value.category]) dX3_layBands_45 (fun τ45_0 v45 wτ45_0 => ?_)
                obtain ⟨qτ45_0, h45⟩ := wτ45_0
                have xτ45_0 : eqx [18, 19] σ τ45_0 := eqx_tr y22 (eqx_mono qτ45_0 (by decide))
                have haτ45_0 : τ45_0 0 = a := (xτ45_0 0 (by decide)).trans ha
                have hu : ∀ b : Int, τ45_0 19 b = τ22 19 b := fun b => by rw [qτ45_0 19 (by decide)]
                refine zi_dup2 dX3_layBands_48 rfl rfl ?_
                refine zt_ld19 dX3_layBands_49 (rfl) (by omega) ?_
                refine zi_aload_n dX3_layBands_50 rfl ?_
                refine zi_iload_n dX3_layBands_51 rfl ?_
                refine zi_iconst dX3_layBands_52 ?_
                refine zt_PVi2 mw_X3_wordsOf rfl (tc_wordsOf (zl Z) (zE Z) _ _ _ _ haτ45_0 _ _ (hok) (by omega) (by omega) (by omega)) q2720 hR (by decide) (by simp [Value.category]) dX3_layBands_53 (fun v53 h53 => ?_)
                refine zi_iadd dX3_layBands_56 ?_
                refine zt_st19 dX3_layBands_57 (by omega) (fun τ57_1 eτ57_1 => ?_)
                have gτ57_1 := up_get eτ57_1
                have xτ57_1 : eqx [18, 19] σ τ57_1 := by rw [eτ57_1]; exact eqx_up xτ45_0 (by decide)
                have haτ57_1 : τ57_1 0 = a := (xτ57_1 0 (by decide)).trans ha
                refine zi_iinc_2 dX3_layBands_58 hm (by decide) rfl ?_
                refine zi_goto 22 dX3_layBands_61 (by decide) ?_
                refine ih22 (k + 1) _ _ xτ57_1 (by omega) (by omega) ?_ (by omega)
                · intro b q1 q2
                  simp only [bnI]
                  first
                    | (rw [if_neg (by rw [← i22_0]; omega)]; exact i22_2 b q1 q2)
                    | (rw [if_pos (by rw [← i22_0]; omega), eτ57_1, up_s]; unfold zup; rw [← i22_0, ← h45.1]; split
                       · rw [hu, i22_2 v45 (by omega) (by omega), ← h53.1]
                       · rw [hu]; exact i22_2 b q1 q2)
        exact lp22 _ (0) _ _ y2 (by omega) (by omega) (by intro b q1 q2; simp only [bnI]; exact i2_1 b q1 (by omega)) (Nat.lt_succ_self _)
      · refine zi_aload_n dX3_layBands_7 rfl ?_
        refine zt_g19 q2450 dX3_layBands_8 ?_
        refine zi_iload_n dX3_layBands_11 rfl ?_
        refine zi_iconst dX3_layBands_12 ?_
        refine zt_st19 dX3_layBands_13 (by omega) (fun τ13_2 eτ13_2 => ?_)
        have gτ13_2 := up_get eτ13_2
        have xτ13_2 : eqx [18, 19] σ τ13_2 := by rw [eτ13_2]; exact eqx_up y2 (by decide)
        have haτ13_2 : τ13_2 0 = a := (xτ13_2 0 (by decide)).trans ha
        refine zi_iinc_2 dX3_layBands_14 hm (by decide) rfl ?_
        refine zi_goto 2 dX3_layBands_17 (by decide) ?_
        exact ih2 _ _ xτ13_2 (by omega) (by intro b q1 q2; rw [eτ13_2, up_s]; unfold zup; split <;> first | rfl | exact i2_1 b q1 (by omega)) (by omega)
  exact lp2 _ _ _ x0 (by omega) (by intro b q1 q2; omega) (Nat.lt_succ_self _)
theorem mw_X3_isSameRow : MWV yX3_isSameRow cX3_isSameRow 6 (some Jvm.ClassFile.FieldType.boolean) 3 := ⟨q2754, qs80, q128, q2755, by decide, by decide +kernel, by decide +kernel, by decide +kernel⟩
set_option maxHeartbeats 4000000 in
theorem tc_isSameRow (l : Launch) (E : ZE) (o : Nat) (ad : Nat → Nat) (σ : TS) (a : Int → Int) (ha : σ 0 = a) (g : Int) (h : Int) (t : Int) (hok : OkA a) (hg0 : 0 ≤ g) (hg1 : g < a 66) (hh0 : 0 ≤ h) (hh1 : h < a 66) (ht : -2147483648 ≤ t ∧ t < 2147483648) : TCi l yX3_isSameRow (ws_ yX3_isSameRow cX3_isSameRow 6 (some Jvm.ClassFile.FieldType.boolean)) 2 E o ad σ [.ref o, jI g, jI h, jI t] (fun τ v => τ = σ ∧ (v = bI (smR a g h t))) := by
  refine tci_of (own := RX3) (cc := cX3_isSameRow) (L := [some (.ref o), some (jI g), some (jI h), some (jI t), none, none]) (by decide) rfl rfl (Nat.le_of_ble_eq_true rfl) (fun Z hE hl hrt hR hm hret => ?_)
  subst hE
  have hc := hok.cnt
  refine zi_aload_n dX3_isSameRow_0 rfl ?_
  refine zi_iload_n dX3_isSameRow_1 rfl ?_
  refine zi_iload_n dX3_isSameRow_2 rfl ?_
  refine zt_PVi2 mw_X3_wordsOf rfl (tc_wordsOf (zl Z) (zE Z) _ _ _ _ ha _ _ (hok) (by omega) (by omega) (by omega)) q2720 hR (by decide) (by simp [Value.category]) dX3_isSameRow_3 (fun v3 h3 => ?_)
  refine zi_aload_n dX3_isSameRow_6 rfl ?_
  refine zi_iload_n dX3_isSameRow_7 rfl ?_
  refine zi_iload_n dX3_isSameRow_8 rfl ?_
  refine zt_PVi2 mw_X3_wordsOf rfl (tc_wordsOf (zl Z) (zE Z) _ _ _ _ ha _ _ (hok) (by omega) (by omega) (by omega)) q2720 hR (by decide) (by simp [Value.category]) dX3_isSameRow_9 (fun v9 h9 => ?_)
  refine zi_icmp_ne 19 dX3_isSameRow_12 (by decide) (by omega) (fun c12 => ?_) (fun c12 => ?_)
  · refine zi_iconst dX3_isSameRow_19 ?_
    refine zi_istore_4 dX3_isSameRow_20 hm (by decide) rfl ?_
    refine zi_iconst dX3_isSameRow_22 ?_
    refine zi_istore_5 dX3_isSameRow_23 hm (by decide) rfl ?_
    have lp25 : ∀ (n : Nat) (k : Nat) (x4 : Int) (x5 : Int), (x5 = (k : Int)) → (x5 ≤ sLen a g t) → (x4 = 0 ∨ x4 = 1) → (x4 = 1 ↔ (sLen a g t = sLen a h t ∧ ∀ j : Int, 0 ≤ j → j < (k : Int) → sWd a g j t = sWd a h j t)) → (sLen a g t - x5).toNat < n → GV RX3 cX3_isSameRow Z (zA Z) (zs Z).heap (twW (zE Z) o ad σ) 0 0 25 [some (.ref o), some (jI g), some (jI h), some (jI t), some (jI x4), some (jI x5)] [] := by
      intro n
      induction n with
      | zero => intro k x4 x5 i25_0 i25_1 i25_2 i25_3 m25; exact absurd m25 (Nat.not_lt_zero _)
      | succ n ih25 =>
        intro k x4 x5 i25_0 i25_1 i25_2 i25_3 m25
        refine zi_iload dX3_isSameRow_25 rfl ?_
        refine zi_aload_n dX3_isSameRow_27 rfl ?_
        refine zi_iload_n dX3_isSameRow_28 rfl ?_
        refine zi_iload_n dX3_isSameRow_29 rfl ?_
        refine zt_PVi2 mw_X3_wordsOf rfl (tc_wordsOf (zl Z) (zE Z) _ _ _ _ ha _ _ (hok) (by omega) (by omega) (by omega)) q2720 hR (by decide) (by simp [Value.category]) dX3_isSameRow_30 (fun v30 h30 => ?_)
        refine zi_icmp_ge 74 dX3_isSameRow_33 (by decide) (by omega) (fun c33 => ?_) (fun c33 => ?_)
        · refine zi_iload dX3_isSameRow_74 rfl ?_
          refine zi_zreturn hrt (z_nb (i25_2)) dX3_isSameRow_76 (hret _ _ ⟨rfl, ?_⟩)
          · rcases i25_2 with q | q
            · rw [q]; exact bI_0 (fun w => by have := i25_3.mpr ⟨w.1, fun j q1 q2 => w.2 j q1 (by omega)⟩; omega)
            · rw [q]; have w := i25_3.mp q; exact bI_1 ⟨w.1, fun j q1 q2 => w.2 j q1 (by omega)⟩
        · refine zi_iload dX3_isSameRow_36 rfl ?_
          refine zi_if_eq 74 dX3_isSameRow_38 (by decide) (by omega) (fun c38 => ?_) (fun c38 => ?_)
          · refine zi_iload dX3_isSameRow_74 rfl ?_
            refine zi_zreturn hrt (z_nb (i25_2)) dX3_isSameRow_76 (hret _ _ ⟨rfl, ?_⟩)
            · rcases i25_2 with q | q
              · rw [q]; exact bI_0 (fun w => by have := i25_3.mpr ⟨w.1, fun j q1 q2 => w.2 j q1 (by omega)⟩; omega)
              · rw [q]; have w := i25_3.mp q; exact bI_1 ⟨w.1, fun j q1 q2 => w.2 j q1 (by omega)⟩
          · have hq := i25_3.mp (by omega)
            refine zi_aload_n dX3_isSameRow_41 rfl ?_
            refine zi_iload_n dX3_isSameRow_42 rfl ?_
            refine zi_iload dX3_isSameRow_43 rfl ?_
            refine zi_iload_n dX3_isSameRow_45 rfl ?_
            refine zt_PVl3 mw_X3_wordAt rfl (tc_wordAt (zl Z) (zE Z) _ _ _ _ ha _ _ _ (hok) (by omega) (by omega) (by omega) (by omega) (by omega)) q2728 hR (by decide) (by simp [Value.category]) dX3_isSameRow_46 (fun v46 h46 => ?_)
            refine zi_aload_n dX3_isSameRow_49 rfl ?_
            refine zi_iload_n dX3_isSameRow_50 rfl ?_
            refine zi_iload dX3_isSameRow_51 rfl ?_
            refine zi_iload_n dX3_isSameRow_53 rfl ?_
            refine zt_PVl3 mw_X3_wordAt rfl (tc_wordAt (zl Z) (zE Z) _ _ _ _ ha _ _ _ (hok) (by omega) (by omega) (by omega) (by omega) (by omega)) q2728 hR (by decide) (by simp [Value.category]) dX3_isSameRow_54 (fun v54 h54 => ?_)
            refine zi_lcmp_ne 65 dX3_isSameRow_57 dX3_isSameRow_58 (by decide) (by omega) (fun c57 => ?_) (fun c57 => ?_)
            · refine zi_iconst dX3_isSameRow_65 ?_
              refine zi_istore_4 dX3_isSameRow_66 hm (by decide) rfl ?_
              refine zi_iinc_5 dX3_isSameRow_68 hm (by decide) rfl ?_
              refine zi_goto 25 dX3_isSameRow_71 (by decide) ?_
              refine ih25 (k + 1) _ _ (by omega) (by omega) (by first | exact Or.inl rfl | exact Or.inr rfl) ?_ (by omega)
              · constructor
                · intro q
                  refine ⟨hq.1, fun j q1 q2 => ?_⟩
                  by_cases q3 : j < (k : Int)
                  · exact hq.2 j q1 q3
                  · have q4 : j = x5 := by omega
                    rw [q4]; omega
                · intro q
                  have q5 := q.2 x5 (by omega) (by omega)
                  omega
            · refine zi_iconst dX3_isSameRow_61 ?_
              refine zi_goto 66 dX3_isSameRow_62 (by decide) ?_
              refine zi_istore_4 dX3_isSameRow_66 hm (by decide) rfl ?_
              refine zi_iinc_5 dX3_isSameRow_68 hm (by decide) rfl ?_
              refine zi_goto 25 dX3_isSameRow_71 (by decide) ?_
              refine ih25 (k + 1) _ _ (by omega) (by omega) (by first | exact Or.inl rfl | exact Or.inr rfl) ?_ (by omega)
              · constructor
                · intro q
                  refine ⟨hq.1, fun j q1 q2 => ?_⟩
                  by_cases q3 : j < (k : Int)
                  · exact hq.2 j q1 q3
                  · have q4 : j = x5 := by omega
                    rw [q4]; omega
                · intro q
                  have q5 := q.2 x5 (by omega) (by omega)
                  omega
    refine lp25 _ (0) _ _ (by omega) (by omega) (by first | exact Or.inl rfl | exact Or.inr rfl) ?_ (Nat.lt_succ_self _)
    · constructor
      · intro q
        exact ⟨by omega, fun j q1 q2 => by omega⟩
      · intro q
        omega
  · refine zi_iconst dX3_isSameRow_15 ?_
    refine zi_goto 20 dX3_isSameRow_16 (by decide) ?_
    refine zi_istore_4 dX3_isSameRow_20 hm (by decide) rfl ?_
    refine zi_iconst dX3_isSameRow_22 ?_
    refine zi_istore_5 dX3_isSameRow_23 hm (by decide) rfl ?_
    have lp25 : ∀ (n : Nat) (k : Nat) (x4 : Int) (x5 : Int), (x5 = (k : Int)) → (x5 ≤ sLen a g t) → (x4 = 0 ∨ x4 = 1) → (x4 = 1 ↔ (sLen a g t = sLen a h t ∧ ∀ j : Int, 0 ≤ j → j < (k : Int) → sWd a g j t = sWd a h j t)) → (sLen a g t - x5).toNat < n → GV RX3 cX3_isSameRow Z (zA Z) (zs Z).heap (twW (zE Z) o ad σ) 0 0 25 [some (.ref o), some (jI g), some (jI h), some (jI t), some (jI x4), some (jI x5)] [] := by
      intro n
      induction n with
      | zero => intro k x4 x5 i25_0 i25_1 i25_2 i25_3 m25; exact absurd m25 (Nat.not_lt_zero _)
      | succ n ih25 =>
        intro k x4 x5 i25_0 i25_1 i25_2 i25_3 m25
        refine zi_iload dX3_isSameRow_25 rfl ?_
        refine zi_aload_n dX3_isSameRow_27 rfl ?_
        refine zi_iload_n dX3_isSameRow_28 rfl ?_
        refine zi_iload_n dX3_isSameRow_29 rfl ?_
        refine zt_PVi2 mw_X3_wordsOf rfl (tc_wordsOf (zl Z) (zE Z) _ _ _ _ ha _ _ (hok) (by omega) (by omega) (by omega)) q2720 hR (by decide) (by simp [Value.category]) dX3_isSameRow_30 (fun v30_0 h30_0 => ?_)
        refine zi_icmp_ge 74 dX3_isSameRow_33 (by decide) (by omega) (fun c33_1 => ?_) (fun c33_1 => ?_)
        · refine zi_iload dX3_isSameRow_74 rfl ?_
          refine zi_zreturn hrt (z_nb (i25_2)) dX3_isSameRow_76 (hret _ _ ⟨rfl, ?_⟩)
          · rcases i25_2 with q | q
            · rw [q]; exact bI_0 (fun w => by have := i25_3.mpr ⟨w.1, fun j q1 q2 => w.2 j q1 (by omega)⟩; omega)
            · rw [q]; have w := i25_3.mp q; exact bI_1 ⟨w.1, fun j q1 q2 => w.2 j q1 (by omega)⟩
        · refine zi_iload dX3_isSameRow_36 rfl ?_
          refine zi_if_eq 74 dX3_isSameRow_38 (by decide) (by omega) (fun c38_2 => ?_) (fun c38_2 => ?_)
          · refine zi_iload dX3_isSameRow_74 rfl ?_
            refine zi_zreturn hrt (z_nb (i25_2)) dX3_isSameRow_76 (hret _ _ ⟨rfl, ?_⟩)
            · rcases i25_2 with q | q
              · rw [q]; exact bI_0 (fun w => by have := i25_3.mpr ⟨w.1, fun j q1 q2 => w.2 j q1 (by omega)⟩; omega)
              · rw [q]; have w := i25_3.mp q; exact bI_1 ⟨w.1, fun j q1 q2 => w.2 j q1 (by omega)⟩
          · have hq := i25_3.mp (by omega)
            refine zi_aload_n dX3_isSameRow_41 rfl ?_
            refine zi_iload_n dX3_isSameRow_42 rfl ?_
            refine zi_iload dX3_isSameRow_43 rfl ?_
            refine zi_iload_n dX3_isSameRow_45 rfl ?_
            refine zt_PVl3 mw_X3_wordAt rfl (tc_wordAt (zl Z) (zE Z) _ _ _ _ ha _ _ _ (hok) (by omega) (by omega) (by omega) (by omega) (by omega)) q2728 hR (by decide) (by simp [Value.category]) dX3_isSameRow_46 (fun v46_3 h46_3 => ?_)
            refine zi_aload_n dX3_isSameRow_49 rfl ?_
            refine zi_iload_n dX3_isSameRow_50 rfl ?_
            refine zi_iload dX3_isSameRow_51 rfl ?_
            refine zi_iload_n dX3_isSameRow_53 rfl ?_
            refine zt_PVl3 mw_X3_wordAt rfl (tc_wordAt (zl Z) (zE Z) _ _ _ _ ha _ _ _ (hok) (by omega) (by omega) (by omega) (by omega) (by omega)) q2728 hR (by decide) (by simp [Value.category]) dX3_isSameRow_54 (fun v54_4 h54_4 => ?_)
            refine zi_lcmp_ne 65 dX3_isSameRow_57 dX3_isSameRow_58 (by decide) (by omega) (fun c57_5 => ?_) (fun c57_5 => ?_)
            · refine zi_iconst dX3_isSameRow_65 ?_
              refine zi_istore_4 dX3_isSameRow_66 hm (by decide) rfl ?_
              refine zi_iinc_5 dX3_isSameRow_68 hm (by decide) rfl ?_
              refine zi_goto 25 dX3_isSameRow_71 (by decide) ?_
              refine ih25 (k + 1) _ _ (by omega) (by omega) (by first | exact Or.inl rfl | exact Or.inr rfl) ?_ (by omega)
              · constructor
                · intro q
                  refine ⟨hq.1, fun j q1 q2 => ?_⟩
                  by_cases q3 : j < (k : Int)
                  · exact hq.2 j q1 q3
                  · have q4 : j = x5 := by omega
                    rw [q4]; omega
                · intro q
                  have q5 := q.2 x5 (by omega) (by omega)
                  omega
            · refine zi_iconst dX3_isSameRow_61 ?_
              refine zi_goto 66 dX3_isSameRow_62 (by decide) ?_
              refine zi_istore_4 dX3_isSameRow_66 hm (by decide) rfl ?_
              refine zi_iinc_5 dX3_isSameRow_68 hm (by decide) rfl ?_
              refine zi_goto 25 dX3_isSameRow_71 (by decide) ?_
              refine ih25 (k + 1) _ _ (by omega) (by omega) (by first | exact Or.inl rfl | exact Or.inr rfl) ?_ (by omega)
              · constructor
                · intro q
                  refine ⟨hq.1, fun j q1 q2 => ?_⟩
                  by_cases q3 : j < (k : Int)
                  · exact hq.2 j q1 q3
                  · have q4 : j = x5 := by omega
                    rw [q4]; omega
                · intro q
                  have q5 := q.2 x5 (by omega) (by omega)
                  omega
    refine lp25 _ (0) _ _ (by omega) (by omega) (by first | exact Or.inl rfl | exact Or.inr rfl) ?_ (Nat.lt_succ_self _)
    · constructor
      · intro q
        exact ⟨by omega, fun j q1 q2 => by omega⟩
      · intro q
        omega
theorem mw_X3_segmentsOf : MWV yX3_segmentsOf cX3_segmentsOf 4 (some Jvm.ClassFile.FieldType.int) 1 := ⟨q2816, qs90, q128, q2817, by decide, by decide +kernel, by decide +kernel, by decide +kernel⟩
set_option maxHeartbeats 4000000 in
theorem tc_segmentsOf (l : Launch) (E : ZE) (o : Nat) (ad : Nat → Nat) (σ : TS) (a : Int → Int) (ha : σ 0 = a) (j : Int) (hok : OkA a) (hj : -2147483648 ≤ j ∧ j < 2147483648) : TCi l yX3_segmentsOf (ws_ yX3_segmentsOf cX3_segmentsOf 4 (some Jvm.ClassFile.FieldType.int)) 2 E o ad σ [.ref o, jI j] (fun τ v => τ = σ ∧ (v = sgF a j ∧ 0 ≤ v ∧ v ≤ 20)) := by
  refine tci_of (own := RX3) (cc := cX3_segmentsOf) (L := [some (.ref o), some (jI j), none, none]) (by decide) rfl rfl (Nat.le_of_ble_eq_true rfl) (fun Z hE hl hrt hR hm hret => ?_)
  subst hE
  have hc := hok.cnt
  refine zi_iconst dX3_segmentsOf_0 ?_
  refine zi_istore_2 dX3_segmentsOf_1 hm (by decide) rfl ?_
  refine zi_iconst dX3_segmentsOf_2 ?_
  refine zi_istore_3 dX3_segmentsOf_3 hm (by decide) rfl ?_
  have lp4 : ∀ (n : Nat) (k : Nat) (x2 : Int) (x3 : Int), (x3 = (k : Int)) → (x3 ≤ a 66) → (x2 = sgI a j k) → (a 66 - x3).toNat < n → GV RX3 cX3_segmentsOf Z (zA Z) (zs Z).heap (twW (zE Z) o ad σ) 0 0 4 [some (.ref o), some (jI j), some (jI x2), some (jI x3)] [] := by
    intro n
    induction n with
    | zero => intro k x2 x3 i4_0 i4_1 i4_2 m4; exact absurd m4 (Nat.not_lt_zero _)
    | succ n ih4 =>
      intro k x2 x3 i4_0 i4_1 i4_2 m4
      refine zi_iload_n dX3_segmentsOf_4 rfl ?_
      refine zi_aload_n dX3_segmentsOf_5 rfl ?_
      refine zt_PVi0 mw_X3_segments rfl (tc_segments (zl Z) (zE Z) _ _ _ _ ha  (hok)) q2700 hR (by decide) (by simp [Value.category]) dX3_segmentsOf_6 (fun v6 h6 => ?_)
      refine zi_icmp_ge 30 dX3_segmentsOf_9 (by decide) (by omega) (fun c9 => ?_) (fun c9 => ?_)
      · have q1 := sgI_r a j k
        have q2 : sgF a j = sgI a j k := by unfold sgF; rw [show (a 66).toNat = k by omega]
        refine zi_iload_n dX3_segmentsOf_30 rfl ?_
        exact zi_ireturn hrt dX3_segmentsOf_31 (hret _ _ ⟨rfl, by omega⟩)
      · refine zi_aload_n dX3_segmentsOf_12 rfl ?_
        refine zi_iload_n dX3_segmentsOf_13 rfl ?_
        refine zt_PVi1 mw_X3_jobNow rfl (tc_jobNow (zl Z) (zE Z) _ _ _ _ ha _ (hok) (by omega) (by omega)) q2712 hR (by decide) (by simp [Value.category]) dX3_segmentsOf_14 (fun v14 h14 => ?_)
        refine zi_iload_n dX3_segmentsOf_17 rfl ?_
        refine zi_icmp_ne 24 dX3_segmentsOf_18 (by decide) (by omega) (fun c18 => ?_) (fun c18 => ?_)
        · rw [i4_0] at h14
          refine zi_iinc_3 dX3_segmentsOf_24 hm (by decide) rfl ?_
          refine zi_goto 4 dX3_segmentsOf_27 (by decide) ?_
          exact ih4 (k + 1) _ _ (by omega) (by omega) (by simp only [sgI]; split <;> omega) (by omega)
        · refine zi_iinc_2 dX3_segmentsOf_21 hm (by decide) rfl ?_
          rw [i4_0] at h14
          refine zi_iinc_3 dX3_segmentsOf_24 hm (by decide) rfl ?_
          refine zi_goto 4 dX3_segmentsOf_27 (by decide) ?_
          exact ih4 (k + 1) _ _ (by omega) (by omega) (by simp only [sgI]; split <;> omega) (by omega)
  exact lp4 _ (0) _ _ (by omega) (by omega) (by rfl) (Nat.lt_succ_self _)
theorem mw_X3_wordsOfJob : MWV yX3_wordsOfJob cX3_wordsOfJob 4 (some Jvm.ClassFile.FieldType.int) 1 := ⟨q2820, qs91, q128, q2821, by decide, by decide +kernel, by decide +kernel, by decide +kernel⟩
set_option maxHeartbeats 4000000 in
theorem tc_wordsOfJob (l : Launch) (E : ZE) (o : Nat) (ad : Nat → Nat) (σ : TS) (a : Int → Int) (ha : σ 0 = a) (j : Int) (hok : OkA a) (hj : -2147483648 ≤ j ∧ j < 2147483648) : TCi l yX3_wordsOfJob (ws_ yX3_wordsOfJob cX3_wordsOfJob 4 (some Jvm.ClassFile.FieldType.int)) 2 E o ad σ [.ref o, jI j] (fun τ v => τ = σ ∧ (v = wjF a j ∧ 0 ≤ v ∧ v ≤ 160)) := by
  refine tci_of (own := RX3) (cc := cX3_wordsOfJob) (L := [some (.ref o), some (jI j), none, none]) (by decide) rfl rfl (Nat.le_of_ble_eq_true rfl) (fun Z hE hl hrt hR hm hret => ?_)
  subst hE
  have hc := hok.cnt
  refine zi_iconst dX3_wordsOfJob_0 ?_
  refine zi_istore_2 dX3_wordsOfJob_1 hm (by decide) rfl ?_
  refine zi_iconst dX3_wordsOfJob_2 ?_
  refine zi_istore_3 dX3_wordsOfJob_3 hm (by decide) rfl ?_
  have lp4 : ∀ (n : Nat) (k : Nat) (x2 : Int) (x3 : Int), (x3 = (k : Int)) → (x3 ≤ a 66) → (x2 = wjI a j k) → (a 66 - x3).toNat < n → GV RX3 cX3_wordsOfJob Z (zA Z) (zs Z).heap (twW (zE Z) o ad σ) 0 0 4 [some (.ref o), some (jI j), some (jI x2), some (jI x3)] [] := by
    intro n
    induction n with
    | zero => intro k x2 x3 i4_0 i4_1 i4_2 m4; exact absurd m4 (Nat.not_lt_zero _)
    | succ n ih4 =>
      intro k x2 x3 i4_0 i4_1 i4_2 m4
      refine zi_iload_n dX3_wordsOfJob_4 rfl ?_
      refine zi_aload_n dX3_wordsOfJob_5 rfl ?_
      refine zt_PVi0 mw_X3_segments rfl (tc_segments (zl Z) (zE Z) _ _ _ _ ha  (hok)) q2700 hR (by decide) (by simp [Value.category]) dX3_wordsOfJob_6 (fun v6 h6 => ?_)
      refine zi_icmp_ge 36 dX3_wordsOfJob_9 (by decide) (by omega) (fun c9 => ?_) (fun c9 => ?_)
      · have q1 := wjF_r hok j
        have q2 : wjF a j = wjI a j k := by unfold wjF; rw [show (a 66).toNat = k by omega]
        refine zi_iload_n dX3_wordsOfJob_36 rfl ?_
        exact zi_ireturn hrt dX3_wordsOfJob_37 (hret _ _ ⟨rfl, by omega⟩)
      · refine zi_aload_n dX3_wordsOfJob_12 rfl ?_
        refine zi_iload_n dX3_wordsOfJob_13 rfl ?_
        refine zt_PVi1 mw_X3_jobNow rfl (tc_jobNow (zl Z) (zE Z) _ _ _ _ ha _ (hok) (by omega) (by omega)) q2712 hR (by decide) (by simp [Value.category]) dX3_wordsOfJob_14 (fun v14 h14 => ?_)
        refine zi_iload_n dX3_wordsOfJob_17 rfl ?_
        refine zi_icmp_ne 30 dX3_wordsOfJob_18 (by decide) (by omega) (fun c18 => ?_) (fun c18 => ?_)
        · rw [i4_0] at h14
          refine zi_iinc_3 dX3_wordsOfJob_30 hm (by decide) rfl ?_
          refine zi_goto 4 dX3_wordsOfJob_33 (by decide) ?_
          exact ih4 (k + 1) _ _ (by omega) (by omega) (by simp only [wjI]; split <;> omega) (by omega)
        · refine zi_iload_n dX3_wordsOfJob_21 rfl ?_
          refine zi_aload_n dX3_wordsOfJob_22 rfl ?_
          refine zi_iload_n dX3_wordsOfJob_23 rfl ?_
          refine zi_iconst dX3_wordsOfJob_24 ?_
          refine zt_PVi2 mw_X3_wordsOf rfl (tc_wordsOf (zl Z) (zE Z) _ _ _ _ ha _ _ (hok) (by omega) (by omega) (by omega)) q2720 hR (by decide) (by simp [Value.category]) dX3_wordsOfJob_25 (fun v25 h25 => ?_)
          refine zi_iadd dX3_wordsOfJob_28 ?_
          rw [i4_0] at h25
          refine zi_istore_2 dX3_wordsOfJob_29 hm (by decide) rfl ?_
          rw [i4_0] at h14
          refine zi_iinc_3 dX3_wordsOfJob_30 hm (by decide) rfl ?_
          refine zi_goto 4 dX3_wordsOfJob_33 (by decide) ?_
          exact ih4 (k + 1) _ _ (by omega) (by omega) (by simp only [wjI]; split <;> omega) (by omega)
  exact lp4 _ (0) _ _ (by omega) (by omega) (by rfl) (Nat.lt_succ_self _)
theorem mw_X3_basicOf : MWV yX3_basicOf cX3_basicOf 4 (some Jvm.ClassFile.FieldType.int) 1 := ⟨q2880, qs95, q128, q2881, by decide, by decide +kernel, by decide +kernel, by decide +kernel⟩
set_option maxHeartbeats 4000000 in
theorem tc_basicOf (l : Launch) (E : ZE) (o : Nat) (ad : Nat → Nat) (σ : TS) (a : Int → Int) (ha : σ 0 = a) (j : Int) (hok : OkA a) (hj : -2147483648 ≤ j ∧ j < 2147483648) : TCi l yX3_basicOf (ws_ yX3_basicOf cX3_basicOf 4 (some Jvm.ClassFile.FieldType.int)) 8 E o ad σ [.ref o, jI j] (fun τ v => eqx [18, 19] σ τ ∧ (v = bsF a j ∧ 0 ≤ v ∧ v ≤ 799200)) := by
  refine tci_of (own := RX3) (cc := cX3_basicOf) (L := [some (.ref o), some (jI j), none, none]) (by decide) rfl rfl (Nat.le_of_ble_eq_true rfl) (fun Z hE hl hrt hR hm hret => ?_)
  subst hE
  have x0 : eqx [18, 19] σ σ := eqx_rf
  have hc := hok.cnt
  refine zi_aload_n dX3_basicOf_0 rfl ?_
  refine zi_iload_n dX3_basicOf_1 rfl ?_
  refine zt_Vv1 mw_X3_layBands rfl (tc_layBands (zl Z) (zE Z) _ _ _ _ ha _ (hok) (by omega)) q2866 hR (by decide) (by simp [Value.category]) dX3_basicOf_2 (fun τ2_0 wτ2_0 => ?_)
  obtain ⟨qτ2_0, h2⟩ := wτ2_0
  have xτ2_0 : eqx [18, 19] σ τ2_0 := eqx_tr x0 (eqx_mono qτ2_0 (by decide))
  have haτ2_0 : τ2_0 0 = a := (xτ2_0 0 (by decide)).trans ha
  refine zi_iconst dX3_basicOf_5 ?_
  refine zi_istore_2 dX3_basicOf_6 hm (by decide) rfl ?_
  refine zi_iconst dX3_basicOf_7 ?_
  refine zi_istore_3 dX3_basicOf_8 hm (by decide) rfl ?_
  have lp9 : ∀ (n : Nat) (k : Nat) (x2 : Int) (x3 : Int), (x3 = (k : Int)) → (x3 ≤ 5) → (x2 = bsI a j k) → (5 - x3).toNat < n → GV RX3 cX3_basicOf Z (zA Z) (zs Z).heap (twW (zE Z) o ad τ2_0) 0 0 9 [some (.ref o), some (jI j), some (jI x2), some (jI x3)] [] := by
    intro n
    induction n with
    | zero => intro k x2 x3 i9_0 i9_1 i9_2 m9; exact absurd m9 (Nat.not_lt_zero _)
    | succ n ih9 =>
      intro k x2 x3 i9_0 i9_1 i9_2 m9
      refine zi_iload_n dX3_basicOf_9 rfl ?_
      refine zi_iconst dX3_basicOf_10 ?_
      refine zi_icmp_ge 51 dX3_basicOf_11 (by decide) (by omega) (fun c11 => ?_) (fun c11 => ?_)
      · have q1 := bsF_r hok j
        have q2 : bsF a j = bsI a j k := by unfold bsF; rw [show 5 = k by omega]
        refine zi_iload_n dX3_basicOf_51 rfl ?_
        exact zi_ireturn hrt dX3_basicOf_52 (hret _ _ ⟨xτ2_0, by omega⟩)
      · have hu : τ2_0 19 x3 = bnF a j x3 := h2 x3 (by omega) (by omega)
        have q1 := bnF_r hok j x3
        refine zi_iload_n dX3_basicOf_14 rfl ?_
        refine zi_aload_n dX3_basicOf_15 rfl ?_
        refine zt_g19 q2450 dX3_basicOf_16 ?_
        refine zi_iload_n dX3_basicOf_19 rfl ?_
        refine zt_ld19 dX3_basicOf_20 (rfl) (by omega) ?_
        refine zi_i2l dX3_basicOf_21 (by omega) ?_
        refine zi_aload_n dX3_basicOf_22 rfl ?_
        refine zt_g0 q2431 dX3_basicOf_23 ?_
        refine zi_iconst dX3_basicOf_26 ?_
        refine zt_ld0 dX3_basicOf_27 (haτ2_0) (by omega) ?_
        refine zi_lmul dX3_basicOf_28 ?_
        refine zi_aload_n dX3_basicOf_29 rfl ?_
        refine zt_g0 q2431 dX3_basicOf_30 ?_
        refine zi_iconst dX3_basicOf_33 ?_
        refine zi_iload_n dX3_basicOf_34 rfl ?_
        refine zi_iadd dX3_basicOf_35 ?_
        refine zt_ld0 dX3_basicOf_36 (haτ2_0) (by omega) ?_
        refine zi_lmul dX3_basicOf_37 ?_
        refine zi_ldc2 (m := 100) dX3_basicOf_38 q2430 (by decide +kernel) ?_
        have q2 := bsP_r hok j x3 (by omega) (by omega)
        rw [hu]
        refine zi_ldiv dX3_basicOf_41 (by omega) ?_
        refine zi_l2i dX3_basicOf_42 ?_
        refine zi_iadd dX3_basicOf_43 ?_
        refine zi_istore_2 dX3_basicOf_44 hm (by decide) rfl ?_
        refine zi_iinc_3 dX3_basicOf_45 hm (by decide) rfl ?_
        refine zi_goto 9 dX3_basicOf_48 (by decide) ?_
        exact ih9 (k + 1) _ _ (by omega) (by omega) (by simp only [bsI, bsT]; rw [← i9_0, i9_2]) (by omega)
  exact lp9 _ (0) _ _ (by omega) (by omega) (by rfl) (Nat.lt_succ_self _)
theorem mw_X3_hoursOf : MWV yX3_hoursOf cX3_hoursOf 2 (some Jvm.ClassFile.FieldType.int) 1 := ⟨q2884, qs96, q128, q2885, by decide, by decide +kernel, by decide +kernel, by decide +kernel⟩
set_option maxHeartbeats 4000000 in
theorem tc_hoursOf (l : Launch) (E : ZE) (o : Nat) (ad : Nat → Nat) (σ : TS) (a : Int → Int) (ha : σ 0 = a) (j : Int) (hok : OkA a) (hj : -2147483648 ≤ j ∧ j < 2147483648) : TCi l yX3_hoursOf (ws_ yX3_hoursOf cX3_hoursOf 2 (some Jvm.ClassFile.FieldType.int)) 3 E o ad σ [.ref o, jI j] (fun τ v => τ = σ ∧ (v = hrF a j ∧ 0 ≤ v ∧ v ≤ 1158)) := by
  refine tci_of (own := RX3) (cc := cX3_hoursOf) (L := [some (.ref o), some (jI j)]) (by decide) rfl rfl (Nat.le_of_ble_eq_true rfl) (fun Z hE hl hrt hR hm hret => ?_)
  subst hE
  have hs := hok.set
  have hr := hrF_r hok j
  refine zi_aload_n dX3_hoursOf_0 rfl ?_
  refine zi_iload_n dX3_hoursOf_1 rfl ?_
  refine zt_PVi1 mw_X3_wordsOfJob rfl (tc_wordsOfJob (zl Z) (zE Z) _ _ _ _ ha _ (hok) (by omega)) q2818 hR (by decide) (by simp [Value.category]) dX3_hoursOf_2 (fun v2 h2 => ?_)
  refine zi_i2l dX3_hoursOf_5 (by omega) ?_
  refine zi_aload_n dX3_hoursOf_6 rfl ?_
  refine zt_g0 q2431 dX3_hoursOf_7 ?_
  refine zi_iconst dX3_hoursOf_10 ?_
  refine zt_ld0 dX3_hoursOf_11 (ha) (by omega) ?_
  refine zi_ladd dX3_hoursOf_12 ?_
  refine zi_lconst (m := 1) dX3_hoursOf_13 (by decide +kernel) ?_
  refine zi_lsub dX3_hoursOf_14 ?_
  refine zi_aload_n dX3_hoursOf_15 rfl ?_
  refine zt_g0 q2431 dX3_hoursOf_16 ?_
  refine zi_iconst dX3_hoursOf_19 ?_
  refine zt_ld0 dX3_hoursOf_20 (ha) (by omega) ?_
  refine zi_ldiv dX3_hoursOf_21 (by omega) ?_
  refine zi_l2i dX3_hoursOf_22 ?_
  refine zi_ireturn hrt dX3_hoursOf_23 (hret _ _ ⟨rfl, ?_⟩)
  · have q : (v2 + a 1 - 1) / a 1 = hrF a j := by unfold hrF; rw [h2.1]
    rw [q]; exact ⟨rfl, hr⟩
theorem mw_X3_premiumBy : MWV yX3_premiumBy cX3_premiumBy 4 (some Jvm.ClassFile.FieldType.int) 2 := ⟨q2888, qs97, q128, q2889, by decide, by decide +kernel, by decide +kernel, by decide +kernel⟩
set_option maxHeartbeats 4000000 in
theorem tc_premiumBy (l : Launch) (E : ZE) (o : Nat) (ad : Nat → Nat) (σ : TS) (a : Int → Int) (ha : σ 0 = a) (j : Int) (d : Int) (hok : OkA a) (hj : -2147483648 ≤ j ∧ j < 2147483648) (hd : -1000 ≤ d ∧ d ≤ 1000) : TCi l yX3_premiumBy (ws_ yX3_premiumBy cX3_premiumBy 4 (some Jvm.ClassFile.FieldType.int)) 4 E o ad σ [.ref o, jI j, jI d] (fun τ v => τ = σ ∧ (v = pmF a j d ∧ 0 ≤ v ∧ v ≤ 100)) := by
  refine tci_of (own := RX3) (cc := cX3_premiumBy) (L := [some (.ref o), some (jI j), some (jI d), none]) (by decide) rfl rfl (Nat.le_of_ble_eq_true rfl) (fun Z hE hl hrt hR hm hret => ?_)
  subst hE
  have hs := hok.set
  have hr := pmF_r hok j d
  refine zi_aload_n dX3_premiumBy_0 rfl ?_
  refine zi_iload_n dX3_premiumBy_1 rfl ?_
  refine zt_PVi1 mw_X3_hoursOf rfl (tc_hoursOf (zl Z) (zE Z) _ _ _ _ ha _ (hok) (by omega)) q2882 hR (by decide) (by simp [Value.category]) dX3_premiumBy_2 (fun v2 h2 => ?_)
  refine zi_iload_n dX3_premiumBy_5 rfl ?_
  refine zi_isub dX3_premiumBy_6 ?_
  refine zi_istore_3 dX3_premiumBy_7 hm (by decide) rfl ?_
  refine zi_iload_n dX3_premiumBy_8 rfl ?_
  refine zi_if_gt 16 dX3_premiumBy_9 (by decide) (by omega) (fun c9 => ?_) (fun c9 => ?_)
  · refine zi_ldc2 (m := 100) dX3_premiumBy_16 q2430 (by decide +kernel) ?_
    refine zi_aload_n dX3_premiumBy_19 rfl ?_
    refine zt_g0 q2431 dX3_premiumBy_20 ?_
    refine zi_iconst dX3_premiumBy_23 ?_
    refine zt_ld0 dX3_premiumBy_24 (ha) (by omega) ?_
    refine zi_iload_n dX3_premiumBy_25 rfl ?_
    refine zi_i2l dX3_premiumBy_26 (by omega) ?_
    refine zi_lmul dX3_premiumBy_27 ?_
    have q1 := z_mul (x := a 2) (y := v2 - d) (X := 100) (Y := 3000) (by omega) (by omega) (by omega) (by omega)
    refine zi_lmin q2890 hR (by decide) (by simp [Value.category]) (by omega) dX3_premiumBy_28 ?_
    refine zi_l2i dX3_premiumBy_31 ?_
    refine zi_ireturn hrt dX3_premiumBy_32 (hret _ _ ⟨rfl, ?_⟩)
    · unfold pmF at hr ⊢
      rw [← h2.1] at hr ⊢; first | (rw [if_pos (by omega)] at hr ⊢; exact ⟨rfl, hr⟩) | (rw [if_neg (by omega)] at hr ⊢; exact ⟨rfl, hr⟩)
  · refine zi_iconst dX3_premiumBy_12 ?_
    refine zi_goto 32 dX3_premiumBy_13 (by decide) ?_
    refine zi_ireturn hrt dX3_premiumBy_32 (hret _ _ ⟨rfl, ?_⟩)
    · unfold pmF at hr ⊢
      rw [← h2.1] at hr ⊢; first | (rw [if_pos (by omega)] at hr ⊢; exact ⟨rfl, hr⟩) | (rw [if_neg (by omega)] at hr ⊢; exact ⟨rfl, hr⟩)
theorem mw_X3_extraOf : MWV yX3_extraOf cX3_extraOf 2 (some Jvm.ClassFile.FieldType.int) 1 := ⟨q2895, qs98, q128, q2896, by decide, by decide +kernel, by decide +kernel, by decide +kernel⟩
set_option maxHeartbeats 4000000 in
theorem tc_extraOf (l : Launch) (E : ZE) (o : Nat) (ad : Nat → Nat) (σ : TS) (a : Int → Int) (ha : σ 0 = a) (j : Int) (hok : OkA a) (hj0 : 0 ≤ j) (hj1 : j < a 45) : TCi l yX3_extraOf (ws_ yX3_extraOf cX3_extraOf 2 (some Jvm.ClassFile.FieldType.int)) 9 E o ad σ [.ref o, jI j] (fun τ v => eqx [18, 19] σ τ ∧ (v = exF a j ∧ 0 ≤ v ∧ v ≤ 799200)) := by
  refine tci_of (own := RX3) (cc := cX3_extraOf) (L := [some (.ref o), some (jI j)]) (by decide) rfl rfl (Nat.le_of_ble_eq_true rfl) (fun Z hE hl hrt hR hm hret => ?_)
  subst hE
  have x0 : eqx [18, 19] σ σ := eqx_rf
  have hc := hok.cnt
  have hr := exF_r hok j
  have hp := exP_r hok j
  refine zi_aload_n dX3_extraOf_0 rfl ?_
  refine zi_iload_n dX3_extraOf_1 rfl ?_
  refine zt_Vi1 mw_X3_basicOf rfl (tc_basicOf (zl Z) (zE Z) _ _ _ _ ha _ (hok) (by omega)) q2878 hR (by decide) (by simp [Value.category]) dX3_extraOf_2 (fun τ2_0 v2 wτ2_0 => ?_)
  obtain ⟨qτ2_0, h2⟩ := wτ2_0
  have xτ2_0 : eqx [18, 19] σ τ2_0 := eqx_tr x0 (eqx_mono qτ2_0 (by decide))
  have haτ2_0 : τ2_0 0 = a := (xτ2_0 0 (by decide)).trans ha
  refine zi_i2l dX3_extraOf_5 (by omega) ?_
  refine zi_aload_n dX3_extraOf_6 rfl ?_
  refine zi_iload_n dX3_extraOf_7 rfl ?_
  refine zi_aload_n dX3_extraOf_8 rfl ?_
  refine zi_iload_n dX3_extraOf_9 rfl ?_
  refine zi_iconst dX3_extraOf_10 ?_
  refine zt_PVi2 mw_X3_ofJob rfl (tc_ofJob (zl Z) (zE Z) _ _ _ _ haτ2_0 _ _ (hok) (by omega) (by omega) (by omega)) q2716 hR (by decide) (by simp [Value.category]) dX3_extraOf_11 (fun v11 h11 => ?_)
  refine zt_PVi2 mw_X3_premiumBy rfl (tc_premiumBy (zl Z) (zE Z) _ _ _ _ haτ2_0 _ _ (hok) (by omega) (by omega)) q2886 hR (by decide) (by simp [Value.category]) dX3_extraOf_14 (fun v14 h14 => ?_)
  refine zi_i2l dX3_extraOf_17 (by omega) ?_
  refine zi_lmul dX3_extraOf_18 ?_
  refine zi_ldc2 (m := 100) dX3_extraOf_19 q2430 (by decide +kernel) ?_
  have q1 : v2 * v14 = bsF a j * pmF a j (jOf a j 2) := by rw [h2.1, h14.1, h11.1]
  rw [q1]
  refine zi_ldiv dX3_extraOf_22 (by omega) ?_
  refine zi_l2i dX3_extraOf_23 ?_
  exact zi_ireturn hrt dX3_extraOf_24 (hret _ _ ⟨xτ2_0, ⟨rfl, hr⟩⟩)
theorem mw_X3_translatorGets : MWV yX3_translatorGets cX3_translatorGets 2 (some Jvm.ClassFile.FieldType.int) 1 := ⟨q2899, qs99, q128, q2900, by decide, by decide +kernel, by decide +kernel, by decide +kernel⟩
set_option maxHeartbeats 4000000 in
theorem tc_translatorGets (l : Launch) (E : ZE) (o : Nat) (ad : Nat → Nat) (σ : TS) (a : Int → Int) (ha : σ 0 = a) (j : Int) (hok : OkA a) (hj0 : 0 ≤ j) (hj1 : j < a 45) : TCi l yX3_translatorGets (ws_ yX3_translatorGets cX3_translatorGets 2 (some Jvm.ClassFile.FieldType.int)) 10 E o ad σ [.ref o, jI j] (fun τ v => eqx [18, 19] σ τ ∧ (v = trF a j ∧ 0 ≤ v ∧ v ≤ 1598400)) := by
  refine tci_of (own := RX3) (cc := cX3_translatorGets) (L := [some (.ref o), some (jI j)]) (by decide) rfl rfl (Nat.le_of_ble_eq_true rfl) (fun Z hE hl hrt hR hm hret => ?_)
  subst hE
  have x0 : eqx [18, 19] σ σ := eqx_rf
  have hc := hok.cnt
  refine zi_aload_n dX3_translatorGets_0 rfl ?_
  refine zi_iload_n dX3_translatorGets_1 rfl ?_
  refine zt_Vi1 mw_X3_basicOf rfl (tc_basicOf (zl Z) (zE Z) _ _ _ _ ha _ (hok) (by omega)) q2878 hR (by decide) (by simp [Value.category]) dX3_translatorGets_2 (fun τ2_0 v2 wτ2_0 => ?_)
  obtain ⟨qτ2_0, h2⟩ := wτ2_0
  have xτ2_0 : eqx [18, 19] σ τ2_0 := eqx_tr x0 (eqx_mono qτ2_0 (by decide))
  have haτ2_0 : τ2_0 0 = a := (xτ2_0 0 (by decide)).trans ha
  refine zi_aload_n dX3_translatorGets_5 rfl ?_
  refine zi_iload_n dX3_translatorGets_6 rfl ?_
  refine zt_Vi1 mw_X3_extraOf rfl (tc_extraOf (zl Z) (zE Z) _ _ _ _ haτ2_0 _ (hok) (by omega) (by omega)) q2893 hR (by decide) (by simp [Value.category]) dX3_translatorGets_7 (fun τ7_1 v7 wτ7_1 => ?_)
  obtain ⟨qτ7_1, h7⟩ := wτ7_1
  have xτ7_1 : eqx [18, 19] σ τ7_1 := eqx_tr xτ2_0 (eqx_mono qτ7_1 (by decide))
  have haτ7_1 : τ7_1 0 = a := (xτ7_1 0 (by decide)).trans ha
  refine zi_iadd dX3_translatorGets_10 ?_
  exact zi_ireturn hrt dX3_translatorGets_11 (hret _ _ ⟨xτ7_1, by unfold trF; omega⟩)
theorem mw_X3_reviserGets : MWV yX3_reviserGets cX3_reviserGets 4 (some Jvm.ClassFile.FieldType.int) 1 := ⟨q2903, qs100, q128, q2904, by decide, by decide +kernel, by decide +kernel, by decide +kernel⟩
set_option maxHeartbeats 4000000 in
theorem tc_reviserGets (l : Launch) (E : ZE) (o : Nat) (ad : Nat → Nat) (σ : TS) (a : Int → Int) (ha : σ 0 = a) (j : Int) (hok : OkA a) (hj : -2147483648 ≤ j ∧ j < 2147483648) : TCi l yX3_reviserGets (ws_ yX3_reviserGets cX3_reviserGets 4 (some Jvm.ClassFile.FieldType.int)) 8 E o ad σ [.ref o, jI j] (fun τ v => eqx [18, 19] σ τ ∧ (v = rvF a j ∧ 0 ≤ v ∧ v ≤ 639360)) := by
  refine tci_of (own := RX3) (cc := cX3_reviserGets) (L := [some (.ref o), some (jI j), none, none]) (by decide) rfl rfl (Nat.le_of_ble_eq_true rfl) (fun Z hE hl hrt hR hm hret => ?_)
  subst hE
  have x0 : eqx [18, 19] σ σ := eqx_rf
  have hs := hok.set
  have hr := rvF_r hok j
  refine zi_aload_n dX3_reviserGets_0 rfl ?_
  refine zi_iload_n dX3_reviserGets_1 rfl ?_
  refine zt_Vv1 mw_X3_layBands rfl (tc_layBands (zl Z) (zE Z) _ _ _ _ ha _ (hok) (by omega)) q2866 hR (by decide) (by simp [Value.category]) dX3_reviserGets_2 (fun τ2_0 wτ2_0 => ?_)
  obtain ⟨qτ2_0, h2⟩ := wτ2_0
  have xτ2_0 : eqx [18, 19] σ τ2_0 := eqx_tr x0 (eqx_mono qτ2_0 (by decide))
  have haτ2_0 : τ2_0 0 = a := (xτ2_0 0 (by decide)).trans ha
  refine zi_iconst dX3_reviserGets_5 ?_
  refine zi_istore_2 dX3_reviserGets_6 hm (by decide) rfl ?_
  refine zi_iconst dX3_reviserGets_7 ?_
  refine zi_istore_3 dX3_reviserGets_8 hm (by decide) rfl ?_
  have lp9 : ∀ (n : Nat) (x2 : Int) (x3 : Int), (0 ≤ x3 ∧ x3 ≤ 4) → (x2 = (if x3 ≥ 1 then bnF a j 0 else 0) + (if x3 ≥ 2 then bnF a j 1 else 0) + (if x3 ≥ 3 then bnF a j 2 else 0) + (if x3 ≥ 4 then bnF a j 3 else 0)) → (4 - x3).toNat < n → GV RX3 cX3_reviserGets Z (zA Z) (zs Z).heap (twW (zE Z) o ad τ2_0) 0 0 9 [some (.ref o), some (jI j), some (jI x2), some (jI x3)] [] := by
    intro n
    induction n with
    | zero => intro x2 x3 i9_0 i9_1 m9; exact absurd m9 (Nat.not_lt_zero _)
    | succ n ih9 =>
      intro x2 x3 i9_0 i9_1 m9
      refine zi_iload_n dX3_reviserGets_9 rfl ?_
      refine zi_iconst dX3_reviserGets_10 ?_
      refine zi_icmp_ge 29 dX3_reviserGets_11 (by decide) (by omega) (fun c11 => ?_) (fun c11 => ?_)
      · have q4 : x3 = 4 := by omega
        subst q4
        have q5 : x2 = rsF a j := by unfold rsF; simpa using i9_1
        refine zi_aload_n dX3_reviserGets_29 rfl ?_
        refine zt_g0 q2431 dX3_reviserGets_30 ?_
        refine zi_iconst dX3_reviserGets_33 ?_
        refine zt_ld0 dX3_reviserGets_34 (haτ2_0) (by omega) ?_
        refine zi_l2i dX3_reviserGets_35 ?_
        refine zi_iload_n dX3_reviserGets_36 rfl ?_
        refine zi_imul dX3_reviserGets_37 ?_
        exact zi_ireturn hrt dX3_reviserGets_38 (hret _ _ ⟨xτ2_0, by rw [q5]; exact ⟨rfl, hr⟩⟩)
      · have hu : τ2_0 19 x3 = bnF a j x3 := h2 x3 (by omega) (by omega)
        refine zi_iload_n dX3_reviserGets_14 rfl ?_
        refine zi_aload_n dX3_reviserGets_15 rfl ?_
        refine zt_g19 q2450 dX3_reviserGets_16 ?_
        refine zi_iload_n dX3_reviserGets_19 rfl ?_
        refine zt_ld19 dX3_reviserGets_20 (rfl) (by omega) ?_
        refine zi_iadd dX3_reviserGets_21 ?_
        refine zi_istore_2 dX3_reviserGets_22 hm (by decide) rfl ?_
        refine zi_iinc_3 dX3_reviserGets_23 hm (by decide) rfl ?_
        refine zi_goto 9 dX3_reviserGets_26 (by decide) ?_
        exact ih9 _ _ (by omega) (by rcases (show x3 = 0 ∨ x3 = 1 ∨ x3 = 2 ∨ x3 = 3 by omega) with q | q | q | q <;> subst q <;> simp at i9_1 hu ⊢ <;> omega) (by omega)
  exact lp9 _ _ _ (by omega) (by simp) (Nat.lt_succ_self _)
theorem mw_X3_totalNow : MWV yX3_totalNow cX3_totalNow 3 (some Jvm.ClassFile.FieldType.int) 0 := ⟨q2915, qs101, q128, q2916, by decide, by decide +kernel, by decide +kernel, by decide +kernel⟩
set_option maxHeartbeats 4000000 in
theorem tc_totalNow (l : Launch) (E : ZE) (o : Nat) (ad : Nat → Nat) (σ : TS) (a : Int → Int) (ha : σ 0 = a) (hok : OkA a) : TCi l yX3_totalNow (ws_ yX3_totalNow cX3_totalNow 3 (some Jvm.ClassFile.FieldType.int)) 11 E o ad σ [.ref o] (fun τ v => eqx [18, 19] σ τ ∧ (v = toF a ∧ 0 ≤ v ∧ v ≤ 11188800)) := by
  refine tci_of (own := RX3) (cc := cX3_totalNow) (L := [some (.ref o), none, none]) (by decide) rfl rfl (Nat.le_of_ble_eq_true rfl) (fun Z hE hl hrt hR hm hret => ?_)
  subst hE
  have x0 : eqx [18, 19] σ σ := eqx_rf
  have hc := hok.cnt
  refine zi_iconst dX3_totalNow_0 ?_
  refine zi_istore_1 dX3_totalNow_1 hm (by decide) rfl ?_
  refine zi_iconst dX3_totalNow_2 ?_
  refine zi_istore_2 dX3_totalNow_3 hm (by decide) rfl ?_
  have lp4 : ∀ (n : Nat) (k : Nat) (x1 : Int) (x2 : Int) (τ4 : TS), (eqx [18, 19] σ τ4) → (x2 = (k : Int)) → (x2 ≤ a 45) → (x1 = toI a k) → (a 45 - x2).toNat < n → GV RX3 cX3_totalNow Z (zA Z) (zs Z).heap (twW (zE Z) o ad τ4) 0 0 4 [some (.ref o), some (jI x1), some (jI x2)] [] := by
    intro n
    induction n with
    | zero => intro k x1 x2 τ4 y4 i4_0 i4_1 i4_2 m4; exact absurd m4 (Nat.not_lt_zero _)
    | succ n ih4 =>
      intro k x1 x2 τ4 y4 i4_0 i4_1 i4_2 m4
      have ha4 : τ4 0 = a := (y4 0 (by decide)).trans ha
      refine zi_iload_n dX3_totalNow_4 rfl ?_
      refine zi_i2l dX3_totalNow_5 (by omega) ?_
      refine zi_aload_n dX3_totalNow_6 rfl ?_
      refine zt_g0 q2431 dX3_totalNow_7 ?_
      refine zi_bipush dX3_totalNow_10 (by decide +kernel) ?_
      refine zt_ld0 dX3_totalNow_12 (ha4) (by omega) ?_
      refine zi_lcmp_ge 37 dX3_totalNow_13 dX3_totalNow_14 (by decide) (by omega) (fun c13 => ?_) (fun c13 => ?_)
      · have q1 := toI_r hok k
        have q2 : toF a = toI a k := by unfold toF; rw [show (a 45).toNat = k by omega]
        refine zi_iload_n dX3_totalNow_37 rfl ?_
        exact zi_ireturn hrt dX3_totalNow_38 (hret _ _ ⟨y4, by omega⟩)
      · refine zi_iload_n dX3_totalNow_17 rfl ?_
        refine zi_aload_n dX3_totalNow_18 rfl ?_
        refine zi_iload_n dX3_totalNow_19 rfl ?_
        refine zt_Vi1 mw_X3_translatorGets rfl (tc_translatorGets (zl Z) (zE Z) _ _ _ _ ha4 _ (hok) (by omega) (by omega)) q2897 hR (by decide) (by simp [Value.category]) dX3_totalNow_20 (fun τ20_0 v20 wτ20_0 => ?_)
        obtain ⟨qτ20_0, h20⟩ := wτ20_0
        have xτ20_0 : eqx [18, 19] σ τ20_0 := eqx_tr y4 (eqx_mono qτ20_0 (by decide))
        have haτ20_0 : τ20_0 0 = a := (xτ20_0 0 (by decide)).trans ha
        refine zi_aload_n dX3_totalNow_23 rfl ?_
        refine zi_iload_n dX3_totalNow_24 rfl ?_
        refine zt_Vi1 mw_X3_reviserGets rfl (tc_reviserGets (zl Z) (zE Z) _ _ _ _ haτ20_0 _ (hok) (by omega)) q2901 hR (by decide) (by simp [Value.category]) dX3_totalNow_25 (fun τ25_1 v25 wτ25_1 => ?_)
        obtain ⟨qτ25_1, h25⟩ := wτ25_1
        have xτ25_1 : eqx [18, 19] σ τ25_1 := eqx_tr xτ20_0 (eqx_mono qτ25_1 (by decide))
        have haτ25_1 : τ25_1 0 = a := (xτ25_1 0 (by decide)).trans ha
        refine zi_iadd dX3_totalNow_28 ?_
        refine zi_iadd dX3_totalNow_29 ?_
        refine zi_istore_1 dX3_totalNow_30 hm (by decide) rfl ?_
        refine zi_iinc_2 dX3_totalNow_31 hm (by decide) rfl ?_
        refine zi_goto 4 dX3_totalNow_34 (by decide) ?_
        exact ih4 (k + 1) _ _ _ xτ25_1 (by omega) (by omega) (by simp only [toI]; rw [← i4_0, ← h20.1, ← h25.1, i4_2]) (by omega)
  exact lp4 _ (0) _ _ _ x0 (by omega) (by omega) (by rfl) (Nat.lt_succ_self _)
