/-! CONTRACTS in blocks: starts, returns, throwing, copying -/
set_option maxRecDepth 100000
abbrev CB {S SX : Type} (l : Launch) (y : MethodName) (cw : List Cond) (dp mc ms : Nat) (E : ZE) (As : List Value) (C : Nat × va_E → Prop) (bc : List va_W) (post : S → Option Value → Prop) (b1 : S → List va_W) (postx : SX → Nat → String → Prop) (bx : SX → List va_W) : Prop :=
  CT l y cw dp mc ms E As bc.flatten (zC E C) post (fun u => (b1 u).flatten) zr0 postx (fun u => (bx u).flatten)
def CR {S : Type} (Z : ZT) (post : S → Option Value → Prop) (b1 : S → List va_W) : Prop := ∀ (u : S) (v : Option Value) (bs : List va_W) (is isD : List Nat), post u v → (is ++ isD).isPerm (List.range bs.length) = true → is.map (fun i => bs[i]?) = (b1 u).map some → ∀ H : Heap, Un (zA Z) (zs Z).heap H → va_P (zE Z).1 clA bs.flatten H → va_D (zA Z) bs.flatten → Un (zA Z) (zs Z).heap H → ∀ t : State, t.heap = H → (zs Z).WarmedH t.vm → zPo Z v (zs Z) t
def CX {SX : Type} (Z : ZT) (postx : SX → Nat → String → Prop) (bx : SX → List va_W) : Prop := ∀ (u : SX) (q : Nat) (En : String) (bs : List va_W) (is isD : List Nat), postx u q En → (is ++ isD).isPerm (List.range bs.length) = true → is.map (fun i => bs[i]?) = (bx u).map some → ∀ H : Heap, va_P (zE Z).1 clA bs.flatten H → va_D (zA Z) bs.flatten → ∀ t : State, t.heap = H → zXc Z q En (zs Z) t
theorem blk_out {D : va_G} {cl : List vw_C} {A : Nat → Prop} {H : Heap} {bs b : List va_W} {is isD : List Nat} (hl : (is ++ isD).isPerm (List.range bs.length) = true) (hs : is.map (fun i => bs[i]?) = b.map some) (hP : va_P D cl bs.flatten H) (hD : va_D A bs.flatten) : va_P D cl b.flatten H ∧ va_D A b.flatten := by
  have h := blk_perm bs _ hl
  rw [List.map_append, List.flatten_append, blk_sel hs] at h
  exact ⟨vaP_sub (fun q hq => h.mem_iff.mpr (List.mem_append_left _ hq)) hP, vaD_left (vaD_perm h hD)⟩
section CBS
variable {S SX : Type} {l : Launch} {y : MethodName} {cc : ByteArray} {nL : Nat} {ret : Option FieldType} {dp mc ms : Nat} {E : ZE} {As : List Value} {own : String} {L : List (Option Value)} {C : Nat × va_E → Prop} {bc : List va_W} {post : S → Option Value → Prop} {b1 : S → List va_W} {postx : SX → Nat → String → Prop} {bx : SX → List va_W}
theorem cr_of {Z : ZT} (hE : E = zE Z) (hPo : zPo Z = zPost E bc.flatten post (fun u => (b1 u).flatten) zr0) (hA : zA Z = va_A bc.flatten (zs Z).heap.size) : CR Z post b1 := by
  intro u v bs is isD hp hl hs H hU hP hD _ t ht hW
  subst ht
  obtain ⟨h1, h2⟩ := blk_out hl hs hP hD
  rw [hPo, hE]
  exact ⟨u, hp, h1, by rw [← hA]; exact h2, trivial⟩
theorem cx_of {Z : ZT} (hE : E = zE Z) (hXc : zXc Z = zPx E bc.flatten postx (fun u => (bx u).flatten)) (hA : zA Z = va_A bc.flatten (zs Z).heap.size) : CX Z postx bx := by
  intro u q En bs is isD hp hl hs H hP hD t ht
  subst ht
  obtain ⟨h1, h2⟩ := blk_out hl hs hP hD
  rw [hXc, hE]
  exact ⟨u, hp, h1, by rw [← hA]; exact h2⟩
theorem cb_of (hy : plainName y.cls = true) (hown : y.cls = own) (hL : zEnt nL As = L) (hlen : (lg_sl As).length ≤ nL)
    (body : ∀ Z : ZT, E = zE Z → zl Z = l → zrt Z = ret → zR Z = zRm dp mc ms → zML Z nL → (zme Z).name = y.name → CR Z post b1 → CX Z postx bx → zC E C (zA Z) (zs Z) (zs Z).heap → (∀ x ∈ (zc Z).exceptionTable.toList, False) → GV own cc Z (zA Z) (zs Z).heap bc.flatten mc ms 0 L []) : CB l y (ws_ y cc nL ret) dp mc ms E As C bc post b1 postx bx :=
  ct_of hy hown hL hlen (fun Z hE hl hr hR hm hnm hPo hXc hA hF hx => body Z hE hl hr hR hm hnm (cr_of hE hPo hA) (cx_of hE hXc hA) hF hx)
theorem cb_ofH {hh : List (Nat × Nat × Nat × Nat)} (hy : plainName y.cls = true) (hown : y.cls = own) (hL : zEnt nL As = L) (hlen : (lg_sl As).length ≤ nL)
    (body : ∀ Z : ZT, E = zE Z → zl Z = l → zrt Z = ret → zR Z = zRm dp mc ms → zML Z nL → (zme Z).name = y.name → CR Z post b1 → CX Z postx bx → zC E C (zA Z) (zs Z) (zs Z).heap → ((zc Z).exceptionTable.toList = tableOf hh) → GV own cc Z (zA Z) (zs Z).heap bc.flatten mc ms 0 L []) : CB l y (wsW_ y cc nL ret hh) dp mc ms E As C bc post b1 postx bx :=
  ct_ofH hy hown hL hlen (fun Z hE hl hr hR hm hnm hPo hXc hA hF hx => body Z hE hl hr hR hm hnm (cr_of hE hPo hA) (cx_of hE hXc hA) hF hx)
end CBS
section OUT
variable {own : String} {cc : ByteArray} {Z : ZT} {B : Nat → Prop} {Hb : Heap} {ws : va_W} {bs : List va_W} {kc ks pc : Nat} {L : List (Option Value)} {st : List Value}
/-- thrown further -/
theorem gx_out {SX : Type} {postx : SX → Nat → String → Prop} {bx : SX → List va_W} {q : Nat} {En : String} (hx0 : ∀ x ∈ (zc Z).exceptionTable.toList, False) (hX : CX Z postx bx) (u : SX) (is isD : List Nat) (hp : postx u q En) (hl : (is ++ isD).isPerm (List.range bs.length) = true) (hs : is.map (fun i => bs[i]?) = (bx u).map some) : GX own cc Z (zA Z) (zs Z).heap bs.flatten kc ks pc L q En := by
  intro C0 b H locs cells slots ls ce st hU hP hD hS hc hs2 hL hce hcv hcl
  exact vx_out (fun x hx => (hx0 x hx).elim) C0.2.2.2.2.1 hce hcv hcl (fun t ht hA => ⟨hX u q En bs is isD hp hl hs H hP hD t ht, by rw [ht]; exact hU⟩) hS.2.2 (by omega) (by omega)
theorem zb_athrow {a ci : Nat} {fs : List Value} {q : vw_C} (q0 : Nat) (he : bs[q0]? = some [(a, .inr (ci, fs))]) (hc : clA[ci]? = some q) (d : decode cc pc = .ok (.athrow, 1)) (k : GX own cc Z B Hb bs.flatten kc ks pc L a q.1) : GV own cc Z B Hb bs.flatten kc ks pc L (.ref a :: st) := by
  obtain ⟨k9, h9, h8⟩ := blk_at he
  intro C0 b H locs cells slots ls hU hP hD hS hc2 hs hL
  obtain ⟨r, h1, cell, g1, g2, g3, g4⟩ := hP k9 _ h9
  have hr : r = q := Option.some.inj (h1.symm.trans hc)
  subst hr
  obtain ⟨hSl, hfc, -⟩ := C0.2.2.2.2.2.2.2.1.1.1 ci _ hc
  exact vx_athrow C0.1 C0.2.1 d (k C0 b H locs cells slots ls cell st hU hP hD hS hc2 hs hL g1 g3 (by rw [g2]; exact hfc))
theorem zi_throw0 {SX : Type} {postx : SX → Nat → String → Prop} {bx : SX → List va_W} {cls : String} {names : List String} {ik ic dp mc ms : Nat} (hx0 : ∀ x ∈ (zc Z).exceptionTable.toList, False) (hX : CX Z postx bx) (u : SX) (is isD : List Nat) (hp : ∀ q : Nat, postx u q cls) (hl : (is ++ isD).isPerm (List.range bs.length) = true) (hs : is.map (fun i => bs[i]?) = (bx u).map some)
    (hcls : Bundle.fit cls = true) (hnames : ∀ n ∈ names, Bundle.fit n = true) (hk : Jvm.Cond.classLink own ik cls ∈ lw_all) (hini : Jvm.Cond.initialized cls ∈ lw_all) (hat1 : ∀ w ∈ (vx_at0 own ic cls names).filter goodWord, w ∈ lw_all) (hat2 : (vx_at0 own ic cls names).filter (fun w => !goodWord w) = [.castable cls cls]) (hca : Jvm.Cond.castable cls cls ∈ lw_tbl)
    (hgood : ∀ w ∈ Cond.classLink own ik cls :: Cond.initialized cls :: vx_at0 own ic cls names, vx_ot w = true)
    (d0 : decode cc pc = .ok (.new ik, 3)) (d3 : decode cc (pc + 3) = .ok (.dup, 1)) (d4 : decode cc (pc + 4) = .ok (.invokespecial ic, 3)) (d7 : decode cc (pc + 7) = .ok (.athrow, 1))
    (hR0 : zR Z = zRm dp mc ms) (hdp : names.length + 3 < dp) (hrm : (st.map fun v => v.category).sum ≤ 8) (hk1 : 1 ≤ kc ∧ 6 ≤ ks) : GV own cc Z (zA Z) (zs Z).heap bs.flatten kc ks pc L st := by
  intro C0 b H locs cells slots ls hU hP hD hS hc hs2 hL
  have hT := C0.2.2.2.2.2.2.2.2.1.2.2.2.2.1
  refine vx_throw0 (names := names) (A := zA Z) C0.1 C0.2.1 C0.2.2.2.2.2.2.1 C0.2.2.1 hcls hnames (C0.2.2.2.1 _ hk) (C0.2.2.2.1 _ hini) (vx_hat (B := [.castable cls cls]) (fun w hw => C0.2.2.2.1 _ (hat1 w hw)) (fun w hw => by rw [hat2] at hw; exact hw) (vx_c (va_Nw.use rfl (C0.2.2.2.2.2.2.2.1.2.1 _ hca rfl)) vx_n)) hgood hT.1 hT.2 hS hL.1 d0 d3 d4 d7 (fun x hx => (hx0 x hx).elim) ?_ ?_ (by omega) (by omega) C0.2.2.2.2.1 (fun q9 t hA hz ho => ?_) hS.2.2 (by omega) (by omega)
  · rw [hR0]; exact hdp
  · rw [hR0]; show _ ≤ 64 * dp; omega
  · refine ⟨hX u q9 cls bs is isD (hp q9) hl hs t.heap (hP.kept (fun k x hx => ho x.1 ((hP k x hx).lt))) hD t rfl, ⟨Nat.le_trans hU.1 hz, fun q h1 h2 => ?_⟩⟩
    rw [ho q (Nat.lt_of_lt_of_le h1 hU.1)]
    exact hU.2 q h1 h2
end OUT
/-! copying -/
def cpI {α : Type} (f g : Int → α) (sp dp n : Int) : Int → α := fun j => if dp ≤ j ∧ j < dp + n then f (sp + (j - dp)) else g j
theorem cpI_cpy {α β : Type} (mk : α → β) {f g : Int → α} {sp dp n : Int} (h : 0 ≤ sp ∧ 0 ≤ dp ∧ 0 ≤ n) : (va_cpy (fun j : Nat => mk (f j)) (fun j : Nat => mk (g j)) sp.toNat dp.toNat n.toNat) = fun j : Nat => mk (cpI f g sp dp n j) := by
  funext j
  simp only [va_cpy, cpI]
  by_cases h1 : dp.toNat ≤ j ∧ j < dp.toNat + n.toNat
  · rw [if_pos h1, if_pos (by omega)]
    congr 2
    omega
  · rw [if_neg h1, if_neg (by omega)]
theorem z_nn {z : Int} (h : 0 ≤ z ∧ z < 2147483648) : ¬ Int32.ofInt z < 0 ∧ (Int32.ofInt z).toInt = z ∧ (Int32.ofInt z).toNatClampNeg = z.toNat := by
  refine ⟨?_, Int32_ofInt_range (by omega), z_clamp h⟩
  rw [Int32.lt_iff_toInt_lt, Int32_ofInt_range (by omega), Int32.toInt_zero]
  omega
section COPY
variable {own : String} {cc : ByteArray} {Z : ZT} {B : Nat → Prop} {Hb : Heap} {ws : va_W} {bs : List va_W} {kc ks pc : Nat} {L : List (Option Value)} {st : List Value} {a a0 n0 n1 index dp9 mc ms : Nat} {sp dp n : Int}
/-- a cell lies there, whatever has been done -/
def zIs (own : String) (cc : ByteArray) (Z : ZT) (B : Nat → Prop) (Hb : Heap) (ws : va_W) (e : Nat × va_E) : Prop := Cx own cc Z → ∀ H : Heap, Un B Hb H → va_P (zE Z).1 clA ws H → va_at (zE Z).1 clA e H
theorem zIs_C {C : Nat × va_E → Prop} {e : Nat × va_E} (hC : zC (zE Z) C B (zs Z) Hb) (h : C e) : zIs own cc Z B Hb ws e := fun _ _ hU _ => va_at_kept (hC e h).1 (hU.2 _ (hC e h).1.lt (hC e h).2)
theorem zIs_b {e : Nat × va_E} (q0 : Nat) (he : bs[q0]? = some [e]) : zIs own cc Z B Hb bs.flatten e := fun _ _ _ hP => by
  obtain ⟨k9, h9, h8⟩ := blk_at he
  exact hP k9 _ h9
theorem zIs_m {e : Nat × va_E} (he : e ∈ ws) : zIs own cc Z B Hb ws e := fun _ _ _ hP => vaP_mem.mp hP e he
theorem zIs_rc {ci : Nat} {q : vw_C} {fs : List Value} (h : zIs own cc Z B Hb ws (a, .inr (ci, fs))) (hc : clA[ci]? = some q) : zRc own cc Z B Hb ws q.1 a := fun C0 H hU hP => by
  obtain ⟨r, h1, cell, g1, g2, g3, g4⟩ := h C0 H hU hP
  have hr : r = q := Option.some.inj (h1.symm.trans hc)
  subst hr
  obtain ⟨hSl, hfc, -⟩ := C0.2.2.2.2.2.2.2.1.1.1 ci _ hc
  exact ⟨cell, g1, by rw [g3]; rfl, by rw [g2]; exact hfc⟩
theorem zAny_rc {C : String} (hr : zRc own cc Z B Hb ws C a) (hca : Jvm.Cond.castable C "java/lang/Object" ∈ lw_tbl) : Cx own cc Z → ∀ H : Heap, Un B Hb H → va_P (zE Z).1 clA ws H → va_Any "java/lang/Object" (zs Z) H a := by
  intro C0 H hU hP
  obtain ⟨cellV, g1, g2, g3⟩ := hr C0 H hU hP
  obtain ⟨c0, t0, f1, f2, f3⟩ := Cond.castable_spec (va_Nw.use (A := za Z) rfl (C0.2.2.2.2.2.2.2.1.2.1 _ hca rfl))
  have e2 : c0 = cellV.cls := Option.some.inj (f1.symm.trans g3)
  subst e2
  obtain ⟨kV, hkV, -⟩ := Vm.findClass_spec f1
  exact ⟨cellV, g1, g2, ⟨kV, hkV⟩, fun comp hc => by rw [Option.some.inj (hc.symm.trans f2)]; exact f3⟩
theorem zi_copyI {f g : Int → Int} {c : ClassId} {ty : FieldType} (t0 : Nat) (ht : (zTys (zE Z))[t0]? = some (c, ty)) (hprim : refKind ty = false) (hfit : ∀ i : Int, 0 ≤ i → i < n → fits ty (jI (f (sp + i))) = true)
    (hsrc : zIs own cc Z B Hb ws (a0, .inl (c, n0, .inl (fun j => Int32.ofInt (f j))))) (q1 : Nat) (he : ws[q1]? = some (a, .inl (c, n1, .inl (fun j => Int32.ofInt (g j))))) (h : (0 ≤ sp ∧ 0 ≤ dp ∧ 0 ≤ n) ∧ (sp + n ≤ n0 ∧ dp + n ≤ n1) ∧ (n0 ≤ 100000 ∧ n1 ≤ 100000))
    (lnk : Jvm.Cond.methodLink own index arraycopyName ∈ lw_all) (hR0 : zR Z = zRm dp9 mc ms) (hdp : 1 ≤ dp9) (hrm : (st.map fun v => v.category).sum ≤ 8) (d : decode cc pc = .ok (.invokestatic index, 3))
    (k : GV own cc Z B Hb (ws.set q1 (a, .inl (c, n1, .inl (fun j => Int32.ofInt (cpI f g sp dp n j))))) kc ks (pc + 3) L st) : GV own cc Z B Hb ws kc ks pc L (jI n :: jI dp :: .ref a :: jI sp :: .ref a0 :: st) := by
  intro C0 b H locs cells slots ls hU hP hD hS hc hs hL T hT X
  obtain ⟨⟨p1, p2, p3⟩, ⟨p4, p5⟩, p6, p7⟩ := h
  obtain ⟨s1, s2, s3⟩ := z_nn (z := sp) (by omega)
  obtain ⟨r1, r2, r3⟩ := z_nn (z := dp) (by omega)
  obtain ⟨u1, u2, u3⟩ := z_nn (z := n) (by omega)
  have hc0 : H[a0]? = some (vp_cell c (n0, .inl (fun j => Int32.ofInt (f j)))) := hsrc C0 H hU hP
  have hc1 : H[a]? = some (vp_cell c (n1, .inl (fun j => Int32.ofInt (g j)))) := hP q1 _ he
  obtain ⟨-, k0, hk0, cm0, hkk0⟩ := (zA_of C0 t0 ht).1 n0 (fun j => .int (Int32.ofInt (f j)))
  obtain ⟨-, k1, hk1, cm1, hkk1⟩ := (zA_of C0 t0 ht).1 n1 (fun j => .int (Int32.ofInt (g j)))
  obtain ⟨vm', X', step⟩ := X.arraycopy C0.1 C0.2.2.1 (C0.2.2.2.1 _ lnk) (C0.2.2.2.1 _ q788) (C0.2.2.2.1 _ q787) (C0.2.2.2.1 _ q140) (src := a0) (dst := a) (cs := vp_cell c (n0, .inl (fun j => Int32.ofInt (f j)))) (cd := vp_cell c (n1, .inl (fun j => Int32.ofInt (g j)))) (srcPos := Int32.ofInt sp) (destPos := Int32.ofInt dp) (n := Int32.ofInt n) (by rw [hT]; exact hc0) (by rw [hT]; exact hc1)
    (fun _ h => by cases h) (fun _ h => by cases h) (fun h => by cases h) (fun h => by cases h) hk0 hk1 hkk0 hkk1 (by simp [hprim]) s1 r1 u1
    (by rw [s2, u2]; show ¬ _ > ((arrV c n0 (fun j => .int (Int32.ofInt (f j)))).slots.size : Int); rw [arrV_size]; omega)
    (by rw [r2, u2]; show ¬ _ > ((arrV c n1 (fun j => .int (Int32.ofInt (g j)))).slots.size : Int); rw [arrV_size]; omega)
    (fun vm₁ _ i hi => by
      rw [u3] at hi
      have e : (vp_cell c (n0, .inl (fun j => Int32.ofInt (f j)))).slots.getD ((Int32.ofInt sp).toNatClampNeg + i) .null = jI (f (sp + i)) := by
        rw [s3]
        show (arrV c n0 (fun j => .int (Int32.ofInt (f j)))).slots.getD _ _ = _
        rw [Array.getD_eq_getD_getElem?, arrV_read _ _ (by omega)]
        show jI (f ((sp.toNat + i : Nat) : Int)) = _
        rw [show ((sp.toNat + i : Nat) : Int) = sp + i by omega]
      refine ⟨?_, ?_⟩
      · rw [e]
        exact hfit i (by omega) (by omega)
      · rw [e]
        exact trivial)
    (g := F0 (zm Z) pc ls _) rfl hL.1 (rest := st) rfl (by rw [C0.2.1]; exact d) (by rw [hR0]; exact hdp) (by rw [hR0]; show 2 * 0 + _ + (nativeFrameWords "java/lang/System" "arraycopy" 5 + 11) ≤ 64 * dp9; have : nativeFrameWords "java/lang/System" "arraycopy" 5 ≤ 45 := (by decide); omega)
  have e1 : copied (vp_cell c (n0, .inl (fun j => Int32.ofInt (f j)))) (vp_cell c (n1, .inl (fun j => Int32.ofInt (g j)))) (Int32.ofInt sp) (Int32.ofInt dp) (Int32.ofInt n) = vp_cell c (n1, .inl (fun j => Int32.ofInt (cpI f g sp dp n j))) := by
    have e0 := va_copied (fun z => Value.int z) c c (n1 := n1) (fun j : Nat => Int32.ofInt (f j)) (fun j : Nat => Int32.ofInt (g j)) (n0 := n0) (sp := sp.toNat) (dp := dp.toNat) (n := n.toNat) (by omega)
    rw [cpI_cpy Int32.ofInt ⟨p1, p2, p3⟩] at e0
    show Cell.storeRun _ _ _ = _
    rw [s3, r3, u3]
    exact e0
  rw [e1] at X' step
  have hl : a < H.size := (Array.getElem?_eq_some_iff.mp hc1).1
  have oq : ∀ q : Nat, q ≠ a → (H.setIfInBounds a (vp_cell c (n1, .inl (fun j => Int32.ofInt (cpI f g sp dp n j)))))[q]? = H[q]? := fun q hq => by simp [Array.getElem?_setIfInBounds, Ne.symm hq]
  obtain ⟨t, a1, b1⟩ := k C0 b _ _ cells slots ls ⟨by simp; exact hU.1, fun q g1 g2 => by
      rw [oq q (fun e => g2 (by rw [e]; exact hD.2 q1 _ he))]
      exact hU.2 q g1 g2⟩ (hP.set hD he (show (H.setIfInBounds a _)[a]? = some _ by simp [Array.getElem?_setIfInBounds, hl]) oq) (hD.set he) ⟨by simp; exact hS.1, fun q g1 g2 => by
      rw [oq q (fun e => g2 (by rw [e]; exact b.1 _ (hD.2 q1 _ he)))]
      exact hS.2.1 q g1 g2, fun q hq => by
      rcases List.mem_append.mp hq with h | h
      · exact hS.2.2 q h
      · obtain ⟨z, -, hz⟩ := List.mem_map.mp h
        rw [← hz]
        exact b.1 _ (hD.2 q1 _ he)⟩ hc hs hL _ (by rw [← hT]; rfl) X'
  exact ⟨t, step t a1, b1⟩
theorem zi_copyR {f g : Int → Option Nat} (hel : Cx own cc Z → ∀ H : Heap, Un B Hb H → va_P (zE Z).1 clA ws H → ∀ i : Int, 0 ≤ i → i < n → ∀ y : Nat, f (sp + i) = some y → va_Any "java/lang/Object" (zs Z) H y)
    (hsrc : zIs own cc Z B Hb ws (a0, aR (zE Z) n0 f)) (q1 : Nat) (he : ws[q1]? = some (a, aR (zE Z) n1 g)) (h : (0 ≤ sp ∧ 0 ≤ dp ∧ 0 ≤ n) ∧ (sp + n ≤ n0 ∧ dp + n ≤ n1) ∧ (n0 ≤ 100000 ∧ n1 ≤ 100000))
    (lnk : Jvm.Cond.methodLink own index arraycopyName ∈ lw_all) (hR0 : zR Z = zRm dp9 mc ms) (hdp : 1 ≤ dp9) (hrm : (st.map fun v => v.category).sum ≤ 8) (d : decode cc pc = .ok (.invokestatic index, 3))
    (k : GV own cc Z B Hb (ws.set q1 (a, aR (zE Z) n1 (cpI f g sp dp n))) kc ks (pc + 3) L st) : GV own cc Z B Hb ws kc ks pc L (jI n :: jI dp :: .ref a :: jI sp :: .ref a0 :: st) := by
  intro C0 b H locs cells slots ls hU hP hD hS hc hs hL T hT X
  obtain ⟨⟨p1, p2, p3⟩, ⟨p4, p5⟩, p6, p7⟩ := h
  obtain ⟨s1, s2, s3⟩ := z_nn (z := sp) (by omega)
  obtain ⟨r1, r2, r3⟩ := z_nn (z := dp) (by omega)
  obtain ⟨u1, u2, u3⟩ := z_nn (z := n) (by omega)
  have hc0 : H[a0]? = some (vp_cell ((zE Z).2.1 4) (n0, .inr (.inr (.inr (.inr (fun j => f j)))))) := hsrc C0 H hU hP
  have hc1 : H[a]? = some (vp_cell ((zE Z).2.1 4) (n1, .inr (.inr (.inr (.inr (fun j => g j)))))) := hP q1 _ he
  obtain ⟨-, k0, hk0, cm0, hkk0⟩ := (zA_of C0 4 rfl).1 n0 (fun j => va_rf (f j))
  obtain ⟨-, k1, hk1, cm1, hkk1⟩ := (zA_of C0 4 rfl).1 n1 (fun j => va_rf (g j))
  obtain ⟨vm', X', step⟩ := X.arraycopy C0.1 C0.2.2.1 (C0.2.2.2.1 _ lnk) (C0.2.2.2.1 _ q788) (C0.2.2.2.1 _ q787) (C0.2.2.2.1 _ q140) (src := a0) (dst := a) (cs := vp_cell ((zE Z).2.1 4) (n0, .inr (.inr (.inr (.inr (fun j => f j)))))) (cd := vp_cell ((zE Z).2.1 4) (n1, .inr (.inr (.inr (.inr (fun j => g j)))))) (srcPos := Int32.ofInt sp) (destPos := Int32.ofInt dp) (n := Int32.ofInt n) (by rw [hT]; exact hc0) (by rw [hT]; exact hc1)
    (fun _ h => by cases h) (fun _ h => by cases h) (fun h => by cases h) (fun h => by cases h) hk0 hk1 hkk0 hkk1 rfl s1 r1 u1
    (by rw [s2, u2]; show ¬ _ > ((arrV ((zE Z).2.1 4) n0 (fun j => va_rf (f j))).slots.size : Int); rw [arrV_size]; omega)
    (by rw [r2, u2]; show ¬ _ > ((arrV ((zE Z).2.1 4) n1 (fun j => va_rf (g j))).slots.size : Int); rw [arrV_size]; omega)
    (fun vm₁ hal i hi => by
      rw [u3] at hi
      have e : (vp_cell ((zE Z).2.1 4) (n0, .inr (.inr (.inr (.inr (fun j => f j)))))).slots.getD ((Int32.ofInt sp).toNatClampNeg + i) .null = va_rf (f (sp + i)) := by
        rw [s3]
        show (arrV ((zE Z).2.1 4) n0 (fun j => va_rf (f j))).slots.getD _ _ = _
        rw [Array.getD_eq_getD_getElem?, arrV_read _ _ (by omega)]
        show va_rf (f ((sp.toNat + i : Nat) : Int)) = _
        rw [show ((sp.toNat + i : Nat) : Int) = sp + i by omega]
      rw [e]
      cases hy : f (sp + i) with
      | none => exact ⟨rfl, trivial⟩
      | some y =>
        obtain ⟨cellV, g1, g2, ⟨kC, hkC⟩, hasg⟩ := hel C0 H hU hP i (by omega) (by omega) y hy
        obtain ⟨kA, comp, r1, r2, r3, -⟩ := (zA_of C0 4 rfl).2
        cases hk1.symm.trans r1
        cases hkk1.symm.trans r2
        obtain ⟨kE, hkE, -⟩ := Vm.findClass_spec r3
        obtain ⟨kC', hkC', -⟩ := hal.2.2 _ _ hkC
        obtain ⟨kE', hkE', -⟩ := hal.2.2 _ _ hkE
        refine ⟨rfl, cellV, (show T.heap[y]? = some cellV by rw [hT]; exact g1), (fun q h => by rw [h] at g2; cases g2), ⟨kC', hkC'⟩, ?_, ?_⟩
        · exact ⟨kE', hkE'⟩
        · show vm₁.assignable _ _ = true
          rw [hal.assignable]
          exact hasg _ r3)
    (g := F0 (zm Z) pc ls _) rfl hL.1 (rest := st) rfl (by rw [C0.2.1]; exact d) (by rw [hR0]; exact hdp) (by rw [hR0]; show 2 * 0 + _ + (nativeFrameWords "java/lang/System" "arraycopy" 5 + 11) ≤ 64 * dp9; have : nativeFrameWords "java/lang/System" "arraycopy" 5 ≤ 45 := (by decide); omega)
  have e1 : copied (vp_cell ((zE Z).2.1 4) (n0, .inr (.inr (.inr (.inr (fun j => f j)))))) (vp_cell ((zE Z).2.1 4) (n1, .inr (.inr (.inr (.inr (fun j => g j)))))) (Int32.ofInt sp) (Int32.ofInt dp) (Int32.ofInt n) = vp_cell ((zE Z).2.1 4) (n1, .inr (.inr (.inr (.inr (fun j => cpI f g sp dp n j))))) := by
    have e0 := va_copied (fun z => va_rf z) ((zE Z).2.1 4) ((zE Z).2.1 4) (n1 := n1) (fun j : Nat => f j) (fun j : Nat => g j) (n0 := n0) (sp := sp.toNat) (dp := dp.toNat) (n := n.toNat) (by omega)
    rw [cpI_cpy (fun x : Option Nat => x) ⟨p1, p2, p3⟩] at e0
    rw [vp_cell_q, vp_cell_q, vp_cell_q]
    show Cell.storeRun _ _ _ = _
    rw [s3, r3, u3]
    exact e0
  rw [e1] at X' step
  have hl : a < H.size := (Array.getElem?_eq_some_iff.mp hc1).1
  have oq : ∀ q : Nat, q ≠ a → (H.setIfInBounds a (vp_cell ((zE Z).2.1 4) (n1, .inr (.inr (.inr (.inr (fun j => cpI f g sp dp n j)))))))[q]? = H[q]? := fun q hq => by simp [Array.getElem?_setIfInBounds, Ne.symm hq]
  obtain ⟨t, a1, b1⟩ := k C0 b _ _ cells slots ls ⟨by simp; exact hU.1, fun q g1 g2 => by
      rw [oq q (fun e => g2 (by rw [e]; exact hD.2 q1 _ he))]
      exact hU.2 q g1 g2⟩ (hP.set hD he (show (H.setIfInBounds a _)[a]? = some _ by simp [Array.getElem?_setIfInBounds, hl]) oq) (hD.set he) ⟨by simp; exact hS.1, fun q g1 g2 => by
      rw [oq q (fun e => g2 (by rw [e]; exact b.1 _ (hD.2 q1 _ he)))]
      exact hS.2.1 q g1 g2, fun q hq => by
      rcases List.mem_append.mp hq with h | h
      · exact hS.2.2 q h
      · obtain ⟨z, -, hz⟩ := List.mem_map.mp h
        rw [← hz]
        exact b.1 _ (hD.2 q1 _ he)⟩ hc hs hL _ (by rw [← hT]; rfl) X'
  exact ⟨t, step t a1, b1⟩
theorem zb_copyI {f g : Int → Int} {c : ClassId} {ty : FieldType} (t0 : Nat) (ht : (zTys (zE Z))[t0]? = some (c, ty)) (hprim : refKind ty = false) (hfit : ∀ i : Int, 0 ≤ i → i < n → fits ty (jI (f (sp + i))) = true)
    (hsrc : zIs own cc Z B Hb bs.flatten (a0, .inl (c, n0, .inl (fun j => Int32.ofInt (f j))))) (q1 : Nat) (he : bs[q1]? = some [(a, .inl (c, n1, .inl (fun j => Int32.ofInt (g j))))]) (h : (0 ≤ sp ∧ 0 ≤ dp ∧ 0 ≤ n) ∧ (sp + n ≤ n0 ∧ dp + n ≤ n1) ∧ (n0 ≤ 100000 ∧ n1 ≤ 100000))
    (lnk : Jvm.Cond.methodLink own index arraycopyName ∈ lw_all) (hR0 : zR Z = zRm dp9 mc ms) (hdp : 1 ≤ dp9) (hrm : (st.map fun v => v.category).sum ≤ 8) (d : decode cc pc = .ok (.invokestatic index, 3))
    (k : GV own cc Z B Hb (bs.set q1 [(a, .inl (c, n1, .inl (fun j => Int32.ofInt (cpI f g sp dp n j))))]).flatten kc ks (pc + 3) L st) : GV own cc Z B Hb bs.flatten kc ks pc L (jI n :: jI dp :: .ref a :: jI sp :: .ref a0 :: st) := by
  obtain ⟨k9, h9, h8⟩ := blk_at he
  exact zi_copyI t0 ht hprim hfit hsrc k9 h9 h lnk hR0 hdp hrm d (by rw [h8]; exact k)
theorem zb_copyR {f g : Int → Option Nat} (hel : Cx own cc Z → ∀ H : Heap, Un B Hb H → va_P (zE Z).1 clA bs.flatten H → ∀ i : Int, 0 ≤ i → i < n → ∀ y : Nat, f (sp + i) = some y → va_Any "java/lang/Object" (zs Z) H y)
    (hsrc : zIs own cc Z B Hb bs.flatten (a0, aR (zE Z) n0 f)) (q1 : Nat) (he : bs[q1]? = some [(a, aR (zE Z) n1 g)]) (h : (0 ≤ sp ∧ 0 ≤ dp ∧ 0 ≤ n) ∧ (sp + n ≤ n0 ∧ dp + n ≤ n1) ∧ (n0 ≤ 100000 ∧ n1 ≤ 100000))
    (lnk : Jvm.Cond.methodLink own index arraycopyName ∈ lw_all) (hR0 : zR Z = zRm dp9 mc ms) (hdp : 1 ≤ dp9) (hrm : (st.map fun v => v.category).sum ≤ 8) (d : decode cc pc = .ok (.invokestatic index, 3))
    (k : GV own cc Z B Hb (bs.set q1 [(a, aR (zE Z) n1 (cpI f g sp dp n))]).flatten kc ks (pc + 3) L st) : GV own cc Z B Hb bs.flatten kc ks pc L (jI n :: jI dp :: .ref a :: jI sp :: .ref a0 :: st) := by
  obtain ⟨k9, h9, h8⟩ := blk_at he
  exact zi_copyR hel hsrc k9 h9 h lnk hR0 hdp hrm d (by rw [h8]; exact k)
/-- null is stored -/
theorem zb_stRN {m : Nat} {z : Int} {f : Int → Option Nat} (q0 : Nat) (he : bs[q0]? = some [(a, aR (zE Z) m f)]) (hi : 0 ≤ z ∧ z < m) (hm : m ≤ 2147483647) (d : decode cc pc = .ok (.aastore, 1)) (k : GV own cc Z B Hb (bs.set q0 [(a, aR (zE Z) m (zup f z none))]).flatten kc ks (pc + 1) L st) : GV own cc Z B Hb bs.flatten kc ks pc L (.null :: jI z :: .ref a :: st) := by
  obtain ⟨k9, h9, h8⟩ := blk_at he
  intro C0 b H locs cells slots ls hU hP hD hS hc hs hL
  have hz := z_clamp (a := z) (by omega)
  refine va_WaastN (C := "java/lang/Object") C0.1 C0.2.1 (hP k9 _ h9) ((zA_of C0 4 rfl).1 m (fun j => va_rf (f (j : Int)))) (fun h => by cases h) (by show ¬ (Int32.ofInt z < 0 ∨ (arrV _ _ _).slots.size ≤ _); rw [arrV_size]; exact z_in hi hm) rfl rfl d fun H1 e1 z1 o1 => ?_
  rw [hz] at e1 ⊢
  obtain ⟨g1, g2, g3, g4⟩ := zk_put (e := aR (zE Z) m (zup f z none)) (i := z.toNat) b hU hP hD hS h9 (by
    show H1[a]? = some (vp_cell _ _)
    rw [e1]
    show some ((vp_cell _ _).setSlot _ _) = _
    rw [vp_cell_q, vp_cell_q, arrV_store]
    congr 2
    funext q
    by_cases hq : q = z.toNat
    · subst hq
      simp [updV, zup, Int.toNat_of_nonneg hi.1, va_rf]
    · have hq2 : ¬ (q : Int) = z := fun h => hq (by omega)
      simp [updV, zup, hq, hq2]) z1 o1
  rw [h8] at g2 g3
  exact k C0 b H1 _ cells slots ls g1 g2 g3 g4 hc hs hL
end COPY
section LDC
variable {own : String} {cc : ByteArray} {Z : ZT} {B : Nat → Prop} {Hb : Heap} {ws : va_W} {kc ks pc : Nat} {L : List (Option Value)} {st : List Value} {index a dp mc ms : Nat}
theorem z_ldcw {p : Program} {l : Launch} {e : Env} {R : Room} {s : State} {m : MethodId} {args : Array Value} {below : List Frame} {meth : Method} {c : Code} {T : State} {locs : List Loc} {cells slots : Nat} (X : Stand p l e R s m args below meth c T locs cells slots) (hexec : p.tables.exec = Jvm.exec) {own text : String} {index : Nat} {a : Addr} (hown : s.vm.findClass own = some m.cls)
    (hconst : (Cond.stringRef own index text).before args s = true) (hev : (Term.string own index).eval args s none [] s = some (.ref a)) {g : JFrame} (hg : g.method = m) (hdg : decode c.code g.pc = .ok (.ldc_w index, 3)) :
    ∀ target, Steps p.tables e below (T.setTop { g with pc := g.pc + 3, stack := .ref a :: g.stack }) target → Steps p.tables e below (T.setTop g) target := by
  obtain ⟨k, cf, i, a', hk, hcf, hcp, -, hr, hev'⟩ := Cond.stringRef_spec hown hconst
  cases hev.symm.trans hev'
  obtain ⟨k', hk', he⟩ := X.warmed.alike.2.2 _ _ hk
  have hr' : k'.resolved[index]? = some (some (.string a)) := by
    rcases X.warmed.entry hk hk' index with h | ⟨h, -⟩
    · rw [h]; exact hr
    · rw [hr] at h; cases h
  intro target hrest
  subst hg
  jvm_step X.here [hexec, hdg, Op.ldc_w.wp_string (e := e) (s := T) (f := g) X.here.top hk' (by rw [he]; exact hcf) hcp hr']
  exact hrest
theorem zi_ldcwS {tx : String} (i : Nat) (hi : zLit[i]? = some (own, index, tx)) (d : decode cc pc = .ok (.ldc_w index, 3)) (k : GV own cc Z B Hb ws kc ks (pc + 3) L (.ref ((zE Z).2.2 (20 + i)) :: st)) : GV own cc Z B Hb ws kc ks pc L st := by
  intro C0 b H locs cells slots ls hU hP hD hS hc hs hL T hT X
  have hZ := (C0.2.2.2.2.2.2.2.2.1.2.2.2.2.2.2.2.1 i _ hi).1
  obtain ⟨t, a1, b1⟩ := k C0 b H locs cells slots ls hU hP hD hS hc hs hL T hT X
  exact ⟨t, z_ldcw X C0.1 C0.2.2.1 (text := tx) (a := (zE Z).2.2 (20 + i)) hZ.1 hZ.2 (g := F0 (zm Z) pc ls st) rfl (by rw [C0.2.1]; exact d) t a1, b1⟩
/-- a class object: of lists, of arrays of objects -/
theorem zi_ldcM {C : String} {mi : Nat} (hM : zWd (zE Z) (zs Z) → va_Mi C mi (zs Z)) (lnk : Jvm.Cond.classLink own index C ∈ lw_all) (d : decode cc pc = .ok (.ldc index, 2)) (k : GV own cc Z B Hb ws kc ks (pc + 2) L (.ref mi :: st)) : GV own cc Z B Hb ws kc ks pc L st :=
  fun C0 b H locs cells slots ls hU hP hD hS hc hs hL => va_ldcM C0.1 C0.2.1 C0.2.2.1 (C0.2.2.2.1 _ lnk) (hM C0.2.2.2.2.2.2.2.1) d (k C0 b H locs cells slots ls hU hP hD hS hc hs hL)
theorem zi_getC {C : String} {mi : Nat} (hM : zWd (zE Z) (zs Z) → va_Mi C mi (zs Z)) (hr : zRc own cc Z B Hb ws C a) (lnk : Jvm.Cond.methodLink own index ⟨"java/lang/Object", "getClass", "()Ljava/lang/Class;"⟩ ∈ lw_all) (hdecl : Jvm.Cond.declares ⟨"java/lang/Object", "getClass", "()Ljava/lang/Class;"⟩ ∈ lw_tbl) (hsel : Jvm.Cond.selects C ⟨"java/lang/Object", "getClass", "()Ljava/lang/Class;"⟩ ⟨"java/lang/Object", "getClass", "()Ljava/lang/Class;"⟩ ∈ lw_all) (hinst : Jvm.Cond.instanceMethod ⟨"java/lang/Object", "getClass", "()Ljava/lang/Class;"⟩ ∈ lw_all) (hnat : Jvm.Cond.native ⟨"java/lang/Object", "getClass", "()Ljava/lang/Class;"⟩ ∈ lw_all)
    (hR0 : zR Z = zRm dp mc ms) (hdp : 1 ≤ dp) (hrm : (st.map fun v => v.category).sum ≤ 8) (d : decode cc pc = .ok (.invokevirtual index, 3)) (k : GV own cc Z B Hb ws kc ks (pc + 3) L (.ref mi :: st)) : GV own cc Z B Hb ws kc ks pc L (.ref a :: st) :=
  fun C0 b H locs cells slots ls hU hP hD hS hc hs hL => va_getC C0.1 C0.2.1 hL.1.symm C0.2.2.1 (C0.2.2.2.1 _ lnk) (va_Nw.use (A := za Z) rfl (C0.2.2.2.2.2.2.2.1.2.1 _ hdecl rfl)) (C0.2.2.2.1 _ hsel) (C0.2.2.2.1 _ hinst) (C0.2.2.2.1 _ hnat) (hM C0.2.2.2.2.2.2.2.1) (hr C0 H hU hP) (by rw [hR0]; exact hdp) (by rw [hR0]; show _ ≤ 64 * dp; omega) d (k C0 b H locs cells slots ls hU hP hD hS hc hs hL)
end LDC
