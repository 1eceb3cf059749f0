/-! WHAT LIES IN THE HEAP, said of any kind C of cells: lists, words, segments, offices -/
set_option maxRecDepth 100000
abbrev CT0 : Type := Nat × va_E → Prop
/-- an ArrayList of n references f, room for m, its cells: the object and its array; an empty one may hold the shared empty array -/
def LstK (E : ZE) (a : Nat) (n : Int) (f : Int → Nat) (m : Nat) (w : va_W) : Prop := ∃ (b : Nat) (mc : Int), (∃ g : Int → Option Nat, w = [(a, .inr (3, [jI mc, .ref b, jI n])), (b, aR E m g)] ∧ (0 ≤ n ∧ n ≤ m ∧ 10 ≤ m ∧ m ≤ 100000) ∧ ∀ i : Int, 0 ≤ i → i < n → g i = some (f i)) ∨ (w = [(a, .inr (3, [jI mc, .ref b, jI n]))] ∧ n = 0 ∧ m = 0 ∧ b = E.2.2 6)
def LstO (E : ZE) (a : Nat) (n : Int) (f : Int → Nat) (w : va_W) : Prop := ∃ m : Nat, LstK E a n f m w
def lstC (E : ZE) (C : CT0) (a : Nat) (n : Int) (f : Int → Nat) : Prop := ∃ (b : Nat) (mc : Int), C (a, .inr (3, [jI mc, .ref b, jI n])) ∧ ((∃ (m : Nat) (g : Int → Option Nat), C (b, aR E m g) ∧ (0 ≤ n ∧ n ≤ m ∧ m ≤ 100000) ∧ ∀ i : Int, 0 ≤ i → i < n → g i = some (f i)) ∨ (n = 0 ∧ b = E.2.2 6))
theorem lstC_ofK {E : ZE} {C : CT0} {a : Nat} {n : Int} {f : Int → Nat} {m : Nat} {w : va_W} (h : LstK E a n f m w) (hw : ∀ e ∈ w, C e) : lstC E C a n f := by
  obtain ⟨b, mc, ⟨g, rfl, h2, h3⟩ | ⟨rfl, h2, h4, h3⟩⟩ := h
  · exact ⟨b, mc, hw _ (by simp), Or.inl ⟨m, g, hw _ (by simp), by omega, h3⟩⟩
  · exact ⟨b, mc, hw _ (by simp), Or.inr ⟨h2, h3⟩⟩
theorem lstC_of {E : ZE} {C : CT0} {a : Nat} {n : Int} {f : Int → Nat} {w : va_W} (h : LstO E a n f w) (hw : ∀ e ∈ w, C e) : lstC E C a n f := by
  obtain ⟨m, h⟩ := h
  exact lstC_ofK h hw
theorem LstK_n {E : ZE} {a : Nat} {n : Int} {f : Int → Nat} {m : Nat} {w : va_W} (h : LstK E a n f m w) : 0 ≤ n ∧ n ≤ m ∧ (m = 0 ∨ 10 ≤ m) ∧ m ≤ 100000 := by
  obtain ⟨b, mc, ⟨g, rfl, h2, h3⟩ | ⟨rfl, h2, h4, h3⟩⟩ := h <;> omega
theorem LstK_congr {E : ZE} {a : Nat} {n : Int} {f k : Int → Nat} {m : Nat} {w : va_W} (h : LstK E a n f m w) (hf : ∀ i : Int, 0 ≤ i → i < n → f i = k i) : LstK E a n k m w := by
  obtain ⟨b, mc, ⟨g, h1, h2, h3⟩ | h⟩ := h
  · exact ⟨b, mc, Or.inl ⟨g, h1, h2, fun i i0 i1 => by rw [← hf i i0 i1]; exact h3 i i0 i1⟩⟩
  · exact ⟨b, mc, Or.inr h⟩
theorem lstC_mono {E : ZE} {C C' : CT0} {a : Nat} {n : Int} {f : Int → Nat} (h : lstC E C a n f) (hC : ∀ e, C e → C' e) : lstC E C' a n f := by
  obtain ⟨b, mc, h1, ⟨m, g, h2, h3⟩ | h2⟩ := h
  · exact ⟨b, mc, hC _ h1, Or.inl ⟨m, g, hC _ h2, h3⟩⟩
  · exact ⟨b, mc, hC _ h1, Or.inr h2⟩
theorem lstC_n {E : ZE} {C : CT0} {a : Nat} {n : Int} {f : Int → Nat} (h : lstC E C a n f) : 0 ≤ n ∧ n ≤ 100000 := by
  obtain ⟨b, mc, h1, ⟨m, g, h2, h3, -⟩ | ⟨h2, -⟩⟩ := h <;> omega
theorem lstC_congr {E : ZE} {C : CT0} {a : Nat} {n : Int} {f g : Int → Nat} (h : lstC E C a n f) (hf : ∀ i : Int, 0 ≤ i → i < n → f i = g i) : lstC E C a n g := by
  obtain ⟨b, mc, h1, ⟨m, k, h2, h3, h4⟩ | h2⟩ := h
  · exact ⟨b, mc, h1, Or.inl ⟨m, k, h2, h3, fun i i0 i1 => by rw [← hf i i0 i1]; exact h4 i i0 i1⟩⟩
  · exact ⟨b, mc, h1, Or.inr h2⟩
/-- a text in Latin-1 that was made -/
def strC (E : ZE) (C : CT0) (x : Nat) (w : List Int) : Prop := ∃ (b : Nat) (h z : Int), C (x, .inr (4, [.ref b, jI 0, jI h, jI z])) ∧ C (b, aB E w.length (fun j => w.getD j.toNat 0))
/-- a text: made, or written in the program -/
def strP (E : ZE) (C : CT0) (x : Nat) (w : List Int) : Prop := strC E C x w ∨ ∃ (i : Nat) (q : String × Nat × String), zLit[i]? = some q ∧ x = E.2.2 (20 + i) ∧ w = zcs q.2.2
def wdC (E : ZE) (C : CT0) (x : Nat) (c : Int) : Prop := ∃ w : List Int, okW w ∧ cdW w 0 = c ∧ strC E C x w
def intC (E : ZE) (C : CT0) (x : Nat) (v : Int) : Prop := C (x, .inr (7, [jI v])) ∨ ∃ j : Nat, j < 256 ∧ x = E.2.2 (1000 + j) ∧ v = (j : Int) - 128
def trmC (E : ZE) (C : CT0) (x : Nat) (c d : Int) : Prop := ∃ p q : Nat, C (x, .inr (8, [.ref p, .ref q])) ∧ wdC E C p c ∧ wdC E C q d
def jobC (C : CT0) (x : Nat) (a : Int → Int) (j : Int) : Prop := C (x, .inr (9, [jI (jOf a j 0), jI (jOf a j 1), jI (jOf a j 2), jI (jOf a j 3)]))
def segC (E : ZE) (C : CT0) (x : Nat) (a : Int → Int) (g : Int) : Prop := ∃ (s t : Nat) (fu fv : Int → Nat), C (x, .inr (10, [jI (sJob a g), .ref s, .ref t])) ∧ lstC E C s (sLen a g 0) fu ∧ (∀ k : Int, 0 ≤ k → k < sLen a g 0 → wdC E C (fu k) (sWd a g k 0)) ∧ lstC E C t (sLen a g 1) fv ∧ ∀ k : Int, 0 ≤ k → k < sLen a g 1 → wdC E C (fv k) (sWd a g k 1)
theorem strC_mono {E : ZE} {C C' : CT0} {x : Nat} {w : List Int} (h : strC E C x w) (hC : ∀ e, C e → C' e) : strC E C' x w := by
  obtain ⟨b, h1, z, h2, h3⟩ := h
  exact ⟨b, h1, z, hC _ h2, hC _ h3⟩
theorem strP_mono {E : ZE} {C C' : CT0} {x : Nat} {w : List Int} (h : strP E C x w) (hC : ∀ e, C e → C' e) : strP E C' x w := h.imp (fun q => strC_mono q hC) id
theorem wdC_mono {E : ZE} {C C' : CT0} {x : Nat} {c : Int} (h : wdC E C x c) (hC : ∀ e, C e → C' e) : wdC E C' x c := by
  obtain ⟨w, h1, h2, h3⟩ := h
  exact ⟨w, h1, h2, strC_mono h3 hC⟩
theorem intC_mono {E : ZE} {C C' : CT0} {x : Nat} {v : Int} (h : intC E C x v) (hC : ∀ e, C e → C' e) : intC E C' x v := h.imp (hC _) id
theorem trmC_mono {E : ZE} {C C' : CT0} {x : Nat} {c d : Int} (h : trmC E C x c d) (hC : ∀ e, C e → C' e) : trmC E C' x c d := by
  obtain ⟨p, q, h1, h2, h3⟩ := h
  exact ⟨p, q, hC _ h1, wdC_mono h2 hC, wdC_mono h3 hC⟩
theorem segC_mono {E : ZE} {C C' : CT0} {x : Nat} {a : Int → Int} {g : Int} (h : segC E C x a g) (hC : ∀ e, C e → C' e) : segC E C' x a g := by
  obtain ⟨s, t, fu, fv, h1, h2, h3, h4, h5⟩ := h
  exact ⟨s, t, fu, fv, hC _ h1, lstC_mono h2 hC, fun k k0 k1 => wdC_mono (h3 k k0 k1) hC, lstC_mono h4 hC, fun k k0 k1 => wdC_mono (h5 k k0 k1) hC⟩
/-- an office at o whose row is a: its parts -/
abbrev OfA : Type := Nat × Nat × Nat × Nat × Nat × Nat × Nat
abbrev OfF : Type := (Int → Nat) × (Int → Nat) × (Int → Nat) × (Int → Nat) × (Int → Nat)
def offE (E : ZE) (C : CT0) (F : OfF) (a : Int → Int) : Prop :=
  (∀ i : Int, 0 ≤ i → i < a 9 → wdC E C (F.1 i) (pNm a i)) ∧ (∀ i : Int, 0 ≤ i → i < a 9 → intC E C (F.2.1 i) (pCp a i)) ∧ (∀ i : Int, 0 ≤ i → i < a 20 → trmC E C (F.2.2.1 i) (tWd a i 0) (tWd a i 1)) ∧ (∀ i : Int, 0 ≤ i → i < a 66 → segC E C (F.2.2.2.2 i) a i)
def offV (ad : OfA) : List Value := [.ref ad.1, .ref ad.2.1, .ref ad.2.2.1, .ref ad.2.2.2.1, .ref ad.2.2.2.2.1, .ref ad.2.2.2.2.2.1, .ref ad.2.2.2.2.2.2]
def offC (E : ZE) (C : CT0) (o : Nat) (a : Int → Int) : Prop := OkA a ∧ ∃ (ad : OfA) (F : OfF), C (o, .inr (2, offV ad)) ∧
  (lstC E C ad.1 (a 9) F.1 ∧ lstC E C ad.2.1 (a 9) F.2.1 ∧ lstC E C ad.2.2.1 (a 20) F.2.2.1 ∧ lstC E C ad.2.2.2.1 (a 45) F.2.2.2.1 ∧ lstC E C ad.2.2.2.2.1 (a 66) F.2.2.2.2) ∧ offE E C F a ∧ (∀ i : Int, 0 ≤ i → i < a 45 → jobC C (F.2.2.2.1 i) a i) ∧
  C (ad.2.2.2.2.2.1, aI E 4 a) ∧ C (ad.2.2.2.2.2.2, aI E 5 (fun b => a (4 + b)))
theorem offE_mono {E : ZE} {C C' : CT0} {F : OfF} {a : Int → Int} (h : offE E C F a) (hC : ∀ e, C e → C' e) : offE E C' F a :=
  ⟨fun i i0 i1 => wdC_mono (h.1 i i0 i1) hC, fun i i0 i1 => intC_mono (h.2.1 i i0 i1) hC, fun i i0 i1 => trmC_mono (h.2.2.1 i i0 i1) hC, fun i i0 i1 => segC_mono (h.2.2.2 i i0 i1) hC⟩
theorem offC_mono {E : ZE} {C C' : CT0} {o : Nat} {a : Int → Int} (h : offC E C o a) (hC : ∀ e, C e → C' e) : offC E C' o a := by
  obtain ⟨h0, ad, F, h1, ⟨h2, h3, h4, h5, h6⟩, h7, h8, h9, h10⟩ := h
  exact ⟨h0, ad, F, hC _ h1, ⟨lstC_mono h2 hC, lstC_mono h3 hC, lstC_mono h4 hC, lstC_mono h5 hC, lstC_mono h6 hC⟩, offE_mono h7 hC, fun i i0 i1 => hC _ (h8 i i0 i1), hC _ h9, hC _ h10⟩
/-- an object of which any class can be stored among objects -/
def objC (E : ZE) (C : CT0) (x : Nat) : Prop := (∃ (ci : Nat) (fs : List Value) (q : vw_C), C (x, .inr (ci, fs)) ∧ clA[ci]? = some q ∧ Jvm.Cond.castable q.1 "java/lang/Object" ∈ lw_tbl) ∨ ∃ j : Nat, j < 256 ∧ x = E.2.2 (1000 + j)
theorem objC_mono {E : ZE} {C C' : CT0} {x : Nat} (h : objC E C x) (hC : ∀ e, C e → C' e) : objC E C' x := by
  rcases h with ⟨ci, fs, q, h1, h2, h3⟩ | h
  · exact Or.inl ⟨ci, fs, q, hC _ h1, h2, h3⟩
  · exact Or.inr h
section REC
variable {own : String} {cc : ByteArray} {Z : ZT} {B : Nat → Prop} {Hb : Heap} {ws : va_W} {C : CT0} {x : Nat}
theorem zr_lst {a : Nat} {n : Int} {f : Int → Nat} (hC : zC (zE Z) C B (zs Z) Hb) (h : lstC (zE Z) C a n f) : zRc own cc Z B Hb ws "java/util/ArrayList" a := by
  obtain ⟨b, mc, h1, -⟩ := h
  exact zr_fz (q := (RJ2, TJ2, 3)) (hC _ h1) rfl
theorem strC_z {A : Nat → Prop} {H : Heap} {w : List Int} (C0 : Cx own cc Z) (hw : w.length ≤ 100000) (h : strC (zE Z) C x w) (hC : zC (zE Z) C A (zs Z) H) : zStr x w A (zs Z) H := by
  obtain ⟨b, h1, z, h2, h3⟩ := h
  have g := zFz_TB C0 (by omega) (hC _ h3)
  refine ⟨b, zFz_O C0 zk_J6 (hC _ h2), zFz_OF C0 zk_J6 (hC _ h2) 1 (by decide) rfl, zFz_OF C0 zk_J6 (hC _ h2) 0 (by decide) rfl, ?_⟩
  obtain ⟨cell, g1, g2, g3, g4, g5, g6, g7⟩ := g
  exact ⟨cell, g1, g2, g3, g4, g5, fun j hj => (g6 j hj).trans rfl, g7⟩
theorem strP_z {A : Nat → Prop} {H : Heap} {w : List Int} (C0 : Cx own cc Z) (hw : w.length ≤ 100000) (h : strP (zE Z) C x w) (hC : zC (zE Z) C A (zs Z) H) (hB : zBs (zE Z) A (zs Z) H) : zStr x w A (zs Z) H := by
  rcases h with h | ⟨i, q, h1, rfl, rfl⟩
  · exact strC_z C0 hw h hC
  · exact (hB.2.2.2.2.2.2.2.1 i q h1).2
theorem zr_str {w : List Int} (hC : zC (zE Z) C B (zs Z) Hb) (h : strC (zE Z) C x w) : zRc own cc Z B Hb ws "java/lang/String" x := by
  obtain ⟨b, h1, z, h2, h3⟩ := h
  exact zr_fz (q := (RJ6, TJ6, 4)) (hC _ h2) rfl
theorem zr_arrR {a n : Nat} {f : Int → Option Nat} (h : zIs own cc Z B Hb ws (a, aR (zE Z) n f)) : zRc own cc Z B Hb ws "[Ljava/lang/Object;" a := fun C0 H hU hP => by
  have h1 : H[a]? = some (vp_cell ((zE Z).2.1 4) (n, .inr (.inr (.inr (.inr (fun j => f j)))))) := h C0 H hU hP
  obtain ⟨kA, comp, k1, k2, k3, k4⟩ := (zA_of C0 4 rfl).2
  exact ⟨_, h1, rfl, k4⟩
end REC
section REC0
variable {own : String} {cc : ByteArray} {Z : ZT} {ws : va_W} {bs : List va_W} {C : CT0} {x : Nat} {kc ks pc : Nat} {L : List (Option Value)} {st : List Value}
theorem zr_base {cl : String} {a : Nat} (h : Cx own cc Z → va_O cl a (zA Z) (zs Z) (zs Z).heap) : zRc own cc Z (zA Z) (zs Z).heap ws cl a := fun C0 H hU _ => by
  obtain ⟨cell, h1, h2, h3, h4⟩ := h C0
  exact ⟨cell, (hU.2 a (Array.getElem?_eq_some_iff.mp h1).1 h4).trans h1, h2, h3⟩
theorem zr_cache {j : Nat} (hj : j < 256) : zRc own cc Z (zA Z) (zs Z).heap ws "java/lang/Integer" ((zE Z).2.2 (1000 + j)) := zr_base (fun C0 => C0.2.2.2.2.2.2.2.2.1.2.2.1.2.2.1 j hj)
theorem zr_int {v : Int} (hC : zC (zE Z) C (zA Z) (zs Z) (zs Z).heap) (h : intC (zE Z) C x v) : zRc own cc Z (zA Z) (zs Z).heap ws "java/lang/Integer" x := by
  rcases h with h | ⟨j, hj, rfl, -⟩
  · exact zr_fz (q := (RJ19, TJ19, 1)) (hC _ h) rfl
  · exact zr_cache hj
theorem zr_obj (hC : zC (zE Z) C (zA Z) (zs Z) (zs Z).heap) (h : objC (zE Z) C x) : ∃ cl : String, zRc own cc Z (zA Z) (zs Z).heap ws cl x ∧ Jvm.Cond.castable cl "java/lang/Object" ∈ lw_tbl := by
  rcases h with ⟨ci, fs, q, h1, h2, h3⟩ | ⟨j, hj, rfl⟩
  · exact ⟨q.1, zr_fz (hC _ h1) h2, h3⟩
  · exact ⟨_, zr_cache hj, q3125⟩
theorem zAny_obj (hC : zC (zE Z) C (zA Z) (zs Z) (zs Z).heap) (h : objC (zE Z) C x) : Cx own cc Z → ∀ H : Heap, Un (zA Z) (zs Z).heap H → va_P (zE Z).1 clA ws H → va_Any "java/lang/Object" (zs Z) H x := by
  obtain ⟨cl, h1, h2⟩ := zr_obj (own := own) (cc := cc) (ws := ws) hC h
  exact zAny_rc h1 h2
theorem zb_stRo {m v a : Nat} {z : Int} {f : Int → Option Nat} (hC : zC (zE Z) C (zA Z) (zs Z) (zs Z).heap) (ho : objC (zE Z) C v) (q0 : Nat) (he : bs[q0]? = some [(a, aR (zE Z) m f)]) (hi : 0 ≤ z ∧ z < m) (hm : m ≤ 2147483647) (d : decode cc pc = .ok (.aastore, 1)) (k : GV own cc Z (zA Z) (zs Z).heap (bs.set q0 [(a, aR (zE Z) m (zup f z (some v)))]).flatten kc ks (pc + 1) L st) : GV own cc Z (zA Z) (zs Z).heap bs.flatten kc ks pc L (.ref v :: jI z :: .ref a :: st) := by
  obtain ⟨cl, h1, h2⟩ := zr_obj (own := own) (cc := cc) (ws := bs.flatten) hC ho
  exact zb_stR q0 he h1 h2 hi hm d k
/-- nothing is copied out of the shared empty array -/
theorem zb_copyG {g : Int → Option Nat} {a n1 index dp9 mc ms : Nat} (q1 : Nat) (he : bs[q1]? = some [(a, aR (zE Z) n1 g)])
    (lnk : Jvm.Cond.methodLink own index arraycopyName ∈ lw_all) (hR0 : zR Z = zRm dp9 mc ms) (hdp : 1 ≤ dp9) (hrm : (st.map fun v => v.category).sum ≤ 8) (d : decode cc pc = .ok (.invokestatic index, 3))
    (k : GV own cc Z (zA Z) (zs Z).heap bs.flatten kc ks (pc + 3) L st) : GV own cc Z (zA Z) (zs Z).heap bs.flatten kc ks pc L (jI 0 :: jI 0 :: .ref a :: jI 0 :: .ref ((zE Z).2.2 6) :: st) := by
  obtain ⟨k9, h9, h8⟩ := blk_at he
  intro C0 b H locs cells slots ls hU hP hD hS hc hs hL
  have hcl : (Int32.ofInt 0).toNatClampNeg = 0 := by decide
  refine va_copyg C0.1 C0.2.1 hL.1.symm C0.2.2.1 (C0.2.2.2.1 _ lnk) (C0.2.2.2.1 _ q788) (C0.2.2.2.1 _ q787) (C0.2.2.2.1 _ q140) C0.2.2.2.2.2.2.2.1.1 hP hD hS k9 4 (C0.2.2.2.2.2.2.2.2.1.2.1.2.1) h9 rfl (by decide) (by decide) (by decide) (by rw [hcl]; omega) (by rw [hcl]; omega) (by rw [hR0]; exact hdp) (by rw [hR0]; show _ + (nativeFrameWords "java/lang/System" "arraycopy" 5 + 11) ≤ 64 * dp9; have : nativeFrameWords "java/lang/System" "arraycopy" 5 ≤ 45 := (by decide); omega) d (fun H1 locs1 gP gD gS => ?_)
  have e : bs.flatten.set k9 (a, Sum.inl ((zE Z).2.1 4, n1, Sum.inr (Sum.inr (Sum.inr (Sum.inr (va_cpy (fun _ => none) (fun j : Nat => g j) (Int32.ofInt 0).toNatClampNeg (Int32.ofInt 0).toNatClampNeg (Int32.ofInt 0).toNatClampNeg)))))) = bs.flatten := by
    have e1 : va_cpy (fun _ : Nat => (none : Option Nat)) (fun j : Nat => g j) (Int32.ofInt 0).toNatClampNeg (Int32.ofInt 0).toNatClampNeg (Int32.ofInt 0).toNatClampNeg = fun j : Nat => g j := by
      funext j
      rw [hcl]
      simp only [va_cpy]
      rw [if_neg (by omega)]
    rw [e1]
    apply List.ext_getElem?
    intro i
    by_cases hi : i = k9
    · subst hi
      have hl : i < bs.flatten.length := (List.getElem?_eq_some_iff.mp h9).1
      rw [List.getElem?_set_self hl, h9]
      rfl
    · rw [List.getElem?_set_ne (fun q => hi q.symm)]
  rw [e] at gP gD
  exact k C0 b H1 locs1 cells slots ls ⟨gS.1, gS.2.1⟩ gP gD gS hc hs hL
end REC0
section OIN
variable {own : String} {cc : ByteArray} {Z : ZT} {B : Nat → Prop} {Hb : Heap} {ws : va_W} {kc ks pc : Nat} {L : List (Option Value)} {st : List Value} {a index dp mc ms : Nat}
theorem zi_oinit (lnk : Jvm.Cond.methodLink own index Lib.objectInit ∈ lw_all) (hR0 : zR Z = zRm dp mc ms) (hdp : 1 ≤ dp) (hrm : (st.map fun v => v.category).sum ≤ 8) (d : decode cc pc = .ok (.invokespecial index, 3)) (k : GV own cc Z B Hb ws kc ks (pc + 3) L st) : GV own cc Z B Hb ws kc ks pc L (.ref a :: st) :=
  fun C0 b H locs cells slots ls hU hP hD hS hc hs hL => W.objInit C0.1 C0.2.1 C0.2.2.1 (C0.2.2.2.1 _ lnk) (C0.2.2.2.1 _ q177) (C0.2.2.2.1 _ q178) (g := F0 (zm Z) pc ls (.ref a :: st)) rfl hL.1 rfl d (by rw [hR0]; exact hdp) (by rw [hR0]; show 2 * 0 + _ + 12 ≤ 64 * dp; omega) (k C0 b H locs cells slots ls hU hP hD hS hc hs hL)
end OIN
section MORE
variable {own : String} {cc : ByteArray} {Z : ZT} {B : Nat → Prop} {Hb : Heap} {ws : va_W} {kc ks pc : Nat} {L : List (Option Value)} {st : List Value} {a index dp mc ms : Nat} {C nm : String} {x : Int} {off : Int}
theorem zi_instY (hr : zRc own cc Z B Hb ws C a) (hca : Jvm.Cond.castable C nm ∈ lw_tbl) (lnk : Jvm.Cond.classLink own index nm ∈ lw_all) (d : decode cc pc = .ok (.instanceof index, 3)) (k : GV own cc Z B Hb ws kc ks (pc + 3) L (jI 1 :: st)) : GV own cc Z B Hb ws kc ks pc L (.ref a :: st) :=
  fun C0 b H locs cells slots ls hU hP hD hS hc hs hL => va_instY C0.1 C0.2.1 C0.2.2.1 (C0.2.2.2.1 _ lnk) (C0.2.2.2.2.2.2.2.1.2.1 _ hca rfl) (hr C0 H hU hP) d (k C0 b H locs cells slots ls hU hP hD hS hc hs hL)
theorem zi_icmp_eqS (tgt : Nat) (d : decode cc pc = .ok (.if_icmp .eq off, 3)) (ht : (pc : Int) + off = (tgt : Int)) (k : GV own cc Z B Hb ws kc ks tgt L st) : GV own cc Z B Hb ws kc ks pc L (jI x :: jI x :: st) :=
  fun C0 b9 H locs cells slots ls hU hP hD hS hc hs hL => lv_icmp_eq C0.1 C0.2.1 d ht (fun _ => k C0 b9 H locs cells slots ls hU hP hD hS hc hs hL) (fun h => absurd rfl h)
theorem zi_icmp_neS (d : decode cc pc = .ok (.if_icmp .ne off, 3)) {tgt : Nat} (ht : (pc : Int) + off = (tgt : Int)) (k : GV own cc Z B Hb ws kc ks (pc + 3) L st) : GV own cc Z B Hb ws kc ks pc L (jI x :: jI x :: st) :=
  fun C0 b9 H locs cells slots ls hU hP hD hS hc hs hL => lv_icmp_ne C0.1 C0.2.1 d ht (fun h => absurd rfl h) (fun _ => k C0 b9 H locs cells slots ls hU hP hD hS hc hs hL)
end MORE
