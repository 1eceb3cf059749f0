/-! ROWS of GV: cells -/
set_option maxRecDepth 100000

theorem z_nat (n : Nat) : Int32.ofNat n = Int32.ofInt (n : Int) := by
  first | rfl | exact Int32.ofInt_eq_ofNat.symm | exact (Int32.ofInt_eq_ofNat n).symm | simp
theorem zk_put {Z : ZT} {B : Nat → Prop} {Hb H H1 : Heap} {ws : va_W} {locs : List Loc} {a i q0 : Nat} {e0 e : va_E} (b : Bx Z B Hb) (hU : Un B Hb H) (hP : va_P (zE Z).1 clA ws H) (hD : va_D B ws) (hS : va_S (zA Z) (zs Z).heap H locs) (he : ws[q0]? = some (a, e0)) (h1 : va_at (zE Z).1 clA (a, e) H1) (z1 : H1.size = H.size) (o1 : ∀ q : Nat, q ≠ a → H1[q]? = H[q]?) :
    Un B Hb H1 ∧ va_P (zE Z).1 clA (ws.set q0 (a, e)) H1 ∧ va_D B (ws.set q0 (a, e)) ∧ va_S (zA Z) (zs Z).heap H1 (locs ++ [⟨a, i⟩]) := by
  have hB : B a := hD.2 q0 _ he
  refine ⟨⟨by rw [z1]; exact hU.1, fun q h2 h3 => ?_⟩, hP.set hD he h1 o1, hD.set he, hS.put z1 o1 (b.1 _ hB)⟩
  rw [o1 q (fun x => h3 (by rw [x]; exact hB))]
  exact hU.2 q h2 h3
theorem zk_push {Z : ZT} {B : Nat → Prop} {Hb H H1 : Heap} {ws : va_W} {locs : List Loc} {e : va_E} (b : Bx Z B Hb) (hU : Un B Hb H) (hP : va_P (zE Z).1 clA ws H) (hD : va_D B ws) (hS : va_S (zA Z) (zs Z).heap H locs) (h1 : va_at (zE Z).1 clA (H.size, e) H1) (z1 : H1.size = H.size + 1) (o1 : ∀ q : Nat, q < H.size → H1[q]? = H[q]?) :
    Un B Hb H1 ∧ va_P (zE Z).1 clA (ws ++ [(H.size, e)]) H1 ∧ va_D B (ws ++ [(H.size, e)]) ∧ va_S (zA Z) (zs Z).heap H1 locs := by
  refine ⟨⟨by have := hU.1; omega, fun q h2 h3 => ?_⟩, (hP.kept (fun k x hx => o1 x.1 ((hP k x hx).lt))).app (fun k x hx => ?_), hD.push hP rfl (b.2.1 _ hU.1), ⟨by have := hS.1; omega, fun x h2 h3 => (o1 x (Nat.lt_of_lt_of_le h2 hS.1)).trans (hS.2.1 x h2 h3), hS.2.2⟩⟩
  · rw [o1 q (Nat.lt_of_lt_of_le h2 hU.1)]
    exact hU.2 q h2 h3
  · have hz : k < 1 := (List.getElem?_eq_some_iff.mp hx).1
    rw [show k = 0 by omega] at hx
    cases hx
    exact h1
section HEAP
variable {own : String} {cc : ByteArray} {Z : ZT} {B : Nat → Prop} {Hb : Heap} {ws : va_W} {kc ks pc : Nat} {L : List (Option Value)} {st : List Value}
variable {ci N index : Nat} {C : String} {T : u_T} {ty0 : Nat → FieldType} {fs : List Value} {a : Nat} {v : Value}
theorem zi_getf (zk : ZK ci C T N ty0) (q0 : Nat) (he : ws[q0]? = some (a, .inr (ci, fs))) (j : Nat) (hk : j < N) (hdecl : (T j).1 = C) (lnk : Jvm.Cond.fieldLink own index C (T j).2.1 (T j).2.2.1 ∈ lw_all) (hv : fs[j]? = some v) (d : decode cc pc = .ok (.getfield index, 3))
    (k : GV own cc Z B Hb ws kc ks (pc + 3) L (v :: st)) : GV own cc Z B Hb ws kc ks pc L (.ref a :: st) :=
  fun C0 b H locs cells slots ls hU hP hD hS hc hs hL => va_get C0.1 C0.2.1 C0.2.2.2.1 zk.2.1 C0.2.2.1 C0.2.2.2.2.2.2.2.1.1 hP q0 he zk.1 j hk (C0.2.2.2.1 _ lnk) (fun x hx => by rw [← hdecl]; exact hx) hv d (k C0 b H locs cells slots ls hU hP hD hS hc hs hL)
/-- a field declared above the class that javac names -/
theorem zi_getfS {ref : String} (zk : ZK ci C T N ty0) (q0 : Nat) (he : ws[q0]? = some (a, .inr (ci, fs))) (j : Nat) (hk : j < N) (hsm : Jvm.Cond.sameField ref (T j).1 (T j).2.1 (T j).2.2.1 ∈ lw_all) (lnk : Jvm.Cond.fieldLink own index ref (T j).2.1 (T j).2.2.1 ∈ lw_all) (hv : fs[j]? = some v) (d : decode cc pc = .ok (.getfield index, 3))
    (k : GV own cc Z B Hb ws kc ks (pc + 3) L (v :: st)) : GV own cc Z B Hb ws kc ks pc L (.ref a :: st) :=
  fun C0 b H locs cells slots ls hU hP hD hS hc hs hL => va_get C0.1 C0.2.1 C0.2.2.2.1 zk.2.1 C0.2.2.1 C0.2.2.2.2.2.2.2.1.1 hP q0 he zk.1 j hk (C0.2.2.2.1 _ lnk) (fun x hx => u_same (C0.2.2.2.1 _ hsm) x hx) hv d (k C0 b H locs cells slots ls hU hP hD hS hc hs hL)
/-- the link names the declaring class itself, that is above C -/
theorem zi_getfA {ref : String} (zk : ZK ci C T N ty0) (q0 : Nat) (he : ws[q0]? = some (a, .inr (ci, fs))) (j : Nat) (hk : j < N) (hdecl : (T j).1 = ref) (lnk : Jvm.Cond.fieldLink own index ref (T j).2.1 (T j).2.2.1 ∈ lw_all) (hv : fs[j]? = some v) (d : decode cc pc = .ok (.getfield index, 3))
    (k : GV own cc Z B Hb ws kc ks (pc + 3) L (v :: st)) : GV own cc Z B Hb ws kc ks pc L (.ref a :: st) :=
  fun C0 b H locs cells slots ls hU hP hD hS hc hs hL => va_get C0.1 C0.2.1 C0.2.2.2.1 zk.2.1 C0.2.2.1 C0.2.2.2.2.2.2.2.1.1 hP q0 he zk.1 j hk (C0.2.2.2.1 _ lnk) (fun x hx => by rw [← hdecl]; exact hx) hv d (k C0 b H locs cells slots ls hU hP hD hS hc hs hL)
theorem zi_getfN {ref host : String} (zk : ZK ci C T N ty0) (q0 : Nat) (he : ws[q0]? = some (a, .inr (ci, fs))) (j : Nat) (hk : j < N) (hdecl : (T j).1 = ref) (lnk : Jvm.Cond.fieldLinkNest own index ref (T j).2.1 (T j).2.2.1 host ∈ lw_tbl) (hv : fs[j]? = some v) (d : decode cc pc = .ok (.getfield index, 3))
    (k : GV own cc Z B Hb ws kc ks (pc + 3) L (v :: st)) : GV own cc Z B Hb ws kc ks pc L (.ref a :: st) :=
  fun C0 b H locs cells slots ls hU hP hD hS hc hs hL => va_getN C0.1 C0.2.1 C0.2.2.2.1 zk.2.1 C0.2.2.1 C0.2.2.2.2.2.2.2.1.1 hP q0 he zk.1 j hk (va_Nw.use rfl (C0.2.2.2.2.2.2.2.1.2.1 _ lnk rfl)) (fun x hx => by rw [← hdecl]; exact hx) hv d (k C0 b H locs cells slots ls hU hP hD hS hc hs hL)
theorem zk_putf (zk : ZK ci C T N ty0) (C0 : Cx own cc Z) {H H1 : Heap} {j : Nat} (hk : j < N) {cell : Cell} {r : vw_C} (h1 : clA[ci]? = some r) (hob : H[a]? = some cell ∧ cell.cls = (zE Z).1.1 ci ∧ cell.vm = .none ∧ ∀ k, k < r.2.2 → cell.slots[(zE Z).1.2 ci k]? = some (vp_V fs k)) (hl : j < fs.length) (e1 : H1[a]? = some (cell.setSlot ((zE Z).1.2 ci j) v)) : va_at (zE Z).1 clA (a, .inr (ci, fs.set j v)) H1 := by
  obtain ⟨q1, q2, q3, q4⟩ := hob
  have hr : r = (C, T, N) := Option.some.inj (h1.symm.trans zk.1)
  subst hr
  have hap := va_apart (own := own) C0.2.2.2.1 zk.2.1 ty0 zk.2.2.1 zk.2.2.2 C0.2.2.2.2.2.2.2.1.1 zk.1
  exact ⟨_, zk.1, t_OB.to (V := updV (vp_V fs) j v) ⟨_, e1, q2, q3, t_set q4 hap hk v⟩ (fun i _ => vp_updV_set hl v i)⟩
theorem zi_putf {ref : String} (zk : ZK ci C T N ty0) (q0 : Nat) (he : ws[q0]? = some (a, .inr (ci, fs))) (j : Nat) (hk : j < N) (hdecl : (T j).1 = ref) (hfin : (T j).2.2.2 = false) (lnk : Jvm.Cond.fieldLink own index ref (T j).2.1 (T j).2.2.1 ∈ lw_all) (hn : narrow (ty0 j) v = v) (hfit : fits (ty0 j) v = true) (hl : j < fs.length) (d : decode cc pc = .ok (.putfield index, 3))
    (k : GV own cc Z B Hb (ws.set q0 (a, .inr (ci, fs.set j v))) kc ks (pc + 3) L st) : GV own cc Z B Hb ws kc ks pc L (v :: .ref a :: st) := by
  intro C0 b H locs cells slots ls hU hP hD hS hc hs hL
  obtain ⟨r, h1, cell, q1, q2, q3, q4⟩ := hP q0 _ he
  have hr : r = (C, T, N) := Option.some.inj (h1.symm.trans zk.1)
  subst hr
  obtain ⟨hSl, hfc, kC, hkC, hkind⟩ := C0.2.2.2.2.2.2.2.1.1.1 ci _ zk.1
  obtain ⟨cf, kf, fi, f, hi, hsl⟩ := hSl j hk
  have hlay := C0.2.2.2.1 _ (zk.2.1 _ (u_in_lay hk))
  unfold u_lay at hlay
  rw [if_neg (by rw [hfin]; decide)] at hlay
  have hst := (u_facts hfc hkC (u_lays C0.2.2.2.1 zk.2.1 hk) hi).1
  have h6 := u_store hfc hkC hkind hlay hi (zk.2.2.1 j hk) hn hfit
  refine W.putK C0.1 C0.2.1 (f := f) ⟨C0.2.2.1, C0.2.2.2.1 _ lnk, ⟨cf, kf, fi, by rw [← hdecl]; exact hi⟩, hst⟩ (by rw [q2]; exact h6) q1 q3 (by rw [hsl]; exact k2_hasslot (q4 j hk)) rfl rfl d fun H' e1 e2 e3 => ?_
  rw [hsl] at e1 ⊢
  obtain ⟨g1, g2, g3, g4⟩ := zk_put (i := (zE Z).1.2 ci j) b hU hP hD hS he (zk_putf zk C0 hk zk.1 ⟨q1, q2, q3, q4⟩ hl e1) e2 e3
  exact k C0 b H' _ cells slots ls g1 g2 g3 g4 hc hs hL
theorem zi_putfN {ref host : String} (zk : ZK ci C T N ty0) (q0 : Nat) (he : ws[q0]? = some (a, .inr (ci, fs))) (j : Nat) (hk : j < N) (hdecl : (T j).1 = ref) (hfin : (T j).2.2.2 = false) (lnk : Jvm.Cond.fieldLinkNest own index ref (T j).2.1 (T j).2.2.1 host ∈ lw_tbl) (hn : narrow (ty0 j) v = v) (hfit : fits (ty0 j) v = true) (hl : j < fs.length) (d : decode cc pc = .ok (.putfield index, 3))
    (k : GV own cc Z B Hb (ws.set q0 (a, .inr (ci, fs.set j v))) kc ks (pc + 3) L st) : GV own cc Z B Hb ws kc ks pc L (v :: .ref a :: st) := by
  intro C0 b H locs cells slots ls hU hP hD hS hc hs hL
  obtain ⟨r, h1, cell, q1, q2, q3, q4⟩ := hP q0 _ he
  have hr : r = (C, T, N) := Option.some.inj (h1.symm.trans zk.1)
  subst hr
  obtain ⟨hSl, hfc, kC, hkC, hkind⟩ := C0.2.2.2.2.2.2.2.1.1.1 ci _ zk.1
  obtain ⟨cf, kf, fi, f, hi, hsl⟩ := hSl j hk
  have hlay := C0.2.2.2.1 _ (zk.2.1 _ (u_in_lay hk))
  unfold u_lay at hlay
  rw [if_neg (by rw [hfin]; decide)] at hlay
  have hst := (u_facts hfc hkC (u_lays C0.2.2.2.1 zk.2.1 hk) hi).1
  have h6 := u_store hfc hkC hkind hlay hi (zk.2.2.1 j hk) hn hfit
  refine va_WputK C0.1 C0.2.1 (f := f) C0.2.2.1 (va_Nw.use rfl (C0.2.2.2.2.2.2.2.1.2.1 _ lnk rfl)) (by rw [← hdecl]; exact hi) hst (by rw [q2]; exact h6) q1 q3 (by rw [hsl]; exact k2_hasslot (q4 j hk)) rfl rfl d fun H' e1 e2 e3 => ?_
  rw [hsl] at e1 ⊢
  obtain ⟨g1, g2, g3, g4⟩ := zk_put (i := (zE Z).1.2 ci j) b hU hP hD hS he (zk_putf zk C0 hk zk.1 ⟨q1, q2, q3, q4⟩ hl e1) e2 e3
  exact k C0 b H' _ cells slots ls g1 g2 g3 g4 hc hs hL
/-- a final field, in its class's constructor -/
theorem zi_putfF (hin : (zme Z).name = "<init>") (zk : ZK ci C T N ty0) (q0 : Nat) (he : ws[q0]? = some (a, .inr (ci, fs))) (j : Nat) (hk : j < N) (hdecl : (T j).1 = own) (hfin : (T j).2.2.2 = true) (lnk : Jvm.Cond.fieldLink own index own (T j).2.1 (T j).2.2.1 ∈ lw_all) (hn : narrow (ty0 j) v = v) (hfit : fits (ty0 j) v = true) (hl : j < fs.length) (d : decode cc pc = .ok (.putfield index, 3))
    (k : GV own cc Z B Hb (ws.set q0 (a, .inr (ci, fs.set j v))) kc ks (pc + 3) L st) : GV own cc Z B Hb ws kc ks pc L (v :: .ref a :: st) := by
  intro C0 b H locs cells slots ls hU hP hD hS hc hs hL
  obtain ⟨r, h1, cell, q1, q2, q3, q4⟩ := hP q0 _ he
  have hr : r = (C, T, N) := Option.some.inj (h1.symm.trans zk.1)
  subst hr
  obtain ⟨hSl, hfc, kC, hkC, hkind⟩ := C0.2.2.2.2.2.2.2.1.1.1 ci _ zk.1
  obtain ⟨cf, kf, fi, f, hi, hsl⟩ := hSl j hk
  have hlay := C0.2.2.2.1 _ (zk.2.1 _ (u_in_lay hk))
  unfold u_lay at hlay
  rw [if_pos hfin] at hlay
  have hst := (u_facts hfc hkC (u_lays C0.2.2.2.1 zk.2.1 hk) hi).1
  have hcf : (zm Z).cls = cf := by
    obtain ⟨_, _, c', _, _, _, -, -, hf', -, -, -, hown2, -⟩ := Cond.laysFinal_spec hlay
    have e1 : c' = cf := by have := hi.symm.trans hf'; simp at this; exact this.1.symm
    rw [hdecl] at hown2
    rw [← e1]; exact Option.some.inj (C0.2.2.1.symm.trans hown2)
  have h6 := u_fits hfc hkC hkind (Or.inr hlay) hi (zk.2.2.1 j hk) hn hfit
  refine W.putFinK C0.1 C0.2.1 (f := f) C0.2.2.1 (C0.2.2.2.1 _ lnk) (by rw [← hdecl]; exact hi) hst hcf hin (by rw [q2]; exact h6) q1 q3 (by rw [hsl]; exact k2_hasslot (q4 j hk)) rfl rfl d fun H' e1 e2 e3 => ?_
  rw [hsl] at e1 ⊢
  obtain ⟨g1, g2, g3, g4⟩ := zk_put (i := (zE Z).1.2 ci j) b hU hP hD hS he (zk_putf zk C0 hk zk.1 ⟨q1, q2, q3, q4⟩ hl e1) e2 e3
  exact k C0 b H' _ cells slots ls g1 g2 g3 g4 hc hs hL
/-- new: the fields have their default values -/
theorem zi_new {kc' ks' : Nat} (zk : ZK ci C T N ty0) (lnk : Jvm.Cond.classLink own index C ∈ lw_all) (hins : Jvm.Cond.instantiable C N ∈ lw_all) (hini : Jvm.Cond.initialized C ∈ lw_all) (hfs : (List.range N).map (fun j => defaultValue (ty0 j)) = fs) (hkb : kc' + 1 ≤ kc ∧ ks' + N ≤ ks) (d : decode cc pc = .ok (.new index, 3))
    (k : ∀ q : Nat, Hb.size ≤ q → GV own cc Z B Hb (ws ++ [(q, .inr (ci, fs))]) kc' ks' (pc + 3) L (.ref q :: st)) : GV own cc Z B Hb ws kc ks pc L st := by
  intro C0 b H locs cells slots ls hU hP hD hS hc hs hL
  have hKn := C0.2.2.2.2.2.2.2.1.1.1 ci _ zk.1
  refine W.newcK C0.1 C0.2.1 C0.2.2.1 (C0.2.2.2.1 _ lnk) (C0.2.2.2.1 _ hins) (C0.2.2.2.1 _ hini) rfl d (by omega) (by omega) hKn.2.1 rfl fun H1 kC hkC e1 z1 o1 => ?_
  have hv : ∀ j, j < N → defaultValue (ty0 j) = vp_V fs j := by
    intro j hj
    rw [← hfs]
    simp [vp_V, List.getD_eq_getElem?_getD, hj]
  obtain ⟨g1, g2, g3, g4⟩ := zk_push (e := .inr (ci, fs)) b hU hP hD hS ⟨_, zk.1, (u_born ty0 C0.2.2.2.1 zk.2.1 hKn hkC e1 zk.2.2.1).to hv⟩ z1 o1
  exact k H.size hU.1 C0 b H1 _ _ _ ls g1 g2 g3 g4 (by omega) (by omega) hL
end HEAP

section ARR
variable {own : String} {cc : ByteArray} {Z : ZT} {B : Nat → Prop} {Hb : Heap} {ws : va_W} {kc ks pc : Nat} {L : List (Option Value)} {st : List Value}
variable {a n : Nat} {z : Int}
theorem zA_of (C0 : Cx own cc Z) (i : Nat) {c : ClassId} {ty : FieldType} (h : (zTys (zE Z))[i]? = some (c, ty)) : ArrOfT (zs Z) c ty ∧ va_RA (zs Z) c ty := C0.2.2.2.2.2.2.2.1.1.2 i _ h
theorem zi_alen {x : vp_A} {c : ClassId} {ty : FieldType} (q0 t0 : Nat) (he : ws[q0]? = some (a, .inl (c, x))) (ht : (zTys (zE Z))[t0]? = some (c, ty)) (d : decode cc pc = .ok (.arraylength, 1)) (k : GV own cc Z B Hb ws kc ks (pc + 1) L (jI x.1 :: st)) : GV own cc Z B Hb ws kc ks pc L (.ref a :: st) :=
  fun C0 b H locs cells slots ls hU hP hD hS hc hs hL => va_alen C0.1 C0.2.1 C0.2.2.2.2.2.2.2.1.1 hP q0 t0 he ht (z_nat x.1) d (k C0 b H locs cells slots ls hU hP hD hS hc hs hL)
theorem zi_ldI {f : Int → Int} (q0 : Nat) (he : ws[q0]? = some (a, aI (zE Z) n f)) (hi : 0 ≤ z ∧ z < n) (hn : n ≤ 2147483647) (d : decode cc pc = .ok (.iaload, 1)) (k : GV own cc Z B Hb ws kc ks (pc + 1) L (jI (f z) :: st)) : GV own cc Z B Hb ws kc ks pc L (jI z :: .ref a :: st) :=
  fun C0 b H locs cells slots ls hU hP hD hS hc hs hL => va_iald C0.1 C0.2.1 C0.2.2.2.2.2.2.2.1.1 hP q0 0 he rfl (z_in hi hn) d (by rw [z_clamp (by omega), Int.toNat_of_nonneg hi.1]; exact k C0 b H locs cells slots ls hU hP hD hS hc hs hL)
theorem zi_ldL {f : Int → Int} (q0 : Nat) (he : ws[q0]? = some (a, aL (zE Z) n f)) (hi : 0 ≤ z ∧ z < n) (hn : n ≤ 2147483647) (d : decode cc pc = .ok (.laload, 1)) (k : GV own cc Z B Hb ws kc ks (pc + 1) L (jL (f z) :: st)) : GV own cc Z B Hb ws kc ks pc L (jI z :: .ref a :: st) :=
  fun C0 b H locs cells slots ls hU hP hD hS hc hs hL => va_lald C0.1 C0.2.1 C0.2.2.2.2.2.2.2.1.1 hP q0 1 he rfl (z_in hi hn) d (by rw [z_clamp (by omega), Int.toNat_of_nonneg hi.1]; exact k C0 b H locs cells slots ls hU hP hD hS hc hs hL)
theorem zi_ldB {f : Int → Int} (q0 : Nat) (he : ws[q0]? = some (a, aB (zE Z) n f)) (hi : 0 ≤ z ∧ z < n) (hn : n ≤ 2147483647) (d : decode cc pc = .ok (.baload, 1)) (k : GV own cc Z B Hb ws kc ks (pc + 1) L (jI (f z) :: st)) : GV own cc Z B Hb ws kc ks pc L (jI z :: .ref a :: st) :=
  fun C0 b H locs cells slots ls hU hP hD hS hc hs hL => va_bald C0.1 C0.2.1 C0.2.2.2.2.2.2.2.1.1 hP q0 2 he rfl (z_in hi hn) d (by rw [z_clamp (by omega), Int.toNat_of_nonneg hi.1]; exact k C0 b H locs cells slots ls hU hP hD hS hc hs hL)
theorem zi_ldR {f : Int → Option Nat} {v : Nat} (q0 : Nat) (he : ws[q0]? = some (a, aR (zE Z) n f)) (hi : 0 ≤ z ∧ z < n) (hn : n ≤ 2147483647) (hv : f z = some v) (d : decode cc pc = .ok (.aaload, 1)) (k : GV own cc Z B Hb ws kc ks (pc + 1) L (.ref v :: st)) : GV own cc Z B Hb ws kc ks pc L (jI z :: .ref a :: st) :=
  fun C0 b H locs cells slots ls hU hP hD hS hc hs hL => va_aldq C0.1 C0.2.1 C0.2.2.2.2.2.2.2.1.1 hP q0 4 he rfl (z_in hi hn) d (by rw [z_clamp (by omega), Int.toNat_of_nonneg hi.1, hv]; exact k C0 b H locs cells slots ls hU hP hD hS hc hs hL)
theorem zi_ldRN {f : Int → Option Nat} (q0 : Nat) (he : ws[q0]? = some (a, aR (zE Z) n f)) (hi : 0 ≤ z ∧ z < n) (hn : n ≤ 2147483647) (hv : f z = none) (d : decode cc pc = .ok (.aaload, 1)) (k : GV own cc Z B Hb ws kc ks (pc + 1) L (.null :: st)) : GV own cc Z B Hb ws kc ks pc L (jI z :: .ref a :: st) :=
  fun C0 b H locs cells slots ls hU hP hD hS hc hs hL => va_aldq C0.1 C0.2.1 C0.2.2.2.2.2.2.2.1.1 hP q0 4 he rfl (z_in hi hn) d (by rw [z_clamp (by omega), Int.toNat_of_nonneg hi.1, hv]; exact k C0 b H locs cells slots ls hU hP hD hS hc hs hL)
theorem zi_ldD {f : Int → UInt64} (q0 : Nat) (he : ws[q0]? = some (a, aD (zE Z) n f)) (hi : 0 ≤ z ∧ z < n) (hn : n ≤ 2147483647) (d : decode cc pc = .ok (.daload, 1)) (k : GV own cc Z B Hb ws kc ks (pc + 1) L (.double (f z) :: st)) : GV own cc Z B Hb ws kc ks pc L (jI z :: .ref a :: st) :=
  fun C0 b H locs cells slots ls hU hP hD hS hc hs hL => va_dald C0.1 C0.2.1 C0.2.2.2.2.2.2.2.1.1 hP q0 3 he rfl (z_in hi hn) d (by rw [z_clamp (by omega), Int.toNat_of_nonneg hi.1]; exact k C0 b H locs cells slots ls hU hP hD hS hc hs hL)
theorem zi_stI {f : Int → Int} {x : Int} (q0 : Nat) (he : ws[q0]? = some (a, aI (zE Z) n f)) (hi : 0 ≤ z ∧ z < n) (hn : n ≤ 2147483647) (d : decode cc pc = .ok (.iastore, 1)) (k : GV own cc Z B Hb (ws.set q0 (a, aI (zE Z) n (zup f z x))) kc ks (pc + 1) L st) : GV own cc Z B Hb ws kc ks pc L (jI x :: jI z :: .ref a :: st) := by
  intro C0 b H locs cells slots ls hU hP hD hS hc hs hL
  have hz := z_clamp (a := z) (by omega)
  have hin := z_in hi hn
  refine W.iast C0.1 C0.2.1 (hP q0 _ he) ((zA_of C0 0 rfl).1 n (fun j => .int (Int32.ofInt (f j)))) (fun q => by cases q) (by show ¬ (Int32.ofInt z < 0 ∨ (arrV _ _ _).slots.size ≤ _); rw [arrV_size]; exact hin) rfl rfl d fun H1 e1 z1 o1 => ?_
  rw [hz] at e1 ⊢
  obtain ⟨g1, g2, g3, g4⟩ := zk_put (e := aI (zE Z) n (zup f z x)) (i := z.toNat) b hU hP hD hS he (by
    show H1[a]? = some (vp_cell _ _)
    rw [e1]
    show some ((vp_cell _ _).setSlot _ _) = _
    rw [vp_cell_i, vp_cell_i, arrV_store]
    congr 2
    funext q
    by_cases hq : q = z.toNat
    · subst hq
      simp [updV, zup, Int.toNat_of_nonneg hi.1]
    · have hq2 : ¬ (q : Int) = z := fun h => hq (by omega)
      simp [updV, zup, hq, hq2]) z1 o1
  exact k C0 b H1 _ cells slots ls g1 g2 g3 g4 hc hs hL
theorem zi_stL {f : Int → Int} {x : Int} (q0 : Nat) (he : ws[q0]? = some (a, aL (zE Z) n f)) (hi : 0 ≤ z ∧ z < n) (hn : n ≤ 2147483647) (d : decode cc pc = .ok (.lastore, 1)) (k : GV own cc Z B Hb (ws.set q0 (a, aL (zE Z) n (zup f z x))) kc ks (pc + 1) L st) : GV own cc Z B Hb ws kc ks pc L (jL x :: jI z :: .ref a :: st) := by
  intro C0 b H locs cells slots ls hU hP hD hS hc hs hL
  have hz := z_clamp (a := z) (by omega)
  have hin := z_in hi hn
  refine W.last C0.1 C0.2.1 (hP q0 _ he) ((zA_of C0 1 rfl).1 n (fun j => .long (Int64.ofInt (f j)))) (fun q => by cases q) (by show ¬ (Int32.ofInt z < 0 ∨ (arrV _ _ _).slots.size ≤ _); rw [arrV_size]; exact hin) rfl rfl d fun H1 e1 z1 o1 => ?_
  rw [hz] at e1 ⊢
  obtain ⟨g1, g2, g3, g4⟩ := zk_put (e := aL (zE Z) n (zup f z x)) (i := z.toNat) b hU hP hD hS he (by
    show H1[a]? = some (vp_cell _ _)
    rw [e1]
    show some ((vp_cell _ _).setSlot _ _) = _
    rw [vp_cell_l, vp_cell_l, arrV_store]
    congr 2
    funext q
    by_cases hq : q = z.toNat
    · subst hq
      simp [updV, zup, Int.toNat_of_nonneg hi.1]
    · have hq2 : ¬ (q : Int) = z := fun h => hq (by omega)
      simp [updV, zup, hq, hq2]) z1 o1
  exact k C0 b H1 _ cells slots ls g1 g2 g3 g4 hc hs hL
theorem zi_stD {f : Int → UInt64} {x : UInt64} (q0 : Nat) (he : ws[q0]? = some (a, aD (zE Z) n f)) (hi : 0 ≤ z ∧ z < n) (hn : n ≤ 2147483647) (d : decode cc pc = .ok (.dastore, 1)) (k : GV own cc Z B Hb (ws.set q0 (a, aD (zE Z) n (zup f z x))) kc ks (pc + 1) L st) : GV own cc Z B Hb ws kc ks pc L (.double x :: jI z :: .ref a :: st) := by
  intro C0 b H locs cells slots ls hU hP hD hS hc hs hL
  have hz := z_clamp (a := z) (by omega)
  have hin := z_in hi hn
  refine W.dast C0.1 C0.2.1 (hP q0 _ he) ((zA_of C0 3 rfl).1 n (fun j => .double (f j))) (fun q => by cases q) (by show ¬ (Int32.ofInt z < 0 ∨ (arrV _ _ _).slots.size ≤ _); rw [arrV_size]; exact hin) rfl rfl d fun H1 e1 z1 o1 => ?_
  rw [hz] at e1 ⊢
  obtain ⟨g1, g2, g3, g4⟩ := zk_put (e := aD (zE Z) n (zup f z x)) (i := z.toNat) b hU hP hD hS he (by
    show H1[a]? = some (vp_cell _ _)
    rw [e1]
    show some ((vp_cell _ _).setSlot _ _) = _
    rw [vp_cell_d, vp_cell_d, arrV_store]
    congr 2
    funext q
    by_cases hq : q = z.toNat
    · subst hq
      simp [updV, zup, Int.toNat_of_nonneg hi.1]
    · have hq2 : ¬ (q : Int) = z := fun h => hq (by omega)
      simp [updV, zup, hq, hq2]) z1 o1
  exact k C0 b H1 _ cells slots ls g1 g2 g3 g4 hc hs hL
theorem zi_stB {f : Int → Int} {x : Int} (q0 : Nat) (he : ws[q0]? = some (a, aB (zE Z) n f)) (hi : 0 ≤ z ∧ z < n) (hn : n ≤ 2147483647) (hx : narrow .byte (jI x) = jI x) (d : decode cc pc = .ok (.bastore, 1)) (k : GV own cc Z B Hb (ws.set q0 (a, aB (zE Z) n (zup f z x))) kc ks (pc + 1) L st) : GV own cc Z B Hb ws kc ks pc L (jI x :: jI z :: .ref a :: st) := by
  intro C0 b H locs cells slots ls hU hP hD hS hc hs hL
  have hz := z_clamp (a := z) (by omega)
  have hin := z_in hi hn
  refine W.bast C0.1 C0.2.1 (hP q0 _ he) ((zA_of C0 2 rfl).1 n (fun j => .int (Int32.ofInt (f j)))) (fun q => by cases q) (by show ¬ (Int32.ofInt z < 0 ∨ (arrV _ _ _).slots.size ≤ _); rw [arrV_size]; exact hin) rfl rfl d fun H1 e1 z1 o1 => ?_
  rw [hz] at e1 ⊢
  obtain ⟨g1, g2, g3, g4⟩ := zk_put (e := aB (zE Z) n (zup f z x)) (i := z.toNat) b hU hP hD hS he (by
    show H1[a]? = some (vp_cell _ _)
    rw [e1]
    show some ((vp_cell _ _).setSlot _ _) = _
    rw [vp_cell_i, vp_cell_i, arrV_store]
    congr 2
    funext q
    by_cases hq : q = z.toNat
    · subst hq
      simp [updV, zup, Int.toNat_of_nonneg hi.1, hx]
    · have hq2 : ¬ (q : Int) = z := fun h => hq (by omega)
      simp [updV, zup, hq, hq2]) z1 o1
  exact k C0 b H1 _ cells slots ls g1 g2 g3 g4 hc hs hL
end ARR

section NEWA
variable {own : String} {cc : ByteArray} {Z : ZT} {B : Nat → Prop} {Hb : Heap} {ws : va_W} {kc ks pc : Nat} {L : List (Option Value)} {st : List Value}
variable {a : Nat} {n : Int}
theorem zi_newI {kc' ks' : Nat} (hq : Jvm.Cond.arrayClass .int ∈ lw_all) (hn : 0 ≤ n ∧ n ≤ 100000) (hkb : kc' + 1 ≤ kc ∧ ks' + n.toNat ≤ ks) (d : decode cc pc = .ok (.newarray .int, 2)) (k : ∀ q : Nat, Hb.size ≤ q → GV own cc Z B Hb (ws ++ [(q, aI (zE Z) n.toNat (fun _ => 0))]) kc' ks' (pc + 2) L (.ref q :: st)) : GV own cc Z B Hb ws kc ks pc L (jI n :: st) := by
  intro C0 b H locs cells slots ls hU hP hD hS hc hs hL
  have h0 : ¬ Int32.ofInt n < 0 := by rw [Int32.lt_iff_toInt_lt, Int32_ofInt_range (by omega), Int32.toInt_zero]; omega
  refine va_newaK (atype := .int) C0.1 C0.2.1 (C0.2.2.2.1 _ hq) rfl d rfl h0 (z_clamp (by omega)) (by show n.toNat * _ ≤ _; simp only [newarray.typeOf, componentBytes]; omega) (by omega) (by omega) rfl fun H1 cA e1 z1 o1 hAr hfc => ?_
  have hcA : cA = (zE Z).2.1 0 := Option.some.inj (hfc.symm.trans (zA_of C0 0 rfl).2)
  subst hcA
  obtain ⟨g1, g2, g3, g4⟩ := zk_push (e := aI (zE Z) n.toNat (fun _ => 0)) b hU hP hD hS (by show H1[H.size]? = some (vp_cell _ _); rw [e1]; rfl) z1 o1
  exact k H.size hU.1 C0 b H1 _ _ _ ls g1 g2 g3 g4 (by omega) (by omega) hL
theorem zi_newL {kc' ks' : Nat} (hq : Jvm.Cond.arrayClass .long ∈ lw_all) (hn : 0 ≤ n ∧ n ≤ 100000) (hkb : kc' + 1 ≤ kc ∧ ks' + n.toNat ≤ ks) (d : decode cc pc = .ok (.newarray .long, 2)) (k : ∀ q : Nat, Hb.size ≤ q → GV own cc Z B Hb (ws ++ [(q, aL (zE Z) n.toNat (fun _ => 0))]) kc' ks' (pc + 2) L (.ref q :: st)) : GV own cc Z B Hb ws kc ks pc L (jI n :: st) := by
  intro C0 b H locs cells slots ls hU hP hD hS hc hs hL
  have h0 : ¬ Int32.ofInt n < 0 := by rw [Int32.lt_iff_toInt_lt, Int32_ofInt_range (by omega), Int32.toInt_zero]; omega
  refine va_newaK (atype := .long) C0.1 C0.2.1 (C0.2.2.2.1 _ hq) rfl d rfl h0 (z_clamp (by omega)) (by show n.toNat * _ ≤ _; simp only [newarray.typeOf, componentBytes]; omega) (by omega) (by omega) rfl fun H1 cA e1 z1 o1 hAr hfc => ?_
  have hcA : cA = (zE Z).2.1 1 := Option.some.inj (hfc.symm.trans (zA_of C0 1 rfl).2)
  subst hcA
  obtain ⟨g1, g2, g3, g4⟩ := zk_push (e := aL (zE Z) n.toNat (fun _ => 0)) b hU hP hD hS (by show H1[H.size]? = some (vp_cell _ _); rw [e1]; rfl) z1 o1
  exact k H.size hU.1 C0 b H1 _ _ _ ls g1 g2 g3 g4 (by omega) (by omega) hL
theorem zi_newB {kc' ks' : Nat} (hq : Jvm.Cond.arrayClass .byte ∈ lw_all) (hn : 0 ≤ n ∧ n ≤ 100000) (hkb : kc' + 1 ≤ kc ∧ ks' + n.toNat ≤ ks) (d : decode cc pc = .ok (.newarray .byte, 2)) (k : ∀ q : Nat, Hb.size ≤ q → GV own cc Z B Hb (ws ++ [(q, aB (zE Z) n.toNat (fun _ => 0))]) kc' ks' (pc + 2) L (.ref q :: st)) : GV own cc Z B Hb ws kc ks pc L (jI n :: st) := by
  intro C0 b H locs cells slots ls hU hP hD hS hc hs hL
  have h0 : ¬ Int32.ofInt n < 0 := by rw [Int32.lt_iff_toInt_lt, Int32_ofInt_range (by omega), Int32.toInt_zero]; omega
  refine va_newaK (atype := .byte) C0.1 C0.2.1 (C0.2.2.2.1 _ hq) rfl d rfl h0 (z_clamp (by omega)) (by show n.toNat * _ ≤ _; simp only [newarray.typeOf, componentBytes]; omega) (by omega) (by omega) rfl fun H1 cA e1 z1 o1 hAr hfc => ?_
  have hcA : cA = (zE Z).2.1 2 := Option.some.inj (hfc.symm.trans (zA_of C0 2 rfl).2)
  subst hcA
  obtain ⟨g1, g2, g3, g4⟩ := zk_push (e := aB (zE Z) n.toNat (fun _ => 0)) b hU hP hD hS (by show H1[H.size]? = some (vp_cell _ _); rw [e1]; rfl) z1 o1
  exact k H.size hU.1 C0 b H1 _ _ _ ls g1 g2 g3 g4 (by omega) (by omega) hL
theorem zi_newD {kc' ks' : Nat} (hq : Jvm.Cond.arrayClass .double ∈ lw_all) (hn : 0 ≤ n ∧ n ≤ 100000) (hkb : kc' + 1 ≤ kc ∧ ks' + n.toNat ≤ ks) (d : decode cc pc = .ok (.newarray .double, 2)) (k : ∀ q : Nat, Hb.size ≤ q → GV own cc Z B Hb (ws ++ [(q, aD (zE Z) n.toNat (fun _ => 0))]) kc' ks' (pc + 2) L (.ref q :: st)) : GV own cc Z B Hb ws kc ks pc L (jI n :: st) := by
  intro C0 b H locs cells slots ls hU hP hD hS hc hs hL
  have h0 : ¬ Int32.ofInt n < 0 := by rw [Int32.lt_iff_toInt_lt, Int32_ofInt_range (by omega), Int32.toInt_zero]; omega
  refine va_newaK (atype := .double) C0.1 C0.2.1 (C0.2.2.2.1 _ hq) rfl d rfl h0 (z_clamp (by omega)) (by show n.toNat * _ ≤ _; simp only [newarray.typeOf, componentBytes]; omega) (by omega) (by omega) rfl fun H1 cA e1 z1 o1 hAr hfc => ?_
  have hcA : cA = (zE Z).2.1 3 := Option.some.inj (hfc.symm.trans (zA_of C0 3 rfl).2)
  subst hcA
  obtain ⟨g1, g2, g3, g4⟩ := zk_push (e := aD (zE Z) n.toNat (fun _ => 0)) b hU hP hD hS (by show H1[H.size]? = some (vp_cell _ _); rw [e1]; rfl) z1 o1
  exact k H.size hU.1 C0 b H1 _ _ _ ls g1 g2 g3 g4 (by omega) (by omega) hL
theorem zi_newR {kc' ks' index : Nat} (lnk : Jvm.Cond.classLink own index "java/lang/Object" ∈ lw_all) (hov : Jvm.Cond.arrayOver (.object "java/lang/Object") ∈ lw_tbl) (hn : 0 ≤ n ∧ n ≤ 100000) (hkb : kc' + 1 ≤ kc ∧ ks' + n.toNat ≤ ks) (d : decode cc pc = .ok (.anewarray index, 3)) (k : ∀ q : Nat, Hb.size ≤ q → GV own cc Z B Hb (ws ++ [(q, aR (zE Z) n.toNat (fun _ => none))]) kc' ks' (pc + 3) L (.ref q :: st)) : GV own cc Z B Hb ws kc ks pc L (jI n :: st) := by
  intro C0 b H locs cells slots ls hU hP hD hS hc hs hL
  have h0 : ¬ Int32.ofInt n < 0 := by rw [Int32.lt_iff_toInt_lt, Int32_ofInt_range (by omega), Int32.toInt_zero]; omega
  have hz := z_clamp (a := n) (by omega)
  have hN : ∀ N' : Nat, (Int32.ofInt n).toNatClampNeg = N' → N' = n.toNat := fun N' h => by rw [← h, hz]
  refine W.anew C0.1 C0.2.1 C0.2.2.1 (C0.2.2.2.1 _ lnk) (va_AO.use (C0.2.2.2.2.2.2.2.1.2.1 _ hov rfl)) rfl d rfl h0 (by rw [hz]; omega) (by omega) (by rw [hz]; omega) fun cA kA comp f1 f2 f3 f4 => ?_
  rw [hz]
  obtain ⟨kA2, comp2, g1, g2, g3, g4⟩ := (zA_of C0 4 rfl).2
  have hcA : cA = (zE Z).2.1 4 := Option.some.inj (f1.symm.trans g4)
  subst hcA
  generalize hH1 : H.push ({ cls := (zE Z).2.1 4, slots := Array.replicate n.toNat .null, vm := .none } : Cell) = H1
  have z1 : H1.size = H.size + 1 := by rw [← hH1, Array.size_push]
  have e1 : H1[H.size]? = some (arrV ((zE Z).2.1 4) n.toNat (fun _ => .null)) := by rw [← hH1, Array.getElem?_push_size, ← arrV_new]
  have o1 : ∀ q : Nat, q < H.size → H1[q]? = H[q]? := fun q hq => by rw [← hH1, Array.getElem?_push, if_neg (Nat.ne_of_lt hq)]
  obtain ⟨g1, g2, g3, g4⟩ := zk_push (e := aR (zE Z) n.toNat (fun _ => none)) b hU hP hD hS (by show H1[H.size]? = some (vp_cell _ _); rw [e1]; rfl) z1 o1
  exact k H.size hU.1 C0 b H1 _ _ _ ls g1 g2 g3 g4 (by omega) (by omega) hL
end NEWA
section STAT
variable {own : String} {cc : ByteArray} {Z : ZT} {B : Nat → Prop} {Hb : Heap} {ws : va_W} {kc ks pc : Nat} {L : List (Option Value)} {st : List Value}
variable {index a : Nat} {C n d9 : String} {v : Value}
theorem zi_gets (hz : zBs (zE Z) (zA Z) (zs Z) (zs Z).heap → va_Z C n d9 v (zA Z) (zs Z) (zs Z).heap) (lnk : Jvm.Cond.fieldLink own index C n d9 ∈ lw_all) (d : decode cc pc = .ok (.getstatic index, 3)) (k : GV own cc Z B Hb ws kc ks (pc + 3) L (v :: st)) : GV own cc Z B Hb ws kc ks pc L st :=
  fun C0 b H locs cells slots ls hU hP hD hS hc hs hL => va_gets C0.1 C0.2.1 (hz C0.2.2.2.2.2.2.2.2.1) hS C0.2.2.1 (C0.2.2.2.1 _ lnk) (fun x hx => hx) d (k C0 b H locs cells slots ls hU hP hD hS hc hs hL)
theorem zi_getsq (hz : zBs (zE Z) (zA Z) (zs Z) (zs Z).heap → va_Zq C n d9 (zA Z) (zs Z) (zs Z).heap) (lnk : Jvm.Cond.fieldLink own index C n d9 ∈ lw_all) (d : decode cc pc = .ok (.getstatic index, 3)) (k : ∀ r : Value, (r = .null ∨ ∃ t : Nat, r = .ref t) → GV own cc Z B Hb ws kc ks (pc + 3) L (r :: st)) : GV own cc Z B Hb ws kc ks pc L st :=
  fun C0 b H locs cells slots ls hU hP hD hS hc hs hL => by
    rcases hz C0.2.2.2.2.2.2.2.2.1 with h | ⟨t, h⟩
    · exact va_gets C0.1 C0.2.1 h hS C0.2.2.1 (C0.2.2.2.1 _ lnk) (fun x hx => hx) d (k _ (Or.inl rfl) C0 b H locs cells slots ls hU hP hD hS hc hs hL)
    · exact va_gets C0.1 C0.2.1 h hS C0.2.2.1 (C0.2.2.2.1 _ lnk) (fun x hx => hx) d (k _ (Or.inr ⟨t, rfl⟩) C0 b H locs cells slots ls hU hP hD hS hc hs hL)
theorem zi_ldcS {tx : String} (i : Nat) (hi : zLit[i]? = some (own, index, tx)) (d : decode cc pc = .ok (.ldc index, 2)) (k : GV own cc Z B Hb ws kc ks (pc + 2) L (.ref ((zE Z).2.2 (20 + i)) :: st)) : GV own cc Z B Hb ws kc ks pc L st :=
  fun C0 b H locs cells slots ls hU hP hD hS hc hs hL => va_ldcS C0.1 C0.2.1 C0.2.2.1 (C0.2.2.2.2.2.2.2.2.1.2.2.2.2.2.2.2.1 i _ hi).1 d (k C0 b H locs cells slots ls hU hP hD hS hc hs hL)
/-- what is known of the statics, at the baseline -/
theorem zi_base (k : zBs (zE Z) B (zs Z) Hb → GV own cc Z B Hb ws kc ks pc L st) : GV own cc Z B Hb ws kc ks pc L st :=
  fun C0 b => k (zBs_tr C0.2.2.2.2.2.2.2.2.1 (State.WarmedH.refl _) ⟨Vm.Alike.refl _, b.2.2, fun q _ h => b.1 q h⟩) C0 b
variable {B' : Nat → Prop}
theorem zi_gff (hO : va_OF C n d9 v a B' (zs Z) Hb) (hB : ∀ q, B q → B' q) (lnk : Jvm.Cond.fieldLink own index C n d9 ∈ lw_all) (d : decode cc pc = .ok (.getfield index, 3)) (k : GV own cc Z B Hb ws kc ks (pc + 3) L (v :: st)) : GV own cc Z B Hb ws kc ks pc L (.ref a :: st) := by
  intro C0 b H locs cells slots ls hU hP hD hS hc hs hL
  obtain ⟨cf, kf, i, f, cell, h1, h2, h3, h4, h5, h6⟩ := hO
  exact W.getf C0.1 C0.2.1 C0.2.2.1 (C0.2.2.2.1 _ lnk) h1 h2 (v := v) ((hU.2 a (Array.getElem?_eq_some_iff.mp h3).1 (fun q => h6 (hB a q))).trans h3) h4 h5 rfl rfl d (k C0 b H locs cells slots ls hU hP hD hS hc hs hL)
theorem zi_lenF {ty : FieldType} {N : Nat} {f : Nat → Value} (hT : va_T ty a N f B' (zs Z) Hb) (hB : ∀ q, B q → B' q) (d : decode cc pc = .ok (.arraylength, 1)) (k : GV own cc Z B Hb ws kc ks (pc + 1) L (jI N :: st)) : GV own cc Z B Hb ws kc ks pc L (.ref a :: st) := by
  intro C0 b H locs cells slots ls hU hP hD hS hc hs hL
  obtain ⟨cell, h1, h2, h3, h4, h5, h6, h7⟩ := hT
  exact W.alen C0.1 C0.2.1 ((hU.2 a (Array.getElem?_eq_some_iff.mp h1).1 (fun q => h7 (hB a q))).trans h1) h2 (by rw [h5]; exact z_nat N) rfl rfl d (k C0 b H locs cells slots ls hU hP hD hS hc hs hL)
theorem zT_at {ty : FieldType} {N : Nat} {f : Nat → Value} {H : Heap} {z : Int} (hT : va_T ty a N f B' (zs Z) Hb) (hB : ∀ q, B q → B' q) (hU : Un B Hb H) (hi : 0 ≤ z ∧ z < N) (hn : N ≤ 2147483647) : ∃ cell : Cell, H[a]? = some cell ∧ (zs Z).isArrayOf cell ty ∧ cell.vm ≠ .unknown ∧ ¬ (Int32.ofInt z < 0 ∨ cell.slots.size ≤ (Int32.ofInt z).toNatClampNeg) ∧ cell.slots[(Int32.ofInt z).toNatClampNeg]? = some (f z.toNat) := by
  obtain ⟨cell, h1, h2, h3, h4, h5, h6, h7⟩ := hT
  have hz := z_clamp (a := z) (by omega)
  refine ⟨cell, (hU.2 a (Array.getElem?_eq_some_iff.mp h1).1 (fun q => h7 (hB a q))).trans h1, h2, h3, ?_, by rw [hz]; exact h6 _ (by omega)⟩
  rintro (h | h)
  · rw [Int32.lt_iff_toInt_lt, Int32_ofInt_range (by omega), Int32.toInt_zero] at h
    omega
  · rw [hz] at h
    omega
theorem zi_ldBF {N : Nat} {f : Nat → Value} {z : Int} (hT : va_T .byte a N f B' (zs Z) Hb) (hB : ∀ q, B q → B' q) (hi : 0 ≤ z ∧ z < N) (hn : N ≤ 2147483647) (hv : f z.toNat = v) (d : decode cc pc = .ok (.baload, 1)) (k : GV own cc Z B Hb ws kc ks (pc + 1) L (v :: st)) : GV own cc Z B Hb ws kc ks pc L (jI z :: .ref a :: st) := by
  intro C0 b H locs cells slots ls hU hP hD hS hc hs hL
  obtain ⟨cell, h1, h2, h3, h4, h5⟩ := zT_at hT hB hU hi hn
  exact W.bald C0.1 C0.2.1 h1 h2 h3 h4 (h5.trans (by rw [hv])) rfl rfl d (k C0 b H locs cells slots ls hU hP hD hS hc hs hL)
theorem zi_ldIF {N : Nat} {f : Nat → Value} {z : Int} (hT : va_T .int a N f B' (zs Z) Hb) (hB : ∀ q, B q → B' q) (hi : 0 ≤ z ∧ z < N) (hn : N ≤ 2147483647) (hv : f z.toNat = v) (d : decode cc pc = .ok (.iaload, 1)) (k : GV own cc Z B Hb ws kc ks (pc + 1) L (v :: st)) : GV own cc Z B Hb ws kc ks pc L (jI z :: .ref a :: st) := by
  intro C0 b H locs cells slots ls hU hP hD hS hc hs hL
  obtain ⟨cell, h1, h2, h3, h4, h5⟩ := zT_at hT hB hU hi hn
  exact W.iald C0.1 C0.2.1 h1 h2 h3 h4 (h5.trans (by rw [hv])) rfl rfl d (k C0 b H locs cells slots ls hU hP hD hS hc hs hL)
theorem zi_ldRF {N : Nat} {E : String} {f : Nat → Value} {z : Int} (hT : va_T (.object E) a N f B' (zs Z) Hb) (hB : ∀ q, B q → B' q) (hi : 0 ≤ z ∧ z < N) (hn : N ≤ 2147483647) (hv : f z.toNat = v) (d : decode cc pc = .ok (.aaload, 1)) (k : GV own cc Z B Hb ws kc ks (pc + 1) L (v :: st)) : GV own cc Z B Hb ws kc ks pc L (jI z :: .ref a :: st) := by
  intro C0 b H locs cells slots ls hU hP hD hS hc hs hL
  obtain ⟨cell, h1, h2, h3, h4, h5⟩ := zT_at hT hB hU hi hn
  exact W.aald (ty := .object E) C0.1 C0.2.1 h1 h2 rfl h3 h4 (h5.trans (by rw [hv])) rfl rfl d (k C0 b H locs cells slots ls hU hP hD hS hc hs hL)
/-- the class of a receiver -/
def zRc (own : String) (cc : ByteArray) (Z : ZT) (B : Nat → Prop) (Hb : Heap) (ws : va_W) (C : String) (a : Nat) : Prop := Cx own cc Z → ∀ H : Heap, Un B Hb H → va_P (zE Z).1 clA ws H → ∃ cell : Cell, H[a]? = some cell ∧ cell.vm.isStatics = false ∧ (zs Z).vm.findClass C = some cell.cls
theorem zr_own {ci : Nat} {q : vw_C} {fs : List Value} (q0 : Nat) (he : ws[q0]? = some (a, .inr (ci, fs))) (hc : clA[ci]? = some q) : zRc own cc Z B Hb ws q.1 a := fun C0 H _ hP => va_recv C0.2.2.2.2.2.2.2.1.1 hP hc he
theorem zr_fro (hO : va_O C a B' (zs Z) Hb) (hB : ∀ q, B q → B' q) : zRc own cc Z B Hb ws C a := fun C0 H hU _ => by
  obtain ⟨cell, h1, h2, h3, h4⟩ := hO
  exact ⟨cell, (hU.2 a (Array.getElem?_eq_some_iff.mp h1).1 (fun q => h4 (hB a q))).trans h1, h2, h3⟩
theorem zi_castE {nm : String} (hr : zRc own cc Z B Hb ws nm a) (lnk : Jvm.Cond.classLink own index nm ∈ lw_all) (d : decode cc pc = .ok (.checkcast index, 3)) (k : GV own cc Z B Hb ws kc ks (pc + 3) L (.ref a :: st)) : GV own cc Z B Hb ws kc ks pc L (.ref a :: st) :=
  fun C0 b H locs cells slots ls hU hP hD hS hc hs hL => va_castE C0.1 C0.2.1 C0.2.2.1 (C0.2.2.2.1 _ lnk) (hr C0 H hU hP) d (k C0 b H locs cells slots ls hU hP hD hS hc hs hL)
theorem zi_castY {nm : String} (hr : zRc own cc Z B Hb ws C a) (hca : Jvm.Cond.castable C nm ∈ lw_tbl) (lnk : Jvm.Cond.classLink own index nm ∈ lw_all) (d : decode cc pc = .ok (.checkcast index, 3)) (k : GV own cc Z B Hb ws kc ks (pc + 3) L (.ref a :: st)) : GV own cc Z B Hb ws kc ks pc L (.ref a :: st) :=
  fun C0 b H locs cells slots ls hU hP hD hS hc hs hL => va_castY C0.1 C0.2.1 C0.2.2.1 (C0.2.2.2.1 _ lnk) (C0.2.2.2.2.2.2.2.1.2.1 _ hca rfl) (hr C0 H hU hP) d (k C0 b H locs cells slots ls hU hP hD hS hc hs hL)
theorem zi_instE {nm : String} (hr : zRc own cc Z B Hb ws nm a) (lnk : Jvm.Cond.classLink own index nm ∈ lw_all) (d : decode cc pc = .ok (.instanceof index, 3)) (k : GV own cc Z B Hb ws kc ks (pc + 3) L (jI 1 :: st)) : GV own cc Z B Hb ws kc ks pc L (.ref a :: st) :=
  fun C0 b H locs cells slots ls hU hP hD hS hc hs hL => va_instE C0.1 C0.2.1 C0.2.2.1 (C0.2.2.2.1 _ lnk) (hr C0 H hU hP) d (k C0 b H locs cells slots ls hU hP hD hS hc hs hL)
theorem zi_instNo {nm : String} (hr : zRc own cc Z B Hb ws C a) (hnc : (C, nm) ∈ zNcl) (lnk : Jvm.Cond.classLink own index nm ∈ lw_all) (d : decode cc pc = .ok (.instanceof index, 3)) (k : GV own cc Z B Hb ws kc ks (pc + 3) L (jI 0 :: st)) : GV own cc Z B Hb ws kc ks pc L (.ref a :: st) :=
  fun C0 b H locs cells slots ls hU hP hD hS hc hs hL => va_instNo C0.1 C0.2.1 C0.2.2.1 (C0.2.2.2.1 _ lnk) (C0.2.2.2.2.2.2.2.1.2.2.2.1 _ hnc) (hr C0 H hU hP) d (k C0 b H locs cells slots ls hU hP hD hS hc hs hL)
/-- a reference is stored into an array of references -/
theorem zi_stR {m v : Nat} {z : Int} {f : Int → Option Nat} (q0 : Nat) (he : ws[q0]? = some (a, aR (zE Z) m f)) (hr : zRc own cc Z B Hb ws C v) (hca : Jvm.Cond.castable C "java/lang/Object" ∈ lw_tbl) (hi : 0 ≤ z ∧ z < m) (hm : m ≤ 2147483647) (d : decode cc pc = .ok (.aastore, 1)) (k : GV own cc Z B Hb (ws.set q0 (a, aR (zE Z) m (zup f z (some v)))) kc ks (pc + 1) L st) : GV own cc Z B Hb ws kc ks pc L (.ref v :: jI z :: .ref a :: st) := by
  intro C0 b H locs cells slots ls hU hP hD hS hc hs hL
  have hz := z_clamp (a := z) (by omega)
  have hin := z_in hi hm
  obtain ⟨cellV, g1, g2, g3⟩ := hr C0 H hU hP
  obtain ⟨kA, comp, k1, k2, k3, -⟩ := (zA_of C0 4 rfl).2
  obtain ⟨c0, t0, f1, f2, f3⟩ := Cond.castable_spec (va_Nw.use (A := za Z) rfl (C0.2.2.2.2.2.2.2.1.2.1 _ hca rfl))
  have e1 : t0 = comp := Option.some.inj (f2.symm.trans k3)
  have e2 : c0 = cellV.cls := Option.some.inj (f1.symm.trans g3)
  subst e1 e2
  obtain ⟨kC, hkC, -⟩ := Vm.findClass_spec f2
  obtain ⟨kV, hkV, -⟩ := Vm.findClass_spec f1
  have h6 : (Int32.ofInt z).toNatClampNeg < (arrV ((zE Z).2.1 4) m (fun j => va_rf (f (j : Int)))).slots.size := by rw [hz, arrV_size]; omega
  refine W.aast C0.1 C0.2.1 (hP q0 _ he) (fun q h => by cases h) (fun h => by cases h) k1 k2 rfl hkC ⟨fun q => hin (Or.inl q), h6⟩ g1 (fun q h => by rw [h] at g2; cases g2) hkV f3 rfl rfl d fun H1 e1 z1 o1 => ?_
  rw [hz] at e1 ⊢
  obtain ⟨g1, g2, g3, g4⟩ := zk_put (e := aR (zE Z) m (zup f z (some v))) (i := z.toNat) b hU hP hD hS he (by
    show H1[a]? = some (vp_cell _ _)
    rw [e1]
    show some ((vp_cell _ _).setSlot _ _) = _
    rw [vp_cell_q, vp_cell_q, arrV_store]
    congr 2
    funext q
    by_cases hq : q = z.toNat
    · subst hq
      simp [updV, zup, Int.toNat_of_nonneg hi.1, va_rf]
    · have hq2 : ¬ (q : Int) = z := fun h => hq (by omega)
      simp [updV, zup, hq, hq2]) z1 o1
  exact k C0 b H1 _ cells slots ls g1 g2 g3 g4 hc hs hL
end STAT

