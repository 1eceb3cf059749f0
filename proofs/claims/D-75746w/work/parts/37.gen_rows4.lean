/-! FROZEN CELLS in the form of the owned ones -/
set_option maxRecDepth 100000

def zFz (E : ZE) (e : Nat × va_E) (A : Nat → Prop) (H : Heap) : Prop := va_at E.1 clA e H ∧ ¬ A e.1
theorem va_at_kept {D : va_G} {cl : List vw_C} {e : Nat × va_E} {H H1 : Heap} (h : va_at D cl e H) (h1 : H1[e.1]? = H[e.1]?) : va_at D cl e H1 := by
  obtain ⟨a, x⟩ := e
  cases x with
  | inl y => exact h1.trans h
  | inr o =>
    obtain ⟨r, h2, h3⟩ := h
    exact ⟨r, h2, h3.kept h1⟩
theorem zFz_tr {E : ZE} {e : Nat × va_E} {A A' : Nat → Prop} {U U' : State} {H H' : Heap} (h : zFz E e A H) (r : Tr A U H A' U' H') : zFz E e A' H' := ⟨va_at_kept h.1 (r.2.1.2 _ h.1.lt h.2), fun q => h.2 (r.2.2 _ h.1.lt q)⟩
theorem va_Pfz {E : ZE} {e : Nat × va_E} {B : Nat → Prop} {ws : va_W} {Hb H : Heap} (hP : va_P E.1 clA ws H) (hU : Un B Hb H) (h : zFz E e B Hb) : va_P E.1 clA (ws ++ [e]) H := by
  intro k q hk
  by_cases hlt : k < ws.length
  · rw [List.getElem?_append_left hlt] at hk
    exact hP k q hk
  · have h4 := (List.getElem?_eq_some_iff.mp hk).1
    simp at h4
    have h5 : k = ws.length := by omega
    subst h5
    simp at hk
    subst hk
    exact va_at_kept h.1 (hU.2 _ h.1.lt h.2)
theorem zq {e : Nat × va_E} {ws : va_W} : (ws ++ [e])[ws.length]? = some e := by simp

section FRO
variable {own : String} {cc : ByteArray} {Z : ZT} {B : Nat → Prop} {Hb : Heap} {ws : va_W} {kc ks pc : Nat} {L : List (Option Value)} {st : List Value}
variable {ci N index : Nat} {C : String} {T : u_T} {ty0 : Nat → FieldType} {fs : List Value} {a n : Nat} {z : Int} {v : Value}
theorem zf_getf (zk : ZK ci C T N ty0) (hz : zFz (zE Z) (a, .inr (ci, fs)) B Hb) (j : Nat) (hk : j < N) (hdecl : (T j).1 = C) (lnk : Jvm.Cond.fieldLink own index C (T j).2.1 (T j).2.2.1 ∈ lw_all) (hv : fs[j]? = some v) (d : decode cc pc = .ok (.getfield index, 3))
    (k : GV own cc Z B Hb ws kc ks (pc + 3) L (v :: st)) : GV own cc Z B Hb ws kc ks pc L (.ref a :: st) :=
  fun C0 b H locs cells slots ls hU hP hD hS hc hs hL => va_get C0.1 C0.2.1 C0.2.2.2.1 zk.2.1 C0.2.2.1 C0.2.2.2.2.2.2.2.1.1 (va_Pfz hP hU hz) ws.length zq zk.1 j hk (C0.2.2.2.1 _ lnk) (fun x hx => by rw [← hdecl]; exact hx) hv d (k C0 b H locs cells slots ls hU hP hD hS hc hs hL)
theorem zf_getfS {ref : String} (zk : ZK ci C T N ty0) (hz : zFz (zE Z) (a, .inr (ci, fs)) B Hb) (j : Nat) (hk : j < N) (hsm : Jvm.Cond.sameField ref (T j).1 (T j).2.1 (T j).2.2.1 ∈ lw_all) (lnk : Jvm.Cond.fieldLink own index ref (T j).2.1 (T j).2.2.1 ∈ lw_all) (hv : fs[j]? = some v) (d : decode cc pc = .ok (.getfield index, 3))
    (k : GV own cc Z B Hb ws kc ks (pc + 3) L (v :: st)) : GV own cc Z B Hb ws kc ks pc L (.ref a :: st) :=
  fun C0 b H locs cells slots ls hU hP hD hS hc hs hL => va_get C0.1 C0.2.1 C0.2.2.2.1 zk.2.1 C0.2.2.1 C0.2.2.2.2.2.2.2.1.1 (va_Pfz hP hU hz) ws.length zq zk.1 j hk (C0.2.2.2.1 _ lnk) (fun x hx => u_same (C0.2.2.2.1 _ hsm) x hx) hv d (k C0 b H locs cells slots ls hU hP hD hS hc hs hL)
theorem zf_getfA {ref : String} (zk : ZK ci C T N ty0) (hz : zFz (zE Z) (a, .inr (ci, fs)) B Hb) (j : Nat) (hk : j < N) (hdecl : (T j).1 = ref) (lnk : Jvm.Cond.fieldLink own index ref (T j).2.1 (T j).2.2.1 ∈ lw_all) (hv : fs[j]? = some v) (d : decode cc pc = .ok (.getfield index, 3))
    (k : GV own cc Z B Hb ws kc ks (pc + 3) L (v :: st)) : GV own cc Z B Hb ws kc ks pc L (.ref a :: st) :=
  fun C0 b H locs cells slots ls hU hP hD hS hc hs hL => va_get C0.1 C0.2.1 C0.2.2.2.1 zk.2.1 C0.2.2.1 C0.2.2.2.2.2.2.2.1.1 (va_Pfz hP hU hz) ws.length zq zk.1 j hk (C0.2.2.2.1 _ lnk) (fun x hx => by rw [← hdecl]; exact hx) hv d (k C0 b H locs cells slots ls hU hP hD hS hc hs hL)
theorem zf_getfN {ref host : String} (zk : ZK ci C T N ty0) (hz : zFz (zE Z) (a, .inr (ci, fs)) B Hb) (j : Nat) (hk : j < N) (hdecl : (T j).1 = ref) (lnk : Jvm.Cond.fieldLinkNest own index ref (T j).2.1 (T j).2.2.1 host ∈ lw_tbl) (hv : fs[j]? = some v) (d : decode cc pc = .ok (.getfield index, 3))
    (k : GV own cc Z B Hb ws kc ks (pc + 3) L (v :: st)) : GV own cc Z B Hb ws kc ks pc L (.ref a :: st) :=
  fun C0 b H locs cells slots ls hU hP hD hS hc hs hL => va_getN C0.1 C0.2.1 C0.2.2.2.1 zk.2.1 C0.2.2.1 C0.2.2.2.2.2.2.2.1.1 (va_Pfz hP hU hz) ws.length zq zk.1 j hk (va_Nw.use rfl (C0.2.2.2.2.2.2.2.1.2.1 _ lnk rfl)) (fun x hx => by rw [← hdecl]; exact hx) hv d (k C0 b H locs cells slots ls hU hP hD hS hc hs hL)
theorem zf_alen {x : vp_A} {c : ClassId} {ty : FieldType} (t0 : Nat) (hz : zFz (zE Z) (a, .inl (c, x)) B Hb) (ht : (zTys (zE Z))[t0]? = some (c, ty)) (d : decode cc pc = .ok (.arraylength, 1)) (k : GV own cc Z B Hb ws kc ks (pc + 1) L (jI x.1 :: st)) : GV own cc Z B Hb ws kc ks pc L (.ref a :: st) :=
  fun C0 b H locs cells slots ls hU hP hD hS hc hs hL => va_alen C0.1 C0.2.1 C0.2.2.2.2.2.2.2.1.1 (va_Pfz hP hU hz) ws.length t0 zq ht (z_nat x.1) d (k C0 b H locs cells slots ls hU hP hD hS hc hs hL)
theorem zf_ldI {f : Int → Int} (hz : zFz (zE Z) (a, aI (zE Z) n f) B Hb) (hi : 0 ≤ z ∧ z < n) (hn : n ≤ 2147483647) (d : decode cc pc = .ok (.iaload, 1)) (k : GV own cc Z B Hb ws kc ks (pc + 1) L (jI (f z) :: st)) : GV own cc Z B Hb ws kc ks pc L (jI z :: .ref a :: st) :=
  fun C0 b H locs cells slots ls hU hP hD hS hc hs hL => va_iald C0.1 C0.2.1 C0.2.2.2.2.2.2.2.1.1 (va_Pfz hP hU hz) ws.length 0 zq rfl (z_in hi hn) d (by rw [z_clamp (by omega), Int.toNat_of_nonneg hi.1]; exact k C0 b H locs cells slots ls hU hP hD hS hc hs hL)
theorem zf_ldB {f : Int → Int} (hz : zFz (zE Z) (a, aB (zE Z) n f) B Hb) (hi : 0 ≤ z ∧ z < n) (hn : n ≤ 2147483647) (d : decode cc pc = .ok (.baload, 1)) (k : GV own cc Z B Hb ws kc ks (pc + 1) L (jI (f z) :: st)) : GV own cc Z B Hb ws kc ks pc L (jI z :: .ref a :: st) :=
  fun C0 b H locs cells slots ls hU hP hD hS hc hs hL => va_bald C0.1 C0.2.1 C0.2.2.2.2.2.2.2.1.1 (va_Pfz hP hU hz) ws.length 2 zq rfl (z_in hi hn) d (by rw [z_clamp (by omega), Int.toNat_of_nonneg hi.1]; exact k C0 b H locs cells slots ls hU hP hD hS hc hs hL)
theorem zf_ldR {f : Int → Option Nat} {v : Nat} (hz : zFz (zE Z) (a, aR (zE Z) n f) B Hb) (hi : 0 ≤ z ∧ z < n) (hn : n ≤ 2147483647) (hv : f z = some v) (d : decode cc pc = .ok (.aaload, 1)) (k : GV own cc Z B Hb ws kc ks (pc + 1) L (.ref v :: st)) : GV own cc Z B Hb ws kc ks pc L (jI z :: .ref a :: st) :=
  fun C0 b H locs cells slots ls hU hP hD hS hc hs hL => va_aldq C0.1 C0.2.1 C0.2.2.2.2.2.2.2.1.1 (va_Pfz hP hU hz) ws.length 4 zq rfl (z_in hi hn) d (by rw [z_clamp (by omega), Int.toNat_of_nonneg hi.1, hv]; exact k C0 b H locs cells slots ls hU hP hD hS hc hs hL)
theorem zf_ldRN {f : Int → Option Nat} (hz : zFz (zE Z) (a, aR (zE Z) n f) B Hb) (hi : 0 ≤ z ∧ z < n) (hn : n ≤ 2147483647) (hv : f z = none) (d : decode cc pc = .ok (.aaload, 1)) (k : GV own cc Z B Hb ws kc ks (pc + 1) L (.null :: st)) : GV own cc Z B Hb ws kc ks pc L (jI z :: .ref a :: st) :=
  fun C0 b H locs cells slots ls hU hP hD hS hc hs hL => va_aldq C0.1 C0.2.1 C0.2.2.2.2.2.2.2.1.1 (va_Pfz hP hU hz) ws.length 4 zq rfl (z_in hi hn) d (by rw [z_clamp (by omega), Int.toNat_of_nonneg hi.1, hv]; exact k C0 b H locs cells slots ls hU hP hD hS hc hs hL)
theorem zr_fz {q : vw_C} (hz : zFz (zE Z) (a, .inr (ci, fs)) B Hb) (hc : clA[ci]? = some q) : zRc own cc Z B Hb ws q.1 a := fun C0 H hU hP => va_recv C0.2.2.2.2.2.2.2.1.1 (va_Pfz hP hU hz) hc zq
/-- frozen, said with the names of the fields -/
theorem zFz_O {A : Nat → Prop} {H : Heap} (C0 : Cx own cc Z) (zk : ZK ci C T N ty0) (hz : zFz (zE Z) (a, .inr (ci, fs)) A H) : va_O C a A (zs Z) H := by
  obtain ⟨⟨r, h1, cell, g1, g2, g3, g4⟩, h2⟩ := hz
  have hr : r = (C, T, N) := Option.some.inj (h1.symm.trans zk.1)
  subst hr
  obtain ⟨hSl, hfc, -⟩ := C0.2.2.2.2.2.2.2.1.1.1 ci _ zk.1
  exact ⟨cell, g1, by rw [g3]; rfl, by rw [g2]; exact hfc, h2⟩
theorem zFz_OF {A : Nat → Prop} {H : Heap} (C0 : Cx own cc Z) (zk : ZK ci C T N ty0) (hz : zFz (zE Z) (a, .inr (ci, fs)) A H) (j : Nat) (hj : j < N) (hv : fs[j]? = some v) : va_OF (T j).1 (T j).2.1 (T j).2.2.1 v a A (zs Z) H := by
  obtain ⟨⟨r, h1, cell, g1, g2, g3, g4⟩, h2⟩ := hz
  have hr : r = (C, T, N) := Option.some.inj (h1.symm.trans zk.1)
  subst hr
  obtain ⟨hSl, hfc, kC, hkC, hkind⟩ := C0.2.2.2.2.2.2.2.1.1.1 ci _ zk.1
  obtain ⟨cf, kf, fi, f, hi, hsl⟩ := hSl j hj
  refine ⟨cf, kf, fi, f, cell, hi, (u_facts hfc hkC (u_lays C0.2.2.2.1 zk.2.1 hj) hi).1, g1, by rw [g3]; decide, ?_, h2⟩
  rw [hsl, g4 j hj]
  simp [vp_V, List.getD_eq_getElem?_getD, hv]
theorem zi_cx (k : Cx own cc Z → GV own cc Z B Hb ws kc ks pc L st) : GV own cc Z B Hb ws kc ks pc L st := fun C0 => k C0 C0
theorem zFz_TB {A : Nat → Prop} {H : Heap} {f : Int → Int} (C0 : Cx own cc Z) (hn : n ≤ 2147483647) (hz : zFz (zE Z) (a, aB (zE Z) n f) A H) : va_T .byte a n (fun j => jI (f j)) A (zs Z) H := by
  obtain ⟨h1, h2⟩ := hz
  have h3 : H[a]? = some (arrV ((zE Z).2.1 2) n (fun j => .int (Int32.ofInt (f j)))) := h1
  refine ⟨_, h3, (zA_of C0 2 rfl).1 n _, (by intro q; cases q), Nat.le_of_eq (arrV_size _ _ _).symm, by rw [arrV_size], fun j hj => ?_, h2⟩
  show (Array.ofFn _)[j]? = _
  simp [hj]

end FRO
