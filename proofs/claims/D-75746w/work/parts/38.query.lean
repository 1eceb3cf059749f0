/-! QUERIES: methods that own nothing at their start; they return a value (or none), what they made is garbage -/
set_option maxRecDepth 100000
def QC (l : Launch) (y : MethodName) (cw : List Cond) (dp mc ms : Nat) (E : ZE) (As : List Value) (Fz : zF) (P : Option Value → Prop) : Prop := CT (S := Option Value) (SX := Unit) l y cw dp mc ms E As [] Fz (fun u r => r = u ∧ P u) (fun _ => []) zr0 zx0 zw0
/-- a return's obligation -/
def QR (Z : ZT) (P : Option Value → Prop) : Prop := ∀ (B : Nat → Prop) (Hb : Heap) (ws : va_W) (v : Option Value), P v → (∀ q, B q → zA Z q) → ∀ H : Heap, Un B Hb H → va_P (zE Z).1 clA ws H → va_D B ws → Un (zA Z) (zs Z).heap H → ∀ t : State, t.heap = H → (zs Z).WarmedH t.vm → zPo Z v (zs Z) t
theorem qc_of {l : Launch} {y : MethodName} {cc : ByteArray} {nL : Nat} {ret : Option FieldType} {dp mc ms : Nat} {E : ZE} {As : List Value} {own : String} {L : List (Option Value)} {Fz : zF} {P : Option Value → Prop} (hy : plainName y.cls = true) (hown : y.cls = own) (hL : zEnt nL As = L) (hlen : (lg_sl As).length ≤ nL)
    (body : ∀ Z : ZT, E = zE Z → zl Z = l → zrt Z = ret → zR Z = zRm dp mc ms → zML Z nL → (zme Z).name = y.name → QR Z P → Fz (zA Z) (zs Z) (zs Z).heap → GV own cc Z (zA Z) (zs Z).heap [] mc ms 0 L []) : QC l y (ws_ y cc nL ret) dp mc ms E As Fz P := by
  refine ct_of hy hown hL hlen (fun Z hE hl hr hR hm hnm hPo hXc hA hF hx => ?_)
  subst hE
  exact body Z rfl hl hr hR hm hnm (fun B Hb ws v hv hB H h1 h2 h3 h4 t h5 h6 => zret (B := B) (Hb := Hb) (ws := ws) hPo hA v ⟨rfl, hv⟩ [] rfl rfl rfl (fun _ _ _ => trivial) H h1 h2 h3 h4 t h5 h6 hB) hF
section QCALL
variable {own : String} {cc : ByteArray} {Z : ZT} {B : Nat → Prop} {Hb : Heap} {ws : va_W} {kc ks pc : Nat} {L : List (Option Value)} {st : List Value}
variable {kc' ks' mcC msC : Nat} {Fz : zF} {As : List Value} {y : MethodName} {bytes : ByteArray} {maxL n index b dpy dp mc ms : Nat} {ret : Option FieldType} {P : Option Value → Prop}
theorem zrange_map (ws : va_W) : (List.range ws.length).map (fun i => ws[i]?) = ws.map some := by
  apply List.ext_getElem?
  intro i
  rw [List.getElem?_map, List.getElem?_map]
  by_cases h : i < ws.length
  · rw [List.getElem?_range h, List.getElem?_eq_getElem h]; simp [List.getElem?_eq_getElem h]
  · rw [List.getElem?_eq_none (by simp; omega), List.getElem?_eq_none (by omega)]; rfl
theorem znd_of : ∀ l : List Nat, l.Nodup → va_nd l = true
  | [], _ => rfl
  | a :: l, h => by
    have h2 := List.nodup_cons.mp h
    simp only [va_nd, Bool.and_eq_true, decide_eq_true_eq]
    exact ⟨h2.1, znd_of l h2.2⟩
theorem zrange_nd (n : Nat) : va_nd (List.range n) = true := znd_of _ List.nodup_range
theorem zq_F {F : zF} (hok : FzOK F) (h : F B (zs Z) Hb) (hb : ∀ q : Nat, Hb.size ≤ q → B q) : ∀ H1 : Heap, Un B Hb H1 → Hb.size ≤ H1.size → F (va_A [] H1.size) (zs Z) H1 := fun H1 hU hs => hok _ _ _ _ _ _ h ⟨Vm.Alike.refl _, hU, fun q hq h2 => by
  rcases h2 with ⟨k, e, h2⟩ | h2
  · simp at h2
  · exact hb q (by omega)⟩
theorem zp_V (mw : MWV y bytes maxL ret n) (K : QC (zl Z) y (ws_ y bytes maxL ret) dpy mcC msC (zE Z) (.ref b :: As) Fz P) (lnk : Jvm.Cond.methodLink own index y ∈ lw_all) (hrc : zRc own cc Z B Hb ws y.cls b) (hR0 : zR Z = zRm dp mc ms) (hdp : dpy < dp) (hn : As.length = n) (hrm : (st.map fun v => v.category).sum ≤ 8) (d : decode cc pc = .ok (.invokevirtual index, 3)) (hkb : kc' + mcC ≤ kc ∧ ks' + msC ≤ ks) (hF : Fz B (zs Z) Hb) (hok : FzOK Fz) (k : ∀ r : Option Value, P r → GV own cc Z B Hb ws kc' ks' (pc + 3) L (r.toList ++ st)) : GV own cc Z B Hb ws kc ks pc L (As.reverse ++ .ref b :: st) :=
  fun C0 b9 => zc_V (wc := []) (wr := ws) mw K lnk hrc hR0 hdp hn hrm d [] (List.range ws.length) rfl (zrange_map ws) rfl (zrange_nd _) (fun i _ h => by cases h) hkb (zq_F hok hF b9.2.1) hok (fun _ _ _ h => h.elim) (fun u r hq => by obtain ⟨rfl, hp⟩ := hq; rw [List.append_nil]; exact k r hp) C0 b9
theorem zp_S (mw : MWS y bytes maxL ret n) (K : QC (zl Z) y (ws_ y bytes maxL ret) dpy mcC msC (zE Z) (As) Fz P) (lnk : Jvm.Cond.methodLink own index y ∈ lw_all) (hR0 : zR Z = zRm dp mc ms) (hdp : dpy < dp) (hn : As.length = n) (hrm : (st.map fun v => v.category).sum ≤ 8) (d : decode cc pc = .ok (.invokestatic index, 3)) (hkb : kc' + mcC ≤ kc ∧ ks' + msC ≤ ks) (hF : Fz B (zs Z) Hb) (hok : FzOK Fz) (k : ∀ r : Option Value, P r → GV own cc Z B Hb ws kc' ks' (pc + 3) L (r.toList ++ st)) : GV own cc Z B Hb ws kc ks pc L (As.reverse ++ st) :=
  fun C0 b9 => zc_S (wc := []) (wr := ws) mw K lnk hR0 hdp hn hrm d [] (List.range ws.length) rfl (zrange_map ws) rfl (zrange_nd _) (fun i _ h => by cases h) hkb (zq_F hok hF b9.2.1) hok (fun _ _ _ h => h.elim) (fun u r hq => by obtain ⟨rfl, hp⟩ := hq; rw [List.append_nil]; exact k r hp) C0 b9
theorem zp_F {C : String} {x : MethodName} {count ci N : Nat} {T : u_T} (hci : clA[ci]? = some (C, T, N)) (mw : MWF C x y bytes maxL ret n) (K : QC (zl Z) y (ws_ y bytes maxL ret) dpy mcC msC (zE Z) (.ref b :: As) Fz P) (lnk : Jvm.Cond.methodLink own index x ∈ lw_all) (hrc : zRc own cc Z B Hb ws C b) (hR0 : zR Z = zRm dp mc ms) (hdp : dpy < dp) (hn : As.length = n) (hrm : (st.map fun v => v.category).sum ≤ 8) (d : decode cc pc = .ok (.invokeinterface index count, 5)) (hkb : kc' + mcC ≤ kc ∧ ks' + msC ≤ ks) (hF : Fz B (zs Z) Hb) (hok : FzOK Fz) (k : ∀ r : Option Value, P r → GV own cc Z B Hb ws kc' ks' (pc + 5) L (r.toList ++ st)) : GV own cc Z B Hb ws kc ks pc L (As.reverse ++ .ref b :: st) :=
  fun C0 b9 => zc_F (wc := []) (wr := ws) hci mw K lnk hrc hR0 hdp hn hrm d [] (List.range ws.length) rfl (zrange_map ws) rfl (zrange_nd _) (fun i _ h => by cases h) hkb (zq_F hok hF b9.2.1) hok (fun _ _ _ h => h.elim) (fun u r hq => by obtain ⟨rfl, hp⟩ := hq; rw [List.append_nil]; exact k r hp) C0 b9
end QCALL
