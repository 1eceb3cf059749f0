/-! BLOCKS of owned cells; the context C of cells that are only read -/
set_option maxRecDepth 100000

theorem blk_at : ∀ {bs : List va_W} {q0 : Nat} {x : Nat × va_E}, bs[q0]? = some [x] → ∃ k, bs.flatten[k]? = some x ∧ ∀ y, bs.flatten.set k y = (bs.set q0 [y]).flatten
  | [], q0, x, h => by simp at h
  | b :: r, 0, x, h => by
    have e : b = [x] := by simpa using h
    subst e
    exact ⟨0, rfl, fun y => rfl⟩
  | b :: r, q0 + 1, x, h => by
    rw [List.getElem?_cons_succ] at h
    obtain ⟨k, h1, h2⟩ := blk_at h
    refine ⟨b.length + k, ?_, fun y => ?_⟩
    · rw [List.flatten_cons, List.getElem?_append_right (by omega), show b.length + k - b.length = k by omega]
      exact h1
    · rw [List.flatten_cons, List.set_append_right _ _ (by omega), show b.length + k - b.length = k by omega, h2]
      rfl
theorem vaP_mem {D : va_G} {cl : List vw_C} {ws : va_W} {H : Heap} : va_P D cl ws H ↔ ∀ q ∈ ws, va_at D cl q H := by
  constructor
  · intro h q hq
    obtain ⟨k, hk⟩ := List.getElem?_of_mem hq
    exact h k q hk
  · intro h k q hk
    exact h q (List.mem_of_getElem? hk)
theorem vaD_mem {A : Nat → Prop} {ws : va_W} : va_D A ws ↔ (ws.map Prod.fst).Nodup ∧ ∀ q ∈ ws, A q.1 := by
  constructor
  · intro h
    refine ⟨?_, fun q hq => ?_⟩
    · unfold List.Nodup
      rw [List.pairwise_iff_getElem]
      intro i j hi hj hij e
      rw [List.length_map] at hi hj
      rw [List.getElem_map, List.getElem_map] at e
      have := h.1 i j _ _ (List.getElem?_eq_getElem hi) (List.getElem?_eq_getElem hj) e
      omega
    · obtain ⟨k, hk⟩ := List.getElem?_of_mem hq
      exact h.2 k q hk
  · intro h
    have h1 := h.1
    unfold List.Nodup at h1
    rw [List.pairwise_iff_getElem] at h1
    refine ⟨fun i j p q hi hj e => ?_, fun k q hk => h.2 q (List.mem_of_getElem? hk)⟩
    obtain ⟨hi1, hi2⟩ := List.getElem?_eq_some_iff.mp hi
    obtain ⟨hj1, hj2⟩ := List.getElem?_eq_some_iff.mp hj
    rcases Nat.lt_trichotomy i j with g | g | g
    · refine absurd ?_ (h1 i j (by rw [List.length_map]; exact hi1) (by rw [List.length_map]; exact hj1) g)
      rw [List.getElem_map, List.getElem_map, hi2, hj2]; exact e
    · exact g
    · refine absurd ?_ (h1 j i (by rw [List.length_map]; exact hj1) (by rw [List.length_map]; exact hi1) g)
      rw [List.getElem_map, List.getElem_map, hi2, hj2]; exact e.symm
theorem vaP_sub {D : va_G} {cl : List vw_C} {ws ws' : va_W} {H : Heap} (h : ∀ q ∈ ws', q ∈ ws) (hP : va_P D cl ws H) : va_P D cl ws' H := vaP_mem.mpr (fun q hq => vaP_mem.mp hP q (h q hq))
theorem vaD_perm {A : Nat → Prop} {ws ws' : va_W} (h : ws.Perm ws') (hD : va_D A ws) : va_D A ws' := by
  obtain ⟨h1, h2⟩ := vaD_mem.mp hD
  exact vaD_mem.mpr ⟨(h.map Prod.fst).nodup_iff.mp h1, fun q hq => h2 q (h.mem_iff.mpr hq)⟩
theorem vaD_left {A : Nat → Prop} {ws ws' : va_W} (hD : va_D A (ws ++ ws')) : va_D A ws := by
  obtain ⟨h1, h2⟩ := vaD_mem.mp hD
  rw [List.map_append] at h1
  exact vaD_mem.mpr ⟨(List.nodup_append.mp h1).1, fun q hq => h2 q (List.mem_append_left _ hq)⟩
theorem blk_perm (bs : List va_W) (is : List Nat) (h : is.isPerm (List.range bs.length) = true) : bs.flatten.Perm ((is.map (fun i => bs.getD i [])).flatten) := by
  have h1 : is.Perm (List.range bs.length) := List.isPerm_iff.mp h
  have h2 : (List.range bs.length).map (fun i => bs.getD i []) = bs := by
    apply List.ext_getElem?
    intro i
    rw [List.getElem?_map]
    by_cases hi : i < bs.length
    · rw [List.getElem?_range hi]
      simp [List.getD_eq_getElem?_getD, List.getElem?_eq_getElem hi]
    · rw [List.getElem?_eq_none (by simp; omega), List.getElem?_eq_none (by omega)]; rfl
  have h3 := (h1.map (fun i => bs.getD i [])).flatten
  rw [h2] at h3
  exact h3.symm
theorem blk_sel {bs b : List va_W} {is : List Nat} (h : is.map (fun i => bs[i]?) = b.map some) : is.map (fun i => bs.getD i []) = b := by
  have h1 := congrArg (List.map (fun o : Option va_W => o.getD [])) h
  rw [List.map_map, List.map_map] at h1
  have e1 : ((fun o : Option va_W => o.getD []) ∘ fun i => bs[i]?) = fun i => bs.getD i [] := by
    funext i
    simp [List.getD_eq_getElem?_getD]
  have e2 : ((fun o : Option va_W => o.getD []) ∘ some) = id := by funext i; rfl
  rw [e1, e2, List.map_id] at h1
  exact h1
theorem blk_split {bs bc br : List va_W} (isC isR isD : List Nat) (hl : (isC ++ (isR ++ isD)).isPerm (List.range bs.length) = true) (hC : isC.map (fun i => bs[i]?) = bc.map some) (hR : isR.map (fun i => bs[i]?) = br.map some) : ∃ rest, bs.flatten.Perm (bc.flatten ++ (br.flatten ++ rest)) := by
  have h := blk_perm bs _ hl
  rw [List.map_append, List.map_append, List.flatten_append, List.flatten_append, blk_sel hC, blk_sel hR] at h
  exact ⟨_, h⟩
theorem app_idx (a b c : va_W) : (List.range a.length).map (fun i => (a ++ (b ++ c))[i]?) = a.map some ∧ (List.range' a.length b.length).map (fun i => (a ++ (b ++ c))[i]?) = b.map some ∧ va_nd (List.range a.length) = true ∧ va_nd (List.range' a.length b.length) = true ∧ ∀ i ∈ List.range' a.length b.length, i ∉ List.range a.length := by
  refine ⟨?_, ?_, zrange_nd _, znd_of _ List.nodup_range', fun i hi h => ?_⟩
  · apply List.ext_getElem?
    intro i
    rw [List.getElem?_map, List.getElem?_map]
    by_cases h : i < a.length
    · rw [List.getElem?_range h]
      simp [List.getElem?_append_left h, List.getElem?_eq_getElem h]
    · rw [List.getElem?_eq_none (by simp; omega), List.getElem?_eq_none (by omega)]; rfl
  · apply List.ext_getElem?
    intro i
    rw [List.getElem?_map, List.getElem?_map]
    by_cases h : i < b.length
    · rw [List.getElem?_range' h]
      simp [List.getElem?_append_right, List.getElem?_append_left h, List.getElem?_eq_getElem h]
    · rw [List.getElem?_eq_none (by simp; omega), List.getElem?_eq_none (by omega)]; rfl
  · rw [List.mem_range'_1] at hi
    rw [List.mem_range] at h
    omega
/-- the cells that are only read lie there -/
def zC (E : ZE) (C : Nat × va_E → Prop) : zF := fun A _ H => ∀ e, C e → zFz E e A H
theorem zC_ok {E : ZE} {C : Nat × va_E → Prop} : FzOK (zC E C) := fun _ _ _ _ _ _ h r e he => zFz_tr (h e he) r

section BLK
variable {own : String} {cc : ByteArray} {Z : ZT} {B : Nat → Prop} {Hb : Heap} {ws : va_W} {kc ks pc : Nat} {L : List (Option Value)} {st : List Value}
theorem gv_perm {ws' : va_W} (h : ws.Perm ws') (k : GV own cc Z B Hb ws' kc ks pc L st) : GV own cc Z B Hb ws kc ks pc L st :=
  fun C b H locs cells slots ls hU hP hD hS hc hs hL => k C b H locs cells slots ls hU (vaP_sub (fun q hq => h.mem_iff.mpr hq) hP) (vaD_perm h hD) hS hc hs hL
theorem zi_eqb {bs bs' : List va_W} (h : bs.flatten = bs'.flatten) (k : GV own cc Z B Hb bs'.flatten kc ks pc L st) : GV own cc Z B Hb bs.flatten kc ks pc L st := by rw [h]; exact k
theorem zi_shape {bs bs' : List va_W} (h : bs = bs') (k : GV own cc Z B Hb bs'.flatten kc ks pc L st) : GV own cc Z B Hb bs.flatten kc ks pc L st := by rw [h]; exact k
theorem gx_shape {bs bs' : List va_W} {q : Nat} {En : String} (h : bs = bs') (k : GX own cc Z B Hb bs'.flatten kc ks pc L q En) : GX own cc Z B Hb bs.flatten kc ks pc L q En := by rw [h]; exact k
/-- blocks are chosen, in an order -/
theorem zi_pick {bs bs' : List va_W} (is isD : List Nat) (hl : (is ++ isD).isPerm (List.range bs.length) = true) (hs : is.map (fun i => bs[i]?) = bs'.map some) (k : GV own cc Z B Hb bs'.flatten kc ks pc L st) : GV own cc Z B Hb bs.flatten kc ks pc L st := by
  have h := blk_perm bs _ hl
  rw [List.map_append, List.flatten_append, blk_sel hs] at h
  exact fun C b H locs cells slots ls hU hP hD hS hc hs hL => k C b H locs cells slots ls hU (vaP_sub (fun q hq => h.mem_iff.mpr (List.mem_append_left _ hq)) hP) (vaD_left (vaD_perm h hD)) hS hc hs hL

theorem zPc_atB {As : List Value} {wc : va_W} {Fz : zF} (C0 : Cx own cc Z) (b : Bx Z B Hb) {H : Heap} {locs : List Loc} (hU : Un B Hb H) (hP : va_P (zE Z).1 clA ws H) (hD : va_D B ws) (hS : va_S (zA Z) (zs Z).heap H locs) (isC : List Nat) (hC : isC.map (fun i => ws[i]?) = wc.map some) (hnC : va_nd isC = true) (hF : ∀ H1 : Heap, Un B Hb H1 → va_P (zE Z).1 clA ws H1 → va_D B ws → Fz (va_A wc H1.size) (zs Z) H1) (hok : FzOK Fz) :
    ∀ U : State, U.heap = H → (zs Z).WarmedH U.vm → zPc (zE Z) As wc Fz H.size As.toArray U := by
  intro U hUh hW
  subst hUh
  have hfree := va_free (wc := wc) hD (⟨hU.1, hU.2, fun _ h => by cases h⟩ : va_S B Hb U.heap []) b.2.1 isC hC
  have hD2 : va_D B wc := hD.sub isC hnC hC
  have hP2 : va_P (zE Z).1 clA wc U.heap := hP.sub isC (by
    have h1 : ∀ l : List Nat, ∀ w : va_W, l.map (fun i => ws[i]?) = w.map some → l.filterMap (fun i => ws[i]?) = w := by
      intro l
      induction l with
      | nil => intro w h; cases w with | nil => rfl | cons _ _ => simp at h
      | cons a l ih => intro w h; cases w with
        | nil => simp at h
        | cons x w =>
          simp only [List.map_cons, List.cons.injEq] at h
          rw [List.filterMap_cons, h.1]
          exact congrArg _ (ih w h.2)
    exact h1 isC wc hC)
  refine ⟨rfl, rfl, zWd_warm hW C0.2.2.2.2.2.2.2.1, zBs_tr C0.2.2.2.2.2.2.2.2.1 hW ⟨hW.alike, ⟨hS.1, hS.2.1⟩, fun q _ h => b.1 _ (hfree q h)⟩, hP2, hD2.weaken (fun _ _ _ _ => trivial), hok _ _ _ _ _ _ (hF U.heap hU hP hD) ⟨hW.alike, Un.rf, fun _ _ h => h⟩⟩
theorem zc_coreB {S SX : Type} {wc wr : va_W} {post : S → Option Value → Prop} {w1 : S → va_W} {Frz : S → zF} {postx : SX → Nat → String → Prop} {wx : SX → va_W} {stk : List Value} {kc' ks' mcC msC ln : Nat} {as : Array Value} {Fz : zF} {As : List Value}
    (isC isR : List Nat) (hC : isC.map (fun i => ws[i]?) = wc.map some) (hR : isR.map (fun i => ws[i]?) = wr.map some) (hnC : va_nd isC = true) (hn : va_nd isR = true) (hdis : ∀ i ∈ isR, i ∉ isC) (hkb : kc' + mcC ≤ kc ∧ ks' + msC ≤ ks)
    (hF : Cx own cc Z → ∀ H1 : Heap, Un B Hb H1 → va_P (zE Z).1 clA ws H1 → va_D B ws → Fz (va_A wc H1.size) (zs Z) H1) (hok : FzOK Fz)
    (run : Cx own cc Z → ∀ (H : Heap) (locs : List Loc) (cells slots : Nat) (ls : Array Slot), Un B Hb H → va_P (zE Z).1 clA ws H → ls.size = (zc Z).maxLocals → cells + mcC ≤ (zR Z).cells → slots + msC ≤ (zR Z).slots → (∀ U : State, U.heap = H → (zs Z).WarmedH U.vm → zPc (zE Z) As wc Fz H.size As.toArray U) →
      zNx Z H locs cells slots mcC msC (F0 (zm Z) pc ls stk) ln st (zQc (va_A wc H.size) (zPost (zE Z) wc post w1 Frz) as) (zQx (va_A wc H.size) (zPx (zE Z) wc postx wx)) (va_A wc H.size))
    (kx : ∀ (u : SX) (q : Nat) (En : String), postx u q En → GX own cc Z B Hb (wr ++ wx u) kc' ks' pc L q En)
    (kr : ∀ (u : S) (r : Option Value), post u r → GV own cc Z B Hb (wr ++ w1 u) kc' ks' (pc + ln) L (r.toList ++ st)) : GV own cc Z B Hb ws kc ks pc L stk := by
  intro C0 b H locs cells slots ls hU hP hD hS hc hs hL
  have hN := run C0 H locs cells slots ls hU hP hL.1 (by omega) (by omega) (zPc_atB C0 b hU hP hD hS isC hC hnC (hF C0) hok)
  have hfree := va_free (wc := wc) hD (⟨hU.1, hU.2, fun _ h => by cases h⟩ : va_S B Hb H []) b.2.1 isC hC
  intro T hT X
  rcases hN T hT X with ⟨v, st₀, t, T', L9, h0, X', hL9, e1, e2, ⟨r, hv, ⟨u, hp, hPw, hDw, hFr⟩, hUn⟩, go⟩ | ⟨q, st₀, t, T', L9, En, ce, h0, X', hL9, e1, e2, ⟨⟨u, hp, hPw, hDw⟩, hUn⟩, hce, hcv, hcl, stp⟩
  · cases hv
    rw [h0] at hUn hDw
    rw [← e1] at hUn hPw
    obtain ⟨hPj, hDj⟩ := va_join (wr := wr) (w1 := w1 u) hP hD isC isR hC hR hn hdis hUn.2 hfree hPw hDw
    obtain ⟨t2, a1, b1⟩ := kr u v hp C0 b T'.heap (locs ++ L9) _ _ ls (hU.trans (hUn.mono (fun q _ z => hfree q z))) hPj hDj
      ⟨Nat.le_trans hS.1 hUn.1, fun q h1 h2 => by rw [hUn.2 q (Nat.lt_of_lt_of_le h1 hS.1) (fun z => h2 (b.1 _ (hfree q z)))]; exact hS.2.1 q h1 h2, fun l9 hl => by
        rcases List.mem_append.mp hl with h | h
        · exact hS.2.2 l9 h
        · exact b.1 _ (hfree _ (hL9 l9 h))⟩ (by omega) (by omega) hL T' rfl X'
    exact ⟨t2, go t2 a1, b1⟩
  · rw [h0] at hUn hDw
    rw [← e1] at hUn hPw hce
    obtain ⟨hPj, hDj⟩ := va_join (wr := wr) (w1 := wx u) hP hD isC isR hC hR hn hdis hUn.2 hfree hPw hDw
    obtain ⟨t2, a1, b1⟩ := kx u q En hp C0 b T'.heap (locs ++ L9) _ _ ls ce st (hU.trans (hUn.mono (fun q _ z => hfree q z))) hPj hDj
      ⟨Nat.le_trans hS.1 hUn.1, fun q h1 h2 => by rw [hUn.2 q (Nat.lt_of_lt_of_le h1 hS.1) (fun z => h2 (b.1 _ (hfree q z)))]; exact hS.2.1 q h1 h2, fun l9 hl => by
        rcases List.mem_append.mp hl with h | h
        · exact hS.2.2 l9 h
        · exact b.1 _ (hfree _ (hL9 l9 h))⟩ (by omega) (by omega) hL hce hcv hcl T' rfl X'
    exact ⟨t2, stp.trans a1, b1⟩

theorem bc_core {S SX : Type} {bs bc br : List va_W} {post : S → Option Value → Prop} {b1 : S → List va_W} {postx : SX → Nat → String → Prop} {bx : SX → List va_W} {stk : List Value} {kc' ks' mcC msC ln : Nat} {as : Array Value} {Fz : zF} {As : List Value}
    (isC isR isD : List Nat) (hl : (isC ++ (isR ++ isD)).isPerm (List.range bs.length) = true) (hC : isC.map (fun i => bs[i]?) = bc.map some) (hR : isR.map (fun i => bs[i]?) = br.map some) (hkb : kc' + mcC ≤ kc ∧ ks' + msC ≤ ks)
    (hF : Cx own cc Z → ∀ H1 : Heap, Un B Hb H1 → va_P (zE Z).1 clA br.flatten H1 → (∀ e ∈ br.flatten, ¬ va_A bc.flatten H1.size e.1) → (∀ q, va_A bc.flatten H1.size q → q < Hb.size → B q) → Fz (va_A bc.flatten H1.size) (zs Z) H1) (hok : FzOK Fz)
    (run : Cx own cc Z → ∀ (H : Heap) (locs : List Loc) (cells slots : Nat) (ls : Array Slot), Un B Hb H → va_P (zE Z).1 clA bs.flatten H → ls.size = (zc Z).maxLocals → cells + mcC ≤ (zR Z).cells → slots + msC ≤ (zR Z).slots → (∀ U : State, U.heap = H → (zs Z).WarmedH U.vm → zPc (zE Z) As bc.flatten Fz H.size As.toArray U) →
      zNx Z H locs cells slots mcC msC (F0 (zm Z) pc ls stk) ln st (zQc (va_A bc.flatten H.size) (zPost (zE Z) bc.flatten post (fun u => (b1 u).flatten) zr0) as) (zQx (va_A bc.flatten H.size) (zPx (zE Z) bc.flatten postx (fun u => (bx u).flatten))) (va_A bc.flatten H.size))
    (kx : ∀ (u : SX) (q : Nat) (En : String), postx u q En → GX own cc Z B Hb (br ++ bx u).flatten kc' ks' pc L q En)
    (kr : ∀ (u : S) (r : Option Value), post u r → GV own cc Z B Hb (br ++ b1 u).flatten kc' ks' (pc + ln) L (r.toList ++ st)) : GV own cc Z B Hb bs.flatten kc ks pc L stk := by
  obtain ⟨rest, hp⟩ := blk_split isC isR isD hl hC hR
  refine gv_perm hp ?_
  obtain ⟨i1, i2, i3, i4, i5⟩ := app_idx bc.flatten br.flatten rest
  refine zc_coreB (Frz := zr0) (w1 := fun u => (b1 u).flatten) (wx := fun u => (bx u).flatten) (ln := ln) (as := as) (As := As) (wc := bc.flatten) (wr := br.flatten) _ _ i1 i2 i3 i4 i5 hkb (fun C0 H1 hU hP hD => hF C0 H1 hU (vaP_sub (fun q hq => List.mem_append_right _ (List.mem_append_left _ hq)) hP) (fun e he h => ?_) (fun q h hq => ?_)) hok (fun C0 H locs cells slots ls hU hP hsz hc hs hPc => run C0 H locs cells slots ls hU (vaP_sub (fun q hq => hp.mem_iff.mp hq) hP) hsz hc hs hPc) (fun u q En h => by rw [← List.flatten_append]; exact kx u q En h) (fun u r h => by rw [← List.flatten_append]; exact kr u r h)
  · rcases h with ⟨k, x, hk⟩ | h
    · have h1 := (vaD_mem.mp hD).1
      rw [List.map_append] at h1
      exact (List.nodup_append.mp h1).2.2 e.1 (List.mem_map.mpr ⟨(e.1, x), List.mem_of_getElem? hk, rfl⟩) e.1 (List.mem_map_of_mem (f := Prod.fst) (List.mem_append_left _ he)) rfl
    · have := (vaP_mem.mp hP e (List.mem_append_right _ (List.mem_append_left _ he))).lt
      omega
  · rcases h with ⟨k, x, hk⟩ | h
    · exact (vaD_mem.mp hD).2 _ (List.mem_append_left _ (List.mem_of_getElem? hk))
    · have := hU.1
      omega
variable {S SX : Type} {bs bc br : List va_W} {post : S → Option Value → Prop} {b1 : S → List va_W} {postx : SX → Nat → String → Prop} {bx : SX → List va_W} {kc' ks' mcC msC : Nat} {Fz : zF} {As : List Value} {y : MethodName} {bytes : ByteArray} {maxL n index b dpy dp mc ms : Nat} {ret : Option FieldType}
theorem bc_V (mw : MWV y bytes maxL ret n) (K : CT (zl Z) y (ws_ y bytes maxL ret) dpy mcC msC (zE Z) (.ref b :: As) bc.flatten Fz post (fun u => (b1 u).flatten) zr0 postx (fun u => (bx u).flatten)) (lnk : Jvm.Cond.methodLink own index y ∈ lw_all) (hrc : zRc own cc Z B Hb bs.flatten y.cls b) (hR0 : zR Z = zRm dp mc ms) (hdp : dpy < dp) (hn : As.length = n) (hrm : (st.map fun v => v.category).sum ≤ 8) (d : decode cc pc = .ok (.invokevirtual index, 3))
    (isC isR isD : List Nat) (hl : (isC ++ (isR ++ isD)).isPerm (List.range bs.length) = true) (hC : isC.map (fun i => bs[i]?) = bc.map some) (hR : isR.map (fun i => bs[i]?) = br.map some) (hkb : kc' + mcC ≤ kc ∧ ks' + msC ≤ ks)
    (hF : Cx own cc Z → ∀ H1 : Heap, Un B Hb H1 → va_P (zE Z).1 clA br.flatten H1 → (∀ e ∈ br.flatten, ¬ va_A bc.flatten H1.size e.1) → (∀ q, va_A bc.flatten H1.size q → q < Hb.size → B q) → Fz (va_A bc.flatten H1.size) (zs Z) H1) (hok : FzOK Fz)
    (kx : ∀ (u : SX) (q : Nat) (En : String), postx u q En → GX own cc Z B Hb (br ++ bx u).flatten kc' ks' pc L q En)
    (kr : ∀ (u : S) (r : Option Value), post u r → GV own cc Z B Hb (br ++ b1 u).flatten kc' ks' (pc + 3) L (r.toList ++ st)) : GV own cc Z B Hb bs.flatten kc ks pc L (As.reverse ++ .ref b :: st) := by
  refine bc_core (ln := 3) (as := ((.ref b :: As)).toArray) (As := (.ref b :: As)) isC isR isD hl hC hR hkb hF hok (fun C0 H locs cells slots ls hU hP hsz hc hs hPc => ?_) kx kr
  exact vx_runV (g := F0 (zm Z) pc ls _) ⟨C0.1, C0.2.1, rfl, C0.2.2.1, C0.2.2.2.1⟩ (K C0.2.2.2.2.2.2.1 H.size) (cwV n C0.2.2.2.1 (lw_V lnk mw.1 mw.2.1 mw.2.2.1 mw.2.2.2.1) rfl rfl rfl ⟨rfl, mw.2.2.2.2.2.1, mw.2.2.2.2.2.2.1, mw.2.2.2.2.2.2.2⟩ (zRm_ok hR0 hdp mw.2.2.2.2.1)) ⟨zPc_blind hok, hrc C0 H hU hP, hPc⟩ rfl hn hsz rfl (lv_room hrm) d ⟨hc, hs⟩
theorem bc_VN (mw : MWV y bytes maxL ret n) (K : CT (zl Z) y (ws_ y bytes maxL ret) dpy mcC msC (zE Z) (.ref b :: As) bc.flatten Fz post (fun u => (b1 u).flatten) zr0 postx (fun u => (bx u).flatten)) {host : String} (lnk : Jvm.Cond.methodLinkNest own index y host ∈ lw_tbl) (hrc : zRc own cc Z B Hb bs.flatten y.cls b) (hR0 : zR Z = zRm dp mc ms) (hdp : dpy < dp) (hn : As.length = n) (hrm : (st.map fun v => v.category).sum ≤ 8) (d : decode cc pc = .ok (.invokevirtual index, 3))
    (isC isR isD : List Nat) (hl : (isC ++ (isR ++ isD)).isPerm (List.range bs.length) = true) (hC : isC.map (fun i => bs[i]?) = bc.map some) (hR : isR.map (fun i => bs[i]?) = br.map some) (hkb : kc' + mcC ≤ kc ∧ ks' + msC ≤ ks)
    (hF : Cx own cc Z → ∀ H1 : Heap, Un B Hb H1 → va_P (zE Z).1 clA br.flatten H1 → (∀ e ∈ br.flatten, ¬ va_A bc.flatten H1.size e.1) → (∀ q, va_A bc.flatten H1.size q → q < Hb.size → B q) → Fz (va_A bc.flatten H1.size) (zs Z) H1) (hok : FzOK Fz)
    (kx : ∀ (u : SX) (q : Nat) (En : String), postx u q En → GX own cc Z B Hb (br ++ bx u).flatten kc' ks' pc L q En)
    (kr : ∀ (u : S) (r : Option Value), post u r → GV own cc Z B Hb (br ++ b1 u).flatten kc' ks' (pc + 3) L (r.toList ++ st)) : GV own cc Z B Hb bs.flatten kc ks pc L (As.reverse ++ .ref b :: st) := by
  refine bc_core (ln := 3) (as := ((.ref b :: As)).toArray) (As := (.ref b :: As)) isC isR isD hl hC hR hkb hF hok (fun C0 H locs cells slots ls hU hP hsz hc hs hPc => ?_) kx kr
  exact vx_runVN (g := F0 (zm Z) pc ls _) ⟨C0.1, C0.2.1, rfl, C0.2.2.1, C0.2.2.2.1⟩ (K C0.2.2.2.2.2.2.1 H.size) ⟨va_cnB n C0.2.2.2.1 (lw_meth mw.2.2.2.1) rfl rfl rfl (C0.2.2.2.2.2.2.2.1.2.1 _ lnk rfl) (C0.2.2.2.1 _ mw.2.2.1) ⟨mw.2.2.2.2.2.1, mw.2.2.2.2.2.2.1, mw.2.2.2.2.2.2.2⟩ (zRm_ok hR0 hdp mw.2.2.2.2.1), C0.2.2.2.1 _ mw.1, C0.2.2.2.1 _ mw.2.1⟩ ⟨zPc_blind hok, hrc C0 H hU hP, hPc⟩ rfl hn hsz rfl (lv_room hrm) d ⟨hc, hs⟩
theorem bc_S (mw : MWS y bytes maxL ret n) (K : CT (zl Z) y (ws_ y bytes maxL ret) dpy mcC msC (zE Z) As bc.flatten Fz post (fun u => (b1 u).flatten) zr0 postx (fun u => (bx u).flatten)) (lnk : Jvm.Cond.methodLink own index y ∈ lw_all) (hR0 : zR Z = zRm dp mc ms) (hdp : dpy < dp) (hn : As.length = n) (hrm : (st.map fun v => v.category).sum ≤ 8) (d : decode cc pc = .ok (.invokestatic index, 3))
    (isC isR isD : List Nat) (hl : (isC ++ (isR ++ isD)).isPerm (List.range bs.length) = true) (hC : isC.map (fun i => bs[i]?) = bc.map some) (hR : isR.map (fun i => bs[i]?) = br.map some) (hkb : kc' + mcC ≤ kc ∧ ks' + msC ≤ ks)
    (hF : Cx own cc Z → ∀ H1 : Heap, Un B Hb H1 → va_P (zE Z).1 clA br.flatten H1 → (∀ e ∈ br.flatten, ¬ va_A bc.flatten H1.size e.1) → (∀ q, va_A bc.flatten H1.size q → q < Hb.size → B q) → Fz (va_A bc.flatten H1.size) (zs Z) H1) (hok : FzOK Fz)
    (kx : ∀ (u : SX) (q : Nat) (En : String), postx u q En → GX own cc Z B Hb (br ++ bx u).flatten kc' ks' pc L q En)
    (kr : ∀ (u : S) (r : Option Value), post u r → GV own cc Z B Hb (br ++ b1 u).flatten kc' ks' (pc + 3) L (r.toList ++ st)) : GV own cc Z B Hb bs.flatten kc ks pc L (As.reverse ++ st) := by
  refine bc_core (ln := 3) (as := (As).toArray) (As := As) isC isR isD hl hC hR hkb hF hok (fun C0 H locs cells slots ls hU hP hsz hc hs hPc => ?_) kx kr
  exact vx_runS (g := F0 (zm Z) pc ls _) ⟨C0.1, C0.2.1, rfl, C0.2.2.1, C0.2.2.2.1⟩ (K C0.2.2.2.2.2.2.1 H.size) (va_cwS n C0.2.2.2.1 (lw_S lnk mw.1 mw.2.1 mw.2.2.1) rfl rfl rfl ⟨mw.2.2.2.2.1, mw.2.2.2.2.2.1, mw.2.2.2.2.2.2⟩ (zRm_ok hR0 hdp mw.2.2.2.1)) ⟨zPc_blind hok, hPc⟩ rfl hn hsz rfl (lv_room hrm) d ⟨hc, hs⟩
theorem bc_SN (mw : MWS y bytes maxL ret n) (K : CT (zl Z) y (ws_ y bytes maxL ret) dpy mcC msC (zE Z) As bc.flatten Fz post (fun u => (b1 u).flatten) zr0 postx (fun u => (bx u).flatten)) {host : String} (lnk : Jvm.Cond.methodLinkNest own index y host ∈ lw_tbl) (hR0 : zR Z = zRm dp mc ms) (hdp : dpy < dp) (hn : As.length = n) (hrm : (st.map fun v => v.category).sum ≤ 8) (d : decode cc pc = .ok (.invokestatic index, 3))
    (isC isR isD : List Nat) (hl : (isC ++ (isR ++ isD)).isPerm (List.range bs.length) = true) (hC : isC.map (fun i => bs[i]?) = bc.map some) (hR : isR.map (fun i => bs[i]?) = br.map some) (hkb : kc' + mcC ≤ kc ∧ ks' + msC ≤ ks)
    (hF : Cx own cc Z → ∀ H1 : Heap, Un B Hb H1 → va_P (zE Z).1 clA br.flatten H1 → (∀ e ∈ br.flatten, ¬ va_A bc.flatten H1.size e.1) → (∀ q, va_A bc.flatten H1.size q → q < Hb.size → B q) → Fz (va_A bc.flatten H1.size) (zs Z) H1) (hok : FzOK Fz)
    (kx : ∀ (u : SX) (q : Nat) (En : String), postx u q En → GX own cc Z B Hb (br ++ bx u).flatten kc' ks' pc L q En)
    (kr : ∀ (u : S) (r : Option Value), post u r → GV own cc Z B Hb (br ++ b1 u).flatten kc' ks' (pc + 3) L (r.toList ++ st)) : GV own cc Z B Hb bs.flatten kc ks pc L (As.reverse ++ st) := by
  refine bc_core (ln := 3) (as := (As).toArray) (As := As) isC isR isD hl hC hR hkb hF hok (fun C0 H locs cells slots ls hU hP hsz hc hs hPc => ?_) kx kr
  exact vx_runSN (g := F0 (zm Z) pc ls _) ⟨C0.1, C0.2.1, rfl, C0.2.2.1, C0.2.2.2.1⟩ (K C0.2.2.2.2.2.2.1 H.size) ⟨va_cnB n C0.2.2.2.1 (lw_meth mw.2.2.1) rfl rfl rfl (C0.2.2.2.2.2.2.2.1.2.1 _ lnk rfl) (C0.2.2.2.1 _ mw.2.1) ⟨mw.2.2.2.2.1, mw.2.2.2.2.2.1, mw.2.2.2.2.2.2⟩ (zRm_ok hR0 hdp mw.2.2.2.1), C0.2.2.2.1 _ mw.1, trivial⟩ ⟨zPc_blind hok, hPc⟩ rfl hn hsz rfl (lv_room hrm) d ⟨hc, hs⟩
theorem bc_I (mw : MWI y bytes maxL n) (K : CT (zl Z) y (ws_ y bytes maxL none) dpy mcC msC (zE Z) (.ref b :: As) bc.flatten Fz post (fun u => (b1 u).flatten) zr0 postx (fun u => (bx u).flatten)) (lnk : Jvm.Cond.methodLink own index y ∈ lw_all) (hR0 : zR Z = zRm dp mc ms) (hdp : dpy < dp) (hn : As.length = n) (hrm : (st.map fun v => v.category).sum ≤ 8) (d : decode cc pc = .ok (.invokespecial index, 3))
    (isC isR isD : List Nat) (hl : (isC ++ (isR ++ isD)).isPerm (List.range bs.length) = true) (hC : isC.map (fun i => bs[i]?) = bc.map some) (hR : isR.map (fun i => bs[i]?) = br.map some) (hkb : kc' + mcC ≤ kc ∧ ks' + msC ≤ ks)
    (hF : Cx own cc Z → ∀ H1 : Heap, Un B Hb H1 → va_P (zE Z).1 clA br.flatten H1 → (∀ e ∈ br.flatten, ¬ va_A bc.flatten H1.size e.1) → (∀ q, va_A bc.flatten H1.size q → q < Hb.size → B q) → Fz (va_A bc.flatten H1.size) (zs Z) H1) (hok : FzOK Fz)
    (kx : ∀ (u : SX) (q : Nat) (En : String), postx u q En → GX own cc Z B Hb (br ++ bx u).flatten kc' ks' pc L q En)
    (kr : ∀ (u : S) (r : Option Value), post u r → GV own cc Z B Hb (br ++ b1 u).flatten kc' ks' (pc + 3) L (r.toList ++ st)) : GV own cc Z B Hb bs.flatten kc ks pc L (As.reverse ++ .ref b :: st) := by
  refine bc_core (ln := 3) (as := ((.ref b :: As)).toArray) (As := (.ref b :: As)) isC isR isD hl hC hR hkb hF hok (fun C0 H locs cells slots ls hU hP hsz hc hs hPc => ?_) kx kr
  exact vx_runI (g := F0 (zm Z) pc ls _) ⟨C0.1, C0.2.1, rfl, C0.2.2.1, C0.2.2.2.1⟩ (K C0.2.2.2.2.2.2.1 H.size) (cwI n C0.2.2.2.1 (lw_meth mw.2.2.2.1) rfl rfl rfl (C0.2.2.2.1 _ mw.2.2.1) (C0.2.2.2.1 _ lnk) (C0.2.2.2.1 _ mw.2.1) mw.1 ⟨mw.2.2.2.2.2.1, mw.2.2.2.2.2.2.1, mw.2.2.2.2.2.2.2⟩ (zRm_ok hR0 hdp mw.2.2.2.2.1)) ⟨zPc_blind hok, hPc⟩ rfl hn hsz rfl (lv_room hrm) d ⟨hc, hs⟩
theorem bc_IN (mw : MWI y bytes maxL n) (K : CT (zl Z) y (ws_ y bytes maxL none) dpy mcC msC (zE Z) (.ref b :: As) bc.flatten Fz post (fun u => (b1 u).flatten) zr0 postx (fun u => (bx u).flatten)) {host : String} (lnk : Jvm.Cond.methodLinkNest own index y host ∈ lw_tbl) (hR0 : zR Z = zRm dp mc ms) (hdp : dpy < dp) (hn : As.length = n) (hrm : (st.map fun v => v.category).sum ≤ 8) (d : decode cc pc = .ok (.invokespecial index, 3))
    (isC isR isD : List Nat) (hl : (isC ++ (isR ++ isD)).isPerm (List.range bs.length) = true) (hC : isC.map (fun i => bs[i]?) = bc.map some) (hR : isR.map (fun i => bs[i]?) = br.map some) (hkb : kc' + mcC ≤ kc ∧ ks' + msC ≤ ks)
    (hF : Cx own cc Z → ∀ H1 : Heap, Un B Hb H1 → va_P (zE Z).1 clA br.flatten H1 → (∀ e ∈ br.flatten, ¬ va_A bc.flatten H1.size e.1) → (∀ q, va_A bc.flatten H1.size q → q < Hb.size → B q) → Fz (va_A bc.flatten H1.size) (zs Z) H1) (hok : FzOK Fz)
    (kx : ∀ (u : SX) (q : Nat) (En : String), postx u q En → GX own cc Z B Hb (br ++ bx u).flatten kc' ks' pc L q En)
    (kr : ∀ (u : S) (r : Option Value), post u r → GV own cc Z B Hb (br ++ b1 u).flatten kc' ks' (pc + 3) L (r.toList ++ st)) : GV own cc Z B Hb bs.flatten kc ks pc L (As.reverse ++ .ref b :: st) := by
  refine bc_core (ln := 3) (as := ((.ref b :: As)).toArray) (As := (.ref b :: As)) isC isR isD hl hC hR hkb hF hok (fun C0 H locs cells slots ls hU hP hsz hc hs hPc => ?_) kx kr
  exact vx_runIN (g := F0 (zm Z) pc ls _) ⟨C0.1, C0.2.1, rfl, C0.2.2.1, C0.2.2.2.1⟩ (K C0.2.2.2.2.2.2.1 H.size) ⟨va_cnB n C0.2.2.2.1 (lw_meth mw.2.2.2.1) rfl rfl rfl (C0.2.2.2.2.2.2.2.1.2.1 _ lnk rfl) (C0.2.2.2.1 _ mw.2.2.1) ⟨mw.2.2.2.2.2.1, mw.2.2.2.2.2.2.1, mw.2.2.2.2.2.2.2⟩ (zRm_ok hR0 hdp mw.2.2.2.2.1), mw.1, C0.2.2.2.1 _ mw.2.1⟩ ⟨zPc_blind hok, hPc⟩ rfl hn hsz rfl (lv_room hrm) d ⟨hc, hs⟩
theorem bc_F {C : String} {x : MethodName} {count ci N : Nat} {T : u_T} (hci : clA[ci]? = some (C, T, N)) (mw : MWF C x y bytes maxL ret n) (K : CT (zl Z) y (ws_ y bytes maxL ret) dpy mcC msC (zE Z) (.ref b :: As) bc.flatten Fz post (fun u => (b1 u).flatten) zr0 postx (fun u => (bx u).flatten)) (lnk : Jvm.Cond.methodLink own index x ∈ lw_all) (hrc : zRc own cc Z B Hb bs.flatten C b) (hR0 : zR Z = zRm dp mc ms) (hdp : dpy < dp) (hn : As.length = n) (hrm : (st.map fun v => v.category).sum ≤ 8) (d : decode cc pc = .ok (.invokeinterface index count, 5))
    (isC isR isD : List Nat) (hl : (isC ++ (isR ++ isD)).isPerm (List.range bs.length) = true) (hC : isC.map (fun i => bs[i]?) = bc.map some) (hR : isR.map (fun i => bs[i]?) = br.map some) (hkb : kc' + mcC ≤ kc ∧ ks' + msC ≤ ks)
    (hF : Cx own cc Z → ∀ H1 : Heap, Un B Hb H1 → va_P (zE Z).1 clA br.flatten H1 → (∀ e ∈ br.flatten, ¬ va_A bc.flatten H1.size e.1) → (∀ q, va_A bc.flatten H1.size q → q < Hb.size → B q) → Fz (va_A bc.flatten H1.size) (zs Z) H1) (hok : FzOK Fz)
    (kx : ∀ (u : SX) (q : Nat) (En : String), postx u q En → GX own cc Z B Hb (br ++ bx u).flatten kc' ks' pc L q En)
    (kr : ∀ (u : S) (r : Option Value), post u r → GV own cc Z B Hb (br ++ b1 u).flatten kc' ks' (pc + 5) L (r.toList ++ st)) : GV own cc Z B Hb bs.flatten kc ks pc L (As.reverse ++ .ref b :: st) := by
  refine bc_core (ln := 5) (as := (.ref b :: As : List Value).toArray) (As := .ref b :: As) isC isR isD hl hC hR hkb hF hok (fun C0 H locs cells slots ls hU hP hsz hc hs hPc => ?_) kx kr
  have hFw : va_Fw C x y (zs Z) := C0.2.2.2.2.2.2.2.1.2.2.1 _ mw.1
  refine vx_runF (g := F0 (zm Z) pc ls _) (C := C) ((C0.2.2.2.2.2.2.2.1.1.1 ci _ hci).2) ⟨C0.1, C0.2.1, rfl, C0.2.2.1, C0.2.2.2.1⟩ (K C0.2.2.2.2.2.2.1 H.size) (va_cwF n C0.2.2.2.1 (lw_app (fun w hw => ?_) (lw_meth mw.2.2.2.2.1)) rfl rfl rfl hFw ⟨mw.2.2.2.2.2.2.1, mw.2.2.2.2.2.2.2.1, mw.2.2.2.2.2.2.2.2⟩ (zRm_ok hR0 hdp mw.2.2.2.2.2.1)) ⟨zPc_blind hok, hrc C0 H hU hP, hPc⟩ rfl hn hsz rfl (lv_room hrm) d ⟨hc, hs⟩
  · simp only [List.mem_cons, List.not_mem_nil, or_false] at hw
    rcases hw with e | e | e | e
    · rw [e]; exact lnk
    · rw [e]; exact mw.2.1
    · rw [e]; exact mw.2.2.1
    · rw [e]; exact mw.2.2.2.1
theorem bc_O {C owner : String} {x : MethodName} {b0 : ByteArray} {m0 : Nat} {r0 : Option FieldType} (h4 : Jvm.Cond.selects C x y ∈ lw_all) (h5 : Jvm.Cond.instanceMethod y ∈ lw_all) (h6 : Jvm.Cond.initialized y.cls ∈ lw_all) (h7 : Jvm.Cond.code y bytes maxL ret ∈ lw_all) (hml : maxL ≤ 40) (hd : owner ≠ "java/lang/invoke/MethodHandle" ∧ owner ≠ "java/lang/invoke/VarHandle" ∧ (parseMethodDescriptor x.desc).map (fun d => d.parameters.length) = some n) (h3 : Jvm.Cond.instanceMethod ⟨owner, x.name, x.desc⟩ ∈ lw_all) (h0 : Jvm.Cond.code ⟨owner, x.name, x.desc⟩ b0 m0 r0 ∈ lw_all) (K : CT (zl Z) y (ws_ y bytes maxL ret) dpy mcC msC (zE Z) (.ref b :: As) bc.flatten Fz post (fun u => (b1 u).flatten) zr0 postx (fun u => (bx u).flatten)) (lnk : Jvm.Cond.methodLink own index x ∈ lw_all) (h2 : Jvm.Cond.sameMethod x.cls owner x.name x.desc ∈ lw_all) (hrc : zRc own cc Z B Hb bs.flatten C b) (hR0 : zR Z = zRm dp mc ms) (hdp : dpy < dp) (hn : As.length = n) (hrm : (st.map fun v => v.category).sum ≤ 8) (d : decode cc pc = .ok (.invokevirtual index, 3))
    (isC isR isD : List Nat) (hl : (isC ++ (isR ++ isD)).isPerm (List.range bs.length) = true) (hC : isC.map (fun i => bs[i]?) = bc.map some) (hR : isR.map (fun i => bs[i]?) = br.map some) (hkb : kc' + mcC ≤ kc ∧ ks' + msC ≤ ks)
    (hF : Cx own cc Z → ∀ H1 : Heap, Un B Hb H1 → va_P (zE Z).1 clA br.flatten H1 → (∀ e ∈ br.flatten, ¬ va_A bc.flatten H1.size e.1) → (∀ q, va_A bc.flatten H1.size q → q < Hb.size → B q) → Fz (va_A bc.flatten H1.size) (zs Z) H1) (hok : FzOK Fz)
    (kx : ∀ (u : SX) (q : Nat) (En : String), postx u q En → GX own cc Z B Hb (br ++ bx u).flatten kc' ks' pc L q En)
    (kr : ∀ (u : S) (r : Option Value), post u r → GV own cc Z B Hb (br ++ b1 u).flatten kc' ks' (pc + 3) L (r.toList ++ st)) : GV own cc Z B Hb bs.flatten kc ks pc L (As.reverse ++ .ref b :: st) := by
  refine bc_core (ln := 3) (as := ((.ref b :: As)).toArray) (As := (.ref b :: As)) isC isR isD hl hC hR hkb hF hok (fun C0 H locs cells slots ls hU hP hsz hc hs hPc => ?_) kx kr
  refine vx_runU (g := F0 (zm Z) pc ls _) ⟨C0.1, C0.2.1, rfl, C0.2.2.1, C0.2.2.2.1⟩ (K C0.2.2.2.2.2.2.1 H.size) (va_cwO n C0.2.2.2.1 (lw_app (fun w hw => ?_) (lw_meth h7)) rfl rfl rfl h0 hd (zRm_ok hR0 hdp hml)) ⟨zPc_blind hok, hrc C0 H hU hP, hPc⟩ rfl hn hsz rfl (lv_room hrm) d ⟨hc, hs⟩
  · simp only [List.mem_cons, List.not_mem_nil, or_false] at hw
    rcases hw with e | e | e | e | e | e
    · rw [e]; exact lnk
    · rw [e]; exact h2
    · rw [e]; exact h3
    · rw [e]; exact h4
    · rw [e]; exact h5
    · rw [e]; exact h6
theorem bc_A {C owner : String} {x : MethodName} (h4 : Jvm.Cond.selects C x y ∈ lw_all) (h5 : Jvm.Cond.instanceMethod y ∈ lw_all) (h6 : Jvm.Cond.initialized y.cls ∈ lw_all) (h7 : Jvm.Cond.code y bytes maxL ret ∈ lw_all) (hml : maxL ≤ 40) (hd : owner ≠ "java/lang/invoke/MethodHandle" ∧ owner ≠ "java/lang/invoke/VarHandle" ∧ (parseMethodDescriptor x.desc).map (fun d => d.parameters.length) = some n) (hz : Jvm.Cond.declares ⟨owner, x.name, x.desc⟩ ∈ lw_tbl) (K : CT (zl Z) y (ws_ y bytes maxL ret) dpy mcC msC (zE Z) (.ref b :: As) bc.flatten Fz post (fun u => (b1 u).flatten) zr0 postx (fun u => (bx u).flatten)) (lnk : Jvm.Cond.methodLink own index x ∈ lw_all) (h2 : Jvm.Cond.sameMethod x.cls owner x.name x.desc ∈ lw_all) (hrc : zRc own cc Z B Hb bs.flatten C b) (hR0 : zR Z = zRm dp mc ms) (hdp : dpy < dp) (hn : As.length = n) (hrm : (st.map fun v => v.category).sum ≤ 8) (d : decode cc pc = .ok (.invokevirtual index, 3))
    (isC isR isD : List Nat) (hl : (isC ++ (isR ++ isD)).isPerm (List.range bs.length) = true) (hC : isC.map (fun i => bs[i]?) = bc.map some) (hR : isR.map (fun i => bs[i]?) = br.map some) (hkb : kc' + mcC ≤ kc ∧ ks' + msC ≤ ks)
    (hF : Cx own cc Z → ∀ H1 : Heap, Un B Hb H1 → va_P (zE Z).1 clA br.flatten H1 → (∀ e ∈ br.flatten, ¬ va_A bc.flatten H1.size e.1) → (∀ q, va_A bc.flatten H1.size q → q < Hb.size → B q) → Fz (va_A bc.flatten H1.size) (zs Z) H1) (hok : FzOK Fz)
    (kx : ∀ (u : SX) (q : Nat) (En : String), postx u q En → GX own cc Z B Hb (br ++ bx u).flatten kc' ks' pc L q En)
    (kr : ∀ (u : S) (r : Option Value), post u r → GV own cc Z B Hb (br ++ b1 u).flatten kc' ks' (pc + 3) L (r.toList ++ st)) : GV own cc Z B Hb bs.flatten kc ks pc L (As.reverse ++ .ref b :: st) := by
  refine bc_core (ln := 3) (as := ((.ref b :: As)).toArray) (As := (.ref b :: As)) isC isR isD hl hC hR hkb hF hok (fun C0 H locs cells slots ls hU hP hsz hc hs hPc => ?_) kx kr
  refine vx_runU (g := F0 (zm Z) pc ls _) ⟨C0.1, C0.2.1, rfl, C0.2.2.1, C0.2.2.2.1⟩ (K C0.2.2.2.2.2.2.1 H.size) (va_cwA n C0.2.2.2.1 (lw_app (fun w hw => ?_) (lw_meth h7)) rfl rfl rfl (C0.2.2.2.2.2.2.2.1.2.1 _ hz rfl) hd (zRm_ok hR0 hdp hml)) ⟨zPc_blind hok, hrc C0 H hU hP, hPc⟩ rfl hn hsz rfl (lv_room hrm) d ⟨hc, hs⟩
  · simp only [List.mem_cons, List.not_mem_nil, or_false] at hw
    rcases hw with e | e | e | e | e
    · rw [e]; exact lnk
    · rw [e]; exact h2
    · rw [e]; exact h4
    · rw [e]; exact h5
    · rw [e]; exact h6
theorem bc_U {C owner : String} {x : MethodName} (h4 : Jvm.Cond.selects C x y ∈ lw_all) (h5 : Jvm.Cond.instanceMethod y ∈ lw_all) (h6 : Jvm.Cond.initialized y.cls ∈ lw_all) (h7 : Jvm.Cond.code y bytes maxL ret ∈ lw_all) (hml : maxL ≤ 40) (hd : owner ≠ "java/lang/invoke/MethodHandle" ∧ owner ≠ "java/lang/invoke/VarHandle" ∧ (parseMethodDescriptor x.desc).map (fun d => d.parameters.length) = some n) (hyx : y = ⟨owner, x.name, x.desc⟩) (K : CT (zl Z) y (ws_ y bytes maxL ret) dpy mcC msC (zE Z) (.ref b :: As) bc.flatten Fz post (fun u => (b1 u).flatten) zr0 postx (fun u => (bx u).flatten)) (lnk : Jvm.Cond.methodLink own index x ∈ lw_all) (h2 : Jvm.Cond.sameMethod x.cls owner x.name x.desc ∈ lw_all) (hrc : zRc own cc Z B Hb bs.flatten C b) (hR0 : zR Z = zRm dp mc ms) (hdp : dpy < dp) (hn : As.length = n) (hrm : (st.map fun v => v.category).sum ≤ 8) (d : decode cc pc = .ok (.invokevirtual index, 3))
    (isC isR isD : List Nat) (hl : (isC ++ (isR ++ isD)).isPerm (List.range bs.length) = true) (hC : isC.map (fun i => bs[i]?) = bc.map some) (hR : isR.map (fun i => bs[i]?) = br.map some) (hkb : kc' + mcC ≤ kc ∧ ks' + msC ≤ ks)
    (hF : Cx own cc Z → ∀ H1 : Heap, Un B Hb H1 → va_P (zE Z).1 clA br.flatten H1 → (∀ e ∈ br.flatten, ¬ va_A bc.flatten H1.size e.1) → (∀ q, va_A bc.flatten H1.size q → q < Hb.size → B q) → Fz (va_A bc.flatten H1.size) (zs Z) H1) (hok : FzOK Fz)
    (kx : ∀ (u : SX) (q : Nat) (En : String), postx u q En → GX own cc Z B Hb (br ++ bx u).flatten kc' ks' pc L q En)
    (kr : ∀ (u : S) (r : Option Value), post u r → GV own cc Z B Hb (br ++ b1 u).flatten kc' ks' (pc + 3) L (r.toList ++ st)) : GV own cc Z B Hb bs.flatten kc ks pc L (As.reverse ++ .ref b :: st) := by
  refine bc_core (ln := 3) (as := ((.ref b :: As)).toArray) (As := (.ref b :: As)) isC isR isD hl hC hR hkb hF hok (fun C0 H locs cells slots ls hU hP hsz hc hs hPc => ?_) kx kr
  refine vx_runU (g := F0 (zm Z) pc ls _) ⟨C0.1, C0.2.1, rfl, C0.2.2.1, C0.2.2.2.1⟩ (K C0.2.2.2.2.2.2.1 H.size) (va_cwU n C0.2.2.2.1 (lw_app (fun w hw => ?_) (lw_meth h7)) rfl rfl rfl hyx hd (zRm_ok hR0 hdp hml)) ⟨zPc_blind hok, hrc C0 H hU hP, hPc⟩ rfl hn hsz rfl (lv_room hrm) d ⟨hc, hs⟩
  · simp only [List.mem_cons, List.not_mem_nil, or_false] at hw
    rcases hw with e | e | e | e | e
    · rw [e]; exact lnk
    · rw [e]; exact h2
    · rw [e]; exact h4
    · rw [e]; exact h5
    · rw [e]; exact h6
theorem bc_SU {C : String} {ci N : Nat} {T : u_T} (hci : clA[ci]? = some (C, T, N)) (h2 : Jvm.Cond.sameMethod y.cls y.cls y.name y.desc ∈ lw_all) (h3 : Jvm.Cond.superclass own y.cls ∈ lw_all) (h5 : Jvm.Cond.instanceMethod y ∈ lw_all) (h6 : Jvm.Cond.initialized y.cls ∈ lw_all) (h7 : Jvm.Cond.code y bytes maxL ret ∈ lw_all) (hml : maxL ≤ 40) (hd : y.name ≠ "<init>" ∧ (parseMethodDescriptor y.desc).map (fun d => d.parameters.length) = some n) (K : CT (zl Z) y (ws_ y bytes maxL ret) dpy mcC msC (zE Z) (.ref b :: As) bc.flatten Fz post (fun u => (b1 u).flatten) zr0 postx (fun u => (bx u).flatten)) (lnk : Jvm.Cond.methodLink own index y ∈ lw_all) (hrc : zRc own cc Z B Hb bs.flatten C b) (hR0 : zR Z = zRm dp mc ms) (hdp : dpy < dp) (hn : As.length = n) (hrm : (st.map fun v => v.category).sum ≤ 8) (d : decode cc pc = .ok (.invokespecial index, 3))
    (isC isR isD : List Nat) (hl : (isC ++ (isR ++ isD)).isPerm (List.range bs.length) = true) (hC : isC.map (fun i => bs[i]?) = bc.map some) (hR : isR.map (fun i => bs[i]?) = br.map some) (hkb : kc' + mcC ≤ kc ∧ ks' + msC ≤ ks)
    (hF : Cx own cc Z → ∀ H1 : Heap, Un B Hb H1 → va_P (zE Z).1 clA br.flatten H1 → (∀ e ∈ br.flatten, ¬ va_A bc.flatten H1.size e.1) → (∀ q, va_A bc.flatten H1.size q → q < Hb.size → B q) → Fz (va_A bc.flatten H1.size) (zs Z) H1) (hok : FzOK Fz)
    (kx : ∀ (u : SX) (q : Nat) (En : String), postx u q En → GX own cc Z B Hb (br ++ bx u).flatten kc' ks' pc L q En)
    (kr : ∀ (u : S) (r : Option Value), post u r → GV own cc Z B Hb (br ++ b1 u).flatten kc' ks' (pc + 3) L (r.toList ++ st)) : GV own cc Z B Hb bs.flatten kc ks pc L (As.reverse ++ .ref b :: st) := by
  refine bc_core (ln := 3) (as := ((.ref b :: As)).toArray) (As := (.ref b :: As)) isC isR isD hl hC hR hkb hF hok (fun C0 H locs cells slots ls hU hP hsz hc hs hPc => ?_) kx kr
  refine vx_runSU (g := F0 (zm Z) pc ls _) (C0.2.2.2.2.2.2.2.1.1.1 ci _ hci).2 ⟨C0.1, C0.2.1, rfl, C0.2.2.1, C0.2.2.2.1⟩ (K C0.2.2.2.2.2.2.1 H.size) (va_cwSU n C0.2.2.2.1 (lw_app (fun w hw => ?_) (lw_meth h7)) rfl rfl rfl hd (zRm_ok hR0 hdp hml)) ⟨zPc_blind hok, hrc C0 H hU hP, hPc⟩ rfl hn hsz rfl (lv_room hrm) d ⟨hc, hs⟩
  · simp only [List.mem_cons, List.not_mem_nil, or_false] at hw
    rcases hw with e | e | e | e | e
    · rw [e]; exact lnk
    · rw [e]; exact h2
    · rw [e]; exact h3
    · rw [e]; exact h5
    · rw [e]; exact h6

/-- what a callee reads: cells of the own context, or cells that are owned and not handed over -/
theorem zC_F {C C' : Nat × va_E → Prop} (hC : zC (zE Z) C B (zs Z) Hb) (hCC : ∀ e, C' e → C e ∨ e ∈ br.flatten) : Cx own cc Z → ∀ H1 : Heap, Un B Hb H1 → va_P (zE Z).1 clA br.flatten H1 → (∀ e ∈ br.flatten, ¬ va_A bc.flatten H1.size e.1) → (∀ q, va_A bc.flatten H1.size q → q < Hb.size → B q) → zC (zE Z) C' (va_A bc.flatten H1.size) (zs Z) H1 := by
  intro C0 H1 hU hP hd hb e he
  rcases hCC e he with h | h
  · obtain ⟨h1, h2⟩ := hC e h
    exact ⟨va_at_kept h1 (hU.2 _ h1.lt h2), fun q => h2 (hb _ q h1.lt)⟩
  · exact ⟨vaP_mem.mp hP e h, hd e h⟩
theorem zC_mono {E : ZE} {C C' : Nat × va_E → Prop} {A : Nat → Prop} {U : State} {H : Heap} (h : ∀ e, C' e → C e) (hC : zC E C A U H) : zC E C' A U H := fun e he => hC e (h e he)

variable {ci N index : Nat} {C : String} {T : u_T} {ty0 : Nat → FieldType} {fs : List Value} {a : Nat} {v : Value}
variable {z : Int}
theorem zi_putfS {ref : String} (zk : ZK ci C T N ty0) (q0 : Nat) (he : ws[q0]? = some (a, .inr (ci, fs))) (j : Nat) (hk : j < N) (hsm : Jvm.Cond.sameField ref (T j).1 (T j).2.1 (T j).2.2.1 ∈ lw_all) (hfin : (T j).2.2.2 = false) (lnk : Jvm.Cond.fieldLink own index ref (T j).2.1 (T j).2.2.1 ∈ lw_all) (hn : narrow (ty0 j) v = v) (hfit : fits (ty0 j) v = true) (hl : j < fs.length) (d : decode cc pc = .ok (.putfield index, 3))
    (k : GV own cc Z B Hb (ws.set q0 (a, .inr (ci, fs.set j v))) kc ks (pc + 3) L st) : GV own cc Z B Hb ws kc ks pc L (v :: .ref a :: st) := by
  intro C0 b H locs cells slots ls hU hP hD hS hc hs hL
  obtain ⟨r, h1, cell, q1, q2, q3, q4⟩ := hP q0 _ he
  have hr : r = (C, T, N) := Option.some.inj (h1.symm.trans zk.1)
  subst hr
  obtain ⟨hSl, hfc, kC, hkC, hkind⟩ := C0.2.2.2.2.2.2.2.1.1.1 ci _ zk.1
  obtain ⟨cf, kf, fi, f, hi, hsl⟩ := hSl j hk
  have hlay := C0.2.2.2.1 _ (zk.2.1 _ (u_in_lay hk))
  unfold u_lay at hlay
  rw [if_neg (by rw [hfin]; decide)] at hlay
  have hst := (u_facts hfc hkC (u_lays C0.2.2.2.1 zk.2.1 hk) hi).1
  have h6 := u_store hfc hkC hkind hlay hi (zk.2.2.1 j hk) hn hfit
  refine W.putK C0.1 C0.2.1 (f := f) ⟨C0.2.2.1, C0.2.2.2.1 _ lnk, ⟨cf, kf, fi, u_same (C0.2.2.2.1 _ hsm) _ hi⟩, hst⟩ (by rw [q2]; exact h6) q1 q3 (by rw [hsl]; exact k2_hasslot (q4 j hk)) rfl rfl d fun H' e1 e2 e3 => ?_
  rw [hsl] at e1 ⊢
  obtain ⟨g1, g2, g3, g4⟩ := zk_put (i := (zE Z).1.2 ci j) b hU hP hD hS he (zk_putf zk C0 hk zk.1 ⟨q1, q2, q3, q4⟩ hl e1) e2 e3
  exact k C0 b H' _ cells slots ls g1 g2 g3 g4 hc hs hL
theorem zb_putfS {ref : String} (zk : ZK ci C T N ty0) (q0 : Nat) (he : bs[q0]? = some [(a, .inr (ci, fs))]) (j : Nat) (hk : j < N) (hsm : Jvm.Cond.sameField ref (T j).1 (T j).2.1 (T j).2.2.1 ∈ lw_all) (hfin : (T j).2.2.2 = false) (lnk : Jvm.Cond.fieldLink own index ref (T j).2.1 (T j).2.2.1 ∈ lw_all) (hn : narrow (ty0 j) v = v) (hfit : fits (ty0 j) v = true) (hl : j < fs.length) (d : decode cc pc = .ok (.putfield index, 3))
    (k : GV own cc Z B Hb (bs.set q0 [(a, .inr (ci, fs.set j v))]).flatten kc ks (pc + 3) L st) : GV own cc Z B Hb bs.flatten kc ks pc L (v :: .ref a :: st) := by
  obtain ⟨k9, h9, h8⟩ := blk_at he
  exact zi_putfS zk k9 h9 j hk hsm hfin lnk hn hfit hl d (by rw [h8]; exact k)
theorem zb_getf (zk : ZK ci C T N ty0) (q0 : Nat) (he : bs[q0]? = some [(a, .inr (ci, fs))]) (j : Nat) (hk : j < N) (hdecl : (T j).1 = C) (lnk : Jvm.Cond.fieldLink own index C (T j).2.1 (T j).2.2.1 ∈ lw_all) (hv : fs[j]? = some v) (d : decode cc pc = .ok (.getfield index, 3))
    (k : GV own cc Z B Hb bs.flatten kc ks (pc + 3) L (v :: st)) : GV own cc Z B Hb bs.flatten kc ks pc L (.ref a :: st) := by
  obtain ⟨k9, h9, h8⟩ := blk_at he
  exact zi_getf zk k9 h9 j hk hdecl lnk hv d k
theorem zb_getfS {ref : String} (zk : ZK ci C T N ty0) (q0 : Nat) (he : bs[q0]? = some [(a, .inr (ci, fs))]) (j : Nat) (hk : j < N) (hsm : Jvm.Cond.sameField ref (T j).1 (T j).2.1 (T j).2.2.1 ∈ lw_all) (lnk : Jvm.Cond.fieldLink own index ref (T j).2.1 (T j).2.2.1 ∈ lw_all) (hv : fs[j]? = some v) (d : decode cc pc = .ok (.getfield index, 3))
    (k : GV own cc Z B Hb bs.flatten kc ks (pc + 3) L (v :: st)) : GV own cc Z B Hb bs.flatten kc ks pc L (.ref a :: st) := by
  obtain ⟨k9, h9, h8⟩ := blk_at he
  exact zi_getfS zk k9 h9 j hk hsm lnk hv d k
theorem zb_getfA {ref : String} (zk : ZK ci C T N ty0) (q0 : Nat) (he : bs[q0]? = some [(a, .inr (ci, fs))]) (j : Nat) (hk : j < N) (hdecl : (T j).1 = ref) (lnk : Jvm.Cond.fieldLink own index ref (T j).2.1 (T j).2.2.1 ∈ lw_all) (hv : fs[j]? = some v) (d : decode cc pc = .ok (.getfield index, 3))
    (k : GV own cc Z B Hb bs.flatten kc ks (pc + 3) L (v :: st)) : GV own cc Z B Hb bs.flatten kc ks pc L (.ref a :: st) := by
  obtain ⟨k9, h9, h8⟩ := blk_at he
  exact zi_getfA zk k9 h9 j hk hdecl lnk hv d k
theorem zb_getfN {ref host : String} (zk : ZK ci C T N ty0) (q0 : Nat) (he : bs[q0]? = some [(a, .inr (ci, fs))]) (j : Nat) (hk : j < N) (hdecl : (T j).1 = ref) (lnk : Jvm.Cond.fieldLinkNest own index ref (T j).2.1 (T j).2.2.1 host ∈ lw_tbl) (hv : fs[j]? = some v) (d : decode cc pc = .ok (.getfield index, 3))
    (k : GV own cc Z B Hb bs.flatten kc ks (pc + 3) L (v :: st)) : GV own cc Z B Hb bs.flatten kc ks pc L (.ref a :: st) := by
  obtain ⟨k9, h9, h8⟩ := blk_at he
  exact zi_getfN zk k9 h9 j hk hdecl lnk hv d k
theorem zb_putf {ref : String} (zk : ZK ci C T N ty0) (q0 : Nat) (he : bs[q0]? = some [(a, .inr (ci, fs))]) (j : Nat) (hk : j < N) (hdecl : (T j).1 = ref) (hfin : (T j).2.2.2 = false) (lnk : Jvm.Cond.fieldLink own index ref (T j).2.1 (T j).2.2.1 ∈ lw_all) (hn : narrow (ty0 j) v = v) (hfit : fits (ty0 j) v = true) (hl : j < fs.length) (d : decode cc pc = .ok (.putfield index, 3))
    (k : GV own cc Z B Hb (bs.set q0 [(a, .inr (ci, fs.set j v))]).flatten kc ks (pc + 3) L st) : GV own cc Z B Hb bs.flatten kc ks pc L (v :: .ref a :: st) := by
  obtain ⟨k9, h9, h8⟩ := blk_at he
  exact zi_putf zk k9 h9 j hk hdecl hfin lnk hn hfit hl d (by rw [h8]; exact k)
theorem zb_putfN {ref host : String} (zk : ZK ci C T N ty0) (q0 : Nat) (he : bs[q0]? = some [(a, .inr (ci, fs))]) (j : Nat) (hk : j < N) (hdecl : (T j).1 = ref) (hfin : (T j).2.2.2 = false) (lnk : Jvm.Cond.fieldLinkNest own index ref (T j).2.1 (T j).2.2.1 host ∈ lw_tbl) (hn : narrow (ty0 j) v = v) (hfit : fits (ty0 j) v = true) (hl : j < fs.length) (d : decode cc pc = .ok (.putfield index, 3))
    (k : GV own cc Z B Hb (bs.set q0 [(a, .inr (ci, fs.set j v))]).flatten kc ks (pc + 3) L st) : GV own cc Z B Hb bs.flatten kc ks pc L (v :: .ref a :: st) := by
  obtain ⟨k9, h9, h8⟩ := blk_at he
  exact zi_putfN zk k9 h9 j hk hdecl hfin lnk hn hfit hl d (by rw [h8]; exact k)
theorem zb_putfF (hin : (zme Z).name = "<init>") (zk : ZK ci C T N ty0) (q0 : Nat) (he : bs[q0]? = some [(a, .inr (ci, fs))]) (j : Nat) (hk : j < N) (hdecl : (T j).1 = own) (hfin : (T j).2.2.2 = true) (lnk : Jvm.Cond.fieldLink own index own (T j).2.1 (T j).2.2.1 ∈ lw_all) (hn : narrow (ty0 j) v = v) (hfit : fits (ty0 j) v = true) (hl : j < fs.length) (d : decode cc pc = .ok (.putfield index, 3))
    (k : GV own cc Z B Hb (bs.set q0 [(a, .inr (ci, fs.set j v))]).flatten kc ks (pc + 3) L st) : GV own cc Z B Hb bs.flatten kc ks pc L (v :: .ref a :: st) := by
  obtain ⟨k9, h9, h8⟩ := blk_at he
  exact zi_putfF hin zk k9 h9 j hk hdecl hfin lnk hn hfit hl d (by rw [h8]; exact k)
theorem zb_new {kc' ks' : Nat} (zk : ZK ci C T N ty0) (lnk : Jvm.Cond.classLink own index C ∈ lw_all) (hins : Jvm.Cond.instantiable C N ∈ lw_all) (hini : Jvm.Cond.initialized C ∈ lw_all) (hfs : (List.range N).map (fun j => defaultValue (ty0 j)) = fs) (hkb : kc' + 1 ≤ kc ∧ ks' + N ≤ ks) (d : decode cc pc = .ok (.new index, 3))
    (k : ∀ q : Nat, Hb.size ≤ q → GV own cc Z B Hb (bs ++ [[(q, Sum.inr (ci, fs))]]).flatten kc' ks' (pc + 3) L (.ref q :: st)) : GV own cc Z B Hb bs.flatten kc ks pc L st := by
  exact zi_new zk lnk hins hini hfs hkb d (fun q hq => by have h := k q hq; rw [List.flatten_append] at h; exact h)
theorem zb_alen {x : vp_A} {c : ClassId} {ty : FieldType} (q0 t0 : Nat) (he : bs[q0]? = some [(a, .inl (c, x))]) (ht : (zTys (zE Z))[t0]? = some (c, ty)) (d : decode cc pc = .ok (.arraylength, 1)) (k : GV own cc Z B Hb bs.flatten kc ks (pc + 1) L (jI x.1 :: st)) : GV own cc Z B Hb bs.flatten kc ks pc L (.ref a :: st) := by
  obtain ⟨k9, h9, h8⟩ := blk_at he
  exact zi_alen k9 t0 h9 ht d k
theorem zb_ldI {f : Int → Int} (q0 : Nat) (he : bs[q0]? = some [(a, aI (zE Z) n f)]) (hi : 0 ≤ z ∧ z < n) (hn : n ≤ 2147483647) (d : decode cc pc = .ok (.iaload, 1)) (k : GV own cc Z B Hb bs.flatten kc ks (pc + 1) L (jI (f z) :: st)) : GV own cc Z B Hb bs.flatten kc ks pc L (jI z :: .ref a :: st) := by
  obtain ⟨k9, h9, h8⟩ := blk_at he
  exact zi_ldI k9 h9 hi hn d k
theorem zb_ldL {f : Int → Int} (q0 : Nat) (he : bs[q0]? = some [(a, aL (zE Z) n f)]) (hi : 0 ≤ z ∧ z < n) (hn : n ≤ 2147483647) (d : decode cc pc = .ok (.laload, 1)) (k : GV own cc Z B Hb bs.flatten kc ks (pc + 1) L (jL (f z) :: st)) : GV own cc Z B Hb bs.flatten kc ks pc L (jI z :: .ref a :: st) := by
  obtain ⟨k9, h9, h8⟩ := blk_at he
  exact zi_ldL k9 h9 hi hn d k
theorem zb_ldB {f : Int → Int} (q0 : Nat) (he : bs[q0]? = some [(a, aB (zE Z) n f)]) (hi : 0 ≤ z ∧ z < n) (hn : n ≤ 2147483647) (d : decode cc pc = .ok (.baload, 1)) (k : GV own cc Z B Hb bs.flatten kc ks (pc + 1) L (jI (f z) :: st)) : GV own cc Z B Hb bs.flatten kc ks pc L (jI z :: .ref a :: st) := by
  obtain ⟨k9, h9, h8⟩ := blk_at he
  exact zi_ldB k9 h9 hi hn d k
theorem zb_ldR {f : Int → Option Nat} {v : Nat} (q0 : Nat) (he : bs[q0]? = some [(a, aR (zE Z) n f)]) (hi : 0 ≤ z ∧ z < n) (hn : n ≤ 2147483647) (hv : f z = some v) (d : decode cc pc = .ok (.aaload, 1)) (k : GV own cc Z B Hb bs.flatten kc ks (pc + 1) L (.ref v :: st)) : GV own cc Z B Hb bs.flatten kc ks pc L (jI z :: .ref a :: st) := by
  obtain ⟨k9, h9, h8⟩ := blk_at he
  exact zi_ldR k9 h9 hi hn hv d k
theorem zb_ldRN {f : Int → Option Nat} (q0 : Nat) (he : bs[q0]? = some [(a, aR (zE Z) n f)]) (hi : 0 ≤ z ∧ z < n) (hn : n ≤ 2147483647) (hv : f z = none) (d : decode cc pc = .ok (.aaload, 1)) (k : GV own cc Z B Hb bs.flatten kc ks (pc + 1) L (.null :: st)) : GV own cc Z B Hb bs.flatten kc ks pc L (jI z :: .ref a :: st) := by
  obtain ⟨k9, h9, h8⟩ := blk_at he
  exact zi_ldRN k9 h9 hi hn hv d k
theorem zb_ldD {f : Int → UInt64} (q0 : Nat) (he : bs[q0]? = some [(a, aD (zE Z) n f)]) (hi : 0 ≤ z ∧ z < n) (hn : n ≤ 2147483647) (d : decode cc pc = .ok (.daload, 1)) (k : GV own cc Z B Hb bs.flatten kc ks (pc + 1) L (.double (f z) :: st)) : GV own cc Z B Hb bs.flatten kc ks pc L (jI z :: .ref a :: st) := by
  obtain ⟨k9, h9, h8⟩ := blk_at he
  exact zi_ldD k9 h9 hi hn d k
theorem zb_stI {f : Int → Int} {x : Int} (q0 : Nat) (he : bs[q0]? = some [(a, aI (zE Z) n f)]) (hi : 0 ≤ z ∧ z < n) (hn : n ≤ 2147483647) (d : decode cc pc = .ok (.iastore, 1)) (k : GV own cc Z B Hb (bs.set q0 [(a, aI (zE Z) n (zup f z x))]).flatten kc ks (pc + 1) L st) : GV own cc Z B Hb bs.flatten kc ks pc L (jI x :: jI z :: .ref a :: st) := by
  obtain ⟨k9, h9, h8⟩ := blk_at he
  exact zi_stI k9 h9 hi hn d (by rw [h8]; exact k)
theorem zb_stL {f : Int → Int} {x : Int} (q0 : Nat) (he : bs[q0]? = some [(a, aL (zE Z) n f)]) (hi : 0 ≤ z ∧ z < n) (hn : n ≤ 2147483647) (d : decode cc pc = .ok (.lastore, 1)) (k : GV own cc Z B Hb (bs.set q0 [(a, aL (zE Z) n (zup f z x))]).flatten kc ks (pc + 1) L st) : GV own cc Z B Hb bs.flatten kc ks pc L (jL x :: jI z :: .ref a :: st) := by
  obtain ⟨k9, h9, h8⟩ := blk_at he
  exact zi_stL k9 h9 hi hn d (by rw [h8]; exact k)
theorem zb_stD {f : Int → UInt64} {x : UInt64} (q0 : Nat) (he : bs[q0]? = some [(a, aD (zE Z) n f)]) (hi : 0 ≤ z ∧ z < n) (hn : n ≤ 2147483647) (d : decode cc pc = .ok (.dastore, 1)) (k : GV own cc Z B Hb (bs.set q0 [(a, aD (zE Z) n (zup f z x))]).flatten kc ks (pc + 1) L st) : GV own cc Z B Hb bs.flatten kc ks pc L (.double x :: jI z :: .ref a :: st) := by
  obtain ⟨k9, h9, h8⟩ := blk_at he
  exact zi_stD k9 h9 hi hn d (by rw [h8]; exact k)
theorem zb_stB {f : Int → Int} {x : Int} (q0 : Nat) (he : bs[q0]? = some [(a, aB (zE Z) n f)]) (hi : 0 ≤ z ∧ z < n) (hn : n ≤ 2147483647) (hx : narrow .byte (jI x) = jI x) (d : decode cc pc = .ok (.bastore, 1)) (k : GV own cc Z B Hb (bs.set q0 [(a, aB (zE Z) n (zup f z x))]).flatten kc ks (pc + 1) L st) : GV own cc Z B Hb bs.flatten kc ks pc L (jI x :: jI z :: .ref a :: st) := by
  obtain ⟨k9, h9, h8⟩ := blk_at he
  exact zi_stB k9 h9 hi hn hx d (by rw [h8]; exact k)
theorem zb_newI {n : Int} {kc' ks' : Nat} (hq : Jvm.Cond.arrayClass .int ∈ lw_all) (hn : 0 ≤ n ∧ n ≤ 100000) (hkb : kc' + 1 ≤ kc ∧ ks' + n.toNat ≤ ks) (d : decode cc pc = .ok (.newarray .int, 2)) (k : ∀ q : Nat, Hb.size ≤ q → GV own cc Z B Hb (bs ++ [[(q, aI (zE Z) n.toNat (fun _ => 0))]]).flatten kc' ks' (pc + 2) L (.ref q :: st)) : GV own cc Z B Hb bs.flatten kc ks pc L (jI n :: st) := by
  exact zi_newI hq hn hkb d (fun q hq => by have h := k q hq; rw [List.flatten_append] at h; exact h)
theorem zb_newL {n : Int} {kc' ks' : Nat} (hq : Jvm.Cond.arrayClass .long ∈ lw_all) (hn : 0 ≤ n ∧ n ≤ 100000) (hkb : kc' + 1 ≤ kc ∧ ks' + n.toNat ≤ ks) (d : decode cc pc = .ok (.newarray .long, 2)) (k : ∀ q : Nat, Hb.size ≤ q → GV own cc Z B Hb (bs ++ [[(q, aL (zE Z) n.toNat (fun _ => 0))]]).flatten kc' ks' (pc + 2) L (.ref q :: st)) : GV own cc Z B Hb bs.flatten kc ks pc L (jI n :: st) := by
  exact zi_newL hq hn hkb d (fun q hq => by have h := k q hq; rw [List.flatten_append] at h; exact h)
theorem zb_newB {n : Int} {kc' ks' : Nat} (hq : Jvm.Cond.arrayClass .byte ∈ lw_all) (hn : 0 ≤ n ∧ n ≤ 100000) (hkb : kc' + 1 ≤ kc ∧ ks' + n.toNat ≤ ks) (d : decode cc pc = .ok (.newarray .byte, 2)) (k : ∀ q : Nat, Hb.size ≤ q → GV own cc Z B Hb (bs ++ [[(q, aB (zE Z) n.toNat (fun _ => 0))]]).flatten kc' ks' (pc + 2) L (.ref q :: st)) : GV own cc Z B Hb bs.flatten kc ks pc L (jI n :: st) := by
  exact zi_newB hq hn hkb d (fun q hq => by have h := k q hq; rw [List.flatten_append] at h; exact h)
theorem zb_newD {n : Int} {kc' ks' : Nat} (hq : Jvm.Cond.arrayClass .double ∈ lw_all) (hn : 0 ≤ n ∧ n ≤ 100000) (hkb : kc' + 1 ≤ kc ∧ ks' + n.toNat ≤ ks) (d : decode cc pc = .ok (.newarray .double, 2)) (k : ∀ q : Nat, Hb.size ≤ q → GV own cc Z B Hb (bs ++ [[(q, aD (zE Z) n.toNat (fun _ => 0))]]).flatten kc' ks' (pc + 2) L (.ref q :: st)) : GV own cc Z B Hb bs.flatten kc ks pc L (jI n :: st) := by
  exact zi_newD hq hn hkb d (fun q hq => by have h := k q hq; rw [List.flatten_append] at h; exact h)
theorem zb_newR {n : Int} {kc' ks' index : Nat} (lnk : Jvm.Cond.classLink own index "java/lang/Object" ∈ lw_all) (hov : Jvm.Cond.arrayOver (.object "java/lang/Object") ∈ lw_tbl) (hn : 0 ≤ n ∧ n ≤ 100000) (hkb : kc' + 1 ≤ kc ∧ ks' + n.toNat ≤ ks) (d : decode cc pc = .ok (.anewarray index, 3)) (k : ∀ q : Nat, Hb.size ≤ q → GV own cc Z B Hb (bs ++ [[(q, aR (zE Z) n.toNat (fun _ => none))]]).flatten kc' ks' (pc + 3) L (.ref q :: st)) : GV own cc Z B Hb bs.flatten kc ks pc L (jI n :: st) := by
  exact zi_newR lnk hov hn hkb d (fun q hq => by have h := k q hq; rw [List.flatten_append] at h; exact h)
theorem zb_stR {m v : Nat} {z : Int} {f : Int → Option Nat} (q0 : Nat) (he : bs[q0]? = some [(a, aR (zE Z) m f)]) (hr : zRc own cc Z B Hb bs.flatten C v) (hca : Jvm.Cond.castable C "java/lang/Object" ∈ lw_tbl) (hi : 0 ≤ z ∧ z < m) (hm : m ≤ 2147483647) (d : decode cc pc = .ok (.aastore, 1)) (k : GV own cc Z B Hb (bs.set q0 [(a, aR (zE Z) m (zup f z (some v)))]).flatten kc ks (pc + 1) L st) : GV own cc Z B Hb bs.flatten kc ks pc L (.ref v :: jI z :: .ref a :: st) := by
  obtain ⟨k9, h9, h8⟩ := blk_at he
  exact zi_stR k9 h9 hr hca hi hm d (by rw [h8]; exact k)
theorem zr_blk {ci : Nat} {q : vw_C} {fs : List Value} (q0 : Nat) (he : bs[q0]? = some [(a, .inr (ci, fs))]) (hc : clA[ci]? = some q) : zRc own cc Z B Hb bs.flatten q.1 a := by
  obtain ⟨k9, h9, h8⟩ := blk_at he
  exact zr_own k9 h9 hc
end BLK
