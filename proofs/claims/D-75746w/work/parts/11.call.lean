/-! CONTRACTS and calls -/
set_option maxRecDepth 100000

def zRm (dp mc ms : Nat) : Room := { frames := dp, cells := mc, slots := ms, locals := 64 * dp }
abbrev zF : Type := (Nat → Prop) → State → Heap → Prop
def FzOK (F : zF) : Prop := ∀ (A : Nat → Prop) (U : State) (H : Heap) (A' : Nat → Prop) (U' : State) (H' : Heap), F A U H → Tr A U H A' U' H' → F A' U' H'
def zF0 : zF := fun _ _ _ => True
theorem zF0_ok : FzOK zF0 := fun _ _ _ _ _ _ _ _ => trivial
def zPc (E : ZE) (As : List Value) (wc : va_W) (Fz : zF) (sz : Nat) : Array Value → State → Prop := fun v U => v = As.toArray ∧ U.heap.size = sz ∧ zWd E U ∧ zBs E (va_A wc sz) U U.heap ∧ va_P E.1 clA wc U.heap ∧ va_D (fun _ => True) wc ∧ Fz (va_A wc sz) U U.heap
def zPost {S : Type} (E : ZE) (wc : va_W) (post : S → Option Value → Prop) (w1 : S → va_W) (Frz : S → zF) : Option Value → State → State → Prop := fun r st t =>
  ∃ u : S, post u r ∧ va_P E.1 clA (w1 u) t.heap ∧ va_D (va_A wc st.heap.size) (w1 u) ∧ Frz u (fun q => q < st.heap.size ∨ va_A (w1 u) t.heap.size q) t t.heap
def zPx {SX : Type} (E : ZE) (wc : va_W) (postx : SX → Nat → String → Prop) (wx : SX → va_W) : Nat → String → State → State → Prop := fun q En st t =>
  ∃ u : SX, postx u q En ∧ va_P E.1 clA (wx u) t.heap ∧ va_D (va_A wc st.heap.size) (wx u)
/-- a contract: from the owned cells wc and the frozen facts Fz; it returns with post, leaving w1 and the new frozen facts Frz; or throws with postx, leaving wx -/
def CT {S SX : Type} (l : Launch) (y : MethodName) (cw : List Cond) (dp mc ms : Nat) (E : ZE) (As : List Value) (wc : va_W) (Fz : zF) (post : S → Option Value → Prop) (w1 : S → va_W) (Frz : S → zF) (postx : SX → Nat → String → Prop) (wx : SX → va_W) : Prop :=
  l.stackTraces = false → ∀ sz : Nat, vx_Met l y cw (zRm dp mc ms) (zPc E As wc Fz sz) (zQc (va_A wc sz) (zPost E wc post w1 Frz)) (zQx (va_A wc sz) (zPx E wc postx wx)) mc ms (va_A wc sz)
abbrev zx0 : Unit → Nat → String → Prop := fun _ _ _ => False
abbrev zw0 : Unit → va_W := fun _ => []
abbrev zr0 {S : Type} : S → zF := fun _ => zF0
/-- the locals at the entry -/
def zEnt (n : Nat) (As : List Value) : List (Option Value) := let l := As.flatMap (fun v => if v.category = 2 then [some v, none] else [some v]); l ++ List.replicate (n - l.length) none
theorem zEnt_mem (As : List Value) : ∀ (o i : Nat) (v : Value) (m : Nat), (As.flatMap (fun v => if v.category = 2 then [some v, none] else [some v]) ++ List.replicate m none)[i]? = some (some v) → (o + i, v) ∈ lv_args o As := by
  induction As with
  | nil =>
    intro o i v m h
    simp only [List.flatMap_nil, List.nil_append] at h
    rw [List.getElem?_replicate] at h
    split at h <;> cases h
  | cons a l ih =>
    intro o i v m h
    rw [List.flatMap_cons] at h
    by_cases hc : a.category = 2
    · rw [if_pos hc] at h
      match i, h with
      | 0, h =>
        have e : a = v := by simpa using h
        subst e
        exact List.mem_cons_self
      | 1, h => simp at h
      | i + 2, h =>
        have h2 := ih (o + 2) i v m (by simpa using h)
        simp only [lv_args, if_pos hc]
        exact List.mem_cons_of_mem _ (by rw [show o + (i + 2) = o + 2 + i by omega]; exact h2)
    · rw [if_neg hc] at h
      match i, h with
      | 0, h =>
        have e : a = v := by simpa using h
        subst e
        exact List.mem_cons_self
      | i + 1, h =>
        have h2 := ih (o + 1) i v m (by simpa using h)
        simp only [lv_args, if_neg hc]
        exact List.mem_cons_of_mem _ (by rw [show o + (i + 1) = o + 1 + i by omega]; exact h2)
theorem zEnt_LH {n : Nat} {As : List Value} (h : (lg_sl As).length ≤ n) : LH ((lg_sl As ++ List.replicate (n - (lg_sl As).length) Slot.unset).toArray) n (zEnt n As) := by
  have hl := lv_entry As h
  refine ⟨hl.1, hl.2.1, fun i v hi => ?_⟩
  have h2 := zEnt_mem As 0 i v _ hi
  rw [Nat.zero_add] at h2
  exact hl.2.2 _ h2
/-- a contract out of a walk -/
theorem ct_of {S SX : Type} {l : Launch} {y : MethodName} {cc : ByteArray} {nL : Nat} {ret : Option FieldType} {dp mc ms : Nat} {E : ZE} {As : List Value} {wc : va_W} {Fz : zF} {post : S → Option Value → Prop} {w1 : S → va_W} {Frz : S → zF} {postx : SX → Nat → String → Prop} {wx : SX → va_W} {own : String}
    (hy : plainName y.cls = true) (hown : y.cls = own) {L : List (Option Value)} (hL : zEnt nL As = L) (hlen : (lg_sl As).length ≤ nL)
    (body : ∀ Z : ZT, E = zE Z → zl Z = l → zrt Z = ret → zR Z = zRm dp mc ms → zML Z nL → (zme Z).name = y.name → zPo Z = zPost E wc post w1 Frz → zXc Z = zPx E wc postx wx → zA Z = va_A wc (zs Z).heap.size → Fz (zA Z) (zs Z) (zs Z).heap → (∀ x ∈ (zc Z).exceptionTable.toList, False) → GV own cc Z (zA Z) (zs Z).heap wc mc ms 0 L []) :
    CT l y (ws_ y cc nL ret) dp mc ms E As wc Fz post w1 Frz postx wx := by
  intro hst sz
  refine vx_ofW (cc := cc) (maxL := nL) (ret := ret) hy rfl ?_
  intro p e s m args below meth c s₁ B9 hml hexc hv
  obtain ⟨rfl, hsz, hWd, hBs, hP, hD0, hF⟩ := hv
  have hts := atoms_spec (ws := ws_ y cc nL ret) B9.pre
  have hts : ∀ w ∈ lw_all, w.before As.toArray s = true := fun w h => hts w (List.mem_cons_of_mem _ h)
  subst hsz
  have hD := hD0.self (sz := s.heap.size)
  rw [lg_entry_eq]
  have h := body (l, p, e, zRm dp mc ms, s, m, As.toArray, below, meth, c, E, va_A wc s.heap.size, zPost E wc post w1 Frz, zPx E wc postx wx, ret) rfl rfl rfl rfl hml (name_of_methodNamed B9.named B9.method).1 rfl rfl rfl hF hexc
  have hC : Cx own cc (l, p, e, zRm dp mc ms, s, m, As.toArray, below, meth, c, E, va_A wc s.heap.size, zPost E wc post w1 Frz, zPx E wc postx wx, ret) := ⟨B9.exec, B9.bytes, by rw [← hown]; exact findClass_of_methodNamed B9.named, hts, B9.notSynchronized, B9.returns, hst, hWd, hBs, fun q h => Or.inr h⟩
  have hB : Bx (l, p, e, zRm dp mc ms, s, m, As.toArray, below, meth, c, E, va_A wc s.heap.size, zPost E wc post w1 Frz, zPx E wc postx wx, ret) (va_A wc s.heap.size) s.heap := ⟨fun q h => h, fun q h => Or.inr h, Un.rf⟩
  exact h hC hB s.heap [] 0 0 _ Un.rf hP hD va_S.rf (Nat.le_of_eq (Nat.zero_add _)) (Nat.le_of_eq (Nat.zero_add _)) (by rw [← hL]; show LH _ c.maxLocals _; rw [hml]; exact zEnt_LH hlen)
/-- the same for a method with handlers -/
theorem ct_ofH {S SX : Type} {l : Launch} {y : MethodName} {cc : ByteArray} {nL : Nat} {ret : Option FieldType} {hh : List (Nat × Nat × Nat × Nat)} {dp mc ms : Nat} {E : ZE} {As : List Value} {wc : va_W} {Fz : zF} {post : S → Option Value → Prop} {w1 : S → va_W} {Frz : S → zF} {postx : SX → Nat → String → Prop} {wx : SX → va_W} {own : String}
    (hy : plainName y.cls = true) (hown : y.cls = own) {L : List (Option Value)} (hL : zEnt nL As = L) (hlen : (lg_sl As).length ≤ nL)
    (body : ∀ Z : ZT, E = zE Z → zl Z = l → zrt Z = ret → zR Z = zRm dp mc ms → zML Z nL → (zme Z).name = y.name → zPo Z = zPost E wc post w1 Frz → zXc Z = zPx E wc postx wx → zA Z = va_A wc (zs Z).heap.size → Fz (zA Z) (zs Z) (zs Z).heap → ((zc Z).exceptionTable.toList = tableOf hh) → GV own cc Z (zA Z) (zs Z).heap wc mc ms 0 L []) :
    CT l y (wsW_ y cc nL ret hh) dp mc ms E As wc Fz post w1 Frz postx wx := by
  intro hst sz
  refine vx_ofWH (hh := hh) (cc := cc) (maxL := nL) (ret := ret) hy rfl ?_
  intro p e s m args below meth c s₁ B9 hml hv
  have htab := vx_table (x := y) B9 (atoms_spec (ws := wsW_ y cc nL ret hh) B9.pre _ List.mem_cons_self)
  obtain ⟨rfl, hsz, hWd, hBs, hP, hD0, hF⟩ := hv
  have hts := atoms_spec (ws := wsW_ y cc nL ret hh) B9.pre
  have hts : ∀ w ∈ lw_all, w.before As.toArray s = true := fun w h => hts w (List.mem_cons_of_mem _ h)
  subst hsz
  have hD := hD0.self (sz := s.heap.size)
  rw [lg_entry_eq]
  have h := body (l, p, e, zRm dp mc ms, s, m, As.toArray, below, meth, c, E, va_A wc s.heap.size, zPost E wc post w1 Frz, zPx E wc postx wx, ret) rfl rfl rfl rfl hml (name_of_methodNamed B9.named B9.method).1 rfl rfl rfl hF htab
  have hC : Cx own cc (l, p, e, zRm dp mc ms, s, m, As.toArray, below, meth, c, E, va_A wc s.heap.size, zPost E wc post w1 Frz, zPx E wc postx wx, ret) := ⟨B9.exec, B9.bytes, by rw [← hown]; exact findClass_of_methodNamed B9.named, hts, B9.notSynchronized, B9.returns, hst, hWd, hBs, fun q h => Or.inr h⟩
  have hB : Bx (l, p, e, zRm dp mc ms, s, m, As.toArray, below, meth, c, E, va_A wc s.heap.size, zPost E wc post w1 Frz, zPx E wc postx wx, ret) (va_A wc s.heap.size) s.heap := ⟨fun q h => h, fun q h => Or.inr h, Un.rf⟩
  exact h hC hB s.heap [] 0 0 _ Un.rf hP hD va_S.rf (Nat.le_of_eq (Nat.zero_add _)) (Nat.le_of_eq (Nat.zero_add _)) (by rw [← hL]; show LH _ c.maxLocals _; rw [hml]; exact zEnt_LH hlen)
section RET
variable {own : String} {cc : ByteArray} {Z : ZT} {B : Nat → Prop} {Hb : Heap} {ws : va_W} {kc ks pc : Nat} {L : List (Option Value)} {st : List Value}
/-- the post at a return, out of the owned cells and the baseline -/
theorem zret {S : Type} {wc : va_W} {post : S → Option Value → Prop} {w1 : S → va_W} {Frz : S → zF} {v : Option Value} (hPo : zPo Z = zPost (zE Z) wc post w1 Frz) (hA : zA Z = va_A wc (zs Z).heap.size) (u : S) (hp : post u v) (is : List Nat) (hs : is.filterMap (fun i => ws[i]?) = w1 u) (hm : is.map (fun i => ws[i]?) = (w1 u).map some) (hn : va_nd is = true) (hFr : ∀ (A : Nat → Prop) (t : State), Tr (fun q => q < (zs Z).heap.size ∨ B q) (zs Z) Hb A t t.heap → Frz u A t t.heap) :
    ∀ H : Heap, Un B Hb H → va_P (zE Z).1 clA ws H → va_D B ws → Un (zA Z) (zs Z).heap H → ∀ t : State, t.heap = H → (zs Z).WarmedH t.vm → (∀ q, B q → zA Z q) → zPo Z v (zs Z) t := by
  intro H hU hP hD hUA t ht hW hBA
  subst ht
  have hD2 : va_D B (w1 u) := hD.sub is hn hm
  rw [hPo]
  refine ⟨u, hp, hP.sub is hs, hD2.weaken (fun k q _ h => by rw [← hA]; exact hBA _ h), hFr _ t ⟨hW.alike, hU.mono (fun q _ h => Or.inr h), fun q hq h => ?_⟩⟩
  rcases h with h | h
  · exact Or.inl h
  · rcases h with ⟨k, e, h⟩ | h
    · exact Or.inr (hD2.2 k _ h)
    · have := hU.1
      omega
end RET
/-- the facts of a method that is called -/
def MWV (y : MethodName) (bytes : ByteArray) (maxL : Nat) (ret : Option FieldType) (n : Nat) : Prop := Jvm.Cond.instanceMethod y ∈ lw_all ∧ Jvm.Cond.selects y.cls y y ∈ lw_all ∧ Jvm.Cond.initialized y.cls ∈ lw_all ∧ Jvm.Cond.code y bytes maxL ret ∈ lw_all ∧ maxL ≤ 40 ∧ y.cls ≠ "java/lang/invoke/MethodHandle" ∧ y.cls ≠ "java/lang/invoke/VarHandle" ∧ (parseMethodDescriptor y.desc).map (fun d => d.parameters.length) = some n
def MWS (y : MethodName) (bytes : ByteArray) (maxL : Nat) (ret : Option FieldType) (n : Nat) : Prop := Jvm.Cond.static y ∈ lw_all ∧ Jvm.Cond.initialized y.cls ∈ lw_all ∧ Jvm.Cond.code y bytes maxL ret ∈ lw_all ∧ maxL ≤ 40 ∧ y.cls ≠ "java/lang/invoke/MethodHandle" ∧ y.cls ≠ "java/lang/invoke/VarHandle" ∧ (parseMethodDescriptor y.desc).map (fun d => d.parameters.length) = some n
def MWI (y : MethodName) (bytes : ByteArray) (maxL : Nat) (n : Nat) : Prop := y.name = "<init>" ∧ Jvm.Cond.instanceMethod y ∈ lw_all ∧ Jvm.Cond.initialized y.cls ∈ lw_all ∧ Jvm.Cond.code y bytes maxL none ∈ lw_all ∧ maxL ≤ 40 ∧ y.cls ≠ "java/lang/invoke/MethodHandle" ∧ y.cls ≠ "java/lang/invoke/VarHandle" ∧ (parseMethodDescriptor y.desc).map (fun d => d.parameters.length) = some n
def MWF (C : String) (x y : MethodName) (bytes : ByteArray) (maxL : Nat) (ret : Option FieldType) (n : Nat) : Prop := (C, x, y) ∈ zFc ∧ Jvm.Cond.selects C x y ∈ lw_all ∧ Jvm.Cond.instanceMethod y ∈ lw_all ∧ Jvm.Cond.initialized y.cls ∈ lw_all ∧ Jvm.Cond.code y bytes maxL ret ∈ lw_all ∧ maxL ≤ 40 ∧ x.cls ≠ "java/lang/invoke/MethodHandle" ∧ x.cls ≠ "java/lang/invoke/VarHandle" ∧ (parseMethodDescriptor x.desc).map (fun d => d.parameters.length) = some n
section CALL
variable {own : String} {cc : ByteArray} {Z : ZT} {B : Nat → Prop} {Hb : Heap} {ws : va_W} {kc ks pc : Nat} {L : List (Option Value)} {st : List Value}
theorem zPc_blind {E : ZE} {As : List Value} {wc : va_W} {Fz : zF} {sz : Nat} (h : FzOK Fz) : FrameBlind (zPc E As wc Fz sz) := by
  intro a U g mk hq
  obtain ⟨q0, q1, q2, q3, q4, q5, q6⟩ := hq
  have hW : U.WarmedH (U.calling g mk a).vm := State.WarmedH.refl U
  exact ⟨q0, q1, zWd_warm hW q2, zBs_tr q3 hW ⟨hW.alike, Un.rf, fun _ _ h => h⟩, q4, q5, h _ _ _ _ _ _ q6 ⟨hW.alike, Un.rf, fun _ _ h => h⟩⟩
/-- the callee's start holds -/
theorem zPc_at {As : List Value} {wc : va_W} {Fz : zF} (C0 : Cx own cc Z) (b : Bx Z B Hb) {H : Heap} {locs : List Loc} (hU : Un B Hb H) (hP : va_P (zE Z).1 clA ws H) (hD : va_D B ws) (hS : va_S (zA Z) (zs Z).heap H locs) (isC : List Nat) (hC : isC.map (fun i => ws[i]?) = wc.map some) (hnC : va_nd isC = true) (hF : ∀ H1 : Heap, Un B Hb H1 → Hb.size ≤ H1.size → Fz (va_A wc H1.size) (zs Z) H1) (hok : FzOK Fz) :
    ∀ U : State, U.heap = H → (zs Z).WarmedH U.vm → zPc (zE Z) As wc Fz H.size As.toArray U := by
  intro U hUh hW
  subst hUh
  have hfree := va_free (wc := wc) hD (⟨hU.1, hU.2, fun _ h => by cases h⟩ : va_S B Hb U.heap []) b.2.1 isC hC
  have hD2 : va_D B wc := hD.sub isC hnC hC
  have hP2 : va_P (zE Z).1 clA wc U.heap := hP.sub isC (by
    have h1 : ∀ l : List Nat, ∀ w : va_W, l.map (fun i => ws[i]?) = w.map some → l.filterMap (fun i => ws[i]?) = w := by
      intro l
      induction l with
      | nil => intro w h; cases w with | nil => rfl | cons _ _ => simp at h
      | cons a l ih => intro w h; cases w with
        | nil => simp at h
        | cons x w =>
          simp only [List.map_cons, List.cons.injEq] at h
          rw [List.filterMap_cons, h.1]
          exact congrArg _ (ih w h.2)
    exact h1 isC wc hC)
  refine ⟨rfl, rfl, zWd_warm hW C0.2.2.2.2.2.2.2.1, zBs_tr C0.2.2.2.2.2.2.2.2.1 hW ⟨hW.alike, ⟨hS.1, hS.2.1⟩, fun q _ h => b.1 _ (hfree q h)⟩, hP2, hD2.weaken (fun _ _ _ _ => trivial), hok _ _ _ _ _ _ (hF U.heap hU hU.1) ⟨hW.alike, Un.rf, fun _ _ h => h⟩⟩
def zNx (Z : ZT) (H : Heap) (locs : List Loc) (cells slots mc ms : Nat) (g : JFrame) (ln : Nat) (rest : List Value) (Qa : State → Outcome → State → Prop) (XC : Addr → String → State → State → Prop) (free : Addr → Prop) : Prop :=
  ∀ T : State, T.heap = H → Stand (zp Z) (zl Z) (ze Z) (zR Z) (zs Z) (zm Z) (za Z) (zb Z) (zme Z) (zc Z) T locs cells slots →
    (∃ (v : Option Value) (st₀ t T' : State) (L : List Loc), st₀.heap = H ∧ Stand (zp Z) (zl Z) (ze Z) (zR Z) (zs Z) (zm Z) (za Z) (zb Z) (zme Z) (zc Z) T' (locs ++ L) (cells + mc) (slots + ms) ∧ (∀ q ∈ L, free q.base) ∧ T'.heap = t.heap ∧ T'.vm = t.vm ∧ Qa st₀ (.returned v) t ∧
      Goes (zp Z) (ze Z) (zb Z) T g T' { g with pc := g.pc + ln, stack := v.toList ++ rest }) ∨
    (∃ (q : Addr) (st₀ t T' : State) (L : List Loc) (E : String) (ce : Cell), st₀.heap = H ∧ Stand (zp Z) (zl Z) (ze Z) (zR Z) (zs Z) (zm Z) (za Z) (zb Z) (zme Z) (zc Z) T' (locs ++ L) (cells + mc) (slots + ms) ∧ (∀ z ∈ L, free z.base) ∧ T'.heap = t.heap ∧ T'.vm = t.vm ∧ XC q E st₀ t ∧ t.heap[q]? = some ce ∧ ce.vm = .none ∧ (zs Z).vm.findClass E = some ce.cls ∧
      Steps (zp Z).tables (ze Z) (zb Z) (T.setTop g) ((T'.setTop { g with stack := rest }).pushFrame (.throwing q)))
theorem zc_core {S SX : Type} {wc wr : va_W} {post : S → Option Value → Prop} {w1 : S → va_W} {Frz : S → zF} {postx : SX → Nat → String → Prop} {wx : SX → va_W} {stk : List Value} {kc' ks' mcC msC ln : Nat} {as : Array Value} {Fz : zF} {As : List Value}
    (isC isR : List Nat) (hC : isC.map (fun i => ws[i]?) = wc.map some) (hR : isR.map (fun i => ws[i]?) = wr.map some) (hnC : va_nd isC = true) (hn : va_nd isR = true) (hdis : ∀ i ∈ isR, i ∉ isC) (hkb : kc' + mcC ≤ kc ∧ ks' + msC ≤ ks)
    (hF : ∀ H1 : Heap, Un B Hb H1 → Hb.size ≤ H1.size → Fz (va_A wc H1.size) (zs Z) H1) (hok : FzOK Fz)
    (run : Cx own cc Z → ∀ (H : Heap) (locs : List Loc) (cells slots : Nat) (ls : Array Slot), Un B Hb H → va_P (zE Z).1 clA ws H → ls.size = (zc Z).maxLocals → cells + mcC ≤ (zR Z).cells → slots + msC ≤ (zR Z).slots → (∀ U : State, U.heap = H → (zs Z).WarmedH U.vm → zPc (zE Z) As wc Fz H.size As.toArray U) →
      zNx Z H locs cells slots mcC msC (F0 (zm Z) pc ls stk) ln st (zQc (va_A wc H.size) (zPost (zE Z) wc post w1 Frz) as) (zQx (va_A wc H.size) (zPx (zE Z) wc postx wx)) (va_A wc H.size))
    (kx : ∀ (u : SX) (q : Nat) (En : String), postx u q En → GX own cc Z B Hb (wr ++ wx u) kc' ks' pc L q En)
    (kr : ∀ (u : S) (r : Option Value), post u r → GV own cc Z B Hb (wr ++ w1 u) kc' ks' (pc + ln) L (r.toList ++ st)) : GV own cc Z B Hb ws kc ks pc L stk := by
  intro C0 b H locs cells slots ls hU hP hD hS hc hs hL
  have hN := run C0 H locs cells slots ls hU hP hL.1 (by omega) (by omega) (zPc_at C0 b hU hP hD hS isC hC hnC hF hok)
  have hfree := va_free (wc := wc) hD (⟨hU.1, hU.2, fun _ h => by cases h⟩ : va_S B Hb H []) b.2.1 isC hC
  intro T hT X
  rcases hN T hT X with ⟨v, st₀, t, T', L9, h0, X', hL9, e1, e2, ⟨r, hv, ⟨u, hp, hPw, hDw, hFr⟩, hUn⟩, go⟩ | ⟨q, st₀, t, T', L9, En, ce, h0, X', hL9, e1, e2, ⟨⟨u, hp, hPw, hDw⟩, hUn⟩, hce, hcv, hcl, stp⟩
  · cases hv
    rw [h0] at hUn hDw
    rw [← e1] at hUn hPw
    obtain ⟨hPj, hDj⟩ := va_join (wr := wr) (w1 := w1 u) hP hD isC isR hC hR hn hdis hUn.2 hfree hPw hDw
    obtain ⟨t2, a1, b1⟩ := kr u v hp C0 b T'.heap (locs ++ L9) _ _ ls (hU.trans (hUn.mono (fun q _ z => hfree q z))) hPj hDj
      ⟨Nat.le_trans hS.1 hUn.1, fun q h1 h2 => by rw [hUn.2 q (Nat.lt_of_lt_of_le h1 hS.1) (fun z => h2 (b.1 _ (hfree q z)))]; exact hS.2.1 q h1 h2, fun l9 hl => by
        rcases List.mem_append.mp hl with h | h
        · exact hS.2.2 l9 h
        · exact b.1 _ (hfree _ (hL9 l9 h))⟩ (by omega) (by omega) hL T' rfl X'
    exact ⟨t2, go t2 a1, b1⟩
  · rw [h0] at hUn hDw
    rw [← e1] at hUn hPw hce
    obtain ⟨hPj, hDj⟩ := va_join (wr := wr) (w1 := wx u) hP hD isC isR hC hR hn hdis hUn.2 hfree hPw hDw
    obtain ⟨t2, a1, b1⟩ := kx u q En hp C0 b T'.heap (locs ++ L9) _ _ ls ce st (hU.trans (hUn.mono (fun q _ z => hfree q z))) hPj hDj
      ⟨Nat.le_trans hS.1 hUn.1, fun q h1 h2 => by rw [hUn.2 q (Nat.lt_of_lt_of_le h1 hS.1) (fun z => h2 (b.1 _ (hfree q z)))]; exact hS.2.1 q h1 h2, fun l9 hl => by
        rcases List.mem_append.mp hl with h | h
        · exact hS.2.2 l9 h
        · exact b.1 _ (hfree _ (hL9 l9 h))⟩ (by omega) (by omega) hL hce hcv hcl T' rfl X'
    exact ⟨t2, stp.trans a1, b1⟩

variable {S SX : Type} {wc wr : va_W} {post : S → Option Value → Prop} {w1 : S → va_W} {Frz : S → zF} {postx : SX → Nat → String → Prop} {wx : SX → va_W} {kc' ks' mcC msC : Nat} {Fz : zF} {As : List Value} {y : MethodName} {bytes : ByteArray} {maxL n index b dpy dp mc ms : Nat} {ret : Option FieldType}
theorem zRm_ok (hR0 : zR Z = zRm dp mc ms) (hdp : dpy < dp) (hml : maxL ≤ 40) : (zRm dpy mcC msC).frames + 1 ≤ (zR Z).frames ∧ 8 + (maxL + 11) + (zRm dpy mcC msC).locals ≤ (zR Z).locals := by
  rw [hR0]
  exact ⟨hdp, by show 8 + (maxL + 11) + 64 * dpy ≤ 64 * dp; omega⟩
theorem zc_V (mw : MWV y bytes maxL ret n) (K : CT (zl Z) y (ws_ y bytes maxL ret) dpy mcC msC (zE Z) (.ref b :: As) wc Fz post w1 Frz postx wx) (lnk : Jvm.Cond.methodLink own index y ∈ lw_all) (hrc : zRc own cc Z B Hb ws y.cls b) (hR0 : zR Z = zRm dp mc ms) (hdp : dpy < dp) (hn : As.length = n) (hrm : (st.map fun v => v.category).sum ≤ 8) (d : decode cc pc = .ok (.invokevirtual index, 3))
    (isC isR : List Nat) (hC : isC.map (fun i => ws[i]?) = wc.map some) (hR : isR.map (fun i => ws[i]?) = wr.map some) (hnC : va_nd isC = true) (hnR : va_nd isR = true) (hdis : ∀ i ∈ isR, i ∉ isC) (hkb : kc' + mcC ≤ kc ∧ ks' + msC ≤ ks)
    (hF : ∀ H1 : Heap, Un B Hb H1 → Hb.size ≤ H1.size → Fz (va_A wc H1.size) (zs Z) H1) (hok : FzOK Fz)
    (kx : ∀ (u : SX) (q : Nat) (En : String), postx u q En → GX own cc Z B Hb (wr ++ wx u) kc' ks' pc L q En)
    (kr : ∀ (u : S) (r : Option Value), post u r → GV own cc Z B Hb (wr ++ w1 u) kc' ks' (pc + 3) L (r.toList ++ st)) : GV own cc Z B Hb ws kc ks pc L (As.reverse ++ .ref b :: st) := by
  refine zc_core (Frz := Frz) (ln := 3) (as := ((.ref b :: As)).toArray) (As := (.ref b :: As)) isC isR hC hR hnC hnR hdis hkb hF hok (fun C0 H locs cells slots ls hU hP hsz hc hs hPc => ?_) kx kr
  exact vx_runV (g := F0 (zm Z) pc ls _) ⟨C0.1, C0.2.1, rfl, C0.2.2.1, C0.2.2.2.1⟩ (K C0.2.2.2.2.2.2.1 H.size) (cwV n C0.2.2.2.1 (lw_V lnk mw.1 mw.2.1 mw.2.2.1 mw.2.2.2.1) rfl rfl rfl ⟨rfl, mw.2.2.2.2.2.1, mw.2.2.2.2.2.2.1, mw.2.2.2.2.2.2.2⟩ (zRm_ok hR0 hdp mw.2.2.2.2.1)) ⟨zPc_blind hok, hrc C0 H hU hP, hPc⟩ rfl hn hsz rfl (lv_room hrm) d ⟨hc, hs⟩
theorem zc_S (mw : MWS y bytes maxL ret n) (K : CT (zl Z) y (ws_ y bytes maxL ret) dpy mcC msC (zE Z) As wc Fz post w1 Frz postx wx) (lnk : Jvm.Cond.methodLink own index y ∈ lw_all) (hR0 : zR Z = zRm dp mc ms) (hdp : dpy < dp) (hn : As.length = n) (hrm : (st.map fun v => v.category).sum ≤ 8) (d : decode cc pc = .ok (.invokestatic index, 3))
    (isC isR : List Nat) (hC : isC.map (fun i => ws[i]?) = wc.map some) (hR : isR.map (fun i => ws[i]?) = wr.map some) (hnC : va_nd isC = true) (hnR : va_nd isR = true) (hdis : ∀ i ∈ isR, i ∉ isC) (hkb : kc' + mcC ≤ kc ∧ ks' + msC ≤ ks)
    (hF : ∀ H1 : Heap, Un B Hb H1 → Hb.size ≤ H1.size → Fz (va_A wc H1.size) (zs Z) H1) (hok : FzOK Fz)
    (kx : ∀ (u : SX) (q : Nat) (En : String), postx u q En → GX own cc Z B Hb (wr ++ wx u) kc' ks' pc L q En)
    (kr : ∀ (u : S) (r : Option Value), post u r → GV own cc Z B Hb (wr ++ w1 u) kc' ks' (pc + 3) L (r.toList ++ st)) : GV own cc Z B Hb ws kc ks pc L (As.reverse ++ st) := by
  refine zc_core (Frz := Frz) (ln := 3) (as := (As).toArray) (As := As) isC isR hC hR hnC hnR hdis hkb hF hok (fun C0 H locs cells slots ls hU hP hsz hc hs hPc => ?_) kx kr
  exact vx_runS (g := F0 (zm Z) pc ls _) ⟨C0.1, C0.2.1, rfl, C0.2.2.1, C0.2.2.2.1⟩ (K C0.2.2.2.2.2.2.1 H.size) (va_cwS n C0.2.2.2.1 (lw_S lnk mw.1 mw.2.1 mw.2.2.1) rfl rfl rfl ⟨mw.2.2.2.2.1, mw.2.2.2.2.2.1, mw.2.2.2.2.2.2⟩ (zRm_ok hR0 hdp mw.2.2.2.1)) ⟨zPc_blind hok, hPc⟩ rfl hn hsz rfl (lv_room hrm) d ⟨hc, hs⟩
theorem zc_I (mw : MWI y bytes maxL n) (K : CT (zl Z) y (ws_ y bytes maxL none) dpy mcC msC (zE Z) (.ref b :: As) wc Fz post w1 Frz postx wx) (lnk : Jvm.Cond.methodLink own index y ∈ lw_all) (hR0 : zR Z = zRm dp mc ms) (hdp : dpy < dp) (hn : As.length = n) (hrm : (st.map fun v => v.category).sum ≤ 8) (d : decode cc pc = .ok (.invokespecial index, 3))
    (isC isR : List Nat) (hC : isC.map (fun i => ws[i]?) = wc.map some) (hR : isR.map (fun i => ws[i]?) = wr.map some) (hnC : va_nd isC = true) (hnR : va_nd isR = true) (hdis : ∀ i ∈ isR, i ∉ isC) (hkb : kc' + mcC ≤ kc ∧ ks' + msC ≤ ks)
    (hF : ∀ H1 : Heap, Un B Hb H1 → Hb.size ≤ H1.size → Fz (va_A wc H1.size) (zs Z) H1) (hok : FzOK Fz)
    (kx : ∀ (u : SX) (q : Nat) (En : String), postx u q En → GX own cc Z B Hb (wr ++ wx u) kc' ks' pc L q En)
    (kr : ∀ (u : S) (r : Option Value), post u r → GV own cc Z B Hb (wr ++ w1 u) kc' ks' (pc + 3) L (r.toList ++ st)) : GV own cc Z B Hb ws kc ks pc L (As.reverse ++ .ref b :: st) := by
  refine zc_core (Frz := Frz) (ln := 3) (as := ((.ref b :: As)).toArray) (As := (.ref b :: As)) isC isR hC hR hnC hnR hdis hkb hF hok (fun C0 H locs cells slots ls hU hP hsz hc hs hPc => ?_) kx kr
  exact vx_runI (g := F0 (zm Z) pc ls _) ⟨C0.1, C0.2.1, rfl, C0.2.2.1, C0.2.2.2.1⟩ (K C0.2.2.2.2.2.2.1 H.size) (cwI n C0.2.2.2.1 (lw_meth mw.2.2.2.1) rfl rfl rfl (C0.2.2.2.1 _ mw.2.2.1) (C0.2.2.2.1 _ lnk) (C0.2.2.2.1 _ mw.2.1) mw.1 ⟨mw.2.2.2.2.2.1, mw.2.2.2.2.2.2.1, mw.2.2.2.2.2.2.2⟩ (zRm_ok hR0 hdp mw.2.2.2.2.1)) ⟨zPc_blind hok, hPc⟩ rfl hn hsz rfl (lv_room hrm) d ⟨hc, hs⟩
theorem zc_F {C : String} {x : MethodName} {count ci N : Nat} {T : u_T} (hci : clA[ci]? = some (C, T, N)) (mw : MWF C x y bytes maxL ret n) (K : CT (zl Z) y (ws_ y bytes maxL ret) dpy mcC msC (zE Z) (.ref b :: As) wc Fz post w1 Frz postx wx) (lnk : Jvm.Cond.methodLink own index x ∈ lw_all) (hrc : zRc own cc Z B Hb ws C b) (hR0 : zR Z = zRm dp mc ms) (hdp : dpy < dp) (hn : As.length = n) (hrm : (st.map fun v => v.category).sum ≤ 8) (d : decode cc pc = .ok (.invokeinterface index count, 5))
    (isC isR : List Nat) (hC : isC.map (fun i => ws[i]?) = wc.map some) (hR : isR.map (fun i => ws[i]?) = wr.map some) (hnC : va_nd isC = true) (hnR : va_nd isR = true) (hdis : ∀ i ∈ isR, i ∉ isC) (hkb : kc' + mcC ≤ kc ∧ ks' + msC ≤ ks)
    (hF : ∀ H1 : Heap, Un B Hb H1 → Hb.size ≤ H1.size → Fz (va_A wc H1.size) (zs Z) H1) (hok : FzOK Fz)
    (kx : ∀ (u : SX) (q : Nat) (En : String), postx u q En → GX own cc Z B Hb (wr ++ wx u) kc' ks' pc L q En)
    (kr : ∀ (u : S) (r : Option Value), post u r → GV own cc Z B Hb (wr ++ w1 u) kc' ks' (pc + 5) L (r.toList ++ st)) : GV own cc Z B Hb ws kc ks pc L (As.reverse ++ .ref b :: st) := by
  refine zc_core (Frz := Frz) (ln := 5) (as := (.ref b :: As : List Value).toArray) (As := .ref b :: As) isC isR hC hR hnC hnR hdis hkb hF hok (fun C0 H locs cells slots ls hU hP hsz hc hs hPc => ?_) kx kr
  have hFw : va_Fw C x y (zs Z) := C0.2.2.2.2.2.2.2.1.2.2.1 _ mw.1
  refine vx_runF (g := F0 (zm Z) pc ls _) (C := C) ((C0.2.2.2.2.2.2.2.1.1.1 ci _ hci).2) ⟨C0.1, C0.2.1, rfl, C0.2.2.1, C0.2.2.2.1⟩ (K C0.2.2.2.2.2.2.1 H.size) (va_cwF n C0.2.2.2.1 (lw_app (fun w hw => ?_) (lw_meth mw.2.2.2.2.1)) rfl rfl rfl hFw ⟨mw.2.2.2.2.2.2.1, mw.2.2.2.2.2.2.2.1, mw.2.2.2.2.2.2.2.2⟩ (zRm_ok hR0 hdp mw.2.2.2.2.2.1)) ⟨zPc_blind hok, hrc C0 H hU hP, hPc⟩ rfl hn hsz rfl (lv_room hrm) d ⟨hc, hs⟩
  · simp only [List.mem_cons, List.not_mem_nil, or_false] at hw
    rcases hw with e | e | e | e
    · rw [e]; exact lnk
    · rw [e]; exact mw.2.1
    · rw [e]; exact mw.2.2.1
    · rw [e]; exact mw.2.2.2.1
end CALL

theorem z_max {a b : Int} (h : -2147483648 ≤ a ∧ a < 2147483648 ∧ -2147483648 ≤ b ∧ b < 2147483648) : (if Int32.ofInt a < Int32.ofInt b then Int32.ofInt b else Int32.ofInt a) = Int32.ofInt (max a b) := by
  simp only [Int32.lt_iff_toInt_lt, Int32_ofInt_range (a := a) (by omega), Int32_ofInt_range (a := b) (by omega)]
  split
  · rw [Int.max_eq_right (by omega)]
  · rw [Int.max_eq_left (by omega)]
theorem z_min {a b : Int} (h : -2147483648 ≤ a ∧ a < 2147483648 ∧ -2147483648 ≤ b ∧ b < 2147483648) : (if Int32.ofInt b < Int32.ofInt a then Int32.ofInt b else Int32.ofInt a) = Int32.ofInt (min a b) := by
  simp only [Int32.lt_iff_toInt_lt, Int32_ofInt_range (a := a) (by omega), Int32_ofInt_range (a := b) (by omega)]
  split
  · rw [Int.min_eq_right (by omega)]
  · rw [Int.min_eq_left (by omega)]
theorem z_lmin {a b : Int} (h : -9223372036854775808 ≤ a ∧ a < 9223372036854775808 ∧ -9223372036854775808 ≤ b ∧ b < 9223372036854775808) : (if Int64.ofInt b < Int64.ofInt a then Int64.ofInt b else Int64.ofInt a) = Int64.ofInt (min a b) := by
  simp only [Int64.lt_iff_toInt_lt, Int64_ofInt_range (a := a) (by omega), Int64_ofInt_range (a := b) (by omega)]
  split
  · rw [Int.min_eq_right (by omega)]
  · rw [Int.min_eq_left (by omega)]
section MATH
variable {own : String} {cc : ByteArray} {Z : ZT} {B : Nat → Prop} {Hb : Heap} {ws : va_W} {kc ks pc : Nat} {L : List (Option Value)} {st : List Value} {a b : Int} {index dp mc ms : Nat}
theorem zR_fr (hR0 : zR Z = zRm dp mc ms) (hdp : 1 ≤ dp) (hrm : (st.map fun v => v.category).sum ≤ 8) : 1 ≤ (zR Z).frames ∧ (st.map fun v => v.category).sum + 15 ≤ (zR Z).locals := by
  rw [hR0]
  exact ⟨hdp, by show _ + 15 ≤ 64 * dp; omega⟩
theorem zi_mmax (lnk : Jvm.Cond.methodLink own index ⟨"java/lang/Math", "max", "(II)I"⟩ ∈ lw_all) (hR0 : zR Z = zRm dp mc ms) (hdp : 1 ≤ dp) (hrm : (st.map fun v => v.category).sum ≤ 8) (hr : -2147483648 ≤ a ∧ a < 2147483648 ∧ -2147483648 ≤ b ∧ b < 2147483648) (d : decode cc pc = .ok (.invokestatic index, 3)) (k : GV own cc Z B Hb ws kc ks (pc + 3) L (jI (max a b) :: st)) : GV own cc Z B Hb ws kc ks pc L (jI b :: jI a :: st) :=
  fun C0 b9 H locs cells slots ls hU hP hD hS hc hs hL => va_mmax C0.1 C0.2.1 hL.1.symm C0.2.2.1 (C0.2.2.2.1 _ lnk) (C0.2.2.2.1 _ q598) (C0.2.2.2.1 _ q138) (C0.2.2.2.1 _ q599) (zR_fr hR0 hdp hrm).1 (by have := (zR_fr hR0 hdp hrm).2; omega) (by omega) (by omega) d (by rw [z_max hr]; exact k C0 b9 H locs cells slots ls hU hP hD hS hc hs hL)
theorem zi_mmin (lnk : Jvm.Cond.methodLink own index ⟨"java/lang/Math", "min", "(II)I"⟩ ∈ lw_all) (hR0 : zR Z = zRm dp mc ms) (hdp : 1 ≤ dp) (hrm : (st.map fun v => v.category).sum ≤ 8) (hr : -2147483648 ≤ a ∧ a < 2147483648 ∧ -2147483648 ≤ b ∧ b < 2147483648) (d : decode cc pc = .ok (.invokestatic index, 3)) (k : GV own cc Z B Hb ws kc ks (pc + 3) L (jI (min a b) :: st)) : GV own cc Z B Hb ws kc ks pc L (jI b :: jI a :: st) :=
  fun C0 b9 H locs cells slots ls hU hP hD hS hc hs hL => va_mmin C0.1 C0.2.1 hL.1.symm C0.2.2.1 (C0.2.2.2.1 _ lnk) (C0.2.2.2.1 _ q617) (C0.2.2.2.1 _ q138) (C0.2.2.2.1 _ q618) (zR_fr hR0 hdp hrm).1 (by have := (zR_fr hR0 hdp hrm).2; omega) (by omega) (by omega) d (by rw [z_min hr]; exact k C0 b9 H locs cells slots ls hU hP hD hS hc hs hL)
theorem zi_lmin (lnk : Jvm.Cond.methodLink own index ⟨"java/lang/Math", "min", "(JJ)J"⟩ ∈ lw_all) (hR0 : zR Z = zRm dp mc ms) (hdp : 1 ≤ dp) (hrm : (st.map fun v => v.category).sum ≤ 8) (hr : -9223372036854775808 ≤ a ∧ a < 9223372036854775808 ∧ -9223372036854775808 ≤ b ∧ b < 9223372036854775808) (d : decode cc pc = .ok (.invokestatic index, 3)) (k : GV own cc Z B Hb ws kc ks (pc + 3) L (jL (min a b) :: st)) : GV own cc Z B Hb ws kc ks pc L (jL b :: jL a :: st) :=
  fun C0 b9 H locs cells slots ls hU hP hD hS hc hs hL => va_mmin_long C0.1 C0.2.1 hL.1.symm C0.2.2.1 (C0.2.2.2.1 _ lnk) (C0.2.2.2.1 _ q2891) (C0.2.2.2.1 _ q138) (C0.2.2.2.1 _ q2892) (zR_fr hR0 hdp hrm).1 (zR_fr hR0 hdp hrm).2 (by omega) (by omega) d (by rw [z_lmin hr]; exact k C0 b9 H locs cells slots ls hU hP hD hS hc hs hL)
end MATH

