/-! THE JUDGEMENT GV: a frame at a pc with locals L and stack st, over owned cells ws; and its rows -/
set_option maxRecDepth 100000
abbrev jI (z : Int) : Value := .int (Int32.ofInt z)
abbrev jL (z : Int) : Value := .long (Int64.ofInt z)
abbrev ZE : Type := va_G × (Nat → ClassId) × (Nat → Nat)
def clA : List vw_C := [(RX3, TX3, 25), (RX1, TX1, 7), (RX2, TX2, 7), (RJ2, TJ2, 3), (RJ6, TJ6, 4), (RJ5, TJ5, 4), (RJ3, TJ3, 3), (RJ19, TJ19, 1), (RX15, TX15, 2), (RX16, TX16, 4), (RX17, TX17, 3), (RX19, TX19, 3), (RX20, TX20, 2), (RX21, TX21, 2), (RX22, TX22, 2), (RX23, TX23, 2), (RX4, TX4, 3), (RX5, TX5, 7), (RX6, TX6, 2), (RX7, TX7, 1), (RX8, TX8, 1), (RX9, TX9, 1), (RX10, TX10, 1), (RX11, TX11, 1), (RX13, TX13, 8), (RX14, TX14, 8), (RJ11, TJ11, 6), (RJ21, TJ21, 6), (RJ22, TJ22, 6), (RJ23, TJ23, 4), (RJ24, TJ24, 6), (RJ25, TJ25, 6), (RJ26, TJ26, 6), (RJ8, TJ8, 5)]
def ZK (ci : Nat) (C : String) (T : u_T) (N : Nat) (ty : Nat → FieldType) : Prop := clA[ci]? = some (C, T, N) ∧ (∀ w ∈ u_ws C T N, w ∈ lw_all) ∧ (∀ k, k < N → parseFieldDescriptor (T k).2.2.1 = some (ty k)) ∧ ∀ a, a < N → ∀ b, b < N → a ≠ b → (T a).2.1 ≠ (T b).2.1
theorem zk_X3 : ZK 0 RX3 TX3 25 tyX3 := ⟨rfl, in_X3, tyX3_ok, nmX3⟩
theorem zk_X1 : ZK 1 RX1 TX1 7 tyX1 := ⟨rfl, in_X1, tyX1_ok, nmX1⟩
theorem zk_X2 : ZK 2 RX2 TX2 7 tyX2 := ⟨rfl, in_X2, tyX2_ok, nmX2⟩
theorem zk_J2 : ZK 3 RJ2 TJ2 3 tyJ2 := ⟨rfl, in_J2, tyJ2_ok, nmJ2⟩
theorem zk_J6 : ZK 4 RJ6 TJ6 4 tyJ6 := ⟨rfl, in_J6, tyJ6_ok, nmJ6⟩
theorem zk_J5 : ZK 5 RJ5 TJ5 4 tyJ5 := ⟨rfl, in_J5, tyJ5_ok, nmJ5⟩
theorem zk_J3 : ZK 6 RJ3 TJ3 3 tyJ3 := ⟨rfl, in_J3, tyJ3_ok, nmJ3⟩
theorem zk_J19 : ZK 7 RJ19 TJ19 1 tyJ19 := ⟨rfl, in_J19, tyJ19_ok, nmJ19⟩
theorem zk_X15 : ZK 8 RX15 TX15 2 tyX15 := ⟨rfl, in_X15, tyX15_ok, nmX15⟩
theorem zk_X16 : ZK 9 RX16 TX16 4 tyX16 := ⟨rfl, in_X16, tyX16_ok, nmX16⟩
theorem zk_X17 : ZK 10 RX17 TX17 3 tyX17 := ⟨rfl, in_X17, tyX17_ok, nmX17⟩
theorem zk_X19 : ZK 11 RX19 TX19 3 tyX19 := ⟨rfl, in_X19, tyX19_ok, nmX19⟩
theorem zk_X20 : ZK 12 RX20 TX20 2 tyX20 := ⟨rfl, in_X20, tyX20_ok, nmX20⟩
theorem zk_X21 : ZK 13 RX21 TX21 2 tyX21 := ⟨rfl, in_X21, tyX21_ok, nmX21⟩
theorem zk_X22 : ZK 14 RX22 TX22 2 tyX22 := ⟨rfl, in_X22, tyX22_ok, nmX22⟩
theorem zk_X23 : ZK 15 RX23 TX23 2 tyX23 := ⟨rfl, in_X23, tyX23_ok, nmX23⟩
theorem zk_X4 : ZK 16 RX4 TX4 3 tyX4 := ⟨rfl, in_X4, tyX4_ok, nmX4⟩
theorem zk_X5 : ZK 17 RX5 TX5 7 tyX5 := ⟨rfl, in_X5, tyX5_ok, nmX5⟩
theorem zk_X6 : ZK 18 RX6 TX6 2 tyX6 := ⟨rfl, in_X6, tyX6_ok, nmX6⟩
theorem zk_X7 : ZK 19 RX7 TX7 1 tyX7 := ⟨rfl, in_X7, tyX7_ok, nmX7⟩
theorem zk_X8 : ZK 20 RX8 TX8 1 tyX8 := ⟨rfl, in_X8, tyX8_ok, nmX8⟩
theorem zk_X9 : ZK 21 RX9 TX9 1 tyX9 := ⟨rfl, in_X9, tyX9_ok, nmX9⟩
theorem zk_X10 : ZK 22 RX10 TX10 1 tyX10 := ⟨rfl, in_X10, tyX10_ok, nmX10⟩
theorem zk_X11 : ZK 23 RX11 TX11 1 tyX11 := ⟨rfl, in_X11, tyX11_ok, nmX11⟩
theorem zk_X13 : ZK 24 RX13 TX13 8 tyX13 := ⟨rfl, in_X13, tyX13_ok, nmX13⟩
theorem zk_X14 : ZK 25 RX14 TX14 8 tyX14 := ⟨rfl, in_X14, tyX14_ok, nmX14⟩
theorem zk_J11 : ZK 26 RJ11 TJ11 6 tyJ11 := ⟨rfl, in_J11, tyJ11_ok, nmJ11⟩
theorem zk_J21 : ZK 27 RJ21 TJ21 6 tyJ21 := ⟨rfl, in_J21, tyJ21_ok, nmJ21⟩
theorem zk_J22 : ZK 28 RJ22 TJ22 6 tyJ22 := ⟨rfl, in_J22, tyJ22_ok, nmJ22⟩
theorem zk_J23 : ZK 29 RJ23 TJ23 4 tyJ23 := ⟨rfl, in_J23, tyJ23_ok, nmJ23⟩
theorem zk_J24 : ZK 30 RJ24 TJ24 6 tyJ24 := ⟨rfl, in_J24, tyJ24_ok, nmJ24⟩
theorem zk_J25 : ZK 31 RJ25 TJ25 6 tyJ25 := ⟨rfl, in_J25, tyJ25_ok, nmJ25⟩
theorem zk_J26 : ZK 32 RJ26 TJ26 6 tyJ26 := ⟨rfl, in_J26, tyJ26_ok, nmJ26⟩
theorem zk_J8 : ZK 33 RJ8 TJ8 5 tyJ8 := ⟨rfl, in_J8, tyJ8_ok, nmJ8⟩
def zTys (E : ZE) : List (ClassId × FieldType) := [(E.2.1 0, .int), (E.2.1 1, .long), (E.2.1 2, .byte), (E.2.1 3, .double), (E.2.1 4, .object "java/lang/Object")]
def Un (B : Nat → Prop) (H H' : Heap) : Prop := H.size ≤ H'.size ∧ ∀ q : Nat, q < H.size → ¬ B q → H'[q]? = H[q]?
theorem Un.rf {B : Nat → Prop} {H : Heap} : Un B H H := ⟨Nat.le_refl _, fun _ _ _ => rfl⟩
theorem Un.trans {B : Nat → Prop} {H H1 H2 : Heap} (h1 : Un B H H1) (h2 : Un B H1 H2) : Un B H H2 := ⟨Nat.le_trans h1.1 h2.1, fun q a b => (h2.2 q (Nat.lt_of_lt_of_le a h1.1) b).trans (h1.2 q a b)⟩
theorem Un.mono {A B : Nat → Prop} {H H' : Heap} (h : Un A H H') (hAB : ∀ q, q < H.size → A q → B q) : Un B H H' := ⟨h.1, fun q a b => h.2 q a (fun c => b (hAB q a c))⟩
/-- how a frozen fact is taken along -/
def Tr (A : Nat → Prop) (U : State) (H : Heap) (A' : Nat → Prop) (U' : State) (H' : Heap) : Prop := U.vm.Alike U'.vm ∧ Un A H H' ∧ ∀ q : Nat, q < H.size → A' q → A q
theorem zO_tr {E : String} {t : Nat} {A A' : Nat → Prop} {U U' : State} {H H' : Heap} (h : va_O E t A U H) (r : Tr A U H A' U' H') : va_O E t A' U' H' := by
  obtain ⟨cell, h1, h2, h3, h4⟩ := h
  have hl : t < H.size := (Array.getElem?_eq_some_iff.mp h1).1
  exact ⟨cell, (r.2.1.2 t hl h4).trans h1, h2, by rw [r.1.findClass]; exact h3, fun q => h4 (r.2.2 t hl q)⟩
theorem zOF_tr {o n d : String} {v : Value} {t : Nat} {A A' : Nat → Prop} {U U' : State} {H H' : Heap} (h : va_OF o n d v t A U H) (r : Tr A U H A' U' H') : va_OF o n d v t A' U' H' := by
  have h' := va_OF.moved r.1 h
  obtain ⟨cf, k, i, f, cell, h1, h2, h3, h4, h5, h6⟩ := h'
  have hl : t < H.size := (Array.getElem?_eq_some_iff.mp h3).1
  exact ⟨cf, k, i, f, cell, h1, h2, (r.2.1.2 t hl h6).trans h3, h4, h5, fun q => h6 (r.2.2 t hl q)⟩
theorem zT_tr {ty : FieldType} {t N : Nat} {f : Nat → Value} {A A' : Nat → Prop} {U U' : State} {H H' : Heap} (h : va_T ty t N f A U H) (r : Tr A U H A' U' H') : va_T ty t N f A' U' H' := by
  obtain ⟨cell, h1, h2, h3, h4, h5, h6, h7⟩ := h
  have hl : t < H.size := (Array.getElem?_eq_some_iff.mp h1).1
  exact ⟨cell, (r.2.1.2 t hl h7).trans h1, State.isArrayOf_alike r.1 h2, h3, h4, h5, h6, fun q => h7 (r.2.2 t hl q)⟩
theorem zZ_tr {C n d : String} {v : Value} {A A' : Nat → Prop} {U U' : State} {H H' : Heap} (h : va_Z C n d v A U H) (r : Tr A U H A' U' H') : va_Z C n d v A' U' H' := by
  have h' := va_Z.moved r.1 h
  obtain ⟨cf, kf, fi, f, a, cell, h1, h2, h3, h4, h5, h6, h7, h8⟩ := h'
  have hl : a < H.size := (Array.getElem?_eq_some_iff.mp h5).1
  exact ⟨cf, kf, fi, f, a, cell, h1, h2, h3, h4, (r.2.1.2 a hl h8).trans h5, h6, h7, fun q => h8 (r.2.2 a hl q)⟩
theorem zZq_tr {C n d : String} {A A' : Nat → Prop} {U U' : State} {H H' : Heap} (h : va_Zq C n d A U H) (r : Tr A U H A' U' H') : va_Zq C n d A' U' H' := by
  rcases h with h | ⟨t, h⟩
  · exact Or.inl (zZ_tr h r)
  · exact Or.inr ⟨t, zZ_tr h r⟩
theorem zL_tr {C n d : String} {A A' : Nat → Prop} {U U' : State} {H H' : Heap} (h : vx_L C n d A U H) (r : Tr A U H A' U' H') : vx_L C n d A' U' H' := by
  have h' := vx_L.moved r.1 h
  obtain ⟨c, k, i, f, a, cell, h1, h2, h3, h4, h5, h6, h7, h8, h9, h10⟩ := h'
  have hl : a < H.size := (Array.getElem?_eq_some_iff.mp h5).1
  exact ⟨c, k, i, f, a, cell, h1, h2, h3, h4, (r.2.1.2 a hl h10).trans h5, h6, h7, h8, h9, fun q => h10 (r.2.2 a hl q)⟩
theorem zC_tr {ad : Nat → Nat} {A A' : Nat → Prop} {U U' : State} {H H' : Heap} (h : vb_C ad A U H) (r : Tr A U H A' U' H') : vb_C ad A' U' H' := ⟨fun k hk => zO_tr (h.1 k hk) r, fun i hi => zOF_tr (h.2 i hi) r⟩
/-- a text in Latin-1: its bytes -/
def zStr (a : Nat) (w : List Int) (A : Nat → Prop) (U : State) (H : Heap) : Prop := ∃ b : Nat, va_O "java/lang/String" a A U H ∧ va_OF "java/lang/String" "coder" "B" (jI 0) a A U H ∧ va_OF "java/lang/String" "value" "[B" (.ref b) a A U H ∧ va_T .byte b w.length (fun j => jI (w.getD j 0)) A U H
theorem zStr_tr {a : Nat} {w : List Int} {A A' : Nat → Prop} {U U' : State} {H H' : Heap} (h : zStr a w A U H) (r : Tr A U H A' U' H') : zStr a w A' U' H' := by
  obtain ⟨b, h1, h2, h3, h4⟩ := h
  exact ⟨b, zO_tr h1 r, zOF_tr h2 r, zOF_tr h3 r, zT_tr h4 r⟩
def zcs (t : String) : List Int := t.toList.map (fun c => (c.toNat : Int))
def zLit : List (String × Nat × String) := [("TranslationBureau$Tokens", 55, ""), ("TranslationBureau$Parser", 66, "price"), ("TranslationBureau$Parser", 72, "speed"), ("TranslationBureau$Parser", 74, "rush"), ("TranslationBureau$Parser", 76, "revise"), ("TranslationBureau$Parser", 78, "band"), ("TranslationBureau$Parser", 80, "person"), ("TranslationBureau$Parser", 82, "term"), ("TranslationBureau$Parser", 84, "job"), ("TranslationBureau$Parser", 86, "segment"),
  ("TranslationBureau", 392, ": "), ("TranslationBureau", 399, "say "), ("TranslationBureau", 408, " for "), ("TranslationBureau", 412, "unlike "), ("TranslationBureau", 417, "stale by "),
  ("TranslationBureauModel", 200, "band"), ("TranslationBureauModel", 205, "person"), ("TranslationBureauModel", 210, "term"), ("TranslationBureauModel", 215, "job"), ("TranslationBureauModel", 220, "segment"), ("TranslationBureauModel", 188, "price"), ("TranslationBureauModel", 194, "speed"), ("TranslationBureauModel", 196, "rush"), ("TranslationBureauModel", 198, "revise"), ("TranslationBureauModel", 432, ": "), ("TranslationBureauModel", 438, "say "), ("TranslationBureauModel", 440, " for "), ("TranslationBureauModel", 442, "unlike "), ("TranslationBureauModel", 444, "stale by ")]
def zKn (i : Nat) : String := ["END", "WORD", "NUMBER", "EQUALS", "SEMICOLON", "ILLEGAL"].getD i ""
/-- what is known of the statics and the constants: nobody writes them -/
def zBs (E : ZE) (A : Nat → Prop) (U : State) (H : Heap) : Prop :=
  ((∀ i : Nat, i < 6 → va_Z "TranslationBureau$Kind" (zKn i) "LTranslationBureau$Kind;" (.ref (E.2.2 i)) A U H) ∧ ∀ i j : Nat, i < 6 → j < 6 → E.2.2 i = E.2.2 j → i = j) ∧
  (va_Z "java/util/ArrayList" "DEFAULTCAPACITY_EMPTY_ELEMENTDATA" "[Ljava/lang/Object;" (.ref (E.2.2 6)) A U H ∧ va_T (.object "java/lang/Object") (E.2.2 6) 0 (fun _ => .null) A U H ∧ va_O "[Ljava/lang/Object;" (E.2.2 6) A U H) ∧
  (va_Z "java/lang/Integer$IntegerCache" "high" "I" (.int 127) A U H ∧ (∃ t : Nat, va_Z "java/lang/Integer$IntegerCache" "cache" "[Ljava/lang/Integer;" (.ref t) A U H ∧ va_T (.object "java/lang/Integer") t 256 (fun j => .ref (E.2.2 (1000 + j))) A U H) ∧ vb_C (fun j => E.2.2 (1000 + j)) A U H) ∧
  va_Z "java/lang/String" "COMPACT_STRINGS" "Z" (.int 1) A U H ∧
  ((va_Zq Bundle.tN "UNASSIGNED_STACK" Bundle.steD A U H ∧ vx_L Bundle.tN "UNASSIGNED_STACK" Bundle.steD A U H) ∧ (va_Zq Bundle.tN "SUPPRESSED_SENTINEL" Bundle.listD A U H ∧ vx_L Bundle.tN "SUPPRESSED_SENTINEL" Bundle.listD A U H)) ∧
  ((∃ t : Nat, va_Z "java/lang/Integer" "DigitOnes" "[B" (.ref t) A U H ∧ va_T .byte t 100 (fun j => jI (48 + (j % 10 : Nat))) A U H) ∧ (∃ t : Nat, va_Z "java/lang/Integer" "DigitTens" "[B" (.ref t) A U H ∧ va_T .byte t 100 (fun j => jI (48 + (j / 10 : Nat))) A U H)) ∧
  va_Zq "jdk/internal/util/Preconditions" "SIOOBE_FORMATTER" "Ljava/util/function/BiFunction;" A U H ∧
  (∀ (i : Nat) (q : String × Nat × String), zLit[i]? = some q → vk_R q.1 q.2.1 q.2.2 (E.2.2 (20 + i)) U ∧ zStr (E.2.2 (20 + i)) (zcs q.2.2) A U H) ∧
  (va_OF "java/lang/String" "hash" "I" (.int 0) (E.2.2 20) A U H ∧ va_OF "java/lang/String" "hashIsZero" "Z" (.int 1) (E.2.2 20) A U H)
theorem zBs_tr {E : ZE} {A A' : Nat → Prop} {U U' : State} {H H' : Heap} (h : zBs E A U H) (hW : U.WarmedH U'.vm) (r : Tr A U H A' U' H') : zBs E A' U' H' := by
  obtain ⟨⟨a1, a2⟩, ⟨b1, b2, b3⟩, ⟨c1, ⟨t, c2, c3⟩, c4⟩, d1, ⟨⟨e1, e2⟩, e3, e4⟩, ⟨⟨t1, f1, f2⟩, t2, f3, f4⟩, g1, l1, m1, m2⟩ := h
  exact ⟨⟨fun i hi => zZ_tr (a1 i hi) r, a2⟩, ⟨zZ_tr b1 r, zT_tr b2 r, zO_tr b3 r⟩, ⟨zZ_tr c1 r, ⟨t, zZ_tr c2 r, zT_tr c3 r⟩, zC_tr c4 r⟩, zZ_tr d1 r, ⟨⟨zZq_tr e1 r, zL_tr e2 r⟩, zZq_tr e3 r, zL_tr e4 r⟩, ⟨⟨t1, zZ_tr f1 r, zT_tr f2 r⟩, t2, zZ_tr f3 r, zT_tr f4 r⟩, zZq_tr g1 r, fun i q hq => ⟨vk_R.warm hW (l1 i q hq).1, zStr_tr (l1 i q hq).2 r⟩, zOF_tr m1 r, zOF_tr m2 r⟩
def zkind : Cond → Bool
  | .fieldLinkNest .. => true
  | .methodLinkNest .. => true
  | .castable .. => true
  | .declares .. => true
  | .arrayOver (.object _) => true
  | _ => false
/-- the tables' words that don't ride in the lists -/
def zGW (U : State) : Prop := ∀ w ∈ lw_tbl, zkind w = true → va_Nw w U
theorem zGW_warm {s U : State} (hW : s.WarmedH U.vm) (h : zGW s) : zGW U := by
  intro w hw hk
  have h1 := h w hw hk
  cases w with
  | fieldLinkNest a b c d e => exact va_Nw.warmF hW h1
  | methodLinkNest a b c d => exact va_Nw.warmM hW h1
  | castable a b => exact va_Nw.warmC hW h1
  | declares a => exact va_Nw.warmD hW h1
  | arrayOver t => cases t with
    | object C => exact va_AO.moved (C := C) hW.alike h1
    | _ => simp [zkind] at hk
  | _ => simp [zkind] at hk
def zFc : List (String × MethodName × MethodName) := [("java/util/ArrayList", ⟨"java/util/List", "size", "()I"⟩, yJ2_size), ("java/util/ArrayList", ⟨"java/util/List", "get", "(I)Ljava/lang/Object;"⟩, yJ2_get), ("TranslationBureau$Office$JobSegments$1", ⟨"java/util/Iterator", "hasNext", "()Z"⟩, ⟨"TranslationBureau$Office$JobSegments$1", "hasNext", "()Z"⟩), ("TranslationBureau$Office$JobSegments$1", ⟨"java/util/Iterator", "next", "()Ljava/lang/Object;"⟩, ⟨"TranslationBureau$Office$JobSegments$1", "next", "()Ljava/lang/Object;"⟩),
  ("TranslationBureau$Parser$1", ⟨"TranslationBureau$Statement", "read", "()V"⟩, ⟨"TranslationBureau$Parser$1", "read", "()V"⟩), ("TranslationBureau$Parser$2", ⟨"TranslationBureau$Statement", "read", "()V"⟩, ⟨"TranslationBureau$Parser$2", "read", "()V"⟩), ("TranslationBureau$Parser$3", ⟨"TranslationBureau$Statement", "read", "()V"⟩, ⟨"TranslationBureau$Parser$3", "read", "()V"⟩), ("TranslationBureau$Parser$4", ⟨"TranslationBureau$Statement", "read", "()V"⟩, ⟨"TranslationBureau$Parser$4", "read", "()V"⟩), ("TranslationBureau$Parser$5", ⟨"TranslationBureau$Statement", "read", "()V"⟩, ⟨"TranslationBureau$Parser$5", "read", "()V"⟩), ("TranslationBureau$Parser$6", ⟨"TranslationBureau$Statement", "read", "()V"⟩, ⟨"TranslationBureau$Parser$6", "read", "()V"⟩),
  ("java/util/ArrayList", ⟨"java/util/List", "indexOf", "(Ljava/lang/Object;)I"⟩, yJ2_indexOf), ("java/util/ArrayList", ⟨"java/util/List", "add", "(Ljava/lang/Object;)Z"⟩, yJ2_add), ("java/util/ArrayList", ⟨"java/util/List", "isEmpty", "()Z"⟩, yJ2_isEmpty), ("java/util/ArrayList", ⟨"java/util/List", "addAll", "(Ljava/util/Collection;)Z"⟩, yJ2_addAll), ("java/util/ArrayList", ⟨"java/util/Collection", "toArray", "()[Ljava/lang/Object;"⟩, yJ2_toArray), ("java/util/ArrayList", ⟨"java/util/List", "equals", "(Ljava/lang/Object;)Z"⟩, yJ2_equals), ("java/util/ArrayList", ⟨"java/util/List", "remove", "(I)Ljava/lang/Object;"⟩, yJ2_remove), ("java/util/ArrayList", ⟨"java/util/List", "clear", "()V"⟩, yJ2_clear), ("java/util/ArrayList", ⟨"java/util/List", "add", "(ILjava/lang/Object;)V"⟩, yJ2_add_3), ("java/util/ArrayList", ⟨"java/util/List", "set", "(ILjava/lang/Object;)Ljava/lang/Object;"⟩, yJ2_set)]
theorem zFc_ne : ∀ q ∈ zFc, q.2.1.cls ≠ "java/lang/invoke/MethodHandle" ∧ q.2.1.cls ≠ "java/lang/invoke/VarHandle" := by decide +kernel
def zGF (U : State) : Prop := ∀ q ∈ zFc, va_Fw q.1 q.2.1 q.2.2 U
theorem zGF_warm {s U : State} (hW : s.WarmedH U.vm) (h : zGF s) : zGF U := fun q hq => va_Fw.moved (zFc_ne q hq) hW.alike (h q hq)
def zNcl : List (String × String) := [("TranslationBureau$Unlike", "TranslationBureau$Missing"), ("TranslationBureau$Stale", "TranslationBureau$Missing"), ("TranslationBureau$Stale", "TranslationBureau$Unlike"), ("java/lang/IllegalArgumentException", "java/lang/IndexOutOfBoundsException"), ("java/lang/IllegalStateException", "java/lang/IndexOutOfBoundsException"), ("java/lang/IllegalStateException", "java/lang/IllegalArgumentException"), ("java/util/NoSuchElementException", "java/lang/IndexOutOfBoundsException"), ("TranslationBureau$Misfit", "TranslationBureau$SyntaxError")]
def zWd (E : ZE) (U : State) : Prop := va_K E.1 clA (zTys E) U ∧ zGW U ∧ zGF U ∧ (∀ q ∈ zNcl, va_Nc q.1 q.2 U) ∧ va_Mi "java/util/ArrayList" (E.2.2 7) U ∧ va_Mi "[Ljava/lang/Object;" (E.2.2 8) U
theorem zWd_warm {E : ZE} {s U : State} (hW : s.WarmedH U.vm) (h : zWd E s) : zWd E U := ⟨va_K.moved hW.alike h.1, zGW_warm hW h.2.1, zGF_warm hW h.2.2.1, fun q hq => va_Nc.moved hW.alike (h.2.2.2.1 q hq), va_Mi.moved hW.alike h.2.2.2.2.1, va_Mi.moved hW.alike h.2.2.2.2.2⟩
/-- the locals -/
def LH (ls : Array Slot) (n : Nat) (L : List (Option Value)) : Prop := ls.size = n ∧ lv_wf ls ∧ ∀ (i : Nat) (v : Value), L[i]? = some (some v) → ls[i]? = some (.val v)
theorem LH.at {ls : Array Slot} {n : Nat} {L : List (Option Value)} (h : LH ls n L) {i : Nat} {v : Value} (hi : L[i]? = some (some v)) : ls[i]? = some (.val v) := h.2.2 i v hi
def zc1 : Option Value → Bool
  | none => true
  | some v => v.category == 1
/-- the listed locals as pairs -/
def zlv (L : List (Option Value)) : List (Nat × Value) := (List.range L.length).filterMap (fun i => (L.getD i none).map (fun v => (i, v)))
theorem zlv_mem {L : List (Option Value)} {i : Nat} {v : Value} : (i, v) ∈ zlv L ↔ L[i]? = some (some v) := by
  simp only [zlv, List.mem_filterMap, List.mem_range, Option.map_eq_some_iff, Prod.mk.injEq]
  constructor
  · rintro ⟨a, h1, b, h2, rfl, rfl⟩
    rw [List.getD_eq_getElem?_getD] at h2
    rw [List.getElem?_eq_getElem h1] at h2 ⊢
    simpa using h2
  · intro h
    have hl : i < L.length := (List.getElem?_eq_some_iff.mp h).1
    exact ⟨i, hl, v, by rw [List.getD_eq_getElem?_getD, h]; rfl, rfl, rfl⟩
theorem LH.has {ls : Array Slot} {n : Nat} {L : List (Option Value)} (h : LH ls n L) : lv_has ls n (zlv L) := ⟨h.1, h.2.1, fun q hq => h.2.2 q.1 q.2 (zlv_mem.mp hq)⟩
theorem LH.of1 {ls : Array Slot} {n i : Nat} {v : Value} {L : List (Option Value)} (h : lv_has ls n ((i, v) :: (zlv L).filter (fun q => !(q.1 == i) && !(q.1 + 1 == i && q.2.category == 2)))) (hp : ∀ j, j + 1 = i → zc1 (L.getD j none) = true) : LH ls n (L.set i (some v)) := by
  refine ⟨h.1, h.2.1, fun j w hj => ?_⟩
  rw [List.getElem?_set] at hj
  by_cases e : i = j
  · subst e
    rw [if_pos rfl] at hj
    split at hj
    · cases hj; exact h.2.2 _ List.mem_cons_self
    · cases hj
  · rw [if_neg e] at hj
    refine h.2.2 (j, w) (List.mem_cons_of_mem _ (List.mem_filter.mpr ⟨zlv_mem.mpr hj, ?_⟩))
    have h1 : (j == i) = false := by simpa using fun q => e q.symm
    simp only [h1, Bool.not_false, Bool.true_and, Bool.not_eq_true', Bool.and_eq_false_iff, beq_eq_false_iff_ne, ne_eq]
    by_cases e2 : j + 1 = i
    · right
      have h2 := hp j e2
      rw [List.getD_eq_getElem?_getD, hj] at h2
      intro hc
      simp [zc1, hc] at h2
    · exact Or.inl e2
theorem LH.of2 {ls : Array Slot} {n i : Nat} {v : Value} {L : List (Option Value)} (h : lv_has ls n ((i, v) :: (zlv L).filter (fun q => !(q.1 == i) && (!(q.1 == i + 1) && !(q.1 + 1 == i && q.2.category == 2))))) (hp : ∀ j, j + 1 = i → zc1 (L.getD j none) = true) : LH ls n ((L.set i (some v)).set (i + 1) none) := by
  refine ⟨h.1, h.2.1, fun j w hj => ?_⟩
  rw [List.getElem?_set] at hj
  by_cases e0 : i + 1 = j
  · rw [if_pos e0] at hj
    split at hj <;> cases hj
  rw [if_neg e0, List.getElem?_set] at hj
  by_cases e : i = j
  · subst e
    rw [if_pos rfl] at hj
    split at hj
    · cases hj; exact h.2.2 _ List.mem_cons_self
    · cases hj
  · rw [if_neg e] at hj
    refine h.2.2 (j, w) (List.mem_cons_of_mem _ (List.mem_filter.mpr ⟨zlv_mem.mpr hj, ?_⟩))
    have h1 : (j == i) = false := by simpa using fun q => e q.symm
    have h0 : (j == i + 1) = false := by simpa using fun q => e0 q.symm
    simp only [h1, h0, Bool.not_false, Bool.true_and, Bool.not_eq_true', Bool.and_eq_false_iff, beq_eq_false_iff_ne, ne_eq]
    by_cases e2 : j + 1 = i
    · right
      have h2 := hp j e2
      rw [List.getD_eq_getElem?_getD, hj] at h2
      intro hc
      simp [zc1, hc] at h2
    · exact Or.inl e2
theorem LH.weak {ls : Array Slot} {n : Nat} {L L' : List (Option Value)} (h : LH ls n L) (hL : ∀ (i : Nat) (v : Value), L'[i]? = some (some v) → L[i]? = some (some v)) : LH ls n L' := ⟨h.1, h.2.1, fun i v hi => h.2.2 i v (hL i v hi)⟩
/-- an activation -/
abbrev ZT : Type := Launch × Program × Env × Room × State × MethodId × Array Value × List Frame × Method × Code × ZE × (Nat → Prop) × (Option Value → State → State → Prop) × (Nat → String → State → State → Prop) × Option FieldType
abbrev zl (Z : ZT) : Launch := Z.1
abbrev zp (Z : ZT) : Program := Z.2.1
abbrev ze (Z : ZT) : Env := Z.2.2.1
abbrev zR (Z : ZT) : Room := Z.2.2.2.1
abbrev zs (Z : ZT) : State := Z.2.2.2.2.1
abbrev zm (Z : ZT) : MethodId := Z.2.2.2.2.2.1
abbrev za (Z : ZT) : Array Value := Z.2.2.2.2.2.2.1
abbrev zb (Z : ZT) : List Frame := Z.2.2.2.2.2.2.2.1
abbrev zme (Z : ZT) : Method := Z.2.2.2.2.2.2.2.2.1
abbrev zc (Z : ZT) : Code := Z.2.2.2.2.2.2.2.2.2.1
abbrev zE (Z : ZT) : ZE := Z.2.2.2.2.2.2.2.2.2.2.1
abbrev zA (Z : ZT) : Nat → Prop := Z.2.2.2.2.2.2.2.2.2.2.2.1
abbrev zPo (Z : ZT) : Option Value → State → State → Prop := Z.2.2.2.2.2.2.2.2.2.2.2.2.1
abbrev zXc (Z : ZT) : Nat → String → State → State → Prop := Z.2.2.2.2.2.2.2.2.2.2.2.2.2.1
abbrev zrt (Z : ZT) : Option FieldType := Z.2.2.2.2.2.2.2.2.2.2.2.2.2.2
def zQc (A : Nat → Prop) (Post : Option Value → State → State → Prop) : Array Value → State → Outcome → State → Prop := fun _ st o t => ∃ r : Option Value, o = .returned r ∧ Post r st t ∧ Un A st.heap t.heap
def zQx (A : Nat → Prop) (Px : Nat → String → State → State → Prop) : Addr → String → State → State → Prop := fun q E st t => Px q E st t ∧ Un A st.heap t.heap
def zQ (Z : ZT) : State → Prop := vx_MQ (zb Z) (zQc (zA Z) (zPo Z)) (zQx (zA Z) (zXc Z)) (za Z) (zs Z) (zR Z).cells (zR Z).slots (zA Z)
/-- what holds all through an activation -/
def Cx (own : String) (cc : ByteArray) (Z : ZT) : Prop := (zp Z).tables.exec = Jvm.exec ∧ (zc Z).code = cc ∧ (zs Z).vm.findClass own = some (zm Z).cls ∧ (∀ w ∈ lw_all, w.before (za Z) (zs Z) = true) ∧ (zme Z).locks = false ∧ (zme Z).sig.returnType = zrt Z ∧ (zl Z).stackTraces = false ∧ zWd (zE Z) (zs Z) ∧ zBs (zE Z) (zA Z) (zs Z) (zs Z).heap ∧ ∀ q : Nat, (zs Z).heap.size ≤ q → zA Z q
/-- the baseline: B is what may be written behind Hb -/
def Bx (Z : ZT) (B : Nat → Prop) (Hb : Heap) : Prop := (∀ q, B q → zA Z q) ∧ (∀ q : Nat, Hb.size ≤ q → B q) ∧ Un (zA Z) (zs Z).heap Hb
def GV (own : String) (cc : ByteArray) (Z : ZT) (B : Nat → Prop) (Hb : Heap) (ws : va_W) (kc ks pc : Nat) (L : List (Option Value)) (st : List Value) : Prop :=
  Cx own cc Z → Bx Z B Hb → ∀ (H : Heap) (locs : List Loc) (cells slots : Nat) (ls : Array Slot), Un B Hb H → va_P (zE Z).1 clA ws H → va_D B ws → va_S (zA Z) (zs Z).heap H locs → cells + kc ≤ (zR Z).cells → slots + ks ≤ (zR Z).slots → LH ls (zc Z).maxLocals L →
    W (zp Z) (zl Z) (ze Z) (zR Z) (zs Z) (zm Z) (za Z) (zb Z) (zme Z) (zc Z) H locs cells slots (zQ Z) (F0 (zm Z) pc ls st)
/-- the same, when the cell at q has been thrown -/
def GX (own : String) (cc : ByteArray) (Z : ZT) (B : Nat → Prop) (Hb : Heap) (ws : va_W) (kc ks pc : Nat) (L : List (Option Value)) (q : Nat) (E : String) : Prop :=
  Cx own cc Z → Bx Z B Hb → ∀ (H : Heap) (locs : List Loc) (cells slots : Nat) (ls : Array Slot) (ce : Cell) (st : List Value), Un B Hb H → va_P (zE Z).1 clA ws H → va_D B ws → va_S (zA Z) (zs Z).heap H locs → cells + kc ≤ (zR Z).cells → slots + ks ≤ (zR Z).slots → LH ls (zc Z).maxLocals L →
    H[q]? = some ce → ce.vm = .none → (zs Z).vm.findClass E = some ce.cls →
    vx_W (zp Z) (zl Z) (ze Z) (zR Z) (zs Z) (zm Z) (za Z) (zb Z) (zme Z) (zc Z) H locs cells slots (zQ Z) (F0 (zm Z) pc ls st) q
