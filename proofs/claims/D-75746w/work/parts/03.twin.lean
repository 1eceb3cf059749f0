/-! TranslationBureauModel -/
set_option maxRecDepth 100000
def RX3 : String := "TranslationBureauModel"
def TX3 : u_T := fun k => match k with
  | 0 => ("TranslationBureauModel", "s", "[J", true)
  | 1 => ("TranslationBureauModel", "aside", "[J", true)
  | 2 => ("TranslationBureauModel", "later", "[J", true)
  | 3 => ("TranslationBureauModel", "history", "[J", true)
  | 4 => ("TranslationBureauModel", "edits", "I", false)
  | 5 => ("TranslationBureauModel", "thrown", "I", false)
  | 6 => ("TranslationBureauModel", "buffer", "[I", true)
  | 7 => ("TranslationBureauModel", "buffered", "I", false)
  | 8 => ("TranslationBureauModel", "errorKind", "I", false)
  | 9 => ("TranslationBureauModel", "errorPosition", "I", false)
  | 10 => ("TranslationBureauModel", "length", "I", false)
  | 11 => ("TranslationBureauModel", "start", "I", false)
  | 12 => ("TranslationBureauModel", "next", "I", false)
  | 13 => ("TranslationBureauModel", "token", "I", false)
  | 14 => ("TranslationBureauModel", "value", "I", false)
  | 15 => ("TranslationBureauModel", "word", "J", false)
  | 16 => ("TranslationBureauModel", "kind", "I", false)
  | 17 => ("TranslationBureauModel", "position", "I", false)
  | 18 => ("TranslationBureauModel", "steps", "[I", true)
  | 19 => ("TranslationBureauModel", "byBands", "[I", true)
  | 20 => ("TranslationBureauModel", "found", "[I", true)
  | 21 => ("TranslationBureauModel", "foundMany", "I", false)
  | 22 => ("TranslationBureauModel", "taken", "[J", true)
  | 23 => ("TranslationBureauModel", "output", "[I", true)
  | _ => ("TranslationBureauModel", "outputLength", "I", false)
def tyX3 : Nat → FieldType := fun k => match k with
  | 0 => .array .long
  | 1 => .array .long
  | 2 => .array .long
  | 3 => .array .long
  | 4 => .int
  | 5 => .int
  | 6 => .array .int
  | 7 => .int
  | 8 => .int
  | 9 => .int
  | 10 => .int
  | 11 => .int
  | 12 => .int
  | 13 => .int
  | 14 => .int
  | 15 => .long
  | 16 => .int
  | 17 => .int
  | 18 => .array .int
  | 19 => .array .int
  | 20 => .array .int
  | 21 => .int
  | 22 => .array .long
  | 23 => .array .int
  | _ => .int
abbrev wsX30 : List Cond := u_ws RX3 TX3 25
set_option maxRecDepth 100000 in
theorem nmX3 : ∀ a, a < 25 → ∀ b, b < 25 → a ≠ b → (TX3 a).2.1 ≠ (TX3 b).2.1 := by decide +kernel
set_option maxRecDepth 100000 in
theorem tyX3_ok : ∀ k, k < 25 → parseFieldDescriptor (TX3 k).2.2.1 = some (tyX3 k) := by decide +kernel
abbrev cX3_init : ByteArray := prog_26_method_1_code
def yX3_init : MethodName := ⟨RX3, "<init>", "()V"⟩
def dkwX3_init_4 : List UInt8 := [42, 182, 0, 45, 177]
abbrev dktX3_init_4 : List UInt8 := dkwX3_init_4 ++ []
def dkwX3_init_3 : List UInt8 := [17, 7, 8, 188, 10, 181, 0, 36, 42, 16, 19, 188, 11, 181, 0, 39, 42, 16, 60, 188, 10, 181, 0, 42]
abbrev dktX3_init_3 : List UInt8 := dkwX3_init_3 ++ dktX3_init_4
def dkwX3_init_2 : List UInt8 := [181, 0, 22, 42, 2, 181, 0, 26, 42, 16, 9, 188, 10, 181, 0, 30, 42, 8, 188, 10, 181, 0, 33, 42]
abbrev dktX3_init_2 : List UInt8 := dkwX3_init_2 ++ dktX3_init_3
def dkwX3_init_1 : List UInt8 := [17, 1, 191, 188, 11, 181, 0, 16, 42, 17, 17, 118, 188, 11, 181, 0, 19, 42, 17, 3, 132, 188, 10]
abbrev dktX3_init_1 : List UInt8 := dkwX3_init_1 ++ dktX3_init_2
def dkwX3_init_0 : List UInt8 := [42, 183, 0, 1, 42, 17, 1, 191, 188, 11, 181, 0, 7, 42, 17, 1, 191, 188, 11, 181, 0, 13, 42]
abbrev dktX3_init_0 : List UInt8 := dkwX3_init_0 ++ dktX3_init_1
theorem dksX3_init_0 : cX3_init.data.toList.drop 0 = dktX3_init_0 := by decide +kernel
theorem dksX3_init_1 : cX3_init.data.toList.drop 23 = dktX3_init_1 := dk_seg dksX3_init_0 23 rfl rfl
theorem dksX3_init_2 : cX3_init.data.toList.drop 46 = dktX3_init_2 := dk_seg dksX3_init_1 23 rfl rfl
theorem dksX3_init_3 : cX3_init.data.toList.drop 70 = dktX3_init_3 := dk_seg dksX3_init_2 24 rfl rfl
theorem dksX3_init_4 : cX3_init.data.toList.drop 94 = dktX3_init_4 := dk_seg dksX3_init_3 24 rfl rfl
theorem dX3_init_0 : decode cX3_init 0 = .ok (.aload_n 0, 1) := dk_42 (dk_at dksX3_init_0 0 rfl rfl)
theorem dX3_init_1 : decode cX3_init 1 = .ok (.invokespecial 1, 3) := dk_183 0 1 (dk_at dksX3_init_0 1 rfl rfl)
theorem dX3_init_4 : decode cX3_init 4 = .ok (.aload_n 0, 1) := dk_42 (dk_at dksX3_init_0 4 rfl rfl)
theorem dX3_init_5 : decode cX3_init 5 = .ok (.sipush 447, 3) := dk_17 1 191 (dk_at dksX3_init_0 5 rfl rfl)
theorem dX3_init_8 : decode cX3_init 8 = .ok (.newarray .long, 2) := dk_188_11 (dk_at dksX3_init_0 8 rfl rfl)
theorem dX3_init_10 : decode cX3_init 10 = .ok (.putfield 7, 3) := dk_181 0 7 (dk_at dksX3_init_0 10 rfl rfl)
theorem dX3_init_13 : decode cX3_init 13 = .ok (.aload_n 0, 1) := dk_42 (dk_at dksX3_init_0 13 rfl rfl)
theorem dX3_init_14 : decode cX3_init 14 = .ok (.sipush 447, 3) := dk_17 1 191 (dk_at dksX3_init_0 14 rfl rfl)
theorem dX3_init_17 : decode cX3_init 17 = .ok (.newarray .long, 2) := dk_188_11 (dk_at dksX3_init_0 17 rfl rfl)
theorem dX3_init_19 : decode cX3_init 19 = .ok (.putfield 13, 3) := dk_181 0 13 (dk_at dksX3_init_0 19 rfl rfl)
theorem dX3_init_22 : decode cX3_init 22 = .ok (.aload_n 0, 1) := dk_42 (dk_at dksX3_init_0 22 rfl rfl)
theorem dX3_init_23 : decode cX3_init 23 = .ok (.sipush 447, 3) := dk_17 1 191 (dk_at dksX3_init_1 0 rfl rfl)
theorem dX3_init_26 : decode cX3_init 26 = .ok (.newarray .long, 2) := dk_188_11 (dk_at dksX3_init_1 3 rfl rfl)
theorem dX3_init_28 : decode cX3_init 28 = .ok (.putfield 16, 3) := dk_181 0 16 (dk_at dksX3_init_1 5 rfl rfl)
theorem dX3_init_31 : decode cX3_init 31 = .ok (.aload_n 0, 1) := dk_42 (dk_at dksX3_init_1 8 rfl rfl)
theorem dX3_init_32 : decode cX3_init 32 = .ok (.sipush 4470, 3) := dk_17 17 118 (dk_at dksX3_init_1 9 rfl rfl)
theorem dX3_init_35 : decode cX3_init 35 = .ok (.newarray .long, 2) := dk_188_11 (dk_at dksX3_init_1 12 rfl rfl)
theorem dX3_init_37 : decode cX3_init 37 = .ok (.putfield 19, 3) := dk_181 0 19 (dk_at dksX3_init_1 14 rfl rfl)
theorem dX3_init_40 : decode cX3_init 40 = .ok (.aload_n 0, 1) := dk_42 (dk_at dksX3_init_1 17 rfl rfl)
theorem dX3_init_41 : decode cX3_init 41 = .ok (.sipush 900, 3) := dk_17 3 132 (dk_at dksX3_init_1 18 rfl rfl)
theorem dX3_init_44 : decode cX3_init 44 = .ok (.newarray .int, 2) := dk_188_10 (dk_at dksX3_init_1 21 rfl rfl)
theorem dX3_init_46 : decode cX3_init 46 = .ok (.putfield 22, 3) := dk_181 0 22 (dk_at dksX3_init_2 0 rfl rfl)
theorem dX3_init_49 : decode cX3_init 49 = .ok (.aload_n 0, 1) := dk_42 (dk_at dksX3_init_2 3 rfl rfl)
theorem dX3_init_50 : decode cX3_init 50 = .ok (.iconst (-1), 1) := dk_2 (dk_at dksX3_init_2 4 rfl rfl)
theorem dX3_init_51 : decode cX3_init 51 = .ok (.putfield 26, 3) := dk_181 0 26 (dk_at dksX3_init_2 5 rfl rfl)
theorem dX3_init_54 : decode cX3_init 54 = .ok (.aload_n 0, 1) := dk_42 (dk_at dksX3_init_2 8 rfl rfl)
theorem dX3_init_55 : decode cX3_init 55 = .ok (.bipush 9, 2) := dk_16 9 (dk_at dksX3_init_2 9 rfl rfl)
theorem dX3_init_57 : decode cX3_init 57 = .ok (.newarray .int, 2) := dk_188_10 (dk_at dksX3_init_2 11 rfl rfl)
theorem dX3_init_59 : decode cX3_init 59 = .ok (.putfield 30, 3) := dk_181 0 30 (dk_at dksX3_init_2 13 rfl rfl)
theorem dX3_init_62 : decode cX3_init 62 = .ok (.aload_n 0, 1) := dk_42 (dk_at dksX3_init_2 16 rfl rfl)
theorem dX3_init_63 : decode cX3_init 63 = .ok (.iconst 5, 1) := dk_8 (dk_at dksX3_init_2 17 rfl rfl)
theorem dX3_init_64 : decode cX3_init 64 = .ok (.newarray .int, 2) := dk_188_10 (dk_at dksX3_init_2 18 rfl rfl)
theorem dX3_init_66 : decode cX3_init 66 = .ok (.putfield 33, 3) := dk_181 0 33 (dk_at dksX3_init_2 20 rfl rfl)
theorem dX3_init_69 : decode cX3_init 69 = .ok (.aload_n 0, 1) := dk_42 (dk_at dksX3_init_2 23 rfl rfl)
theorem dX3_init_70 : decode cX3_init 70 = .ok (.sipush 1800, 3) := dk_17 7 8 (dk_at dksX3_init_3 0 rfl rfl)
theorem dX3_init_73 : decode cX3_init 73 = .ok (.newarray .int, 2) := dk_188_10 (dk_at dksX3_init_3 3 rfl rfl)
theorem dX3_init_75 : decode cX3_init 75 = .ok (.putfield 36, 3) := dk_181 0 36 (dk_at dksX3_init_3 5 rfl rfl)
theorem dX3_init_78 : decode cX3_init 78 = .ok (.aload_n 0, 1) := dk_42 (dk_at dksX3_init_3 8 rfl rfl)
theorem dX3_init_79 : decode cX3_init 79 = .ok (.bipush 19, 2) := dk_16 19 (dk_at dksX3_init_3 9 rfl rfl)
theorem dX3_init_81 : decode cX3_init 81 = .ok (.newarray .long, 2) := dk_188_11 (dk_at dksX3_init_3 11 rfl rfl)
theorem dX3_init_83 : decode cX3_init 83 = .ok (.putfield 39, 3) := dk_181 0 39 (dk_at dksX3_init_3 13 rfl rfl)
theorem dX3_init_86 : decode cX3_init 86 = .ok (.aload_n 0, 1) := dk_42 (dk_at dksX3_init_3 16 rfl rfl)
theorem dX3_init_87 : decode cX3_init 87 = .ok (.bipush 60, 2) := dk_16 60 (dk_at dksX3_init_3 17 rfl rfl)
theorem dX3_init_89 : decode cX3_init 89 = .ok (.newarray .int, 2) := dk_188_10 (dk_at dksX3_init_3 19 rfl rfl)
theorem dX3_init_91 : decode cX3_init 91 = .ok (.putfield 42, 3) := dk_181 0 42 (dk_at dksX3_init_3 21 rfl rfl)
theorem dX3_init_94 : decode cX3_init 94 = .ok (.aload_n 0, 1) := dk_42 (dk_at dksX3_init_4 0 rfl rfl)
theorem dX3_init_95 : decode cX3_init 95 = .ok (.invokevirtual 45, 3) := dk_182 0 45 (dk_at dksX3_init_4 1 rfl rfl)
theorem dX3_init_98 : decode cX3_init 98 = .ok (.return_, 1) := dk_177 (dk_at dksX3_init_4 4 rfl rfl)
abbrev cX3_begins : ByteArray := prog_26_method_3_code
def yX3_begins : MethodName := ⟨RX3, "begins", "()V"⟩
def dkwX3_begins_4 : List UInt8 := [132, 1, 1, 167, 255, 230, 177]
abbrev dktX3_begins_4 : List UInt8 := dkwX3_begins_4 ++ []
def dkwX3_begins_3 : List UInt8 := [27, 8, 162, 0, 27, 42, 180, 0, 7, 7, 27, 96, 20, 0, 59, 20, 0, 55, 27, 133, 105, 101, 80]
abbrev dktX3_begins_3 : List UInt8 := dkwX3_begins_3 ++ dktX3_begins_4
def dkwX3_begins_2 : List UInt8 := [20, 0, 55, 80, 42, 180, 0, 7, 6, 20, 0, 57, 80, 42, 180, 0, 7, 7, 20, 0, 59, 80, 4, 60]
abbrev dktX3_begins_2 : List UInt8 := dkwX3_begins_2 ++ dktX3_begins_3
def dkwX3_begins_1 : List UInt8 := [180, 0, 7, 3, 20, 0, 51, 80, 42, 180, 0, 7, 4, 20, 0, 53, 80, 42, 180, 0, 7, 5]
abbrev dktX3_begins_1 : List UInt8 := dkwX3_begins_1 ++ dktX3_begins_2
def dkwX3_begins_0 : List UInt8 := [3, 60, 27, 17, 1, 191, 162, 0, 16, 42, 180, 0, 7, 27, 9, 80, 132, 1, 1, 167, 255, 239, 42]
abbrev dktX3_begins_0 : List UInt8 := dkwX3_begins_0 ++ dktX3_begins_1
theorem dksX3_begins_0 : cX3_begins.data.toList.drop 0 = dktX3_begins_0 := by decide +kernel
theorem dksX3_begins_1 : cX3_begins.data.toList.drop 23 = dktX3_begins_1 := dk_seg dksX3_begins_0 23 rfl rfl
theorem dksX3_begins_2 : cX3_begins.data.toList.drop 45 = dktX3_begins_2 := dk_seg dksX3_begins_1 22 rfl rfl
theorem dksX3_begins_3 : cX3_begins.data.toList.drop 69 = dktX3_begins_3 := dk_seg dksX3_begins_2 24 rfl rfl
theorem dksX3_begins_4 : cX3_begins.data.toList.drop 92 = dktX3_begins_4 := dk_seg dksX3_begins_3 23 rfl rfl
theorem dX3_begins_0 : decode cX3_begins 0 = .ok (.iconst 0, 1) := dk_3 (dk_at dksX3_begins_0 0 rfl rfl)
theorem dX3_begins_1 : decode cX3_begins 1 = .ok (.istore_n 1, 1) := dk_60 (dk_at dksX3_begins_0 1 rfl rfl)
theorem dX3_begins_2 : decode cX3_begins 2 = .ok (.iload_n 1, 1) := dk_27 (dk_at dksX3_begins_0 2 rfl rfl)
theorem dX3_begins_3 : decode cX3_begins 3 = .ok (.sipush 447, 3) := dk_17 1 191 (dk_at dksX3_begins_0 3 rfl rfl)
theorem dX3_begins_6 : decode cX3_begins 6 = .ok (.if_icmp .ge 16, 3) := dk_162 0 16 (dk_at dksX3_begins_0 6 rfl rfl)
theorem dX3_begins_9 : decode cX3_begins 9 = .ok (.aload_n 0, 1) := dk_42 (dk_at dksX3_begins_0 9 rfl rfl)
theorem dX3_begins_10 : decode cX3_begins 10 = .ok (.getfield 7, 3) := dk_180 0 7 (dk_at dksX3_begins_0 10 rfl rfl)
theorem dX3_begins_13 : decode cX3_begins 13 = .ok (.iload_n 1, 1) := dk_27 (dk_at dksX3_begins_0 13 rfl rfl)
theorem dX3_begins_14 : decode cX3_begins 14 = .ok (.lconst 0, 1) := dk_9 (dk_at dksX3_begins_0 14 rfl rfl)
theorem dX3_begins_15 : decode cX3_begins 15 = .ok (.lastore, 1) := dk_80 (dk_at dksX3_begins_0 15 rfl rfl)
theorem dX3_begins_16 : decode cX3_begins 16 = .ok (.iinc 1 1, 3) := dk_132 1 1 (dk_at dksX3_begins_0 16 rfl rfl)
theorem dX3_begins_19 : decode cX3_begins 19 = .ok (.goto (-17), 3) := dk_167 255 239 (dk_at dksX3_begins_0 19 rfl rfl)
theorem dX3_begins_22 : decode cX3_begins 22 = .ok (.aload_n 0, 1) := dk_42 (dk_at dksX3_begins_0 22 rfl rfl)
theorem dX3_begins_23 : decode cX3_begins 23 = .ok (.getfield 7, 3) := dk_180 0 7 (dk_at dksX3_begins_1 0 rfl rfl)
theorem dX3_begins_26 : decode cX3_begins 26 = .ok (.iconst 0, 1) := dk_3 (dk_at dksX3_begins_1 3 rfl rfl)
theorem dX3_begins_27 : decode cX3_begins 27 = .ok (.ldc2_w 51, 3) := dk_20 0 51 (dk_at dksX3_begins_1 4 rfl rfl)
theorem dX3_begins_30 : decode cX3_begins 30 = .ok (.lastore, 1) := dk_80 (dk_at dksX3_begins_1 7 rfl rfl)
theorem dX3_begins_31 : decode cX3_begins 31 = .ok (.aload_n 0, 1) := dk_42 (dk_at dksX3_begins_1 8 rfl rfl)
theorem dX3_begins_32 : decode cX3_begins 32 = .ok (.getfield 7, 3) := dk_180 0 7 (dk_at dksX3_begins_1 9 rfl rfl)
theorem dX3_begins_35 : decode cX3_begins 35 = .ok (.iconst 1, 1) := dk_4 (dk_at dksX3_begins_1 12 rfl rfl)
theorem dX3_begins_36 : decode cX3_begins 36 = .ok (.ldc2_w 53, 3) := dk_20 0 53 (dk_at dksX3_begins_1 13 rfl rfl)
theorem dX3_begins_39 : decode cX3_begins 39 = .ok (.lastore, 1) := dk_80 (dk_at dksX3_begins_1 16 rfl rfl)
theorem dX3_begins_40 : decode cX3_begins 40 = .ok (.aload_n 0, 1) := dk_42 (dk_at dksX3_begins_1 17 rfl rfl)
theorem dX3_begins_41 : decode cX3_begins 41 = .ok (.getfield 7, 3) := dk_180 0 7 (dk_at dksX3_begins_1 18 rfl rfl)
theorem dX3_begins_44 : decode cX3_begins 44 = .ok (.iconst 2, 1) := dk_5 (dk_at dksX3_begins_1 21 rfl rfl)
theorem dX3_begins_45 : decode cX3_begins 45 = .ok (.ldc2_w 55, 3) := dk_20 0 55 (dk_at dksX3_begins_2 0 rfl rfl)
theorem dX3_begins_48 : decode cX3_begins 48 = .ok (.lastore, 1) := dk_80 (dk_at dksX3_begins_2 3 rfl rfl)
theorem dX3_begins_49 : decode cX3_begins 49 = .ok (.aload_n 0, 1) := dk_42 (dk_at dksX3_begins_2 4 rfl rfl)
theorem dX3_begins_50 : decode cX3_begins 50 = .ok (.getfield 7, 3) := dk_180 0 7 (dk_at dksX3_begins_2 5 rfl rfl)
theorem dX3_begins_53 : decode cX3_begins 53 = .ok (.iconst 3, 1) := dk_6 (dk_at dksX3_begins_2 8 rfl rfl)
theorem dX3_begins_54 : decode cX3_begins 54 = .ok (.ldc2_w 57, 3) := dk_20 0 57 (dk_at dksX3_begins_2 9 rfl rfl)
theorem dX3_begins_57 : decode cX3_begins 57 = .ok (.lastore, 1) := dk_80 (dk_at dksX3_begins_2 12 rfl rfl)
theorem dX3_begins_58 : decode cX3_begins 58 = .ok (.aload_n 0, 1) := dk_42 (dk_at dksX3_begins_2 13 rfl rfl)
theorem dX3_begins_59 : decode cX3_begins 59 = .ok (.getfield 7, 3) := dk_180 0 7 (dk_at dksX3_begins_2 14 rfl rfl)
theorem dX3_begins_62 : decode cX3_begins 62 = .ok (.iconst 4, 1) := dk_7 (dk_at dksX3_begins_2 17 rfl rfl)
theorem dX3_begins_63 : decode cX3_begins 63 = .ok (.ldc2_w 59, 3) := dk_20 0 59 (dk_at dksX3_begins_2 18 rfl rfl)
theorem dX3_begins_66 : decode cX3_begins 66 = .ok (.lastore, 1) := dk_80 (dk_at dksX3_begins_2 21 rfl rfl)
theorem dX3_begins_67 : decode cX3_begins 67 = .ok (.iconst 1, 1) := dk_4 (dk_at dksX3_begins_2 22 rfl rfl)
theorem dX3_begins_68 : decode cX3_begins 68 = .ok (.istore_n 1, 1) := dk_60 (dk_at dksX3_begins_2 23 rfl rfl)
theorem dX3_begins_69 : decode cX3_begins 69 = .ok (.iload_n 1, 1) := dk_27 (dk_at dksX3_begins_3 0 rfl rfl)
theorem dX3_begins_70 : decode cX3_begins 70 = .ok (.iconst 5, 1) := dk_8 (dk_at dksX3_begins_3 1 rfl rfl)
theorem dX3_begins_71 : decode cX3_begins 71 = .ok (.if_icmp .ge 27, 3) := dk_162 0 27 (dk_at dksX3_begins_3 2 rfl rfl)
theorem dX3_begins_74 : decode cX3_begins 74 = .ok (.aload_n 0, 1) := dk_42 (dk_at dksX3_begins_3 5 rfl rfl)
theorem dX3_begins_75 : decode cX3_begins 75 = .ok (.getfield 7, 3) := dk_180 0 7 (dk_at dksX3_begins_3 6 rfl rfl)
theorem dX3_begins_78 : decode cX3_begins 78 = .ok (.iconst 4, 1) := dk_7 (dk_at dksX3_begins_3 9 rfl rfl)
theorem dX3_begins_79 : decode cX3_begins 79 = .ok (.iload_n 1, 1) := dk_27 (dk_at dksX3_begins_3 10 rfl rfl)
theorem dX3_begins_80 : decode cX3_begins 80 = .ok (.iadd, 1) := dk_96 (dk_at dksX3_begins_3 11 rfl rfl)
theorem dX3_begins_81 : decode cX3_begins 81 = .ok (.ldc2_w 59, 3) := dk_20 0 59 (dk_at dksX3_begins_3 12 rfl rfl)
theorem dX3_begins_84 : decode cX3_begins 84 = .ok (.ldc2_w 55, 3) := dk_20 0 55 (dk_at dksX3_begins_3 15 rfl rfl)
theorem dX3_begins_87 : decode cX3_begins 87 = .ok (.iload_n 1, 1) := dk_27 (dk_at dksX3_begins_3 18 rfl rfl)
theorem dX3_begins_88 : decode cX3_begins 88 = .ok (.i2l, 1) := dk_133 (dk_at dksX3_begins_3 19 rfl rfl)
theorem dX3_begins_89 : decode cX3_begins 89 = .ok (.lmul, 1) := dk_105 (dk_at dksX3_begins_3 20 rfl rfl)
theorem dX3_begins_90 : decode cX3_begins 90 = .ok (.lsub, 1) := dk_101 (dk_at dksX3_begins_3 21 rfl rfl)
theorem dX3_begins_91 : decode cX3_begins 91 = .ok (.lastore, 1) := dk_80 (dk_at dksX3_begins_3 22 rfl rfl)
theorem dX3_begins_92 : decode cX3_begins 92 = .ok (.iinc 1 1, 3) := dk_132 1 1 (dk_at dksX3_begins_4 0 rfl rfl)
theorem dX3_begins_95 : decode cX3_begins 95 = .ok (.goto (-26), 3) := dk_167 255 230 (dk_at dksX3_begins_4 3 rfl rfl)
theorem dX3_begins_98 : decode cX3_begins 98 = .ok (.return_, 1) := dk_177 (dk_at dksX3_begins_4 6 rfl rfl)
abbrev cX3_thrown : ByteArray := prog_26_method_2_code
def yX3_thrown : MethodName := ⟨RX3, "thrown", "()I"⟩
theorem dX3_thrown_0 : decode cX3_thrown 0 = .ok (.aload_n 0, 1) := by decide +kernel
theorem dX3_thrown_1 : decode cX3_thrown 1 = .ok (.getfield 48, 3) := by decide +kernel
theorem dX3_thrown_4 : decode cX3_thrown 4 = .ok (.ireturn, 1) := by decide +kernel
abbrev cX3_undo : ByteArray := prog_26_method_10_code
def yX3_undo : MethodName := ⟨RX3, "undo", "()I"⟩
def dkwX3_undo_2 : List UInt8 := [180, 0, 65, 104, 27, 96, 47, 80, 132, 1, 1, 167, 255, 225, 42, 180, 0, 65, 172]
abbrev dktX3_undo_2 : List UInt8 := dkwX3_undo_2 ++ []
def dkwX3_undo_1 : List UInt8 := [3, 60, 27, 17, 1, 191, 162, 0, 30, 42, 180, 0, 7, 27, 42, 180, 0, 19, 17, 1, 191, 42]
abbrev dktX3_undo_1 : List UInt8 := dkwX3_undo_1 ++ dktX3_undo_2
def dkwX3_undo_0 : List UInt8 := [42, 3, 181, 0, 48, 42, 180, 0, 65, 154, 0, 5, 2, 172, 42, 89, 180, 0, 65, 4, 100, 181, 0, 65]
abbrev dktX3_undo_0 : List UInt8 := dkwX3_undo_0 ++ dktX3_undo_1
theorem dksX3_undo_0 : cX3_undo.data.toList.drop 0 = dktX3_undo_0 := by decide +kernel
theorem dksX3_undo_1 : cX3_undo.data.toList.drop 24 = dktX3_undo_1 := dk_seg dksX3_undo_0 24 rfl rfl
theorem dksX3_undo_2 : cX3_undo.data.toList.drop 46 = dktX3_undo_2 := dk_seg dksX3_undo_1 22 rfl rfl
theorem dX3_undo_0 : decode cX3_undo 0 = .ok (.aload_n 0, 1) := dk_42 (dk_at dksX3_undo_0 0 rfl rfl)
theorem dX3_undo_1 : decode cX3_undo 1 = .ok (.iconst 0, 1) := dk_3 (dk_at dksX3_undo_0 1 rfl rfl)
theorem dX3_undo_2 : decode cX3_undo 2 = .ok (.putfield 48, 3) := dk_181 0 48 (dk_at dksX3_undo_0 2 rfl rfl)
theorem dX3_undo_5 : decode cX3_undo 5 = .ok (.aload_n 0, 1) := dk_42 (dk_at dksX3_undo_0 5 rfl rfl)
theorem dX3_undo_6 : decode cX3_undo 6 = .ok (.getfield 65, 3) := dk_180 0 65 (dk_at dksX3_undo_0 6 rfl rfl)
theorem dX3_undo_9 : decode cX3_undo 9 = .ok (.ifCond .ne 5, 3) := dk_154 0 5 (dk_at dksX3_undo_0 9 rfl rfl)
theorem dX3_undo_12 : decode cX3_undo 12 = .ok (.iconst (-1), 1) := dk_2 (dk_at dksX3_undo_0 12 rfl rfl)
theorem dX3_undo_13 : decode cX3_undo 13 = .ok (.ireturn, 1) := dk_172 (dk_at dksX3_undo_0 13 rfl rfl)
theorem dX3_undo_14 : decode cX3_undo 14 = .ok (.aload_n 0, 1) := dk_42 (dk_at dksX3_undo_0 14 rfl rfl)
theorem dX3_undo_15 : decode cX3_undo 15 = .ok (.dup, 1) := dk_89 (dk_at dksX3_undo_0 15 rfl rfl)
theorem dX3_undo_16 : decode cX3_undo 16 = .ok (.getfield 65, 3) := dk_180 0 65 (dk_at dksX3_undo_0 16 rfl rfl)
theorem dX3_undo_19 : decode cX3_undo 19 = .ok (.iconst 1, 1) := dk_4 (dk_at dksX3_undo_0 19 rfl rfl)
theorem dX3_undo_20 : decode cX3_undo 20 = .ok (.isub, 1) := dk_100 (dk_at dksX3_undo_0 20 rfl rfl)
theorem dX3_undo_21 : decode cX3_undo 21 = .ok (.putfield 65, 3) := dk_181 0 65 (dk_at dksX3_undo_0 21 rfl rfl)
theorem dX3_undo_24 : decode cX3_undo 24 = .ok (.iconst 0, 1) := dk_3 (dk_at dksX3_undo_1 0 rfl rfl)
theorem dX3_undo_25 : decode cX3_undo 25 = .ok (.istore_n 1, 1) := dk_60 (dk_at dksX3_undo_1 1 rfl rfl)
theorem dX3_undo_26 : decode cX3_undo 26 = .ok (.iload_n 1, 1) := dk_27 (dk_at dksX3_undo_1 2 rfl rfl)
theorem dX3_undo_27 : decode cX3_undo 27 = .ok (.sipush 447, 3) := dk_17 1 191 (dk_at dksX3_undo_1 3 rfl rfl)
theorem dX3_undo_30 : decode cX3_undo 30 = .ok (.if_icmp .ge 30, 3) := dk_162 0 30 (dk_at dksX3_undo_1 6 rfl rfl)
theorem dX3_undo_33 : decode cX3_undo 33 = .ok (.aload_n 0, 1) := dk_42 (dk_at dksX3_undo_1 9 rfl rfl)
theorem dX3_undo_34 : decode cX3_undo 34 = .ok (.getfield 7, 3) := dk_180 0 7 (dk_at dksX3_undo_1 10 rfl rfl)
theorem dX3_undo_37 : decode cX3_undo 37 = .ok (.iload_n 1, 1) := dk_27 (dk_at dksX3_undo_1 13 rfl rfl)
theorem dX3_undo_38 : decode cX3_undo 38 = .ok (.aload_n 0, 1) := dk_42 (dk_at dksX3_undo_1 14 rfl rfl)
theorem dX3_undo_39 : decode cX3_undo 39 = .ok (.getfield 19, 3) := dk_180 0 19 (dk_at dksX3_undo_1 15 rfl rfl)
theorem dX3_undo_42 : decode cX3_undo 42 = .ok (.sipush 447, 3) := dk_17 1 191 (dk_at dksX3_undo_1 18 rfl rfl)
theorem dX3_undo_45 : decode cX3_undo 45 = .ok (.aload_n 0, 1) := dk_42 (dk_at dksX3_undo_1 21 rfl rfl)
theorem dX3_undo_46 : decode cX3_undo 46 = .ok (.getfield 65, 3) := dk_180 0 65 (dk_at dksX3_undo_2 0 rfl rfl)
theorem dX3_undo_49 : decode cX3_undo 49 = .ok (.imul, 1) := dk_104 (dk_at dksX3_undo_2 3 rfl rfl)
theorem dX3_undo_50 : decode cX3_undo 50 = .ok (.iload_n 1, 1) := dk_27 (dk_at dksX3_undo_2 4 rfl rfl)
theorem dX3_undo_51 : decode cX3_undo 51 = .ok (.iadd, 1) := dk_96 (dk_at dksX3_undo_2 5 rfl rfl)
theorem dX3_undo_52 : decode cX3_undo 52 = .ok (.laload, 1) := dk_47 (dk_at dksX3_undo_2 6 rfl rfl)
theorem dX3_undo_53 : decode cX3_undo 53 = .ok (.lastore, 1) := dk_80 (dk_at dksX3_undo_2 7 rfl rfl)
theorem dX3_undo_54 : decode cX3_undo 54 = .ok (.iinc 1 1, 3) := dk_132 1 1 (dk_at dksX3_undo_2 8 rfl rfl)
theorem dX3_undo_57 : decode cX3_undo 57 = .ok (.goto (-31), 3) := dk_167 255 225 (dk_at dksX3_undo_2 11 rfl rfl)
theorem dX3_undo_60 : decode cX3_undo 60 = .ok (.aload_n 0, 1) := dk_42 (dk_at dksX3_undo_2 14 rfl rfl)
theorem dX3_undo_61 : decode cX3_undo 61 = .ok (.getfield 65, 3) := dk_180 0 65 (dk_at dksX3_undo_2 15 rfl rfl)
theorem dX3_undo_64 : decode cX3_undo 64 = .ok (.ireturn, 1) := dk_172 (dk_at dksX3_undo_2 18 rfl rfl)
abbrev cX3_feed : ByteArray := prog_26_method_14_code
def yX3_feed : MethodName := ⟨RX3, "feed", "(IIIII)I"⟩
def dkwX3_feed_2 : List UInt8 := [182, 0, 75, 42, 180, 0, 72, 172]
abbrev dktX3_feed_2 : List UInt8 := dkwX3_feed_2 ++ []
def dkwX3_feed_1 : List UInt8 := [182, 0, 75, 42, 28, 182, 0, 75, 42, 29, 182, 0, 75, 42, 21, 4, 182, 0, 75, 42, 21, 5]
abbrev dktX3_feed_1 : List UInt8 := dkwX3_feed_1 ++ dktX3_feed_2
def dkwX3_feed_0 : List UInt8 := [42, 3, 181, 0, 48, 42, 180, 0, 72, 16, 20, 96, 17, 3, 132, 164, 0, 6, 16, 254, 172, 42, 27]
abbrev dktX3_feed_0 : List UInt8 := dkwX3_feed_0 ++ dktX3_feed_1
theorem dksX3_feed_0 : cX3_feed.data.toList.drop 0 = dktX3_feed_0 := by decide +kernel
theorem dksX3_feed_1 : cX3_feed.data.toList.drop 23 = dktX3_feed_1 := dk_seg dksX3_feed_0 23 rfl rfl
theorem dksX3_feed_2 : cX3_feed.data.toList.drop 45 = dktX3_feed_2 := dk_seg dksX3_feed_1 22 rfl rfl
theorem dX3_feed_0 : decode cX3_feed 0 = .ok (.aload_n 0, 1) := dk_42 (dk_at dksX3_feed_0 0 rfl rfl)
theorem dX3_feed_1 : decode cX3_feed 1 = .ok (.iconst 0, 1) := dk_3 (dk_at dksX3_feed_0 1 rfl rfl)
theorem dX3_feed_2 : decode cX3_feed 2 = .ok (.putfield 48, 3) := dk_181 0 48 (dk_at dksX3_feed_0 2 rfl rfl)
theorem dX3_feed_5 : decode cX3_feed 5 = .ok (.aload_n 0, 1) := dk_42 (dk_at dksX3_feed_0 5 rfl rfl)
theorem dX3_feed_6 : decode cX3_feed 6 = .ok (.getfield 72, 3) := dk_180 0 72 (dk_at dksX3_feed_0 6 rfl rfl)
theorem dX3_feed_9 : decode cX3_feed 9 = .ok (.bipush 20, 2) := dk_16 20 (dk_at dksX3_feed_0 9 rfl rfl)
theorem dX3_feed_11 : decode cX3_feed 11 = .ok (.iadd, 1) := dk_96 (dk_at dksX3_feed_0 11 rfl rfl)
theorem dX3_feed_12 : decode cX3_feed 12 = .ok (.sipush 900, 3) := dk_17 3 132 (dk_at dksX3_feed_0 12 rfl rfl)
theorem dX3_feed_15 : decode cX3_feed 15 = .ok (.if_icmp .le 6, 3) := dk_164 0 6 (dk_at dksX3_feed_0 15 rfl rfl)
theorem dX3_feed_18 : decode cX3_feed 18 = .ok (.bipush (-2), 2) := dk_16 254 (dk_at dksX3_feed_0 18 rfl rfl)
theorem dX3_feed_20 : decode cX3_feed 20 = .ok (.ireturn, 1) := dk_172 (dk_at dksX3_feed_0 20 rfl rfl)
theorem dX3_feed_21 : decode cX3_feed 21 = .ok (.aload_n 0, 1) := dk_42 (dk_at dksX3_feed_0 21 rfl rfl)
theorem dX3_feed_22 : decode cX3_feed 22 = .ok (.iload_n 1, 1) := dk_27 (dk_at dksX3_feed_0 22 rfl rfl)
theorem dX3_feed_23 : decode cX3_feed 23 = .ok (.invokevirtual 75, 3) := dk_182 0 75 (dk_at dksX3_feed_1 0 rfl rfl)
theorem dX3_feed_26 : decode cX3_feed 26 = .ok (.aload_n 0, 1) := dk_42 (dk_at dksX3_feed_1 3 rfl rfl)
theorem dX3_feed_27 : decode cX3_feed 27 = .ok (.iload_n 2, 1) := dk_28 (dk_at dksX3_feed_1 4 rfl rfl)
theorem dX3_feed_28 : decode cX3_feed 28 = .ok (.invokevirtual 75, 3) := dk_182 0 75 (dk_at dksX3_feed_1 5 rfl rfl)
theorem dX3_feed_31 : decode cX3_feed 31 = .ok (.aload_n 0, 1) := dk_42 (dk_at dksX3_feed_1 8 rfl rfl)
theorem dX3_feed_32 : decode cX3_feed 32 = .ok (.iload_n 3, 1) := dk_29 (dk_at dksX3_feed_1 9 rfl rfl)
theorem dX3_feed_33 : decode cX3_feed 33 = .ok (.invokevirtual 75, 3) := dk_182 0 75 (dk_at dksX3_feed_1 10 rfl rfl)
theorem dX3_feed_36 : decode cX3_feed 36 = .ok (.aload_n 0, 1) := dk_42 (dk_at dksX3_feed_1 13 rfl rfl)
theorem dX3_feed_37 : decode cX3_feed 37 = .ok (.iload 4, 2) := dk_21 4 (dk_at dksX3_feed_1 14 rfl rfl)
theorem dX3_feed_39 : decode cX3_feed 39 = .ok (.invokevirtual 75, 3) := dk_182 0 75 (dk_at dksX3_feed_1 16 rfl rfl)
theorem dX3_feed_42 : decode cX3_feed 42 = .ok (.aload_n 0, 1) := dk_42 (dk_at dksX3_feed_1 19 rfl rfl)
theorem dX3_feed_43 : decode cX3_feed 43 = .ok (.iload 5, 2) := dk_21 5 (dk_at dksX3_feed_1 20 rfl rfl)
theorem dX3_feed_45 : decode cX3_feed 45 = .ok (.invokevirtual 75, 3) := dk_182 0 75 (dk_at dksX3_feed_2 0 rfl rfl)
theorem dX3_feed_48 : decode cX3_feed 48 = .ok (.aload_n 0, 1) := dk_42 (dk_at dksX3_feed_2 3 rfl rfl)
theorem dX3_feed_49 : decode cX3_feed 49 = .ok (.getfield 72, 3) := dk_180 0 72 (dk_at dksX3_feed_2 4 rfl rfl)
theorem dX3_feed_52 : decode cX3_feed 52 = .ok (.ireturn, 1) := dk_172 (dk_at dksX3_feed_2 7 rfl rfl)
abbrev cX3_append : ByteArray := prog_26_method_13_code
def yX3_append : MethodName := ⟨RX3, "append", "(I)V"⟩
def dkwX3_append_1 : List UInt8 := [89, 180, 0, 72, 4, 96, 181, 0, 72, 132, 2, 248, 167, 255, 223, 177]
abbrev dktX3_append_1 : List UInt8 := dkwX3_append_1 ++ []
def dkwX3_append_0 : List UInt8 := [16, 24, 61, 28, 155, 0, 35, 42, 180, 0, 22, 42, 180, 0, 72, 27, 28, 124, 17, 0, 255, 126, 79, 42]
abbrev dktX3_append_0 : List UInt8 := dkwX3_append_0 ++ dktX3_append_1
theorem dksX3_append_0 : cX3_append.data.toList.drop 0 = dktX3_append_0 := by decide +kernel
theorem dksX3_append_1 : cX3_append.data.toList.drop 24 = dktX3_append_1 := dk_seg dksX3_append_0 24 rfl rfl
theorem dX3_append_0 : decode cX3_append 0 = .ok (.bipush 24, 2) := dk_16 24 (dk_at dksX3_append_0 0 rfl rfl)
theorem dX3_append_2 : decode cX3_append 2 = .ok (.istore_n 2, 1) := dk_61 (dk_at dksX3_append_0 2 rfl rfl)
theorem dX3_append_3 : decode cX3_append 3 = .ok (.iload_n 2, 1) := dk_28 (dk_at dksX3_append_0 3 rfl rfl)
theorem dX3_append_4 : decode cX3_append 4 = .ok (.ifCond .lt 35, 3) := dk_155 0 35 (dk_at dksX3_append_0 4 rfl rfl)
theorem dX3_append_7 : decode cX3_append 7 = .ok (.aload_n 0, 1) := dk_42 (dk_at dksX3_append_0 7 rfl rfl)
theorem dX3_append_8 : decode cX3_append 8 = .ok (.getfield 22, 3) := dk_180 0 22 (dk_at dksX3_append_0 8 rfl rfl)
theorem dX3_append_11 : decode cX3_append 11 = .ok (.aload_n 0, 1) := dk_42 (dk_at dksX3_append_0 11 rfl rfl)
theorem dX3_append_12 : decode cX3_append 12 = .ok (.getfield 72, 3) := dk_180 0 72 (dk_at dksX3_append_0 12 rfl rfl)
theorem dX3_append_15 : decode cX3_append 15 = .ok (.iload_n 1, 1) := dk_27 (dk_at dksX3_append_0 15 rfl rfl)
theorem dX3_append_16 : decode cX3_append 16 = .ok (.iload_n 2, 1) := dk_28 (dk_at dksX3_append_0 16 rfl rfl)
theorem dX3_append_17 : decode cX3_append 17 = .ok (.iushr, 1) := dk_124 (dk_at dksX3_append_0 17 rfl rfl)
theorem dX3_append_18 : decode cX3_append 18 = .ok (.sipush 255, 3) := dk_17 0 255 (dk_at dksX3_append_0 18 rfl rfl)
theorem dX3_append_21 : decode cX3_append 21 = .ok (.iand, 1) := dk_126 (dk_at dksX3_append_0 21 rfl rfl)
theorem dX3_append_22 : decode cX3_append 22 = .ok (.iastore, 1) := dk_79 (dk_at dksX3_append_0 22 rfl rfl)
theorem dX3_append_23 : decode cX3_append 23 = .ok (.aload_n 0, 1) := dk_42 (dk_at dksX3_append_0 23 rfl rfl)
theorem dX3_append_24 : decode cX3_append 24 = .ok (.dup, 1) := dk_89 (dk_at dksX3_append_1 0 rfl rfl)
theorem dX3_append_25 : decode cX3_append 25 = .ok (.getfield 72, 3) := dk_180 0 72 (dk_at dksX3_append_1 1 rfl rfl)
theorem dX3_append_28 : decode cX3_append 28 = .ok (.iconst 1, 1) := dk_4 (dk_at dksX3_append_1 4 rfl rfl)
theorem dX3_append_29 : decode cX3_append 29 = .ok (.iadd, 1) := dk_96 (dk_at dksX3_append_1 5 rfl rfl)
theorem dX3_append_30 : decode cX3_append 30 = .ok (.putfield 72, 3) := dk_181 0 72 (dk_at dksX3_append_1 6 rfl rfl)
theorem dX3_append_33 : decode cX3_append 33 = .ok (.iinc 2 (-8), 3) := dk_132 2 248 (dk_at dksX3_append_1 9 rfl rfl)
theorem dX3_append_36 : decode cX3_append 36 = .ok (.goto (-33), 3) := dk_167 255 223 (dk_at dksX3_append_1 12 rfl rfl)
theorem dX3_append_39 : decode cX3_append 39 = .ok (.return_, 1) := dk_177 (dk_at dksX3_append_1 15 rfl rfl)
abbrev cX3_load : ByteArray := prog_26_method_42_code
def yX3_load : MethodName := ⟨RX3, "load", "(I)I"⟩
def dkwX3_load_2 : List UInt8 := [16, 66, 47, 136, 172]
abbrev dktX3_load_2 : List UInt8 := dkwX3_load_2 ++ []
def dkwX3_load_1 : List UInt8 := [42, 182, 0, 45, 42, 27, 182, 0, 246, 154, 0, 6, 16, 253, 172, 42, 3, 181, 0, 65, 42, 180, 0, 7]
abbrev dktX3_load_1 : List UInt8 := dkwX3_load_1 ++ dktX3_load_2
def dkwX3_load_0 : List UInt8 := [42, 27, 133, 9, 42, 180, 0, 72, 133, 184, 0, 144, 182, 0, 240, 154, 0, 5, 3, 172, 42, 182, 0, 243]
abbrev dktX3_load_0 : List UInt8 := dkwX3_load_0 ++ dktX3_load_1
theorem dksX3_load_0 : cX3_load.data.toList.drop 0 = dktX3_load_0 := by decide +kernel
theorem dksX3_load_1 : cX3_load.data.toList.drop 24 = dktX3_load_1 := dk_seg dksX3_load_0 24 rfl rfl
theorem dksX3_load_2 : cX3_load.data.toList.drop 48 = dktX3_load_2 := dk_seg dksX3_load_1 24 rfl rfl
theorem dX3_load_0 : decode cX3_load 0 = .ok (.aload_n 0, 1) := dk_42 (dk_at dksX3_load_0 0 rfl rfl)
theorem dX3_load_1 : decode cX3_load 1 = .ok (.iload_n 1, 1) := dk_27 (dk_at dksX3_load_0 1 rfl rfl)
theorem dX3_load_2 : decode cX3_load 2 = .ok (.i2l, 1) := dk_133 (dk_at dksX3_load_0 2 rfl rfl)
theorem dX3_load_3 : decode cX3_load 3 = .ok (.lconst 0, 1) := dk_9 (dk_at dksX3_load_0 3 rfl rfl)
theorem dX3_load_4 : decode cX3_load 4 = .ok (.aload_n 0, 1) := dk_42 (dk_at dksX3_load_0 4 rfl rfl)
theorem dX3_load_5 : decode cX3_load 5 = .ok (.getfield 72, 3) := dk_180 0 72 (dk_at dksX3_load_0 5 rfl rfl)
theorem dX3_load_8 : decode cX3_load 8 = .ok (.i2l, 1) := dk_133 (dk_at dksX3_load_0 8 rfl rfl)
theorem dX3_load_9 : decode cX3_load 9 = .ok (.invokestatic 144, 3) := dk_184 0 144 (dk_at dksX3_load_0 9 rfl rfl)
theorem dX3_load_12 : decode cX3_load 12 = .ok (.invokevirtual 240, 3) := dk_182 0 240 (dk_at dksX3_load_0 12 rfl rfl)
theorem dX3_load_15 : decode cX3_load 15 = .ok (.ifCond .ne 5, 3) := dk_154 0 5 (dk_at dksX3_load_0 15 rfl rfl)
theorem dX3_load_18 : decode cX3_load 18 = .ok (.iconst 0, 1) := dk_3 (dk_at dksX3_load_0 18 rfl rfl)
theorem dX3_load_19 : decode cX3_load 19 = .ok (.ireturn, 1) := dk_172 (dk_at dksX3_load_0 19 rfl rfl)
theorem dX3_load_20 : decode cX3_load 20 = .ok (.aload_n 0, 1) := dk_42 (dk_at dksX3_load_0 20 rfl rfl)
theorem dX3_load_21 : decode cX3_load 21 = .ok (.invokevirtual 243, 3) := dk_182 0 243 (dk_at dksX3_load_0 21 rfl rfl)
theorem dX3_load_24 : decode cX3_load 24 = .ok (.aload_n 0, 1) := dk_42 (dk_at dksX3_load_1 0 rfl rfl)
theorem dX3_load_25 : decode cX3_load 25 = .ok (.invokevirtual 45, 3) := dk_182 0 45 (dk_at dksX3_load_1 1 rfl rfl)
theorem dX3_load_28 : decode cX3_load 28 = .ok (.aload_n 0, 1) := dk_42 (dk_at dksX3_load_1 4 rfl rfl)
theorem dX3_load_29 : decode cX3_load 29 = .ok (.iload_n 1, 1) := dk_27 (dk_at dksX3_load_1 5 rfl rfl)
theorem dX3_load_30 : decode cX3_load 30 = .ok (.invokevirtual 246, 3) := dk_182 0 246 (dk_at dksX3_load_1 6 rfl rfl)
theorem dX3_load_33 : decode cX3_load 33 = .ok (.ifCond .ne 6, 3) := dk_154 0 6 (dk_at dksX3_load_1 9 rfl rfl)
theorem dX3_load_36 : decode cX3_load 36 = .ok (.bipush (-3), 2) := dk_16 253 (dk_at dksX3_load_1 12 rfl rfl)
theorem dX3_load_38 : decode cX3_load 38 = .ok (.ireturn, 1) := dk_172 (dk_at dksX3_load_1 14 rfl rfl)
theorem dX3_load_39 : decode cX3_load 39 = .ok (.aload_n 0, 1) := dk_42 (dk_at dksX3_load_1 15 rfl rfl)
theorem dX3_load_40 : decode cX3_load 40 = .ok (.iconst 0, 1) := dk_3 (dk_at dksX3_load_1 16 rfl rfl)
theorem dX3_load_41 : decode cX3_load 41 = .ok (.putfield 65, 3) := dk_181 0 65 (dk_at dksX3_load_1 17 rfl rfl)
theorem dX3_load_44 : decode cX3_load 44 = .ok (.aload_n 0, 1) := dk_42 (dk_at dksX3_load_1 20 rfl rfl)
theorem dX3_load_45 : decode cX3_load 45 = .ok (.getfield 7, 3) := dk_180 0 7 (dk_at dksX3_load_1 21 rfl rfl)
theorem dX3_load_48 : decode cX3_load 48 = .ok (.bipush 66, 2) := dk_16 66 (dk_at dksX3_load_2 0 rfl rfl)
theorem dX3_load_50 : decode cX3_load 50 = .ok (.laload, 1) := dk_47 (dk_at dksX3_load_2 2 rfl rfl)
theorem dX3_load_51 : decode cX3_load 51 = .ok (.l2i, 1) := dk_136 (dk_at dksX3_load_2 3 rfl rfl)
theorem dX3_load_52 : decode cX3_load 52 = .ok (.ireturn, 1) := dk_172 (dk_at dksX3_load_2 4 rfl rfl)
abbrev cX3_isIn : ByteArray := prog_26_method_4_code
def yX3_isIn : MethodName := ⟨RX3, "isIn", "(JJJ)Z"⟩
def dkwX3_isIn_0 : List UInt8 := [30, 32, 148, 155, 0, 14, 30, 22, 4, 148, 157, 0, 7, 4, 167, 0, 4, 3, 172]
abbrev dktX3_isIn_0 : List UInt8 := dkwX3_isIn_0 ++ []
theorem dksX3_isIn_0 : cX3_isIn.data.toList.drop 0 = dktX3_isIn_0 := by decide +kernel
theorem dX3_isIn_0 : decode cX3_isIn 0 = .ok (.lload_n 0, 1) := dk_30 (dk_at dksX3_isIn_0 0 rfl rfl)
theorem dX3_isIn_1 : decode cX3_isIn 1 = .ok (.lload_n 2, 1) := dk_32 (dk_at dksX3_isIn_0 1 rfl rfl)
theorem dX3_isIn_2 : decode cX3_isIn 2 = .ok (.lcmp, 1) := dk_148 (dk_at dksX3_isIn_0 2 rfl rfl)
theorem dX3_isIn_3 : decode cX3_isIn 3 = .ok (.ifCond .lt 14, 3) := dk_155 0 14 (dk_at dksX3_isIn_0 3 rfl rfl)
theorem dX3_isIn_6 : decode cX3_isIn 6 = .ok (.lload_n 0, 1) := dk_30 (dk_at dksX3_isIn_0 6 rfl rfl)
theorem dX3_isIn_7 : decode cX3_isIn 7 = .ok (.lload 4, 2) := dk_22 4 (dk_at dksX3_isIn_0 7 rfl rfl)
theorem dX3_isIn_9 : decode cX3_isIn 9 = .ok (.lcmp, 1) := dk_148 (dk_at dksX3_isIn_0 9 rfl rfl)
theorem dX3_isIn_10 : decode cX3_isIn 10 = .ok (.ifCond .gt 7, 3) := dk_157 0 7 (dk_at dksX3_isIn_0 10 rfl rfl)
theorem dX3_isIn_13 : decode cX3_isIn 13 = .ok (.iconst 1, 1) := dk_4 (dk_at dksX3_isIn_0 13 rfl rfl)
theorem dX3_isIn_14 : decode cX3_isIn 14 = .ok (.goto 4, 3) := dk_167 0 4 (dk_at dksX3_isIn_0 14 rfl rfl)
theorem dX3_isIn_17 : decode cX3_isIn 17 = .ok (.iconst 0, 1) := dk_3 (dk_at dksX3_isIn_0 17 rfl rfl)
theorem dX3_isIn_18 : decode cX3_isIn 18 = .ok (.ireturn, 1) := dk_172 (dk_at dksX3_isIn_0 18 rfl rfl)
abbrev cX3_good : ByteArray := prog_26_method_5_code
def yX3_good : MethodName := ⟨RX3, "good", "(Z)Z"⟩
def dkwX3_good_0 : List UInt8 := [42, 27, 153, 0, 7, 3, 167, 0, 4, 4, 181, 0, 48, 27, 172]
abbrev dktX3_good_0 : List UInt8 := dkwX3_good_0 ++ []
theorem dksX3_good_0 : cX3_good.data.toList.drop 0 = dktX3_good_0 := by decide +kernel
theorem dX3_good_0 : decode cX3_good 0 = .ok (.aload_n 0, 1) := dk_42 (dk_at dksX3_good_0 0 rfl rfl)
theorem dX3_good_1 : decode cX3_good 1 = .ok (.iload_n 1, 1) := dk_27 (dk_at dksX3_good_0 1 rfl rfl)
theorem dX3_good_2 : decode cX3_good 2 = .ok (.ifCond .eq 7, 3) := dk_153 0 7 (dk_at dksX3_good_0 2 rfl rfl)
theorem dX3_good_5 : decode cX3_good 5 = .ok (.iconst 0, 1) := dk_3 (dk_at dksX3_good_0 5 rfl rfl)
theorem dX3_good_6 : decode cX3_good 6 = .ok (.goto 4, 3) := dk_167 0 4 (dk_at dksX3_good_0 6 rfl rfl)
theorem dX3_good_9 : decode cX3_good 9 = .ok (.iconst 1, 1) := dk_4 (dk_at dksX3_good_0 9 rfl rfl)
theorem dX3_good_10 : decode cX3_good 10 = .ok (.putfield 48, 3) := dk_181 0 48 (dk_at dksX3_good_0 10 rfl rfl)
theorem dX3_good_13 : decode cX3_good 13 = .ok (.iload_n 1, 1) := dk_27 (dk_at dksX3_good_0 13 rfl rfl)
theorem dX3_good_14 : decode cX3_good 14 = .ok (.ireturn, 1) := dk_172 (dk_at dksX3_good_0 14 rfl rfl)
abbrev cX3_putAside : ByteArray := prog_26_method_11_code
def yX3_putAside : MethodName := ⟨RX3, "putAside", "()V"⟩
def dkwX3_putAside_0 : List UInt8 := [42, 180, 0, 7, 42, 180, 0, 13, 184, 0, 68, 177]
abbrev dktX3_putAside_0 : List UInt8 := dkwX3_putAside_0 ++ []
theorem dksX3_putAside_0 : cX3_putAside.data.toList.drop 0 = dktX3_putAside_0 := by decide +kernel
theorem dX3_putAside_0 : decode cX3_putAside 0 = .ok (.aload_n 0, 1) := dk_42 (dk_at dksX3_putAside_0 0 rfl rfl)
theorem dX3_putAside_1 : decode cX3_putAside 1 = .ok (.getfield 7, 3) := dk_180 0 7 (dk_at dksX3_putAside_0 1 rfl rfl)
theorem dX3_putAside_4 : decode cX3_putAside 4 = .ok (.aload_n 0, 1) := dk_42 (dk_at dksX3_putAside_0 4 rfl rfl)
theorem dX3_putAside_5 : decode cX3_putAside 5 = .ok (.getfield 13, 3) := dk_180 0 13 (dk_at dksX3_putAside_0 5 rfl rfl)
theorem dX3_putAside_8 : decode cX3_putAside 8 = .ok (.invokestatic 68, 3) := dk_184 0 68 (dk_at dksX3_putAside_0 8 rfl rfl)
theorem dX3_putAside_11 : decode cX3_putAside 11 = .ok (.return_, 1) := dk_177 (dk_at dksX3_putAside_0 11 rfl rfl)
abbrev cX3_copy : ByteArray := prog_26_method_8_code
def yX3_copy : MethodName := ⟨RX3, "copy", "([J[J)V"⟩
def dkwX3_copy_0 : List UInt8 := [3, 61, 28, 17, 1, 191, 162, 0, 15, 43, 28, 42, 28, 47, 80, 132, 2, 1, 167, 255, 240, 177]
abbrev dktX3_copy_0 : List UInt8 := dkwX3_copy_0 ++ []
theorem dksX3_copy_0 : cX3_copy.data.toList.drop 0 = dktX3_copy_0 := by decide +kernel
theorem dX3_copy_0 : decode cX3_copy 0 = .ok (.iconst 0, 1) := dk_3 (dk_at dksX3_copy_0 0 rfl rfl)
theorem dX3_copy_1 : decode cX3_copy 1 = .ok (.istore_n 2, 1) := dk_61 (dk_at dksX3_copy_0 1 rfl rfl)
theorem dX3_copy_2 : decode cX3_copy 2 = .ok (.iload_n 2, 1) := dk_28 (dk_at dksX3_copy_0 2 rfl rfl)
theorem dX3_copy_3 : decode cX3_copy 3 = .ok (.sipush 447, 3) := dk_17 1 191 (dk_at dksX3_copy_0 3 rfl rfl)
theorem dX3_copy_6 : decode cX3_copy 6 = .ok (.if_icmp .ge 15, 3) := dk_162 0 15 (dk_at dksX3_copy_0 6 rfl rfl)
theorem dX3_copy_9 : decode cX3_copy 9 = .ok (.aload_n 1, 1) := dk_43 (dk_at dksX3_copy_0 9 rfl rfl)
theorem dX3_copy_10 : decode cX3_copy 10 = .ok (.iload_n 2, 1) := dk_28 (dk_at dksX3_copy_0 10 rfl rfl)
theorem dX3_copy_11 : decode cX3_copy 11 = .ok (.aload_n 0, 1) := dk_42 (dk_at dksX3_copy_0 11 rfl rfl)
theorem dX3_copy_12 : decode cX3_copy 12 = .ok (.iload_n 2, 1) := dk_28 (dk_at dksX3_copy_0 12 rfl rfl)
theorem dX3_copy_13 : decode cX3_copy 13 = .ok (.laload, 1) := dk_47 (dk_at dksX3_copy_0 13 rfl rfl)
theorem dX3_copy_14 : decode cX3_copy 14 = .ok (.lastore, 1) := dk_80 (dk_at dksX3_copy_0 14 rfl rfl)
theorem dX3_copy_15 : decode cX3_copy 15 = .ok (.iinc 2 1, 3) := dk_132 2 1 (dk_at dksX3_copy_0 15 rfl rfl)
theorem dX3_copy_18 : decode cX3_copy 18 = .ok (.goto (-16), 3) := dk_167 255 240 (dk_at dksX3_copy_0 18 rfl rfl)
theorem dX3_copy_21 : decode cX3_copy 21 = .ok (.return_, 1) := dk_177 (dk_at dksX3_copy_0 21 rfl rfl)
abbrev cX3_parse : ByteArray := prog_26_method_41_code
def yX3_parse : MethodName := ⟨RX3, "parse", "(I)Z"⟩
def dkwX3_parse_4 : List UInt8 := [172]
abbrev dktX3_parse_4 : List UInt8 := dkwX3_parse_4 ++ []
def dkwX3_parse_3 : List UInt8 := [42, 180, 0, 135, 181, 0, 234, 42, 42, 180, 0, 138, 181, 0, 26, 28, 154, 0, 7, 42, 182, 0, 237, 28]
abbrev dktX3_parse_3 : List UInt8 := dkwX3_parse_3 ++ dktX3_parse_4
def dkwX3_parse_2 : List UInt8 := [182, 0, 231, 153, 0, 15, 42, 7, 182, 0, 167, 153, 0, 7, 4, 167, 0, 4, 3, 61, 167, 255, 224, 42]
abbrev dktX3_parse_2 : List UInt8 := dkwX3_parse_2 ++ dktX3_parse_3
def dkwX3_parse_1 : List UInt8 := [181, 0, 138, 42, 182, 0, 148, 87, 4, 61, 28, 153, 0, 34, 42, 180, 0, 104, 153, 0, 27, 42]
abbrev dktX3_parse_1 : List UInt8 := dkwX3_parse_1 ++ dktX3_parse_2
def dkwX3_parse_0 : List UInt8 := [42, 27, 181, 0, 79, 42, 3, 181, 0, 72, 42, 3, 181, 0, 86, 42, 3, 181, 0, 135, 42, 2]
abbrev dktX3_parse_0 : List UInt8 := dkwX3_parse_0 ++ dktX3_parse_1
theorem dksX3_parse_0 : cX3_parse.data.toList.drop 0 = dktX3_parse_0 := by decide +kernel
theorem dksX3_parse_1 : cX3_parse.data.toList.drop 22 = dktX3_parse_1 := dk_seg dksX3_parse_0 22 rfl rfl
theorem dksX3_parse_2 : cX3_parse.data.toList.drop 44 = dktX3_parse_2 := dk_seg dksX3_parse_1 22 rfl rfl
theorem dksX3_parse_3 : cX3_parse.data.toList.drop 68 = dktX3_parse_3 := dk_seg dksX3_parse_2 24 rfl rfl
theorem dksX3_parse_4 : cX3_parse.data.toList.drop 92 = dktX3_parse_4 := dk_seg dksX3_parse_3 24 rfl rfl
theorem dX3_parse_0 : decode cX3_parse 0 = .ok (.aload_n 0, 1) := dk_42 (dk_at dksX3_parse_0 0 rfl rfl)
theorem dX3_parse_1 : decode cX3_parse 1 = .ok (.iload_n 1, 1) := dk_27 (dk_at dksX3_parse_0 1 rfl rfl)
theorem dX3_parse_2 : decode cX3_parse 2 = .ok (.putfield 79, 3) := dk_181 0 79 (dk_at dksX3_parse_0 2 rfl rfl)
theorem dX3_parse_5 : decode cX3_parse 5 = .ok (.aload_n 0, 1) := dk_42 (dk_at dksX3_parse_0 5 rfl rfl)
theorem dX3_parse_6 : decode cX3_parse 6 = .ok (.iconst 0, 1) := dk_3 (dk_at dksX3_parse_0 6 rfl rfl)
theorem dX3_parse_7 : decode cX3_parse 7 = .ok (.putfield 72, 3) := dk_181 0 72 (dk_at dksX3_parse_0 7 rfl rfl)
theorem dX3_parse_10 : decode cX3_parse 10 = .ok (.aload_n 0, 1) := dk_42 (dk_at dksX3_parse_0 10 rfl rfl)
theorem dX3_parse_11 : decode cX3_parse 11 = .ok (.iconst 0, 1) := dk_3 (dk_at dksX3_parse_0 11 rfl rfl)
theorem dX3_parse_12 : decode cX3_parse 12 = .ok (.putfield 86, 3) := dk_181 0 86 (dk_at dksX3_parse_0 12 rfl rfl)
theorem dX3_parse_15 : decode cX3_parse 15 = .ok (.aload_n 0, 1) := dk_42 (dk_at dksX3_parse_0 15 rfl rfl)
theorem dX3_parse_16 : decode cX3_parse 16 = .ok (.iconst 0, 1) := dk_3 (dk_at dksX3_parse_0 16 rfl rfl)
theorem dX3_parse_17 : decode cX3_parse 17 = .ok (.putfield 135, 3) := dk_181 0 135 (dk_at dksX3_parse_0 17 rfl rfl)
theorem dX3_parse_20 : decode cX3_parse 20 = .ok (.aload_n 0, 1) := dk_42 (dk_at dksX3_parse_0 20 rfl rfl)
theorem dX3_parse_21 : decode cX3_parse 21 = .ok (.iconst (-1), 1) := dk_2 (dk_at dksX3_parse_0 21 rfl rfl)
theorem dX3_parse_22 : decode cX3_parse 22 = .ok (.putfield 138, 3) := dk_181 0 138 (dk_at dksX3_parse_1 0 rfl rfl)
theorem dX3_parse_25 : decode cX3_parse 25 = .ok (.aload_n 0, 1) := dk_42 (dk_at dksX3_parse_1 3 rfl rfl)
theorem dX3_parse_26 : decode cX3_parse 26 = .ok (.invokevirtual 148, 3) := dk_182 0 148 (dk_at dksX3_parse_1 4 rfl rfl)
theorem dX3_parse_29 : decode cX3_parse 29 = .ok (.pop, 1) := dk_87 (dk_at dksX3_parse_1 7 rfl rfl)
theorem dX3_parse_30 : decode cX3_parse 30 = .ok (.iconst 1, 1) := dk_4 (dk_at dksX3_parse_1 8 rfl rfl)
theorem dX3_parse_31 : decode cX3_parse 31 = .ok (.istore_n 2, 1) := dk_61 (dk_at dksX3_parse_1 9 rfl rfl)
theorem dX3_parse_32 : decode cX3_parse 32 = .ok (.iload_n 2, 1) := dk_28 (dk_at dksX3_parse_1 10 rfl rfl)
theorem dX3_parse_33 : decode cX3_parse 33 = .ok (.ifCond .eq 34, 3) := dk_153 0 34 (dk_at dksX3_parse_1 11 rfl rfl)
theorem dX3_parse_36 : decode cX3_parse 36 = .ok (.aload_n 0, 1) := dk_42 (dk_at dksX3_parse_1 14 rfl rfl)
theorem dX3_parse_37 : decode cX3_parse 37 = .ok (.getfield 104, 3) := dk_180 0 104 (dk_at dksX3_parse_1 15 rfl rfl)
theorem dX3_parse_40 : decode cX3_parse 40 = .ok (.ifCond .eq 27, 3) := dk_153 0 27 (dk_at dksX3_parse_1 18 rfl rfl)
theorem dX3_parse_43 : decode cX3_parse 43 = .ok (.aload_n 0, 1) := dk_42 (dk_at dksX3_parse_1 21 rfl rfl)
theorem dX3_parse_44 : decode cX3_parse 44 = .ok (.invokevirtual 231, 3) := dk_182 0 231 (dk_at dksX3_parse_2 0 rfl rfl)
theorem dX3_parse_47 : decode cX3_parse 47 = .ok (.ifCond .eq 15, 3) := dk_153 0 15 (dk_at dksX3_parse_2 3 rfl rfl)
theorem dX3_parse_50 : decode cX3_parse 50 = .ok (.aload_n 0, 1) := dk_42 (dk_at dksX3_parse_2 6 rfl rfl)
theorem dX3_parse_51 : decode cX3_parse 51 = .ok (.iconst 4, 1) := dk_7 (dk_at dksX3_parse_2 7 rfl rfl)
theorem dX3_parse_52 : decode cX3_parse 52 = .ok (.invokevirtual 167, 3) := dk_182 0 167 (dk_at dksX3_parse_2 8 rfl rfl)
theorem dX3_parse_55 : decode cX3_parse 55 = .ok (.ifCond .eq 7, 3) := dk_153 0 7 (dk_at dksX3_parse_2 11 rfl rfl)
theorem dX3_parse_58 : decode cX3_parse 58 = .ok (.iconst 1, 1) := dk_4 (dk_at dksX3_parse_2 14 rfl rfl)
theorem dX3_parse_59 : decode cX3_parse 59 = .ok (.goto 4, 3) := dk_167 0 4 (dk_at dksX3_parse_2 15 rfl rfl)
theorem dX3_parse_62 : decode cX3_parse 62 = .ok (.iconst 0, 1) := dk_3 (dk_at dksX3_parse_2 18 rfl rfl)
theorem dX3_parse_63 : decode cX3_parse 63 = .ok (.istore_n 2, 1) := dk_61 (dk_at dksX3_parse_2 19 rfl rfl)
theorem dX3_parse_64 : decode cX3_parse 64 = .ok (.goto (-32), 3) := dk_167 255 224 (dk_at dksX3_parse_2 20 rfl rfl)
theorem dX3_parse_67 : decode cX3_parse 67 = .ok (.aload_n 0, 1) := dk_42 (dk_at dksX3_parse_2 23 rfl rfl)
theorem dX3_parse_68 : decode cX3_parse 68 = .ok (.aload_n 0, 1) := dk_42 (dk_at dksX3_parse_3 0 rfl rfl)
theorem dX3_parse_69 : decode cX3_parse 69 = .ok (.getfield 135, 3) := dk_180 0 135 (dk_at dksX3_parse_3 1 rfl rfl)
theorem dX3_parse_72 : decode cX3_parse 72 = .ok (.putfield 234, 3) := dk_181 0 234 (dk_at dksX3_parse_3 4 rfl rfl)
theorem dX3_parse_75 : decode cX3_parse 75 = .ok (.aload_n 0, 1) := dk_42 (dk_at dksX3_parse_3 7 rfl rfl)
theorem dX3_parse_76 : decode cX3_parse 76 = .ok (.aload_n 0, 1) := dk_42 (dk_at dksX3_parse_3 8 rfl rfl)
theorem dX3_parse_77 : decode cX3_parse 77 = .ok (.getfield 138, 3) := dk_180 0 138 (dk_at dksX3_parse_3 9 rfl rfl)
theorem dX3_parse_80 : decode cX3_parse 80 = .ok (.putfield 26, 3) := dk_181 0 26 (dk_at dksX3_parse_3 12 rfl rfl)
theorem dX3_parse_83 : decode cX3_parse 83 = .ok (.iload_n 2, 1) := dk_28 (dk_at dksX3_parse_3 15 rfl rfl)
theorem dX3_parse_84 : decode cX3_parse 84 = .ok (.ifCond .ne 7, 3) := dk_154 0 7 (dk_at dksX3_parse_3 16 rfl rfl)
theorem dX3_parse_87 : decode cX3_parse 87 = .ok (.aload_n 0, 1) := dk_42 (dk_at dksX3_parse_3 19 rfl rfl)
theorem dX3_parse_88 : decode cX3_parse 88 = .ok (.invokevirtual 237, 3) := dk_182 0 237 (dk_at dksX3_parse_3 20 rfl rfl)
theorem dX3_parse_91 : decode cX3_parse 91 = .ok (.iload_n 2, 1) := dk_28 (dk_at dksX3_parse_3 23 rfl rfl)
theorem dX3_parse_92 : decode cX3_parse 92 = .ok (.ireturn, 1) := dk_172 (dk_at dksX3_parse_4 0 rfl rfl)
abbrev cX3_advance : ByteArray := prog_26_method_21_code
def yX3_advance : MethodName := ⟨RX3, "advance", "()Z"⟩
def dkwX3_advance_4 : List UInt8 := [167, 0, 8, 42, 27, 182, 0, 119, 4, 172]
abbrev dktX3_advance_4 : List UInt8 := dkwX3_advance_4 ++ []
def dkwX3_advance_3 : List UInt8 := [184, 0, 93, 153, 0, 10, 42, 182, 0, 113, 167, 0, 22, 27, 184, 0, 110, 153, 0, 10, 42, 182, 0, 116]
abbrev dktX3_advance_3 : List UInt8 := dkwX3_advance_3 ++ dktX3_advance_4
def dkwX3_advance_2 : List UInt8 := [42, 42, 180, 0, 86, 182, 0, 89, 60, 27, 2, 160, 0, 11, 42, 3, 181, 0, 104, 167, 0, 36, 27]
abbrev dktX3_advance_2 : List UInt8 := dkwX3_advance_2 ++ dktX3_advance_3
def dkwX3_advance_1 : List UInt8 := [160, 0, 16, 42, 89, 180, 0, 86, 4, 96, 181, 0, 86, 167, 255, 220, 42, 42, 180, 0, 86, 181, 0, 97]
abbrev dktX3_advance_1 : List UInt8 := dkwX3_advance_1 ++ dktX3_advance_2
def dkwX3_advance_0 : List UInt8 := [42, 42, 180, 0, 86, 182, 0, 89, 16, 32, 159, 0, 16, 42, 42, 180, 0, 86, 182, 0, 89, 16, 10]
abbrev dktX3_advance_0 : List UInt8 := dkwX3_advance_0 ++ dktX3_advance_1
theorem dksX3_advance_0 : cX3_advance.data.toList.drop 0 = dktX3_advance_0 := by decide +kernel
theorem dksX3_advance_1 : cX3_advance.data.toList.drop 23 = dktX3_advance_1 := dk_seg dksX3_advance_0 23 rfl rfl
theorem dksX3_advance_2 : cX3_advance.data.toList.drop 47 = dktX3_advance_2 := dk_seg dksX3_advance_1 24 rfl rfl
theorem dksX3_advance_3 : cX3_advance.data.toList.drop 70 = dktX3_advance_3 := dk_seg dksX3_advance_2 23 rfl rfl
theorem dksX3_advance_4 : cX3_advance.data.toList.drop 94 = dktX3_advance_4 := dk_seg dksX3_advance_3 24 rfl rfl
theorem dX3_advance_0 : decode cX3_advance 0 = .ok (.aload_n 0, 1) := dk_42 (dk_at dksX3_advance_0 0 rfl rfl)
theorem dX3_advance_1 : decode cX3_advance 1 = .ok (.aload_n 0, 1) := dk_42 (dk_at dksX3_advance_0 1 rfl rfl)
theorem dX3_advance_2 : decode cX3_advance 2 = .ok (.getfield 86, 3) := dk_180 0 86 (dk_at dksX3_advance_0 2 rfl rfl)
theorem dX3_advance_5 : decode cX3_advance 5 = .ok (.invokevirtual 89, 3) := dk_182 0 89 (dk_at dksX3_advance_0 5 rfl rfl)
theorem dX3_advance_8 : decode cX3_advance 8 = .ok (.bipush 32, 2) := dk_16 32 (dk_at dksX3_advance_0 8 rfl rfl)
theorem dX3_advance_10 : decode cX3_advance 10 = .ok (.if_icmp .eq 16, 3) := dk_159 0 16 (dk_at dksX3_advance_0 10 rfl rfl)
theorem dX3_advance_13 : decode cX3_advance 13 = .ok (.aload_n 0, 1) := dk_42 (dk_at dksX3_advance_0 13 rfl rfl)
theorem dX3_advance_14 : decode cX3_advance 14 = .ok (.aload_n 0, 1) := dk_42 (dk_at dksX3_advance_0 14 rfl rfl)
theorem dX3_advance_15 : decode cX3_advance 15 = .ok (.getfield 86, 3) := dk_180 0 86 (dk_at dksX3_advance_0 15 rfl rfl)
theorem dX3_advance_18 : decode cX3_advance 18 = .ok (.invokevirtual 89, 3) := dk_182 0 89 (dk_at dksX3_advance_0 18 rfl rfl)
theorem dX3_advance_21 : decode cX3_advance 21 = .ok (.bipush 10, 2) := dk_16 10 (dk_at dksX3_advance_0 21 rfl rfl)
theorem dX3_advance_23 : decode cX3_advance 23 = .ok (.if_icmp .ne 16, 3) := dk_160 0 16 (dk_at dksX3_advance_1 0 rfl rfl)
theorem dX3_advance_26 : decode cX3_advance 26 = .ok (.aload_n 0, 1) := dk_42 (dk_at dksX3_advance_1 3 rfl rfl)
theorem dX3_advance_27 : decode cX3_advance 27 = .ok (.dup, 1) := dk_89 (dk_at dksX3_advance_1 4 rfl rfl)
theorem dX3_advance_28 : decode cX3_advance 28 = .ok (.getfield 86, 3) := dk_180 0 86 (dk_at dksX3_advance_1 5 rfl rfl)
theorem dX3_advance_31 : decode cX3_advance 31 = .ok (.iconst 1, 1) := dk_4 (dk_at dksX3_advance_1 8 rfl rfl)
theorem dX3_advance_32 : decode cX3_advance 32 = .ok (.iadd, 1) := dk_96 (dk_at dksX3_advance_1 9 rfl rfl)
theorem dX3_advance_33 : decode cX3_advance 33 = .ok (.putfield 86, 3) := dk_181 0 86 (dk_at dksX3_advance_1 10 rfl rfl)
theorem dX3_advance_36 : decode cX3_advance 36 = .ok (.goto (-36), 3) := dk_167 255 220 (dk_at dksX3_advance_1 13 rfl rfl)
theorem dX3_advance_39 : decode cX3_advance 39 = .ok (.aload_n 0, 1) := dk_42 (dk_at dksX3_advance_1 16 rfl rfl)
theorem dX3_advance_40 : decode cX3_advance 40 = .ok (.aload_n 0, 1) := dk_42 (dk_at dksX3_advance_1 17 rfl rfl)
theorem dX3_advance_41 : decode cX3_advance 41 = .ok (.getfield 86, 3) := dk_180 0 86 (dk_at dksX3_advance_1 18 rfl rfl)
theorem dX3_advance_44 : decode cX3_advance 44 = .ok (.putfield 97, 3) := dk_181 0 97 (dk_at dksX3_advance_1 21 rfl rfl)
theorem dX3_advance_47 : decode cX3_advance 47 = .ok (.aload_n 0, 1) := dk_42 (dk_at dksX3_advance_2 0 rfl rfl)
theorem dX3_advance_48 : decode cX3_advance 48 = .ok (.aload_n 0, 1) := dk_42 (dk_at dksX3_advance_2 1 rfl rfl)
theorem dX3_advance_49 : decode cX3_advance 49 = .ok (.getfield 86, 3) := dk_180 0 86 (dk_at dksX3_advance_2 2 rfl rfl)
theorem dX3_advance_52 : decode cX3_advance 52 = .ok (.invokevirtual 89, 3) := dk_182 0 89 (dk_at dksX3_advance_2 5 rfl rfl)
theorem dX3_advance_55 : decode cX3_advance 55 = .ok (.istore_n 1, 1) := dk_60 (dk_at dksX3_advance_2 8 rfl rfl)
theorem dX3_advance_56 : decode cX3_advance 56 = .ok (.iload_n 1, 1) := dk_27 (dk_at dksX3_advance_2 9 rfl rfl)
theorem dX3_advance_57 : decode cX3_advance 57 = .ok (.iconst (-1), 1) := dk_2 (dk_at dksX3_advance_2 10 rfl rfl)
theorem dX3_advance_58 : decode cX3_advance 58 = .ok (.if_icmp .ne 11, 3) := dk_160 0 11 (dk_at dksX3_advance_2 11 rfl rfl)
theorem dX3_advance_61 : decode cX3_advance 61 = .ok (.aload_n 0, 1) := dk_42 (dk_at dksX3_advance_2 14 rfl rfl)
theorem dX3_advance_62 : decode cX3_advance 62 = .ok (.iconst 0, 1) := dk_3 (dk_at dksX3_advance_2 15 rfl rfl)
theorem dX3_advance_63 : decode cX3_advance 63 = .ok (.putfield 104, 3) := dk_181 0 104 (dk_at dksX3_advance_2 16 rfl rfl)
theorem dX3_advance_66 : decode cX3_advance 66 = .ok (.goto 36, 3) := dk_167 0 36 (dk_at dksX3_advance_2 19 rfl rfl)
theorem dX3_advance_69 : decode cX3_advance 69 = .ok (.iload_n 1, 1) := dk_27 (dk_at dksX3_advance_2 22 rfl rfl)
theorem dX3_advance_70 : decode cX3_advance 70 = .ok (.invokestatic 93, 3) := dk_184 0 93 (dk_at dksX3_advance_3 0 rfl rfl)
theorem dX3_advance_73 : decode cX3_advance 73 = .ok (.ifCond .eq 10, 3) := dk_153 0 10 (dk_at dksX3_advance_3 3 rfl rfl)
theorem dX3_advance_76 : decode cX3_advance 76 = .ok (.aload_n 0, 1) := dk_42 (dk_at dksX3_advance_3 6 rfl rfl)
theorem dX3_advance_77 : decode cX3_advance 77 = .ok (.invokevirtual 113, 3) := dk_182 0 113 (dk_at dksX3_advance_3 7 rfl rfl)
theorem dX3_advance_80 : decode cX3_advance 80 = .ok (.goto 22, 3) := dk_167 0 22 (dk_at dksX3_advance_3 10 rfl rfl)
theorem dX3_advance_83 : decode cX3_advance 83 = .ok (.iload_n 1, 1) := dk_27 (dk_at dksX3_advance_3 13 rfl rfl)
theorem dX3_advance_84 : decode cX3_advance 84 = .ok (.invokestatic 110, 3) := dk_184 0 110 (dk_at dksX3_advance_3 14 rfl rfl)
theorem dX3_advance_87 : decode cX3_advance 87 = .ok (.ifCond .eq 10, 3) := dk_153 0 10 (dk_at dksX3_advance_3 17 rfl rfl)
theorem dX3_advance_90 : decode cX3_advance 90 = .ok (.aload_n 0, 1) := dk_42 (dk_at dksX3_advance_3 20 rfl rfl)
theorem dX3_advance_91 : decode cX3_advance 91 = .ok (.invokevirtual 116, 3) := dk_182 0 116 (dk_at dksX3_advance_3 21 rfl rfl)
theorem dX3_advance_94 : decode cX3_advance 94 = .ok (.goto 8, 3) := dk_167 0 8 (dk_at dksX3_advance_4 0 rfl rfl)
theorem dX3_advance_97 : decode cX3_advance 97 = .ok (.aload_n 0, 1) := dk_42 (dk_at dksX3_advance_4 3 rfl rfl)
theorem dX3_advance_98 : decode cX3_advance 98 = .ok (.iload_n 1, 1) := dk_27 (dk_at dksX3_advance_4 4 rfl rfl)
theorem dX3_advance_99 : decode cX3_advance 99 = .ok (.invokevirtual 119, 3) := dk_182 0 119 (dk_at dksX3_advance_4 5 rfl rfl)
theorem dX3_advance_102 : decode cX3_advance 102 = .ok (.iconst 1, 1) := dk_4 (dk_at dksX3_advance_4 8 rfl rfl)
theorem dX3_advance_103 : decode cX3_advance 103 = .ok (.ireturn, 1) := dk_172 (dk_at dksX3_advance_4 9 rfl rfl)
abbrev cX3_byteAt : ByteArray := prog_26_method_15_code
def yX3_byteAt : MethodName := ⟨RX3, "byteAt", "(I)I"⟩
def dkwX3_byteAt_0 : List UInt8 := [27, 42, 180, 0, 79, 162, 0, 12, 42, 180, 0, 22, 27, 46, 167, 0, 4, 2, 172]
abbrev dktX3_byteAt_0 : List UInt8 := dkwX3_byteAt_0 ++ []
theorem dksX3_byteAt_0 : cX3_byteAt.data.toList.drop 0 = dktX3_byteAt_0 := by decide +kernel
theorem dX3_byteAt_0 : decode cX3_byteAt 0 = .ok (.iload_n 1, 1) := dk_27 (dk_at dksX3_byteAt_0 0 rfl rfl)
theorem dX3_byteAt_1 : decode cX3_byteAt 1 = .ok (.aload_n 0, 1) := dk_42 (dk_at dksX3_byteAt_0 1 rfl rfl)
theorem dX3_byteAt_2 : decode cX3_byteAt 2 = .ok (.getfield 79, 3) := dk_180 0 79 (dk_at dksX3_byteAt_0 2 rfl rfl)
theorem dX3_byteAt_5 : decode cX3_byteAt 5 = .ok (.if_icmp .ge 12, 3) := dk_162 0 12 (dk_at dksX3_byteAt_0 5 rfl rfl)
theorem dX3_byteAt_8 : decode cX3_byteAt 8 = .ok (.aload_n 0, 1) := dk_42 (dk_at dksX3_byteAt_0 8 rfl rfl)
theorem dX3_byteAt_9 : decode cX3_byteAt 9 = .ok (.getfield 22, 3) := dk_180 0 22 (dk_at dksX3_byteAt_0 9 rfl rfl)
theorem dX3_byteAt_12 : decode cX3_byteAt 12 = .ok (.iload_n 1, 1) := dk_27 (dk_at dksX3_byteAt_0 12 rfl rfl)
theorem dX3_byteAt_13 : decode cX3_byteAt 13 = .ok (.iaload, 1) := dk_46 (dk_at dksX3_byteAt_0 13 rfl rfl)
theorem dX3_byteAt_14 : decode cX3_byteAt 14 = .ok (.goto 4, 3) := dk_167 0 4 (dk_at dksX3_byteAt_0 14 rfl rfl)
theorem dX3_byteAt_17 : decode cX3_byteAt 17 = .ok (.iconst (-1), 1) := dk_2 (dk_at dksX3_byteAt_0 17 rfl rfl)
theorem dX3_byteAt_18 : decode cX3_byteAt 18 = .ok (.ireturn, 1) := dk_172 (dk_at dksX3_byteAt_0 18 rfl rfl)
abbrev cX3_isLetter : ByteArray := prog_26_method_16_code
def yX3_isLetter : MethodName := ⟨RX3, "isLetter", "(I)Z"⟩
def dkwX3_isLetter_0 : List UInt8 := [26, 16, 97, 161, 0, 13, 26, 16, 122, 163, 0, 7, 4, 167, 0, 4, 3, 172]
abbrev dktX3_isLetter_0 : List UInt8 := dkwX3_isLetter_0 ++ []
theorem dksX3_isLetter_0 : cX3_isLetter.data.toList.drop 0 = dktX3_isLetter_0 := by decide +kernel
theorem dX3_isLetter_0 : decode cX3_isLetter 0 = .ok (.iload_n 0, 1) := dk_26 (dk_at dksX3_isLetter_0 0 rfl rfl)
theorem dX3_isLetter_1 : decode cX3_isLetter 1 = .ok (.bipush 97, 2) := dk_16 97 (dk_at dksX3_isLetter_0 1 rfl rfl)
theorem dX3_isLetter_3 : decode cX3_isLetter 3 = .ok (.if_icmp .lt 13, 3) := dk_161 0 13 (dk_at dksX3_isLetter_0 3 rfl rfl)
theorem dX3_isLetter_6 : decode cX3_isLetter 6 = .ok (.iload_n 0, 1) := dk_26 (dk_at dksX3_isLetter_0 6 rfl rfl)
theorem dX3_isLetter_7 : decode cX3_isLetter 7 = .ok (.bipush 122, 2) := dk_16 122 (dk_at dksX3_isLetter_0 7 rfl rfl)
theorem dX3_isLetter_9 : decode cX3_isLetter 9 = .ok (.if_icmp .gt 7, 3) := dk_163 0 7 (dk_at dksX3_isLetter_0 9 rfl rfl)
theorem dX3_isLetter_12 : decode cX3_isLetter 12 = .ok (.iconst 1, 1) := dk_4 (dk_at dksX3_isLetter_0 12 rfl rfl)
theorem dX3_isLetter_13 : decode cX3_isLetter 13 = .ok (.goto 4, 3) := dk_167 0 4 (dk_at dksX3_isLetter_0 13 rfl rfl)
theorem dX3_isLetter_16 : decode cX3_isLetter 16 = .ok (.iconst 0, 1) := dk_3 (dk_at dksX3_isLetter_0 16 rfl rfl)
theorem dX3_isLetter_17 : decode cX3_isLetter 17 = .ok (.ireturn, 1) := dk_172 (dk_at dksX3_isLetter_0 17 rfl rfl)
abbrev cX3_readWord : ByteArray := prog_26_method_18_code
def yX3_readWord : MethodName := ⟨RX3, "readWord", "()V"⟩
def dkwX3_readWord_4 : List UInt8 := [164, 0, 7, 4, 167, 0, 4, 5, 181, 0, 104, 177]
abbrev dktX3_readWord_4 : List UInt8 := dkwX3_readWord_4 ++ []
def dkwX3_readWord_3 : List UInt8 := [180, 0, 86, 4, 96, 181, 0, 86, 167, 255, 183, 42, 42, 180, 0, 86, 42, 180, 0, 97, 100, 16, 8]
abbrev dktX3_readWord_3 : List UInt8 := dkwX3_readWord_3 ++ dktX3_readWord_4
def dkwX3_readWord_2 : List UInt8 := [182, 0, 89, 133, 97, 20, 0, 102, 101, 10, 97, 167, 0, 7, 42, 180, 0, 82, 181, 0, 82, 42, 89]
abbrev dktX3_readWord_2 : List UInt8 := dkwX3_readWord_2 ++ dktX3_readWord_3
def dkwX3_readWord_1 : List UInt8 := [42, 180, 0, 97, 100, 16, 8, 162, 0, 30, 20, 0, 100, 42, 180, 0, 82, 105, 42, 42, 180, 0, 86]
abbrev dktX3_readWord_1 : List UInt8 := dkwX3_readWord_1 ++ dktX3_readWord_2
def dkwX3_readWord_0 : List UInt8 := [42, 9, 181, 0, 82, 42, 42, 180, 0, 86, 182, 0, 89, 184, 0, 93, 153, 0, 65, 42, 42, 180, 0, 86]
abbrev dktX3_readWord_0 : List UInt8 := dkwX3_readWord_0 ++ dktX3_readWord_1
theorem dksX3_readWord_0 : cX3_readWord.data.toList.drop 0 = dktX3_readWord_0 := by decide +kernel
theorem dksX3_readWord_1 : cX3_readWord.data.toList.drop 24 = dktX3_readWord_1 := dk_seg dksX3_readWord_0 24 rfl rfl
theorem dksX3_readWord_2 : cX3_readWord.data.toList.drop 47 = dktX3_readWord_2 := dk_seg dksX3_readWord_1 23 rfl rfl
theorem dksX3_readWord_3 : cX3_readWord.data.toList.drop 70 = dktX3_readWord_3 := dk_seg dksX3_readWord_2 23 rfl rfl
theorem dksX3_readWord_4 : cX3_readWord.data.toList.drop 93 = dktX3_readWord_4 := dk_seg dksX3_readWord_3 23 rfl rfl
theorem dX3_readWord_0 : decode cX3_readWord 0 = .ok (.aload_n 0, 1) := dk_42 (dk_at dksX3_readWord_0 0 rfl rfl)
theorem dX3_readWord_1 : decode cX3_readWord 1 = .ok (.lconst 0, 1) := dk_9 (dk_at dksX3_readWord_0 1 rfl rfl)
theorem dX3_readWord_2 : decode cX3_readWord 2 = .ok (.putfield 82, 3) := dk_181 0 82 (dk_at dksX3_readWord_0 2 rfl rfl)
theorem dX3_readWord_5 : decode cX3_readWord 5 = .ok (.aload_n 0, 1) := dk_42 (dk_at dksX3_readWord_0 5 rfl rfl)
theorem dX3_readWord_6 : decode cX3_readWord 6 = .ok (.aload_n 0, 1) := dk_42 (dk_at dksX3_readWord_0 6 rfl rfl)
theorem dX3_readWord_7 : decode cX3_readWord 7 = .ok (.getfield 86, 3) := dk_180 0 86 (dk_at dksX3_readWord_0 7 rfl rfl)
theorem dX3_readWord_10 : decode cX3_readWord 10 = .ok (.invokevirtual 89, 3) := dk_182 0 89 (dk_at dksX3_readWord_0 10 rfl rfl)
theorem dX3_readWord_13 : decode cX3_readWord 13 = .ok (.invokestatic 93, 3) := dk_184 0 93 (dk_at dksX3_readWord_0 13 rfl rfl)
theorem dX3_readWord_16 : decode cX3_readWord 16 = .ok (.ifCond .eq 65, 3) := dk_153 0 65 (dk_at dksX3_readWord_0 16 rfl rfl)
theorem dX3_readWord_19 : decode cX3_readWord 19 = .ok (.aload_n 0, 1) := dk_42 (dk_at dksX3_readWord_0 19 rfl rfl)
theorem dX3_readWord_20 : decode cX3_readWord 20 = .ok (.aload_n 0, 1) := dk_42 (dk_at dksX3_readWord_0 20 rfl rfl)
theorem dX3_readWord_21 : decode cX3_readWord 21 = .ok (.getfield 86, 3) := dk_180 0 86 (dk_at dksX3_readWord_0 21 rfl rfl)
theorem dX3_readWord_24 : decode cX3_readWord 24 = .ok (.aload_n 0, 1) := dk_42 (dk_at dksX3_readWord_1 0 rfl rfl)
theorem dX3_readWord_25 : decode cX3_readWord 25 = .ok (.getfield 97, 3) := dk_180 0 97 (dk_at dksX3_readWord_1 1 rfl rfl)
theorem dX3_readWord_28 : decode cX3_readWord 28 = .ok (.isub, 1) := dk_100 (dk_at dksX3_readWord_1 4 rfl rfl)
theorem dX3_readWord_29 : decode cX3_readWord 29 = .ok (.bipush 8, 2) := dk_16 8 (dk_at dksX3_readWord_1 5 rfl rfl)
theorem dX3_readWord_31 : decode cX3_readWord 31 = .ok (.if_icmp .ge 30, 3) := dk_162 0 30 (dk_at dksX3_readWord_1 7 rfl rfl)
theorem dX3_readWord_34 : decode cX3_readWord 34 = .ok (.ldc2_w 100, 3) := dk_20 0 100 (dk_at dksX3_readWord_1 10 rfl rfl)
theorem dX3_readWord_37 : decode cX3_readWord 37 = .ok (.aload_n 0, 1) := dk_42 (dk_at dksX3_readWord_1 13 rfl rfl)
theorem dX3_readWord_38 : decode cX3_readWord 38 = .ok (.getfield 82, 3) := dk_180 0 82 (dk_at dksX3_readWord_1 14 rfl rfl)
theorem dX3_readWord_41 : decode cX3_readWord 41 = .ok (.lmul, 1) := dk_105 (dk_at dksX3_readWord_1 17 rfl rfl)
theorem dX3_readWord_42 : decode cX3_readWord 42 = .ok (.aload_n 0, 1) := dk_42 (dk_at dksX3_readWord_1 18 rfl rfl)
theorem dX3_readWord_43 : decode cX3_readWord 43 = .ok (.aload_n 0, 1) := dk_42 (dk_at dksX3_readWord_1 19 rfl rfl)
theorem dX3_readWord_44 : decode cX3_readWord 44 = .ok (.getfield 86, 3) := dk_180 0 86 (dk_at dksX3_readWord_1 20 rfl rfl)
theorem dX3_readWord_47 : decode cX3_readWord 47 = .ok (.invokevirtual 89, 3) := dk_182 0 89 (dk_at dksX3_readWord_2 0 rfl rfl)
theorem dX3_readWord_50 : decode cX3_readWord 50 = .ok (.i2l, 1) := dk_133 (dk_at dksX3_readWord_2 3 rfl rfl)
theorem dX3_readWord_51 : decode cX3_readWord 51 = .ok (.ladd, 1) := dk_97 (dk_at dksX3_readWord_2 4 rfl rfl)
theorem dX3_readWord_52 : decode cX3_readWord 52 = .ok (.ldc2_w 102, 3) := dk_20 0 102 (dk_at dksX3_readWord_2 5 rfl rfl)
theorem dX3_readWord_55 : decode cX3_readWord 55 = .ok (.lsub, 1) := dk_101 (dk_at dksX3_readWord_2 8 rfl rfl)
theorem dX3_readWord_56 : decode cX3_readWord 56 = .ok (.lconst 1, 1) := dk_10 (dk_at dksX3_readWord_2 9 rfl rfl)
theorem dX3_readWord_57 : decode cX3_readWord 57 = .ok (.ladd, 1) := dk_97 (dk_at dksX3_readWord_2 10 rfl rfl)
theorem dX3_readWord_58 : decode cX3_readWord 58 = .ok (.goto 7, 3) := dk_167 0 7 (dk_at dksX3_readWord_2 11 rfl rfl)
theorem dX3_readWord_61 : decode cX3_readWord 61 = .ok (.aload_n 0, 1) := dk_42 (dk_at dksX3_readWord_2 14 rfl rfl)
theorem dX3_readWord_62 : decode cX3_readWord 62 = .ok (.getfield 82, 3) := dk_180 0 82 (dk_at dksX3_readWord_2 15 rfl rfl)
theorem dX3_readWord_65 : decode cX3_readWord 65 = .ok (.putfield 82, 3) := dk_181 0 82 (dk_at dksX3_readWord_2 18 rfl rfl)
theorem dX3_readWord_68 : decode cX3_readWord 68 = .ok (.aload_n 0, 1) := dk_42 (dk_at dksX3_readWord_2 21 rfl rfl)
theorem dX3_readWord_69 : decode cX3_readWord 69 = .ok (.dup, 1) := dk_89 (dk_at dksX3_readWord_2 22 rfl rfl)
theorem dX3_readWord_70 : decode cX3_readWord 70 = .ok (.getfield 86, 3) := dk_180 0 86 (dk_at dksX3_readWord_3 0 rfl rfl)
theorem dX3_readWord_73 : decode cX3_readWord 73 = .ok (.iconst 1, 1) := dk_4 (dk_at dksX3_readWord_3 3 rfl rfl)
theorem dX3_readWord_74 : decode cX3_readWord 74 = .ok (.iadd, 1) := dk_96 (dk_at dksX3_readWord_3 4 rfl rfl)
theorem dX3_readWord_75 : decode cX3_readWord 75 = .ok (.putfield 86, 3) := dk_181 0 86 (dk_at dksX3_readWord_3 5 rfl rfl)
theorem dX3_readWord_78 : decode cX3_readWord 78 = .ok (.goto (-73), 3) := dk_167 255 183 (dk_at dksX3_readWord_3 8 rfl rfl)
theorem dX3_readWord_81 : decode cX3_readWord 81 = .ok (.aload_n 0, 1) := dk_42 (dk_at dksX3_readWord_3 11 rfl rfl)
theorem dX3_readWord_82 : decode cX3_readWord 82 = .ok (.aload_n 0, 1) := dk_42 (dk_at dksX3_readWord_3 12 rfl rfl)
theorem dX3_readWord_83 : decode cX3_readWord 83 = .ok (.getfield 86, 3) := dk_180 0 86 (dk_at dksX3_readWord_3 13 rfl rfl)
theorem dX3_readWord_86 : decode cX3_readWord 86 = .ok (.aload_n 0, 1) := dk_42 (dk_at dksX3_readWord_3 16 rfl rfl)
theorem dX3_readWord_87 : decode cX3_readWord 87 = .ok (.getfield 97, 3) := dk_180 0 97 (dk_at dksX3_readWord_3 17 rfl rfl)
theorem dX3_readWord_90 : decode cX3_readWord 90 = .ok (.isub, 1) := dk_100 (dk_at dksX3_readWord_3 20 rfl rfl)
theorem dX3_readWord_91 : decode cX3_readWord 91 = .ok (.bipush 8, 2) := dk_16 8 (dk_at dksX3_readWord_3 21 rfl rfl)
theorem dX3_readWord_93 : decode cX3_readWord 93 = .ok (.if_icmp .le 7, 3) := dk_164 0 7 (dk_at dksX3_readWord_4 0 rfl rfl)
theorem dX3_readWord_96 : decode cX3_readWord 96 = .ok (.iconst 1, 1) := dk_4 (dk_at dksX3_readWord_4 3 rfl rfl)
theorem dX3_readWord_97 : decode cX3_readWord 97 = .ok (.goto 4, 3) := dk_167 0 4 (dk_at dksX3_readWord_4 4 rfl rfl)
theorem dX3_readWord_100 : decode cX3_readWord 100 = .ok (.iconst 2, 1) := dk_5 (dk_at dksX3_readWord_4 7 rfl rfl)
theorem dX3_readWord_101 : decode cX3_readWord 101 = .ok (.putfield 104, 3) := dk_181 0 104 (dk_at dksX3_readWord_4 8 rfl rfl)
theorem dX3_readWord_104 : decode cX3_readWord 104 = .ok (.return_, 1) := dk_177 (dk_at dksX3_readWord_4 11 rfl rfl)
abbrev cX3_isDigit : ByteArray := prog_26_method_17_code
def yX3_isDigit : MethodName := ⟨RX3, "isDigit", "(I)Z"⟩
def dkwX3_isDigit_0 : List UInt8 := [26, 16, 48, 161, 0, 13, 26, 16, 57, 163, 0, 7, 4, 167, 0, 4, 3, 172]
abbrev dktX3_isDigit_0 : List UInt8 := dkwX3_isDigit_0 ++ []
theorem dksX3_isDigit_0 : cX3_isDigit.data.toList.drop 0 = dktX3_isDigit_0 := by decide +kernel
theorem dX3_isDigit_0 : decode cX3_isDigit 0 = .ok (.iload_n 0, 1) := dk_26 (dk_at dksX3_isDigit_0 0 rfl rfl)
theorem dX3_isDigit_1 : decode cX3_isDigit 1 = .ok (.bipush 48, 2) := dk_16 48 (dk_at dksX3_isDigit_0 1 rfl rfl)
theorem dX3_isDigit_3 : decode cX3_isDigit 3 = .ok (.if_icmp .lt 13, 3) := dk_161 0 13 (dk_at dksX3_isDigit_0 3 rfl rfl)
theorem dX3_isDigit_6 : decode cX3_isDigit 6 = .ok (.iload_n 0, 1) := dk_26 (dk_at dksX3_isDigit_0 6 rfl rfl)
theorem dX3_isDigit_7 : decode cX3_isDigit 7 = .ok (.bipush 57, 2) := dk_16 57 (dk_at dksX3_isDigit_0 7 rfl rfl)
theorem dX3_isDigit_9 : decode cX3_isDigit 9 = .ok (.if_icmp .gt 7, 3) := dk_163 0 7 (dk_at dksX3_isDigit_0 9 rfl rfl)
theorem dX3_isDigit_12 : decode cX3_isDigit 12 = .ok (.iconst 1, 1) := dk_4 (dk_at dksX3_isDigit_0 12 rfl rfl)
theorem dX3_isDigit_13 : decode cX3_isDigit 13 = .ok (.goto 4, 3) := dk_167 0 4 (dk_at dksX3_isDigit_0 13 rfl rfl)
theorem dX3_isDigit_16 : decode cX3_isDigit 16 = .ok (.iconst 0, 1) := dk_3 (dk_at dksX3_isDigit_0 16 rfl rfl)
theorem dX3_isDigit_17 : decode cX3_isDigit 17 = .ok (.ireturn, 1) := dk_172 (dk_at dksX3_isDigit_0 17 rfl rfl)
abbrev cX3_readNumber : ByteArray := prog_26_method_19_code
def yX3_readNumber : MethodName := ⟨RX3, "readNumber", "()V"⟩
def dkwX3_readNumber_4 : List UInt8 := [181, 0, 104, 177]
abbrev dktX3_readNumber_4 : List UInt8 := dkwX3_readNumber_4 ++ []
def dkwX3_readNumber_3 : List UInt8 := [167, 255, 189, 42, 42, 180, 0, 86, 42, 180, 0, 97, 100, 7, 164, 0, 7, 4, 167, 0, 4, 6]
abbrev dktX3_readNumber_3 : List UInt8 := dkwX3_readNumber_3 ++ dktX3_readNumber_4
def dkwX3_readNumber_2 : List UInt8 := [96, 16, 48, 100, 167, 0, 7, 42, 180, 0, 107, 181, 0, 107, 42, 89, 180, 0, 86, 4, 96, 181, 0, 86]
abbrev dktX3_readNumber_2 : List UInt8 := dkwX3_readNumber_2 ++ dktX3_readNumber_3
def dkwX3_readNumber_1 : List UInt8 := [42, 180, 0, 97, 100, 7, 162, 0, 25, 16, 10, 42, 180, 0, 107, 104, 42, 42, 180, 0, 86, 182, 0, 89]
abbrev dktX3_readNumber_1 : List UInt8 := dkwX3_readNumber_1 ++ dktX3_readNumber_2
def dkwX3_readNumber_0 : List UInt8 := [42, 3, 181, 0, 107, 42, 42, 180, 0, 86, 182, 0, 89, 184, 0, 110, 153, 0, 59, 42, 42, 180, 0, 86]
abbrev dktX3_readNumber_0 : List UInt8 := dkwX3_readNumber_0 ++ dktX3_readNumber_1
theorem dksX3_readNumber_0 : cX3_readNumber.data.toList.drop 0 = dktX3_readNumber_0 := by decide +kernel
theorem dksX3_readNumber_1 : cX3_readNumber.data.toList.drop 24 = dktX3_readNumber_1 := dk_seg dksX3_readNumber_0 24 rfl rfl
theorem dksX3_readNumber_2 : cX3_readNumber.data.toList.drop 48 = dktX3_readNumber_2 := dk_seg dksX3_readNumber_1 24 rfl rfl
theorem dksX3_readNumber_3 : cX3_readNumber.data.toList.drop 72 = dktX3_readNumber_3 := dk_seg dksX3_readNumber_2 24 rfl rfl
theorem dksX3_readNumber_4 : cX3_readNumber.data.toList.drop 94 = dktX3_readNumber_4 := dk_seg dksX3_readNumber_3 22 rfl rfl
theorem dX3_readNumber_0 : decode cX3_readNumber 0 = .ok (.aload_n 0, 1) := dk_42 (dk_at dksX3_readNumber_0 0 rfl rfl)
theorem dX3_readNumber_1 : decode cX3_readNumber 1 = .ok (.iconst 0, 1) := dk_3 (dk_at dksX3_readNumber_0 1 rfl rfl)
theorem dX3_readNumber_2 : decode cX3_readNumber 2 = .ok (.putfield 107, 3) := dk_181 0 107 (dk_at dksX3_readNumber_0 2 rfl rfl)
theorem dX3_readNumber_5 : decode cX3_readNumber 5 = .ok (.aload_n 0, 1) := dk_42 (dk_at dksX3_readNumber_0 5 rfl rfl)
theorem dX3_readNumber_6 : decode cX3_readNumber 6 = .ok (.aload_n 0, 1) := dk_42 (dk_at dksX3_readNumber_0 6 rfl rfl)
theorem dX3_readNumber_7 : decode cX3_readNumber 7 = .ok (.getfield 86, 3) := dk_180 0 86 (dk_at dksX3_readNumber_0 7 rfl rfl)
theorem dX3_readNumber_10 : decode cX3_readNumber 10 = .ok (.invokevirtual 89, 3) := dk_182 0 89 (dk_at dksX3_readNumber_0 10 rfl rfl)
theorem dX3_readNumber_13 : decode cX3_readNumber 13 = .ok (.invokestatic 110, 3) := dk_184 0 110 (dk_at dksX3_readNumber_0 13 rfl rfl)
theorem dX3_readNumber_16 : decode cX3_readNumber 16 = .ok (.ifCond .eq 59, 3) := dk_153 0 59 (dk_at dksX3_readNumber_0 16 rfl rfl)
theorem dX3_readNumber_19 : decode cX3_readNumber 19 = .ok (.aload_n 0, 1) := dk_42 (dk_at dksX3_readNumber_0 19 rfl rfl)
theorem dX3_readNumber_20 : decode cX3_readNumber 20 = .ok (.aload_n 0, 1) := dk_42 (dk_at dksX3_readNumber_0 20 rfl rfl)
theorem dX3_readNumber_21 : decode cX3_readNumber 21 = .ok (.getfield 86, 3) := dk_180 0 86 (dk_at dksX3_readNumber_0 21 rfl rfl)
theorem dX3_readNumber_24 : decode cX3_readNumber 24 = .ok (.aload_n 0, 1) := dk_42 (dk_at dksX3_readNumber_1 0 rfl rfl)
theorem dX3_readNumber_25 : decode cX3_readNumber 25 = .ok (.getfield 97, 3) := dk_180 0 97 (dk_at dksX3_readNumber_1 1 rfl rfl)
theorem dX3_readNumber_28 : decode cX3_readNumber 28 = .ok (.isub, 1) := dk_100 (dk_at dksX3_readNumber_1 4 rfl rfl)
theorem dX3_readNumber_29 : decode cX3_readNumber 29 = .ok (.iconst 4, 1) := dk_7 (dk_at dksX3_readNumber_1 5 rfl rfl)
theorem dX3_readNumber_30 : decode cX3_readNumber 30 = .ok (.if_icmp .ge 25, 3) := dk_162 0 25 (dk_at dksX3_readNumber_1 6 rfl rfl)
theorem dX3_readNumber_33 : decode cX3_readNumber 33 = .ok (.bipush 10, 2) := dk_16 10 (dk_at dksX3_readNumber_1 9 rfl rfl)
theorem dX3_readNumber_35 : decode cX3_readNumber 35 = .ok (.aload_n 0, 1) := dk_42 (dk_at dksX3_readNumber_1 11 rfl rfl)
theorem dX3_readNumber_36 : decode cX3_readNumber 36 = .ok (.getfield 107, 3) := dk_180 0 107 (dk_at dksX3_readNumber_1 12 rfl rfl)
theorem dX3_readNumber_39 : decode cX3_readNumber 39 = .ok (.imul, 1) := dk_104 (dk_at dksX3_readNumber_1 15 rfl rfl)
theorem dX3_readNumber_40 : decode cX3_readNumber 40 = .ok (.aload_n 0, 1) := dk_42 (dk_at dksX3_readNumber_1 16 rfl rfl)
theorem dX3_readNumber_41 : decode cX3_readNumber 41 = .ok (.aload_n 0, 1) := dk_42 (dk_at dksX3_readNumber_1 17 rfl rfl)
theorem dX3_readNumber_42 : decode cX3_readNumber 42 = .ok (.getfield 86, 3) := dk_180 0 86 (dk_at dksX3_readNumber_1 18 rfl rfl)
theorem dX3_readNumber_45 : decode cX3_readNumber 45 = .ok (.invokevirtual 89, 3) := dk_182 0 89 (dk_at dksX3_readNumber_1 21 rfl rfl)
theorem dX3_readNumber_48 : decode cX3_readNumber 48 = .ok (.iadd, 1) := dk_96 (dk_at dksX3_readNumber_2 0 rfl rfl)
theorem dX3_readNumber_49 : decode cX3_readNumber 49 = .ok (.bipush 48, 2) := dk_16 48 (dk_at dksX3_readNumber_2 1 rfl rfl)
theorem dX3_readNumber_51 : decode cX3_readNumber 51 = .ok (.isub, 1) := dk_100 (dk_at dksX3_readNumber_2 3 rfl rfl)
theorem dX3_readNumber_52 : decode cX3_readNumber 52 = .ok (.goto 7, 3) := dk_167 0 7 (dk_at dksX3_readNumber_2 4 rfl rfl)
theorem dX3_readNumber_55 : decode cX3_readNumber 55 = .ok (.aload_n 0, 1) := dk_42 (dk_at dksX3_readNumber_2 7 rfl rfl)
theorem dX3_readNumber_56 : decode cX3_readNumber 56 = .ok (.getfield 107, 3) := dk_180 0 107 (dk_at dksX3_readNumber_2 8 rfl rfl)
theorem dX3_readNumber_59 : decode cX3_readNumber 59 = .ok (.putfield 107, 3) := dk_181 0 107 (dk_at dksX3_readNumber_2 11 rfl rfl)
theorem dX3_readNumber_62 : decode cX3_readNumber 62 = .ok (.aload_n 0, 1) := dk_42 (dk_at dksX3_readNumber_2 14 rfl rfl)
theorem dX3_readNumber_63 : decode cX3_readNumber 63 = .ok (.dup, 1) := dk_89 (dk_at dksX3_readNumber_2 15 rfl rfl)
theorem dX3_readNumber_64 : decode cX3_readNumber 64 = .ok (.getfield 86, 3) := dk_180 0 86 (dk_at dksX3_readNumber_2 16 rfl rfl)
theorem dX3_readNumber_67 : decode cX3_readNumber 67 = .ok (.iconst 1, 1) := dk_4 (dk_at dksX3_readNumber_2 19 rfl rfl)
theorem dX3_readNumber_68 : decode cX3_readNumber 68 = .ok (.iadd, 1) := dk_96 (dk_at dksX3_readNumber_2 20 rfl rfl)
theorem dX3_readNumber_69 : decode cX3_readNumber 69 = .ok (.putfield 86, 3) := dk_181 0 86 (dk_at dksX3_readNumber_2 21 rfl rfl)
theorem dX3_readNumber_72 : decode cX3_readNumber 72 = .ok (.goto (-67), 3) := dk_167 255 189 (dk_at dksX3_readNumber_3 0 rfl rfl)
theorem dX3_readNumber_75 : decode cX3_readNumber 75 = .ok (.aload_n 0, 1) := dk_42 (dk_at dksX3_readNumber_3 3 rfl rfl)
theorem dX3_readNumber_76 : decode cX3_readNumber 76 = .ok (.aload_n 0, 1) := dk_42 (dk_at dksX3_readNumber_3 4 rfl rfl)
theorem dX3_readNumber_77 : decode cX3_readNumber 77 = .ok (.getfield 86, 3) := dk_180 0 86 (dk_at dksX3_readNumber_3 5 rfl rfl)
theorem dX3_readNumber_80 : decode cX3_readNumber 80 = .ok (.aload_n 0, 1) := dk_42 (dk_at dksX3_readNumber_3 8 rfl rfl)
theorem dX3_readNumber_81 : decode cX3_readNumber 81 = .ok (.getfield 97, 3) := dk_180 0 97 (dk_at dksX3_readNumber_3 9 rfl rfl)
theorem dX3_readNumber_84 : decode cX3_readNumber 84 = .ok (.isub, 1) := dk_100 (dk_at dksX3_readNumber_3 12 rfl rfl)
theorem dX3_readNumber_85 : decode cX3_readNumber 85 = .ok (.iconst 4, 1) := dk_7 (dk_at dksX3_readNumber_3 13 rfl rfl)
theorem dX3_readNumber_86 : decode cX3_readNumber 86 = .ok (.if_icmp .le 7, 3) := dk_164 0 7 (dk_at dksX3_readNumber_3 14 rfl rfl)
theorem dX3_readNumber_89 : decode cX3_readNumber 89 = .ok (.iconst 1, 1) := dk_4 (dk_at dksX3_readNumber_3 17 rfl rfl)
theorem dX3_readNumber_90 : decode cX3_readNumber 90 = .ok (.goto 4, 3) := dk_167 0 4 (dk_at dksX3_readNumber_3 18 rfl rfl)
theorem dX3_readNumber_93 : decode cX3_readNumber 93 = .ok (.iconst 3, 1) := dk_6 (dk_at dksX3_readNumber_3 21 rfl rfl)
theorem dX3_readNumber_94 : decode cX3_readNumber 94 = .ok (.putfield 104, 3) := dk_181 0 104 (dk_at dksX3_readNumber_4 0 rfl rfl)
theorem dX3_readNumber_97 : decode cX3_readNumber 97 = .ok (.return_, 1) := dk_177 (dk_at dksX3_readNumber_4 3 rfl rfl)
abbrev cX3_readSign : ByteArray := prog_26_method_20_code
def yX3_readSign : MethodName := ⟨RX3, "readSign", "(I)V"⟩
def dkwX3_readSign_1 : List UInt8 := [181, 0, 104, 167, 0, 14, 27, 16, 61, 160, 0, 8, 42, 8, 181, 0, 104, 177]
abbrev dktX3_readSign_1 : List UInt8 := dkwX3_readSign_1 ++ []
def dkwX3_readSign_0 : List UInt8 := [42, 89, 180, 0, 86, 4, 96, 181, 0, 86, 42, 4, 181, 0, 104, 27, 16, 59, 160, 0, 11, 42, 7]
abbrev dktX3_readSign_0 : List UInt8 := dkwX3_readSign_0 ++ dktX3_readSign_1
theorem dksX3_readSign_0 : cX3_readSign.data.toList.drop 0 = dktX3_readSign_0 := by decide +kernel
theorem dksX3_readSign_1 : cX3_readSign.data.toList.drop 23 = dktX3_readSign_1 := dk_seg dksX3_readSign_0 23 rfl rfl
theorem dX3_readSign_0 : decode cX3_readSign 0 = .ok (.aload_n 0, 1) := dk_42 (dk_at dksX3_readSign_0 0 rfl rfl)
theorem dX3_readSign_1 : decode cX3_readSign 1 = .ok (.dup, 1) := dk_89 (dk_at dksX3_readSign_0 1 rfl rfl)
theorem dX3_readSign_2 : decode cX3_readSign 2 = .ok (.getfield 86, 3) := dk_180 0 86 (dk_at dksX3_readSign_0 2 rfl rfl)
theorem dX3_readSign_5 : decode cX3_readSign 5 = .ok (.iconst 1, 1) := dk_4 (dk_at dksX3_readSign_0 5 rfl rfl)
theorem dX3_readSign_6 : decode cX3_readSign 6 = .ok (.iadd, 1) := dk_96 (dk_at dksX3_readSign_0 6 rfl rfl)
theorem dX3_readSign_7 : decode cX3_readSign 7 = .ok (.putfield 86, 3) := dk_181 0 86 (dk_at dksX3_readSign_0 7 rfl rfl)
theorem dX3_readSign_10 : decode cX3_readSign 10 = .ok (.aload_n 0, 1) := dk_42 (dk_at dksX3_readSign_0 10 rfl rfl)
theorem dX3_readSign_11 : decode cX3_readSign 11 = .ok (.iconst 1, 1) := dk_4 (dk_at dksX3_readSign_0 11 rfl rfl)
theorem dX3_readSign_12 : decode cX3_readSign 12 = .ok (.putfield 104, 3) := dk_181 0 104 (dk_at dksX3_readSign_0 12 rfl rfl)
theorem dX3_readSign_15 : decode cX3_readSign 15 = .ok (.iload_n 1, 1) := dk_27 (dk_at dksX3_readSign_0 15 rfl rfl)
theorem dX3_readSign_16 : decode cX3_readSign 16 = .ok (.bipush 59, 2) := dk_16 59 (dk_at dksX3_readSign_0 16 rfl rfl)
theorem dX3_readSign_18 : decode cX3_readSign 18 = .ok (.if_icmp .ne 11, 3) := dk_160 0 11 (dk_at dksX3_readSign_0 18 rfl rfl)
theorem dX3_readSign_21 : decode cX3_readSign 21 = .ok (.aload_n 0, 1) := dk_42 (dk_at dksX3_readSign_0 21 rfl rfl)
theorem dX3_readSign_22 : decode cX3_readSign 22 = .ok (.iconst 4, 1) := dk_7 (dk_at dksX3_readSign_0 22 rfl rfl)
theorem dX3_readSign_23 : decode cX3_readSign 23 = .ok (.putfield 104, 3) := dk_181 0 104 (dk_at dksX3_readSign_1 0 rfl rfl)
theorem dX3_readSign_26 : decode cX3_readSign 26 = .ok (.goto 14, 3) := dk_167 0 14 (dk_at dksX3_readSign_1 3 rfl rfl)
theorem dX3_readSign_29 : decode cX3_readSign 29 = .ok (.iload_n 1, 1) := dk_27 (dk_at dksX3_readSign_1 6 rfl rfl)
theorem dX3_readSign_30 : decode cX3_readSign 30 = .ok (.bipush 61, 2) := dk_16 61 (dk_at dksX3_readSign_1 7 rfl rfl)
theorem dX3_readSign_32 : decode cX3_readSign 32 = .ok (.if_icmp .ne 8, 3) := dk_160 0 8 (dk_at dksX3_readSign_1 9 rfl rfl)
theorem dX3_readSign_35 : decode cX3_readSign 35 = .ok (.aload_n 0, 1) := dk_42 (dk_at dksX3_readSign_1 12 rfl rfl)
theorem dX3_readSign_36 : decode cX3_readSign 36 = .ok (.iconst 5, 1) := dk_8 (dk_at dksX3_readSign_1 13 rfl rfl)
theorem dX3_readSign_37 : decode cX3_readSign 37 = .ok (.putfield 104, 3) := dk_181 0 104 (dk_at dksX3_readSign_1 14 rfl rfl)
theorem dX3_readSign_40 : decode cX3_readSign 40 = .ok (.return_, 1) := dk_177 (dk_at dksX3_readSign_1 17 rfl rfl)
abbrev cX3_statement : ByteArray := prog_26_method_40_code
def yX3_statement : MethodName := ⟨RX3, "statement", "()Z"⟩
def dkwX3_statement_3 : List UInt8 := [182, 0, 225, 60, 27, 2, 160, 0, 11, 42, 5, 182, 0, 141, 167, 0, 8, 42, 27, 182, 0, 228, 172]
abbrev dktX3_statement_3 : List UInt8 := dkwX3_statement_3 ++ []
def dkwX3_statement_2 : List UInt8 := [153, 0, 8, 42, 182, 0, 217, 172, 42, 18, 220, 182, 0, 190, 153, 0, 8, 42, 182, 0, 222, 172, 42]
abbrev dktX3_statement_2 : List UInt8 := dkwX3_statement_2 ++ dktX3_statement_3
def dkwX3_statement_1 : List UInt8 := [182, 0, 207, 172, 42, 18, 210, 182, 0, 190, 153, 0, 8, 42, 182, 0, 212, 172, 42, 18, 215, 182, 0, 190]
abbrev dktX3_statement_1 : List UInt8 := dkwX3_statement_1 ++ dktX3_statement_2
def dkwX3_statement_0 : List UInt8 := [42, 18, 200, 182, 0, 190, 153, 0, 8, 42, 182, 0, 202, 172, 42, 18, 205, 182, 0, 190, 153, 0, 8, 42]
abbrev dktX3_statement_0 : List UInt8 := dkwX3_statement_0 ++ dktX3_statement_1
theorem dksX3_statement_0 : cX3_statement.data.toList.drop 0 = dktX3_statement_0 := by decide +kernel
theorem dksX3_statement_1 : cX3_statement.data.toList.drop 24 = dktX3_statement_1 := dk_seg dksX3_statement_0 24 rfl rfl
theorem dksX3_statement_2 : cX3_statement.data.toList.drop 48 = dktX3_statement_2 := dk_seg dksX3_statement_1 24 rfl rfl
theorem dksX3_statement_3 : cX3_statement.data.toList.drop 71 = dktX3_statement_3 := dk_seg dksX3_statement_2 23 rfl rfl
theorem dX3_statement_0 : decode cX3_statement 0 = .ok (.aload_n 0, 1) := dk_42 (dk_at dksX3_statement_0 0 rfl rfl)
theorem dX3_statement_1 : decode cX3_statement 1 = .ok (.ldc 200, 2) := dk_18 200 (dk_at dksX3_statement_0 1 rfl rfl)
theorem dX3_statement_3 : decode cX3_statement 3 = .ok (.invokevirtual 190, 3) := dk_182 0 190 (dk_at dksX3_statement_0 3 rfl rfl)
theorem dX3_statement_6 : decode cX3_statement 6 = .ok (.ifCond .eq 8, 3) := dk_153 0 8 (dk_at dksX3_statement_0 6 rfl rfl)
theorem dX3_statement_9 : decode cX3_statement 9 = .ok (.aload_n 0, 1) := dk_42 (dk_at dksX3_statement_0 9 rfl rfl)
theorem dX3_statement_10 : decode cX3_statement 10 = .ok (.invokevirtual 202, 3) := dk_182 0 202 (dk_at dksX3_statement_0 10 rfl rfl)
theorem dX3_statement_13 : decode cX3_statement 13 = .ok (.ireturn, 1) := dk_172 (dk_at dksX3_statement_0 13 rfl rfl)
theorem dX3_statement_14 : decode cX3_statement 14 = .ok (.aload_n 0, 1) := dk_42 (dk_at dksX3_statement_0 14 rfl rfl)
theorem dX3_statement_15 : decode cX3_statement 15 = .ok (.ldc 205, 2) := dk_18 205 (dk_at dksX3_statement_0 15 rfl rfl)
theorem dX3_statement_17 : decode cX3_statement 17 = .ok (.invokevirtual 190, 3) := dk_182 0 190 (dk_at dksX3_statement_0 17 rfl rfl)
theorem dX3_statement_20 : decode cX3_statement 20 = .ok (.ifCond .eq 8, 3) := dk_153 0 8 (dk_at dksX3_statement_0 20 rfl rfl)
theorem dX3_statement_23 : decode cX3_statement 23 = .ok (.aload_n 0, 1) := dk_42 (dk_at dksX3_statement_0 23 rfl rfl)
theorem dX3_statement_24 : decode cX3_statement 24 = .ok (.invokevirtual 207, 3) := dk_182 0 207 (dk_at dksX3_statement_1 0 rfl rfl)
theorem dX3_statement_27 : decode cX3_statement 27 = .ok (.ireturn, 1) := dk_172 (dk_at dksX3_statement_1 3 rfl rfl)
theorem dX3_statement_28 : decode cX3_statement 28 = .ok (.aload_n 0, 1) := dk_42 (dk_at dksX3_statement_1 4 rfl rfl)
theorem dX3_statement_29 : decode cX3_statement 29 = .ok (.ldc 210, 2) := dk_18 210 (dk_at dksX3_statement_1 5 rfl rfl)
theorem dX3_statement_31 : decode cX3_statement 31 = .ok (.invokevirtual 190, 3) := dk_182 0 190 (dk_at dksX3_statement_1 7 rfl rfl)
theorem dX3_statement_34 : decode cX3_statement 34 = .ok (.ifCond .eq 8, 3) := dk_153 0 8 (dk_at dksX3_statement_1 10 rfl rfl)
theorem dX3_statement_37 : decode cX3_statement 37 = .ok (.aload_n 0, 1) := dk_42 (dk_at dksX3_statement_1 13 rfl rfl)
theorem dX3_statement_38 : decode cX3_statement 38 = .ok (.invokevirtual 212, 3) := dk_182 0 212 (dk_at dksX3_statement_1 14 rfl rfl)
theorem dX3_statement_41 : decode cX3_statement 41 = .ok (.ireturn, 1) := dk_172 (dk_at dksX3_statement_1 17 rfl rfl)
theorem dX3_statement_42 : decode cX3_statement 42 = .ok (.aload_n 0, 1) := dk_42 (dk_at dksX3_statement_1 18 rfl rfl)
theorem dX3_statement_43 : decode cX3_statement 43 = .ok (.ldc 215, 2) := dk_18 215 (dk_at dksX3_statement_1 19 rfl rfl)
theorem dX3_statement_45 : decode cX3_statement 45 = .ok (.invokevirtual 190, 3) := dk_182 0 190 (dk_at dksX3_statement_1 21 rfl rfl)
theorem dX3_statement_48 : decode cX3_statement 48 = .ok (.ifCond .eq 8, 3) := dk_153 0 8 (dk_at dksX3_statement_2 0 rfl rfl)
theorem dX3_statement_51 : decode cX3_statement 51 = .ok (.aload_n 0, 1) := dk_42 (dk_at dksX3_statement_2 3 rfl rfl)
theorem dX3_statement_52 : decode cX3_statement 52 = .ok (.invokevirtual 217, 3) := dk_182 0 217 (dk_at dksX3_statement_2 4 rfl rfl)
theorem dX3_statement_55 : decode cX3_statement 55 = .ok (.ireturn, 1) := dk_172 (dk_at dksX3_statement_2 7 rfl rfl)
theorem dX3_statement_56 : decode cX3_statement 56 = .ok (.aload_n 0, 1) := dk_42 (dk_at dksX3_statement_2 8 rfl rfl)
theorem dX3_statement_57 : decode cX3_statement 57 = .ok (.ldc 220, 2) := dk_18 220 (dk_at dksX3_statement_2 9 rfl rfl)
theorem dX3_statement_59 : decode cX3_statement 59 = .ok (.invokevirtual 190, 3) := dk_182 0 190 (dk_at dksX3_statement_2 11 rfl rfl)
theorem dX3_statement_62 : decode cX3_statement 62 = .ok (.ifCond .eq 8, 3) := dk_153 0 8 (dk_at dksX3_statement_2 14 rfl rfl)
theorem dX3_statement_65 : decode cX3_statement 65 = .ok (.aload_n 0, 1) := dk_42 (dk_at dksX3_statement_2 17 rfl rfl)
theorem dX3_statement_66 : decode cX3_statement 66 = .ok (.invokevirtual 222, 3) := dk_182 0 222 (dk_at dksX3_statement_2 18 rfl rfl)
theorem dX3_statement_69 : decode cX3_statement 69 = .ok (.ireturn, 1) := dk_172 (dk_at dksX3_statement_2 21 rfl rfl)
theorem dX3_statement_70 : decode cX3_statement 70 = .ok (.aload_n 0, 1) := dk_42 (dk_at dksX3_statement_2 22 rfl rfl)
theorem dX3_statement_71 : decode cX3_statement 71 = .ok (.invokevirtual 225, 3) := dk_182 0 225 (dk_at dksX3_statement_3 0 rfl rfl)
theorem dX3_statement_74 : decode cX3_statement 74 = .ok (.istore_n 1, 1) := dk_60 (dk_at dksX3_statement_3 3 rfl rfl)
theorem dX3_statement_75 : decode cX3_statement 75 = .ok (.iload_n 1, 1) := dk_27 (dk_at dksX3_statement_3 4 rfl rfl)
theorem dX3_statement_76 : decode cX3_statement 76 = .ok (.iconst (-1), 1) := dk_2 (dk_at dksX3_statement_3 5 rfl rfl)
theorem dX3_statement_77 : decode cX3_statement 77 = .ok (.if_icmp .ne 11, 3) := dk_160 0 11 (dk_at dksX3_statement_3 6 rfl rfl)
theorem dX3_statement_80 : decode cX3_statement 80 = .ok (.aload_n 0, 1) := dk_42 (dk_at dksX3_statement_3 9 rfl rfl)
theorem dX3_statement_81 : decode cX3_statement 81 = .ok (.iconst 2, 1) := dk_5 (dk_at dksX3_statement_3 10 rfl rfl)
theorem dX3_statement_82 : decode cX3_statement 82 = .ok (.invokevirtual 141, 3) := dk_182 0 141 (dk_at dksX3_statement_3 11 rfl rfl)
theorem dX3_statement_85 : decode cX3_statement 85 = .ok (.goto 8, 3) := dk_167 0 8 (dk_at dksX3_statement_3 14 rfl rfl)
theorem dX3_statement_88 : decode cX3_statement 88 = .ok (.aload_n 0, 1) := dk_42 (dk_at dksX3_statement_3 17 rfl rfl)
theorem dX3_statement_89 : decode cX3_statement 89 = .ok (.iload_n 1, 1) := dk_27 (dk_at dksX3_statement_3 18 rfl rfl)
theorem dX3_statement_90 : decode cX3_statement 90 = .ok (.invokevirtual 228, 3) := dk_182 0 228 (dk_at dksX3_statement_3 19 rfl rfl)
theorem dX3_statement_93 : decode cX3_statement 93 = .ok (.ireturn, 1) := dk_172 (dk_at dksX3_statement_3 22 rfl rfl)
abbrev cX3_isWord : ByteArray := prog_26_method_23_code
def yX3_isWord : MethodName := ⟨RX3, "isWord", "(Ljava/lang/String;)Z"⟩
def dkwX3_isWord_1 : List UInt8 := [3, 172]
abbrev dktX3_isWord_1 : List UInt8 := dkwX3_isWord_1 ++ []
def dkwX3_isWord_0 : List UInt8 := [42, 180, 0, 104, 5, 160, 0, 19, 42, 180, 0, 82, 43, 184, 0, 131, 148, 154, 0, 7, 4, 167, 0, 4]
abbrev dktX3_isWord_0 : List UInt8 := dkwX3_isWord_0 ++ dktX3_isWord_1
theorem dksX3_isWord_0 : cX3_isWord.data.toList.drop 0 = dktX3_isWord_0 := by decide +kernel
theorem dksX3_isWord_1 : cX3_isWord.data.toList.drop 24 = dktX3_isWord_1 := dk_seg dksX3_isWord_0 24 rfl rfl
theorem dX3_isWord_0 : decode cX3_isWord 0 = .ok (.aload_n 0, 1) := dk_42 (dk_at dksX3_isWord_0 0 rfl rfl)
theorem dX3_isWord_1 : decode cX3_isWord 1 = .ok (.getfield 104, 3) := dk_180 0 104 (dk_at dksX3_isWord_0 1 rfl rfl)
theorem dX3_isWord_4 : decode cX3_isWord 4 = .ok (.iconst 2, 1) := dk_5 (dk_at dksX3_isWord_0 4 rfl rfl)
theorem dX3_isWord_5 : decode cX3_isWord 5 = .ok (.if_icmp .ne 19, 3) := dk_160 0 19 (dk_at dksX3_isWord_0 5 rfl rfl)
theorem dX3_isWord_8 : decode cX3_isWord 8 = .ok (.aload_n 0, 1) := dk_42 (dk_at dksX3_isWord_0 8 rfl rfl)
theorem dX3_isWord_9 : decode cX3_isWord 9 = .ok (.getfield 82, 3) := dk_180 0 82 (dk_at dksX3_isWord_0 9 rfl rfl)
theorem dX3_isWord_12 : decode cX3_isWord 12 = .ok (.aload_n 1, 1) := dk_43 (dk_at dksX3_isWord_0 12 rfl rfl)
theorem dX3_isWord_13 : decode cX3_isWord 13 = .ok (.invokestatic 131, 3) := dk_184 0 131 (dk_at dksX3_isWord_0 13 rfl rfl)
theorem dX3_isWord_16 : decode cX3_isWord 16 = .ok (.lcmp, 1) := dk_148 (dk_at dksX3_isWord_0 16 rfl rfl)
theorem dX3_isWord_17 : decode cX3_isWord 17 = .ok (.ifCond .ne 7, 3) := dk_154 0 7 (dk_at dksX3_isWord_0 17 rfl rfl)
theorem dX3_isWord_20 : decode cX3_isWord 20 = .ok (.iconst 1, 1) := dk_4 (dk_at dksX3_isWord_0 20 rfl rfl)
theorem dX3_isWord_21 : decode cX3_isWord 21 = .ok (.goto 4, 3) := dk_167 0 4 (dk_at dksX3_isWord_0 21 rfl rfl)
theorem dX3_isWord_24 : decode cX3_isWord 24 = .ok (.iconst 0, 1) := dk_3 (dk_at dksX3_isWord_1 0 rfl rfl)
theorem dX3_isWord_25 : decode cX3_isWord 25 = .ok (.ireturn, 1) := dk_172 (dk_at dksX3_isWord_1 1 rfl rfl)
abbrev cX3_codeOf : ByteArray := prog_26_method_22_code
def yX3_codeOf : MethodName := ⟨RX3, "codeOf", "(Ljava/lang/String;)J"⟩
def dkwX3_codeOf_1 : List UInt8 := [20, 0, 102, 101, 10, 97, 64, 132, 3, 1, 167, 255, 226, 31, 173]
abbrev dktX3_codeOf_1 : List UInt8 := dkwX3_codeOf_1 ++ []
def dkwX3_codeOf_0 : List UInt8 := [9, 64, 3, 62, 29, 42, 182, 0, 122, 162, 0, 28, 20, 0, 100, 31, 105, 42, 29, 182, 0, 127, 133, 97]
abbrev dktX3_codeOf_0 : List UInt8 := dkwX3_codeOf_0 ++ dktX3_codeOf_1
theorem dksX3_codeOf_0 : cX3_codeOf.data.toList.drop 0 = dktX3_codeOf_0 := by decide +kernel
theorem dksX3_codeOf_1 : cX3_codeOf.data.toList.drop 24 = dktX3_codeOf_1 := dk_seg dksX3_codeOf_0 24 rfl rfl
theorem dX3_codeOf_0 : decode cX3_codeOf 0 = .ok (.lconst 0, 1) := dk_9 (dk_at dksX3_codeOf_0 0 rfl rfl)
theorem dX3_codeOf_1 : decode cX3_codeOf 1 = .ok (.lstore_n 1, 1) := dk_64 (dk_at dksX3_codeOf_0 1 rfl rfl)
theorem dX3_codeOf_2 : decode cX3_codeOf 2 = .ok (.iconst 0, 1) := dk_3 (dk_at dksX3_codeOf_0 2 rfl rfl)
theorem dX3_codeOf_3 : decode cX3_codeOf 3 = .ok (.istore_n 3, 1) := dk_62 (dk_at dksX3_codeOf_0 3 rfl rfl)
theorem dX3_codeOf_4 : decode cX3_codeOf 4 = .ok (.iload_n 3, 1) := dk_29 (dk_at dksX3_codeOf_0 4 rfl rfl)
theorem dX3_codeOf_5 : decode cX3_codeOf 5 = .ok (.aload_n 0, 1) := dk_42 (dk_at dksX3_codeOf_0 5 rfl rfl)
theorem dX3_codeOf_6 : decode cX3_codeOf 6 = .ok (.invokevirtual 122, 3) := dk_182 0 122 (dk_at dksX3_codeOf_0 6 rfl rfl)
theorem dX3_codeOf_9 : decode cX3_codeOf 9 = .ok (.if_icmp .ge 28, 3) := dk_162 0 28 (dk_at dksX3_codeOf_0 9 rfl rfl)
theorem dX3_codeOf_12 : decode cX3_codeOf 12 = .ok (.ldc2_w 100, 3) := dk_20 0 100 (dk_at dksX3_codeOf_0 12 rfl rfl)
theorem dX3_codeOf_15 : decode cX3_codeOf 15 = .ok (.lload_n 1, 1) := dk_31 (dk_at dksX3_codeOf_0 15 rfl rfl)
theorem dX3_codeOf_16 : decode cX3_codeOf 16 = .ok (.lmul, 1) := dk_105 (dk_at dksX3_codeOf_0 16 rfl rfl)
theorem dX3_codeOf_17 : decode cX3_codeOf 17 = .ok (.aload_n 0, 1) := dk_42 (dk_at dksX3_codeOf_0 17 rfl rfl)
theorem dX3_codeOf_18 : decode cX3_codeOf 18 = .ok (.iload_n 3, 1) := dk_29 (dk_at dksX3_codeOf_0 18 rfl rfl)
theorem dX3_codeOf_19 : decode cX3_codeOf 19 = .ok (.invokevirtual 127, 3) := dk_182 0 127 (dk_at dksX3_codeOf_0 19 rfl rfl)
theorem dX3_codeOf_22 : decode cX3_codeOf 22 = .ok (.i2l, 1) := dk_133 (dk_at dksX3_codeOf_0 22 rfl rfl)
theorem dX3_codeOf_23 : decode cX3_codeOf 23 = .ok (.ladd, 1) := dk_97 (dk_at dksX3_codeOf_0 23 rfl rfl)
theorem dX3_codeOf_24 : decode cX3_codeOf 24 = .ok (.ldc2_w 102, 3) := dk_20 0 102 (dk_at dksX3_codeOf_1 0 rfl rfl)
theorem dX3_codeOf_27 : decode cX3_codeOf 27 = .ok (.lsub, 1) := dk_101 (dk_at dksX3_codeOf_1 3 rfl rfl)
theorem dX3_codeOf_28 : decode cX3_codeOf 28 = .ok (.lconst 1, 1) := dk_10 (dk_at dksX3_codeOf_1 4 rfl rfl)
theorem dX3_codeOf_29 : decode cX3_codeOf 29 = .ok (.ladd, 1) := dk_97 (dk_at dksX3_codeOf_1 5 rfl rfl)
theorem dX3_codeOf_30 : decode cX3_codeOf 30 = .ok (.lstore_n 1, 1) := dk_64 (dk_at dksX3_codeOf_1 6 rfl rfl)
theorem dX3_codeOf_31 : decode cX3_codeOf 31 = .ok (.iinc 3 1, 3) := dk_132 3 1 (dk_at dksX3_codeOf_1 7 rfl rfl)
theorem dX3_codeOf_34 : decode cX3_codeOf 34 = .ok (.goto (-30), 3) := dk_167 255 226 (dk_at dksX3_codeOf_1 10 rfl rfl)
theorem dX3_codeOf_37 : decode cX3_codeOf 37 = .ok (.lload_n 1, 1) := dk_31 (dk_at dksX3_codeOf_1 13 rfl rfl)
theorem dX3_codeOf_38 : decode cX3_codeOf 38 = .ok (.lreturn, 1) := dk_173 (dk_at dksX3_codeOf_1 14 rfl rfl)
abbrev cX3_bandStatement : ByteArray := prog_26_method_35_code
def yX3_bandStatement : MethodName := ⟨RX3, "bandStatement", "()Z"⟩
def dkwX3_bandStatement_2 : List UInt8 := [16, 100, 182, 0, 158, 172]
abbrev dktX3_bandStatement_2 : List UInt8 := dkwX3_bandStatement_2 ++ []
def dkwX3_bandStatement_1 : List UInt8 := [161, 0, 9, 42, 6, 182, 0, 141, 172, 42, 180, 0, 107, 60, 42, 182, 0, 148, 87, 42, 7, 27, 96, 3]
abbrev dktX3_bandStatement_1 : List UInt8 := dkwX3_bandStatement_1 ++ dktX3_bandStatement_2
def dkwX3_bandStatement_0 : List UInt8 := [42, 182, 0, 148, 87, 42, 180, 0, 104, 6, 159, 0, 9, 42, 5, 182, 0, 141, 172, 42, 180, 0, 107, 8]
abbrev dktX3_bandStatement_0 : List UInt8 := dkwX3_bandStatement_0 ++ dktX3_bandStatement_1
theorem dksX3_bandStatement_0 : cX3_bandStatement.data.toList.drop 0 = dktX3_bandStatement_0 := by decide +kernel
theorem dksX3_bandStatement_1 : cX3_bandStatement.data.toList.drop 24 = dktX3_bandStatement_1 := dk_seg dksX3_bandStatement_0 24 rfl rfl
theorem dksX3_bandStatement_2 : cX3_bandStatement.data.toList.drop 48 = dktX3_bandStatement_2 := dk_seg dksX3_bandStatement_1 24 rfl rfl
theorem dX3_bandStatement_0 : decode cX3_bandStatement 0 = .ok (.aload_n 0, 1) := dk_42 (dk_at dksX3_bandStatement_0 0 rfl rfl)
theorem dX3_bandStatement_1 : decode cX3_bandStatement 1 = .ok (.invokevirtual 148, 3) := dk_182 0 148 (dk_at dksX3_bandStatement_0 1 rfl rfl)
theorem dX3_bandStatement_4 : decode cX3_bandStatement 4 = .ok (.pop, 1) := dk_87 (dk_at dksX3_bandStatement_0 4 rfl rfl)
theorem dX3_bandStatement_5 : decode cX3_bandStatement 5 = .ok (.aload_n 0, 1) := dk_42 (dk_at dksX3_bandStatement_0 5 rfl rfl)
theorem dX3_bandStatement_6 : decode cX3_bandStatement 6 = .ok (.getfield 104, 3) := dk_180 0 104 (dk_at dksX3_bandStatement_0 6 rfl rfl)
theorem dX3_bandStatement_9 : decode cX3_bandStatement 9 = .ok (.iconst 3, 1) := dk_6 (dk_at dksX3_bandStatement_0 9 rfl rfl)
theorem dX3_bandStatement_10 : decode cX3_bandStatement 10 = .ok (.if_icmp .eq 9, 3) := dk_159 0 9 (dk_at dksX3_bandStatement_0 10 rfl rfl)
theorem dX3_bandStatement_13 : decode cX3_bandStatement 13 = .ok (.aload_n 0, 1) := dk_42 (dk_at dksX3_bandStatement_0 13 rfl rfl)
theorem dX3_bandStatement_14 : decode cX3_bandStatement 14 = .ok (.iconst 2, 1) := dk_5 (dk_at dksX3_bandStatement_0 14 rfl rfl)
theorem dX3_bandStatement_15 : decode cX3_bandStatement 15 = .ok (.invokevirtual 141, 3) := dk_182 0 141 (dk_at dksX3_bandStatement_0 15 rfl rfl)
theorem dX3_bandStatement_18 : decode cX3_bandStatement 18 = .ok (.ireturn, 1) := dk_172 (dk_at dksX3_bandStatement_0 18 rfl rfl)
theorem dX3_bandStatement_19 : decode cX3_bandStatement 19 = .ok (.aload_n 0, 1) := dk_42 (dk_at dksX3_bandStatement_0 19 rfl rfl)
theorem dX3_bandStatement_20 : decode cX3_bandStatement 20 = .ok (.getfield 107, 3) := dk_180 0 107 (dk_at dksX3_bandStatement_0 20 rfl rfl)
theorem dX3_bandStatement_23 : decode cX3_bandStatement 23 = .ok (.iconst 5, 1) := dk_8 (dk_at dksX3_bandStatement_0 23 rfl rfl)
theorem dX3_bandStatement_24 : decode cX3_bandStatement 24 = .ok (.if_icmp .lt 9, 3) := dk_161 0 9 (dk_at dksX3_bandStatement_1 0 rfl rfl)
theorem dX3_bandStatement_27 : decode cX3_bandStatement 27 = .ok (.aload_n 0, 1) := dk_42 (dk_at dksX3_bandStatement_1 3 rfl rfl)
theorem dX3_bandStatement_28 : decode cX3_bandStatement 28 = .ok (.iconst 3, 1) := dk_6 (dk_at dksX3_bandStatement_1 4 rfl rfl)
theorem dX3_bandStatement_29 : decode cX3_bandStatement 29 = .ok (.invokevirtual 141, 3) := dk_182 0 141 (dk_at dksX3_bandStatement_1 5 rfl rfl)
theorem dX3_bandStatement_32 : decode cX3_bandStatement 32 = .ok (.ireturn, 1) := dk_172 (dk_at dksX3_bandStatement_1 8 rfl rfl)
theorem dX3_bandStatement_33 : decode cX3_bandStatement 33 = .ok (.aload_n 0, 1) := dk_42 (dk_at dksX3_bandStatement_1 9 rfl rfl)
theorem dX3_bandStatement_34 : decode cX3_bandStatement 34 = .ok (.getfield 107, 3) := dk_180 0 107 (dk_at dksX3_bandStatement_1 10 rfl rfl)
theorem dX3_bandStatement_37 : decode cX3_bandStatement 37 = .ok (.istore_n 1, 1) := dk_60 (dk_at dksX3_bandStatement_1 13 rfl rfl)
theorem dX3_bandStatement_38 : decode cX3_bandStatement 38 = .ok (.aload_n 0, 1) := dk_42 (dk_at dksX3_bandStatement_1 14 rfl rfl)
theorem dX3_bandStatement_39 : decode cX3_bandStatement 39 = .ok (.invokevirtual 148, 3) := dk_182 0 148 (dk_at dksX3_bandStatement_1 15 rfl rfl)
theorem dX3_bandStatement_42 : decode cX3_bandStatement 42 = .ok (.pop, 1) := dk_87 (dk_at dksX3_bandStatement_1 18 rfl rfl)
theorem dX3_bandStatement_43 : decode cX3_bandStatement 43 = .ok (.aload_n 0, 1) := dk_42 (dk_at dksX3_bandStatement_1 19 rfl rfl)
theorem dX3_bandStatement_44 : decode cX3_bandStatement 44 = .ok (.iconst 4, 1) := dk_7 (dk_at dksX3_bandStatement_1 20 rfl rfl)
theorem dX3_bandStatement_45 : decode cX3_bandStatement 45 = .ok (.iload_n 1, 1) := dk_27 (dk_at dksX3_bandStatement_1 21 rfl rfl)
theorem dX3_bandStatement_46 : decode cX3_bandStatement 46 = .ok (.iadd, 1) := dk_96 (dk_at dksX3_bandStatement_1 22 rfl rfl)
theorem dX3_bandStatement_47 : decode cX3_bandStatement 47 = .ok (.iconst 0, 1) := dk_3 (dk_at dksX3_bandStatement_1 23 rfl rfl)
theorem dX3_bandStatement_48 : decode cX3_bandStatement 48 = .ok (.bipush 100, 2) := dk_16 100 (dk_at dksX3_bandStatement_2 0 rfl rfl)
theorem dX3_bandStatement_50 : decode cX3_bandStatement 50 = .ok (.invokevirtual 158, 3) := dk_182 0 158 (dk_at dksX3_bandStatement_2 2 rfl rfl)
theorem dX3_bandStatement_53 : decode cX3_bandStatement 53 = .ok (.ireturn, 1) := dk_172 (dk_at dksX3_bandStatement_2 5 rfl rfl)
abbrev cX3_fail : ByteArray := prog_26_method_24_code
def yX3_fail : MethodName := ⟨RX3, "fail", "(I)Z"⟩
def dkwX3_fail_1 : List UInt8 := [181, 0, 138, 3, 172]
abbrev dktX3_fail_1 : List UInt8 := dkwX3_fail_1 ++ []
def dkwX3_fail_0 : List UInt8 := [42, 42, 180, 0, 104, 4, 160, 0, 7, 4, 167, 0, 4, 27, 181, 0, 135, 42, 42, 180, 0, 97]
abbrev dktX3_fail_0 : List UInt8 := dkwX3_fail_0 ++ dktX3_fail_1
theorem dksX3_fail_0 : cX3_fail.data.toList.drop 0 = dktX3_fail_0 := by decide +kernel
theorem dksX3_fail_1 : cX3_fail.data.toList.drop 22 = dktX3_fail_1 := dk_seg dksX3_fail_0 22 rfl rfl
theorem dX3_fail_0 : decode cX3_fail 0 = .ok (.aload_n 0, 1) := dk_42 (dk_at dksX3_fail_0 0 rfl rfl)
theorem dX3_fail_1 : decode cX3_fail 1 = .ok (.aload_n 0, 1) := dk_42 (dk_at dksX3_fail_0 1 rfl rfl)
theorem dX3_fail_2 : decode cX3_fail 2 = .ok (.getfield 104, 3) := dk_180 0 104 (dk_at dksX3_fail_0 2 rfl rfl)
theorem dX3_fail_5 : decode cX3_fail 5 = .ok (.iconst 1, 1) := dk_4 (dk_at dksX3_fail_0 5 rfl rfl)
theorem dX3_fail_6 : decode cX3_fail 6 = .ok (.if_icmp .ne 7, 3) := dk_160 0 7 (dk_at dksX3_fail_0 6 rfl rfl)
theorem dX3_fail_9 : decode cX3_fail 9 = .ok (.iconst 1, 1) := dk_4 (dk_at dksX3_fail_0 9 rfl rfl)
theorem dX3_fail_10 : decode cX3_fail 10 = .ok (.goto 4, 3) := dk_167 0 4 (dk_at dksX3_fail_0 10 rfl rfl)
theorem dX3_fail_13 : decode cX3_fail 13 = .ok (.iload_n 1, 1) := dk_27 (dk_at dksX3_fail_0 13 rfl rfl)
theorem dX3_fail_14 : decode cX3_fail 14 = .ok (.putfield 135, 3) := dk_181 0 135 (dk_at dksX3_fail_0 14 rfl rfl)
theorem dX3_fail_17 : decode cX3_fail 17 = .ok (.aload_n 0, 1) := dk_42 (dk_at dksX3_fail_0 17 rfl rfl)
theorem dX3_fail_18 : decode cX3_fail 18 = .ok (.aload_n 0, 1) := dk_42 (dk_at dksX3_fail_0 18 rfl rfl)
theorem dX3_fail_19 : decode cX3_fail 19 = .ok (.getfield 97, 3) := dk_180 0 97 (dk_at dksX3_fail_0 19 rfl rfl)
theorem dX3_fail_22 : decode cX3_fail 22 = .ok (.putfield 138, 3) := dk_181 0 138 (dk_at dksX3_fail_1 0 rfl rfl)
theorem dX3_fail_25 : decode cX3_fail 25 = .ok (.iconst 0, 1) := dk_3 (dk_at dksX3_fail_1 3 rfl rfl)
theorem dX3_fail_26 : decode cX3_fail 26 = .ok (.ireturn, 1) := dk_172 (dk_at dksX3_fail_1 4 rfl rfl)
abbrev cX3_number : ByteArray := prog_26_method_25_code
def yX3_number : MethodName := ⟨RX3, "number", "(III)Z"⟩
def dkwX3_number_2 : List UInt8 := [182, 0, 148, 172]
abbrev dktX3_number_2 : List UInt8 := dkwX3_number_2 ++ []
def dkwX3_number_1 : List UInt8 := [184, 0, 144, 154, 0, 9, 42, 6, 182, 0, 141, 172, 42, 180, 0, 7, 27, 42, 180, 0, 107, 133, 80, 42]
abbrev dktX3_number_1 : List UInt8 := dkwX3_number_1 ++ dktX3_number_2
def dkwX3_number_0 : List UInt8 := [42, 180, 0, 104, 6, 159, 0, 9, 42, 5, 182, 0, 141, 172, 42, 180, 0, 107, 133, 28, 133, 29, 133]
abbrev dktX3_number_0 : List UInt8 := dkwX3_number_0 ++ dktX3_number_1
theorem dksX3_number_0 : cX3_number.data.toList.drop 0 = dktX3_number_0 := by decide +kernel
theorem dksX3_number_1 : cX3_number.data.toList.drop 23 = dktX3_number_1 := dk_seg dksX3_number_0 23 rfl rfl
theorem dksX3_number_2 : cX3_number.data.toList.drop 47 = dktX3_number_2 := dk_seg dksX3_number_1 24 rfl rfl
theorem dX3_number_0 : decode cX3_number 0 = .ok (.aload_n 0, 1) := dk_42 (dk_at dksX3_number_0 0 rfl rfl)
theorem dX3_number_1 : decode cX3_number 1 = .ok (.getfield 104, 3) := dk_180 0 104 (dk_at dksX3_number_0 1 rfl rfl)
theorem dX3_number_4 : decode cX3_number 4 = .ok (.iconst 3, 1) := dk_6 (dk_at dksX3_number_0 4 rfl rfl)
theorem dX3_number_5 : decode cX3_number 5 = .ok (.if_icmp .eq 9, 3) := dk_159 0 9 (dk_at dksX3_number_0 5 rfl rfl)
theorem dX3_number_8 : decode cX3_number 8 = .ok (.aload_n 0, 1) := dk_42 (dk_at dksX3_number_0 8 rfl rfl)
theorem dX3_number_9 : decode cX3_number 9 = .ok (.iconst 2, 1) := dk_5 (dk_at dksX3_number_0 9 rfl rfl)
theorem dX3_number_10 : decode cX3_number 10 = .ok (.invokevirtual 141, 3) := dk_182 0 141 (dk_at dksX3_number_0 10 rfl rfl)
theorem dX3_number_13 : decode cX3_number 13 = .ok (.ireturn, 1) := dk_172 (dk_at dksX3_number_0 13 rfl rfl)
theorem dX3_number_14 : decode cX3_number 14 = .ok (.aload_n 0, 1) := dk_42 (dk_at dksX3_number_0 14 rfl rfl)
theorem dX3_number_15 : decode cX3_number 15 = .ok (.getfield 107, 3) := dk_180 0 107 (dk_at dksX3_number_0 15 rfl rfl)
theorem dX3_number_18 : decode cX3_number 18 = .ok (.i2l, 1) := dk_133 (dk_at dksX3_number_0 18 rfl rfl)
theorem dX3_number_19 : decode cX3_number 19 = .ok (.iload_n 2, 1) := dk_28 (dk_at dksX3_number_0 19 rfl rfl)
theorem dX3_number_20 : decode cX3_number 20 = .ok (.i2l, 1) := dk_133 (dk_at dksX3_number_0 20 rfl rfl)
theorem dX3_number_21 : decode cX3_number 21 = .ok (.iload_n 3, 1) := dk_29 (dk_at dksX3_number_0 21 rfl rfl)
theorem dX3_number_22 : decode cX3_number 22 = .ok (.i2l, 1) := dk_133 (dk_at dksX3_number_0 22 rfl rfl)
theorem dX3_number_23 : decode cX3_number 23 = .ok (.invokestatic 144, 3) := dk_184 0 144 (dk_at dksX3_number_1 0 rfl rfl)
theorem dX3_number_26 : decode cX3_number 26 = .ok (.ifCond .ne 9, 3) := dk_154 0 9 (dk_at dksX3_number_1 3 rfl rfl)
theorem dX3_number_29 : decode cX3_number 29 = .ok (.aload_n 0, 1) := dk_42 (dk_at dksX3_number_1 6 rfl rfl)
theorem dX3_number_30 : decode cX3_number 30 = .ok (.iconst 3, 1) := dk_6 (dk_at dksX3_number_1 7 rfl rfl)
theorem dX3_number_31 : decode cX3_number 31 = .ok (.invokevirtual 141, 3) := dk_182 0 141 (dk_at dksX3_number_1 8 rfl rfl)
theorem dX3_number_34 : decode cX3_number 34 = .ok (.ireturn, 1) := dk_172 (dk_at dksX3_number_1 11 rfl rfl)
theorem dX3_number_35 : decode cX3_number 35 = .ok (.aload_n 0, 1) := dk_42 (dk_at dksX3_number_1 12 rfl rfl)
theorem dX3_number_36 : decode cX3_number 36 = .ok (.getfield 7, 3) := dk_180 0 7 (dk_at dksX3_number_1 13 rfl rfl)
theorem dX3_number_39 : decode cX3_number 39 = .ok (.iload_n 1, 1) := dk_27 (dk_at dksX3_number_1 16 rfl rfl)
theorem dX3_number_40 : decode cX3_number 40 = .ok (.aload_n 0, 1) := dk_42 (dk_at dksX3_number_1 17 rfl rfl)
theorem dX3_number_41 : decode cX3_number 41 = .ok (.getfield 107, 3) := dk_180 0 107 (dk_at dksX3_number_1 18 rfl rfl)
theorem dX3_number_44 : decode cX3_number 44 = .ok (.i2l, 1) := dk_133 (dk_at dksX3_number_1 21 rfl rfl)
theorem dX3_number_45 : decode cX3_number 45 = .ok (.lastore, 1) := dk_80 (dk_at dksX3_number_1 22 rfl rfl)
theorem dX3_number_46 : decode cX3_number 46 = .ok (.aload_n 0, 1) := dk_42 (dk_at dksX3_number_1 23 rfl rfl)
theorem dX3_number_47 : decode cX3_number 47 = .ok (.invokevirtual 148, 3) := dk_182 0 148 (dk_at dksX3_number_2 0 rfl rfl)
theorem dX3_number_50 : decode cX3_number 50 = .ok (.ireturn, 1) := dk_172 (dk_at dksX3_number_2 3 rfl rfl)
abbrev cX3_personStatement : ByteArray := prog_26_method_29_code
def yX3_personStatement : MethodName := ⟨RX3, "personStatement", "()Z"⟩
def dkwX3_personStatement_4 : List UInt8 := [182, 0, 158, 154, 0, 5, 3, 172, 42, 180, 0, 7, 16, 9, 92, 47, 10, 97, 80, 4, 172]
abbrev dktX3_personStatement_4 : List UInt8 := dkwX3_personStatement_4 ++ []
def dkwX3_personStatement_3 : List UInt8 := [180, 0, 7, 27, 42, 180, 0, 82, 80, 42, 182, 0, 148, 87, 42, 27, 4, 96, 3, 17, 39, 15]
abbrev dktX3_personStatement_3 : List UInt8 := dkwX3_personStatement_3 ++ dktX3_personStatement_4
def dkwX3_personStatement_2 : List UInt8 := [5, 182, 0, 141, 172, 42, 42, 180, 0, 82, 182, 0, 154, 2, 159, 0, 9, 42, 7, 182, 0, 141, 172, 42]
abbrev dktX3_personStatement_2 : List UInt8 := dkwX3_personStatement_2 ++ dktX3_personStatement_3
def dkwX3_personStatement_1 : List UInt8 := [148, 154, 0, 9, 42, 8, 182, 0, 141, 172, 42, 182, 0, 148, 87, 42, 180, 0, 104, 5, 159, 0, 9, 42]
abbrev dktX3_personStatement_1 : List UInt8 := dkwX3_personStatement_1 ++ dktX3_personStatement_2
def dkwX3_personStatement_0 : List UInt8 := [16, 10, 5, 42, 180, 0, 7, 16, 9, 47, 136, 104, 96, 60, 42, 180, 0, 7, 16, 9, 47, 20, 0, 152]
abbrev dktX3_personStatement_0 : List UInt8 := dkwX3_personStatement_0 ++ dktX3_personStatement_1
theorem dksX3_personStatement_0 : cX3_personStatement.data.toList.drop 0 = dktX3_personStatement_0 := by decide +kernel
theorem dksX3_personStatement_1 : cX3_personStatement.data.toList.drop 24 = dktX3_personStatement_1 := dk_seg dksX3_personStatement_0 24 rfl rfl
theorem dksX3_personStatement_2 : cX3_personStatement.data.toList.drop 48 = dktX3_personStatement_2 := dk_seg dksX3_personStatement_1 24 rfl rfl
theorem dksX3_personStatement_3 : cX3_personStatement.data.toList.drop 72 = dktX3_personStatement_3 := dk_seg dksX3_personStatement_2 24 rfl rfl
theorem dksX3_personStatement_4 : cX3_personStatement.data.toList.drop 94 = dktX3_personStatement_4 := dk_seg dksX3_personStatement_3 22 rfl rfl
theorem dX3_personStatement_0 : decode cX3_personStatement 0 = .ok (.bipush 10, 2) := dk_16 10 (dk_at dksX3_personStatement_0 0 rfl rfl)
theorem dX3_personStatement_2 : decode cX3_personStatement 2 = .ok (.iconst 2, 1) := dk_5 (dk_at dksX3_personStatement_0 2 rfl rfl)
theorem dX3_personStatement_3 : decode cX3_personStatement 3 = .ok (.aload_n 0, 1) := dk_42 (dk_at dksX3_personStatement_0 3 rfl rfl)
theorem dX3_personStatement_4 : decode cX3_personStatement 4 = .ok (.getfield 7, 3) := dk_180 0 7 (dk_at dksX3_personStatement_0 4 rfl rfl)
theorem dX3_personStatement_7 : decode cX3_personStatement 7 = .ok (.bipush 9, 2) := dk_16 9 (dk_at dksX3_personStatement_0 7 rfl rfl)
theorem dX3_personStatement_9 : decode cX3_personStatement 9 = .ok (.laload, 1) := dk_47 (dk_at dksX3_personStatement_0 9 rfl rfl)
theorem dX3_personStatement_10 : decode cX3_personStatement 10 = .ok (.l2i, 1) := dk_136 (dk_at dksX3_personStatement_0 10 rfl rfl)
theorem dX3_personStatement_11 : decode cX3_personStatement 11 = .ok (.imul, 1) := dk_104 (dk_at dksX3_personStatement_0 11 rfl rfl)
theorem dX3_personStatement_12 : decode cX3_personStatement 12 = .ok (.iadd, 1) := dk_96 (dk_at dksX3_personStatement_0 12 rfl rfl)
theorem dX3_personStatement_13 : decode cX3_personStatement 13 = .ok (.istore_n 1, 1) := dk_60 (dk_at dksX3_personStatement_0 13 rfl rfl)
theorem dX3_personStatement_14 : decode cX3_personStatement 14 = .ok (.aload_n 0, 1) := dk_42 (dk_at dksX3_personStatement_0 14 rfl rfl)
theorem dX3_personStatement_15 : decode cX3_personStatement 15 = .ok (.getfield 7, 3) := dk_180 0 7 (dk_at dksX3_personStatement_0 15 rfl rfl)
theorem dX3_personStatement_18 : decode cX3_personStatement 18 = .ok (.bipush 9, 2) := dk_16 9 (dk_at dksX3_personStatement_0 18 rfl rfl)
theorem dX3_personStatement_20 : decode cX3_personStatement 20 = .ok (.laload, 1) := dk_47 (dk_at dksX3_personStatement_0 20 rfl rfl)
theorem dX3_personStatement_21 : decode cX3_personStatement 21 = .ok (.ldc2_w 152, 3) := dk_20 0 152 (dk_at dksX3_personStatement_0 21 rfl rfl)
theorem dX3_personStatement_24 : decode cX3_personStatement 24 = .ok (.lcmp, 1) := dk_148 (dk_at dksX3_personStatement_1 0 rfl rfl)
theorem dX3_personStatement_25 : decode cX3_personStatement 25 = .ok (.ifCond .ne 9, 3) := dk_154 0 9 (dk_at dksX3_personStatement_1 1 rfl rfl)
theorem dX3_personStatement_28 : decode cX3_personStatement 28 = .ok (.aload_n 0, 1) := dk_42 (dk_at dksX3_personStatement_1 4 rfl rfl)
theorem dX3_personStatement_29 : decode cX3_personStatement 29 = .ok (.iconst 5, 1) := dk_8 (dk_at dksX3_personStatement_1 5 rfl rfl)
theorem dX3_personStatement_30 : decode cX3_personStatement 30 = .ok (.invokevirtual 141, 3) := dk_182 0 141 (dk_at dksX3_personStatement_1 6 rfl rfl)
theorem dX3_personStatement_33 : decode cX3_personStatement 33 = .ok (.ireturn, 1) := dk_172 (dk_at dksX3_personStatement_1 9 rfl rfl)
theorem dX3_personStatement_34 : decode cX3_personStatement 34 = .ok (.aload_n 0, 1) := dk_42 (dk_at dksX3_personStatement_1 10 rfl rfl)
theorem dX3_personStatement_35 : decode cX3_personStatement 35 = .ok (.invokevirtual 148, 3) := dk_182 0 148 (dk_at dksX3_personStatement_1 11 rfl rfl)
theorem dX3_personStatement_38 : decode cX3_personStatement 38 = .ok (.pop, 1) := dk_87 (dk_at dksX3_personStatement_1 14 rfl rfl)
theorem dX3_personStatement_39 : decode cX3_personStatement 39 = .ok (.aload_n 0, 1) := dk_42 (dk_at dksX3_personStatement_1 15 rfl rfl)
theorem dX3_personStatement_40 : decode cX3_personStatement 40 = .ok (.getfield 104, 3) := dk_180 0 104 (dk_at dksX3_personStatement_1 16 rfl rfl)
theorem dX3_personStatement_43 : decode cX3_personStatement 43 = .ok (.iconst 2, 1) := dk_5 (dk_at dksX3_personStatement_1 19 rfl rfl)
theorem dX3_personStatement_44 : decode cX3_personStatement 44 = .ok (.if_icmp .eq 9, 3) := dk_159 0 9 (dk_at dksX3_personStatement_1 20 rfl rfl)
theorem dX3_personStatement_47 : decode cX3_personStatement 47 = .ok (.aload_n 0, 1) := dk_42 (dk_at dksX3_personStatement_1 23 rfl rfl)
theorem dX3_personStatement_48 : decode cX3_personStatement 48 = .ok (.iconst 2, 1) := dk_5 (dk_at dksX3_personStatement_2 0 rfl rfl)
theorem dX3_personStatement_49 : decode cX3_personStatement 49 = .ok (.invokevirtual 141, 3) := dk_182 0 141 (dk_at dksX3_personStatement_2 1 rfl rfl)
theorem dX3_personStatement_52 : decode cX3_personStatement 52 = .ok (.ireturn, 1) := dk_172 (dk_at dksX3_personStatement_2 4 rfl rfl)
theorem dX3_personStatement_53 : decode cX3_personStatement 53 = .ok (.aload_n 0, 1) := dk_42 (dk_at dksX3_personStatement_2 5 rfl rfl)
theorem dX3_personStatement_54 : decode cX3_personStatement 54 = .ok (.aload_n 0, 1) := dk_42 (dk_at dksX3_personStatement_2 6 rfl rfl)
theorem dX3_personStatement_55 : decode cX3_personStatement 55 = .ok (.getfield 82, 3) := dk_180 0 82 (dk_at dksX3_personStatement_2 7 rfl rfl)
theorem dX3_personStatement_58 : decode cX3_personStatement 58 = .ok (.invokevirtual 154, 3) := dk_182 0 154 (dk_at dksX3_personStatement_2 10 rfl rfl)
theorem dX3_personStatement_61 : decode cX3_personStatement 61 = .ok (.iconst (-1), 1) := dk_2 (dk_at dksX3_personStatement_2 13 rfl rfl)
theorem dX3_personStatement_62 : decode cX3_personStatement 62 = .ok (.if_icmp .eq 9, 3) := dk_159 0 9 (dk_at dksX3_personStatement_2 14 rfl rfl)
theorem dX3_personStatement_65 : decode cX3_personStatement 65 = .ok (.aload_n 0, 1) := dk_42 (dk_at dksX3_personStatement_2 17 rfl rfl)
theorem dX3_personStatement_66 : decode cX3_personStatement 66 = .ok (.iconst 4, 1) := dk_7 (dk_at dksX3_personStatement_2 18 rfl rfl)
theorem dX3_personStatement_67 : decode cX3_personStatement 67 = .ok (.invokevirtual 141, 3) := dk_182 0 141 (dk_at dksX3_personStatement_2 19 rfl rfl)
theorem dX3_personStatement_70 : decode cX3_personStatement 70 = .ok (.ireturn, 1) := dk_172 (dk_at dksX3_personStatement_2 22 rfl rfl)
theorem dX3_personStatement_71 : decode cX3_personStatement 71 = .ok (.aload_n 0, 1) := dk_42 (dk_at dksX3_personStatement_2 23 rfl rfl)
theorem dX3_personStatement_72 : decode cX3_personStatement 72 = .ok (.getfield 7, 3) := dk_180 0 7 (dk_at dksX3_personStatement_3 0 rfl rfl)
theorem dX3_personStatement_75 : decode cX3_personStatement 75 = .ok (.iload_n 1, 1) := dk_27 (dk_at dksX3_personStatement_3 3 rfl rfl)
theorem dX3_personStatement_76 : decode cX3_personStatement 76 = .ok (.aload_n 0, 1) := dk_42 (dk_at dksX3_personStatement_3 4 rfl rfl)
theorem dX3_personStatement_77 : decode cX3_personStatement 77 = .ok (.getfield 82, 3) := dk_180 0 82 (dk_at dksX3_personStatement_3 5 rfl rfl)
theorem dX3_personStatement_80 : decode cX3_personStatement 80 = .ok (.lastore, 1) := dk_80 (dk_at dksX3_personStatement_3 8 rfl rfl)
theorem dX3_personStatement_81 : decode cX3_personStatement 81 = .ok (.aload_n 0, 1) := dk_42 (dk_at dksX3_personStatement_3 9 rfl rfl)
theorem dX3_personStatement_82 : decode cX3_personStatement 82 = .ok (.invokevirtual 148, 3) := dk_182 0 148 (dk_at dksX3_personStatement_3 10 rfl rfl)
theorem dX3_personStatement_85 : decode cX3_personStatement 85 = .ok (.pop, 1) := dk_87 (dk_at dksX3_personStatement_3 13 rfl rfl)
theorem dX3_personStatement_86 : decode cX3_personStatement 86 = .ok (.aload_n 0, 1) := dk_42 (dk_at dksX3_personStatement_3 14 rfl rfl)
theorem dX3_personStatement_87 : decode cX3_personStatement 87 = .ok (.iload_n 1, 1) := dk_27 (dk_at dksX3_personStatement_3 15 rfl rfl)
theorem dX3_personStatement_88 : decode cX3_personStatement 88 = .ok (.iconst 1, 1) := dk_4 (dk_at dksX3_personStatement_3 16 rfl rfl)
theorem dX3_personStatement_89 : decode cX3_personStatement 89 = .ok (.iadd, 1) := dk_96 (dk_at dksX3_personStatement_3 17 rfl rfl)
theorem dX3_personStatement_90 : decode cX3_personStatement 90 = .ok (.iconst 0, 1) := dk_3 (dk_at dksX3_personStatement_3 18 rfl rfl)
theorem dX3_personStatement_91 : decode cX3_personStatement 91 = .ok (.sipush 9999, 3) := dk_17 39 15 (dk_at dksX3_personStatement_3 19 rfl rfl)
theorem dX3_personStatement_94 : decode cX3_personStatement 94 = .ok (.invokevirtual 158, 3) := dk_182 0 158 (dk_at dksX3_personStatement_4 0 rfl rfl)
theorem dX3_personStatement_97 : decode cX3_personStatement 97 = .ok (.ifCond .ne 5, 3) := dk_154 0 5 (dk_at dksX3_personStatement_4 3 rfl rfl)
theorem dX3_personStatement_100 : decode cX3_personStatement 100 = .ok (.iconst 0, 1) := dk_3 (dk_at dksX3_personStatement_4 6 rfl rfl)
theorem dX3_personStatement_101 : decode cX3_personStatement 101 = .ok (.ireturn, 1) := dk_172 (dk_at dksX3_personStatement_4 7 rfl rfl)
theorem dX3_personStatement_102 : decode cX3_personStatement 102 = .ok (.aload_n 0, 1) := dk_42 (dk_at dksX3_personStatement_4 8 rfl rfl)
theorem dX3_personStatement_103 : decode cX3_personStatement 103 = .ok (.getfield 7, 3) := dk_180 0 7 (dk_at dksX3_personStatement_4 9 rfl rfl)
theorem dX3_personStatement_106 : decode cX3_personStatement 106 = .ok (.bipush 9, 2) := dk_16 9 (dk_at dksX3_personStatement_4 12 rfl rfl)
theorem dX3_personStatement_108 : decode cX3_personStatement 108 = .ok (.dup2, 1) := dk_92 (dk_at dksX3_personStatement_4 14 rfl rfl)
theorem dX3_personStatement_109 : decode cX3_personStatement 109 = .ok (.laload, 1) := dk_47 (dk_at dksX3_personStatement_4 15 rfl rfl)
theorem dX3_personStatement_110 : decode cX3_personStatement 110 = .ok (.lconst 1, 1) := dk_10 (dk_at dksX3_personStatement_4 16 rfl rfl)
theorem dX3_personStatement_111 : decode cX3_personStatement 111 = .ok (.ladd, 1) := dk_97 (dk_at dksX3_personStatement_4 17 rfl rfl)
theorem dX3_personStatement_112 : decode cX3_personStatement 112 = .ok (.lastore, 1) := dk_80 (dk_at dksX3_personStatement_4 18 rfl rfl)
theorem dX3_personStatement_113 : decode cX3_personStatement 113 = .ok (.iconst 1, 1) := dk_4 (dk_at dksX3_personStatement_4 19 rfl rfl)
theorem dX3_personStatement_114 : decode cX3_personStatement 114 = .ok (.ireturn, 1) := dk_172 (dk_at dksX3_personStatement_4 20 rfl rfl)
abbrev cX3_personNamed : ByteArray := prog_26_method_28_code
def yX3_personNamed : MethodName := ⟨RX3, "personNamed", "(J)I"⟩
def dkwX3_personNamed_1 : List UInt8 := [96, 47, 31, 148, 154, 0, 5, 29, 172, 132, 3, 1, 167, 255, 222, 2, 172]
abbrev dktX3_personNamed_1 : List UInt8 := dkwX3_personNamed_1 ++ []
def dkwX3_personNamed_0 : List UInt8 := [3, 62, 29, 133, 42, 180, 0, 7, 16, 9, 47, 148, 156, 0, 27, 42, 180, 0, 7, 16, 10, 5, 29, 104]
abbrev dktX3_personNamed_0 : List UInt8 := dkwX3_personNamed_0 ++ dktX3_personNamed_1
theorem dksX3_personNamed_0 : cX3_personNamed.data.toList.drop 0 = dktX3_personNamed_0 := by decide +kernel
theorem dksX3_personNamed_1 : cX3_personNamed.data.toList.drop 24 = dktX3_personNamed_1 := dk_seg dksX3_personNamed_0 24 rfl rfl
theorem dX3_personNamed_0 : decode cX3_personNamed 0 = .ok (.iconst 0, 1) := dk_3 (dk_at dksX3_personNamed_0 0 rfl rfl)
theorem dX3_personNamed_1 : decode cX3_personNamed 1 = .ok (.istore_n 3, 1) := dk_62 (dk_at dksX3_personNamed_0 1 rfl rfl)
theorem dX3_personNamed_2 : decode cX3_personNamed 2 = .ok (.iload_n 3, 1) := dk_29 (dk_at dksX3_personNamed_0 2 rfl rfl)
theorem dX3_personNamed_3 : decode cX3_personNamed 3 = .ok (.i2l, 1) := dk_133 (dk_at dksX3_personNamed_0 3 rfl rfl)
theorem dX3_personNamed_4 : decode cX3_personNamed 4 = .ok (.aload_n 0, 1) := dk_42 (dk_at dksX3_personNamed_0 4 rfl rfl)
theorem dX3_personNamed_5 : decode cX3_personNamed 5 = .ok (.getfield 7, 3) := dk_180 0 7 (dk_at dksX3_personNamed_0 5 rfl rfl)
theorem dX3_personNamed_8 : decode cX3_personNamed 8 = .ok (.bipush 9, 2) := dk_16 9 (dk_at dksX3_personNamed_0 8 rfl rfl)
theorem dX3_personNamed_10 : decode cX3_personNamed 10 = .ok (.laload, 1) := dk_47 (dk_at dksX3_personNamed_0 10 rfl rfl)
theorem dX3_personNamed_11 : decode cX3_personNamed 11 = .ok (.lcmp, 1) := dk_148 (dk_at dksX3_personNamed_0 11 rfl rfl)
theorem dX3_personNamed_12 : decode cX3_personNamed 12 = .ok (.ifCond .ge 27, 3) := dk_156 0 27 (dk_at dksX3_personNamed_0 12 rfl rfl)
theorem dX3_personNamed_15 : decode cX3_personNamed 15 = .ok (.aload_n 0, 1) := dk_42 (dk_at dksX3_personNamed_0 15 rfl rfl)
theorem dX3_personNamed_16 : decode cX3_personNamed 16 = .ok (.getfield 7, 3) := dk_180 0 7 (dk_at dksX3_personNamed_0 16 rfl rfl)
theorem dX3_personNamed_19 : decode cX3_personNamed 19 = .ok (.bipush 10, 2) := dk_16 10 (dk_at dksX3_personNamed_0 19 rfl rfl)
theorem dX3_personNamed_21 : decode cX3_personNamed 21 = .ok (.iconst 2, 1) := dk_5 (dk_at dksX3_personNamed_0 21 rfl rfl)
theorem dX3_personNamed_22 : decode cX3_personNamed 22 = .ok (.iload_n 3, 1) := dk_29 (dk_at dksX3_personNamed_0 22 rfl rfl)
theorem dX3_personNamed_23 : decode cX3_personNamed 23 = .ok (.imul, 1) := dk_104 (dk_at dksX3_personNamed_0 23 rfl rfl)
theorem dX3_personNamed_24 : decode cX3_personNamed 24 = .ok (.iadd, 1) := dk_96 (dk_at dksX3_personNamed_1 0 rfl rfl)
theorem dX3_personNamed_25 : decode cX3_personNamed 25 = .ok (.laload, 1) := dk_47 (dk_at dksX3_personNamed_1 1 rfl rfl)
theorem dX3_personNamed_26 : decode cX3_personNamed 26 = .ok (.lload_n 1, 1) := dk_31 (dk_at dksX3_personNamed_1 2 rfl rfl)
theorem dX3_personNamed_27 : decode cX3_personNamed 27 = .ok (.lcmp, 1) := dk_148 (dk_at dksX3_personNamed_1 3 rfl rfl)
theorem dX3_personNamed_28 : decode cX3_personNamed 28 = .ok (.ifCond .ne 5, 3) := dk_154 0 5 (dk_at dksX3_personNamed_1 4 rfl rfl)
theorem dX3_personNamed_31 : decode cX3_personNamed 31 = .ok (.iload_n 3, 1) := dk_29 (dk_at dksX3_personNamed_1 7 rfl rfl)
theorem dX3_personNamed_32 : decode cX3_personNamed 32 = .ok (.ireturn, 1) := dk_172 (dk_at dksX3_personNamed_1 8 rfl rfl)
theorem dX3_personNamed_33 : decode cX3_personNamed 33 = .ok (.iinc 3 1, 3) := dk_132 3 1 (dk_at dksX3_personNamed_1 9 rfl rfl)
theorem dX3_personNamed_36 : decode cX3_personNamed 36 = .ok (.goto (-34), 3) := dk_167 255 222 (dk_at dksX3_personNamed_1 12 rfl rfl)
theorem dX3_personNamed_39 : decode cX3_personNamed 39 = .ok (.iconst (-1), 1) := dk_2 (dk_at dksX3_personNamed_1 15 rfl rfl)
theorem dX3_personNamed_40 : decode cX3_personNamed 40 = .ok (.ireturn, 1) := dk_172 (dk_at dksX3_personNamed_1 16 rfl rfl)
abbrev cX3_termStatement : ByteArray := prog_26_method_30_code
def yX3_termStatement : MethodName := ⟨RX3, "termStatement", "()Z"⟩
def dkwX3_termStatement_3 : List UInt8 := [16, 20, 92, 47, 10, 97, 80, 4, 172]
abbrev dktX3_termStatement_3 : List UInt8 := dkwX3_termStatement_3 ++ []
def dkwX3_termStatement_2 : List UInt8 := [8, 182, 0, 167, 153, 0, 13, 42, 27, 4, 96, 182, 0, 164, 154, 0, 5, 3, 172, 42, 180, 0, 7]
abbrev dktX3_termStatement_2 : List UInt8 := dkwX3_termStatement_2 ++ dktX3_termStatement_3
def dkwX3_termStatement_1 : List UInt8 := [148, 154, 0, 9, 42, 8, 182, 0, 141, 172, 42, 182, 0, 148, 87, 42, 27, 182, 0, 164, 153, 0, 21, 42]
abbrev dktX3_termStatement_1 : List UInt8 := dkwX3_termStatement_1 ++ dktX3_termStatement_2
def dkwX3_termStatement_0 : List UInt8 := [16, 21, 5, 42, 180, 0, 7, 16, 20, 47, 136, 104, 96, 60, 42, 180, 0, 7, 16, 20, 47, 20, 0, 162]
abbrev dktX3_termStatement_0 : List UInt8 := dkwX3_termStatement_0 ++ dktX3_termStatement_1
theorem dksX3_termStatement_0 : cX3_termStatement.data.toList.drop 0 = dktX3_termStatement_0 := by decide +kernel
theorem dksX3_termStatement_1 : cX3_termStatement.data.toList.drop 24 = dktX3_termStatement_1 := dk_seg dksX3_termStatement_0 24 rfl rfl
theorem dksX3_termStatement_2 : cX3_termStatement.data.toList.drop 48 = dktX3_termStatement_2 := dk_seg dksX3_termStatement_1 24 rfl rfl
theorem dksX3_termStatement_3 : cX3_termStatement.data.toList.drop 71 = dktX3_termStatement_3 := dk_seg dksX3_termStatement_2 23 rfl rfl
theorem dX3_termStatement_0 : decode cX3_termStatement 0 = .ok (.bipush 21, 2) := dk_16 21 (dk_at dksX3_termStatement_0 0 rfl rfl)
theorem dX3_termStatement_2 : decode cX3_termStatement 2 = .ok (.iconst 2, 1) := dk_5 (dk_at dksX3_termStatement_0 2 rfl rfl)
theorem dX3_termStatement_3 : decode cX3_termStatement 3 = .ok (.aload_n 0, 1) := dk_42 (dk_at dksX3_termStatement_0 3 rfl rfl)
theorem dX3_termStatement_4 : decode cX3_termStatement 4 = .ok (.getfield 7, 3) := dk_180 0 7 (dk_at dksX3_termStatement_0 4 rfl rfl)
theorem dX3_termStatement_7 : decode cX3_termStatement 7 = .ok (.bipush 20, 2) := dk_16 20 (dk_at dksX3_termStatement_0 7 rfl rfl)
theorem dX3_termStatement_9 : decode cX3_termStatement 9 = .ok (.laload, 1) := dk_47 (dk_at dksX3_termStatement_0 9 rfl rfl)
theorem dX3_termStatement_10 : decode cX3_termStatement 10 = .ok (.l2i, 1) := dk_136 (dk_at dksX3_termStatement_0 10 rfl rfl)
theorem dX3_termStatement_11 : decode cX3_termStatement 11 = .ok (.imul, 1) := dk_104 (dk_at dksX3_termStatement_0 11 rfl rfl)
theorem dX3_termStatement_12 : decode cX3_termStatement 12 = .ok (.iadd, 1) := dk_96 (dk_at dksX3_termStatement_0 12 rfl rfl)
theorem dX3_termStatement_13 : decode cX3_termStatement 13 = .ok (.istore_n 1, 1) := dk_60 (dk_at dksX3_termStatement_0 13 rfl rfl)
theorem dX3_termStatement_14 : decode cX3_termStatement 14 = .ok (.aload_n 0, 1) := dk_42 (dk_at dksX3_termStatement_0 14 rfl rfl)
theorem dX3_termStatement_15 : decode cX3_termStatement 15 = .ok (.getfield 7, 3) := dk_180 0 7 (dk_at dksX3_termStatement_0 15 rfl rfl)
theorem dX3_termStatement_18 : decode cX3_termStatement 18 = .ok (.bipush 20, 2) := dk_16 20 (dk_at dksX3_termStatement_0 18 rfl rfl)
theorem dX3_termStatement_20 : decode cX3_termStatement 20 = .ok (.laload, 1) := dk_47 (dk_at dksX3_termStatement_0 20 rfl rfl)
theorem dX3_termStatement_21 : decode cX3_termStatement 21 = .ok (.ldc2_w 162, 3) := dk_20 0 162 (dk_at dksX3_termStatement_0 21 rfl rfl)
theorem dX3_termStatement_24 : decode cX3_termStatement 24 = .ok (.lcmp, 1) := dk_148 (dk_at dksX3_termStatement_1 0 rfl rfl)
theorem dX3_termStatement_25 : decode cX3_termStatement 25 = .ok (.ifCond .ne 9, 3) := dk_154 0 9 (dk_at dksX3_termStatement_1 1 rfl rfl)
theorem dX3_termStatement_28 : decode cX3_termStatement 28 = .ok (.aload_n 0, 1) := dk_42 (dk_at dksX3_termStatement_1 4 rfl rfl)
theorem dX3_termStatement_29 : decode cX3_termStatement 29 = .ok (.iconst 5, 1) := dk_8 (dk_at dksX3_termStatement_1 5 rfl rfl)
theorem dX3_termStatement_30 : decode cX3_termStatement 30 = .ok (.invokevirtual 141, 3) := dk_182 0 141 (dk_at dksX3_termStatement_1 6 rfl rfl)
theorem dX3_termStatement_33 : decode cX3_termStatement 33 = .ok (.ireturn, 1) := dk_172 (dk_at dksX3_termStatement_1 9 rfl rfl)
theorem dX3_termStatement_34 : decode cX3_termStatement 34 = .ok (.aload_n 0, 1) := dk_42 (dk_at dksX3_termStatement_1 10 rfl rfl)
theorem dX3_termStatement_35 : decode cX3_termStatement 35 = .ok (.invokevirtual 148, 3) := dk_182 0 148 (dk_at dksX3_termStatement_1 11 rfl rfl)
theorem dX3_termStatement_38 : decode cX3_termStatement 38 = .ok (.pop, 1) := dk_87 (dk_at dksX3_termStatement_1 14 rfl rfl)
theorem dX3_termStatement_39 : decode cX3_termStatement 39 = .ok (.aload_n 0, 1) := dk_42 (dk_at dksX3_termStatement_1 15 rfl rfl)
theorem dX3_termStatement_40 : decode cX3_termStatement 40 = .ok (.iload_n 1, 1) := dk_27 (dk_at dksX3_termStatement_1 16 rfl rfl)
theorem dX3_termStatement_41 : decode cX3_termStatement 41 = .ok (.invokevirtual 164, 3) := dk_182 0 164 (dk_at dksX3_termStatement_1 17 rfl rfl)
theorem dX3_termStatement_44 : decode cX3_termStatement 44 = .ok (.ifCond .eq 21, 3) := dk_153 0 21 (dk_at dksX3_termStatement_1 20 rfl rfl)
theorem dX3_termStatement_47 : decode cX3_termStatement 47 = .ok (.aload_n 0, 1) := dk_42 (dk_at dksX3_termStatement_1 23 rfl rfl)
theorem dX3_termStatement_48 : decode cX3_termStatement 48 = .ok (.iconst 5, 1) := dk_8 (dk_at dksX3_termStatement_2 0 rfl rfl)
theorem dX3_termStatement_49 : decode cX3_termStatement 49 = .ok (.invokevirtual 167, 3) := dk_182 0 167 (dk_at dksX3_termStatement_2 1 rfl rfl)
theorem dX3_termStatement_52 : decode cX3_termStatement 52 = .ok (.ifCond .eq 13, 3) := dk_153 0 13 (dk_at dksX3_termStatement_2 4 rfl rfl)
theorem dX3_termStatement_55 : decode cX3_termStatement 55 = .ok (.aload_n 0, 1) := dk_42 (dk_at dksX3_termStatement_2 7 rfl rfl)
theorem dX3_termStatement_56 : decode cX3_termStatement 56 = .ok (.iload_n 1, 1) := dk_27 (dk_at dksX3_termStatement_2 8 rfl rfl)
theorem dX3_termStatement_57 : decode cX3_termStatement 57 = .ok (.iconst 1, 1) := dk_4 (dk_at dksX3_termStatement_2 9 rfl rfl)
theorem dX3_termStatement_58 : decode cX3_termStatement 58 = .ok (.iadd, 1) := dk_96 (dk_at dksX3_termStatement_2 10 rfl rfl)
theorem dX3_termStatement_59 : decode cX3_termStatement 59 = .ok (.invokevirtual 164, 3) := dk_182 0 164 (dk_at dksX3_termStatement_2 11 rfl rfl)
theorem dX3_termStatement_62 : decode cX3_termStatement 62 = .ok (.ifCond .ne 5, 3) := dk_154 0 5 (dk_at dksX3_termStatement_2 14 rfl rfl)
theorem dX3_termStatement_65 : decode cX3_termStatement 65 = .ok (.iconst 0, 1) := dk_3 (dk_at dksX3_termStatement_2 17 rfl rfl)
theorem dX3_termStatement_66 : decode cX3_termStatement 66 = .ok (.ireturn, 1) := dk_172 (dk_at dksX3_termStatement_2 18 rfl rfl)
theorem dX3_termStatement_67 : decode cX3_termStatement 67 = .ok (.aload_n 0, 1) := dk_42 (dk_at dksX3_termStatement_2 19 rfl rfl)
theorem dX3_termStatement_68 : decode cX3_termStatement 68 = .ok (.getfield 7, 3) := dk_180 0 7 (dk_at dksX3_termStatement_2 20 rfl rfl)
theorem dX3_termStatement_71 : decode cX3_termStatement 71 = .ok (.bipush 20, 2) := dk_16 20 (dk_at dksX3_termStatement_3 0 rfl rfl)
theorem dX3_termStatement_73 : decode cX3_termStatement 73 = .ok (.dup2, 1) := dk_92 (dk_at dksX3_termStatement_3 2 rfl rfl)
theorem dX3_termStatement_74 : decode cX3_termStatement 74 = .ok (.laload, 1) := dk_47 (dk_at dksX3_termStatement_3 3 rfl rfl)
theorem dX3_termStatement_75 : decode cX3_termStatement 75 = .ok (.lconst 1, 1) := dk_10 (dk_at dksX3_termStatement_3 4 rfl rfl)
theorem dX3_termStatement_76 : decode cX3_termStatement 76 = .ok (.ladd, 1) := dk_97 (dk_at dksX3_termStatement_3 5 rfl rfl)
theorem dX3_termStatement_77 : decode cX3_termStatement 77 = .ok (.lastore, 1) := dk_80 (dk_at dksX3_termStatement_3 6 rfl rfl)
theorem dX3_termStatement_78 : decode cX3_termStatement 78 = .ok (.iconst 1, 1) := dk_4 (dk_at dksX3_termStatement_3 7 rfl rfl)
theorem dX3_termStatement_79 : decode cX3_termStatement 79 = .ok (.ireturn, 1) := dk_172 (dk_at dksX3_termStatement_3 8 rfl rfl)
abbrev cX3_wordInto : ByteArray := prog_26_method_26_code
def yX3_wordInto : MethodName := ⟨RX3, "wordInto", "(I)Z"⟩
def dkwX3_wordInto_1 : List UInt8 := [42, 182, 0, 148, 172]
abbrev dktX3_wordInto_1 : List UInt8 := dkwX3_wordInto_1 ++ []
def dkwX3_wordInto_0 : List UInt8 := [42, 180, 0, 104, 5, 159, 0, 9, 42, 5, 182, 0, 141, 172, 42, 180, 0, 7, 27, 42, 180, 0, 82, 80]
abbrev dktX3_wordInto_0 : List UInt8 := dkwX3_wordInto_0 ++ dktX3_wordInto_1
theorem dksX3_wordInto_0 : cX3_wordInto.data.toList.drop 0 = dktX3_wordInto_0 := by decide +kernel
theorem dksX3_wordInto_1 : cX3_wordInto.data.toList.drop 24 = dktX3_wordInto_1 := dk_seg dksX3_wordInto_0 24 rfl rfl
theorem dX3_wordInto_0 : decode cX3_wordInto 0 = .ok (.aload_n 0, 1) := dk_42 (dk_at dksX3_wordInto_0 0 rfl rfl)
theorem dX3_wordInto_1 : decode cX3_wordInto 1 = .ok (.getfield 104, 3) := dk_180 0 104 (dk_at dksX3_wordInto_0 1 rfl rfl)
theorem dX3_wordInto_4 : decode cX3_wordInto 4 = .ok (.iconst 2, 1) := dk_5 (dk_at dksX3_wordInto_0 4 rfl rfl)
theorem dX3_wordInto_5 : decode cX3_wordInto 5 = .ok (.if_icmp .eq 9, 3) := dk_159 0 9 (dk_at dksX3_wordInto_0 5 rfl rfl)
theorem dX3_wordInto_8 : decode cX3_wordInto 8 = .ok (.aload_n 0, 1) := dk_42 (dk_at dksX3_wordInto_0 8 rfl rfl)
theorem dX3_wordInto_9 : decode cX3_wordInto 9 = .ok (.iconst 2, 1) := dk_5 (dk_at dksX3_wordInto_0 9 rfl rfl)
theorem dX3_wordInto_10 : decode cX3_wordInto 10 = .ok (.invokevirtual 141, 3) := dk_182 0 141 (dk_at dksX3_wordInto_0 10 rfl rfl)
theorem dX3_wordInto_13 : decode cX3_wordInto 13 = .ok (.ireturn, 1) := dk_172 (dk_at dksX3_wordInto_0 13 rfl rfl)
theorem dX3_wordInto_14 : decode cX3_wordInto 14 = .ok (.aload_n 0, 1) := dk_42 (dk_at dksX3_wordInto_0 14 rfl rfl)
theorem dX3_wordInto_15 : decode cX3_wordInto 15 = .ok (.getfield 7, 3) := dk_180 0 7 (dk_at dksX3_wordInto_0 15 rfl rfl)
theorem dX3_wordInto_18 : decode cX3_wordInto 18 = .ok (.iload_n 1, 1) := dk_27 (dk_at dksX3_wordInto_0 18 rfl rfl)
theorem dX3_wordInto_19 : decode cX3_wordInto 19 = .ok (.aload_n 0, 1) := dk_42 (dk_at dksX3_wordInto_0 19 rfl rfl)
theorem dX3_wordInto_20 : decode cX3_wordInto 20 = .ok (.getfield 82, 3) := dk_180 0 82 (dk_at dksX3_wordInto_0 20 rfl rfl)
theorem dX3_wordInto_23 : decode cX3_wordInto 23 = .ok (.lastore, 1) := dk_80 (dk_at dksX3_wordInto_0 23 rfl rfl)
theorem dX3_wordInto_24 : decode cX3_wordInto 24 = .ok (.aload_n 0, 1) := dk_42 (dk_at dksX3_wordInto_1 0 rfl rfl)
theorem dX3_wordInto_25 : decode cX3_wordInto 25 = .ok (.invokevirtual 148, 3) := dk_182 0 148 (dk_at dksX3_wordInto_1 1 rfl rfl)
theorem dX3_wordInto_28 : decode cX3_wordInto 28 = .ok (.ireturn, 1) := dk_172 (dk_at dksX3_wordInto_1 4 rfl rfl)
abbrev cX3_sign : ByteArray := prog_26_method_27_code
def yX3_sign : MethodName := ⟨RX3, "sign", "(I)Z"⟩
def dkwX3_sign_0 : List UInt8 := [42, 180, 0, 104, 27, 159, 0, 9, 42, 5, 182, 0, 141, 172, 42, 182, 0, 148, 172]
abbrev dktX3_sign_0 : List UInt8 := dkwX3_sign_0 ++ []
theorem dksX3_sign_0 : cX3_sign.data.toList.drop 0 = dktX3_sign_0 := by decide +kernel
theorem dX3_sign_0 : decode cX3_sign 0 = .ok (.aload_n 0, 1) := dk_42 (dk_at dksX3_sign_0 0 rfl rfl)
theorem dX3_sign_1 : decode cX3_sign 1 = .ok (.getfield 104, 3) := dk_180 0 104 (dk_at dksX3_sign_0 1 rfl rfl)
theorem dX3_sign_4 : decode cX3_sign 4 = .ok (.iload_n 1, 1) := dk_27 (dk_at dksX3_sign_0 4 rfl rfl)
theorem dX3_sign_5 : decode cX3_sign 5 = .ok (.if_icmp .eq 9, 3) := dk_159 0 9 (dk_at dksX3_sign_0 5 rfl rfl)
theorem dX3_sign_8 : decode cX3_sign 8 = .ok (.aload_n 0, 1) := dk_42 (dk_at dksX3_sign_0 8 rfl rfl)
theorem dX3_sign_9 : decode cX3_sign 9 = .ok (.iconst 2, 1) := dk_5 (dk_at dksX3_sign_0 9 rfl rfl)
theorem dX3_sign_10 : decode cX3_sign 10 = .ok (.invokevirtual 141, 3) := dk_182 0 141 (dk_at dksX3_sign_0 10 rfl rfl)
theorem dX3_sign_13 : decode cX3_sign 13 = .ok (.ireturn, 1) := dk_172 (dk_at dksX3_sign_0 13 rfl rfl)
theorem dX3_sign_14 : decode cX3_sign 14 = .ok (.aload_n 0, 1) := dk_42 (dk_at dksX3_sign_0 14 rfl rfl)
theorem dX3_sign_15 : decode cX3_sign 15 = .ok (.invokevirtual 148, 3) := dk_182 0 148 (dk_at dksX3_sign_0 15 rfl rfl)
theorem dX3_sign_18 : decode cX3_sign 18 = .ok (.ireturn, 1) := dk_172 (dk_at dksX3_sign_0 18 rfl rfl)
abbrev cX3_jobStatement : ByteArray := prog_26_method_32_code
def yX3_jobStatement : MethodName := ⟨RX3, "jobStatement", "()Z"⟩
def dkwX3_jobStatement_4 : List UInt8 := [180, 0, 7, 16, 20, 47, 80, 42, 180, 0, 7, 16, 45, 92, 47, 10, 97, 80, 4, 172]
abbrev dktX3_jobStatement_4 : List UInt8 := dkwX3_jobStatement_4 ++ []
def dkwX3_jobStatement_3 : List UInt8 := [42, 27, 5, 96, 4, 16, 99, 182, 0, 158, 154, 0, 5, 3, 172, 42, 180, 0, 7, 27, 6, 96, 42]
abbrev dktX3_jobStatement_3 : List UInt8 := dkwX3_jobStatement_3 ++ dktX3_jobStatement_4
def dkwX3_jobStatement_2 : List UInt8 := [182, 0, 172, 153, 0, 34, 42, 27, 4, 96, 42, 180, 0, 7, 27, 3, 96, 47, 182, 0, 172, 153, 0, 16]
abbrev dktX3_jobStatement_2 : List UInt8 := dkwX3_jobStatement_2 ++ dktX3_jobStatement_3
def dkwX3_jobStatement_1 : List UInt8 := [148, 154, 0, 9, 42, 8, 182, 0, 141, 172, 42, 182, 0, 148, 87, 42, 27, 3, 96, 20, 0, 170]
abbrev dktX3_jobStatement_1 : List UInt8 := dkwX3_jobStatement_1 ++ dktX3_jobStatement_2
def dkwX3_jobStatement_0 : List UInt8 := [16, 46, 7, 42, 180, 0, 7, 16, 45, 47, 136, 104, 96, 60, 42, 180, 0, 7, 16, 45, 47, 20, 0, 152]
abbrev dktX3_jobStatement_0 : List UInt8 := dkwX3_jobStatement_0 ++ dktX3_jobStatement_1
theorem dksX3_jobStatement_0 : cX3_jobStatement.data.toList.drop 0 = dktX3_jobStatement_0 := by decide +kernel
theorem dksX3_jobStatement_1 : cX3_jobStatement.data.toList.drop 24 = dktX3_jobStatement_1 := dk_seg dksX3_jobStatement_0 24 rfl rfl
theorem dksX3_jobStatement_2 : cX3_jobStatement.data.toList.drop 46 = dktX3_jobStatement_2 := dk_seg dksX3_jobStatement_1 22 rfl rfl
theorem dksX3_jobStatement_3 : cX3_jobStatement.data.toList.drop 70 = dktX3_jobStatement_3 := dk_seg dksX3_jobStatement_2 24 rfl rfl
theorem dksX3_jobStatement_4 : cX3_jobStatement.data.toList.drop 93 = dktX3_jobStatement_4 := dk_seg dksX3_jobStatement_3 23 rfl rfl
theorem dX3_jobStatement_0 : decode cX3_jobStatement 0 = .ok (.bipush 46, 2) := dk_16 46 (dk_at dksX3_jobStatement_0 0 rfl rfl)
theorem dX3_jobStatement_2 : decode cX3_jobStatement 2 = .ok (.iconst 4, 1) := dk_7 (dk_at dksX3_jobStatement_0 2 rfl rfl)
theorem dX3_jobStatement_3 : decode cX3_jobStatement 3 = .ok (.aload_n 0, 1) := dk_42 (dk_at dksX3_jobStatement_0 3 rfl rfl)
theorem dX3_jobStatement_4 : decode cX3_jobStatement 4 = .ok (.getfield 7, 3) := dk_180 0 7 (dk_at dksX3_jobStatement_0 4 rfl rfl)
theorem dX3_jobStatement_7 : decode cX3_jobStatement 7 = .ok (.bipush 45, 2) := dk_16 45 (dk_at dksX3_jobStatement_0 7 rfl rfl)
theorem dX3_jobStatement_9 : decode cX3_jobStatement 9 = .ok (.laload, 1) := dk_47 (dk_at dksX3_jobStatement_0 9 rfl rfl)
theorem dX3_jobStatement_10 : decode cX3_jobStatement 10 = .ok (.l2i, 1) := dk_136 (dk_at dksX3_jobStatement_0 10 rfl rfl)
theorem dX3_jobStatement_11 : decode cX3_jobStatement 11 = .ok (.imul, 1) := dk_104 (dk_at dksX3_jobStatement_0 11 rfl rfl)
theorem dX3_jobStatement_12 : decode cX3_jobStatement 12 = .ok (.iadd, 1) := dk_96 (dk_at dksX3_jobStatement_0 12 rfl rfl)
theorem dX3_jobStatement_13 : decode cX3_jobStatement 13 = .ok (.istore_n 1, 1) := dk_60 (dk_at dksX3_jobStatement_0 13 rfl rfl)
theorem dX3_jobStatement_14 : decode cX3_jobStatement 14 = .ok (.aload_n 0, 1) := dk_42 (dk_at dksX3_jobStatement_0 14 rfl rfl)
theorem dX3_jobStatement_15 : decode cX3_jobStatement 15 = .ok (.getfield 7, 3) := dk_180 0 7 (dk_at dksX3_jobStatement_0 15 rfl rfl)
theorem dX3_jobStatement_18 : decode cX3_jobStatement 18 = .ok (.bipush 45, 2) := dk_16 45 (dk_at dksX3_jobStatement_0 18 rfl rfl)
theorem dX3_jobStatement_20 : decode cX3_jobStatement 20 = .ok (.laload, 1) := dk_47 (dk_at dksX3_jobStatement_0 20 rfl rfl)
theorem dX3_jobStatement_21 : decode cX3_jobStatement 21 = .ok (.ldc2_w 152, 3) := dk_20 0 152 (dk_at dksX3_jobStatement_0 21 rfl rfl)
theorem dX3_jobStatement_24 : decode cX3_jobStatement 24 = .ok (.lcmp, 1) := dk_148 (dk_at dksX3_jobStatement_1 0 rfl rfl)
theorem dX3_jobStatement_25 : decode cX3_jobStatement 25 = .ok (.ifCond .ne 9, 3) := dk_154 0 9 (dk_at dksX3_jobStatement_1 1 rfl rfl)
theorem dX3_jobStatement_28 : decode cX3_jobStatement 28 = .ok (.aload_n 0, 1) := dk_42 (dk_at dksX3_jobStatement_1 4 rfl rfl)
theorem dX3_jobStatement_29 : decode cX3_jobStatement 29 = .ok (.iconst 5, 1) := dk_8 (dk_at dksX3_jobStatement_1 5 rfl rfl)
theorem dX3_jobStatement_30 : decode cX3_jobStatement 30 = .ok (.invokevirtual 141, 3) := dk_182 0 141 (dk_at dksX3_jobStatement_1 6 rfl rfl)
theorem dX3_jobStatement_33 : decode cX3_jobStatement 33 = .ok (.ireturn, 1) := dk_172 (dk_at dksX3_jobStatement_1 9 rfl rfl)
theorem dX3_jobStatement_34 : decode cX3_jobStatement 34 = .ok (.aload_n 0, 1) := dk_42 (dk_at dksX3_jobStatement_1 10 rfl rfl)
theorem dX3_jobStatement_35 : decode cX3_jobStatement 35 = .ok (.invokevirtual 148, 3) := dk_182 0 148 (dk_at dksX3_jobStatement_1 11 rfl rfl)
theorem dX3_jobStatement_38 : decode cX3_jobStatement 38 = .ok (.pop, 1) := dk_87 (dk_at dksX3_jobStatement_1 14 rfl rfl)
theorem dX3_jobStatement_39 : decode cX3_jobStatement 39 = .ok (.aload_n 0, 1) := dk_42 (dk_at dksX3_jobStatement_1 15 rfl rfl)
theorem dX3_jobStatement_40 : decode cX3_jobStatement 40 = .ok (.iload_n 1, 1) := dk_27 (dk_at dksX3_jobStatement_1 16 rfl rfl)
theorem dX3_jobStatement_41 : decode cX3_jobStatement 41 = .ok (.iconst 0, 1) := dk_3 (dk_at dksX3_jobStatement_1 17 rfl rfl)
theorem dX3_jobStatement_42 : decode cX3_jobStatement 42 = .ok (.iadd, 1) := dk_96 (dk_at dksX3_jobStatement_1 18 rfl rfl)
theorem dX3_jobStatement_43 : decode cX3_jobStatement 43 = .ok (.ldc2_w 170, 3) := dk_20 0 170 (dk_at dksX3_jobStatement_1 19 rfl rfl)
theorem dX3_jobStatement_46 : decode cX3_jobStatement 46 = .ok (.invokevirtual 172, 3) := dk_182 0 172 (dk_at dksX3_jobStatement_2 0 rfl rfl)
theorem dX3_jobStatement_49 : decode cX3_jobStatement 49 = .ok (.ifCond .eq 34, 3) := dk_153 0 34 (dk_at dksX3_jobStatement_2 3 rfl rfl)
theorem dX3_jobStatement_52 : decode cX3_jobStatement 52 = .ok (.aload_n 0, 1) := dk_42 (dk_at dksX3_jobStatement_2 6 rfl rfl)
theorem dX3_jobStatement_53 : decode cX3_jobStatement 53 = .ok (.iload_n 1, 1) := dk_27 (dk_at dksX3_jobStatement_2 7 rfl rfl)
theorem dX3_jobStatement_54 : decode cX3_jobStatement 54 = .ok (.iconst 1, 1) := dk_4 (dk_at dksX3_jobStatement_2 8 rfl rfl)
theorem dX3_jobStatement_55 : decode cX3_jobStatement 55 = .ok (.iadd, 1) := dk_96 (dk_at dksX3_jobStatement_2 9 rfl rfl)
theorem dX3_jobStatement_56 : decode cX3_jobStatement 56 = .ok (.aload_n 0, 1) := dk_42 (dk_at dksX3_jobStatement_2 10 rfl rfl)
theorem dX3_jobStatement_57 : decode cX3_jobStatement 57 = .ok (.getfield 7, 3) := dk_180 0 7 (dk_at dksX3_jobStatement_2 11 rfl rfl)
theorem dX3_jobStatement_60 : decode cX3_jobStatement 60 = .ok (.iload_n 1, 1) := dk_27 (dk_at dksX3_jobStatement_2 14 rfl rfl)
theorem dX3_jobStatement_61 : decode cX3_jobStatement 61 = .ok (.iconst 0, 1) := dk_3 (dk_at dksX3_jobStatement_2 15 rfl rfl)
theorem dX3_jobStatement_62 : decode cX3_jobStatement 62 = .ok (.iadd, 1) := dk_96 (dk_at dksX3_jobStatement_2 16 rfl rfl)
theorem dX3_jobStatement_63 : decode cX3_jobStatement 63 = .ok (.laload, 1) := dk_47 (dk_at dksX3_jobStatement_2 17 rfl rfl)
theorem dX3_jobStatement_64 : decode cX3_jobStatement 64 = .ok (.invokevirtual 172, 3) := dk_182 0 172 (dk_at dksX3_jobStatement_2 18 rfl rfl)
theorem dX3_jobStatement_67 : decode cX3_jobStatement 67 = .ok (.ifCond .eq 16, 3) := dk_153 0 16 (dk_at dksX3_jobStatement_2 21 rfl rfl)
theorem dX3_jobStatement_70 : decode cX3_jobStatement 70 = .ok (.aload_n 0, 1) := dk_42 (dk_at dksX3_jobStatement_3 0 rfl rfl)
theorem dX3_jobStatement_71 : decode cX3_jobStatement 71 = .ok (.iload_n 1, 1) := dk_27 (dk_at dksX3_jobStatement_3 1 rfl rfl)
theorem dX3_jobStatement_72 : decode cX3_jobStatement 72 = .ok (.iconst 2, 1) := dk_5 (dk_at dksX3_jobStatement_3 2 rfl rfl)
theorem dX3_jobStatement_73 : decode cX3_jobStatement 73 = .ok (.iadd, 1) := dk_96 (dk_at dksX3_jobStatement_3 3 rfl rfl)
theorem dX3_jobStatement_74 : decode cX3_jobStatement 74 = .ok (.iconst 1, 1) := dk_4 (dk_at dksX3_jobStatement_3 4 rfl rfl)
theorem dX3_jobStatement_75 : decode cX3_jobStatement 75 = .ok (.bipush 99, 2) := dk_16 99 (dk_at dksX3_jobStatement_3 5 rfl rfl)
theorem dX3_jobStatement_77 : decode cX3_jobStatement 77 = .ok (.invokevirtual 158, 3) := dk_182 0 158 (dk_at dksX3_jobStatement_3 7 rfl rfl)
theorem dX3_jobStatement_80 : decode cX3_jobStatement 80 = .ok (.ifCond .ne 5, 3) := dk_154 0 5 (dk_at dksX3_jobStatement_3 10 rfl rfl)
theorem dX3_jobStatement_83 : decode cX3_jobStatement 83 = .ok (.iconst 0, 1) := dk_3 (dk_at dksX3_jobStatement_3 13 rfl rfl)
theorem dX3_jobStatement_84 : decode cX3_jobStatement 84 = .ok (.ireturn, 1) := dk_172 (dk_at dksX3_jobStatement_3 14 rfl rfl)
theorem dX3_jobStatement_85 : decode cX3_jobStatement 85 = .ok (.aload_n 0, 1) := dk_42 (dk_at dksX3_jobStatement_3 15 rfl rfl)
theorem dX3_jobStatement_86 : decode cX3_jobStatement 86 = .ok (.getfield 7, 3) := dk_180 0 7 (dk_at dksX3_jobStatement_3 16 rfl rfl)
theorem dX3_jobStatement_89 : decode cX3_jobStatement 89 = .ok (.iload_n 1, 1) := dk_27 (dk_at dksX3_jobStatement_3 19 rfl rfl)
theorem dX3_jobStatement_90 : decode cX3_jobStatement 90 = .ok (.iconst 3, 1) := dk_6 (dk_at dksX3_jobStatement_3 20 rfl rfl)
theorem dX3_jobStatement_91 : decode cX3_jobStatement 91 = .ok (.iadd, 1) := dk_96 (dk_at dksX3_jobStatement_3 21 rfl rfl)
theorem dX3_jobStatement_92 : decode cX3_jobStatement 92 = .ok (.aload_n 0, 1) := dk_42 (dk_at dksX3_jobStatement_3 22 rfl rfl)
theorem dX3_jobStatement_93 : decode cX3_jobStatement 93 = .ok (.getfield 7, 3) := dk_180 0 7 (dk_at dksX3_jobStatement_4 0 rfl rfl)
theorem dX3_jobStatement_96 : decode cX3_jobStatement 96 = .ok (.bipush 20, 2) := dk_16 20 (dk_at dksX3_jobStatement_4 3 rfl rfl)
theorem dX3_jobStatement_98 : decode cX3_jobStatement 98 = .ok (.laload, 1) := dk_47 (dk_at dksX3_jobStatement_4 5 rfl rfl)
theorem dX3_jobStatement_99 : decode cX3_jobStatement 99 = .ok (.lastore, 1) := dk_80 (dk_at dksX3_jobStatement_4 6 rfl rfl)
theorem dX3_jobStatement_100 : decode cX3_jobStatement 100 = .ok (.aload_n 0, 1) := dk_42 (dk_at dksX3_jobStatement_4 7 rfl rfl)
theorem dX3_jobStatement_101 : decode cX3_jobStatement 101 = .ok (.getfield 7, 3) := dk_180 0 7 (dk_at dksX3_jobStatement_4 8 rfl rfl)
theorem dX3_jobStatement_104 : decode cX3_jobStatement 104 = .ok (.bipush 45, 2) := dk_16 45 (dk_at dksX3_jobStatement_4 11 rfl rfl)
theorem dX3_jobStatement_106 : decode cX3_jobStatement 106 = .ok (.dup2, 1) := dk_92 (dk_at dksX3_jobStatement_4 13 rfl rfl)
theorem dX3_jobStatement_107 : decode cX3_jobStatement 107 = .ok (.laload, 1) := dk_47 (dk_at dksX3_jobStatement_4 14 rfl rfl)
theorem dX3_jobStatement_108 : decode cX3_jobStatement 108 = .ok (.lconst 1, 1) := dk_10 (dk_at dksX3_jobStatement_4 15 rfl rfl)
theorem dX3_jobStatement_109 : decode cX3_jobStatement 109 = .ok (.ladd, 1) := dk_97 (dk_at dksX3_jobStatement_4 16 rfl rfl)
theorem dX3_jobStatement_110 : decode cX3_jobStatement 110 = .ok (.lastore, 1) := dk_80 (dk_at dksX3_jobStatement_4 17 rfl rfl)
theorem dX3_jobStatement_111 : decode cX3_jobStatement 111 = .ok (.iconst 1, 1) := dk_4 (dk_at dksX3_jobStatement_4 18 rfl rfl)
theorem dX3_jobStatement_112 : decode cX3_jobStatement 112 = .ok (.ireturn, 1) := dk_172 (dk_at dksX3_jobStatement_4 19 rfl rfl)
abbrev cX3_personInto : ByteArray := prog_26_method_31_code
def yX3_personInto : MethodName := ⟨RX3, "personInto", "(IJ)Z"⟩
def dkwX3_personInto_2 : List UInt8 := [27, 21, 4, 133, 80, 42, 182, 0, 148, 172]
abbrev dktX3_personInto_2 : List UInt8 := dkwX3_personInto_2 ++ []
def dkwX3_personInto_1 : List UInt8 := [21, 4, 2, 159, 0, 11, 21, 4, 133, 32, 148, 154, 0, 9, 42, 7, 182, 0, 141, 172, 42, 180, 0, 7]
abbrev dktX3_personInto_1 : List UInt8 := dkwX3_personInto_1 ++ dktX3_personInto_2
def dkwX3_personInto_0 : List UInt8 := [42, 180, 0, 104, 5, 159, 0, 9, 42, 5, 182, 0, 141, 172, 42, 42, 180, 0, 82, 182, 0, 154, 54, 4]
abbrev dktX3_personInto_0 : List UInt8 := dkwX3_personInto_0 ++ dktX3_personInto_1
theorem dksX3_personInto_0 : cX3_personInto.data.toList.drop 0 = dktX3_personInto_0 := by decide +kernel
theorem dksX3_personInto_1 : cX3_personInto.data.toList.drop 24 = dktX3_personInto_1 := dk_seg dksX3_personInto_0 24 rfl rfl
theorem dksX3_personInto_2 : cX3_personInto.data.toList.drop 48 = dktX3_personInto_2 := dk_seg dksX3_personInto_1 24 rfl rfl
theorem dX3_personInto_0 : decode cX3_personInto 0 = .ok (.aload_n 0, 1) := dk_42 (dk_at dksX3_personInto_0 0 rfl rfl)
theorem dX3_personInto_1 : decode cX3_personInto 1 = .ok (.getfield 104, 3) := dk_180 0 104 (dk_at dksX3_personInto_0 1 rfl rfl)
theorem dX3_personInto_4 : decode cX3_personInto 4 = .ok (.iconst 2, 1) := dk_5 (dk_at dksX3_personInto_0 4 rfl rfl)
theorem dX3_personInto_5 : decode cX3_personInto 5 = .ok (.if_icmp .eq 9, 3) := dk_159 0 9 (dk_at dksX3_personInto_0 5 rfl rfl)
theorem dX3_personInto_8 : decode cX3_personInto 8 = .ok (.aload_n 0, 1) := dk_42 (dk_at dksX3_personInto_0 8 rfl rfl)
theorem dX3_personInto_9 : decode cX3_personInto 9 = .ok (.iconst 2, 1) := dk_5 (dk_at dksX3_personInto_0 9 rfl rfl)
theorem dX3_personInto_10 : decode cX3_personInto 10 = .ok (.invokevirtual 141, 3) := dk_182 0 141 (dk_at dksX3_personInto_0 10 rfl rfl)
theorem dX3_personInto_13 : decode cX3_personInto 13 = .ok (.ireturn, 1) := dk_172 (dk_at dksX3_personInto_0 13 rfl rfl)
theorem dX3_personInto_14 : decode cX3_personInto 14 = .ok (.aload_n 0, 1) := dk_42 (dk_at dksX3_personInto_0 14 rfl rfl)
theorem dX3_personInto_15 : decode cX3_personInto 15 = .ok (.aload_n 0, 1) := dk_42 (dk_at dksX3_personInto_0 15 rfl rfl)
theorem dX3_personInto_16 : decode cX3_personInto 16 = .ok (.getfield 82, 3) := dk_180 0 82 (dk_at dksX3_personInto_0 16 rfl rfl)
theorem dX3_personInto_19 : decode cX3_personInto 19 = .ok (.invokevirtual 154, 3) := dk_182 0 154 (dk_at dksX3_personInto_0 19 rfl rfl)
theorem dX3_personInto_22 : decode cX3_personInto 22 = .ok (.istore 4, 2) := dk_54 4 (dk_at dksX3_personInto_0 22 rfl rfl)
theorem dX3_personInto_24 : decode cX3_personInto 24 = .ok (.iload 4, 2) := dk_21 4 (dk_at dksX3_personInto_1 0 rfl rfl)
theorem dX3_personInto_26 : decode cX3_personInto 26 = .ok (.iconst (-1), 1) := dk_2 (dk_at dksX3_personInto_1 2 rfl rfl)
theorem dX3_personInto_27 : decode cX3_personInto 27 = .ok (.if_icmp .eq 11, 3) := dk_159 0 11 (dk_at dksX3_personInto_1 3 rfl rfl)
theorem dX3_personInto_30 : decode cX3_personInto 30 = .ok (.iload 4, 2) := dk_21 4 (dk_at dksX3_personInto_1 6 rfl rfl)
theorem dX3_personInto_32 : decode cX3_personInto 32 = .ok (.i2l, 1) := dk_133 (dk_at dksX3_personInto_1 8 rfl rfl)
theorem dX3_personInto_33 : decode cX3_personInto 33 = .ok (.lload_n 2, 1) := dk_32 (dk_at dksX3_personInto_1 9 rfl rfl)
theorem dX3_personInto_34 : decode cX3_personInto 34 = .ok (.lcmp, 1) := dk_148 (dk_at dksX3_personInto_1 10 rfl rfl)
theorem dX3_personInto_35 : decode cX3_personInto 35 = .ok (.ifCond .ne 9, 3) := dk_154 0 9 (dk_at dksX3_personInto_1 11 rfl rfl)
theorem dX3_personInto_38 : decode cX3_personInto 38 = .ok (.aload_n 0, 1) := dk_42 (dk_at dksX3_personInto_1 14 rfl rfl)
theorem dX3_personInto_39 : decode cX3_personInto 39 = .ok (.iconst 4, 1) := dk_7 (dk_at dksX3_personInto_1 15 rfl rfl)
theorem dX3_personInto_40 : decode cX3_personInto 40 = .ok (.invokevirtual 141, 3) := dk_182 0 141 (dk_at dksX3_personInto_1 16 rfl rfl)
theorem dX3_personInto_43 : decode cX3_personInto 43 = .ok (.ireturn, 1) := dk_172 (dk_at dksX3_personInto_1 19 rfl rfl)
theorem dX3_personInto_44 : decode cX3_personInto 44 = .ok (.aload_n 0, 1) := dk_42 (dk_at dksX3_personInto_1 20 rfl rfl)
theorem dX3_personInto_45 : decode cX3_personInto 45 = .ok (.getfield 7, 3) := dk_180 0 7 (dk_at dksX3_personInto_1 21 rfl rfl)
theorem dX3_personInto_48 : decode cX3_personInto 48 = .ok (.iload_n 1, 1) := dk_27 (dk_at dksX3_personInto_2 0 rfl rfl)
theorem dX3_personInto_49 : decode cX3_personInto 49 = .ok (.iload 4, 2) := dk_21 4 (dk_at dksX3_personInto_2 1 rfl rfl)
theorem dX3_personInto_51 : decode cX3_personInto 51 = .ok (.i2l, 1) := dk_133 (dk_at dksX3_personInto_2 3 rfl rfl)
theorem dX3_personInto_52 : decode cX3_personInto 52 = .ok (.lastore, 1) := dk_80 (dk_at dksX3_personInto_2 4 rfl rfl)
theorem dX3_personInto_53 : decode cX3_personInto 53 = .ok (.aload_n 0, 1) := dk_42 (dk_at dksX3_personInto_2 5 rfl rfl)
theorem dX3_personInto_54 : decode cX3_personInto 54 = .ok (.invokevirtual 148, 3) := dk_182 0 148 (dk_at dksX3_personInto_2 6 rfl rfl)
theorem dX3_personInto_57 : decode cX3_personInto 57 = .ok (.ireturn, 1) := dk_172 (dk_at dksX3_personInto_2 9 rfl rfl)
abbrev cX3_segmentStatement : ByteArray := prog_26_method_34_code
def yX3_segmentStatement : MethodName := ⟨RX3, "segmentStatement", "()Z"⟩
def dkwX3_segmentStatement_5 : List UInt8 := [92, 47, 10, 97, 80, 4, 172]
abbrev dktX3_segmentStatement_5 : List UInt8 := dkwX3_segmentStatement_5 ++ []
def dkwX3_segmentStatement_4 : List UInt8 := [172, 42, 180, 0, 7, 27, 3, 96, 42, 180, 0, 7, 16, 45, 47, 10, 101, 80, 42, 180, 0, 7, 16, 66]
abbrev dktX3_segmentStatement_4 : List UInt8 := dkwX3_segmentStatement_4 ++ dktX3_segmentStatement_5
def dkwX3_segmentStatement_3 : List UInt8 := [8, 182, 0, 167, 153, 0, 19, 42, 27, 5, 96, 27, 6, 96, 16, 8, 96, 182, 0, 178, 154, 0, 5, 3]
abbrev dktX3_segmentStatement_3 : List UInt8 := dkwX3_segmentStatement_3 ++ dktX3_segmentStatement_4
def dkwX3_segmentStatement_2 : List UInt8 := [8, 182, 0, 141, 172, 42, 182, 0, 148, 87, 42, 27, 4, 96, 27, 6, 96, 182, 0, 178, 153, 0, 27, 42]
abbrev dktX3_segmentStatement_2 : List UInt8 := dkwX3_segmentStatement_2 ++ dktX3_segmentStatement_3
def dkwX3_segmentStatement_1 : List UInt8 := [154, 0, 9, 42, 5, 182, 0, 141, 172, 42, 180, 0, 7, 16, 66, 47, 20, 0, 55, 148, 154, 0, 9, 42]
abbrev dktX3_segmentStatement_1 : List UInt8 := dkwX3_segmentStatement_1 ++ dktX3_segmentStatement_2
def dkwX3_segmentStatement_0 : List UInt8 := [16, 67, 16, 19, 42, 180, 0, 7, 16, 66, 47, 136, 104, 96, 60, 42, 180, 0, 7, 16, 45, 47, 9, 148]
abbrev dktX3_segmentStatement_0 : List UInt8 := dkwX3_segmentStatement_0 ++ dktX3_segmentStatement_1
theorem dksX3_segmentStatement_0 : cX3_segmentStatement.data.toList.drop 0 = dktX3_segmentStatement_0 := by decide +kernel
theorem dksX3_segmentStatement_1 : cX3_segmentStatement.data.toList.drop 24 = dktX3_segmentStatement_1 := dk_seg dksX3_segmentStatement_0 24 rfl rfl
theorem dksX3_segmentStatement_2 : cX3_segmentStatement.data.toList.drop 48 = dktX3_segmentStatement_2 := dk_seg dksX3_segmentStatement_1 24 rfl rfl
theorem dksX3_segmentStatement_3 : cX3_segmentStatement.data.toList.drop 72 = dktX3_segmentStatement_3 := dk_seg dksX3_segmentStatement_2 24 rfl rfl
theorem dksX3_segmentStatement_4 : cX3_segmentStatement.data.toList.drop 96 = dktX3_segmentStatement_4 := dk_seg dksX3_segmentStatement_3 24 rfl rfl
theorem dksX3_segmentStatement_5 : cX3_segmentStatement.data.toList.drop 120 = dktX3_segmentStatement_5 := dk_seg dksX3_segmentStatement_4 24 rfl rfl
theorem dX3_segmentStatement_0 : decode cX3_segmentStatement 0 = .ok (.bipush 67, 2) := dk_16 67 (dk_at dksX3_segmentStatement_0 0 rfl rfl)
theorem dX3_segmentStatement_2 : decode cX3_segmentStatement 2 = .ok (.bipush 19, 2) := dk_16 19 (dk_at dksX3_segmentStatement_0 2 rfl rfl)
theorem dX3_segmentStatement_4 : decode cX3_segmentStatement 4 = .ok (.aload_n 0, 1) := dk_42 (dk_at dksX3_segmentStatement_0 4 rfl rfl)
theorem dX3_segmentStatement_5 : decode cX3_segmentStatement 5 = .ok (.getfield 7, 3) := dk_180 0 7 (dk_at dksX3_segmentStatement_0 5 rfl rfl)
theorem dX3_segmentStatement_8 : decode cX3_segmentStatement 8 = .ok (.bipush 66, 2) := dk_16 66 (dk_at dksX3_segmentStatement_0 8 rfl rfl)
theorem dX3_segmentStatement_10 : decode cX3_segmentStatement 10 = .ok (.laload, 1) := dk_47 (dk_at dksX3_segmentStatement_0 10 rfl rfl)
theorem dX3_segmentStatement_11 : decode cX3_segmentStatement 11 = .ok (.l2i, 1) := dk_136 (dk_at dksX3_segmentStatement_0 11 rfl rfl)
theorem dX3_segmentStatement_12 : decode cX3_segmentStatement 12 = .ok (.imul, 1) := dk_104 (dk_at dksX3_segmentStatement_0 12 rfl rfl)
theorem dX3_segmentStatement_13 : decode cX3_segmentStatement 13 = .ok (.iadd, 1) := dk_96 (dk_at dksX3_segmentStatement_0 13 rfl rfl)
theorem dX3_segmentStatement_14 : decode cX3_segmentStatement 14 = .ok (.istore_n 1, 1) := dk_60 (dk_at dksX3_segmentStatement_0 14 rfl rfl)
theorem dX3_segmentStatement_15 : decode cX3_segmentStatement 15 = .ok (.aload_n 0, 1) := dk_42 (dk_at dksX3_segmentStatement_0 15 rfl rfl)
theorem dX3_segmentStatement_16 : decode cX3_segmentStatement 16 = .ok (.getfield 7, 3) := dk_180 0 7 (dk_at dksX3_segmentStatement_0 16 rfl rfl)
theorem dX3_segmentStatement_19 : decode cX3_segmentStatement 19 = .ok (.bipush 45, 2) := dk_16 45 (dk_at dksX3_segmentStatement_0 19 rfl rfl)
theorem dX3_segmentStatement_21 : decode cX3_segmentStatement 21 = .ok (.laload, 1) := dk_47 (dk_at dksX3_segmentStatement_0 21 rfl rfl)
theorem dX3_segmentStatement_22 : decode cX3_segmentStatement 22 = .ok (.lconst 0, 1) := dk_9 (dk_at dksX3_segmentStatement_0 22 rfl rfl)
theorem dX3_segmentStatement_23 : decode cX3_segmentStatement 23 = .ok (.lcmp, 1) := dk_148 (dk_at dksX3_segmentStatement_0 23 rfl rfl)
theorem dX3_segmentStatement_24 : decode cX3_segmentStatement 24 = .ok (.ifCond .ne 9, 3) := dk_154 0 9 (dk_at dksX3_segmentStatement_1 0 rfl rfl)
theorem dX3_segmentStatement_27 : decode cX3_segmentStatement 27 = .ok (.aload_n 0, 1) := dk_42 (dk_at dksX3_segmentStatement_1 3 rfl rfl)
theorem dX3_segmentStatement_28 : decode cX3_segmentStatement 28 = .ok (.iconst 2, 1) := dk_5 (dk_at dksX3_segmentStatement_1 4 rfl rfl)
theorem dX3_segmentStatement_29 : decode cX3_segmentStatement 29 = .ok (.invokevirtual 141, 3) := dk_182 0 141 (dk_at dksX3_segmentStatement_1 5 rfl rfl)
theorem dX3_segmentStatement_32 : decode cX3_segmentStatement 32 = .ok (.ireturn, 1) := dk_172 (dk_at dksX3_segmentStatement_1 8 rfl rfl)
theorem dX3_segmentStatement_33 : decode cX3_segmentStatement 33 = .ok (.aload_n 0, 1) := dk_42 (dk_at dksX3_segmentStatement_1 9 rfl rfl)
theorem dX3_segmentStatement_34 : decode cX3_segmentStatement 34 = .ok (.getfield 7, 3) := dk_180 0 7 (dk_at dksX3_segmentStatement_1 10 rfl rfl)
theorem dX3_segmentStatement_37 : decode cX3_segmentStatement 37 = .ok (.bipush 66, 2) := dk_16 66 (dk_at dksX3_segmentStatement_1 13 rfl rfl)
theorem dX3_segmentStatement_39 : decode cX3_segmentStatement 39 = .ok (.laload, 1) := dk_47 (dk_at dksX3_segmentStatement_1 15 rfl rfl)
theorem dX3_segmentStatement_40 : decode cX3_segmentStatement 40 = .ok (.ldc2_w 55, 3) := dk_20 0 55 (dk_at dksX3_segmentStatement_1 16 rfl rfl)
theorem dX3_segmentStatement_43 : decode cX3_segmentStatement 43 = .ok (.lcmp, 1) := dk_148 (dk_at dksX3_segmentStatement_1 19 rfl rfl)
theorem dX3_segmentStatement_44 : decode cX3_segmentStatement 44 = .ok (.ifCond .ne 9, 3) := dk_154 0 9 (dk_at dksX3_segmentStatement_1 20 rfl rfl)
theorem dX3_segmentStatement_47 : decode cX3_segmentStatement 47 = .ok (.aload_n 0, 1) := dk_42 (dk_at dksX3_segmentStatement_1 23 rfl rfl)
theorem dX3_segmentStatement_48 : decode cX3_segmentStatement 48 = .ok (.iconst 5, 1) := dk_8 (dk_at dksX3_segmentStatement_2 0 rfl rfl)
theorem dX3_segmentStatement_49 : decode cX3_segmentStatement 49 = .ok (.invokevirtual 141, 3) := dk_182 0 141 (dk_at dksX3_segmentStatement_2 1 rfl rfl)
theorem dX3_segmentStatement_52 : decode cX3_segmentStatement 52 = .ok (.ireturn, 1) := dk_172 (dk_at dksX3_segmentStatement_2 4 rfl rfl)
theorem dX3_segmentStatement_53 : decode cX3_segmentStatement 53 = .ok (.aload_n 0, 1) := dk_42 (dk_at dksX3_segmentStatement_2 5 rfl rfl)
theorem dX3_segmentStatement_54 : decode cX3_segmentStatement 54 = .ok (.invokevirtual 148, 3) := dk_182 0 148 (dk_at dksX3_segmentStatement_2 6 rfl rfl)
theorem dX3_segmentStatement_57 : decode cX3_segmentStatement 57 = .ok (.pop, 1) := dk_87 (dk_at dksX3_segmentStatement_2 9 rfl rfl)
theorem dX3_segmentStatement_58 : decode cX3_segmentStatement 58 = .ok (.aload_n 0, 1) := dk_42 (dk_at dksX3_segmentStatement_2 10 rfl rfl)
theorem dX3_segmentStatement_59 : decode cX3_segmentStatement 59 = .ok (.iload_n 1, 1) := dk_27 (dk_at dksX3_segmentStatement_2 11 rfl rfl)
theorem dX3_segmentStatement_60 : decode cX3_segmentStatement 60 = .ok (.iconst 1, 1) := dk_4 (dk_at dksX3_segmentStatement_2 12 rfl rfl)
theorem dX3_segmentStatement_61 : decode cX3_segmentStatement 61 = .ok (.iadd, 1) := dk_96 (dk_at dksX3_segmentStatement_2 13 rfl rfl)
theorem dX3_segmentStatement_62 : decode cX3_segmentStatement 62 = .ok (.iload_n 1, 1) := dk_27 (dk_at dksX3_segmentStatement_2 14 rfl rfl)
theorem dX3_segmentStatement_63 : decode cX3_segmentStatement 63 = .ok (.iconst 3, 1) := dk_6 (dk_at dksX3_segmentStatement_2 15 rfl rfl)
theorem dX3_segmentStatement_64 : decode cX3_segmentStatement 64 = .ok (.iadd, 1) := dk_96 (dk_at dksX3_segmentStatement_2 16 rfl rfl)
theorem dX3_segmentStatement_65 : decode cX3_segmentStatement 65 = .ok (.invokevirtual 178, 3) := dk_182 0 178 (dk_at dksX3_segmentStatement_2 17 rfl rfl)
theorem dX3_segmentStatement_68 : decode cX3_segmentStatement 68 = .ok (.ifCond .eq 27, 3) := dk_153 0 27 (dk_at dksX3_segmentStatement_2 20 rfl rfl)
theorem dX3_segmentStatement_71 : decode cX3_segmentStatement 71 = .ok (.aload_n 0, 1) := dk_42 (dk_at dksX3_segmentStatement_2 23 rfl rfl)
theorem dX3_segmentStatement_72 : decode cX3_segmentStatement 72 = .ok (.iconst 5, 1) := dk_8 (dk_at dksX3_segmentStatement_3 0 rfl rfl)
theorem dX3_segmentStatement_73 : decode cX3_segmentStatement 73 = .ok (.invokevirtual 167, 3) := dk_182 0 167 (dk_at dksX3_segmentStatement_3 1 rfl rfl)
theorem dX3_segmentStatement_76 : decode cX3_segmentStatement 76 = .ok (.ifCond .eq 19, 3) := dk_153 0 19 (dk_at dksX3_segmentStatement_3 4 rfl rfl)
theorem dX3_segmentStatement_79 : decode cX3_segmentStatement 79 = .ok (.aload_n 0, 1) := dk_42 (dk_at dksX3_segmentStatement_3 7 rfl rfl)
theorem dX3_segmentStatement_80 : decode cX3_segmentStatement 80 = .ok (.iload_n 1, 1) := dk_27 (dk_at dksX3_segmentStatement_3 8 rfl rfl)
theorem dX3_segmentStatement_81 : decode cX3_segmentStatement 81 = .ok (.iconst 2, 1) := dk_5 (dk_at dksX3_segmentStatement_3 9 rfl rfl)
theorem dX3_segmentStatement_82 : decode cX3_segmentStatement 82 = .ok (.iadd, 1) := dk_96 (dk_at dksX3_segmentStatement_3 10 rfl rfl)
theorem dX3_segmentStatement_83 : decode cX3_segmentStatement 83 = .ok (.iload_n 1, 1) := dk_27 (dk_at dksX3_segmentStatement_3 11 rfl rfl)
theorem dX3_segmentStatement_84 : decode cX3_segmentStatement 84 = .ok (.iconst 3, 1) := dk_6 (dk_at dksX3_segmentStatement_3 12 rfl rfl)
theorem dX3_segmentStatement_85 : decode cX3_segmentStatement 85 = .ok (.iadd, 1) := dk_96 (dk_at dksX3_segmentStatement_3 13 rfl rfl)
theorem dX3_segmentStatement_86 : decode cX3_segmentStatement 86 = .ok (.bipush 8, 2) := dk_16 8 (dk_at dksX3_segmentStatement_3 14 rfl rfl)
theorem dX3_segmentStatement_88 : decode cX3_segmentStatement 88 = .ok (.iadd, 1) := dk_96 (dk_at dksX3_segmentStatement_3 16 rfl rfl)
theorem dX3_segmentStatement_89 : decode cX3_segmentStatement 89 = .ok (.invokevirtual 178, 3) := dk_182 0 178 (dk_at dksX3_segmentStatement_3 17 rfl rfl)
theorem dX3_segmentStatement_92 : decode cX3_segmentStatement 92 = .ok (.ifCond .ne 5, 3) := dk_154 0 5 (dk_at dksX3_segmentStatement_3 20 rfl rfl)
theorem dX3_segmentStatement_95 : decode cX3_segmentStatement 95 = .ok (.iconst 0, 1) := dk_3 (dk_at dksX3_segmentStatement_3 23 rfl rfl)
theorem dX3_segmentStatement_96 : decode cX3_segmentStatement 96 = .ok (.ireturn, 1) := dk_172 (dk_at dksX3_segmentStatement_4 0 rfl rfl)
theorem dX3_segmentStatement_97 : decode cX3_segmentStatement 97 = .ok (.aload_n 0, 1) := dk_42 (dk_at dksX3_segmentStatement_4 1 rfl rfl)
theorem dX3_segmentStatement_98 : decode cX3_segmentStatement 98 = .ok (.getfield 7, 3) := dk_180 0 7 (dk_at dksX3_segmentStatement_4 2 rfl rfl)
theorem dX3_segmentStatement_101 : decode cX3_segmentStatement 101 = .ok (.iload_n 1, 1) := dk_27 (dk_at dksX3_segmentStatement_4 5 rfl rfl)
theorem dX3_segmentStatement_102 : decode cX3_segmentStatement 102 = .ok (.iconst 0, 1) := dk_3 (dk_at dksX3_segmentStatement_4 6 rfl rfl)
theorem dX3_segmentStatement_103 : decode cX3_segmentStatement 103 = .ok (.iadd, 1) := dk_96 (dk_at dksX3_segmentStatement_4 7 rfl rfl)
theorem dX3_segmentStatement_104 : decode cX3_segmentStatement 104 = .ok (.aload_n 0, 1) := dk_42 (dk_at dksX3_segmentStatement_4 8 rfl rfl)
theorem dX3_segmentStatement_105 : decode cX3_segmentStatement 105 = .ok (.getfield 7, 3) := dk_180 0 7 (dk_at dksX3_segmentStatement_4 9 rfl rfl)
theorem dX3_segmentStatement_108 : decode cX3_segmentStatement 108 = .ok (.bipush 45, 2) := dk_16 45 (dk_at dksX3_segmentStatement_4 12 rfl rfl)
theorem dX3_segmentStatement_110 : decode cX3_segmentStatement 110 = .ok (.laload, 1) := dk_47 (dk_at dksX3_segmentStatement_4 14 rfl rfl)
theorem dX3_segmentStatement_111 : decode cX3_segmentStatement 111 = .ok (.lconst 1, 1) := dk_10 (dk_at dksX3_segmentStatement_4 15 rfl rfl)
theorem dX3_segmentStatement_112 : decode cX3_segmentStatement 112 = .ok (.lsub, 1) := dk_101 (dk_at dksX3_segmentStatement_4 16 rfl rfl)
theorem dX3_segmentStatement_113 : decode cX3_segmentStatement 113 = .ok (.lastore, 1) := dk_80 (dk_at dksX3_segmentStatement_4 17 rfl rfl)
theorem dX3_segmentStatement_114 : decode cX3_segmentStatement 114 = .ok (.aload_n 0, 1) := dk_42 (dk_at dksX3_segmentStatement_4 18 rfl rfl)
theorem dX3_segmentStatement_115 : decode cX3_segmentStatement 115 = .ok (.getfield 7, 3) := dk_180 0 7 (dk_at dksX3_segmentStatement_4 19 rfl rfl)
theorem dX3_segmentStatement_118 : decode cX3_segmentStatement 118 = .ok (.bipush 66, 2) := dk_16 66 (dk_at dksX3_segmentStatement_4 22 rfl rfl)
theorem dX3_segmentStatement_120 : decode cX3_segmentStatement 120 = .ok (.dup2, 1) := dk_92 (dk_at dksX3_segmentStatement_5 0 rfl rfl)
theorem dX3_segmentStatement_121 : decode cX3_segmentStatement 121 = .ok (.laload, 1) := dk_47 (dk_at dksX3_segmentStatement_5 1 rfl rfl)
theorem dX3_segmentStatement_122 : decode cX3_segmentStatement 122 = .ok (.lconst 1, 1) := dk_10 (dk_at dksX3_segmentStatement_5 2 rfl rfl)
theorem dX3_segmentStatement_123 : decode cX3_segmentStatement 123 = .ok (.ladd, 1) := dk_97 (dk_at dksX3_segmentStatement_5 3 rfl rfl)
theorem dX3_segmentStatement_124 : decode cX3_segmentStatement 124 = .ok (.lastore, 1) := dk_80 (dk_at dksX3_segmentStatement_5 4 rfl rfl)
theorem dX3_segmentStatement_125 : decode cX3_segmentStatement 125 = .ok (.iconst 1, 1) := dk_4 (dk_at dksX3_segmentStatement_5 5 rfl rfl)
theorem dX3_segmentStatement_126 : decode cX3_segmentStatement 126 = .ok (.ireturn, 1) := dk_172 (dk_at dksX3_segmentStatement_5 6 rfl rfl)
abbrev cX3_wordsInto : ByteArray := prog_26_method_33_code
def yX3_wordsInto : MethodName := ⟨RX3, "wordsInto", "(II)Z"⟩
def dkwX3_wordsInto_3 : List UInt8 := [97, 80, 167, 255, 190, 4, 172]
abbrev dktX3_wordsInto_3 : List UInt8 := dkwX3_wordsInto_3 ++ []
def dkwX3_wordsInto_2 : List UInt8 := [42, 180, 0, 7, 27, 47, 136, 96, 182, 0, 164, 154, 0, 5, 3, 172, 42, 180, 0, 7, 27, 92, 47, 10]
abbrev dktX3_wordsInto_2 : List UInt8 := dkwX3_wordsInto_2 ++ dktX3_wordsInto_3
def dkwX3_wordsInto_1 : List UInt8 := [160, 0, 53, 42, 180, 0, 7, 27, 47, 20, 0, 176, 148, 154, 0, 9, 42, 8, 182, 0, 141, 172, 42, 28]
abbrev dktX3_wordsInto_1 : List UInt8 := dkwX3_wordsInto_1 ++ dktX3_wordsInto_2
def dkwX3_wordsInto_0 : List UInt8 := [42, 180, 0, 7, 27, 9, 80, 42, 180, 0, 7, 27, 47, 9, 148, 153, 0, 11, 42, 180, 0, 104, 5]
abbrev dktX3_wordsInto_0 : List UInt8 := dkwX3_wordsInto_0 ++ dktX3_wordsInto_1
theorem dksX3_wordsInto_0 : cX3_wordsInto.data.toList.drop 0 = dktX3_wordsInto_0 := by decide +kernel
theorem dksX3_wordsInto_1 : cX3_wordsInto.data.toList.drop 23 = dktX3_wordsInto_1 := dk_seg dksX3_wordsInto_0 23 rfl rfl
theorem dksX3_wordsInto_2 : cX3_wordsInto.data.toList.drop 47 = dktX3_wordsInto_2 := dk_seg dksX3_wordsInto_1 24 rfl rfl
theorem dksX3_wordsInto_3 : cX3_wordsInto.data.toList.drop 71 = dktX3_wordsInto_3 := dk_seg dksX3_wordsInto_2 24 rfl rfl
theorem dX3_wordsInto_0 : decode cX3_wordsInto 0 = .ok (.aload_n 0, 1) := dk_42 (dk_at dksX3_wordsInto_0 0 rfl rfl)
theorem dX3_wordsInto_1 : decode cX3_wordsInto 1 = .ok (.getfield 7, 3) := dk_180 0 7 (dk_at dksX3_wordsInto_0 1 rfl rfl)
theorem dX3_wordsInto_4 : decode cX3_wordsInto 4 = .ok (.iload_n 1, 1) := dk_27 (dk_at dksX3_wordsInto_0 4 rfl rfl)
theorem dX3_wordsInto_5 : decode cX3_wordsInto 5 = .ok (.lconst 0, 1) := dk_9 (dk_at dksX3_wordsInto_0 5 rfl rfl)
theorem dX3_wordsInto_6 : decode cX3_wordsInto 6 = .ok (.lastore, 1) := dk_80 (dk_at dksX3_wordsInto_0 6 rfl rfl)
theorem dX3_wordsInto_7 : decode cX3_wordsInto 7 = .ok (.aload_n 0, 1) := dk_42 (dk_at dksX3_wordsInto_0 7 rfl rfl)
theorem dX3_wordsInto_8 : decode cX3_wordsInto 8 = .ok (.getfield 7, 3) := dk_180 0 7 (dk_at dksX3_wordsInto_0 8 rfl rfl)
theorem dX3_wordsInto_11 : decode cX3_wordsInto 11 = .ok (.iload_n 1, 1) := dk_27 (dk_at dksX3_wordsInto_0 11 rfl rfl)
theorem dX3_wordsInto_12 : decode cX3_wordsInto 12 = .ok (.laload, 1) := dk_47 (dk_at dksX3_wordsInto_0 12 rfl rfl)
theorem dX3_wordsInto_13 : decode cX3_wordsInto 13 = .ok (.lconst 0, 1) := dk_9 (dk_at dksX3_wordsInto_0 13 rfl rfl)
theorem dX3_wordsInto_14 : decode cX3_wordsInto 14 = .ok (.lcmp, 1) := dk_148 (dk_at dksX3_wordsInto_0 14 rfl rfl)
theorem dX3_wordsInto_15 : decode cX3_wordsInto 15 = .ok (.ifCond .eq 11, 3) := dk_153 0 11 (dk_at dksX3_wordsInto_0 15 rfl rfl)
theorem dX3_wordsInto_18 : decode cX3_wordsInto 18 = .ok (.aload_n 0, 1) := dk_42 (dk_at dksX3_wordsInto_0 18 rfl rfl)
theorem dX3_wordsInto_19 : decode cX3_wordsInto 19 = .ok (.getfield 104, 3) := dk_180 0 104 (dk_at dksX3_wordsInto_0 19 rfl rfl)
theorem dX3_wordsInto_22 : decode cX3_wordsInto 22 = .ok (.iconst 2, 1) := dk_5 (dk_at dksX3_wordsInto_0 22 rfl rfl)
theorem dX3_wordsInto_23 : decode cX3_wordsInto 23 = .ok (.if_icmp .ne 53, 3) := dk_160 0 53 (dk_at dksX3_wordsInto_1 0 rfl rfl)
theorem dX3_wordsInto_26 : decode cX3_wordsInto 26 = .ok (.aload_n 0, 1) := dk_42 (dk_at dksX3_wordsInto_1 3 rfl rfl)
theorem dX3_wordsInto_27 : decode cX3_wordsInto 27 = .ok (.getfield 7, 3) := dk_180 0 7 (dk_at dksX3_wordsInto_1 4 rfl rfl)
theorem dX3_wordsInto_30 : decode cX3_wordsInto 30 = .ok (.iload_n 1, 1) := dk_27 (dk_at dksX3_wordsInto_1 7 rfl rfl)
theorem dX3_wordsInto_31 : decode cX3_wordsInto 31 = .ok (.laload, 1) := dk_47 (dk_at dksX3_wordsInto_1 8 rfl rfl)
theorem dX3_wordsInto_32 : decode cX3_wordsInto 32 = .ok (.ldc2_w 176, 3) := dk_20 0 176 (dk_at dksX3_wordsInto_1 9 rfl rfl)
theorem dX3_wordsInto_35 : decode cX3_wordsInto 35 = .ok (.lcmp, 1) := dk_148 (dk_at dksX3_wordsInto_1 12 rfl rfl)
theorem dX3_wordsInto_36 : decode cX3_wordsInto 36 = .ok (.ifCond .ne 9, 3) := dk_154 0 9 (dk_at dksX3_wordsInto_1 13 rfl rfl)
theorem dX3_wordsInto_39 : decode cX3_wordsInto 39 = .ok (.aload_n 0, 1) := dk_42 (dk_at dksX3_wordsInto_1 16 rfl rfl)
theorem dX3_wordsInto_40 : decode cX3_wordsInto 40 = .ok (.iconst 5, 1) := dk_8 (dk_at dksX3_wordsInto_1 17 rfl rfl)
theorem dX3_wordsInto_41 : decode cX3_wordsInto 41 = .ok (.invokevirtual 141, 3) := dk_182 0 141 (dk_at dksX3_wordsInto_1 18 rfl rfl)
theorem dX3_wordsInto_44 : decode cX3_wordsInto 44 = .ok (.ireturn, 1) := dk_172 (dk_at dksX3_wordsInto_1 21 rfl rfl)
theorem dX3_wordsInto_45 : decode cX3_wordsInto 45 = .ok (.aload_n 0, 1) := dk_42 (dk_at dksX3_wordsInto_1 22 rfl rfl)
theorem dX3_wordsInto_46 : decode cX3_wordsInto 46 = .ok (.iload_n 2, 1) := dk_28 (dk_at dksX3_wordsInto_1 23 rfl rfl)
theorem dX3_wordsInto_47 : decode cX3_wordsInto 47 = .ok (.aload_n 0, 1) := dk_42 (dk_at dksX3_wordsInto_2 0 rfl rfl)
theorem dX3_wordsInto_48 : decode cX3_wordsInto 48 = .ok (.getfield 7, 3) := dk_180 0 7 (dk_at dksX3_wordsInto_2 1 rfl rfl)
theorem dX3_wordsInto_51 : decode cX3_wordsInto 51 = .ok (.iload_n 1, 1) := dk_27 (dk_at dksX3_wordsInto_2 4 rfl rfl)
theorem dX3_wordsInto_52 : decode cX3_wordsInto 52 = .ok (.laload, 1) := dk_47 (dk_at dksX3_wordsInto_2 5 rfl rfl)
theorem dX3_wordsInto_53 : decode cX3_wordsInto 53 = .ok (.l2i, 1) := dk_136 (dk_at dksX3_wordsInto_2 6 rfl rfl)
theorem dX3_wordsInto_54 : decode cX3_wordsInto 54 = .ok (.iadd, 1) := dk_96 (dk_at dksX3_wordsInto_2 7 rfl rfl)
theorem dX3_wordsInto_55 : decode cX3_wordsInto 55 = .ok (.invokevirtual 164, 3) := dk_182 0 164 (dk_at dksX3_wordsInto_2 8 rfl rfl)
theorem dX3_wordsInto_58 : decode cX3_wordsInto 58 = .ok (.ifCond .ne 5, 3) := dk_154 0 5 (dk_at dksX3_wordsInto_2 11 rfl rfl)
theorem dX3_wordsInto_61 : decode cX3_wordsInto 61 = .ok (.iconst 0, 1) := dk_3 (dk_at dksX3_wordsInto_2 14 rfl rfl)
theorem dX3_wordsInto_62 : decode cX3_wordsInto 62 = .ok (.ireturn, 1) := dk_172 (dk_at dksX3_wordsInto_2 15 rfl rfl)
theorem dX3_wordsInto_63 : decode cX3_wordsInto 63 = .ok (.aload_n 0, 1) := dk_42 (dk_at dksX3_wordsInto_2 16 rfl rfl)
theorem dX3_wordsInto_64 : decode cX3_wordsInto 64 = .ok (.getfield 7, 3) := dk_180 0 7 (dk_at dksX3_wordsInto_2 17 rfl rfl)
theorem dX3_wordsInto_67 : decode cX3_wordsInto 67 = .ok (.iload_n 1, 1) := dk_27 (dk_at dksX3_wordsInto_2 20 rfl rfl)
theorem dX3_wordsInto_68 : decode cX3_wordsInto 68 = .ok (.dup2, 1) := dk_92 (dk_at dksX3_wordsInto_2 21 rfl rfl)
theorem dX3_wordsInto_69 : decode cX3_wordsInto 69 = .ok (.laload, 1) := dk_47 (dk_at dksX3_wordsInto_2 22 rfl rfl)
theorem dX3_wordsInto_70 : decode cX3_wordsInto 70 = .ok (.lconst 1, 1) := dk_10 (dk_at dksX3_wordsInto_2 23 rfl rfl)
theorem dX3_wordsInto_71 : decode cX3_wordsInto 71 = .ok (.ladd, 1) := dk_97 (dk_at dksX3_wordsInto_3 0 rfl rfl)
theorem dX3_wordsInto_72 : decode cX3_wordsInto 72 = .ok (.lastore, 1) := dk_80 (dk_at dksX3_wordsInto_3 1 rfl rfl)
theorem dX3_wordsInto_73 : decode cX3_wordsInto 73 = .ok (.goto (-66), 3) := dk_167 255 190 (dk_at dksX3_wordsInto_3 2 rfl rfl)
theorem dX3_wordsInto_76 : decode cX3_wordsInto 76 = .ok (.iconst 1, 1) := dk_4 (dk_at dksX3_wordsInto_3 5 rfl rfl)
theorem dX3_wordsInto_77 : decode cX3_wordsInto 77 = .ok (.ireturn, 1) := dk_172 (dk_at dksX3_wordsInto_3 6 rfl rfl)
abbrev cX3_settingHere : ByteArray := prog_26_method_39_code
def yX3_settingHere : MethodName := ⟨RX3, "settingHere", "()I"⟩
def dkwX3_settingHere_2 : List UInt8 := [172]
abbrev dktX3_settingHere_2 : List UInt8 := dkwX3_settingHere_2 ++ []
def dkwX3_settingHere_1 : List UInt8 := [18, 196, 182, 0, 190, 153, 0, 5, 5, 172, 42, 18, 198, 182, 0, 190, 153, 0, 7, 6, 167, 0, 4, 2]
abbrev dktX3_settingHere_1 : List UInt8 := dkwX3_settingHere_1 ++ dktX3_settingHere_2
def dkwX3_settingHere_0 : List UInt8 := [42, 18, 188, 182, 0, 190, 153, 0, 5, 3, 172, 42, 18, 194, 182, 0, 190, 153, 0, 5, 4, 172, 42]
abbrev dktX3_settingHere_0 : List UInt8 := dkwX3_settingHere_0 ++ dktX3_settingHere_1
theorem dksX3_settingHere_0 : cX3_settingHere.data.toList.drop 0 = dktX3_settingHere_0 := by decide +kernel
theorem dksX3_settingHere_1 : cX3_settingHere.data.toList.drop 23 = dktX3_settingHere_1 := dk_seg dksX3_settingHere_0 23 rfl rfl
theorem dksX3_settingHere_2 : cX3_settingHere.data.toList.drop 47 = dktX3_settingHere_2 := dk_seg dksX3_settingHere_1 24 rfl rfl
theorem dX3_settingHere_0 : decode cX3_settingHere 0 = .ok (.aload_n 0, 1) := dk_42 (dk_at dksX3_settingHere_0 0 rfl rfl)
theorem dX3_settingHere_1 : decode cX3_settingHere 1 = .ok (.ldc 188, 2) := dk_18 188 (dk_at dksX3_settingHere_0 1 rfl rfl)
theorem dX3_settingHere_3 : decode cX3_settingHere 3 = .ok (.invokevirtual 190, 3) := dk_182 0 190 (dk_at dksX3_settingHere_0 3 rfl rfl)
theorem dX3_settingHere_6 : decode cX3_settingHere 6 = .ok (.ifCond .eq 5, 3) := dk_153 0 5 (dk_at dksX3_settingHere_0 6 rfl rfl)
theorem dX3_settingHere_9 : decode cX3_settingHere 9 = .ok (.iconst 0, 1) := dk_3 (dk_at dksX3_settingHere_0 9 rfl rfl)
theorem dX3_settingHere_10 : decode cX3_settingHere 10 = .ok (.ireturn, 1) := dk_172 (dk_at dksX3_settingHere_0 10 rfl rfl)
theorem dX3_settingHere_11 : decode cX3_settingHere 11 = .ok (.aload_n 0, 1) := dk_42 (dk_at dksX3_settingHere_0 11 rfl rfl)
theorem dX3_settingHere_12 : decode cX3_settingHere 12 = .ok (.ldc 194, 2) := dk_18 194 (dk_at dksX3_settingHere_0 12 rfl rfl)
theorem dX3_settingHere_14 : decode cX3_settingHere 14 = .ok (.invokevirtual 190, 3) := dk_182 0 190 (dk_at dksX3_settingHere_0 14 rfl rfl)
theorem dX3_settingHere_17 : decode cX3_settingHere 17 = .ok (.ifCond .eq 5, 3) := dk_153 0 5 (dk_at dksX3_settingHere_0 17 rfl rfl)
theorem dX3_settingHere_20 : decode cX3_settingHere 20 = .ok (.iconst 1, 1) := dk_4 (dk_at dksX3_settingHere_0 20 rfl rfl)
theorem dX3_settingHere_21 : decode cX3_settingHere 21 = .ok (.ireturn, 1) := dk_172 (dk_at dksX3_settingHere_0 21 rfl rfl)
theorem dX3_settingHere_22 : decode cX3_settingHere 22 = .ok (.aload_n 0, 1) := dk_42 (dk_at dksX3_settingHere_0 22 rfl rfl)
theorem dX3_settingHere_23 : decode cX3_settingHere 23 = .ok (.ldc 196, 2) := dk_18 196 (dk_at dksX3_settingHere_1 0 rfl rfl)
theorem dX3_settingHere_25 : decode cX3_settingHere 25 = .ok (.invokevirtual 190, 3) := dk_182 0 190 (dk_at dksX3_settingHere_1 2 rfl rfl)
theorem dX3_settingHere_28 : decode cX3_settingHere 28 = .ok (.ifCond .eq 5, 3) := dk_153 0 5 (dk_at dksX3_settingHere_1 5 rfl rfl)
theorem dX3_settingHere_31 : decode cX3_settingHere 31 = .ok (.iconst 2, 1) := dk_5 (dk_at dksX3_settingHere_1 8 rfl rfl)
theorem dX3_settingHere_32 : decode cX3_settingHere 32 = .ok (.ireturn, 1) := dk_172 (dk_at dksX3_settingHere_1 9 rfl rfl)
theorem dX3_settingHere_33 : decode cX3_settingHere 33 = .ok (.aload_n 0, 1) := dk_42 (dk_at dksX3_settingHere_1 10 rfl rfl)
theorem dX3_settingHere_34 : decode cX3_settingHere 34 = .ok (.ldc 198, 2) := dk_18 198 (dk_at dksX3_settingHere_1 11 rfl rfl)
theorem dX3_settingHere_36 : decode cX3_settingHere 36 = .ok (.invokevirtual 190, 3) := dk_182 0 190 (dk_at dksX3_settingHere_1 13 rfl rfl)
theorem dX3_settingHere_39 : decode cX3_settingHere 39 = .ok (.ifCond .eq 7, 3) := dk_153 0 7 (dk_at dksX3_settingHere_1 16 rfl rfl)
theorem dX3_settingHere_42 : decode cX3_settingHere 42 = .ok (.iconst 3, 1) := dk_6 (dk_at dksX3_settingHere_1 19 rfl rfl)
theorem dX3_settingHere_43 : decode cX3_settingHere 43 = .ok (.goto 4, 3) := dk_167 0 4 (dk_at dksX3_settingHere_1 20 rfl rfl)
theorem dX3_settingHere_46 : decode cX3_settingHere 46 = .ok (.iconst (-1), 1) := dk_2 (dk_at dksX3_settingHere_1 23 rfl rfl)
theorem dX3_settingHere_47 : decode cX3_settingHere 47 = .ok (.ireturn, 1) := dk_172 (dk_at dksX3_settingHere_2 0 rfl rfl)
abbrev cX3_settingStatement : ByteArray := prog_26_method_38_code
def yX3_settingStatement : MethodName := ⟨RX3, "settingStatement", "(I)Z"⟩
def dkwX3_settingStatement_0 : List UInt8 := [42, 182, 0, 148, 87, 42, 27, 27, 184, 0, 182, 27, 184, 0, 185, 182, 0, 158, 172]
abbrev dktX3_settingStatement_0 : List UInt8 := dkwX3_settingStatement_0 ++ []
theorem dksX3_settingStatement_0 : cX3_settingStatement.data.toList.drop 0 = dktX3_settingStatement_0 := by decide +kernel
theorem dX3_settingStatement_0 : decode cX3_settingStatement 0 = .ok (.aload_n 0, 1) := dk_42 (dk_at dksX3_settingStatement_0 0 rfl rfl)
theorem dX3_settingStatement_1 : decode cX3_settingStatement 1 = .ok (.invokevirtual 148, 3) := dk_182 0 148 (dk_at dksX3_settingStatement_0 1 rfl rfl)
theorem dX3_settingStatement_4 : decode cX3_settingStatement 4 = .ok (.pop, 1) := dk_87 (dk_at dksX3_settingStatement_0 4 rfl rfl)
theorem dX3_settingStatement_5 : decode cX3_settingStatement 5 = .ok (.aload_n 0, 1) := dk_42 (dk_at dksX3_settingStatement_0 5 rfl rfl)
theorem dX3_settingStatement_6 : decode cX3_settingStatement 6 = .ok (.iload_n 1, 1) := dk_27 (dk_at dksX3_settingStatement_0 6 rfl rfl)
theorem dX3_settingStatement_7 : decode cX3_settingStatement 7 = .ok (.iload_n 1, 1) := dk_27 (dk_at dksX3_settingStatement_0 7 rfl rfl)
theorem dX3_settingStatement_8 : decode cX3_settingStatement 8 = .ok (.invokestatic 182, 3) := dk_184 0 182 (dk_at dksX3_settingStatement_0 8 rfl rfl)
theorem dX3_settingStatement_11 : decode cX3_settingStatement 11 = .ok (.iload_n 1, 1) := dk_27 (dk_at dksX3_settingStatement_0 11 rfl rfl)
theorem dX3_settingStatement_12 : decode cX3_settingStatement 12 = .ok (.invokestatic 185, 3) := dk_184 0 185 (dk_at dksX3_settingStatement_0 12 rfl rfl)
theorem dX3_settingStatement_15 : decode cX3_settingStatement 15 = .ok (.invokevirtual 158, 3) := dk_182 0 158 (dk_at dksX3_settingStatement_0 15 rfl rfl)
theorem dX3_settingStatement_18 : decode cX3_settingStatement 18 = .ok (.ireturn, 1) := dk_172 (dk_at dksX3_settingStatement_0 18 rfl rfl)
abbrev cX3_lowest : ByteArray := prog_26_method_36_code
def yX3_lowest : MethodName := ⟨RX3, "lowest", "(I)I"⟩
def dkwX3_lowest_0 : List UInt8 := [26, 4, 160, 0, 7, 4, 167, 0, 4, 3, 172]
abbrev dktX3_lowest_0 : List UInt8 := dkwX3_lowest_0 ++ []
theorem dksX3_lowest_0 : cX3_lowest.data.toList.drop 0 = dktX3_lowest_0 := by decide +kernel
theorem dX3_lowest_0 : decode cX3_lowest 0 = .ok (.iload_n 0, 1) := dk_26 (dk_at dksX3_lowest_0 0 rfl rfl)
theorem dX3_lowest_1 : decode cX3_lowest 1 = .ok (.iconst 1, 1) := dk_4 (dk_at dksX3_lowest_0 1 rfl rfl)
theorem dX3_lowest_2 : decode cX3_lowest 2 = .ok (.if_icmp .ne 7, 3) := dk_160 0 7 (dk_at dksX3_lowest_0 2 rfl rfl)
theorem dX3_lowest_5 : decode cX3_lowest 5 = .ok (.iconst 1, 1) := dk_4 (dk_at dksX3_lowest_0 5 rfl rfl)
theorem dX3_lowest_6 : decode cX3_lowest 6 = .ok (.goto 4, 3) := dk_167 0 4 (dk_at dksX3_lowest_0 6 rfl rfl)
theorem dX3_lowest_9 : decode cX3_lowest 9 = .ok (.iconst 0, 1) := dk_3 (dk_at dksX3_lowest_0 9 rfl rfl)
theorem dX3_lowest_10 : decode cX3_lowest 10 = .ok (.ireturn, 1) := dk_172 (dk_at dksX3_lowest_0 10 rfl rfl)
abbrev cX3_highest : ByteArray := prog_26_method_37_code
def yX3_highest : MethodName := ⟨RX3, "highest", "(I)I"⟩
def dkwX3_highest_0 : List UInt8 := [26, 5, 160, 0, 8, 16, 100, 167, 0, 6, 17, 3, 231, 172]
abbrev dktX3_highest_0 : List UInt8 := dkwX3_highest_0 ++ []
theorem dksX3_highest_0 : cX3_highest.data.toList.drop 0 = dktX3_highest_0 := by decide +kernel
theorem dX3_highest_0 : decode cX3_highest 0 = .ok (.iload_n 0, 1) := dk_26 (dk_at dksX3_highest_0 0 rfl rfl)
theorem dX3_highest_1 : decode cX3_highest 1 = .ok (.iconst 2, 1) := dk_5 (dk_at dksX3_highest_0 1 rfl rfl)
theorem dX3_highest_2 : decode cX3_highest 2 = .ok (.if_icmp .ne 8, 3) := dk_160 0 8 (dk_at dksX3_highest_0 2 rfl rfl)
theorem dX3_highest_5 : decode cX3_highest 5 = .ok (.bipush 100, 2) := dk_16 100 (dk_at dksX3_highest_0 5 rfl rfl)
theorem dX3_highest_7 : decode cX3_highest 7 = .ok (.goto 6, 3) := dk_167 0 6 (dk_at dksX3_highest_0 7 rfl rfl)
theorem dX3_highest_10 : decode cX3_highest 10 = .ok (.sipush 999, 3) := dk_17 3 231 (dk_at dksX3_highest_0 10 rfl rfl)
theorem dX3_highest_13 : decode cX3_highest 13 = .ok (.ireturn, 1) := dk_172 (dk_at dksX3_highest_0 13 rfl rfl)
abbrev cX3_layBack : ByteArray := prog_26_method_12_code
def yX3_layBack : MethodName := ⟨RX3, "layBack", "()V"⟩
def dkwX3_layBack_0 : List UInt8 := [42, 180, 0, 13, 42, 180, 0, 7, 184, 0, 68, 177]
abbrev dktX3_layBack_0 : List UInt8 := dkwX3_layBack_0 ++ []
theorem dksX3_layBack_0 : cX3_layBack.data.toList.drop 0 = dktX3_layBack_0 := by decide +kernel
theorem dX3_layBack_0 : decode cX3_layBack 0 = .ok (.aload_n 0, 1) := dk_42 (dk_at dksX3_layBack_0 0 rfl rfl)
theorem dX3_layBack_1 : decode cX3_layBack 1 = .ok (.getfield 13, 3) := dk_180 0 13 (dk_at dksX3_layBack_0 1 rfl rfl)
theorem dX3_layBack_4 : decode cX3_layBack 4 = .ok (.aload_n 0, 1) := dk_42 (dk_at dksX3_layBack_0 4 rfl rfl)
theorem dX3_layBack_5 : decode cX3_layBack 5 = .ok (.getfield 7, 3) := dk_180 0 7 (dk_at dksX3_layBack_0 5 rfl rfl)
theorem dX3_layBack_8 : decode cX3_layBack 8 = .ok (.invokestatic 68, 3) := dk_184 0 68 (dk_at dksX3_layBack_0 8 rfl rfl)
theorem dX3_layBack_11 : decode cX3_layBack 11 = .ok (.return_, 1) := dk_177 (dk_at dksX3_layBack_0 11 rfl rfl)
abbrev cX3_extend : ByteArray := prog_26_method_43_code
def yX3_extend : MethodName := ⟨RX3, "extend", "(I)I"⟩
def dkwX3_extend_3 : List UInt8 := [47, 136, 172]
abbrev dktX3_extend_3 : List UInt8 := dkwX3_extend_3 ++ []
def dkwX3_extend_2 : List UInt8 := [182, 0, 237, 42, 182, 0, 249, 42, 180, 0, 16, 42, 180, 0, 7, 184, 0, 68, 42, 180, 0, 7, 16, 66]
abbrev dktX3_extend_2 : List UInt8 := dkwX3_extend_2 ++ dktX3_extend_3
def dkwX3_extend_1 : List UInt8 := [42, 27, 182, 0, 246, 154, 0, 6, 16, 253, 172, 42, 180, 0, 7, 42, 180, 0, 16, 184, 0, 68, 42]
abbrev dktX3_extend_1 : List UInt8 := dkwX3_extend_1 ++ dktX3_extend_2
def dkwX3_extend_0 : List UInt8 := [42, 27, 133, 9, 42, 180, 0, 72, 133, 184, 0, 144, 182, 0, 240, 154, 0, 5, 3, 172, 42, 182, 0, 243]
abbrev dktX3_extend_0 : List UInt8 := dkwX3_extend_0 ++ dktX3_extend_1
theorem dksX3_extend_0 : cX3_extend.data.toList.drop 0 = dktX3_extend_0 := by decide +kernel
theorem dksX3_extend_1 : cX3_extend.data.toList.drop 24 = dktX3_extend_1 := dk_seg dksX3_extend_0 24 rfl rfl
theorem dksX3_extend_2 : cX3_extend.data.toList.drop 47 = dktX3_extend_2 := dk_seg dksX3_extend_1 23 rfl rfl
theorem dksX3_extend_3 : cX3_extend.data.toList.drop 71 = dktX3_extend_3 := dk_seg dksX3_extend_2 24 rfl rfl
theorem dX3_extend_0 : decode cX3_extend 0 = .ok (.aload_n 0, 1) := dk_42 (dk_at dksX3_extend_0 0 rfl rfl)
theorem dX3_extend_1 : decode cX3_extend 1 = .ok (.iload_n 1, 1) := dk_27 (dk_at dksX3_extend_0 1 rfl rfl)
theorem dX3_extend_2 : decode cX3_extend 2 = .ok (.i2l, 1) := dk_133 (dk_at dksX3_extend_0 2 rfl rfl)
theorem dX3_extend_3 : decode cX3_extend 3 = .ok (.lconst 0, 1) := dk_9 (dk_at dksX3_extend_0 3 rfl rfl)
theorem dX3_extend_4 : decode cX3_extend 4 = .ok (.aload_n 0, 1) := dk_42 (dk_at dksX3_extend_0 4 rfl rfl)
theorem dX3_extend_5 : decode cX3_extend 5 = .ok (.getfield 72, 3) := dk_180 0 72 (dk_at dksX3_extend_0 5 rfl rfl)
theorem dX3_extend_8 : decode cX3_extend 8 = .ok (.i2l, 1) := dk_133 (dk_at dksX3_extend_0 8 rfl rfl)
theorem dX3_extend_9 : decode cX3_extend 9 = .ok (.invokestatic 144, 3) := dk_184 0 144 (dk_at dksX3_extend_0 9 rfl rfl)
theorem dX3_extend_12 : decode cX3_extend 12 = .ok (.invokevirtual 240, 3) := dk_182 0 240 (dk_at dksX3_extend_0 12 rfl rfl)
theorem dX3_extend_15 : decode cX3_extend 15 = .ok (.ifCond .ne 5, 3) := dk_154 0 5 (dk_at dksX3_extend_0 15 rfl rfl)
theorem dX3_extend_18 : decode cX3_extend 18 = .ok (.iconst 0, 1) := dk_3 (dk_at dksX3_extend_0 18 rfl rfl)
theorem dX3_extend_19 : decode cX3_extend 19 = .ok (.ireturn, 1) := dk_172 (dk_at dksX3_extend_0 19 rfl rfl)
theorem dX3_extend_20 : decode cX3_extend 20 = .ok (.aload_n 0, 1) := dk_42 (dk_at dksX3_extend_0 20 rfl rfl)
theorem dX3_extend_21 : decode cX3_extend 21 = .ok (.invokevirtual 243, 3) := dk_182 0 243 (dk_at dksX3_extend_0 21 rfl rfl)
theorem dX3_extend_24 : decode cX3_extend 24 = .ok (.aload_n 0, 1) := dk_42 (dk_at dksX3_extend_1 0 rfl rfl)
theorem dX3_extend_25 : decode cX3_extend 25 = .ok (.iload_n 1, 1) := dk_27 (dk_at dksX3_extend_1 1 rfl rfl)
theorem dX3_extend_26 : decode cX3_extend 26 = .ok (.invokevirtual 246, 3) := dk_182 0 246 (dk_at dksX3_extend_1 2 rfl rfl)
theorem dX3_extend_29 : decode cX3_extend 29 = .ok (.ifCond .ne 6, 3) := dk_154 0 6 (dk_at dksX3_extend_1 5 rfl rfl)
theorem dX3_extend_32 : decode cX3_extend 32 = .ok (.bipush (-3), 2) := dk_16 253 (dk_at dksX3_extend_1 8 rfl rfl)
theorem dX3_extend_34 : decode cX3_extend 34 = .ok (.ireturn, 1) := dk_172 (dk_at dksX3_extend_1 10 rfl rfl)
theorem dX3_extend_35 : decode cX3_extend 35 = .ok (.aload_n 0, 1) := dk_42 (dk_at dksX3_extend_1 11 rfl rfl)
theorem dX3_extend_36 : decode cX3_extend 36 = .ok (.getfield 7, 3) := dk_180 0 7 (dk_at dksX3_extend_1 12 rfl rfl)
theorem dX3_extend_39 : decode cX3_extend 39 = .ok (.aload_n 0, 1) := dk_42 (dk_at dksX3_extend_1 15 rfl rfl)
theorem dX3_extend_40 : decode cX3_extend 40 = .ok (.getfield 16, 3) := dk_180 0 16 (dk_at dksX3_extend_1 16 rfl rfl)
theorem dX3_extend_43 : decode cX3_extend 43 = .ok (.invokestatic 68, 3) := dk_184 0 68 (dk_at dksX3_extend_1 19 rfl rfl)
theorem dX3_extend_46 : decode cX3_extend 46 = .ok (.aload_n 0, 1) := dk_42 (dk_at dksX3_extend_1 22 rfl rfl)
theorem dX3_extend_47 : decode cX3_extend 47 = .ok (.invokevirtual 237, 3) := dk_182 0 237 (dk_at dksX3_extend_2 0 rfl rfl)
theorem dX3_extend_50 : decode cX3_extend 50 = .ok (.aload_n 0, 1) := dk_42 (dk_at dksX3_extend_2 3 rfl rfl)
theorem dX3_extend_51 : decode cX3_extend 51 = .ok (.invokevirtual 249, 3) := dk_182 0 249 (dk_at dksX3_extend_2 4 rfl rfl)
theorem dX3_extend_54 : decode cX3_extend 54 = .ok (.aload_n 0, 1) := dk_42 (dk_at dksX3_extend_2 7 rfl rfl)
theorem dX3_extend_55 : decode cX3_extend 55 = .ok (.getfield 16, 3) := dk_180 0 16 (dk_at dksX3_extend_2 8 rfl rfl)
theorem dX3_extend_58 : decode cX3_extend 58 = .ok (.aload_n 0, 1) := dk_42 (dk_at dksX3_extend_2 11 rfl rfl)
theorem dX3_extend_59 : decode cX3_extend 59 = .ok (.getfield 7, 3) := dk_180 0 7 (dk_at dksX3_extend_2 12 rfl rfl)
theorem dX3_extend_62 : decode cX3_extend 62 = .ok (.invokestatic 68, 3) := dk_184 0 68 (dk_at dksX3_extend_2 15 rfl rfl)
theorem dX3_extend_65 : decode cX3_extend 65 = .ok (.aload_n 0, 1) := dk_42 (dk_at dksX3_extend_2 18 rfl rfl)
theorem dX3_extend_66 : decode cX3_extend 66 = .ok (.getfield 7, 3) := dk_180 0 7 (dk_at dksX3_extend_2 19 rfl rfl)
theorem dX3_extend_69 : decode cX3_extend 69 = .ok (.bipush 66, 2) := dk_16 66 (dk_at dksX3_extend_2 22 rfl rfl)
theorem dX3_extend_71 : decode cX3_extend 71 = .ok (.laload, 1) := dk_47 (dk_at dksX3_extend_3 0 rfl rfl)
theorem dX3_extend_72 : decode cX3_extend 72 = .ok (.l2i, 1) := dk_136 (dk_at dksX3_extend_3 1 rfl rfl)
theorem dX3_extend_73 : decode cX3_extend 73 = .ok (.ireturn, 1) := dk_172 (dk_at dksX3_extend_3 2 rfl rfl)
abbrev cX3_remember : ByteArray := prog_26_method_9_code
def yX3_remember : MethodName := ⟨RX3, "remember", "()V"⟩
def dkwX3_remember_4 : List UInt8 := [181, 0, 65, 177]
abbrev dktX3_remember_4 : List UInt8 := dkwX3_remember_4 ++ []
def dkwX3_remember_3 : List UInt8 := [104, 27, 96, 42, 180, 0, 7, 27, 47, 80, 132, 1, 1, 167, 255, 225, 42, 89, 180, 0, 65, 4, 96]
abbrev dktX3_remember_3 : List UInt8 := dkwX3_remember_3 ++ dktX3_remember_4
def dkwX3_remember_2 : List UInt8 := [100, 181, 0, 65, 3, 60, 27, 17, 1, 191, 162, 0, 30, 42, 180, 0, 19, 17, 1, 191, 42, 180, 0, 65]
abbrev dktX3_remember_2 : List UInt8 := dkwX3_remember_2 ++ dktX3_remember_3
def dkwX3_remember_1 : List UInt8 := [27, 17, 1, 191, 100, 42, 180, 0, 19, 27, 47, 80, 132, 1, 1, 167, 255, 230, 42, 89, 180, 0, 65, 4]
abbrev dktX3_remember_1 : List UInt8 := dkwX3_remember_1 ++ dktX3_remember_2
def dkwX3_remember_0 : List UInt8 := [42, 180, 0, 65, 16, 10, 160, 0, 46, 17, 1, 191, 60, 27, 17, 17, 118, 162, 0, 25, 42, 180, 0, 19]
abbrev dktX3_remember_0 : List UInt8 := dkwX3_remember_0 ++ dktX3_remember_1
theorem dksX3_remember_0 : cX3_remember.data.toList.drop 0 = dktX3_remember_0 := by decide +kernel
theorem dksX3_remember_1 : cX3_remember.data.toList.drop 24 = dktX3_remember_1 := dk_seg dksX3_remember_0 24 rfl rfl
theorem dksX3_remember_2 : cX3_remember.data.toList.drop 48 = dktX3_remember_2 := dk_seg dksX3_remember_1 24 rfl rfl
theorem dksX3_remember_3 : cX3_remember.data.toList.drop 72 = dktX3_remember_3 := dk_seg dksX3_remember_2 24 rfl rfl
theorem dksX3_remember_4 : cX3_remember.data.toList.drop 95 = dktX3_remember_4 := dk_seg dksX3_remember_3 23 rfl rfl
theorem dX3_remember_0 : decode cX3_remember 0 = .ok (.aload_n 0, 1) := dk_42 (dk_at dksX3_remember_0 0 rfl rfl)
theorem dX3_remember_1 : decode cX3_remember 1 = .ok (.getfield 65, 3) := dk_180 0 65 (dk_at dksX3_remember_0 1 rfl rfl)
theorem dX3_remember_4 : decode cX3_remember 4 = .ok (.bipush 10, 2) := dk_16 10 (dk_at dksX3_remember_0 4 rfl rfl)
theorem dX3_remember_6 : decode cX3_remember 6 = .ok (.if_icmp .ne 46, 3) := dk_160 0 46 (dk_at dksX3_remember_0 6 rfl rfl)
theorem dX3_remember_9 : decode cX3_remember 9 = .ok (.sipush 447, 3) := dk_17 1 191 (dk_at dksX3_remember_0 9 rfl rfl)
theorem dX3_remember_12 : decode cX3_remember 12 = .ok (.istore_n 1, 1) := dk_60 (dk_at dksX3_remember_0 12 rfl rfl)
theorem dX3_remember_13 : decode cX3_remember 13 = .ok (.iload_n 1, 1) := dk_27 (dk_at dksX3_remember_0 13 rfl rfl)
theorem dX3_remember_14 : decode cX3_remember 14 = .ok (.sipush 4470, 3) := dk_17 17 118 (dk_at dksX3_remember_0 14 rfl rfl)
theorem dX3_remember_17 : decode cX3_remember 17 = .ok (.if_icmp .ge 25, 3) := dk_162 0 25 (dk_at dksX3_remember_0 17 rfl rfl)
theorem dX3_remember_20 : decode cX3_remember 20 = .ok (.aload_n 0, 1) := dk_42 (dk_at dksX3_remember_0 20 rfl rfl)
theorem dX3_remember_21 : decode cX3_remember 21 = .ok (.getfield 19, 3) := dk_180 0 19 (dk_at dksX3_remember_0 21 rfl rfl)
theorem dX3_remember_24 : decode cX3_remember 24 = .ok (.iload_n 1, 1) := dk_27 (dk_at dksX3_remember_1 0 rfl rfl)
theorem dX3_remember_25 : decode cX3_remember 25 = .ok (.sipush 447, 3) := dk_17 1 191 (dk_at dksX3_remember_1 1 rfl rfl)
theorem dX3_remember_28 : decode cX3_remember 28 = .ok (.isub, 1) := dk_100 (dk_at dksX3_remember_1 4 rfl rfl)
theorem dX3_remember_29 : decode cX3_remember 29 = .ok (.aload_n 0, 1) := dk_42 (dk_at dksX3_remember_1 5 rfl rfl)
theorem dX3_remember_30 : decode cX3_remember 30 = .ok (.getfield 19, 3) := dk_180 0 19 (dk_at dksX3_remember_1 6 rfl rfl)
theorem dX3_remember_33 : decode cX3_remember 33 = .ok (.iload_n 1, 1) := dk_27 (dk_at dksX3_remember_1 9 rfl rfl)
theorem dX3_remember_34 : decode cX3_remember 34 = .ok (.laload, 1) := dk_47 (dk_at dksX3_remember_1 10 rfl rfl)
theorem dX3_remember_35 : decode cX3_remember 35 = .ok (.lastore, 1) := dk_80 (dk_at dksX3_remember_1 11 rfl rfl)
theorem dX3_remember_36 : decode cX3_remember 36 = .ok (.iinc 1 1, 3) := dk_132 1 1 (dk_at dksX3_remember_1 12 rfl rfl)
theorem dX3_remember_39 : decode cX3_remember 39 = .ok (.goto (-26), 3) := dk_167 255 230 (dk_at dksX3_remember_1 15 rfl rfl)
theorem dX3_remember_42 : decode cX3_remember 42 = .ok (.aload_n 0, 1) := dk_42 (dk_at dksX3_remember_1 18 rfl rfl)
theorem dX3_remember_43 : decode cX3_remember 43 = .ok (.dup, 1) := dk_89 (dk_at dksX3_remember_1 19 rfl rfl)
theorem dX3_remember_44 : decode cX3_remember 44 = .ok (.getfield 65, 3) := dk_180 0 65 (dk_at dksX3_remember_1 20 rfl rfl)
theorem dX3_remember_47 : decode cX3_remember 47 = .ok (.iconst 1, 1) := dk_4 (dk_at dksX3_remember_1 23 rfl rfl)
theorem dX3_remember_48 : decode cX3_remember 48 = .ok (.isub, 1) := dk_100 (dk_at dksX3_remember_2 0 rfl rfl)
theorem dX3_remember_49 : decode cX3_remember 49 = .ok (.putfield 65, 3) := dk_181 0 65 (dk_at dksX3_remember_2 1 rfl rfl)
theorem dX3_remember_52 : decode cX3_remember 52 = .ok (.iconst 0, 1) := dk_3 (dk_at dksX3_remember_2 4 rfl rfl)
theorem dX3_remember_53 : decode cX3_remember 53 = .ok (.istore_n 1, 1) := dk_60 (dk_at dksX3_remember_2 5 rfl rfl)
theorem dX3_remember_54 : decode cX3_remember 54 = .ok (.iload_n 1, 1) := dk_27 (dk_at dksX3_remember_2 6 rfl rfl)
theorem dX3_remember_55 : decode cX3_remember 55 = .ok (.sipush 447, 3) := dk_17 1 191 (dk_at dksX3_remember_2 7 rfl rfl)
theorem dX3_remember_58 : decode cX3_remember 58 = .ok (.if_icmp .ge 30, 3) := dk_162 0 30 (dk_at dksX3_remember_2 10 rfl rfl)
theorem dX3_remember_61 : decode cX3_remember 61 = .ok (.aload_n 0, 1) := dk_42 (dk_at dksX3_remember_2 13 rfl rfl)
theorem dX3_remember_62 : decode cX3_remember 62 = .ok (.getfield 19, 3) := dk_180 0 19 (dk_at dksX3_remember_2 14 rfl rfl)
theorem dX3_remember_65 : decode cX3_remember 65 = .ok (.sipush 447, 3) := dk_17 1 191 (dk_at dksX3_remember_2 17 rfl rfl)
theorem dX3_remember_68 : decode cX3_remember 68 = .ok (.aload_n 0, 1) := dk_42 (dk_at dksX3_remember_2 20 rfl rfl)
theorem dX3_remember_69 : decode cX3_remember 69 = .ok (.getfield 65, 3) := dk_180 0 65 (dk_at dksX3_remember_2 21 rfl rfl)
theorem dX3_remember_72 : decode cX3_remember 72 = .ok (.imul, 1) := dk_104 (dk_at dksX3_remember_3 0 rfl rfl)
theorem dX3_remember_73 : decode cX3_remember 73 = .ok (.iload_n 1, 1) := dk_27 (dk_at dksX3_remember_3 1 rfl rfl)
theorem dX3_remember_74 : decode cX3_remember 74 = .ok (.iadd, 1) := dk_96 (dk_at dksX3_remember_3 2 rfl rfl)
theorem dX3_remember_75 : decode cX3_remember 75 = .ok (.aload_n 0, 1) := dk_42 (dk_at dksX3_remember_3 3 rfl rfl)
theorem dX3_remember_76 : decode cX3_remember 76 = .ok (.getfield 7, 3) := dk_180 0 7 (dk_at dksX3_remember_3 4 rfl rfl)
theorem dX3_remember_79 : decode cX3_remember 79 = .ok (.iload_n 1, 1) := dk_27 (dk_at dksX3_remember_3 7 rfl rfl)
theorem dX3_remember_80 : decode cX3_remember 80 = .ok (.laload, 1) := dk_47 (dk_at dksX3_remember_3 8 rfl rfl)
theorem dX3_remember_81 : decode cX3_remember 81 = .ok (.lastore, 1) := dk_80 (dk_at dksX3_remember_3 9 rfl rfl)
theorem dX3_remember_82 : decode cX3_remember 82 = .ok (.iinc 1 1, 3) := dk_132 1 1 (dk_at dksX3_remember_3 10 rfl rfl)
theorem dX3_remember_85 : decode cX3_remember 85 = .ok (.goto (-31), 3) := dk_167 255 225 (dk_at dksX3_remember_3 13 rfl rfl)
theorem dX3_remember_88 : decode cX3_remember 88 = .ok (.aload_n 0, 1) := dk_42 (dk_at dksX3_remember_3 16 rfl rfl)
theorem dX3_remember_89 : decode cX3_remember 89 = .ok (.dup, 1) := dk_89 (dk_at dksX3_remember_3 17 rfl rfl)
theorem dX3_remember_90 : decode cX3_remember 90 = .ok (.getfield 65, 3) := dk_180 0 65 (dk_at dksX3_remember_3 18 rfl rfl)
theorem dX3_remember_93 : decode cX3_remember 93 = .ok (.iconst 1, 1) := dk_4 (dk_at dksX3_remember_3 21 rfl rfl)
theorem dX3_remember_94 : decode cX3_remember 94 = .ok (.iadd, 1) := dk_96 (dk_at dksX3_remember_3 22 rfl rfl)
theorem dX3_remember_95 : decode cX3_remember 95 = .ok (.putfield 65, 3) := dk_181 0 65 (dk_at dksX3_remember_4 0 rfl rfl)
theorem dX3_remember_98 : decode cX3_remember 98 = .ok (.return_, 1) := dk_177 (dk_at dksX3_remember_4 3 rfl rfl)
abbrev cX3_errorKind : ByteArray := prog_26_method_44_code
def yX3_errorKind : MethodName := ⟨RX3, "errorKind", "()I"⟩
def dkwX3_errorKind_0 : List UInt8 := [42, 3, 181, 0, 48, 42, 180, 0, 234, 172]
abbrev dktX3_errorKind_0 : List UInt8 := dkwX3_errorKind_0 ++ []
theorem dksX3_errorKind_0 : cX3_errorKind.data.toList.drop 0 = dktX3_errorKind_0 := by decide +kernel
theorem dX3_errorKind_0 : decode cX3_errorKind 0 = .ok (.aload_n 0, 1) := dk_42 (dk_at dksX3_errorKind_0 0 rfl rfl)
theorem dX3_errorKind_1 : decode cX3_errorKind 1 = .ok (.iconst 0, 1) := dk_3 (dk_at dksX3_errorKind_0 1 rfl rfl)
theorem dX3_errorKind_2 : decode cX3_errorKind 2 = .ok (.putfield 48, 3) := dk_181 0 48 (dk_at dksX3_errorKind_0 2 rfl rfl)
theorem dX3_errorKind_5 : decode cX3_errorKind 5 = .ok (.aload_n 0, 1) := dk_42 (dk_at dksX3_errorKind_0 5 rfl rfl)
theorem dX3_errorKind_6 : decode cX3_errorKind 6 = .ok (.getfield 234, 3) := dk_180 0 234 (dk_at dksX3_errorKind_0 6 rfl rfl)
theorem dX3_errorKind_9 : decode cX3_errorKind 9 = .ok (.ireturn, 1) := dk_172 (dk_at dksX3_errorKind_0 9 rfl rfl)
abbrev cX3_errorPosition : ByteArray := prog_26_method_45_code
def yX3_errorPosition : MethodName := ⟨RX3, "errorPosition", "()I"⟩
def dkwX3_errorPosition_0 : List UInt8 := [42, 3, 181, 0, 48, 42, 180, 0, 26, 172]
abbrev dktX3_errorPosition_0 : List UInt8 := dkwX3_errorPosition_0 ++ []
theorem dksX3_errorPosition_0 : cX3_errorPosition.data.toList.drop 0 = dktX3_errorPosition_0 := by decide +kernel
theorem dX3_errorPosition_0 : decode cX3_errorPosition 0 = .ok (.aload_n 0, 1) := dk_42 (dk_at dksX3_errorPosition_0 0 rfl rfl)
theorem dX3_errorPosition_1 : decode cX3_errorPosition 1 = .ok (.iconst 0, 1) := dk_3 (dk_at dksX3_errorPosition_0 1 rfl rfl)
theorem dX3_errorPosition_2 : decode cX3_errorPosition 2 = .ok (.putfield 48, 3) := dk_181 0 48 (dk_at dksX3_errorPosition_0 2 rfl rfl)
theorem dX3_errorPosition_5 : decode cX3_errorPosition 5 = .ok (.aload_n 0, 1) := dk_42 (dk_at dksX3_errorPosition_0 5 rfl rfl)
theorem dX3_errorPosition_6 : decode cX3_errorPosition 6 = .ok (.getfield 26, 3) := dk_180 0 26 (dk_at dksX3_errorPosition_0 6 rfl rfl)
theorem dX3_errorPosition_9 : decode cX3_errorPosition 9 = .ok (.ireturn, 1) := dk_172 (dk_at dksX3_errorPosition_0 9 rfl rfl)
abbrev cX3_find : ByteArray := prog_26_method_46_code
def yX3_find : MethodName := ⟨RX3, "find", "(I)I"⟩
def dkwX3_find_4 : List UInt8 := [21, 4, 153, 0, 11, 42, 32, 182, 0, 154, 167, 0, 4, 2, 172]
abbrev dktX3_find_4 : List UInt8 := dkwX3_find_4 ++ []
def dkwX3_find_3 : List UInt8 := [105, 42, 180, 0, 22, 21, 5, 46, 133, 97, 20, 0, 102, 101, 10, 97, 65, 132, 5, 1, 167, 255, 209]
abbrev dktX3_find_3 : List UInt8 := dkwX3_find_3 ++ dktX3_find_4
def dkwX3_find_2 : List UInt8 := [162, 0, 47, 21, 4, 153, 0, 42, 42, 180, 0, 22, 21, 5, 46, 184, 0, 93, 54, 4, 20, 0, 100, 32]
abbrev dktX3_find_2 : List UInt8 := dkwX3_find_2 ++ dktX3_find_3
def dkwX3_find_1 : List UInt8 := [181, 0, 72, 9, 65, 27, 133, 10, 20, 0, 176, 184, 0, 144, 54, 4, 3, 54, 5, 21, 5, 27]
abbrev dktX3_find_1 : List UInt8 := dkwX3_find_1 ++ dktX3_find_2
def dkwX3_find_0 : List UInt8 := [42, 27, 133, 9, 42, 180, 0, 72, 133, 184, 0, 144, 182, 0, 240, 154, 0, 5, 3, 172, 42, 3]
abbrev dktX3_find_0 : List UInt8 := dkwX3_find_0 ++ dktX3_find_1
theorem dksX3_find_0 : cX3_find.data.toList.drop 0 = dktX3_find_0 := by decide +kernel
theorem dksX3_find_1 : cX3_find.data.toList.drop 22 = dktX3_find_1 := dk_seg dksX3_find_0 22 rfl rfl
theorem dksX3_find_2 : cX3_find.data.toList.drop 44 = dktX3_find_2 := dk_seg dksX3_find_1 22 rfl rfl
theorem dksX3_find_3 : cX3_find.data.toList.drop 68 = dktX3_find_3 := dk_seg dksX3_find_2 24 rfl rfl
theorem dksX3_find_4 : cX3_find.data.toList.drop 91 = dktX3_find_4 := dk_seg dksX3_find_3 23 rfl rfl
theorem dX3_find_0 : decode cX3_find 0 = .ok (.aload_n 0, 1) := dk_42 (dk_at dksX3_find_0 0 rfl rfl)
theorem dX3_find_1 : decode cX3_find 1 = .ok (.iload_n 1, 1) := dk_27 (dk_at dksX3_find_0 1 rfl rfl)
theorem dX3_find_2 : decode cX3_find 2 = .ok (.i2l, 1) := dk_133 (dk_at dksX3_find_0 2 rfl rfl)
theorem dX3_find_3 : decode cX3_find 3 = .ok (.lconst 0, 1) := dk_9 (dk_at dksX3_find_0 3 rfl rfl)
theorem dX3_find_4 : decode cX3_find 4 = .ok (.aload_n 0, 1) := dk_42 (dk_at dksX3_find_0 4 rfl rfl)
theorem dX3_find_5 : decode cX3_find 5 = .ok (.getfield 72, 3) := dk_180 0 72 (dk_at dksX3_find_0 5 rfl rfl)
theorem dX3_find_8 : decode cX3_find 8 = .ok (.i2l, 1) := dk_133 (dk_at dksX3_find_0 8 rfl rfl)
theorem dX3_find_9 : decode cX3_find 9 = .ok (.invokestatic 144, 3) := dk_184 0 144 (dk_at dksX3_find_0 9 rfl rfl)
theorem dX3_find_12 : decode cX3_find 12 = .ok (.invokevirtual 240, 3) := dk_182 0 240 (dk_at dksX3_find_0 12 rfl rfl)
theorem dX3_find_15 : decode cX3_find 15 = .ok (.ifCond .ne 5, 3) := dk_154 0 5 (dk_at dksX3_find_0 15 rfl rfl)
theorem dX3_find_18 : decode cX3_find 18 = .ok (.iconst 0, 1) := dk_3 (dk_at dksX3_find_0 18 rfl rfl)
theorem dX3_find_19 : decode cX3_find 19 = .ok (.ireturn, 1) := dk_172 (dk_at dksX3_find_0 19 rfl rfl)
theorem dX3_find_20 : decode cX3_find 20 = .ok (.aload_n 0, 1) := dk_42 (dk_at dksX3_find_0 20 rfl rfl)
theorem dX3_find_21 : decode cX3_find 21 = .ok (.iconst 0, 1) := dk_3 (dk_at dksX3_find_0 21 rfl rfl)
theorem dX3_find_22 : decode cX3_find 22 = .ok (.putfield 72, 3) := dk_181 0 72 (dk_at dksX3_find_1 0 rfl rfl)
theorem dX3_find_25 : decode cX3_find 25 = .ok (.lconst 0, 1) := dk_9 (dk_at dksX3_find_1 3 rfl rfl)
theorem dX3_find_26 : decode cX3_find 26 = .ok (.lstore_n 2, 1) := dk_65 (dk_at dksX3_find_1 4 rfl rfl)
theorem dX3_find_27 : decode cX3_find 27 = .ok (.iload_n 1, 1) := dk_27 (dk_at dksX3_find_1 5 rfl rfl)
theorem dX3_find_28 : decode cX3_find 28 = .ok (.i2l, 1) := dk_133 (dk_at dksX3_find_1 6 rfl rfl)
theorem dX3_find_29 : decode cX3_find 29 = .ok (.lconst 1, 1) := dk_10 (dk_at dksX3_find_1 7 rfl rfl)
theorem dX3_find_30 : decode cX3_find 30 = .ok (.ldc2_w 176, 3) := dk_20 0 176 (dk_at dksX3_find_1 8 rfl rfl)
theorem dX3_find_33 : decode cX3_find 33 = .ok (.invokestatic 144, 3) := dk_184 0 144 (dk_at dksX3_find_1 11 rfl rfl)
theorem dX3_find_36 : decode cX3_find 36 = .ok (.istore 4, 2) := dk_54 4 (dk_at dksX3_find_1 14 rfl rfl)
theorem dX3_find_38 : decode cX3_find 38 = .ok (.iconst 0, 1) := dk_3 (dk_at dksX3_find_1 16 rfl rfl)
theorem dX3_find_39 : decode cX3_find 39 = .ok (.istore 5, 2) := dk_54 5 (dk_at dksX3_find_1 17 rfl rfl)
theorem dX3_find_41 : decode cX3_find 41 = .ok (.iload 5, 2) := dk_21 5 (dk_at dksX3_find_1 19 rfl rfl)
theorem dX3_find_43 : decode cX3_find 43 = .ok (.iload_n 1, 1) := dk_27 (dk_at dksX3_find_1 21 rfl rfl)
theorem dX3_find_44 : decode cX3_find 44 = .ok (.if_icmp .ge 47, 3) := dk_162 0 47 (dk_at dksX3_find_2 0 rfl rfl)
theorem dX3_find_47 : decode cX3_find 47 = .ok (.iload 4, 2) := dk_21 4 (dk_at dksX3_find_2 3 rfl rfl)
theorem dX3_find_49 : decode cX3_find 49 = .ok (.ifCond .eq 42, 3) := dk_153 0 42 (dk_at dksX3_find_2 5 rfl rfl)
theorem dX3_find_52 : decode cX3_find 52 = .ok (.aload_n 0, 1) := dk_42 (dk_at dksX3_find_2 8 rfl rfl)
theorem dX3_find_53 : decode cX3_find 53 = .ok (.getfield 22, 3) := dk_180 0 22 (dk_at dksX3_find_2 9 rfl rfl)
theorem dX3_find_56 : decode cX3_find 56 = .ok (.iload 5, 2) := dk_21 5 (dk_at dksX3_find_2 12 rfl rfl)
theorem dX3_find_58 : decode cX3_find 58 = .ok (.iaload, 1) := dk_46 (dk_at dksX3_find_2 14 rfl rfl)
theorem dX3_find_59 : decode cX3_find 59 = .ok (.invokestatic 93, 3) := dk_184 0 93 (dk_at dksX3_find_2 15 rfl rfl)
theorem dX3_find_62 : decode cX3_find 62 = .ok (.istore 4, 2) := dk_54 4 (dk_at dksX3_find_2 18 rfl rfl)
theorem dX3_find_64 : decode cX3_find 64 = .ok (.ldc2_w 100, 3) := dk_20 0 100 (dk_at dksX3_find_2 20 rfl rfl)
theorem dX3_find_67 : decode cX3_find 67 = .ok (.lload_n 2, 1) := dk_32 (dk_at dksX3_find_2 23 rfl rfl)
theorem dX3_find_68 : decode cX3_find 68 = .ok (.lmul, 1) := dk_105 (dk_at dksX3_find_3 0 rfl rfl)
theorem dX3_find_69 : decode cX3_find 69 = .ok (.aload_n 0, 1) := dk_42 (dk_at dksX3_find_3 1 rfl rfl)
theorem dX3_find_70 : decode cX3_find 70 = .ok (.getfield 22, 3) := dk_180 0 22 (dk_at dksX3_find_3 2 rfl rfl)
theorem dX3_find_73 : decode cX3_find 73 = .ok (.iload 5, 2) := dk_21 5 (dk_at dksX3_find_3 5 rfl rfl)
theorem dX3_find_75 : decode cX3_find 75 = .ok (.iaload, 1) := dk_46 (dk_at dksX3_find_3 7 rfl rfl)
theorem dX3_find_76 : decode cX3_find 76 = .ok (.i2l, 1) := dk_133 (dk_at dksX3_find_3 8 rfl rfl)
theorem dX3_find_77 : decode cX3_find 77 = .ok (.ladd, 1) := dk_97 (dk_at dksX3_find_3 9 rfl rfl)
theorem dX3_find_78 : decode cX3_find 78 = .ok (.ldc2_w 102, 3) := dk_20 0 102 (dk_at dksX3_find_3 10 rfl rfl)
theorem dX3_find_81 : decode cX3_find 81 = .ok (.lsub, 1) := dk_101 (dk_at dksX3_find_3 13 rfl rfl)
theorem dX3_find_82 : decode cX3_find 82 = .ok (.lconst 1, 1) := dk_10 (dk_at dksX3_find_3 14 rfl rfl)
theorem dX3_find_83 : decode cX3_find 83 = .ok (.ladd, 1) := dk_97 (dk_at dksX3_find_3 15 rfl rfl)
theorem dX3_find_84 : decode cX3_find 84 = .ok (.lstore_n 2, 1) := dk_65 (dk_at dksX3_find_3 16 rfl rfl)
theorem dX3_find_85 : decode cX3_find 85 = .ok (.iinc 5 1, 3) := dk_132 5 1 (dk_at dksX3_find_3 17 rfl rfl)
theorem dX3_find_88 : decode cX3_find 88 = .ok (.goto (-47), 3) := dk_167 255 209 (dk_at dksX3_find_3 20 rfl rfl)
theorem dX3_find_91 : decode cX3_find 91 = .ok (.iload 4, 2) := dk_21 4 (dk_at dksX3_find_4 0 rfl rfl)
theorem dX3_find_93 : decode cX3_find 93 = .ok (.ifCond .eq 11, 3) := dk_153 0 11 (dk_at dksX3_find_4 2 rfl rfl)
theorem dX3_find_96 : decode cX3_find 96 = .ok (.aload_n 0, 1) := dk_42 (dk_at dksX3_find_4 5 rfl rfl)
theorem dX3_find_97 : decode cX3_find 97 = .ok (.lload_n 2, 1) := dk_32 (dk_at dksX3_find_4 6 rfl rfl)
theorem dX3_find_98 : decode cX3_find 98 = .ok (.invokevirtual 154, 3) := dk_182 0 154 (dk_at dksX3_find_4 7 rfl rfl)
theorem dX3_find_101 : decode cX3_find 101 = .ok (.goto 4, 3) := dk_167 0 4 (dk_at dksX3_find_4 10 rfl rfl)
theorem dX3_find_104 : decode cX3_find 104 = .ok (.iconst (-1), 1) := dk_2 (dk_at dksX3_find_4 13 rfl rfl)
theorem dX3_find_105 : decode cX3_find 105 = .ok (.ireturn, 1) := dk_172 (dk_at dksX3_find_4 14 rfl rfl)
abbrev cX3_count : ByteArray := prog_26_method_57_code
def yX3_count : MethodName := ⟨RX3, "count", "(I)I"⟩
def dkwX3_count_3 : List UInt8 := [47, 136, 172, 42, 182, 0, 252, 172, 42, 182, 0, 255, 42, 180, 1, 2, 172]
abbrev dktX3_count_3 : List UInt8 := dkwX3_count_3 ++ []
def dkwX3_count_2 : List UInt8 := [42, 180, 0, 7, 16, 9, 47, 136, 172, 42, 180, 0, 7, 16, 20, 47, 136, 172, 42, 180, 0, 7, 16, 45]
abbrev dktX3_count_2 : List UInt8 := dkwX3_count_2 ++ dktX3_count_3
def dkwX3_count_1 : List UInt8 := [170, 0, 0, 0, 61, 0, 0, 0, 0, 0, 0, 0, 3, 0, 0, 0, 29, 0, 0, 0, 38, 0, 0, 0, 47, 0, 0, 0, 56]
abbrev dktX3_count_1 : List UInt8 := dkwX3_count_1 ++ dktX3_count_2
def dkwX3_count_0 : List UInt8 := [42, 27, 133, 9, 20, 0, 57, 184, 0, 144, 182, 0, 240, 154, 0, 5, 3, 172, 27]
abbrev dktX3_count_0 : List UInt8 := dkwX3_count_0 ++ dktX3_count_1
theorem dksX3_count_0 : cX3_count.data.toList.drop 0 = dktX3_count_0 := by decide +kernel
theorem dksX3_count_1 : cX3_count.data.toList.drop 19 = dktX3_count_1 := dk_seg dksX3_count_0 19 rfl rfl
theorem dksX3_count_2 : cX3_count.data.toList.drop 48 = dktX3_count_2 := dk_seg dksX3_count_1 29 rfl rfl
theorem dksX3_count_3 : cX3_count.data.toList.drop 72 = dktX3_count_3 := dk_seg dksX3_count_2 24 rfl rfl
theorem dX3_count_0 : decode cX3_count 0 = .ok (.aload_n 0, 1) := dk_42 (dk_at dksX3_count_0 0 rfl rfl)
theorem dX3_count_1 : decode cX3_count 1 = .ok (.iload_n 1, 1) := dk_27 (dk_at dksX3_count_0 1 rfl rfl)
theorem dX3_count_2 : decode cX3_count 2 = .ok (.i2l, 1) := dk_133 (dk_at dksX3_count_0 2 rfl rfl)
theorem dX3_count_3 : decode cX3_count 3 = .ok (.lconst 0, 1) := dk_9 (dk_at dksX3_count_0 3 rfl rfl)
theorem dX3_count_4 : decode cX3_count 4 = .ok (.ldc2_w 57, 3) := dk_20 0 57 (dk_at dksX3_count_0 4 rfl rfl)
theorem dX3_count_7 : decode cX3_count 7 = .ok (.invokestatic 144, 3) := dk_184 0 144 (dk_at dksX3_count_0 7 rfl rfl)
theorem dX3_count_10 : decode cX3_count 10 = .ok (.invokevirtual 240, 3) := dk_182 0 240 (dk_at dksX3_count_0 10 rfl rfl)
theorem dX3_count_13 : decode cX3_count 13 = .ok (.ifCond .ne 5, 3) := dk_154 0 5 (dk_at dksX3_count_0 13 rfl rfl)
theorem dX3_count_16 : decode cX3_count 16 = .ok (.iconst 0, 1) := dk_3 (dk_at dksX3_count_0 16 rfl rfl)
theorem dX3_count_17 : decode cX3_count 17 = .ok (.ireturn, 1) := dk_172 (dk_at dksX3_count_0 17 rfl rfl)
theorem dX3_count_18 : decode cX3_count 18 = .ok (.iload_n 1, 1) := dk_27 (dk_at dksX3_count_0 18 rfl rfl)
theorem dX3_count_19 : decode cX3_count 19 = .ok (.tableswitch 61 0 3 #[29, 38, 47, 56], 29) := by decide +kernel
theorem dX3_count_48 : decode cX3_count 48 = .ok (.aload_n 0, 1) := dk_42 (dk_at dksX3_count_2 0 rfl rfl)
theorem dX3_count_49 : decode cX3_count 49 = .ok (.getfield 7, 3) := dk_180 0 7 (dk_at dksX3_count_2 1 rfl rfl)
theorem dX3_count_52 : decode cX3_count 52 = .ok (.bipush 9, 2) := dk_16 9 (dk_at dksX3_count_2 4 rfl rfl)
theorem dX3_count_54 : decode cX3_count 54 = .ok (.laload, 1) := dk_47 (dk_at dksX3_count_2 6 rfl rfl)
theorem dX3_count_55 : decode cX3_count 55 = .ok (.l2i, 1) := dk_136 (dk_at dksX3_count_2 7 rfl rfl)
theorem dX3_count_56 : decode cX3_count 56 = .ok (.ireturn, 1) := dk_172 (dk_at dksX3_count_2 8 rfl rfl)
theorem dX3_count_57 : decode cX3_count 57 = .ok (.aload_n 0, 1) := dk_42 (dk_at dksX3_count_2 9 rfl rfl)
theorem dX3_count_58 : decode cX3_count 58 = .ok (.getfield 7, 3) := dk_180 0 7 (dk_at dksX3_count_2 10 rfl rfl)
theorem dX3_count_61 : decode cX3_count 61 = .ok (.bipush 20, 2) := dk_16 20 (dk_at dksX3_count_2 13 rfl rfl)
theorem dX3_count_63 : decode cX3_count 63 = .ok (.laload, 1) := dk_47 (dk_at dksX3_count_2 15 rfl rfl)
theorem dX3_count_64 : decode cX3_count 64 = .ok (.l2i, 1) := dk_136 (dk_at dksX3_count_2 16 rfl rfl)
theorem dX3_count_65 : decode cX3_count 65 = .ok (.ireturn, 1) := dk_172 (dk_at dksX3_count_2 17 rfl rfl)
theorem dX3_count_66 : decode cX3_count 66 = .ok (.aload_n 0, 1) := dk_42 (dk_at dksX3_count_2 18 rfl rfl)
theorem dX3_count_67 : decode cX3_count 67 = .ok (.getfield 7, 3) := dk_180 0 7 (dk_at dksX3_count_2 19 rfl rfl)
theorem dX3_count_70 : decode cX3_count 70 = .ok (.bipush 45, 2) := dk_16 45 (dk_at dksX3_count_2 22 rfl rfl)
theorem dX3_count_72 : decode cX3_count 72 = .ok (.laload, 1) := dk_47 (dk_at dksX3_count_3 0 rfl rfl)
theorem dX3_count_73 : decode cX3_count 73 = .ok (.l2i, 1) := dk_136 (dk_at dksX3_count_3 1 rfl rfl)
theorem dX3_count_74 : decode cX3_count 74 = .ok (.ireturn, 1) := dk_172 (dk_at dksX3_count_3 2 rfl rfl)
theorem dX3_count_75 : decode cX3_count 75 = .ok (.aload_n 0, 1) := dk_42 (dk_at dksX3_count_3 3 rfl rfl)
theorem dX3_count_76 : decode cX3_count 76 = .ok (.invokevirtual 252, 3) := dk_182 0 252 (dk_at dksX3_count_3 4 rfl rfl)
theorem dX3_count_79 : decode cX3_count 79 = .ok (.ireturn, 1) := dk_172 (dk_at dksX3_count_3 7 rfl rfl)
theorem dX3_count_80 : decode cX3_count 80 = .ok (.aload_n 0, 1) := dk_42 (dk_at dksX3_count_3 8 rfl rfl)
theorem dX3_count_81 : decode cX3_count 81 = .ok (.invokevirtual 255, 3) := dk_182 0 255 (dk_at dksX3_count_3 9 rfl rfl)
theorem dX3_count_84 : decode cX3_count 84 = .ok (.aload_n 0, 1) := dk_42 (dk_at dksX3_count_3 12 rfl rfl)
theorem dX3_count_85 : decode cX3_count 85 = .ok (.getfield 258, 3) := dk_180 1 2 (dk_at dksX3_count_3 13 rfl rfl)
theorem dX3_count_88 : decode cX3_count 88 = .ok (.ireturn, 1) := dk_172 (dk_at dksX3_count_3 16 rfl rfl)
abbrev cX3_segments : ByteArray := prog_26_method_52_code
def yX3_segments : MethodName := ⟨RX3, "segments", "()I"⟩
def dkwX3_segments_0 : List UInt8 := [42, 180, 0, 7, 16, 66, 47, 136, 172]
abbrev dktX3_segments_0 : List UInt8 := dkwX3_segments_0 ++ []
theorem dksX3_segments_0 : cX3_segments.data.toList.drop 0 = dktX3_segments_0 := by decide +kernel
theorem dX3_segments_0 : decode cX3_segments 0 = .ok (.aload_n 0, 1) := dk_42 (dk_at dksX3_segments_0 0 rfl rfl)
theorem dX3_segments_1 : decode cX3_segments 1 = .ok (.getfield 7, 3) := dk_180 0 7 (dk_at dksX3_segments_0 1 rfl rfl)
theorem dX3_segments_4 : decode cX3_segments 4 = .ok (.bipush 66, 2) := dk_16 66 (dk_at dksX3_segments_0 4 rfl rfl)
theorem dX3_segments_6 : decode cX3_segments 6 = .ok (.laload, 1) := dk_47 (dk_at dksX3_segments_0 6 rfl rfl)
theorem dX3_segments_7 : decode cX3_segments 7 = .ok (.l2i, 1) := dk_136 (dk_at dksX3_segments_0 7 rfl rfl)
theorem dX3_segments_8 : decode cX3_segments 8 = .ok (.ireturn, 1) := dk_172 (dk_at dksX3_segments_0 8 rfl rfl)
abbrev cX3_layFindings : ByteArray := prog_26_method_113_code
def yX3_layFindings : MethodName := ⟨RX3, "layFindings", "()V"⟩
def dkwX3_layFindings_1 : List UInt8 := [167, 255, 240, 177]
abbrev dktX3_layFindings_1 : List UInt8 := dkwX3_layFindings_1 ++ []
def dkwX3_layFindings_0 : List UInt8 := [42, 3, 181, 1, 2, 3, 60, 27, 42, 182, 0, 252, 162, 0, 14, 42, 27, 182, 1, 140, 132, 1, 1]
abbrev dktX3_layFindings_0 : List UInt8 := dkwX3_layFindings_0 ++ dktX3_layFindings_1
theorem dksX3_layFindings_0 : cX3_layFindings.data.toList.drop 0 = dktX3_layFindings_0 := by decide +kernel
theorem dksX3_layFindings_1 : cX3_layFindings.data.toList.drop 23 = dktX3_layFindings_1 := dk_seg dksX3_layFindings_0 23 rfl rfl
theorem dX3_layFindings_0 : decode cX3_layFindings 0 = .ok (.aload_n 0, 1) := dk_42 (dk_at dksX3_layFindings_0 0 rfl rfl)
theorem dX3_layFindings_1 : decode cX3_layFindings 1 = .ok (.iconst 0, 1) := dk_3 (dk_at dksX3_layFindings_0 1 rfl rfl)
theorem dX3_layFindings_2 : decode cX3_layFindings 2 = .ok (.putfield 258, 3) := dk_181 1 2 (dk_at dksX3_layFindings_0 2 rfl rfl)
theorem dX3_layFindings_5 : decode cX3_layFindings 5 = .ok (.iconst 0, 1) := dk_3 (dk_at dksX3_layFindings_0 5 rfl rfl)
theorem dX3_layFindings_6 : decode cX3_layFindings 6 = .ok (.istore_n 1, 1) := dk_60 (dk_at dksX3_layFindings_0 6 rfl rfl)
theorem dX3_layFindings_7 : decode cX3_layFindings 7 = .ok (.iload_n 1, 1) := dk_27 (dk_at dksX3_layFindings_0 7 rfl rfl)
theorem dX3_layFindings_8 : decode cX3_layFindings 8 = .ok (.aload_n 0, 1) := dk_42 (dk_at dksX3_layFindings_0 8 rfl rfl)
theorem dX3_layFindings_9 : decode cX3_layFindings 9 = .ok (.invokevirtual 252, 3) := dk_182 0 252 (dk_at dksX3_layFindings_0 9 rfl rfl)
theorem dX3_layFindings_12 : decode cX3_layFindings 12 = .ok (.if_icmp .ge 14, 3) := dk_162 0 14 (dk_at dksX3_layFindings_0 12 rfl rfl)
theorem dX3_layFindings_15 : decode cX3_layFindings 15 = .ok (.aload_n 0, 1) := dk_42 (dk_at dksX3_layFindings_0 15 rfl rfl)
theorem dX3_layFindings_16 : decode cX3_layFindings 16 = .ok (.iload_n 1, 1) := dk_27 (dk_at dksX3_layFindings_0 16 rfl rfl)
theorem dX3_layFindings_17 : decode cX3_layFindings 17 = .ok (.invokevirtual 396, 3) := dk_182 1 140 (dk_at dksX3_layFindings_0 17 rfl rfl)
theorem dX3_layFindings_20 : decode cX3_layFindings 20 = .ok (.iinc 1 1, 3) := dk_132 1 1 (dk_at dksX3_layFindings_0 20 rfl rfl)
theorem dX3_layFindings_23 : decode cX3_layFindings 23 = .ok (.goto (-16), 3) := dk_167 255 240 (dk_at dksX3_layFindings_1 0 rfl rfl)
theorem dX3_layFindings_26 : decode cX3_layFindings 26 = .ok (.return_, 1) := dk_177 (dk_at dksX3_layFindings_1 3 rfl rfl)
abbrev cX3_findsOf : ByteArray := prog_26_method_112_code
def yX3_findsOf : MethodName := ⟨RX3, "findsOf", "(I)V"⟩
def dkwX3_findsOf_5 : List UInt8 := [29, 182, 1, 136, 177]
abbrev dktX3_findsOf_5 : List UInt8 := dkwX3_findsOf_5 ++ []
def dkwX3_findsOf_4 : List UInt8 := [182, 1, 67, 7, 160, 0, 24, 42, 42, 29, 182, 1, 13, 6, 182, 1, 26, 28, 159, 0, 10, 42, 5, 27]
abbrev dktX3_findsOf_4 : List UInt8 := dkwX3_findsOf_4 ++ dktX3_findsOf_5
def dkwX3_findsOf_3 : List UInt8 := [154, 0, 10, 42, 4, 27, 29, 182, 1, 136, 132, 3, 1, 167, 255, 221, 42, 27, 182, 1, 61, 62, 42, 27]
abbrev dktX3_findsOf_3 : List UInt8 := dkwX3_findsOf_3 ++ dktX3_findsOf_4
def dkwX3_findsOf_2 : List UInt8 := [29, 27, 162, 0, 36, 42, 27, 29, 3, 182, 1, 73, 153, 0, 20, 42, 27, 29, 4, 182, 1, 73]
abbrev dktX3_findsOf_2 : List UInt8 := dkwX3_findsOf_2 ++ dktX3_findsOf_3
def dkwX3_findsOf_1 : List UInt8 := [27, 29, 28, 182, 1, 133, 153, 0, 10, 42, 3, 27, 29, 182, 1, 136, 132, 3, 1, 167, 255, 226, 3, 62]
abbrev dktX3_findsOf_1 : List UInt8 := dkwX3_findsOf_1 ++ dktX3_findsOf_2
def dkwX3_findsOf_0 : List UInt8 := [42, 42, 27, 182, 1, 13, 6, 182, 1, 26, 61, 3, 62, 29, 42, 27, 3, 182, 1, 16, 162, 0, 26, 42]
abbrev dktX3_findsOf_0 : List UInt8 := dkwX3_findsOf_0 ++ dktX3_findsOf_1
theorem dksX3_findsOf_0 : cX3_findsOf.data.toList.drop 0 = dktX3_findsOf_0 := by decide +kernel
theorem dksX3_findsOf_1 : cX3_findsOf.data.toList.drop 24 = dktX3_findsOf_1 := dk_seg dksX3_findsOf_0 24 rfl rfl
theorem dksX3_findsOf_2 : cX3_findsOf.data.toList.drop 48 = dktX3_findsOf_2 := dk_seg dksX3_findsOf_1 24 rfl rfl
theorem dksX3_findsOf_3 : cX3_findsOf.data.toList.drop 70 = dktX3_findsOf_3 := dk_seg dksX3_findsOf_2 22 rfl rfl
theorem dksX3_findsOf_4 : cX3_findsOf.data.toList.drop 94 = dktX3_findsOf_4 := dk_seg dksX3_findsOf_3 24 rfl rfl
theorem dksX3_findsOf_5 : cX3_findsOf.data.toList.drop 118 = dktX3_findsOf_5 := dk_seg dksX3_findsOf_4 24 rfl rfl
theorem dX3_findsOf_0 : decode cX3_findsOf 0 = .ok (.aload_n 0, 1) := dk_42 (dk_at dksX3_findsOf_0 0 rfl rfl)
theorem dX3_findsOf_1 : decode cX3_findsOf 1 = .ok (.aload_n 0, 1) := dk_42 (dk_at dksX3_findsOf_0 1 rfl rfl)
theorem dX3_findsOf_2 : decode cX3_findsOf 2 = .ok (.iload_n 1, 1) := dk_27 (dk_at dksX3_findsOf_0 2 rfl rfl)
theorem dX3_findsOf_3 : decode cX3_findsOf 3 = .ok (.invokevirtual 269, 3) := dk_182 1 13 (dk_at dksX3_findsOf_0 3 rfl rfl)
theorem dX3_findsOf_6 : decode cX3_findsOf 6 = .ok (.iconst 3, 1) := dk_6 (dk_at dksX3_findsOf_0 6 rfl rfl)
theorem dX3_findsOf_7 : decode cX3_findsOf 7 = .ok (.invokevirtual 282, 3) := dk_182 1 26 (dk_at dksX3_findsOf_0 7 rfl rfl)
theorem dX3_findsOf_10 : decode cX3_findsOf 10 = .ok (.istore_n 2, 1) := dk_61 (dk_at dksX3_findsOf_0 10 rfl rfl)
theorem dX3_findsOf_11 : decode cX3_findsOf 11 = .ok (.iconst 0, 1) := dk_3 (dk_at dksX3_findsOf_0 11 rfl rfl)
theorem dX3_findsOf_12 : decode cX3_findsOf 12 = .ok (.istore_n 3, 1) := dk_62 (dk_at dksX3_findsOf_0 12 rfl rfl)
theorem dX3_findsOf_13 : decode cX3_findsOf 13 = .ok (.iload_n 3, 1) := dk_29 (dk_at dksX3_findsOf_0 13 rfl rfl)
theorem dX3_findsOf_14 : decode cX3_findsOf 14 = .ok (.aload_n 0, 1) := dk_42 (dk_at dksX3_findsOf_0 14 rfl rfl)
theorem dX3_findsOf_15 : decode cX3_findsOf 15 = .ok (.iload_n 1, 1) := dk_27 (dk_at dksX3_findsOf_0 15 rfl rfl)
theorem dX3_findsOf_16 : decode cX3_findsOf 16 = .ok (.iconst 0, 1) := dk_3 (dk_at dksX3_findsOf_0 16 rfl rfl)
theorem dX3_findsOf_17 : decode cX3_findsOf 17 = .ok (.invokevirtual 272, 3) := dk_182 1 16 (dk_at dksX3_findsOf_0 17 rfl rfl)
theorem dX3_findsOf_20 : decode cX3_findsOf 20 = .ok (.if_icmp .ge 26, 3) := dk_162 0 26 (dk_at dksX3_findsOf_0 20 rfl rfl)
theorem dX3_findsOf_23 : decode cX3_findsOf 23 = .ok (.aload_n 0, 1) := dk_42 (dk_at dksX3_findsOf_0 23 rfl rfl)
theorem dX3_findsOf_24 : decode cX3_findsOf 24 = .ok (.iload_n 1, 1) := dk_27 (dk_at dksX3_findsOf_1 0 rfl rfl)
theorem dX3_findsOf_25 : decode cX3_findsOf 25 = .ok (.iload_n 3, 1) := dk_29 (dk_at dksX3_findsOf_1 1 rfl rfl)
theorem dX3_findsOf_26 : decode cX3_findsOf 26 = .ok (.iload_n 2, 1) := dk_28 (dk_at dksX3_findsOf_1 2 rfl rfl)
theorem dX3_findsOf_27 : decode cX3_findsOf 27 = .ok (.invokevirtual 389, 3) := dk_182 1 133 (dk_at dksX3_findsOf_1 3 rfl rfl)
theorem dX3_findsOf_30 : decode cX3_findsOf 30 = .ok (.ifCond .eq 10, 3) := dk_153 0 10 (dk_at dksX3_findsOf_1 6 rfl rfl)
theorem dX3_findsOf_33 : decode cX3_findsOf 33 = .ok (.aload_n 0, 1) := dk_42 (dk_at dksX3_findsOf_1 9 rfl rfl)
theorem dX3_findsOf_34 : decode cX3_findsOf 34 = .ok (.iconst 0, 1) := dk_3 (dk_at dksX3_findsOf_1 10 rfl rfl)
theorem dX3_findsOf_35 : decode cX3_findsOf 35 = .ok (.iload_n 1, 1) := dk_27 (dk_at dksX3_findsOf_1 11 rfl rfl)
theorem dX3_findsOf_36 : decode cX3_findsOf 36 = .ok (.iload_n 3, 1) := dk_29 (dk_at dksX3_findsOf_1 12 rfl rfl)
theorem dX3_findsOf_37 : decode cX3_findsOf 37 = .ok (.invokevirtual 392, 3) := dk_182 1 136 (dk_at dksX3_findsOf_1 13 rfl rfl)
theorem dX3_findsOf_40 : decode cX3_findsOf 40 = .ok (.iinc 3 1, 3) := dk_132 3 1 (dk_at dksX3_findsOf_1 16 rfl rfl)
theorem dX3_findsOf_43 : decode cX3_findsOf 43 = .ok (.goto (-30), 3) := dk_167 255 226 (dk_at dksX3_findsOf_1 19 rfl rfl)
theorem dX3_findsOf_46 : decode cX3_findsOf 46 = .ok (.iconst 0, 1) := dk_3 (dk_at dksX3_findsOf_1 22 rfl rfl)
theorem dX3_findsOf_47 : decode cX3_findsOf 47 = .ok (.istore_n 3, 1) := dk_62 (dk_at dksX3_findsOf_1 23 rfl rfl)
theorem dX3_findsOf_48 : decode cX3_findsOf 48 = .ok (.iload_n 3, 1) := dk_29 (dk_at dksX3_findsOf_2 0 rfl rfl)
theorem dX3_findsOf_49 : decode cX3_findsOf 49 = .ok (.iload_n 1, 1) := dk_27 (dk_at dksX3_findsOf_2 1 rfl rfl)
theorem dX3_findsOf_50 : decode cX3_findsOf 50 = .ok (.if_icmp .ge 36, 3) := dk_162 0 36 (dk_at dksX3_findsOf_2 2 rfl rfl)
theorem dX3_findsOf_53 : decode cX3_findsOf 53 = .ok (.aload_n 0, 1) := dk_42 (dk_at dksX3_findsOf_2 5 rfl rfl)
theorem dX3_findsOf_54 : decode cX3_findsOf 54 = .ok (.iload_n 1, 1) := dk_27 (dk_at dksX3_findsOf_2 6 rfl rfl)
theorem dX3_findsOf_55 : decode cX3_findsOf 55 = .ok (.iload_n 3, 1) := dk_29 (dk_at dksX3_findsOf_2 7 rfl rfl)
theorem dX3_findsOf_56 : decode cX3_findsOf 56 = .ok (.iconst 0, 1) := dk_3 (dk_at dksX3_findsOf_2 8 rfl rfl)
theorem dX3_findsOf_57 : decode cX3_findsOf 57 = .ok (.invokevirtual 329, 3) := dk_182 1 73 (dk_at dksX3_findsOf_2 9 rfl rfl)
theorem dX3_findsOf_60 : decode cX3_findsOf 60 = .ok (.ifCond .eq 20, 3) := dk_153 0 20 (dk_at dksX3_findsOf_2 12 rfl rfl)
theorem dX3_findsOf_63 : decode cX3_findsOf 63 = .ok (.aload_n 0, 1) := dk_42 (dk_at dksX3_findsOf_2 15 rfl rfl)
theorem dX3_findsOf_64 : decode cX3_findsOf 64 = .ok (.iload_n 1, 1) := dk_27 (dk_at dksX3_findsOf_2 16 rfl rfl)
theorem dX3_findsOf_65 : decode cX3_findsOf 65 = .ok (.iload_n 3, 1) := dk_29 (dk_at dksX3_findsOf_2 17 rfl rfl)
theorem dX3_findsOf_66 : decode cX3_findsOf 66 = .ok (.iconst 1, 1) := dk_4 (dk_at dksX3_findsOf_2 18 rfl rfl)
theorem dX3_findsOf_67 : decode cX3_findsOf 67 = .ok (.invokevirtual 329, 3) := dk_182 1 73 (dk_at dksX3_findsOf_2 19 rfl rfl)
theorem dX3_findsOf_70 : decode cX3_findsOf 70 = .ok (.ifCond .ne 10, 3) := dk_154 0 10 (dk_at dksX3_findsOf_3 0 rfl rfl)
theorem dX3_findsOf_73 : decode cX3_findsOf 73 = .ok (.aload_n 0, 1) := dk_42 (dk_at dksX3_findsOf_3 3 rfl rfl)
theorem dX3_findsOf_74 : decode cX3_findsOf 74 = .ok (.iconst 1, 1) := dk_4 (dk_at dksX3_findsOf_3 4 rfl rfl)
theorem dX3_findsOf_75 : decode cX3_findsOf 75 = .ok (.iload_n 1, 1) := dk_27 (dk_at dksX3_findsOf_3 5 rfl rfl)
theorem dX3_findsOf_76 : decode cX3_findsOf 76 = .ok (.iload_n 3, 1) := dk_29 (dk_at dksX3_findsOf_3 6 rfl rfl)
theorem dX3_findsOf_77 : decode cX3_findsOf 77 = .ok (.invokevirtual 392, 3) := dk_182 1 136 (dk_at dksX3_findsOf_3 7 rfl rfl)
theorem dX3_findsOf_80 : decode cX3_findsOf 80 = .ok (.iinc 3 1, 3) := dk_132 3 1 (dk_at dksX3_findsOf_3 10 rfl rfl)
theorem dX3_findsOf_83 : decode cX3_findsOf 83 = .ok (.goto (-35), 3) := dk_167 255 221 (dk_at dksX3_findsOf_3 13 rfl rfl)
theorem dX3_findsOf_86 : decode cX3_findsOf 86 = .ok (.aload_n 0, 1) := dk_42 (dk_at dksX3_findsOf_3 16 rfl rfl)
theorem dX3_findsOf_87 : decode cX3_findsOf 87 = .ok (.iload_n 1, 1) := dk_27 (dk_at dksX3_findsOf_3 17 rfl rfl)
theorem dX3_findsOf_88 : decode cX3_findsOf 88 = .ok (.invokevirtual 317, 3) := dk_182 1 61 (dk_at dksX3_findsOf_3 18 rfl rfl)
theorem dX3_findsOf_91 : decode cX3_findsOf 91 = .ok (.istore_n 3, 1) := dk_62 (dk_at dksX3_findsOf_3 21 rfl rfl)
theorem dX3_findsOf_92 : decode cX3_findsOf 92 = .ok (.aload_n 0, 1) := dk_42 (dk_at dksX3_findsOf_3 22 rfl rfl)
theorem dX3_findsOf_93 : decode cX3_findsOf 93 = .ok (.iload_n 1, 1) := dk_27 (dk_at dksX3_findsOf_3 23 rfl rfl)
theorem dX3_findsOf_94 : decode cX3_findsOf 94 = .ok (.invokevirtual 323, 3) := dk_182 1 67 (dk_at dksX3_findsOf_4 0 rfl rfl)
theorem dX3_findsOf_97 : decode cX3_findsOf 97 = .ok (.iconst 4, 1) := dk_7 (dk_at dksX3_findsOf_4 3 rfl rfl)
theorem dX3_findsOf_98 : decode cX3_findsOf 98 = .ok (.if_icmp .ne 24, 3) := dk_160 0 24 (dk_at dksX3_findsOf_4 4 rfl rfl)
theorem dX3_findsOf_101 : decode cX3_findsOf 101 = .ok (.aload_n 0, 1) := dk_42 (dk_at dksX3_findsOf_4 7 rfl rfl)
theorem dX3_findsOf_102 : decode cX3_findsOf 102 = .ok (.aload_n 0, 1) := dk_42 (dk_at dksX3_findsOf_4 8 rfl rfl)
theorem dX3_findsOf_103 : decode cX3_findsOf 103 = .ok (.iload_n 3, 1) := dk_29 (dk_at dksX3_findsOf_4 9 rfl rfl)
theorem dX3_findsOf_104 : decode cX3_findsOf 104 = .ok (.invokevirtual 269, 3) := dk_182 1 13 (dk_at dksX3_findsOf_4 10 rfl rfl)
theorem dX3_findsOf_107 : decode cX3_findsOf 107 = .ok (.iconst 3, 1) := dk_6 (dk_at dksX3_findsOf_4 13 rfl rfl)
theorem dX3_findsOf_108 : decode cX3_findsOf 108 = .ok (.invokevirtual 282, 3) := dk_182 1 26 (dk_at dksX3_findsOf_4 14 rfl rfl)
theorem dX3_findsOf_111 : decode cX3_findsOf 111 = .ok (.iload_n 2, 1) := dk_28 (dk_at dksX3_findsOf_4 17 rfl rfl)
theorem dX3_findsOf_112 : decode cX3_findsOf 112 = .ok (.if_icmp .eq 10, 3) := dk_159 0 10 (dk_at dksX3_findsOf_4 18 rfl rfl)
theorem dX3_findsOf_115 : decode cX3_findsOf 115 = .ok (.aload_n 0, 1) := dk_42 (dk_at dksX3_findsOf_4 21 rfl rfl)
theorem dX3_findsOf_116 : decode cX3_findsOf 116 = .ok (.iconst 2, 1) := dk_5 (dk_at dksX3_findsOf_4 22 rfl rfl)
theorem dX3_findsOf_117 : decode cX3_findsOf 117 = .ok (.iload_n 1, 1) := dk_27 (dk_at dksX3_findsOf_4 23 rfl rfl)
theorem dX3_findsOf_118 : decode cX3_findsOf 118 = .ok (.iload_n 3, 1) := dk_29 (dk_at dksX3_findsOf_5 0 rfl rfl)
theorem dX3_findsOf_119 : decode cX3_findsOf 119 = .ok (.invokevirtual 392, 3) := dk_182 1 136 (dk_at dksX3_findsOf_5 1 rfl rfl)
theorem dX3_findsOf_122 : decode cX3_findsOf 122 = .ok (.return_, 1) := dk_177 (dk_at dksX3_findsOf_5 4 rfl rfl)
abbrev cX3_jobNow : ByteArray := prog_26_method_54_code
def yX3_jobNow : MethodName := ⟨RX3, "jobNow", "(I)I"⟩
def dkwX3_jobNow_0 : List UInt8 := [42, 180, 0, 7, 16, 67, 16, 19, 27, 104, 96, 3, 96, 47, 136, 172]
abbrev dktX3_jobNow_0 : List UInt8 := dkwX3_jobNow_0 ++ []
theorem dksX3_jobNow_0 : cX3_jobNow.data.toList.drop 0 = dktX3_jobNow_0 := by decide +kernel
theorem dX3_jobNow_0 : decode cX3_jobNow 0 = .ok (.aload_n 0, 1) := dk_42 (dk_at dksX3_jobNow_0 0 rfl rfl)
theorem dX3_jobNow_1 : decode cX3_jobNow 1 = .ok (.getfield 7, 3) := dk_180 0 7 (dk_at dksX3_jobNow_0 1 rfl rfl)
theorem dX3_jobNow_4 : decode cX3_jobNow 4 = .ok (.bipush 67, 2) := dk_16 67 (dk_at dksX3_jobNow_0 4 rfl rfl)
theorem dX3_jobNow_6 : decode cX3_jobNow 6 = .ok (.bipush 19, 2) := dk_16 19 (dk_at dksX3_jobNow_0 6 rfl rfl)
theorem dX3_jobNow_8 : decode cX3_jobNow 8 = .ok (.iload_n 1, 1) := dk_27 (dk_at dksX3_jobNow_0 8 rfl rfl)
theorem dX3_jobNow_9 : decode cX3_jobNow 9 = .ok (.imul, 1) := dk_104 (dk_at dksX3_jobNow_0 9 rfl rfl)
theorem dX3_jobNow_10 : decode cX3_jobNow 10 = .ok (.iadd, 1) := dk_96 (dk_at dksX3_jobNow_0 10 rfl rfl)
theorem dX3_jobNow_11 : decode cX3_jobNow 11 = .ok (.iconst 0, 1) := dk_3 (dk_at dksX3_jobNow_0 11 rfl rfl)
theorem dX3_jobNow_12 : decode cX3_jobNow 12 = .ok (.iadd, 1) := dk_96 (dk_at dksX3_jobNow_0 12 rfl rfl)
theorem dX3_jobNow_13 : decode cX3_jobNow 13 = .ok (.laload, 1) := dk_47 (dk_at dksX3_jobNow_0 13 rfl rfl)
theorem dX3_jobNow_14 : decode cX3_jobNow 14 = .ok (.l2i, 1) := dk_136 (dk_at dksX3_jobNow_0 14 rfl rfl)
theorem dX3_jobNow_15 : decode cX3_jobNow 15 = .ok (.ireturn, 1) := dk_172 (dk_at dksX3_jobNow_0 15 rfl rfl)
abbrev cX3_ofJob : ByteArray := prog_26_method_53_code
def yX3_ofJob : MethodName := ⟨RX3, "ofJob", "(II)I"⟩
def dkwX3_ofJob_0 : List UInt8 := [42, 180, 0, 7, 16, 46, 7, 27, 104, 96, 28, 96, 47, 136, 172]
abbrev dktX3_ofJob_0 : List UInt8 := dkwX3_ofJob_0 ++ []
theorem dksX3_ofJob_0 : cX3_ofJob.data.toList.drop 0 = dktX3_ofJob_0 := by decide +kernel
theorem dX3_ofJob_0 : decode cX3_ofJob 0 = .ok (.aload_n 0, 1) := dk_42 (dk_at dksX3_ofJob_0 0 rfl rfl)
theorem dX3_ofJob_1 : decode cX3_ofJob 1 = .ok (.getfield 7, 3) := dk_180 0 7 (dk_at dksX3_ofJob_0 1 rfl rfl)
theorem dX3_ofJob_4 : decode cX3_ofJob 4 = .ok (.bipush 46, 2) := dk_16 46 (dk_at dksX3_ofJob_0 4 rfl rfl)
theorem dX3_ofJob_6 : decode cX3_ofJob 6 = .ok (.iconst 4, 1) := dk_7 (dk_at dksX3_ofJob_0 6 rfl rfl)
theorem dX3_ofJob_7 : decode cX3_ofJob 7 = .ok (.iload_n 1, 1) := dk_27 (dk_at dksX3_ofJob_0 7 rfl rfl)
theorem dX3_ofJob_8 : decode cX3_ofJob 8 = .ok (.imul, 1) := dk_104 (dk_at dksX3_ofJob_0 8 rfl rfl)
theorem dX3_ofJob_9 : decode cX3_ofJob 9 = .ok (.iadd, 1) := dk_96 (dk_at dksX3_ofJob_0 9 rfl rfl)
theorem dX3_ofJob_10 : decode cX3_ofJob 10 = .ok (.iload_n 2, 1) := dk_28 (dk_at dksX3_ofJob_0 10 rfl rfl)
theorem dX3_ofJob_11 : decode cX3_ofJob 11 = .ok (.iadd, 1) := dk_96 (dk_at dksX3_ofJob_0 11 rfl rfl)
theorem dX3_ofJob_12 : decode cX3_ofJob 12 = .ok (.laload, 1) := dk_47 (dk_at dksX3_ofJob_0 12 rfl rfl)
theorem dX3_ofJob_13 : decode cX3_ofJob 13 = .ok (.l2i, 1) := dk_136 (dk_at dksX3_ofJob_0 13 rfl rfl)
theorem dX3_ofJob_14 : decode cX3_ofJob 14 = .ok (.ireturn, 1) := dk_172 (dk_at dksX3_ofJob_0 14 rfl rfl)
abbrev cX3_wordsOf : ByteArray := prog_26_method_55_code
def yX3_wordsOf : MethodName := ⟨RX3, "wordsOf", "(IZ)I"⟩
def dkwX3_wordsOf_0 : List UInt8 := [42, 180, 0, 7, 16, 67, 16, 19, 27, 104, 96, 28, 153, 0, 7, 5, 167, 0, 4, 4, 96, 47, 136, 172]
abbrev dktX3_wordsOf_0 : List UInt8 := dkwX3_wordsOf_0 ++ []
theorem dksX3_wordsOf_0 : cX3_wordsOf.data.toList.drop 0 = dktX3_wordsOf_0 := by decide +kernel
theorem dX3_wordsOf_0 : decode cX3_wordsOf 0 = .ok (.aload_n 0, 1) := dk_42 (dk_at dksX3_wordsOf_0 0 rfl rfl)
theorem dX3_wordsOf_1 : decode cX3_wordsOf 1 = .ok (.getfield 7, 3) := dk_180 0 7 (dk_at dksX3_wordsOf_0 1 rfl rfl)
theorem dX3_wordsOf_4 : decode cX3_wordsOf 4 = .ok (.bipush 67, 2) := dk_16 67 (dk_at dksX3_wordsOf_0 4 rfl rfl)
theorem dX3_wordsOf_6 : decode cX3_wordsOf 6 = .ok (.bipush 19, 2) := dk_16 19 (dk_at dksX3_wordsOf_0 6 rfl rfl)
theorem dX3_wordsOf_8 : decode cX3_wordsOf 8 = .ok (.iload_n 1, 1) := dk_27 (dk_at dksX3_wordsOf_0 8 rfl rfl)
theorem dX3_wordsOf_9 : decode cX3_wordsOf 9 = .ok (.imul, 1) := dk_104 (dk_at dksX3_wordsOf_0 9 rfl rfl)
theorem dX3_wordsOf_10 : decode cX3_wordsOf 10 = .ok (.iadd, 1) := dk_96 (dk_at dksX3_wordsOf_0 10 rfl rfl)
theorem dX3_wordsOf_11 : decode cX3_wordsOf 11 = .ok (.iload_n 2, 1) := dk_28 (dk_at dksX3_wordsOf_0 11 rfl rfl)
theorem dX3_wordsOf_12 : decode cX3_wordsOf 12 = .ok (.ifCond .eq 7, 3) := dk_153 0 7 (dk_at dksX3_wordsOf_0 12 rfl rfl)
theorem dX3_wordsOf_15 : decode cX3_wordsOf 15 = .ok (.iconst 2, 1) := dk_5 (dk_at dksX3_wordsOf_0 15 rfl rfl)
theorem dX3_wordsOf_16 : decode cX3_wordsOf 16 = .ok (.goto 4, 3) := dk_167 0 4 (dk_at dksX3_wordsOf_0 16 rfl rfl)
theorem dX3_wordsOf_19 : decode cX3_wordsOf 19 = .ok (.iconst 1, 1) := dk_4 (dk_at dksX3_wordsOf_0 19 rfl rfl)
theorem dX3_wordsOf_20 : decode cX3_wordsOf 20 = .ok (.iadd, 1) := dk_96 (dk_at dksX3_wordsOf_0 20 rfl rfl)
theorem dX3_wordsOf_21 : decode cX3_wordsOf 21 = .ok (.laload, 1) := dk_47 (dk_at dksX3_wordsOf_0 21 rfl rfl)
theorem dX3_wordsOf_22 : decode cX3_wordsOf 22 = .ok (.l2i, 1) := dk_136 (dk_at dksX3_wordsOf_0 22 rfl rfl)
theorem dX3_wordsOf_23 : decode cX3_wordsOf 23 = .ok (.ireturn, 1) := dk_172 (dk_at dksX3_wordsOf_0 23 rfl rfl)
abbrev cX3_lacks : ByteArray := prog_26_method_111_code
def yX3_lacks : MethodName := ⟨RX3, "lacks", "(III)Z"⟩
def dkwX3_lacks_2 : List UInt8 := [167, 0, 4, 3, 172]
abbrev dktX3_lacks_2 : List UInt8 := dkwX3_lacks_2 ++ []
def dkwX3_lacks_1 : List UInt8 := [182, 1, 127, 153, 0, 22, 42, 27, 42, 21, 4, 4, 182, 1, 116, 182, 1, 130, 154, 0, 7, 4]
abbrev dktX3_lacks_1 : List UInt8 := dkwX3_lacks_1 ++ dktX3_lacks_2
def dkwX3_lacks_0 : List UInt8 := [42, 42, 27, 28, 3, 182, 1, 43, 29, 182, 1, 120, 54, 4, 21, 4, 2, 159, 0, 31, 42, 27, 28]
abbrev dktX3_lacks_0 : List UInt8 := dkwX3_lacks_0 ++ dktX3_lacks_1
theorem dksX3_lacks_0 : cX3_lacks.data.toList.drop 0 = dktX3_lacks_0 := by decide +kernel
theorem dksX3_lacks_1 : cX3_lacks.data.toList.drop 23 = dktX3_lacks_1 := dk_seg dksX3_lacks_0 23 rfl rfl
theorem dksX3_lacks_2 : cX3_lacks.data.toList.drop 45 = dktX3_lacks_2 := dk_seg dksX3_lacks_1 22 rfl rfl
theorem dX3_lacks_0 : decode cX3_lacks 0 = .ok (.aload_n 0, 1) := dk_42 (dk_at dksX3_lacks_0 0 rfl rfl)
theorem dX3_lacks_1 : decode cX3_lacks 1 = .ok (.aload_n 0, 1) := dk_42 (dk_at dksX3_lacks_0 1 rfl rfl)
theorem dX3_lacks_2 : decode cX3_lacks 2 = .ok (.iload_n 1, 1) := dk_27 (dk_at dksX3_lacks_0 2 rfl rfl)
theorem dX3_lacks_3 : decode cX3_lacks 3 = .ok (.iload_n 2, 1) := dk_28 (dk_at dksX3_lacks_0 3 rfl rfl)
theorem dX3_lacks_4 : decode cX3_lacks 4 = .ok (.iconst 0, 1) := dk_3 (dk_at dksX3_lacks_0 4 rfl rfl)
theorem dX3_lacks_5 : decode cX3_lacks 5 = .ok (.invokevirtual 299, 3) := dk_182 1 43 (dk_at dksX3_lacks_0 5 rfl rfl)
theorem dX3_lacks_8 : decode cX3_lacks 8 = .ok (.iload_n 3, 1) := dk_29 (dk_at dksX3_lacks_0 8 rfl rfl)
theorem dX3_lacks_9 : decode cX3_lacks 9 = .ok (.invokevirtual 376, 3) := dk_182 1 120 (dk_at dksX3_lacks_0 9 rfl rfl)
theorem dX3_lacks_12 : decode cX3_lacks 12 = .ok (.istore 4, 2) := dk_54 4 (dk_at dksX3_lacks_0 12 rfl rfl)
theorem dX3_lacks_14 : decode cX3_lacks 14 = .ok (.iload 4, 2) := dk_21 4 (dk_at dksX3_lacks_0 14 rfl rfl)
theorem dX3_lacks_16 : decode cX3_lacks 16 = .ok (.iconst (-1), 1) := dk_2 (dk_at dksX3_lacks_0 16 rfl rfl)
theorem dX3_lacks_17 : decode cX3_lacks 17 = .ok (.if_icmp .eq 31, 3) := dk_159 0 31 (dk_at dksX3_lacks_0 17 rfl rfl)
theorem dX3_lacks_20 : decode cX3_lacks 20 = .ok (.aload_n 0, 1) := dk_42 (dk_at dksX3_lacks_0 20 rfl rfl)
theorem dX3_lacks_21 : decode cX3_lacks 21 = .ok (.iload_n 1, 1) := dk_27 (dk_at dksX3_lacks_0 21 rfl rfl)
theorem dX3_lacks_22 : decode cX3_lacks 22 = .ok (.iload_n 2, 1) := dk_28 (dk_at dksX3_lacks_0 22 rfl rfl)
theorem dX3_lacks_23 : decode cX3_lacks 23 = .ok (.invokevirtual 383, 3) := dk_182 1 127 (dk_at dksX3_lacks_1 0 rfl rfl)
theorem dX3_lacks_26 : decode cX3_lacks 26 = .ok (.ifCond .eq 22, 3) := dk_153 0 22 (dk_at dksX3_lacks_1 3 rfl rfl)
theorem dX3_lacks_29 : decode cX3_lacks 29 = .ok (.aload_n 0, 1) := dk_42 (dk_at dksX3_lacks_1 6 rfl rfl)
theorem dX3_lacks_30 : decode cX3_lacks 30 = .ok (.iload_n 1, 1) := dk_27 (dk_at dksX3_lacks_1 7 rfl rfl)
theorem dX3_lacks_31 : decode cX3_lacks 31 = .ok (.aload_n 0, 1) := dk_42 (dk_at dksX3_lacks_1 8 rfl rfl)
theorem dX3_lacks_32 : decode cX3_lacks 32 = .ok (.iload 4, 2) := dk_21 4 (dk_at dksX3_lacks_1 9 rfl rfl)
theorem dX3_lacks_34 : decode cX3_lacks 34 = .ok (.iconst 1, 1) := dk_4 (dk_at dksX3_lacks_1 11 rfl rfl)
theorem dX3_lacks_35 : decode cX3_lacks 35 = .ok (.invokevirtual 372, 3) := dk_182 1 116 (dk_at dksX3_lacks_1 12 rfl rfl)
theorem dX3_lacks_38 : decode cX3_lacks 38 = .ok (.invokevirtual 386, 3) := dk_182 1 130 (dk_at dksX3_lacks_1 15 rfl rfl)
theorem dX3_lacks_41 : decode cX3_lacks 41 = .ok (.ifCond .ne 7, 3) := dk_154 0 7 (dk_at dksX3_lacks_1 18 rfl rfl)
theorem dX3_lacks_44 : decode cX3_lacks 44 = .ok (.iconst 1, 1) := dk_4 (dk_at dksX3_lacks_1 21 rfl rfl)
theorem dX3_lacks_45 : decode cX3_lacks 45 = .ok (.goto 4, 3) := dk_167 0 4 (dk_at dksX3_lacks_2 0 rfl rfl)
theorem dX3_lacks_48 : decode cX3_lacks 48 = .ok (.iconst 0, 1) := dk_3 (dk_at dksX3_lacks_2 3 rfl rfl)
theorem dX3_lacks_49 : decode cX3_lacks 49 = .ok (.ireturn, 1) := dk_172 (dk_at dksX3_lacks_2 4 rfl rfl)
abbrev cX3_wordAt : ByteArray := prog_26_method_56_code
def yX3_wordAt : MethodName := ⟨RX3, "wordAt", "(IIZ)J"⟩
def dkwX3_wordAt_1 : List UInt8 := [28, 96, 47, 173]
abbrev dktX3_wordAt_1 : List UInt8 := dkwX3_wordAt_1 ++ []
def dkwX3_wordAt_0 : List UInt8 := [42, 180, 0, 7, 16, 67, 16, 19, 27, 104, 96, 6, 96, 29, 153, 0, 8, 16, 8, 167, 0, 4, 3, 96]
abbrev dktX3_wordAt_0 : List UInt8 := dkwX3_wordAt_0 ++ dktX3_wordAt_1
theorem dksX3_wordAt_0 : cX3_wordAt.data.toList.drop 0 = dktX3_wordAt_0 := by decide +kernel
theorem dksX3_wordAt_1 : cX3_wordAt.data.toList.drop 24 = dktX3_wordAt_1 := dk_seg dksX3_wordAt_0 24 rfl rfl
theorem dX3_wordAt_0 : decode cX3_wordAt 0 = .ok (.aload_n 0, 1) := dk_42 (dk_at dksX3_wordAt_0 0 rfl rfl)
theorem dX3_wordAt_1 : decode cX3_wordAt 1 = .ok (.getfield 7, 3) := dk_180 0 7 (dk_at dksX3_wordAt_0 1 rfl rfl)
theorem dX3_wordAt_4 : decode cX3_wordAt 4 = .ok (.bipush 67, 2) := dk_16 67 (dk_at dksX3_wordAt_0 4 rfl rfl)
theorem dX3_wordAt_6 : decode cX3_wordAt 6 = .ok (.bipush 19, 2) := dk_16 19 (dk_at dksX3_wordAt_0 6 rfl rfl)
theorem dX3_wordAt_8 : decode cX3_wordAt 8 = .ok (.iload_n 1, 1) := dk_27 (dk_at dksX3_wordAt_0 8 rfl rfl)
theorem dX3_wordAt_9 : decode cX3_wordAt 9 = .ok (.imul, 1) := dk_104 (dk_at dksX3_wordAt_0 9 rfl rfl)
theorem dX3_wordAt_10 : decode cX3_wordAt 10 = .ok (.iadd, 1) := dk_96 (dk_at dksX3_wordAt_0 10 rfl rfl)
theorem dX3_wordAt_11 : decode cX3_wordAt 11 = .ok (.iconst 3, 1) := dk_6 (dk_at dksX3_wordAt_0 11 rfl rfl)
theorem dX3_wordAt_12 : decode cX3_wordAt 12 = .ok (.iadd, 1) := dk_96 (dk_at dksX3_wordAt_0 12 rfl rfl)
theorem dX3_wordAt_13 : decode cX3_wordAt 13 = .ok (.iload_n 3, 1) := dk_29 (dk_at dksX3_wordAt_0 13 rfl rfl)
theorem dX3_wordAt_14 : decode cX3_wordAt 14 = .ok (.ifCond .eq 8, 3) := dk_153 0 8 (dk_at dksX3_wordAt_0 14 rfl rfl)
theorem dX3_wordAt_17 : decode cX3_wordAt 17 = .ok (.bipush 8, 2) := dk_16 8 (dk_at dksX3_wordAt_0 17 rfl rfl)
theorem dX3_wordAt_19 : decode cX3_wordAt 19 = .ok (.goto 4, 3) := dk_167 0 4 (dk_at dksX3_wordAt_0 19 rfl rfl)
theorem dX3_wordAt_22 : decode cX3_wordAt 22 = .ok (.iconst 0, 1) := dk_3 (dk_at dksX3_wordAt_0 22 rfl rfl)
theorem dX3_wordAt_23 : decode cX3_wordAt 23 = .ok (.iadd, 1) := dk_96 (dk_at dksX3_wordAt_0 23 rfl rfl)
theorem dX3_wordAt_24 : decode cX3_wordAt 24 = .ok (.iload_n 2, 1) := dk_28 (dk_at dksX3_wordAt_1 0 rfl rfl)
theorem dX3_wordAt_25 : decode cX3_wordAt 25 = .ok (.iadd, 1) := dk_96 (dk_at dksX3_wordAt_1 1 rfl rfl)
theorem dX3_wordAt_26 : decode cX3_wordAt 26 = .ok (.laload, 1) := dk_47 (dk_at dksX3_wordAt_1 2 rfl rfl)
theorem dX3_wordAt_27 : decode cX3_wordAt 27 = .ok (.lreturn, 1) := dk_173 (dk_at dksX3_wordAt_1 3 rfl rfl)
abbrev cX3_ruleBy : ByteArray := prog_26_method_104_code
def yX3_ruleBy : MethodName := ⟨RX3, "ruleBy", "(JI)I"⟩
def dkwX3_ruleBy_1 : List UInt8 := [21, 5, 54, 4, 132, 5, 1, 167, 255, 231, 21, 4, 172]
abbrev dktX3_ruleBy_1 : List UInt8 := dkwX3_ruleBy_1 ++ []
def dkwX3_ruleBy_0 : List UInt8 := [2, 54, 4, 3, 54, 5, 21, 5, 29, 162, 0, 25, 42, 21, 5, 3, 182, 1, 116, 31, 148, 154, 0, 7]
abbrev dktX3_ruleBy_0 : List UInt8 := dkwX3_ruleBy_0 ++ dktX3_ruleBy_1
theorem dksX3_ruleBy_0 : cX3_ruleBy.data.toList.drop 0 = dktX3_ruleBy_0 := by decide +kernel
theorem dksX3_ruleBy_1 : cX3_ruleBy.data.toList.drop 24 = dktX3_ruleBy_1 := dk_seg dksX3_ruleBy_0 24 rfl rfl
theorem dX3_ruleBy_0 : decode cX3_ruleBy 0 = .ok (.iconst (-1), 1) := dk_2 (dk_at dksX3_ruleBy_0 0 rfl rfl)
theorem dX3_ruleBy_1 : decode cX3_ruleBy 1 = .ok (.istore 4, 2) := dk_54 4 (dk_at dksX3_ruleBy_0 1 rfl rfl)
theorem dX3_ruleBy_3 : decode cX3_ruleBy 3 = .ok (.iconst 0, 1) := dk_3 (dk_at dksX3_ruleBy_0 3 rfl rfl)
theorem dX3_ruleBy_4 : decode cX3_ruleBy 4 = .ok (.istore 5, 2) := dk_54 5 (dk_at dksX3_ruleBy_0 4 rfl rfl)
theorem dX3_ruleBy_6 : decode cX3_ruleBy 6 = .ok (.iload 5, 2) := dk_21 5 (dk_at dksX3_ruleBy_0 6 rfl rfl)
theorem dX3_ruleBy_8 : decode cX3_ruleBy 8 = .ok (.iload_n 3, 1) := dk_29 (dk_at dksX3_ruleBy_0 8 rfl rfl)
theorem dX3_ruleBy_9 : decode cX3_ruleBy 9 = .ok (.if_icmp .ge 25, 3) := dk_162 0 25 (dk_at dksX3_ruleBy_0 9 rfl rfl)
theorem dX3_ruleBy_12 : decode cX3_ruleBy 12 = .ok (.aload_n 0, 1) := dk_42 (dk_at dksX3_ruleBy_0 12 rfl rfl)
theorem dX3_ruleBy_13 : decode cX3_ruleBy 13 = .ok (.iload 5, 2) := dk_21 5 (dk_at dksX3_ruleBy_0 13 rfl rfl)
theorem dX3_ruleBy_15 : decode cX3_ruleBy 15 = .ok (.iconst 0, 1) := dk_3 (dk_at dksX3_ruleBy_0 15 rfl rfl)
theorem dX3_ruleBy_16 : decode cX3_ruleBy 16 = .ok (.invokevirtual 372, 3) := dk_182 1 116 (dk_at dksX3_ruleBy_0 16 rfl rfl)
theorem dX3_ruleBy_19 : decode cX3_ruleBy 19 = .ok (.lload_n 1, 1) := dk_31 (dk_at dksX3_ruleBy_0 19 rfl rfl)
theorem dX3_ruleBy_20 : decode cX3_ruleBy 20 = .ok (.lcmp, 1) := dk_148 (dk_at dksX3_ruleBy_0 20 rfl rfl)
theorem dX3_ruleBy_21 : decode cX3_ruleBy 21 = .ok (.ifCond .ne 7, 3) := dk_154 0 7 (dk_at dksX3_ruleBy_0 21 rfl rfl)
theorem dX3_ruleBy_24 : decode cX3_ruleBy 24 = .ok (.iload 5, 2) := dk_21 5 (dk_at dksX3_ruleBy_1 0 rfl rfl)
theorem dX3_ruleBy_26 : decode cX3_ruleBy 26 = .ok (.istore 4, 2) := dk_54 4 (dk_at dksX3_ruleBy_1 2 rfl rfl)
theorem dX3_ruleBy_28 : decode cX3_ruleBy 28 = .ok (.iinc 5 1, 3) := dk_132 5 1 (dk_at dksX3_ruleBy_1 4 rfl rfl)
theorem dX3_ruleBy_31 : decode cX3_ruleBy 31 = .ok (.goto (-25), 3) := dk_167 255 231 (dk_at dksX3_ruleBy_1 7 rfl rfl)
theorem dX3_ruleBy_34 : decode cX3_ruleBy 34 = .ok (.iload 4, 2) := dk_21 4 (dk_at dksX3_ruleBy_1 10 rfl rfl)
theorem dX3_ruleBy_36 : decode cX3_ruleBy 36 = .ok (.ireturn, 1) := dk_172 (dk_at dksX3_ruleBy_1 12 rfl rfl)
abbrev cX3_termWord : ByteArray := prog_26_method_102_code
def yX3_termWord : MethodName := ⟨RX3, "termWord", "(IZ)J"⟩
def dkwX3_termWord_0 : List UInt8 := [42, 180, 0, 7, 16, 21, 5, 27, 104, 96, 28, 153, 0, 7, 4, 167, 0, 4, 3, 96, 47, 173]
abbrev dktX3_termWord_0 : List UInt8 := dkwX3_termWord_0 ++ []
theorem dksX3_termWord_0 : cX3_termWord.data.toList.drop 0 = dktX3_termWord_0 := by decide +kernel
theorem dX3_termWord_0 : decode cX3_termWord 0 = .ok (.aload_n 0, 1) := dk_42 (dk_at dksX3_termWord_0 0 rfl rfl)
theorem dX3_termWord_1 : decode cX3_termWord 1 = .ok (.getfield 7, 3) := dk_180 0 7 (dk_at dksX3_termWord_0 1 rfl rfl)
theorem dX3_termWord_4 : decode cX3_termWord 4 = .ok (.bipush 21, 2) := dk_16 21 (dk_at dksX3_termWord_0 4 rfl rfl)
theorem dX3_termWord_6 : decode cX3_termWord 6 = .ok (.iconst 2, 1) := dk_5 (dk_at dksX3_termWord_0 6 rfl rfl)
theorem dX3_termWord_7 : decode cX3_termWord 7 = .ok (.iload_n 1, 1) := dk_27 (dk_at dksX3_termWord_0 7 rfl rfl)
theorem dX3_termWord_8 : decode cX3_termWord 8 = .ok (.imul, 1) := dk_104 (dk_at dksX3_termWord_0 8 rfl rfl)
theorem dX3_termWord_9 : decode cX3_termWord 9 = .ok (.iadd, 1) := dk_96 (dk_at dksX3_termWord_0 9 rfl rfl)
theorem dX3_termWord_10 : decode cX3_termWord 10 = .ok (.iload_n 2, 1) := dk_28 (dk_at dksX3_termWord_0 10 rfl rfl)
theorem dX3_termWord_11 : decode cX3_termWord 11 = .ok (.ifCond .eq 7, 3) := dk_153 0 7 (dk_at dksX3_termWord_0 11 rfl rfl)
theorem dX3_termWord_14 : decode cX3_termWord 14 = .ok (.iconst 1, 1) := dk_4 (dk_at dksX3_termWord_0 14 rfl rfl)
theorem dX3_termWord_15 : decode cX3_termWord 15 = .ok (.goto 4, 3) := dk_167 0 4 (dk_at dksX3_termWord_0 15 rfl rfl)
theorem dX3_termWord_18 : decode cX3_termWord 18 = .ok (.iconst 0, 1) := dk_3 (dk_at dksX3_termWord_0 18 rfl rfl)
theorem dX3_termWord_19 : decode cX3_termWord 19 = .ok (.iadd, 1) := dk_96 (dk_at dksX3_termWord_0 19 rfl rfl)
theorem dX3_termWord_20 : decode cX3_termWord 20 = .ok (.laload, 1) := dk_47 (dk_at dksX3_termWord_0 20 rfl rfl)
theorem dX3_termWord_21 : decode cX3_termWord 21 = .ok (.lreturn, 1) := dk_173 (dk_at dksX3_termWord_0 21 rfl rfl)
abbrev cX3_isFirstPlace : ByteArray := prog_26_method_109_code
def yX3_isFirstPlace : MethodName := ⟨RX3, "isFirstPlace", "(II)Z"⟩
def dkwX3_isFirstPlace_1 : List UInt8 := [154, 0, 5, 3, 172, 132, 3, 1, 167, 255, 228, 4, 172]
abbrev dktX3_isFirstPlace_1 : List UInt8 := dkwX3_isFirstPlace_1 ++ []
def dkwX3_isFirstPlace_0 : List UInt8 := [3, 62, 29, 28, 162, 0, 29, 42, 27, 29, 3, 182, 1, 43, 42, 27, 28, 3, 182, 1, 43, 148]
abbrev dktX3_isFirstPlace_0 : List UInt8 := dkwX3_isFirstPlace_0 ++ dktX3_isFirstPlace_1
theorem dksX3_isFirstPlace_0 : cX3_isFirstPlace.data.toList.drop 0 = dktX3_isFirstPlace_0 := by decide +kernel
theorem dksX3_isFirstPlace_1 : cX3_isFirstPlace.data.toList.drop 22 = dktX3_isFirstPlace_1 := dk_seg dksX3_isFirstPlace_0 22 rfl rfl
theorem dX3_isFirstPlace_0 : decode cX3_isFirstPlace 0 = .ok (.iconst 0, 1) := dk_3 (dk_at dksX3_isFirstPlace_0 0 rfl rfl)
theorem dX3_isFirstPlace_1 : decode cX3_isFirstPlace 1 = .ok (.istore_n 3, 1) := dk_62 (dk_at dksX3_isFirstPlace_0 1 rfl rfl)
theorem dX3_isFirstPlace_2 : decode cX3_isFirstPlace 2 = .ok (.iload_n 3, 1) := dk_29 (dk_at dksX3_isFirstPlace_0 2 rfl rfl)
theorem dX3_isFirstPlace_3 : decode cX3_isFirstPlace 3 = .ok (.iload_n 2, 1) := dk_28 (dk_at dksX3_isFirstPlace_0 3 rfl rfl)
theorem dX3_isFirstPlace_4 : decode cX3_isFirstPlace 4 = .ok (.if_icmp .ge 29, 3) := dk_162 0 29 (dk_at dksX3_isFirstPlace_0 4 rfl rfl)
theorem dX3_isFirstPlace_7 : decode cX3_isFirstPlace 7 = .ok (.aload_n 0, 1) := dk_42 (dk_at dksX3_isFirstPlace_0 7 rfl rfl)
theorem dX3_isFirstPlace_8 : decode cX3_isFirstPlace 8 = .ok (.iload_n 1, 1) := dk_27 (dk_at dksX3_isFirstPlace_0 8 rfl rfl)
theorem dX3_isFirstPlace_9 : decode cX3_isFirstPlace 9 = .ok (.iload_n 3, 1) := dk_29 (dk_at dksX3_isFirstPlace_0 9 rfl rfl)
theorem dX3_isFirstPlace_10 : decode cX3_isFirstPlace 10 = .ok (.iconst 0, 1) := dk_3 (dk_at dksX3_isFirstPlace_0 10 rfl rfl)
theorem dX3_isFirstPlace_11 : decode cX3_isFirstPlace 11 = .ok (.invokevirtual 299, 3) := dk_182 1 43 (dk_at dksX3_isFirstPlace_0 11 rfl rfl)
theorem dX3_isFirstPlace_14 : decode cX3_isFirstPlace 14 = .ok (.aload_n 0, 1) := dk_42 (dk_at dksX3_isFirstPlace_0 14 rfl rfl)
theorem dX3_isFirstPlace_15 : decode cX3_isFirstPlace 15 = .ok (.iload_n 1, 1) := dk_27 (dk_at dksX3_isFirstPlace_0 15 rfl rfl)
theorem dX3_isFirstPlace_16 : decode cX3_isFirstPlace 16 = .ok (.iload_n 2, 1) := dk_28 (dk_at dksX3_isFirstPlace_0 16 rfl rfl)
theorem dX3_isFirstPlace_17 : decode cX3_isFirstPlace 17 = .ok (.iconst 0, 1) := dk_3 (dk_at dksX3_isFirstPlace_0 17 rfl rfl)
theorem dX3_isFirstPlace_18 : decode cX3_isFirstPlace 18 = .ok (.invokevirtual 299, 3) := dk_182 1 43 (dk_at dksX3_isFirstPlace_0 18 rfl rfl)
theorem dX3_isFirstPlace_21 : decode cX3_isFirstPlace 21 = .ok (.lcmp, 1) := dk_148 (dk_at dksX3_isFirstPlace_0 21 rfl rfl)
theorem dX3_isFirstPlace_22 : decode cX3_isFirstPlace 22 = .ok (.ifCond .ne 5, 3) := dk_154 0 5 (dk_at dksX3_isFirstPlace_1 0 rfl rfl)
theorem dX3_isFirstPlace_25 : decode cX3_isFirstPlace 25 = .ok (.iconst 0, 1) := dk_3 (dk_at dksX3_isFirstPlace_1 3 rfl rfl)
theorem dX3_isFirstPlace_26 : decode cX3_isFirstPlace 26 = .ok (.ireturn, 1) := dk_172 (dk_at dksX3_isFirstPlace_1 4 rfl rfl)
theorem dX3_isFirstPlace_27 : decode cX3_isFirstPlace 27 = .ok (.iinc 3 1, 3) := dk_132 3 1 (dk_at dksX3_isFirstPlace_1 5 rfl rfl)
theorem dX3_isFirstPlace_30 : decode cX3_isFirstPlace 30 = .ok (.goto (-28), 3) := dk_167 255 228 (dk_at dksX3_isFirstPlace_1 8 rfl rfl)
theorem dX3_isFirstPlace_33 : decode cX3_isFirstPlace 33 = .ok (.iconst 1, 1) := dk_4 (dk_at dksX3_isFirstPlace_1 11 rfl rfl)
theorem dX3_isFirstPlace_34 : decode cX3_isFirstPlace 34 = .ok (.ireturn, 1) := dk_172 (dk_at dksX3_isFirstPlace_1 12 rfl rfl)
abbrev cX3_isInTarget : ByteArray := prog_26_method_110_code
def yX3_isInTarget : MethodName := ⟨RX3, "isInTarget", "(IJ)Z"⟩
def dkwX3_isInTarget_1 : List UInt8 := [154, 0, 5, 4, 172, 132, 4, 1, 167, 255, 227, 3, 172]
abbrev dktX3_isInTarget_1 : List UInt8 := dkwX3_isInTarget_1 ++ []
def dkwX3_isInTarget_0 : List UInt8 := [3, 54, 4, 21, 4, 42, 27, 4, 182, 1, 16, 162, 0, 24, 42, 27, 21, 4, 4, 182, 1, 43, 32, 148]
abbrev dktX3_isInTarget_0 : List UInt8 := dkwX3_isInTarget_0 ++ dktX3_isInTarget_1
theorem dksX3_isInTarget_0 : cX3_isInTarget.data.toList.drop 0 = dktX3_isInTarget_0 := by decide +kernel
theorem dksX3_isInTarget_1 : cX3_isInTarget.data.toList.drop 24 = dktX3_isInTarget_1 := dk_seg dksX3_isInTarget_0 24 rfl rfl
theorem dX3_isInTarget_0 : decode cX3_isInTarget 0 = .ok (.iconst 0, 1) := dk_3 (dk_at dksX3_isInTarget_0 0 rfl rfl)
theorem dX3_isInTarget_1 : decode cX3_isInTarget 1 = .ok (.istore 4, 2) := dk_54 4 (dk_at dksX3_isInTarget_0 1 rfl rfl)
theorem dX3_isInTarget_3 : decode cX3_isInTarget 3 = .ok (.iload 4, 2) := dk_21 4 (dk_at dksX3_isInTarget_0 3 rfl rfl)
theorem dX3_isInTarget_5 : decode cX3_isInTarget 5 = .ok (.aload_n 0, 1) := dk_42 (dk_at dksX3_isInTarget_0 5 rfl rfl)
theorem dX3_isInTarget_6 : decode cX3_isInTarget 6 = .ok (.iload_n 1, 1) := dk_27 (dk_at dksX3_isInTarget_0 6 rfl rfl)
theorem dX3_isInTarget_7 : decode cX3_isInTarget 7 = .ok (.iconst 1, 1) := dk_4 (dk_at dksX3_isInTarget_0 7 rfl rfl)
theorem dX3_isInTarget_8 : decode cX3_isInTarget 8 = .ok (.invokevirtual 272, 3) := dk_182 1 16 (dk_at dksX3_isInTarget_0 8 rfl rfl)
theorem dX3_isInTarget_11 : decode cX3_isInTarget 11 = .ok (.if_icmp .ge 24, 3) := dk_162 0 24 (dk_at dksX3_isInTarget_0 11 rfl rfl)
theorem dX3_isInTarget_14 : decode cX3_isInTarget 14 = .ok (.aload_n 0, 1) := dk_42 (dk_at dksX3_isInTarget_0 14 rfl rfl)
theorem dX3_isInTarget_15 : decode cX3_isInTarget 15 = .ok (.iload_n 1, 1) := dk_27 (dk_at dksX3_isInTarget_0 15 rfl rfl)
theorem dX3_isInTarget_16 : decode cX3_isInTarget 16 = .ok (.iload 4, 2) := dk_21 4 (dk_at dksX3_isInTarget_0 16 rfl rfl)
theorem dX3_isInTarget_18 : decode cX3_isInTarget 18 = .ok (.iconst 1, 1) := dk_4 (dk_at dksX3_isInTarget_0 18 rfl rfl)
theorem dX3_isInTarget_19 : decode cX3_isInTarget 19 = .ok (.invokevirtual 299, 3) := dk_182 1 43 (dk_at dksX3_isInTarget_0 19 rfl rfl)
theorem dX3_isInTarget_22 : decode cX3_isInTarget 22 = .ok (.lload_n 2, 1) := dk_32 (dk_at dksX3_isInTarget_0 22 rfl rfl)
theorem dX3_isInTarget_23 : decode cX3_isInTarget 23 = .ok (.lcmp, 1) := dk_148 (dk_at dksX3_isInTarget_0 23 rfl rfl)
theorem dX3_isInTarget_24 : decode cX3_isInTarget 24 = .ok (.ifCond .ne 5, 3) := dk_154 0 5 (dk_at dksX3_isInTarget_1 0 rfl rfl)
theorem dX3_isInTarget_27 : decode cX3_isInTarget 27 = .ok (.iconst 1, 1) := dk_4 (dk_at dksX3_isInTarget_1 3 rfl rfl)
theorem dX3_isInTarget_28 : decode cX3_isInTarget 28 = .ok (.ireturn, 1) := dk_172 (dk_at dksX3_isInTarget_1 4 rfl rfl)
theorem dX3_isInTarget_29 : decode cX3_isInTarget 29 = .ok (.iinc 4 1, 3) := dk_132 4 1 (dk_at dksX3_isInTarget_1 5 rfl rfl)
theorem dX3_isInTarget_32 : decode cX3_isInTarget 32 = .ok (.goto (-29), 3) := dk_167 255 227 (dk_at dksX3_isInTarget_1 8 rfl rfl)
theorem dX3_isInTarget_35 : decode cX3_isInTarget 35 = .ok (.iconst 0, 1) := dk_3 (dk_at dksX3_isInTarget_1 11 rfl rfl)
theorem dX3_isInTarget_36 : decode cX3_isInTarget 36 = .ok (.ireturn, 1) := dk_172 (dk_at dksX3_isInTarget_1 12 rfl rfl)
abbrev cX3_finds : ByteArray := prog_26_method_108_code
def yX3_finds : MethodName := ⟨RX3, "finds", "(III)V"⟩
def dkwX3_finds_2 : List UInt8 := [181, 1, 2, 177]
abbrev dktX3_finds_2 : List UInt8 := dkwX3_finds_2 ++ []
def dkwX3_finds_1 : List UInt8 := [28, 79, 42, 180, 0, 36, 6, 42, 180, 1, 2, 104, 5, 96, 29, 79, 42, 89, 180, 1, 2, 4, 96]
abbrev dktX3_finds_1 : List UInt8 := dkwX3_finds_1 ++ dktX3_finds_2
def dkwX3_finds_0 : List UInt8 := [42, 180, 0, 36, 6, 42, 180, 1, 2, 104, 27, 79, 42, 180, 0, 36, 6, 42, 180, 1, 2, 104, 4, 96]
abbrev dktX3_finds_0 : List UInt8 := dkwX3_finds_0 ++ dktX3_finds_1
theorem dksX3_finds_0 : cX3_finds.data.toList.drop 0 = dktX3_finds_0 := by decide +kernel
theorem dksX3_finds_1 : cX3_finds.data.toList.drop 24 = dktX3_finds_1 := dk_seg dksX3_finds_0 24 rfl rfl
theorem dksX3_finds_2 : cX3_finds.data.toList.drop 47 = dktX3_finds_2 := dk_seg dksX3_finds_1 23 rfl rfl
theorem dX3_finds_0 : decode cX3_finds 0 = .ok (.aload_n 0, 1) := dk_42 (dk_at dksX3_finds_0 0 rfl rfl)
theorem dX3_finds_1 : decode cX3_finds 1 = .ok (.getfield 36, 3) := dk_180 0 36 (dk_at dksX3_finds_0 1 rfl rfl)
theorem dX3_finds_4 : decode cX3_finds 4 = .ok (.iconst 3, 1) := dk_6 (dk_at dksX3_finds_0 4 rfl rfl)
theorem dX3_finds_5 : decode cX3_finds 5 = .ok (.aload_n 0, 1) := dk_42 (dk_at dksX3_finds_0 5 rfl rfl)
theorem dX3_finds_6 : decode cX3_finds 6 = .ok (.getfield 258, 3) := dk_180 1 2 (dk_at dksX3_finds_0 6 rfl rfl)
theorem dX3_finds_9 : decode cX3_finds 9 = .ok (.imul, 1) := dk_104 (dk_at dksX3_finds_0 9 rfl rfl)
theorem dX3_finds_10 : decode cX3_finds 10 = .ok (.iload_n 1, 1) := dk_27 (dk_at dksX3_finds_0 10 rfl rfl)
theorem dX3_finds_11 : decode cX3_finds 11 = .ok (.iastore, 1) := dk_79 (dk_at dksX3_finds_0 11 rfl rfl)
theorem dX3_finds_12 : decode cX3_finds 12 = .ok (.aload_n 0, 1) := dk_42 (dk_at dksX3_finds_0 12 rfl rfl)
theorem dX3_finds_13 : decode cX3_finds 13 = .ok (.getfield 36, 3) := dk_180 0 36 (dk_at dksX3_finds_0 13 rfl rfl)
theorem dX3_finds_16 : decode cX3_finds 16 = .ok (.iconst 3, 1) := dk_6 (dk_at dksX3_finds_0 16 rfl rfl)
theorem dX3_finds_17 : decode cX3_finds 17 = .ok (.aload_n 0, 1) := dk_42 (dk_at dksX3_finds_0 17 rfl rfl)
theorem dX3_finds_18 : decode cX3_finds 18 = .ok (.getfield 258, 3) := dk_180 1 2 (dk_at dksX3_finds_0 18 rfl rfl)
theorem dX3_finds_21 : decode cX3_finds 21 = .ok (.imul, 1) := dk_104 (dk_at dksX3_finds_0 21 rfl rfl)
theorem dX3_finds_22 : decode cX3_finds 22 = .ok (.iconst 1, 1) := dk_4 (dk_at dksX3_finds_0 22 rfl rfl)
theorem dX3_finds_23 : decode cX3_finds 23 = .ok (.iadd, 1) := dk_96 (dk_at dksX3_finds_0 23 rfl rfl)
theorem dX3_finds_24 : decode cX3_finds 24 = .ok (.iload_n 2, 1) := dk_28 (dk_at dksX3_finds_1 0 rfl rfl)
theorem dX3_finds_25 : decode cX3_finds 25 = .ok (.iastore, 1) := dk_79 (dk_at dksX3_finds_1 1 rfl rfl)
theorem dX3_finds_26 : decode cX3_finds 26 = .ok (.aload_n 0, 1) := dk_42 (dk_at dksX3_finds_1 2 rfl rfl)
theorem dX3_finds_27 : decode cX3_finds 27 = .ok (.getfield 36, 3) := dk_180 0 36 (dk_at dksX3_finds_1 3 rfl rfl)
theorem dX3_finds_30 : decode cX3_finds 30 = .ok (.iconst 3, 1) := dk_6 (dk_at dksX3_finds_1 6 rfl rfl)
theorem dX3_finds_31 : decode cX3_finds 31 = .ok (.aload_n 0, 1) := dk_42 (dk_at dksX3_finds_1 7 rfl rfl)
theorem dX3_finds_32 : decode cX3_finds 32 = .ok (.getfield 258, 3) := dk_180 1 2 (dk_at dksX3_finds_1 8 rfl rfl)
theorem dX3_finds_35 : decode cX3_finds 35 = .ok (.imul, 1) := dk_104 (dk_at dksX3_finds_1 11 rfl rfl)
theorem dX3_finds_36 : decode cX3_finds 36 = .ok (.iconst 2, 1) := dk_5 (dk_at dksX3_finds_1 12 rfl rfl)
theorem dX3_finds_37 : decode cX3_finds 37 = .ok (.iadd, 1) := dk_96 (dk_at dksX3_finds_1 13 rfl rfl)
theorem dX3_finds_38 : decode cX3_finds 38 = .ok (.iload_n 3, 1) := dk_29 (dk_at dksX3_finds_1 14 rfl rfl)
theorem dX3_finds_39 : decode cX3_finds 39 = .ok (.iastore, 1) := dk_79 (dk_at dksX3_finds_1 15 rfl rfl)
theorem dX3_finds_40 : decode cX3_finds 40 = .ok (.aload_n 0, 1) := dk_42 (dk_at dksX3_finds_1 16 rfl rfl)
theorem dX3_finds_41 : decode cX3_finds 41 = .ok (.dup, 1) := dk_89 (dk_at dksX3_finds_1 17 rfl rfl)
theorem dX3_finds_42 : decode cX3_finds 42 = .ok (.getfield 258, 3) := dk_180 1 2 (dk_at dksX3_finds_1 18 rfl rfl)
theorem dX3_finds_45 : decode cX3_finds 45 = .ok (.iconst 1, 1) := dk_4 (dk_at dksX3_finds_1 21 rfl rfl)
theorem dX3_finds_46 : decode cX3_finds 46 = .ok (.iadd, 1) := dk_96 (dk_at dksX3_finds_1 22 rfl rfl)
theorem dX3_finds_47 : decode cX3_finds 47 = .ok (.putfield 258, 3) := dk_181 1 2 (dk_at dksX3_finds_2 0 rfl rfl)
theorem dX3_finds_50 : decode cX3_finds 50 = .ok (.return_, 1) := dk_177 (dk_at dksX3_finds_2 3 rfl rfl)
abbrev cX3_isSameRow : ByteArray := prog_26_method_80_code
def yX3_isSameRow : MethodName := ⟨RX3, "isSameRow", "(IIZ)Z"⟩
def dkwX3_isSameRow_3 : List UInt8 := [132, 5, 1, 167, 255, 210, 21, 4, 172]
abbrev dktX3_isSameRow_3 : List UInt8 := dkwX3_isSameRow_3 ++ []
def dkwX3_isSameRow_2 : List UInt8 := [182, 1, 43, 42, 28, 21, 5, 29, 182, 1, 43, 148, 154, 0, 7, 4, 167, 0, 4, 3, 54, 4]
abbrev dktX3_isSameRow_2 : List UInt8 := dkwX3_isSameRow_2 ++ dktX3_isSameRow_3
def dkwX3_isSameRow_1 : List UInt8 := [54, 5, 21, 5, 42, 27, 29, 182, 1, 16, 162, 0, 41, 21, 4, 153, 0, 36, 42, 27, 21, 5, 29]
abbrev dktX3_isSameRow_1 : List UInt8 := dkwX3_isSameRow_1 ++ dktX3_isSameRow_2
def dkwX3_isSameRow_0 : List UInt8 := [42, 27, 29, 182, 1, 16, 42, 28, 29, 182, 1, 16, 160, 0, 7, 4, 167, 0, 4, 3, 54, 4, 3]
abbrev dktX3_isSameRow_0 : List UInt8 := dkwX3_isSameRow_0 ++ dktX3_isSameRow_1
theorem dksX3_isSameRow_0 : cX3_isSameRow.data.toList.drop 0 = dktX3_isSameRow_0 := by decide +kernel
theorem dksX3_isSameRow_1 : cX3_isSameRow.data.toList.drop 23 = dktX3_isSameRow_1 := dk_seg dksX3_isSameRow_0 23 rfl rfl
theorem dksX3_isSameRow_2 : cX3_isSameRow.data.toList.drop 46 = dktX3_isSameRow_2 := dk_seg dksX3_isSameRow_1 23 rfl rfl
theorem dksX3_isSameRow_3 : cX3_isSameRow.data.toList.drop 68 = dktX3_isSameRow_3 := dk_seg dksX3_isSameRow_2 22 rfl rfl
theorem dX3_isSameRow_0 : decode cX3_isSameRow 0 = .ok (.aload_n 0, 1) := dk_42 (dk_at dksX3_isSameRow_0 0 rfl rfl)
theorem dX3_isSameRow_1 : decode cX3_isSameRow 1 = .ok (.iload_n 1, 1) := dk_27 (dk_at dksX3_isSameRow_0 1 rfl rfl)
theorem dX3_isSameRow_2 : decode cX3_isSameRow 2 = .ok (.iload_n 3, 1) := dk_29 (dk_at dksX3_isSameRow_0 2 rfl rfl)
theorem dX3_isSameRow_3 : decode cX3_isSameRow 3 = .ok (.invokevirtual 272, 3) := dk_182 1 16 (dk_at dksX3_isSameRow_0 3 rfl rfl)
theorem dX3_isSameRow_6 : decode cX3_isSameRow 6 = .ok (.aload_n 0, 1) := dk_42 (dk_at dksX3_isSameRow_0 6 rfl rfl)
theorem dX3_isSameRow_7 : decode cX3_isSameRow 7 = .ok (.iload_n 2, 1) := dk_28 (dk_at dksX3_isSameRow_0 7 rfl rfl)
theorem dX3_isSameRow_8 : decode cX3_isSameRow 8 = .ok (.iload_n 3, 1) := dk_29 (dk_at dksX3_isSameRow_0 8 rfl rfl)
theorem dX3_isSameRow_9 : decode cX3_isSameRow 9 = .ok (.invokevirtual 272, 3) := dk_182 1 16 (dk_at dksX3_isSameRow_0 9 rfl rfl)
theorem dX3_isSameRow_12 : decode cX3_isSameRow 12 = .ok (.if_icmp .ne 7, 3) := dk_160 0 7 (dk_at dksX3_isSameRow_0 12 rfl rfl)
theorem dX3_isSameRow_15 : decode cX3_isSameRow 15 = .ok (.iconst 1, 1) := dk_4 (dk_at dksX3_isSameRow_0 15 rfl rfl)
theorem dX3_isSameRow_16 : decode cX3_isSameRow 16 = .ok (.goto 4, 3) := dk_167 0 4 (dk_at dksX3_isSameRow_0 16 rfl rfl)
theorem dX3_isSameRow_19 : decode cX3_isSameRow 19 = .ok (.iconst 0, 1) := dk_3 (dk_at dksX3_isSameRow_0 19 rfl rfl)
theorem dX3_isSameRow_20 : decode cX3_isSameRow 20 = .ok (.istore 4, 2) := dk_54 4 (dk_at dksX3_isSameRow_0 20 rfl rfl)
theorem dX3_isSameRow_22 : decode cX3_isSameRow 22 = .ok (.iconst 0, 1) := dk_3 (dk_at dksX3_isSameRow_0 22 rfl rfl)
theorem dX3_isSameRow_23 : decode cX3_isSameRow 23 = .ok (.istore 5, 2) := dk_54 5 (dk_at dksX3_isSameRow_1 0 rfl rfl)
theorem dX3_isSameRow_25 : decode cX3_isSameRow 25 = .ok (.iload 5, 2) := dk_21 5 (dk_at dksX3_isSameRow_1 2 rfl rfl)
theorem dX3_isSameRow_27 : decode cX3_isSameRow 27 = .ok (.aload_n 0, 1) := dk_42 (dk_at dksX3_isSameRow_1 4 rfl rfl)
theorem dX3_isSameRow_28 : decode cX3_isSameRow 28 = .ok (.iload_n 1, 1) := dk_27 (dk_at dksX3_isSameRow_1 5 rfl rfl)
theorem dX3_isSameRow_29 : decode cX3_isSameRow 29 = .ok (.iload_n 3, 1) := dk_29 (dk_at dksX3_isSameRow_1 6 rfl rfl)
theorem dX3_isSameRow_30 : decode cX3_isSameRow 30 = .ok (.invokevirtual 272, 3) := dk_182 1 16 (dk_at dksX3_isSameRow_1 7 rfl rfl)
theorem dX3_isSameRow_33 : decode cX3_isSameRow 33 = .ok (.if_icmp .ge 41, 3) := dk_162 0 41 (dk_at dksX3_isSameRow_1 10 rfl rfl)
theorem dX3_isSameRow_36 : decode cX3_isSameRow 36 = .ok (.iload 4, 2) := dk_21 4 (dk_at dksX3_isSameRow_1 13 rfl rfl)
theorem dX3_isSameRow_38 : decode cX3_isSameRow 38 = .ok (.ifCond .eq 36, 3) := dk_153 0 36 (dk_at dksX3_isSameRow_1 15 rfl rfl)
theorem dX3_isSameRow_41 : decode cX3_isSameRow 41 = .ok (.aload_n 0, 1) := dk_42 (dk_at dksX3_isSameRow_1 18 rfl rfl)
theorem dX3_isSameRow_42 : decode cX3_isSameRow 42 = .ok (.iload_n 1, 1) := dk_27 (dk_at dksX3_isSameRow_1 19 rfl rfl)
theorem dX3_isSameRow_43 : decode cX3_isSameRow 43 = .ok (.iload 5, 2) := dk_21 5 (dk_at dksX3_isSameRow_1 20 rfl rfl)
theorem dX3_isSameRow_45 : decode cX3_isSameRow 45 = .ok (.iload_n 3, 1) := dk_29 (dk_at dksX3_isSameRow_1 22 rfl rfl)
theorem dX3_isSameRow_46 : decode cX3_isSameRow 46 = .ok (.invokevirtual 299, 3) := dk_182 1 43 (dk_at dksX3_isSameRow_2 0 rfl rfl)
theorem dX3_isSameRow_49 : decode cX3_isSameRow 49 = .ok (.aload_n 0, 1) := dk_42 (dk_at dksX3_isSameRow_2 3 rfl rfl)
theorem dX3_isSameRow_50 : decode cX3_isSameRow 50 = .ok (.iload_n 2, 1) := dk_28 (dk_at dksX3_isSameRow_2 4 rfl rfl)
theorem dX3_isSameRow_51 : decode cX3_isSameRow 51 = .ok (.iload 5, 2) := dk_21 5 (dk_at dksX3_isSameRow_2 5 rfl rfl)
theorem dX3_isSameRow_53 : decode cX3_isSameRow 53 = .ok (.iload_n 3, 1) := dk_29 (dk_at dksX3_isSameRow_2 7 rfl rfl)
theorem dX3_isSameRow_54 : decode cX3_isSameRow 54 = .ok (.invokevirtual 299, 3) := dk_182 1 43 (dk_at dksX3_isSameRow_2 8 rfl rfl)
theorem dX3_isSameRow_57 : decode cX3_isSameRow 57 = .ok (.lcmp, 1) := dk_148 (dk_at dksX3_isSameRow_2 11 rfl rfl)
theorem dX3_isSameRow_58 : decode cX3_isSameRow 58 = .ok (.ifCond .ne 7, 3) := dk_154 0 7 (dk_at dksX3_isSameRow_2 12 rfl rfl)
theorem dX3_isSameRow_61 : decode cX3_isSameRow 61 = .ok (.iconst 1, 1) := dk_4 (dk_at dksX3_isSameRow_2 15 rfl rfl)
theorem dX3_isSameRow_62 : decode cX3_isSameRow 62 = .ok (.goto 4, 3) := dk_167 0 4 (dk_at dksX3_isSameRow_2 16 rfl rfl)
theorem dX3_isSameRow_65 : decode cX3_isSameRow 65 = .ok (.iconst 0, 1) := dk_3 (dk_at dksX3_isSameRow_2 19 rfl rfl)
theorem dX3_isSameRow_66 : decode cX3_isSameRow 66 = .ok (.istore 4, 2) := dk_54 4 (dk_at dksX3_isSameRow_2 20 rfl rfl)
theorem dX3_isSameRow_68 : decode cX3_isSameRow 68 = .ok (.iinc 5 1, 3) := dk_132 5 1 (dk_at dksX3_isSameRow_3 0 rfl rfl)
theorem dX3_isSameRow_71 : decode cX3_isSameRow 71 = .ok (.goto (-46), 3) := dk_167 255 210 (dk_at dksX3_isSameRow_3 3 rfl rfl)
theorem dX3_isSameRow_74 : decode cX3_isSameRow 74 = .ok (.iload 4, 2) := dk_21 4 (dk_at dksX3_isSameRow_3 6 rfl rfl)
theorem dX3_isSameRow_76 : decode cX3_isSameRow 76 = .ok (.ireturn, 1) := dk_172 (dk_at dksX3_isSameRow_3 8 rfl rfl)
abbrev cX3_modelOf : ByteArray := prog_26_method_72_code
def yX3_modelOf : MethodName := ⟨RX3, "modelOf", "(I)I"⟩
def dkwX3_modelOf_1 : List UInt8 := [29, 161, 0, 9, 21, 4, 61, 21, 5, 62, 132, 4, 1, 167, 255, 226, 28, 172]
abbrev dktX3_modelOf_1 : List UInt8 := dkwX3_modelOf_1 ++ []
def dkwX3_modelOf_0 : List UInt8 := [2, 61, 3, 62, 3, 54, 4, 21, 4, 27, 162, 0, 30, 42, 27, 21, 4, 182, 1, 58, 54, 5, 21, 5]
abbrev dktX3_modelOf_0 : List UInt8 := dkwX3_modelOf_0 ++ dktX3_modelOf_1
theorem dksX3_modelOf_0 : cX3_modelOf.data.toList.drop 0 = dktX3_modelOf_0 := by decide +kernel
theorem dksX3_modelOf_1 : cX3_modelOf.data.toList.drop 24 = dktX3_modelOf_1 := dk_seg dksX3_modelOf_0 24 rfl rfl
theorem dX3_modelOf_0 : decode cX3_modelOf 0 = .ok (.iconst (-1), 1) := dk_2 (dk_at dksX3_modelOf_0 0 rfl rfl)
theorem dX3_modelOf_1 : decode cX3_modelOf 1 = .ok (.istore_n 2, 1) := dk_61 (dk_at dksX3_modelOf_0 1 rfl rfl)
theorem dX3_modelOf_2 : decode cX3_modelOf 2 = .ok (.iconst 0, 1) := dk_3 (dk_at dksX3_modelOf_0 2 rfl rfl)
theorem dX3_modelOf_3 : decode cX3_modelOf 3 = .ok (.istore_n 3, 1) := dk_62 (dk_at dksX3_modelOf_0 3 rfl rfl)
theorem dX3_modelOf_4 : decode cX3_modelOf 4 = .ok (.iconst 0, 1) := dk_3 (dk_at dksX3_modelOf_0 4 rfl rfl)
theorem dX3_modelOf_5 : decode cX3_modelOf 5 = .ok (.istore 4, 2) := dk_54 4 (dk_at dksX3_modelOf_0 5 rfl rfl)
theorem dX3_modelOf_7 : decode cX3_modelOf 7 = .ok (.iload 4, 2) := dk_21 4 (dk_at dksX3_modelOf_0 7 rfl rfl)
theorem dX3_modelOf_9 : decode cX3_modelOf 9 = .ok (.iload_n 1, 1) := dk_27 (dk_at dksX3_modelOf_0 9 rfl rfl)
theorem dX3_modelOf_10 : decode cX3_modelOf 10 = .ok (.if_icmp .ge 30, 3) := dk_162 0 30 (dk_at dksX3_modelOf_0 10 rfl rfl)
theorem dX3_modelOf_13 : decode cX3_modelOf 13 = .ok (.aload_n 0, 1) := dk_42 (dk_at dksX3_modelOf_0 13 rfl rfl)
theorem dX3_modelOf_14 : decode cX3_modelOf 14 = .ok (.iload_n 1, 1) := dk_27 (dk_at dksX3_modelOf_0 14 rfl rfl)
theorem dX3_modelOf_15 : decode cX3_modelOf 15 = .ok (.iload 4, 2) := dk_21 4 (dk_at dksX3_modelOf_0 15 rfl rfl)
theorem dX3_modelOf_17 : decode cX3_modelOf 17 = .ok (.invokevirtual 314, 3) := dk_182 1 58 (dk_at dksX3_modelOf_0 17 rfl rfl)
theorem dX3_modelOf_20 : decode cX3_modelOf 20 = .ok (.istore 5, 2) := dk_54 5 (dk_at dksX3_modelOf_0 20 rfl rfl)
theorem dX3_modelOf_22 : decode cX3_modelOf 22 = .ok (.iload 5, 2) := dk_21 5 (dk_at dksX3_modelOf_0 22 rfl rfl)
theorem dX3_modelOf_24 : decode cX3_modelOf 24 = .ok (.iload_n 3, 1) := dk_29 (dk_at dksX3_modelOf_1 0 rfl rfl)
theorem dX3_modelOf_25 : decode cX3_modelOf 25 = .ok (.if_icmp .lt 9, 3) := dk_161 0 9 (dk_at dksX3_modelOf_1 1 rfl rfl)
theorem dX3_modelOf_28 : decode cX3_modelOf 28 = .ok (.iload 4, 2) := dk_21 4 (dk_at dksX3_modelOf_1 4 rfl rfl)
theorem dX3_modelOf_30 : decode cX3_modelOf 30 = .ok (.istore_n 2, 1) := dk_61 (dk_at dksX3_modelOf_1 6 rfl rfl)
theorem dX3_modelOf_31 : decode cX3_modelOf 31 = .ok (.iload 5, 2) := dk_21 5 (dk_at dksX3_modelOf_1 7 rfl rfl)
theorem dX3_modelOf_33 : decode cX3_modelOf 33 = .ok (.istore_n 3, 1) := dk_62 (dk_at dksX3_modelOf_1 9 rfl rfl)
theorem dX3_modelOf_34 : decode cX3_modelOf 34 = .ok (.iinc 4 1, 3) := dk_132 4 1 (dk_at dksX3_modelOf_1 10 rfl rfl)
theorem dX3_modelOf_37 : decode cX3_modelOf 37 = .ok (.goto (-30), 3) := dk_167 255 226 (dk_at dksX3_modelOf_1 13 rfl rfl)
theorem dX3_modelOf_40 : decode cX3_modelOf 40 = .ok (.iload_n 2, 1) := dk_28 (dk_at dksX3_modelOf_1 16 rfl rfl)
theorem dX3_modelOf_41 : decode cX3_modelOf 41 = .ok (.ireturn, 1) := dk_172 (dk_at dksX3_modelOf_1 17 rfl rfl)
abbrev cX3_similarityOf : ByteArray := prog_26_method_69_code
def yX3_similarityOf : MethodName := ⟨RX3, "similarityOf", "(II)I"⟩
def dkwX3_similarityOf_1 : List UInt8 := [182, 1, 55, 100, 104, 29, 108, 172]
abbrev dktX3_similarityOf_1 : List UInt8 := dkwX3_similarityOf_1 ++ []
def dkwX3_similarityOf_0 : List UInt8 := [42, 27, 3, 182, 1, 16, 42, 28, 3, 182, 1, 16, 184, 1, 52, 62, 16, 100, 29, 42, 27, 28]
abbrev dktX3_similarityOf_0 : List UInt8 := dkwX3_similarityOf_0 ++ dktX3_similarityOf_1
theorem dksX3_similarityOf_0 : cX3_similarityOf.data.toList.drop 0 = dktX3_similarityOf_0 := by decide +kernel
theorem dksX3_similarityOf_1 : cX3_similarityOf.data.toList.drop 22 = dktX3_similarityOf_1 := dk_seg dksX3_similarityOf_0 22 rfl rfl
theorem dX3_similarityOf_0 : decode cX3_similarityOf 0 = .ok (.aload_n 0, 1) := dk_42 (dk_at dksX3_similarityOf_0 0 rfl rfl)
theorem dX3_similarityOf_1 : decode cX3_similarityOf 1 = .ok (.iload_n 1, 1) := dk_27 (dk_at dksX3_similarityOf_0 1 rfl rfl)
theorem dX3_similarityOf_2 : decode cX3_similarityOf 2 = .ok (.iconst 0, 1) := dk_3 (dk_at dksX3_similarityOf_0 2 rfl rfl)
theorem dX3_similarityOf_3 : decode cX3_similarityOf 3 = .ok (.invokevirtual 272, 3) := dk_182 1 16 (dk_at dksX3_similarityOf_0 3 rfl rfl)
theorem dX3_similarityOf_6 : decode cX3_similarityOf 6 = .ok (.aload_n 0, 1) := dk_42 (dk_at dksX3_similarityOf_0 6 rfl rfl)
theorem dX3_similarityOf_7 : decode cX3_similarityOf 7 = .ok (.iload_n 2, 1) := dk_28 (dk_at dksX3_similarityOf_0 7 rfl rfl)
theorem dX3_similarityOf_8 : decode cX3_similarityOf 8 = .ok (.iconst 0, 1) := dk_3 (dk_at dksX3_similarityOf_0 8 rfl rfl)
theorem dX3_similarityOf_9 : decode cX3_similarityOf 9 = .ok (.invokevirtual 272, 3) := dk_182 1 16 (dk_at dksX3_similarityOf_0 9 rfl rfl)
theorem dX3_similarityOf_12 : decode cX3_similarityOf 12 = .ok (.invokestatic 308, 3) := dk_184 1 52 (dk_at dksX3_similarityOf_0 12 rfl rfl)
theorem dX3_similarityOf_15 : decode cX3_similarityOf 15 = .ok (.istore_n 3, 1) := dk_62 (dk_at dksX3_similarityOf_0 15 rfl rfl)
theorem dX3_similarityOf_16 : decode cX3_similarityOf 16 = .ok (.bipush 100, 2) := dk_16 100 (dk_at dksX3_similarityOf_0 16 rfl rfl)
theorem dX3_similarityOf_18 : decode cX3_similarityOf 18 = .ok (.iload_n 3, 1) := dk_29 (dk_at dksX3_similarityOf_0 18 rfl rfl)
theorem dX3_similarityOf_19 : decode cX3_similarityOf 19 = .ok (.aload_n 0, 1) := dk_42 (dk_at dksX3_similarityOf_0 19 rfl rfl)
theorem dX3_similarityOf_20 : decode cX3_similarityOf 20 = .ok (.iload_n 1, 1) := dk_27 (dk_at dksX3_similarityOf_0 20 rfl rfl)
theorem dX3_similarityOf_21 : decode cX3_similarityOf 21 = .ok (.iload_n 2, 1) := dk_28 (dk_at dksX3_similarityOf_0 21 rfl rfl)
theorem dX3_similarityOf_22 : decode cX3_similarityOf 22 = .ok (.invokevirtual 311, 3) := dk_182 1 55 (dk_at dksX3_similarityOf_1 0 rfl rfl)
theorem dX3_similarityOf_25 : decode cX3_similarityOf 25 = .ok (.isub, 1) := dk_100 (dk_at dksX3_similarityOf_1 3 rfl rfl)
theorem dX3_similarityOf_26 : decode cX3_similarityOf 26 = .ok (.imul, 1) := dk_104 (dk_at dksX3_similarityOf_1 4 rfl rfl)
theorem dX3_similarityOf_27 : decode cX3_similarityOf 27 = .ok (.iload_n 3, 1) := dk_29 (dk_at dksX3_similarityOf_1 5 rfl rfl)
theorem dX3_similarityOf_28 : decode cX3_similarityOf 28 = .ok (.idiv, 1) := dk_108 (dk_at dksX3_similarityOf_1 6 rfl rfl)
theorem dX3_similarityOf_29 : decode cX3_similarityOf 29 = .ok (.ireturn, 1) := dk_172 (dk_at dksX3_similarityOf_1 7 rfl rfl)
abbrev cX3_distanceOf : ByteArray := prog_26_method_68_code
def yX3_distanceOf : MethodName := ⟨RX3, "distanceOf", "(II)I"⟩
def dkwX3_distanceOf_6 : List UInt8 := [96, 184, 1, 47, 79, 132, 6, 1, 167, 255, 171, 132, 4, 1, 167, 255, 135, 42, 180, 0, 30, 29, 46, 172]
abbrev dktX3_distanceOf_6 : List UInt8 := dkwX3_distanceOf_6 ++ []
def dkwX3_distanceOf_5 : List UInt8 := [21, 6, 21, 7, 4, 42, 180, 0, 30, 21, 6, 46, 42, 180, 0, 30, 21, 6, 4, 100, 46, 184, 1, 47]
abbrev dktX3_distanceOf_5 : List UInt8 := dkwX3_distanceOf_5 ++ dktX3_distanceOf_6
def dkwX3_distanceOf_4 : List UInt8 := [154, 0, 7, 3, 167, 0, 4, 4, 96, 54, 7, 42, 180, 0, 30, 21, 6, 46, 54, 5, 42, 180, 0, 30]
abbrev dktX3_distanceOf_4 : List UInt8 := dkwX3_distanceOf_4 ++ dktX3_distanceOf_5
def dkwX3_distanceOf_3 : List UInt8 := [21, 5, 42, 27, 21, 4, 4, 100, 3, 182, 1, 43, 42, 28, 21, 6, 4, 100, 3, 182, 1, 43, 148]
abbrev dktX3_distanceOf_3 : List UInt8 := dkwX3_distanceOf_3 ++ dktX3_distanceOf_4
def dkwX3_distanceOf_2 : List UInt8 := [180, 0, 30, 3, 46, 54, 5, 42, 180, 0, 30, 3, 21, 4, 79, 4, 54, 6, 21, 6, 29, 163, 0, 85]
abbrev dktX3_distanceOf_2 : List UInt8 := dkwX3_distanceOf_2 ++ dktX3_distanceOf_3
def dkwX3_distanceOf_1 : List UInt8 := [79, 132, 4, 1, 167, 255, 238, 4, 54, 4, 21, 4, 42, 27, 3, 182, 1, 16, 163, 0, 116, 42]
abbrev dktX3_distanceOf_1 : List UInt8 := dkwX3_distanceOf_1 ++ dktX3_distanceOf_2
def dkwX3_distanceOf_0 : List UInt8 := [42, 28, 3, 182, 1, 16, 62, 3, 54, 4, 21, 4, 29, 163, 0, 18, 42, 180, 0, 30, 21, 4, 21, 4]
abbrev dktX3_distanceOf_0 : List UInt8 := dkwX3_distanceOf_0 ++ dktX3_distanceOf_1
theorem dksX3_distanceOf_0 : cX3_distanceOf.data.toList.drop 0 = dktX3_distanceOf_0 := by decide +kernel
theorem dksX3_distanceOf_1 : cX3_distanceOf.data.toList.drop 24 = dktX3_distanceOf_1 := dk_seg dksX3_distanceOf_0 24 rfl rfl
theorem dksX3_distanceOf_2 : cX3_distanceOf.data.toList.drop 46 = dktX3_distanceOf_2 := dk_seg dksX3_distanceOf_1 22 rfl rfl
theorem dksX3_distanceOf_3 : cX3_distanceOf.data.toList.drop 70 = dktX3_distanceOf_3 := dk_seg dksX3_distanceOf_2 24 rfl rfl
theorem dksX3_distanceOf_4 : cX3_distanceOf.data.toList.drop 93 = dktX3_distanceOf_4 := dk_seg dksX3_distanceOf_3 23 rfl rfl
theorem dksX3_distanceOf_5 : cX3_distanceOf.data.toList.drop 117 = dktX3_distanceOf_5 := dk_seg dksX3_distanceOf_4 24 rfl rfl
theorem dksX3_distanceOf_6 : cX3_distanceOf.data.toList.drop 141 = dktX3_distanceOf_6 := dk_seg dksX3_distanceOf_5 24 rfl rfl
theorem dX3_distanceOf_0 : decode cX3_distanceOf 0 = .ok (.aload_n 0, 1) := dk_42 (dk_at dksX3_distanceOf_0 0 rfl rfl)
theorem dX3_distanceOf_1 : decode cX3_distanceOf 1 = .ok (.iload_n 2, 1) := dk_28 (dk_at dksX3_distanceOf_0 1 rfl rfl)
theorem dX3_distanceOf_2 : decode cX3_distanceOf 2 = .ok (.iconst 0, 1) := dk_3 (dk_at dksX3_distanceOf_0 2 rfl rfl)
theorem dX3_distanceOf_3 : decode cX3_distanceOf 3 = .ok (.invokevirtual 272, 3) := dk_182 1 16 (dk_at dksX3_distanceOf_0 3 rfl rfl)
theorem dX3_distanceOf_6 : decode cX3_distanceOf 6 = .ok (.istore_n 3, 1) := dk_62 (dk_at dksX3_distanceOf_0 6 rfl rfl)
theorem dX3_distanceOf_7 : decode cX3_distanceOf 7 = .ok (.iconst 0, 1) := dk_3 (dk_at dksX3_distanceOf_0 7 rfl rfl)
theorem dX3_distanceOf_8 : decode cX3_distanceOf 8 = .ok (.istore 4, 2) := dk_54 4 (dk_at dksX3_distanceOf_0 8 rfl rfl)
theorem dX3_distanceOf_10 : decode cX3_distanceOf 10 = .ok (.iload 4, 2) := dk_21 4 (dk_at dksX3_distanceOf_0 10 rfl rfl)
theorem dX3_distanceOf_12 : decode cX3_distanceOf 12 = .ok (.iload_n 3, 1) := dk_29 (dk_at dksX3_distanceOf_0 12 rfl rfl)
theorem dX3_distanceOf_13 : decode cX3_distanceOf 13 = .ok (.if_icmp .gt 18, 3) := dk_163 0 18 (dk_at dksX3_distanceOf_0 13 rfl rfl)
theorem dX3_distanceOf_16 : decode cX3_distanceOf 16 = .ok (.aload_n 0, 1) := dk_42 (dk_at dksX3_distanceOf_0 16 rfl rfl)
theorem dX3_distanceOf_17 : decode cX3_distanceOf 17 = .ok (.getfield 30, 3) := dk_180 0 30 (dk_at dksX3_distanceOf_0 17 rfl rfl)
theorem dX3_distanceOf_20 : decode cX3_distanceOf 20 = .ok (.iload 4, 2) := dk_21 4 (dk_at dksX3_distanceOf_0 20 rfl rfl)
theorem dX3_distanceOf_22 : decode cX3_distanceOf 22 = .ok (.iload 4, 2) := dk_21 4 (dk_at dksX3_distanceOf_0 22 rfl rfl)
theorem dX3_distanceOf_24 : decode cX3_distanceOf 24 = .ok (.iastore, 1) := dk_79 (dk_at dksX3_distanceOf_1 0 rfl rfl)
theorem dX3_distanceOf_25 : decode cX3_distanceOf 25 = .ok (.iinc 4 1, 3) := dk_132 4 1 (dk_at dksX3_distanceOf_1 1 rfl rfl)
theorem dX3_distanceOf_28 : decode cX3_distanceOf 28 = .ok (.goto (-18), 3) := dk_167 255 238 (dk_at dksX3_distanceOf_1 4 rfl rfl)
theorem dX3_distanceOf_31 : decode cX3_distanceOf 31 = .ok (.iconst 1, 1) := dk_4 (dk_at dksX3_distanceOf_1 7 rfl rfl)
theorem dX3_distanceOf_32 : decode cX3_distanceOf 32 = .ok (.istore 4, 2) := dk_54 4 (dk_at dksX3_distanceOf_1 8 rfl rfl)
theorem dX3_distanceOf_34 : decode cX3_distanceOf 34 = .ok (.iload 4, 2) := dk_21 4 (dk_at dksX3_distanceOf_1 10 rfl rfl)
theorem dX3_distanceOf_36 : decode cX3_distanceOf 36 = .ok (.aload_n 0, 1) := dk_42 (dk_at dksX3_distanceOf_1 12 rfl rfl)
theorem dX3_distanceOf_37 : decode cX3_distanceOf 37 = .ok (.iload_n 1, 1) := dk_27 (dk_at dksX3_distanceOf_1 13 rfl rfl)
theorem dX3_distanceOf_38 : decode cX3_distanceOf 38 = .ok (.iconst 0, 1) := dk_3 (dk_at dksX3_distanceOf_1 14 rfl rfl)
theorem dX3_distanceOf_39 : decode cX3_distanceOf 39 = .ok (.invokevirtual 272, 3) := dk_182 1 16 (dk_at dksX3_distanceOf_1 15 rfl rfl)
theorem dX3_distanceOf_42 : decode cX3_distanceOf 42 = .ok (.if_icmp .gt 116, 3) := dk_163 0 116 (dk_at dksX3_distanceOf_1 18 rfl rfl)
theorem dX3_distanceOf_45 : decode cX3_distanceOf 45 = .ok (.aload_n 0, 1) := dk_42 (dk_at dksX3_distanceOf_1 21 rfl rfl)
theorem dX3_distanceOf_46 : decode cX3_distanceOf 46 = .ok (.getfield 30, 3) := dk_180 0 30 (dk_at dksX3_distanceOf_2 0 rfl rfl)
theorem dX3_distanceOf_49 : decode cX3_distanceOf 49 = .ok (.iconst 0, 1) := dk_3 (dk_at dksX3_distanceOf_2 3 rfl rfl)
theorem dX3_distanceOf_50 : decode cX3_distanceOf 50 = .ok (.iaload, 1) := dk_46 (dk_at dksX3_distanceOf_2 4 rfl rfl)
theorem dX3_distanceOf_51 : decode cX3_distanceOf 51 = .ok (.istore 5, 2) := dk_54 5 (dk_at dksX3_distanceOf_2 5 rfl rfl)
theorem dX3_distanceOf_53 : decode cX3_distanceOf 53 = .ok (.aload_n 0, 1) := dk_42 (dk_at dksX3_distanceOf_2 7 rfl rfl)
theorem dX3_distanceOf_54 : decode cX3_distanceOf 54 = .ok (.getfield 30, 3) := dk_180 0 30 (dk_at dksX3_distanceOf_2 8 rfl rfl)
theorem dX3_distanceOf_57 : decode cX3_distanceOf 57 = .ok (.iconst 0, 1) := dk_3 (dk_at dksX3_distanceOf_2 11 rfl rfl)
theorem dX3_distanceOf_58 : decode cX3_distanceOf 58 = .ok (.iload 4, 2) := dk_21 4 (dk_at dksX3_distanceOf_2 12 rfl rfl)
theorem dX3_distanceOf_60 : decode cX3_distanceOf 60 = .ok (.iastore, 1) := dk_79 (dk_at dksX3_distanceOf_2 14 rfl rfl)
theorem dX3_distanceOf_61 : decode cX3_distanceOf 61 = .ok (.iconst 1, 1) := dk_4 (dk_at dksX3_distanceOf_2 15 rfl rfl)
theorem dX3_distanceOf_62 : decode cX3_distanceOf 62 = .ok (.istore 6, 2) := dk_54 6 (dk_at dksX3_distanceOf_2 16 rfl rfl)
theorem dX3_distanceOf_64 : decode cX3_distanceOf 64 = .ok (.iload 6, 2) := dk_21 6 (dk_at dksX3_distanceOf_2 18 rfl rfl)
theorem dX3_distanceOf_66 : decode cX3_distanceOf 66 = .ok (.iload_n 3, 1) := dk_29 (dk_at dksX3_distanceOf_2 20 rfl rfl)
theorem dX3_distanceOf_67 : decode cX3_distanceOf 67 = .ok (.if_icmp .gt 85, 3) := dk_163 0 85 (dk_at dksX3_distanceOf_2 21 rfl rfl)
theorem dX3_distanceOf_70 : decode cX3_distanceOf 70 = .ok (.iload 5, 2) := dk_21 5 (dk_at dksX3_distanceOf_3 0 rfl rfl)
theorem dX3_distanceOf_72 : decode cX3_distanceOf 72 = .ok (.aload_n 0, 1) := dk_42 (dk_at dksX3_distanceOf_3 2 rfl rfl)
theorem dX3_distanceOf_73 : decode cX3_distanceOf 73 = .ok (.iload_n 1, 1) := dk_27 (dk_at dksX3_distanceOf_3 3 rfl rfl)
theorem dX3_distanceOf_74 : decode cX3_distanceOf 74 = .ok (.iload 4, 2) := dk_21 4 (dk_at dksX3_distanceOf_3 4 rfl rfl)
theorem dX3_distanceOf_76 : decode cX3_distanceOf 76 = .ok (.iconst 1, 1) := dk_4 (dk_at dksX3_distanceOf_3 6 rfl rfl)
theorem dX3_distanceOf_77 : decode cX3_distanceOf 77 = .ok (.isub, 1) := dk_100 (dk_at dksX3_distanceOf_3 7 rfl rfl)
theorem dX3_distanceOf_78 : decode cX3_distanceOf 78 = .ok (.iconst 0, 1) := dk_3 (dk_at dksX3_distanceOf_3 8 rfl rfl)
theorem dX3_distanceOf_79 : decode cX3_distanceOf 79 = .ok (.invokevirtual 299, 3) := dk_182 1 43 (dk_at dksX3_distanceOf_3 9 rfl rfl)
theorem dX3_distanceOf_82 : decode cX3_distanceOf 82 = .ok (.aload_n 0, 1) := dk_42 (dk_at dksX3_distanceOf_3 12 rfl rfl)
theorem dX3_distanceOf_83 : decode cX3_distanceOf 83 = .ok (.iload_n 2, 1) := dk_28 (dk_at dksX3_distanceOf_3 13 rfl rfl)
theorem dX3_distanceOf_84 : decode cX3_distanceOf 84 = .ok (.iload 6, 2) := dk_21 6 (dk_at dksX3_distanceOf_3 14 rfl rfl)
theorem dX3_distanceOf_86 : decode cX3_distanceOf 86 = .ok (.iconst 1, 1) := dk_4 (dk_at dksX3_distanceOf_3 16 rfl rfl)
theorem dX3_distanceOf_87 : decode cX3_distanceOf 87 = .ok (.isub, 1) := dk_100 (dk_at dksX3_distanceOf_3 17 rfl rfl)
theorem dX3_distanceOf_88 : decode cX3_distanceOf 88 = .ok (.iconst 0, 1) := dk_3 (dk_at dksX3_distanceOf_3 18 rfl rfl)
theorem dX3_distanceOf_89 : decode cX3_distanceOf 89 = .ok (.invokevirtual 299, 3) := dk_182 1 43 (dk_at dksX3_distanceOf_3 19 rfl rfl)
theorem dX3_distanceOf_92 : decode cX3_distanceOf 92 = .ok (.lcmp, 1) := dk_148 (dk_at dksX3_distanceOf_3 22 rfl rfl)
theorem dX3_distanceOf_93 : decode cX3_distanceOf 93 = .ok (.ifCond .ne 7, 3) := dk_154 0 7 (dk_at dksX3_distanceOf_4 0 rfl rfl)
theorem dX3_distanceOf_96 : decode cX3_distanceOf 96 = .ok (.iconst 0, 1) := dk_3 (dk_at dksX3_distanceOf_4 3 rfl rfl)
theorem dX3_distanceOf_97 : decode cX3_distanceOf 97 = .ok (.goto 4, 3) := dk_167 0 4 (dk_at dksX3_distanceOf_4 4 rfl rfl)
theorem dX3_distanceOf_100 : decode cX3_distanceOf 100 = .ok (.iconst 1, 1) := dk_4 (dk_at dksX3_distanceOf_4 7 rfl rfl)
theorem dX3_distanceOf_101 : decode cX3_distanceOf 101 = .ok (.iadd, 1) := dk_96 (dk_at dksX3_distanceOf_4 8 rfl rfl)
theorem dX3_distanceOf_102 : decode cX3_distanceOf 102 = .ok (.istore 7, 2) := dk_54 7 (dk_at dksX3_distanceOf_4 9 rfl rfl)
theorem dX3_distanceOf_104 : decode cX3_distanceOf 104 = .ok (.aload_n 0, 1) := dk_42 (dk_at dksX3_distanceOf_4 11 rfl rfl)
theorem dX3_distanceOf_105 : decode cX3_distanceOf 105 = .ok (.getfield 30, 3) := dk_180 0 30 (dk_at dksX3_distanceOf_4 12 rfl rfl)
theorem dX3_distanceOf_108 : decode cX3_distanceOf 108 = .ok (.iload 6, 2) := dk_21 6 (dk_at dksX3_distanceOf_4 15 rfl rfl)
theorem dX3_distanceOf_110 : decode cX3_distanceOf 110 = .ok (.iaload, 1) := dk_46 (dk_at dksX3_distanceOf_4 17 rfl rfl)
theorem dX3_distanceOf_111 : decode cX3_distanceOf 111 = .ok (.istore 5, 2) := dk_54 5 (dk_at dksX3_distanceOf_4 18 rfl rfl)
theorem dX3_distanceOf_113 : decode cX3_distanceOf 113 = .ok (.aload_n 0, 1) := dk_42 (dk_at dksX3_distanceOf_4 20 rfl rfl)
theorem dX3_distanceOf_114 : decode cX3_distanceOf 114 = .ok (.getfield 30, 3) := dk_180 0 30 (dk_at dksX3_distanceOf_4 21 rfl rfl)
theorem dX3_distanceOf_117 : decode cX3_distanceOf 117 = .ok (.iload 6, 2) := dk_21 6 (dk_at dksX3_distanceOf_5 0 rfl rfl)
theorem dX3_distanceOf_119 : decode cX3_distanceOf 119 = .ok (.iload 7, 2) := dk_21 7 (dk_at dksX3_distanceOf_5 2 rfl rfl)
theorem dX3_distanceOf_121 : decode cX3_distanceOf 121 = .ok (.iconst 1, 1) := dk_4 (dk_at dksX3_distanceOf_5 4 rfl rfl)
theorem dX3_distanceOf_122 : decode cX3_distanceOf 122 = .ok (.aload_n 0, 1) := dk_42 (dk_at dksX3_distanceOf_5 5 rfl rfl)
theorem dX3_distanceOf_123 : decode cX3_distanceOf 123 = .ok (.getfield 30, 3) := dk_180 0 30 (dk_at dksX3_distanceOf_5 6 rfl rfl)
theorem dX3_distanceOf_126 : decode cX3_distanceOf 126 = .ok (.iload 6, 2) := dk_21 6 (dk_at dksX3_distanceOf_5 9 rfl rfl)
theorem dX3_distanceOf_128 : decode cX3_distanceOf 128 = .ok (.iaload, 1) := dk_46 (dk_at dksX3_distanceOf_5 11 rfl rfl)
theorem dX3_distanceOf_129 : decode cX3_distanceOf 129 = .ok (.aload_n 0, 1) := dk_42 (dk_at dksX3_distanceOf_5 12 rfl rfl)
theorem dX3_distanceOf_130 : decode cX3_distanceOf 130 = .ok (.getfield 30, 3) := dk_180 0 30 (dk_at dksX3_distanceOf_5 13 rfl rfl)
theorem dX3_distanceOf_133 : decode cX3_distanceOf 133 = .ok (.iload 6, 2) := dk_21 6 (dk_at dksX3_distanceOf_5 16 rfl rfl)
theorem dX3_distanceOf_135 : decode cX3_distanceOf 135 = .ok (.iconst 1, 1) := dk_4 (dk_at dksX3_distanceOf_5 18 rfl rfl)
theorem dX3_distanceOf_136 : decode cX3_distanceOf 136 = .ok (.isub, 1) := dk_100 (dk_at dksX3_distanceOf_5 19 rfl rfl)
theorem dX3_distanceOf_137 : decode cX3_distanceOf 137 = .ok (.iaload, 1) := dk_46 (dk_at dksX3_distanceOf_5 20 rfl rfl)
theorem dX3_distanceOf_138 : decode cX3_distanceOf 138 = .ok (.invokestatic 303, 3) := dk_184 1 47 (dk_at dksX3_distanceOf_5 21 rfl rfl)
theorem dX3_distanceOf_141 : decode cX3_distanceOf 141 = .ok (.iadd, 1) := dk_96 (dk_at dksX3_distanceOf_6 0 rfl rfl)
theorem dX3_distanceOf_142 : decode cX3_distanceOf 142 = .ok (.invokestatic 303, 3) := dk_184 1 47 (dk_at dksX3_distanceOf_6 1 rfl rfl)
theorem dX3_distanceOf_145 : decode cX3_distanceOf 145 = .ok (.iastore, 1) := dk_79 (dk_at dksX3_distanceOf_6 4 rfl rfl)
theorem dX3_distanceOf_146 : decode cX3_distanceOf 146 = .ok (.iinc 6 1, 3) := dk_132 6 1 (dk_at dksX3_distanceOf_6 5 rfl rfl)
theorem dX3_distanceOf_149 : decode cX3_distanceOf 149 = .ok (.goto (-85), 3) := dk_167 255 171 (dk_at dksX3_distanceOf_6 8 rfl rfl)
theorem dX3_distanceOf_152 : decode cX3_distanceOf 152 = .ok (.iinc 4 1, 3) := dk_132 4 1 (dk_at dksX3_distanceOf_6 11 rfl rfl)
theorem dX3_distanceOf_155 : decode cX3_distanceOf 155 = .ok (.goto (-121), 3) := dk_167 255 135 (dk_at dksX3_distanceOf_6 14 rfl rfl)
theorem dX3_distanceOf_158 : decode cX3_distanceOf 158 = .ok (.aload_n 0, 1) := dk_42 (dk_at dksX3_distanceOf_6 17 rfl rfl)
theorem dX3_distanceOf_159 : decode cX3_distanceOf 159 = .ok (.getfield 30, 3) := dk_180 0 30 (dk_at dksX3_distanceOf_6 18 rfl rfl)
theorem dX3_distanceOf_162 : decode cX3_distanceOf 162 = .ok (.iload_n 3, 1) := dk_29 (dk_at dksX3_distanceOf_6 21 rfl rfl)
theorem dX3_distanceOf_163 : decode cX3_distanceOf 163 = .ok (.iaload, 1) := dk_46 (dk_at dksX3_distanceOf_6 22 rfl rfl)
theorem dX3_distanceOf_164 : decode cX3_distanceOf 164 = .ok (.ireturn, 1) := dk_172 (dk_at dksX3_distanceOf_6 23 rfl rfl)
abbrev cX3_bandOf : ByteArray := prog_26_method_74_code
def yX3_bandOf : MethodName := ⟨RX3, "bandOf", "(I)I"⟩
def dkwX3_bandOf_1 : List UInt8 := [16, 70, 161, 0, 5, 5, 172, 28, 16, 50, 161, 0, 7, 4, 167, 0, 4, 3, 172]
abbrev dktX3_bandOf_1 : List UInt8 := dkwX3_bandOf_1 ++ []
def dkwX3_bandOf_0 : List UInt8 := [42, 27, 182, 1, 64, 61, 28, 16, 100, 160, 0, 5, 7, 172, 28, 16, 85, 161, 0, 5, 6, 172, 28]
abbrev dktX3_bandOf_0 : List UInt8 := dkwX3_bandOf_0 ++ dktX3_bandOf_1
theorem dksX3_bandOf_0 : cX3_bandOf.data.toList.drop 0 = dktX3_bandOf_0 := by decide +kernel
theorem dksX3_bandOf_1 : cX3_bandOf.data.toList.drop 23 = dktX3_bandOf_1 := dk_seg dksX3_bandOf_0 23 rfl rfl
theorem dX3_bandOf_0 : decode cX3_bandOf 0 = .ok (.aload_n 0, 1) := dk_42 (dk_at dksX3_bandOf_0 0 rfl rfl)
theorem dX3_bandOf_1 : decode cX3_bandOf 1 = .ok (.iload_n 1, 1) := dk_27 (dk_at dksX3_bandOf_0 1 rfl rfl)
theorem dX3_bandOf_2 : decode cX3_bandOf 2 = .ok (.invokevirtual 320, 3) := dk_182 1 64 (dk_at dksX3_bandOf_0 2 rfl rfl)
theorem dX3_bandOf_5 : decode cX3_bandOf 5 = .ok (.istore_n 2, 1) := dk_61 (dk_at dksX3_bandOf_0 5 rfl rfl)
theorem dX3_bandOf_6 : decode cX3_bandOf 6 = .ok (.iload_n 2, 1) := dk_28 (dk_at dksX3_bandOf_0 6 rfl rfl)
theorem dX3_bandOf_7 : decode cX3_bandOf 7 = .ok (.bipush 100, 2) := dk_16 100 (dk_at dksX3_bandOf_0 7 rfl rfl)
theorem dX3_bandOf_9 : decode cX3_bandOf 9 = .ok (.if_icmp .ne 5, 3) := dk_160 0 5 (dk_at dksX3_bandOf_0 9 rfl rfl)
theorem dX3_bandOf_12 : decode cX3_bandOf 12 = .ok (.iconst 4, 1) := dk_7 (dk_at dksX3_bandOf_0 12 rfl rfl)
theorem dX3_bandOf_13 : decode cX3_bandOf 13 = .ok (.ireturn, 1) := dk_172 (dk_at dksX3_bandOf_0 13 rfl rfl)
theorem dX3_bandOf_14 : decode cX3_bandOf 14 = .ok (.iload_n 2, 1) := dk_28 (dk_at dksX3_bandOf_0 14 rfl rfl)
theorem dX3_bandOf_15 : decode cX3_bandOf 15 = .ok (.bipush 85, 2) := dk_16 85 (dk_at dksX3_bandOf_0 15 rfl rfl)
theorem dX3_bandOf_17 : decode cX3_bandOf 17 = .ok (.if_icmp .lt 5, 3) := dk_161 0 5 (dk_at dksX3_bandOf_0 17 rfl rfl)
theorem dX3_bandOf_20 : decode cX3_bandOf 20 = .ok (.iconst 3, 1) := dk_6 (dk_at dksX3_bandOf_0 20 rfl rfl)
theorem dX3_bandOf_21 : decode cX3_bandOf 21 = .ok (.ireturn, 1) := dk_172 (dk_at dksX3_bandOf_0 21 rfl rfl)
theorem dX3_bandOf_22 : decode cX3_bandOf 22 = .ok (.iload_n 2, 1) := dk_28 (dk_at dksX3_bandOf_0 22 rfl rfl)
theorem dX3_bandOf_23 : decode cX3_bandOf 23 = .ok (.bipush 70, 2) := dk_16 70 (dk_at dksX3_bandOf_1 0 rfl rfl)
theorem dX3_bandOf_25 : decode cX3_bandOf 25 = .ok (.if_icmp .lt 5, 3) := dk_161 0 5 (dk_at dksX3_bandOf_1 2 rfl rfl)
theorem dX3_bandOf_28 : decode cX3_bandOf 28 = .ok (.iconst 2, 1) := dk_5 (dk_at dksX3_bandOf_1 5 rfl rfl)
theorem dX3_bandOf_29 : decode cX3_bandOf 29 = .ok (.ireturn, 1) := dk_172 (dk_at dksX3_bandOf_1 6 rfl rfl)
theorem dX3_bandOf_30 : decode cX3_bandOf 30 = .ok (.iload_n 2, 1) := dk_28 (dk_at dksX3_bandOf_1 7 rfl rfl)
theorem dX3_bandOf_31 : decode cX3_bandOf 31 = .ok (.bipush 50, 2) := dk_16 50 (dk_at dksX3_bandOf_1 8 rfl rfl)
theorem dX3_bandOf_33 : decode cX3_bandOf 33 = .ok (.if_icmp .lt 7, 3) := dk_161 0 7 (dk_at dksX3_bandOf_1 10 rfl rfl)
theorem dX3_bandOf_36 : decode cX3_bandOf 36 = .ok (.iconst 1, 1) := dk_4 (dk_at dksX3_bandOf_1 13 rfl rfl)
theorem dX3_bandOf_37 : decode cX3_bandOf 37 = .ok (.goto 4, 3) := dk_167 0 4 (dk_at dksX3_bandOf_1 14 rfl rfl)
theorem dX3_bandOf_40 : decode cX3_bandOf 40 = .ok (.iconst 0, 1) := dk_3 (dk_at dksX3_bandOf_1 17 rfl rfl)
theorem dX3_bandOf_41 : decode cX3_bandOf 41 = .ok (.ireturn, 1) := dk_172 (dk_at dksX3_bandOf_1 18 rfl rfl)
abbrev cX3_matchOf : ByteArray := prog_26_method_73_code
def yX3_matchOf : MethodName := ⟨RX3, "matchOf", "(I)I"⟩
def dkwX3_matchOf_0 : List UInt8 := [42, 27, 182, 1, 61, 61, 28, 2, 160, 0, 7, 3, 167, 0, 9, 42, 27, 28, 182, 1, 58, 172]
abbrev dktX3_matchOf_0 : List UInt8 := dkwX3_matchOf_0 ++ []
theorem dksX3_matchOf_0 : cX3_matchOf.data.toList.drop 0 = dktX3_matchOf_0 := by decide +kernel
theorem dX3_matchOf_0 : decode cX3_matchOf 0 = .ok (.aload_n 0, 1) := dk_42 (dk_at dksX3_matchOf_0 0 rfl rfl)
theorem dX3_matchOf_1 : decode cX3_matchOf 1 = .ok (.iload_n 1, 1) := dk_27 (dk_at dksX3_matchOf_0 1 rfl rfl)
theorem dX3_matchOf_2 : decode cX3_matchOf 2 = .ok (.invokevirtual 317, 3) := dk_182 1 61 (dk_at dksX3_matchOf_0 2 rfl rfl)
theorem dX3_matchOf_5 : decode cX3_matchOf 5 = .ok (.istore_n 2, 1) := dk_61 (dk_at dksX3_matchOf_0 5 rfl rfl)
theorem dX3_matchOf_6 : decode cX3_matchOf 6 = .ok (.iload_n 2, 1) := dk_28 (dk_at dksX3_matchOf_0 6 rfl rfl)
theorem dX3_matchOf_7 : decode cX3_matchOf 7 = .ok (.iconst (-1), 1) := dk_2 (dk_at dksX3_matchOf_0 7 rfl rfl)
theorem dX3_matchOf_8 : decode cX3_matchOf 8 = .ok (.if_icmp .ne 7, 3) := dk_160 0 7 (dk_at dksX3_matchOf_0 8 rfl rfl)
theorem dX3_matchOf_11 : decode cX3_matchOf 11 = .ok (.iconst 0, 1) := dk_3 (dk_at dksX3_matchOf_0 11 rfl rfl)
theorem dX3_matchOf_12 : decode cX3_matchOf 12 = .ok (.goto 9, 3) := dk_167 0 9 (dk_at dksX3_matchOf_0 12 rfl rfl)
theorem dX3_matchOf_15 : decode cX3_matchOf 15 = .ok (.aload_n 0, 1) := dk_42 (dk_at dksX3_matchOf_0 15 rfl rfl)
theorem dX3_matchOf_16 : decode cX3_matchOf 16 = .ok (.iload_n 1, 1) := dk_27 (dk_at dksX3_matchOf_0 16 rfl rfl)
theorem dX3_matchOf_17 : decode cX3_matchOf 17 = .ok (.iload_n 2, 1) := dk_28 (dk_at dksX3_matchOf_0 17 rfl rfl)
theorem dX3_matchOf_18 : decode cX3_matchOf 18 = .ok (.invokevirtual 314, 3) := dk_182 1 58 (dk_at dksX3_matchOf_0 18 rfl rfl)
theorem dX3_matchOf_21 : decode cX3_matchOf 21 = .ok (.ireturn, 1) := dk_172 (dk_at dksX3_matchOf_0 21 rfl rfl)
abbrev cX3_setting : ByteArray := prog_26_method_58_code
def yX3_setting : MethodName := ⟨RX3, "setting", "(I)I"⟩
def dkwX3_setting_1 : List UInt8 := [167, 0, 4, 3, 172]
abbrev dktX3_setting_1 : List UInt8 := dkwX3_setting_1 ++ []
def dkwX3_setting_0 : List UInt8 := [42, 27, 133, 9, 20, 1, 5, 184, 0, 144, 182, 0, 240, 153, 0, 13, 42, 180, 0, 7, 27, 47, 136]
abbrev dktX3_setting_0 : List UInt8 := dkwX3_setting_0 ++ dktX3_setting_1
theorem dksX3_setting_0 : cX3_setting.data.toList.drop 0 = dktX3_setting_0 := by decide +kernel
theorem dksX3_setting_1 : cX3_setting.data.toList.drop 23 = dktX3_setting_1 := dk_seg dksX3_setting_0 23 rfl rfl
theorem dX3_setting_0 : decode cX3_setting 0 = .ok (.aload_n 0, 1) := dk_42 (dk_at dksX3_setting_0 0 rfl rfl)
theorem dX3_setting_1 : decode cX3_setting 1 = .ok (.iload_n 1, 1) := dk_27 (dk_at dksX3_setting_0 1 rfl rfl)
theorem dX3_setting_2 : decode cX3_setting 2 = .ok (.i2l, 1) := dk_133 (dk_at dksX3_setting_0 2 rfl rfl)
theorem dX3_setting_3 : decode cX3_setting 3 = .ok (.lconst 0, 1) := dk_9 (dk_at dksX3_setting_0 3 rfl rfl)
theorem dX3_setting_4 : decode cX3_setting 4 = .ok (.ldc2_w 261, 3) := dk_20 1 5 (dk_at dksX3_setting_0 4 rfl rfl)
theorem dX3_setting_7 : decode cX3_setting 7 = .ok (.invokestatic 144, 3) := dk_184 0 144 (dk_at dksX3_setting_0 7 rfl rfl)
theorem dX3_setting_10 : decode cX3_setting 10 = .ok (.invokevirtual 240, 3) := dk_182 0 240 (dk_at dksX3_setting_0 10 rfl rfl)
theorem dX3_setting_13 : decode cX3_setting 13 = .ok (.ifCond .eq 13, 3) := dk_153 0 13 (dk_at dksX3_setting_0 13 rfl rfl)
theorem dX3_setting_16 : decode cX3_setting 16 = .ok (.aload_n 0, 1) := dk_42 (dk_at dksX3_setting_0 16 rfl rfl)
theorem dX3_setting_17 : decode cX3_setting 17 = .ok (.getfield 7, 3) := dk_180 0 7 (dk_at dksX3_setting_0 17 rfl rfl)
theorem dX3_setting_20 : decode cX3_setting 20 = .ok (.iload_n 1, 1) := dk_27 (dk_at dksX3_setting_0 20 rfl rfl)
theorem dX3_setting_21 : decode cX3_setting 21 = .ok (.laload, 1) := dk_47 (dk_at dksX3_setting_0 21 rfl rfl)
theorem dX3_setting_22 : decode cX3_setting 22 = .ok (.l2i, 1) := dk_136 (dk_at dksX3_setting_0 22 rfl rfl)
theorem dX3_setting_23 : decode cX3_setting 23 = .ok (.goto 4, 3) := dk_167 0 4 (dk_at dksX3_setting_1 0 rfl rfl)
theorem dX3_setting_26 : decode cX3_setting 26 = .ok (.iconst 0, 1) := dk_3 (dk_at dksX3_setting_1 3 rfl rfl)
theorem dX3_setting_27 : decode cX3_setting 27 = .ok (.ireturn, 1) := dk_172 (dk_at dksX3_setting_1 4 rfl rfl)
abbrev cX3_percentage : ByteArray := prog_26_method_59_code
def yX3_percentage : MethodName := ⟨RX3, "percentage", "(I)I"⟩
def dkwX3_percentage_1 : List UInt8 := [172]
abbrev dktX3_percentage_1 : List UInt8 := dkwX3_percentage_1 ++ []
def dkwX3_percentage_0 : List UInt8 := [42, 27, 184, 1, 7, 182, 0, 240, 153, 0, 15, 42, 180, 0, 7, 7, 27, 96, 47, 136, 167, 0, 4, 3]
abbrev dktX3_percentage_0 : List UInt8 := dkwX3_percentage_0 ++ dktX3_percentage_1
theorem dksX3_percentage_0 : cX3_percentage.data.toList.drop 0 = dktX3_percentage_0 := by decide +kernel
theorem dksX3_percentage_1 : cX3_percentage.data.toList.drop 24 = dktX3_percentage_1 := dk_seg dksX3_percentage_0 24 rfl rfl
theorem dX3_percentage_0 : decode cX3_percentage 0 = .ok (.aload_n 0, 1) := dk_42 (dk_at dksX3_percentage_0 0 rfl rfl)
theorem dX3_percentage_1 : decode cX3_percentage 1 = .ok (.iload_n 1, 1) := dk_27 (dk_at dksX3_percentage_0 1 rfl rfl)
theorem dX3_percentage_2 : decode cX3_percentage 2 = .ok (.invokestatic 263, 3) := dk_184 1 7 (dk_at dksX3_percentage_0 2 rfl rfl)
theorem dX3_percentage_5 : decode cX3_percentage 5 = .ok (.invokevirtual 240, 3) := dk_182 0 240 (dk_at dksX3_percentage_0 5 rfl rfl)
theorem dX3_percentage_8 : decode cX3_percentage 8 = .ok (.ifCond .eq 15, 3) := dk_153 0 15 (dk_at dksX3_percentage_0 8 rfl rfl)
theorem dX3_percentage_11 : decode cX3_percentage 11 = .ok (.aload_n 0, 1) := dk_42 (dk_at dksX3_percentage_0 11 rfl rfl)
theorem dX3_percentage_12 : decode cX3_percentage 12 = .ok (.getfield 7, 3) := dk_180 0 7 (dk_at dksX3_percentage_0 12 rfl rfl)
theorem dX3_percentage_15 : decode cX3_percentage 15 = .ok (.iconst 4, 1) := dk_7 (dk_at dksX3_percentage_0 15 rfl rfl)
theorem dX3_percentage_16 : decode cX3_percentage 16 = .ok (.iload_n 1, 1) := dk_27 (dk_at dksX3_percentage_0 16 rfl rfl)
theorem dX3_percentage_17 : decode cX3_percentage 17 = .ok (.iadd, 1) := dk_96 (dk_at dksX3_percentage_0 17 rfl rfl)
theorem dX3_percentage_18 : decode cX3_percentage 18 = .ok (.laload, 1) := dk_47 (dk_at dksX3_percentage_0 18 rfl rfl)
theorem dX3_percentage_19 : decode cX3_percentage 19 = .ok (.l2i, 1) := dk_136 (dk_at dksX3_percentage_0 19 rfl rfl)
theorem dX3_percentage_20 : decode cX3_percentage 20 = .ok (.goto 4, 3) := dk_167 0 4 (dk_at dksX3_percentage_0 20 rfl rfl)
theorem dX3_percentage_23 : decode cX3_percentage 23 = .ok (.iconst 0, 1) := dk_3 (dk_at dksX3_percentage_0 23 rfl rfl)
theorem dX3_percentage_24 : decode cX3_percentage 24 = .ok (.ireturn, 1) := dk_172 (dk_at dksX3_percentage_1 0 rfl rfl)
abbrev cX3_isBand : ByteArray := prog_26_method_51_code
def yX3_isBand : MethodName := ⟨RX3, "isBand", "(I)Z"⟩
def dkwX3_isBand_0 : List UInt8 := [26, 133, 9, 20, 0, 57, 184, 0, 144, 172]
abbrev dktX3_isBand_0 : List UInt8 := dkwX3_isBand_0 ++ []
theorem dksX3_isBand_0 : cX3_isBand.data.toList.drop 0 = dktX3_isBand_0 := by decide +kernel
theorem dX3_isBand_0 : decode cX3_isBand 0 = .ok (.iload_n 0, 1) := dk_26 (dk_at dksX3_isBand_0 0 rfl rfl)
theorem dX3_isBand_1 : decode cX3_isBand 1 = .ok (.i2l, 1) := dk_133 (dk_at dksX3_isBand_0 1 rfl rfl)
theorem dX3_isBand_2 : decode cX3_isBand 2 = .ok (.lconst 0, 1) := dk_9 (dk_at dksX3_isBand_0 2 rfl rfl)
theorem dX3_isBand_3 : decode cX3_isBand 3 = .ok (.ldc2_w 57, 3) := dk_20 0 57 (dk_at dksX3_isBand_0 3 rfl rfl)
theorem dX3_isBand_6 : decode cX3_isBand 6 = .ok (.invokestatic 144, 3) := dk_184 0 144 (dk_at dksX3_isBand_0 6 rfl rfl)
theorem dX3_isBand_9 : decode cX3_isBand 9 = .ok (.ireturn, 1) := dk_172 (dk_at dksX3_isBand_0 9 rfl rfl)
abbrev cX3_capacity : ByteArray := prog_26_method_60_code
def yX3_capacity : MethodName := ⟨RX3, "capacity", "(I)I"⟩
def dkwX3_capacity_1 : List UInt8 := [47, 136, 167, 0, 4, 3, 172]
abbrev dktX3_capacity_1 : List UInt8 := dkwX3_capacity_1 ++ []
def dkwX3_capacity_0 : List UInt8 := [42, 42, 27, 182, 1, 10, 182, 0, 240, 153, 0, 20, 42, 180, 0, 7, 16, 10, 5, 27, 104, 96, 4, 96]
abbrev dktX3_capacity_0 : List UInt8 := dkwX3_capacity_0 ++ dktX3_capacity_1
theorem dksX3_capacity_0 : cX3_capacity.data.toList.drop 0 = dktX3_capacity_0 := by decide +kernel
theorem dksX3_capacity_1 : cX3_capacity.data.toList.drop 24 = dktX3_capacity_1 := dk_seg dksX3_capacity_0 24 rfl rfl
theorem dX3_capacity_0 : decode cX3_capacity 0 = .ok (.aload_n 0, 1) := dk_42 (dk_at dksX3_capacity_0 0 rfl rfl)
theorem dX3_capacity_1 : decode cX3_capacity 1 = .ok (.aload_n 0, 1) := dk_42 (dk_at dksX3_capacity_0 1 rfl rfl)
theorem dX3_capacity_2 : decode cX3_capacity 2 = .ok (.iload_n 1, 1) := dk_27 (dk_at dksX3_capacity_0 2 rfl rfl)
theorem dX3_capacity_3 : decode cX3_capacity 3 = .ok (.invokevirtual 266, 3) := dk_182 1 10 (dk_at dksX3_capacity_0 3 rfl rfl)
theorem dX3_capacity_6 : decode cX3_capacity 6 = .ok (.invokevirtual 240, 3) := dk_182 0 240 (dk_at dksX3_capacity_0 6 rfl rfl)
theorem dX3_capacity_9 : decode cX3_capacity 9 = .ok (.ifCond .eq 20, 3) := dk_153 0 20 (dk_at dksX3_capacity_0 9 rfl rfl)
theorem dX3_capacity_12 : decode cX3_capacity 12 = .ok (.aload_n 0, 1) := dk_42 (dk_at dksX3_capacity_0 12 rfl rfl)
theorem dX3_capacity_13 : decode cX3_capacity 13 = .ok (.getfield 7, 3) := dk_180 0 7 (dk_at dksX3_capacity_0 13 rfl rfl)
theorem dX3_capacity_16 : decode cX3_capacity 16 = .ok (.bipush 10, 2) := dk_16 10 (dk_at dksX3_capacity_0 16 rfl rfl)
theorem dX3_capacity_18 : decode cX3_capacity 18 = .ok (.iconst 2, 1) := dk_5 (dk_at dksX3_capacity_0 18 rfl rfl)
theorem dX3_capacity_19 : decode cX3_capacity 19 = .ok (.iload_n 1, 1) := dk_27 (dk_at dksX3_capacity_0 19 rfl rfl)
theorem dX3_capacity_20 : decode cX3_capacity 20 = .ok (.imul, 1) := dk_104 (dk_at dksX3_capacity_0 20 rfl rfl)
theorem dX3_capacity_21 : decode cX3_capacity 21 = .ok (.iadd, 1) := dk_96 (dk_at dksX3_capacity_0 21 rfl rfl)
theorem dX3_capacity_22 : decode cX3_capacity 22 = .ok (.iconst 1, 1) := dk_4 (dk_at dksX3_capacity_0 22 rfl rfl)
theorem dX3_capacity_23 : decode cX3_capacity 23 = .ok (.iadd, 1) := dk_96 (dk_at dksX3_capacity_0 23 rfl rfl)
theorem dX3_capacity_24 : decode cX3_capacity 24 = .ok (.laload, 1) := dk_47 (dk_at dksX3_capacity_1 0 rfl rfl)
theorem dX3_capacity_25 : decode cX3_capacity 25 = .ok (.l2i, 1) := dk_136 (dk_at dksX3_capacity_1 1 rfl rfl)
theorem dX3_capacity_26 : decode cX3_capacity 26 = .ok (.goto 4, 3) := dk_167 0 4 (dk_at dksX3_capacity_1 2 rfl rfl)
theorem dX3_capacity_29 : decode cX3_capacity 29 = .ok (.iconst 0, 1) := dk_3 (dk_at dksX3_capacity_1 5 rfl rfl)
theorem dX3_capacity_30 : decode cX3_capacity 30 = .ok (.ireturn, 1) := dk_172 (dk_at dksX3_capacity_1 6 rfl rfl)
abbrev cX3_isPerson : ByteArray := prog_26_method_47_code
def yX3_isPerson : MethodName := ⟨RX3, "isPerson", "(I)Z"⟩
def dkwX3_isPerson_0 : List UInt8 := [27, 133, 9, 42, 180, 0, 7, 16, 9, 47, 10, 101, 184, 0, 144, 172]
abbrev dktX3_isPerson_0 : List UInt8 := dkwX3_isPerson_0 ++ []
theorem dksX3_isPerson_0 : cX3_isPerson.data.toList.drop 0 = dktX3_isPerson_0 := by decide +kernel
theorem dX3_isPerson_0 : decode cX3_isPerson 0 = .ok (.iload_n 1, 1) := dk_27 (dk_at dksX3_isPerson_0 0 rfl rfl)
theorem dX3_isPerson_1 : decode cX3_isPerson 1 = .ok (.i2l, 1) := dk_133 (dk_at dksX3_isPerson_0 1 rfl rfl)
theorem dX3_isPerson_2 : decode cX3_isPerson 2 = .ok (.lconst 0, 1) := dk_9 (dk_at dksX3_isPerson_0 2 rfl rfl)
theorem dX3_isPerson_3 : decode cX3_isPerson 3 = .ok (.aload_n 0, 1) := dk_42 (dk_at dksX3_isPerson_0 3 rfl rfl)
theorem dX3_isPerson_4 : decode cX3_isPerson 4 = .ok (.getfield 7, 3) := dk_180 0 7 (dk_at dksX3_isPerson_0 4 rfl rfl)
theorem dX3_isPerson_7 : decode cX3_isPerson 7 = .ok (.bipush 9, 2) := dk_16 9 (dk_at dksX3_isPerson_0 7 rfl rfl)
theorem dX3_isPerson_9 : decode cX3_isPerson 9 = .ok (.laload, 1) := dk_47 (dk_at dksX3_isPerson_0 9 rfl rfl)
theorem dX3_isPerson_10 : decode cX3_isPerson 10 = .ok (.lconst 1, 1) := dk_10 (dk_at dksX3_isPerson_0 10 rfl rfl)
theorem dX3_isPerson_11 : decode cX3_isPerson 11 = .ok (.lsub, 1) := dk_101 (dk_at dksX3_isPerson_0 11 rfl rfl)
theorem dX3_isPerson_12 : decode cX3_isPerson 12 = .ok (.invokestatic 144, 3) := dk_184 0 144 (dk_at dksX3_isPerson_0 12 rfl rfl)
theorem dX3_isPerson_15 : decode cX3_isPerson 15 = .ok (.ireturn, 1) := dk_172 (dk_at dksX3_isPerson_0 15 rfl rfl)
abbrev cX3_job : ByteArray := prog_26_method_63_code
def yX3_job : MethodName := ⟨RX3, "job", "(II)I"⟩
def dkwX3_job_2 : List UInt8 := [42, 27, 182, 1, 33, 172]
abbrev dktX3_job_2 : List UInt8 := dkwX3_job_2 ++ []
def dkwX3_job_1 : List UInt8 := [7, 162, 0, 10, 42, 27, 28, 182, 1, 26, 172, 28, 7, 160, 0, 11, 42, 27, 182, 1, 30, 167, 0, 8]
abbrev dktX3_job_1 : List UInt8 := dkwX3_job_1 ++ dktX3_job_2
def dkwX3_job_0 : List UInt8 := [42, 42, 27, 182, 1, 20, 28, 133, 9, 20, 0, 152, 184, 0, 144, 182, 1, 23, 154, 0, 5, 3, 172, 28]
abbrev dktX3_job_0 : List UInt8 := dkwX3_job_0 ++ dktX3_job_1
theorem dksX3_job_0 : cX3_job.data.toList.drop 0 = dktX3_job_0 := by decide +kernel
theorem dksX3_job_1 : cX3_job.data.toList.drop 24 = dktX3_job_1 := dk_seg dksX3_job_0 24 rfl rfl
theorem dksX3_job_2 : cX3_job.data.toList.drop 48 = dktX3_job_2 := dk_seg dksX3_job_1 24 rfl rfl
theorem dX3_job_0 : decode cX3_job 0 = .ok (.aload_n 0, 1) := dk_42 (dk_at dksX3_job_0 0 rfl rfl)
theorem dX3_job_1 : decode cX3_job 1 = .ok (.aload_n 0, 1) := dk_42 (dk_at dksX3_job_0 1 rfl rfl)
theorem dX3_job_2 : decode cX3_job 2 = .ok (.iload_n 1, 1) := dk_27 (dk_at dksX3_job_0 2 rfl rfl)
theorem dX3_job_3 : decode cX3_job 3 = .ok (.invokevirtual 276, 3) := dk_182 1 20 (dk_at dksX3_job_0 3 rfl rfl)
theorem dX3_job_6 : decode cX3_job 6 = .ok (.iload_n 2, 1) := dk_28 (dk_at dksX3_job_0 6 rfl rfl)
theorem dX3_job_7 : decode cX3_job 7 = .ok (.i2l, 1) := dk_133 (dk_at dksX3_job_0 7 rfl rfl)
theorem dX3_job_8 : decode cX3_job 8 = .ok (.lconst 0, 1) := dk_9 (dk_at dksX3_job_0 8 rfl rfl)
theorem dX3_job_9 : decode cX3_job 9 = .ok (.ldc2_w 152, 3) := dk_20 0 152 (dk_at dksX3_job_0 9 rfl rfl)
theorem dX3_job_12 : decode cX3_job 12 = .ok (.invokestatic 144, 3) := dk_184 0 144 (dk_at dksX3_job_0 12 rfl rfl)
theorem dX3_job_15 : decode cX3_job 15 = .ok (.invokevirtual 279, 3) := dk_182 1 23 (dk_at dksX3_job_0 15 rfl rfl)
theorem dX3_job_18 : decode cX3_job 18 = .ok (.ifCond .ne 5, 3) := dk_154 0 5 (dk_at dksX3_job_0 18 rfl rfl)
theorem dX3_job_21 : decode cX3_job 21 = .ok (.iconst 0, 1) := dk_3 (dk_at dksX3_job_0 21 rfl rfl)
theorem dX3_job_22 : decode cX3_job 22 = .ok (.ireturn, 1) := dk_172 (dk_at dksX3_job_0 22 rfl rfl)
theorem dX3_job_23 : decode cX3_job 23 = .ok (.iload_n 2, 1) := dk_28 (dk_at dksX3_job_0 23 rfl rfl)
theorem dX3_job_24 : decode cX3_job 24 = .ok (.iconst 4, 1) := dk_7 (dk_at dksX3_job_1 0 rfl rfl)
theorem dX3_job_25 : decode cX3_job 25 = .ok (.if_icmp .ge 10, 3) := dk_162 0 10 (dk_at dksX3_job_1 1 rfl rfl)
theorem dX3_job_28 : decode cX3_job 28 = .ok (.aload_n 0, 1) := dk_42 (dk_at dksX3_job_1 4 rfl rfl)
theorem dX3_job_29 : decode cX3_job 29 = .ok (.iload_n 1, 1) := dk_27 (dk_at dksX3_job_1 5 rfl rfl)
theorem dX3_job_30 : decode cX3_job 30 = .ok (.iload_n 2, 1) := dk_28 (dk_at dksX3_job_1 6 rfl rfl)
theorem dX3_job_31 : decode cX3_job 31 = .ok (.invokevirtual 282, 3) := dk_182 1 26 (dk_at dksX3_job_1 7 rfl rfl)
theorem dX3_job_34 : decode cX3_job 34 = .ok (.ireturn, 1) := dk_172 (dk_at dksX3_job_1 10 rfl rfl)
theorem dX3_job_35 : decode cX3_job 35 = .ok (.iload_n 2, 1) := dk_28 (dk_at dksX3_job_1 11 rfl rfl)
theorem dX3_job_36 : decode cX3_job 36 = .ok (.iconst 4, 1) := dk_7 (dk_at dksX3_job_1 12 rfl rfl)
theorem dX3_job_37 : decode cX3_job 37 = .ok (.if_icmp .ne 11, 3) := dk_160 0 11 (dk_at dksX3_job_1 13 rfl rfl)
theorem dX3_job_40 : decode cX3_job 40 = .ok (.aload_n 0, 1) := dk_42 (dk_at dksX3_job_1 16 rfl rfl)
theorem dX3_job_41 : decode cX3_job 41 = .ok (.iload_n 1, 1) := dk_27 (dk_at dksX3_job_1 17 rfl rfl)
theorem dX3_job_42 : decode cX3_job 42 = .ok (.invokevirtual 286, 3) := dk_182 1 30 (dk_at dksX3_job_1 18 rfl rfl)
theorem dX3_job_45 : decode cX3_job 45 = .ok (.goto 8, 3) := dk_167 0 8 (dk_at dksX3_job_1 21 rfl rfl)
theorem dX3_job_48 : decode cX3_job 48 = .ok (.aload_n 0, 1) := dk_42 (dk_at dksX3_job_2 0 rfl rfl)
theorem dX3_job_49 : decode cX3_job 49 = .ok (.iload_n 1, 1) := dk_27 (dk_at dksX3_job_2 1 rfl rfl)
theorem dX3_job_50 : decode cX3_job 50 = .ok (.invokevirtual 289, 3) := dk_182 1 33 (dk_at dksX3_job_2 2 rfl rfl)
theorem dX3_job_53 : decode cX3_job 53 = .ok (.ireturn, 1) := dk_172 (dk_at dksX3_job_2 5 rfl rfl)
abbrev cX3_isJob : ByteArray := prog_26_method_49_code
def yX3_isJob : MethodName := ⟨RX3, "isJob", "(I)Z"⟩
def dkwX3_isJob_0 : List UInt8 := [27, 133, 9, 42, 180, 0, 7, 16, 45, 47, 10, 101, 184, 0, 144, 172]
abbrev dktX3_isJob_0 : List UInt8 := dkwX3_isJob_0 ++ []
theorem dksX3_isJob_0 : cX3_isJob.data.toList.drop 0 = dktX3_isJob_0 := by decide +kernel
theorem dX3_isJob_0 : decode cX3_isJob 0 = .ok (.iload_n 1, 1) := dk_27 (dk_at dksX3_isJob_0 0 rfl rfl)
theorem dX3_isJob_1 : decode cX3_isJob 1 = .ok (.i2l, 1) := dk_133 (dk_at dksX3_isJob_0 1 rfl rfl)
theorem dX3_isJob_2 : decode cX3_isJob 2 = .ok (.lconst 0, 1) := dk_9 (dk_at dksX3_isJob_0 2 rfl rfl)
theorem dX3_isJob_3 : decode cX3_isJob 3 = .ok (.aload_n 0, 1) := dk_42 (dk_at dksX3_isJob_0 3 rfl rfl)
theorem dX3_isJob_4 : decode cX3_isJob 4 = .ok (.getfield 7, 3) := dk_180 0 7 (dk_at dksX3_isJob_0 4 rfl rfl)
theorem dX3_isJob_7 : decode cX3_isJob 7 = .ok (.bipush 45, 2) := dk_16 45 (dk_at dksX3_isJob_0 7 rfl rfl)
theorem dX3_isJob_9 : decode cX3_isJob 9 = .ok (.laload, 1) := dk_47 (dk_at dksX3_isJob_0 9 rfl rfl)
theorem dX3_isJob_10 : decode cX3_isJob 10 = .ok (.lconst 1, 1) := dk_10 (dk_at dksX3_isJob_0 10 rfl rfl)
theorem dX3_isJob_11 : decode cX3_isJob 11 = .ok (.lsub, 1) := dk_101 (dk_at dksX3_isJob_0 11 rfl rfl)
theorem dX3_isJob_12 : decode cX3_isJob 12 = .ok (.invokestatic 144, 3) := dk_184 0 144 (dk_at dksX3_isJob_0 12 rfl rfl)
theorem dX3_isJob_15 : decode cX3_isJob 15 = .ok (.ireturn, 1) := dk_172 (dk_at dksX3_isJob_0 15 rfl rfl)
abbrev cX3_good_2 : ByteArray := prog_26_method_6_code
def yX3_good_2 : MethodName := ⟨RX3, "good", "(ZZ)Z"⟩
def dkwX3_good_2_0 : List UInt8 := [42, 27, 28, 4, 182, 0, 61, 172]
abbrev dktX3_good_2_0 : List UInt8 := dkwX3_good_2_0 ++ []
theorem dksX3_good_2_0 : cX3_good_2.data.toList.drop 0 = dktX3_good_2_0 := by decide +kernel
theorem dX3_good_2_0 : decode cX3_good_2 0 = .ok (.aload_n 0, 1) := dk_42 (dk_at dksX3_good_2_0 0 rfl rfl)
theorem dX3_good_2_1 : decode cX3_good_2 1 = .ok (.iload_n 1, 1) := dk_27 (dk_at dksX3_good_2_0 1 rfl rfl)
theorem dX3_good_2_2 : decode cX3_good_2 2 = .ok (.iload_n 2, 1) := dk_28 (dk_at dksX3_good_2_0 2 rfl rfl)
theorem dX3_good_2_3 : decode cX3_good_2 3 = .ok (.iconst 1, 1) := dk_4 (dk_at dksX3_good_2_0 3 rfl rfl)
theorem dX3_good_2_4 : decode cX3_good_2 4 = .ok (.invokevirtual 61, 3) := dk_182 0 61 (dk_at dksX3_good_2_0 4 rfl rfl)
theorem dX3_good_2_7 : decode cX3_good_2 7 = .ok (.ireturn, 1) := dk_172 (dk_at dksX3_good_2_0 7 rfl rfl)
abbrev cX3_good_3 : ByteArray := prog_26_method_7_code
def yX3_good_3 : MethodName := ⟨RX3, "good", "(ZZZ)Z"⟩
def dkwX3_good_3_2 : List UInt8 := [167, 0, 4, 3, 172]
abbrev dktX3_good_3_2 : List UInt8 := dkwX3_good_3_2 ++ []
def dkwX3_good_3_1 : List UInt8 := [181, 0, 48, 167, 0, 12, 29, 154, 0, 8, 42, 6, 181, 0, 48, 42, 180, 0, 48, 154, 0, 7, 4]
abbrev dktX3_good_3_1 : List UInt8 := dkwX3_good_3_1 ++ dktX3_good_3_2
def dkwX3_good_3_0 : List UInt8 := [42, 3, 181, 0, 48, 27, 154, 0, 11, 42, 4, 181, 0, 48, 167, 0, 24, 28, 154, 0, 11, 42, 5]
abbrev dktX3_good_3_0 : List UInt8 := dkwX3_good_3_0 ++ dktX3_good_3_1
theorem dksX3_good_3_0 : cX3_good_3.data.toList.drop 0 = dktX3_good_3_0 := by decide +kernel
theorem dksX3_good_3_1 : cX3_good_3.data.toList.drop 23 = dktX3_good_3_1 := dk_seg dksX3_good_3_0 23 rfl rfl
theorem dksX3_good_3_2 : cX3_good_3.data.toList.drop 46 = dktX3_good_3_2 := dk_seg dksX3_good_3_1 23 rfl rfl
theorem dX3_good_3_0 : decode cX3_good_3 0 = .ok (.aload_n 0, 1) := dk_42 (dk_at dksX3_good_3_0 0 rfl rfl)
theorem dX3_good_3_1 : decode cX3_good_3 1 = .ok (.iconst 0, 1) := dk_3 (dk_at dksX3_good_3_0 1 rfl rfl)
theorem dX3_good_3_2 : decode cX3_good_3 2 = .ok (.putfield 48, 3) := dk_181 0 48 (dk_at dksX3_good_3_0 2 rfl rfl)
theorem dX3_good_3_5 : decode cX3_good_3 5 = .ok (.iload_n 1, 1) := dk_27 (dk_at dksX3_good_3_0 5 rfl rfl)
theorem dX3_good_3_6 : decode cX3_good_3 6 = .ok (.ifCond .ne 11, 3) := dk_154 0 11 (dk_at dksX3_good_3_0 6 rfl rfl)
theorem dX3_good_3_9 : decode cX3_good_3 9 = .ok (.aload_n 0, 1) := dk_42 (dk_at dksX3_good_3_0 9 rfl rfl)
theorem dX3_good_3_10 : decode cX3_good_3 10 = .ok (.iconst 1, 1) := dk_4 (dk_at dksX3_good_3_0 10 rfl rfl)
theorem dX3_good_3_11 : decode cX3_good_3 11 = .ok (.putfield 48, 3) := dk_181 0 48 (dk_at dksX3_good_3_0 11 rfl rfl)
theorem dX3_good_3_14 : decode cX3_good_3 14 = .ok (.goto 24, 3) := dk_167 0 24 (dk_at dksX3_good_3_0 14 rfl rfl)
theorem dX3_good_3_17 : decode cX3_good_3 17 = .ok (.iload_n 2, 1) := dk_28 (dk_at dksX3_good_3_0 17 rfl rfl)
theorem dX3_good_3_18 : decode cX3_good_3 18 = .ok (.ifCond .ne 11, 3) := dk_154 0 11 (dk_at dksX3_good_3_0 18 rfl rfl)
theorem dX3_good_3_21 : decode cX3_good_3 21 = .ok (.aload_n 0, 1) := dk_42 (dk_at dksX3_good_3_0 21 rfl rfl)
theorem dX3_good_3_22 : decode cX3_good_3 22 = .ok (.iconst 2, 1) := dk_5 (dk_at dksX3_good_3_0 22 rfl rfl)
theorem dX3_good_3_23 : decode cX3_good_3 23 = .ok (.putfield 48, 3) := dk_181 0 48 (dk_at dksX3_good_3_1 0 rfl rfl)
theorem dX3_good_3_26 : decode cX3_good_3 26 = .ok (.goto 12, 3) := dk_167 0 12 (dk_at dksX3_good_3_1 3 rfl rfl)
theorem dX3_good_3_29 : decode cX3_good_3 29 = .ok (.iload_n 3, 1) := dk_29 (dk_at dksX3_good_3_1 6 rfl rfl)
theorem dX3_good_3_30 : decode cX3_good_3 30 = .ok (.ifCond .ne 8, 3) := dk_154 0 8 (dk_at dksX3_good_3_1 7 rfl rfl)
theorem dX3_good_3_33 : decode cX3_good_3 33 = .ok (.aload_n 0, 1) := dk_42 (dk_at dksX3_good_3_1 10 rfl rfl)
theorem dX3_good_3_34 : decode cX3_good_3 34 = .ok (.iconst 3, 1) := dk_6 (dk_at dksX3_good_3_1 11 rfl rfl)
theorem dX3_good_3_35 : decode cX3_good_3 35 = .ok (.putfield 48, 3) := dk_181 0 48 (dk_at dksX3_good_3_1 12 rfl rfl)
theorem dX3_good_3_38 : decode cX3_good_3 38 = .ok (.aload_n 0, 1) := dk_42 (dk_at dksX3_good_3_1 15 rfl rfl)
theorem dX3_good_3_39 : decode cX3_good_3 39 = .ok (.getfield 48, 3) := dk_180 0 48 (dk_at dksX3_good_3_1 16 rfl rfl)
theorem dX3_good_3_42 : decode cX3_good_3 42 = .ok (.ifCond .ne 7, 3) := dk_154 0 7 (dk_at dksX3_good_3_1 19 rfl rfl)
theorem dX3_good_3_45 : decode cX3_good_3 45 = .ok (.iconst 1, 1) := dk_4 (dk_at dksX3_good_3_1 22 rfl rfl)
theorem dX3_good_3_46 : decode cX3_good_3 46 = .ok (.goto 4, 3) := dk_167 0 4 (dk_at dksX3_good_3_2 0 rfl rfl)
theorem dX3_good_3_49 : decode cX3_good_3 49 = .ok (.iconst 0, 1) := dk_3 (dk_at dksX3_good_3_2 3 rfl rfl)
theorem dX3_good_3_50 : decode cX3_good_3 50 = .ok (.ireturn, 1) := dk_172 (dk_at dksX3_good_3_2 4 rfl rfl)
abbrev cX3_segmentsOf : ByteArray := prog_26_method_61_code
def yX3_segmentsOf : MethodName := ⟨RX3, "segmentsOf", "(I)I"⟩
def dkwX3_segmentsOf_1 : List UInt8 := [132, 3, 1, 167, 255, 233, 28, 172]
abbrev dktX3_segmentsOf_1 : List UInt8 := dkwX3_segmentsOf_1 ++ []
def dkwX3_segmentsOf_0 : List UInt8 := [3, 61, 3, 62, 29, 42, 182, 0, 252, 162, 0, 21, 42, 29, 182, 1, 13, 27, 160, 0, 6, 132, 2, 1]
abbrev dktX3_segmentsOf_0 : List UInt8 := dkwX3_segmentsOf_0 ++ dktX3_segmentsOf_1
theorem dksX3_segmentsOf_0 : cX3_segmentsOf.data.toList.drop 0 = dktX3_segmentsOf_0 := by decide +kernel
theorem dksX3_segmentsOf_1 : cX3_segmentsOf.data.toList.drop 24 = dktX3_segmentsOf_1 := dk_seg dksX3_segmentsOf_0 24 rfl rfl
theorem dX3_segmentsOf_0 : decode cX3_segmentsOf 0 = .ok (.iconst 0, 1) := dk_3 (dk_at dksX3_segmentsOf_0 0 rfl rfl)
theorem dX3_segmentsOf_1 : decode cX3_segmentsOf 1 = .ok (.istore_n 2, 1) := dk_61 (dk_at dksX3_segmentsOf_0 1 rfl rfl)
theorem dX3_segmentsOf_2 : decode cX3_segmentsOf 2 = .ok (.iconst 0, 1) := dk_3 (dk_at dksX3_segmentsOf_0 2 rfl rfl)
theorem dX3_segmentsOf_3 : decode cX3_segmentsOf 3 = .ok (.istore_n 3, 1) := dk_62 (dk_at dksX3_segmentsOf_0 3 rfl rfl)
theorem dX3_segmentsOf_4 : decode cX3_segmentsOf 4 = .ok (.iload_n 3, 1) := dk_29 (dk_at dksX3_segmentsOf_0 4 rfl rfl)
theorem dX3_segmentsOf_5 : decode cX3_segmentsOf 5 = .ok (.aload_n 0, 1) := dk_42 (dk_at dksX3_segmentsOf_0 5 rfl rfl)
theorem dX3_segmentsOf_6 : decode cX3_segmentsOf 6 = .ok (.invokevirtual 252, 3) := dk_182 0 252 (dk_at dksX3_segmentsOf_0 6 rfl rfl)
theorem dX3_segmentsOf_9 : decode cX3_segmentsOf 9 = .ok (.if_icmp .ge 21, 3) := dk_162 0 21 (dk_at dksX3_segmentsOf_0 9 rfl rfl)
theorem dX3_segmentsOf_12 : decode cX3_segmentsOf 12 = .ok (.aload_n 0, 1) := dk_42 (dk_at dksX3_segmentsOf_0 12 rfl rfl)
theorem dX3_segmentsOf_13 : decode cX3_segmentsOf 13 = .ok (.iload_n 3, 1) := dk_29 (dk_at dksX3_segmentsOf_0 13 rfl rfl)
theorem dX3_segmentsOf_14 : decode cX3_segmentsOf 14 = .ok (.invokevirtual 269, 3) := dk_182 1 13 (dk_at dksX3_segmentsOf_0 14 rfl rfl)
theorem dX3_segmentsOf_17 : decode cX3_segmentsOf 17 = .ok (.iload_n 1, 1) := dk_27 (dk_at dksX3_segmentsOf_0 17 rfl rfl)
theorem dX3_segmentsOf_18 : decode cX3_segmentsOf 18 = .ok (.if_icmp .ne 6, 3) := dk_160 0 6 (dk_at dksX3_segmentsOf_0 18 rfl rfl)
theorem dX3_segmentsOf_21 : decode cX3_segmentsOf 21 = .ok (.iinc 2 1, 3) := dk_132 2 1 (dk_at dksX3_segmentsOf_0 21 rfl rfl)
theorem dX3_segmentsOf_24 : decode cX3_segmentsOf 24 = .ok (.iinc 3 1, 3) := dk_132 3 1 (dk_at dksX3_segmentsOf_1 0 rfl rfl)
theorem dX3_segmentsOf_27 : decode cX3_segmentsOf 27 = .ok (.goto (-23), 3) := dk_167 255 233 (dk_at dksX3_segmentsOf_1 3 rfl rfl)
theorem dX3_segmentsOf_30 : decode cX3_segmentsOf 30 = .ok (.iload_n 2, 1) := dk_28 (dk_at dksX3_segmentsOf_1 6 rfl rfl)
theorem dX3_segmentsOf_31 : decode cX3_segmentsOf 31 = .ok (.ireturn, 1) := dk_172 (dk_at dksX3_segmentsOf_1 7 rfl rfl)
abbrev cX3_wordsOfJob : ByteArray := prog_26_method_62_code
def yX3_wordsOfJob : MethodName := ⟨RX3, "wordsOfJob", "(I)I"⟩
def dkwX3_wordsOfJob_1 : List UInt8 := [3, 182, 1, 16, 96, 61, 132, 3, 1, 167, 255, 227, 28, 172]
abbrev dktX3_wordsOfJob_1 : List UInt8 := dkwX3_wordsOfJob_1 ++ []
def dkwX3_wordsOfJob_0 : List UInt8 := [3, 61, 3, 62, 29, 42, 182, 0, 252, 162, 0, 27, 42, 29, 182, 1, 13, 27, 160, 0, 12, 28, 42, 29]
abbrev dktX3_wordsOfJob_0 : List UInt8 := dkwX3_wordsOfJob_0 ++ dktX3_wordsOfJob_1
theorem dksX3_wordsOfJob_0 : cX3_wordsOfJob.data.toList.drop 0 = dktX3_wordsOfJob_0 := by decide +kernel
theorem dksX3_wordsOfJob_1 : cX3_wordsOfJob.data.toList.drop 24 = dktX3_wordsOfJob_1 := dk_seg dksX3_wordsOfJob_0 24 rfl rfl
theorem dX3_wordsOfJob_0 : decode cX3_wordsOfJob 0 = .ok (.iconst 0, 1) := dk_3 (dk_at dksX3_wordsOfJob_0 0 rfl rfl)
theorem dX3_wordsOfJob_1 : decode cX3_wordsOfJob 1 = .ok (.istore_n 2, 1) := dk_61 (dk_at dksX3_wordsOfJob_0 1 rfl rfl)
theorem dX3_wordsOfJob_2 : decode cX3_wordsOfJob 2 = .ok (.iconst 0, 1) := dk_3 (dk_at dksX3_wordsOfJob_0 2 rfl rfl)
theorem dX3_wordsOfJob_3 : decode cX3_wordsOfJob 3 = .ok (.istore_n 3, 1) := dk_62 (dk_at dksX3_wordsOfJob_0 3 rfl rfl)
theorem dX3_wordsOfJob_4 : decode cX3_wordsOfJob 4 = .ok (.iload_n 3, 1) := dk_29 (dk_at dksX3_wordsOfJob_0 4 rfl rfl)
theorem dX3_wordsOfJob_5 : decode cX3_wordsOfJob 5 = .ok (.aload_n 0, 1) := dk_42 (dk_at dksX3_wordsOfJob_0 5 rfl rfl)
theorem dX3_wordsOfJob_6 : decode cX3_wordsOfJob 6 = .ok (.invokevirtual 252, 3) := dk_182 0 252 (dk_at dksX3_wordsOfJob_0 6 rfl rfl)
theorem dX3_wordsOfJob_9 : decode cX3_wordsOfJob 9 = .ok (.if_icmp .ge 27, 3) := dk_162 0 27 (dk_at dksX3_wordsOfJob_0 9 rfl rfl)
theorem dX3_wordsOfJob_12 : decode cX3_wordsOfJob 12 = .ok (.aload_n 0, 1) := dk_42 (dk_at dksX3_wordsOfJob_0 12 rfl rfl)
theorem dX3_wordsOfJob_13 : decode cX3_wordsOfJob 13 = .ok (.iload_n 3, 1) := dk_29 (dk_at dksX3_wordsOfJob_0 13 rfl rfl)
theorem dX3_wordsOfJob_14 : decode cX3_wordsOfJob 14 = .ok (.invokevirtual 269, 3) := dk_182 1 13 (dk_at dksX3_wordsOfJob_0 14 rfl rfl)
theorem dX3_wordsOfJob_17 : decode cX3_wordsOfJob 17 = .ok (.iload_n 1, 1) := dk_27 (dk_at dksX3_wordsOfJob_0 17 rfl rfl)
theorem dX3_wordsOfJob_18 : decode cX3_wordsOfJob 18 = .ok (.if_icmp .ne 12, 3) := dk_160 0 12 (dk_at dksX3_wordsOfJob_0 18 rfl rfl)
theorem dX3_wordsOfJob_21 : decode cX3_wordsOfJob 21 = .ok (.iload_n 2, 1) := dk_28 (dk_at dksX3_wordsOfJob_0 21 rfl rfl)
theorem dX3_wordsOfJob_22 : decode cX3_wordsOfJob 22 = .ok (.aload_n 0, 1) := dk_42 (dk_at dksX3_wordsOfJob_0 22 rfl rfl)
theorem dX3_wordsOfJob_23 : decode cX3_wordsOfJob 23 = .ok (.iload_n 3, 1) := dk_29 (dk_at dksX3_wordsOfJob_0 23 rfl rfl)
theorem dX3_wordsOfJob_24 : decode cX3_wordsOfJob 24 = .ok (.iconst 0, 1) := dk_3 (dk_at dksX3_wordsOfJob_1 0 rfl rfl)
theorem dX3_wordsOfJob_25 : decode cX3_wordsOfJob 25 = .ok (.invokevirtual 272, 3) := dk_182 1 16 (dk_at dksX3_wordsOfJob_1 1 rfl rfl)
theorem dX3_wordsOfJob_28 : decode cX3_wordsOfJob 28 = .ok (.iadd, 1) := dk_96 (dk_at dksX3_wordsOfJob_1 4 rfl rfl)
theorem dX3_wordsOfJob_29 : decode cX3_wordsOfJob 29 = .ok (.istore_n 2, 1) := dk_61 (dk_at dksX3_wordsOfJob_1 5 rfl rfl)
theorem dX3_wordsOfJob_30 : decode cX3_wordsOfJob 30 = .ok (.iinc 3 1, 3) := dk_132 3 1 (dk_at dksX3_wordsOfJob_1 6 rfl rfl)
theorem dX3_wordsOfJob_33 : decode cX3_wordsOfJob 33 = .ok (.goto (-29), 3) := dk_167 255 227 (dk_at dksX3_wordsOfJob_1 9 rfl rfl)
theorem dX3_wordsOfJob_36 : decode cX3_wordsOfJob 36 = .ok (.iload_n 2, 1) := dk_28 (dk_at dksX3_wordsOfJob_1 12 rfl rfl)
theorem dX3_wordsOfJob_37 : decode cX3_wordsOfJob 37 = .ok (.ireturn, 1) := dk_172 (dk_at dksX3_wordsOfJob_1 13 rfl rfl)
abbrev cX3_jobOf : ByteArray := prog_26_method_64_code
def yX3_jobOf : MethodName := ⟨RX3, "jobOf", "(I)I"⟩
def dkwX3_jobOf_0 : List UInt8 := [42, 42, 27, 182, 1, 36, 182, 0, 240, 153, 0, 11, 42, 27, 182, 1, 13, 167, 0, 4, 3, 172]
abbrev dktX3_jobOf_0 : List UInt8 := dkwX3_jobOf_0 ++ []
theorem dksX3_jobOf_0 : cX3_jobOf.data.toList.drop 0 = dktX3_jobOf_0 := by decide +kernel
theorem dX3_jobOf_0 : decode cX3_jobOf 0 = .ok (.aload_n 0, 1) := dk_42 (dk_at dksX3_jobOf_0 0 rfl rfl)
theorem dX3_jobOf_1 : decode cX3_jobOf 1 = .ok (.aload_n 0, 1) := dk_42 (dk_at dksX3_jobOf_0 1 rfl rfl)
theorem dX3_jobOf_2 : decode cX3_jobOf 2 = .ok (.iload_n 1, 1) := dk_27 (dk_at dksX3_jobOf_0 2 rfl rfl)
theorem dX3_jobOf_3 : decode cX3_jobOf 3 = .ok (.invokevirtual 292, 3) := dk_182 1 36 (dk_at dksX3_jobOf_0 3 rfl rfl)
theorem dX3_jobOf_6 : decode cX3_jobOf 6 = .ok (.invokevirtual 240, 3) := dk_182 0 240 (dk_at dksX3_jobOf_0 6 rfl rfl)
theorem dX3_jobOf_9 : decode cX3_jobOf 9 = .ok (.ifCond .eq 11, 3) := dk_153 0 11 (dk_at dksX3_jobOf_0 9 rfl rfl)
theorem dX3_jobOf_12 : decode cX3_jobOf 12 = .ok (.aload_n 0, 1) := dk_42 (dk_at dksX3_jobOf_0 12 rfl rfl)
theorem dX3_jobOf_13 : decode cX3_jobOf 13 = .ok (.iload_n 1, 1) := dk_27 (dk_at dksX3_jobOf_0 13 rfl rfl)
theorem dX3_jobOf_14 : decode cX3_jobOf 14 = .ok (.invokevirtual 269, 3) := dk_182 1 13 (dk_at dksX3_jobOf_0 14 rfl rfl)
theorem dX3_jobOf_17 : decode cX3_jobOf 17 = .ok (.goto 4, 3) := dk_167 0 4 (dk_at dksX3_jobOf_0 17 rfl rfl)
theorem dX3_jobOf_20 : decode cX3_jobOf 20 = .ok (.iconst 0, 1) := dk_3 (dk_at dksX3_jobOf_0 20 rfl rfl)
theorem dX3_jobOf_21 : decode cX3_jobOf 21 = .ok (.ireturn, 1) := dk_172 (dk_at dksX3_jobOf_0 21 rfl rfl)
abbrev cX3_isSegment : ByteArray := prog_26_method_50_code
def yX3_isSegment : MethodName := ⟨RX3, "isSegment", "(I)Z"⟩
def dkwX3_isSegment_0 : List UInt8 := [27, 133, 9, 42, 180, 0, 7, 16, 66, 47, 10, 101, 184, 0, 144, 172]
abbrev dktX3_isSegment_0 : List UInt8 := dkwX3_isSegment_0 ++ []
theorem dksX3_isSegment_0 : cX3_isSegment.data.toList.drop 0 = dktX3_isSegment_0 := by decide +kernel
theorem dX3_isSegment_0 : decode cX3_isSegment 0 = .ok (.iload_n 1, 1) := dk_27 (dk_at dksX3_isSegment_0 0 rfl rfl)
theorem dX3_isSegment_1 : decode cX3_isSegment 1 = .ok (.i2l, 1) := dk_133 (dk_at dksX3_isSegment_0 1 rfl rfl)
theorem dX3_isSegment_2 : decode cX3_isSegment 2 = .ok (.lconst 0, 1) := dk_9 (dk_at dksX3_isSegment_0 2 rfl rfl)
theorem dX3_isSegment_3 : decode cX3_isSegment 3 = .ok (.aload_n 0, 1) := dk_42 (dk_at dksX3_isSegment_0 3 rfl rfl)
theorem dX3_isSegment_4 : decode cX3_isSegment 4 = .ok (.getfield 7, 3) := dk_180 0 7 (dk_at dksX3_isSegment_0 4 rfl rfl)
theorem dX3_isSegment_7 : decode cX3_isSegment 7 = .ok (.bipush 66, 2) := dk_16 66 (dk_at dksX3_isSegment_0 7 rfl rfl)
theorem dX3_isSegment_9 : decode cX3_isSegment 9 = .ok (.laload, 1) := dk_47 (dk_at dksX3_isSegment_0 9 rfl rfl)
theorem dX3_isSegment_10 : decode cX3_isSegment 10 = .ok (.lconst 1, 1) := dk_10 (dk_at dksX3_isSegment_0 10 rfl rfl)
theorem dX3_isSegment_11 : decode cX3_isSegment 11 = .ok (.lsub, 1) := dk_101 (dk_at dksX3_isSegment_0 11 rfl rfl)
theorem dX3_isSegment_12 : decode cX3_isSegment 12 = .ok (.invokestatic 144, 3) := dk_184 0 144 (dk_at dksX3_isSegment_0 12 rfl rfl)
theorem dX3_isSegment_15 : decode cX3_isSegment 15 = .ok (.ireturn, 1) := dk_172 (dk_at dksX3_isSegment_0 15 rfl rfl)
abbrev cX3_words : ByteArray := prog_26_method_65_code
def yX3_words : MethodName := ⟨RX3, "words", "(IZ)I"⟩
def dkwX3_words_0 : List UInt8 := [42, 42, 27, 182, 1, 36, 182, 0, 240, 153, 0, 12, 42, 27, 28, 182, 1, 16, 167, 0, 4, 3, 172]
abbrev dktX3_words_0 : List UInt8 := dkwX3_words_0 ++ []
theorem dksX3_words_0 : cX3_words.data.toList.drop 0 = dktX3_words_0 := by decide +kernel
theorem dX3_words_0 : decode cX3_words 0 = .ok (.aload_n 0, 1) := dk_42 (dk_at dksX3_words_0 0 rfl rfl)
theorem dX3_words_1 : decode cX3_words 1 = .ok (.aload_n 0, 1) := dk_42 (dk_at dksX3_words_0 1 rfl rfl)
theorem dX3_words_2 : decode cX3_words 2 = .ok (.iload_n 1, 1) := dk_27 (dk_at dksX3_words_0 2 rfl rfl)
theorem dX3_words_3 : decode cX3_words 3 = .ok (.invokevirtual 292, 3) := dk_182 1 36 (dk_at dksX3_words_0 3 rfl rfl)
theorem dX3_words_6 : decode cX3_words 6 = .ok (.invokevirtual 240, 3) := dk_182 0 240 (dk_at dksX3_words_0 6 rfl rfl)
theorem dX3_words_9 : decode cX3_words 9 = .ok (.ifCond .eq 12, 3) := dk_153 0 12 (dk_at dksX3_words_0 9 rfl rfl)
theorem dX3_words_12 : decode cX3_words 12 = .ok (.aload_n 0, 1) := dk_42 (dk_at dksX3_words_0 12 rfl rfl)
theorem dX3_words_13 : decode cX3_words 13 = .ok (.iload_n 1, 1) := dk_27 (dk_at dksX3_words_0 13 rfl rfl)
theorem dX3_words_14 : decode cX3_words 14 = .ok (.iload_n 2, 1) := dk_28 (dk_at dksX3_words_0 14 rfl rfl)
theorem dX3_words_15 : decode cX3_words 15 = .ok (.invokevirtual 272, 3) := dk_182 1 16 (dk_at dksX3_words_0 15 rfl rfl)
theorem dX3_words_18 : decode cX3_words 18 = .ok (.goto 4, 3) := dk_167 0 4 (dk_at dksX3_words_0 18 rfl rfl)
theorem dX3_words_21 : decode cX3_words 21 = .ok (.iconst 0, 1) := dk_3 (dk_at dksX3_words_0 21 rfl rfl)
theorem dX3_words_22 : decode cX3_words 22 = .ok (.ireturn, 1) := dk_172 (dk_at dksX3_words_0 22 rfl rfl)
abbrev cX3_isSameWord : ByteArray := prog_26_method_67_code
def yX3_isSameWord : MethodName := ⟨RX3, "isSameWord", "(IIZIIZ)Z"⟩
def dkwX3_isSameWord_2 : List UInt8 := [21, 4, 21, 5, 21, 6, 182, 1, 43, 148, 154, 0, 7, 4, 167, 0, 4, 3, 172]
abbrev dktX3_isSameWord_2 : List UInt8 := dkwX3_isSameWord_2 ++ []
def dkwX3_isSameWord_1 : List UInt8 := [167, 0, 4, 3, 54, 7, 42, 21, 7, 182, 0, 240, 153, 0, 28, 42, 27, 28, 29, 182, 1, 43, 42]
abbrev dktX3_isSameWord_1 : List UInt8 := dkwX3_isSameWord_1 ++ dktX3_isSameWord_2
def dkwX3_isSameWord_0 : List UInt8 := [42, 27, 28, 29, 182, 1, 39, 153, 0, 20, 42, 21, 4, 21, 5, 21, 6, 182, 1, 39, 153, 0, 7, 4]
abbrev dktX3_isSameWord_0 : List UInt8 := dkwX3_isSameWord_0 ++ dktX3_isSameWord_1
theorem dksX3_isSameWord_0 : cX3_isSameWord.data.toList.drop 0 = dktX3_isSameWord_0 := by decide +kernel
theorem dksX3_isSameWord_1 : cX3_isSameWord.data.toList.drop 24 = dktX3_isSameWord_1 := dk_seg dksX3_isSameWord_0 24 rfl rfl
theorem dksX3_isSameWord_2 : cX3_isSameWord.data.toList.drop 47 = dktX3_isSameWord_2 := dk_seg dksX3_isSameWord_1 23 rfl rfl
theorem dX3_isSameWord_0 : decode cX3_isSameWord 0 = .ok (.aload_n 0, 1) := dk_42 (dk_at dksX3_isSameWord_0 0 rfl rfl)
theorem dX3_isSameWord_1 : decode cX3_isSameWord 1 = .ok (.iload_n 1, 1) := dk_27 (dk_at dksX3_isSameWord_0 1 rfl rfl)
theorem dX3_isSameWord_2 : decode cX3_isSameWord 2 = .ok (.iload_n 2, 1) := dk_28 (dk_at dksX3_isSameWord_0 2 rfl rfl)
theorem dX3_isSameWord_3 : decode cX3_isSameWord 3 = .ok (.iload_n 3, 1) := dk_29 (dk_at dksX3_isSameWord_0 3 rfl rfl)
theorem dX3_isSameWord_4 : decode cX3_isSameWord 4 = .ok (.invokevirtual 295, 3) := dk_182 1 39 (dk_at dksX3_isSameWord_0 4 rfl rfl)
theorem dX3_isSameWord_7 : decode cX3_isSameWord 7 = .ok (.ifCond .eq 20, 3) := dk_153 0 20 (dk_at dksX3_isSameWord_0 7 rfl rfl)
theorem dX3_isSameWord_10 : decode cX3_isSameWord 10 = .ok (.aload_n 0, 1) := dk_42 (dk_at dksX3_isSameWord_0 10 rfl rfl)
theorem dX3_isSameWord_11 : decode cX3_isSameWord 11 = .ok (.iload 4, 2) := dk_21 4 (dk_at dksX3_isSameWord_0 11 rfl rfl)
theorem dX3_isSameWord_13 : decode cX3_isSameWord 13 = .ok (.iload 5, 2) := dk_21 5 (dk_at dksX3_isSameWord_0 13 rfl rfl)
theorem dX3_isSameWord_15 : decode cX3_isSameWord 15 = .ok (.iload 6, 2) := dk_21 6 (dk_at dksX3_isSameWord_0 15 rfl rfl)
theorem dX3_isSameWord_17 : decode cX3_isSameWord 17 = .ok (.invokevirtual 295, 3) := dk_182 1 39 (dk_at dksX3_isSameWord_0 17 rfl rfl)
theorem dX3_isSameWord_20 : decode cX3_isSameWord 20 = .ok (.ifCond .eq 7, 3) := dk_153 0 7 (dk_at dksX3_isSameWord_0 20 rfl rfl)
theorem dX3_isSameWord_23 : decode cX3_isSameWord 23 = .ok (.iconst 1, 1) := dk_4 (dk_at dksX3_isSameWord_0 23 rfl rfl)
theorem dX3_isSameWord_24 : decode cX3_isSameWord 24 = .ok (.goto 4, 3) := dk_167 0 4 (dk_at dksX3_isSameWord_1 0 rfl rfl)
theorem dX3_isSameWord_27 : decode cX3_isSameWord 27 = .ok (.iconst 0, 1) := dk_3 (dk_at dksX3_isSameWord_1 3 rfl rfl)
theorem dX3_isSameWord_28 : decode cX3_isSameWord 28 = .ok (.istore 7, 2) := dk_54 7 (dk_at dksX3_isSameWord_1 4 rfl rfl)
theorem dX3_isSameWord_30 : decode cX3_isSameWord 30 = .ok (.aload_n 0, 1) := dk_42 (dk_at dksX3_isSameWord_1 6 rfl rfl)
theorem dX3_isSameWord_31 : decode cX3_isSameWord 31 = .ok (.iload 7, 2) := dk_21 7 (dk_at dksX3_isSameWord_1 7 rfl rfl)
theorem dX3_isSameWord_33 : decode cX3_isSameWord 33 = .ok (.invokevirtual 240, 3) := dk_182 0 240 (dk_at dksX3_isSameWord_1 9 rfl rfl)
theorem dX3_isSameWord_36 : decode cX3_isSameWord 36 = .ok (.ifCond .eq 28, 3) := dk_153 0 28 (dk_at dksX3_isSameWord_1 12 rfl rfl)
theorem dX3_isSameWord_39 : decode cX3_isSameWord 39 = .ok (.aload_n 0, 1) := dk_42 (dk_at dksX3_isSameWord_1 15 rfl rfl)
theorem dX3_isSameWord_40 : decode cX3_isSameWord 40 = .ok (.iload_n 1, 1) := dk_27 (dk_at dksX3_isSameWord_1 16 rfl rfl)
theorem dX3_isSameWord_41 : decode cX3_isSameWord 41 = .ok (.iload_n 2, 1) := dk_28 (dk_at dksX3_isSameWord_1 17 rfl rfl)
theorem dX3_isSameWord_42 : decode cX3_isSameWord 42 = .ok (.iload_n 3, 1) := dk_29 (dk_at dksX3_isSameWord_1 18 rfl rfl)
theorem dX3_isSameWord_43 : decode cX3_isSameWord 43 = .ok (.invokevirtual 299, 3) := dk_182 1 43 (dk_at dksX3_isSameWord_1 19 rfl rfl)
theorem dX3_isSameWord_46 : decode cX3_isSameWord 46 = .ok (.aload_n 0, 1) := dk_42 (dk_at dksX3_isSameWord_1 22 rfl rfl)
theorem dX3_isSameWord_47 : decode cX3_isSameWord 47 = .ok (.iload 4, 2) := dk_21 4 (dk_at dksX3_isSameWord_2 0 rfl rfl)
theorem dX3_isSameWord_49 : decode cX3_isSameWord 49 = .ok (.iload 5, 2) := dk_21 5 (dk_at dksX3_isSameWord_2 2 rfl rfl)
theorem dX3_isSameWord_51 : decode cX3_isSameWord 51 = .ok (.iload 6, 2) := dk_21 6 (dk_at dksX3_isSameWord_2 4 rfl rfl)
theorem dX3_isSameWord_53 : decode cX3_isSameWord 53 = .ok (.invokevirtual 299, 3) := dk_182 1 43 (dk_at dksX3_isSameWord_2 6 rfl rfl)
theorem dX3_isSameWord_56 : decode cX3_isSameWord 56 = .ok (.lcmp, 1) := dk_148 (dk_at dksX3_isSameWord_2 9 rfl rfl)
theorem dX3_isSameWord_57 : decode cX3_isSameWord 57 = .ok (.ifCond .ne 7, 3) := dk_154 0 7 (dk_at dksX3_isSameWord_2 10 rfl rfl)
theorem dX3_isSameWord_60 : decode cX3_isSameWord 60 = .ok (.iconst 1, 1) := dk_4 (dk_at dksX3_isSameWord_2 13 rfl rfl)
theorem dX3_isSameWord_61 : decode cX3_isSameWord 61 = .ok (.goto 4, 3) := dk_167 0 4 (dk_at dksX3_isSameWord_2 14 rfl rfl)
theorem dX3_isSameWord_64 : decode cX3_isSameWord 64 = .ok (.iconst 0, 1) := dk_3 (dk_at dksX3_isSameWord_2 17 rfl rfl)
theorem dX3_isSameWord_65 : decode cX3_isSameWord 65 = .ok (.ireturn, 1) := dk_172 (dk_at dksX3_isSameWord_2 18 rfl rfl)
abbrev cX3_isPlace : ByteArray := prog_26_method_66_code
def yX3_isPlace : MethodName := ⟨RX3, "isPlace", "(IIZ)Z"⟩
def dkwX3_isPlace_1 : List UInt8 := [153, 0, 7, 4, 167, 0, 4, 3, 172]
abbrev dktX3_isPlace_1 : List UInt8 := dkwX3_isPlace_1 ++ []
def dkwX3_isPlace_0 : List UInt8 := [42, 27, 182, 1, 36, 153, 0, 25, 28, 133, 9, 42, 27, 29, 182, 1, 16, 4, 100, 133, 184, 0, 144]
abbrev dktX3_isPlace_0 : List UInt8 := dkwX3_isPlace_0 ++ dktX3_isPlace_1
theorem dksX3_isPlace_0 : cX3_isPlace.data.toList.drop 0 = dktX3_isPlace_0 := by decide +kernel
theorem dksX3_isPlace_1 : cX3_isPlace.data.toList.drop 23 = dktX3_isPlace_1 := dk_seg dksX3_isPlace_0 23 rfl rfl
theorem dX3_isPlace_0 : decode cX3_isPlace 0 = .ok (.aload_n 0, 1) := dk_42 (dk_at dksX3_isPlace_0 0 rfl rfl)
theorem dX3_isPlace_1 : decode cX3_isPlace 1 = .ok (.iload_n 1, 1) := dk_27 (dk_at dksX3_isPlace_0 1 rfl rfl)
theorem dX3_isPlace_2 : decode cX3_isPlace 2 = .ok (.invokevirtual 292, 3) := dk_182 1 36 (dk_at dksX3_isPlace_0 2 rfl rfl)
theorem dX3_isPlace_5 : decode cX3_isPlace 5 = .ok (.ifCond .eq 25, 3) := dk_153 0 25 (dk_at dksX3_isPlace_0 5 rfl rfl)
theorem dX3_isPlace_8 : decode cX3_isPlace 8 = .ok (.iload_n 2, 1) := dk_28 (dk_at dksX3_isPlace_0 8 rfl rfl)
theorem dX3_isPlace_9 : decode cX3_isPlace 9 = .ok (.i2l, 1) := dk_133 (dk_at dksX3_isPlace_0 9 rfl rfl)
theorem dX3_isPlace_10 : decode cX3_isPlace 10 = .ok (.lconst 0, 1) := dk_9 (dk_at dksX3_isPlace_0 10 rfl rfl)
theorem dX3_isPlace_11 : decode cX3_isPlace 11 = .ok (.aload_n 0, 1) := dk_42 (dk_at dksX3_isPlace_0 11 rfl rfl)
theorem dX3_isPlace_12 : decode cX3_isPlace 12 = .ok (.iload_n 1, 1) := dk_27 (dk_at dksX3_isPlace_0 12 rfl rfl)
theorem dX3_isPlace_13 : decode cX3_isPlace 13 = .ok (.iload_n 3, 1) := dk_29 (dk_at dksX3_isPlace_0 13 rfl rfl)
theorem dX3_isPlace_14 : decode cX3_isPlace 14 = .ok (.invokevirtual 272, 3) := dk_182 1 16 (dk_at dksX3_isPlace_0 14 rfl rfl)
theorem dX3_isPlace_17 : decode cX3_isPlace 17 = .ok (.iconst 1, 1) := dk_4 (dk_at dksX3_isPlace_0 17 rfl rfl)
theorem dX3_isPlace_18 : decode cX3_isPlace 18 = .ok (.isub, 1) := dk_100 (dk_at dksX3_isPlace_0 18 rfl rfl)
theorem dX3_isPlace_19 : decode cX3_isPlace 19 = .ok (.i2l, 1) := dk_133 (dk_at dksX3_isPlace_0 19 rfl rfl)
theorem dX3_isPlace_20 : decode cX3_isPlace 20 = .ok (.invokestatic 144, 3) := dk_184 0 144 (dk_at dksX3_isPlace_0 20 rfl rfl)
theorem dX3_isPlace_23 : decode cX3_isPlace 23 = .ok (.ifCond .eq 7, 3) := dk_153 0 7 (dk_at dksX3_isPlace_1 0 rfl rfl)
theorem dX3_isPlace_26 : decode cX3_isPlace 26 = .ok (.iconst 1, 1) := dk_4 (dk_at dksX3_isPlace_1 3 rfl rfl)
theorem dX3_isPlace_27 : decode cX3_isPlace 27 = .ok (.goto 4, 3) := dk_167 0 4 (dk_at dksX3_isPlace_1 4 rfl rfl)
theorem dX3_isPlace_30 : decode cX3_isPlace 30 = .ok (.iconst 0, 1) := dk_3 (dk_at dksX3_isPlace_1 7 rfl rfl)
theorem dX3_isPlace_31 : decode cX3_isPlace 31 = .ok (.ireturn, 1) := dk_172 (dk_at dksX3_isPlace_1 8 rfl rfl)
abbrev cX3_distance : ByteArray := prog_26_method_70_code
def yX3_distance : MethodName := ⟨RX3, "distance", "(II)I"⟩
def dkwX3_distance_1 : List UInt8 := [182, 0, 240, 153, 0, 12, 42, 27, 28, 182, 1, 55, 167, 0, 4, 3, 172]
abbrev dktX3_distance_1 : List UInt8 := dkwX3_distance_1 ++ []
def dkwX3_distance_0 : List UInt8 := [42, 42, 27, 182, 1, 36, 153, 0, 15, 42, 28, 182, 1, 36, 153, 0, 7, 4, 167, 0, 4, 3]
abbrev dktX3_distance_0 : List UInt8 := dkwX3_distance_0 ++ dktX3_distance_1
theorem dksX3_distance_0 : cX3_distance.data.toList.drop 0 = dktX3_distance_0 := by decide +kernel
theorem dksX3_distance_1 : cX3_distance.data.toList.drop 22 = dktX3_distance_1 := dk_seg dksX3_distance_0 22 rfl rfl
theorem dX3_distance_0 : decode cX3_distance 0 = .ok (.aload_n 0, 1) := dk_42 (dk_at dksX3_distance_0 0 rfl rfl)
theorem dX3_distance_1 : decode cX3_distance 1 = .ok (.aload_n 0, 1) := dk_42 (dk_at dksX3_distance_0 1 rfl rfl)
theorem dX3_distance_2 : decode cX3_distance 2 = .ok (.iload_n 1, 1) := dk_27 (dk_at dksX3_distance_0 2 rfl rfl)
theorem dX3_distance_3 : decode cX3_distance 3 = .ok (.invokevirtual 292, 3) := dk_182 1 36 (dk_at dksX3_distance_0 3 rfl rfl)
theorem dX3_distance_6 : decode cX3_distance 6 = .ok (.ifCond .eq 15, 3) := dk_153 0 15 (dk_at dksX3_distance_0 6 rfl rfl)
theorem dX3_distance_9 : decode cX3_distance 9 = .ok (.aload_n 0, 1) := dk_42 (dk_at dksX3_distance_0 9 rfl rfl)
theorem dX3_distance_10 : decode cX3_distance 10 = .ok (.iload_n 2, 1) := dk_28 (dk_at dksX3_distance_0 10 rfl rfl)
theorem dX3_distance_11 : decode cX3_distance 11 = .ok (.invokevirtual 292, 3) := dk_182 1 36 (dk_at dksX3_distance_0 11 rfl rfl)
theorem dX3_distance_14 : decode cX3_distance 14 = .ok (.ifCond .eq 7, 3) := dk_153 0 7 (dk_at dksX3_distance_0 14 rfl rfl)
theorem dX3_distance_17 : decode cX3_distance 17 = .ok (.iconst 1, 1) := dk_4 (dk_at dksX3_distance_0 17 rfl rfl)
theorem dX3_distance_18 : decode cX3_distance 18 = .ok (.goto 4, 3) := dk_167 0 4 (dk_at dksX3_distance_0 18 rfl rfl)
theorem dX3_distance_21 : decode cX3_distance 21 = .ok (.iconst 0, 1) := dk_3 (dk_at dksX3_distance_0 21 rfl rfl)
theorem dX3_distance_22 : decode cX3_distance 22 = .ok (.invokevirtual 240, 3) := dk_182 0 240 (dk_at dksX3_distance_1 0 rfl rfl)
theorem dX3_distance_25 : decode cX3_distance 25 = .ok (.ifCond .eq 12, 3) := dk_153 0 12 (dk_at dksX3_distance_1 3 rfl rfl)
theorem dX3_distance_28 : decode cX3_distance 28 = .ok (.aload_n 0, 1) := dk_42 (dk_at dksX3_distance_1 6 rfl rfl)
theorem dX3_distance_29 : decode cX3_distance 29 = .ok (.iload_n 1, 1) := dk_27 (dk_at dksX3_distance_1 7 rfl rfl)
theorem dX3_distance_30 : decode cX3_distance 30 = .ok (.iload_n 2, 1) := dk_28 (dk_at dksX3_distance_1 8 rfl rfl)
theorem dX3_distance_31 : decode cX3_distance 31 = .ok (.invokevirtual 311, 3) := dk_182 1 55 (dk_at dksX3_distance_1 9 rfl rfl)
theorem dX3_distance_34 : decode cX3_distance 34 = .ok (.goto 4, 3) := dk_167 0 4 (dk_at dksX3_distance_1 12 rfl rfl)
theorem dX3_distance_37 : decode cX3_distance 37 = .ok (.iconst 0, 1) := dk_3 (dk_at dksX3_distance_1 15 rfl rfl)
theorem dX3_distance_38 : decode cX3_distance 38 = .ok (.ireturn, 1) := dk_172 (dk_at dksX3_distance_1 16 rfl rfl)
abbrev cX3_similarity : ByteArray := prog_26_method_71_code
def yX3_similarity : MethodName := ⟨RX3, "similarity", "(II)I"⟩
def dkwX3_similarity_1 : List UInt8 := [182, 0, 240, 153, 0, 12, 42, 27, 28, 182, 1, 58, 167, 0, 4, 3, 172]
abbrev dktX3_similarity_1 : List UInt8 := dkwX3_similarity_1 ++ []
def dkwX3_similarity_0 : List UInt8 := [42, 42, 27, 182, 1, 36, 153, 0, 15, 42, 28, 182, 1, 36, 153, 0, 7, 4, 167, 0, 4, 3]
abbrev dktX3_similarity_0 : List UInt8 := dkwX3_similarity_0 ++ dktX3_similarity_1
theorem dksX3_similarity_0 : cX3_similarity.data.toList.drop 0 = dktX3_similarity_0 := by decide +kernel
theorem dksX3_similarity_1 : cX3_similarity.data.toList.drop 22 = dktX3_similarity_1 := dk_seg dksX3_similarity_0 22 rfl rfl
theorem dX3_similarity_0 : decode cX3_similarity 0 = .ok (.aload_n 0, 1) := dk_42 (dk_at dksX3_similarity_0 0 rfl rfl)
theorem dX3_similarity_1 : decode cX3_similarity 1 = .ok (.aload_n 0, 1) := dk_42 (dk_at dksX3_similarity_0 1 rfl rfl)
theorem dX3_similarity_2 : decode cX3_similarity 2 = .ok (.iload_n 1, 1) := dk_27 (dk_at dksX3_similarity_0 2 rfl rfl)
theorem dX3_similarity_3 : decode cX3_similarity 3 = .ok (.invokevirtual 292, 3) := dk_182 1 36 (dk_at dksX3_similarity_0 3 rfl rfl)
theorem dX3_similarity_6 : decode cX3_similarity 6 = .ok (.ifCond .eq 15, 3) := dk_153 0 15 (dk_at dksX3_similarity_0 6 rfl rfl)
theorem dX3_similarity_9 : decode cX3_similarity 9 = .ok (.aload_n 0, 1) := dk_42 (dk_at dksX3_similarity_0 9 rfl rfl)
theorem dX3_similarity_10 : decode cX3_similarity 10 = .ok (.iload_n 2, 1) := dk_28 (dk_at dksX3_similarity_0 10 rfl rfl)
theorem dX3_similarity_11 : decode cX3_similarity 11 = .ok (.invokevirtual 292, 3) := dk_182 1 36 (dk_at dksX3_similarity_0 11 rfl rfl)
theorem dX3_similarity_14 : decode cX3_similarity 14 = .ok (.ifCond .eq 7, 3) := dk_153 0 7 (dk_at dksX3_similarity_0 14 rfl rfl)
theorem dX3_similarity_17 : decode cX3_similarity 17 = .ok (.iconst 1, 1) := dk_4 (dk_at dksX3_similarity_0 17 rfl rfl)
theorem dX3_similarity_18 : decode cX3_similarity 18 = .ok (.goto 4, 3) := dk_167 0 4 (dk_at dksX3_similarity_0 18 rfl rfl)
theorem dX3_similarity_21 : decode cX3_similarity 21 = .ok (.iconst 0, 1) := dk_3 (dk_at dksX3_similarity_0 21 rfl rfl)
theorem dX3_similarity_22 : decode cX3_similarity 22 = .ok (.invokevirtual 240, 3) := dk_182 0 240 (dk_at dksX3_similarity_1 0 rfl rfl)
theorem dX3_similarity_25 : decode cX3_similarity 25 = .ok (.ifCond .eq 12, 3) := dk_153 0 12 (dk_at dksX3_similarity_1 3 rfl rfl)
theorem dX3_similarity_28 : decode cX3_similarity 28 = .ok (.aload_n 0, 1) := dk_42 (dk_at dksX3_similarity_1 6 rfl rfl)
theorem dX3_similarity_29 : decode cX3_similarity 29 = .ok (.iload_n 1, 1) := dk_27 (dk_at dksX3_similarity_1 7 rfl rfl)
theorem dX3_similarity_30 : decode cX3_similarity 30 = .ok (.iload_n 2, 1) := dk_28 (dk_at dksX3_similarity_1 8 rfl rfl)
theorem dX3_similarity_31 : decode cX3_similarity 31 = .ok (.invokevirtual 314, 3) := dk_182 1 58 (dk_at dksX3_similarity_1 9 rfl rfl)
theorem dX3_similarity_34 : decode cX3_similarity 34 = .ok (.goto 4, 3) := dk_167 0 4 (dk_at dksX3_similarity_1 12 rfl rfl)
theorem dX3_similarity_37 : decode cX3_similarity 37 = .ok (.iconst 0, 1) := dk_3 (dk_at dksX3_similarity_1 15 rfl rfl)
theorem dX3_similarity_38 : decode cX3_similarity 38 = .ok (.ireturn, 1) := dk_172 (dk_at dksX3_similarity_1 16 rfl rfl)
abbrev cX3_match : ByteArray := prog_26_method_75_code
def yX3_match : MethodName := ⟨RX3, "match", "(I)I"⟩
def dkwX3_match_0 : List UInt8 := [42, 42, 27, 182, 1, 36, 182, 0, 240, 153, 0, 11, 42, 27, 182, 1, 64, 167, 0, 4, 3, 172]
abbrev dktX3_match_0 : List UInt8 := dkwX3_match_0 ++ []
theorem dksX3_match_0 : cX3_match.data.toList.drop 0 = dktX3_match_0 := by decide +kernel
theorem dX3_match_0 : decode cX3_match 0 = .ok (.aload_n 0, 1) := dk_42 (dk_at dksX3_match_0 0 rfl rfl)
theorem dX3_match_1 : decode cX3_match 1 = .ok (.aload_n 0, 1) := dk_42 (dk_at dksX3_match_0 1 rfl rfl)
theorem dX3_match_2 : decode cX3_match 2 = .ok (.iload_n 1, 1) := dk_27 (dk_at dksX3_match_0 2 rfl rfl)
theorem dX3_match_3 : decode cX3_match 3 = .ok (.invokevirtual 292, 3) := dk_182 1 36 (dk_at dksX3_match_0 3 rfl rfl)
theorem dX3_match_6 : decode cX3_match 6 = .ok (.invokevirtual 240, 3) := dk_182 0 240 (dk_at dksX3_match_0 6 rfl rfl)
theorem dX3_match_9 : decode cX3_match 9 = .ok (.ifCond .eq 11, 3) := dk_153 0 11 (dk_at dksX3_match_0 9 rfl rfl)
theorem dX3_match_12 : decode cX3_match 12 = .ok (.aload_n 0, 1) := dk_42 (dk_at dksX3_match_0 12 rfl rfl)
theorem dX3_match_13 : decode cX3_match 13 = .ok (.iload_n 1, 1) := dk_27 (dk_at dksX3_match_0 13 rfl rfl)
theorem dX3_match_14 : decode cX3_match 14 = .ok (.invokevirtual 320, 3) := dk_182 1 64 (dk_at dksX3_match_0 14 rfl rfl)
theorem dX3_match_17 : decode cX3_match 17 = .ok (.goto 4, 3) := dk_167 0 4 (dk_at dksX3_match_0 17 rfl rfl)
theorem dX3_match_20 : decode cX3_match 20 = .ok (.iconst 0, 1) := dk_3 (dk_at dksX3_match_0 20 rfl rfl)
theorem dX3_match_21 : decode cX3_match 21 = .ok (.ireturn, 1) := dk_172 (dk_at dksX3_match_0 21 rfl rfl)
abbrev cX3_model : ByteArray := prog_26_method_76_code
def yX3_model : MethodName := ⟨RX3, "model", "(I)I"⟩
def dkwX3_model_1 : List UInt8 := [167, 0, 4, 3, 182, 1, 23, 153, 0, 11, 42, 27, 182, 1, 61, 167, 0, 4, 3, 172]
abbrev dktX3_model_1 : List UInt8 := dkwX3_model_1 ++ []
def dkwX3_model_0 : List UInt8 := [42, 27, 182, 1, 36, 61, 42, 28, 28, 153, 0, 16, 42, 27, 182, 1, 61, 2, 159, 0, 7, 4]
abbrev dktX3_model_0 : List UInt8 := dkwX3_model_0 ++ dktX3_model_1
theorem dksX3_model_0 : cX3_model.data.toList.drop 0 = dktX3_model_0 := by decide +kernel
theorem dksX3_model_1 : cX3_model.data.toList.drop 22 = dktX3_model_1 := dk_seg dksX3_model_0 22 rfl rfl
theorem dX3_model_0 : decode cX3_model 0 = .ok (.aload_n 0, 1) := dk_42 (dk_at dksX3_model_0 0 rfl rfl)
theorem dX3_model_1 : decode cX3_model 1 = .ok (.iload_n 1, 1) := dk_27 (dk_at dksX3_model_0 1 rfl rfl)
theorem dX3_model_2 : decode cX3_model 2 = .ok (.invokevirtual 292, 3) := dk_182 1 36 (dk_at dksX3_model_0 2 rfl rfl)
theorem dX3_model_5 : decode cX3_model 5 = .ok (.istore_n 2, 1) := dk_61 (dk_at dksX3_model_0 5 rfl rfl)
theorem dX3_model_6 : decode cX3_model 6 = .ok (.aload_n 0, 1) := dk_42 (dk_at dksX3_model_0 6 rfl rfl)
theorem dX3_model_7 : decode cX3_model 7 = .ok (.iload_n 2, 1) := dk_28 (dk_at dksX3_model_0 7 rfl rfl)
theorem dX3_model_8 : decode cX3_model 8 = .ok (.iload_n 2, 1) := dk_28 (dk_at dksX3_model_0 8 rfl rfl)
theorem dX3_model_9 : decode cX3_model 9 = .ok (.ifCond .eq 16, 3) := dk_153 0 16 (dk_at dksX3_model_0 9 rfl rfl)
theorem dX3_model_12 : decode cX3_model 12 = .ok (.aload_n 0, 1) := dk_42 (dk_at dksX3_model_0 12 rfl rfl)
theorem dX3_model_13 : decode cX3_model 13 = .ok (.iload_n 1, 1) := dk_27 (dk_at dksX3_model_0 13 rfl rfl)
theorem dX3_model_14 : decode cX3_model 14 = .ok (.invokevirtual 317, 3) := dk_182 1 61 (dk_at dksX3_model_0 14 rfl rfl)
theorem dX3_model_17 : decode cX3_model 17 = .ok (.iconst (-1), 1) := dk_2 (dk_at dksX3_model_0 17 rfl rfl)
theorem dX3_model_18 : decode cX3_model 18 = .ok (.if_icmp .eq 7, 3) := dk_159 0 7 (dk_at dksX3_model_0 18 rfl rfl)
theorem dX3_model_21 : decode cX3_model 21 = .ok (.iconst 1, 1) := dk_4 (dk_at dksX3_model_0 21 rfl rfl)
theorem dX3_model_22 : decode cX3_model 22 = .ok (.goto 4, 3) := dk_167 0 4 (dk_at dksX3_model_1 0 rfl rfl)
theorem dX3_model_25 : decode cX3_model 25 = .ok (.iconst 0, 1) := dk_3 (dk_at dksX3_model_1 3 rfl rfl)
theorem dX3_model_26 : decode cX3_model 26 = .ok (.invokevirtual 279, 3) := dk_182 1 23 (dk_at dksX3_model_1 4 rfl rfl)
theorem dX3_model_29 : decode cX3_model 29 = .ok (.ifCond .eq 11, 3) := dk_153 0 11 (dk_at dksX3_model_1 7 rfl rfl)
theorem dX3_model_32 : decode cX3_model 32 = .ok (.aload_n 0, 1) := dk_42 (dk_at dksX3_model_1 10 rfl rfl)
theorem dX3_model_33 : decode cX3_model 33 = .ok (.iload_n 1, 1) := dk_27 (dk_at dksX3_model_1 11 rfl rfl)
theorem dX3_model_34 : decode cX3_model 34 = .ok (.invokevirtual 317, 3) := dk_182 1 61 (dk_at dksX3_model_1 12 rfl rfl)
theorem dX3_model_37 : decode cX3_model 37 = .ok (.goto 4, 3) := dk_167 0 4 (dk_at dksX3_model_1 15 rfl rfl)
theorem dX3_model_40 : decode cX3_model 40 = .ok (.iconst 0, 1) := dk_3 (dk_at dksX3_model_1 18 rfl rfl)
theorem dX3_model_41 : decode cX3_model 41 = .ok (.ireturn, 1) := dk_172 (dk_at dksX3_model_1 19 rfl rfl)
abbrev cX3_band : ByteArray := prog_26_method_77_code
def yX3_band : MethodName := ⟨RX3, "band", "(I)I"⟩
def dkwX3_band_0 : List UInt8 := [42, 42, 27, 182, 1, 36, 182, 0, 240, 153, 0, 11, 42, 27, 182, 1, 67, 167, 0, 4, 3, 172]
abbrev dktX3_band_0 : List UInt8 := dkwX3_band_0 ++ []
theorem dksX3_band_0 : cX3_band.data.toList.drop 0 = dktX3_band_0 := by decide +kernel
theorem dX3_band_0 : decode cX3_band 0 = .ok (.aload_n 0, 1) := dk_42 (dk_at dksX3_band_0 0 rfl rfl)
theorem dX3_band_1 : decode cX3_band 1 = .ok (.aload_n 0, 1) := dk_42 (dk_at dksX3_band_0 1 rfl rfl)
theorem dX3_band_2 : decode cX3_band 2 = .ok (.iload_n 1, 1) := dk_27 (dk_at dksX3_band_0 2 rfl rfl)
theorem dX3_band_3 : decode cX3_band 3 = .ok (.invokevirtual 292, 3) := dk_182 1 36 (dk_at dksX3_band_0 3 rfl rfl)
theorem dX3_band_6 : decode cX3_band 6 = .ok (.invokevirtual 240, 3) := dk_182 0 240 (dk_at dksX3_band_0 6 rfl rfl)
theorem dX3_band_9 : decode cX3_band 9 = .ok (.ifCond .eq 11, 3) := dk_153 0 11 (dk_at dksX3_band_0 9 rfl rfl)
theorem dX3_band_12 : decode cX3_band 12 = .ok (.aload_n 0, 1) := dk_42 (dk_at dksX3_band_0 12 rfl rfl)
theorem dX3_band_13 : decode cX3_band 13 = .ok (.iload_n 1, 1) := dk_27 (dk_at dksX3_band_0 13 rfl rfl)
theorem dX3_band_14 : decode cX3_band 14 = .ok (.invokevirtual 323, 3) := dk_182 1 67 (dk_at dksX3_band_0 14 rfl rfl)
theorem dX3_band_17 : decode cX3_band 17 = .ok (.goto 4, 3) := dk_167 0 4 (dk_at dksX3_band_0 17 rfl rfl)
theorem dX3_band_20 : decode cX3_band 20 = .ok (.iconst 0, 1) := dk_3 (dk_at dksX3_band_0 20 rfl rfl)
theorem dX3_band_21 : decode cX3_band 21 = .ok (.ireturn, 1) := dk_172 (dk_at dksX3_band_0 21 rfl rfl)
abbrev cX3_bandWords : ByteArray := prog_26_method_79_code
def yX3_bandWords : MethodName := ⟨RX3, "bandWords", "(II)I"⟩
def dkwX3_bandWords_1 : List UInt8 := [154, 0, 5, 3, 172, 42, 27, 182, 1, 70, 42, 180, 0, 33, 28, 46, 172]
abbrev dktX3_bandWords_1 : List UInt8 := dkwX3_bandWords_1 ++ []
def dkwX3_bandWords_0 : List UInt8 := [42, 42, 27, 182, 1, 20, 153, 0, 14, 28, 184, 1, 7, 153, 0, 7, 4, 167, 0, 4, 3, 182, 0, 240]
abbrev dktX3_bandWords_0 : List UInt8 := dkwX3_bandWords_0 ++ dktX3_bandWords_1
theorem dksX3_bandWords_0 : cX3_bandWords.data.toList.drop 0 = dktX3_bandWords_0 := by decide +kernel
theorem dksX3_bandWords_1 : cX3_bandWords.data.toList.drop 24 = dktX3_bandWords_1 := dk_seg dksX3_bandWords_0 24 rfl rfl
theorem dX3_bandWords_0 : decode cX3_bandWords 0 = .ok (.aload_n 0, 1) := dk_42 (dk_at dksX3_bandWords_0 0 rfl rfl)
theorem dX3_bandWords_1 : decode cX3_bandWords 1 = .ok (.aload_n 0, 1) := dk_42 (dk_at dksX3_bandWords_0 1 rfl rfl)
theorem dX3_bandWords_2 : decode cX3_bandWords 2 = .ok (.iload_n 1, 1) := dk_27 (dk_at dksX3_bandWords_0 2 rfl rfl)
theorem dX3_bandWords_3 : decode cX3_bandWords 3 = .ok (.invokevirtual 276, 3) := dk_182 1 20 (dk_at dksX3_bandWords_0 3 rfl rfl)
theorem dX3_bandWords_6 : decode cX3_bandWords 6 = .ok (.ifCond .eq 14, 3) := dk_153 0 14 (dk_at dksX3_bandWords_0 6 rfl rfl)
theorem dX3_bandWords_9 : decode cX3_bandWords 9 = .ok (.iload_n 2, 1) := dk_28 (dk_at dksX3_bandWords_0 9 rfl rfl)
theorem dX3_bandWords_10 : decode cX3_bandWords 10 = .ok (.invokestatic 263, 3) := dk_184 1 7 (dk_at dksX3_bandWords_0 10 rfl rfl)
theorem dX3_bandWords_13 : decode cX3_bandWords 13 = .ok (.ifCond .eq 7, 3) := dk_153 0 7 (dk_at dksX3_bandWords_0 13 rfl rfl)
theorem dX3_bandWords_16 : decode cX3_bandWords 16 = .ok (.iconst 1, 1) := dk_4 (dk_at dksX3_bandWords_0 16 rfl rfl)
theorem dX3_bandWords_17 : decode cX3_bandWords 17 = .ok (.goto 4, 3) := dk_167 0 4 (dk_at dksX3_bandWords_0 17 rfl rfl)
theorem dX3_bandWords_20 : decode cX3_bandWords 20 = .ok (.iconst 0, 1) := dk_3 (dk_at dksX3_bandWords_0 20 rfl rfl)
theorem dX3_bandWords_21 : decode cX3_bandWords 21 = .ok (.invokevirtual 240, 3) := dk_182 0 240 (dk_at dksX3_bandWords_0 21 rfl rfl)
theorem dX3_bandWords_24 : decode cX3_bandWords 24 = .ok (.ifCond .ne 5, 3) := dk_154 0 5 (dk_at dksX3_bandWords_1 0 rfl rfl)
theorem dX3_bandWords_27 : decode cX3_bandWords 27 = .ok (.iconst 0, 1) := dk_3 (dk_at dksX3_bandWords_1 3 rfl rfl)
theorem dX3_bandWords_28 : decode cX3_bandWords 28 = .ok (.ireturn, 1) := dk_172 (dk_at dksX3_bandWords_1 4 rfl rfl)
theorem dX3_bandWords_29 : decode cX3_bandWords 29 = .ok (.aload_n 0, 1) := dk_42 (dk_at dksX3_bandWords_1 5 rfl rfl)
theorem dX3_bandWords_30 : decode cX3_bandWords 30 = .ok (.iload_n 1, 1) := dk_27 (dk_at dksX3_bandWords_1 6 rfl rfl)
theorem dX3_bandWords_31 : decode cX3_bandWords 31 = .ok (.invokevirtual 326, 3) := dk_182 1 70 (dk_at dksX3_bandWords_1 7 rfl rfl)
theorem dX3_bandWords_34 : decode cX3_bandWords 34 = .ok (.aload_n 0, 1) := dk_42 (dk_at dksX3_bandWords_1 10 rfl rfl)
theorem dX3_bandWords_35 : decode cX3_bandWords 35 = .ok (.getfield 33, 3) := dk_180 0 33 (dk_at dksX3_bandWords_1 11 rfl rfl)
theorem dX3_bandWords_38 : decode cX3_bandWords 38 = .ok (.iload_n 2, 1) := dk_28 (dk_at dksX3_bandWords_1 14 rfl rfl)
theorem dX3_bandWords_39 : decode cX3_bandWords 39 = .ok (.iaload, 1) := dk_46 (dk_at dksX3_bandWords_1 15 rfl rfl)
theorem dX3_bandWords_40 : decode cX3_bandWords 40 = .ok (.ireturn, 1) := dk_172 (dk_at dksX3_bandWords_1 16 rfl rfl)
abbrev cX3_layBands : ByteArray := prog_26_method_78_code
def yX3_layBands : MethodName := ⟨RX3, "layBands", "(I)V"⟩
def dkwX3_layBands_2 : List UInt8 := [92, 46, 42, 28, 3, 182, 1, 16, 96, 79, 132, 2, 1, 167, 255, 217, 177]
abbrev dktX3_layBands_2 : List UInt8 := dkwX3_layBands_2 ++ []
def dkwX3_layBands_1 : List UInt8 := [182, 0, 252, 162, 0, 37, 42, 28, 182, 1, 13, 27, 160, 0, 22, 42, 180, 0, 33, 42, 28, 182, 1, 67]
abbrev dktX3_layBands_1 : List UInt8 := dkwX3_layBands_1 ++ dktX3_layBands_2
def dkwX3_layBands_0 : List UInt8 := [3, 61, 28, 8, 162, 0, 16, 42, 180, 0, 33, 28, 3, 79, 132, 2, 1, 167, 255, 241, 3, 61, 28, 42]
abbrev dktX3_layBands_0 : List UInt8 := dkwX3_layBands_0 ++ dktX3_layBands_1
theorem dksX3_layBands_0 : cX3_layBands.data.toList.drop 0 = dktX3_layBands_0 := by decide +kernel
theorem dksX3_layBands_1 : cX3_layBands.data.toList.drop 24 = dktX3_layBands_1 := dk_seg dksX3_layBands_0 24 rfl rfl
theorem dksX3_layBands_2 : cX3_layBands.data.toList.drop 48 = dktX3_layBands_2 := dk_seg dksX3_layBands_1 24 rfl rfl
theorem dX3_layBands_0 : decode cX3_layBands 0 = .ok (.iconst 0, 1) := dk_3 (dk_at dksX3_layBands_0 0 rfl rfl)
theorem dX3_layBands_1 : decode cX3_layBands 1 = .ok (.istore_n 2, 1) := dk_61 (dk_at dksX3_layBands_0 1 rfl rfl)
theorem dX3_layBands_2 : decode cX3_layBands 2 = .ok (.iload_n 2, 1) := dk_28 (dk_at dksX3_layBands_0 2 rfl rfl)
theorem dX3_layBands_3 : decode cX3_layBands 3 = .ok (.iconst 5, 1) := dk_8 (dk_at dksX3_layBands_0 3 rfl rfl)
theorem dX3_layBands_4 : decode cX3_layBands 4 = .ok (.if_icmp .ge 16, 3) := dk_162 0 16 (dk_at dksX3_layBands_0 4 rfl rfl)
theorem dX3_layBands_7 : decode cX3_layBands 7 = .ok (.aload_n 0, 1) := dk_42 (dk_at dksX3_layBands_0 7 rfl rfl)
theorem dX3_layBands_8 : decode cX3_layBands 8 = .ok (.getfield 33, 3) := dk_180 0 33 (dk_at dksX3_layBands_0 8 rfl rfl)
theorem dX3_layBands_11 : decode cX3_layBands 11 = .ok (.iload_n 2, 1) := dk_28 (dk_at dksX3_layBands_0 11 rfl rfl)
theorem dX3_layBands_12 : decode cX3_layBands 12 = .ok (.iconst 0, 1) := dk_3 (dk_at dksX3_layBands_0 12 rfl rfl)
theorem dX3_layBands_13 : decode cX3_layBands 13 = .ok (.iastore, 1) := dk_79 (dk_at dksX3_layBands_0 13 rfl rfl)
theorem dX3_layBands_14 : decode cX3_layBands 14 = .ok (.iinc 2 1, 3) := dk_132 2 1 (dk_at dksX3_layBands_0 14 rfl rfl)
theorem dX3_layBands_17 : decode cX3_layBands 17 = .ok (.goto (-15), 3) := dk_167 255 241 (dk_at dksX3_layBands_0 17 rfl rfl)
theorem dX3_layBands_20 : decode cX3_layBands 20 = .ok (.iconst 0, 1) := dk_3 (dk_at dksX3_layBands_0 20 rfl rfl)
theorem dX3_layBands_21 : decode cX3_layBands 21 = .ok (.istore_n 2, 1) := dk_61 (dk_at dksX3_layBands_0 21 rfl rfl)
theorem dX3_layBands_22 : decode cX3_layBands 22 = .ok (.iload_n 2, 1) := dk_28 (dk_at dksX3_layBands_0 22 rfl rfl)
theorem dX3_layBands_23 : decode cX3_layBands 23 = .ok (.aload_n 0, 1) := dk_42 (dk_at dksX3_layBands_0 23 rfl rfl)
theorem dX3_layBands_24 : decode cX3_layBands 24 = .ok (.invokevirtual 252, 3) := dk_182 0 252 (dk_at dksX3_layBands_1 0 rfl rfl)
theorem dX3_layBands_27 : decode cX3_layBands 27 = .ok (.if_icmp .ge 37, 3) := dk_162 0 37 (dk_at dksX3_layBands_1 3 rfl rfl)
theorem dX3_layBands_30 : decode cX3_layBands 30 = .ok (.aload_n 0, 1) := dk_42 (dk_at dksX3_layBands_1 6 rfl rfl)
theorem dX3_layBands_31 : decode cX3_layBands 31 = .ok (.iload_n 2, 1) := dk_28 (dk_at dksX3_layBands_1 7 rfl rfl)
theorem dX3_layBands_32 : decode cX3_layBands 32 = .ok (.invokevirtual 269, 3) := dk_182 1 13 (dk_at dksX3_layBands_1 8 rfl rfl)
theorem dX3_layBands_35 : decode cX3_layBands 35 = .ok (.iload_n 1, 1) := dk_27 (dk_at dksX3_layBands_1 11 rfl rfl)
theorem dX3_layBands_36 : decode cX3_layBands 36 = .ok (.if_icmp .ne 22, 3) := dk_160 0 22 (dk_at dksX3_layBands_1 12 rfl rfl)
theorem dX3_layBands_39 : decode cX3_layBands 39 = .ok (.aload_n 0, 1) := dk_42 (dk_at dksX3_layBands_1 15 rfl rfl)
theorem dX3_layBands_40 : decode cX3_layBands 40 = .ok (.getfield 33, 3) := dk_180 0 33 (dk_at dksX3_layBands_1 16 rfl rfl)
theorem dX3_layBands_43 : decode cX3_layBands 43 = .ok (.aload_n 0, 1) := dk_42 (dk_at dksX3_layBands_1 19 rfl rfl)
theorem dX3_layBands_44 : decode cX3_layBands 44 = .ok (.iload_n 2, 1) := dk_28 (dk_at dksX3_layBands_1 20 rfl rfl)
theorem dX3_layBands_45 : decode cX3_layBands 45 = .ok (.invokevirtual 323, 3) := dk_182 1 67 (dk_at dksX3_layBands_1 21 rfl rfl)
theorem dX3_layBands_48 : decode cX3_layBands 48 = .ok (.dup2, 1) := dk_92 (dk_at dksX3_layBands_2 0 rfl rfl)
theorem dX3_layBands_49 : decode cX3_layBands 49 = .ok (.iaload, 1) := dk_46 (dk_at dksX3_layBands_2 1 rfl rfl)
theorem dX3_layBands_50 : decode cX3_layBands 50 = .ok (.aload_n 0, 1) := dk_42 (dk_at dksX3_layBands_2 2 rfl rfl)
theorem dX3_layBands_51 : decode cX3_layBands 51 = .ok (.iload_n 2, 1) := dk_28 (dk_at dksX3_layBands_2 3 rfl rfl)
theorem dX3_layBands_52 : decode cX3_layBands 52 = .ok (.iconst 0, 1) := dk_3 (dk_at dksX3_layBands_2 4 rfl rfl)
theorem dX3_layBands_53 : decode cX3_layBands 53 = .ok (.invokevirtual 272, 3) := dk_182 1 16 (dk_at dksX3_layBands_2 5 rfl rfl)
theorem dX3_layBands_56 : decode cX3_layBands 56 = .ok (.iadd, 1) := dk_96 (dk_at dksX3_layBands_2 8 rfl rfl)
theorem dX3_layBands_57 : decode cX3_layBands 57 = .ok (.iastore, 1) := dk_79 (dk_at dksX3_layBands_2 9 rfl rfl)
theorem dX3_layBands_58 : decode cX3_layBands 58 = .ok (.iinc 2 1, 3) := dk_132 2 1 (dk_at dksX3_layBands_2 10 rfl rfl)
theorem dX3_layBands_61 : decode cX3_layBands 61 = .ok (.goto (-39), 3) := dk_167 255 217 (dk_at dksX3_layBands_2 13 rfl rfl)
theorem dX3_layBands_64 : decode cX3_layBands 64 = .ok (.return_, 1) := dk_177 (dk_at dksX3_layBands_2 16 rfl rfl)
abbrev cX3_repetitions : ByteArray := prog_26_method_81_code
def yX3_repetitions : MethodName := ⟨RX3, "repetitions", "(I)I"⟩
def dkwX3_repetitions_1 : List UInt8 := [162, 0, 22, 42, 27, 29, 3, 182, 1, 73, 153, 0, 6, 132, 2, 1, 132, 3, 1, 167, 255, 232, 28, 172]
abbrev dktX3_repetitions_1 : List UInt8 := dkwX3_repetitions_1 ++ []
def dkwX3_repetitions_0 : List UInt8 := [42, 42, 27, 182, 1, 36, 182, 0, 240, 154, 0, 5, 3, 172, 3, 61, 3, 62, 29, 42, 182, 0, 252]
abbrev dktX3_repetitions_0 : List UInt8 := dkwX3_repetitions_0 ++ dktX3_repetitions_1
theorem dksX3_repetitions_0 : cX3_repetitions.data.toList.drop 0 = dktX3_repetitions_0 := by decide +kernel
theorem dksX3_repetitions_1 : cX3_repetitions.data.toList.drop 23 = dktX3_repetitions_1 := dk_seg dksX3_repetitions_0 23 rfl rfl
theorem dX3_repetitions_0 : decode cX3_repetitions 0 = .ok (.aload_n 0, 1) := dk_42 (dk_at dksX3_repetitions_0 0 rfl rfl)
theorem dX3_repetitions_1 : decode cX3_repetitions 1 = .ok (.aload_n 0, 1) := dk_42 (dk_at dksX3_repetitions_0 1 rfl rfl)
theorem dX3_repetitions_2 : decode cX3_repetitions 2 = .ok (.iload_n 1, 1) := dk_27 (dk_at dksX3_repetitions_0 2 rfl rfl)
theorem dX3_repetitions_3 : decode cX3_repetitions 3 = .ok (.invokevirtual 292, 3) := dk_182 1 36 (dk_at dksX3_repetitions_0 3 rfl rfl)
theorem dX3_repetitions_6 : decode cX3_repetitions 6 = .ok (.invokevirtual 240, 3) := dk_182 0 240 (dk_at dksX3_repetitions_0 6 rfl rfl)
theorem dX3_repetitions_9 : decode cX3_repetitions 9 = .ok (.ifCond .ne 5, 3) := dk_154 0 5 (dk_at dksX3_repetitions_0 9 rfl rfl)
theorem dX3_repetitions_12 : decode cX3_repetitions 12 = .ok (.iconst 0, 1) := dk_3 (dk_at dksX3_repetitions_0 12 rfl rfl)
theorem dX3_repetitions_13 : decode cX3_repetitions 13 = .ok (.ireturn, 1) := dk_172 (dk_at dksX3_repetitions_0 13 rfl rfl)
theorem dX3_repetitions_14 : decode cX3_repetitions 14 = .ok (.iconst 0, 1) := dk_3 (dk_at dksX3_repetitions_0 14 rfl rfl)
theorem dX3_repetitions_15 : decode cX3_repetitions 15 = .ok (.istore_n 2, 1) := dk_61 (dk_at dksX3_repetitions_0 15 rfl rfl)
theorem dX3_repetitions_16 : decode cX3_repetitions 16 = .ok (.iconst 0, 1) := dk_3 (dk_at dksX3_repetitions_0 16 rfl rfl)
theorem dX3_repetitions_17 : decode cX3_repetitions 17 = .ok (.istore_n 3, 1) := dk_62 (dk_at dksX3_repetitions_0 17 rfl rfl)
theorem dX3_repetitions_18 : decode cX3_repetitions 18 = .ok (.iload_n 3, 1) := dk_29 (dk_at dksX3_repetitions_0 18 rfl rfl)
theorem dX3_repetitions_19 : decode cX3_repetitions 19 = .ok (.aload_n 0, 1) := dk_42 (dk_at dksX3_repetitions_0 19 rfl rfl)
theorem dX3_repetitions_20 : decode cX3_repetitions 20 = .ok (.invokevirtual 252, 3) := dk_182 0 252 (dk_at dksX3_repetitions_0 20 rfl rfl)
theorem dX3_repetitions_23 : decode cX3_repetitions 23 = .ok (.if_icmp .ge 22, 3) := dk_162 0 22 (dk_at dksX3_repetitions_1 0 rfl rfl)
theorem dX3_repetitions_26 : decode cX3_repetitions 26 = .ok (.aload_n 0, 1) := dk_42 (dk_at dksX3_repetitions_1 3 rfl rfl)
theorem dX3_repetitions_27 : decode cX3_repetitions 27 = .ok (.iload_n 1, 1) := dk_27 (dk_at dksX3_repetitions_1 4 rfl rfl)
theorem dX3_repetitions_28 : decode cX3_repetitions 28 = .ok (.iload_n 3, 1) := dk_29 (dk_at dksX3_repetitions_1 5 rfl rfl)
theorem dX3_repetitions_29 : decode cX3_repetitions 29 = .ok (.iconst 0, 1) := dk_3 (dk_at dksX3_repetitions_1 6 rfl rfl)
theorem dX3_repetitions_30 : decode cX3_repetitions 30 = .ok (.invokevirtual 329, 3) := dk_182 1 73 (dk_at dksX3_repetitions_1 7 rfl rfl)
theorem dX3_repetitions_33 : decode cX3_repetitions 33 = .ok (.ifCond .eq 6, 3) := dk_153 0 6 (dk_at dksX3_repetitions_1 10 rfl rfl)
theorem dX3_repetitions_36 : decode cX3_repetitions 36 = .ok (.iinc 2 1, 3) := dk_132 2 1 (dk_at dksX3_repetitions_1 13 rfl rfl)
theorem dX3_repetitions_39 : decode cX3_repetitions 39 = .ok (.iinc 3 1, 3) := dk_132 3 1 (dk_at dksX3_repetitions_1 16 rfl rfl)
theorem dX3_repetitions_42 : decode cX3_repetitions 42 = .ok (.goto (-24), 3) := dk_167 255 232 (dk_at dksX3_repetitions_1 19 rfl rfl)
theorem dX3_repetitions_45 : decode cX3_repetitions 45 = .ok (.iload_n 2, 1) := dk_28 (dk_at dksX3_repetitions_1 22 rfl rfl)
theorem dX3_repetitions_46 : decode cX3_repetitions 46 = .ok (.ireturn, 1) := dk_172 (dk_at dksX3_repetitions_1 23 rfl rfl)
abbrev cX3_account : ByteArray := prog_26_method_88_code
def yX3_account : MethodName := ⟨RX3, "account", "(II)I"⟩
def dkwX3_account_3 : List UInt8 := [42, 27, 182, 1, 88, 172, 42, 27, 182, 1, 91, 172, 42, 27, 182, 1, 94, 172]
abbrev dktX3_account_3 : List UInt8 := dkwX3_account_3 ++ []
def dkwX3_account_2 : List UInt8 := [42, 27, 182, 1, 82, 172, 42, 27, 182, 1, 76, 172, 42, 27, 42, 27, 5, 182, 1, 26, 182, 1, 85, 172]
abbrev dktX3_account_2 : List UInt8 := dkwX3_account_2 ++ dktX3_account_3
def dkwX3_account_1 : List UInt8 := [170, 0, 0, 0, 0, 0, 0, 72, 0, 0, 0, 0, 0, 0, 0, 4, 0, 0, 0, 36, 0, 0, 0, 42, 0, 0, 0, 48, 0, 0, 0, 60, 0, 0, 0, 66]
abbrev dktX3_account_1 : List UInt8 := dkwX3_account_1 ++ dktX3_account_2
def dkwX3_account_0 : List UInt8 := [42, 42, 27, 182, 1, 20, 28, 133, 9, 20, 0, 152, 184, 0, 144, 182, 1, 23, 154, 0, 5, 3, 172, 28]
abbrev dktX3_account_0 : List UInt8 := dkwX3_account_0 ++ dktX3_account_1
theorem dksX3_account_0 : cX3_account.data.toList.drop 0 = dktX3_account_0 := by decide +kernel
theorem dksX3_account_1 : cX3_account.data.toList.drop 24 = dktX3_account_1 := dk_seg dksX3_account_0 24 rfl rfl
theorem dksX3_account_2 : cX3_account.data.toList.drop 60 = dktX3_account_2 := dk_seg dksX3_account_1 36 rfl rfl
theorem dksX3_account_3 : cX3_account.data.toList.drop 84 = dktX3_account_3 := dk_seg dksX3_account_2 24 rfl rfl
theorem dX3_account_0 : decode cX3_account 0 = .ok (.aload_n 0, 1) := dk_42 (dk_at dksX3_account_0 0 rfl rfl)
theorem dX3_account_1 : decode cX3_account 1 = .ok (.aload_n 0, 1) := dk_42 (dk_at dksX3_account_0 1 rfl rfl)
theorem dX3_account_2 : decode cX3_account 2 = .ok (.iload_n 1, 1) := dk_27 (dk_at dksX3_account_0 2 rfl rfl)
theorem dX3_account_3 : decode cX3_account 3 = .ok (.invokevirtual 276, 3) := dk_182 1 20 (dk_at dksX3_account_0 3 rfl rfl)
theorem dX3_account_6 : decode cX3_account 6 = .ok (.iload_n 2, 1) := dk_28 (dk_at dksX3_account_0 6 rfl rfl)
theorem dX3_account_7 : decode cX3_account 7 = .ok (.i2l, 1) := dk_133 (dk_at dksX3_account_0 7 rfl rfl)
theorem dX3_account_8 : decode cX3_account 8 = .ok (.lconst 0, 1) := dk_9 (dk_at dksX3_account_0 8 rfl rfl)
theorem dX3_account_9 : decode cX3_account 9 = .ok (.ldc2_w 152, 3) := dk_20 0 152 (dk_at dksX3_account_0 9 rfl rfl)
theorem dX3_account_12 : decode cX3_account 12 = .ok (.invokestatic 144, 3) := dk_184 0 144 (dk_at dksX3_account_0 12 rfl rfl)
theorem dX3_account_15 : decode cX3_account 15 = .ok (.invokevirtual 279, 3) := dk_182 1 23 (dk_at dksX3_account_0 15 rfl rfl)
theorem dX3_account_18 : decode cX3_account 18 = .ok (.ifCond .ne 5, 3) := dk_154 0 5 (dk_at dksX3_account_0 18 rfl rfl)
theorem dX3_account_21 : decode cX3_account 21 = .ok (.iconst 0, 1) := dk_3 (dk_at dksX3_account_0 21 rfl rfl)
theorem dX3_account_22 : decode cX3_account 22 = .ok (.ireturn, 1) := dk_172 (dk_at dksX3_account_0 22 rfl rfl)
theorem dX3_account_23 : decode cX3_account 23 = .ok (.iload_n 2, 1) := dk_28 (dk_at dksX3_account_0 23 rfl rfl)
theorem dX3_account_24 : decode cX3_account 24 = .ok (.tableswitch 72 0 4 #[36, 42, 48, 60, 66], 36) := by decide +kernel
theorem dX3_account_60 : decode cX3_account 60 = .ok (.aload_n 0, 1) := dk_42 (dk_at dksX3_account_2 0 rfl rfl)
theorem dX3_account_61 : decode cX3_account 61 = .ok (.iload_n 1, 1) := dk_27 (dk_at dksX3_account_2 1 rfl rfl)
theorem dX3_account_62 : decode cX3_account 62 = .ok (.invokevirtual 338, 3) := dk_182 1 82 (dk_at dksX3_account_2 2 rfl rfl)
theorem dX3_account_65 : decode cX3_account 65 = .ok (.ireturn, 1) := dk_172 (dk_at dksX3_account_2 5 rfl rfl)
theorem dX3_account_66 : decode cX3_account 66 = .ok (.aload_n 0, 1) := dk_42 (dk_at dksX3_account_2 6 rfl rfl)
theorem dX3_account_67 : decode cX3_account 67 = .ok (.iload_n 1, 1) := dk_27 (dk_at dksX3_account_2 7 rfl rfl)
theorem dX3_account_68 : decode cX3_account 68 = .ok (.invokevirtual 332, 3) := dk_182 1 76 (dk_at dksX3_account_2 8 rfl rfl)
theorem dX3_account_71 : decode cX3_account 71 = .ok (.ireturn, 1) := dk_172 (dk_at dksX3_account_2 11 rfl rfl)
theorem dX3_account_72 : decode cX3_account 72 = .ok (.aload_n 0, 1) := dk_42 (dk_at dksX3_account_2 12 rfl rfl)
theorem dX3_account_73 : decode cX3_account 73 = .ok (.iload_n 1, 1) := dk_27 (dk_at dksX3_account_2 13 rfl rfl)
theorem dX3_account_74 : decode cX3_account 74 = .ok (.aload_n 0, 1) := dk_42 (dk_at dksX3_account_2 14 rfl rfl)
theorem dX3_account_75 : decode cX3_account 75 = .ok (.iload_n 1, 1) := dk_27 (dk_at dksX3_account_2 15 rfl rfl)
theorem dX3_account_76 : decode cX3_account 76 = .ok (.iconst 2, 1) := dk_5 (dk_at dksX3_account_2 16 rfl rfl)
theorem dX3_account_77 : decode cX3_account 77 = .ok (.invokevirtual 282, 3) := dk_182 1 26 (dk_at dksX3_account_2 17 rfl rfl)
theorem dX3_account_80 : decode cX3_account 80 = .ok (.invokevirtual 341, 3) := dk_182 1 85 (dk_at dksX3_account_2 20 rfl rfl)
theorem dX3_account_83 : decode cX3_account 83 = .ok (.ireturn, 1) := dk_172 (dk_at dksX3_account_2 23 rfl rfl)
theorem dX3_account_84 : decode cX3_account 84 = .ok (.aload_n 0, 1) := dk_42 (dk_at dksX3_account_3 0 rfl rfl)
theorem dX3_account_85 : decode cX3_account 85 = .ok (.iload_n 1, 1) := dk_27 (dk_at dksX3_account_3 1 rfl rfl)
theorem dX3_account_86 : decode cX3_account 86 = .ok (.invokevirtual 344, 3) := dk_182 1 88 (dk_at dksX3_account_3 2 rfl rfl)
theorem dX3_account_89 : decode cX3_account 89 = .ok (.ireturn, 1) := dk_172 (dk_at dksX3_account_3 5 rfl rfl)
theorem dX3_account_90 : decode cX3_account 90 = .ok (.aload_n 0, 1) := dk_42 (dk_at dksX3_account_3 6 rfl rfl)
theorem dX3_account_91 : decode cX3_account 91 = .ok (.iload_n 1, 1) := dk_27 (dk_at dksX3_account_3 7 rfl rfl)
theorem dX3_account_92 : decode cX3_account 92 = .ok (.invokevirtual 347, 3) := dk_182 1 91 (dk_at dksX3_account_3 8 rfl rfl)
theorem dX3_account_95 : decode cX3_account 95 = .ok (.ireturn, 1) := dk_172 (dk_at dksX3_account_3 11 rfl rfl)
theorem dX3_account_96 : decode cX3_account 96 = .ok (.aload_n 0, 1) := dk_42 (dk_at dksX3_account_3 12 rfl rfl)
theorem dX3_account_97 : decode cX3_account 97 = .ok (.iload_n 1, 1) := dk_27 (dk_at dksX3_account_3 13 rfl rfl)
theorem dX3_account_98 : decode cX3_account 98 = .ok (.invokevirtual 350, 3) := dk_182 1 94 (dk_at dksX3_account_3 14 rfl rfl)
theorem dX3_account_101 : decode cX3_account 101 = .ok (.ireturn, 1) := dk_172 (dk_at dksX3_account_3 17 rfl rfl)
abbrev cX3_basicOf : ByteArray := prog_26_method_82_code
def yX3_basicOf : MethodName := ⟨RX3, "basicOf", "(I)I"⟩
def dkwX3_basicOf_2 : List UInt8 := [132, 3, 1, 167, 255, 217, 28, 172]
abbrev dktX3_basicOf_2 : List UInt8 := dkwX3_basicOf_2 ++ []
def dkwX3_basicOf_1 : List UInt8 := [180, 0, 7, 3, 47, 105, 42, 180, 0, 7, 7, 29, 96, 47, 105, 20, 0, 59, 109, 136, 96, 61]
abbrev dktX3_basicOf_1 : List UInt8 := dkwX3_basicOf_1 ++ dktX3_basicOf_2
def dkwX3_basicOf_0 : List UInt8 := [42, 27, 182, 1, 70, 3, 61, 3, 62, 29, 8, 162, 0, 40, 28, 42, 180, 0, 33, 29, 46, 133, 42]
abbrev dktX3_basicOf_0 : List UInt8 := dkwX3_basicOf_0 ++ dktX3_basicOf_1
theorem dksX3_basicOf_0 : cX3_basicOf.data.toList.drop 0 = dktX3_basicOf_0 := by decide +kernel
theorem dksX3_basicOf_1 : cX3_basicOf.data.toList.drop 23 = dktX3_basicOf_1 := dk_seg dksX3_basicOf_0 23 rfl rfl
theorem dksX3_basicOf_2 : cX3_basicOf.data.toList.drop 45 = dktX3_basicOf_2 := dk_seg dksX3_basicOf_1 22 rfl rfl
theorem dX3_basicOf_0 : decode cX3_basicOf 0 = .ok (.aload_n 0, 1) := dk_42 (dk_at dksX3_basicOf_0 0 rfl rfl)
theorem dX3_basicOf_1 : decode cX3_basicOf 1 = .ok (.iload_n 1, 1) := dk_27 (dk_at dksX3_basicOf_0 1 rfl rfl)
theorem dX3_basicOf_2 : decode cX3_basicOf 2 = .ok (.invokevirtual 326, 3) := dk_182 1 70 (dk_at dksX3_basicOf_0 2 rfl rfl)
theorem dX3_basicOf_5 : decode cX3_basicOf 5 = .ok (.iconst 0, 1) := dk_3 (dk_at dksX3_basicOf_0 5 rfl rfl)
theorem dX3_basicOf_6 : decode cX3_basicOf 6 = .ok (.istore_n 2, 1) := dk_61 (dk_at dksX3_basicOf_0 6 rfl rfl)
theorem dX3_basicOf_7 : decode cX3_basicOf 7 = .ok (.iconst 0, 1) := dk_3 (dk_at dksX3_basicOf_0 7 rfl rfl)
theorem dX3_basicOf_8 : decode cX3_basicOf 8 = .ok (.istore_n 3, 1) := dk_62 (dk_at dksX3_basicOf_0 8 rfl rfl)
theorem dX3_basicOf_9 : decode cX3_basicOf 9 = .ok (.iload_n 3, 1) := dk_29 (dk_at dksX3_basicOf_0 9 rfl rfl)
theorem dX3_basicOf_10 : decode cX3_basicOf 10 = .ok (.iconst 5, 1) := dk_8 (dk_at dksX3_basicOf_0 10 rfl rfl)
theorem dX3_basicOf_11 : decode cX3_basicOf 11 = .ok (.if_icmp .ge 40, 3) := dk_162 0 40 (dk_at dksX3_basicOf_0 11 rfl rfl)
theorem dX3_basicOf_14 : decode cX3_basicOf 14 = .ok (.iload_n 2, 1) := dk_28 (dk_at dksX3_basicOf_0 14 rfl rfl)
theorem dX3_basicOf_15 : decode cX3_basicOf 15 = .ok (.aload_n 0, 1) := dk_42 (dk_at dksX3_basicOf_0 15 rfl rfl)
theorem dX3_basicOf_16 : decode cX3_basicOf 16 = .ok (.getfield 33, 3) := dk_180 0 33 (dk_at dksX3_basicOf_0 16 rfl rfl)
theorem dX3_basicOf_19 : decode cX3_basicOf 19 = .ok (.iload_n 3, 1) := dk_29 (dk_at dksX3_basicOf_0 19 rfl rfl)
theorem dX3_basicOf_20 : decode cX3_basicOf 20 = .ok (.iaload, 1) := dk_46 (dk_at dksX3_basicOf_0 20 rfl rfl)
theorem dX3_basicOf_21 : decode cX3_basicOf 21 = .ok (.i2l, 1) := dk_133 (dk_at dksX3_basicOf_0 21 rfl rfl)
theorem dX3_basicOf_22 : decode cX3_basicOf 22 = .ok (.aload_n 0, 1) := dk_42 (dk_at dksX3_basicOf_0 22 rfl rfl)
theorem dX3_basicOf_23 : decode cX3_basicOf 23 = .ok (.getfield 7, 3) := dk_180 0 7 (dk_at dksX3_basicOf_1 0 rfl rfl)
theorem dX3_basicOf_26 : decode cX3_basicOf 26 = .ok (.iconst 0, 1) := dk_3 (dk_at dksX3_basicOf_1 3 rfl rfl)
theorem dX3_basicOf_27 : decode cX3_basicOf 27 = .ok (.laload, 1) := dk_47 (dk_at dksX3_basicOf_1 4 rfl rfl)
theorem dX3_basicOf_28 : decode cX3_basicOf 28 = .ok (.lmul, 1) := dk_105 (dk_at dksX3_basicOf_1 5 rfl rfl)
theorem dX3_basicOf_29 : decode cX3_basicOf 29 = .ok (.aload_n 0, 1) := dk_42 (dk_at dksX3_basicOf_1 6 rfl rfl)
theorem dX3_basicOf_30 : decode cX3_basicOf 30 = .ok (.getfield 7, 3) := dk_180 0 7 (dk_at dksX3_basicOf_1 7 rfl rfl)
theorem dX3_basicOf_33 : decode cX3_basicOf 33 = .ok (.iconst 4, 1) := dk_7 (dk_at dksX3_basicOf_1 10 rfl rfl)
theorem dX3_basicOf_34 : decode cX3_basicOf 34 = .ok (.iload_n 3, 1) := dk_29 (dk_at dksX3_basicOf_1 11 rfl rfl)
theorem dX3_basicOf_35 : decode cX3_basicOf 35 = .ok (.iadd, 1) := dk_96 (dk_at dksX3_basicOf_1 12 rfl rfl)
theorem dX3_basicOf_36 : decode cX3_basicOf 36 = .ok (.laload, 1) := dk_47 (dk_at dksX3_basicOf_1 13 rfl rfl)
theorem dX3_basicOf_37 : decode cX3_basicOf 37 = .ok (.lmul, 1) := dk_105 (dk_at dksX3_basicOf_1 14 rfl rfl)
theorem dX3_basicOf_38 : decode cX3_basicOf 38 = .ok (.ldc2_w 59, 3) := dk_20 0 59 (dk_at dksX3_basicOf_1 15 rfl rfl)
theorem dX3_basicOf_41 : decode cX3_basicOf 41 = .ok (.ldiv, 1) := dk_109 (dk_at dksX3_basicOf_1 18 rfl rfl)
theorem dX3_basicOf_42 : decode cX3_basicOf 42 = .ok (.l2i, 1) := dk_136 (dk_at dksX3_basicOf_1 19 rfl rfl)
theorem dX3_basicOf_43 : decode cX3_basicOf 43 = .ok (.iadd, 1) := dk_96 (dk_at dksX3_basicOf_1 20 rfl rfl)
theorem dX3_basicOf_44 : decode cX3_basicOf 44 = .ok (.istore_n 2, 1) := dk_61 (dk_at dksX3_basicOf_1 21 rfl rfl)
theorem dX3_basicOf_45 : decode cX3_basicOf 45 = .ok (.iinc 3 1, 3) := dk_132 3 1 (dk_at dksX3_basicOf_2 0 rfl rfl)
theorem dX3_basicOf_48 : decode cX3_basicOf 48 = .ok (.goto (-39), 3) := dk_167 255 217 (dk_at dksX3_basicOf_2 3 rfl rfl)
theorem dX3_basicOf_51 : decode cX3_basicOf 51 = .ok (.iload_n 2, 1) := dk_28 (dk_at dksX3_basicOf_2 6 rfl rfl)
theorem dX3_basicOf_52 : decode cX3_basicOf 52 = .ok (.ireturn, 1) := dk_172 (dk_at dksX3_basicOf_2 7 rfl rfl)
abbrev cX3_hoursOf : ByteArray := prog_26_method_83_code
def yX3_hoursOf : MethodName := ⟨RX3, "hoursOf", "(I)I"⟩
def dkwX3_hoursOf_0 : List UInt8 := [42, 27, 182, 1, 33, 133, 42, 180, 0, 7, 4, 47, 97, 10, 101, 42, 180, 0, 7, 4, 47, 109, 136, 172]
abbrev dktX3_hoursOf_0 : List UInt8 := dkwX3_hoursOf_0 ++ []
theorem dksX3_hoursOf_0 : cX3_hoursOf.data.toList.drop 0 = dktX3_hoursOf_0 := by decide +kernel
theorem dX3_hoursOf_0 : decode cX3_hoursOf 0 = .ok (.aload_n 0, 1) := dk_42 (dk_at dksX3_hoursOf_0 0 rfl rfl)
theorem dX3_hoursOf_1 : decode cX3_hoursOf 1 = .ok (.iload_n 1, 1) := dk_27 (dk_at dksX3_hoursOf_0 1 rfl rfl)
theorem dX3_hoursOf_2 : decode cX3_hoursOf 2 = .ok (.invokevirtual 289, 3) := dk_182 1 33 (dk_at dksX3_hoursOf_0 2 rfl rfl)
theorem dX3_hoursOf_5 : decode cX3_hoursOf 5 = .ok (.i2l, 1) := dk_133 (dk_at dksX3_hoursOf_0 5 rfl rfl)
theorem dX3_hoursOf_6 : decode cX3_hoursOf 6 = .ok (.aload_n 0, 1) := dk_42 (dk_at dksX3_hoursOf_0 6 rfl rfl)
theorem dX3_hoursOf_7 : decode cX3_hoursOf 7 = .ok (.getfield 7, 3) := dk_180 0 7 (dk_at dksX3_hoursOf_0 7 rfl rfl)
theorem dX3_hoursOf_10 : decode cX3_hoursOf 10 = .ok (.iconst 1, 1) := dk_4 (dk_at dksX3_hoursOf_0 10 rfl rfl)
theorem dX3_hoursOf_11 : decode cX3_hoursOf 11 = .ok (.laload, 1) := dk_47 (dk_at dksX3_hoursOf_0 11 rfl rfl)
theorem dX3_hoursOf_12 : decode cX3_hoursOf 12 = .ok (.ladd, 1) := dk_97 (dk_at dksX3_hoursOf_0 12 rfl rfl)
theorem dX3_hoursOf_13 : decode cX3_hoursOf 13 = .ok (.lconst 1, 1) := dk_10 (dk_at dksX3_hoursOf_0 13 rfl rfl)
theorem dX3_hoursOf_14 : decode cX3_hoursOf 14 = .ok (.lsub, 1) := dk_101 (dk_at dksX3_hoursOf_0 14 rfl rfl)
theorem dX3_hoursOf_15 : decode cX3_hoursOf 15 = .ok (.aload_n 0, 1) := dk_42 (dk_at dksX3_hoursOf_0 15 rfl rfl)
theorem dX3_hoursOf_16 : decode cX3_hoursOf 16 = .ok (.getfield 7, 3) := dk_180 0 7 (dk_at dksX3_hoursOf_0 16 rfl rfl)
theorem dX3_hoursOf_19 : decode cX3_hoursOf 19 = .ok (.iconst 1, 1) := dk_4 (dk_at dksX3_hoursOf_0 19 rfl rfl)
theorem dX3_hoursOf_20 : decode cX3_hoursOf 20 = .ok (.laload, 1) := dk_47 (dk_at dksX3_hoursOf_0 20 rfl rfl)
theorem dX3_hoursOf_21 : decode cX3_hoursOf 21 = .ok (.ldiv, 1) := dk_109 (dk_at dksX3_hoursOf_0 21 rfl rfl)
theorem dX3_hoursOf_22 : decode cX3_hoursOf 22 = .ok (.l2i, 1) := dk_136 (dk_at dksX3_hoursOf_0 22 rfl rfl)
theorem dX3_hoursOf_23 : decode cX3_hoursOf 23 = .ok (.ireturn, 1) := dk_172 (dk_at dksX3_hoursOf_0 23 rfl rfl)
abbrev cX3_premiumBy : ByteArray := prog_26_method_84_code
def yX3_premiumBy : MethodName := ⟨RX3, "premiumBy", "(II)I"⟩
def dkwX3_premiumBy_1 : List UInt8 := [47, 29, 133, 105, 184, 1, 79, 136, 172]
abbrev dktX3_premiumBy_1 : List UInt8 := dkwX3_premiumBy_1 ++ []
def dkwX3_premiumBy_0 : List UInt8 := [42, 27, 182, 1, 76, 28, 100, 62, 29, 157, 0, 7, 3, 167, 0, 19, 20, 0, 59, 42, 180, 0, 7, 5]
abbrev dktX3_premiumBy_0 : List UInt8 := dkwX3_premiumBy_0 ++ dktX3_premiumBy_1
theorem dksX3_premiumBy_0 : cX3_premiumBy.data.toList.drop 0 = dktX3_premiumBy_0 := by decide +kernel
theorem dksX3_premiumBy_1 : cX3_premiumBy.data.toList.drop 24 = dktX3_premiumBy_1 := dk_seg dksX3_premiumBy_0 24 rfl rfl
theorem dX3_premiumBy_0 : decode cX3_premiumBy 0 = .ok (.aload_n 0, 1) := dk_42 (dk_at dksX3_premiumBy_0 0 rfl rfl)
theorem dX3_premiumBy_1 : decode cX3_premiumBy 1 = .ok (.iload_n 1, 1) := dk_27 (dk_at dksX3_premiumBy_0 1 rfl rfl)
theorem dX3_premiumBy_2 : decode cX3_premiumBy 2 = .ok (.invokevirtual 332, 3) := dk_182 1 76 (dk_at dksX3_premiumBy_0 2 rfl rfl)
theorem dX3_premiumBy_5 : decode cX3_premiumBy 5 = .ok (.iload_n 2, 1) := dk_28 (dk_at dksX3_premiumBy_0 5 rfl rfl)
theorem dX3_premiumBy_6 : decode cX3_premiumBy 6 = .ok (.isub, 1) := dk_100 (dk_at dksX3_premiumBy_0 6 rfl rfl)
theorem dX3_premiumBy_7 : decode cX3_premiumBy 7 = .ok (.istore_n 3, 1) := dk_62 (dk_at dksX3_premiumBy_0 7 rfl rfl)
theorem dX3_premiumBy_8 : decode cX3_premiumBy 8 = .ok (.iload_n 3, 1) := dk_29 (dk_at dksX3_premiumBy_0 8 rfl rfl)
theorem dX3_premiumBy_9 : decode cX3_premiumBy 9 = .ok (.ifCond .gt 7, 3) := dk_157 0 7 (dk_at dksX3_premiumBy_0 9 rfl rfl)
theorem dX3_premiumBy_12 : decode cX3_premiumBy 12 = .ok (.iconst 0, 1) := dk_3 (dk_at dksX3_premiumBy_0 12 rfl rfl)
theorem dX3_premiumBy_13 : decode cX3_premiumBy 13 = .ok (.goto 19, 3) := dk_167 0 19 (dk_at dksX3_premiumBy_0 13 rfl rfl)
theorem dX3_premiumBy_16 : decode cX3_premiumBy 16 = .ok (.ldc2_w 59, 3) := dk_20 0 59 (dk_at dksX3_premiumBy_0 16 rfl rfl)
theorem dX3_premiumBy_19 : decode cX3_premiumBy 19 = .ok (.aload_n 0, 1) := dk_42 (dk_at dksX3_premiumBy_0 19 rfl rfl)
theorem dX3_premiumBy_20 : decode cX3_premiumBy 20 = .ok (.getfield 7, 3) := dk_180 0 7 (dk_at dksX3_premiumBy_0 20 rfl rfl)
theorem dX3_premiumBy_23 : decode cX3_premiumBy 23 = .ok (.iconst 2, 1) := dk_5 (dk_at dksX3_premiumBy_0 23 rfl rfl)
theorem dX3_premiumBy_24 : decode cX3_premiumBy 24 = .ok (.laload, 1) := dk_47 (dk_at dksX3_premiumBy_1 0 rfl rfl)
theorem dX3_premiumBy_25 : decode cX3_premiumBy 25 = .ok (.iload_n 3, 1) := dk_29 (dk_at dksX3_premiumBy_1 1 rfl rfl)
theorem dX3_premiumBy_26 : decode cX3_premiumBy 26 = .ok (.i2l, 1) := dk_133 (dk_at dksX3_premiumBy_1 2 rfl rfl)
theorem dX3_premiumBy_27 : decode cX3_premiumBy 27 = .ok (.lmul, 1) := dk_105 (dk_at dksX3_premiumBy_1 3 rfl rfl)
theorem dX3_premiumBy_28 : decode cX3_premiumBy 28 = .ok (.invokestatic 335, 3) := dk_184 1 79 (dk_at dksX3_premiumBy_1 4 rfl rfl)
theorem dX3_premiumBy_31 : decode cX3_premiumBy 31 = .ok (.l2i, 1) := dk_136 (dk_at dksX3_premiumBy_1 7 rfl rfl)
theorem dX3_premiumBy_32 : decode cX3_premiumBy 32 = .ok (.ireturn, 1) := dk_172 (dk_at dksX3_premiumBy_1 8 rfl rfl)
abbrev cX3_extraOf : ByteArray := prog_26_method_85_code
def yX3_extraOf : MethodName := ⟨RX3, "extraOf", "(I)I"⟩
def dkwX3_extraOf_1 : List UInt8 := [172]
abbrev dktX3_extraOf_1 : List UInt8 := dkwX3_extraOf_1 ++ []
def dkwX3_extraOf_0 : List UInt8 := [42, 27, 182, 1, 82, 133, 42, 27, 42, 27, 5, 182, 1, 26, 182, 1, 85, 133, 105, 20, 0, 59, 109, 136]
abbrev dktX3_extraOf_0 : List UInt8 := dkwX3_extraOf_0 ++ dktX3_extraOf_1
theorem dksX3_extraOf_0 : cX3_extraOf.data.toList.drop 0 = dktX3_extraOf_0 := by decide +kernel
theorem dksX3_extraOf_1 : cX3_extraOf.data.toList.drop 24 = dktX3_extraOf_1 := dk_seg dksX3_extraOf_0 24 rfl rfl
theorem dX3_extraOf_0 : decode cX3_extraOf 0 = .ok (.aload_n 0, 1) := dk_42 (dk_at dksX3_extraOf_0 0 rfl rfl)
theorem dX3_extraOf_1 : decode cX3_extraOf 1 = .ok (.iload_n 1, 1) := dk_27 (dk_at dksX3_extraOf_0 1 rfl rfl)
theorem dX3_extraOf_2 : decode cX3_extraOf 2 = .ok (.invokevirtual 338, 3) := dk_182 1 82 (dk_at dksX3_extraOf_0 2 rfl rfl)
theorem dX3_extraOf_5 : decode cX3_extraOf 5 = .ok (.i2l, 1) := dk_133 (dk_at dksX3_extraOf_0 5 rfl rfl)
theorem dX3_extraOf_6 : decode cX3_extraOf 6 = .ok (.aload_n 0, 1) := dk_42 (dk_at dksX3_extraOf_0 6 rfl rfl)
theorem dX3_extraOf_7 : decode cX3_extraOf 7 = .ok (.iload_n 1, 1) := dk_27 (dk_at dksX3_extraOf_0 7 rfl rfl)
theorem dX3_extraOf_8 : decode cX3_extraOf 8 = .ok (.aload_n 0, 1) := dk_42 (dk_at dksX3_extraOf_0 8 rfl rfl)
theorem dX3_extraOf_9 : decode cX3_extraOf 9 = .ok (.iload_n 1, 1) := dk_27 (dk_at dksX3_extraOf_0 9 rfl rfl)
theorem dX3_extraOf_10 : decode cX3_extraOf 10 = .ok (.iconst 2, 1) := dk_5 (dk_at dksX3_extraOf_0 10 rfl rfl)
theorem dX3_extraOf_11 : decode cX3_extraOf 11 = .ok (.invokevirtual 282, 3) := dk_182 1 26 (dk_at dksX3_extraOf_0 11 rfl rfl)
theorem dX3_extraOf_14 : decode cX3_extraOf 14 = .ok (.invokevirtual 341, 3) := dk_182 1 85 (dk_at dksX3_extraOf_0 14 rfl rfl)
theorem dX3_extraOf_17 : decode cX3_extraOf 17 = .ok (.i2l, 1) := dk_133 (dk_at dksX3_extraOf_0 17 rfl rfl)
theorem dX3_extraOf_18 : decode cX3_extraOf 18 = .ok (.lmul, 1) := dk_105 (dk_at dksX3_extraOf_0 18 rfl rfl)
theorem dX3_extraOf_19 : decode cX3_extraOf 19 = .ok (.ldc2_w 59, 3) := dk_20 0 59 (dk_at dksX3_extraOf_0 19 rfl rfl)
theorem dX3_extraOf_22 : decode cX3_extraOf 22 = .ok (.ldiv, 1) := dk_109 (dk_at dksX3_extraOf_0 22 rfl rfl)
theorem dX3_extraOf_23 : decode cX3_extraOf 23 = .ok (.l2i, 1) := dk_136 (dk_at dksX3_extraOf_0 23 rfl rfl)
theorem dX3_extraOf_24 : decode cX3_extraOf 24 = .ok (.ireturn, 1) := dk_172 (dk_at dksX3_extraOf_1 0 rfl rfl)
abbrev cX3_translatorGets : ByteArray := prog_26_method_86_code
def yX3_translatorGets : MethodName := ⟨RX3, "translatorGets", "(I)I"⟩
def dkwX3_translatorGets_0 : List UInt8 := [42, 27, 182, 1, 82, 42, 27, 182, 1, 88, 96, 172]
abbrev dktX3_translatorGets_0 : List UInt8 := dkwX3_translatorGets_0 ++ []
theorem dksX3_translatorGets_0 : cX3_translatorGets.data.toList.drop 0 = dktX3_translatorGets_0 := by decide +kernel
theorem dX3_translatorGets_0 : decode cX3_translatorGets 0 = .ok (.aload_n 0, 1) := dk_42 (dk_at dksX3_translatorGets_0 0 rfl rfl)
theorem dX3_translatorGets_1 : decode cX3_translatorGets 1 = .ok (.iload_n 1, 1) := dk_27 (dk_at dksX3_translatorGets_0 1 rfl rfl)
theorem dX3_translatorGets_2 : decode cX3_translatorGets 2 = .ok (.invokevirtual 338, 3) := dk_182 1 82 (dk_at dksX3_translatorGets_0 2 rfl rfl)
theorem dX3_translatorGets_5 : decode cX3_translatorGets 5 = .ok (.aload_n 0, 1) := dk_42 (dk_at dksX3_translatorGets_0 5 rfl rfl)
theorem dX3_translatorGets_6 : decode cX3_translatorGets 6 = .ok (.iload_n 1, 1) := dk_27 (dk_at dksX3_translatorGets_0 6 rfl rfl)
theorem dX3_translatorGets_7 : decode cX3_translatorGets 7 = .ok (.invokevirtual 344, 3) := dk_182 1 88 (dk_at dksX3_translatorGets_0 7 rfl rfl)
theorem dX3_translatorGets_10 : decode cX3_translatorGets 10 = .ok (.iadd, 1) := dk_96 (dk_at dksX3_translatorGets_0 10 rfl rfl)
theorem dX3_translatorGets_11 : decode cX3_translatorGets 11 = .ok (.ireturn, 1) := dk_172 (dk_at dksX3_translatorGets_0 11 rfl rfl)
abbrev cX3_reviserGets : ByteArray := prog_26_method_87_code
def yX3_reviserGets : MethodName := ⟨RX3, "reviserGets", "(I)I"⟩
def dkwX3_reviserGets_1 : List UInt8 := [132, 3, 1, 167, 255, 239, 42, 180, 0, 7, 6, 47, 136, 28, 104, 172]
abbrev dktX3_reviserGets_1 : List UInt8 := dkwX3_reviserGets_1 ++ []
def dkwX3_reviserGets_0 : List UInt8 := [42, 27, 182, 1, 70, 3, 61, 3, 62, 29, 7, 162, 0, 18, 28, 42, 180, 0, 33, 29, 46, 96, 61]
abbrev dktX3_reviserGets_0 : List UInt8 := dkwX3_reviserGets_0 ++ dktX3_reviserGets_1
theorem dksX3_reviserGets_0 : cX3_reviserGets.data.toList.drop 0 = dktX3_reviserGets_0 := by decide +kernel
theorem dksX3_reviserGets_1 : cX3_reviserGets.data.toList.drop 23 = dktX3_reviserGets_1 := dk_seg dksX3_reviserGets_0 23 rfl rfl
theorem dX3_reviserGets_0 : decode cX3_reviserGets 0 = .ok (.aload_n 0, 1) := dk_42 (dk_at dksX3_reviserGets_0 0 rfl rfl)
theorem dX3_reviserGets_1 : decode cX3_reviserGets 1 = .ok (.iload_n 1, 1) := dk_27 (dk_at dksX3_reviserGets_0 1 rfl rfl)
theorem dX3_reviserGets_2 : decode cX3_reviserGets 2 = .ok (.invokevirtual 326, 3) := dk_182 1 70 (dk_at dksX3_reviserGets_0 2 rfl rfl)
theorem dX3_reviserGets_5 : decode cX3_reviserGets 5 = .ok (.iconst 0, 1) := dk_3 (dk_at dksX3_reviserGets_0 5 rfl rfl)
theorem dX3_reviserGets_6 : decode cX3_reviserGets 6 = .ok (.istore_n 2, 1) := dk_61 (dk_at dksX3_reviserGets_0 6 rfl rfl)
theorem dX3_reviserGets_7 : decode cX3_reviserGets 7 = .ok (.iconst 0, 1) := dk_3 (dk_at dksX3_reviserGets_0 7 rfl rfl)
theorem dX3_reviserGets_8 : decode cX3_reviserGets 8 = .ok (.istore_n 3, 1) := dk_62 (dk_at dksX3_reviserGets_0 8 rfl rfl)
theorem dX3_reviserGets_9 : decode cX3_reviserGets 9 = .ok (.iload_n 3, 1) := dk_29 (dk_at dksX3_reviserGets_0 9 rfl rfl)
theorem dX3_reviserGets_10 : decode cX3_reviserGets 10 = .ok (.iconst 4, 1) := dk_7 (dk_at dksX3_reviserGets_0 10 rfl rfl)
theorem dX3_reviserGets_11 : decode cX3_reviserGets 11 = .ok (.if_icmp .ge 18, 3) := dk_162 0 18 (dk_at dksX3_reviserGets_0 11 rfl rfl)
theorem dX3_reviserGets_14 : decode cX3_reviserGets 14 = .ok (.iload_n 2, 1) := dk_28 (dk_at dksX3_reviserGets_0 14 rfl rfl)
theorem dX3_reviserGets_15 : decode cX3_reviserGets 15 = .ok (.aload_n 0, 1) := dk_42 (dk_at dksX3_reviserGets_0 15 rfl rfl)
theorem dX3_reviserGets_16 : decode cX3_reviserGets 16 = .ok (.getfield 33, 3) := dk_180 0 33 (dk_at dksX3_reviserGets_0 16 rfl rfl)
theorem dX3_reviserGets_19 : decode cX3_reviserGets 19 = .ok (.iload_n 3, 1) := dk_29 (dk_at dksX3_reviserGets_0 19 rfl rfl)
theorem dX3_reviserGets_20 : decode cX3_reviserGets 20 = .ok (.iaload, 1) := dk_46 (dk_at dksX3_reviserGets_0 20 rfl rfl)
theorem dX3_reviserGets_21 : decode cX3_reviserGets 21 = .ok (.iadd, 1) := dk_96 (dk_at dksX3_reviserGets_0 21 rfl rfl)
theorem dX3_reviserGets_22 : decode cX3_reviserGets 22 = .ok (.istore_n 2, 1) := dk_61 (dk_at dksX3_reviserGets_0 22 rfl rfl)
theorem dX3_reviserGets_23 : decode cX3_reviserGets 23 = .ok (.iinc 3 1, 3) := dk_132 3 1 (dk_at dksX3_reviserGets_1 0 rfl rfl)
theorem dX3_reviserGets_26 : decode cX3_reviserGets 26 = .ok (.goto (-17), 3) := dk_167 255 239 (dk_at dksX3_reviserGets_1 3 rfl rfl)
theorem dX3_reviserGets_29 : decode cX3_reviserGets 29 = .ok (.aload_n 0, 1) := dk_42 (dk_at dksX3_reviserGets_1 6 rfl rfl)
theorem dX3_reviserGets_30 : decode cX3_reviserGets 30 = .ok (.getfield 7, 3) := dk_180 0 7 (dk_at dksX3_reviserGets_1 7 rfl rfl)
theorem dX3_reviserGets_33 : decode cX3_reviserGets 33 = .ok (.iconst 3, 1) := dk_6 (dk_at dksX3_reviserGets_1 10 rfl rfl)
theorem dX3_reviserGets_34 : decode cX3_reviserGets 34 = .ok (.laload, 1) := dk_47 (dk_at dksX3_reviserGets_1 11 rfl rfl)
theorem dX3_reviserGets_35 : decode cX3_reviserGets 35 = .ok (.l2i, 1) := dk_136 (dk_at dksX3_reviserGets_1 12 rfl rfl)
theorem dX3_reviserGets_36 : decode cX3_reviserGets 36 = .ok (.iload_n 2, 1) := dk_28 (dk_at dksX3_reviserGets_1 13 rfl rfl)
theorem dX3_reviserGets_37 : decode cX3_reviserGets 37 = .ok (.imul, 1) := dk_104 (dk_at dksX3_reviserGets_1 14 rfl rfl)
theorem dX3_reviserGets_38 : decode cX3_reviserGets 38 = .ok (.ireturn, 1) := dk_172 (dk_at dksX3_reviserGets_1 15 rfl rfl)
abbrev cX3_earned : ByteArray := prog_26_method_89_code
def yX3_earned : MethodName := ⟨RX3, "earned", "(I)I"⟩
def dkwX3_earned_3 : List UInt8 := [167, 255, 204, 28, 172]
abbrev dktX3_earned_3 : List UInt8 := dkwX3_earned_3 ++ []
def dkwX3_earned_2 : List UInt8 := [61, 42, 29, 4, 182, 1, 26, 27, 160, 0, 11, 28, 42, 29, 182, 1, 94, 96, 61, 132, 3, 1]
abbrev dktX3_earned_2 : List UInt8 := dkwX3_earned_2 ++ dktX3_earned_3
def dkwX3_earned_1 : List UInt8 := [16, 45, 47, 148, 156, 0, 45, 42, 29, 3, 182, 1, 26, 27, 160, 0, 11, 28, 42, 29, 182, 1, 91, 96]
abbrev dktX3_earned_1 : List UInt8 := dkwX3_earned_1 ++ dktX3_earned_2
def dkwX3_earned_0 : List UInt8 := [42, 42, 27, 182, 1, 10, 182, 0, 240, 154, 0, 5, 3, 172, 3, 61, 3, 62, 29, 133, 42, 180, 0, 7]
abbrev dktX3_earned_0 : List UInt8 := dkwX3_earned_0 ++ dktX3_earned_1
theorem dksX3_earned_0 : cX3_earned.data.toList.drop 0 = dktX3_earned_0 := by decide +kernel
theorem dksX3_earned_1 : cX3_earned.data.toList.drop 24 = dktX3_earned_1 := dk_seg dksX3_earned_0 24 rfl rfl
theorem dksX3_earned_2 : cX3_earned.data.toList.drop 48 = dktX3_earned_2 := dk_seg dksX3_earned_1 24 rfl rfl
theorem dksX3_earned_3 : cX3_earned.data.toList.drop 70 = dktX3_earned_3 := dk_seg dksX3_earned_2 22 rfl rfl
theorem dX3_earned_0 : decode cX3_earned 0 = .ok (.aload_n 0, 1) := dk_42 (dk_at dksX3_earned_0 0 rfl rfl)
theorem dX3_earned_1 : decode cX3_earned 1 = .ok (.aload_n 0, 1) := dk_42 (dk_at dksX3_earned_0 1 rfl rfl)
theorem dX3_earned_2 : decode cX3_earned 2 = .ok (.iload_n 1, 1) := dk_27 (dk_at dksX3_earned_0 2 rfl rfl)
theorem dX3_earned_3 : decode cX3_earned 3 = .ok (.invokevirtual 266, 3) := dk_182 1 10 (dk_at dksX3_earned_0 3 rfl rfl)
theorem dX3_earned_6 : decode cX3_earned 6 = .ok (.invokevirtual 240, 3) := dk_182 0 240 (dk_at dksX3_earned_0 6 rfl rfl)
theorem dX3_earned_9 : decode cX3_earned 9 = .ok (.ifCond .ne 5, 3) := dk_154 0 5 (dk_at dksX3_earned_0 9 rfl rfl)
theorem dX3_earned_12 : decode cX3_earned 12 = .ok (.iconst 0, 1) := dk_3 (dk_at dksX3_earned_0 12 rfl rfl)
theorem dX3_earned_13 : decode cX3_earned 13 = .ok (.ireturn, 1) := dk_172 (dk_at dksX3_earned_0 13 rfl rfl)
theorem dX3_earned_14 : decode cX3_earned 14 = .ok (.iconst 0, 1) := dk_3 (dk_at dksX3_earned_0 14 rfl rfl)
theorem dX3_earned_15 : decode cX3_earned 15 = .ok (.istore_n 2, 1) := dk_61 (dk_at dksX3_earned_0 15 rfl rfl)
theorem dX3_earned_16 : decode cX3_earned 16 = .ok (.iconst 0, 1) := dk_3 (dk_at dksX3_earned_0 16 rfl rfl)
theorem dX3_earned_17 : decode cX3_earned 17 = .ok (.istore_n 3, 1) := dk_62 (dk_at dksX3_earned_0 17 rfl rfl)
theorem dX3_earned_18 : decode cX3_earned 18 = .ok (.iload_n 3, 1) := dk_29 (dk_at dksX3_earned_0 18 rfl rfl)
theorem dX3_earned_19 : decode cX3_earned 19 = .ok (.i2l, 1) := dk_133 (dk_at dksX3_earned_0 19 rfl rfl)
theorem dX3_earned_20 : decode cX3_earned 20 = .ok (.aload_n 0, 1) := dk_42 (dk_at dksX3_earned_0 20 rfl rfl)
theorem dX3_earned_21 : decode cX3_earned 21 = .ok (.getfield 7, 3) := dk_180 0 7 (dk_at dksX3_earned_0 21 rfl rfl)
theorem dX3_earned_24 : decode cX3_earned 24 = .ok (.bipush 45, 2) := dk_16 45 (dk_at dksX3_earned_1 0 rfl rfl)
theorem dX3_earned_26 : decode cX3_earned 26 = .ok (.laload, 1) := dk_47 (dk_at dksX3_earned_1 2 rfl rfl)
theorem dX3_earned_27 : decode cX3_earned 27 = .ok (.lcmp, 1) := dk_148 (dk_at dksX3_earned_1 3 rfl rfl)
theorem dX3_earned_28 : decode cX3_earned 28 = .ok (.ifCond .ge 45, 3) := dk_156 0 45 (dk_at dksX3_earned_1 4 rfl rfl)
theorem dX3_earned_31 : decode cX3_earned 31 = .ok (.aload_n 0, 1) := dk_42 (dk_at dksX3_earned_1 7 rfl rfl)
theorem dX3_earned_32 : decode cX3_earned 32 = .ok (.iload_n 3, 1) := dk_29 (dk_at dksX3_earned_1 8 rfl rfl)
theorem dX3_earned_33 : decode cX3_earned 33 = .ok (.iconst 0, 1) := dk_3 (dk_at dksX3_earned_1 9 rfl rfl)
theorem dX3_earned_34 : decode cX3_earned 34 = .ok (.invokevirtual 282, 3) := dk_182 1 26 (dk_at dksX3_earned_1 10 rfl rfl)
theorem dX3_earned_37 : decode cX3_earned 37 = .ok (.iload_n 1, 1) := dk_27 (dk_at dksX3_earned_1 13 rfl rfl)
theorem dX3_earned_38 : decode cX3_earned 38 = .ok (.if_icmp .ne 11, 3) := dk_160 0 11 (dk_at dksX3_earned_1 14 rfl rfl)
theorem dX3_earned_41 : decode cX3_earned 41 = .ok (.iload_n 2, 1) := dk_28 (dk_at dksX3_earned_1 17 rfl rfl)
theorem dX3_earned_42 : decode cX3_earned 42 = .ok (.aload_n 0, 1) := dk_42 (dk_at dksX3_earned_1 18 rfl rfl)
theorem dX3_earned_43 : decode cX3_earned 43 = .ok (.iload_n 3, 1) := dk_29 (dk_at dksX3_earned_1 19 rfl rfl)
theorem dX3_earned_44 : decode cX3_earned 44 = .ok (.invokevirtual 347, 3) := dk_182 1 91 (dk_at dksX3_earned_1 20 rfl rfl)
theorem dX3_earned_47 : decode cX3_earned 47 = .ok (.iadd, 1) := dk_96 (dk_at dksX3_earned_1 23 rfl rfl)
theorem dX3_earned_48 : decode cX3_earned 48 = .ok (.istore_n 2, 1) := dk_61 (dk_at dksX3_earned_2 0 rfl rfl)
theorem dX3_earned_49 : decode cX3_earned 49 = .ok (.aload_n 0, 1) := dk_42 (dk_at dksX3_earned_2 1 rfl rfl)
theorem dX3_earned_50 : decode cX3_earned 50 = .ok (.iload_n 3, 1) := dk_29 (dk_at dksX3_earned_2 2 rfl rfl)
theorem dX3_earned_51 : decode cX3_earned 51 = .ok (.iconst 1, 1) := dk_4 (dk_at dksX3_earned_2 3 rfl rfl)
theorem dX3_earned_52 : decode cX3_earned 52 = .ok (.invokevirtual 282, 3) := dk_182 1 26 (dk_at dksX3_earned_2 4 rfl rfl)
theorem dX3_earned_55 : decode cX3_earned 55 = .ok (.iload_n 1, 1) := dk_27 (dk_at dksX3_earned_2 7 rfl rfl)
theorem dX3_earned_56 : decode cX3_earned 56 = .ok (.if_icmp .ne 11, 3) := dk_160 0 11 (dk_at dksX3_earned_2 8 rfl rfl)
theorem dX3_earned_59 : decode cX3_earned 59 = .ok (.iload_n 2, 1) := dk_28 (dk_at dksX3_earned_2 11 rfl rfl)
theorem dX3_earned_60 : decode cX3_earned 60 = .ok (.aload_n 0, 1) := dk_42 (dk_at dksX3_earned_2 12 rfl rfl)
theorem dX3_earned_61 : decode cX3_earned 61 = .ok (.iload_n 3, 1) := dk_29 (dk_at dksX3_earned_2 13 rfl rfl)
theorem dX3_earned_62 : decode cX3_earned 62 = .ok (.invokevirtual 350, 3) := dk_182 1 94 (dk_at dksX3_earned_2 14 rfl rfl)
theorem dX3_earned_65 : decode cX3_earned 65 = .ok (.iadd, 1) := dk_96 (dk_at dksX3_earned_2 17 rfl rfl)
theorem dX3_earned_66 : decode cX3_earned 66 = .ok (.istore_n 2, 1) := dk_61 (dk_at dksX3_earned_2 18 rfl rfl)
theorem dX3_earned_67 : decode cX3_earned 67 = .ok (.iinc 3 1, 3) := dk_132 3 1 (dk_at dksX3_earned_2 19 rfl rfl)
theorem dX3_earned_70 : decode cX3_earned 70 = .ok (.goto (-52), 3) := dk_167 255 204 (dk_at dksX3_earned_3 0 rfl rfl)
theorem dX3_earned_73 : decode cX3_earned 73 = .ok (.iload_n 2, 1) := dk_28 (dk_at dksX3_earned_3 3 rfl rfl)
theorem dX3_earned_74 : decode cX3_earned 74 = .ok (.ireturn, 1) := dk_172 (dk_at dksX3_earned_3 4 rfl rfl)
abbrev cX3_total : ByteArray := prog_26_method_91_code
def yX3_total : MethodName := ⟨RX3, "total", "()I"⟩
def dkwX3_total_0 : List UInt8 := [42, 3, 181, 0, 48, 42, 182, 1, 97, 172]
abbrev dktX3_total_0 : List UInt8 := dkwX3_total_0 ++ []
theorem dksX3_total_0 : cX3_total.data.toList.drop 0 = dktX3_total_0 := by decide +kernel
theorem dX3_total_0 : decode cX3_total 0 = .ok (.aload_n 0, 1) := dk_42 (dk_at dksX3_total_0 0 rfl rfl)
theorem dX3_total_1 : decode cX3_total 1 = .ok (.iconst 0, 1) := dk_3 (dk_at dksX3_total_0 1 rfl rfl)
theorem dX3_total_2 : decode cX3_total 2 = .ok (.putfield 48, 3) := dk_181 0 48 (dk_at dksX3_total_0 2 rfl rfl)
theorem dX3_total_5 : decode cX3_total 5 = .ok (.aload_n 0, 1) := dk_42 (dk_at dksX3_total_0 5 rfl rfl)
theorem dX3_total_6 : decode cX3_total 6 = .ok (.invokevirtual 353, 3) := dk_182 1 97 (dk_at dksX3_total_0 6 rfl rfl)
theorem dX3_total_9 : decode cX3_total 9 = .ok (.ireturn, 1) := dk_172 (dk_at dksX3_total_0 9 rfl rfl)
abbrev cX3_totalNow : ByteArray := prog_26_method_90_code
def yX3_totalNow : MethodName := ⟨RX3, "totalNow", "()I"⟩
def dkwX3_totalNow_1 : List UInt8 := [28, 182, 1, 94, 96, 96, 60, 132, 2, 1, 167, 255, 226, 27, 172]
abbrev dktX3_totalNow_1 : List UInt8 := dkwX3_totalNow_1 ++ []
def dkwX3_totalNow_0 : List UInt8 := [3, 60, 3, 61, 28, 133, 42, 180, 0, 7, 16, 45, 47, 148, 156, 0, 23, 27, 42, 28, 182, 1, 91, 42]
abbrev dktX3_totalNow_0 : List UInt8 := dkwX3_totalNow_0 ++ dktX3_totalNow_1
theorem dksX3_totalNow_0 : cX3_totalNow.data.toList.drop 0 = dktX3_totalNow_0 := by decide +kernel
theorem dksX3_totalNow_1 : cX3_totalNow.data.toList.drop 24 = dktX3_totalNow_1 := dk_seg dksX3_totalNow_0 24 rfl rfl
theorem dX3_totalNow_0 : decode cX3_totalNow 0 = .ok (.iconst 0, 1) := dk_3 (dk_at dksX3_totalNow_0 0 rfl rfl)
theorem dX3_totalNow_1 : decode cX3_totalNow 1 = .ok (.istore_n 1, 1) := dk_60 (dk_at dksX3_totalNow_0 1 rfl rfl)
theorem dX3_totalNow_2 : decode cX3_totalNow 2 = .ok (.iconst 0, 1) := dk_3 (dk_at dksX3_totalNow_0 2 rfl rfl)
theorem dX3_totalNow_3 : decode cX3_totalNow 3 = .ok (.istore_n 2, 1) := dk_61 (dk_at dksX3_totalNow_0 3 rfl rfl)
theorem dX3_totalNow_4 : decode cX3_totalNow 4 = .ok (.iload_n 2, 1) := dk_28 (dk_at dksX3_totalNow_0 4 rfl rfl)
theorem dX3_totalNow_5 : decode cX3_totalNow 5 = .ok (.i2l, 1) := dk_133 (dk_at dksX3_totalNow_0 5 rfl rfl)
theorem dX3_totalNow_6 : decode cX3_totalNow 6 = .ok (.aload_n 0, 1) := dk_42 (dk_at dksX3_totalNow_0 6 rfl rfl)
theorem dX3_totalNow_7 : decode cX3_totalNow 7 = .ok (.getfield 7, 3) := dk_180 0 7 (dk_at dksX3_totalNow_0 7 rfl rfl)
theorem dX3_totalNow_10 : decode cX3_totalNow 10 = .ok (.bipush 45, 2) := dk_16 45 (dk_at dksX3_totalNow_0 10 rfl rfl)
theorem dX3_totalNow_12 : decode cX3_totalNow 12 = .ok (.laload, 1) := dk_47 (dk_at dksX3_totalNow_0 12 rfl rfl)
theorem dX3_totalNow_13 : decode cX3_totalNow 13 = .ok (.lcmp, 1) := dk_148 (dk_at dksX3_totalNow_0 13 rfl rfl)
theorem dX3_totalNow_14 : decode cX3_totalNow 14 = .ok (.ifCond .ge 23, 3) := dk_156 0 23 (dk_at dksX3_totalNow_0 14 rfl rfl)
theorem dX3_totalNow_17 : decode cX3_totalNow 17 = .ok (.iload_n 1, 1) := dk_27 (dk_at dksX3_totalNow_0 17 rfl rfl)
theorem dX3_totalNow_18 : decode cX3_totalNow 18 = .ok (.aload_n 0, 1) := dk_42 (dk_at dksX3_totalNow_0 18 rfl rfl)
theorem dX3_totalNow_19 : decode cX3_totalNow 19 = .ok (.iload_n 2, 1) := dk_28 (dk_at dksX3_totalNow_0 19 rfl rfl)
theorem dX3_totalNow_20 : decode cX3_totalNow 20 = .ok (.invokevirtual 347, 3) := dk_182 1 91 (dk_at dksX3_totalNow_0 20 rfl rfl)
theorem dX3_totalNow_23 : decode cX3_totalNow 23 = .ok (.aload_n 0, 1) := dk_42 (dk_at dksX3_totalNow_0 23 rfl rfl)
theorem dX3_totalNow_24 : decode cX3_totalNow 24 = .ok (.iload_n 2, 1) := dk_28 (dk_at dksX3_totalNow_1 0 rfl rfl)
theorem dX3_totalNow_25 : decode cX3_totalNow 25 = .ok (.invokevirtual 350, 3) := dk_182 1 94 (dk_at dksX3_totalNow_1 1 rfl rfl)
theorem dX3_totalNow_28 : decode cX3_totalNow 28 = .ok (.iadd, 1) := dk_96 (dk_at dksX3_totalNow_1 4 rfl rfl)
theorem dX3_totalNow_29 : decode cX3_totalNow 29 = .ok (.iadd, 1) := dk_96 (dk_at dksX3_totalNow_1 5 rfl rfl)
theorem dX3_totalNow_30 : decode cX3_totalNow 30 = .ok (.istore_n 1, 1) := dk_60 (dk_at dksX3_totalNow_1 6 rfl rfl)
theorem dX3_totalNow_31 : decode cX3_totalNow 31 = .ok (.iinc 2 1, 3) := dk_132 2 1 (dk_at dksX3_totalNow_1 7 rfl rfl)
theorem dX3_totalNow_34 : decode cX3_totalNow 34 = .ok (.goto (-30), 3) := dk_167 255 226 (dk_at dksX3_totalNow_1 10 rfl rfl)
theorem dX3_totalNow_37 : decode cX3_totalNow 37 = .ok (.iload_n 1, 1) := dk_27 (dk_at dksX3_totalNow_1 13 rfl rfl)
theorem dX3_totalNow_38 : decode cX3_totalNow 38 = .ok (.ireturn, 1) := dk_172 (dk_at dksX3_totalNow_1 14 rfl rfl)
abbrev cX3_perWord : ByteArray := prog_26_method_92_code
def yX3_perWord : MethodName := ⟨RX3, "perWord", "(I)D"⟩
def dkwX3_perWord_1 : List UInt8 := [182, 1, 91, 135, 42, 27, 182, 1, 33, 135, 111, 175]
abbrev dktX3_perWord_1 : List UInt8 := dkwX3_perWord_1 ++ []
def dkwX3_perWord_0 : List UInt8 := [42, 42, 27, 182, 1, 20, 182, 0, 240, 153, 0, 11, 42, 27, 182, 1, 33, 154, 0, 5, 14, 175, 42, 27]
abbrev dktX3_perWord_0 : List UInt8 := dkwX3_perWord_0 ++ dktX3_perWord_1
theorem dksX3_perWord_0 : cX3_perWord.data.toList.drop 0 = dktX3_perWord_0 := by decide +kernel
theorem dksX3_perWord_1 : cX3_perWord.data.toList.drop 24 = dktX3_perWord_1 := dk_seg dksX3_perWord_0 24 rfl rfl
theorem dX3_perWord_0 : decode cX3_perWord 0 = .ok (.aload_n 0, 1) := dk_42 (dk_at dksX3_perWord_0 0 rfl rfl)
theorem dX3_perWord_1 : decode cX3_perWord 1 = .ok (.aload_n 0, 1) := dk_42 (dk_at dksX3_perWord_0 1 rfl rfl)
theorem dX3_perWord_2 : decode cX3_perWord 2 = .ok (.iload_n 1, 1) := dk_27 (dk_at dksX3_perWord_0 2 rfl rfl)
theorem dX3_perWord_3 : decode cX3_perWord 3 = .ok (.invokevirtual 276, 3) := dk_182 1 20 (dk_at dksX3_perWord_0 3 rfl rfl)
theorem dX3_perWord_6 : decode cX3_perWord 6 = .ok (.invokevirtual 240, 3) := dk_182 0 240 (dk_at dksX3_perWord_0 6 rfl rfl)
theorem dX3_perWord_9 : decode cX3_perWord 9 = .ok (.ifCond .eq 11, 3) := dk_153 0 11 (dk_at dksX3_perWord_0 9 rfl rfl)
theorem dX3_perWord_12 : decode cX3_perWord 12 = .ok (.aload_n 0, 1) := dk_42 (dk_at dksX3_perWord_0 12 rfl rfl)
theorem dX3_perWord_13 : decode cX3_perWord 13 = .ok (.iload_n 1, 1) := dk_27 (dk_at dksX3_perWord_0 13 rfl rfl)
theorem dX3_perWord_14 : decode cX3_perWord 14 = .ok (.invokevirtual 289, 3) := dk_182 1 33 (dk_at dksX3_perWord_0 14 rfl rfl)
theorem dX3_perWord_17 : decode cX3_perWord 17 = .ok (.ifCond .ne 5, 3) := dk_154 0 5 (dk_at dksX3_perWord_0 17 rfl rfl)
theorem dX3_perWord_20 : decode cX3_perWord 20 = .ok (.dconst 0, 1) := dk_14 (dk_at dksX3_perWord_0 20 rfl rfl)
theorem dX3_perWord_21 : decode cX3_perWord 21 = .ok (.dreturn, 1) := dk_175 (dk_at dksX3_perWord_0 21 rfl rfl)
theorem dX3_perWord_22 : decode cX3_perWord 22 = .ok (.aload_n 0, 1) := dk_42 (dk_at dksX3_perWord_0 22 rfl rfl)
theorem dX3_perWord_23 : decode cX3_perWord 23 = .ok (.iload_n 1, 1) := dk_27 (dk_at dksX3_perWord_0 23 rfl rfl)
theorem dX3_perWord_24 : decode cX3_perWord 24 = .ok (.invokevirtual 347, 3) := dk_182 1 91 (dk_at dksX3_perWord_1 0 rfl rfl)
theorem dX3_perWord_27 : decode cX3_perWord 27 = .ok (.i2d, 1) := dk_135 (dk_at dksX3_perWord_1 3 rfl rfl)
theorem dX3_perWord_28 : decode cX3_perWord 28 = .ok (.aload_n 0, 1) := dk_42 (dk_at dksX3_perWord_1 4 rfl rfl)
theorem dX3_perWord_29 : decode cX3_perWord 29 = .ok (.iload_n 1, 1) := dk_27 (dk_at dksX3_perWord_1 5 rfl rfl)
theorem dX3_perWord_30 : decode cX3_perWord 30 = .ok (.invokevirtual 289, 3) := dk_182 1 33 (dk_at dksX3_perWord_1 6 rfl rfl)
theorem dX3_perWord_33 : decode cX3_perWord 33 = .ok (.i2d, 1) := dk_135 (dk_at dksX3_perWord_1 9 rfl rfl)
theorem dX3_perWord_34 : decode cX3_perWord 34 = .ok (.ddiv, 1) := dk_111 (dk_at dksX3_perWord_1 10 rfl rfl)
theorem dX3_perWord_35 : decode cX3_perWord 35 = .ok (.dreturn, 1) := dk_175 (dk_at dksX3_perWord_1 11 rfl rfl)
abbrev cX3_loadOf : ByteArray := prog_26_method_95_code
def yX3_loadOf : MethodName := ⟨RX3, "loadOf", "(I)I"⟩
def dkwX3_loadOf_0 : List UInt8 := [42, 42, 27, 182, 1, 10, 182, 0, 240, 153, 0, 12, 42, 27, 2, 182, 1, 103, 167, 0, 4, 3, 172]
abbrev dktX3_loadOf_0 : List UInt8 := dkwX3_loadOf_0 ++ []
theorem dksX3_loadOf_0 : cX3_loadOf.data.toList.drop 0 = dktX3_loadOf_0 := by decide +kernel
theorem dX3_loadOf_0 : decode cX3_loadOf 0 = .ok (.aload_n 0, 1) := dk_42 (dk_at dksX3_loadOf_0 0 rfl rfl)
theorem dX3_loadOf_1 : decode cX3_loadOf 1 = .ok (.aload_n 0, 1) := dk_42 (dk_at dksX3_loadOf_0 1 rfl rfl)
theorem dX3_loadOf_2 : decode cX3_loadOf 2 = .ok (.iload_n 1, 1) := dk_27 (dk_at dksX3_loadOf_0 2 rfl rfl)
theorem dX3_loadOf_3 : decode cX3_loadOf 3 = .ok (.invokevirtual 266, 3) := dk_182 1 10 (dk_at dksX3_loadOf_0 3 rfl rfl)
theorem dX3_loadOf_6 : decode cX3_loadOf 6 = .ok (.invokevirtual 240, 3) := dk_182 0 240 (dk_at dksX3_loadOf_0 6 rfl rfl)
theorem dX3_loadOf_9 : decode cX3_loadOf 9 = .ok (.ifCond .eq 12, 3) := dk_153 0 12 (dk_at dksX3_loadOf_0 9 rfl rfl)
theorem dX3_loadOf_12 : decode cX3_loadOf 12 = .ok (.aload_n 0, 1) := dk_42 (dk_at dksX3_loadOf_0 12 rfl rfl)
theorem dX3_loadOf_13 : decode cX3_loadOf 13 = .ok (.iload_n 1, 1) := dk_27 (dk_at dksX3_loadOf_0 13 rfl rfl)
theorem dX3_loadOf_14 : decode cX3_loadOf 14 = .ok (.iconst (-1), 1) := dk_2 (dk_at dksX3_loadOf_0 14 rfl rfl)
theorem dX3_loadOf_15 : decode cX3_loadOf 15 = .ok (.invokevirtual 359, 3) := dk_182 1 103 (dk_at dksX3_loadOf_0 15 rfl rfl)
theorem dX3_loadOf_18 : decode cX3_loadOf 18 = .ok (.goto 4, 3) := dk_167 0 4 (dk_at dksX3_loadOf_0 18 rfl rfl)
theorem dX3_loadOf_21 : decode cX3_loadOf 21 = .ok (.iconst 0, 1) := dk_3 (dk_at dksX3_loadOf_0 21 rfl rfl)
theorem dX3_loadOf_22 : decode cX3_loadOf 22 = .ok (.ireturn, 1) := dk_172 (dk_at dksX3_loadOf_0 22 rfl rfl)
abbrev cX3_loadBut : ByteArray := prog_26_method_94_code
def yX3_loadBut : MethodName := ⟨RX3, "loadBut", "(II)I"⟩
def dkwX3_loadBut_3 : List UInt8 := [132, 4, 1, 167, 255, 190, 29, 172]
abbrev dktX3_loadBut_3 : List UInt8 := dkwX3_loadBut_3 ++ []
def dkwX3_loadBut_2 : List UInt8 := [96, 62, 42, 21, 4, 4, 182, 1, 26, 27, 160, 0, 12, 29, 42, 21, 4, 182, 1, 100, 96, 62]
abbrev dktX3_loadBut_2 : List UInt8 := dkwX3_loadBut_2 ++ dktX3_loadBut_3
def dkwX3_loadBut_1 : List UInt8 := [160, 0, 6, 167, 0, 43, 42, 21, 4, 3, 182, 1, 26, 27, 160, 0, 12, 29, 42, 21, 4, 182, 1, 33]
abbrev dktX3_loadBut_1 : List UInt8 := dkwX3_loadBut_1 ++ dktX3_loadBut_2
def dkwX3_loadBut_0 : List UInt8 := [3, 62, 3, 54, 4, 21, 4, 133, 42, 180, 0, 7, 16, 45, 47, 148, 156, 0, 58, 21, 4, 28]
abbrev dktX3_loadBut_0 : List UInt8 := dkwX3_loadBut_0 ++ dktX3_loadBut_1
theorem dksX3_loadBut_0 : cX3_loadBut.data.toList.drop 0 = dktX3_loadBut_0 := by decide +kernel
theorem dksX3_loadBut_1 : cX3_loadBut.data.toList.drop 22 = dktX3_loadBut_1 := dk_seg dksX3_loadBut_0 22 rfl rfl
theorem dksX3_loadBut_2 : cX3_loadBut.data.toList.drop 46 = dktX3_loadBut_2 := dk_seg dksX3_loadBut_1 24 rfl rfl
theorem dksX3_loadBut_3 : cX3_loadBut.data.toList.drop 68 = dktX3_loadBut_3 := dk_seg dksX3_loadBut_2 22 rfl rfl
theorem dX3_loadBut_0 : decode cX3_loadBut 0 = .ok (.iconst 0, 1) := dk_3 (dk_at dksX3_loadBut_0 0 rfl rfl)
theorem dX3_loadBut_1 : decode cX3_loadBut 1 = .ok (.istore_n 3, 1) := dk_62 (dk_at dksX3_loadBut_0 1 rfl rfl)
theorem dX3_loadBut_2 : decode cX3_loadBut 2 = .ok (.iconst 0, 1) := dk_3 (dk_at dksX3_loadBut_0 2 rfl rfl)
theorem dX3_loadBut_3 : decode cX3_loadBut 3 = .ok (.istore 4, 2) := dk_54 4 (dk_at dksX3_loadBut_0 3 rfl rfl)
theorem dX3_loadBut_5 : decode cX3_loadBut 5 = .ok (.iload 4, 2) := dk_21 4 (dk_at dksX3_loadBut_0 5 rfl rfl)
theorem dX3_loadBut_7 : decode cX3_loadBut 7 = .ok (.i2l, 1) := dk_133 (dk_at dksX3_loadBut_0 7 rfl rfl)
theorem dX3_loadBut_8 : decode cX3_loadBut 8 = .ok (.aload_n 0, 1) := dk_42 (dk_at dksX3_loadBut_0 8 rfl rfl)
theorem dX3_loadBut_9 : decode cX3_loadBut 9 = .ok (.getfield 7, 3) := dk_180 0 7 (dk_at dksX3_loadBut_0 9 rfl rfl)
theorem dX3_loadBut_12 : decode cX3_loadBut 12 = .ok (.bipush 45, 2) := dk_16 45 (dk_at dksX3_loadBut_0 12 rfl rfl)
theorem dX3_loadBut_14 : decode cX3_loadBut 14 = .ok (.laload, 1) := dk_47 (dk_at dksX3_loadBut_0 14 rfl rfl)
theorem dX3_loadBut_15 : decode cX3_loadBut 15 = .ok (.lcmp, 1) := dk_148 (dk_at dksX3_loadBut_0 15 rfl rfl)
theorem dX3_loadBut_16 : decode cX3_loadBut 16 = .ok (.ifCond .ge 58, 3) := dk_156 0 58 (dk_at dksX3_loadBut_0 16 rfl rfl)
theorem dX3_loadBut_19 : decode cX3_loadBut 19 = .ok (.iload 4, 2) := dk_21 4 (dk_at dksX3_loadBut_0 19 rfl rfl)
theorem dX3_loadBut_21 : decode cX3_loadBut 21 = .ok (.iload_n 2, 1) := dk_28 (dk_at dksX3_loadBut_0 21 rfl rfl)
theorem dX3_loadBut_22 : decode cX3_loadBut 22 = .ok (.if_icmp .ne 6, 3) := dk_160 0 6 (dk_at dksX3_loadBut_1 0 rfl rfl)
theorem dX3_loadBut_25 : decode cX3_loadBut 25 = .ok (.goto 43, 3) := dk_167 0 43 (dk_at dksX3_loadBut_1 3 rfl rfl)
theorem dX3_loadBut_28 : decode cX3_loadBut 28 = .ok (.aload_n 0, 1) := dk_42 (dk_at dksX3_loadBut_1 6 rfl rfl)
theorem dX3_loadBut_29 : decode cX3_loadBut 29 = .ok (.iload 4, 2) := dk_21 4 (dk_at dksX3_loadBut_1 7 rfl rfl)
theorem dX3_loadBut_31 : decode cX3_loadBut 31 = .ok (.iconst 0, 1) := dk_3 (dk_at dksX3_loadBut_1 9 rfl rfl)
theorem dX3_loadBut_32 : decode cX3_loadBut 32 = .ok (.invokevirtual 282, 3) := dk_182 1 26 (dk_at dksX3_loadBut_1 10 rfl rfl)
theorem dX3_loadBut_35 : decode cX3_loadBut 35 = .ok (.iload_n 1, 1) := dk_27 (dk_at dksX3_loadBut_1 13 rfl rfl)
theorem dX3_loadBut_36 : decode cX3_loadBut 36 = .ok (.if_icmp .ne 12, 3) := dk_160 0 12 (dk_at dksX3_loadBut_1 14 rfl rfl)
theorem dX3_loadBut_39 : decode cX3_loadBut 39 = .ok (.iload_n 3, 1) := dk_29 (dk_at dksX3_loadBut_1 17 rfl rfl)
theorem dX3_loadBut_40 : decode cX3_loadBut 40 = .ok (.aload_n 0, 1) := dk_42 (dk_at dksX3_loadBut_1 18 rfl rfl)
theorem dX3_loadBut_41 : decode cX3_loadBut 41 = .ok (.iload 4, 2) := dk_21 4 (dk_at dksX3_loadBut_1 19 rfl rfl)
theorem dX3_loadBut_43 : decode cX3_loadBut 43 = .ok (.invokevirtual 289, 3) := dk_182 1 33 (dk_at dksX3_loadBut_1 21 rfl rfl)
theorem dX3_loadBut_46 : decode cX3_loadBut 46 = .ok (.iadd, 1) := dk_96 (dk_at dksX3_loadBut_2 0 rfl rfl)
theorem dX3_loadBut_47 : decode cX3_loadBut 47 = .ok (.istore_n 3, 1) := dk_62 (dk_at dksX3_loadBut_2 1 rfl rfl)
theorem dX3_loadBut_48 : decode cX3_loadBut 48 = .ok (.aload_n 0, 1) := dk_42 (dk_at dksX3_loadBut_2 2 rfl rfl)
theorem dX3_loadBut_49 : decode cX3_loadBut 49 = .ok (.iload 4, 2) := dk_21 4 (dk_at dksX3_loadBut_2 3 rfl rfl)
theorem dX3_loadBut_51 : decode cX3_loadBut 51 = .ok (.iconst 1, 1) := dk_4 (dk_at dksX3_loadBut_2 5 rfl rfl)
theorem dX3_loadBut_52 : decode cX3_loadBut 52 = .ok (.invokevirtual 282, 3) := dk_182 1 26 (dk_at dksX3_loadBut_2 6 rfl rfl)
theorem dX3_loadBut_55 : decode cX3_loadBut 55 = .ok (.iload_n 1, 1) := dk_27 (dk_at dksX3_loadBut_2 9 rfl rfl)
theorem dX3_loadBut_56 : decode cX3_loadBut 56 = .ok (.if_icmp .ne 12, 3) := dk_160 0 12 (dk_at dksX3_loadBut_2 10 rfl rfl)
theorem dX3_loadBut_59 : decode cX3_loadBut 59 = .ok (.iload_n 3, 1) := dk_29 (dk_at dksX3_loadBut_2 13 rfl rfl)
theorem dX3_loadBut_60 : decode cX3_loadBut 60 = .ok (.aload_n 0, 1) := dk_42 (dk_at dksX3_loadBut_2 14 rfl rfl)
theorem dX3_loadBut_61 : decode cX3_loadBut 61 = .ok (.iload 4, 2) := dk_21 4 (dk_at dksX3_loadBut_2 15 rfl rfl)
theorem dX3_loadBut_63 : decode cX3_loadBut 63 = .ok (.invokevirtual 356, 3) := dk_182 1 100 (dk_at dksX3_loadBut_2 17 rfl rfl)
theorem dX3_loadBut_66 : decode cX3_loadBut 66 = .ok (.iadd, 1) := dk_96 (dk_at dksX3_loadBut_2 20 rfl rfl)
theorem dX3_loadBut_67 : decode cX3_loadBut 67 = .ok (.istore_n 3, 1) := dk_62 (dk_at dksX3_loadBut_2 21 rfl rfl)
theorem dX3_loadBut_68 : decode cX3_loadBut 68 = .ok (.iinc 4 1, 3) := dk_132 4 1 (dk_at dksX3_loadBut_3 0 rfl rfl)
theorem dX3_loadBut_71 : decode cX3_loadBut 71 = .ok (.goto (-66), 3) := dk_167 255 190 (dk_at dksX3_loadBut_3 3 rfl rfl)
theorem dX3_loadBut_74 : decode cX3_loadBut 74 = .ok (.iload_n 3, 1) := dk_29 (dk_at dksX3_loadBut_3 6 rfl rfl)
theorem dX3_loadBut_75 : decode cX3_loadBut 75 = .ok (.ireturn, 1) := dk_172 (dk_at dksX3_loadBut_3 7 rfl rfl)
abbrev cX3_halfOf : ByteArray := prog_26_method_93_code
def yX3_halfOf : MethodName := ⟨RX3, "halfOf", "(I)I"⟩
def dkwX3_halfOf_0 : List UInt8 := [42, 27, 182, 1, 33, 4, 96, 5, 108, 172]
abbrev dktX3_halfOf_0 : List UInt8 := dkwX3_halfOf_0 ++ []
theorem dksX3_halfOf_0 : cX3_halfOf.data.toList.drop 0 = dktX3_halfOf_0 := by decide +kernel
theorem dX3_halfOf_0 : decode cX3_halfOf 0 = .ok (.aload_n 0, 1) := dk_42 (dk_at dksX3_halfOf_0 0 rfl rfl)
theorem dX3_halfOf_1 : decode cX3_halfOf 1 = .ok (.iload_n 1, 1) := dk_27 (dk_at dksX3_halfOf_0 1 rfl rfl)
theorem dX3_halfOf_2 : decode cX3_halfOf 2 = .ok (.invokevirtual 289, 3) := dk_182 1 33 (dk_at dksX3_halfOf_0 2 rfl rfl)
theorem dX3_halfOf_5 : decode cX3_halfOf 5 = .ok (.iconst 1, 1) := dk_4 (dk_at dksX3_halfOf_0 5 rfl rfl)
theorem dX3_halfOf_6 : decode cX3_halfOf 6 = .ok (.iadd, 1) := dk_96 (dk_at dksX3_halfOf_0 6 rfl rfl)
theorem dX3_halfOf_7 : decode cX3_halfOf 7 = .ok (.iconst 2, 1) := dk_5 (dk_at dksX3_halfOf_0 7 rfl rfl)
theorem dX3_halfOf_8 : decode cX3_halfOf 8 = .ok (.idiv, 1) := dk_108 (dk_at dksX3_halfOf_0 8 rfl rfl)
theorem dX3_halfOf_9 : decode cX3_halfOf 9 = .ok (.ireturn, 1) := dk_172 (dk_at dksX3_halfOf_0 9 rfl rfl)
abbrev cX3_isOverloaded : ByteArray := prog_26_method_97_code
def yX3_isOverloaded : MethodName := ⟨RX3, "isOverloaded", "(I)Z"⟩
def dkwX3_isOverloaded_1 : List UInt8 := [153, 0, 7, 4, 167, 0, 4, 3, 172]
abbrev dktX3_isOverloaded_1 : List UInt8 := dkwX3_isOverloaded_1 ++ []
def dkwX3_isOverloaded_0 : List UInt8 := [42, 42, 27, 182, 1, 10, 182, 0, 240, 153, 0, 21, 42, 27, 42, 27, 2, 182, 1, 103, 182, 1, 106]
abbrev dktX3_isOverloaded_0 : List UInt8 := dkwX3_isOverloaded_0 ++ dktX3_isOverloaded_1
theorem dksX3_isOverloaded_0 : cX3_isOverloaded.data.toList.drop 0 = dktX3_isOverloaded_0 := by decide +kernel
theorem dksX3_isOverloaded_1 : cX3_isOverloaded.data.toList.drop 23 = dktX3_isOverloaded_1 := dk_seg dksX3_isOverloaded_0 23 rfl rfl
theorem dX3_isOverloaded_0 : decode cX3_isOverloaded 0 = .ok (.aload_n 0, 1) := dk_42 (dk_at dksX3_isOverloaded_0 0 rfl rfl)
theorem dX3_isOverloaded_1 : decode cX3_isOverloaded 1 = .ok (.aload_n 0, 1) := dk_42 (dk_at dksX3_isOverloaded_0 1 rfl rfl)
theorem dX3_isOverloaded_2 : decode cX3_isOverloaded 2 = .ok (.iload_n 1, 1) := dk_27 (dk_at dksX3_isOverloaded_0 2 rfl rfl)
theorem dX3_isOverloaded_3 : decode cX3_isOverloaded 3 = .ok (.invokevirtual 266, 3) := dk_182 1 10 (dk_at dksX3_isOverloaded_0 3 rfl rfl)
theorem dX3_isOverloaded_6 : decode cX3_isOverloaded 6 = .ok (.invokevirtual 240, 3) := dk_182 0 240 (dk_at dksX3_isOverloaded_0 6 rfl rfl)
theorem dX3_isOverloaded_9 : decode cX3_isOverloaded 9 = .ok (.ifCond .eq 21, 3) := dk_153 0 21 (dk_at dksX3_isOverloaded_0 9 rfl rfl)
theorem dX3_isOverloaded_12 : decode cX3_isOverloaded 12 = .ok (.aload_n 0, 1) := dk_42 (dk_at dksX3_isOverloaded_0 12 rfl rfl)
theorem dX3_isOverloaded_13 : decode cX3_isOverloaded 13 = .ok (.iload_n 1, 1) := dk_27 (dk_at dksX3_isOverloaded_0 13 rfl rfl)
theorem dX3_isOverloaded_14 : decode cX3_isOverloaded 14 = .ok (.aload_n 0, 1) := dk_42 (dk_at dksX3_isOverloaded_0 14 rfl rfl)
theorem dX3_isOverloaded_15 : decode cX3_isOverloaded 15 = .ok (.iload_n 1, 1) := dk_27 (dk_at dksX3_isOverloaded_0 15 rfl rfl)
theorem dX3_isOverloaded_16 : decode cX3_isOverloaded 16 = .ok (.iconst (-1), 1) := dk_2 (dk_at dksX3_isOverloaded_0 16 rfl rfl)
theorem dX3_isOverloaded_17 : decode cX3_isOverloaded 17 = .ok (.invokevirtual 359, 3) := dk_182 1 103 (dk_at dksX3_isOverloaded_0 17 rfl rfl)
theorem dX3_isOverloaded_20 : decode cX3_isOverloaded 20 = .ok (.invokevirtual 362, 3) := dk_182 1 106 (dk_at dksX3_isOverloaded_0 20 rfl rfl)
theorem dX3_isOverloaded_23 : decode cX3_isOverloaded 23 = .ok (.ifCond .eq 7, 3) := dk_153 0 7 (dk_at dksX3_isOverloaded_1 0 rfl rfl)
theorem dX3_isOverloaded_26 : decode cX3_isOverloaded 26 = .ok (.iconst 1, 1) := dk_4 (dk_at dksX3_isOverloaded_1 3 rfl rfl)
theorem dX3_isOverloaded_27 : decode cX3_isOverloaded 27 = .ok (.goto 4, 3) := dk_167 0 4 (dk_at dksX3_isOverloaded_1 4 rfl rfl)
theorem dX3_isOverloaded_30 : decode cX3_isOverloaded 30 = .ok (.iconst 0, 1) := dk_3 (dk_at dksX3_isOverloaded_1 7 rfl rfl)
theorem dX3_isOverloaded_31 : decode cX3_isOverloaded 31 = .ok (.ireturn, 1) := dk_172 (dk_at dksX3_isOverloaded_1 8 rfl rfl)
abbrev cX3_isTooMuch : ByteArray := prog_26_method_96_code
def yX3_isTooMuch : MethodName := ⟨RX3, "isTooMuch", "(II)Z"⟩
def dkwX3_isTooMuch_1 : List UInt8 := [172]
abbrev dktX3_isTooMuch_1 : List UInt8 := dkwX3_isTooMuch_1 ++ []
def dkwX3_isTooMuch_0 : List UInt8 := [28, 133, 42, 180, 0, 7, 16, 10, 5, 27, 104, 96, 4, 96, 47, 148, 158, 0, 7, 4, 167, 0, 4, 3]
abbrev dktX3_isTooMuch_0 : List UInt8 := dkwX3_isTooMuch_0 ++ dktX3_isTooMuch_1
theorem dksX3_isTooMuch_0 : cX3_isTooMuch.data.toList.drop 0 = dktX3_isTooMuch_0 := by decide +kernel
theorem dksX3_isTooMuch_1 : cX3_isTooMuch.data.toList.drop 24 = dktX3_isTooMuch_1 := dk_seg dksX3_isTooMuch_0 24 rfl rfl
theorem dX3_isTooMuch_0 : decode cX3_isTooMuch 0 = .ok (.iload_n 2, 1) := dk_28 (dk_at dksX3_isTooMuch_0 0 rfl rfl)
theorem dX3_isTooMuch_1 : decode cX3_isTooMuch 1 = .ok (.i2l, 1) := dk_133 (dk_at dksX3_isTooMuch_0 1 rfl rfl)
theorem dX3_isTooMuch_2 : decode cX3_isTooMuch 2 = .ok (.aload_n 0, 1) := dk_42 (dk_at dksX3_isTooMuch_0 2 rfl rfl)
theorem dX3_isTooMuch_3 : decode cX3_isTooMuch 3 = .ok (.getfield 7, 3) := dk_180 0 7 (dk_at dksX3_isTooMuch_0 3 rfl rfl)
theorem dX3_isTooMuch_6 : decode cX3_isTooMuch 6 = .ok (.bipush 10, 2) := dk_16 10 (dk_at dksX3_isTooMuch_0 6 rfl rfl)
theorem dX3_isTooMuch_8 : decode cX3_isTooMuch 8 = .ok (.iconst 2, 1) := dk_5 (dk_at dksX3_isTooMuch_0 8 rfl rfl)
theorem dX3_isTooMuch_9 : decode cX3_isTooMuch 9 = .ok (.iload_n 1, 1) := dk_27 (dk_at dksX3_isTooMuch_0 9 rfl rfl)
theorem dX3_isTooMuch_10 : decode cX3_isTooMuch 10 = .ok (.imul, 1) := dk_104 (dk_at dksX3_isTooMuch_0 10 rfl rfl)
theorem dX3_isTooMuch_11 : decode cX3_isTooMuch 11 = .ok (.iadd, 1) := dk_96 (dk_at dksX3_isTooMuch_0 11 rfl rfl)
theorem dX3_isTooMuch_12 : decode cX3_isTooMuch 12 = .ok (.iconst 1, 1) := dk_4 (dk_at dksX3_isTooMuch_0 12 rfl rfl)
theorem dX3_isTooMuch_13 : decode cX3_isTooMuch 13 = .ok (.iadd, 1) := dk_96 (dk_at dksX3_isTooMuch_0 13 rfl rfl)
theorem dX3_isTooMuch_14 : decode cX3_isTooMuch 14 = .ok (.laload, 1) := dk_47 (dk_at dksX3_isTooMuch_0 14 rfl rfl)
theorem dX3_isTooMuch_15 : decode cX3_isTooMuch 15 = .ok (.lcmp, 1) := dk_148 (dk_at dksX3_isTooMuch_0 15 rfl rfl)
theorem dX3_isTooMuch_16 : decode cX3_isTooMuch 16 = .ok (.ifCond .le 7, 3) := dk_158 0 7 (dk_at dksX3_isTooMuch_0 16 rfl rfl)
theorem dX3_isTooMuch_19 : decode cX3_isTooMuch 19 = .ok (.iconst 1, 1) := dk_4 (dk_at dksX3_isTooMuch_0 19 rfl rfl)
theorem dX3_isTooMuch_20 : decode cX3_isTooMuch 20 = .ok (.goto 4, 3) := dk_167 0 4 (dk_at dksX3_isTooMuch_0 20 rfl rfl)
theorem dX3_isTooMuch_23 : decode cX3_isTooMuch 23 = .ok (.iconst 0, 1) := dk_3 (dk_at dksX3_isTooMuch_0 23 rfl rfl)
theorem dX3_isTooMuch_24 : decode cX3_isTooMuch 24 = .ok (.ireturn, 1) := dk_172 (dk_at dksX3_isTooMuch_1 0 rfl rfl)
abbrev cX3_pairs : ByteArray := prog_26_method_99_code
def yX3_pairs : MethodName := ⟨RX3, "pairs", "(II)I"⟩
def dkwX3_pairs_1 : List UInt8 := [182, 0, 240, 153, 0, 13, 42, 27, 28, 2, 182, 1, 109, 167, 0, 4, 3, 172]
abbrev dktX3_pairs_1 : List UInt8 := dkwX3_pairs_1 ++ []
def dkwX3_pairs_0 : List UInt8 := [42, 42, 27, 182, 1, 10, 153, 0, 15, 42, 28, 182, 1, 10, 153, 0, 7, 4, 167, 0, 4, 3]
abbrev dktX3_pairs_0 : List UInt8 := dkwX3_pairs_0 ++ dktX3_pairs_1
theorem dksX3_pairs_0 : cX3_pairs.data.toList.drop 0 = dktX3_pairs_0 := by decide +kernel
theorem dksX3_pairs_1 : cX3_pairs.data.toList.drop 22 = dktX3_pairs_1 := dk_seg dksX3_pairs_0 22 rfl rfl
theorem dX3_pairs_0 : decode cX3_pairs 0 = .ok (.aload_n 0, 1) := dk_42 (dk_at dksX3_pairs_0 0 rfl rfl)
theorem dX3_pairs_1 : decode cX3_pairs 1 = .ok (.aload_n 0, 1) := dk_42 (dk_at dksX3_pairs_0 1 rfl rfl)
theorem dX3_pairs_2 : decode cX3_pairs 2 = .ok (.iload_n 1, 1) := dk_27 (dk_at dksX3_pairs_0 2 rfl rfl)
theorem dX3_pairs_3 : decode cX3_pairs 3 = .ok (.invokevirtual 266, 3) := dk_182 1 10 (dk_at dksX3_pairs_0 3 rfl rfl)
theorem dX3_pairs_6 : decode cX3_pairs 6 = .ok (.ifCond .eq 15, 3) := dk_153 0 15 (dk_at dksX3_pairs_0 6 rfl rfl)
theorem dX3_pairs_9 : decode cX3_pairs 9 = .ok (.aload_n 0, 1) := dk_42 (dk_at dksX3_pairs_0 9 rfl rfl)
theorem dX3_pairs_10 : decode cX3_pairs 10 = .ok (.iload_n 2, 1) := dk_28 (dk_at dksX3_pairs_0 10 rfl rfl)
theorem dX3_pairs_11 : decode cX3_pairs 11 = .ok (.invokevirtual 266, 3) := dk_182 1 10 (dk_at dksX3_pairs_0 11 rfl rfl)
theorem dX3_pairs_14 : decode cX3_pairs 14 = .ok (.ifCond .eq 7, 3) := dk_153 0 7 (dk_at dksX3_pairs_0 14 rfl rfl)
theorem dX3_pairs_17 : decode cX3_pairs 17 = .ok (.iconst 1, 1) := dk_4 (dk_at dksX3_pairs_0 17 rfl rfl)
theorem dX3_pairs_18 : decode cX3_pairs 18 = .ok (.goto 4, 3) := dk_167 0 4 (dk_at dksX3_pairs_0 18 rfl rfl)
theorem dX3_pairs_21 : decode cX3_pairs 21 = .ok (.iconst 0, 1) := dk_3 (dk_at dksX3_pairs_0 21 rfl rfl)
theorem dX3_pairs_22 : decode cX3_pairs 22 = .ok (.invokevirtual 240, 3) := dk_182 0 240 (dk_at dksX3_pairs_1 0 rfl rfl)
theorem dX3_pairs_25 : decode cX3_pairs 25 = .ok (.ifCond .eq 13, 3) := dk_153 0 13 (dk_at dksX3_pairs_1 3 rfl rfl)
theorem dX3_pairs_28 : decode cX3_pairs 28 = .ok (.aload_n 0, 1) := dk_42 (dk_at dksX3_pairs_1 6 rfl rfl)
theorem dX3_pairs_29 : decode cX3_pairs 29 = .ok (.iload_n 1, 1) := dk_27 (dk_at dksX3_pairs_1 7 rfl rfl)
theorem dX3_pairs_30 : decode cX3_pairs 30 = .ok (.iload_n 2, 1) := dk_28 (dk_at dksX3_pairs_1 8 rfl rfl)
theorem dX3_pairs_31 : decode cX3_pairs 31 = .ok (.iconst (-1), 1) := dk_2 (dk_at dksX3_pairs_1 9 rfl rfl)
theorem dX3_pairs_32 : decode cX3_pairs 32 = .ok (.invokevirtual 365, 3) := dk_182 1 109 (dk_at dksX3_pairs_1 10 rfl rfl)
theorem dX3_pairs_35 : decode cX3_pairs 35 = .ok (.goto 4, 3) := dk_167 0 4 (dk_at dksX3_pairs_1 13 rfl rfl)
theorem dX3_pairs_38 : decode cX3_pairs 38 = .ok (.iconst 0, 1) := dk_3 (dk_at dksX3_pairs_1 16 rfl rfl)
theorem dX3_pairs_39 : decode cX3_pairs 39 = .ok (.ireturn, 1) := dk_172 (dk_at dksX3_pairs_1 17 rfl rfl)
abbrev cX3_pairsBut : ByteArray := prog_26_method_98_code
def yX3_pairsBut : MethodName := ⟨RX3, "pairsBut", "(III)I"⟩
def dkwX3_pairsBut_2 : List UInt8 := [160, 0, 6, 132, 4, 1, 132, 5, 1, 167, 255, 208, 21, 4, 172]
abbrev dktX3_pairsBut_2 : List UInt8 := dkwX3_pairsBut_2 ++ []
def dkwX3_pairsBut_1 : List UInt8 := [159, 0, 28, 42, 21, 5, 3, 182, 1, 26, 27, 160, 0, 17, 42, 21, 5, 4, 182, 1, 26, 28]
abbrev dktX3_pairsBut_1 : List UInt8 := dkwX3_pairsBut_1 ++ dktX3_pairsBut_2
def dkwX3_pairsBut_0 : List UInt8 := [3, 54, 4, 3, 54, 5, 21, 5, 133, 42, 180, 0, 7, 16, 45, 47, 148, 156, 0, 40, 21, 5, 29]
abbrev dktX3_pairsBut_0 : List UInt8 := dkwX3_pairsBut_0 ++ dktX3_pairsBut_1
theorem dksX3_pairsBut_0 : cX3_pairsBut.data.toList.drop 0 = dktX3_pairsBut_0 := by decide +kernel
theorem dksX3_pairsBut_1 : cX3_pairsBut.data.toList.drop 23 = dktX3_pairsBut_1 := dk_seg dksX3_pairsBut_0 23 rfl rfl
theorem dksX3_pairsBut_2 : cX3_pairsBut.data.toList.drop 45 = dktX3_pairsBut_2 := dk_seg dksX3_pairsBut_1 22 rfl rfl
theorem dX3_pairsBut_0 : decode cX3_pairsBut 0 = .ok (.iconst 0, 1) := dk_3 (dk_at dksX3_pairsBut_0 0 rfl rfl)
theorem dX3_pairsBut_1 : decode cX3_pairsBut 1 = .ok (.istore 4, 2) := dk_54 4 (dk_at dksX3_pairsBut_0 1 rfl rfl)
theorem dX3_pairsBut_3 : decode cX3_pairsBut 3 = .ok (.iconst 0, 1) := dk_3 (dk_at dksX3_pairsBut_0 3 rfl rfl)
theorem dX3_pairsBut_4 : decode cX3_pairsBut 4 = .ok (.istore 5, 2) := dk_54 5 (dk_at dksX3_pairsBut_0 4 rfl rfl)
theorem dX3_pairsBut_6 : decode cX3_pairsBut 6 = .ok (.iload 5, 2) := dk_21 5 (dk_at dksX3_pairsBut_0 6 rfl rfl)
theorem dX3_pairsBut_8 : decode cX3_pairsBut 8 = .ok (.i2l, 1) := dk_133 (dk_at dksX3_pairsBut_0 8 rfl rfl)
theorem dX3_pairsBut_9 : decode cX3_pairsBut 9 = .ok (.aload_n 0, 1) := dk_42 (dk_at dksX3_pairsBut_0 9 rfl rfl)
theorem dX3_pairsBut_10 : decode cX3_pairsBut 10 = .ok (.getfield 7, 3) := dk_180 0 7 (dk_at dksX3_pairsBut_0 10 rfl rfl)
theorem dX3_pairsBut_13 : decode cX3_pairsBut 13 = .ok (.bipush 45, 2) := dk_16 45 (dk_at dksX3_pairsBut_0 13 rfl rfl)
theorem dX3_pairsBut_15 : decode cX3_pairsBut 15 = .ok (.laload, 1) := dk_47 (dk_at dksX3_pairsBut_0 15 rfl rfl)
theorem dX3_pairsBut_16 : decode cX3_pairsBut 16 = .ok (.lcmp, 1) := dk_148 (dk_at dksX3_pairsBut_0 16 rfl rfl)
theorem dX3_pairsBut_17 : decode cX3_pairsBut 17 = .ok (.ifCond .ge 40, 3) := dk_156 0 40 (dk_at dksX3_pairsBut_0 17 rfl rfl)
theorem dX3_pairsBut_20 : decode cX3_pairsBut 20 = .ok (.iload 5, 2) := dk_21 5 (dk_at dksX3_pairsBut_0 20 rfl rfl)
theorem dX3_pairsBut_22 : decode cX3_pairsBut 22 = .ok (.iload_n 3, 1) := dk_29 (dk_at dksX3_pairsBut_0 22 rfl rfl)
theorem dX3_pairsBut_23 : decode cX3_pairsBut 23 = .ok (.if_icmp .eq 28, 3) := dk_159 0 28 (dk_at dksX3_pairsBut_1 0 rfl rfl)
theorem dX3_pairsBut_26 : decode cX3_pairsBut 26 = .ok (.aload_n 0, 1) := dk_42 (dk_at dksX3_pairsBut_1 3 rfl rfl)
theorem dX3_pairsBut_27 : decode cX3_pairsBut 27 = .ok (.iload 5, 2) := dk_21 5 (dk_at dksX3_pairsBut_1 4 rfl rfl)
theorem dX3_pairsBut_29 : decode cX3_pairsBut 29 = .ok (.iconst 0, 1) := dk_3 (dk_at dksX3_pairsBut_1 6 rfl rfl)
theorem dX3_pairsBut_30 : decode cX3_pairsBut 30 = .ok (.invokevirtual 282, 3) := dk_182 1 26 (dk_at dksX3_pairsBut_1 7 rfl rfl)
theorem dX3_pairsBut_33 : decode cX3_pairsBut 33 = .ok (.iload_n 1, 1) := dk_27 (dk_at dksX3_pairsBut_1 10 rfl rfl)
theorem dX3_pairsBut_34 : decode cX3_pairsBut 34 = .ok (.if_icmp .ne 17, 3) := dk_160 0 17 (dk_at dksX3_pairsBut_1 11 rfl rfl)
theorem dX3_pairsBut_37 : decode cX3_pairsBut 37 = .ok (.aload_n 0, 1) := dk_42 (dk_at dksX3_pairsBut_1 14 rfl rfl)
theorem dX3_pairsBut_38 : decode cX3_pairsBut 38 = .ok (.iload 5, 2) := dk_21 5 (dk_at dksX3_pairsBut_1 15 rfl rfl)
theorem dX3_pairsBut_40 : decode cX3_pairsBut 40 = .ok (.iconst 1, 1) := dk_4 (dk_at dksX3_pairsBut_1 17 rfl rfl)
theorem dX3_pairsBut_41 : decode cX3_pairsBut 41 = .ok (.invokevirtual 282, 3) := dk_182 1 26 (dk_at dksX3_pairsBut_1 18 rfl rfl)
theorem dX3_pairsBut_44 : decode cX3_pairsBut 44 = .ok (.iload_n 2, 1) := dk_28 (dk_at dksX3_pairsBut_1 21 rfl rfl)
theorem dX3_pairsBut_45 : decode cX3_pairsBut 45 = .ok (.if_icmp .ne 6, 3) := dk_160 0 6 (dk_at dksX3_pairsBut_2 0 rfl rfl)
theorem dX3_pairsBut_48 : decode cX3_pairsBut 48 = .ok (.iinc 4 1, 3) := dk_132 4 1 (dk_at dksX3_pairsBut_2 3 rfl rfl)
theorem dX3_pairsBut_51 : decode cX3_pairsBut 51 = .ok (.iinc 5 1, 3) := dk_132 5 1 (dk_at dksX3_pairsBut_2 6 rfl rfl)
theorem dX3_pairsBut_54 : decode cX3_pairsBut 54 = .ok (.goto (-48), 3) := dk_167 255 208 (dk_at dksX3_pairsBut_2 9 rfl rfl)
theorem dX3_pairsBut_57 : decode cX3_pairsBut 57 = .ok (.iload 4, 2) := dk_21 4 (dk_at dksX3_pairsBut_2 12 rfl rfl)
theorem dX3_pairsBut_59 : decode cX3_pairsBut 59 = .ok (.ireturn, 1) := dk_172 (dk_at dksX3_pairsBut_2 14 rfl rfl)
abbrev cX3_mutual : ByteArray := prog_26_method_100_code
def yX3_mutual : MethodName := ⟨RX3, "mutual", "()I"⟩
def dkwX3_mutual_2 : List UInt8 := [158, 0, 6, 132, 1, 1, 132, 3, 1, 167, 255, 225, 132, 2, 1, 167, 255, 204, 27, 172]
abbrev dktX3_mutual_2 : List UInt8 := dkwX3_mutual_2 ++ []
def dkwX3_mutual_1 : List UInt8 := [29, 28, 162, 0, 32, 42, 28, 29, 2, 182, 1, 109, 158, 0, 16, 42, 29, 28, 2, 182, 1, 109]
abbrev dktX3_mutual_1 : List UInt8 := dkwX3_mutual_1 ++ dktX3_mutual_2
def dkwX3_mutual_0 : List UInt8 := [42, 3, 181, 0, 48, 3, 60, 3, 61, 28, 133, 42, 180, 0, 7, 16, 9, 47, 148, 156, 0, 45, 3, 62]
abbrev dktX3_mutual_0 : List UInt8 := dkwX3_mutual_0 ++ dktX3_mutual_1
theorem dksX3_mutual_0 : cX3_mutual.data.toList.drop 0 = dktX3_mutual_0 := by decide +kernel
theorem dksX3_mutual_1 : cX3_mutual.data.toList.drop 24 = dktX3_mutual_1 := dk_seg dksX3_mutual_0 24 rfl rfl
theorem dksX3_mutual_2 : cX3_mutual.data.toList.drop 46 = dktX3_mutual_2 := dk_seg dksX3_mutual_1 22 rfl rfl
theorem dX3_mutual_0 : decode cX3_mutual 0 = .ok (.aload_n 0, 1) := dk_42 (dk_at dksX3_mutual_0 0 rfl rfl)
theorem dX3_mutual_1 : decode cX3_mutual 1 = .ok (.iconst 0, 1) := dk_3 (dk_at dksX3_mutual_0 1 rfl rfl)
theorem dX3_mutual_2 : decode cX3_mutual 2 = .ok (.putfield 48, 3) := dk_181 0 48 (dk_at dksX3_mutual_0 2 rfl rfl)
theorem dX3_mutual_5 : decode cX3_mutual 5 = .ok (.iconst 0, 1) := dk_3 (dk_at dksX3_mutual_0 5 rfl rfl)
theorem dX3_mutual_6 : decode cX3_mutual 6 = .ok (.istore_n 1, 1) := dk_60 (dk_at dksX3_mutual_0 6 rfl rfl)
theorem dX3_mutual_7 : decode cX3_mutual 7 = .ok (.iconst 0, 1) := dk_3 (dk_at dksX3_mutual_0 7 rfl rfl)
theorem dX3_mutual_8 : decode cX3_mutual 8 = .ok (.istore_n 2, 1) := dk_61 (dk_at dksX3_mutual_0 8 rfl rfl)
theorem dX3_mutual_9 : decode cX3_mutual 9 = .ok (.iload_n 2, 1) := dk_28 (dk_at dksX3_mutual_0 9 rfl rfl)
theorem dX3_mutual_10 : decode cX3_mutual 10 = .ok (.i2l, 1) := dk_133 (dk_at dksX3_mutual_0 10 rfl rfl)
theorem dX3_mutual_11 : decode cX3_mutual 11 = .ok (.aload_n 0, 1) := dk_42 (dk_at dksX3_mutual_0 11 rfl rfl)
theorem dX3_mutual_12 : decode cX3_mutual 12 = .ok (.getfield 7, 3) := dk_180 0 7 (dk_at dksX3_mutual_0 12 rfl rfl)
theorem dX3_mutual_15 : decode cX3_mutual 15 = .ok (.bipush 9, 2) := dk_16 9 (dk_at dksX3_mutual_0 15 rfl rfl)
theorem dX3_mutual_17 : decode cX3_mutual 17 = .ok (.laload, 1) := dk_47 (dk_at dksX3_mutual_0 17 rfl rfl)
theorem dX3_mutual_18 : decode cX3_mutual 18 = .ok (.lcmp, 1) := dk_148 (dk_at dksX3_mutual_0 18 rfl rfl)
theorem dX3_mutual_19 : decode cX3_mutual 19 = .ok (.ifCond .ge 45, 3) := dk_156 0 45 (dk_at dksX3_mutual_0 19 rfl rfl)
theorem dX3_mutual_22 : decode cX3_mutual 22 = .ok (.iconst 0, 1) := dk_3 (dk_at dksX3_mutual_0 22 rfl rfl)
theorem dX3_mutual_23 : decode cX3_mutual 23 = .ok (.istore_n 3, 1) := dk_62 (dk_at dksX3_mutual_0 23 rfl rfl)
theorem dX3_mutual_24 : decode cX3_mutual 24 = .ok (.iload_n 3, 1) := dk_29 (dk_at dksX3_mutual_1 0 rfl rfl)
theorem dX3_mutual_25 : decode cX3_mutual 25 = .ok (.iload_n 2, 1) := dk_28 (dk_at dksX3_mutual_1 1 rfl rfl)
theorem dX3_mutual_26 : decode cX3_mutual 26 = .ok (.if_icmp .ge 32, 3) := dk_162 0 32 (dk_at dksX3_mutual_1 2 rfl rfl)
theorem dX3_mutual_29 : decode cX3_mutual 29 = .ok (.aload_n 0, 1) := dk_42 (dk_at dksX3_mutual_1 5 rfl rfl)
theorem dX3_mutual_30 : decode cX3_mutual 30 = .ok (.iload_n 2, 1) := dk_28 (dk_at dksX3_mutual_1 6 rfl rfl)
theorem dX3_mutual_31 : decode cX3_mutual 31 = .ok (.iload_n 3, 1) := dk_29 (dk_at dksX3_mutual_1 7 rfl rfl)
theorem dX3_mutual_32 : decode cX3_mutual 32 = .ok (.iconst (-1), 1) := dk_2 (dk_at dksX3_mutual_1 8 rfl rfl)
theorem dX3_mutual_33 : decode cX3_mutual 33 = .ok (.invokevirtual 365, 3) := dk_182 1 109 (dk_at dksX3_mutual_1 9 rfl rfl)
theorem dX3_mutual_36 : decode cX3_mutual 36 = .ok (.ifCond .le 16, 3) := dk_158 0 16 (dk_at dksX3_mutual_1 12 rfl rfl)
theorem dX3_mutual_39 : decode cX3_mutual 39 = .ok (.aload_n 0, 1) := dk_42 (dk_at dksX3_mutual_1 15 rfl rfl)
theorem dX3_mutual_40 : decode cX3_mutual 40 = .ok (.iload_n 3, 1) := dk_29 (dk_at dksX3_mutual_1 16 rfl rfl)
theorem dX3_mutual_41 : decode cX3_mutual 41 = .ok (.iload_n 2, 1) := dk_28 (dk_at dksX3_mutual_1 17 rfl rfl)
theorem dX3_mutual_42 : decode cX3_mutual 42 = .ok (.iconst (-1), 1) := dk_2 (dk_at dksX3_mutual_1 18 rfl rfl)
theorem dX3_mutual_43 : decode cX3_mutual 43 = .ok (.invokevirtual 365, 3) := dk_182 1 109 (dk_at dksX3_mutual_1 19 rfl rfl)
theorem dX3_mutual_46 : decode cX3_mutual 46 = .ok (.ifCond .le 6, 3) := dk_158 0 6 (dk_at dksX3_mutual_2 0 rfl rfl)
theorem dX3_mutual_49 : decode cX3_mutual 49 = .ok (.iinc 1 1, 3) := dk_132 1 1 (dk_at dksX3_mutual_2 3 rfl rfl)
theorem dX3_mutual_52 : decode cX3_mutual 52 = .ok (.iinc 3 1, 3) := dk_132 3 1 (dk_at dksX3_mutual_2 6 rfl rfl)
theorem dX3_mutual_55 : decode cX3_mutual 55 = .ok (.goto (-31), 3) := dk_167 255 225 (dk_at dksX3_mutual_2 9 rfl rfl)
theorem dX3_mutual_58 : decode cX3_mutual 58 = .ok (.iinc 2 1, 3) := dk_132 2 1 (dk_at dksX3_mutual_2 12 rfl rfl)
theorem dX3_mutual_61 : decode cX3_mutual 61 = .ok (.goto (-52), 3) := dk_167 255 204 (dk_at dksX3_mutual_2 15 rfl rfl)
theorem dX3_mutual_64 : decode cX3_mutual 64 = .ok (.iload_n 1, 1) := dk_27 (dk_at dksX3_mutual_2 18 rfl rfl)
theorem dX3_mutual_65 : decode cX3_mutual 65 = .ok (.ireturn, 1) := dk_172 (dk_at dksX3_mutual_2 19 rfl rfl)
abbrev cX3_suggested : ByteArray := prog_26_method_101_code
def yX3_suggested : MethodName := ⟨RX3, "suggested", "(I)I"⟩
def dkwX3_suggested_5 : List UInt8 := [21, 6, 62, 21, 8, 54, 4, 21, 7, 54, 5, 132, 6, 1, 167, 255, 157, 29, 172]
abbrev dktX3_suggested_5 : List UInt8 := dkwX3_suggested_5 ++ []
def dkwX3_suggested_4 : List UInt8 := [159, 0, 24, 21, 8, 21, 4, 161, 0, 17, 21, 8, 21, 4, 160, 0, 21, 21, 7, 21, 5, 162, 0, 14]
abbrev dktX3_suggested_4 : List UInt8 := dkwX3_suggested_4 ++ dktX3_suggested_5
def dkwX3_suggested_3 : List UInt8 := [96, 182, 1, 106, 153, 0, 6, 167, 0, 50, 42, 28, 21, 6, 27, 182, 1, 109, 54, 8, 29, 2]
abbrev dktX3_suggested_3 : List UInt8 := dkwX3_suggested_3 ++ dktX3_suggested_4
def dkwX3_suggested_2 : List UInt8 := [21, 6, 27, 182, 1, 103, 54, 7, 21, 6, 28, 159, 0, 70, 42, 21, 6, 21, 7, 42, 27, 182, 1, 100]
abbrev dktX3_suggested_2 : List UInt8 := dkwX3_suggested_2 ++ dktX3_suggested_3
def dkwX3_suggested_1 : List UInt8 := [54, 4, 3, 54, 5, 3, 54, 6, 21, 6, 133, 42, 180, 0, 7, 16, 9, 47, 148, 156, 0, 91, 42]
abbrev dktX3_suggested_1 : List UInt8 := dkwX3_suggested_1 ++ dktX3_suggested_2
def dkwX3_suggested_0 : List UInt8 := [42, 42, 27, 182, 1, 20, 182, 0, 240, 154, 0, 5, 3, 172, 42, 27, 3, 182, 1, 26, 61, 2, 62, 3]
abbrev dktX3_suggested_0 : List UInt8 := dkwX3_suggested_0 ++ dktX3_suggested_1
theorem dksX3_suggested_0 : cX3_suggested.data.toList.drop 0 = dktX3_suggested_0 := by decide +kernel
theorem dksX3_suggested_1 : cX3_suggested.data.toList.drop 24 = dktX3_suggested_1 := dk_seg dksX3_suggested_0 24 rfl rfl
theorem dksX3_suggested_2 : cX3_suggested.data.toList.drop 47 = dktX3_suggested_2 := dk_seg dksX3_suggested_1 23 rfl rfl
theorem dksX3_suggested_3 : cX3_suggested.data.toList.drop 71 = dktX3_suggested_3 := dk_seg dksX3_suggested_2 24 rfl rfl
theorem dksX3_suggested_4 : cX3_suggested.data.toList.drop 93 = dktX3_suggested_4 := dk_seg dksX3_suggested_3 22 rfl rfl
theorem dksX3_suggested_5 : cX3_suggested.data.toList.drop 117 = dktX3_suggested_5 := dk_seg dksX3_suggested_4 24 rfl rfl
theorem dX3_suggested_0 : decode cX3_suggested 0 = .ok (.aload_n 0, 1) := dk_42 (dk_at dksX3_suggested_0 0 rfl rfl)
theorem dX3_suggested_1 : decode cX3_suggested 1 = .ok (.aload_n 0, 1) := dk_42 (dk_at dksX3_suggested_0 1 rfl rfl)
theorem dX3_suggested_2 : decode cX3_suggested 2 = .ok (.iload_n 1, 1) := dk_27 (dk_at dksX3_suggested_0 2 rfl rfl)
theorem dX3_suggested_3 : decode cX3_suggested 3 = .ok (.invokevirtual 276, 3) := dk_182 1 20 (dk_at dksX3_suggested_0 3 rfl rfl)
theorem dX3_suggested_6 : decode cX3_suggested 6 = .ok (.invokevirtual 240, 3) := dk_182 0 240 (dk_at dksX3_suggested_0 6 rfl rfl)
theorem dX3_suggested_9 : decode cX3_suggested 9 = .ok (.ifCond .ne 5, 3) := dk_154 0 5 (dk_at dksX3_suggested_0 9 rfl rfl)
theorem dX3_suggested_12 : decode cX3_suggested 12 = .ok (.iconst 0, 1) := dk_3 (dk_at dksX3_suggested_0 12 rfl rfl)
theorem dX3_suggested_13 : decode cX3_suggested 13 = .ok (.ireturn, 1) := dk_172 (dk_at dksX3_suggested_0 13 rfl rfl)
theorem dX3_suggested_14 : decode cX3_suggested 14 = .ok (.aload_n 0, 1) := dk_42 (dk_at dksX3_suggested_0 14 rfl rfl)
theorem dX3_suggested_15 : decode cX3_suggested 15 = .ok (.iload_n 1, 1) := dk_27 (dk_at dksX3_suggested_0 15 rfl rfl)
theorem dX3_suggested_16 : decode cX3_suggested 16 = .ok (.iconst 0, 1) := dk_3 (dk_at dksX3_suggested_0 16 rfl rfl)
theorem dX3_suggested_17 : decode cX3_suggested 17 = .ok (.invokevirtual 282, 3) := dk_182 1 26 (dk_at dksX3_suggested_0 17 rfl rfl)
theorem dX3_suggested_20 : decode cX3_suggested 20 = .ok (.istore_n 2, 1) := dk_61 (dk_at dksX3_suggested_0 20 rfl rfl)
theorem dX3_suggested_21 : decode cX3_suggested 21 = .ok (.iconst (-1), 1) := dk_2 (dk_at dksX3_suggested_0 21 rfl rfl)
theorem dX3_suggested_22 : decode cX3_suggested 22 = .ok (.istore_n 3, 1) := dk_62 (dk_at dksX3_suggested_0 22 rfl rfl)
theorem dX3_suggested_23 : decode cX3_suggested 23 = .ok (.iconst 0, 1) := dk_3 (dk_at dksX3_suggested_0 23 rfl rfl)
theorem dX3_suggested_24 : decode cX3_suggested 24 = .ok (.istore 4, 2) := dk_54 4 (dk_at dksX3_suggested_1 0 rfl rfl)
theorem dX3_suggested_26 : decode cX3_suggested 26 = .ok (.iconst 0, 1) := dk_3 (dk_at dksX3_suggested_1 2 rfl rfl)
theorem dX3_suggested_27 : decode cX3_suggested 27 = .ok (.istore 5, 2) := dk_54 5 (dk_at dksX3_suggested_1 3 rfl rfl)
theorem dX3_suggested_29 : decode cX3_suggested 29 = .ok (.iconst 0, 1) := dk_3 (dk_at dksX3_suggested_1 5 rfl rfl)
theorem dX3_suggested_30 : decode cX3_suggested 30 = .ok (.istore 6, 2) := dk_54 6 (dk_at dksX3_suggested_1 6 rfl rfl)
theorem dX3_suggested_32 : decode cX3_suggested 32 = .ok (.iload 6, 2) := dk_21 6 (dk_at dksX3_suggested_1 8 rfl rfl)
theorem dX3_suggested_34 : decode cX3_suggested 34 = .ok (.i2l, 1) := dk_133 (dk_at dksX3_suggested_1 10 rfl rfl)
theorem dX3_suggested_35 : decode cX3_suggested 35 = .ok (.aload_n 0, 1) := dk_42 (dk_at dksX3_suggested_1 11 rfl rfl)
theorem dX3_suggested_36 : decode cX3_suggested 36 = .ok (.getfield 7, 3) := dk_180 0 7 (dk_at dksX3_suggested_1 12 rfl rfl)
theorem dX3_suggested_39 : decode cX3_suggested 39 = .ok (.bipush 9, 2) := dk_16 9 (dk_at dksX3_suggested_1 15 rfl rfl)
theorem dX3_suggested_41 : decode cX3_suggested 41 = .ok (.laload, 1) := dk_47 (dk_at dksX3_suggested_1 17 rfl rfl)
theorem dX3_suggested_42 : decode cX3_suggested 42 = .ok (.lcmp, 1) := dk_148 (dk_at dksX3_suggested_1 18 rfl rfl)
theorem dX3_suggested_43 : decode cX3_suggested 43 = .ok (.ifCond .ge 91, 3) := dk_156 0 91 (dk_at dksX3_suggested_1 19 rfl rfl)
theorem dX3_suggested_46 : decode cX3_suggested 46 = .ok (.aload_n 0, 1) := dk_42 (dk_at dksX3_suggested_1 22 rfl rfl)
theorem dX3_suggested_47 : decode cX3_suggested 47 = .ok (.iload 6, 2) := dk_21 6 (dk_at dksX3_suggested_2 0 rfl rfl)
theorem dX3_suggested_49 : decode cX3_suggested 49 = .ok (.iload_n 1, 1) := dk_27 (dk_at dksX3_suggested_2 2 rfl rfl)
theorem dX3_suggested_50 : decode cX3_suggested 50 = .ok (.invokevirtual 359, 3) := dk_182 1 103 (dk_at dksX3_suggested_2 3 rfl rfl)
theorem dX3_suggested_53 : decode cX3_suggested 53 = .ok (.istore 7, 2) := dk_54 7 (dk_at dksX3_suggested_2 6 rfl rfl)
theorem dX3_suggested_55 : decode cX3_suggested 55 = .ok (.iload 6, 2) := dk_21 6 (dk_at dksX3_suggested_2 8 rfl rfl)
theorem dX3_suggested_57 : decode cX3_suggested 57 = .ok (.iload_n 2, 1) := dk_28 (dk_at dksX3_suggested_2 10 rfl rfl)
theorem dX3_suggested_58 : decode cX3_suggested 58 = .ok (.if_icmp .eq 70, 3) := dk_159 0 70 (dk_at dksX3_suggested_2 11 rfl rfl)
theorem dX3_suggested_61 : decode cX3_suggested 61 = .ok (.aload_n 0, 1) := dk_42 (dk_at dksX3_suggested_2 14 rfl rfl)
theorem dX3_suggested_62 : decode cX3_suggested 62 = .ok (.iload 6, 2) := dk_21 6 (dk_at dksX3_suggested_2 15 rfl rfl)
theorem dX3_suggested_64 : decode cX3_suggested 64 = .ok (.iload 7, 2) := dk_21 7 (dk_at dksX3_suggested_2 17 rfl rfl)
theorem dX3_suggested_66 : decode cX3_suggested 66 = .ok (.aload_n 0, 1) := dk_42 (dk_at dksX3_suggested_2 19 rfl rfl)
theorem dX3_suggested_67 : decode cX3_suggested 67 = .ok (.iload_n 1, 1) := dk_27 (dk_at dksX3_suggested_2 20 rfl rfl)
theorem dX3_suggested_68 : decode cX3_suggested 68 = .ok (.invokevirtual 356, 3) := dk_182 1 100 (dk_at dksX3_suggested_2 21 rfl rfl)
theorem dX3_suggested_71 : decode cX3_suggested 71 = .ok (.iadd, 1) := dk_96 (dk_at dksX3_suggested_3 0 rfl rfl)
theorem dX3_suggested_72 : decode cX3_suggested 72 = .ok (.invokevirtual 362, 3) := dk_182 1 106 (dk_at dksX3_suggested_3 1 rfl rfl)
theorem dX3_suggested_75 : decode cX3_suggested 75 = .ok (.ifCond .eq 6, 3) := dk_153 0 6 (dk_at dksX3_suggested_3 4 rfl rfl)
theorem dX3_suggested_78 : decode cX3_suggested 78 = .ok (.goto 50, 3) := dk_167 0 50 (dk_at dksX3_suggested_3 7 rfl rfl)
theorem dX3_suggested_81 : decode cX3_suggested 81 = .ok (.aload_n 0, 1) := dk_42 (dk_at dksX3_suggested_3 10 rfl rfl)
theorem dX3_suggested_82 : decode cX3_suggested 82 = .ok (.iload_n 2, 1) := dk_28 (dk_at dksX3_suggested_3 11 rfl rfl)
theorem dX3_suggested_83 : decode cX3_suggested 83 = .ok (.iload 6, 2) := dk_21 6 (dk_at dksX3_suggested_3 12 rfl rfl)
theorem dX3_suggested_85 : decode cX3_suggested 85 = .ok (.iload_n 1, 1) := dk_27 (dk_at dksX3_suggested_3 14 rfl rfl)
theorem dX3_suggested_86 : decode cX3_suggested 86 = .ok (.invokevirtual 365, 3) := dk_182 1 109 (dk_at dksX3_suggested_3 15 rfl rfl)
theorem dX3_suggested_89 : decode cX3_suggested 89 = .ok (.istore 8, 2) := dk_54 8 (dk_at dksX3_suggested_3 18 rfl rfl)
theorem dX3_suggested_91 : decode cX3_suggested 91 = .ok (.iload_n 3, 1) := dk_29 (dk_at dksX3_suggested_3 20 rfl rfl)
theorem dX3_suggested_92 : decode cX3_suggested 92 = .ok (.iconst (-1), 1) := dk_2 (dk_at dksX3_suggested_3 21 rfl rfl)
theorem dX3_suggested_93 : decode cX3_suggested 93 = .ok (.if_icmp .eq 24, 3) := dk_159 0 24 (dk_at dksX3_suggested_4 0 rfl rfl)
theorem dX3_suggested_96 : decode cX3_suggested 96 = .ok (.iload 8, 2) := dk_21 8 (dk_at dksX3_suggested_4 3 rfl rfl)
theorem dX3_suggested_98 : decode cX3_suggested 98 = .ok (.iload 4, 2) := dk_21 4 (dk_at dksX3_suggested_4 5 rfl rfl)
theorem dX3_suggested_100 : decode cX3_suggested 100 = .ok (.if_icmp .lt 17, 3) := dk_161 0 17 (dk_at dksX3_suggested_4 7 rfl rfl)
theorem dX3_suggested_103 : decode cX3_suggested 103 = .ok (.iload 8, 2) := dk_21 8 (dk_at dksX3_suggested_4 10 rfl rfl)
theorem dX3_suggested_105 : decode cX3_suggested 105 = .ok (.iload 4, 2) := dk_21 4 (dk_at dksX3_suggested_4 12 rfl rfl)
theorem dX3_suggested_107 : decode cX3_suggested 107 = .ok (.if_icmp .ne 21, 3) := dk_160 0 21 (dk_at dksX3_suggested_4 14 rfl rfl)
theorem dX3_suggested_110 : decode cX3_suggested 110 = .ok (.iload 7, 2) := dk_21 7 (dk_at dksX3_suggested_4 17 rfl rfl)
theorem dX3_suggested_112 : decode cX3_suggested 112 = .ok (.iload 5, 2) := dk_21 5 (dk_at dksX3_suggested_4 19 rfl rfl)
theorem dX3_suggested_114 : decode cX3_suggested 114 = .ok (.if_icmp .ge 14, 3) := dk_162 0 14 (dk_at dksX3_suggested_4 21 rfl rfl)
theorem dX3_suggested_117 : decode cX3_suggested 117 = .ok (.iload 6, 2) := dk_21 6 (dk_at dksX3_suggested_5 0 rfl rfl)
theorem dX3_suggested_119 : decode cX3_suggested 119 = .ok (.istore_n 3, 1) := dk_62 (dk_at dksX3_suggested_5 2 rfl rfl)
theorem dX3_suggested_120 : decode cX3_suggested 120 = .ok (.iload 8, 2) := dk_21 8 (dk_at dksX3_suggested_5 3 rfl rfl)
theorem dX3_suggested_122 : decode cX3_suggested 122 = .ok (.istore 4, 2) := dk_54 4 (dk_at dksX3_suggested_5 5 rfl rfl)
theorem dX3_suggested_124 : decode cX3_suggested 124 = .ok (.iload 7, 2) := dk_21 7 (dk_at dksX3_suggested_5 7 rfl rfl)
theorem dX3_suggested_126 : decode cX3_suggested 126 = .ok (.istore 5, 2) := dk_54 5 (dk_at dksX3_suggested_5 9 rfl rfl)
theorem dX3_suggested_128 : decode cX3_suggested 128 = .ok (.iinc 6 1, 3) := dk_132 6 1 (dk_at dksX3_suggested_5 11 rfl rfl)
theorem dX3_suggested_131 : decode cX3_suggested 131 = .ok (.goto (-99), 3) := dk_167 255 157 (dk_at dksX3_suggested_5 14 rfl rfl)
theorem dX3_suggested_134 : decode cX3_suggested 134 = .ok (.iload_n 3, 1) := dk_29 (dk_at dksX3_suggested_5 17 rfl rfl)
theorem dX3_suggested_135 : decode cX3_suggested 135 = .ok (.ireturn, 1) := dk_172 (dk_at dksX3_suggested_5 18 rfl rfl)
abbrev cX3_version : ByteArray := prog_26_method_103_code
def yX3_version : MethodName := ⟨RX3, "version", "(I)I"⟩
def dkwX3_version_2 : List UInt8 := [28, 172]
abbrev dktX3_version_2 : List UInt8 := dkwX3_version_2 ++ []
def dkwX3_version_1 : List UInt8 := [29, 3, 182, 1, 116, 42, 27, 3, 182, 1, 116, 148, 154, 0, 6, 132, 2, 1, 132, 3, 1, 167, 255, 229]
abbrev dktX3_version_1 : List UInt8 := dkwX3_version_1 ++ dktX3_version_2
def dkwX3_version_0 : List UInt8 := [42, 42, 27, 182, 1, 113, 182, 0, 240, 154, 0, 5, 3, 172, 3, 61, 3, 62, 29, 27, 163, 0, 28, 42]
abbrev dktX3_version_0 : List UInt8 := dkwX3_version_0 ++ dktX3_version_1
theorem dksX3_version_0 : cX3_version.data.toList.drop 0 = dktX3_version_0 := by decide +kernel
theorem dksX3_version_1 : cX3_version.data.toList.drop 24 = dktX3_version_1 := dk_seg dksX3_version_0 24 rfl rfl
theorem dksX3_version_2 : cX3_version.data.toList.drop 48 = dktX3_version_2 := dk_seg dksX3_version_1 24 rfl rfl
theorem dX3_version_0 : decode cX3_version 0 = .ok (.aload_n 0, 1) := dk_42 (dk_at dksX3_version_0 0 rfl rfl)
theorem dX3_version_1 : decode cX3_version 1 = .ok (.aload_n 0, 1) := dk_42 (dk_at dksX3_version_0 1 rfl rfl)
theorem dX3_version_2 : decode cX3_version 2 = .ok (.iload_n 1, 1) := dk_27 (dk_at dksX3_version_0 2 rfl rfl)
theorem dX3_version_3 : decode cX3_version 3 = .ok (.invokevirtual 369, 3) := dk_182 1 113 (dk_at dksX3_version_0 3 rfl rfl)
theorem dX3_version_6 : decode cX3_version 6 = .ok (.invokevirtual 240, 3) := dk_182 0 240 (dk_at dksX3_version_0 6 rfl rfl)
theorem dX3_version_9 : decode cX3_version 9 = .ok (.ifCond .ne 5, 3) := dk_154 0 5 (dk_at dksX3_version_0 9 rfl rfl)
theorem dX3_version_12 : decode cX3_version 12 = .ok (.iconst 0, 1) := dk_3 (dk_at dksX3_version_0 12 rfl rfl)
theorem dX3_version_13 : decode cX3_version 13 = .ok (.ireturn, 1) := dk_172 (dk_at dksX3_version_0 13 rfl rfl)
theorem dX3_version_14 : decode cX3_version 14 = .ok (.iconst 0, 1) := dk_3 (dk_at dksX3_version_0 14 rfl rfl)
theorem dX3_version_15 : decode cX3_version 15 = .ok (.istore_n 2, 1) := dk_61 (dk_at dksX3_version_0 15 rfl rfl)
theorem dX3_version_16 : decode cX3_version 16 = .ok (.iconst 0, 1) := dk_3 (dk_at dksX3_version_0 16 rfl rfl)
theorem dX3_version_17 : decode cX3_version 17 = .ok (.istore_n 3, 1) := dk_62 (dk_at dksX3_version_0 17 rfl rfl)
theorem dX3_version_18 : decode cX3_version 18 = .ok (.iload_n 3, 1) := dk_29 (dk_at dksX3_version_0 18 rfl rfl)
theorem dX3_version_19 : decode cX3_version 19 = .ok (.iload_n 1, 1) := dk_27 (dk_at dksX3_version_0 19 rfl rfl)
theorem dX3_version_20 : decode cX3_version 20 = .ok (.if_icmp .gt 28, 3) := dk_163 0 28 (dk_at dksX3_version_0 20 rfl rfl)
theorem dX3_version_23 : decode cX3_version 23 = .ok (.aload_n 0, 1) := dk_42 (dk_at dksX3_version_0 23 rfl rfl)
theorem dX3_version_24 : decode cX3_version 24 = .ok (.iload_n 3, 1) := dk_29 (dk_at dksX3_version_1 0 rfl rfl)
theorem dX3_version_25 : decode cX3_version 25 = .ok (.iconst 0, 1) := dk_3 (dk_at dksX3_version_1 1 rfl rfl)
theorem dX3_version_26 : decode cX3_version 26 = .ok (.invokevirtual 372, 3) := dk_182 1 116 (dk_at dksX3_version_1 2 rfl rfl)
theorem dX3_version_29 : decode cX3_version 29 = .ok (.aload_n 0, 1) := dk_42 (dk_at dksX3_version_1 5 rfl rfl)
theorem dX3_version_30 : decode cX3_version 30 = .ok (.iload_n 1, 1) := dk_27 (dk_at dksX3_version_1 6 rfl rfl)
theorem dX3_version_31 : decode cX3_version 31 = .ok (.iconst 0, 1) := dk_3 (dk_at dksX3_version_1 7 rfl rfl)
theorem dX3_version_32 : decode cX3_version 32 = .ok (.invokevirtual 372, 3) := dk_182 1 116 (dk_at dksX3_version_1 8 rfl rfl)
theorem dX3_version_35 : decode cX3_version 35 = .ok (.lcmp, 1) := dk_148 (dk_at dksX3_version_1 11 rfl rfl)
theorem dX3_version_36 : decode cX3_version 36 = .ok (.ifCond .ne 6, 3) := dk_154 0 6 (dk_at dksX3_version_1 12 rfl rfl)
theorem dX3_version_39 : decode cX3_version 39 = .ok (.iinc 2 1, 3) := dk_132 2 1 (dk_at dksX3_version_1 15 rfl rfl)
theorem dX3_version_42 : decode cX3_version 42 = .ok (.iinc 3 1, 3) := dk_132 3 1 (dk_at dksX3_version_1 18 rfl rfl)
theorem dX3_version_45 : decode cX3_version 45 = .ok (.goto (-27), 3) := dk_167 255 229 (dk_at dksX3_version_1 21 rfl rfl)
theorem dX3_version_48 : decode cX3_version 48 = .ok (.iload_n 2, 1) := dk_28 (dk_at dksX3_version_2 0 rfl rfl)
theorem dX3_version_49 : decode cX3_version 49 = .ok (.ireturn, 1) := dk_172 (dk_at dksX3_version_2 1 rfl rfl)
abbrev cX3_isTerm : ByteArray := prog_26_method_48_code
def yX3_isTerm : MethodName := ⟨RX3, "isTerm", "(I)Z"⟩
def dkwX3_isTerm_0 : List UInt8 := [27, 133, 9, 42, 180, 0, 7, 16, 20, 47, 10, 101, 184, 0, 144, 172]
abbrev dktX3_isTerm_0 : List UInt8 := dkwX3_isTerm_0 ++ []
theorem dksX3_isTerm_0 : cX3_isTerm.data.toList.drop 0 = dktX3_isTerm_0 := by decide +kernel
theorem dX3_isTerm_0 : decode cX3_isTerm 0 = .ok (.iload_n 1, 1) := dk_27 (dk_at dksX3_isTerm_0 0 rfl rfl)
theorem dX3_isTerm_1 : decode cX3_isTerm 1 = .ok (.i2l, 1) := dk_133 (dk_at dksX3_isTerm_0 1 rfl rfl)
theorem dX3_isTerm_2 : decode cX3_isTerm 2 = .ok (.lconst 0, 1) := dk_9 (dk_at dksX3_isTerm_0 2 rfl rfl)
theorem dX3_isTerm_3 : decode cX3_isTerm 3 = .ok (.aload_n 0, 1) := dk_42 (dk_at dksX3_isTerm_0 3 rfl rfl)
theorem dX3_isTerm_4 : decode cX3_isTerm 4 = .ok (.getfield 7, 3) := dk_180 0 7 (dk_at dksX3_isTerm_0 4 rfl rfl)
theorem dX3_isTerm_7 : decode cX3_isTerm 7 = .ok (.bipush 20, 2) := dk_16 20 (dk_at dksX3_isTerm_0 7 rfl rfl)
theorem dX3_isTerm_9 : decode cX3_isTerm 9 = .ok (.laload, 1) := dk_47 (dk_at dksX3_isTerm_0 9 rfl rfl)
theorem dX3_isTerm_10 : decode cX3_isTerm 10 = .ok (.lconst 1, 1) := dk_10 (dk_at dksX3_isTerm_0 10 rfl rfl)
theorem dX3_isTerm_11 : decode cX3_isTerm 11 = .ok (.lsub, 1) := dk_101 (dk_at dksX3_isTerm_0 11 rfl rfl)
theorem dX3_isTerm_12 : decode cX3_isTerm 12 = .ok (.invokestatic 144, 3) := dk_184 0 144 (dk_at dksX3_isTerm_0 12 rfl rfl)
theorem dX3_isTerm_15 : decode cX3_isTerm 15 = .ok (.ireturn, 1) := dk_172 (dk_at dksX3_isTerm_0 15 rfl rfl)
abbrev cX3_rule : ByteArray := prog_26_method_106_code
def yX3_rule : MethodName := ⟨RX3, "rule", "(II)I"⟩
def dkwX3_rule_1 : List UInt8 := [172]
abbrev dktX3_rule_1 : List UInt8 := dkwX3_rule_1 ++ []
def dkwX3_rule_0 : List UInt8 := [42, 42, 27, 28, 3, 182, 1, 39, 182, 0, 240, 153, 0, 12, 42, 27, 28, 182, 1, 124, 167, 0, 4, 3]
abbrev dktX3_rule_0 : List UInt8 := dkwX3_rule_0 ++ dktX3_rule_1
theorem dksX3_rule_0 : cX3_rule.data.toList.drop 0 = dktX3_rule_0 := by decide +kernel
theorem dksX3_rule_1 : cX3_rule.data.toList.drop 24 = dktX3_rule_1 := dk_seg dksX3_rule_0 24 rfl rfl
theorem dX3_rule_0 : decode cX3_rule 0 = .ok (.aload_n 0, 1) := dk_42 (dk_at dksX3_rule_0 0 rfl rfl)
theorem dX3_rule_1 : decode cX3_rule 1 = .ok (.aload_n 0, 1) := dk_42 (dk_at dksX3_rule_0 1 rfl rfl)
theorem dX3_rule_2 : decode cX3_rule 2 = .ok (.iload_n 1, 1) := dk_27 (dk_at dksX3_rule_0 2 rfl rfl)
theorem dX3_rule_3 : decode cX3_rule 3 = .ok (.iload_n 2, 1) := dk_28 (dk_at dksX3_rule_0 3 rfl rfl)
theorem dX3_rule_4 : decode cX3_rule 4 = .ok (.iconst 0, 1) := dk_3 (dk_at dksX3_rule_0 4 rfl rfl)
theorem dX3_rule_5 : decode cX3_rule 5 = .ok (.invokevirtual 295, 3) := dk_182 1 39 (dk_at dksX3_rule_0 5 rfl rfl)
theorem dX3_rule_8 : decode cX3_rule 8 = .ok (.invokevirtual 240, 3) := dk_182 0 240 (dk_at dksX3_rule_0 8 rfl rfl)
theorem dX3_rule_11 : decode cX3_rule 11 = .ok (.ifCond .eq 12, 3) := dk_153 0 12 (dk_at dksX3_rule_0 11 rfl rfl)
theorem dX3_rule_14 : decode cX3_rule 14 = .ok (.aload_n 0, 1) := dk_42 (dk_at dksX3_rule_0 14 rfl rfl)
theorem dX3_rule_15 : decode cX3_rule 15 = .ok (.iload_n 1, 1) := dk_27 (dk_at dksX3_rule_0 15 rfl rfl)
theorem dX3_rule_16 : decode cX3_rule 16 = .ok (.iload_n 2, 1) := dk_28 (dk_at dksX3_rule_0 16 rfl rfl)
theorem dX3_rule_17 : decode cX3_rule 17 = .ok (.invokevirtual 380, 3) := dk_182 1 124 (dk_at dksX3_rule_0 17 rfl rfl)
theorem dX3_rule_20 : decode cX3_rule 20 = .ok (.goto 4, 3) := dk_167 0 4 (dk_at dksX3_rule_0 20 rfl rfl)
theorem dX3_rule_23 : decode cX3_rule 23 = .ok (.iconst 0, 1) := dk_3 (dk_at dksX3_rule_0 23 rfl rfl)
theorem dX3_rule_24 : decode cX3_rule 24 = .ok (.ireturn, 1) := dk_172 (dk_at dksX3_rule_1 0 rfl rfl)
abbrev cX3_ruleAt : ByteArray := prog_26_method_105_code
def yX3_ruleAt : MethodName := ⟨RX3, "ruleAt", "(II)I"⟩
def dkwX3_ruleAt_0 : List UInt8 := [42, 42, 27, 28, 3, 182, 1, 43, 42, 42, 27, 182, 1, 13, 6, 182, 1, 26, 182, 1, 120, 172]
abbrev dktX3_ruleAt_0 : List UInt8 := dkwX3_ruleAt_0 ++ []
theorem dksX3_ruleAt_0 : cX3_ruleAt.data.toList.drop 0 = dktX3_ruleAt_0 := by decide +kernel
theorem dX3_ruleAt_0 : decode cX3_ruleAt 0 = .ok (.aload_n 0, 1) := dk_42 (dk_at dksX3_ruleAt_0 0 rfl rfl)
theorem dX3_ruleAt_1 : decode cX3_ruleAt 1 = .ok (.aload_n 0, 1) := dk_42 (dk_at dksX3_ruleAt_0 1 rfl rfl)
theorem dX3_ruleAt_2 : decode cX3_ruleAt 2 = .ok (.iload_n 1, 1) := dk_27 (dk_at dksX3_ruleAt_0 2 rfl rfl)
theorem dX3_ruleAt_3 : decode cX3_ruleAt 3 = .ok (.iload_n 2, 1) := dk_28 (dk_at dksX3_ruleAt_0 3 rfl rfl)
theorem dX3_ruleAt_4 : decode cX3_ruleAt 4 = .ok (.iconst 0, 1) := dk_3 (dk_at dksX3_ruleAt_0 4 rfl rfl)
theorem dX3_ruleAt_5 : decode cX3_ruleAt 5 = .ok (.invokevirtual 299, 3) := dk_182 1 43 (dk_at dksX3_ruleAt_0 5 rfl rfl)
theorem dX3_ruleAt_8 : decode cX3_ruleAt 8 = .ok (.aload_n 0, 1) := dk_42 (dk_at dksX3_ruleAt_0 8 rfl rfl)
theorem dX3_ruleAt_9 : decode cX3_ruleAt 9 = .ok (.aload_n 0, 1) := dk_42 (dk_at dksX3_ruleAt_0 9 rfl rfl)
theorem dX3_ruleAt_10 : decode cX3_ruleAt 10 = .ok (.iload_n 1, 1) := dk_27 (dk_at dksX3_ruleAt_0 10 rfl rfl)
theorem dX3_ruleAt_11 : decode cX3_ruleAt 11 = .ok (.invokevirtual 269, 3) := dk_182 1 13 (dk_at dksX3_ruleAt_0 11 rfl rfl)
theorem dX3_ruleAt_14 : decode cX3_ruleAt 14 = .ok (.iconst 3, 1) := dk_6 (dk_at dksX3_ruleAt_0 14 rfl rfl)
theorem dX3_ruleAt_15 : decode cX3_ruleAt 15 = .ok (.invokevirtual 282, 3) := dk_182 1 26 (dk_at dksX3_ruleAt_0 15 rfl rfl)
theorem dX3_ruleAt_18 : decode cX3_ruleAt 18 = .ok (.invokevirtual 376, 3) := dk_182 1 120 (dk_at dksX3_ruleAt_0 18 rfl rfl)
theorem dX3_ruleAt_21 : decode cX3_ruleAt 21 = .ok (.ireturn, 1) := dk_172 (dk_at dksX3_ruleAt_0 21 rfl rfl)
abbrev cX3_uses : ByteArray := prog_26_method_107_code
def yX3_uses : MethodName := ⟨RX3, "uses", "(I)I"⟩
def dkwX3_uses_3 : List UInt8 := [167, 255, 219, 28, 21, 4, 153, 0, 7, 4, 167, 0, 4, 3, 96, 61, 132, 3, 1, 167, 255, 186, 28, 172]
abbrev dktX3_uses_3 : List UInt8 := dkwX3_uses_3 ++ []
def dkwX3_uses_2 : List UInt8 := [154, 0, 14, 42, 29, 21, 5, 182, 1, 124, 27, 160, 0, 7, 4, 167, 0, 4, 3, 54, 4, 132, 5, 1]
abbrev dktX3_uses_2 : List UInt8 := dkwX3_uses_2 ++ dktX3_uses_3
def dkwX3_uses_1 : List UInt8 := [162, 0, 68, 3, 54, 4, 3, 54, 5, 21, 5, 42, 29, 3, 182, 1, 16, 162, 0, 32, 21, 4]
abbrev dktX3_uses_1 : List UInt8 := dkwX3_uses_1 ++ dktX3_uses_2
def dkwX3_uses_0 : List UInt8 := [42, 42, 27, 182, 1, 113, 182, 0, 240, 154, 0, 5, 3, 172, 3, 61, 3, 62, 29, 42, 182, 0, 252]
abbrev dktX3_uses_0 : List UInt8 := dkwX3_uses_0 ++ dktX3_uses_1
theorem dksX3_uses_0 : cX3_uses.data.toList.drop 0 = dktX3_uses_0 := by decide +kernel
theorem dksX3_uses_1 : cX3_uses.data.toList.drop 23 = dktX3_uses_1 := dk_seg dksX3_uses_0 23 rfl rfl
theorem dksX3_uses_2 : cX3_uses.data.toList.drop 45 = dktX3_uses_2 := dk_seg dksX3_uses_1 22 rfl rfl
theorem dksX3_uses_3 : cX3_uses.data.toList.drop 69 = dktX3_uses_3 := dk_seg dksX3_uses_2 24 rfl rfl
theorem dX3_uses_0 : decode cX3_uses 0 = .ok (.aload_n 0, 1) := dk_42 (dk_at dksX3_uses_0 0 rfl rfl)
theorem dX3_uses_1 : decode cX3_uses 1 = .ok (.aload_n 0, 1) := dk_42 (dk_at dksX3_uses_0 1 rfl rfl)
theorem dX3_uses_2 : decode cX3_uses 2 = .ok (.iload_n 1, 1) := dk_27 (dk_at dksX3_uses_0 2 rfl rfl)
theorem dX3_uses_3 : decode cX3_uses 3 = .ok (.invokevirtual 369, 3) := dk_182 1 113 (dk_at dksX3_uses_0 3 rfl rfl)
theorem dX3_uses_6 : decode cX3_uses 6 = .ok (.invokevirtual 240, 3) := dk_182 0 240 (dk_at dksX3_uses_0 6 rfl rfl)
theorem dX3_uses_9 : decode cX3_uses 9 = .ok (.ifCond .ne 5, 3) := dk_154 0 5 (dk_at dksX3_uses_0 9 rfl rfl)
theorem dX3_uses_12 : decode cX3_uses 12 = .ok (.iconst 0, 1) := dk_3 (dk_at dksX3_uses_0 12 rfl rfl)
theorem dX3_uses_13 : decode cX3_uses 13 = .ok (.ireturn, 1) := dk_172 (dk_at dksX3_uses_0 13 rfl rfl)
theorem dX3_uses_14 : decode cX3_uses 14 = .ok (.iconst 0, 1) := dk_3 (dk_at dksX3_uses_0 14 rfl rfl)
theorem dX3_uses_15 : decode cX3_uses 15 = .ok (.istore_n 2, 1) := dk_61 (dk_at dksX3_uses_0 15 rfl rfl)
theorem dX3_uses_16 : decode cX3_uses 16 = .ok (.iconst 0, 1) := dk_3 (dk_at dksX3_uses_0 16 rfl rfl)
theorem dX3_uses_17 : decode cX3_uses 17 = .ok (.istore_n 3, 1) := dk_62 (dk_at dksX3_uses_0 17 rfl rfl)
theorem dX3_uses_18 : decode cX3_uses 18 = .ok (.iload_n 3, 1) := dk_29 (dk_at dksX3_uses_0 18 rfl rfl)
theorem dX3_uses_19 : decode cX3_uses 19 = .ok (.aload_n 0, 1) := dk_42 (dk_at dksX3_uses_0 19 rfl rfl)
theorem dX3_uses_20 : decode cX3_uses 20 = .ok (.invokevirtual 252, 3) := dk_182 0 252 (dk_at dksX3_uses_0 20 rfl rfl)
theorem dX3_uses_23 : decode cX3_uses 23 = .ok (.if_icmp .ge 68, 3) := dk_162 0 68 (dk_at dksX3_uses_1 0 rfl rfl)
theorem dX3_uses_26 : decode cX3_uses 26 = .ok (.iconst 0, 1) := dk_3 (dk_at dksX3_uses_1 3 rfl rfl)
theorem dX3_uses_27 : decode cX3_uses 27 = .ok (.istore 4, 2) := dk_54 4 (dk_at dksX3_uses_1 4 rfl rfl)
theorem dX3_uses_29 : decode cX3_uses 29 = .ok (.iconst 0, 1) := dk_3 (dk_at dksX3_uses_1 6 rfl rfl)
theorem dX3_uses_30 : decode cX3_uses 30 = .ok (.istore 5, 2) := dk_54 5 (dk_at dksX3_uses_1 7 rfl rfl)
theorem dX3_uses_32 : decode cX3_uses 32 = .ok (.iload 5, 2) := dk_21 5 (dk_at dksX3_uses_1 9 rfl rfl)
theorem dX3_uses_34 : decode cX3_uses 34 = .ok (.aload_n 0, 1) := dk_42 (dk_at dksX3_uses_1 11 rfl rfl)
theorem dX3_uses_35 : decode cX3_uses 35 = .ok (.iload_n 3, 1) := dk_29 (dk_at dksX3_uses_1 12 rfl rfl)
theorem dX3_uses_36 : decode cX3_uses 36 = .ok (.iconst 0, 1) := dk_3 (dk_at dksX3_uses_1 13 rfl rfl)
theorem dX3_uses_37 : decode cX3_uses 37 = .ok (.invokevirtual 272, 3) := dk_182 1 16 (dk_at dksX3_uses_1 14 rfl rfl)
theorem dX3_uses_40 : decode cX3_uses 40 = .ok (.if_icmp .ge 32, 3) := dk_162 0 32 (dk_at dksX3_uses_1 17 rfl rfl)
theorem dX3_uses_43 : decode cX3_uses 43 = .ok (.iload 4, 2) := dk_21 4 (dk_at dksX3_uses_1 20 rfl rfl)
theorem dX3_uses_45 : decode cX3_uses 45 = .ok (.ifCond .ne 14, 3) := dk_154 0 14 (dk_at dksX3_uses_2 0 rfl rfl)
theorem dX3_uses_48 : decode cX3_uses 48 = .ok (.aload_n 0, 1) := dk_42 (dk_at dksX3_uses_2 3 rfl rfl)
theorem dX3_uses_49 : decode cX3_uses 49 = .ok (.iload_n 3, 1) := dk_29 (dk_at dksX3_uses_2 4 rfl rfl)
theorem dX3_uses_50 : decode cX3_uses 50 = .ok (.iload 5, 2) := dk_21 5 (dk_at dksX3_uses_2 5 rfl rfl)
theorem dX3_uses_52 : decode cX3_uses 52 = .ok (.invokevirtual 380, 3) := dk_182 1 124 (dk_at dksX3_uses_2 7 rfl rfl)
theorem dX3_uses_55 : decode cX3_uses 55 = .ok (.iload_n 1, 1) := dk_27 (dk_at dksX3_uses_2 10 rfl rfl)
theorem dX3_uses_56 : decode cX3_uses 56 = .ok (.if_icmp .ne 7, 3) := dk_160 0 7 (dk_at dksX3_uses_2 11 rfl rfl)
theorem dX3_uses_59 : decode cX3_uses 59 = .ok (.iconst 1, 1) := dk_4 (dk_at dksX3_uses_2 14 rfl rfl)
theorem dX3_uses_60 : decode cX3_uses 60 = .ok (.goto 4, 3) := dk_167 0 4 (dk_at dksX3_uses_2 15 rfl rfl)
theorem dX3_uses_63 : decode cX3_uses 63 = .ok (.iconst 0, 1) := dk_3 (dk_at dksX3_uses_2 18 rfl rfl)
theorem dX3_uses_64 : decode cX3_uses 64 = .ok (.istore 4, 2) := dk_54 4 (dk_at dksX3_uses_2 19 rfl rfl)
theorem dX3_uses_66 : decode cX3_uses 66 = .ok (.iinc 5 1, 3) := dk_132 5 1 (dk_at dksX3_uses_2 21 rfl rfl)
theorem dX3_uses_69 : decode cX3_uses 69 = .ok (.goto (-37), 3) := dk_167 255 219 (dk_at dksX3_uses_3 0 rfl rfl)
theorem dX3_uses_72 : decode cX3_uses 72 = .ok (.iload_n 2, 1) := dk_28 (dk_at dksX3_uses_3 3 rfl rfl)
theorem dX3_uses_73 : decode cX3_uses 73 = .ok (.iload 4, 2) := dk_21 4 (dk_at dksX3_uses_3 4 rfl rfl)
theorem dX3_uses_75 : decode cX3_uses 75 = .ok (.ifCond .eq 7, 3) := dk_153 0 7 (dk_at dksX3_uses_3 6 rfl rfl)
theorem dX3_uses_78 : decode cX3_uses 78 = .ok (.iconst 1, 1) := dk_4 (dk_at dksX3_uses_3 9 rfl rfl)
theorem dX3_uses_79 : decode cX3_uses 79 = .ok (.goto 4, 3) := dk_167 0 4 (dk_at dksX3_uses_3 10 rfl rfl)
theorem dX3_uses_82 : decode cX3_uses 82 = .ok (.iconst 0, 1) := dk_3 (dk_at dksX3_uses_3 13 rfl rfl)
theorem dX3_uses_83 : decode cX3_uses 83 = .ok (.iadd, 1) := dk_96 (dk_at dksX3_uses_3 14 rfl rfl)
theorem dX3_uses_84 : decode cX3_uses 84 = .ok (.istore_n 2, 1) := dk_61 (dk_at dksX3_uses_3 15 rfl rfl)
theorem dX3_uses_85 : decode cX3_uses 85 = .ok (.iinc 3 1, 3) := dk_132 3 1 (dk_at dksX3_uses_3 16 rfl rfl)
theorem dX3_uses_88 : decode cX3_uses 88 = .ok (.goto (-70), 3) := dk_167 255 186 (dk_at dksX3_uses_3 19 rfl rfl)
theorem dX3_uses_91 : decode cX3_uses 91 = .ok (.iload_n 2, 1) := dk_28 (dk_at dksX3_uses_3 22 rfl rfl)
theorem dX3_uses_92 : decode cX3_uses 92 = .ok (.ireturn, 1) := dk_172 (dk_at dksX3_uses_3 23 rfl rfl)
abbrev cX3_finding : ByteArray := prog_26_method_115_code
def yX3_finding : MethodName := ⟨RX3, "finding", "(II)I"⟩
def dkwX3_finding_1 : List UInt8 := [180, 0, 36, 6, 27, 104, 28, 96, 46, 167, 0, 4, 3, 172]
abbrev dktX3_finding_1 : List UInt8 := dkwX3_finding_1 ++ []
def dkwX3_finding_0 : List UInt8 := [42, 42, 27, 182, 1, 143, 28, 133, 9, 20, 1, 146, 184, 0, 144, 182, 1, 23, 153, 0, 16, 42]
abbrev dktX3_finding_0 : List UInt8 := dkwX3_finding_0 ++ dktX3_finding_1
theorem dksX3_finding_0 : cX3_finding.data.toList.drop 0 = dktX3_finding_0 := by decide +kernel
theorem dksX3_finding_1 : cX3_finding.data.toList.drop 22 = dktX3_finding_1 := dk_seg dksX3_finding_0 22 rfl rfl
theorem dX3_finding_0 : decode cX3_finding 0 = .ok (.aload_n 0, 1) := dk_42 (dk_at dksX3_finding_0 0 rfl rfl)
theorem dX3_finding_1 : decode cX3_finding 1 = .ok (.aload_n 0, 1) := dk_42 (dk_at dksX3_finding_0 1 rfl rfl)
theorem dX3_finding_2 : decode cX3_finding 2 = .ok (.iload_n 1, 1) := dk_27 (dk_at dksX3_finding_0 2 rfl rfl)
theorem dX3_finding_3 : decode cX3_finding 3 = .ok (.invokevirtual 399, 3) := dk_182 1 143 (dk_at dksX3_finding_0 3 rfl rfl)
theorem dX3_finding_6 : decode cX3_finding 6 = .ok (.iload_n 2, 1) := dk_28 (dk_at dksX3_finding_0 6 rfl rfl)
theorem dX3_finding_7 : decode cX3_finding 7 = .ok (.i2l, 1) := dk_133 (dk_at dksX3_finding_0 7 rfl rfl)
theorem dX3_finding_8 : decode cX3_finding 8 = .ok (.lconst 0, 1) := dk_9 (dk_at dksX3_finding_0 8 rfl rfl)
theorem dX3_finding_9 : decode cX3_finding 9 = .ok (.ldc2_w 402, 3) := dk_20 1 146 (dk_at dksX3_finding_0 9 rfl rfl)
theorem dX3_finding_12 : decode cX3_finding 12 = .ok (.invokestatic 144, 3) := dk_184 0 144 (dk_at dksX3_finding_0 12 rfl rfl)
theorem dX3_finding_15 : decode cX3_finding 15 = .ok (.invokevirtual 279, 3) := dk_182 1 23 (dk_at dksX3_finding_0 15 rfl rfl)
theorem dX3_finding_18 : decode cX3_finding 18 = .ok (.ifCond .eq 16, 3) := dk_153 0 16 (dk_at dksX3_finding_0 18 rfl rfl)
theorem dX3_finding_21 : decode cX3_finding 21 = .ok (.aload_n 0, 1) := dk_42 (dk_at dksX3_finding_0 21 rfl rfl)
theorem dX3_finding_22 : decode cX3_finding 22 = .ok (.getfield 36, 3) := dk_180 0 36 (dk_at dksX3_finding_1 0 rfl rfl)
theorem dX3_finding_25 : decode cX3_finding 25 = .ok (.iconst 3, 1) := dk_6 (dk_at dksX3_finding_1 3 rfl rfl)
theorem dX3_finding_26 : decode cX3_finding 26 = .ok (.iload_n 1, 1) := dk_27 (dk_at dksX3_finding_1 4 rfl rfl)
theorem dX3_finding_27 : decode cX3_finding 27 = .ok (.imul, 1) := dk_104 (dk_at dksX3_finding_1 5 rfl rfl)
theorem dX3_finding_28 : decode cX3_finding 28 = .ok (.iload_n 2, 1) := dk_28 (dk_at dksX3_finding_1 6 rfl rfl)
theorem dX3_finding_29 : decode cX3_finding 29 = .ok (.iadd, 1) := dk_96 (dk_at dksX3_finding_1 7 rfl rfl)
theorem dX3_finding_30 : decode cX3_finding 30 = .ok (.iaload, 1) := dk_46 (dk_at dksX3_finding_1 8 rfl rfl)
theorem dX3_finding_31 : decode cX3_finding 31 = .ok (.goto 4, 3) := dk_167 0 4 (dk_at dksX3_finding_1 9 rfl rfl)
theorem dX3_finding_34 : decode cX3_finding 34 = .ok (.iconst 0, 1) := dk_3 (dk_at dksX3_finding_1 12 rfl rfl)
theorem dX3_finding_35 : decode cX3_finding 35 = .ok (.ireturn, 1) := dk_172 (dk_at dksX3_finding_1 13 rfl rfl)
abbrev cX3_goodFinding : ByteArray := prog_26_method_114_code
def yX3_goodFinding : MethodName := ⟨RX3, "goodFinding", "(I)Z"⟩
def dkwX3_goodFinding_0 : List UInt8 := [42, 182, 0, 255, 27, 133, 9, 42, 180, 1, 2, 4, 100, 133, 184, 0, 144, 172]
abbrev dktX3_goodFinding_0 : List UInt8 := dkwX3_goodFinding_0 ++ []
theorem dksX3_goodFinding_0 : cX3_goodFinding.data.toList.drop 0 = dktX3_goodFinding_0 := by decide +kernel
theorem dX3_goodFinding_0 : decode cX3_goodFinding 0 = .ok (.aload_n 0, 1) := dk_42 (dk_at dksX3_goodFinding_0 0 rfl rfl)
theorem dX3_goodFinding_1 : decode cX3_goodFinding 1 = .ok (.invokevirtual 255, 3) := dk_182 0 255 (dk_at dksX3_goodFinding_0 1 rfl rfl)
theorem dX3_goodFinding_4 : decode cX3_goodFinding 4 = .ok (.iload_n 1, 1) := dk_27 (dk_at dksX3_goodFinding_0 4 rfl rfl)
theorem dX3_goodFinding_5 : decode cX3_goodFinding 5 = .ok (.i2l, 1) := dk_133 (dk_at dksX3_goodFinding_0 5 rfl rfl)
theorem dX3_goodFinding_6 : decode cX3_goodFinding 6 = .ok (.lconst 0, 1) := dk_9 (dk_at dksX3_goodFinding_0 6 rfl rfl)
theorem dX3_goodFinding_7 : decode cX3_goodFinding 7 = .ok (.aload_n 0, 1) := dk_42 (dk_at dksX3_goodFinding_0 7 rfl rfl)
theorem dX3_goodFinding_8 : decode cX3_goodFinding 8 = .ok (.getfield 258, 3) := dk_180 1 2 (dk_at dksX3_goodFinding_0 8 rfl rfl)
theorem dX3_goodFinding_11 : decode cX3_goodFinding 11 = .ok (.iconst 1, 1) := dk_4 (dk_at dksX3_goodFinding_0 11 rfl rfl)
theorem dX3_goodFinding_12 : decode cX3_goodFinding 12 = .ok (.isub, 1) := dk_100 (dk_at dksX3_goodFinding_0 12 rfl rfl)
theorem dX3_goodFinding_13 : decode cX3_goodFinding 13 = .ok (.i2l, 1) := dk_133 (dk_at dksX3_goodFinding_0 13 rfl rfl)
theorem dX3_goodFinding_14 : decode cX3_goodFinding 14 = .ok (.invokestatic 144, 3) := dk_184 0 144 (dk_at dksX3_goodFinding_0 14 rfl rfl)
theorem dX3_goodFinding_17 : decode cX3_goodFinding 17 = .ok (.ireturn, 1) := dk_172 (dk_at dksX3_goodFinding_0 17 rfl rfl)
abbrev cX3_findings : ByteArray := prog_26_method_116_code
def yX3_findings : MethodName := ⟨RX3, "findings", "(II)I"⟩
def dkwX3_findings_3 : List UInt8 := [160, 0, 6, 132, 3, 1, 132, 4, 1, 167, 255, 209, 29, 172]
abbrev dktX3_findings_3 : List UInt8 := dkwX3_findings_3 ++ []
def dkwX3_findings_2 : List UInt8 := [104, 46, 28, 160, 0, 25, 42, 42, 180, 0, 36, 6, 21, 4, 104, 4, 96, 46, 182, 1, 13, 27]
abbrev dktX3_findings_2 : List UInt8 := dkwX3_findings_2 ++ dktX3_findings_3
def dkwX3_findings_1 : List UInt8 := [182, 0, 255, 3, 62, 3, 54, 4, 21, 4, 42, 180, 1, 2, 162, 0, 44, 42, 180, 0, 36, 6, 21, 4]
abbrev dktX3_findings_1 : List UInt8 := dkwX3_findings_1 ++ dktX3_findings_2
def dkwX3_findings_0 : List UInt8 := [42, 42, 27, 182, 1, 20, 28, 133, 9, 20, 1, 146, 184, 0, 144, 182, 1, 23, 154, 0, 5, 3, 172, 42]
abbrev dktX3_findings_0 : List UInt8 := dkwX3_findings_0 ++ dktX3_findings_1
theorem dksX3_findings_0 : cX3_findings.data.toList.drop 0 = dktX3_findings_0 := by decide +kernel
theorem dksX3_findings_1 : cX3_findings.data.toList.drop 24 = dktX3_findings_1 := dk_seg dksX3_findings_0 24 rfl rfl
theorem dksX3_findings_2 : cX3_findings.data.toList.drop 48 = dktX3_findings_2 := dk_seg dksX3_findings_1 24 rfl rfl
theorem dksX3_findings_3 : cX3_findings.data.toList.drop 70 = dktX3_findings_3 := dk_seg dksX3_findings_2 22 rfl rfl
theorem dX3_findings_0 : decode cX3_findings 0 = .ok (.aload_n 0, 1) := dk_42 (dk_at dksX3_findings_0 0 rfl rfl)
theorem dX3_findings_1 : decode cX3_findings 1 = .ok (.aload_n 0, 1) := dk_42 (dk_at dksX3_findings_0 1 rfl rfl)
theorem dX3_findings_2 : decode cX3_findings 2 = .ok (.iload_n 1, 1) := dk_27 (dk_at dksX3_findings_0 2 rfl rfl)
theorem dX3_findings_3 : decode cX3_findings 3 = .ok (.invokevirtual 276, 3) := dk_182 1 20 (dk_at dksX3_findings_0 3 rfl rfl)
theorem dX3_findings_6 : decode cX3_findings 6 = .ok (.iload_n 2, 1) := dk_28 (dk_at dksX3_findings_0 6 rfl rfl)
theorem dX3_findings_7 : decode cX3_findings 7 = .ok (.i2l, 1) := dk_133 (dk_at dksX3_findings_0 7 rfl rfl)
theorem dX3_findings_8 : decode cX3_findings 8 = .ok (.lconst 0, 1) := dk_9 (dk_at dksX3_findings_0 8 rfl rfl)
theorem dX3_findings_9 : decode cX3_findings 9 = .ok (.ldc2_w 402, 3) := dk_20 1 146 (dk_at dksX3_findings_0 9 rfl rfl)
theorem dX3_findings_12 : decode cX3_findings 12 = .ok (.invokestatic 144, 3) := dk_184 0 144 (dk_at dksX3_findings_0 12 rfl rfl)
theorem dX3_findings_15 : decode cX3_findings 15 = .ok (.invokevirtual 279, 3) := dk_182 1 23 (dk_at dksX3_findings_0 15 rfl rfl)
theorem dX3_findings_18 : decode cX3_findings 18 = .ok (.ifCond .ne 5, 3) := dk_154 0 5 (dk_at dksX3_findings_0 18 rfl rfl)
theorem dX3_findings_21 : decode cX3_findings 21 = .ok (.iconst 0, 1) := dk_3 (dk_at dksX3_findings_0 21 rfl rfl)
theorem dX3_findings_22 : decode cX3_findings 22 = .ok (.ireturn, 1) := dk_172 (dk_at dksX3_findings_0 22 rfl rfl)
theorem dX3_findings_23 : decode cX3_findings 23 = .ok (.aload_n 0, 1) := dk_42 (dk_at dksX3_findings_0 23 rfl rfl)
theorem dX3_findings_24 : decode cX3_findings 24 = .ok (.invokevirtual 255, 3) := dk_182 0 255 (dk_at dksX3_findings_1 0 rfl rfl)
theorem dX3_findings_27 : decode cX3_findings 27 = .ok (.iconst 0, 1) := dk_3 (dk_at dksX3_findings_1 3 rfl rfl)
theorem dX3_findings_28 : decode cX3_findings 28 = .ok (.istore_n 3, 1) := dk_62 (dk_at dksX3_findings_1 4 rfl rfl)
theorem dX3_findings_29 : decode cX3_findings 29 = .ok (.iconst 0, 1) := dk_3 (dk_at dksX3_findings_1 5 rfl rfl)
theorem dX3_findings_30 : decode cX3_findings 30 = .ok (.istore 4, 2) := dk_54 4 (dk_at dksX3_findings_1 6 rfl rfl)
theorem dX3_findings_32 : decode cX3_findings 32 = .ok (.iload 4, 2) := dk_21 4 (dk_at dksX3_findings_1 8 rfl rfl)
theorem dX3_findings_34 : decode cX3_findings 34 = .ok (.aload_n 0, 1) := dk_42 (dk_at dksX3_findings_1 10 rfl rfl)
theorem dX3_findings_35 : decode cX3_findings 35 = .ok (.getfield 258, 3) := dk_180 1 2 (dk_at dksX3_findings_1 11 rfl rfl)
theorem dX3_findings_38 : decode cX3_findings 38 = .ok (.if_icmp .ge 44, 3) := dk_162 0 44 (dk_at dksX3_findings_1 14 rfl rfl)
theorem dX3_findings_41 : decode cX3_findings 41 = .ok (.aload_n 0, 1) := dk_42 (dk_at dksX3_findings_1 17 rfl rfl)
theorem dX3_findings_42 : decode cX3_findings 42 = .ok (.getfield 36, 3) := dk_180 0 36 (dk_at dksX3_findings_1 18 rfl rfl)
theorem dX3_findings_45 : decode cX3_findings 45 = .ok (.iconst 3, 1) := dk_6 (dk_at dksX3_findings_1 21 rfl rfl)
theorem dX3_findings_46 : decode cX3_findings 46 = .ok (.iload 4, 2) := dk_21 4 (dk_at dksX3_findings_1 22 rfl rfl)
theorem dX3_findings_48 : decode cX3_findings 48 = .ok (.imul, 1) := dk_104 (dk_at dksX3_findings_2 0 rfl rfl)
theorem dX3_findings_49 : decode cX3_findings 49 = .ok (.iaload, 1) := dk_46 (dk_at dksX3_findings_2 1 rfl rfl)
theorem dX3_findings_50 : decode cX3_findings 50 = .ok (.iload_n 2, 1) := dk_28 (dk_at dksX3_findings_2 2 rfl rfl)
theorem dX3_findings_51 : decode cX3_findings 51 = .ok (.if_icmp .ne 25, 3) := dk_160 0 25 (dk_at dksX3_findings_2 3 rfl rfl)
theorem dX3_findings_54 : decode cX3_findings 54 = .ok (.aload_n 0, 1) := dk_42 (dk_at dksX3_findings_2 6 rfl rfl)
theorem dX3_findings_55 : decode cX3_findings 55 = .ok (.aload_n 0, 1) := dk_42 (dk_at dksX3_findings_2 7 rfl rfl)
theorem dX3_findings_56 : decode cX3_findings 56 = .ok (.getfield 36, 3) := dk_180 0 36 (dk_at dksX3_findings_2 8 rfl rfl)
theorem dX3_findings_59 : decode cX3_findings 59 = .ok (.iconst 3, 1) := dk_6 (dk_at dksX3_findings_2 11 rfl rfl)
theorem dX3_findings_60 : decode cX3_findings 60 = .ok (.iload 4, 2) := dk_21 4 (dk_at dksX3_findings_2 12 rfl rfl)
theorem dX3_findings_62 : decode cX3_findings 62 = .ok (.imul, 1) := dk_104 (dk_at dksX3_findings_2 14 rfl rfl)
theorem dX3_findings_63 : decode cX3_findings 63 = .ok (.iconst 1, 1) := dk_4 (dk_at dksX3_findings_2 15 rfl rfl)
theorem dX3_findings_64 : decode cX3_findings 64 = .ok (.iadd, 1) := dk_96 (dk_at dksX3_findings_2 16 rfl rfl)
theorem dX3_findings_65 : decode cX3_findings 65 = .ok (.iaload, 1) := dk_46 (dk_at dksX3_findings_2 17 rfl rfl)
theorem dX3_findings_66 : decode cX3_findings 66 = .ok (.invokevirtual 269, 3) := dk_182 1 13 (dk_at dksX3_findings_2 18 rfl rfl)
theorem dX3_findings_69 : decode cX3_findings 69 = .ok (.iload_n 1, 1) := dk_27 (dk_at dksX3_findings_2 21 rfl rfl)
theorem dX3_findings_70 : decode cX3_findings 70 = .ok (.if_icmp .ne 6, 3) := dk_160 0 6 (dk_at dksX3_findings_3 0 rfl rfl)
theorem dX3_findings_73 : decode cX3_findings 73 = .ok (.iinc 3 1, 3) := dk_132 3 1 (dk_at dksX3_findings_3 3 rfl rfl)
theorem dX3_findings_76 : decode cX3_findings 76 = .ok (.iinc 4 1, 3) := dk_132 4 1 (dk_at dksX3_findings_3 6 rfl rfl)
theorem dX3_findings_79 : decode cX3_findings 79 = .ok (.goto (-47), 3) := dk_167 255 209 (dk_at dksX3_findings_3 9 rfl rfl)
theorem dX3_findings_82 : decode cX3_findings 82 = .ok (.iload_n 3, 1) := dk_29 (dk_at dksX3_findings_3 12 rfl rfl)
theorem dX3_findings_83 : decode cX3_findings 83 = .ok (.ireturn, 1) := dk_172 (dk_at dksX3_findings_3 13 rfl rfl)
abbrev cX3_clean : ByteArray := prog_26_method_117_code
def yX3_clean : MethodName := ⟨RX3, "clean", "(I)I"⟩
def dkwX3_clean_3 : List UInt8 := [181, 0, 48, 28, 172, 132, 2, 1, 167, 255, 189, 42, 4, 181, 0, 48, 3, 172]
abbrev dktX3_clean_3 : List UInt8 := dkwX3_clean_3 ++ []
def dkwX3_clean_2 : List UInt8 := [28, 159, 0, 7, 4, 167, 0, 4, 3, 62, 132, 4, 1, 167, 255, 219, 29, 153, 0, 10, 42, 3]
abbrev dktX3_clean_2 : List UInt8 := dkwX3_clean_2 ++ dktX3_clean_3
def dkwX3_clean_1 : List UInt8 := [21, 4, 42, 180, 1, 2, 162, 0, 34, 29, 153, 0, 22, 42, 180, 0, 36, 6, 21, 4, 104, 4, 96, 46]
abbrev dktX3_clean_1 : List UInt8 := dkwX3_clean_1 ++ dktX3_clean_2
def dkwX3_clean_0 : List UInt8 := [42, 182, 0, 255, 3, 27, 184, 1, 52, 61, 28, 42, 182, 0, 252, 162, 0, 65, 4, 62, 3, 54, 4]
abbrev dktX3_clean_0 : List UInt8 := dkwX3_clean_0 ++ dktX3_clean_1
theorem dksX3_clean_0 : cX3_clean.data.toList.drop 0 = dktX3_clean_0 := by decide +kernel
theorem dksX3_clean_1 : cX3_clean.data.toList.drop 23 = dktX3_clean_1 := dk_seg dksX3_clean_0 23 rfl rfl
theorem dksX3_clean_2 : cX3_clean.data.toList.drop 47 = dktX3_clean_2 := dk_seg dksX3_clean_1 24 rfl rfl
theorem dksX3_clean_3 : cX3_clean.data.toList.drop 69 = dktX3_clean_3 := dk_seg dksX3_clean_2 22 rfl rfl
theorem dX3_clean_0 : decode cX3_clean 0 = .ok (.aload_n 0, 1) := dk_42 (dk_at dksX3_clean_0 0 rfl rfl)
theorem dX3_clean_1 : decode cX3_clean 1 = .ok (.invokevirtual 255, 3) := dk_182 0 255 (dk_at dksX3_clean_0 1 rfl rfl)
theorem dX3_clean_4 : decode cX3_clean 4 = .ok (.iconst 0, 1) := dk_3 (dk_at dksX3_clean_0 4 rfl rfl)
theorem dX3_clean_5 : decode cX3_clean 5 = .ok (.iload_n 1, 1) := dk_27 (dk_at dksX3_clean_0 5 rfl rfl)
theorem dX3_clean_6 : decode cX3_clean 6 = .ok (.invokestatic 308, 3) := dk_184 1 52 (dk_at dksX3_clean_0 6 rfl rfl)
theorem dX3_clean_9 : decode cX3_clean 9 = .ok (.istore_n 2, 1) := dk_61 (dk_at dksX3_clean_0 9 rfl rfl)
theorem dX3_clean_10 : decode cX3_clean 10 = .ok (.iload_n 2, 1) := dk_28 (dk_at dksX3_clean_0 10 rfl rfl)
theorem dX3_clean_11 : decode cX3_clean 11 = .ok (.aload_n 0, 1) := dk_42 (dk_at dksX3_clean_0 11 rfl rfl)
theorem dX3_clean_12 : decode cX3_clean 12 = .ok (.invokevirtual 252, 3) := dk_182 0 252 (dk_at dksX3_clean_0 12 rfl rfl)
theorem dX3_clean_15 : decode cX3_clean 15 = .ok (.if_icmp .ge 65, 3) := dk_162 0 65 (dk_at dksX3_clean_0 15 rfl rfl)
theorem dX3_clean_18 : decode cX3_clean 18 = .ok (.iconst 1, 1) := dk_4 (dk_at dksX3_clean_0 18 rfl rfl)
theorem dX3_clean_19 : decode cX3_clean 19 = .ok (.istore_n 3, 1) := dk_62 (dk_at dksX3_clean_0 19 rfl rfl)
theorem dX3_clean_20 : decode cX3_clean 20 = .ok (.iconst 0, 1) := dk_3 (dk_at dksX3_clean_0 20 rfl rfl)
theorem dX3_clean_21 : decode cX3_clean 21 = .ok (.istore 4, 2) := dk_54 4 (dk_at dksX3_clean_0 21 rfl rfl)
theorem dX3_clean_23 : decode cX3_clean 23 = .ok (.iload 4, 2) := dk_21 4 (dk_at dksX3_clean_1 0 rfl rfl)
theorem dX3_clean_25 : decode cX3_clean 25 = .ok (.aload_n 0, 1) := dk_42 (dk_at dksX3_clean_1 2 rfl rfl)
theorem dX3_clean_26 : decode cX3_clean 26 = .ok (.getfield 258, 3) := dk_180 1 2 (dk_at dksX3_clean_1 3 rfl rfl)
theorem dX3_clean_29 : decode cX3_clean 29 = .ok (.if_icmp .ge 34, 3) := dk_162 0 34 (dk_at dksX3_clean_1 6 rfl rfl)
theorem dX3_clean_32 : decode cX3_clean 32 = .ok (.iload_n 3, 1) := dk_29 (dk_at dksX3_clean_1 9 rfl rfl)
theorem dX3_clean_33 : decode cX3_clean 33 = .ok (.ifCond .eq 22, 3) := dk_153 0 22 (dk_at dksX3_clean_1 10 rfl rfl)
theorem dX3_clean_36 : decode cX3_clean 36 = .ok (.aload_n 0, 1) := dk_42 (dk_at dksX3_clean_1 13 rfl rfl)
theorem dX3_clean_37 : decode cX3_clean 37 = .ok (.getfield 36, 3) := dk_180 0 36 (dk_at dksX3_clean_1 14 rfl rfl)
theorem dX3_clean_40 : decode cX3_clean 40 = .ok (.iconst 3, 1) := dk_6 (dk_at dksX3_clean_1 17 rfl rfl)
theorem dX3_clean_41 : decode cX3_clean 41 = .ok (.iload 4, 2) := dk_21 4 (dk_at dksX3_clean_1 18 rfl rfl)
theorem dX3_clean_43 : decode cX3_clean 43 = .ok (.imul, 1) := dk_104 (dk_at dksX3_clean_1 20 rfl rfl)
theorem dX3_clean_44 : decode cX3_clean 44 = .ok (.iconst 1, 1) := dk_4 (dk_at dksX3_clean_1 21 rfl rfl)
theorem dX3_clean_45 : decode cX3_clean 45 = .ok (.iadd, 1) := dk_96 (dk_at dksX3_clean_1 22 rfl rfl)
theorem dX3_clean_46 : decode cX3_clean 46 = .ok (.iaload, 1) := dk_46 (dk_at dksX3_clean_1 23 rfl rfl)
theorem dX3_clean_47 : decode cX3_clean 47 = .ok (.iload_n 2, 1) := dk_28 (dk_at dksX3_clean_2 0 rfl rfl)
theorem dX3_clean_48 : decode cX3_clean 48 = .ok (.if_icmp .eq 7, 3) := dk_159 0 7 (dk_at dksX3_clean_2 1 rfl rfl)
theorem dX3_clean_51 : decode cX3_clean 51 = .ok (.iconst 1, 1) := dk_4 (dk_at dksX3_clean_2 4 rfl rfl)
theorem dX3_clean_52 : decode cX3_clean 52 = .ok (.goto 4, 3) := dk_167 0 4 (dk_at dksX3_clean_2 5 rfl rfl)
theorem dX3_clean_55 : decode cX3_clean 55 = .ok (.iconst 0, 1) := dk_3 (dk_at dksX3_clean_2 8 rfl rfl)
theorem dX3_clean_56 : decode cX3_clean 56 = .ok (.istore_n 3, 1) := dk_62 (dk_at dksX3_clean_2 9 rfl rfl)
theorem dX3_clean_57 : decode cX3_clean 57 = .ok (.iinc 4 1, 3) := dk_132 4 1 (dk_at dksX3_clean_2 10 rfl rfl)
theorem dX3_clean_60 : decode cX3_clean 60 = .ok (.goto (-37), 3) := dk_167 255 219 (dk_at dksX3_clean_2 13 rfl rfl)
theorem dX3_clean_63 : decode cX3_clean 63 = .ok (.iload_n 3, 1) := dk_29 (dk_at dksX3_clean_2 16 rfl rfl)
theorem dX3_clean_64 : decode cX3_clean 64 = .ok (.ifCond .eq 10, 3) := dk_153 0 10 (dk_at dksX3_clean_2 17 rfl rfl)
theorem dX3_clean_67 : decode cX3_clean 67 = .ok (.aload_n 0, 1) := dk_42 (dk_at dksX3_clean_2 20 rfl rfl)
theorem dX3_clean_68 : decode cX3_clean 68 = .ok (.iconst 0, 1) := dk_3 (dk_at dksX3_clean_2 21 rfl rfl)
theorem dX3_clean_69 : decode cX3_clean 69 = .ok (.putfield 48, 3) := dk_181 0 48 (dk_at dksX3_clean_3 0 rfl rfl)
theorem dX3_clean_72 : decode cX3_clean 72 = .ok (.iload_n 2, 1) := dk_28 (dk_at dksX3_clean_3 3 rfl rfl)
theorem dX3_clean_73 : decode cX3_clean 73 = .ok (.ireturn, 1) := dk_172 (dk_at dksX3_clean_3 4 rfl rfl)
theorem dX3_clean_74 : decode cX3_clean 74 = .ok (.iinc 2 1, 3) := dk_132 2 1 (dk_at dksX3_clean_3 5 rfl rfl)
theorem dX3_clean_77 : decode cX3_clean 77 = .ok (.goto (-67), 3) := dk_167 255 189 (dk_at dksX3_clean_3 8 rfl rfl)
theorem dX3_clean_80 : decode cX3_clean 80 = .ok (.aload_n 0, 1) := dk_42 (dk_at dksX3_clean_3 11 rfl rfl)
theorem dX3_clean_81 : decode cX3_clean 81 = .ok (.iconst 1, 1) := dk_4 (dk_at dksX3_clean_3 12 rfl rfl)
theorem dX3_clean_82 : decode cX3_clean 82 = .ok (.putfield 48, 3) := dk_181 0 48 (dk_at dksX3_clean_3 13 rfl rfl)
theorem dX3_clean_85 : decode cX3_clean 85 = .ok (.iconst 0, 1) := dk_3 (dk_at dksX3_clean_3 16 rfl rfl)
theorem dX3_clean_86 : decode cX3_clean 86 = .ok (.ireturn, 1) := dk_172 (dk_at dksX3_clean_3 17 rfl rfl)
abbrev cX3_without : ByteArray := prog_26_method_119_code
def yX3_without : MethodName := ⟨RX3, "without", "(I)I"⟩
def dkwX3_without_1 : List UInt8 := [27, 182, 1, 148, 42, 182, 1, 97, 62, 42, 182, 0, 237, 29, 28, 100, 172]
abbrev dktX3_without_1 : List UInt8 := dkwX3_without_1 ++ []
def dkwX3_without_0 : List UInt8 := [42, 42, 27, 182, 1, 36, 182, 0, 240, 154, 0, 5, 3, 172, 42, 182, 1, 97, 61, 42, 182, 0, 243, 42]
abbrev dktX3_without_0 : List UInt8 := dkwX3_without_0 ++ dktX3_without_1
theorem dksX3_without_0 : cX3_without.data.toList.drop 0 = dktX3_without_0 := by decide +kernel
theorem dksX3_without_1 : cX3_without.data.toList.drop 24 = dktX3_without_1 := dk_seg dksX3_without_0 24 rfl rfl
theorem dX3_without_0 : decode cX3_without 0 = .ok (.aload_n 0, 1) := dk_42 (dk_at dksX3_without_0 0 rfl rfl)
theorem dX3_without_1 : decode cX3_without 1 = .ok (.aload_n 0, 1) := dk_42 (dk_at dksX3_without_0 1 rfl rfl)
theorem dX3_without_2 : decode cX3_without 2 = .ok (.iload_n 1, 1) := dk_27 (dk_at dksX3_without_0 2 rfl rfl)
theorem dX3_without_3 : decode cX3_without 3 = .ok (.invokevirtual 292, 3) := dk_182 1 36 (dk_at dksX3_without_0 3 rfl rfl)
theorem dX3_without_6 : decode cX3_without 6 = .ok (.invokevirtual 240, 3) := dk_182 0 240 (dk_at dksX3_without_0 6 rfl rfl)
theorem dX3_without_9 : decode cX3_without 9 = .ok (.ifCond .ne 5, 3) := dk_154 0 5 (dk_at dksX3_without_0 9 rfl rfl)
theorem dX3_without_12 : decode cX3_without 12 = .ok (.iconst 0, 1) := dk_3 (dk_at dksX3_without_0 12 rfl rfl)
theorem dX3_without_13 : decode cX3_without 13 = .ok (.ireturn, 1) := dk_172 (dk_at dksX3_without_0 13 rfl rfl)
theorem dX3_without_14 : decode cX3_without 14 = .ok (.aload_n 0, 1) := dk_42 (dk_at dksX3_without_0 14 rfl rfl)
theorem dX3_without_15 : decode cX3_without 15 = .ok (.invokevirtual 353, 3) := dk_182 1 97 (dk_at dksX3_without_0 15 rfl rfl)
theorem dX3_without_18 : decode cX3_without 18 = .ok (.istore_n 2, 1) := dk_61 (dk_at dksX3_without_0 18 rfl rfl)
theorem dX3_without_19 : decode cX3_without 19 = .ok (.aload_n 0, 1) := dk_42 (dk_at dksX3_without_0 19 rfl rfl)
theorem dX3_without_20 : decode cX3_without 20 = .ok (.invokevirtual 243, 3) := dk_182 0 243 (dk_at dksX3_without_0 20 rfl rfl)
theorem dX3_without_23 : decode cX3_without 23 = .ok (.aload_n 0, 1) := dk_42 (dk_at dksX3_without_0 23 rfl rfl)
theorem dX3_without_24 : decode cX3_without 24 = .ok (.iload_n 1, 1) := dk_27 (dk_at dksX3_without_1 0 rfl rfl)
theorem dX3_without_25 : decode cX3_without 25 = .ok (.invokevirtual 404, 3) := dk_182 1 148 (dk_at dksX3_without_1 1 rfl rfl)
theorem dX3_without_28 : decode cX3_without 28 = .ok (.aload_n 0, 1) := dk_42 (dk_at dksX3_without_1 4 rfl rfl)
theorem dX3_without_29 : decode cX3_without 29 = .ok (.invokevirtual 353, 3) := dk_182 1 97 (dk_at dksX3_without_1 5 rfl rfl)
theorem dX3_without_32 : decode cX3_without 32 = .ok (.istore_n 3, 1) := dk_62 (dk_at dksX3_without_1 8 rfl rfl)
theorem dX3_without_33 : decode cX3_without 33 = .ok (.aload_n 0, 1) := dk_42 (dk_at dksX3_without_1 9 rfl rfl)
theorem dX3_without_34 : decode cX3_without 34 = .ok (.invokevirtual 237, 3) := dk_182 0 237 (dk_at dksX3_without_1 10 rfl rfl)
theorem dX3_without_37 : decode cX3_without 37 = .ok (.iload_n 3, 1) := dk_29 (dk_at dksX3_without_1 13 rfl rfl)
theorem dX3_without_38 : decode cX3_without 38 = .ok (.iload_n 2, 1) := dk_28 (dk_at dksX3_without_1 14 rfl rfl)
theorem dX3_without_39 : decode cX3_without 39 = .ok (.isub, 1) := dk_100 (dk_at dksX3_without_1 15 rfl rfl)
theorem dX3_without_40 : decode cX3_without 40 = .ok (.ireturn, 1) := dk_172 (dk_at dksX3_without_1 16 rfl rfl)
abbrev cX3_closes : ByteArray := prog_26_method_118_code
def yX3_closes : MethodName := ⟨RX3, "closes", "(I)V"⟩
def dkwX3_closes_3 : List UInt8 := [182, 0, 252, 104, 96, 28, 96, 9, 80, 132, 2, 1, 167, 255, 229, 177]
abbrev dktX3_closes_3 : List UInt8 := dkwX3_closes_3 ++ []
def dkwX3_closes_2 : List UInt8 := [132, 2, 1, 167, 255, 224, 3, 61, 28, 16, 19, 162, 0, 27, 42, 180, 0, 7, 16, 67, 16, 19, 42]
abbrev dktX3_closes_2 : List UInt8 := dkwX3_closes_2 ++ dktX3_closes_3
def dkwX3_closes_1 : List UInt8 := [42, 182, 0, 252, 104, 96, 162, 0, 24, 42, 180, 0, 7, 28, 42, 180, 0, 7, 28, 16, 19, 96, 47, 80]
abbrev dktX3_closes_1 : List UInt8 := dkwX3_closes_1 ++ dktX3_closes_2
def dkwX3_closes_0 : List UInt8 := [42, 180, 0, 7, 16, 66, 92, 47, 10, 101, 80, 16, 67, 16, 19, 27, 104, 96, 61, 28, 16, 67, 16, 19]
abbrev dktX3_closes_0 : List UInt8 := dkwX3_closes_0 ++ dktX3_closes_1
theorem dksX3_closes_0 : cX3_closes.data.toList.drop 0 = dktX3_closes_0 := by decide +kernel
theorem dksX3_closes_1 : cX3_closes.data.toList.drop 24 = dktX3_closes_1 := dk_seg dksX3_closes_0 24 rfl rfl
theorem dksX3_closes_2 : cX3_closes.data.toList.drop 48 = dktX3_closes_2 := dk_seg dksX3_closes_1 24 rfl rfl
theorem dksX3_closes_3 : cX3_closes.data.toList.drop 71 = dktX3_closes_3 := dk_seg dksX3_closes_2 23 rfl rfl
theorem dX3_closes_0 : decode cX3_closes 0 = .ok (.aload_n 0, 1) := dk_42 (dk_at dksX3_closes_0 0 rfl rfl)
theorem dX3_closes_1 : decode cX3_closes 1 = .ok (.getfield 7, 3) := dk_180 0 7 (dk_at dksX3_closes_0 1 rfl rfl)
theorem dX3_closes_4 : decode cX3_closes 4 = .ok (.bipush 66, 2) := dk_16 66 (dk_at dksX3_closes_0 4 rfl rfl)
theorem dX3_closes_6 : decode cX3_closes 6 = .ok (.dup2, 1) := dk_92 (dk_at dksX3_closes_0 6 rfl rfl)
theorem dX3_closes_7 : decode cX3_closes 7 = .ok (.laload, 1) := dk_47 (dk_at dksX3_closes_0 7 rfl rfl)
theorem dX3_closes_8 : decode cX3_closes 8 = .ok (.lconst 1, 1) := dk_10 (dk_at dksX3_closes_0 8 rfl rfl)
theorem dX3_closes_9 : decode cX3_closes 9 = .ok (.lsub, 1) := dk_101 (dk_at dksX3_closes_0 9 rfl rfl)
theorem dX3_closes_10 : decode cX3_closes 10 = .ok (.lastore, 1) := dk_80 (dk_at dksX3_closes_0 10 rfl rfl)
theorem dX3_closes_11 : decode cX3_closes 11 = .ok (.bipush 67, 2) := dk_16 67 (dk_at dksX3_closes_0 11 rfl rfl)
theorem dX3_closes_13 : decode cX3_closes 13 = .ok (.bipush 19, 2) := dk_16 19 (dk_at dksX3_closes_0 13 rfl rfl)
theorem dX3_closes_15 : decode cX3_closes 15 = .ok (.iload_n 1, 1) := dk_27 (dk_at dksX3_closes_0 15 rfl rfl)
theorem dX3_closes_16 : decode cX3_closes 16 = .ok (.imul, 1) := dk_104 (dk_at dksX3_closes_0 16 rfl rfl)
theorem dX3_closes_17 : decode cX3_closes 17 = .ok (.iadd, 1) := dk_96 (dk_at dksX3_closes_0 17 rfl rfl)
theorem dX3_closes_18 : decode cX3_closes 18 = .ok (.istore_n 2, 1) := dk_61 (dk_at dksX3_closes_0 18 rfl rfl)
theorem dX3_closes_19 : decode cX3_closes 19 = .ok (.iload_n 2, 1) := dk_28 (dk_at dksX3_closes_0 19 rfl rfl)
theorem dX3_closes_20 : decode cX3_closes 20 = .ok (.bipush 67, 2) := dk_16 67 (dk_at dksX3_closes_0 20 rfl rfl)
theorem dX3_closes_22 : decode cX3_closes 22 = .ok (.bipush 19, 2) := dk_16 19 (dk_at dksX3_closes_0 22 rfl rfl)
theorem dX3_closes_24 : decode cX3_closes 24 = .ok (.aload_n 0, 1) := dk_42 (dk_at dksX3_closes_1 0 rfl rfl)
theorem dX3_closes_25 : decode cX3_closes 25 = .ok (.invokevirtual 252, 3) := dk_182 0 252 (dk_at dksX3_closes_1 1 rfl rfl)
theorem dX3_closes_28 : decode cX3_closes 28 = .ok (.imul, 1) := dk_104 (dk_at dksX3_closes_1 4 rfl rfl)
theorem dX3_closes_29 : decode cX3_closes 29 = .ok (.iadd, 1) := dk_96 (dk_at dksX3_closes_1 5 rfl rfl)
theorem dX3_closes_30 : decode cX3_closes 30 = .ok (.if_icmp .ge 24, 3) := dk_162 0 24 (dk_at dksX3_closes_1 6 rfl rfl)
theorem dX3_closes_33 : decode cX3_closes 33 = .ok (.aload_n 0, 1) := dk_42 (dk_at dksX3_closes_1 9 rfl rfl)
theorem dX3_closes_34 : decode cX3_closes 34 = .ok (.getfield 7, 3) := dk_180 0 7 (dk_at dksX3_closes_1 10 rfl rfl)
theorem dX3_closes_37 : decode cX3_closes 37 = .ok (.iload_n 2, 1) := dk_28 (dk_at dksX3_closes_1 13 rfl rfl)
theorem dX3_closes_38 : decode cX3_closes 38 = .ok (.aload_n 0, 1) := dk_42 (dk_at dksX3_closes_1 14 rfl rfl)
theorem dX3_closes_39 : decode cX3_closes 39 = .ok (.getfield 7, 3) := dk_180 0 7 (dk_at dksX3_closes_1 15 rfl rfl)
theorem dX3_closes_42 : decode cX3_closes 42 = .ok (.iload_n 2, 1) := dk_28 (dk_at dksX3_closes_1 18 rfl rfl)
theorem dX3_closes_43 : decode cX3_closes 43 = .ok (.bipush 19, 2) := dk_16 19 (dk_at dksX3_closes_1 19 rfl rfl)
theorem dX3_closes_45 : decode cX3_closes 45 = .ok (.iadd, 1) := dk_96 (dk_at dksX3_closes_1 21 rfl rfl)
theorem dX3_closes_46 : decode cX3_closes 46 = .ok (.laload, 1) := dk_47 (dk_at dksX3_closes_1 22 rfl rfl)
theorem dX3_closes_47 : decode cX3_closes 47 = .ok (.lastore, 1) := dk_80 (dk_at dksX3_closes_1 23 rfl rfl)
theorem dX3_closes_48 : decode cX3_closes 48 = .ok (.iinc 2 1, 3) := dk_132 2 1 (dk_at dksX3_closes_2 0 rfl rfl)
theorem dX3_closes_51 : decode cX3_closes 51 = .ok (.goto (-32), 3) := dk_167 255 224 (dk_at dksX3_closes_2 3 rfl rfl)
theorem dX3_closes_54 : decode cX3_closes 54 = .ok (.iconst 0, 1) := dk_3 (dk_at dksX3_closes_2 6 rfl rfl)
theorem dX3_closes_55 : decode cX3_closes 55 = .ok (.istore_n 2, 1) := dk_61 (dk_at dksX3_closes_2 7 rfl rfl)
theorem dX3_closes_56 : decode cX3_closes 56 = .ok (.iload_n 2, 1) := dk_28 (dk_at dksX3_closes_2 8 rfl rfl)
theorem dX3_closes_57 : decode cX3_closes 57 = .ok (.bipush 19, 2) := dk_16 19 (dk_at dksX3_closes_2 9 rfl rfl)
theorem dX3_closes_59 : decode cX3_closes 59 = .ok (.if_icmp .ge 27, 3) := dk_162 0 27 (dk_at dksX3_closes_2 11 rfl rfl)
theorem dX3_closes_62 : decode cX3_closes 62 = .ok (.aload_n 0, 1) := dk_42 (dk_at dksX3_closes_2 14 rfl rfl)
theorem dX3_closes_63 : decode cX3_closes 63 = .ok (.getfield 7, 3) := dk_180 0 7 (dk_at dksX3_closes_2 15 rfl rfl)
theorem dX3_closes_66 : decode cX3_closes 66 = .ok (.bipush 67, 2) := dk_16 67 (dk_at dksX3_closes_2 18 rfl rfl)
theorem dX3_closes_68 : decode cX3_closes 68 = .ok (.bipush 19, 2) := dk_16 19 (dk_at dksX3_closes_2 20 rfl rfl)
theorem dX3_closes_70 : decode cX3_closes 70 = .ok (.aload_n 0, 1) := dk_42 (dk_at dksX3_closes_2 22 rfl rfl)
theorem dX3_closes_71 : decode cX3_closes 71 = .ok (.invokevirtual 252, 3) := dk_182 0 252 (dk_at dksX3_closes_3 0 rfl rfl)
theorem dX3_closes_74 : decode cX3_closes 74 = .ok (.imul, 1) := dk_104 (dk_at dksX3_closes_3 3 rfl rfl)
theorem dX3_closes_75 : decode cX3_closes 75 = .ok (.iadd, 1) := dk_96 (dk_at dksX3_closes_3 4 rfl rfl)
theorem dX3_closes_76 : decode cX3_closes 76 = .ok (.iload_n 2, 1) := dk_28 (dk_at dksX3_closes_3 5 rfl rfl)
theorem dX3_closes_77 : decode cX3_closes 77 = .ok (.iadd, 1) := dk_96 (dk_at dksX3_closes_3 6 rfl rfl)
theorem dX3_closes_78 : decode cX3_closes 78 = .ok (.lconst 0, 1) := dk_9 (dk_at dksX3_closes_3 7 rfl rfl)
theorem dX3_closes_79 : decode cX3_closes 79 = .ok (.lastore, 1) := dk_80 (dk_at dksX3_closes_3 8 rfl rfl)
theorem dX3_closes_80 : decode cX3_closes 80 = .ok (.iinc 2 1, 3) := dk_132 2 1 (dk_at dksX3_closes_3 9 rfl rfl)
theorem dX3_closes_83 : decode cX3_closes 83 = .ok (.goto (-27), 3) := dk_167 255 229 (dk_at dksX3_closes_3 12 rfl rfl)
theorem dX3_closes_86 : decode cX3_closes 86 = .ok (.return_, 1) := dk_177 (dk_at dksX3_closes_3 15 rfl rfl)
abbrev cX3_alone : ByteArray := prog_26_method_120_code
def yX3_alone : MethodName := ⟨RX3, "alone", "(I)I"⟩
def dkwX3_alone_2 : List UInt8 := [167, 255, 235, 42, 27, 182, 1, 82, 61, 42, 182, 0, 237, 28, 172]
abbrev dktX3_alone_2 : List UInt8 := dkwX3_alone_2 ++ []
def dkwX3_alone_1 : List UInt8 := [61, 28, 155, 0, 23, 42, 28, 182, 1, 13, 27, 159, 0, 8, 42, 28, 182, 1, 148, 132, 2, 255]
abbrev dktX3_alone_1 : List UInt8 := dkwX3_alone_1 ++ dktX3_alone_2
def dkwX3_alone_0 : List UInt8 := [42, 42, 27, 182, 1, 20, 182, 0, 240, 154, 0, 5, 3, 172, 42, 182, 0, 243, 42, 182, 0, 252, 4, 100]
abbrev dktX3_alone_0 : List UInt8 := dkwX3_alone_0 ++ dktX3_alone_1
theorem dksX3_alone_0 : cX3_alone.data.toList.drop 0 = dktX3_alone_0 := by decide +kernel
theorem dksX3_alone_1 : cX3_alone.data.toList.drop 24 = dktX3_alone_1 := dk_seg dksX3_alone_0 24 rfl rfl
theorem dksX3_alone_2 : cX3_alone.data.toList.drop 46 = dktX3_alone_2 := dk_seg dksX3_alone_1 22 rfl rfl
theorem dX3_alone_0 : decode cX3_alone 0 = .ok (.aload_n 0, 1) := dk_42 (dk_at dksX3_alone_0 0 rfl rfl)
theorem dX3_alone_1 : decode cX3_alone 1 = .ok (.aload_n 0, 1) := dk_42 (dk_at dksX3_alone_0 1 rfl rfl)
theorem dX3_alone_2 : decode cX3_alone 2 = .ok (.iload_n 1, 1) := dk_27 (dk_at dksX3_alone_0 2 rfl rfl)
theorem dX3_alone_3 : decode cX3_alone 3 = .ok (.invokevirtual 276, 3) := dk_182 1 20 (dk_at dksX3_alone_0 3 rfl rfl)
theorem dX3_alone_6 : decode cX3_alone 6 = .ok (.invokevirtual 240, 3) := dk_182 0 240 (dk_at dksX3_alone_0 6 rfl rfl)
theorem dX3_alone_9 : decode cX3_alone 9 = .ok (.ifCond .ne 5, 3) := dk_154 0 5 (dk_at dksX3_alone_0 9 rfl rfl)
theorem dX3_alone_12 : decode cX3_alone 12 = .ok (.iconst 0, 1) := dk_3 (dk_at dksX3_alone_0 12 rfl rfl)
theorem dX3_alone_13 : decode cX3_alone 13 = .ok (.ireturn, 1) := dk_172 (dk_at dksX3_alone_0 13 rfl rfl)
theorem dX3_alone_14 : decode cX3_alone 14 = .ok (.aload_n 0, 1) := dk_42 (dk_at dksX3_alone_0 14 rfl rfl)
theorem dX3_alone_15 : decode cX3_alone 15 = .ok (.invokevirtual 243, 3) := dk_182 0 243 (dk_at dksX3_alone_0 15 rfl rfl)
theorem dX3_alone_18 : decode cX3_alone 18 = .ok (.aload_n 0, 1) := dk_42 (dk_at dksX3_alone_0 18 rfl rfl)
theorem dX3_alone_19 : decode cX3_alone 19 = .ok (.invokevirtual 252, 3) := dk_182 0 252 (dk_at dksX3_alone_0 19 rfl rfl)
theorem dX3_alone_22 : decode cX3_alone 22 = .ok (.iconst 1, 1) := dk_4 (dk_at dksX3_alone_0 22 rfl rfl)
theorem dX3_alone_23 : decode cX3_alone 23 = .ok (.isub, 1) := dk_100 (dk_at dksX3_alone_0 23 rfl rfl)
theorem dX3_alone_24 : decode cX3_alone 24 = .ok (.istore_n 2, 1) := dk_61 (dk_at dksX3_alone_1 0 rfl rfl)
theorem dX3_alone_25 : decode cX3_alone 25 = .ok (.iload_n 2, 1) := dk_28 (dk_at dksX3_alone_1 1 rfl rfl)
theorem dX3_alone_26 : decode cX3_alone 26 = .ok (.ifCond .lt 23, 3) := dk_155 0 23 (dk_at dksX3_alone_1 2 rfl rfl)
theorem dX3_alone_29 : decode cX3_alone 29 = .ok (.aload_n 0, 1) := dk_42 (dk_at dksX3_alone_1 5 rfl rfl)
theorem dX3_alone_30 : decode cX3_alone 30 = .ok (.iload_n 2, 1) := dk_28 (dk_at dksX3_alone_1 6 rfl rfl)
theorem dX3_alone_31 : decode cX3_alone 31 = .ok (.invokevirtual 269, 3) := dk_182 1 13 (dk_at dksX3_alone_1 7 rfl rfl)
theorem dX3_alone_34 : decode cX3_alone 34 = .ok (.iload_n 1, 1) := dk_27 (dk_at dksX3_alone_1 10 rfl rfl)
theorem dX3_alone_35 : decode cX3_alone 35 = .ok (.if_icmp .eq 8, 3) := dk_159 0 8 (dk_at dksX3_alone_1 11 rfl rfl)
theorem dX3_alone_38 : decode cX3_alone 38 = .ok (.aload_n 0, 1) := dk_42 (dk_at dksX3_alone_1 14 rfl rfl)
theorem dX3_alone_39 : decode cX3_alone 39 = .ok (.iload_n 2, 1) := dk_28 (dk_at dksX3_alone_1 15 rfl rfl)
theorem dX3_alone_40 : decode cX3_alone 40 = .ok (.invokevirtual 404, 3) := dk_182 1 148 (dk_at dksX3_alone_1 16 rfl rfl)
theorem dX3_alone_43 : decode cX3_alone 43 = .ok (.iinc 2 (-1), 3) := dk_132 2 255 (dk_at dksX3_alone_1 19 rfl rfl)
theorem dX3_alone_46 : decode cX3_alone 46 = .ok (.goto (-21), 3) := dk_167 255 235 (dk_at dksX3_alone_2 0 rfl rfl)
theorem dX3_alone_49 : decode cX3_alone 49 = .ok (.aload_n 0, 1) := dk_42 (dk_at dksX3_alone_2 3 rfl rfl)
theorem dX3_alone_50 : decode cX3_alone 50 = .ok (.iload_n 1, 1) := dk_27 (dk_at dksX3_alone_2 4 rfl rfl)
theorem dX3_alone_51 : decode cX3_alone 51 = .ok (.invokevirtual 338, 3) := dk_182 1 82 (dk_at dksX3_alone_2 5 rfl rfl)
theorem dX3_alone_54 : decode cX3_alone 54 = .ok (.istore_n 2, 1) := dk_61 (dk_at dksX3_alone_2 8 rfl rfl)
theorem dX3_alone_55 : decode cX3_alone 55 = .ok (.aload_n 0, 1) := dk_42 (dk_at dksX3_alone_2 9 rfl rfl)
theorem dX3_alone_56 : decode cX3_alone 56 = .ok (.invokevirtual 237, 3) := dk_182 0 237 (dk_at dksX3_alone_2 10 rfl rfl)
theorem dX3_alone_59 : decode cX3_alone 59 = .ok (.iload_n 2, 1) := dk_28 (dk_at dksX3_alone_2 13 rfl rfl)
theorem dX3_alone_60 : decode cX3_alone 60 = .ok (.ireturn, 1) := dk_172 (dk_at dksX3_alone_2 14 rfl rfl)
abbrev cX3_tightest : ByteArray := prog_26_method_121_code
def yX3_tightest : MethodName := ⟨RX3, "tightest", "(I)I"⟩
def dkwX3_tightest_1 : List UInt8 := [182, 1, 85, 154, 0, 9, 132, 2, 255, 167, 255, 240, 28, 158, 0, 7, 28, 167, 0, 4, 2, 172]
abbrev dktX3_tightest_1 : List UInt8 := dkwX3_tightest_1 ++ []
def dkwX3_tightest_0 : List UInt8 := [42, 42, 27, 182, 1, 20, 182, 0, 240, 154, 0, 5, 3, 172, 16, 99, 61, 28, 158, 0, 18, 42, 27, 28]
abbrev dktX3_tightest_0 : List UInt8 := dkwX3_tightest_0 ++ dktX3_tightest_1
theorem dksX3_tightest_0 : cX3_tightest.data.toList.drop 0 = dktX3_tightest_0 := by decide +kernel
theorem dksX3_tightest_1 : cX3_tightest.data.toList.drop 24 = dktX3_tightest_1 := dk_seg dksX3_tightest_0 24 rfl rfl
theorem dX3_tightest_0 : decode cX3_tightest 0 = .ok (.aload_n 0, 1) := dk_42 (dk_at dksX3_tightest_0 0 rfl rfl)
theorem dX3_tightest_1 : decode cX3_tightest 1 = .ok (.aload_n 0, 1) := dk_42 (dk_at dksX3_tightest_0 1 rfl rfl)
theorem dX3_tightest_2 : decode cX3_tightest 2 = .ok (.iload_n 1, 1) := dk_27 (dk_at dksX3_tightest_0 2 rfl rfl)
theorem dX3_tightest_3 : decode cX3_tightest 3 = .ok (.invokevirtual 276, 3) := dk_182 1 20 (dk_at dksX3_tightest_0 3 rfl rfl)
theorem dX3_tightest_6 : decode cX3_tightest 6 = .ok (.invokevirtual 240, 3) := dk_182 0 240 (dk_at dksX3_tightest_0 6 rfl rfl)
theorem dX3_tightest_9 : decode cX3_tightest 9 = .ok (.ifCond .ne 5, 3) := dk_154 0 5 (dk_at dksX3_tightest_0 9 rfl rfl)
theorem dX3_tightest_12 : decode cX3_tightest 12 = .ok (.iconst 0, 1) := dk_3 (dk_at dksX3_tightest_0 12 rfl rfl)
theorem dX3_tightest_13 : decode cX3_tightest 13 = .ok (.ireturn, 1) := dk_172 (dk_at dksX3_tightest_0 13 rfl rfl)
theorem dX3_tightest_14 : decode cX3_tightest 14 = .ok (.bipush 99, 2) := dk_16 99 (dk_at dksX3_tightest_0 14 rfl rfl)
theorem dX3_tightest_16 : decode cX3_tightest 16 = .ok (.istore_n 2, 1) := dk_61 (dk_at dksX3_tightest_0 16 rfl rfl)
theorem dX3_tightest_17 : decode cX3_tightest 17 = .ok (.iload_n 2, 1) := dk_28 (dk_at dksX3_tightest_0 17 rfl rfl)
theorem dX3_tightest_18 : decode cX3_tightest 18 = .ok (.ifCond .le 18, 3) := dk_158 0 18 (dk_at dksX3_tightest_0 18 rfl rfl)
theorem dX3_tightest_21 : decode cX3_tightest 21 = .ok (.aload_n 0, 1) := dk_42 (dk_at dksX3_tightest_0 21 rfl rfl)
theorem dX3_tightest_22 : decode cX3_tightest 22 = .ok (.iload_n 1, 1) := dk_27 (dk_at dksX3_tightest_0 22 rfl rfl)
theorem dX3_tightest_23 : decode cX3_tightest 23 = .ok (.iload_n 2, 1) := dk_28 (dk_at dksX3_tightest_0 23 rfl rfl)
theorem dX3_tightest_24 : decode cX3_tightest 24 = .ok (.invokevirtual 341, 3) := dk_182 1 85 (dk_at dksX3_tightest_1 0 rfl rfl)
theorem dX3_tightest_27 : decode cX3_tightest 27 = .ok (.ifCond .ne 9, 3) := dk_154 0 9 (dk_at dksX3_tightest_1 3 rfl rfl)
theorem dX3_tightest_30 : decode cX3_tightest 30 = .ok (.iinc 2 (-1), 3) := dk_132 2 255 (dk_at dksX3_tightest_1 6 rfl rfl)
theorem dX3_tightest_33 : decode cX3_tightest 33 = .ok (.goto (-16), 3) := dk_167 255 240 (dk_at dksX3_tightest_1 9 rfl rfl)
theorem dX3_tightest_36 : decode cX3_tightest 36 = .ok (.iload_n 2, 1) := dk_28 (dk_at dksX3_tightest_1 12 rfl rfl)
theorem dX3_tightest_37 : decode cX3_tightest 37 = .ok (.ifCond .le 7, 3) := dk_158 0 7 (dk_at dksX3_tightest_1 13 rfl rfl)
theorem dX3_tightest_40 : decode cX3_tightest 40 = .ok (.iload_n 2, 1) := dk_28 (dk_at dksX3_tightest_1 16 rfl rfl)
theorem dX3_tightest_41 : decode cX3_tightest 41 = .ok (.goto 4, 3) := dk_167 0 4 (dk_at dksX3_tightest_1 17 rfl rfl)
theorem dX3_tightest_44 : decode cX3_tightest 44 = .ok (.iconst (-1), 1) := dk_2 (dk_at dksX3_tightest_1 20 rfl rfl)
theorem dX3_tightest_45 : decode cX3_tightest 45 = .ok (.ireturn, 1) := dk_172 (dk_at dksX3_tightest_1 21 rfl rfl)
abbrev cX3_bestFollowed : ByteArray := prog_26_method_123_code
def yX3_bestFollowed : MethodName := ⟨RX3, "bestFollowed", "(I)I"⟩
def dkwX3_bestFollowed_2 : List UInt8 := [132, 3, 1, 167, 255, 223, 28, 172]
abbrev dktX3_bestFollowed_2 : List UInt8 := dkwX3_bestFollowed_2 ++ []
def dkwX3_bestFollowed_1 : List UInt8 := [16, 20, 47, 148, 157, 0, 26, 42, 27, 29, 182, 1, 151, 42, 27, 28, 182, 1, 151, 163, 0, 5, 29, 61]
abbrev dktX3_bestFollowed_1 : List UInt8 := dkwX3_bestFollowed_1 ++ dktX3_bestFollowed_2
def dkwX3_bestFollowed_0 : List UInt8 := [42, 42, 27, 182, 1, 20, 182, 0, 240, 154, 0, 5, 3, 172, 3, 61, 4, 62, 29, 133, 42, 180, 0, 7]
abbrev dktX3_bestFollowed_0 : List UInt8 := dkwX3_bestFollowed_0 ++ dktX3_bestFollowed_1
theorem dksX3_bestFollowed_0 : cX3_bestFollowed.data.toList.drop 0 = dktX3_bestFollowed_0 := by decide +kernel
theorem dksX3_bestFollowed_1 : cX3_bestFollowed.data.toList.drop 24 = dktX3_bestFollowed_1 := dk_seg dksX3_bestFollowed_0 24 rfl rfl
theorem dksX3_bestFollowed_2 : cX3_bestFollowed.data.toList.drop 48 = dktX3_bestFollowed_2 := dk_seg dksX3_bestFollowed_1 24 rfl rfl
theorem dX3_bestFollowed_0 : decode cX3_bestFollowed 0 = .ok (.aload_n 0, 1) := dk_42 (dk_at dksX3_bestFollowed_0 0 rfl rfl)
theorem dX3_bestFollowed_1 : decode cX3_bestFollowed 1 = .ok (.aload_n 0, 1) := dk_42 (dk_at dksX3_bestFollowed_0 1 rfl rfl)
theorem dX3_bestFollowed_2 : decode cX3_bestFollowed 2 = .ok (.iload_n 1, 1) := dk_27 (dk_at dksX3_bestFollowed_0 2 rfl rfl)
theorem dX3_bestFollowed_3 : decode cX3_bestFollowed 3 = .ok (.invokevirtual 276, 3) := dk_182 1 20 (dk_at dksX3_bestFollowed_0 3 rfl rfl)
theorem dX3_bestFollowed_6 : decode cX3_bestFollowed 6 = .ok (.invokevirtual 240, 3) := dk_182 0 240 (dk_at dksX3_bestFollowed_0 6 rfl rfl)
theorem dX3_bestFollowed_9 : decode cX3_bestFollowed 9 = .ok (.ifCond .ne 5, 3) := dk_154 0 5 (dk_at dksX3_bestFollowed_0 9 rfl rfl)
theorem dX3_bestFollowed_12 : decode cX3_bestFollowed 12 = .ok (.iconst 0, 1) := dk_3 (dk_at dksX3_bestFollowed_0 12 rfl rfl)
theorem dX3_bestFollowed_13 : decode cX3_bestFollowed 13 = .ok (.ireturn, 1) := dk_172 (dk_at dksX3_bestFollowed_0 13 rfl rfl)
theorem dX3_bestFollowed_14 : decode cX3_bestFollowed 14 = .ok (.iconst 0, 1) := dk_3 (dk_at dksX3_bestFollowed_0 14 rfl rfl)
theorem dX3_bestFollowed_15 : decode cX3_bestFollowed 15 = .ok (.istore_n 2, 1) := dk_61 (dk_at dksX3_bestFollowed_0 15 rfl rfl)
theorem dX3_bestFollowed_16 : decode cX3_bestFollowed 16 = .ok (.iconst 1, 1) := dk_4 (dk_at dksX3_bestFollowed_0 16 rfl rfl)
theorem dX3_bestFollowed_17 : decode cX3_bestFollowed 17 = .ok (.istore_n 3, 1) := dk_62 (dk_at dksX3_bestFollowed_0 17 rfl rfl)
theorem dX3_bestFollowed_18 : decode cX3_bestFollowed 18 = .ok (.iload_n 3, 1) := dk_29 (dk_at dksX3_bestFollowed_0 18 rfl rfl)
theorem dX3_bestFollowed_19 : decode cX3_bestFollowed 19 = .ok (.i2l, 1) := dk_133 (dk_at dksX3_bestFollowed_0 19 rfl rfl)
theorem dX3_bestFollowed_20 : decode cX3_bestFollowed 20 = .ok (.aload_n 0, 1) := dk_42 (dk_at dksX3_bestFollowed_0 20 rfl rfl)
theorem dX3_bestFollowed_21 : decode cX3_bestFollowed 21 = .ok (.getfield 7, 3) := dk_180 0 7 (dk_at dksX3_bestFollowed_0 21 rfl rfl)
theorem dX3_bestFollowed_24 : decode cX3_bestFollowed 24 = .ok (.bipush 20, 2) := dk_16 20 (dk_at dksX3_bestFollowed_1 0 rfl rfl)
theorem dX3_bestFollowed_26 : decode cX3_bestFollowed 26 = .ok (.laload, 1) := dk_47 (dk_at dksX3_bestFollowed_1 2 rfl rfl)
theorem dX3_bestFollowed_27 : decode cX3_bestFollowed 27 = .ok (.lcmp, 1) := dk_148 (dk_at dksX3_bestFollowed_1 3 rfl rfl)
theorem dX3_bestFollowed_28 : decode cX3_bestFollowed 28 = .ok (.ifCond .gt 26, 3) := dk_157 0 26 (dk_at dksX3_bestFollowed_1 4 rfl rfl)
theorem dX3_bestFollowed_31 : decode cX3_bestFollowed 31 = .ok (.aload_n 0, 1) := dk_42 (dk_at dksX3_bestFollowed_1 7 rfl rfl)
theorem dX3_bestFollowed_32 : decode cX3_bestFollowed 32 = .ok (.iload_n 1, 1) := dk_27 (dk_at dksX3_bestFollowed_1 8 rfl rfl)
theorem dX3_bestFollowed_33 : decode cX3_bestFollowed 33 = .ok (.iload_n 3, 1) := dk_29 (dk_at dksX3_bestFollowed_1 9 rfl rfl)
theorem dX3_bestFollowed_34 : decode cX3_bestFollowed 34 = .ok (.invokevirtual 407, 3) := dk_182 1 151 (dk_at dksX3_bestFollowed_1 10 rfl rfl)
theorem dX3_bestFollowed_37 : decode cX3_bestFollowed 37 = .ok (.aload_n 0, 1) := dk_42 (dk_at dksX3_bestFollowed_1 13 rfl rfl)
theorem dX3_bestFollowed_38 : decode cX3_bestFollowed 38 = .ok (.iload_n 1, 1) := dk_27 (dk_at dksX3_bestFollowed_1 14 rfl rfl)
theorem dX3_bestFollowed_39 : decode cX3_bestFollowed 39 = .ok (.iload_n 2, 1) := dk_28 (dk_at dksX3_bestFollowed_1 15 rfl rfl)
theorem dX3_bestFollowed_40 : decode cX3_bestFollowed 40 = .ok (.invokevirtual 407, 3) := dk_182 1 151 (dk_at dksX3_bestFollowed_1 16 rfl rfl)
theorem dX3_bestFollowed_43 : decode cX3_bestFollowed 43 = .ok (.if_icmp .gt 5, 3) := dk_163 0 5 (dk_at dksX3_bestFollowed_1 19 rfl rfl)
theorem dX3_bestFollowed_46 : decode cX3_bestFollowed 46 = .ok (.iload_n 3, 1) := dk_29 (dk_at dksX3_bestFollowed_1 22 rfl rfl)
theorem dX3_bestFollowed_47 : decode cX3_bestFollowed 47 = .ok (.istore_n 2, 1) := dk_61 (dk_at dksX3_bestFollowed_1 23 rfl rfl)
theorem dX3_bestFollowed_48 : decode cX3_bestFollowed 48 = .ok (.iinc 3 1, 3) := dk_132 3 1 (dk_at dksX3_bestFollowed_2 0 rfl rfl)
theorem dX3_bestFollowed_51 : decode cX3_bestFollowed 51 = .ok (.goto (-33), 3) := dk_167 255 223 (dk_at dksX3_bestFollowed_2 3 rfl rfl)
theorem dX3_bestFollowed_54 : decode cX3_bestFollowed 54 = .ok (.iload_n 2, 1) := dk_28 (dk_at dksX3_bestFollowed_2 6 rfl rfl)
theorem dX3_bestFollowed_55 : decode cX3_bestFollowed 55 = .ok (.ireturn, 1) := dk_172 (dk_at dksX3_bestFollowed_2 7 rfl rfl)
abbrev cX3_lackingBy : ByteArray := prog_26_method_122_code
def yX3_lackingBy : MethodName := ⟨RX3, "lackingBy", "(II)I"⟩
def dkwX3_lackingBy_2 : List UInt8 := [182, 1, 133, 153, 0, 6, 132, 3, 1, 132, 5, 1, 167, 255, 216, 132, 4, 1, 167, 255, 198, 29, 172]
abbrev dktX3_lackingBy_2 : List UInt8 := dkwX3_lackingBy_2 ++ []
def dkwX3_lackingBy_1 : List UInt8 := [182, 1, 16, 162, 0, 34, 42, 21, 4, 182, 1, 13, 27, 160, 0, 24, 42, 21, 4, 21, 5, 28]
abbrev dktX3_lackingBy_1 : List UInt8 := dkwX3_lackingBy_1 ++ dktX3_lackingBy_2
def dkwX3_lackingBy_0 : List UInt8 := [3, 62, 3, 54, 4, 21, 4, 42, 182, 0, 252, 162, 0, 55, 3, 54, 5, 21, 5, 42, 21, 4, 3]
abbrev dktX3_lackingBy_0 : List UInt8 := dkwX3_lackingBy_0 ++ dktX3_lackingBy_1
theorem dksX3_lackingBy_0 : cX3_lackingBy.data.toList.drop 0 = dktX3_lackingBy_0 := by decide +kernel
theorem dksX3_lackingBy_1 : cX3_lackingBy.data.toList.drop 23 = dktX3_lackingBy_1 := dk_seg dksX3_lackingBy_0 23 rfl rfl
theorem dksX3_lackingBy_2 : cX3_lackingBy.data.toList.drop 45 = dktX3_lackingBy_2 := dk_seg dksX3_lackingBy_1 22 rfl rfl
theorem dX3_lackingBy_0 : decode cX3_lackingBy 0 = .ok (.iconst 0, 1) := dk_3 (dk_at dksX3_lackingBy_0 0 rfl rfl)
theorem dX3_lackingBy_1 : decode cX3_lackingBy 1 = .ok (.istore_n 3, 1) := dk_62 (dk_at dksX3_lackingBy_0 1 rfl rfl)
theorem dX3_lackingBy_2 : decode cX3_lackingBy 2 = .ok (.iconst 0, 1) := dk_3 (dk_at dksX3_lackingBy_0 2 rfl rfl)
theorem dX3_lackingBy_3 : decode cX3_lackingBy 3 = .ok (.istore 4, 2) := dk_54 4 (dk_at dksX3_lackingBy_0 3 rfl rfl)
theorem dX3_lackingBy_5 : decode cX3_lackingBy 5 = .ok (.iload 4, 2) := dk_21 4 (dk_at dksX3_lackingBy_0 5 rfl rfl)
theorem dX3_lackingBy_7 : decode cX3_lackingBy 7 = .ok (.aload_n 0, 1) := dk_42 (dk_at dksX3_lackingBy_0 7 rfl rfl)
theorem dX3_lackingBy_8 : decode cX3_lackingBy 8 = .ok (.invokevirtual 252, 3) := dk_182 0 252 (dk_at dksX3_lackingBy_0 8 rfl rfl)
theorem dX3_lackingBy_11 : decode cX3_lackingBy 11 = .ok (.if_icmp .ge 55, 3) := dk_162 0 55 (dk_at dksX3_lackingBy_0 11 rfl rfl)
theorem dX3_lackingBy_14 : decode cX3_lackingBy 14 = .ok (.iconst 0, 1) := dk_3 (dk_at dksX3_lackingBy_0 14 rfl rfl)
theorem dX3_lackingBy_15 : decode cX3_lackingBy 15 = .ok (.istore 5, 2) := dk_54 5 (dk_at dksX3_lackingBy_0 15 rfl rfl)
theorem dX3_lackingBy_17 : decode cX3_lackingBy 17 = .ok (.iload 5, 2) := dk_21 5 (dk_at dksX3_lackingBy_0 17 rfl rfl)
theorem dX3_lackingBy_19 : decode cX3_lackingBy 19 = .ok (.aload_n 0, 1) := dk_42 (dk_at dksX3_lackingBy_0 19 rfl rfl)
theorem dX3_lackingBy_20 : decode cX3_lackingBy 20 = .ok (.iload 4, 2) := dk_21 4 (dk_at dksX3_lackingBy_0 20 rfl rfl)
theorem dX3_lackingBy_22 : decode cX3_lackingBy 22 = .ok (.iconst 0, 1) := dk_3 (dk_at dksX3_lackingBy_0 22 rfl rfl)
theorem dX3_lackingBy_23 : decode cX3_lackingBy 23 = .ok (.invokevirtual 272, 3) := dk_182 1 16 (dk_at dksX3_lackingBy_1 0 rfl rfl)
theorem dX3_lackingBy_26 : decode cX3_lackingBy 26 = .ok (.if_icmp .ge 34, 3) := dk_162 0 34 (dk_at dksX3_lackingBy_1 3 rfl rfl)
theorem dX3_lackingBy_29 : decode cX3_lackingBy 29 = .ok (.aload_n 0, 1) := dk_42 (dk_at dksX3_lackingBy_1 6 rfl rfl)
theorem dX3_lackingBy_30 : decode cX3_lackingBy 30 = .ok (.iload 4, 2) := dk_21 4 (dk_at dksX3_lackingBy_1 7 rfl rfl)
theorem dX3_lackingBy_32 : decode cX3_lackingBy 32 = .ok (.invokevirtual 269, 3) := dk_182 1 13 (dk_at dksX3_lackingBy_1 9 rfl rfl)
theorem dX3_lackingBy_35 : decode cX3_lackingBy 35 = .ok (.iload_n 1, 1) := dk_27 (dk_at dksX3_lackingBy_1 12 rfl rfl)
theorem dX3_lackingBy_36 : decode cX3_lackingBy 36 = .ok (.if_icmp .ne 24, 3) := dk_160 0 24 (dk_at dksX3_lackingBy_1 13 rfl rfl)
theorem dX3_lackingBy_39 : decode cX3_lackingBy 39 = .ok (.aload_n 0, 1) := dk_42 (dk_at dksX3_lackingBy_1 16 rfl rfl)
theorem dX3_lackingBy_40 : decode cX3_lackingBy 40 = .ok (.iload 4, 2) := dk_21 4 (dk_at dksX3_lackingBy_1 17 rfl rfl)
theorem dX3_lackingBy_42 : decode cX3_lackingBy 42 = .ok (.iload 5, 2) := dk_21 5 (dk_at dksX3_lackingBy_1 19 rfl rfl)
theorem dX3_lackingBy_44 : decode cX3_lackingBy 44 = .ok (.iload_n 2, 1) := dk_28 (dk_at dksX3_lackingBy_1 21 rfl rfl)
theorem dX3_lackingBy_45 : decode cX3_lackingBy 45 = .ok (.invokevirtual 389, 3) := dk_182 1 133 (dk_at dksX3_lackingBy_2 0 rfl rfl)
theorem dX3_lackingBy_48 : decode cX3_lackingBy 48 = .ok (.ifCond .eq 6, 3) := dk_153 0 6 (dk_at dksX3_lackingBy_2 3 rfl rfl)
theorem dX3_lackingBy_51 : decode cX3_lackingBy 51 = .ok (.iinc 3 1, 3) := dk_132 3 1 (dk_at dksX3_lackingBy_2 6 rfl rfl)
theorem dX3_lackingBy_54 : decode cX3_lackingBy 54 = .ok (.iinc 5 1, 3) := dk_132 5 1 (dk_at dksX3_lackingBy_2 9 rfl rfl)
theorem dX3_lackingBy_57 : decode cX3_lackingBy 57 = .ok (.goto (-40), 3) := dk_167 255 216 (dk_at dksX3_lackingBy_2 12 rfl rfl)
theorem dX3_lackingBy_60 : decode cX3_lackingBy 60 = .ok (.iinc 4 1, 3) := dk_132 4 1 (dk_at dksX3_lackingBy_2 15 rfl rfl)
theorem dX3_lackingBy_63 : decode cX3_lackingBy 63 = .ok (.goto (-58), 3) := dk_167 255 198 (dk_at dksX3_lackingBy_2 18 rfl rfl)
theorem dX3_lackingBy_66 : decode cX3_lackingBy 66 = .ok (.iload_n 3, 1) := dk_29 (dk_at dksX3_lackingBy_2 21 rfl rfl)
theorem dX3_lackingBy_67 : decode cX3_lackingBy 67 = .ok (.ireturn, 1) := dk_172 (dk_at dksX3_lackingBy_2 22 rfl rfl)
abbrev cX3_removeSegment : ByteArray := prog_26_method_124_code
def yX3_removeSegment : MethodName := ⟨RX3, "removeSegment", "(I)I"⟩
def dkwX3_removeSegment_1 : List UInt8 := [182, 0, 252, 172]
abbrev dktX3_removeSegment_1 : List UInt8 := dkwX3_removeSegment_1 ++ []
def dkwX3_removeSegment_0 : List UInt8 := [42, 42, 27, 182, 1, 36, 182, 0, 240, 154, 0, 5, 3, 172, 42, 182, 0, 249, 42, 27, 182, 1, 148, 42]
abbrev dktX3_removeSegment_0 : List UInt8 := dkwX3_removeSegment_0 ++ dktX3_removeSegment_1
theorem dksX3_removeSegment_0 : cX3_removeSegment.data.toList.drop 0 = dktX3_removeSegment_0 := by decide +kernel
theorem dksX3_removeSegment_1 : cX3_removeSegment.data.toList.drop 24 = dktX3_removeSegment_1 := dk_seg dksX3_removeSegment_0 24 rfl rfl
theorem dX3_removeSegment_0 : decode cX3_removeSegment 0 = .ok (.aload_n 0, 1) := dk_42 (dk_at dksX3_removeSegment_0 0 rfl rfl)
theorem dX3_removeSegment_1 : decode cX3_removeSegment 1 = .ok (.aload_n 0, 1) := dk_42 (dk_at dksX3_removeSegment_0 1 rfl rfl)
theorem dX3_removeSegment_2 : decode cX3_removeSegment 2 = .ok (.iload_n 1, 1) := dk_27 (dk_at dksX3_removeSegment_0 2 rfl rfl)
theorem dX3_removeSegment_3 : decode cX3_removeSegment 3 = .ok (.invokevirtual 292, 3) := dk_182 1 36 (dk_at dksX3_removeSegment_0 3 rfl rfl)
theorem dX3_removeSegment_6 : decode cX3_removeSegment 6 = .ok (.invokevirtual 240, 3) := dk_182 0 240 (dk_at dksX3_removeSegment_0 6 rfl rfl)
theorem dX3_removeSegment_9 : decode cX3_removeSegment 9 = .ok (.ifCond .ne 5, 3) := dk_154 0 5 (dk_at dksX3_removeSegment_0 9 rfl rfl)
theorem dX3_removeSegment_12 : decode cX3_removeSegment 12 = .ok (.iconst 0, 1) := dk_3 (dk_at dksX3_removeSegment_0 12 rfl rfl)
theorem dX3_removeSegment_13 : decode cX3_removeSegment 13 = .ok (.ireturn, 1) := dk_172 (dk_at dksX3_removeSegment_0 13 rfl rfl)
theorem dX3_removeSegment_14 : decode cX3_removeSegment 14 = .ok (.aload_n 0, 1) := dk_42 (dk_at dksX3_removeSegment_0 14 rfl rfl)
theorem dX3_removeSegment_15 : decode cX3_removeSegment 15 = .ok (.invokevirtual 249, 3) := dk_182 0 249 (dk_at dksX3_removeSegment_0 15 rfl rfl)
theorem dX3_removeSegment_18 : decode cX3_removeSegment 18 = .ok (.aload_n 0, 1) := dk_42 (dk_at dksX3_removeSegment_0 18 rfl rfl)
theorem dX3_removeSegment_19 : decode cX3_removeSegment 19 = .ok (.iload_n 1, 1) := dk_27 (dk_at dksX3_removeSegment_0 19 rfl rfl)
theorem dX3_removeSegment_20 : decode cX3_removeSegment 20 = .ok (.invokevirtual 404, 3) := dk_182 1 148 (dk_at dksX3_removeSegment_0 20 rfl rfl)
theorem dX3_removeSegment_23 : decode cX3_removeSegment 23 = .ok (.aload_n 0, 1) := dk_42 (dk_at dksX3_removeSegment_0 23 rfl rfl)
theorem dX3_removeSegment_24 : decode cX3_removeSegment 24 = .ok (.invokevirtual 252, 3) := dk_182 0 252 (dk_at dksX3_removeSegment_1 0 rfl rfl)
theorem dX3_removeSegment_27 : decode cX3_removeSegment 27 = .ok (.ireturn, 1) := dk_172 (dk_at dksX3_removeSegment_1 3 rfl rfl)
abbrev cX3_moveSegment : ByteArray := prog_26_method_125_code
def yX3_moveSegment : MethodName := ⟨RX3, "moveSegment", "(II)I"⟩
def dkwX3_moveSegment_7 : List UInt8 := [28, 182, 1, 64, 172]
abbrev dktX3_moveSegment_7 : List UInt8 := dkwX3_moveSegment_7 ++ []
def dkwX3_moveSegment_6 : List UInt8 := [180, 0, 39, 29, 47, 80, 132, 3, 1, 167, 255, 227, 42, 180, 0, 7, 16, 66, 92, 47, 10, 97, 80, 42]
abbrev dktX3_moveSegment_6 : List UInt8 := dkwX3_moveSegment_6 ++ dktX3_moveSegment_7
def dkwX3_moveSegment_5 : List UInt8 := [3, 62, 29, 16, 19, 162, 0, 29, 42, 180, 0, 7, 16, 67, 16, 19, 28, 104, 96, 29, 96, 42]
abbrev dktX3_moveSegment_5 : List UInt8 := dkwX3_moveSegment_5 ++ dktX3_moveSegment_6
def dkwX3_moveSegment_4 : List UInt8 := [161, 0, 24, 42, 180, 0, 7, 29, 16, 19, 96, 42, 180, 0, 7, 29, 47, 80, 132, 3, 255, 167, 255, 227]
abbrev dktX3_moveSegment_4 : List UInt8 := dkwX3_moveSegment_4 ++ dktX3_moveSegment_5
def dkwX3_moveSegment_3 : List UInt8 := [182, 1, 148, 16, 67, 16, 19, 42, 182, 0, 252, 104, 96, 4, 100, 62, 29, 16, 67, 16, 19, 28, 104, 96]
abbrev dktX3_moveSegment_3 : List UInt8 := dkwX3_moveSegment_3 ++ dktX3_moveSegment_4
def dkwX3_moveSegment_2 : List UInt8 := [29, 42, 180, 0, 7, 16, 67, 16, 19, 27, 104, 96, 29, 96, 47, 80, 132, 3, 1, 167, 255, 227, 42, 27]
abbrev dktX3_moveSegment_2 : List UInt8 := dkwX3_moveSegment_2 ++ dktX3_moveSegment_3
def dkwX3_moveSegment_1 : List UInt8 := [182, 0, 240, 154, 0, 5, 3, 172, 42, 182, 0, 249, 3, 62, 29, 16, 19, 162, 0, 29, 42, 180, 0, 39]
abbrev dktX3_moveSegment_1 : List UInt8 := dkwX3_moveSegment_1 ++ dktX3_moveSegment_2
def dkwX3_moveSegment_0 : List UInt8 := [42, 42, 27, 182, 1, 36, 153, 0, 15, 42, 28, 182, 1, 36, 153, 0, 7, 4, 167, 0, 4, 3]
abbrev dktX3_moveSegment_0 : List UInt8 := dkwX3_moveSegment_0 ++ dktX3_moveSegment_1
theorem dksX3_moveSegment_0 : cX3_moveSegment.data.toList.drop 0 = dktX3_moveSegment_0 := by decide +kernel
theorem dksX3_moveSegment_1 : cX3_moveSegment.data.toList.drop 22 = dktX3_moveSegment_1 := dk_seg dksX3_moveSegment_0 22 rfl rfl
theorem dksX3_moveSegment_2 : cX3_moveSegment.data.toList.drop 46 = dktX3_moveSegment_2 := dk_seg dksX3_moveSegment_1 24 rfl rfl
theorem dksX3_moveSegment_3 : cX3_moveSegment.data.toList.drop 70 = dktX3_moveSegment_3 := dk_seg dksX3_moveSegment_2 24 rfl rfl
theorem dksX3_moveSegment_4 : cX3_moveSegment.data.toList.drop 94 = dktX3_moveSegment_4 := dk_seg dksX3_moveSegment_3 24 rfl rfl
theorem dksX3_moveSegment_5 : cX3_moveSegment.data.toList.drop 118 = dktX3_moveSegment_5 := dk_seg dksX3_moveSegment_4 24 rfl rfl
theorem dksX3_moveSegment_6 : cX3_moveSegment.data.toList.drop 140 = dktX3_moveSegment_6 := dk_seg dksX3_moveSegment_5 22 rfl rfl
theorem dksX3_moveSegment_7 : cX3_moveSegment.data.toList.drop 164 = dktX3_moveSegment_7 := dk_seg dksX3_moveSegment_6 24 rfl rfl
theorem dX3_moveSegment_0 : decode cX3_moveSegment 0 = .ok (.aload_n 0, 1) := dk_42 (dk_at dksX3_moveSegment_0 0 rfl rfl)
theorem dX3_moveSegment_1 : decode cX3_moveSegment 1 = .ok (.aload_n 0, 1) := dk_42 (dk_at dksX3_moveSegment_0 1 rfl rfl)
theorem dX3_moveSegment_2 : decode cX3_moveSegment 2 = .ok (.iload_n 1, 1) := dk_27 (dk_at dksX3_moveSegment_0 2 rfl rfl)
theorem dX3_moveSegment_3 : decode cX3_moveSegment 3 = .ok (.invokevirtual 292, 3) := dk_182 1 36 (dk_at dksX3_moveSegment_0 3 rfl rfl)
theorem dX3_moveSegment_6 : decode cX3_moveSegment 6 = .ok (.ifCond .eq 15, 3) := dk_153 0 15 (dk_at dksX3_moveSegment_0 6 rfl rfl)
theorem dX3_moveSegment_9 : decode cX3_moveSegment 9 = .ok (.aload_n 0, 1) := dk_42 (dk_at dksX3_moveSegment_0 9 rfl rfl)
theorem dX3_moveSegment_10 : decode cX3_moveSegment 10 = .ok (.iload_n 2, 1) := dk_28 (dk_at dksX3_moveSegment_0 10 rfl rfl)
theorem dX3_moveSegment_11 : decode cX3_moveSegment 11 = .ok (.invokevirtual 292, 3) := dk_182 1 36 (dk_at dksX3_moveSegment_0 11 rfl rfl)
theorem dX3_moveSegment_14 : decode cX3_moveSegment 14 = .ok (.ifCond .eq 7, 3) := dk_153 0 7 (dk_at dksX3_moveSegment_0 14 rfl rfl)
theorem dX3_moveSegment_17 : decode cX3_moveSegment 17 = .ok (.iconst 1, 1) := dk_4 (dk_at dksX3_moveSegment_0 17 rfl rfl)
theorem dX3_moveSegment_18 : decode cX3_moveSegment 18 = .ok (.goto 4, 3) := dk_167 0 4 (dk_at dksX3_moveSegment_0 18 rfl rfl)
theorem dX3_moveSegment_21 : decode cX3_moveSegment 21 = .ok (.iconst 0, 1) := dk_3 (dk_at dksX3_moveSegment_0 21 rfl rfl)
theorem dX3_moveSegment_22 : decode cX3_moveSegment 22 = .ok (.invokevirtual 240, 3) := dk_182 0 240 (dk_at dksX3_moveSegment_1 0 rfl rfl)
theorem dX3_moveSegment_25 : decode cX3_moveSegment 25 = .ok (.ifCond .ne 5, 3) := dk_154 0 5 (dk_at dksX3_moveSegment_1 3 rfl rfl)
theorem dX3_moveSegment_28 : decode cX3_moveSegment 28 = .ok (.iconst 0, 1) := dk_3 (dk_at dksX3_moveSegment_1 6 rfl rfl)
theorem dX3_moveSegment_29 : decode cX3_moveSegment 29 = .ok (.ireturn, 1) := dk_172 (dk_at dksX3_moveSegment_1 7 rfl rfl)
theorem dX3_moveSegment_30 : decode cX3_moveSegment 30 = .ok (.aload_n 0, 1) := dk_42 (dk_at dksX3_moveSegment_1 8 rfl rfl)
theorem dX3_moveSegment_31 : decode cX3_moveSegment 31 = .ok (.invokevirtual 249, 3) := dk_182 0 249 (dk_at dksX3_moveSegment_1 9 rfl rfl)
theorem dX3_moveSegment_34 : decode cX3_moveSegment 34 = .ok (.iconst 0, 1) := dk_3 (dk_at dksX3_moveSegment_1 12 rfl rfl)
theorem dX3_moveSegment_35 : decode cX3_moveSegment 35 = .ok (.istore_n 3, 1) := dk_62 (dk_at dksX3_moveSegment_1 13 rfl rfl)
theorem dX3_moveSegment_36 : decode cX3_moveSegment 36 = .ok (.iload_n 3, 1) := dk_29 (dk_at dksX3_moveSegment_1 14 rfl rfl)
theorem dX3_moveSegment_37 : decode cX3_moveSegment 37 = .ok (.bipush 19, 2) := dk_16 19 (dk_at dksX3_moveSegment_1 15 rfl rfl)
theorem dX3_moveSegment_39 : decode cX3_moveSegment 39 = .ok (.if_icmp .ge 29, 3) := dk_162 0 29 (dk_at dksX3_moveSegment_1 17 rfl rfl)
theorem dX3_moveSegment_42 : decode cX3_moveSegment 42 = .ok (.aload_n 0, 1) := dk_42 (dk_at dksX3_moveSegment_1 20 rfl rfl)
theorem dX3_moveSegment_43 : decode cX3_moveSegment 43 = .ok (.getfield 39, 3) := dk_180 0 39 (dk_at dksX3_moveSegment_1 21 rfl rfl)
theorem dX3_moveSegment_46 : decode cX3_moveSegment 46 = .ok (.iload_n 3, 1) := dk_29 (dk_at dksX3_moveSegment_2 0 rfl rfl)
theorem dX3_moveSegment_47 : decode cX3_moveSegment 47 = .ok (.aload_n 0, 1) := dk_42 (dk_at dksX3_moveSegment_2 1 rfl rfl)
theorem dX3_moveSegment_48 : decode cX3_moveSegment 48 = .ok (.getfield 7, 3) := dk_180 0 7 (dk_at dksX3_moveSegment_2 2 rfl rfl)
theorem dX3_moveSegment_51 : decode cX3_moveSegment 51 = .ok (.bipush 67, 2) := dk_16 67 (dk_at dksX3_moveSegment_2 5 rfl rfl)
theorem dX3_moveSegment_53 : decode cX3_moveSegment 53 = .ok (.bipush 19, 2) := dk_16 19 (dk_at dksX3_moveSegment_2 7 rfl rfl)
theorem dX3_moveSegment_55 : decode cX3_moveSegment 55 = .ok (.iload_n 1, 1) := dk_27 (dk_at dksX3_moveSegment_2 9 rfl rfl)
theorem dX3_moveSegment_56 : decode cX3_moveSegment 56 = .ok (.imul, 1) := dk_104 (dk_at dksX3_moveSegment_2 10 rfl rfl)
theorem dX3_moveSegment_57 : decode cX3_moveSegment 57 = .ok (.iadd, 1) := dk_96 (dk_at dksX3_moveSegment_2 11 rfl rfl)
theorem dX3_moveSegment_58 : decode cX3_moveSegment 58 = .ok (.iload_n 3, 1) := dk_29 (dk_at dksX3_moveSegment_2 12 rfl rfl)
theorem dX3_moveSegment_59 : decode cX3_moveSegment 59 = .ok (.iadd, 1) := dk_96 (dk_at dksX3_moveSegment_2 13 rfl rfl)
theorem dX3_moveSegment_60 : decode cX3_moveSegment 60 = .ok (.laload, 1) := dk_47 (dk_at dksX3_moveSegment_2 14 rfl rfl)
theorem dX3_moveSegment_61 : decode cX3_moveSegment 61 = .ok (.lastore, 1) := dk_80 (dk_at dksX3_moveSegment_2 15 rfl rfl)
theorem dX3_moveSegment_62 : decode cX3_moveSegment 62 = .ok (.iinc 3 1, 3) := dk_132 3 1 (dk_at dksX3_moveSegment_2 16 rfl rfl)
theorem dX3_moveSegment_65 : decode cX3_moveSegment 65 = .ok (.goto (-29), 3) := dk_167 255 227 (dk_at dksX3_moveSegment_2 19 rfl rfl)
theorem dX3_moveSegment_68 : decode cX3_moveSegment 68 = .ok (.aload_n 0, 1) := dk_42 (dk_at dksX3_moveSegment_2 22 rfl rfl)
theorem dX3_moveSegment_69 : decode cX3_moveSegment 69 = .ok (.iload_n 1, 1) := dk_27 (dk_at dksX3_moveSegment_2 23 rfl rfl)
theorem dX3_moveSegment_70 : decode cX3_moveSegment 70 = .ok (.invokevirtual 404, 3) := dk_182 1 148 (dk_at dksX3_moveSegment_3 0 rfl rfl)
theorem dX3_moveSegment_73 : decode cX3_moveSegment 73 = .ok (.bipush 67, 2) := dk_16 67 (dk_at dksX3_moveSegment_3 3 rfl rfl)
theorem dX3_moveSegment_75 : decode cX3_moveSegment 75 = .ok (.bipush 19, 2) := dk_16 19 (dk_at dksX3_moveSegment_3 5 rfl rfl)
theorem dX3_moveSegment_77 : decode cX3_moveSegment 77 = .ok (.aload_n 0, 1) := dk_42 (dk_at dksX3_moveSegment_3 7 rfl rfl)
theorem dX3_moveSegment_78 : decode cX3_moveSegment 78 = .ok (.invokevirtual 252, 3) := dk_182 0 252 (dk_at dksX3_moveSegment_3 8 rfl rfl)
theorem dX3_moveSegment_81 : decode cX3_moveSegment 81 = .ok (.imul, 1) := dk_104 (dk_at dksX3_moveSegment_3 11 rfl rfl)
theorem dX3_moveSegment_82 : decode cX3_moveSegment 82 = .ok (.iadd, 1) := dk_96 (dk_at dksX3_moveSegment_3 12 rfl rfl)
theorem dX3_moveSegment_83 : decode cX3_moveSegment 83 = .ok (.iconst 1, 1) := dk_4 (dk_at dksX3_moveSegment_3 13 rfl rfl)
theorem dX3_moveSegment_84 : decode cX3_moveSegment 84 = .ok (.isub, 1) := dk_100 (dk_at dksX3_moveSegment_3 14 rfl rfl)
theorem dX3_moveSegment_85 : decode cX3_moveSegment 85 = .ok (.istore_n 3, 1) := dk_62 (dk_at dksX3_moveSegment_3 15 rfl rfl)
theorem dX3_moveSegment_86 : decode cX3_moveSegment 86 = .ok (.iload_n 3, 1) := dk_29 (dk_at dksX3_moveSegment_3 16 rfl rfl)
theorem dX3_moveSegment_87 : decode cX3_moveSegment 87 = .ok (.bipush 67, 2) := dk_16 67 (dk_at dksX3_moveSegment_3 17 rfl rfl)
theorem dX3_moveSegment_89 : decode cX3_moveSegment 89 = .ok (.bipush 19, 2) := dk_16 19 (dk_at dksX3_moveSegment_3 19 rfl rfl)
theorem dX3_moveSegment_91 : decode cX3_moveSegment 91 = .ok (.iload_n 2, 1) := dk_28 (dk_at dksX3_moveSegment_3 21 rfl rfl)
theorem dX3_moveSegment_92 : decode cX3_moveSegment 92 = .ok (.imul, 1) := dk_104 (dk_at dksX3_moveSegment_3 22 rfl rfl)
theorem dX3_moveSegment_93 : decode cX3_moveSegment 93 = .ok (.iadd, 1) := dk_96 (dk_at dksX3_moveSegment_3 23 rfl rfl)
theorem dX3_moveSegment_94 : decode cX3_moveSegment 94 = .ok (.if_icmp .lt 24, 3) := dk_161 0 24 (dk_at dksX3_moveSegment_4 0 rfl rfl)
theorem dX3_moveSegment_97 : decode cX3_moveSegment 97 = .ok (.aload_n 0, 1) := dk_42 (dk_at dksX3_moveSegment_4 3 rfl rfl)
theorem dX3_moveSegment_98 : decode cX3_moveSegment 98 = .ok (.getfield 7, 3) := dk_180 0 7 (dk_at dksX3_moveSegment_4 4 rfl rfl)
theorem dX3_moveSegment_101 : decode cX3_moveSegment 101 = .ok (.iload_n 3, 1) := dk_29 (dk_at dksX3_moveSegment_4 7 rfl rfl)
theorem dX3_moveSegment_102 : decode cX3_moveSegment 102 = .ok (.bipush 19, 2) := dk_16 19 (dk_at dksX3_moveSegment_4 8 rfl rfl)
theorem dX3_moveSegment_104 : decode cX3_moveSegment 104 = .ok (.iadd, 1) := dk_96 (dk_at dksX3_moveSegment_4 10 rfl rfl)
theorem dX3_moveSegment_105 : decode cX3_moveSegment 105 = .ok (.aload_n 0, 1) := dk_42 (dk_at dksX3_moveSegment_4 11 rfl rfl)
theorem dX3_moveSegment_106 : decode cX3_moveSegment 106 = .ok (.getfield 7, 3) := dk_180 0 7 (dk_at dksX3_moveSegment_4 12 rfl rfl)
theorem dX3_moveSegment_109 : decode cX3_moveSegment 109 = .ok (.iload_n 3, 1) := dk_29 (dk_at dksX3_moveSegment_4 15 rfl rfl)
theorem dX3_moveSegment_110 : decode cX3_moveSegment 110 = .ok (.laload, 1) := dk_47 (dk_at dksX3_moveSegment_4 16 rfl rfl)
theorem dX3_moveSegment_111 : decode cX3_moveSegment 111 = .ok (.lastore, 1) := dk_80 (dk_at dksX3_moveSegment_4 17 rfl rfl)
theorem dX3_moveSegment_112 : decode cX3_moveSegment 112 = .ok (.iinc 3 (-1), 3) := dk_132 3 255 (dk_at dksX3_moveSegment_4 18 rfl rfl)
theorem dX3_moveSegment_115 : decode cX3_moveSegment 115 = .ok (.goto (-29), 3) := dk_167 255 227 (dk_at dksX3_moveSegment_4 21 rfl rfl)
theorem dX3_moveSegment_118 : decode cX3_moveSegment 118 = .ok (.iconst 0, 1) := dk_3 (dk_at dksX3_moveSegment_5 0 rfl rfl)
theorem dX3_moveSegment_119 : decode cX3_moveSegment 119 = .ok (.istore_n 3, 1) := dk_62 (dk_at dksX3_moveSegment_5 1 rfl rfl)
theorem dX3_moveSegment_120 : decode cX3_moveSegment 120 = .ok (.iload_n 3, 1) := dk_29 (dk_at dksX3_moveSegment_5 2 rfl rfl)
theorem dX3_moveSegment_121 : decode cX3_moveSegment 121 = .ok (.bipush 19, 2) := dk_16 19 (dk_at dksX3_moveSegment_5 3 rfl rfl)
theorem dX3_moveSegment_123 : decode cX3_moveSegment 123 = .ok (.if_icmp .ge 29, 3) := dk_162 0 29 (dk_at dksX3_moveSegment_5 5 rfl rfl)
theorem dX3_moveSegment_126 : decode cX3_moveSegment 126 = .ok (.aload_n 0, 1) := dk_42 (dk_at dksX3_moveSegment_5 8 rfl rfl)
theorem dX3_moveSegment_127 : decode cX3_moveSegment 127 = .ok (.getfield 7, 3) := dk_180 0 7 (dk_at dksX3_moveSegment_5 9 rfl rfl)
theorem dX3_moveSegment_130 : decode cX3_moveSegment 130 = .ok (.bipush 67, 2) := dk_16 67 (dk_at dksX3_moveSegment_5 12 rfl rfl)
theorem dX3_moveSegment_132 : decode cX3_moveSegment 132 = .ok (.bipush 19, 2) := dk_16 19 (dk_at dksX3_moveSegment_5 14 rfl rfl)
theorem dX3_moveSegment_134 : decode cX3_moveSegment 134 = .ok (.iload_n 2, 1) := dk_28 (dk_at dksX3_moveSegment_5 16 rfl rfl)
theorem dX3_moveSegment_135 : decode cX3_moveSegment 135 = .ok (.imul, 1) := dk_104 (dk_at dksX3_moveSegment_5 17 rfl rfl)
theorem dX3_moveSegment_136 : decode cX3_moveSegment 136 = .ok (.iadd, 1) := dk_96 (dk_at dksX3_moveSegment_5 18 rfl rfl)
theorem dX3_moveSegment_137 : decode cX3_moveSegment 137 = .ok (.iload_n 3, 1) := dk_29 (dk_at dksX3_moveSegment_5 19 rfl rfl)
theorem dX3_moveSegment_138 : decode cX3_moveSegment 138 = .ok (.iadd, 1) := dk_96 (dk_at dksX3_moveSegment_5 20 rfl rfl)
theorem dX3_moveSegment_139 : decode cX3_moveSegment 139 = .ok (.aload_n 0, 1) := dk_42 (dk_at dksX3_moveSegment_5 21 rfl rfl)
theorem dX3_moveSegment_140 : decode cX3_moveSegment 140 = .ok (.getfield 39, 3) := dk_180 0 39 (dk_at dksX3_moveSegment_6 0 rfl rfl)
theorem dX3_moveSegment_143 : decode cX3_moveSegment 143 = .ok (.iload_n 3, 1) := dk_29 (dk_at dksX3_moveSegment_6 3 rfl rfl)
theorem dX3_moveSegment_144 : decode cX3_moveSegment 144 = .ok (.laload, 1) := dk_47 (dk_at dksX3_moveSegment_6 4 rfl rfl)
theorem dX3_moveSegment_145 : decode cX3_moveSegment 145 = .ok (.lastore, 1) := dk_80 (dk_at dksX3_moveSegment_6 5 rfl rfl)
theorem dX3_moveSegment_146 : decode cX3_moveSegment 146 = .ok (.iinc 3 1, 3) := dk_132 3 1 (dk_at dksX3_moveSegment_6 6 rfl rfl)
theorem dX3_moveSegment_149 : decode cX3_moveSegment 149 = .ok (.goto (-29), 3) := dk_167 255 227 (dk_at dksX3_moveSegment_6 9 rfl rfl)
theorem dX3_moveSegment_152 : decode cX3_moveSegment 152 = .ok (.aload_n 0, 1) := dk_42 (dk_at dksX3_moveSegment_6 12 rfl rfl)
theorem dX3_moveSegment_153 : decode cX3_moveSegment 153 = .ok (.getfield 7, 3) := dk_180 0 7 (dk_at dksX3_moveSegment_6 13 rfl rfl)
theorem dX3_moveSegment_156 : decode cX3_moveSegment 156 = .ok (.bipush 66, 2) := dk_16 66 (dk_at dksX3_moveSegment_6 16 rfl rfl)
theorem dX3_moveSegment_158 : decode cX3_moveSegment 158 = .ok (.dup2, 1) := dk_92 (dk_at dksX3_moveSegment_6 18 rfl rfl)
theorem dX3_moveSegment_159 : decode cX3_moveSegment 159 = .ok (.laload, 1) := dk_47 (dk_at dksX3_moveSegment_6 19 rfl rfl)
theorem dX3_moveSegment_160 : decode cX3_moveSegment 160 = .ok (.lconst 1, 1) := dk_10 (dk_at dksX3_moveSegment_6 20 rfl rfl)
theorem dX3_moveSegment_161 : decode cX3_moveSegment 161 = .ok (.ladd, 1) := dk_97 (dk_at dksX3_moveSegment_6 21 rfl rfl)
theorem dX3_moveSegment_162 : decode cX3_moveSegment 162 = .ok (.lastore, 1) := dk_80 (dk_at dksX3_moveSegment_6 22 rfl rfl)
theorem dX3_moveSegment_163 : decode cX3_moveSegment 163 = .ok (.aload_n 0, 1) := dk_42 (dk_at dksX3_moveSegment_6 23 rfl rfl)
theorem dX3_moveSegment_164 : decode cX3_moveSegment 164 = .ok (.iload_n 2, 1) := dk_28 (dk_at dksX3_moveSegment_7 0 rfl rfl)
theorem dX3_moveSegment_165 : decode cX3_moveSegment 165 = .ok (.invokevirtual 320, 3) := dk_182 1 64 (dk_at dksX3_moveSegment_7 1 rfl rfl)
theorem dX3_moveSegment_168 : decode cX3_moveSegment 168 = .ok (.ireturn, 1) := dk_172 (dk_at dksX3_moveSegment_7 4 rfl rfl)
abbrev cX3_setJob : ByteArray := prog_26_method_126_code
def yX3_setJob : MethodName := ⟨RX3, "setJob", "(IIII)I"⟩
def dkwX3_setJob_5 : List UInt8 := [21, 4, 133, 80, 21, 6, 172]
abbrev dktX3_setJob_5 : List UInt8 := dkwX3_setJob_5 ++ []
def dkwX3_setJob_4 : List UInt8 := [16, 46, 7, 27, 104, 96, 4, 96, 29, 133, 80, 42, 180, 0, 7, 16, 46, 7, 27, 104, 96, 5, 96]
abbrev dktX3_setJob_4 : List UInt8 := dkwX3_setJob_4 ++ dktX3_setJob_5
def dkwX3_setJob_3 : List UInt8 := [182, 1, 26, 54, 6, 42, 180, 0, 7, 16, 46, 7, 27, 104, 96, 3, 96, 28, 133, 80, 42, 180, 0, 7]
abbrev dktX3_setJob_3 : List UInt8 := dkwX3_setJob_3 ++ dktX3_setJob_4
def dkwX3_setJob_2 : List UInt8 := [159, 0, 7, 4, 167, 0, 4, 3, 182, 0, 61, 154, 0, 5, 3, 172, 42, 182, 0, 249, 42, 27, 5]
abbrev dktX3_setJob_2 : List UInt8 := dkwX3_setJob_2 ++ dktX3_setJob_3
def dkwX3_setJob_1 : List UInt8 := [4, 167, 0, 4, 3, 54, 5, 42, 21, 5, 21, 4, 133, 10, 20, 1, 154, 184, 0, 144, 28, 29]
abbrev dktX3_setJob_1 : List UInt8 := dkwX3_setJob_1 ++ dktX3_setJob_2
def dkwX3_setJob_0 : List UInt8 := [42, 27, 182, 1, 20, 153, 0, 23, 42, 28, 182, 1, 10, 153, 0, 15, 42, 29, 182, 1, 10, 153, 0, 7]
abbrev dktX3_setJob_0 : List UInt8 := dkwX3_setJob_0 ++ dktX3_setJob_1
theorem dksX3_setJob_0 : cX3_setJob.data.toList.drop 0 = dktX3_setJob_0 := by decide +kernel
theorem dksX3_setJob_1 : cX3_setJob.data.toList.drop 24 = dktX3_setJob_1 := dk_seg dksX3_setJob_0 24 rfl rfl
theorem dksX3_setJob_2 : cX3_setJob.data.toList.drop 46 = dktX3_setJob_2 := dk_seg dksX3_setJob_1 22 rfl rfl
theorem dksX3_setJob_3 : cX3_setJob.data.toList.drop 69 = dktX3_setJob_3 := dk_seg dksX3_setJob_2 23 rfl rfl
theorem dksX3_setJob_4 : cX3_setJob.data.toList.drop 93 = dktX3_setJob_4 := dk_seg dksX3_setJob_3 24 rfl rfl
theorem dksX3_setJob_5 : cX3_setJob.data.toList.drop 116 = dktX3_setJob_5 := dk_seg dksX3_setJob_4 23 rfl rfl
theorem dX3_setJob_0 : decode cX3_setJob 0 = .ok (.aload_n 0, 1) := dk_42 (dk_at dksX3_setJob_0 0 rfl rfl)
theorem dX3_setJob_1 : decode cX3_setJob 1 = .ok (.iload_n 1, 1) := dk_27 (dk_at dksX3_setJob_0 1 rfl rfl)
theorem dX3_setJob_2 : decode cX3_setJob 2 = .ok (.invokevirtual 276, 3) := dk_182 1 20 (dk_at dksX3_setJob_0 2 rfl rfl)
theorem dX3_setJob_5 : decode cX3_setJob 5 = .ok (.ifCond .eq 23, 3) := dk_153 0 23 (dk_at dksX3_setJob_0 5 rfl rfl)
theorem dX3_setJob_8 : decode cX3_setJob 8 = .ok (.aload_n 0, 1) := dk_42 (dk_at dksX3_setJob_0 8 rfl rfl)
theorem dX3_setJob_9 : decode cX3_setJob 9 = .ok (.iload_n 2, 1) := dk_28 (dk_at dksX3_setJob_0 9 rfl rfl)
theorem dX3_setJob_10 : decode cX3_setJob 10 = .ok (.invokevirtual 266, 3) := dk_182 1 10 (dk_at dksX3_setJob_0 10 rfl rfl)
theorem dX3_setJob_13 : decode cX3_setJob 13 = .ok (.ifCond .eq 15, 3) := dk_153 0 15 (dk_at dksX3_setJob_0 13 rfl rfl)
theorem dX3_setJob_16 : decode cX3_setJob 16 = .ok (.aload_n 0, 1) := dk_42 (dk_at dksX3_setJob_0 16 rfl rfl)
theorem dX3_setJob_17 : decode cX3_setJob 17 = .ok (.iload_n 3, 1) := dk_29 (dk_at dksX3_setJob_0 17 rfl rfl)
theorem dX3_setJob_18 : decode cX3_setJob 18 = .ok (.invokevirtual 266, 3) := dk_182 1 10 (dk_at dksX3_setJob_0 18 rfl rfl)
theorem dX3_setJob_21 : decode cX3_setJob 21 = .ok (.ifCond .eq 7, 3) := dk_153 0 7 (dk_at dksX3_setJob_0 21 rfl rfl)
theorem dX3_setJob_24 : decode cX3_setJob 24 = .ok (.iconst 1, 1) := dk_4 (dk_at dksX3_setJob_1 0 rfl rfl)
theorem dX3_setJob_25 : decode cX3_setJob 25 = .ok (.goto 4, 3) := dk_167 0 4 (dk_at dksX3_setJob_1 1 rfl rfl)
theorem dX3_setJob_28 : decode cX3_setJob 28 = .ok (.iconst 0, 1) := dk_3 (dk_at dksX3_setJob_1 4 rfl rfl)
theorem dX3_setJob_29 : decode cX3_setJob 29 = .ok (.istore 5, 2) := dk_54 5 (dk_at dksX3_setJob_1 5 rfl rfl)
theorem dX3_setJob_31 : decode cX3_setJob 31 = .ok (.aload_n 0, 1) := dk_42 (dk_at dksX3_setJob_1 7 rfl rfl)
theorem dX3_setJob_32 : decode cX3_setJob 32 = .ok (.iload 5, 2) := dk_21 5 (dk_at dksX3_setJob_1 8 rfl rfl)
theorem dX3_setJob_34 : decode cX3_setJob 34 = .ok (.iload 4, 2) := dk_21 4 (dk_at dksX3_setJob_1 10 rfl rfl)
theorem dX3_setJob_36 : decode cX3_setJob 36 = .ok (.i2l, 1) := dk_133 (dk_at dksX3_setJob_1 12 rfl rfl)
theorem dX3_setJob_37 : decode cX3_setJob 37 = .ok (.lconst 1, 1) := dk_10 (dk_at dksX3_setJob_1 13 rfl rfl)
theorem dX3_setJob_38 : decode cX3_setJob 38 = .ok (.ldc2_w 410, 3) := dk_20 1 154 (dk_at dksX3_setJob_1 14 rfl rfl)
theorem dX3_setJob_41 : decode cX3_setJob 41 = .ok (.invokestatic 144, 3) := dk_184 0 144 (dk_at dksX3_setJob_1 17 rfl rfl)
theorem dX3_setJob_44 : decode cX3_setJob 44 = .ok (.iload_n 2, 1) := dk_28 (dk_at dksX3_setJob_1 20 rfl rfl)
theorem dX3_setJob_45 : decode cX3_setJob 45 = .ok (.iload_n 3, 1) := dk_29 (dk_at dksX3_setJob_1 21 rfl rfl)
theorem dX3_setJob_46 : decode cX3_setJob 46 = .ok (.if_icmp .eq 7, 3) := dk_159 0 7 (dk_at dksX3_setJob_2 0 rfl rfl)
theorem dX3_setJob_49 : decode cX3_setJob 49 = .ok (.iconst 1, 1) := dk_4 (dk_at dksX3_setJob_2 3 rfl rfl)
theorem dX3_setJob_50 : decode cX3_setJob 50 = .ok (.goto 4, 3) := dk_167 0 4 (dk_at dksX3_setJob_2 4 rfl rfl)
theorem dX3_setJob_53 : decode cX3_setJob 53 = .ok (.iconst 0, 1) := dk_3 (dk_at dksX3_setJob_2 7 rfl rfl)
theorem dX3_setJob_54 : decode cX3_setJob 54 = .ok (.invokevirtual 61, 3) := dk_182 0 61 (dk_at dksX3_setJob_2 8 rfl rfl)
theorem dX3_setJob_57 : decode cX3_setJob 57 = .ok (.ifCond .ne 5, 3) := dk_154 0 5 (dk_at dksX3_setJob_2 11 rfl rfl)
theorem dX3_setJob_60 : decode cX3_setJob 60 = .ok (.iconst 0, 1) := dk_3 (dk_at dksX3_setJob_2 14 rfl rfl)
theorem dX3_setJob_61 : decode cX3_setJob 61 = .ok (.ireturn, 1) := dk_172 (dk_at dksX3_setJob_2 15 rfl rfl)
theorem dX3_setJob_62 : decode cX3_setJob 62 = .ok (.aload_n 0, 1) := dk_42 (dk_at dksX3_setJob_2 16 rfl rfl)
theorem dX3_setJob_63 : decode cX3_setJob 63 = .ok (.invokevirtual 249, 3) := dk_182 0 249 (dk_at dksX3_setJob_2 17 rfl rfl)
theorem dX3_setJob_66 : decode cX3_setJob 66 = .ok (.aload_n 0, 1) := dk_42 (dk_at dksX3_setJob_2 20 rfl rfl)
theorem dX3_setJob_67 : decode cX3_setJob 67 = .ok (.iload_n 1, 1) := dk_27 (dk_at dksX3_setJob_2 21 rfl rfl)
theorem dX3_setJob_68 : decode cX3_setJob 68 = .ok (.iconst 2, 1) := dk_5 (dk_at dksX3_setJob_2 22 rfl rfl)
theorem dX3_setJob_69 : decode cX3_setJob 69 = .ok (.invokevirtual 282, 3) := dk_182 1 26 (dk_at dksX3_setJob_3 0 rfl rfl)
theorem dX3_setJob_72 : decode cX3_setJob 72 = .ok (.istore 6, 2) := dk_54 6 (dk_at dksX3_setJob_3 3 rfl rfl)
theorem dX3_setJob_74 : decode cX3_setJob 74 = .ok (.aload_n 0, 1) := dk_42 (dk_at dksX3_setJob_3 5 rfl rfl)
theorem dX3_setJob_75 : decode cX3_setJob 75 = .ok (.getfield 7, 3) := dk_180 0 7 (dk_at dksX3_setJob_3 6 rfl rfl)
theorem dX3_setJob_78 : decode cX3_setJob 78 = .ok (.bipush 46, 2) := dk_16 46 (dk_at dksX3_setJob_3 9 rfl rfl)
theorem dX3_setJob_80 : decode cX3_setJob 80 = .ok (.iconst 4, 1) := dk_7 (dk_at dksX3_setJob_3 11 rfl rfl)
theorem dX3_setJob_81 : decode cX3_setJob 81 = .ok (.iload_n 1, 1) := dk_27 (dk_at dksX3_setJob_3 12 rfl rfl)
theorem dX3_setJob_82 : decode cX3_setJob 82 = .ok (.imul, 1) := dk_104 (dk_at dksX3_setJob_3 13 rfl rfl)
theorem dX3_setJob_83 : decode cX3_setJob 83 = .ok (.iadd, 1) := dk_96 (dk_at dksX3_setJob_3 14 rfl rfl)
theorem dX3_setJob_84 : decode cX3_setJob 84 = .ok (.iconst 0, 1) := dk_3 (dk_at dksX3_setJob_3 15 rfl rfl)
theorem dX3_setJob_85 : decode cX3_setJob 85 = .ok (.iadd, 1) := dk_96 (dk_at dksX3_setJob_3 16 rfl rfl)
theorem dX3_setJob_86 : decode cX3_setJob 86 = .ok (.iload_n 2, 1) := dk_28 (dk_at dksX3_setJob_3 17 rfl rfl)
theorem dX3_setJob_87 : decode cX3_setJob 87 = .ok (.i2l, 1) := dk_133 (dk_at dksX3_setJob_3 18 rfl rfl)
theorem dX3_setJob_88 : decode cX3_setJob 88 = .ok (.lastore, 1) := dk_80 (dk_at dksX3_setJob_3 19 rfl rfl)
theorem dX3_setJob_89 : decode cX3_setJob 89 = .ok (.aload_n 0, 1) := dk_42 (dk_at dksX3_setJob_3 20 rfl rfl)
theorem dX3_setJob_90 : decode cX3_setJob 90 = .ok (.getfield 7, 3) := dk_180 0 7 (dk_at dksX3_setJob_3 21 rfl rfl)
theorem dX3_setJob_93 : decode cX3_setJob 93 = .ok (.bipush 46, 2) := dk_16 46 (dk_at dksX3_setJob_4 0 rfl rfl)
theorem dX3_setJob_95 : decode cX3_setJob 95 = .ok (.iconst 4, 1) := dk_7 (dk_at dksX3_setJob_4 2 rfl rfl)
theorem dX3_setJob_96 : decode cX3_setJob 96 = .ok (.iload_n 1, 1) := dk_27 (dk_at dksX3_setJob_4 3 rfl rfl)
theorem dX3_setJob_97 : decode cX3_setJob 97 = .ok (.imul, 1) := dk_104 (dk_at dksX3_setJob_4 4 rfl rfl)
theorem dX3_setJob_98 : decode cX3_setJob 98 = .ok (.iadd, 1) := dk_96 (dk_at dksX3_setJob_4 5 rfl rfl)
theorem dX3_setJob_99 : decode cX3_setJob 99 = .ok (.iconst 1, 1) := dk_4 (dk_at dksX3_setJob_4 6 rfl rfl)
theorem dX3_setJob_100 : decode cX3_setJob 100 = .ok (.iadd, 1) := dk_96 (dk_at dksX3_setJob_4 7 rfl rfl)
theorem dX3_setJob_101 : decode cX3_setJob 101 = .ok (.iload_n 3, 1) := dk_29 (dk_at dksX3_setJob_4 8 rfl rfl)
theorem dX3_setJob_102 : decode cX3_setJob 102 = .ok (.i2l, 1) := dk_133 (dk_at dksX3_setJob_4 9 rfl rfl)
theorem dX3_setJob_103 : decode cX3_setJob 103 = .ok (.lastore, 1) := dk_80 (dk_at dksX3_setJob_4 10 rfl rfl)
theorem dX3_setJob_104 : decode cX3_setJob 104 = .ok (.aload_n 0, 1) := dk_42 (dk_at dksX3_setJob_4 11 rfl rfl)
theorem dX3_setJob_105 : decode cX3_setJob 105 = .ok (.getfield 7, 3) := dk_180 0 7 (dk_at dksX3_setJob_4 12 rfl rfl)
theorem dX3_setJob_108 : decode cX3_setJob 108 = .ok (.bipush 46, 2) := dk_16 46 (dk_at dksX3_setJob_4 15 rfl rfl)
theorem dX3_setJob_110 : decode cX3_setJob 110 = .ok (.iconst 4, 1) := dk_7 (dk_at dksX3_setJob_4 17 rfl rfl)
theorem dX3_setJob_111 : decode cX3_setJob 111 = .ok (.iload_n 1, 1) := dk_27 (dk_at dksX3_setJob_4 18 rfl rfl)
theorem dX3_setJob_112 : decode cX3_setJob 112 = .ok (.imul, 1) := dk_104 (dk_at dksX3_setJob_4 19 rfl rfl)
theorem dX3_setJob_113 : decode cX3_setJob 113 = .ok (.iadd, 1) := dk_96 (dk_at dksX3_setJob_4 20 rfl rfl)
theorem dX3_setJob_114 : decode cX3_setJob 114 = .ok (.iconst 2, 1) := dk_5 (dk_at dksX3_setJob_4 21 rfl rfl)
theorem dX3_setJob_115 : decode cX3_setJob 115 = .ok (.iadd, 1) := dk_96 (dk_at dksX3_setJob_4 22 rfl rfl)
theorem dX3_setJob_116 : decode cX3_setJob 116 = .ok (.iload 4, 2) := dk_21 4 (dk_at dksX3_setJob_5 0 rfl rfl)
theorem dX3_setJob_118 : decode cX3_setJob 118 = .ok (.i2l, 1) := dk_133 (dk_at dksX3_setJob_5 2 rfl rfl)
theorem dX3_setJob_119 : decode cX3_setJob 119 = .ok (.lastore, 1) := dk_80 (dk_at dksX3_setJob_5 3 rfl rfl)
theorem dX3_setJob_120 : decode cX3_setJob 120 = .ok (.iload 6, 2) := dk_21 6 (dk_at dksX3_setJob_5 4 rfl rfl)
theorem dX3_setJob_122 : decode cX3_setJob 122 = .ok (.ireturn, 1) := dk_172 (dk_at dksX3_setJob_5 6 rfl rfl)
abbrev cX3_setFollowed : ByteArray := prog_26_method_128_code
def yX3_setFollowed : MethodName := ⟨RX3, "setFollowed", "(II)I"⟩
def dkwX3_setFollowed_1 : List UInt8 := [153, 0, 19, 42, 16, 46, 7, 27, 104, 96, 6, 96, 28, 182, 1, 156, 167, 0, 4, 3, 172]
abbrev dktX3_setFollowed_1 : List UInt8 := dkwX3_setFollowed_1 ++ []
def dkwX3_setFollowed_0 : List UInt8 := [42, 42, 27, 182, 1, 20, 28, 133, 9, 42, 180, 0, 7, 16, 20, 47, 184, 0, 144, 182, 1, 23]
abbrev dktX3_setFollowed_0 : List UInt8 := dkwX3_setFollowed_0 ++ dktX3_setFollowed_1
theorem dksX3_setFollowed_0 : cX3_setFollowed.data.toList.drop 0 = dktX3_setFollowed_0 := by decide +kernel
theorem dksX3_setFollowed_1 : cX3_setFollowed.data.toList.drop 22 = dktX3_setFollowed_1 := dk_seg dksX3_setFollowed_0 22 rfl rfl
theorem dX3_setFollowed_0 : decode cX3_setFollowed 0 = .ok (.aload_n 0, 1) := dk_42 (dk_at dksX3_setFollowed_0 0 rfl rfl)
theorem dX3_setFollowed_1 : decode cX3_setFollowed 1 = .ok (.aload_n 0, 1) := dk_42 (dk_at dksX3_setFollowed_0 1 rfl rfl)
theorem dX3_setFollowed_2 : decode cX3_setFollowed 2 = .ok (.iload_n 1, 1) := dk_27 (dk_at dksX3_setFollowed_0 2 rfl rfl)
theorem dX3_setFollowed_3 : decode cX3_setFollowed 3 = .ok (.invokevirtual 276, 3) := dk_182 1 20 (dk_at dksX3_setFollowed_0 3 rfl rfl)
theorem dX3_setFollowed_6 : decode cX3_setFollowed 6 = .ok (.iload_n 2, 1) := dk_28 (dk_at dksX3_setFollowed_0 6 rfl rfl)
theorem dX3_setFollowed_7 : decode cX3_setFollowed 7 = .ok (.i2l, 1) := dk_133 (dk_at dksX3_setFollowed_0 7 rfl rfl)
theorem dX3_setFollowed_8 : decode cX3_setFollowed 8 = .ok (.lconst 0, 1) := dk_9 (dk_at dksX3_setFollowed_0 8 rfl rfl)
theorem dX3_setFollowed_9 : decode cX3_setFollowed 9 = .ok (.aload_n 0, 1) := dk_42 (dk_at dksX3_setFollowed_0 9 rfl rfl)
theorem dX3_setFollowed_10 : decode cX3_setFollowed 10 = .ok (.getfield 7, 3) := dk_180 0 7 (dk_at dksX3_setFollowed_0 10 rfl rfl)
theorem dX3_setFollowed_13 : decode cX3_setFollowed 13 = .ok (.bipush 20, 2) := dk_16 20 (dk_at dksX3_setFollowed_0 13 rfl rfl)
theorem dX3_setFollowed_15 : decode cX3_setFollowed 15 = .ok (.laload, 1) := dk_47 (dk_at dksX3_setFollowed_0 15 rfl rfl)
theorem dX3_setFollowed_16 : decode cX3_setFollowed 16 = .ok (.invokestatic 144, 3) := dk_184 0 144 (dk_at dksX3_setFollowed_0 16 rfl rfl)
theorem dX3_setFollowed_19 : decode cX3_setFollowed 19 = .ok (.invokevirtual 279, 3) := dk_182 1 23 (dk_at dksX3_setFollowed_0 19 rfl rfl)
theorem dX3_setFollowed_22 : decode cX3_setFollowed 22 = .ok (.ifCond .eq 19, 3) := dk_153 0 19 (dk_at dksX3_setFollowed_1 0 rfl rfl)
theorem dX3_setFollowed_25 : decode cX3_setFollowed 25 = .ok (.aload_n 0, 1) := dk_42 (dk_at dksX3_setFollowed_1 3 rfl rfl)
theorem dX3_setFollowed_26 : decode cX3_setFollowed 26 = .ok (.bipush 46, 2) := dk_16 46 (dk_at dksX3_setFollowed_1 4 rfl rfl)
theorem dX3_setFollowed_28 : decode cX3_setFollowed 28 = .ok (.iconst 4, 1) := dk_7 (dk_at dksX3_setFollowed_1 6 rfl rfl)
theorem dX3_setFollowed_29 : decode cX3_setFollowed 29 = .ok (.iload_n 1, 1) := dk_27 (dk_at dksX3_setFollowed_1 7 rfl rfl)
theorem dX3_setFollowed_30 : decode cX3_setFollowed 30 = .ok (.imul, 1) := dk_104 (dk_at dksX3_setFollowed_1 8 rfl rfl)
theorem dX3_setFollowed_31 : decode cX3_setFollowed 31 = .ok (.iadd, 1) := dk_96 (dk_at dksX3_setFollowed_1 9 rfl rfl)
theorem dX3_setFollowed_32 : decode cX3_setFollowed 32 = .ok (.iconst 3, 1) := dk_6 (dk_at dksX3_setFollowed_1 10 rfl rfl)
theorem dX3_setFollowed_33 : decode cX3_setFollowed 33 = .ok (.iadd, 1) := dk_96 (dk_at dksX3_setFollowed_1 11 rfl rfl)
theorem dX3_setFollowed_34 : decode cX3_setFollowed 34 = .ok (.iload_n 2, 1) := dk_28 (dk_at dksX3_setFollowed_1 12 rfl rfl)
theorem dX3_setFollowed_35 : decode cX3_setFollowed 35 = .ok (.invokevirtual 412, 3) := dk_182 1 156 (dk_at dksX3_setFollowed_1 13 rfl rfl)
theorem dX3_setFollowed_38 : decode cX3_setFollowed 38 = .ok (.goto 4, 3) := dk_167 0 4 (dk_at dksX3_setFollowed_1 16 rfl rfl)
theorem dX3_setFollowed_41 : decode cX3_setFollowed 41 = .ok (.iconst 0, 1) := dk_3 (dk_at dksX3_setFollowed_1 19 rfl rfl)
theorem dX3_setFollowed_42 : decode cX3_setFollowed 42 = .ok (.ireturn, 1) := dk_172 (dk_at dksX3_setFollowed_1 20 rfl rfl)
abbrev cX3_sets : ByteArray := prog_26_method_127_code
def yX3_sets : MethodName := ⟨RX3, "sets", "(II)I"⟩
def dkwX3_sets_0 : List UInt8 := [42, 182, 0, 249, 42, 180, 0, 7, 27, 47, 136, 62, 42, 180, 0, 7, 27, 28, 133, 80, 29, 172]
abbrev dktX3_sets_0 : List UInt8 := dkwX3_sets_0 ++ []
theorem dksX3_sets_0 : cX3_sets.data.toList.drop 0 = dktX3_sets_0 := by decide +kernel
theorem dX3_sets_0 : decode cX3_sets 0 = .ok (.aload_n 0, 1) := dk_42 (dk_at dksX3_sets_0 0 rfl rfl)
theorem dX3_sets_1 : decode cX3_sets 1 = .ok (.invokevirtual 249, 3) := dk_182 0 249 (dk_at dksX3_sets_0 1 rfl rfl)
theorem dX3_sets_4 : decode cX3_sets 4 = .ok (.aload_n 0, 1) := dk_42 (dk_at dksX3_sets_0 4 rfl rfl)
theorem dX3_sets_5 : decode cX3_sets 5 = .ok (.getfield 7, 3) := dk_180 0 7 (dk_at dksX3_sets_0 5 rfl rfl)
theorem dX3_sets_8 : decode cX3_sets 8 = .ok (.iload_n 1, 1) := dk_27 (dk_at dksX3_sets_0 8 rfl rfl)
theorem dX3_sets_9 : decode cX3_sets 9 = .ok (.laload, 1) := dk_47 (dk_at dksX3_sets_0 9 rfl rfl)
theorem dX3_sets_10 : decode cX3_sets 10 = .ok (.l2i, 1) := dk_136 (dk_at dksX3_sets_0 10 rfl rfl)
theorem dX3_sets_11 : decode cX3_sets 11 = .ok (.istore_n 3, 1) := dk_62 (dk_at dksX3_sets_0 11 rfl rfl)
theorem dX3_sets_12 : decode cX3_sets 12 = .ok (.aload_n 0, 1) := dk_42 (dk_at dksX3_sets_0 12 rfl rfl)
theorem dX3_sets_13 : decode cX3_sets 13 = .ok (.getfield 7, 3) := dk_180 0 7 (dk_at dksX3_sets_0 13 rfl rfl)
theorem dX3_sets_16 : decode cX3_sets 16 = .ok (.iload_n 1, 1) := dk_27 (dk_at dksX3_sets_0 16 rfl rfl)
theorem dX3_sets_17 : decode cX3_sets 17 = .ok (.iload_n 2, 1) := dk_28 (dk_at dksX3_sets_0 17 rfl rfl)
theorem dX3_sets_18 : decode cX3_sets 18 = .ok (.i2l, 1) := dk_133 (dk_at dksX3_sets_0 18 rfl rfl)
theorem dX3_sets_19 : decode cX3_sets 19 = .ok (.lastore, 1) := dk_80 (dk_at dksX3_sets_0 19 rfl rfl)
theorem dX3_sets_20 : decode cX3_sets 20 = .ok (.iload_n 3, 1) := dk_29 (dk_at dksX3_sets_0 20 rfl rfl)
theorem dX3_sets_21 : decode cX3_sets 21 = .ok (.ireturn, 1) := dk_172 (dk_at dksX3_sets_0 21 rfl rfl)
abbrev cX3_setBand : ByteArray := prog_26_method_129_code
def yX3_setBand : MethodName := ⟨RX3, "setBand", "(II)I"⟩
def dkwX3_setBand_1 : List UInt8 := [28, 182, 1, 156, 167, 0, 4, 3, 172]
abbrev dktX3_setBand_1 : List UInt8 := dkwX3_setBand_1 ++ []
def dkwX3_setBand_0 : List UInt8 := [42, 27, 184, 1, 7, 28, 133, 9, 20, 0, 59, 184, 0, 144, 182, 1, 23, 153, 0, 14, 42, 7, 27, 96]
abbrev dktX3_setBand_0 : List UInt8 := dkwX3_setBand_0 ++ dktX3_setBand_1
theorem dksX3_setBand_0 : cX3_setBand.data.toList.drop 0 = dktX3_setBand_0 := by decide +kernel
theorem dksX3_setBand_1 : cX3_setBand.data.toList.drop 24 = dktX3_setBand_1 := dk_seg dksX3_setBand_0 24 rfl rfl
theorem dX3_setBand_0 : decode cX3_setBand 0 = .ok (.aload_n 0, 1) := dk_42 (dk_at dksX3_setBand_0 0 rfl rfl)
theorem dX3_setBand_1 : decode cX3_setBand 1 = .ok (.iload_n 1, 1) := dk_27 (dk_at dksX3_setBand_0 1 rfl rfl)
theorem dX3_setBand_2 : decode cX3_setBand 2 = .ok (.invokestatic 263, 3) := dk_184 1 7 (dk_at dksX3_setBand_0 2 rfl rfl)
theorem dX3_setBand_5 : decode cX3_setBand 5 = .ok (.iload_n 2, 1) := dk_28 (dk_at dksX3_setBand_0 5 rfl rfl)
theorem dX3_setBand_6 : decode cX3_setBand 6 = .ok (.i2l, 1) := dk_133 (dk_at dksX3_setBand_0 6 rfl rfl)
theorem dX3_setBand_7 : decode cX3_setBand 7 = .ok (.lconst 0, 1) := dk_9 (dk_at dksX3_setBand_0 7 rfl rfl)
theorem dX3_setBand_8 : decode cX3_setBand 8 = .ok (.ldc2_w 59, 3) := dk_20 0 59 (dk_at dksX3_setBand_0 8 rfl rfl)
theorem dX3_setBand_11 : decode cX3_setBand 11 = .ok (.invokestatic 144, 3) := dk_184 0 144 (dk_at dksX3_setBand_0 11 rfl rfl)
theorem dX3_setBand_14 : decode cX3_setBand 14 = .ok (.invokevirtual 279, 3) := dk_182 1 23 (dk_at dksX3_setBand_0 14 rfl rfl)
theorem dX3_setBand_17 : decode cX3_setBand 17 = .ok (.ifCond .eq 14, 3) := dk_153 0 14 (dk_at dksX3_setBand_0 17 rfl rfl)
theorem dX3_setBand_20 : decode cX3_setBand 20 = .ok (.aload_n 0, 1) := dk_42 (dk_at dksX3_setBand_0 20 rfl rfl)
theorem dX3_setBand_21 : decode cX3_setBand 21 = .ok (.iconst 4, 1) := dk_7 (dk_at dksX3_setBand_0 21 rfl rfl)
theorem dX3_setBand_22 : decode cX3_setBand 22 = .ok (.iload_n 1, 1) := dk_27 (dk_at dksX3_setBand_0 22 rfl rfl)
theorem dX3_setBand_23 : decode cX3_setBand 23 = .ok (.iadd, 1) := dk_96 (dk_at dksX3_setBand_0 23 rfl rfl)
theorem dX3_setBand_24 : decode cX3_setBand 24 = .ok (.iload_n 2, 1) := dk_28 (dk_at dksX3_setBand_1 0 rfl rfl)
theorem dX3_setBand_25 : decode cX3_setBand 25 = .ok (.invokevirtual 412, 3) := dk_182 1 156 (dk_at dksX3_setBand_1 1 rfl rfl)
theorem dX3_setBand_28 : decode cX3_setBand 28 = .ok (.goto 4, 3) := dk_167 0 4 (dk_at dksX3_setBand_1 4 rfl rfl)
theorem dX3_setBand_31 : decode cX3_setBand 31 = .ok (.iconst 0, 1) := dk_3 (dk_at dksX3_setBand_1 7 rfl rfl)
theorem dX3_setBand_32 : decode cX3_setBand 32 = .ok (.ireturn, 1) := dk_172 (dk_at dksX3_setBand_1 8 rfl rfl)
abbrev cX3_setSetting : ByteArray := prog_26_method_130_code
def yX3_setSetting : MethodName := ⟨RX3, "setSetting", "(II)I"⟩
def dkwX3_setSetting_2 : List UInt8 := [182, 1, 156, 167, 0, 4, 3, 172]
abbrev dktX3_setSetting_2 : List UInt8 := dkwX3_setSetting_2 ++ []
def dkwX3_setSetting_1 : List UInt8 := [184, 0, 144, 153, 0, 7, 4, 167, 0, 4, 3, 62, 42, 29, 182, 0, 240, 153, 0, 12, 42, 27, 28]
abbrev dktX3_setSetting_1 : List UInt8 := dkwX3_setSetting_1 ++ dktX3_setSetting_2
def dkwX3_setSetting_0 : List UInt8 := [27, 133, 9, 20, 1, 5, 184, 0, 144, 153, 0, 25, 28, 133, 27, 184, 0, 182, 133, 27, 184, 0, 185, 133]
abbrev dktX3_setSetting_0 : List UInt8 := dkwX3_setSetting_0 ++ dktX3_setSetting_1
theorem dksX3_setSetting_0 : cX3_setSetting.data.toList.drop 0 = dktX3_setSetting_0 := by decide +kernel
theorem dksX3_setSetting_1 : cX3_setSetting.data.toList.drop 24 = dktX3_setSetting_1 := dk_seg dksX3_setSetting_0 24 rfl rfl
theorem dksX3_setSetting_2 : cX3_setSetting.data.toList.drop 47 = dktX3_setSetting_2 := dk_seg dksX3_setSetting_1 23 rfl rfl
theorem dX3_setSetting_0 : decode cX3_setSetting 0 = .ok (.iload_n 1, 1) := dk_27 (dk_at dksX3_setSetting_0 0 rfl rfl)
theorem dX3_setSetting_1 : decode cX3_setSetting 1 = .ok (.i2l, 1) := dk_133 (dk_at dksX3_setSetting_0 1 rfl rfl)
theorem dX3_setSetting_2 : decode cX3_setSetting 2 = .ok (.lconst 0, 1) := dk_9 (dk_at dksX3_setSetting_0 2 rfl rfl)
theorem dX3_setSetting_3 : decode cX3_setSetting 3 = .ok (.ldc2_w 261, 3) := dk_20 1 5 (dk_at dksX3_setSetting_0 3 rfl rfl)
theorem dX3_setSetting_6 : decode cX3_setSetting 6 = .ok (.invokestatic 144, 3) := dk_184 0 144 (dk_at dksX3_setSetting_0 6 rfl rfl)
theorem dX3_setSetting_9 : decode cX3_setSetting 9 = .ok (.ifCond .eq 25, 3) := dk_153 0 25 (dk_at dksX3_setSetting_0 9 rfl rfl)
theorem dX3_setSetting_12 : decode cX3_setSetting 12 = .ok (.iload_n 2, 1) := dk_28 (dk_at dksX3_setSetting_0 12 rfl rfl)
theorem dX3_setSetting_13 : decode cX3_setSetting 13 = .ok (.i2l, 1) := dk_133 (dk_at dksX3_setSetting_0 13 rfl rfl)
theorem dX3_setSetting_14 : decode cX3_setSetting 14 = .ok (.iload_n 1, 1) := dk_27 (dk_at dksX3_setSetting_0 14 rfl rfl)
theorem dX3_setSetting_15 : decode cX3_setSetting 15 = .ok (.invokestatic 182, 3) := dk_184 0 182 (dk_at dksX3_setSetting_0 15 rfl rfl)
theorem dX3_setSetting_18 : decode cX3_setSetting 18 = .ok (.i2l, 1) := dk_133 (dk_at dksX3_setSetting_0 18 rfl rfl)
theorem dX3_setSetting_19 : decode cX3_setSetting 19 = .ok (.iload_n 1, 1) := dk_27 (dk_at dksX3_setSetting_0 19 rfl rfl)
theorem dX3_setSetting_20 : decode cX3_setSetting 20 = .ok (.invokestatic 185, 3) := dk_184 0 185 (dk_at dksX3_setSetting_0 20 rfl rfl)
theorem dX3_setSetting_23 : decode cX3_setSetting 23 = .ok (.i2l, 1) := dk_133 (dk_at dksX3_setSetting_0 23 rfl rfl)
theorem dX3_setSetting_24 : decode cX3_setSetting 24 = .ok (.invokestatic 144, 3) := dk_184 0 144 (dk_at dksX3_setSetting_1 0 rfl rfl)
theorem dX3_setSetting_27 : decode cX3_setSetting 27 = .ok (.ifCond .eq 7, 3) := dk_153 0 7 (dk_at dksX3_setSetting_1 3 rfl rfl)
theorem dX3_setSetting_30 : decode cX3_setSetting 30 = .ok (.iconst 1, 1) := dk_4 (dk_at dksX3_setSetting_1 6 rfl rfl)
theorem dX3_setSetting_31 : decode cX3_setSetting 31 = .ok (.goto 4, 3) := dk_167 0 4 (dk_at dksX3_setSetting_1 7 rfl rfl)
theorem dX3_setSetting_34 : decode cX3_setSetting 34 = .ok (.iconst 0, 1) := dk_3 (dk_at dksX3_setSetting_1 10 rfl rfl)
theorem dX3_setSetting_35 : decode cX3_setSetting 35 = .ok (.istore_n 3, 1) := dk_62 (dk_at dksX3_setSetting_1 11 rfl rfl)
theorem dX3_setSetting_36 : decode cX3_setSetting 36 = .ok (.aload_n 0, 1) := dk_42 (dk_at dksX3_setSetting_1 12 rfl rfl)
theorem dX3_setSetting_37 : decode cX3_setSetting 37 = .ok (.iload_n 3, 1) := dk_29 (dk_at dksX3_setSetting_1 13 rfl rfl)
theorem dX3_setSetting_38 : decode cX3_setSetting 38 = .ok (.invokevirtual 240, 3) := dk_182 0 240 (dk_at dksX3_setSetting_1 14 rfl rfl)
theorem dX3_setSetting_41 : decode cX3_setSetting 41 = .ok (.ifCond .eq 12, 3) := dk_153 0 12 (dk_at dksX3_setSetting_1 17 rfl rfl)
theorem dX3_setSetting_44 : decode cX3_setSetting 44 = .ok (.aload_n 0, 1) := dk_42 (dk_at dksX3_setSetting_1 20 rfl rfl)
theorem dX3_setSetting_45 : decode cX3_setSetting 45 = .ok (.iload_n 1, 1) := dk_27 (dk_at dksX3_setSetting_1 21 rfl rfl)
theorem dX3_setSetting_46 : decode cX3_setSetting 46 = .ok (.iload_n 2, 1) := dk_28 (dk_at dksX3_setSetting_1 22 rfl rfl)
theorem dX3_setSetting_47 : decode cX3_setSetting 47 = .ok (.invokevirtual 412, 3) := dk_182 1 156 (dk_at dksX3_setSetting_2 0 rfl rfl)
theorem dX3_setSetting_50 : decode cX3_setSetting 50 = .ok (.goto 4, 3) := dk_167 0 4 (dk_at dksX3_setSetting_2 3 rfl rfl)
theorem dX3_setSetting_53 : decode cX3_setSetting 53 = .ok (.iconst 0, 1) := dk_3 (dk_at dksX3_setSetting_2 6 rfl rfl)
theorem dX3_setSetting_54 : decode cX3_setSetting 54 = .ok (.ireturn, 1) := dk_172 (dk_at dksX3_setSetting_2 7 rfl rfl)
abbrev cX3_swapTargets : ByteArray := prog_26_method_132_code
def yX3_swapTargets : MethodName := ⟨RX3, "swapTargets", "(II)I"⟩
def dkwX3_swapTargets_4 : List UInt8 := [167, 255, 229, 42, 182, 0, 255, 42, 180, 1, 2, 172]
abbrev dktX3_swapTargets_4 : List UInt8 := dkwX3_swapTargets_4 ++ []
def dkwX3_swapTargets_3 : List UInt8 := [162, 0, 26, 42, 29, 6, 96, 21, 5, 96, 21, 4, 6, 96, 21, 5, 96, 182, 1, 159, 132, 5, 1]
abbrev dktX3_swapTargets_3 : List UInt8 := dkwX3_swapTargets_3 ++ dktX3_swapTargets_4
def dkwX3_swapTargets_2 : List UInt8 := [28, 104, 96, 54, 4, 42, 29, 5, 96, 21, 4, 5, 96, 182, 1, 159, 16, 8, 54, 5, 21, 5, 16, 16]
abbrev dktX3_swapTargets_2 : List UInt8 := dkwX3_swapTargets_2 ++ dktX3_swapTargets_3
def dkwX3_swapTargets_1 : List UInt8 := [182, 0, 240, 154, 0, 5, 3, 172, 42, 182, 0, 249, 16, 67, 16, 19, 27, 104, 96, 62, 16, 67, 16, 19]
abbrev dktX3_swapTargets_1 : List UInt8 := dkwX3_swapTargets_1 ++ dktX3_swapTargets_2
def dkwX3_swapTargets_0 : List UInt8 := [42, 42, 27, 182, 1, 36, 153, 0, 15, 42, 28, 182, 1, 36, 153, 0, 7, 4, 167, 0, 4, 3]
abbrev dktX3_swapTargets_0 : List UInt8 := dkwX3_swapTargets_0 ++ dktX3_swapTargets_1
theorem dksX3_swapTargets_0 : cX3_swapTargets.data.toList.drop 0 = dktX3_swapTargets_0 := by decide +kernel
theorem dksX3_swapTargets_1 : cX3_swapTargets.data.toList.drop 22 = dktX3_swapTargets_1 := dk_seg dksX3_swapTargets_0 22 rfl rfl
theorem dksX3_swapTargets_2 : cX3_swapTargets.data.toList.drop 46 = dktX3_swapTargets_2 := dk_seg dksX3_swapTargets_1 24 rfl rfl
theorem dksX3_swapTargets_3 : cX3_swapTargets.data.toList.drop 70 = dktX3_swapTargets_3 := dk_seg dksX3_swapTargets_2 24 rfl rfl
theorem dksX3_swapTargets_4 : cX3_swapTargets.data.toList.drop 93 = dktX3_swapTargets_4 := dk_seg dksX3_swapTargets_3 23 rfl rfl
theorem dX3_swapTargets_0 : decode cX3_swapTargets 0 = .ok (.aload_n 0, 1) := dk_42 (dk_at dksX3_swapTargets_0 0 rfl rfl)
theorem dX3_swapTargets_1 : decode cX3_swapTargets 1 = .ok (.aload_n 0, 1) := dk_42 (dk_at dksX3_swapTargets_0 1 rfl rfl)
theorem dX3_swapTargets_2 : decode cX3_swapTargets 2 = .ok (.iload_n 1, 1) := dk_27 (dk_at dksX3_swapTargets_0 2 rfl rfl)
theorem dX3_swapTargets_3 : decode cX3_swapTargets 3 = .ok (.invokevirtual 292, 3) := dk_182 1 36 (dk_at dksX3_swapTargets_0 3 rfl rfl)
theorem dX3_swapTargets_6 : decode cX3_swapTargets 6 = .ok (.ifCond .eq 15, 3) := dk_153 0 15 (dk_at dksX3_swapTargets_0 6 rfl rfl)
theorem dX3_swapTargets_9 : decode cX3_swapTargets 9 = .ok (.aload_n 0, 1) := dk_42 (dk_at dksX3_swapTargets_0 9 rfl rfl)
theorem dX3_swapTargets_10 : decode cX3_swapTargets 10 = .ok (.iload_n 2, 1) := dk_28 (dk_at dksX3_swapTargets_0 10 rfl rfl)
theorem dX3_swapTargets_11 : decode cX3_swapTargets 11 = .ok (.invokevirtual 292, 3) := dk_182 1 36 (dk_at dksX3_swapTargets_0 11 rfl rfl)
theorem dX3_swapTargets_14 : decode cX3_swapTargets 14 = .ok (.ifCond .eq 7, 3) := dk_153 0 7 (dk_at dksX3_swapTargets_0 14 rfl rfl)
theorem dX3_swapTargets_17 : decode cX3_swapTargets 17 = .ok (.iconst 1, 1) := dk_4 (dk_at dksX3_swapTargets_0 17 rfl rfl)
theorem dX3_swapTargets_18 : decode cX3_swapTargets 18 = .ok (.goto 4, 3) := dk_167 0 4 (dk_at dksX3_swapTargets_0 18 rfl rfl)
theorem dX3_swapTargets_21 : decode cX3_swapTargets 21 = .ok (.iconst 0, 1) := dk_3 (dk_at dksX3_swapTargets_0 21 rfl rfl)
theorem dX3_swapTargets_22 : decode cX3_swapTargets 22 = .ok (.invokevirtual 240, 3) := dk_182 0 240 (dk_at dksX3_swapTargets_1 0 rfl rfl)
theorem dX3_swapTargets_25 : decode cX3_swapTargets 25 = .ok (.ifCond .ne 5, 3) := dk_154 0 5 (dk_at dksX3_swapTargets_1 3 rfl rfl)
theorem dX3_swapTargets_28 : decode cX3_swapTargets 28 = .ok (.iconst 0, 1) := dk_3 (dk_at dksX3_swapTargets_1 6 rfl rfl)
theorem dX3_swapTargets_29 : decode cX3_swapTargets 29 = .ok (.ireturn, 1) := dk_172 (dk_at dksX3_swapTargets_1 7 rfl rfl)
theorem dX3_swapTargets_30 : decode cX3_swapTargets 30 = .ok (.aload_n 0, 1) := dk_42 (dk_at dksX3_swapTargets_1 8 rfl rfl)
theorem dX3_swapTargets_31 : decode cX3_swapTargets 31 = .ok (.invokevirtual 249, 3) := dk_182 0 249 (dk_at dksX3_swapTargets_1 9 rfl rfl)
theorem dX3_swapTargets_34 : decode cX3_swapTargets 34 = .ok (.bipush 67, 2) := dk_16 67 (dk_at dksX3_swapTargets_1 12 rfl rfl)
theorem dX3_swapTargets_36 : decode cX3_swapTargets 36 = .ok (.bipush 19, 2) := dk_16 19 (dk_at dksX3_swapTargets_1 14 rfl rfl)
theorem dX3_swapTargets_38 : decode cX3_swapTargets 38 = .ok (.iload_n 1, 1) := dk_27 (dk_at dksX3_swapTargets_1 16 rfl rfl)
theorem dX3_swapTargets_39 : decode cX3_swapTargets 39 = .ok (.imul, 1) := dk_104 (dk_at dksX3_swapTargets_1 17 rfl rfl)
theorem dX3_swapTargets_40 : decode cX3_swapTargets 40 = .ok (.iadd, 1) := dk_96 (dk_at dksX3_swapTargets_1 18 rfl rfl)
theorem dX3_swapTargets_41 : decode cX3_swapTargets 41 = .ok (.istore_n 3, 1) := dk_62 (dk_at dksX3_swapTargets_1 19 rfl rfl)
theorem dX3_swapTargets_42 : decode cX3_swapTargets 42 = .ok (.bipush 67, 2) := dk_16 67 (dk_at dksX3_swapTargets_1 20 rfl rfl)
theorem dX3_swapTargets_44 : decode cX3_swapTargets 44 = .ok (.bipush 19, 2) := dk_16 19 (dk_at dksX3_swapTargets_1 22 rfl rfl)
theorem dX3_swapTargets_46 : decode cX3_swapTargets 46 = .ok (.iload_n 2, 1) := dk_28 (dk_at dksX3_swapTargets_2 0 rfl rfl)
theorem dX3_swapTargets_47 : decode cX3_swapTargets 47 = .ok (.imul, 1) := dk_104 (dk_at dksX3_swapTargets_2 1 rfl rfl)
theorem dX3_swapTargets_48 : decode cX3_swapTargets 48 = .ok (.iadd, 1) := dk_96 (dk_at dksX3_swapTargets_2 2 rfl rfl)
theorem dX3_swapTargets_49 : decode cX3_swapTargets 49 = .ok (.istore 4, 2) := dk_54 4 (dk_at dksX3_swapTargets_2 3 rfl rfl)
theorem dX3_swapTargets_51 : decode cX3_swapTargets 51 = .ok (.aload_n 0, 1) := dk_42 (dk_at dksX3_swapTargets_2 5 rfl rfl)
theorem dX3_swapTargets_52 : decode cX3_swapTargets 52 = .ok (.iload_n 3, 1) := dk_29 (dk_at dksX3_swapTargets_2 6 rfl rfl)
theorem dX3_swapTargets_53 : decode cX3_swapTargets 53 = .ok (.iconst 2, 1) := dk_5 (dk_at dksX3_swapTargets_2 7 rfl rfl)
theorem dX3_swapTargets_54 : decode cX3_swapTargets 54 = .ok (.iadd, 1) := dk_96 (dk_at dksX3_swapTargets_2 8 rfl rfl)
theorem dX3_swapTargets_55 : decode cX3_swapTargets 55 = .ok (.iload 4, 2) := dk_21 4 (dk_at dksX3_swapTargets_2 9 rfl rfl)
theorem dX3_swapTargets_57 : decode cX3_swapTargets 57 = .ok (.iconst 2, 1) := dk_5 (dk_at dksX3_swapTargets_2 11 rfl rfl)
theorem dX3_swapTargets_58 : decode cX3_swapTargets 58 = .ok (.iadd, 1) := dk_96 (dk_at dksX3_swapTargets_2 12 rfl rfl)
theorem dX3_swapTargets_59 : decode cX3_swapTargets 59 = .ok (.invokevirtual 415, 3) := dk_182 1 159 (dk_at dksX3_swapTargets_2 13 rfl rfl)
theorem dX3_swapTargets_62 : decode cX3_swapTargets 62 = .ok (.bipush 8, 2) := dk_16 8 (dk_at dksX3_swapTargets_2 16 rfl rfl)
theorem dX3_swapTargets_64 : decode cX3_swapTargets 64 = .ok (.istore 5, 2) := dk_54 5 (dk_at dksX3_swapTargets_2 18 rfl rfl)
theorem dX3_swapTargets_66 : decode cX3_swapTargets 66 = .ok (.iload 5, 2) := dk_21 5 (dk_at dksX3_swapTargets_2 20 rfl rfl)
theorem dX3_swapTargets_68 : decode cX3_swapTargets 68 = .ok (.bipush 16, 2) := dk_16 16 (dk_at dksX3_swapTargets_2 22 rfl rfl)
theorem dX3_swapTargets_70 : decode cX3_swapTargets 70 = .ok (.if_icmp .ge 26, 3) := dk_162 0 26 (dk_at dksX3_swapTargets_3 0 rfl rfl)
theorem dX3_swapTargets_73 : decode cX3_swapTargets 73 = .ok (.aload_n 0, 1) := dk_42 (dk_at dksX3_swapTargets_3 3 rfl rfl)
theorem dX3_swapTargets_74 : decode cX3_swapTargets 74 = .ok (.iload_n 3, 1) := dk_29 (dk_at dksX3_swapTargets_3 4 rfl rfl)
theorem dX3_swapTargets_75 : decode cX3_swapTargets 75 = .ok (.iconst 3, 1) := dk_6 (dk_at dksX3_swapTargets_3 5 rfl rfl)
theorem dX3_swapTargets_76 : decode cX3_swapTargets 76 = .ok (.iadd, 1) := dk_96 (dk_at dksX3_swapTargets_3 6 rfl rfl)
theorem dX3_swapTargets_77 : decode cX3_swapTargets 77 = .ok (.iload 5, 2) := dk_21 5 (dk_at dksX3_swapTargets_3 7 rfl rfl)
theorem dX3_swapTargets_79 : decode cX3_swapTargets 79 = .ok (.iadd, 1) := dk_96 (dk_at dksX3_swapTargets_3 9 rfl rfl)
theorem dX3_swapTargets_80 : decode cX3_swapTargets 80 = .ok (.iload 4, 2) := dk_21 4 (dk_at dksX3_swapTargets_3 10 rfl rfl)
theorem dX3_swapTargets_82 : decode cX3_swapTargets 82 = .ok (.iconst 3, 1) := dk_6 (dk_at dksX3_swapTargets_3 12 rfl rfl)
theorem dX3_swapTargets_83 : decode cX3_swapTargets 83 = .ok (.iadd, 1) := dk_96 (dk_at dksX3_swapTargets_3 13 rfl rfl)
theorem dX3_swapTargets_84 : decode cX3_swapTargets 84 = .ok (.iload 5, 2) := dk_21 5 (dk_at dksX3_swapTargets_3 14 rfl rfl)
theorem dX3_swapTargets_86 : decode cX3_swapTargets 86 = .ok (.iadd, 1) := dk_96 (dk_at dksX3_swapTargets_3 16 rfl rfl)
theorem dX3_swapTargets_87 : decode cX3_swapTargets 87 = .ok (.invokevirtual 415, 3) := dk_182 1 159 (dk_at dksX3_swapTargets_3 17 rfl rfl)
theorem dX3_swapTargets_90 : decode cX3_swapTargets 90 = .ok (.iinc 5 1, 3) := dk_132 5 1 (dk_at dksX3_swapTargets_3 20 rfl rfl)
theorem dX3_swapTargets_93 : decode cX3_swapTargets 93 = .ok (.goto (-27), 3) := dk_167 255 229 (dk_at dksX3_swapTargets_4 0 rfl rfl)
theorem dX3_swapTargets_96 : decode cX3_swapTargets 96 = .ok (.aload_n 0, 1) := dk_42 (dk_at dksX3_swapTargets_4 3 rfl rfl)
theorem dX3_swapTargets_97 : decode cX3_swapTargets 97 = .ok (.invokevirtual 255, 3) := dk_182 0 255 (dk_at dksX3_swapTargets_4 4 rfl rfl)
theorem dX3_swapTargets_100 : decode cX3_swapTargets 100 = .ok (.aload_n 0, 1) := dk_42 (dk_at dksX3_swapTargets_4 7 rfl rfl)
theorem dX3_swapTargets_101 : decode cX3_swapTargets 101 = .ok (.getfield 258, 3) := dk_180 1 2 (dk_at dksX3_swapTargets_4 8 rfl rfl)
theorem dX3_swapTargets_104 : decode cX3_swapTargets 104 = .ok (.ireturn, 1) := dk_172 (dk_at dksX3_swapTargets_4 11 rfl rfl)
abbrev cX3_exchanges : ByteArray := prog_26_method_131_code
def yX3_exchanges : MethodName := ⟨RX3, "exchanges", "(II)V"⟩
def dkwX3_exchanges_1 : List UInt8 := [33, 80, 177]
abbrev dktX3_exchanges_1 : List UInt8 := dkwX3_exchanges_1 ++ []
def dkwX3_exchanges_0 : List UInt8 := [42, 180, 0, 7, 27, 47, 66, 42, 180, 0, 7, 27, 42, 180, 0, 7, 28, 47, 80, 42, 180, 0, 7, 28]
abbrev dktX3_exchanges_0 : List UInt8 := dkwX3_exchanges_0 ++ dktX3_exchanges_1
theorem dksX3_exchanges_0 : cX3_exchanges.data.toList.drop 0 = dktX3_exchanges_0 := by decide +kernel
theorem dksX3_exchanges_1 : cX3_exchanges.data.toList.drop 24 = dktX3_exchanges_1 := dk_seg dksX3_exchanges_0 24 rfl rfl
theorem dX3_exchanges_0 : decode cX3_exchanges 0 = .ok (.aload_n 0, 1) := dk_42 (dk_at dksX3_exchanges_0 0 rfl rfl)
theorem dX3_exchanges_1 : decode cX3_exchanges 1 = .ok (.getfield 7, 3) := dk_180 0 7 (dk_at dksX3_exchanges_0 1 rfl rfl)
theorem dX3_exchanges_4 : decode cX3_exchanges 4 = .ok (.iload_n 1, 1) := dk_27 (dk_at dksX3_exchanges_0 4 rfl rfl)
theorem dX3_exchanges_5 : decode cX3_exchanges 5 = .ok (.laload, 1) := dk_47 (dk_at dksX3_exchanges_0 5 rfl rfl)
theorem dX3_exchanges_6 : decode cX3_exchanges 6 = .ok (.lstore_n 3, 1) := dk_66 (dk_at dksX3_exchanges_0 6 rfl rfl)
theorem dX3_exchanges_7 : decode cX3_exchanges 7 = .ok (.aload_n 0, 1) := dk_42 (dk_at dksX3_exchanges_0 7 rfl rfl)
theorem dX3_exchanges_8 : decode cX3_exchanges 8 = .ok (.getfield 7, 3) := dk_180 0 7 (dk_at dksX3_exchanges_0 8 rfl rfl)
theorem dX3_exchanges_11 : decode cX3_exchanges 11 = .ok (.iload_n 1, 1) := dk_27 (dk_at dksX3_exchanges_0 11 rfl rfl)
theorem dX3_exchanges_12 : decode cX3_exchanges 12 = .ok (.aload_n 0, 1) := dk_42 (dk_at dksX3_exchanges_0 12 rfl rfl)
theorem dX3_exchanges_13 : decode cX3_exchanges 13 = .ok (.getfield 7, 3) := dk_180 0 7 (dk_at dksX3_exchanges_0 13 rfl rfl)
theorem dX3_exchanges_16 : decode cX3_exchanges 16 = .ok (.iload_n 2, 1) := dk_28 (dk_at dksX3_exchanges_0 16 rfl rfl)
theorem dX3_exchanges_17 : decode cX3_exchanges 17 = .ok (.laload, 1) := dk_47 (dk_at dksX3_exchanges_0 17 rfl rfl)
theorem dX3_exchanges_18 : decode cX3_exchanges 18 = .ok (.lastore, 1) := dk_80 (dk_at dksX3_exchanges_0 18 rfl rfl)
theorem dX3_exchanges_19 : decode cX3_exchanges 19 = .ok (.aload_n 0, 1) := dk_42 (dk_at dksX3_exchanges_0 19 rfl rfl)
theorem dX3_exchanges_20 : decode cX3_exchanges 20 = .ok (.getfield 7, 3) := dk_180 0 7 (dk_at dksX3_exchanges_0 20 rfl rfl)
theorem dX3_exchanges_23 : decode cX3_exchanges 23 = .ok (.iload_n 2, 1) := dk_28 (dk_at dksX3_exchanges_0 23 rfl rfl)
theorem dX3_exchanges_24 : decode cX3_exchanges 24 = .ok (.lload_n 3, 1) := dk_33 (dk_at dksX3_exchanges_1 0 rfl rfl)
theorem dX3_exchanges_25 : decode cX3_exchanges 25 = .ok (.lastore, 1) := dk_80 (dk_at dksX3_exchanges_1 1 rfl rfl)
theorem dX3_exchanges_26 : decode cX3_exchanges 26 = .ok (.return_, 1) := dk_177 (dk_at dksX3_exchanges_1 2 rfl rfl)
abbrev cX3_write : ByteArray := prog_26_method_137_code
def yX3_write : MethodName := ⟨RX3, "write", "(I)I"⟩
def dkwX3_write_6 : List UInt8 := [172]
abbrev dktX3_write_6 : List UInt8 := dkwX3_write_6 ++ []
def dkwX3_write_5 : List UInt8 := [160, 0, 9, 19, 1, 186, 167, 0, 6, 19, 1, 188, 182, 1, 178, 42, 29, 182, 1, 166, 42, 180, 1, 163]
abbrev dktX3_write_5 : List UInt8 := dkwX3_write_5 ++ dktX3_write_6
def dkwX3_write_4 : List UInt8 := [28, 29, 3, 182, 1, 43, 182, 1, 172, 167, 0, 33, 42, 42, 180, 0, 36, 6, 27, 104, 46, 4]
abbrev dktX3_write_4 : List UInt8 := dkwX3_write_4 ++ dktX3_write_5
def dkwX3_write_3 : List UInt8 := [42, 42, 42, 28, 29, 182, 1, 124, 4, 182, 1, 116, 182, 1, 172, 42, 19, 1, 184, 182, 1, 178, 42, 42]
abbrev dktX3_write_3 : List UInt8 := dkwX3_write_3 ++ dktX3_write_4
def dkwX3_write_2 : List UInt8 := [19, 1, 176, 182, 1, 178, 42, 180, 0, 36, 6, 27, 104, 46, 154, 0, 46, 42, 19, 1, 182, 182, 1, 178]
abbrev dktX3_write_2 : List UInt8 := dkwX3_write_2 ++ dktX3_write_3
def dkwX3_write_1 : List UInt8 := [61, 42, 180, 0, 36, 6, 27, 104, 5, 96, 46, 62, 42, 3, 181, 1, 163, 42, 28, 182, 1, 166, 42]
abbrev dktX3_write_1 : List UInt8 := dkwX3_write_1 ++ dktX3_write_2
def dkwX3_write_0 : List UInt8 := [42, 42, 27, 182, 1, 143, 182, 0, 240, 154, 0, 5, 3, 172, 42, 180, 0, 36, 6, 27, 104, 4, 96, 46]
abbrev dktX3_write_0 : List UInt8 := dkwX3_write_0 ++ dktX3_write_1
theorem dksX3_write_0 : cX3_write.data.toList.drop 0 = dktX3_write_0 := by decide +kernel
theorem dksX3_write_1 : cX3_write.data.toList.drop 24 = dktX3_write_1 := dk_seg dksX3_write_0 24 rfl rfl
theorem dksX3_write_2 : cX3_write.data.toList.drop 47 = dktX3_write_2 := dk_seg dksX3_write_1 23 rfl rfl
theorem dksX3_write_3 : cX3_write.data.toList.drop 71 = dktX3_write_3 := dk_seg dksX3_write_2 24 rfl rfl
theorem dksX3_write_4 : cX3_write.data.toList.drop 95 = dktX3_write_4 := dk_seg dksX3_write_3 24 rfl rfl
theorem dksX3_write_5 : cX3_write.data.toList.drop 117 = dktX3_write_5 := dk_seg dksX3_write_4 22 rfl rfl
theorem dksX3_write_6 : cX3_write.data.toList.drop 141 = dktX3_write_6 := dk_seg dksX3_write_5 24 rfl rfl
theorem dX3_write_0 : decode cX3_write 0 = .ok (.aload_n 0, 1) := dk_42 (dk_at dksX3_write_0 0 rfl rfl)
theorem dX3_write_1 : decode cX3_write 1 = .ok (.aload_n 0, 1) := dk_42 (dk_at dksX3_write_0 1 rfl rfl)
theorem dX3_write_2 : decode cX3_write 2 = .ok (.iload_n 1, 1) := dk_27 (dk_at dksX3_write_0 2 rfl rfl)
theorem dX3_write_3 : decode cX3_write 3 = .ok (.invokevirtual 399, 3) := dk_182 1 143 (dk_at dksX3_write_0 3 rfl rfl)
theorem dX3_write_6 : decode cX3_write 6 = .ok (.invokevirtual 240, 3) := dk_182 0 240 (dk_at dksX3_write_0 6 rfl rfl)
theorem dX3_write_9 : decode cX3_write 9 = .ok (.ifCond .ne 5, 3) := dk_154 0 5 (dk_at dksX3_write_0 9 rfl rfl)
theorem dX3_write_12 : decode cX3_write 12 = .ok (.iconst 0, 1) := dk_3 (dk_at dksX3_write_0 12 rfl rfl)
theorem dX3_write_13 : decode cX3_write 13 = .ok (.ireturn, 1) := dk_172 (dk_at dksX3_write_0 13 rfl rfl)
theorem dX3_write_14 : decode cX3_write 14 = .ok (.aload_n 0, 1) := dk_42 (dk_at dksX3_write_0 14 rfl rfl)
theorem dX3_write_15 : decode cX3_write 15 = .ok (.getfield 36, 3) := dk_180 0 36 (dk_at dksX3_write_0 15 rfl rfl)
theorem dX3_write_18 : decode cX3_write 18 = .ok (.iconst 3, 1) := dk_6 (dk_at dksX3_write_0 18 rfl rfl)
theorem dX3_write_19 : decode cX3_write 19 = .ok (.iload_n 1, 1) := dk_27 (dk_at dksX3_write_0 19 rfl rfl)
theorem dX3_write_20 : decode cX3_write 20 = .ok (.imul, 1) := dk_104 (dk_at dksX3_write_0 20 rfl rfl)
theorem dX3_write_21 : decode cX3_write 21 = .ok (.iconst 1, 1) := dk_4 (dk_at dksX3_write_0 21 rfl rfl)
theorem dX3_write_22 : decode cX3_write 22 = .ok (.iadd, 1) := dk_96 (dk_at dksX3_write_0 22 rfl rfl)
theorem dX3_write_23 : decode cX3_write 23 = .ok (.iaload, 1) := dk_46 (dk_at dksX3_write_0 23 rfl rfl)
theorem dX3_write_24 : decode cX3_write 24 = .ok (.istore_n 2, 1) := dk_61 (dk_at dksX3_write_1 0 rfl rfl)
theorem dX3_write_25 : decode cX3_write 25 = .ok (.aload_n 0, 1) := dk_42 (dk_at dksX3_write_1 1 rfl rfl)
theorem dX3_write_26 : decode cX3_write 26 = .ok (.getfield 36, 3) := dk_180 0 36 (dk_at dksX3_write_1 2 rfl rfl)
theorem dX3_write_29 : decode cX3_write 29 = .ok (.iconst 3, 1) := dk_6 (dk_at dksX3_write_1 5 rfl rfl)
theorem dX3_write_30 : decode cX3_write 30 = .ok (.iload_n 1, 1) := dk_27 (dk_at dksX3_write_1 6 rfl rfl)
theorem dX3_write_31 : decode cX3_write 31 = .ok (.imul, 1) := dk_104 (dk_at dksX3_write_1 7 rfl rfl)
theorem dX3_write_32 : decode cX3_write 32 = .ok (.iconst 2, 1) := dk_5 (dk_at dksX3_write_1 8 rfl rfl)
theorem dX3_write_33 : decode cX3_write 33 = .ok (.iadd, 1) := dk_96 (dk_at dksX3_write_1 9 rfl rfl)
theorem dX3_write_34 : decode cX3_write 34 = .ok (.iaload, 1) := dk_46 (dk_at dksX3_write_1 10 rfl rfl)
theorem dX3_write_35 : decode cX3_write 35 = .ok (.istore_n 3, 1) := dk_62 (dk_at dksX3_write_1 11 rfl rfl)
theorem dX3_write_36 : decode cX3_write 36 = .ok (.aload_n 0, 1) := dk_42 (dk_at dksX3_write_1 12 rfl rfl)
theorem dX3_write_37 : decode cX3_write 37 = .ok (.iconst 0, 1) := dk_3 (dk_at dksX3_write_1 13 rfl rfl)
theorem dX3_write_38 : decode cX3_write 38 = .ok (.putfield 419, 3) := dk_181 1 163 (dk_at dksX3_write_1 14 rfl rfl)
theorem dX3_write_41 : decode cX3_write 41 = .ok (.aload_n 0, 1) := dk_42 (dk_at dksX3_write_1 17 rfl rfl)
theorem dX3_write_42 : decode cX3_write 42 = .ok (.iload_n 2, 1) := dk_28 (dk_at dksX3_write_1 18 rfl rfl)
theorem dX3_write_43 : decode cX3_write 43 = .ok (.invokevirtual 422, 3) := dk_182 1 166 (dk_at dksX3_write_1 19 rfl rfl)
theorem dX3_write_46 : decode cX3_write 46 = .ok (.aload_n 0, 1) := dk_42 (dk_at dksX3_write_1 22 rfl rfl)
theorem dX3_write_47 : decode cX3_write 47 = .ok (.ldc_w 432, 3) := dk_19 1 176 (dk_at dksX3_write_2 0 rfl rfl)
theorem dX3_write_50 : decode cX3_write 50 = .ok (.invokevirtual 434, 3) := dk_182 1 178 (dk_at dksX3_write_2 3 rfl rfl)
theorem dX3_write_53 : decode cX3_write 53 = .ok (.aload_n 0, 1) := dk_42 (dk_at dksX3_write_2 6 rfl rfl)
theorem dX3_write_54 : decode cX3_write 54 = .ok (.getfield 36, 3) := dk_180 0 36 (dk_at dksX3_write_2 7 rfl rfl)
theorem dX3_write_57 : decode cX3_write 57 = .ok (.iconst 3, 1) := dk_6 (dk_at dksX3_write_2 10 rfl rfl)
theorem dX3_write_58 : decode cX3_write 58 = .ok (.iload_n 1, 1) := dk_27 (dk_at dksX3_write_2 11 rfl rfl)
theorem dX3_write_59 : decode cX3_write 59 = .ok (.imul, 1) := dk_104 (dk_at dksX3_write_2 12 rfl rfl)
theorem dX3_write_60 : decode cX3_write 60 = .ok (.iaload, 1) := dk_46 (dk_at dksX3_write_2 13 rfl rfl)
theorem dX3_write_61 : decode cX3_write 61 = .ok (.ifCond .ne 46, 3) := dk_154 0 46 (dk_at dksX3_write_2 14 rfl rfl)
theorem dX3_write_64 : decode cX3_write 64 = .ok (.aload_n 0, 1) := dk_42 (dk_at dksX3_write_2 17 rfl rfl)
theorem dX3_write_65 : decode cX3_write 65 = .ok (.ldc_w 438, 3) := dk_19 1 182 (dk_at dksX3_write_2 18 rfl rfl)
theorem dX3_write_68 : decode cX3_write 68 = .ok (.invokevirtual 434, 3) := dk_182 1 178 (dk_at dksX3_write_2 21 rfl rfl)
theorem dX3_write_71 : decode cX3_write 71 = .ok (.aload_n 0, 1) := dk_42 (dk_at dksX3_write_3 0 rfl rfl)
theorem dX3_write_72 : decode cX3_write 72 = .ok (.aload_n 0, 1) := dk_42 (dk_at dksX3_write_3 1 rfl rfl)
theorem dX3_write_73 : decode cX3_write 73 = .ok (.aload_n 0, 1) := dk_42 (dk_at dksX3_write_3 2 rfl rfl)
theorem dX3_write_74 : decode cX3_write 74 = .ok (.iload_n 2, 1) := dk_28 (dk_at dksX3_write_3 3 rfl rfl)
theorem dX3_write_75 : decode cX3_write 75 = .ok (.iload_n 3, 1) := dk_29 (dk_at dksX3_write_3 4 rfl rfl)
theorem dX3_write_76 : decode cX3_write 76 = .ok (.invokevirtual 380, 3) := dk_182 1 124 (dk_at dksX3_write_3 5 rfl rfl)
theorem dX3_write_79 : decode cX3_write 79 = .ok (.iconst 1, 1) := dk_4 (dk_at dksX3_write_3 8 rfl rfl)
theorem dX3_write_80 : decode cX3_write 80 = .ok (.invokevirtual 372, 3) := dk_182 1 116 (dk_at dksX3_write_3 9 rfl rfl)
theorem dX3_write_83 : decode cX3_write 83 = .ok (.invokevirtual 428, 3) := dk_182 1 172 (dk_at dksX3_write_3 12 rfl rfl)
theorem dX3_write_86 : decode cX3_write 86 = .ok (.aload_n 0, 1) := dk_42 (dk_at dksX3_write_3 15 rfl rfl)
theorem dX3_write_87 : decode cX3_write 87 = .ok (.ldc_w 440, 3) := dk_19 1 184 (dk_at dksX3_write_3 16 rfl rfl)
theorem dX3_write_90 : decode cX3_write 90 = .ok (.invokevirtual 434, 3) := dk_182 1 178 (dk_at dksX3_write_3 19 rfl rfl)
theorem dX3_write_93 : decode cX3_write 93 = .ok (.aload_n 0, 1) := dk_42 (dk_at dksX3_write_3 22 rfl rfl)
theorem dX3_write_94 : decode cX3_write 94 = .ok (.aload_n 0, 1) := dk_42 (dk_at dksX3_write_3 23 rfl rfl)
theorem dX3_write_95 : decode cX3_write 95 = .ok (.iload_n 2, 1) := dk_28 (dk_at dksX3_write_4 0 rfl rfl)
theorem dX3_write_96 : decode cX3_write 96 = .ok (.iload_n 3, 1) := dk_29 (dk_at dksX3_write_4 1 rfl rfl)
theorem dX3_write_97 : decode cX3_write 97 = .ok (.iconst 0, 1) := dk_3 (dk_at dksX3_write_4 2 rfl rfl)
theorem dX3_write_98 : decode cX3_write 98 = .ok (.invokevirtual 299, 3) := dk_182 1 43 (dk_at dksX3_write_4 3 rfl rfl)
theorem dX3_write_101 : decode cX3_write 101 = .ok (.invokevirtual 428, 3) := dk_182 1 172 (dk_at dksX3_write_4 6 rfl rfl)
theorem dX3_write_104 : decode cX3_write 104 = .ok (.goto 33, 3) := dk_167 0 33 (dk_at dksX3_write_4 9 rfl rfl)
theorem dX3_write_107 : decode cX3_write 107 = .ok (.aload_n 0, 1) := dk_42 (dk_at dksX3_write_4 12 rfl rfl)
theorem dX3_write_108 : decode cX3_write 108 = .ok (.aload_n 0, 1) := dk_42 (dk_at dksX3_write_4 13 rfl rfl)
theorem dX3_write_109 : decode cX3_write 109 = .ok (.getfield 36, 3) := dk_180 0 36 (dk_at dksX3_write_4 14 rfl rfl)
theorem dX3_write_112 : decode cX3_write 112 = .ok (.iconst 3, 1) := dk_6 (dk_at dksX3_write_4 17 rfl rfl)
theorem dX3_write_113 : decode cX3_write 113 = .ok (.iload_n 1, 1) := dk_27 (dk_at dksX3_write_4 18 rfl rfl)
theorem dX3_write_114 : decode cX3_write 114 = .ok (.imul, 1) := dk_104 (dk_at dksX3_write_4 19 rfl rfl)
theorem dX3_write_115 : decode cX3_write 115 = .ok (.iaload, 1) := dk_46 (dk_at dksX3_write_4 20 rfl rfl)
theorem dX3_write_116 : decode cX3_write 116 = .ok (.iconst 1, 1) := dk_4 (dk_at dksX3_write_4 21 rfl rfl)
theorem dX3_write_117 : decode cX3_write 117 = .ok (.if_icmp .ne 9, 3) := dk_160 0 9 (dk_at dksX3_write_5 0 rfl rfl)
theorem dX3_write_120 : decode cX3_write 120 = .ok (.ldc_w 442, 3) := dk_19 1 186 (dk_at dksX3_write_5 3 rfl rfl)
theorem dX3_write_123 : decode cX3_write 123 = .ok (.goto 6, 3) := dk_167 0 6 (dk_at dksX3_write_5 6 rfl rfl)
theorem dX3_write_126 : decode cX3_write 126 = .ok (.ldc_w 444, 3) := dk_19 1 188 (dk_at dksX3_write_5 9 rfl rfl)
theorem dX3_write_129 : decode cX3_write 129 = .ok (.invokevirtual 434, 3) := dk_182 1 178 (dk_at dksX3_write_5 12 rfl rfl)
theorem dX3_write_132 : decode cX3_write 132 = .ok (.aload_n 0, 1) := dk_42 (dk_at dksX3_write_5 15 rfl rfl)
theorem dX3_write_133 : decode cX3_write 133 = .ok (.iload_n 3, 1) := dk_29 (dk_at dksX3_write_5 16 rfl rfl)
theorem dX3_write_134 : decode cX3_write 134 = .ok (.invokevirtual 422, 3) := dk_182 1 166 (dk_at dksX3_write_5 17 rfl rfl)
theorem dX3_write_137 : decode cX3_write 137 = .ok (.aload_n 0, 1) := dk_42 (dk_at dksX3_write_5 20 rfl rfl)
theorem dX3_write_138 : decode cX3_write 138 = .ok (.getfield 419, 3) := dk_180 1 163 (dk_at dksX3_write_5 21 rfl rfl)
theorem dX3_write_141 : decode cX3_write 141 = .ok (.ireturn, 1) := dk_172 (dk_at dksX3_write_6 0 rfl rfl)
abbrev cX3_saysNumber : ByteArray := prog_26_method_134_code
def yX3_saysNumber : MethodName := ⟨RX3, "saysNumber", "(I)V"⟩
def dkwX3_saysNumber_1 : List UInt8 := [182, 1, 169, 177]
abbrev dktX3_saysNumber_1 : List UInt8 := dkwX3_saysNumber_1 ++ []
def dkwX3_saysNumber_0 : List UInt8 := [27, 16, 9, 164, 0, 11, 42, 27, 16, 10, 108, 182, 1, 166, 42, 16, 48, 27, 16, 10, 112, 96]
abbrev dktX3_saysNumber_0 : List UInt8 := dkwX3_saysNumber_0 ++ dktX3_saysNumber_1
theorem dksX3_saysNumber_0 : cX3_saysNumber.data.toList.drop 0 = dktX3_saysNumber_0 := by decide +kernel
theorem dksX3_saysNumber_1 : cX3_saysNumber.data.toList.drop 22 = dktX3_saysNumber_1 := dk_seg dksX3_saysNumber_0 22 rfl rfl
theorem dX3_saysNumber_0 : decode cX3_saysNumber 0 = .ok (.iload_n 1, 1) := dk_27 (dk_at dksX3_saysNumber_0 0 rfl rfl)
theorem dX3_saysNumber_1 : decode cX3_saysNumber 1 = .ok (.bipush 9, 2) := dk_16 9 (dk_at dksX3_saysNumber_0 1 rfl rfl)
theorem dX3_saysNumber_3 : decode cX3_saysNumber 3 = .ok (.if_icmp .le 11, 3) := dk_164 0 11 (dk_at dksX3_saysNumber_0 3 rfl rfl)
theorem dX3_saysNumber_6 : decode cX3_saysNumber 6 = .ok (.aload_n 0, 1) := dk_42 (dk_at dksX3_saysNumber_0 6 rfl rfl)
theorem dX3_saysNumber_7 : decode cX3_saysNumber 7 = .ok (.iload_n 1, 1) := dk_27 (dk_at dksX3_saysNumber_0 7 rfl rfl)
theorem dX3_saysNumber_8 : decode cX3_saysNumber 8 = .ok (.bipush 10, 2) := dk_16 10 (dk_at dksX3_saysNumber_0 8 rfl rfl)
theorem dX3_saysNumber_10 : decode cX3_saysNumber 10 = .ok (.idiv, 1) := dk_108 (dk_at dksX3_saysNumber_0 10 rfl rfl)
theorem dX3_saysNumber_11 : decode cX3_saysNumber 11 = .ok (.invokevirtual 422, 3) := dk_182 1 166 (dk_at dksX3_saysNumber_0 11 rfl rfl)
theorem dX3_saysNumber_14 : decode cX3_saysNumber 14 = .ok (.aload_n 0, 1) := dk_42 (dk_at dksX3_saysNumber_0 14 rfl rfl)
theorem dX3_saysNumber_15 : decode cX3_saysNumber 15 = .ok (.bipush 48, 2) := dk_16 48 (dk_at dksX3_saysNumber_0 15 rfl rfl)
theorem dX3_saysNumber_17 : decode cX3_saysNumber 17 = .ok (.iload_n 1, 1) := dk_27 (dk_at dksX3_saysNumber_0 17 rfl rfl)
theorem dX3_saysNumber_18 : decode cX3_saysNumber 18 = .ok (.bipush 10, 2) := dk_16 10 (dk_at dksX3_saysNumber_0 18 rfl rfl)
theorem dX3_saysNumber_20 : decode cX3_saysNumber 20 = .ok (.irem, 1) := dk_112 (dk_at dksX3_saysNumber_0 20 rfl rfl)
theorem dX3_saysNumber_21 : decode cX3_saysNumber 21 = .ok (.iadd, 1) := dk_96 (dk_at dksX3_saysNumber_0 21 rfl rfl)
theorem dX3_saysNumber_22 : decode cX3_saysNumber 22 = .ok (.invokevirtual 425, 3) := dk_182 1 169 (dk_at dksX3_saysNumber_1 0 rfl rfl)
theorem dX3_saysNumber_25 : decode cX3_saysNumber 25 = .ok (.return_, 1) := dk_177 (dk_at dksX3_saysNumber_1 3 rfl rfl)
abbrev cX3_says : ByteArray := prog_26_method_133_code
def yX3_says : MethodName := ⟨RX3, "says", "(I)V"⟩
def dkwX3_says_0 : List UInt8 := [42, 180, 0, 42, 42, 180, 1, 163, 27, 79, 42, 89, 180, 1, 163, 4, 96, 181, 1, 163, 177]
abbrev dktX3_says_0 : List UInt8 := dkwX3_says_0 ++ []
theorem dksX3_says_0 : cX3_says.data.toList.drop 0 = dktX3_says_0 := by decide +kernel
theorem dX3_says_0 : decode cX3_says 0 = .ok (.aload_n 0, 1) := dk_42 (dk_at dksX3_says_0 0 rfl rfl)
theorem dX3_says_1 : decode cX3_says 1 = .ok (.getfield 42, 3) := dk_180 0 42 (dk_at dksX3_says_0 1 rfl rfl)
theorem dX3_says_4 : decode cX3_says 4 = .ok (.aload_n 0, 1) := dk_42 (dk_at dksX3_says_0 4 rfl rfl)
theorem dX3_says_5 : decode cX3_says 5 = .ok (.getfield 419, 3) := dk_180 1 163 (dk_at dksX3_says_0 5 rfl rfl)
theorem dX3_says_8 : decode cX3_says 8 = .ok (.iload_n 1, 1) := dk_27 (dk_at dksX3_says_0 8 rfl rfl)
theorem dX3_says_9 : decode cX3_says 9 = .ok (.iastore, 1) := dk_79 (dk_at dksX3_says_0 9 rfl rfl)
theorem dX3_says_10 : decode cX3_says 10 = .ok (.aload_n 0, 1) := dk_42 (dk_at dksX3_says_0 10 rfl rfl)
theorem dX3_says_11 : decode cX3_says 11 = .ok (.dup, 1) := dk_89 (dk_at dksX3_says_0 11 rfl rfl)
theorem dX3_says_12 : decode cX3_says 12 = .ok (.getfield 419, 3) := dk_180 1 163 (dk_at dksX3_says_0 12 rfl rfl)
theorem dX3_says_15 : decode cX3_says 15 = .ok (.iconst 1, 1) := dk_4 (dk_at dksX3_says_0 15 rfl rfl)
theorem dX3_says_16 : decode cX3_says 16 = .ok (.iadd, 1) := dk_96 (dk_at dksX3_says_0 16 rfl rfl)
theorem dX3_says_17 : decode cX3_says 17 = .ok (.putfield 419, 3) := dk_181 1 163 (dk_at dksX3_says_0 17 rfl rfl)
theorem dX3_says_20 : decode cX3_says 20 = .ok (.return_, 1) := dk_177 (dk_at dksX3_says_0 20 rfl rfl)
abbrev cX3_saysText : ByteArray := prog_26_method_135_code
def yX3_saysText : MethodName := ⟨RX3, "saysText", "(Ljava/lang/String;)V"⟩
def dkwX3_saysText_1 : List UInt8 := [167, 255, 236, 177]
abbrev dktX3_saysText_1 : List UInt8 := dkwX3_saysText_1 ++ []
def dkwX3_saysText_0 : List UInt8 := [3, 61, 28, 43, 182, 0, 122, 162, 0, 18, 42, 43, 28, 182, 0, 127, 182, 1, 169, 132, 2, 1]
abbrev dktX3_saysText_0 : List UInt8 := dkwX3_saysText_0 ++ dktX3_saysText_1
theorem dksX3_saysText_0 : cX3_saysText.data.toList.drop 0 = dktX3_saysText_0 := by decide +kernel
theorem dksX3_saysText_1 : cX3_saysText.data.toList.drop 22 = dktX3_saysText_1 := dk_seg dksX3_saysText_0 22 rfl rfl
theorem dX3_saysText_0 : decode cX3_saysText 0 = .ok (.iconst 0, 1) := dk_3 (dk_at dksX3_saysText_0 0 rfl rfl)
theorem dX3_saysText_1 : decode cX3_saysText 1 = .ok (.istore_n 2, 1) := dk_61 (dk_at dksX3_saysText_0 1 rfl rfl)
theorem dX3_saysText_2 : decode cX3_saysText 2 = .ok (.iload_n 2, 1) := dk_28 (dk_at dksX3_saysText_0 2 rfl rfl)
theorem dX3_saysText_3 : decode cX3_saysText 3 = .ok (.aload_n 1, 1) := dk_43 (dk_at dksX3_saysText_0 3 rfl rfl)
theorem dX3_saysText_4 : decode cX3_saysText 4 = .ok (.invokevirtual 122, 3) := dk_182 0 122 (dk_at dksX3_saysText_0 4 rfl rfl)
theorem dX3_saysText_7 : decode cX3_saysText 7 = .ok (.if_icmp .ge 18, 3) := dk_162 0 18 (dk_at dksX3_saysText_0 7 rfl rfl)
theorem dX3_saysText_10 : decode cX3_saysText 10 = .ok (.aload_n 0, 1) := dk_42 (dk_at dksX3_saysText_0 10 rfl rfl)
theorem dX3_saysText_11 : decode cX3_saysText 11 = .ok (.aload_n 1, 1) := dk_43 (dk_at dksX3_saysText_0 11 rfl rfl)
theorem dX3_saysText_12 : decode cX3_saysText 12 = .ok (.iload_n 2, 1) := dk_28 (dk_at dksX3_saysText_0 12 rfl rfl)
theorem dX3_saysText_13 : decode cX3_saysText 13 = .ok (.invokevirtual 127, 3) := dk_182 0 127 (dk_at dksX3_saysText_0 13 rfl rfl)
theorem dX3_saysText_16 : decode cX3_saysText 16 = .ok (.invokevirtual 425, 3) := dk_182 1 169 (dk_at dksX3_saysText_0 16 rfl rfl)
theorem dX3_saysText_19 : decode cX3_saysText 19 = .ok (.iinc 2 1, 3) := dk_132 2 1 (dk_at dksX3_saysText_0 19 rfl rfl)
theorem dX3_saysText_22 : decode cX3_saysText 22 = .ok (.goto (-20), 3) := dk_167 255 236 (dk_at dksX3_saysText_1 0 rfl rfl)
theorem dX3_saysText_25 : decode cX3_saysText 25 = .ok (.return_, 1) := dk_177 (dk_at dksX3_saysText_1 3 rfl rfl)
abbrev cX3_saysWord : ByteArray := prog_26_method_136_code
def yX3_saysWord : MethodName := ⟨RX3, "saysWord", "(J)V"⟩
def dkwX3_saysWord_1 : List UInt8 := [113, 136, 96, 182, 1, 169, 177]
abbrev dktX3_saysWord_1 : List UInt8 := dkwX3_saysWord_1 ++ []
def dkwX3_saysWord_0 : List UInt8 := [31, 20, 0, 100, 148, 155, 0, 12, 42, 31, 20, 0, 100, 109, 182, 1, 172, 42, 16, 96, 31, 20, 0, 100]
abbrev dktX3_saysWord_0 : List UInt8 := dkwX3_saysWord_0 ++ dktX3_saysWord_1
theorem dksX3_saysWord_0 : cX3_saysWord.data.toList.drop 0 = dktX3_saysWord_0 := by decide +kernel
theorem dksX3_saysWord_1 : cX3_saysWord.data.toList.drop 24 = dktX3_saysWord_1 := dk_seg dksX3_saysWord_0 24 rfl rfl
theorem dX3_saysWord_0 : decode cX3_saysWord 0 = .ok (.lload_n 1, 1) := dk_31 (dk_at dksX3_saysWord_0 0 rfl rfl)
theorem dX3_saysWord_1 : decode cX3_saysWord 1 = .ok (.ldc2_w 100, 3) := dk_20 0 100 (dk_at dksX3_saysWord_0 1 rfl rfl)
theorem dX3_saysWord_4 : decode cX3_saysWord 4 = .ok (.lcmp, 1) := dk_148 (dk_at dksX3_saysWord_0 4 rfl rfl)
theorem dX3_saysWord_5 : decode cX3_saysWord 5 = .ok (.ifCond .lt 12, 3) := dk_155 0 12 (dk_at dksX3_saysWord_0 5 rfl rfl)
theorem dX3_saysWord_8 : decode cX3_saysWord 8 = .ok (.aload_n 0, 1) := dk_42 (dk_at dksX3_saysWord_0 8 rfl rfl)
theorem dX3_saysWord_9 : decode cX3_saysWord 9 = .ok (.lload_n 1, 1) := dk_31 (dk_at dksX3_saysWord_0 9 rfl rfl)
theorem dX3_saysWord_10 : decode cX3_saysWord 10 = .ok (.ldc2_w 100, 3) := dk_20 0 100 (dk_at dksX3_saysWord_0 10 rfl rfl)
theorem dX3_saysWord_13 : decode cX3_saysWord 13 = .ok (.ldiv, 1) := dk_109 (dk_at dksX3_saysWord_0 13 rfl rfl)
theorem dX3_saysWord_14 : decode cX3_saysWord 14 = .ok (.invokevirtual 428, 3) := dk_182 1 172 (dk_at dksX3_saysWord_0 14 rfl rfl)
theorem dX3_saysWord_17 : decode cX3_saysWord 17 = .ok (.aload_n 0, 1) := dk_42 (dk_at dksX3_saysWord_0 17 rfl rfl)
theorem dX3_saysWord_18 : decode cX3_saysWord 18 = .ok (.bipush 96, 2) := dk_16 96 (dk_at dksX3_saysWord_0 18 rfl rfl)
theorem dX3_saysWord_20 : decode cX3_saysWord 20 = .ok (.lload_n 1, 1) := dk_31 (dk_at dksX3_saysWord_0 20 rfl rfl)
theorem dX3_saysWord_21 : decode cX3_saysWord 21 = .ok (.ldc2_w 100, 3) := dk_20 0 100 (dk_at dksX3_saysWord_0 21 rfl rfl)
theorem dX3_saysWord_24 : decode cX3_saysWord 24 = .ok (.lrem, 1) := dk_113 (dk_at dksX3_saysWord_1 0 rfl rfl)
theorem dX3_saysWord_25 : decode cX3_saysWord 25 = .ok (.l2i, 1) := dk_136 (dk_at dksX3_saysWord_1 1 rfl rfl)
theorem dX3_saysWord_26 : decode cX3_saysWord 26 = .ok (.iadd, 1) := dk_96 (dk_at dksX3_saysWord_1 2 rfl rfl)
theorem dX3_saysWord_27 : decode cX3_saysWord 27 = .ok (.invokevirtual 425, 3) := dk_182 1 169 (dk_at dksX3_saysWord_1 3 rfl rfl)
theorem dX3_saysWord_30 : decode cX3_saysWord 30 = .ok (.return_, 1) := dk_177 (dk_at dksX3_saysWord_1 6 rfl rfl)
abbrev cX3_written : ByteArray := prog_26_method_138_code
def yX3_written : MethodName := ⟨RX3, "written", "(I)C"⟩
def dkwX3_written_1 : List UInt8 := [27, 46, 146, 167, 0, 4, 3, 172]
abbrev dktX3_written_1 : List UInt8 := dkwX3_written_1 ++ []
def dkwX3_written_0 : List UInt8 := [42, 27, 133, 9, 42, 180, 1, 163, 4, 100, 133, 184, 0, 144, 182, 0, 240, 153, 0, 13, 42, 180, 0, 42]
abbrev dktX3_written_0 : List UInt8 := dkwX3_written_0 ++ dktX3_written_1
theorem dksX3_written_0 : cX3_written.data.toList.drop 0 = dktX3_written_0 := by decide +kernel
theorem dksX3_written_1 : cX3_written.data.toList.drop 24 = dktX3_written_1 := dk_seg dksX3_written_0 24 rfl rfl
theorem dX3_written_0 : decode cX3_written 0 = .ok (.aload_n 0, 1) := dk_42 (dk_at dksX3_written_0 0 rfl rfl)
theorem dX3_written_1 : decode cX3_written 1 = .ok (.iload_n 1, 1) := dk_27 (dk_at dksX3_written_0 1 rfl rfl)
theorem dX3_written_2 : decode cX3_written 2 = .ok (.i2l, 1) := dk_133 (dk_at dksX3_written_0 2 rfl rfl)
theorem dX3_written_3 : decode cX3_written 3 = .ok (.lconst 0, 1) := dk_9 (dk_at dksX3_written_0 3 rfl rfl)
theorem dX3_written_4 : decode cX3_written 4 = .ok (.aload_n 0, 1) := dk_42 (dk_at dksX3_written_0 4 rfl rfl)
theorem dX3_written_5 : decode cX3_written 5 = .ok (.getfield 419, 3) := dk_180 1 163 (dk_at dksX3_written_0 5 rfl rfl)
theorem dX3_written_8 : decode cX3_written 8 = .ok (.iconst 1, 1) := dk_4 (dk_at dksX3_written_0 8 rfl rfl)
theorem dX3_written_9 : decode cX3_written 9 = .ok (.isub, 1) := dk_100 (dk_at dksX3_written_0 9 rfl rfl)
theorem dX3_written_10 : decode cX3_written 10 = .ok (.i2l, 1) := dk_133 (dk_at dksX3_written_0 10 rfl rfl)
theorem dX3_written_11 : decode cX3_written 11 = .ok (.invokestatic 144, 3) := dk_184 0 144 (dk_at dksX3_written_0 11 rfl rfl)
theorem dX3_written_14 : decode cX3_written 14 = .ok (.invokevirtual 240, 3) := dk_182 0 240 (dk_at dksX3_written_0 14 rfl rfl)
theorem dX3_written_17 : decode cX3_written 17 = .ok (.ifCond .eq 13, 3) := dk_153 0 13 (dk_at dksX3_written_0 17 rfl rfl)
theorem dX3_written_20 : decode cX3_written 20 = .ok (.aload_n 0, 1) := dk_42 (dk_at dksX3_written_0 20 rfl rfl)
theorem dX3_written_21 : decode cX3_written 21 = .ok (.getfield 42, 3) := dk_180 0 42 (dk_at dksX3_written_0 21 rfl rfl)
theorem dX3_written_24 : decode cX3_written 24 = .ok (.iload_n 1, 1) := dk_27 (dk_at dksX3_written_1 0 rfl rfl)
theorem dX3_written_25 : decode cX3_written 25 = .ok (.iaload, 1) := dk_46 (dk_at dksX3_written_1 1 rfl rfl)
theorem dX3_written_26 : decode cX3_written 26 = .ok (.i2c, 1) := dk_146 (dk_at dksX3_written_1 2 rfl rfl)
theorem dX3_written_27 : decode cX3_written 27 = .ok (.goto 4, 3) := dk_167 0 4 (dk_at dksX3_written_1 3 rfl rfl)
theorem dX3_written_30 : decode cX3_written 30 = .ok (.iconst 0, 1) := dk_3 (dk_at dksX3_written_1 6 rfl rfl)
theorem dX3_written_31 : decode cX3_written 31 = .ok (.ireturn, 1) := dk_172 (dk_at dksX3_written_1 7 rfl rfl)
theorem q128 : (Jvm.Cond.initialized "TranslationBureauModel") ∈ lw_all := lw_g (lw_at lw_m1 11 rfl) rfl
theorem q1320 : (Jvm.Cond.selects "TranslationBureauModel" ({ cls := "java/lang/Object", name := "equals", desc := "(Ljava/lang/Object;)Z" } : Jvm.MethodName) ({ cls := "java/lang/Object", name := "equals", desc := "(Ljava/lang/Object;)Z" } : Jvm.MethodName)) ∈ lw_all := lw_g (lw_at lw_m6 3 rfl) rfl
theorem q1388 : (Jvm.Cond.selects "TranslationBureauModel" ({ cls := "java/lang/Object", name := "getClass", desc := "()Ljava/lang/Class;" } : Jvm.MethodName) ({ cls := "java/lang/Object", name := "getClass", desc := "()Ljava/lang/Class;" } : Jvm.MethodName)) ∈ lw_all := lw_g (lw_at lw_m6 71 rfl) rfl
theorem q2417 : (Jvm.Cond.instantiable "TranslationBureauModel" (25 : Nat)) ∈ lw_all := lw_g (lw_at lw_m10 140 rfl) rfl
theorem q2419 : (Jvm.Cond.instanceMethod ({ cls := "TranslationBureauModel", name := "<init>", desc := "()V" } : Jvm.MethodName)) ∈ lw_all := lw_g (lw_at lw_m10 142 rfl) rfl
theorem q2420 : (Jvm.Cond.code ({ cls := "TranslationBureauModel", name := "<init>", desc := "()V" } : Jvm.MethodName) prog_26_method_1_code (1 : Nat) (Option.none : Option Jvm.ClassFile.FieldType)) ∈ lw_all := lw_g (lw_at lw_m10 143 rfl) rfl
theorem q2421 : (Jvm.Cond.methodLink "TranslationBureauModel" (1 : Nat) ({ cls := "java/lang/Object", name := "<init>", desc := "()V" } : Jvm.MethodName)) ∈ lw_all := lw_g (lw_at lw_m10 144 rfl) rfl
theorem q2422 : (Jvm.Cond.methodLink "TranslationBureauModel" (45 : Nat) ({ cls := "TranslationBureauModel", name := "begins", desc := "()V" } : Jvm.MethodName)) ∈ lw_all := lw_g (lw_at lw_m10 145 rfl) rfl
theorem q2423 : (Jvm.Cond.privateMethod ({ cls := "TranslationBureauModel", name := "begins", desc := "()V" } : Jvm.MethodName)) ∈ lw_tbl := lw_at lw_m10 146 rfl
theorem q2424 : (Jvm.Cond.instanceMethod ({ cls := "TranslationBureauModel", name := "begins", desc := "()V" } : Jvm.MethodName)) ∈ lw_all := lw_g (lw_at lw_m10 147 rfl) rfl
theorem q2425 : (Jvm.Cond.code ({ cls := "TranslationBureauModel", name := "begins", desc := "()V" } : Jvm.MethodName) prog_26_method_3_code (2 : Nat) (Option.none : Option Jvm.ClassFile.FieldType)) ∈ lw_all := lw_g (lw_at lw_m10 148 rfl) rfl
theorem q2426 : (Jvm.Cond.constantLong "TranslationBureauModel" (51 : Nat) (10 : Int64)) ∈ lw_all := lw_g (lw_at lw_m10 149 rfl) rfl
theorem q2427 : (Jvm.Cond.constantLong "TranslationBureauModel" (53 : Nat) (250 : Int64)) ∈ lw_all := lw_g (lw_at lw_m10 150 rfl) rfl
theorem q2428 : (Jvm.Cond.constantLong "TranslationBureauModel" (55 : Nat) (20 : Int64)) ∈ lw_all := lw_g (lw_at lw_m10 151 rfl) rfl
theorem q2429 : (Jvm.Cond.constantLong "TranslationBureauModel" (57 : Nat) (4 : Int64)) ∈ lw_all := lw_g (lw_at lw_m10 152 rfl) rfl
theorem q2430 : (Jvm.Cond.constantLong "TranslationBureauModel" (59 : Nat) (100 : Int64)) ∈ lw_all := lw_g (lw_at lw_m10 153 rfl) rfl
theorem q2431 : (Jvm.Cond.fieldLink "TranslationBureauModel" (7 : Nat) "TranslationBureauModel" "s" "[J") ∈ lw_all := lw_g (lw_at lw_m10 154 rfl) rfl
theorem q2432 : (Jvm.Cond.fieldLink "TranslationBureauModel" (13 : Nat) "TranslationBureauModel" "aside" "[J") ∈ lw_all := lw_g (lw_at lw_m10 155 rfl) rfl
theorem q2433 : (Jvm.Cond.fieldLink "TranslationBureauModel" (16 : Nat) "TranslationBureauModel" "later" "[J") ∈ lw_all := lw_g (lw_at lw_m10 156 rfl) rfl
theorem q2434 : (Jvm.Cond.fieldLink "TranslationBureauModel" (19 : Nat) "TranslationBureauModel" "history" "[J") ∈ lw_all := lw_g (lw_at lw_m10 157 rfl) rfl
theorem q2435 : (Jvm.Cond.fieldLink "TranslationBureauModel" (65 : Nat) "TranslationBureauModel" "edits" "I") ∈ lw_all := lw_g (lw_at lw_m10 158 rfl) rfl
theorem q2436 : (Jvm.Cond.fieldLink "TranslationBureauModel" (48 : Nat) "TranslationBureauModel" "thrown" "I") ∈ lw_all := lw_g (lw_at lw_m10 159 rfl) rfl
theorem q2437 : (Jvm.Cond.fieldLink "TranslationBureauModel" (22 : Nat) "TranslationBureauModel" "buffer" "[I") ∈ lw_all := lw_g (lw_at lw_m10 160 rfl) rfl
theorem q2438 : (Jvm.Cond.fieldLink "TranslationBureauModel" (72 : Nat) "TranslationBureauModel" "buffered" "I") ∈ lw_all := lw_g (lw_at lw_m10 161 rfl) rfl
theorem q2439 : (Jvm.Cond.fieldLink "TranslationBureauModel" (234 : Nat) "TranslationBureauModel" "errorKind" "I") ∈ lw_all := lw_g (lw_at lw_m10 162 rfl) rfl
theorem q2440 : (Jvm.Cond.fieldLink "TranslationBureauModel" (26 : Nat) "TranslationBureauModel" "errorPosition" "I") ∈ lw_all := lw_g (lw_at lw_m10 163 rfl) rfl
theorem q2441 : (Jvm.Cond.fieldLink "TranslationBureauModel" (79 : Nat) "TranslationBureauModel" "length" "I") ∈ lw_all := lw_g (lw_at lw_m10 164 rfl) rfl
theorem q2442 : (Jvm.Cond.fieldLink "TranslationBureauModel" (97 : Nat) "TranslationBureauModel" "start" "I") ∈ lw_all := lw_g (lw_at lw_m10 165 rfl) rfl
theorem q2443 : (Jvm.Cond.fieldLink "TranslationBureauModel" (86 : Nat) "TranslationBureauModel" "next" "I") ∈ lw_all := lw_g (lw_at lw_m10 166 rfl) rfl
theorem q2444 : (Jvm.Cond.fieldLink "TranslationBureauModel" (104 : Nat) "TranslationBureauModel" "token" "I") ∈ lw_all := lw_g (lw_at lw_m10 167 rfl) rfl
theorem q2445 : (Jvm.Cond.fieldLink "TranslationBureauModel" (107 : Nat) "TranslationBureauModel" "value" "I") ∈ lw_all := lw_g (lw_at lw_m10 168 rfl) rfl
theorem q2446 : (Jvm.Cond.fieldLink "TranslationBureauModel" (82 : Nat) "TranslationBureauModel" "word" "J") ∈ lw_all := lw_g (lw_at lw_m10 169 rfl) rfl
theorem q2447 : (Jvm.Cond.fieldLink "TranslationBureauModel" (135 : Nat) "TranslationBureauModel" "kind" "I") ∈ lw_all := lw_g (lw_at lw_m10 170 rfl) rfl
theorem q2448 : (Jvm.Cond.fieldLink "TranslationBureauModel" (138 : Nat) "TranslationBureauModel" "position" "I") ∈ lw_all := lw_g (lw_at lw_m10 171 rfl) rfl
theorem q2449 : (Jvm.Cond.fieldLink "TranslationBureauModel" (30 : Nat) "TranslationBureauModel" "steps" "[I") ∈ lw_all := lw_g (lw_at lw_m10 172 rfl) rfl
theorem q2450 : (Jvm.Cond.fieldLink "TranslationBureauModel" (33 : Nat) "TranslationBureauModel" "byBands" "[I") ∈ lw_all := lw_g (lw_at lw_m10 173 rfl) rfl
theorem q2451 : (Jvm.Cond.fieldLink "TranslationBureauModel" (36 : Nat) "TranslationBureauModel" "found" "[I") ∈ lw_all := lw_g (lw_at lw_m10 174 rfl) rfl
theorem q2452 : (Jvm.Cond.fieldLink "TranslationBureauModel" (258 : Nat) "TranslationBureauModel" "foundMany" "I") ∈ lw_all := lw_g (lw_at lw_m10 175 rfl) rfl
theorem q2453 : (Jvm.Cond.fieldLink "TranslationBureauModel" (39 : Nat) "TranslationBureauModel" "taken" "[J") ∈ lw_all := lw_g (lw_at lw_m10 176 rfl) rfl
theorem q2454 : (Jvm.Cond.fieldLink "TranslationBureauModel" (42 : Nat) "TranslationBureauModel" "output" "[I") ∈ lw_all := lw_g (lw_at lw_m10 177 rfl) rfl
theorem q2455 : (Jvm.Cond.fieldLink "TranslationBureauModel" (419 : Nat) "TranslationBureauModel" "outputLength" "I") ∈ lw_all := lw_g (lw_at lw_m10 178 rfl) rfl
theorem q2456 : (Jvm.Cond.laysFinal "TranslationBureauModel" "TranslationBureauModel" "s" "[J") ∈ lw_all := lw_g (lw_at lw_m10 179 rfl) rfl
theorem q2457 : (Jvm.Cond.soleField "TranslationBureauModel" "s") ∈ lw_all := lw_g (lw_at lw_m10 180 rfl) rfl
theorem q2458 : (Jvm.Cond.laysFinal "TranslationBureauModel" "TranslationBureauModel" "aside" "[J") ∈ lw_all := lw_g (lw_at lw_m10 181 rfl) rfl
theorem q2459 : (Jvm.Cond.soleField "TranslationBureauModel" "aside") ∈ lw_all := lw_g (lw_at lw_m10 182 rfl) rfl
theorem q2460 : (Jvm.Cond.laysFinal "TranslationBureauModel" "TranslationBureauModel" "later" "[J") ∈ lw_all := lw_g (lw_at lw_m10 183 rfl) rfl
theorem q2461 : (Jvm.Cond.soleField "TranslationBureauModel" "later") ∈ lw_all := lw_g (lw_at lw_m10 184 rfl) rfl
theorem q2462 : (Jvm.Cond.laysFinal "TranslationBureauModel" "TranslationBureauModel" "history" "[J") ∈ lw_all := lw_g (lw_at lw_m10 185 rfl) rfl
theorem q2463 : (Jvm.Cond.soleField "TranslationBureauModel" "history") ∈ lw_all := lw_g (lw_at lw_m10 186 rfl) rfl
theorem q2464 : (Jvm.Cond.lays "TranslationBureauModel" "TranslationBureauModel" "edits" "I") ∈ lw_all := lw_g (lw_at lw_m10 187 rfl) rfl
theorem q2465 : (Jvm.Cond.soleField "TranslationBureauModel" "edits") ∈ lw_all := lw_g (lw_at lw_m10 188 rfl) rfl
theorem q2466 : (Jvm.Cond.lays "TranslationBureauModel" "TranslationBureauModel" "thrown" "I") ∈ lw_all := lw_g (lw_at lw_m10 189 rfl) rfl
theorem q2467 : (Jvm.Cond.soleField "TranslationBureauModel" "thrown") ∈ lw_all := lw_g (lw_at lw_m10 190 rfl) rfl
theorem q2468 : (Jvm.Cond.laysFinal "TranslationBureauModel" "TranslationBureauModel" "buffer" "[I") ∈ lw_all := lw_g (lw_at lw_m10 191 rfl) rfl
theorem q2469 : (Jvm.Cond.soleField "TranslationBureauModel" "buffer") ∈ lw_all := lw_g (lw_at lw_m10 192 rfl) rfl
theorem q2470 : (Jvm.Cond.lays "TranslationBureauModel" "TranslationBureauModel" "buffered" "I") ∈ lw_all := lw_g (lw_at lw_m10 193 rfl) rfl
theorem q2471 : (Jvm.Cond.soleField "TranslationBureauModel" "buffered") ∈ lw_all := lw_g (lw_at lw_m10 194 rfl) rfl
theorem q2472 : (Jvm.Cond.lays "TranslationBureauModel" "TranslationBureauModel" "errorKind" "I") ∈ lw_all := lw_g (lw_at lw_m10 195 rfl) rfl
theorem q2473 : (Jvm.Cond.soleField "TranslationBureauModel" "errorKind") ∈ lw_all := lw_g (lw_at lw_m10 196 rfl) rfl
theorem q2474 : (Jvm.Cond.lays "TranslationBureauModel" "TranslationBureauModel" "errorPosition" "I") ∈ lw_all := lw_g (lw_at lw_m10 197 rfl) rfl
theorem q2475 : (Jvm.Cond.soleField "TranslationBureauModel" "errorPosition") ∈ lw_all := lw_g (lw_at lw_m10 198 rfl) rfl
theorem q2476 : (Jvm.Cond.lays "TranslationBureauModel" "TranslationBureauModel" "length" "I") ∈ lw_all := lw_g (lw_at lw_m10 199 rfl) rfl
theorem q2477 : (Jvm.Cond.soleField "TranslationBureauModel" "length") ∈ lw_all := lw_g (lw_at lw_m10 200 rfl) rfl
theorem q2478 : (Jvm.Cond.lays "TranslationBureauModel" "TranslationBureauModel" "start" "I") ∈ lw_all := lw_g (lw_at lw_m10 201 rfl) rfl
theorem q2479 : (Jvm.Cond.soleField "TranslationBureauModel" "start") ∈ lw_all := lw_g (lw_at lw_m10 202 rfl) rfl
theorem q2480 : (Jvm.Cond.lays "TranslationBureauModel" "TranslationBureauModel" "next" "I") ∈ lw_all := lw_g (lw_at lw_m10 203 rfl) rfl
theorem q2481 : (Jvm.Cond.soleField "TranslationBureauModel" "next") ∈ lw_all := lw_g (lw_at lw_m10 204 rfl) rfl
theorem q2482 : (Jvm.Cond.lays "TranslationBureauModel" "TranslationBureauModel" "token" "I") ∈ lw_all := lw_g (lw_at lw_m10 205 rfl) rfl
theorem q2483 : (Jvm.Cond.soleField "TranslationBureauModel" "token") ∈ lw_all := lw_g (lw_at lw_m10 206 rfl) rfl
theorem q2484 : (Jvm.Cond.lays "TranslationBureauModel" "TranslationBureauModel" "value" "I") ∈ lw_all := lw_g (lw_at lw_m10 207 rfl) rfl
theorem q2485 : (Jvm.Cond.soleField "TranslationBureauModel" "value") ∈ lw_all := lw_g (lw_at lw_m10 208 rfl) rfl
theorem q2486 : (Jvm.Cond.lays "TranslationBureauModel" "TranslationBureauModel" "word" "J") ∈ lw_all := lw_g (lw_at lw_m10 209 rfl) rfl
theorem q2487 : (Jvm.Cond.soleField "TranslationBureauModel" "word") ∈ lw_all := lw_g (lw_at lw_m10 210 rfl) rfl
theorem q2488 : (Jvm.Cond.lays "TranslationBureauModel" "TranslationBureauModel" "kind" "I") ∈ lw_all := lw_g (lw_at lw_m10 211 rfl) rfl
theorem q2489 : (Jvm.Cond.soleField "TranslationBureauModel" "kind") ∈ lw_all := lw_g (lw_at lw_m10 212 rfl) rfl
theorem q2490 : (Jvm.Cond.lays "TranslationBureauModel" "TranslationBureauModel" "position" "I") ∈ lw_all := lw_g (lw_at lw_m10 213 rfl) rfl
theorem q2491 : (Jvm.Cond.soleField "TranslationBureauModel" "position") ∈ lw_all := lw_g (lw_at lw_m10 214 rfl) rfl
theorem q2492 : (Jvm.Cond.laysFinal "TranslationBureauModel" "TranslationBureauModel" "steps" "[I") ∈ lw_all := lw_g (lw_at lw_m10 215 rfl) rfl
theorem q2493 : (Jvm.Cond.soleField "TranslationBureauModel" "steps") ∈ lw_all := lw_g (lw_at lw_m10 216 rfl) rfl
theorem q2494 : (Jvm.Cond.laysFinal "TranslationBureauModel" "TranslationBureauModel" "byBands" "[I") ∈ lw_all := lw_g (lw_at lw_m10 217 rfl) rfl
theorem q2495 : (Jvm.Cond.soleField "TranslationBureauModel" "byBands") ∈ lw_all := lw_g (lw_at lw_m10 218 rfl) rfl
theorem q2496 : (Jvm.Cond.laysFinal "TranslationBureauModel" "TranslationBureauModel" "found" "[I") ∈ lw_all := lw_g (lw_at lw_m10 219 rfl) rfl
theorem q2497 : (Jvm.Cond.soleField "TranslationBureauModel" "found") ∈ lw_all := lw_g (lw_at lw_m10 220 rfl) rfl
theorem q2498 : (Jvm.Cond.lays "TranslationBureauModel" "TranslationBureauModel" "foundMany" "I") ∈ lw_all := lw_g (lw_at lw_m10 221 rfl) rfl
theorem q2499 : (Jvm.Cond.soleField "TranslationBureauModel" "foundMany") ∈ lw_all := lw_g (lw_at lw_m10 222 rfl) rfl
theorem q2500 : (Jvm.Cond.laysFinal "TranslationBureauModel" "TranslationBureauModel" "taken" "[J") ∈ lw_all := lw_g (lw_at lw_m10 223 rfl) rfl
theorem q2501 : (Jvm.Cond.soleField "TranslationBureauModel" "taken") ∈ lw_all := lw_g (lw_at lw_m10 224 rfl) rfl
theorem q2502 : (Jvm.Cond.laysFinal "TranslationBureauModel" "TranslationBureauModel" "output" "[I") ∈ lw_all := lw_g (lw_at lw_m10 225 rfl) rfl
theorem q2503 : (Jvm.Cond.soleField "TranslationBureauModel" "output") ∈ lw_all := lw_g (lw_at lw_m10 226 rfl) rfl
theorem q2504 : (Jvm.Cond.lays "TranslationBureauModel" "TranslationBureauModel" "outputLength" "I") ∈ lw_all := lw_g (lw_at lw_m10 227 rfl) rfl
theorem q2505 : (Jvm.Cond.soleField "TranslationBureauModel" "outputLength") ∈ lw_all := lw_g (lw_at lw_m10 228 rfl) rfl
theorem q2506 : (Jvm.Cond.superclass "TranslationBureauModel" "java/lang/Object") ∈ lw_all := lw_g (lw_at lw_m10 229 rfl) rfl
theorem q2509 : (Jvm.Cond.instanceMethod ({ cls := "TranslationBureauModel", name := "thrown", desc := "()I" } : Jvm.MethodName)) ∈ lw_all := lw_g (lw_at lw_m10 232 rfl) rfl
theorem q2510 : (Jvm.Cond.selects "TranslationBureauModel" ({ cls := "TranslationBureauModel", name := "thrown", desc := "()I" } : Jvm.MethodName) ({ cls := "TranslationBureauModel", name := "thrown", desc := "()I" } : Jvm.MethodName)) ∈ lw_all := lw_g (lw_at lw_m10 233 rfl) rfl
theorem q2511 : (Jvm.Cond.code ({ cls := "TranslationBureauModel", name := "thrown", desc := "()I" } : Jvm.MethodName) prog_26_method_2_code (1 : Nat) (Option.some Jvm.ClassFile.FieldType.int)) ∈ lw_all := lw_g (lw_at lw_m10 234 rfl) rfl
theorem q2513 : (Jvm.Cond.instanceMethod ({ cls := "TranslationBureauModel", name := "undo", desc := "()I" } : Jvm.MethodName)) ∈ lw_all := lw_g (lw_at lw_m10 236 rfl) rfl
theorem q2514 : (Jvm.Cond.selects "TranslationBureauModel" ({ cls := "TranslationBureauModel", name := "undo", desc := "()I" } : Jvm.MethodName) ({ cls := "TranslationBureauModel", name := "undo", desc := "()I" } : Jvm.MethodName)) ∈ lw_all := lw_g (lw_at lw_m10 237 rfl) rfl
theorem q2515 : (Jvm.Cond.code ({ cls := "TranslationBureauModel", name := "undo", desc := "()I" } : Jvm.MethodName) prog_26_method_10_code (2 : Nat) (Option.some Jvm.ClassFile.FieldType.int)) ∈ lw_all := lw_g (lw_at lw_m10 238 rfl) rfl
theorem q2517 : (Jvm.Cond.instanceMethod ({ cls := "TranslationBureauModel", name := "feed", desc := "(IIIII)I" } : Jvm.MethodName)) ∈ lw_all := lw_g (lw_at lw_m11 0 rfl) rfl
theorem q2518 : (Jvm.Cond.selects "TranslationBureauModel" ({ cls := "TranslationBureauModel", name := "feed", desc := "(IIIII)I" } : Jvm.MethodName) ({ cls := "TranslationBureauModel", name := "feed", desc := "(IIIII)I" } : Jvm.MethodName)) ∈ lw_all := lw_g (lw_at lw_m11 1 rfl) rfl
theorem q2519 : (Jvm.Cond.code ({ cls := "TranslationBureauModel", name := "feed", desc := "(IIIII)I" } : Jvm.MethodName) prog_26_method_14_code (6 : Nat) (Option.some Jvm.ClassFile.FieldType.int)) ∈ lw_all := lw_g (lw_at lw_m11 2 rfl) rfl
theorem q2520 : (Jvm.Cond.methodLink "TranslationBureauModel" (75 : Nat) ({ cls := "TranslationBureauModel", name := "append", desc := "(I)V" } : Jvm.MethodName)) ∈ lw_all := lw_g (lw_at lw_m11 3 rfl) rfl
theorem q2521 : (Jvm.Cond.privateMethod ({ cls := "TranslationBureauModel", name := "append", desc := "(I)V" } : Jvm.MethodName)) ∈ lw_tbl := lw_at lw_m11 4 rfl
theorem q2522 : (Jvm.Cond.instanceMethod ({ cls := "TranslationBureauModel", name := "append", desc := "(I)V" } : Jvm.MethodName)) ∈ lw_all := lw_g (lw_at lw_m11 5 rfl) rfl
theorem q2523 : (Jvm.Cond.code ({ cls := "TranslationBureauModel", name := "append", desc := "(I)V" } : Jvm.MethodName) prog_26_method_13_code (3 : Nat) (Option.none : Option Jvm.ClassFile.FieldType)) ∈ lw_all := lw_g (lw_at lw_m11 6 rfl) rfl
theorem q2525 : (Jvm.Cond.instanceMethod ({ cls := "TranslationBureauModel", name := "load", desc := "(I)I" } : Jvm.MethodName)) ∈ lw_all := lw_g (lw_at lw_m11 8 rfl) rfl
theorem q2526 : (Jvm.Cond.selects "TranslationBureauModel" ({ cls := "TranslationBureauModel", name := "load", desc := "(I)I" } : Jvm.MethodName) ({ cls := "TranslationBureauModel", name := "load", desc := "(I)I" } : Jvm.MethodName)) ∈ lw_all := lw_g (lw_at lw_m11 9 rfl) rfl
theorem q2527 : (Jvm.Cond.code ({ cls := "TranslationBureauModel", name := "load", desc := "(I)I" } : Jvm.MethodName) prog_26_method_42_code (2 : Nat) (Option.some Jvm.ClassFile.FieldType.int)) ∈ lw_all := lw_g (lw_at lw_m11 10 rfl) rfl
theorem q2528 : (Jvm.Cond.methodLink "TranslationBureauModel" (144 : Nat) ({ cls := "TranslationBureauModel", name := "isIn", desc := "(JJJ)Z" } : Jvm.MethodName)) ∈ lw_all := lw_g (lw_at lw_m11 11 rfl) rfl
theorem q2529 : (Jvm.Cond.static ({ cls := "TranslationBureauModel", name := "isIn", desc := "(JJJ)Z" } : Jvm.MethodName)) ∈ lw_all := lw_g (lw_at lw_m11 12 rfl) rfl
theorem q2530 : (Jvm.Cond.code ({ cls := "TranslationBureauModel", name := "isIn", desc := "(JJJ)Z" } : Jvm.MethodName) prog_26_method_4_code (6 : Nat) (Option.some Jvm.ClassFile.FieldType.boolean)) ∈ lw_all := lw_g (lw_at lw_m11 13 rfl) rfl
theorem q2531 : (Jvm.Cond.methodLink "TranslationBureauModel" (240 : Nat) ({ cls := "TranslationBureauModel", name := "good", desc := "(Z)Z" } : Jvm.MethodName)) ∈ lw_all := lw_g (lw_at lw_m11 14 rfl) rfl
theorem q2532 : (Jvm.Cond.privateMethod ({ cls := "TranslationBureauModel", name := "good", desc := "(Z)Z" } : Jvm.MethodName)) ∈ lw_tbl := lw_at lw_m11 15 rfl
theorem q2533 : (Jvm.Cond.instanceMethod ({ cls := "TranslationBureauModel", name := "good", desc := "(Z)Z" } : Jvm.MethodName)) ∈ lw_all := lw_g (lw_at lw_m11 16 rfl) rfl
theorem q2534 : (Jvm.Cond.code ({ cls := "TranslationBureauModel", name := "good", desc := "(Z)Z" } : Jvm.MethodName) prog_26_method_5_code (2 : Nat) (Option.some Jvm.ClassFile.FieldType.boolean)) ∈ lw_all := lw_g (lw_at lw_m11 17 rfl) rfl
theorem q2535 : (Jvm.Cond.methodLink "TranslationBureauModel" (243 : Nat) ({ cls := "TranslationBureauModel", name := "putAside", desc := "()V" } : Jvm.MethodName)) ∈ lw_all := lw_g (lw_at lw_m11 18 rfl) rfl
theorem q2536 : (Jvm.Cond.privateMethod ({ cls := "TranslationBureauModel", name := "putAside", desc := "()V" } : Jvm.MethodName)) ∈ lw_tbl := lw_at lw_m11 19 rfl
theorem q2537 : (Jvm.Cond.instanceMethod ({ cls := "TranslationBureauModel", name := "putAside", desc := "()V" } : Jvm.MethodName)) ∈ lw_all := lw_g (lw_at lw_m11 20 rfl) rfl
theorem q2538 : (Jvm.Cond.code ({ cls := "TranslationBureauModel", name := "putAside", desc := "()V" } : Jvm.MethodName) prog_26_method_11_code (1 : Nat) (Option.none : Option Jvm.ClassFile.FieldType)) ∈ lw_all := lw_g (lw_at lw_m11 21 rfl) rfl
theorem q2539 : (Jvm.Cond.methodLink "TranslationBureauModel" (68 : Nat) ({ cls := "TranslationBureauModel", name := "copy", desc := "([J[J)V" } : Jvm.MethodName)) ∈ lw_all := lw_g (lw_at lw_m11 22 rfl) rfl
theorem q2540 : (Jvm.Cond.static ({ cls := "TranslationBureauModel", name := "copy", desc := "([J[J)V" } : Jvm.MethodName)) ∈ lw_all := lw_g (lw_at lw_m11 23 rfl) rfl
theorem q2541 : (Jvm.Cond.code ({ cls := "TranslationBureauModel", name := "copy", desc := "([J[J)V" } : Jvm.MethodName) prog_26_method_8_code (3 : Nat) (Option.none : Option Jvm.ClassFile.FieldType)) ∈ lw_all := lw_g (lw_at lw_m11 24 rfl) rfl
theorem q2542 : (Jvm.Cond.methodLink "TranslationBureauModel" (246 : Nat) ({ cls := "TranslationBureauModel", name := "parse", desc := "(I)Z" } : Jvm.MethodName)) ∈ lw_all := lw_g (lw_at lw_m11 25 rfl) rfl
theorem q2543 : (Jvm.Cond.privateMethod ({ cls := "TranslationBureauModel", name := "parse", desc := "(I)Z" } : Jvm.MethodName)) ∈ lw_tbl := lw_at lw_m11 26 rfl
theorem q2544 : (Jvm.Cond.instanceMethod ({ cls := "TranslationBureauModel", name := "parse", desc := "(I)Z" } : Jvm.MethodName)) ∈ lw_all := lw_g (lw_at lw_m11 27 rfl) rfl
theorem q2545 : (Jvm.Cond.code ({ cls := "TranslationBureauModel", name := "parse", desc := "(I)Z" } : Jvm.MethodName) prog_26_method_41_code (3 : Nat) (Option.some Jvm.ClassFile.FieldType.boolean)) ∈ lw_all := lw_g (lw_at lw_m11 28 rfl) rfl
theorem q2546 : (Jvm.Cond.methodLink "TranslationBureauModel" (148 : Nat) ({ cls := "TranslationBureauModel", name := "advance", desc := "()Z" } : Jvm.MethodName)) ∈ lw_all := lw_g (lw_at lw_m11 29 rfl) rfl
theorem q2547 : (Jvm.Cond.privateMethod ({ cls := "TranslationBureauModel", name := "advance", desc := "()Z" } : Jvm.MethodName)) ∈ lw_tbl := lw_at lw_m11 30 rfl
theorem q2548 : (Jvm.Cond.instanceMethod ({ cls := "TranslationBureauModel", name := "advance", desc := "()Z" } : Jvm.MethodName)) ∈ lw_all := lw_g (lw_at lw_m11 31 rfl) rfl
theorem q2549 : (Jvm.Cond.code ({ cls := "TranslationBureauModel", name := "advance", desc := "()Z" } : Jvm.MethodName) prog_26_method_21_code (2 : Nat) (Option.some Jvm.ClassFile.FieldType.boolean)) ∈ lw_all := lw_g (lw_at lw_m11 32 rfl) rfl
theorem q2550 : (Jvm.Cond.methodLink "TranslationBureauModel" (89 : Nat) ({ cls := "TranslationBureauModel", name := "byteAt", desc := "(I)I" } : Jvm.MethodName)) ∈ lw_all := lw_g (lw_at lw_m11 33 rfl) rfl
theorem q2551 : (Jvm.Cond.privateMethod ({ cls := "TranslationBureauModel", name := "byteAt", desc := "(I)I" } : Jvm.MethodName)) ∈ lw_tbl := lw_at lw_m11 34 rfl
theorem q2552 : (Jvm.Cond.instanceMethod ({ cls := "TranslationBureauModel", name := "byteAt", desc := "(I)I" } : Jvm.MethodName)) ∈ lw_all := lw_g (lw_at lw_m11 35 rfl) rfl
theorem q2553 : (Jvm.Cond.code ({ cls := "TranslationBureauModel", name := "byteAt", desc := "(I)I" } : Jvm.MethodName) prog_26_method_15_code (2 : Nat) (Option.some Jvm.ClassFile.FieldType.int)) ∈ lw_all := lw_g (lw_at lw_m11 36 rfl) rfl
theorem q2554 : (Jvm.Cond.methodLink "TranslationBureauModel" (93 : Nat) ({ cls := "TranslationBureauModel", name := "isLetter", desc := "(I)Z" } : Jvm.MethodName)) ∈ lw_all := lw_g (lw_at lw_m11 37 rfl) rfl
theorem q2555 : (Jvm.Cond.static ({ cls := "TranslationBureauModel", name := "isLetter", desc := "(I)Z" } : Jvm.MethodName)) ∈ lw_all := lw_g (lw_at lw_m11 38 rfl) rfl
theorem q2556 : (Jvm.Cond.code ({ cls := "TranslationBureauModel", name := "isLetter", desc := "(I)Z" } : Jvm.MethodName) prog_26_method_16_code (1 : Nat) (Option.some Jvm.ClassFile.FieldType.boolean)) ∈ lw_all := lw_g (lw_at lw_m11 39 rfl) rfl
theorem q2557 : (Jvm.Cond.methodLink "TranslationBureauModel" (113 : Nat) ({ cls := "TranslationBureauModel", name := "readWord", desc := "()V" } : Jvm.MethodName)) ∈ lw_all := lw_g (lw_at lw_m11 40 rfl) rfl
theorem q2558 : (Jvm.Cond.privateMethod ({ cls := "TranslationBureauModel", name := "readWord", desc := "()V" } : Jvm.MethodName)) ∈ lw_tbl := lw_at lw_m11 41 rfl
theorem q2559 : (Jvm.Cond.instanceMethod ({ cls := "TranslationBureauModel", name := "readWord", desc := "()V" } : Jvm.MethodName)) ∈ lw_all := lw_g (lw_at lw_m11 42 rfl) rfl
theorem q2560 : (Jvm.Cond.code ({ cls := "TranslationBureauModel", name := "readWord", desc := "()V" } : Jvm.MethodName) prog_26_method_18_code (1 : Nat) (Option.none : Option Jvm.ClassFile.FieldType)) ∈ lw_all := lw_g (lw_at lw_m11 43 rfl) rfl
theorem q2561 : (Jvm.Cond.constantLong "TranslationBureauModel" (100 : Nat) (27 : Int64)) ∈ lw_all := lw_g (lw_at lw_m11 44 rfl) rfl
theorem q2562 : (Jvm.Cond.constantLong "TranslationBureauModel" (102 : Nat) (97 : Int64)) ∈ lw_all := lw_g (lw_at lw_m11 45 rfl) rfl
theorem q2563 : (Jvm.Cond.methodLink "TranslationBureauModel" (110 : Nat) ({ cls := "TranslationBureauModel", name := "isDigit", desc := "(I)Z" } : Jvm.MethodName)) ∈ lw_all := lw_g (lw_at lw_m11 46 rfl) rfl
theorem q2564 : (Jvm.Cond.static ({ cls := "TranslationBureauModel", name := "isDigit", desc := "(I)Z" } : Jvm.MethodName)) ∈ lw_all := lw_g (lw_at lw_m11 47 rfl) rfl
theorem q2565 : (Jvm.Cond.code ({ cls := "TranslationBureauModel", name := "isDigit", desc := "(I)Z" } : Jvm.MethodName) prog_26_method_17_code (1 : Nat) (Option.some Jvm.ClassFile.FieldType.boolean)) ∈ lw_all := lw_g (lw_at lw_m11 48 rfl) rfl
theorem q2566 : (Jvm.Cond.methodLink "TranslationBureauModel" (116 : Nat) ({ cls := "TranslationBureauModel", name := "readNumber", desc := "()V" } : Jvm.MethodName)) ∈ lw_all := lw_g (lw_at lw_m11 49 rfl) rfl
theorem q2567 : (Jvm.Cond.privateMethod ({ cls := "TranslationBureauModel", name := "readNumber", desc := "()V" } : Jvm.MethodName)) ∈ lw_tbl := lw_at lw_m11 50 rfl
theorem q2568 : (Jvm.Cond.instanceMethod ({ cls := "TranslationBureauModel", name := "readNumber", desc := "()V" } : Jvm.MethodName)) ∈ lw_all := lw_g (lw_at lw_m11 51 rfl) rfl
theorem q2569 : (Jvm.Cond.code ({ cls := "TranslationBureauModel", name := "readNumber", desc := "()V" } : Jvm.MethodName) prog_26_method_19_code (1 : Nat) (Option.none : Option Jvm.ClassFile.FieldType)) ∈ lw_all := lw_g (lw_at lw_m11 52 rfl) rfl
theorem q2570 : (Jvm.Cond.methodLink "TranslationBureauModel" (119 : Nat) ({ cls := "TranslationBureauModel", name := "readSign", desc := "(I)V" } : Jvm.MethodName)) ∈ lw_all := lw_g (lw_at lw_m11 53 rfl) rfl
theorem q2571 : (Jvm.Cond.privateMethod ({ cls := "TranslationBureauModel", name := "readSign", desc := "(I)V" } : Jvm.MethodName)) ∈ lw_tbl := lw_at lw_m11 54 rfl
theorem q2572 : (Jvm.Cond.instanceMethod ({ cls := "TranslationBureauModel", name := "readSign", desc := "(I)V" } : Jvm.MethodName)) ∈ lw_all := lw_g (lw_at lw_m11 55 rfl) rfl
theorem q2573 : (Jvm.Cond.code ({ cls := "TranslationBureauModel", name := "readSign", desc := "(I)V" } : Jvm.MethodName) prog_26_method_20_code (2 : Nat) (Option.none : Option Jvm.ClassFile.FieldType)) ∈ lw_all := lw_g (lw_at lw_m11 56 rfl) rfl
theorem q2574 : (Jvm.Cond.methodLink "TranslationBureauModel" (231 : Nat) ({ cls := "TranslationBureauModel", name := "statement", desc := "()Z" } : Jvm.MethodName)) ∈ lw_all := lw_g (lw_at lw_m11 57 rfl) rfl
theorem q2575 : (Jvm.Cond.privateMethod ({ cls := "TranslationBureauModel", name := "statement", desc := "()Z" } : Jvm.MethodName)) ∈ lw_tbl := lw_at lw_m11 58 rfl
theorem q2576 : (Jvm.Cond.instanceMethod ({ cls := "TranslationBureauModel", name := "statement", desc := "()Z" } : Jvm.MethodName)) ∈ lw_all := lw_g (lw_at lw_m11 59 rfl) rfl
theorem q2577 : (Jvm.Cond.code ({ cls := "TranslationBureauModel", name := "statement", desc := "()Z" } : Jvm.MethodName) prog_26_method_40_code (2 : Nat) (Option.some Jvm.ClassFile.FieldType.boolean)) ∈ lw_all := lw_g (lw_at lw_m11 60 rfl) rfl
theorem q2578 : (Jvm.Cond.stringRef "TranslationBureauModel" (200 : Nat) "band") ∈ lw_tbl := lw_at lw_m11 61 rfl
theorem q2579 : (Jvm.Cond.methodLink "TranslationBureauModel" (190 : Nat) ({ cls := "TranslationBureauModel", name := "isWord", desc := "(Ljava/lang/String;)Z" } : Jvm.MethodName)) ∈ lw_all := lw_g (lw_at lw_m11 62 rfl) rfl
theorem q2580 : (Jvm.Cond.privateMethod ({ cls := "TranslationBureauModel", name := "isWord", desc := "(Ljava/lang/String;)Z" } : Jvm.MethodName)) ∈ lw_tbl := lw_at lw_m11 63 rfl
theorem q2581 : (Jvm.Cond.instanceMethod ({ cls := "TranslationBureauModel", name := "isWord", desc := "(Ljava/lang/String;)Z" } : Jvm.MethodName)) ∈ lw_all := lw_g (lw_at lw_m11 64 rfl) rfl
theorem q2582 : (Jvm.Cond.code ({ cls := "TranslationBureauModel", name := "isWord", desc := "(Ljava/lang/String;)Z" } : Jvm.MethodName) prog_26_method_23_code (2 : Nat) (Option.some Jvm.ClassFile.FieldType.boolean)) ∈ lw_all := lw_g (lw_at lw_m11 65 rfl) rfl
theorem q2583 : (Jvm.Cond.methodLink "TranslationBureauModel" (131 : Nat) ({ cls := "TranslationBureauModel", name := "codeOf", desc := "(Ljava/lang/String;)J" } : Jvm.MethodName)) ∈ lw_all := lw_g (lw_at lw_m11 66 rfl) rfl
theorem q2584 : (Jvm.Cond.static ({ cls := "TranslationBureauModel", name := "codeOf", desc := "(Ljava/lang/String;)J" } : Jvm.MethodName)) ∈ lw_all := lw_g (lw_at lw_m11 67 rfl) rfl
theorem q2585 : (Jvm.Cond.code ({ cls := "TranslationBureauModel", name := "codeOf", desc := "(Ljava/lang/String;)J" } : Jvm.MethodName) prog_26_method_22_code (4 : Nat) (Option.some Jvm.ClassFile.FieldType.long)) ∈ lw_all := lw_g (lw_at lw_m11 68 rfl) rfl
theorem q2586 : (Jvm.Cond.methodLink "TranslationBureauModel" (122 : Nat) ({ cls := "java/lang/String", name := "length", desc := "()I" } : Jvm.MethodName)) ∈ lw_all := lw_g (lw_at lw_m11 69 rfl) rfl
theorem q2587 : (Jvm.Cond.methodLink "TranslationBureauModel" (127 : Nat) ({ cls := "java/lang/String", name := "charAt", desc := "(I)C" } : Jvm.MethodName)) ∈ lw_all := lw_g (lw_at lw_m11 70 rfl) rfl
theorem q2598 : (Jvm.Cond.methodLink "TranslationBureauModel" (202 : Nat) ({ cls := "TranslationBureauModel", name := "bandStatement", desc := "()Z" } : Jvm.MethodName)) ∈ lw_all := lw_g (lw_at lw_m11 81 rfl) rfl
theorem q2599 : (Jvm.Cond.privateMethod ({ cls := "TranslationBureauModel", name := "bandStatement", desc := "()Z" } : Jvm.MethodName)) ∈ lw_tbl := lw_at lw_m11 82 rfl
theorem q2600 : (Jvm.Cond.instanceMethod ({ cls := "TranslationBureauModel", name := "bandStatement", desc := "()Z" } : Jvm.MethodName)) ∈ lw_all := lw_g (lw_at lw_m11 83 rfl) rfl
theorem q2601 : (Jvm.Cond.code ({ cls := "TranslationBureauModel", name := "bandStatement", desc := "()Z" } : Jvm.MethodName) prog_26_method_35_code (2 : Nat) (Option.some Jvm.ClassFile.FieldType.boolean)) ∈ lw_all := lw_g (lw_at lw_m11 84 rfl) rfl
theorem q2602 : (Jvm.Cond.methodLink "TranslationBureauModel" (141 : Nat) ({ cls := "TranslationBureauModel", name := "fail", desc := "(I)Z" } : Jvm.MethodName)) ∈ lw_all := lw_g (lw_at lw_m11 85 rfl) rfl
theorem q2603 : (Jvm.Cond.privateMethod ({ cls := "TranslationBureauModel", name := "fail", desc := "(I)Z" } : Jvm.MethodName)) ∈ lw_tbl := lw_at lw_m11 86 rfl
theorem q2604 : (Jvm.Cond.instanceMethod ({ cls := "TranslationBureauModel", name := "fail", desc := "(I)Z" } : Jvm.MethodName)) ∈ lw_all := lw_g (lw_at lw_m11 87 rfl) rfl
theorem q2605 : (Jvm.Cond.code ({ cls := "TranslationBureauModel", name := "fail", desc := "(I)Z" } : Jvm.MethodName) prog_26_method_24_code (2 : Nat) (Option.some Jvm.ClassFile.FieldType.boolean)) ∈ lw_all := lw_g (lw_at lw_m11 88 rfl) rfl
theorem q2606 : (Jvm.Cond.methodLink "TranslationBureauModel" (158 : Nat) ({ cls := "TranslationBureauModel", name := "number", desc := "(III)Z" } : Jvm.MethodName)) ∈ lw_all := lw_g (lw_at lw_m11 89 rfl) rfl
theorem q2607 : (Jvm.Cond.privateMethod ({ cls := "TranslationBureauModel", name := "number", desc := "(III)Z" } : Jvm.MethodName)) ∈ lw_tbl := lw_at lw_m11 90 rfl
theorem q2608 : (Jvm.Cond.instanceMethod ({ cls := "TranslationBureauModel", name := "number", desc := "(III)Z" } : Jvm.MethodName)) ∈ lw_all := lw_g (lw_at lw_m11 91 rfl) rfl
theorem q2609 : (Jvm.Cond.code ({ cls := "TranslationBureauModel", name := "number", desc := "(III)Z" } : Jvm.MethodName) prog_26_method_25_code (4 : Nat) (Option.some Jvm.ClassFile.FieldType.boolean)) ∈ lw_all := lw_g (lw_at lw_m11 92 rfl) rfl
theorem q2610 : (Jvm.Cond.stringRef "TranslationBureauModel" (205 : Nat) "person") ∈ lw_tbl := lw_at lw_m11 93 rfl
theorem q2611 : (Jvm.Cond.methodLink "TranslationBureauModel" (207 : Nat) ({ cls := "TranslationBureauModel", name := "personStatement", desc := "()Z" } : Jvm.MethodName)) ∈ lw_all := lw_g (lw_at lw_m11 94 rfl) rfl
theorem q2612 : (Jvm.Cond.privateMethod ({ cls := "TranslationBureauModel", name := "personStatement", desc := "()Z" } : Jvm.MethodName)) ∈ lw_tbl := lw_at lw_m11 95 rfl
theorem q2613 : (Jvm.Cond.instanceMethod ({ cls := "TranslationBureauModel", name := "personStatement", desc := "()Z" } : Jvm.MethodName)) ∈ lw_all := lw_g (lw_at lw_m11 96 rfl) rfl
theorem q2614 : (Jvm.Cond.code ({ cls := "TranslationBureauModel", name := "personStatement", desc := "()Z" } : Jvm.MethodName) prog_26_method_29_code (2 : Nat) (Option.some Jvm.ClassFile.FieldType.boolean)) ∈ lw_all := lw_g (lw_at lw_m11 97 rfl) rfl
theorem q2615 : (Jvm.Cond.constantLong "TranslationBureauModel" (152 : Nat) (5 : Int64)) ∈ lw_all := lw_g (lw_at lw_m11 98 rfl) rfl
theorem q2616 : (Jvm.Cond.methodLink "TranslationBureauModel" (154 : Nat) ({ cls := "TranslationBureauModel", name := "personNamed", desc := "(J)I" } : Jvm.MethodName)) ∈ lw_all := lw_g (lw_at lw_m11 99 rfl) rfl
theorem q2617 : (Jvm.Cond.privateMethod ({ cls := "TranslationBureauModel", name := "personNamed", desc := "(J)I" } : Jvm.MethodName)) ∈ lw_tbl := lw_at lw_m11 100 rfl
theorem q2618 : (Jvm.Cond.instanceMethod ({ cls := "TranslationBureauModel", name := "personNamed", desc := "(J)I" } : Jvm.MethodName)) ∈ lw_all := lw_g (lw_at lw_m11 101 rfl) rfl
theorem q2619 : (Jvm.Cond.code ({ cls := "TranslationBureauModel", name := "personNamed", desc := "(J)I" } : Jvm.MethodName) prog_26_method_28_code (4 : Nat) (Option.some Jvm.ClassFile.FieldType.int)) ∈ lw_all := lw_g (lw_at lw_m11 102 rfl) rfl
theorem q2620 : (Jvm.Cond.stringRef "TranslationBureauModel" (210 : Nat) "term") ∈ lw_tbl := lw_at lw_m11 103 rfl
theorem q2621 : (Jvm.Cond.methodLink "TranslationBureauModel" (212 : Nat) ({ cls := "TranslationBureauModel", name := "termStatement", desc := "()Z" } : Jvm.MethodName)) ∈ lw_all := lw_g (lw_at lw_m11 104 rfl) rfl
theorem q2622 : (Jvm.Cond.privateMethod ({ cls := "TranslationBureauModel", name := "termStatement", desc := "()Z" } : Jvm.MethodName)) ∈ lw_tbl := lw_at lw_m11 105 rfl
theorem q2623 : (Jvm.Cond.instanceMethod ({ cls := "TranslationBureauModel", name := "termStatement", desc := "()Z" } : Jvm.MethodName)) ∈ lw_all := lw_g (lw_at lw_m11 106 rfl) rfl
theorem q2624 : (Jvm.Cond.code ({ cls := "TranslationBureauModel", name := "termStatement", desc := "()Z" } : Jvm.MethodName) prog_26_method_30_code (2 : Nat) (Option.some Jvm.ClassFile.FieldType.boolean)) ∈ lw_all := lw_g (lw_at lw_m11 107 rfl) rfl
theorem q2625 : (Jvm.Cond.constantLong "TranslationBureauModel" (162 : Nat) (12 : Int64)) ∈ lw_all := lw_g (lw_at lw_m11 108 rfl) rfl
theorem q2626 : (Jvm.Cond.methodLink "TranslationBureauModel" (164 : Nat) ({ cls := "TranslationBureauModel", name := "wordInto", desc := "(I)Z" } : Jvm.MethodName)) ∈ lw_all := lw_g (lw_at lw_m11 109 rfl) rfl
theorem q2627 : (Jvm.Cond.privateMethod ({ cls := "TranslationBureauModel", name := "wordInto", desc := "(I)Z" } : Jvm.MethodName)) ∈ lw_tbl := lw_at lw_m11 110 rfl
theorem q2628 : (Jvm.Cond.instanceMethod ({ cls := "TranslationBureauModel", name := "wordInto", desc := "(I)Z" } : Jvm.MethodName)) ∈ lw_all := lw_g (lw_at lw_m11 111 rfl) rfl
theorem q2629 : (Jvm.Cond.code ({ cls := "TranslationBureauModel", name := "wordInto", desc := "(I)Z" } : Jvm.MethodName) prog_26_method_26_code (2 : Nat) (Option.some Jvm.ClassFile.FieldType.boolean)) ∈ lw_all := lw_g (lw_at lw_m11 112 rfl) rfl
theorem q2630 : (Jvm.Cond.methodLink "TranslationBureauModel" (167 : Nat) ({ cls := "TranslationBureauModel", name := "sign", desc := "(I)Z" } : Jvm.MethodName)) ∈ lw_all := lw_g (lw_at lw_m11 113 rfl) rfl
theorem q2631 : (Jvm.Cond.privateMethod ({ cls := "TranslationBureauModel", name := "sign", desc := "(I)Z" } : Jvm.MethodName)) ∈ lw_tbl := lw_at lw_m11 114 rfl
theorem q2632 : (Jvm.Cond.instanceMethod ({ cls := "TranslationBureauModel", name := "sign", desc := "(I)Z" } : Jvm.MethodName)) ∈ lw_all := lw_g (lw_at lw_m11 115 rfl) rfl
theorem q2633 : (Jvm.Cond.code ({ cls := "TranslationBureauModel", name := "sign", desc := "(I)Z" } : Jvm.MethodName) prog_26_method_27_code (2 : Nat) (Option.some Jvm.ClassFile.FieldType.boolean)) ∈ lw_all := lw_g (lw_at lw_m11 116 rfl) rfl
theorem q2634 : (Jvm.Cond.stringRef "TranslationBureauModel" (215 : Nat) "job") ∈ lw_tbl := lw_at lw_m11 117 rfl
theorem q2635 : (Jvm.Cond.methodLink "TranslationBureauModel" (217 : Nat) ({ cls := "TranslationBureauModel", name := "jobStatement", desc := "()Z" } : Jvm.MethodName)) ∈ lw_all := lw_g (lw_at lw_m11 118 rfl) rfl
theorem q2636 : (Jvm.Cond.privateMethod ({ cls := "TranslationBureauModel", name := "jobStatement", desc := "()Z" } : Jvm.MethodName)) ∈ lw_tbl := lw_at lw_m11 119 rfl
theorem q2637 : (Jvm.Cond.instanceMethod ({ cls := "TranslationBureauModel", name := "jobStatement", desc := "()Z" } : Jvm.MethodName)) ∈ lw_all := lw_g (lw_at lw_m11 120 rfl) rfl
theorem q2638 : (Jvm.Cond.code ({ cls := "TranslationBureauModel", name := "jobStatement", desc := "()Z" } : Jvm.MethodName) prog_26_method_32_code (2 : Nat) (Option.some Jvm.ClassFile.FieldType.boolean)) ∈ lw_all := lw_g (lw_at lw_m11 121 rfl) rfl
theorem q2639 : (Jvm.Cond.constantLong "TranslationBureauModel" (170 : Nat) (-1 : Int64)) ∈ lw_all := lw_g (lw_at lw_m11 122 rfl) rfl
theorem q2640 : (Jvm.Cond.methodLink "TranslationBureauModel" (172 : Nat) ({ cls := "TranslationBureauModel", name := "personInto", desc := "(IJ)Z" } : Jvm.MethodName)) ∈ lw_all := lw_g (lw_at lw_m11 123 rfl) rfl
theorem q2641 : (Jvm.Cond.privateMethod ({ cls := "TranslationBureauModel", name := "personInto", desc := "(IJ)Z" } : Jvm.MethodName)) ∈ lw_tbl := lw_at lw_m11 124 rfl
theorem q2642 : (Jvm.Cond.instanceMethod ({ cls := "TranslationBureauModel", name := "personInto", desc := "(IJ)Z" } : Jvm.MethodName)) ∈ lw_all := lw_g (lw_at lw_m11 125 rfl) rfl
theorem q2643 : (Jvm.Cond.code ({ cls := "TranslationBureauModel", name := "personInto", desc := "(IJ)Z" } : Jvm.MethodName) prog_26_method_31_code (5 : Nat) (Option.some Jvm.ClassFile.FieldType.boolean)) ∈ lw_all := lw_g (lw_at lw_m11 126 rfl) rfl
theorem q2644 : (Jvm.Cond.stringRef "TranslationBureauModel" (220 : Nat) "segment") ∈ lw_tbl := lw_at lw_m11 127 rfl
theorem q2645 : (Jvm.Cond.methodLink "TranslationBureauModel" (222 : Nat) ({ cls := "TranslationBureauModel", name := "segmentStatement", desc := "()Z" } : Jvm.MethodName)) ∈ lw_all := lw_g (lw_at lw_m11 128 rfl) rfl
theorem q2646 : (Jvm.Cond.privateMethod ({ cls := "TranslationBureauModel", name := "segmentStatement", desc := "()Z" } : Jvm.MethodName)) ∈ lw_tbl := lw_at lw_m11 129 rfl
theorem q2647 : (Jvm.Cond.instanceMethod ({ cls := "TranslationBureauModel", name := "segmentStatement", desc := "()Z" } : Jvm.MethodName)) ∈ lw_all := lw_g (lw_at lw_m11 130 rfl) rfl
theorem q2648 : (Jvm.Cond.code ({ cls := "TranslationBureauModel", name := "segmentStatement", desc := "()Z" } : Jvm.MethodName) prog_26_method_34_code (2 : Nat) (Option.some Jvm.ClassFile.FieldType.boolean)) ∈ lw_all := lw_g (lw_at lw_m11 131 rfl) rfl
theorem q2649 : (Jvm.Cond.methodLink "TranslationBureauModel" (178 : Nat) ({ cls := "TranslationBureauModel", name := "wordsInto", desc := "(II)Z" } : Jvm.MethodName)) ∈ lw_all := lw_g (lw_at lw_m11 132 rfl) rfl
theorem q2650 : (Jvm.Cond.privateMethod ({ cls := "TranslationBureauModel", name := "wordsInto", desc := "(II)Z" } : Jvm.MethodName)) ∈ lw_tbl := lw_at lw_m11 133 rfl
theorem q2651 : (Jvm.Cond.instanceMethod ({ cls := "TranslationBureauModel", name := "wordsInto", desc := "(II)Z" } : Jvm.MethodName)) ∈ lw_all := lw_g (lw_at lw_m11 134 rfl) rfl
theorem q2652 : (Jvm.Cond.code ({ cls := "TranslationBureauModel", name := "wordsInto", desc := "(II)Z" } : Jvm.MethodName) prog_26_method_33_code (3 : Nat) (Option.some Jvm.ClassFile.FieldType.boolean)) ∈ lw_all := lw_g (lw_at lw_m11 135 rfl) rfl
theorem q2653 : (Jvm.Cond.constantLong "TranslationBureauModel" (176 : Nat) (8 : Int64)) ∈ lw_all := lw_g (lw_at lw_m11 136 rfl) rfl
theorem q2654 : (Jvm.Cond.methodLink "TranslationBureauModel" (225 : Nat) ({ cls := "TranslationBureauModel", name := "settingHere", desc := "()I" } : Jvm.MethodName)) ∈ lw_all := lw_g (lw_at lw_m11 137 rfl) rfl
theorem q2655 : (Jvm.Cond.privateMethod ({ cls := "TranslationBureauModel", name := "settingHere", desc := "()I" } : Jvm.MethodName)) ∈ lw_tbl := lw_at lw_m11 138 rfl
theorem q2656 : (Jvm.Cond.instanceMethod ({ cls := "TranslationBureauModel", name := "settingHere", desc := "()I" } : Jvm.MethodName)) ∈ lw_all := lw_g (lw_at lw_m11 139 rfl) rfl
theorem q2657 : (Jvm.Cond.code ({ cls := "TranslationBureauModel", name := "settingHere", desc := "()I" } : Jvm.MethodName) prog_26_method_39_code (1 : Nat) (Option.some Jvm.ClassFile.FieldType.int)) ∈ lw_all := lw_g (lw_at lw_m11 140 rfl) rfl
theorem q2658 : (Jvm.Cond.stringRef "TranslationBureauModel" (188 : Nat) "price") ∈ lw_tbl := lw_at lw_m11 141 rfl
theorem q2659 : (Jvm.Cond.stringRef "TranslationBureauModel" (194 : Nat) "speed") ∈ lw_tbl := lw_at lw_m11 142 rfl
theorem q2660 : (Jvm.Cond.stringRef "TranslationBureauModel" (196 : Nat) "rush") ∈ lw_tbl := lw_at lw_m11 143 rfl
theorem q2661 : (Jvm.Cond.stringRef "TranslationBureauModel" (198 : Nat) "revise") ∈ lw_tbl := lw_at lw_m11 144 rfl
theorem q2662 : (Jvm.Cond.methodLink "TranslationBureauModel" (228 : Nat) ({ cls := "TranslationBureauModel", name := "settingStatement", desc := "(I)Z" } : Jvm.MethodName)) ∈ lw_all := lw_g (lw_at lw_m11 145 rfl) rfl
theorem q2663 : (Jvm.Cond.privateMethod ({ cls := "TranslationBureauModel", name := "settingStatement", desc := "(I)Z" } : Jvm.MethodName)) ∈ lw_tbl := lw_at lw_m11 146 rfl
theorem q2664 : (Jvm.Cond.instanceMethod ({ cls := "TranslationBureauModel", name := "settingStatement", desc := "(I)Z" } : Jvm.MethodName)) ∈ lw_all := lw_g (lw_at lw_m11 147 rfl) rfl
theorem q2665 : (Jvm.Cond.code ({ cls := "TranslationBureauModel", name := "settingStatement", desc := "(I)Z" } : Jvm.MethodName) prog_26_method_38_code (2 : Nat) (Option.some Jvm.ClassFile.FieldType.boolean)) ∈ lw_all := lw_g (lw_at lw_m11 148 rfl) rfl
theorem q2666 : (Jvm.Cond.methodLink "TranslationBureauModel" (182 : Nat) ({ cls := "TranslationBureauModel", name := "lowest", desc := "(I)I" } : Jvm.MethodName)) ∈ lw_all := lw_g (lw_at lw_m11 149 rfl) rfl
theorem q2667 : (Jvm.Cond.static ({ cls := "TranslationBureauModel", name := "lowest", desc := "(I)I" } : Jvm.MethodName)) ∈ lw_all := lw_g (lw_at lw_m11 150 rfl) rfl
theorem q2668 : (Jvm.Cond.code ({ cls := "TranslationBureauModel", name := "lowest", desc := "(I)I" } : Jvm.MethodName) prog_26_method_36_code (1 : Nat) (Option.some Jvm.ClassFile.FieldType.int)) ∈ lw_all := lw_g (lw_at lw_m11 151 rfl) rfl
theorem q2669 : (Jvm.Cond.methodLink "TranslationBureauModel" (185 : Nat) ({ cls := "TranslationBureauModel", name := "highest", desc := "(I)I" } : Jvm.MethodName)) ∈ lw_all := lw_g (lw_at lw_m11 152 rfl) rfl
theorem q2670 : (Jvm.Cond.static ({ cls := "TranslationBureauModel", name := "highest", desc := "(I)I" } : Jvm.MethodName)) ∈ lw_all := lw_g (lw_at lw_m11 153 rfl) rfl
theorem q2671 : (Jvm.Cond.code ({ cls := "TranslationBureauModel", name := "highest", desc := "(I)I" } : Jvm.MethodName) prog_26_method_37_code (1 : Nat) (Option.some Jvm.ClassFile.FieldType.int)) ∈ lw_all := lw_g (lw_at lw_m11 154 rfl) rfl
theorem q2672 : (Jvm.Cond.methodLink "TranslationBureauModel" (237 : Nat) ({ cls := "TranslationBureauModel", name := "layBack", desc := "()V" } : Jvm.MethodName)) ∈ lw_all := lw_g (lw_at lw_m11 155 rfl) rfl
theorem q2673 : (Jvm.Cond.privateMethod ({ cls := "TranslationBureauModel", name := "layBack", desc := "()V" } : Jvm.MethodName)) ∈ lw_tbl := lw_at lw_m11 156 rfl
theorem q2674 : (Jvm.Cond.instanceMethod ({ cls := "TranslationBureauModel", name := "layBack", desc := "()V" } : Jvm.MethodName)) ∈ lw_all := lw_g (lw_at lw_m11 157 rfl) rfl
theorem q2675 : (Jvm.Cond.code ({ cls := "TranslationBureauModel", name := "layBack", desc := "()V" } : Jvm.MethodName) prog_26_method_12_code (1 : Nat) (Option.none : Option Jvm.ClassFile.FieldType)) ∈ lw_all := lw_g (lw_at lw_m11 158 rfl) rfl
theorem q2677 : (Jvm.Cond.instanceMethod ({ cls := "TranslationBureauModel", name := "extend", desc := "(I)I" } : Jvm.MethodName)) ∈ lw_all := lw_g (lw_at lw_m11 160 rfl) rfl
theorem q2678 : (Jvm.Cond.selects "TranslationBureauModel" ({ cls := "TranslationBureauModel", name := "extend", desc := "(I)I" } : Jvm.MethodName) ({ cls := "TranslationBureauModel", name := "extend", desc := "(I)I" } : Jvm.MethodName)) ∈ lw_all := lw_g (lw_at lw_m11 161 rfl) rfl
theorem q2679 : (Jvm.Cond.code ({ cls := "TranslationBureauModel", name := "extend", desc := "(I)I" } : Jvm.MethodName) prog_26_method_43_code (2 : Nat) (Option.some Jvm.ClassFile.FieldType.int)) ∈ lw_all := lw_g (lw_at lw_m11 162 rfl) rfl
theorem q2680 : (Jvm.Cond.methodLink "TranslationBureauModel" (249 : Nat) ({ cls := "TranslationBureauModel", name := "remember", desc := "()V" } : Jvm.MethodName)) ∈ lw_all := lw_g (lw_at lw_m11 163 rfl) rfl
theorem q2681 : (Jvm.Cond.privateMethod ({ cls := "TranslationBureauModel", name := "remember", desc := "()V" } : Jvm.MethodName)) ∈ lw_tbl := lw_at lw_m11 164 rfl
theorem q2682 : (Jvm.Cond.instanceMethod ({ cls := "TranslationBureauModel", name := "remember", desc := "()V" } : Jvm.MethodName)) ∈ lw_all := lw_g (lw_at lw_m11 165 rfl) rfl
theorem q2683 : (Jvm.Cond.code ({ cls := "TranslationBureauModel", name := "remember", desc := "()V" } : Jvm.MethodName) prog_26_method_9_code (2 : Nat) (Option.none : Option Jvm.ClassFile.FieldType)) ∈ lw_all := lw_g (lw_at lw_m11 166 rfl) rfl
theorem q2685 : (Jvm.Cond.instanceMethod ({ cls := "TranslationBureauModel", name := "errorKind", desc := "()I" } : Jvm.MethodName)) ∈ lw_all := lw_g (lw_at lw_m11 168 rfl) rfl
theorem q2686 : (Jvm.Cond.selects "TranslationBureauModel" ({ cls := "TranslationBureauModel", name := "errorKind", desc := "()I" } : Jvm.MethodName) ({ cls := "TranslationBureauModel", name := "errorKind", desc := "()I" } : Jvm.MethodName)) ∈ lw_all := lw_g (lw_at lw_m11 169 rfl) rfl
theorem q2687 : (Jvm.Cond.code ({ cls := "TranslationBureauModel", name := "errorKind", desc := "()I" } : Jvm.MethodName) prog_26_method_44_code (1 : Nat) (Option.some Jvm.ClassFile.FieldType.int)) ∈ lw_all := lw_g (lw_at lw_m11 170 rfl) rfl
theorem q2689 : (Jvm.Cond.instanceMethod ({ cls := "TranslationBureauModel", name := "errorPosition", desc := "()I" } : Jvm.MethodName)) ∈ lw_all := lw_g (lw_at lw_m11 172 rfl) rfl
theorem q2690 : (Jvm.Cond.selects "TranslationBureauModel" ({ cls := "TranslationBureauModel", name := "errorPosition", desc := "()I" } : Jvm.MethodName) ({ cls := "TranslationBureauModel", name := "errorPosition", desc := "()I" } : Jvm.MethodName)) ∈ lw_all := lw_g (lw_at lw_m11 173 rfl) rfl
theorem q2691 : (Jvm.Cond.code ({ cls := "TranslationBureauModel", name := "errorPosition", desc := "()I" } : Jvm.MethodName) prog_26_method_45_code (1 : Nat) (Option.some Jvm.ClassFile.FieldType.int)) ∈ lw_all := lw_g (lw_at lw_m11 174 rfl) rfl
theorem q2693 : (Jvm.Cond.instanceMethod ({ cls := "TranslationBureauModel", name := "find", desc := "(I)I" } : Jvm.MethodName)) ∈ lw_all := lw_g (lw_at lw_m11 176 rfl) rfl
theorem q2694 : (Jvm.Cond.selects "TranslationBureauModel" ({ cls := "TranslationBureauModel", name := "find", desc := "(I)I" } : Jvm.MethodName) ({ cls := "TranslationBureauModel", name := "find", desc := "(I)I" } : Jvm.MethodName)) ∈ lw_all := lw_g (lw_at lw_m11 177 rfl) rfl
theorem q2695 : (Jvm.Cond.code ({ cls := "TranslationBureauModel", name := "find", desc := "(I)I" } : Jvm.MethodName) prog_26_method_46_code (6 : Nat) (Option.some Jvm.ClassFile.FieldType.int)) ∈ lw_all := lw_g (lw_at lw_m11 178 rfl) rfl
theorem q2697 : (Jvm.Cond.instanceMethod ({ cls := "TranslationBureauModel", name := "count", desc := "(I)I" } : Jvm.MethodName)) ∈ lw_all := lw_g (lw_at lw_m11 180 rfl) rfl
theorem q2698 : (Jvm.Cond.selects "TranslationBureauModel" ({ cls := "TranslationBureauModel", name := "count", desc := "(I)I" } : Jvm.MethodName) ({ cls := "TranslationBureauModel", name := "count", desc := "(I)I" } : Jvm.MethodName)) ∈ lw_all := lw_g (lw_at lw_m11 181 rfl) rfl
theorem q2699 : (Jvm.Cond.code ({ cls := "TranslationBureauModel", name := "count", desc := "(I)I" } : Jvm.MethodName) prog_26_method_57_code (2 : Nat) (Option.some Jvm.ClassFile.FieldType.int)) ∈ lw_all := lw_g (lw_at lw_m11 182 rfl) rfl
theorem q2700 : (Jvm.Cond.methodLink "TranslationBureauModel" (252 : Nat) ({ cls := "TranslationBureauModel", name := "segments", desc := "()I" } : Jvm.MethodName)) ∈ lw_all := lw_g (lw_at lw_m11 183 rfl) rfl
theorem q2701 : (Jvm.Cond.privateMethod ({ cls := "TranslationBureauModel", name := "segments", desc := "()I" } : Jvm.MethodName)) ∈ lw_tbl := lw_at lw_m11 184 rfl
theorem q2702 : (Jvm.Cond.instanceMethod ({ cls := "TranslationBureauModel", name := "segments", desc := "()I" } : Jvm.MethodName)) ∈ lw_all := lw_g (lw_at lw_m11 185 rfl) rfl
theorem q2703 : (Jvm.Cond.code ({ cls := "TranslationBureauModel", name := "segments", desc := "()I" } : Jvm.MethodName) prog_26_method_52_code (1 : Nat) (Option.some Jvm.ClassFile.FieldType.int)) ∈ lw_all := lw_g (lw_at lw_m11 186 rfl) rfl
theorem q2704 : (Jvm.Cond.methodLink "TranslationBureauModel" (255 : Nat) ({ cls := "TranslationBureauModel", name := "layFindings", desc := "()V" } : Jvm.MethodName)) ∈ lw_all := lw_g (lw_at lw_m11 187 rfl) rfl
theorem q2705 : (Jvm.Cond.privateMethod ({ cls := "TranslationBureauModel", name := "layFindings", desc := "()V" } : Jvm.MethodName)) ∈ lw_tbl := lw_at lw_m11 188 rfl
theorem q2706 : (Jvm.Cond.instanceMethod ({ cls := "TranslationBureauModel", name := "layFindings", desc := "()V" } : Jvm.MethodName)) ∈ lw_all := lw_g (lw_at lw_m11 189 rfl) rfl
theorem q2707 : (Jvm.Cond.code ({ cls := "TranslationBureauModel", name := "layFindings", desc := "()V" } : Jvm.MethodName) prog_26_method_113_code (2 : Nat) (Option.none : Option Jvm.ClassFile.FieldType)) ∈ lw_all := lw_g (lw_at lw_m11 190 rfl) rfl
theorem q2708 : (Jvm.Cond.methodLink "TranslationBureauModel" (396 : Nat) ({ cls := "TranslationBureauModel", name := "findsOf", desc := "(I)V" } : Jvm.MethodName)) ∈ lw_all := lw_g (lw_at lw_m11 191 rfl) rfl
theorem q2709 : (Jvm.Cond.privateMethod ({ cls := "TranslationBureauModel", name := "findsOf", desc := "(I)V" } : Jvm.MethodName)) ∈ lw_tbl := lw_at lw_m11 192 rfl
theorem q2710 : (Jvm.Cond.instanceMethod ({ cls := "TranslationBureauModel", name := "findsOf", desc := "(I)V" } : Jvm.MethodName)) ∈ lw_all := lw_g (lw_at lw_m11 193 rfl) rfl
theorem q2711 : (Jvm.Cond.code ({ cls := "TranslationBureauModel", name := "findsOf", desc := "(I)V" } : Jvm.MethodName) prog_26_method_112_code (4 : Nat) (Option.none : Option Jvm.ClassFile.FieldType)) ∈ lw_all := lw_g (lw_at lw_m11 194 rfl) rfl
theorem q2712 : (Jvm.Cond.methodLink "TranslationBureauModel" (269 : Nat) ({ cls := "TranslationBureauModel", name := "jobNow", desc := "(I)I" } : Jvm.MethodName)) ∈ lw_all := lw_g (lw_at lw_m11 195 rfl) rfl
theorem q2713 : (Jvm.Cond.privateMethod ({ cls := "TranslationBureauModel", name := "jobNow", desc := "(I)I" } : Jvm.MethodName)) ∈ lw_tbl := lw_at lw_m11 196 rfl
theorem q2714 : (Jvm.Cond.instanceMethod ({ cls := "TranslationBureauModel", name := "jobNow", desc := "(I)I" } : Jvm.MethodName)) ∈ lw_all := lw_g (lw_at lw_m11 197 rfl) rfl
theorem q2715 : (Jvm.Cond.code ({ cls := "TranslationBureauModel", name := "jobNow", desc := "(I)I" } : Jvm.MethodName) prog_26_method_54_code (2 : Nat) (Option.some Jvm.ClassFile.FieldType.int)) ∈ lw_all := lw_g (lw_at lw_m11 198 rfl) rfl
theorem q2716 : (Jvm.Cond.methodLink "TranslationBureauModel" (282 : Nat) ({ cls := "TranslationBureauModel", name := "ofJob", desc := "(II)I" } : Jvm.MethodName)) ∈ lw_all := lw_g (lw_at lw_m11 199 rfl) rfl
theorem q2717 : (Jvm.Cond.privateMethod ({ cls := "TranslationBureauModel", name := "ofJob", desc := "(II)I" } : Jvm.MethodName)) ∈ lw_tbl := lw_at lw_m11 200 rfl
theorem q2718 : (Jvm.Cond.instanceMethod ({ cls := "TranslationBureauModel", name := "ofJob", desc := "(II)I" } : Jvm.MethodName)) ∈ lw_all := lw_g (lw_at lw_m11 201 rfl) rfl
theorem q2719 : (Jvm.Cond.code ({ cls := "TranslationBureauModel", name := "ofJob", desc := "(II)I" } : Jvm.MethodName) prog_26_method_53_code (3 : Nat) (Option.some Jvm.ClassFile.FieldType.int)) ∈ lw_all := lw_g (lw_at lw_m11 202 rfl) rfl
theorem q2720 : (Jvm.Cond.methodLink "TranslationBureauModel" (272 : Nat) ({ cls := "TranslationBureauModel", name := "wordsOf", desc := "(IZ)I" } : Jvm.MethodName)) ∈ lw_all := lw_g (lw_at lw_m11 203 rfl) rfl
theorem q2721 : (Jvm.Cond.privateMethod ({ cls := "TranslationBureauModel", name := "wordsOf", desc := "(IZ)I" } : Jvm.MethodName)) ∈ lw_tbl := lw_at lw_m11 204 rfl
theorem q2722 : (Jvm.Cond.instanceMethod ({ cls := "TranslationBureauModel", name := "wordsOf", desc := "(IZ)I" } : Jvm.MethodName)) ∈ lw_all := lw_g (lw_at lw_m11 205 rfl) rfl
theorem q2723 : (Jvm.Cond.code ({ cls := "TranslationBureauModel", name := "wordsOf", desc := "(IZ)I" } : Jvm.MethodName) prog_26_method_55_code (3 : Nat) (Option.some Jvm.ClassFile.FieldType.int)) ∈ lw_all := lw_g (lw_at lw_m11 206 rfl) rfl
theorem q2724 : (Jvm.Cond.methodLink "TranslationBureauModel" (389 : Nat) ({ cls := "TranslationBureauModel", name := "lacks", desc := "(III)Z" } : Jvm.MethodName)) ∈ lw_all := lw_g (lw_at lw_m11 207 rfl) rfl
theorem q2725 : (Jvm.Cond.privateMethod ({ cls := "TranslationBureauModel", name := "lacks", desc := "(III)Z" } : Jvm.MethodName)) ∈ lw_tbl := lw_at lw_m11 208 rfl
theorem q2726 : (Jvm.Cond.instanceMethod ({ cls := "TranslationBureauModel", name := "lacks", desc := "(III)Z" } : Jvm.MethodName)) ∈ lw_all := lw_g (lw_at lw_m11 209 rfl) rfl
theorem q2727 : (Jvm.Cond.code ({ cls := "TranslationBureauModel", name := "lacks", desc := "(III)Z" } : Jvm.MethodName) prog_26_method_111_code (5 : Nat) (Option.some Jvm.ClassFile.FieldType.boolean)) ∈ lw_all := lw_g (lw_at lw_m11 210 rfl) rfl
theorem q2728 : (Jvm.Cond.methodLink "TranslationBureauModel" (299 : Nat) ({ cls := "TranslationBureauModel", name := "wordAt", desc := "(IIZ)J" } : Jvm.MethodName)) ∈ lw_all := lw_g (lw_at lw_m11 211 rfl) rfl
theorem q2729 : (Jvm.Cond.privateMethod ({ cls := "TranslationBureauModel", name := "wordAt", desc := "(IIZ)J" } : Jvm.MethodName)) ∈ lw_tbl := lw_at lw_m11 212 rfl
theorem q2730 : (Jvm.Cond.instanceMethod ({ cls := "TranslationBureauModel", name := "wordAt", desc := "(IIZ)J" } : Jvm.MethodName)) ∈ lw_all := lw_g (lw_at lw_m11 213 rfl) rfl
theorem q2731 : (Jvm.Cond.code ({ cls := "TranslationBureauModel", name := "wordAt", desc := "(IIZ)J" } : Jvm.MethodName) prog_26_method_56_code (4 : Nat) (Option.some Jvm.ClassFile.FieldType.long)) ∈ lw_all := lw_g (lw_at lw_m11 214 rfl) rfl
theorem q2732 : (Jvm.Cond.methodLink "TranslationBureauModel" (376 : Nat) ({ cls := "TranslationBureauModel", name := "ruleBy", desc := "(JI)I" } : Jvm.MethodName)) ∈ lw_all := lw_g (lw_at lw_m11 215 rfl) rfl
theorem q2733 : (Jvm.Cond.privateMethod ({ cls := "TranslationBureauModel", name := "ruleBy", desc := "(JI)I" } : Jvm.MethodName)) ∈ lw_tbl := lw_at lw_m11 216 rfl
theorem q2734 : (Jvm.Cond.instanceMethod ({ cls := "TranslationBureauModel", name := "ruleBy", desc := "(JI)I" } : Jvm.MethodName)) ∈ lw_all := lw_g (lw_at lw_m11 217 rfl) rfl
theorem q2735 : (Jvm.Cond.code ({ cls := "TranslationBureauModel", name := "ruleBy", desc := "(JI)I" } : Jvm.MethodName) prog_26_method_104_code (6 : Nat) (Option.some Jvm.ClassFile.FieldType.int)) ∈ lw_all := lw_g (lw_at lw_m11 218 rfl) rfl
theorem q2736 : (Jvm.Cond.methodLink "TranslationBureauModel" (372 : Nat) ({ cls := "TranslationBureauModel", name := "termWord", desc := "(IZ)J" } : Jvm.MethodName)) ∈ lw_all := lw_g (lw_at lw_m11 219 rfl) rfl
theorem q2737 : (Jvm.Cond.privateMethod ({ cls := "TranslationBureauModel", name := "termWord", desc := "(IZ)J" } : Jvm.MethodName)) ∈ lw_tbl := lw_at lw_m11 220 rfl
theorem q2738 : (Jvm.Cond.instanceMethod ({ cls := "TranslationBureauModel", name := "termWord", desc := "(IZ)J" } : Jvm.MethodName)) ∈ lw_all := lw_g (lw_at lw_m11 221 rfl) rfl
theorem q2739 : (Jvm.Cond.code ({ cls := "TranslationBureauModel", name := "termWord", desc := "(IZ)J" } : Jvm.MethodName) prog_26_method_102_code (3 : Nat) (Option.some Jvm.ClassFile.FieldType.long)) ∈ lw_all := lw_g (lw_at lw_m11 222 rfl) rfl
theorem q2740 : (Jvm.Cond.methodLink "TranslationBureauModel" (383 : Nat) ({ cls := "TranslationBureauModel", name := "isFirstPlace", desc := "(II)Z" } : Jvm.MethodName)) ∈ lw_all := lw_g (lw_at lw_m11 223 rfl) rfl
theorem q2741 : (Jvm.Cond.privateMethod ({ cls := "TranslationBureauModel", name := "isFirstPlace", desc := "(II)Z" } : Jvm.MethodName)) ∈ lw_tbl := lw_at lw_m11 224 rfl
theorem q2742 : (Jvm.Cond.instanceMethod ({ cls := "TranslationBureauModel", name := "isFirstPlace", desc := "(II)Z" } : Jvm.MethodName)) ∈ lw_all := lw_g (lw_at lw_m11 225 rfl) rfl
theorem q2743 : (Jvm.Cond.code ({ cls := "TranslationBureauModel", name := "isFirstPlace", desc := "(II)Z" } : Jvm.MethodName) prog_26_method_109_code (4 : Nat) (Option.some Jvm.ClassFile.FieldType.boolean)) ∈ lw_all := lw_g (lw_at lw_m11 226 rfl) rfl
theorem q2744 : (Jvm.Cond.methodLink "TranslationBureauModel" (386 : Nat) ({ cls := "TranslationBureauModel", name := "isInTarget", desc := "(IJ)Z" } : Jvm.MethodName)) ∈ lw_all := lw_g (lw_at lw_m11 227 rfl) rfl
theorem q2745 : (Jvm.Cond.privateMethod ({ cls := "TranslationBureauModel", name := "isInTarget", desc := "(IJ)Z" } : Jvm.MethodName)) ∈ lw_tbl := lw_at lw_m11 228 rfl
theorem q2746 : (Jvm.Cond.instanceMethod ({ cls := "TranslationBureauModel", name := "isInTarget", desc := "(IJ)Z" } : Jvm.MethodName)) ∈ lw_all := lw_g (lw_at lw_m11 229 rfl) rfl
theorem q2747 : (Jvm.Cond.code ({ cls := "TranslationBureauModel", name := "isInTarget", desc := "(IJ)Z" } : Jvm.MethodName) prog_26_method_110_code (5 : Nat) (Option.some Jvm.ClassFile.FieldType.boolean)) ∈ lw_all := lw_g (lw_at lw_m11 230 rfl) rfl
theorem q2748 : (Jvm.Cond.methodLink "TranslationBureauModel" (392 : Nat) ({ cls := "TranslationBureauModel", name := "finds", desc := "(III)V" } : Jvm.MethodName)) ∈ lw_all := lw_g (lw_at lw_m11 231 rfl) rfl
theorem q2749 : (Jvm.Cond.privateMethod ({ cls := "TranslationBureauModel", name := "finds", desc := "(III)V" } : Jvm.MethodName)) ∈ lw_tbl := lw_at lw_m11 232 rfl
theorem q2750 : (Jvm.Cond.instanceMethod ({ cls := "TranslationBureauModel", name := "finds", desc := "(III)V" } : Jvm.MethodName)) ∈ lw_all := lw_g (lw_at lw_m11 233 rfl) rfl
theorem q2751 : (Jvm.Cond.code ({ cls := "TranslationBureauModel", name := "finds", desc := "(III)V" } : Jvm.MethodName) prog_26_method_108_code (4 : Nat) (Option.none : Option Jvm.ClassFile.FieldType)) ∈ lw_all := lw_g (lw_at lw_m11 234 rfl) rfl
theorem q2752 : (Jvm.Cond.methodLink "TranslationBureauModel" (329 : Nat) ({ cls := "TranslationBureauModel", name := "isSameRow", desc := "(IIZ)Z" } : Jvm.MethodName)) ∈ lw_all := lw_g (lw_at lw_m11 235 rfl) rfl
theorem q2753 : (Jvm.Cond.privateMethod ({ cls := "TranslationBureauModel", name := "isSameRow", desc := "(IIZ)Z" } : Jvm.MethodName)) ∈ lw_tbl := lw_at lw_m11 236 rfl
theorem q2754 : (Jvm.Cond.instanceMethod ({ cls := "TranslationBureauModel", name := "isSameRow", desc := "(IIZ)Z" } : Jvm.MethodName)) ∈ lw_all := lw_g (lw_at lw_m11 237 rfl) rfl
theorem q2755 : (Jvm.Cond.code ({ cls := "TranslationBureauModel", name := "isSameRow", desc := "(IIZ)Z" } : Jvm.MethodName) prog_26_method_80_code (6 : Nat) (Option.some Jvm.ClassFile.FieldType.boolean)) ∈ lw_all := lw_g (lw_at lw_m11 238 rfl) rfl
theorem q2756 : (Jvm.Cond.methodLink "TranslationBureauModel" (317 : Nat) ({ cls := "TranslationBureauModel", name := "modelOf", desc := "(I)I" } : Jvm.MethodName)) ∈ lw_all := lw_g (lw_at lw_m11 239 rfl) rfl
theorem q2757 : (Jvm.Cond.privateMethod ({ cls := "TranslationBureauModel", name := "modelOf", desc := "(I)I" } : Jvm.MethodName)) ∈ lw_tbl := lw_at lw_m12 0 rfl
theorem q2758 : (Jvm.Cond.instanceMethod ({ cls := "TranslationBureauModel", name := "modelOf", desc := "(I)I" } : Jvm.MethodName)) ∈ lw_all := lw_g (lw_at lw_m12 1 rfl) rfl
theorem q2759 : (Jvm.Cond.code ({ cls := "TranslationBureauModel", name := "modelOf", desc := "(I)I" } : Jvm.MethodName) prog_26_method_72_code (6 : Nat) (Option.some Jvm.ClassFile.FieldType.int)) ∈ lw_all := lw_g (lw_at lw_m12 2 rfl) rfl
theorem q2760 : (Jvm.Cond.methodLink "TranslationBureauModel" (314 : Nat) ({ cls := "TranslationBureauModel", name := "similarityOf", desc := "(II)I" } : Jvm.MethodName)) ∈ lw_all := lw_g (lw_at lw_m12 3 rfl) rfl
theorem q2761 : (Jvm.Cond.privateMethod ({ cls := "TranslationBureauModel", name := "similarityOf", desc := "(II)I" } : Jvm.MethodName)) ∈ lw_tbl := lw_at lw_m12 4 rfl
theorem q2762 : (Jvm.Cond.instanceMethod ({ cls := "TranslationBureauModel", name := "similarityOf", desc := "(II)I" } : Jvm.MethodName)) ∈ lw_all := lw_g (lw_at lw_m12 5 rfl) rfl
theorem q2763 : (Jvm.Cond.code ({ cls := "TranslationBureauModel", name := "similarityOf", desc := "(II)I" } : Jvm.MethodName) prog_26_method_69_code (4 : Nat) (Option.some Jvm.ClassFile.FieldType.int)) ∈ lw_all := lw_g (lw_at lw_m12 6 rfl) rfl
theorem q2764 : (Jvm.Cond.methodLink "TranslationBureauModel" (308 : Nat) ({ cls := "java/lang/Math", name := "max", desc := "(II)I" } : Jvm.MethodName)) ∈ lw_all := lw_g (lw_at lw_m12 7 rfl) rfl
theorem q2765 : (Jvm.Cond.methodLink "TranslationBureauModel" (311 : Nat) ({ cls := "TranslationBureauModel", name := "distanceOf", desc := "(II)I" } : Jvm.MethodName)) ∈ lw_all := lw_g (lw_at lw_m12 8 rfl) rfl
theorem q2766 : (Jvm.Cond.privateMethod ({ cls := "TranslationBureauModel", name := "distanceOf", desc := "(II)I" } : Jvm.MethodName)) ∈ lw_tbl := lw_at lw_m12 9 rfl
theorem q2767 : (Jvm.Cond.instanceMethod ({ cls := "TranslationBureauModel", name := "distanceOf", desc := "(II)I" } : Jvm.MethodName)) ∈ lw_all := lw_g (lw_at lw_m12 10 rfl) rfl
theorem q2768 : (Jvm.Cond.code ({ cls := "TranslationBureauModel", name := "distanceOf", desc := "(II)I" } : Jvm.MethodName) prog_26_method_68_code (8 : Nat) (Option.some Jvm.ClassFile.FieldType.int)) ∈ lw_all := lw_g (lw_at lw_m12 11 rfl) rfl
theorem q2769 : (Jvm.Cond.methodLink "TranslationBureauModel" (303 : Nat) ({ cls := "java/lang/Math", name := "min", desc := "(II)I" } : Jvm.MethodName)) ∈ lw_all := lw_g (lw_at lw_m12 12 rfl) rfl
theorem q2770 : (Jvm.Cond.methodLink "TranslationBureauModel" (323 : Nat) ({ cls := "TranslationBureauModel", name := "bandOf", desc := "(I)I" } : Jvm.MethodName)) ∈ lw_all := lw_g (lw_at lw_m12 13 rfl) rfl
theorem q2771 : (Jvm.Cond.privateMethod ({ cls := "TranslationBureauModel", name := "bandOf", desc := "(I)I" } : Jvm.MethodName)) ∈ lw_tbl := lw_at lw_m12 14 rfl
theorem q2772 : (Jvm.Cond.instanceMethod ({ cls := "TranslationBureauModel", name := "bandOf", desc := "(I)I" } : Jvm.MethodName)) ∈ lw_all := lw_g (lw_at lw_m12 15 rfl) rfl
theorem q2773 : (Jvm.Cond.code ({ cls := "TranslationBureauModel", name := "bandOf", desc := "(I)I" } : Jvm.MethodName) prog_26_method_74_code (3 : Nat) (Option.some Jvm.ClassFile.FieldType.int)) ∈ lw_all := lw_g (lw_at lw_m12 16 rfl) rfl
theorem q2774 : (Jvm.Cond.methodLink "TranslationBureauModel" (320 : Nat) ({ cls := "TranslationBureauModel", name := "matchOf", desc := "(I)I" } : Jvm.MethodName)) ∈ lw_all := lw_g (lw_at lw_m12 17 rfl) rfl
theorem q2775 : (Jvm.Cond.privateMethod ({ cls := "TranslationBureauModel", name := "matchOf", desc := "(I)I" } : Jvm.MethodName)) ∈ lw_tbl := lw_at lw_m12 18 rfl
theorem q2776 : (Jvm.Cond.instanceMethod ({ cls := "TranslationBureauModel", name := "matchOf", desc := "(I)I" } : Jvm.MethodName)) ∈ lw_all := lw_g (lw_at lw_m12 19 rfl) rfl
theorem q2777 : (Jvm.Cond.code ({ cls := "TranslationBureauModel", name := "matchOf", desc := "(I)I" } : Jvm.MethodName) prog_26_method_73_code (3 : Nat) (Option.some Jvm.ClassFile.FieldType.int)) ∈ lw_all := lw_g (lw_at lw_m12 20 rfl) rfl
theorem q2779 : (Jvm.Cond.instanceMethod ({ cls := "TranslationBureauModel", name := "setting", desc := "(I)I" } : Jvm.MethodName)) ∈ lw_all := lw_g (lw_at lw_m12 22 rfl) rfl
theorem q2780 : (Jvm.Cond.selects "TranslationBureauModel" ({ cls := "TranslationBureauModel", name := "setting", desc := "(I)I" } : Jvm.MethodName) ({ cls := "TranslationBureauModel", name := "setting", desc := "(I)I" } : Jvm.MethodName)) ∈ lw_all := lw_g (lw_at lw_m12 23 rfl) rfl
theorem q2781 : (Jvm.Cond.code ({ cls := "TranslationBureauModel", name := "setting", desc := "(I)I" } : Jvm.MethodName) prog_26_method_58_code (2 : Nat) (Option.some Jvm.ClassFile.FieldType.int)) ∈ lw_all := lw_g (lw_at lw_m12 24 rfl) rfl
theorem q2782 : (Jvm.Cond.constantLong "TranslationBureauModel" (261 : Nat) (3 : Int64)) ∈ lw_all := lw_g (lw_at lw_m12 25 rfl) rfl
theorem q2784 : (Jvm.Cond.instanceMethod ({ cls := "TranslationBureauModel", name := "percentage", desc := "(I)I" } : Jvm.MethodName)) ∈ lw_all := lw_g (lw_at lw_m12 27 rfl) rfl
theorem q2785 : (Jvm.Cond.selects "TranslationBureauModel" ({ cls := "TranslationBureauModel", name := "percentage", desc := "(I)I" } : Jvm.MethodName) ({ cls := "TranslationBureauModel", name := "percentage", desc := "(I)I" } : Jvm.MethodName)) ∈ lw_all := lw_g (lw_at lw_m12 28 rfl) rfl
theorem q2786 : (Jvm.Cond.code ({ cls := "TranslationBureauModel", name := "percentage", desc := "(I)I" } : Jvm.MethodName) prog_26_method_59_code (2 : Nat) (Option.some Jvm.ClassFile.FieldType.int)) ∈ lw_all := lw_g (lw_at lw_m12 29 rfl) rfl
theorem q2787 : (Jvm.Cond.methodLink "TranslationBureauModel" (263 : Nat) ({ cls := "TranslationBureauModel", name := "isBand", desc := "(I)Z" } : Jvm.MethodName)) ∈ lw_all := lw_g (lw_at lw_m12 30 rfl) rfl
theorem q2788 : (Jvm.Cond.static ({ cls := "TranslationBureauModel", name := "isBand", desc := "(I)Z" } : Jvm.MethodName)) ∈ lw_all := lw_g (lw_at lw_m12 31 rfl) rfl
theorem q2789 : (Jvm.Cond.code ({ cls := "TranslationBureauModel", name := "isBand", desc := "(I)Z" } : Jvm.MethodName) prog_26_method_51_code (1 : Nat) (Option.some Jvm.ClassFile.FieldType.boolean)) ∈ lw_all := lw_g (lw_at lw_m12 32 rfl) rfl
theorem q2791 : (Jvm.Cond.instanceMethod ({ cls := "TranslationBureauModel", name := "capacity", desc := "(I)I" } : Jvm.MethodName)) ∈ lw_all := lw_g (lw_at lw_m12 34 rfl) rfl
theorem q2792 : (Jvm.Cond.selects "TranslationBureauModel" ({ cls := "TranslationBureauModel", name := "capacity", desc := "(I)I" } : Jvm.MethodName) ({ cls := "TranslationBureauModel", name := "capacity", desc := "(I)I" } : Jvm.MethodName)) ∈ lw_all := lw_g (lw_at lw_m12 35 rfl) rfl
theorem q2793 : (Jvm.Cond.code ({ cls := "TranslationBureauModel", name := "capacity", desc := "(I)I" } : Jvm.MethodName) prog_26_method_60_code (2 : Nat) (Option.some Jvm.ClassFile.FieldType.int)) ∈ lw_all := lw_g (lw_at lw_m12 36 rfl) rfl
theorem q2794 : (Jvm.Cond.methodLink "TranslationBureauModel" (266 : Nat) ({ cls := "TranslationBureauModel", name := "isPerson", desc := "(I)Z" } : Jvm.MethodName)) ∈ lw_all := lw_g (lw_at lw_m12 37 rfl) rfl
theorem q2795 : (Jvm.Cond.privateMethod ({ cls := "TranslationBureauModel", name := "isPerson", desc := "(I)Z" } : Jvm.MethodName)) ∈ lw_tbl := lw_at lw_m12 38 rfl
theorem q2796 : (Jvm.Cond.instanceMethod ({ cls := "TranslationBureauModel", name := "isPerson", desc := "(I)Z" } : Jvm.MethodName)) ∈ lw_all := lw_g (lw_at lw_m12 39 rfl) rfl
theorem q2797 : (Jvm.Cond.code ({ cls := "TranslationBureauModel", name := "isPerson", desc := "(I)Z" } : Jvm.MethodName) prog_26_method_47_code (2 : Nat) (Option.some Jvm.ClassFile.FieldType.boolean)) ∈ lw_all := lw_g (lw_at lw_m12 40 rfl) rfl
theorem q2799 : (Jvm.Cond.instanceMethod ({ cls := "TranslationBureauModel", name := "job", desc := "(II)I" } : Jvm.MethodName)) ∈ lw_all := lw_g (lw_at lw_m12 42 rfl) rfl
theorem q2800 : (Jvm.Cond.selects "TranslationBureauModel" ({ cls := "TranslationBureauModel", name := "job", desc := "(II)I" } : Jvm.MethodName) ({ cls := "TranslationBureauModel", name := "job", desc := "(II)I" } : Jvm.MethodName)) ∈ lw_all := lw_g (lw_at lw_m12 43 rfl) rfl
theorem q2801 : (Jvm.Cond.code ({ cls := "TranslationBureauModel", name := "job", desc := "(II)I" } : Jvm.MethodName) prog_26_method_63_code (3 : Nat) (Option.some Jvm.ClassFile.FieldType.int)) ∈ lw_all := lw_g (lw_at lw_m12 44 rfl) rfl
theorem q2802 : (Jvm.Cond.methodLink "TranslationBureauModel" (276 : Nat) ({ cls := "TranslationBureauModel", name := "isJob", desc := "(I)Z" } : Jvm.MethodName)) ∈ lw_all := lw_g (lw_at lw_m12 45 rfl) rfl
theorem q2803 : (Jvm.Cond.privateMethod ({ cls := "TranslationBureauModel", name := "isJob", desc := "(I)Z" } : Jvm.MethodName)) ∈ lw_tbl := lw_at lw_m12 46 rfl
theorem q2804 : (Jvm.Cond.instanceMethod ({ cls := "TranslationBureauModel", name := "isJob", desc := "(I)Z" } : Jvm.MethodName)) ∈ lw_all := lw_g (lw_at lw_m12 47 rfl) rfl
theorem q2805 : (Jvm.Cond.code ({ cls := "TranslationBureauModel", name := "isJob", desc := "(I)Z" } : Jvm.MethodName) prog_26_method_49_code (2 : Nat) (Option.some Jvm.ClassFile.FieldType.boolean)) ∈ lw_all := lw_g (lw_at lw_m12 48 rfl) rfl
theorem q2806 : (Jvm.Cond.methodLink "TranslationBureauModel" (279 : Nat) ({ cls := "TranslationBureauModel", name := "good", desc := "(ZZ)Z" } : Jvm.MethodName)) ∈ lw_all := lw_g (lw_at lw_m12 49 rfl) rfl
theorem q2807 : (Jvm.Cond.privateMethod ({ cls := "TranslationBureauModel", name := "good", desc := "(ZZ)Z" } : Jvm.MethodName)) ∈ lw_tbl := lw_at lw_m12 50 rfl
theorem q2808 : (Jvm.Cond.instanceMethod ({ cls := "TranslationBureauModel", name := "good", desc := "(ZZ)Z" } : Jvm.MethodName)) ∈ lw_all := lw_g (lw_at lw_m12 51 rfl) rfl
theorem q2809 : (Jvm.Cond.code ({ cls := "TranslationBureauModel", name := "good", desc := "(ZZ)Z" } : Jvm.MethodName) prog_26_method_6_code (3 : Nat) (Option.some Jvm.ClassFile.FieldType.boolean)) ∈ lw_all := lw_g (lw_at lw_m12 52 rfl) rfl
theorem q2810 : (Jvm.Cond.methodLink "TranslationBureauModel" (61 : Nat) ({ cls := "TranslationBureauModel", name := "good", desc := "(ZZZ)Z" } : Jvm.MethodName)) ∈ lw_all := lw_g (lw_at lw_m12 53 rfl) rfl
theorem q2811 : (Jvm.Cond.privateMethod ({ cls := "TranslationBureauModel", name := "good", desc := "(ZZZ)Z" } : Jvm.MethodName)) ∈ lw_tbl := lw_at lw_m12 54 rfl
theorem q2812 : (Jvm.Cond.instanceMethod ({ cls := "TranslationBureauModel", name := "good", desc := "(ZZZ)Z" } : Jvm.MethodName)) ∈ lw_all := lw_g (lw_at lw_m12 55 rfl) rfl
theorem q2813 : (Jvm.Cond.code ({ cls := "TranslationBureauModel", name := "good", desc := "(ZZZ)Z" } : Jvm.MethodName) prog_26_method_7_code (4 : Nat) (Option.some Jvm.ClassFile.FieldType.boolean)) ∈ lw_all := lw_g (lw_at lw_m12 56 rfl) rfl
theorem q2814 : (Jvm.Cond.methodLink "TranslationBureauModel" (286 : Nat) ({ cls := "TranslationBureauModel", name := "segmentsOf", desc := "(I)I" } : Jvm.MethodName)) ∈ lw_all := lw_g (lw_at lw_m12 57 rfl) rfl
theorem q2815 : (Jvm.Cond.privateMethod ({ cls := "TranslationBureauModel", name := "segmentsOf", desc := "(I)I" } : Jvm.MethodName)) ∈ lw_tbl := lw_at lw_m12 58 rfl
theorem q2816 : (Jvm.Cond.instanceMethod ({ cls := "TranslationBureauModel", name := "segmentsOf", desc := "(I)I" } : Jvm.MethodName)) ∈ lw_all := lw_g (lw_at lw_m12 59 rfl) rfl
theorem q2817 : (Jvm.Cond.code ({ cls := "TranslationBureauModel", name := "segmentsOf", desc := "(I)I" } : Jvm.MethodName) prog_26_method_61_code (4 : Nat) (Option.some Jvm.ClassFile.FieldType.int)) ∈ lw_all := lw_g (lw_at lw_m12 60 rfl) rfl
theorem q2818 : (Jvm.Cond.methodLink "TranslationBureauModel" (289 : Nat) ({ cls := "TranslationBureauModel", name := "wordsOfJob", desc := "(I)I" } : Jvm.MethodName)) ∈ lw_all := lw_g (lw_at lw_m12 61 rfl) rfl
theorem q2819 : (Jvm.Cond.privateMethod ({ cls := "TranslationBureauModel", name := "wordsOfJob", desc := "(I)I" } : Jvm.MethodName)) ∈ lw_tbl := lw_at lw_m12 62 rfl
theorem q2820 : (Jvm.Cond.instanceMethod ({ cls := "TranslationBureauModel", name := "wordsOfJob", desc := "(I)I" } : Jvm.MethodName)) ∈ lw_all := lw_g (lw_at lw_m12 63 rfl) rfl
theorem q2821 : (Jvm.Cond.code ({ cls := "TranslationBureauModel", name := "wordsOfJob", desc := "(I)I" } : Jvm.MethodName) prog_26_method_62_code (4 : Nat) (Option.some Jvm.ClassFile.FieldType.int)) ∈ lw_all := lw_g (lw_at lw_m12 64 rfl) rfl
theorem q2823 : (Jvm.Cond.instanceMethod ({ cls := "TranslationBureauModel", name := "jobOf", desc := "(I)I" } : Jvm.MethodName)) ∈ lw_all := lw_g (lw_at lw_m12 66 rfl) rfl
theorem q2824 : (Jvm.Cond.selects "TranslationBureauModel" ({ cls := "TranslationBureauModel", name := "jobOf", desc := "(I)I" } : Jvm.MethodName) ({ cls := "TranslationBureauModel", name := "jobOf", desc := "(I)I" } : Jvm.MethodName)) ∈ lw_all := lw_g (lw_at lw_m12 67 rfl) rfl
theorem q2825 : (Jvm.Cond.code ({ cls := "TranslationBureauModel", name := "jobOf", desc := "(I)I" } : Jvm.MethodName) prog_26_method_64_code (2 : Nat) (Option.some Jvm.ClassFile.FieldType.int)) ∈ lw_all := lw_g (lw_at lw_m12 68 rfl) rfl
theorem q2826 : (Jvm.Cond.methodLink "TranslationBureauModel" (292 : Nat) ({ cls := "TranslationBureauModel", name := "isSegment", desc := "(I)Z" } : Jvm.MethodName)) ∈ lw_all := lw_g (lw_at lw_m12 69 rfl) rfl
theorem q2827 : (Jvm.Cond.privateMethod ({ cls := "TranslationBureauModel", name := "isSegment", desc := "(I)Z" } : Jvm.MethodName)) ∈ lw_tbl := lw_at lw_m12 70 rfl
theorem q2828 : (Jvm.Cond.instanceMethod ({ cls := "TranslationBureauModel", name := "isSegment", desc := "(I)Z" } : Jvm.MethodName)) ∈ lw_all := lw_g (lw_at lw_m12 71 rfl) rfl
theorem q2829 : (Jvm.Cond.code ({ cls := "TranslationBureauModel", name := "isSegment", desc := "(I)Z" } : Jvm.MethodName) prog_26_method_50_code (2 : Nat) (Option.some Jvm.ClassFile.FieldType.boolean)) ∈ lw_all := lw_g (lw_at lw_m12 72 rfl) rfl
theorem q2831 : (Jvm.Cond.instanceMethod ({ cls := "TranslationBureauModel", name := "words", desc := "(IZ)I" } : Jvm.MethodName)) ∈ lw_all := lw_g (lw_at lw_m12 74 rfl) rfl
theorem q2832 : (Jvm.Cond.selects "TranslationBureauModel" ({ cls := "TranslationBureauModel", name := "words", desc := "(IZ)I" } : Jvm.MethodName) ({ cls := "TranslationBureauModel", name := "words", desc := "(IZ)I" } : Jvm.MethodName)) ∈ lw_all := lw_g (lw_at lw_m12 75 rfl) rfl
theorem q2833 : (Jvm.Cond.code ({ cls := "TranslationBureauModel", name := "words", desc := "(IZ)I" } : Jvm.MethodName) prog_26_method_65_code (3 : Nat) (Option.some Jvm.ClassFile.FieldType.int)) ∈ lw_all := lw_g (lw_at lw_m12 76 rfl) rfl
theorem q2835 : (Jvm.Cond.instanceMethod ({ cls := "TranslationBureauModel", name := "isSameWord", desc := "(IIZIIZ)Z" } : Jvm.MethodName)) ∈ lw_all := lw_g (lw_at lw_m12 78 rfl) rfl
theorem q2836 : (Jvm.Cond.selects "TranslationBureauModel" ({ cls := "TranslationBureauModel", name := "isSameWord", desc := "(IIZIIZ)Z" } : Jvm.MethodName) ({ cls := "TranslationBureauModel", name := "isSameWord", desc := "(IIZIIZ)Z" } : Jvm.MethodName)) ∈ lw_all := lw_g (lw_at lw_m12 79 rfl) rfl
theorem q2837 : (Jvm.Cond.code ({ cls := "TranslationBureauModel", name := "isSameWord", desc := "(IIZIIZ)Z" } : Jvm.MethodName) prog_26_method_67_code (8 : Nat) (Option.some Jvm.ClassFile.FieldType.boolean)) ∈ lw_all := lw_g (lw_at lw_m12 80 rfl) rfl
theorem q2838 : (Jvm.Cond.methodLink "TranslationBureauModel" (295 : Nat) ({ cls := "TranslationBureauModel", name := "isPlace", desc := "(IIZ)Z" } : Jvm.MethodName)) ∈ lw_all := lw_g (lw_at lw_m12 81 rfl) rfl
theorem q2839 : (Jvm.Cond.privateMethod ({ cls := "TranslationBureauModel", name := "isPlace", desc := "(IIZ)Z" } : Jvm.MethodName)) ∈ lw_tbl := lw_at lw_m12 82 rfl
theorem q2840 : (Jvm.Cond.instanceMethod ({ cls := "TranslationBureauModel", name := "isPlace", desc := "(IIZ)Z" } : Jvm.MethodName)) ∈ lw_all := lw_g (lw_at lw_m12 83 rfl) rfl
theorem q2841 : (Jvm.Cond.code ({ cls := "TranslationBureauModel", name := "isPlace", desc := "(IIZ)Z" } : Jvm.MethodName) prog_26_method_66_code (4 : Nat) (Option.some Jvm.ClassFile.FieldType.boolean)) ∈ lw_all := lw_g (lw_at lw_m12 84 rfl) rfl
theorem q2843 : (Jvm.Cond.instanceMethod ({ cls := "TranslationBureauModel", name := "distance", desc := "(II)I" } : Jvm.MethodName)) ∈ lw_all := lw_g (lw_at lw_m12 86 rfl) rfl
theorem q2844 : (Jvm.Cond.selects "TranslationBureauModel" ({ cls := "TranslationBureauModel", name := "distance", desc := "(II)I" } : Jvm.MethodName) ({ cls := "TranslationBureauModel", name := "distance", desc := "(II)I" } : Jvm.MethodName)) ∈ lw_all := lw_g (lw_at lw_m12 87 rfl) rfl
theorem q2845 : (Jvm.Cond.code ({ cls := "TranslationBureauModel", name := "distance", desc := "(II)I" } : Jvm.MethodName) prog_26_method_70_code (3 : Nat) (Option.some Jvm.ClassFile.FieldType.int)) ∈ lw_all := lw_g (lw_at lw_m12 88 rfl) rfl
theorem q2847 : (Jvm.Cond.instanceMethod ({ cls := "TranslationBureauModel", name := "similarity", desc := "(II)I" } : Jvm.MethodName)) ∈ lw_all := lw_g (lw_at lw_m12 90 rfl) rfl
theorem q2848 : (Jvm.Cond.selects "TranslationBureauModel" ({ cls := "TranslationBureauModel", name := "similarity", desc := "(II)I" } : Jvm.MethodName) ({ cls := "TranslationBureauModel", name := "similarity", desc := "(II)I" } : Jvm.MethodName)) ∈ lw_all := lw_g (lw_at lw_m12 91 rfl) rfl
theorem q2849 : (Jvm.Cond.code ({ cls := "TranslationBureauModel", name := "similarity", desc := "(II)I" } : Jvm.MethodName) prog_26_method_71_code (3 : Nat) (Option.some Jvm.ClassFile.FieldType.int)) ∈ lw_all := lw_g (lw_at lw_m12 92 rfl) rfl
theorem q2851 : (Jvm.Cond.instanceMethod ({ cls := "TranslationBureauModel", name := "match", desc := "(I)I" } : Jvm.MethodName)) ∈ lw_all := lw_g (lw_at lw_m12 94 rfl) rfl
theorem q2852 : (Jvm.Cond.selects "TranslationBureauModel" ({ cls := "TranslationBureauModel", name := "match", desc := "(I)I" } : Jvm.MethodName) ({ cls := "TranslationBureauModel", name := "match", desc := "(I)I" } : Jvm.MethodName)) ∈ lw_all := lw_g (lw_at lw_m12 95 rfl) rfl
theorem q2853 : (Jvm.Cond.code ({ cls := "TranslationBureauModel", name := "match", desc := "(I)I" } : Jvm.MethodName) prog_26_method_75_code (2 : Nat) (Option.some Jvm.ClassFile.FieldType.int)) ∈ lw_all := lw_g (lw_at lw_m12 96 rfl) rfl
theorem q2855 : (Jvm.Cond.instanceMethod ({ cls := "TranslationBureauModel", name := "model", desc := "(I)I" } : Jvm.MethodName)) ∈ lw_all := lw_g (lw_at lw_m12 98 rfl) rfl
theorem q2856 : (Jvm.Cond.selects "TranslationBureauModel" ({ cls := "TranslationBureauModel", name := "model", desc := "(I)I" } : Jvm.MethodName) ({ cls := "TranslationBureauModel", name := "model", desc := "(I)I" } : Jvm.MethodName)) ∈ lw_all := lw_g (lw_at lw_m12 99 rfl) rfl
theorem q2857 : (Jvm.Cond.code ({ cls := "TranslationBureauModel", name := "model", desc := "(I)I" } : Jvm.MethodName) prog_26_method_76_code (3 : Nat) (Option.some Jvm.ClassFile.FieldType.int)) ∈ lw_all := lw_g (lw_at lw_m12 100 rfl) rfl
theorem q2859 : (Jvm.Cond.instanceMethod ({ cls := "TranslationBureauModel", name := "band", desc := "(I)I" } : Jvm.MethodName)) ∈ lw_all := lw_g (lw_at lw_m12 102 rfl) rfl
theorem q2860 : (Jvm.Cond.selects "TranslationBureauModel" ({ cls := "TranslationBureauModel", name := "band", desc := "(I)I" } : Jvm.MethodName) ({ cls := "TranslationBureauModel", name := "band", desc := "(I)I" } : Jvm.MethodName)) ∈ lw_all := lw_g (lw_at lw_m12 103 rfl) rfl
theorem q2861 : (Jvm.Cond.code ({ cls := "TranslationBureauModel", name := "band", desc := "(I)I" } : Jvm.MethodName) prog_26_method_77_code (2 : Nat) (Option.some Jvm.ClassFile.FieldType.int)) ∈ lw_all := lw_g (lw_at lw_m12 104 rfl) rfl
theorem q2863 : (Jvm.Cond.instanceMethod ({ cls := "TranslationBureauModel", name := "bandWords", desc := "(II)I" } : Jvm.MethodName)) ∈ lw_all := lw_g (lw_at lw_m12 106 rfl) rfl
theorem q2864 : (Jvm.Cond.selects "TranslationBureauModel" ({ cls := "TranslationBureauModel", name := "bandWords", desc := "(II)I" } : Jvm.MethodName) ({ cls := "TranslationBureauModel", name := "bandWords", desc := "(II)I" } : Jvm.MethodName)) ∈ lw_all := lw_g (lw_at lw_m12 107 rfl) rfl
theorem q2865 : (Jvm.Cond.code ({ cls := "TranslationBureauModel", name := "bandWords", desc := "(II)I" } : Jvm.MethodName) prog_26_method_79_code (3 : Nat) (Option.some Jvm.ClassFile.FieldType.int)) ∈ lw_all := lw_g (lw_at lw_m12 108 rfl) rfl
theorem q2866 : (Jvm.Cond.methodLink "TranslationBureauModel" (326 : Nat) ({ cls := "TranslationBureauModel", name := "layBands", desc := "(I)V" } : Jvm.MethodName)) ∈ lw_all := lw_g (lw_at lw_m12 109 rfl) rfl
theorem q2867 : (Jvm.Cond.privateMethod ({ cls := "TranslationBureauModel", name := "layBands", desc := "(I)V" } : Jvm.MethodName)) ∈ lw_tbl := lw_at lw_m12 110 rfl
theorem q2868 : (Jvm.Cond.instanceMethod ({ cls := "TranslationBureauModel", name := "layBands", desc := "(I)V" } : Jvm.MethodName)) ∈ lw_all := lw_g (lw_at lw_m12 111 rfl) rfl
theorem q2869 : (Jvm.Cond.code ({ cls := "TranslationBureauModel", name := "layBands", desc := "(I)V" } : Jvm.MethodName) prog_26_method_78_code (3 : Nat) (Option.none : Option Jvm.ClassFile.FieldType)) ∈ lw_all := lw_g (lw_at lw_m12 112 rfl) rfl
theorem q2871 : (Jvm.Cond.instanceMethod ({ cls := "TranslationBureauModel", name := "repetitions", desc := "(I)I" } : Jvm.MethodName)) ∈ lw_all := lw_g (lw_at lw_m12 114 rfl) rfl
theorem q2872 : (Jvm.Cond.selects "TranslationBureauModel" ({ cls := "TranslationBureauModel", name := "repetitions", desc := "(I)I" } : Jvm.MethodName) ({ cls := "TranslationBureauModel", name := "repetitions", desc := "(I)I" } : Jvm.MethodName)) ∈ lw_all := lw_g (lw_at lw_m12 115 rfl) rfl
theorem q2873 : (Jvm.Cond.code ({ cls := "TranslationBureauModel", name := "repetitions", desc := "(I)I" } : Jvm.MethodName) prog_26_method_81_code (4 : Nat) (Option.some Jvm.ClassFile.FieldType.int)) ∈ lw_all := lw_g (lw_at lw_m12 116 rfl) rfl
theorem q2875 : (Jvm.Cond.instanceMethod ({ cls := "TranslationBureauModel", name := "account", desc := "(II)I" } : Jvm.MethodName)) ∈ lw_all := lw_g (lw_at lw_m12 118 rfl) rfl
theorem q2876 : (Jvm.Cond.selects "TranslationBureauModel" ({ cls := "TranslationBureauModel", name := "account", desc := "(II)I" } : Jvm.MethodName) ({ cls := "TranslationBureauModel", name := "account", desc := "(II)I" } : Jvm.MethodName)) ∈ lw_all := lw_g (lw_at lw_m12 119 rfl) rfl
theorem q2877 : (Jvm.Cond.code ({ cls := "TranslationBureauModel", name := "account", desc := "(II)I" } : Jvm.MethodName) prog_26_method_88_code (3 : Nat) (Option.some Jvm.ClassFile.FieldType.int)) ∈ lw_all := lw_g (lw_at lw_m12 120 rfl) rfl
theorem q2878 : (Jvm.Cond.methodLink "TranslationBureauModel" (338 : Nat) ({ cls := "TranslationBureauModel", name := "basicOf", desc := "(I)I" } : Jvm.MethodName)) ∈ lw_all := lw_g (lw_at lw_m12 121 rfl) rfl
theorem q2879 : (Jvm.Cond.privateMethod ({ cls := "TranslationBureauModel", name := "basicOf", desc := "(I)I" } : Jvm.MethodName)) ∈ lw_tbl := lw_at lw_m12 122 rfl
theorem q2880 : (Jvm.Cond.instanceMethod ({ cls := "TranslationBureauModel", name := "basicOf", desc := "(I)I" } : Jvm.MethodName)) ∈ lw_all := lw_g (lw_at lw_m12 123 rfl) rfl
theorem q2881 : (Jvm.Cond.code ({ cls := "TranslationBureauModel", name := "basicOf", desc := "(I)I" } : Jvm.MethodName) prog_26_method_82_code (4 : Nat) (Option.some Jvm.ClassFile.FieldType.int)) ∈ lw_all := lw_g (lw_at lw_m12 124 rfl) rfl
theorem q2882 : (Jvm.Cond.methodLink "TranslationBureauModel" (332 : Nat) ({ cls := "TranslationBureauModel", name := "hoursOf", desc := "(I)I" } : Jvm.MethodName)) ∈ lw_all := lw_g (lw_at lw_m12 125 rfl) rfl
theorem q2883 : (Jvm.Cond.privateMethod ({ cls := "TranslationBureauModel", name := "hoursOf", desc := "(I)I" } : Jvm.MethodName)) ∈ lw_tbl := lw_at lw_m12 126 rfl
theorem q2884 : (Jvm.Cond.instanceMethod ({ cls := "TranslationBureauModel", name := "hoursOf", desc := "(I)I" } : Jvm.MethodName)) ∈ lw_all := lw_g (lw_at lw_m12 127 rfl) rfl
theorem q2885 : (Jvm.Cond.code ({ cls := "TranslationBureauModel", name := "hoursOf", desc := "(I)I" } : Jvm.MethodName) prog_26_method_83_code (2 : Nat) (Option.some Jvm.ClassFile.FieldType.int)) ∈ lw_all := lw_g (lw_at lw_m12 128 rfl) rfl
theorem q2886 : (Jvm.Cond.methodLink "TranslationBureauModel" (341 : Nat) ({ cls := "TranslationBureauModel", name := "premiumBy", desc := "(II)I" } : Jvm.MethodName)) ∈ lw_all := lw_g (lw_at lw_m12 129 rfl) rfl
theorem q2887 : (Jvm.Cond.privateMethod ({ cls := "TranslationBureauModel", name := "premiumBy", desc := "(II)I" } : Jvm.MethodName)) ∈ lw_tbl := lw_at lw_m12 130 rfl
theorem q2888 : (Jvm.Cond.instanceMethod ({ cls := "TranslationBureauModel", name := "premiumBy", desc := "(II)I" } : Jvm.MethodName)) ∈ lw_all := lw_g (lw_at lw_m12 131 rfl) rfl
theorem q2889 : (Jvm.Cond.code ({ cls := "TranslationBureauModel", name := "premiumBy", desc := "(II)I" } : Jvm.MethodName) prog_26_method_84_code (4 : Nat) (Option.some Jvm.ClassFile.FieldType.int)) ∈ lw_all := lw_g (lw_at lw_m12 132 rfl) rfl
theorem q2890 : (Jvm.Cond.methodLink "TranslationBureauModel" (335 : Nat) ({ cls := "java/lang/Math", name := "min", desc := "(JJ)J" } : Jvm.MethodName)) ∈ lw_all := lw_g (lw_at lw_m12 133 rfl) rfl
theorem q2893 : (Jvm.Cond.methodLink "TranslationBureauModel" (344 : Nat) ({ cls := "TranslationBureauModel", name := "extraOf", desc := "(I)I" } : Jvm.MethodName)) ∈ lw_all := lw_g (lw_at lw_m12 136 rfl) rfl
theorem q2894 : (Jvm.Cond.privateMethod ({ cls := "TranslationBureauModel", name := "extraOf", desc := "(I)I" } : Jvm.MethodName)) ∈ lw_tbl := lw_at lw_m12 137 rfl
theorem q2895 : (Jvm.Cond.instanceMethod ({ cls := "TranslationBureauModel", name := "extraOf", desc := "(I)I" } : Jvm.MethodName)) ∈ lw_all := lw_g (lw_at lw_m12 138 rfl) rfl
theorem q2896 : (Jvm.Cond.code ({ cls := "TranslationBureauModel", name := "extraOf", desc := "(I)I" } : Jvm.MethodName) prog_26_method_85_code (2 : Nat) (Option.some Jvm.ClassFile.FieldType.int)) ∈ lw_all := lw_g (lw_at lw_m12 139 rfl) rfl
theorem q2897 : (Jvm.Cond.methodLink "TranslationBureauModel" (347 : Nat) ({ cls := "TranslationBureauModel", name := "translatorGets", desc := "(I)I" } : Jvm.MethodName)) ∈ lw_all := lw_g (lw_at lw_m12 140 rfl) rfl
theorem q2898 : (Jvm.Cond.privateMethod ({ cls := "TranslationBureauModel", name := "translatorGets", desc := "(I)I" } : Jvm.MethodName)) ∈ lw_tbl := lw_at lw_m12 141 rfl
theorem q2899 : (Jvm.Cond.instanceMethod ({ cls := "TranslationBureauModel", name := "translatorGets", desc := "(I)I" } : Jvm.MethodName)) ∈ lw_all := lw_g (lw_at lw_m12 142 rfl) rfl
theorem q2900 : (Jvm.Cond.code ({ cls := "TranslationBureauModel", name := "translatorGets", desc := "(I)I" } : Jvm.MethodName) prog_26_method_86_code (2 : Nat) (Option.some Jvm.ClassFile.FieldType.int)) ∈ lw_all := lw_g (lw_at lw_m12 143 rfl) rfl
theorem q2901 : (Jvm.Cond.methodLink "TranslationBureauModel" (350 : Nat) ({ cls := "TranslationBureauModel", name := "reviserGets", desc := "(I)I" } : Jvm.MethodName)) ∈ lw_all := lw_g (lw_at lw_m12 144 rfl) rfl
theorem q2902 : (Jvm.Cond.privateMethod ({ cls := "TranslationBureauModel", name := "reviserGets", desc := "(I)I" } : Jvm.MethodName)) ∈ lw_tbl := lw_at lw_m12 145 rfl
theorem q2903 : (Jvm.Cond.instanceMethod ({ cls := "TranslationBureauModel", name := "reviserGets", desc := "(I)I" } : Jvm.MethodName)) ∈ lw_all := lw_g (lw_at lw_m12 146 rfl) rfl
theorem q2904 : (Jvm.Cond.code ({ cls := "TranslationBureauModel", name := "reviserGets", desc := "(I)I" } : Jvm.MethodName) prog_26_method_87_code (4 : Nat) (Option.some Jvm.ClassFile.FieldType.int)) ∈ lw_all := lw_g (lw_at lw_m12 147 rfl) rfl
theorem q2906 : (Jvm.Cond.instanceMethod ({ cls := "TranslationBureauModel", name := "earned", desc := "(I)I" } : Jvm.MethodName)) ∈ lw_all := lw_g (lw_at lw_m12 149 rfl) rfl
theorem q2907 : (Jvm.Cond.selects "TranslationBureauModel" ({ cls := "TranslationBureauModel", name := "earned", desc := "(I)I" } : Jvm.MethodName) ({ cls := "TranslationBureauModel", name := "earned", desc := "(I)I" } : Jvm.MethodName)) ∈ lw_all := lw_g (lw_at lw_m12 150 rfl) rfl
theorem q2908 : (Jvm.Cond.code ({ cls := "TranslationBureauModel", name := "earned", desc := "(I)I" } : Jvm.MethodName) prog_26_method_89_code (4 : Nat) (Option.some Jvm.ClassFile.FieldType.int)) ∈ lw_all := lw_g (lw_at lw_m12 151 rfl) rfl
theorem q2910 : (Jvm.Cond.instanceMethod ({ cls := "TranslationBureauModel", name := "total", desc := "()I" } : Jvm.MethodName)) ∈ lw_all := lw_g (lw_at lw_m12 153 rfl) rfl
theorem q2911 : (Jvm.Cond.selects "TranslationBureauModel" ({ cls := "TranslationBureauModel", name := "total", desc := "()I" } : Jvm.MethodName) ({ cls := "TranslationBureauModel", name := "total", desc := "()I" } : Jvm.MethodName)) ∈ lw_all := lw_g (lw_at lw_m12 154 rfl) rfl
theorem q2912 : (Jvm.Cond.code ({ cls := "TranslationBureauModel", name := "total", desc := "()I" } : Jvm.MethodName) prog_26_method_91_code (1 : Nat) (Option.some Jvm.ClassFile.FieldType.int)) ∈ lw_all := lw_g (lw_at lw_m12 155 rfl) rfl
theorem q2913 : (Jvm.Cond.methodLink "TranslationBureauModel" (353 : Nat) ({ cls := "TranslationBureauModel", name := "totalNow", desc := "()I" } : Jvm.MethodName)) ∈ lw_all := lw_g (lw_at lw_m12 156 rfl) rfl
theorem q2914 : (Jvm.Cond.privateMethod ({ cls := "TranslationBureauModel", name := "totalNow", desc := "()I" } : Jvm.MethodName)) ∈ lw_tbl := lw_at lw_m12 157 rfl
theorem q2915 : (Jvm.Cond.instanceMethod ({ cls := "TranslationBureauModel", name := "totalNow", desc := "()I" } : Jvm.MethodName)) ∈ lw_all := lw_g (lw_at lw_m12 158 rfl) rfl
theorem q2916 : (Jvm.Cond.code ({ cls := "TranslationBureauModel", name := "totalNow", desc := "()I" } : Jvm.MethodName) prog_26_method_90_code (3 : Nat) (Option.some Jvm.ClassFile.FieldType.int)) ∈ lw_all := lw_g (lw_at lw_m12 159 rfl) rfl
theorem q2918 : (Jvm.Cond.instanceMethod ({ cls := "TranslationBureauModel", name := "perWord", desc := "(I)D" } : Jvm.MethodName)) ∈ lw_all := lw_g (lw_at lw_m12 161 rfl) rfl
theorem q2919 : (Jvm.Cond.selects "TranslationBureauModel" ({ cls := "TranslationBureauModel", name := "perWord", desc := "(I)D" } : Jvm.MethodName) ({ cls := "TranslationBureauModel", name := "perWord", desc := "(I)D" } : Jvm.MethodName)) ∈ lw_all := lw_g (lw_at lw_m12 162 rfl) rfl
theorem q2920 : (Jvm.Cond.code ({ cls := "TranslationBureauModel", name := "perWord", desc := "(I)D" } : Jvm.MethodName) prog_26_method_92_code (2 : Nat) (Option.some Jvm.ClassFile.FieldType.double)) ∈ lw_all := lw_g (lw_at lw_m12 163 rfl) rfl
theorem q2922 : (Jvm.Cond.instanceMethod ({ cls := "TranslationBureauModel", name := "loadOf", desc := "(I)I" } : Jvm.MethodName)) ∈ lw_all := lw_g (lw_at lw_m12 165 rfl) rfl
theorem q2923 : (Jvm.Cond.selects "TranslationBureauModel" ({ cls := "TranslationBureauModel", name := "loadOf", desc := "(I)I" } : Jvm.MethodName) ({ cls := "TranslationBureauModel", name := "loadOf", desc := "(I)I" } : Jvm.MethodName)) ∈ lw_all := lw_g (lw_at lw_m12 166 rfl) rfl
theorem q2924 : (Jvm.Cond.code ({ cls := "TranslationBureauModel", name := "loadOf", desc := "(I)I" } : Jvm.MethodName) prog_26_method_95_code (2 : Nat) (Option.some Jvm.ClassFile.FieldType.int)) ∈ lw_all := lw_g (lw_at lw_m12 167 rfl) rfl
theorem q2925 : (Jvm.Cond.methodLink "TranslationBureauModel" (359 : Nat) ({ cls := "TranslationBureauModel", name := "loadBut", desc := "(II)I" } : Jvm.MethodName)) ∈ lw_all := lw_g (lw_at lw_m12 168 rfl) rfl
theorem q2926 : (Jvm.Cond.privateMethod ({ cls := "TranslationBureauModel", name := "loadBut", desc := "(II)I" } : Jvm.MethodName)) ∈ lw_tbl := lw_at lw_m12 169 rfl
theorem q2927 : (Jvm.Cond.instanceMethod ({ cls := "TranslationBureauModel", name := "loadBut", desc := "(II)I" } : Jvm.MethodName)) ∈ lw_all := lw_g (lw_at lw_m12 170 rfl) rfl
theorem q2928 : (Jvm.Cond.code ({ cls := "TranslationBureauModel", name := "loadBut", desc := "(II)I" } : Jvm.MethodName) prog_26_method_94_code (5 : Nat) (Option.some Jvm.ClassFile.FieldType.int)) ∈ lw_all := lw_g (lw_at lw_m12 171 rfl) rfl
theorem q2929 : (Jvm.Cond.methodLink "TranslationBureauModel" (356 : Nat) ({ cls := "TranslationBureauModel", name := "halfOf", desc := "(I)I" } : Jvm.MethodName)) ∈ lw_all := lw_g (lw_at lw_m12 172 rfl) rfl
theorem q2930 : (Jvm.Cond.privateMethod ({ cls := "TranslationBureauModel", name := "halfOf", desc := "(I)I" } : Jvm.MethodName)) ∈ lw_tbl := lw_at lw_m12 173 rfl
theorem q2931 : (Jvm.Cond.instanceMethod ({ cls := "TranslationBureauModel", name := "halfOf", desc := "(I)I" } : Jvm.MethodName)) ∈ lw_all := lw_g (lw_at lw_m12 174 rfl) rfl
theorem q2932 : (Jvm.Cond.code ({ cls := "TranslationBureauModel", name := "halfOf", desc := "(I)I" } : Jvm.MethodName) prog_26_method_93_code (2 : Nat) (Option.some Jvm.ClassFile.FieldType.int)) ∈ lw_all := lw_g (lw_at lw_m12 175 rfl) rfl
theorem q2934 : (Jvm.Cond.instanceMethod ({ cls := "TranslationBureauModel", name := "isOverloaded", desc := "(I)Z" } : Jvm.MethodName)) ∈ lw_all := lw_g (lw_at lw_m12 177 rfl) rfl
theorem q2935 : (Jvm.Cond.selects "TranslationBureauModel" ({ cls := "TranslationBureauModel", name := "isOverloaded", desc := "(I)Z" } : Jvm.MethodName) ({ cls := "TranslationBureauModel", name := "isOverloaded", desc := "(I)Z" } : Jvm.MethodName)) ∈ lw_all := lw_g (lw_at lw_m12 178 rfl) rfl
theorem q2936 : (Jvm.Cond.code ({ cls := "TranslationBureauModel", name := "isOverloaded", desc := "(I)Z" } : Jvm.MethodName) prog_26_method_97_code (2 : Nat) (Option.some Jvm.ClassFile.FieldType.boolean)) ∈ lw_all := lw_g (lw_at lw_m12 179 rfl) rfl
theorem q2937 : (Jvm.Cond.methodLink "TranslationBureauModel" (362 : Nat) ({ cls := "TranslationBureauModel", name := "isTooMuch", desc := "(II)Z" } : Jvm.MethodName)) ∈ lw_all := lw_g (lw_at lw_m12 180 rfl) rfl
theorem q2938 : (Jvm.Cond.privateMethod ({ cls := "TranslationBureauModel", name := "isTooMuch", desc := "(II)Z" } : Jvm.MethodName)) ∈ lw_tbl := lw_at lw_m12 181 rfl
theorem q2939 : (Jvm.Cond.instanceMethod ({ cls := "TranslationBureauModel", name := "isTooMuch", desc := "(II)Z" } : Jvm.MethodName)) ∈ lw_all := lw_g (lw_at lw_m12 182 rfl) rfl
theorem q2940 : (Jvm.Cond.code ({ cls := "TranslationBureauModel", name := "isTooMuch", desc := "(II)Z" } : Jvm.MethodName) prog_26_method_96_code (3 : Nat) (Option.some Jvm.ClassFile.FieldType.boolean)) ∈ lw_all := lw_g (lw_at lw_m12 183 rfl) rfl
theorem q2942 : (Jvm.Cond.instanceMethod ({ cls := "TranslationBureauModel", name := "pairs", desc := "(II)I" } : Jvm.MethodName)) ∈ lw_all := lw_g (lw_at lw_m12 185 rfl) rfl
theorem q2943 : (Jvm.Cond.selects "TranslationBureauModel" ({ cls := "TranslationBureauModel", name := "pairs", desc := "(II)I" } : Jvm.MethodName) ({ cls := "TranslationBureauModel", name := "pairs", desc := "(II)I" } : Jvm.MethodName)) ∈ lw_all := lw_g (lw_at lw_m12 186 rfl) rfl
theorem q2944 : (Jvm.Cond.code ({ cls := "TranslationBureauModel", name := "pairs", desc := "(II)I" } : Jvm.MethodName) prog_26_method_99_code (3 : Nat) (Option.some Jvm.ClassFile.FieldType.int)) ∈ lw_all := lw_g (lw_at lw_m12 187 rfl) rfl
theorem q2945 : (Jvm.Cond.methodLink "TranslationBureauModel" (365 : Nat) ({ cls := "TranslationBureauModel", name := "pairsBut", desc := "(III)I" } : Jvm.MethodName)) ∈ lw_all := lw_g (lw_at lw_m12 188 rfl) rfl
theorem q2946 : (Jvm.Cond.privateMethod ({ cls := "TranslationBureauModel", name := "pairsBut", desc := "(III)I" } : Jvm.MethodName)) ∈ lw_tbl := lw_at lw_m12 189 rfl
theorem q2947 : (Jvm.Cond.instanceMethod ({ cls := "TranslationBureauModel", name := "pairsBut", desc := "(III)I" } : Jvm.MethodName)) ∈ lw_all := lw_g (lw_at lw_m12 190 rfl) rfl
theorem q2948 : (Jvm.Cond.code ({ cls := "TranslationBureauModel", name := "pairsBut", desc := "(III)I" } : Jvm.MethodName) prog_26_method_98_code (6 : Nat) (Option.some Jvm.ClassFile.FieldType.int)) ∈ lw_all := lw_g (lw_at lw_m12 191 rfl) rfl
theorem q2950 : (Jvm.Cond.instanceMethod ({ cls := "TranslationBureauModel", name := "mutual", desc := "()I" } : Jvm.MethodName)) ∈ lw_all := lw_g (lw_at lw_m12 193 rfl) rfl
theorem q2951 : (Jvm.Cond.selects "TranslationBureauModel" ({ cls := "TranslationBureauModel", name := "mutual", desc := "()I" } : Jvm.MethodName) ({ cls := "TranslationBureauModel", name := "mutual", desc := "()I" } : Jvm.MethodName)) ∈ lw_all := lw_g (lw_at lw_m12 194 rfl) rfl
theorem q2952 : (Jvm.Cond.code ({ cls := "TranslationBureauModel", name := "mutual", desc := "()I" } : Jvm.MethodName) prog_26_method_100_code (4 : Nat) (Option.some Jvm.ClassFile.FieldType.int)) ∈ lw_all := lw_g (lw_at lw_m12 195 rfl) rfl
theorem q2954 : (Jvm.Cond.instanceMethod ({ cls := "TranslationBureauModel", name := "suggested", desc := "(I)I" } : Jvm.MethodName)) ∈ lw_all := lw_g (lw_at lw_m12 197 rfl) rfl
theorem q2955 : (Jvm.Cond.selects "TranslationBureauModel" ({ cls := "TranslationBureauModel", name := "suggested", desc := "(I)I" } : Jvm.MethodName) ({ cls := "TranslationBureauModel", name := "suggested", desc := "(I)I" } : Jvm.MethodName)) ∈ lw_all := lw_g (lw_at lw_m12 198 rfl) rfl
theorem q2956 : (Jvm.Cond.code ({ cls := "TranslationBureauModel", name := "suggested", desc := "(I)I" } : Jvm.MethodName) prog_26_method_101_code (9 : Nat) (Option.some Jvm.ClassFile.FieldType.int)) ∈ lw_all := lw_g (lw_at lw_m12 199 rfl) rfl
theorem q2958 : (Jvm.Cond.instanceMethod ({ cls := "TranslationBureauModel", name := "version", desc := "(I)I" } : Jvm.MethodName)) ∈ lw_all := lw_g (lw_at lw_m12 201 rfl) rfl
theorem q2959 : (Jvm.Cond.selects "TranslationBureauModel" ({ cls := "TranslationBureauModel", name := "version", desc := "(I)I" } : Jvm.MethodName) ({ cls := "TranslationBureauModel", name := "version", desc := "(I)I" } : Jvm.MethodName)) ∈ lw_all := lw_g (lw_at lw_m12 202 rfl) rfl
theorem q2960 : (Jvm.Cond.code ({ cls := "TranslationBureauModel", name := "version", desc := "(I)I" } : Jvm.MethodName) prog_26_method_103_code (4 : Nat) (Option.some Jvm.ClassFile.FieldType.int)) ∈ lw_all := lw_g (lw_at lw_m12 203 rfl) rfl
theorem q2961 : (Jvm.Cond.methodLink "TranslationBureauModel" (369 : Nat) ({ cls := "TranslationBureauModel", name := "isTerm", desc := "(I)Z" } : Jvm.MethodName)) ∈ lw_all := lw_g (lw_at lw_m12 204 rfl) rfl
theorem q2962 : (Jvm.Cond.privateMethod ({ cls := "TranslationBureauModel", name := "isTerm", desc := "(I)Z" } : Jvm.MethodName)) ∈ lw_tbl := lw_at lw_m12 205 rfl
theorem q2963 : (Jvm.Cond.instanceMethod ({ cls := "TranslationBureauModel", name := "isTerm", desc := "(I)Z" } : Jvm.MethodName)) ∈ lw_all := lw_g (lw_at lw_m12 206 rfl) rfl
theorem q2964 : (Jvm.Cond.code ({ cls := "TranslationBureauModel", name := "isTerm", desc := "(I)Z" } : Jvm.MethodName) prog_26_method_48_code (2 : Nat) (Option.some Jvm.ClassFile.FieldType.boolean)) ∈ lw_all := lw_g (lw_at lw_m12 207 rfl) rfl
theorem q2966 : (Jvm.Cond.instanceMethod ({ cls := "TranslationBureauModel", name := "rule", desc := "(II)I" } : Jvm.MethodName)) ∈ lw_all := lw_g (lw_at lw_m12 209 rfl) rfl
theorem q2967 : (Jvm.Cond.selects "TranslationBureauModel" ({ cls := "TranslationBureauModel", name := "rule", desc := "(II)I" } : Jvm.MethodName) ({ cls := "TranslationBureauModel", name := "rule", desc := "(II)I" } : Jvm.MethodName)) ∈ lw_all := lw_g (lw_at lw_m12 210 rfl) rfl
theorem q2968 : (Jvm.Cond.code ({ cls := "TranslationBureauModel", name := "rule", desc := "(II)I" } : Jvm.MethodName) prog_26_method_106_code (3 : Nat) (Option.some Jvm.ClassFile.FieldType.int)) ∈ lw_all := lw_g (lw_at lw_m12 211 rfl) rfl
theorem q2969 : (Jvm.Cond.methodLink "TranslationBureauModel" (380 : Nat) ({ cls := "TranslationBureauModel", name := "ruleAt", desc := "(II)I" } : Jvm.MethodName)) ∈ lw_all := lw_g (lw_at lw_m12 212 rfl) rfl
theorem q2970 : (Jvm.Cond.privateMethod ({ cls := "TranslationBureauModel", name := "ruleAt", desc := "(II)I" } : Jvm.MethodName)) ∈ lw_tbl := lw_at lw_m12 213 rfl
theorem q2971 : (Jvm.Cond.instanceMethod ({ cls := "TranslationBureauModel", name := "ruleAt", desc := "(II)I" } : Jvm.MethodName)) ∈ lw_all := lw_g (lw_at lw_m12 214 rfl) rfl
theorem q2972 : (Jvm.Cond.code ({ cls := "TranslationBureauModel", name := "ruleAt", desc := "(II)I" } : Jvm.MethodName) prog_26_method_105_code (3 : Nat) (Option.some Jvm.ClassFile.FieldType.int)) ∈ lw_all := lw_g (lw_at lw_m12 215 rfl) rfl
theorem q2974 : (Jvm.Cond.instanceMethod ({ cls := "TranslationBureauModel", name := "uses", desc := "(I)I" } : Jvm.MethodName)) ∈ lw_all := lw_g (lw_at lw_m12 217 rfl) rfl
theorem q2975 : (Jvm.Cond.selects "TranslationBureauModel" ({ cls := "TranslationBureauModel", name := "uses", desc := "(I)I" } : Jvm.MethodName) ({ cls := "TranslationBureauModel", name := "uses", desc := "(I)I" } : Jvm.MethodName)) ∈ lw_all := lw_g (lw_at lw_m12 218 rfl) rfl
theorem q2976 : (Jvm.Cond.code ({ cls := "TranslationBureauModel", name := "uses", desc := "(I)I" } : Jvm.MethodName) prog_26_method_107_code (6 : Nat) (Option.some Jvm.ClassFile.FieldType.int)) ∈ lw_all := lw_g (lw_at lw_m12 219 rfl) rfl
theorem q2978 : (Jvm.Cond.instanceMethod ({ cls := "TranslationBureauModel", name := "finding", desc := "(II)I" } : Jvm.MethodName)) ∈ lw_all := lw_g (lw_at lw_m12 221 rfl) rfl
theorem q2979 : (Jvm.Cond.selects "TranslationBureauModel" ({ cls := "TranslationBureauModel", name := "finding", desc := "(II)I" } : Jvm.MethodName) ({ cls := "TranslationBureauModel", name := "finding", desc := "(II)I" } : Jvm.MethodName)) ∈ lw_all := lw_g (lw_at lw_m12 222 rfl) rfl
theorem q2980 : (Jvm.Cond.code ({ cls := "TranslationBureauModel", name := "finding", desc := "(II)I" } : Jvm.MethodName) prog_26_method_115_code (3 : Nat) (Option.some Jvm.ClassFile.FieldType.int)) ∈ lw_all := lw_g (lw_at lw_m12 223 rfl) rfl
theorem q2981 : (Jvm.Cond.methodLink "TranslationBureauModel" (399 : Nat) ({ cls := "TranslationBureauModel", name := "goodFinding", desc := "(I)Z" } : Jvm.MethodName)) ∈ lw_all := lw_g (lw_at lw_m12 224 rfl) rfl
theorem q2982 : (Jvm.Cond.privateMethod ({ cls := "TranslationBureauModel", name := "goodFinding", desc := "(I)Z" } : Jvm.MethodName)) ∈ lw_tbl := lw_at lw_m12 225 rfl
theorem q2983 : (Jvm.Cond.instanceMethod ({ cls := "TranslationBureauModel", name := "goodFinding", desc := "(I)Z" } : Jvm.MethodName)) ∈ lw_all := lw_g (lw_at lw_m12 226 rfl) rfl
theorem q2984 : (Jvm.Cond.code ({ cls := "TranslationBureauModel", name := "goodFinding", desc := "(I)Z" } : Jvm.MethodName) prog_26_method_114_code (2 : Nat) (Option.some Jvm.ClassFile.FieldType.boolean)) ∈ lw_all := lw_g (lw_at lw_m12 227 rfl) rfl
theorem q2985 : (Jvm.Cond.constantLong "TranslationBureauModel" (402 : Nat) (2 : Int64)) ∈ lw_all := lw_g (lw_at lw_m12 228 rfl) rfl
theorem q2987 : (Jvm.Cond.instanceMethod ({ cls := "TranslationBureauModel", name := "findings", desc := "(II)I" } : Jvm.MethodName)) ∈ lw_all := lw_g (lw_at lw_m12 230 rfl) rfl
theorem q2988 : (Jvm.Cond.selects "TranslationBureauModel" ({ cls := "TranslationBureauModel", name := "findings", desc := "(II)I" } : Jvm.MethodName) ({ cls := "TranslationBureauModel", name := "findings", desc := "(II)I" } : Jvm.MethodName)) ∈ lw_all := lw_g (lw_at lw_m12 231 rfl) rfl
theorem q2989 : (Jvm.Cond.code ({ cls := "TranslationBureauModel", name := "findings", desc := "(II)I" } : Jvm.MethodName) prog_26_method_116_code (5 : Nat) (Option.some Jvm.ClassFile.FieldType.int)) ∈ lw_all := lw_g (lw_at lw_m12 232 rfl) rfl
theorem q2991 : (Jvm.Cond.instanceMethod ({ cls := "TranslationBureauModel", name := "clean", desc := "(I)I" } : Jvm.MethodName)) ∈ lw_all := lw_g (lw_at lw_m12 234 rfl) rfl
theorem q2992 : (Jvm.Cond.selects "TranslationBureauModel" ({ cls := "TranslationBureauModel", name := "clean", desc := "(I)I" } : Jvm.MethodName) ({ cls := "TranslationBureauModel", name := "clean", desc := "(I)I" } : Jvm.MethodName)) ∈ lw_all := lw_g (lw_at lw_m12 235 rfl) rfl
theorem q2993 : (Jvm.Cond.code ({ cls := "TranslationBureauModel", name := "clean", desc := "(I)I" } : Jvm.MethodName) prog_26_method_117_code (5 : Nat) (Option.some Jvm.ClassFile.FieldType.int)) ∈ lw_all := lw_g (lw_at lw_m12 236 rfl) rfl
theorem q2995 : (Jvm.Cond.instanceMethod ({ cls := "TranslationBureauModel", name := "without", desc := "(I)I" } : Jvm.MethodName)) ∈ lw_all := lw_g (lw_at lw_m12 238 rfl) rfl
theorem q2996 : (Jvm.Cond.selects "TranslationBureauModel" ({ cls := "TranslationBureauModel", name := "without", desc := "(I)I" } : Jvm.MethodName) ({ cls := "TranslationBureauModel", name := "without", desc := "(I)I" } : Jvm.MethodName)) ∈ lw_all := lw_g (lw_at lw_m12 239 rfl) rfl
theorem q2997 : (Jvm.Cond.code ({ cls := "TranslationBureauModel", name := "without", desc := "(I)I" } : Jvm.MethodName) prog_26_method_119_code (4 : Nat) (Option.some Jvm.ClassFile.FieldType.int)) ∈ lw_all := lw_g (lw_at lw_m13 0 rfl) rfl
theorem q2998 : (Jvm.Cond.methodLink "TranslationBureauModel" (404 : Nat) ({ cls := "TranslationBureauModel", name := "closes", desc := "(I)V" } : Jvm.MethodName)) ∈ lw_all := lw_g (lw_at lw_m13 1 rfl) rfl
theorem q2999 : (Jvm.Cond.privateMethod ({ cls := "TranslationBureauModel", name := "closes", desc := "(I)V" } : Jvm.MethodName)) ∈ lw_tbl := lw_at lw_m13 2 rfl
theorem q3000 : (Jvm.Cond.instanceMethod ({ cls := "TranslationBureauModel", name := "closes", desc := "(I)V" } : Jvm.MethodName)) ∈ lw_all := lw_g (lw_at lw_m13 3 rfl) rfl
theorem q3001 : (Jvm.Cond.code ({ cls := "TranslationBureauModel", name := "closes", desc := "(I)V" } : Jvm.MethodName) prog_26_method_118_code (3 : Nat) (Option.none : Option Jvm.ClassFile.FieldType)) ∈ lw_all := lw_g (lw_at lw_m13 4 rfl) rfl
theorem q3003 : (Jvm.Cond.instanceMethod ({ cls := "TranslationBureauModel", name := "alone", desc := "(I)I" } : Jvm.MethodName)) ∈ lw_all := lw_g (lw_at lw_m13 6 rfl) rfl
theorem q3004 : (Jvm.Cond.selects "TranslationBureauModel" ({ cls := "TranslationBureauModel", name := "alone", desc := "(I)I" } : Jvm.MethodName) ({ cls := "TranslationBureauModel", name := "alone", desc := "(I)I" } : Jvm.MethodName)) ∈ lw_all := lw_g (lw_at lw_m13 7 rfl) rfl
theorem q3005 : (Jvm.Cond.code ({ cls := "TranslationBureauModel", name := "alone", desc := "(I)I" } : Jvm.MethodName) prog_26_method_120_code (3 : Nat) (Option.some Jvm.ClassFile.FieldType.int)) ∈ lw_all := lw_g (lw_at lw_m13 8 rfl) rfl
theorem q3007 : (Jvm.Cond.instanceMethod ({ cls := "TranslationBureauModel", name := "tightest", desc := "(I)I" } : Jvm.MethodName)) ∈ lw_all := lw_g (lw_at lw_m13 10 rfl) rfl
theorem q3008 : (Jvm.Cond.selects "TranslationBureauModel" ({ cls := "TranslationBureauModel", name := "tightest", desc := "(I)I" } : Jvm.MethodName) ({ cls := "TranslationBureauModel", name := "tightest", desc := "(I)I" } : Jvm.MethodName)) ∈ lw_all := lw_g (lw_at lw_m13 11 rfl) rfl
theorem q3009 : (Jvm.Cond.code ({ cls := "TranslationBureauModel", name := "tightest", desc := "(I)I" } : Jvm.MethodName) prog_26_method_121_code (3 : Nat) (Option.some Jvm.ClassFile.FieldType.int)) ∈ lw_all := lw_g (lw_at lw_m13 12 rfl) rfl
theorem q3011 : (Jvm.Cond.instanceMethod ({ cls := "TranslationBureauModel", name := "bestFollowed", desc := "(I)I" } : Jvm.MethodName)) ∈ lw_all := lw_g (lw_at lw_m13 14 rfl) rfl
theorem q3012 : (Jvm.Cond.selects "TranslationBureauModel" ({ cls := "TranslationBureauModel", name := "bestFollowed", desc := "(I)I" } : Jvm.MethodName) ({ cls := "TranslationBureauModel", name := "bestFollowed", desc := "(I)I" } : Jvm.MethodName)) ∈ lw_all := lw_g (lw_at lw_m13 15 rfl) rfl
theorem q3013 : (Jvm.Cond.code ({ cls := "TranslationBureauModel", name := "bestFollowed", desc := "(I)I" } : Jvm.MethodName) prog_26_method_123_code (4 : Nat) (Option.some Jvm.ClassFile.FieldType.int)) ∈ lw_all := lw_g (lw_at lw_m13 16 rfl) rfl
theorem q3014 : (Jvm.Cond.methodLink "TranslationBureauModel" (407 : Nat) ({ cls := "TranslationBureauModel", name := "lackingBy", desc := "(II)I" } : Jvm.MethodName)) ∈ lw_all := lw_g (lw_at lw_m13 17 rfl) rfl
theorem q3015 : (Jvm.Cond.privateMethod ({ cls := "TranslationBureauModel", name := "lackingBy", desc := "(II)I" } : Jvm.MethodName)) ∈ lw_tbl := lw_at lw_m13 18 rfl
theorem q3016 : (Jvm.Cond.instanceMethod ({ cls := "TranslationBureauModel", name := "lackingBy", desc := "(II)I" } : Jvm.MethodName)) ∈ lw_all := lw_g (lw_at lw_m13 19 rfl) rfl
theorem q3017 : (Jvm.Cond.code ({ cls := "TranslationBureauModel", name := "lackingBy", desc := "(II)I" } : Jvm.MethodName) prog_26_method_122_code (6 : Nat) (Option.some Jvm.ClassFile.FieldType.int)) ∈ lw_all := lw_g (lw_at lw_m13 20 rfl) rfl
theorem q3019 : (Jvm.Cond.instanceMethod ({ cls := "TranslationBureauModel", name := "removeSegment", desc := "(I)I" } : Jvm.MethodName)) ∈ lw_all := lw_g (lw_at lw_m13 22 rfl) rfl
theorem q3020 : (Jvm.Cond.selects "TranslationBureauModel" ({ cls := "TranslationBureauModel", name := "removeSegment", desc := "(I)I" } : Jvm.MethodName) ({ cls := "TranslationBureauModel", name := "removeSegment", desc := "(I)I" } : Jvm.MethodName)) ∈ lw_all := lw_g (lw_at lw_m13 23 rfl) rfl
theorem q3021 : (Jvm.Cond.code ({ cls := "TranslationBureauModel", name := "removeSegment", desc := "(I)I" } : Jvm.MethodName) prog_26_method_124_code (2 : Nat) (Option.some Jvm.ClassFile.FieldType.int)) ∈ lw_all := lw_g (lw_at lw_m13 24 rfl) rfl
theorem q3023 : (Jvm.Cond.instanceMethod ({ cls := "TranslationBureauModel", name := "moveSegment", desc := "(II)I" } : Jvm.MethodName)) ∈ lw_all := lw_g (lw_at lw_m13 26 rfl) rfl
theorem q3024 : (Jvm.Cond.selects "TranslationBureauModel" ({ cls := "TranslationBureauModel", name := "moveSegment", desc := "(II)I" } : Jvm.MethodName) ({ cls := "TranslationBureauModel", name := "moveSegment", desc := "(II)I" } : Jvm.MethodName)) ∈ lw_all := lw_g (lw_at lw_m13 27 rfl) rfl
theorem q3025 : (Jvm.Cond.code ({ cls := "TranslationBureauModel", name := "moveSegment", desc := "(II)I" } : Jvm.MethodName) prog_26_method_125_code (4 : Nat) (Option.some Jvm.ClassFile.FieldType.int)) ∈ lw_all := lw_g (lw_at lw_m13 28 rfl) rfl
theorem q3027 : (Jvm.Cond.instanceMethod ({ cls := "TranslationBureauModel", name := "setJob", desc := "(IIII)I" } : Jvm.MethodName)) ∈ lw_all := lw_g (lw_at lw_m13 30 rfl) rfl
theorem q3028 : (Jvm.Cond.selects "TranslationBureauModel" ({ cls := "TranslationBureauModel", name := "setJob", desc := "(IIII)I" } : Jvm.MethodName) ({ cls := "TranslationBureauModel", name := "setJob", desc := "(IIII)I" } : Jvm.MethodName)) ∈ lw_all := lw_g (lw_at lw_m13 31 rfl) rfl
theorem q3029 : (Jvm.Cond.code ({ cls := "TranslationBureauModel", name := "setJob", desc := "(IIII)I" } : Jvm.MethodName) prog_26_method_126_code (7 : Nat) (Option.some Jvm.ClassFile.FieldType.int)) ∈ lw_all := lw_g (lw_at lw_m13 32 rfl) rfl
theorem q3030 : (Jvm.Cond.constantLong "TranslationBureauModel" (410 : Nat) (99 : Int64)) ∈ lw_all := lw_g (lw_at lw_m13 33 rfl) rfl
theorem q3032 : (Jvm.Cond.instanceMethod ({ cls := "TranslationBureauModel", name := "setFollowed", desc := "(II)I" } : Jvm.MethodName)) ∈ lw_all := lw_g (lw_at lw_m13 35 rfl) rfl
theorem q3033 : (Jvm.Cond.selects "TranslationBureauModel" ({ cls := "TranslationBureauModel", name := "setFollowed", desc := "(II)I" } : Jvm.MethodName) ({ cls := "TranslationBureauModel", name := "setFollowed", desc := "(II)I" } : Jvm.MethodName)) ∈ lw_all := lw_g (lw_at lw_m13 36 rfl) rfl
theorem q3034 : (Jvm.Cond.code ({ cls := "TranslationBureauModel", name := "setFollowed", desc := "(II)I" } : Jvm.MethodName) prog_26_method_128_code (3 : Nat) (Option.some Jvm.ClassFile.FieldType.int)) ∈ lw_all := lw_g (lw_at lw_m13 37 rfl) rfl
theorem q3035 : (Jvm.Cond.methodLink "TranslationBureauModel" (412 : Nat) ({ cls := "TranslationBureauModel", name := "sets", desc := "(II)I" } : Jvm.MethodName)) ∈ lw_all := lw_g (lw_at lw_m13 38 rfl) rfl
theorem q3036 : (Jvm.Cond.privateMethod ({ cls := "TranslationBureauModel", name := "sets", desc := "(II)I" } : Jvm.MethodName)) ∈ lw_tbl := lw_at lw_m13 39 rfl
theorem q3037 : (Jvm.Cond.instanceMethod ({ cls := "TranslationBureauModel", name := "sets", desc := "(II)I" } : Jvm.MethodName)) ∈ lw_all := lw_g (lw_at lw_m13 40 rfl) rfl
theorem q3038 : (Jvm.Cond.code ({ cls := "TranslationBureauModel", name := "sets", desc := "(II)I" } : Jvm.MethodName) prog_26_method_127_code (4 : Nat) (Option.some Jvm.ClassFile.FieldType.int)) ∈ lw_all := lw_g (lw_at lw_m13 41 rfl) rfl
theorem q3040 : (Jvm.Cond.instanceMethod ({ cls := "TranslationBureauModel", name := "setBand", desc := "(II)I" } : Jvm.MethodName)) ∈ lw_all := lw_g (lw_at lw_m13 43 rfl) rfl
theorem q3041 : (Jvm.Cond.selects "TranslationBureauModel" ({ cls := "TranslationBureauModel", name := "setBand", desc := "(II)I" } : Jvm.MethodName) ({ cls := "TranslationBureauModel", name := "setBand", desc := "(II)I" } : Jvm.MethodName)) ∈ lw_all := lw_g (lw_at lw_m13 44 rfl) rfl
theorem q3042 : (Jvm.Cond.code ({ cls := "TranslationBureauModel", name := "setBand", desc := "(II)I" } : Jvm.MethodName) prog_26_method_129_code (3 : Nat) (Option.some Jvm.ClassFile.FieldType.int)) ∈ lw_all := lw_g (lw_at lw_m13 45 rfl) rfl
theorem q3044 : (Jvm.Cond.instanceMethod ({ cls := "TranslationBureauModel", name := "setSetting", desc := "(II)I" } : Jvm.MethodName)) ∈ lw_all := lw_g (lw_at lw_m13 47 rfl) rfl
theorem q3045 : (Jvm.Cond.selects "TranslationBureauModel" ({ cls := "TranslationBureauModel", name := "setSetting", desc := "(II)I" } : Jvm.MethodName) ({ cls := "TranslationBureauModel", name := "setSetting", desc := "(II)I" } : Jvm.MethodName)) ∈ lw_all := lw_g (lw_at lw_m13 48 rfl) rfl
theorem q3046 : (Jvm.Cond.code ({ cls := "TranslationBureauModel", name := "setSetting", desc := "(II)I" } : Jvm.MethodName) prog_26_method_130_code (4 : Nat) (Option.some Jvm.ClassFile.FieldType.int)) ∈ lw_all := lw_g (lw_at lw_m13 49 rfl) rfl
theorem q3048 : (Jvm.Cond.instanceMethod ({ cls := "TranslationBureauModel", name := "swapTargets", desc := "(II)I" } : Jvm.MethodName)) ∈ lw_all := lw_g (lw_at lw_m13 51 rfl) rfl
theorem q3049 : (Jvm.Cond.selects "TranslationBureauModel" ({ cls := "TranslationBureauModel", name := "swapTargets", desc := "(II)I" } : Jvm.MethodName) ({ cls := "TranslationBureauModel", name := "swapTargets", desc := "(II)I" } : Jvm.MethodName)) ∈ lw_all := lw_g (lw_at lw_m13 52 rfl) rfl
theorem q3050 : (Jvm.Cond.code ({ cls := "TranslationBureauModel", name := "swapTargets", desc := "(II)I" } : Jvm.MethodName) prog_26_method_132_code (6 : Nat) (Option.some Jvm.ClassFile.FieldType.int)) ∈ lw_all := lw_g (lw_at lw_m13 53 rfl) rfl
theorem q3051 : (Jvm.Cond.methodLink "TranslationBureauModel" (415 : Nat) ({ cls := "TranslationBureauModel", name := "exchanges", desc := "(II)V" } : Jvm.MethodName)) ∈ lw_all := lw_g (lw_at lw_m13 54 rfl) rfl
theorem q3052 : (Jvm.Cond.privateMethod ({ cls := "TranslationBureauModel", name := "exchanges", desc := "(II)V" } : Jvm.MethodName)) ∈ lw_tbl := lw_at lw_m13 55 rfl
theorem q3053 : (Jvm.Cond.instanceMethod ({ cls := "TranslationBureauModel", name := "exchanges", desc := "(II)V" } : Jvm.MethodName)) ∈ lw_all := lw_g (lw_at lw_m13 56 rfl) rfl
theorem q3054 : (Jvm.Cond.code ({ cls := "TranslationBureauModel", name := "exchanges", desc := "(II)V" } : Jvm.MethodName) prog_26_method_131_code (5 : Nat) (Option.none : Option Jvm.ClassFile.FieldType)) ∈ lw_all := lw_g (lw_at lw_m13 57 rfl) rfl
theorem q3056 : (Jvm.Cond.instanceMethod ({ cls := "TranslationBureauModel", name := "write", desc := "(I)I" } : Jvm.MethodName)) ∈ lw_all := lw_g (lw_at lw_m13 59 rfl) rfl
theorem q3057 : (Jvm.Cond.selects "TranslationBureauModel" ({ cls := "TranslationBureauModel", name := "write", desc := "(I)I" } : Jvm.MethodName) ({ cls := "TranslationBureauModel", name := "write", desc := "(I)I" } : Jvm.MethodName)) ∈ lw_all := lw_g (lw_at lw_m13 60 rfl) rfl
theorem q3058 : (Jvm.Cond.code ({ cls := "TranslationBureauModel", name := "write", desc := "(I)I" } : Jvm.MethodName) prog_26_method_137_code (4 : Nat) (Option.some Jvm.ClassFile.FieldType.int)) ∈ lw_all := lw_g (lw_at lw_m13 61 rfl) rfl
theorem q3059 : (Jvm.Cond.methodLink "TranslationBureauModel" (422 : Nat) ({ cls := "TranslationBureauModel", name := "saysNumber", desc := "(I)V" } : Jvm.MethodName)) ∈ lw_all := lw_g (lw_at lw_m13 62 rfl) rfl
theorem q3060 : (Jvm.Cond.privateMethod ({ cls := "TranslationBureauModel", name := "saysNumber", desc := "(I)V" } : Jvm.MethodName)) ∈ lw_tbl := lw_at lw_m13 63 rfl
theorem q3061 : (Jvm.Cond.instanceMethod ({ cls := "TranslationBureauModel", name := "saysNumber", desc := "(I)V" } : Jvm.MethodName)) ∈ lw_all := lw_g (lw_at lw_m13 64 rfl) rfl
theorem q3062 : (Jvm.Cond.code ({ cls := "TranslationBureauModel", name := "saysNumber", desc := "(I)V" } : Jvm.MethodName) prog_26_method_134_code (2 : Nat) (Option.none : Option Jvm.ClassFile.FieldType)) ∈ lw_all := lw_g (lw_at lw_m13 65 rfl) rfl
theorem q3063 : (Jvm.Cond.methodLink "TranslationBureauModel" (425 : Nat) ({ cls := "TranslationBureauModel", name := "says", desc := "(I)V" } : Jvm.MethodName)) ∈ lw_all := lw_g (lw_at lw_m13 66 rfl) rfl
theorem q3064 : (Jvm.Cond.privateMethod ({ cls := "TranslationBureauModel", name := "says", desc := "(I)V" } : Jvm.MethodName)) ∈ lw_tbl := lw_at lw_m13 67 rfl
theorem q3065 : (Jvm.Cond.instanceMethod ({ cls := "TranslationBureauModel", name := "says", desc := "(I)V" } : Jvm.MethodName)) ∈ lw_all := lw_g (lw_at lw_m13 68 rfl) rfl
theorem q3066 : (Jvm.Cond.code ({ cls := "TranslationBureauModel", name := "says", desc := "(I)V" } : Jvm.MethodName) prog_26_method_133_code (2 : Nat) (Option.none : Option Jvm.ClassFile.FieldType)) ∈ lw_all := lw_g (lw_at lw_m13 69 rfl) rfl
theorem q3067 : (Jvm.Cond.stringRef "TranslationBureauModel" (432 : Nat) ": ") ∈ lw_tbl := lw_at lw_m13 70 rfl
theorem q3068 : (Jvm.Cond.methodLink "TranslationBureauModel" (434 : Nat) ({ cls := "TranslationBureauModel", name := "saysText", desc := "(Ljava/lang/String;)V" } : Jvm.MethodName)) ∈ lw_all := lw_g (lw_at lw_m13 71 rfl) rfl
theorem q3069 : (Jvm.Cond.privateMethod ({ cls := "TranslationBureauModel", name := "saysText", desc := "(Ljava/lang/String;)V" } : Jvm.MethodName)) ∈ lw_tbl := lw_at lw_m13 72 rfl
theorem q3070 : (Jvm.Cond.instanceMethod ({ cls := "TranslationBureauModel", name := "saysText", desc := "(Ljava/lang/String;)V" } : Jvm.MethodName)) ∈ lw_all := lw_g (lw_at lw_m13 73 rfl) rfl
theorem q3071 : (Jvm.Cond.code ({ cls := "TranslationBureauModel", name := "saysText", desc := "(Ljava/lang/String;)V" } : Jvm.MethodName) prog_26_method_135_code (3 : Nat) (Option.none : Option Jvm.ClassFile.FieldType)) ∈ lw_all := lw_g (lw_at lw_m13 74 rfl) rfl
theorem q3072 : (Jvm.Cond.stringRef "TranslationBureauModel" (438 : Nat) "say ") ∈ lw_tbl := lw_at lw_m13 75 rfl
theorem q3073 : (Jvm.Cond.methodLink "TranslationBureauModel" (428 : Nat) ({ cls := "TranslationBureauModel", name := "saysWord", desc := "(J)V" } : Jvm.MethodName)) ∈ lw_all := lw_g (lw_at lw_m13 76 rfl) rfl
theorem q3074 : (Jvm.Cond.privateMethod ({ cls := "TranslationBureauModel", name := "saysWord", desc := "(J)V" } : Jvm.MethodName)) ∈ lw_tbl := lw_at lw_m13 77 rfl
theorem q3075 : (Jvm.Cond.instanceMethod ({ cls := "TranslationBureauModel", name := "saysWord", desc := "(J)V" } : Jvm.MethodName)) ∈ lw_all := lw_g (lw_at lw_m13 78 rfl) rfl
theorem q3076 : (Jvm.Cond.code ({ cls := "TranslationBureauModel", name := "saysWord", desc := "(J)V" } : Jvm.MethodName) prog_26_method_136_code (3 : Nat) (Option.none : Option Jvm.ClassFile.FieldType)) ∈ lw_all := lw_g (lw_at lw_m13 79 rfl) rfl
theorem q3077 : (Jvm.Cond.stringRef "TranslationBureauModel" (440 : Nat) " for ") ∈ lw_tbl := lw_at lw_m13 80 rfl
theorem q3078 : (Jvm.Cond.stringRef "TranslationBureauModel" (442 : Nat) "unlike ") ∈ lw_tbl := lw_at lw_m13 81 rfl
theorem q3079 : (Jvm.Cond.stringRef "TranslationBureauModel" (444 : Nat) "stale by ") ∈ lw_tbl := lw_at lw_m13 82 rfl
theorem q3081 : (Jvm.Cond.instanceMethod ({ cls := "TranslationBureauModel", name := "written", desc := "(I)C" } : Jvm.MethodName)) ∈ lw_all := lw_g (lw_at lw_m13 84 rfl) rfl
theorem q3082 : (Jvm.Cond.selects "TranslationBureauModel" ({ cls := "TranslationBureauModel", name := "written", desc := "(I)C" } : Jvm.MethodName) ({ cls := "TranslationBureauModel", name := "written", desc := "(I)C" } : Jvm.MethodName)) ∈ lw_all := lw_g (lw_at lw_m13 85 rfl) rfl
theorem q3083 : (Jvm.Cond.code ({ cls := "TranslationBureauModel", name := "written", desc := "(I)C" } : Jvm.MethodName) prog_26_method_138_code (2 : Nat) (Option.some Jvm.ClassFile.FieldType.char)) ∈ lw_all := lw_g (lw_at lw_m13 86 rfl) rfl
theorem q3110 : (Jvm.Cond.castable "TranslationBureauModel" "java/lang/Object") ∈ lw_tbl := lw_at lw_m13 113 rfl
theorem in_X3 : ∀ w ∈ wsX30, w ∈ lw_all := lw_in wsX30 [2456, 2458, 2460, 2462, 2464, 2466, 2468, 2470, 2472, 2474, 2476, 2478, 2480, 2482, 2484, 2486, 2488, 2490, 2492, 2494, 2496, 2498, 2500, 2502, 2504] (by decide +kernel) (by decide +kernel)

