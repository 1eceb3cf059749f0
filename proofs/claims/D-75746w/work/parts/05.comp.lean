/-! TranslationBureau -/
set_option maxRecDepth 100000
def RX1 : String := "TranslationBureau"
def TX1 : u_T := fun k => match k with
  | 0 => ("TranslationBureau", "buffer", "[B", true)
  | 1 => ("TranslationBureau", "buffered", "I", false)
  | 2 => ("TranslationBureau", "office", "LTranslationBureau$Office;", false)
  | 3 => ("TranslationBureau", "history", "Ljava/util/ArrayDeque;", true)
  | 4 => ("TranslationBureau", "errorKind", "I", false)
  | 5 => ("TranslationBureau", "errorPosition", "I", false)
  | _ => ("TranslationBureau", "output", "Ljava/lang/StringBuilder;", true)
def tyX1 : Nat → FieldType := fun k => match k with
  | 0 => .array .byte
  | 1 => .int
  | 2 => .object "TranslationBureau$Office"
  | 3 => .object "java/util/ArrayDeque"
  | 4 => .int
  | 5 => .int
  | _ => .object "java/lang/StringBuilder"
abbrev wsX10 : List Cond := u_ws RX1 TX1 7
theorem nmX1 : ∀ a, a < 7 → ∀ b, b < 7 → a ≠ b → (TX1 a).2.1 ≠ (TX1 b).2.1 := by decide +kernel
theorem tyX1_ok : ∀ k, k < 7 → parseFieldDescriptor (TX1 k).2.2.1 = some (tyX1 k) := by decide +kernel
abbrev cX1_init : ByteArray := prog_1_method_10_code
def yX1_init : MethodName := ⟨RX1, "<init>", "()V"⟩
def dkwX1_init_2 : List UInt8 := [181, 0, 54, 177]
abbrev dktX1_init_2 : List UInt8 := dkwX1_init_2 ++ []
def dkwX1_init_1 : List UInt8 := [42, 187, 0, 43, 89, 183, 0, 45, 181, 0, 46, 42, 2, 181, 0, 50, 42, 187, 0, 18, 89, 183, 0, 20]
abbrev dktX1_init_1 : List UInt8 := dkwX1_init_1 ++ dktX1_init_2
def dkwX1_init_0 : List UInt8 := [42, 183, 0, 33, 42, 17, 3, 132, 188, 8, 181, 0, 21, 42, 187, 0, 36, 89, 183, 0, 38, 181, 0, 39]
abbrev dktX1_init_0 : List UInt8 := dkwX1_init_0 ++ dktX1_init_1
theorem dksX1_init_0 : cX1_init.data.toList.drop 0 = dktX1_init_0 := by decide +kernel
theorem dksX1_init_1 : cX1_init.data.toList.drop 24 = dktX1_init_1 := dk_seg dksX1_init_0 24 rfl rfl
theorem dksX1_init_2 : cX1_init.data.toList.drop 48 = dktX1_init_2 := dk_seg dksX1_init_1 24 rfl rfl
theorem dX1_init_0 : decode cX1_init 0 = .ok (.aload_n 0, 1) := dk_42 (dk_at dksX1_init_0 0 rfl rfl)
theorem dX1_init_1 : decode cX1_init 1 = .ok (.invokespecial 33, 3) := dk_183 0 33 (dk_at dksX1_init_0 1 rfl rfl)
theorem dX1_init_4 : decode cX1_init 4 = .ok (.aload_n 0, 1) := dk_42 (dk_at dksX1_init_0 4 rfl rfl)
theorem dX1_init_5 : decode cX1_init 5 = .ok (.sipush 900, 3) := dk_17 3 132 (dk_at dksX1_init_0 5 rfl rfl)
theorem dX1_init_8 : decode cX1_init 8 = .ok (.newarray .byte, 2) := dk_188_8 (dk_at dksX1_init_0 8 rfl rfl)
theorem dX1_init_10 : decode cX1_init 10 = .ok (.putfield 21, 3) := dk_181 0 21 (dk_at dksX1_init_0 10 rfl rfl)
theorem dX1_init_13 : decode cX1_init 13 = .ok (.aload_n 0, 1) := dk_42 (dk_at dksX1_init_0 13 rfl rfl)
theorem dX1_init_14 : decode cX1_init 14 = .ok (.new 36, 3) := dk_187 0 36 (dk_at dksX1_init_0 14 rfl rfl)
theorem dX1_init_17 : decode cX1_init 17 = .ok (.dup, 1) := dk_89 (dk_at dksX1_init_0 17 rfl rfl)
theorem dX1_init_18 : decode cX1_init 18 = .ok (.invokespecial 38, 3) := dk_183 0 38 (dk_at dksX1_init_0 18 rfl rfl)
theorem dX1_init_21 : decode cX1_init 21 = .ok (.putfield 39, 3) := dk_181 0 39 (dk_at dksX1_init_0 21 rfl rfl)
theorem dX1_init_24 : decode cX1_init 24 = .ok (.aload_n 0, 1) := dk_42 (dk_at dksX1_init_1 0 rfl rfl)
theorem dX1_init_25 : decode cX1_init 25 = .ok (.new 43, 3) := dk_187 0 43 (dk_at dksX1_init_1 1 rfl rfl)
theorem dX1_init_28 : decode cX1_init 28 = .ok (.dup, 1) := dk_89 (dk_at dksX1_init_1 4 rfl rfl)
theorem dX1_init_29 : decode cX1_init 29 = .ok (.invokespecial 45, 3) := dk_183 0 45 (dk_at dksX1_init_1 5 rfl rfl)
theorem dX1_init_32 : decode cX1_init 32 = .ok (.putfield 46, 3) := dk_181 0 46 (dk_at dksX1_init_1 8 rfl rfl)
theorem dX1_init_35 : decode cX1_init 35 = .ok (.aload_n 0, 1) := dk_42 (dk_at dksX1_init_1 11 rfl rfl)
theorem dX1_init_36 : decode cX1_init 36 = .ok (.iconst (-1), 1) := dk_2 (dk_at dksX1_init_1 12 rfl rfl)
theorem dX1_init_37 : decode cX1_init 37 = .ok (.putfield 50, 3) := dk_181 0 50 (dk_at dksX1_init_1 13 rfl rfl)
theorem dX1_init_40 : decode cX1_init 40 = .ok (.aload_n 0, 1) := dk_42 (dk_at dksX1_init_1 16 rfl rfl)
theorem dX1_init_41 : decode cX1_init 41 = .ok (.new 18, 3) := dk_187 0 18 (dk_at dksX1_init_1 17 rfl rfl)
theorem dX1_init_44 : decode cX1_init 44 = .ok (.dup, 1) := dk_89 (dk_at dksX1_init_1 20 rfl rfl)
theorem dX1_init_45 : decode cX1_init 45 = .ok (.invokespecial 20, 3) := dk_183 0 20 (dk_at dksX1_init_1 21 rfl rfl)
theorem dX1_init_48 : decode cX1_init 48 = .ok (.putfield 54, 3) := dk_181 0 54 (dk_at dksX1_init_2 0 rfl rfl)
theorem dX1_init_51 : decode cX1_init 51 = .ok (.return_, 1) := dk_177 (dk_at dksX1_init_2 3 rfl rfl)
abbrev cX1_feed : ByteArray := prog_1_method_11_code
def yX1_feed : MethodName := ⟨RX1, "feed", "(IIIII)I"⟩
def dkwX1_feed_2 : List UInt8 := [180, 0, 58, 172]
abbrev dktX1_feed_2 : List UInt8 := dkwX1_feed_2 ++ []
def dkwX1_feed_1 : List UInt8 := [89, 4, 28, 79, 89, 5, 29, 79, 89, 6, 21, 4, 79, 89, 7, 21, 5, 79, 182, 0, 61, 42]
abbrev dktX1_feed_1 : List UInt8 := dkwX1_feed_1 ++ dktX1_feed_2
def dkwX1_feed_0 : List UInt8 := [42, 180, 0, 58, 16, 20, 96, 17, 3, 132, 164, 0, 6, 16, 254, 172, 42, 8, 188, 10, 89, 3, 27, 79]
abbrev dktX1_feed_0 : List UInt8 := dkwX1_feed_0 ++ dktX1_feed_1
theorem dksX1_feed_0 : cX1_feed.data.toList.drop 0 = dktX1_feed_0 := by decide +kernel
theorem dksX1_feed_1 : cX1_feed.data.toList.drop 24 = dktX1_feed_1 := dk_seg dksX1_feed_0 24 rfl rfl
theorem dksX1_feed_2 : cX1_feed.data.toList.drop 46 = dktX1_feed_2 := dk_seg dksX1_feed_1 22 rfl rfl
theorem dX1_feed_0 : decode cX1_feed 0 = .ok (.aload_n 0, 1) := dk_42 (dk_at dksX1_feed_0 0 rfl rfl)
theorem dX1_feed_1 : decode cX1_feed 1 = .ok (.getfield 58, 3) := dk_180 0 58 (dk_at dksX1_feed_0 1 rfl rfl)
theorem dX1_feed_4 : decode cX1_feed 4 = .ok (.bipush 20, 2) := dk_16 20 (dk_at dksX1_feed_0 4 rfl rfl)
theorem dX1_feed_6 : decode cX1_feed 6 = .ok (.iadd, 1) := dk_96 (dk_at dksX1_feed_0 6 rfl rfl)
theorem dX1_feed_7 : decode cX1_feed 7 = .ok (.sipush 900, 3) := dk_17 3 132 (dk_at dksX1_feed_0 7 rfl rfl)
theorem dX1_feed_10 : decode cX1_feed 10 = .ok (.if_icmp .le 6, 3) := dk_164 0 6 (dk_at dksX1_feed_0 10 rfl rfl)
theorem dX1_feed_13 : decode cX1_feed 13 = .ok (.bipush (-2), 2) := dk_16 254 (dk_at dksX1_feed_0 13 rfl rfl)
theorem dX1_feed_15 : decode cX1_feed 15 = .ok (.ireturn, 1) := dk_172 (dk_at dksX1_feed_0 15 rfl rfl)
theorem dX1_feed_16 : decode cX1_feed 16 = .ok (.aload_n 0, 1) := dk_42 (dk_at dksX1_feed_0 16 rfl rfl)
theorem dX1_feed_17 : decode cX1_feed 17 = .ok (.iconst 5, 1) := dk_8 (dk_at dksX1_feed_0 17 rfl rfl)
theorem dX1_feed_18 : decode cX1_feed 18 = .ok (.newarray .int, 2) := dk_188_10 (dk_at dksX1_feed_0 18 rfl rfl)
theorem dX1_feed_20 : decode cX1_feed 20 = .ok (.dup, 1) := dk_89 (dk_at dksX1_feed_0 20 rfl rfl)
theorem dX1_feed_21 : decode cX1_feed 21 = .ok (.iconst 0, 1) := dk_3 (dk_at dksX1_feed_0 21 rfl rfl)
theorem dX1_feed_22 : decode cX1_feed 22 = .ok (.iload_n 1, 1) := dk_27 (dk_at dksX1_feed_0 22 rfl rfl)
theorem dX1_feed_23 : decode cX1_feed 23 = .ok (.iastore, 1) := dk_79 (dk_at dksX1_feed_0 23 rfl rfl)
theorem dX1_feed_24 : decode cX1_feed 24 = .ok (.dup, 1) := dk_89 (dk_at dksX1_feed_1 0 rfl rfl)
theorem dX1_feed_25 : decode cX1_feed 25 = .ok (.iconst 1, 1) := dk_4 (dk_at dksX1_feed_1 1 rfl rfl)
theorem dX1_feed_26 : decode cX1_feed 26 = .ok (.iload_n 2, 1) := dk_28 (dk_at dksX1_feed_1 2 rfl rfl)
theorem dX1_feed_27 : decode cX1_feed 27 = .ok (.iastore, 1) := dk_79 (dk_at dksX1_feed_1 3 rfl rfl)
theorem dX1_feed_28 : decode cX1_feed 28 = .ok (.dup, 1) := dk_89 (dk_at dksX1_feed_1 4 rfl rfl)
theorem dX1_feed_29 : decode cX1_feed 29 = .ok (.iconst 2, 1) := dk_5 (dk_at dksX1_feed_1 5 rfl rfl)
theorem dX1_feed_30 : decode cX1_feed 30 = .ok (.iload_n 3, 1) := dk_29 (dk_at dksX1_feed_1 6 rfl rfl)
theorem dX1_feed_31 : decode cX1_feed 31 = .ok (.iastore, 1) := dk_79 (dk_at dksX1_feed_1 7 rfl rfl)
theorem dX1_feed_32 : decode cX1_feed 32 = .ok (.dup, 1) := dk_89 (dk_at dksX1_feed_1 8 rfl rfl)
theorem dX1_feed_33 : decode cX1_feed 33 = .ok (.iconst 3, 1) := dk_6 (dk_at dksX1_feed_1 9 rfl rfl)
theorem dX1_feed_34 : decode cX1_feed 34 = .ok (.iload 4, 2) := dk_21 4 (dk_at dksX1_feed_1 10 rfl rfl)
theorem dX1_feed_36 : decode cX1_feed 36 = .ok (.iastore, 1) := dk_79 (dk_at dksX1_feed_1 12 rfl rfl)
theorem dX1_feed_37 : decode cX1_feed 37 = .ok (.dup, 1) := dk_89 (dk_at dksX1_feed_1 13 rfl rfl)
theorem dX1_feed_38 : decode cX1_feed 38 = .ok (.iconst 4, 1) := dk_7 (dk_at dksX1_feed_1 14 rfl rfl)
theorem dX1_feed_39 : decode cX1_feed 39 = .ok (.iload 5, 2) := dk_21 5 (dk_at dksX1_feed_1 15 rfl rfl)
theorem dX1_feed_41 : decode cX1_feed 41 = .ok (.iastore, 1) := dk_79 (dk_at dksX1_feed_1 17 rfl rfl)
theorem dX1_feed_42 : decode cX1_feed 42 = .ok (.invokevirtual 61, 3) := dk_182 0 61 (dk_at dksX1_feed_1 18 rfl rfl)
theorem dX1_feed_45 : decode cX1_feed 45 = .ok (.aload_n 0, 1) := dk_42 (dk_at dksX1_feed_1 21 rfl rfl)
theorem dX1_feed_46 : decode cX1_feed 46 = .ok (.getfield 58, 3) := dk_180 0 58 (dk_at dksX1_feed_2 0 rfl rfl)
theorem dX1_feed_49 : decode cX1_feed 49 = .ok (.ireturn, 1) := dk_172 (dk_at dksX1_feed_2 3 rfl rfl)
abbrev cX1_append : ByteArray := prog_1_method_12_code
def yX1_append : MethodName := ⟨RX1, "append", "([I)V"⟩
def dkwX1_append_2 : List UInt8 := [180, 0, 58, 4, 96, 181, 0, 58, 132, 6, 248, 167, 255, 223, 132, 4, 1, 167, 255, 201, 177]
abbrev dktX1_append_2 : List UInt8 := dkwX1_append_2 ++ []
def dkwX1_append_1 : List UInt8 := [21, 6, 155, 0, 34, 42, 180, 0, 21, 42, 180, 0, 58, 21, 5, 21, 6, 122, 145, 84, 42, 89]
abbrev dktX1_append_1 : List UInt8 := dkwX1_append_1 ++ dktX1_append_2
def dkwX1_append_0 : List UInt8 := [43, 77, 44, 190, 62, 3, 54, 4, 21, 4, 29, 162, 0, 55, 44, 21, 4, 46, 54, 5, 16, 24, 54, 6]
abbrev dktX1_append_0 : List UInt8 := dkwX1_append_0 ++ dktX1_append_1
theorem dksX1_append_0 : cX1_append.data.toList.drop 0 = dktX1_append_0 := by decide +kernel
theorem dksX1_append_1 : cX1_append.data.toList.drop 24 = dktX1_append_1 := dk_seg dksX1_append_0 24 rfl rfl
theorem dksX1_append_2 : cX1_append.data.toList.drop 46 = dktX1_append_2 := dk_seg dksX1_append_1 22 rfl rfl
theorem dX1_append_0 : decode cX1_append 0 = .ok (.aload_n 1, 1) := dk_43 (dk_at dksX1_append_0 0 rfl rfl)
theorem dX1_append_1 : decode cX1_append 1 = .ok (.astore_n 2, 1) := dk_77 (dk_at dksX1_append_0 1 rfl rfl)
theorem dX1_append_2 : decode cX1_append 2 = .ok (.aload_n 2, 1) := dk_44 (dk_at dksX1_append_0 2 rfl rfl)
theorem dX1_append_3 : decode cX1_append 3 = .ok (.arraylength, 1) := dk_190 (dk_at dksX1_append_0 3 rfl rfl)
theorem dX1_append_4 : decode cX1_append 4 = .ok (.istore_n 3, 1) := dk_62 (dk_at dksX1_append_0 4 rfl rfl)
theorem dX1_append_5 : decode cX1_append 5 = .ok (.iconst 0, 1) := dk_3 (dk_at dksX1_append_0 5 rfl rfl)
theorem dX1_append_6 : decode cX1_append 6 = .ok (.istore 4, 2) := dk_54 4 (dk_at dksX1_append_0 6 rfl rfl)
theorem dX1_append_8 : decode cX1_append 8 = .ok (.iload 4, 2) := dk_21 4 (dk_at dksX1_append_0 8 rfl rfl)
theorem dX1_append_10 : decode cX1_append 10 = .ok (.iload_n 3, 1) := dk_29 (dk_at dksX1_append_0 10 rfl rfl)
theorem dX1_append_11 : decode cX1_append 11 = .ok (.if_icmp .ge 55, 3) := dk_162 0 55 (dk_at dksX1_append_0 11 rfl rfl)
theorem dX1_append_14 : decode cX1_append 14 = .ok (.aload_n 2, 1) := dk_44 (dk_at dksX1_append_0 14 rfl rfl)
theorem dX1_append_15 : decode cX1_append 15 = .ok (.iload 4, 2) := dk_21 4 (dk_at dksX1_append_0 15 rfl rfl)
theorem dX1_append_17 : decode cX1_append 17 = .ok (.iaload, 1) := dk_46 (dk_at dksX1_append_0 17 rfl rfl)
theorem dX1_append_18 : decode cX1_append 18 = .ok (.istore 5, 2) := dk_54 5 (dk_at dksX1_append_0 18 rfl rfl)
theorem dX1_append_20 : decode cX1_append 20 = .ok (.bipush 24, 2) := dk_16 24 (dk_at dksX1_append_0 20 rfl rfl)
theorem dX1_append_22 : decode cX1_append 22 = .ok (.istore 6, 2) := dk_54 6 (dk_at dksX1_append_0 22 rfl rfl)
theorem dX1_append_24 : decode cX1_append 24 = .ok (.iload 6, 2) := dk_21 6 (dk_at dksX1_append_1 0 rfl rfl)
theorem dX1_append_26 : decode cX1_append 26 = .ok (.ifCond .lt 34, 3) := dk_155 0 34 (dk_at dksX1_append_1 2 rfl rfl)
theorem dX1_append_29 : decode cX1_append 29 = .ok (.aload_n 0, 1) := dk_42 (dk_at dksX1_append_1 5 rfl rfl)
theorem dX1_append_30 : decode cX1_append 30 = .ok (.getfield 21, 3) := dk_180 0 21 (dk_at dksX1_append_1 6 rfl rfl)
theorem dX1_append_33 : decode cX1_append 33 = .ok (.aload_n 0, 1) := dk_42 (dk_at dksX1_append_1 9 rfl rfl)
theorem dX1_append_34 : decode cX1_append 34 = .ok (.getfield 58, 3) := dk_180 0 58 (dk_at dksX1_append_1 10 rfl rfl)
theorem dX1_append_37 : decode cX1_append 37 = .ok (.iload 5, 2) := dk_21 5 (dk_at dksX1_append_1 13 rfl rfl)
theorem dX1_append_39 : decode cX1_append 39 = .ok (.iload 6, 2) := dk_21 6 (dk_at dksX1_append_1 15 rfl rfl)
theorem dX1_append_41 : decode cX1_append 41 = .ok (.ishr, 1) := dk_122 (dk_at dksX1_append_1 17 rfl rfl)
theorem dX1_append_42 : decode cX1_append 42 = .ok (.i2b, 1) := dk_145 (dk_at dksX1_append_1 18 rfl rfl)
theorem dX1_append_43 : decode cX1_append 43 = .ok (.bastore, 1) := dk_84 (dk_at dksX1_append_1 19 rfl rfl)
theorem dX1_append_44 : decode cX1_append 44 = .ok (.aload_n 0, 1) := dk_42 (dk_at dksX1_append_1 20 rfl rfl)
theorem dX1_append_45 : decode cX1_append 45 = .ok (.dup, 1) := dk_89 (dk_at dksX1_append_1 21 rfl rfl)
theorem dX1_append_46 : decode cX1_append 46 = .ok (.getfield 58, 3) := dk_180 0 58 (dk_at dksX1_append_2 0 rfl rfl)
theorem dX1_append_49 : decode cX1_append 49 = .ok (.iconst 1, 1) := dk_4 (dk_at dksX1_append_2 3 rfl rfl)
theorem dX1_append_50 : decode cX1_append 50 = .ok (.iadd, 1) := dk_96 (dk_at dksX1_append_2 4 rfl rfl)
theorem dX1_append_51 : decode cX1_append 51 = .ok (.putfield 58, 3) := dk_181 0 58 (dk_at dksX1_append_2 5 rfl rfl)
theorem dX1_append_54 : decode cX1_append 54 = .ok (.iinc 6 (-8), 3) := dk_132 6 248 (dk_at dksX1_append_2 8 rfl rfl)
theorem dX1_append_57 : decode cX1_append 57 = .ok (.goto (-33), 3) := dk_167 255 223 (dk_at dksX1_append_2 11 rfl rfl)
theorem dX1_append_60 : decode cX1_append 60 = .ok (.iinc 4 1, 3) := dk_132 4 1 (dk_at dksX1_append_2 14 rfl rfl)
theorem dX1_append_63 : decode cX1_append 63 = .ok (.goto (-55), 3) := dk_167 255 201 (dk_at dksX1_append_2 17 rfl rfl)
theorem dX1_append_66 : decode cX1_append 66 = .ok (.return_, 1) := dk_177 (dk_at dksX1_append_2 20 rfl rfl)
abbrev cX1_errorKind : ByteArray := prog_1_method_16_code
def yX1_errorKind : MethodName := ⟨RX1, "errorKind", "()I"⟩
theorem dX1_errorKind_0 : decode cX1_errorKind 0 = .ok (.aload_n 0, 1) := by decide +kernel
theorem dX1_errorKind_1 : decode cX1_errorKind 1 = .ok (.getfield 72, 3) := by decide +kernel
theorem dX1_errorKind_4 : decode cX1_errorKind 4 = .ok (.ireturn, 1) := by decide +kernel
abbrev cX1_errorPosition : ByteArray := prog_1_method_17_code
def yX1_errorPosition : MethodName := ⟨RX1, "errorPosition", "()I"⟩
theorem dX1_errorPosition_0 : decode cX1_errorPosition 0 = .ok (.aload_n 0, 1) := by decide +kernel
theorem dX1_errorPosition_1 : decode cX1_errorPosition 1 = .ok (.getfield 50, 3) := by decide +kernel
theorem dX1_errorPosition_4 : decode cX1_errorPosition 4 = .ok (.ireturn, 1) := by decide +kernel
abbrev cX1_total : ByteArray := prog_1_method_42_code
def yX1_total : MethodName := ⟨RX1, "total", "()I"⟩
def dkwX1_total_0 : List UInt8 := [42, 180, 0, 39, 182, 1, 12, 172]
abbrev dktX1_total_0 : List UInt8 := dkwX1_total_0 ++ []
theorem dksX1_total_0 : cX1_total.data.toList.drop 0 = dktX1_total_0 := by decide +kernel
theorem dX1_total_0 : decode cX1_total 0 = .ok (.aload_n 0, 1) := dk_42 (dk_at dksX1_total_0 0 rfl rfl)
theorem dX1_total_1 : decode cX1_total 1 = .ok (.getfield 39, 3) := dk_180 0 39 (dk_at dksX1_total_0 1 rfl rfl)
theorem dX1_total_4 : decode cX1_total 4 = .ok (.invokevirtual 268, 3) := dk_182 1 12 (dk_at dksX1_total_0 4 rfl rfl)
theorem dX1_total_7 : decode cX1_total 7 = .ok (.ireturn, 1) := dk_172 (dk_at dksX1_total_0 7 rfl rfl)
abbrev cX1_requireThing : ByteArray := prog_1_method_4_code
def yX1_requireThing : MethodName := ⟨RX1, "requireThing", "(Z)V"⟩
def dkwX1_requireThing_0 : List UInt8 := [26, 154, 0, 11, 187, 0, 10, 89, 183, 0, 12, 191, 177]
abbrev dktX1_requireThing_0 : List UInt8 := dkwX1_requireThing_0 ++ []
theorem dksX1_requireThing_0 : cX1_requireThing.data.toList.drop 0 = dktX1_requireThing_0 := by decide +kernel
theorem dX1_requireThing_0 : decode cX1_requireThing 0 = .ok (.iload_n 0, 1) := dk_26 (dk_at dksX1_requireThing_0 0 rfl rfl)
theorem dX1_requireThing_1 : decode cX1_requireThing 1 = .ok (.ifCond .ne 11, 3) := dk_154 0 11 (dk_at dksX1_requireThing_0 1 rfl rfl)
theorem dX1_requireThing_4 : decode cX1_requireThing 4 = .ok (.new 10, 3) := dk_187 0 10 (dk_at dksX1_requireThing_0 4 rfl rfl)
theorem dX1_requireThing_7 : decode cX1_requireThing 7 = .ok (.dup, 1) := dk_89 (dk_at dksX1_requireThing_0 7 rfl rfl)
theorem dX1_requireThing_8 : decode cX1_requireThing 8 = .ok (.invokespecial 12, 3) := dk_183 0 12 (dk_at dksX1_requireThing_0 8 rfl rfl)
theorem dX1_requireThing_11 : decode cX1_requireThing 11 = .ok (.athrow, 1) := dk_191 (dk_at dksX1_requireThing_0 11 rfl rfl)
theorem dX1_requireThing_12 : decode cX1_requireThing 12 = .ok (.return_, 1) := dk_177 (dk_at dksX1_requireThing_0 12 rfl rfl)
abbrev cX1_mutual : ByteArray := prog_1_method_47_code
def yX1_mutual : MethodName := ⟨RX1, "mutual", "()I"⟩
def dkwX1_mutual_3 : List UInt8 := [167, 255, 190, 27, 172]
abbrev dktX1_mutual_3 : List UInt8 := dkwX1_mutual_3 ++ []
def dkwX1_mutual_2 : List UInt8 := [182, 1, 22, 158, 0, 7, 4, 167, 0, 4, 3, 96, 60, 132, 3, 1, 167, 255, 214, 132, 2, 1]
abbrev dktX1_mutual_2 : List UInt8 := dkwX1_mutual_2 ++ dktX1_mutual_3
def dkwX1_mutual_1 : List UInt8 := [162, 0, 43, 27, 42, 180, 0, 39, 28, 29, 2, 182, 1, 22, 158, 0, 20, 42, 180, 0, 39, 29, 28, 2]
abbrev dktX1_mutual_1 : List UInt8 := dkwX1_mutual_1 ++ dktX1_mutual_2
def dkwX1_mutual_0 : List UInt8 := [3, 60, 3, 61, 28, 42, 180, 0, 39, 180, 0, 120, 185, 0, 108, 1, 0, 162, 0, 56, 3, 62, 29, 28]
abbrev dktX1_mutual_0 : List UInt8 := dkwX1_mutual_0 ++ dktX1_mutual_1
theorem dksX1_mutual_0 : cX1_mutual.data.toList.drop 0 = dktX1_mutual_0 := by decide +kernel
theorem dksX1_mutual_1 : cX1_mutual.data.toList.drop 24 = dktX1_mutual_1 := dk_seg dksX1_mutual_0 24 rfl rfl
theorem dksX1_mutual_2 : cX1_mutual.data.toList.drop 48 = dktX1_mutual_2 := dk_seg dksX1_mutual_1 24 rfl rfl
theorem dksX1_mutual_3 : cX1_mutual.data.toList.drop 70 = dktX1_mutual_3 := dk_seg dksX1_mutual_2 22 rfl rfl
theorem dX1_mutual_0 : decode cX1_mutual 0 = .ok (.iconst 0, 1) := dk_3 (dk_at dksX1_mutual_0 0 rfl rfl)
theorem dX1_mutual_1 : decode cX1_mutual 1 = .ok (.istore_n 1, 1) := dk_60 (dk_at dksX1_mutual_0 1 rfl rfl)
theorem dX1_mutual_2 : decode cX1_mutual 2 = .ok (.iconst 0, 1) := dk_3 (dk_at dksX1_mutual_0 2 rfl rfl)
theorem dX1_mutual_3 : decode cX1_mutual 3 = .ok (.istore_n 2, 1) := dk_61 (dk_at dksX1_mutual_0 3 rfl rfl)
theorem dX1_mutual_4 : decode cX1_mutual 4 = .ok (.iload_n 2, 1) := dk_28 (dk_at dksX1_mutual_0 4 rfl rfl)
theorem dX1_mutual_5 : decode cX1_mutual 5 = .ok (.aload_n 0, 1) := dk_42 (dk_at dksX1_mutual_0 5 rfl rfl)
theorem dX1_mutual_6 : decode cX1_mutual 6 = .ok (.getfield 39, 3) := dk_180 0 39 (dk_at dksX1_mutual_0 6 rfl rfl)
theorem dX1_mutual_9 : decode cX1_mutual 9 = .ok (.getfield 120, 3) := dk_180 0 120 (dk_at dksX1_mutual_0 9 rfl rfl)
theorem dX1_mutual_12 : decode cX1_mutual 12 = .ok (.invokeinterface 108 1, 5) := by decide +kernel
theorem dX1_mutual_17 : decode cX1_mutual 17 = .ok (.if_icmp .ge 56, 3) := dk_162 0 56 (dk_at dksX1_mutual_0 17 rfl rfl)
theorem dX1_mutual_20 : decode cX1_mutual 20 = .ok (.iconst 0, 1) := dk_3 (dk_at dksX1_mutual_0 20 rfl rfl)
theorem dX1_mutual_21 : decode cX1_mutual 21 = .ok (.istore_n 3, 1) := dk_62 (dk_at dksX1_mutual_0 21 rfl rfl)
theorem dX1_mutual_22 : decode cX1_mutual 22 = .ok (.iload_n 3, 1) := dk_29 (dk_at dksX1_mutual_0 22 rfl rfl)
theorem dX1_mutual_23 : decode cX1_mutual 23 = .ok (.iload_n 2, 1) := dk_28 (dk_at dksX1_mutual_0 23 rfl rfl)
theorem dX1_mutual_24 : decode cX1_mutual 24 = .ok (.if_icmp .ge 43, 3) := dk_162 0 43 (dk_at dksX1_mutual_1 0 rfl rfl)
theorem dX1_mutual_27 : decode cX1_mutual 27 = .ok (.iload_n 1, 1) := dk_27 (dk_at dksX1_mutual_1 3 rfl rfl)
theorem dX1_mutual_28 : decode cX1_mutual 28 = .ok (.aload_n 0, 1) := dk_42 (dk_at dksX1_mutual_1 4 rfl rfl)
theorem dX1_mutual_29 : decode cX1_mutual 29 = .ok (.getfield 39, 3) := dk_180 0 39 (dk_at dksX1_mutual_1 5 rfl rfl)
theorem dX1_mutual_32 : decode cX1_mutual 32 = .ok (.iload_n 2, 1) := dk_28 (dk_at dksX1_mutual_1 8 rfl rfl)
theorem dX1_mutual_33 : decode cX1_mutual 33 = .ok (.iload_n 3, 1) := dk_29 (dk_at dksX1_mutual_1 9 rfl rfl)
theorem dX1_mutual_34 : decode cX1_mutual 34 = .ok (.iconst (-1), 1) := dk_2 (dk_at dksX1_mutual_1 10 rfl rfl)
theorem dX1_mutual_35 : decode cX1_mutual 35 = .ok (.invokevirtual 278, 3) := dk_182 1 22 (dk_at dksX1_mutual_1 11 rfl rfl)
theorem dX1_mutual_38 : decode cX1_mutual 38 = .ok (.ifCond .le 20, 3) := dk_158 0 20 (dk_at dksX1_mutual_1 14 rfl rfl)
theorem dX1_mutual_41 : decode cX1_mutual 41 = .ok (.aload_n 0, 1) := dk_42 (dk_at dksX1_mutual_1 17 rfl rfl)
theorem dX1_mutual_42 : decode cX1_mutual 42 = .ok (.getfield 39, 3) := dk_180 0 39 (dk_at dksX1_mutual_1 18 rfl rfl)
theorem dX1_mutual_45 : decode cX1_mutual 45 = .ok (.iload_n 3, 1) := dk_29 (dk_at dksX1_mutual_1 21 rfl rfl)
theorem dX1_mutual_46 : decode cX1_mutual 46 = .ok (.iload_n 2, 1) := dk_28 (dk_at dksX1_mutual_1 22 rfl rfl)
theorem dX1_mutual_47 : decode cX1_mutual 47 = .ok (.iconst (-1), 1) := dk_2 (dk_at dksX1_mutual_1 23 rfl rfl)
theorem dX1_mutual_48 : decode cX1_mutual 48 = .ok (.invokevirtual 278, 3) := dk_182 1 22 (dk_at dksX1_mutual_2 0 rfl rfl)
theorem dX1_mutual_51 : decode cX1_mutual 51 = .ok (.ifCond .le 7, 3) := dk_158 0 7 (dk_at dksX1_mutual_2 3 rfl rfl)
theorem dX1_mutual_54 : decode cX1_mutual 54 = .ok (.iconst 1, 1) := dk_4 (dk_at dksX1_mutual_2 6 rfl rfl)
theorem dX1_mutual_55 : decode cX1_mutual 55 = .ok (.goto 4, 3) := dk_167 0 4 (dk_at dksX1_mutual_2 7 rfl rfl)
theorem dX1_mutual_58 : decode cX1_mutual 58 = .ok (.iconst 0, 1) := dk_3 (dk_at dksX1_mutual_2 10 rfl rfl)
theorem dX1_mutual_59 : decode cX1_mutual 59 = .ok (.iadd, 1) := dk_96 (dk_at dksX1_mutual_2 11 rfl rfl)
theorem dX1_mutual_60 : decode cX1_mutual 60 = .ok (.istore_n 1, 1) := dk_60 (dk_at dksX1_mutual_2 12 rfl rfl)
theorem dX1_mutual_61 : decode cX1_mutual 61 = .ok (.iinc 3 1, 3) := dk_132 3 1 (dk_at dksX1_mutual_2 13 rfl rfl)
theorem dX1_mutual_64 : decode cX1_mutual 64 = .ok (.goto (-42), 3) := dk_167 255 214 (dk_at dksX1_mutual_2 16 rfl rfl)
theorem dX1_mutual_67 : decode cX1_mutual 67 = .ok (.iinc 2 1, 3) := dk_132 2 1 (dk_at dksX1_mutual_2 19 rfl rfl)
theorem dX1_mutual_70 : decode cX1_mutual 70 = .ok (.goto (-66), 3) := dk_167 255 190 (dk_at dksX1_mutual_3 0 rfl rfl)
theorem dX1_mutual_73 : decode cX1_mutual 73 = .ok (.iload_n 1, 1) := dk_27 (dk_at dksX1_mutual_3 3 rfl rfl)
theorem dX1_mutual_74 : decode cX1_mutual 74 = .ok (.ireturn, 1) := dk_172 (dk_at dksX1_mutual_3 4 rfl rfl)
abbrev cX1_undo : ByteArray := prog_1_method_70_code
def yX1_undo : MethodName := ⟨RX1, "undo", "()I"⟩
def dkwX1_undo_1 : List UInt8 := [181, 0, 39, 42, 180, 0, 46, 182, 1, 83, 172]
abbrev dktX1_undo_1 : List UInt8 := dkwX1_undo_1 ++ []
def dkwX1_undo_0 : List UInt8 := [42, 180, 0, 46, 182, 1, 124, 153, 0, 5, 2, 172, 42, 42, 180, 0, 46, 182, 1, 127, 192, 0, 36]
abbrev dktX1_undo_0 : List UInt8 := dkwX1_undo_0 ++ dktX1_undo_1
theorem dksX1_undo_0 : cX1_undo.data.toList.drop 0 = dktX1_undo_0 := by decide +kernel
theorem dksX1_undo_1 : cX1_undo.data.toList.drop 23 = dktX1_undo_1 := dk_seg dksX1_undo_0 23 rfl rfl
theorem dX1_undo_0 : decode cX1_undo 0 = .ok (.aload_n 0, 1) := dk_42 (dk_at dksX1_undo_0 0 rfl rfl)
theorem dX1_undo_1 : decode cX1_undo 1 = .ok (.getfield 46, 3) := dk_180 0 46 (dk_at dksX1_undo_0 1 rfl rfl)
theorem dX1_undo_4 : decode cX1_undo 4 = .ok (.invokevirtual 380, 3) := dk_182 1 124 (dk_at dksX1_undo_0 4 rfl rfl)
theorem dX1_undo_7 : decode cX1_undo 7 = .ok (.ifCond .eq 5, 3) := dk_153 0 5 (dk_at dksX1_undo_0 7 rfl rfl)
theorem dX1_undo_10 : decode cX1_undo 10 = .ok (.iconst (-1), 1) := dk_2 (dk_at dksX1_undo_0 10 rfl rfl)
theorem dX1_undo_11 : decode cX1_undo 11 = .ok (.ireturn, 1) := dk_172 (dk_at dksX1_undo_0 11 rfl rfl)
theorem dX1_undo_12 : decode cX1_undo 12 = .ok (.aload_n 0, 1) := dk_42 (dk_at dksX1_undo_0 12 rfl rfl)
theorem dX1_undo_13 : decode cX1_undo 13 = .ok (.aload_n 0, 1) := dk_42 (dk_at dksX1_undo_0 13 rfl rfl)
theorem dX1_undo_14 : decode cX1_undo 14 = .ok (.getfield 46, 3) := dk_180 0 46 (dk_at dksX1_undo_0 14 rfl rfl)
theorem dX1_undo_17 : decode cX1_undo 17 = .ok (.invokevirtual 383, 3) := dk_182 1 127 (dk_at dksX1_undo_0 17 rfl rfl)
theorem dX1_undo_20 : decode cX1_undo 20 = .ok (.checkcast 36, 3) := dk_192 0 36 (dk_at dksX1_undo_0 20 rfl rfl)
theorem dX1_undo_23 : decode cX1_undo 23 = .ok (.putfield 39, 3) := dk_181 0 39 (dk_at dksX1_undo_1 0 rfl rfl)
theorem dX1_undo_26 : decode cX1_undo 26 = .ok (.aload_n 0, 1) := dk_42 (dk_at dksX1_undo_1 3 rfl rfl)
theorem dX1_undo_27 : decode cX1_undo 27 = .ok (.getfield 46, 3) := dk_180 0 46 (dk_at dksX1_undo_1 4 rfl rfl)
theorem dX1_undo_30 : decode cX1_undo 30 = .ok (.invokevirtual 339, 3) := dk_182 1 83 (dk_at dksX1_undo_1 7 rfl rfl)
theorem dX1_undo_33 : decode cX1_undo 33 = .ok (.ireturn, 1) := dk_172 (dk_at dksX1_undo_1 10 rfl rfl)
abbrev cX1_load : ByteArray := prog_1_method_14_code
def yX1_load : MethodName := ⟨RX1, "load", "(I)I"⟩
def dkwX1_load_1 : List UInt8 := [181, 0, 39, 42, 180, 0, 46, 182, 0, 101, 42, 180, 0, 39, 180, 0, 104, 185, 0, 108, 1, 0, 172]
abbrev dktX1_load_1 : List UInt8 := dkwX1_load_1 ++ []
def dkwX1_load_0 : List UInt8 := [42, 27, 187, 0, 36, 89, 183, 0, 38, 182, 0, 97, 77, 44, 199, 0, 6, 16, 253, 172, 42, 44]
abbrev dktX1_load_0 : List UInt8 := dkwX1_load_0 ++ dktX1_load_1
theorem dksX1_load_0 : cX1_load.data.toList.drop 0 = dktX1_load_0 := by decide +kernel
theorem dksX1_load_1 : cX1_load.data.toList.drop 22 = dktX1_load_1 := dk_seg dksX1_load_0 22 rfl rfl
theorem dX1_load_0 : decode cX1_load 0 = .ok (.aload_n 0, 1) := dk_42 (dk_at dksX1_load_0 0 rfl rfl)
theorem dX1_load_1 : decode cX1_load 1 = .ok (.iload_n 1, 1) := dk_27 (dk_at dksX1_load_0 1 rfl rfl)
theorem dX1_load_2 : decode cX1_load 2 = .ok (.new 36, 3) := dk_187 0 36 (dk_at dksX1_load_0 2 rfl rfl)
theorem dX1_load_5 : decode cX1_load 5 = .ok (.dup, 1) := dk_89 (dk_at dksX1_load_0 5 rfl rfl)
theorem dX1_load_6 : decode cX1_load 6 = .ok (.invokespecial 38, 3) := dk_183 0 38 (dk_at dksX1_load_0 6 rfl rfl)
theorem dX1_load_9 : decode cX1_load 9 = .ok (.invokevirtual 97, 3) := dk_182 0 97 (dk_at dksX1_load_0 9 rfl rfl)
theorem dX1_load_12 : decode cX1_load 12 = .ok (.astore_n 2, 1) := dk_77 (dk_at dksX1_load_0 12 rfl rfl)
theorem dX1_load_13 : decode cX1_load 13 = .ok (.aload_n 2, 1) := dk_44 (dk_at dksX1_load_0 13 rfl rfl)
theorem dX1_load_14 : decode cX1_load 14 = .ok (.ifnonnull 6, 3) := dk_199 0 6 (dk_at dksX1_load_0 14 rfl rfl)
theorem dX1_load_17 : decode cX1_load 17 = .ok (.bipush (-3), 2) := dk_16 253 (dk_at dksX1_load_0 17 rfl rfl)
theorem dX1_load_19 : decode cX1_load 19 = .ok (.ireturn, 1) := dk_172 (dk_at dksX1_load_0 19 rfl rfl)
theorem dX1_load_20 : decode cX1_load 20 = .ok (.aload_n 0, 1) := dk_42 (dk_at dksX1_load_0 20 rfl rfl)
theorem dX1_load_21 : decode cX1_load 21 = .ok (.aload_n 2, 1) := dk_44 (dk_at dksX1_load_0 21 rfl rfl)
theorem dX1_load_22 : decode cX1_load 22 = .ok (.putfield 39, 3) := dk_181 0 39 (dk_at dksX1_load_1 0 rfl rfl)
theorem dX1_load_25 : decode cX1_load 25 = .ok (.aload_n 0, 1) := dk_42 (dk_at dksX1_load_1 3 rfl rfl)
theorem dX1_load_26 : decode cX1_load 26 = .ok (.getfield 46, 3) := dk_180 0 46 (dk_at dksX1_load_1 4 rfl rfl)
theorem dX1_load_29 : decode cX1_load 29 = .ok (.invokevirtual 101, 3) := dk_182 0 101 (dk_at dksX1_load_1 7 rfl rfl)
theorem dX1_load_32 : decode cX1_load 32 = .ok (.aload_n 0, 1) := dk_42 (dk_at dksX1_load_1 10 rfl rfl)
theorem dX1_load_33 : decode cX1_load 33 = .ok (.getfield 39, 3) := dk_180 0 39 (dk_at dksX1_load_1 11 rfl rfl)
theorem dX1_load_36 : decode cX1_load 36 = .ok (.getfield 104, 3) := dk_180 0 104 (dk_at dksX1_load_1 14 rfl rfl)
theorem dX1_load_39 : decode cX1_load 39 = .ok (.invokeinterface 108 1, 5) := by decide +kernel
theorem dX1_load_44 : decode cX1_load 44 = .ok (.ireturn, 1) := dk_172 (dk_at dksX1_load_1 22 rfl rfl)
abbrev cX1_read : ByteArray := prog_1_method_13_code
def yX1_read : MethodName := ⟨RX1, "read", "(ILTranslationBureau$Office;)LTranslationBureau$Office;"⟩
def dkwX1_read_2 : List UInt8 := [181, 0, 72, 42, 45, 182, 0, 94, 181, 0, 50, 1, 176]
abbrev dktX1_read_2 : List UInt8 := dkwX1_read_2 ++ []
def dkwX1_read_1 : List UInt8 := [181, 0, 50, 187, 0, 75, 89, 42, 27, 44, 183, 0, 77, 182, 0, 80, 176, 78, 42, 45, 182, 0, 88]
abbrev dktX1_read_1 : List UInt8 := dkwX1_read_1 ++ dktX1_read_2
def dkwX1_read_0 : List UInt8 := [27, 3, 42, 180, 0, 58, 184, 0, 64, 184, 0, 68, 42, 3, 181, 0, 58, 42, 3, 181, 0, 72, 42, 2]
abbrev dktX1_read_0 : List UInt8 := dkwX1_read_0 ++ dktX1_read_1
theorem dksX1_read_0 : cX1_read.data.toList.drop 0 = dktX1_read_0 := by decide +kernel
theorem dksX1_read_1 : cX1_read.data.toList.drop 24 = dktX1_read_1 := dk_seg dksX1_read_0 24 rfl rfl
theorem dksX1_read_2 : cX1_read.data.toList.drop 47 = dktX1_read_2 := dk_seg dksX1_read_1 23 rfl rfl
theorem dX1_read_0 : decode cX1_read 0 = .ok (.iload_n 1, 1) := dk_27 (dk_at dksX1_read_0 0 rfl rfl)
theorem dX1_read_1 : decode cX1_read 1 = .ok (.iconst 0, 1) := dk_3 (dk_at dksX1_read_0 1 rfl rfl)
theorem dX1_read_2 : decode cX1_read 2 = .ok (.aload_n 0, 1) := dk_42 (dk_at dksX1_read_0 2 rfl rfl)
theorem dX1_read_3 : decode cX1_read 3 = .ok (.getfield 58, 3) := dk_180 0 58 (dk_at dksX1_read_0 3 rfl rfl)
theorem dX1_read_6 : decode cX1_read 6 = .ok (.invokestatic 64, 3) := dk_184 0 64 (dk_at dksX1_read_0 6 rfl rfl)
theorem dX1_read_9 : decode cX1_read 9 = .ok (.invokestatic 68, 3) := dk_184 0 68 (dk_at dksX1_read_0 9 rfl rfl)
theorem dX1_read_12 : decode cX1_read 12 = .ok (.aload_n 0, 1) := dk_42 (dk_at dksX1_read_0 12 rfl rfl)
theorem dX1_read_13 : decode cX1_read 13 = .ok (.iconst 0, 1) := dk_3 (dk_at dksX1_read_0 13 rfl rfl)
theorem dX1_read_14 : decode cX1_read 14 = .ok (.putfield 58, 3) := dk_181 0 58 (dk_at dksX1_read_0 14 rfl rfl)
theorem dX1_read_17 : decode cX1_read 17 = .ok (.aload_n 0, 1) := dk_42 (dk_at dksX1_read_0 17 rfl rfl)
theorem dX1_read_18 : decode cX1_read 18 = .ok (.iconst 0, 1) := dk_3 (dk_at dksX1_read_0 18 rfl rfl)
theorem dX1_read_19 : decode cX1_read 19 = .ok (.putfield 72, 3) := dk_181 0 72 (dk_at dksX1_read_0 19 rfl rfl)
theorem dX1_read_22 : decode cX1_read 22 = .ok (.aload_n 0, 1) := dk_42 (dk_at dksX1_read_0 22 rfl rfl)
theorem dX1_read_23 : decode cX1_read 23 = .ok (.iconst (-1), 1) := dk_2 (dk_at dksX1_read_0 23 rfl rfl)
theorem dX1_read_24 : decode cX1_read 24 = .ok (.putfield 50, 3) := dk_181 0 50 (dk_at dksX1_read_1 0 rfl rfl)
theorem dX1_read_27 : decode cX1_read 27 = .ok (.new 75, 3) := dk_187 0 75 (dk_at dksX1_read_1 3 rfl rfl)
theorem dX1_read_30 : decode cX1_read 30 = .ok (.dup, 1) := dk_89 (dk_at dksX1_read_1 6 rfl rfl)
theorem dX1_read_31 : decode cX1_read 31 = .ok (.aload_n 0, 1) := dk_42 (dk_at dksX1_read_1 7 rfl rfl)
theorem dX1_read_32 : decode cX1_read 32 = .ok (.iload_n 1, 1) := dk_27 (dk_at dksX1_read_1 8 rfl rfl)
theorem dX1_read_33 : decode cX1_read 33 = .ok (.aload_n 2, 1) := dk_44 (dk_at dksX1_read_1 9 rfl rfl)
theorem dX1_read_34 : decode cX1_read 34 = .ok (.invokespecial 77, 3) := dk_183 0 77 (dk_at dksX1_read_1 10 rfl rfl)
theorem dX1_read_37 : decode cX1_read 37 = .ok (.invokevirtual 80, 3) := dk_182 0 80 (dk_at dksX1_read_1 13 rfl rfl)
theorem dX1_read_40 : decode cX1_read 40 = .ok (.areturn, 1) := dk_176 (dk_at dksX1_read_1 16 rfl rfl)
theorem dX1_read_41 : decode cX1_read 41 = .ok (.astore_n 3, 1) := dk_78 (dk_at dksX1_read_1 17 rfl rfl)
theorem dX1_read_42 : decode cX1_read 42 = .ok (.aload_n 0, 1) := dk_42 (dk_at dksX1_read_1 18 rfl rfl)
theorem dX1_read_43 : decode cX1_read 43 = .ok (.aload_n 3, 1) := dk_45 (dk_at dksX1_read_1 19 rfl rfl)
theorem dX1_read_44 : decode cX1_read 44 = .ok (.invokevirtual 88, 3) := dk_182 0 88 (dk_at dksX1_read_1 20 rfl rfl)
theorem dX1_read_47 : decode cX1_read 47 = .ok (.putfield 72, 3) := dk_181 0 72 (dk_at dksX1_read_2 0 rfl rfl)
theorem dX1_read_50 : decode cX1_read 50 = .ok (.aload_n 0, 1) := dk_42 (dk_at dksX1_read_2 3 rfl rfl)
theorem dX1_read_51 : decode cX1_read 51 = .ok (.aload_n 3, 1) := dk_45 (dk_at dksX1_read_2 4 rfl rfl)
theorem dX1_read_52 : decode cX1_read 52 = .ok (.invokevirtual 94, 3) := dk_182 0 94 (dk_at dksX1_read_2 5 rfl rfl)
theorem dX1_read_55 : decode cX1_read 55 = .ok (.putfield 50, 3) := dk_181 0 50 (dk_at dksX1_read_2 8 rfl rfl)
theorem dX1_read_58 : decode cX1_read 58 = .ok (.aconst_null, 1) := dk_1 (dk_at dksX1_read_2 11 rfl rfl)
theorem dX1_read_59 : decode cX1_read 59 = .ok (.areturn, 1) := dk_176 (dk_at dksX1_read_2 12 rfl rfl)
abbrev cX1_inRange : ByteArray := prog_1_method_1_code
def yX1_inRange : MethodName := ⟨RX1, "inRange", "(III)Z"⟩
def dkwX1_inRange_0 : List UInt8 := [26, 27, 161, 0, 12, 26, 28, 163, 0, 7, 4, 167, 0, 4, 3, 172]
abbrev dktX1_inRange_0 : List UInt8 := dkwX1_inRange_0 ++ []
theorem dksX1_inRange_0 : cX1_inRange.data.toList.drop 0 = dktX1_inRange_0 := by decide +kernel
theorem dX1_inRange_0 : decode cX1_inRange 0 = .ok (.iload_n 0, 1) := dk_26 (dk_at dksX1_inRange_0 0 rfl rfl)
theorem dX1_inRange_1 : decode cX1_inRange 1 = .ok (.iload_n 1, 1) := dk_27 (dk_at dksX1_inRange_0 1 rfl rfl)
theorem dX1_inRange_2 : decode cX1_inRange 2 = .ok (.if_icmp .lt 12, 3) := dk_161 0 12 (dk_at dksX1_inRange_0 2 rfl rfl)
theorem dX1_inRange_5 : decode cX1_inRange 5 = .ok (.iload_n 0, 1) := dk_26 (dk_at dksX1_inRange_0 5 rfl rfl)
theorem dX1_inRange_6 : decode cX1_inRange 6 = .ok (.iload_n 2, 1) := dk_28 (dk_at dksX1_inRange_0 6 rfl rfl)
theorem dX1_inRange_7 : decode cX1_inRange 7 = .ok (.if_icmp .gt 7, 3) := dk_163 0 7 (dk_at dksX1_inRange_0 7 rfl rfl)
theorem dX1_inRange_10 : decode cX1_inRange 10 = .ok (.iconst 1, 1) := dk_4 (dk_at dksX1_inRange_0 10 rfl rfl)
theorem dX1_inRange_11 : decode cX1_inRange 11 = .ok (.goto 4, 3) := dk_167 0 4 (dk_at dksX1_inRange_0 11 rfl rfl)
theorem dX1_inRange_14 : decode cX1_inRange 14 = .ok (.iconst 0, 1) := dk_3 (dk_at dksX1_inRange_0 14 rfl rfl)
theorem dX1_inRange_15 : decode cX1_inRange 15 = .ok (.ireturn, 1) := dk_172 (dk_at dksX1_inRange_0 15 rfl rfl)
abbrev cX1_requireValue : ByteArray := prog_1_method_3_code
def yX1_requireValue : MethodName := ⟨RX1, "requireValue", "(Z)V"⟩
def dkwX1_requireValue_0 : List UInt8 := [26, 154, 0, 11, 187, 0, 7, 89, 183, 0, 9, 191, 177]
abbrev dktX1_requireValue_0 : List UInt8 := dkwX1_requireValue_0 ++ []
theorem dksX1_requireValue_0 : cX1_requireValue.data.toList.drop 0 = dktX1_requireValue_0 := by decide +kernel
theorem dX1_requireValue_0 : decode cX1_requireValue 0 = .ok (.iload_n 0, 1) := dk_26 (dk_at dksX1_requireValue_0 0 rfl rfl)
theorem dX1_requireValue_1 : decode cX1_requireValue 1 = .ok (.ifCond .ne 11, 3) := dk_154 0 11 (dk_at dksX1_requireValue_0 1 rfl rfl)
theorem dX1_requireValue_4 : decode cX1_requireValue 4 = .ok (.new 7, 3) := dk_187 0 7 (dk_at dksX1_requireValue_0 4 rfl rfl)
theorem dX1_requireValue_7 : decode cX1_requireValue 7 = .ok (.dup, 1) := dk_89 (dk_at dksX1_requireValue_0 7 rfl rfl)
theorem dX1_requireValue_8 : decode cX1_requireValue 8 = .ok (.invokespecial 9, 3) := dk_183 0 9 (dk_at dksX1_requireValue_0 8 rfl rfl)
theorem dX1_requireValue_11 : decode cX1_requireValue 11 = .ok (.athrow, 1) := dk_191 (dk_at dksX1_requireValue_0 11 rfl rfl)
theorem dX1_requireValue_12 : decode cX1_requireValue 12 = .ok (.return_, 1) := dk_177 (dk_at dksX1_requireValue_0 12 rfl rfl)
abbrev cX1_letters : ByteArray := prog_1_method_9_code
def yX1_letters : MethodName := ⟨RX1, "letters", "(II)Ljava/lang/String;"⟩
def dkwX1_letters_1 : List UInt8 := [51, 17, 0, 255, 126, 146, 182, 0, 25, 87, 132, 4, 1, 167, 255, 230, 45, 182, 0, 29, 176]
abbrev dktX1_letters_1 : List UInt8 := dkwX1_letters_1 ++ []
def dkwX1_letters_0 : List UInt8 := [187, 0, 18, 89, 183, 0, 20, 78, 27, 54, 4, 21, 4, 28, 162, 0, 26, 45, 42, 180, 0, 21, 21, 4]
abbrev dktX1_letters_0 : List UInt8 := dkwX1_letters_0 ++ dktX1_letters_1
theorem dksX1_letters_0 : cX1_letters.data.toList.drop 0 = dktX1_letters_0 := by decide +kernel
theorem dksX1_letters_1 : cX1_letters.data.toList.drop 24 = dktX1_letters_1 := dk_seg dksX1_letters_0 24 rfl rfl
theorem dX1_letters_0 : decode cX1_letters 0 = .ok (.new 18, 3) := dk_187 0 18 (dk_at dksX1_letters_0 0 rfl rfl)
theorem dX1_letters_3 : decode cX1_letters 3 = .ok (.dup, 1) := dk_89 (dk_at dksX1_letters_0 3 rfl rfl)
theorem dX1_letters_4 : decode cX1_letters 4 = .ok (.invokespecial 20, 3) := dk_183 0 20 (dk_at dksX1_letters_0 4 rfl rfl)
theorem dX1_letters_7 : decode cX1_letters 7 = .ok (.astore_n 3, 1) := dk_78 (dk_at dksX1_letters_0 7 rfl rfl)
theorem dX1_letters_8 : decode cX1_letters 8 = .ok (.iload_n 1, 1) := dk_27 (dk_at dksX1_letters_0 8 rfl rfl)
theorem dX1_letters_9 : decode cX1_letters 9 = .ok (.istore 4, 2) := dk_54 4 (dk_at dksX1_letters_0 9 rfl rfl)
theorem dX1_letters_11 : decode cX1_letters 11 = .ok (.iload 4, 2) := dk_21 4 (dk_at dksX1_letters_0 11 rfl rfl)
theorem dX1_letters_13 : decode cX1_letters 13 = .ok (.iload_n 2, 1) := dk_28 (dk_at dksX1_letters_0 13 rfl rfl)
theorem dX1_letters_14 : decode cX1_letters 14 = .ok (.if_icmp .ge 26, 3) := dk_162 0 26 (dk_at dksX1_letters_0 14 rfl rfl)
theorem dX1_letters_17 : decode cX1_letters 17 = .ok (.aload_n 3, 1) := dk_45 (dk_at dksX1_letters_0 17 rfl rfl)
theorem dX1_letters_18 : decode cX1_letters 18 = .ok (.aload_n 0, 1) := dk_42 (dk_at dksX1_letters_0 18 rfl rfl)
theorem dX1_letters_19 : decode cX1_letters 19 = .ok (.getfield 21, 3) := dk_180 0 21 (dk_at dksX1_letters_0 19 rfl rfl)
theorem dX1_letters_22 : decode cX1_letters 22 = .ok (.iload 4, 2) := dk_21 4 (dk_at dksX1_letters_0 22 rfl rfl)
theorem dX1_letters_24 : decode cX1_letters 24 = .ok (.baload, 1) := dk_51 (dk_at dksX1_letters_1 0 rfl rfl)
theorem dX1_letters_25 : decode cX1_letters 25 = .ok (.sipush 255, 3) := dk_17 0 255 (dk_at dksX1_letters_1 1 rfl rfl)
theorem dX1_letters_28 : decode cX1_letters 28 = .ok (.iand, 1) := dk_126 (dk_at dksX1_letters_1 4 rfl rfl)
theorem dX1_letters_29 : decode cX1_letters 29 = .ok (.i2c, 1) := dk_146 (dk_at dksX1_letters_1 5 rfl rfl)
theorem dX1_letters_30 : decode cX1_letters 30 = .ok (.invokevirtual 25, 3) := dk_182 0 25 (dk_at dksX1_letters_1 6 rfl rfl)
theorem dX1_letters_33 : decode cX1_letters 33 = .ok (.pop, 1) := dk_87 (dk_at dksX1_letters_1 9 rfl rfl)
theorem dX1_letters_34 : decode cX1_letters 34 = .ok (.iinc 4 1, 3) := dk_132 4 1 (dk_at dksX1_letters_1 10 rfl rfl)
theorem dX1_letters_37 : decode cX1_letters 37 = .ok (.goto (-26), 3) := dk_167 255 230 (dk_at dksX1_letters_1 13 rfl rfl)
theorem dX1_letters_40 : decode cX1_letters 40 = .ok (.aload_n 3, 1) := dk_45 (dk_at dksX1_letters_1 16 rfl rfl)
theorem dX1_letters_41 : decode cX1_letters 41 = .ok (.invokevirtual 29, 3) := dk_182 0 29 (dk_at dksX1_letters_1 17 rfl rfl)
theorem dX1_letters_44 : decode cX1_letters 44 = .ok (.areturn, 1) := dk_176 (dk_at dksX1_letters_1 20 rfl rfl)
abbrev cX1_lowest : ByteArray := prog_1_method_6_code
def yX1_lowest : MethodName := ⟨RX1, "lowest", "(I)I"⟩
def dkwX1_lowest_0 : List UInt8 := [26, 4, 160, 0, 7, 4, 167, 0, 4, 3, 172]
abbrev dktX1_lowest_0 : List UInt8 := dkwX1_lowest_0 ++ []
theorem dksX1_lowest_0 : cX1_lowest.data.toList.drop 0 = dktX1_lowest_0 := by decide +kernel
theorem dX1_lowest_0 : decode cX1_lowest 0 = .ok (.iload_n 0, 1) := dk_26 (dk_at dksX1_lowest_0 0 rfl rfl)
theorem dX1_lowest_1 : decode cX1_lowest 1 = .ok (.iconst 1, 1) := dk_4 (dk_at dksX1_lowest_0 1 rfl rfl)
theorem dX1_lowest_2 : decode cX1_lowest 2 = .ok (.if_icmp .ne 7, 3) := dk_160 0 7 (dk_at dksX1_lowest_0 2 rfl rfl)
theorem dX1_lowest_5 : decode cX1_lowest 5 = .ok (.iconst 1, 1) := dk_4 (dk_at dksX1_lowest_0 5 rfl rfl)
theorem dX1_lowest_6 : decode cX1_lowest 6 = .ok (.goto 4, 3) := dk_167 0 4 (dk_at dksX1_lowest_0 6 rfl rfl)
theorem dX1_lowest_9 : decode cX1_lowest 9 = .ok (.iconst 0, 1) := dk_3 (dk_at dksX1_lowest_0 9 rfl rfl)
theorem dX1_lowest_10 : decode cX1_lowest 10 = .ok (.ireturn, 1) := dk_172 (dk_at dksX1_lowest_0 10 rfl rfl)
abbrev cX1_highest : ByteArray := prog_1_method_7_code
def yX1_highest : MethodName := ⟨RX1, "highest", "(I)I"⟩
def dkwX1_highest_0 : List UInt8 := [26, 5, 160, 0, 8, 16, 100, 167, 0, 6, 17, 3, 231, 172]
abbrev dktX1_highest_0 : List UInt8 := dkwX1_highest_0 ++ []
theorem dksX1_highest_0 : cX1_highest.data.toList.drop 0 = dktX1_highest_0 := by decide +kernel
theorem dX1_highest_0 : decode cX1_highest 0 = .ok (.iload_n 0, 1) := dk_26 (dk_at dksX1_highest_0 0 rfl rfl)
theorem dX1_highest_1 : decode cX1_highest 1 = .ok (.iconst 2, 1) := dk_5 (dk_at dksX1_highest_0 1 rfl rfl)
theorem dX1_highest_2 : decode cX1_highest 2 = .ok (.if_icmp .ne 8, 3) := dk_160 0 8 (dk_at dksX1_highest_0 2 rfl rfl)
theorem dX1_highest_5 : decode cX1_highest 5 = .ok (.bipush 100, 2) := dk_16 100 (dk_at dksX1_highest_0 5 rfl rfl)
theorem dX1_highest_7 : decode cX1_highest 7 = .ok (.goto 6, 3) := dk_167 0 6 (dk_at dksX1_highest_0 7 rfl rfl)
theorem dX1_highest_10 : decode cX1_highest 10 = .ok (.sipush 999, 3) := dk_17 3 231 (dk_at dksX1_highest_0 10 rfl rfl)
theorem dX1_highest_13 : decode cX1_highest 13 = .ok (.ireturn, 1) := dk_172 (dk_at dksX1_highest_0 13 rfl rfl)
abbrev cX1_extend : ByteArray := prog_1_method_15_code
def yX1_extend : MethodName := ⟨RX1, "extend", "(I)I"⟩
def dkwX1_extend_1 : List UInt8 := [182, 0, 116, 42, 180, 0, 39, 180, 0, 104, 185, 0, 108, 1, 0, 172]
abbrev dktX1_extend_1 : List UInt8 := dkwX1_extend_1 ++ []
def dkwX1_extend_0 : List UInt8 := [42, 27, 42, 180, 0, 39, 182, 0, 113, 182, 0, 97, 77, 44, 199, 0, 6, 16, 253, 172, 42, 44]
abbrev dktX1_extend_0 : List UInt8 := dkwX1_extend_0 ++ dktX1_extend_1
theorem dksX1_extend_0 : cX1_extend.data.toList.drop 0 = dktX1_extend_0 := by decide +kernel
theorem dksX1_extend_1 : cX1_extend.data.toList.drop 22 = dktX1_extend_1 := dk_seg dksX1_extend_0 22 rfl rfl
theorem dX1_extend_0 : decode cX1_extend 0 = .ok (.aload_n 0, 1) := dk_42 (dk_at dksX1_extend_0 0 rfl rfl)
theorem dX1_extend_1 : decode cX1_extend 1 = .ok (.iload_n 1, 1) := dk_27 (dk_at dksX1_extend_0 1 rfl rfl)
theorem dX1_extend_2 : decode cX1_extend 2 = .ok (.aload_n 0, 1) := dk_42 (dk_at dksX1_extend_0 2 rfl rfl)
theorem dX1_extend_3 : decode cX1_extend 3 = .ok (.getfield 39, 3) := dk_180 0 39 (dk_at dksX1_extend_0 3 rfl rfl)
theorem dX1_extend_6 : decode cX1_extend 6 = .ok (.invokevirtual 113, 3) := dk_182 0 113 (dk_at dksX1_extend_0 6 rfl rfl)
theorem dX1_extend_9 : decode cX1_extend 9 = .ok (.invokevirtual 97, 3) := dk_182 0 97 (dk_at dksX1_extend_0 9 rfl rfl)
theorem dX1_extend_12 : decode cX1_extend 12 = .ok (.astore_n 2, 1) := dk_77 (dk_at dksX1_extend_0 12 rfl rfl)
theorem dX1_extend_13 : decode cX1_extend 13 = .ok (.aload_n 2, 1) := dk_44 (dk_at dksX1_extend_0 13 rfl rfl)
theorem dX1_extend_14 : decode cX1_extend 14 = .ok (.ifnonnull 6, 3) := dk_199 0 6 (dk_at dksX1_extend_0 14 rfl rfl)
theorem dX1_extend_17 : decode cX1_extend 17 = .ok (.bipush (-3), 2) := dk_16 253 (dk_at dksX1_extend_0 17 rfl rfl)
theorem dX1_extend_19 : decode cX1_extend 19 = .ok (.ireturn, 1) := dk_172 (dk_at dksX1_extend_0 19 rfl rfl)
theorem dX1_extend_20 : decode cX1_extend 20 = .ok (.aload_n 0, 1) := dk_42 (dk_at dksX1_extend_0 20 rfl rfl)
theorem dX1_extend_21 : decode cX1_extend 21 = .ok (.aload_n 2, 1) := dk_44 (dk_at dksX1_extend_0 21 rfl rfl)
theorem dX1_extend_22 : decode cX1_extend 22 = .ok (.invokevirtual 116, 3) := dk_182 0 116 (dk_at dksX1_extend_1 0 rfl rfl)
theorem dX1_extend_25 : decode cX1_extend 25 = .ok (.aload_n 0, 1) := dk_42 (dk_at dksX1_extend_1 3 rfl rfl)
theorem dX1_extend_26 : decode cX1_extend 26 = .ok (.getfield 39, 3) := dk_180 0 39 (dk_at dksX1_extend_1 4 rfl rfl)
theorem dX1_extend_29 : decode cX1_extend 29 = .ok (.getfield 104, 3) := dk_180 0 104 (dk_at dksX1_extend_1 7 rfl rfl)
theorem dX1_extend_32 : decode cX1_extend 32 = .ok (.invokeinterface 108 1, 5) := by decide +kernel
theorem dX1_extend_37 : decode cX1_extend 37 = .ok (.ireturn, 1) := dk_172 (dk_at dksX1_extend_1 15 rfl rfl)
abbrev cX1_become : ByteArray := prog_1_method_61_code
def yX1_become : MethodName := ⟨RX1, "become", "(LTranslationBureau$Office;)V"⟩
def dkwX1_become_1 : List UInt8 := [42, 180, 0, 39, 182, 1, 87, 42, 43, 181, 0, 39, 177]
abbrev dktX1_become_1 : List UInt8 := dkwX1_become_1 ++ []
def dkwX1_become_0 : List UInt8 := [42, 180, 0, 46, 182, 1, 83, 16, 10, 160, 0, 11, 42, 180, 0, 46, 182, 1, 84, 87, 42, 180, 0, 46]
abbrev dktX1_become_0 : List UInt8 := dkwX1_become_0 ++ dktX1_become_1
theorem dksX1_become_0 : cX1_become.data.toList.drop 0 = dktX1_become_0 := by decide +kernel
theorem dksX1_become_1 : cX1_become.data.toList.drop 24 = dktX1_become_1 := dk_seg dksX1_become_0 24 rfl rfl
theorem dX1_become_0 : decode cX1_become 0 = .ok (.aload_n 0, 1) := dk_42 (dk_at dksX1_become_0 0 rfl rfl)
theorem dX1_become_1 : decode cX1_become 1 = .ok (.getfield 46, 3) := dk_180 0 46 (dk_at dksX1_become_0 1 rfl rfl)
theorem dX1_become_4 : decode cX1_become 4 = .ok (.invokevirtual 339, 3) := dk_182 1 83 (dk_at dksX1_become_0 4 rfl rfl)
theorem dX1_become_7 : decode cX1_become 7 = .ok (.bipush 10, 2) := dk_16 10 (dk_at dksX1_become_0 7 rfl rfl)
theorem dX1_become_9 : decode cX1_become 9 = .ok (.if_icmp .ne 11, 3) := dk_160 0 11 (dk_at dksX1_become_0 9 rfl rfl)
theorem dX1_become_12 : decode cX1_become 12 = .ok (.aload_n 0, 1) := dk_42 (dk_at dksX1_become_0 12 rfl rfl)
theorem dX1_become_13 : decode cX1_become 13 = .ok (.getfield 46, 3) := dk_180 0 46 (dk_at dksX1_become_0 13 rfl rfl)
theorem dX1_become_16 : decode cX1_become 16 = .ok (.invokevirtual 340, 3) := dk_182 1 84 (dk_at dksX1_become_0 16 rfl rfl)
theorem dX1_become_19 : decode cX1_become 19 = .ok (.pop, 1) := dk_87 (dk_at dksX1_become_0 19 rfl rfl)
theorem dX1_become_20 : decode cX1_become 20 = .ok (.aload_n 0, 1) := dk_42 (dk_at dksX1_become_0 20 rfl rfl)
theorem dX1_become_21 : decode cX1_become 21 = .ok (.getfield 46, 3) := dk_180 0 46 (dk_at dksX1_become_0 21 rfl rfl)
theorem dX1_become_24 : decode cX1_become 24 = .ok (.aload_n 0, 1) := dk_42 (dk_at dksX1_become_1 0 rfl rfl)
theorem dX1_become_25 : decode cX1_become 25 = .ok (.getfield 39, 3) := dk_180 0 39 (dk_at dksX1_become_1 1 rfl rfl)
theorem dX1_become_28 : decode cX1_become 28 = .ok (.invokevirtual 343, 3) := dk_182 1 87 (dk_at dksX1_become_1 4 rfl rfl)
theorem dX1_become_31 : decode cX1_become 31 = .ok (.aload_n 0, 1) := dk_42 (dk_at dksX1_become_1 7 rfl rfl)
theorem dX1_become_32 : decode cX1_become 32 = .ok (.aload_n 1, 1) := dk_43 (dk_at dksX1_become_1 8 rfl rfl)
theorem dX1_become_33 : decode cX1_become 33 = .ok (.putfield 39, 3) := dk_181 0 39 (dk_at dksX1_become_1 9 rfl rfl)
theorem dX1_become_36 : decode cX1_become 36 = .ok (.return_, 1) := dk_177 (dk_at dksX1_become_1 12 rfl rfl)
abbrev cX1_count : ByteArray := prog_1_method_23_code
def yX1_count : MethodName := ⟨RX1, "count", "(I)I"⟩
def dkwX1_count_5 : List UInt8 := [185, 0, 108, 1, 0, 172]
abbrev dktX1_count_5 : List UInt8 := dkwX1_count_5 ++ []
def dkwX1_count_4 : List UInt8 := [180, 0, 39, 180, 0, 104, 185, 0, 108, 1, 0, 167, 0, 15, 42, 180, 0, 39, 182, 0, 150]
abbrev dktX1_count_4 : List UInt8 := dkwX1_count_4 ++ dktX1_count_5
def dkwX1_count_3 : List UInt8 := [185, 0, 108, 1, 0, 167, 0, 45, 42, 180, 0, 39, 180, 0, 126, 185, 0, 108, 1, 0, 167, 0, 30, 42]
abbrev dktX1_count_3 : List UInt8 := dkwX1_count_3 ++ dktX1_count_4
def dkwX1_count_2 : List UInt8 := [42, 180, 0, 39, 180, 0, 120, 185, 0, 108, 1, 0, 167, 0, 60, 42, 180, 0, 39, 180, 0, 147]
abbrev dktX1_count_2 : List UInt8 := dkwX1_count_2 ++ dktX1_count_3
def dkwX1_count_1 : List UInt8 := [170, 0, 0, 0, 0, 90, 0, 0, 0, 0, 0, 0, 0, 3, 0, 0, 0, 30, 0, 0, 0, 45, 0, 0, 0, 60, 0, 0, 0, 75]
abbrev dktX1_count_1 : List UInt8 := dkwX1_count_1 ++ dktX1_count_2
def dkwX1_count_0 : List UInt8 := [27, 3, 7, 184, 0, 64, 184, 0, 68, 27]
abbrev dktX1_count_0 : List UInt8 := dkwX1_count_0 ++ dktX1_count_1
theorem dksX1_count_0 : cX1_count.data.toList.drop 0 = dktX1_count_0 := by decide +kernel
theorem dksX1_count_1 : cX1_count.data.toList.drop 10 = dktX1_count_1 := dk_seg dksX1_count_0 10 rfl rfl
theorem dksX1_count_2 : cX1_count.data.toList.drop 40 = dktX1_count_2 := dk_seg dksX1_count_1 30 rfl rfl
theorem dksX1_count_3 : cX1_count.data.toList.drop 62 = dktX1_count_3 := dk_seg dksX1_count_2 22 rfl rfl
theorem dksX1_count_4 : cX1_count.data.toList.drop 86 = dktX1_count_4 := dk_seg dksX1_count_3 24 rfl rfl
theorem dksX1_count_5 : cX1_count.data.toList.drop 107 = dktX1_count_5 := dk_seg dksX1_count_4 21 rfl rfl
theorem dX1_count_0 : decode cX1_count 0 = .ok (.iload_n 1, 1) := dk_27 (dk_at dksX1_count_0 0 rfl rfl)
theorem dX1_count_1 : decode cX1_count 1 = .ok (.iconst 0, 1) := dk_3 (dk_at dksX1_count_0 1 rfl rfl)
theorem dX1_count_2 : decode cX1_count 2 = .ok (.iconst 4, 1) := dk_7 (dk_at dksX1_count_0 2 rfl rfl)
theorem dX1_count_3 : decode cX1_count 3 = .ok (.invokestatic 64, 3) := dk_184 0 64 (dk_at dksX1_count_0 3 rfl rfl)
theorem dX1_count_6 : decode cX1_count 6 = .ok (.invokestatic 68, 3) := dk_184 0 68 (dk_at dksX1_count_0 6 rfl rfl)
theorem dX1_count_9 : decode cX1_count 9 = .ok (.iload_n 1, 1) := dk_27 (dk_at dksX1_count_0 9 rfl rfl)
theorem dX1_count_10 : decode cX1_count 10 = .ok (.tableswitch 90 0 3 #[30, 45, 60, 75], 30) := by decide +kernel
theorem dX1_count_40 : decode cX1_count 40 = .ok (.aload_n 0, 1) := dk_42 (dk_at dksX1_count_2 0 rfl rfl)
theorem dX1_count_41 : decode cX1_count 41 = .ok (.getfield 39, 3) := dk_180 0 39 (dk_at dksX1_count_2 1 rfl rfl)
theorem dX1_count_44 : decode cX1_count 44 = .ok (.getfield 120, 3) := dk_180 0 120 (dk_at dksX1_count_2 4 rfl rfl)
theorem dX1_count_47 : decode cX1_count 47 = .ok (.invokeinterface 108 1, 5) := by decide +kernel
theorem dX1_count_52 : decode cX1_count 52 = .ok (.goto 60, 3) := dk_167 0 60 (dk_at dksX1_count_2 12 rfl rfl)
theorem dX1_count_55 : decode cX1_count 55 = .ok (.aload_n 0, 1) := dk_42 (dk_at dksX1_count_2 15 rfl rfl)
theorem dX1_count_56 : decode cX1_count 56 = .ok (.getfield 39, 3) := dk_180 0 39 (dk_at dksX1_count_2 16 rfl rfl)
theorem dX1_count_59 : decode cX1_count 59 = .ok (.getfield 147, 3) := dk_180 0 147 (dk_at dksX1_count_2 19 rfl rfl)
theorem dX1_count_62 : decode cX1_count 62 = .ok (.invokeinterface 108 1, 5) := by decide +kernel
theorem dX1_count_67 : decode cX1_count 67 = .ok (.goto 45, 3) := dk_167 0 45 (dk_at dksX1_count_3 5 rfl rfl)
theorem dX1_count_70 : decode cX1_count 70 = .ok (.aload_n 0, 1) := dk_42 (dk_at dksX1_count_3 8 rfl rfl)
theorem dX1_count_71 : decode cX1_count 71 = .ok (.getfield 39, 3) := dk_180 0 39 (dk_at dksX1_count_3 9 rfl rfl)
theorem dX1_count_74 : decode cX1_count 74 = .ok (.getfield 126, 3) := dk_180 0 126 (dk_at dksX1_count_3 12 rfl rfl)
theorem dX1_count_77 : decode cX1_count 77 = .ok (.invokeinterface 108 1, 5) := by decide +kernel
theorem dX1_count_82 : decode cX1_count 82 = .ok (.goto 30, 3) := dk_167 0 30 (dk_at dksX1_count_3 20 rfl rfl)
theorem dX1_count_85 : decode cX1_count 85 = .ok (.aload_n 0, 1) := dk_42 (dk_at dksX1_count_3 23 rfl rfl)
theorem dX1_count_86 : decode cX1_count 86 = .ok (.getfield 39, 3) := dk_180 0 39 (dk_at dksX1_count_4 0 rfl rfl)
theorem dX1_count_89 : decode cX1_count 89 = .ok (.getfield 104, 3) := dk_180 0 104 (dk_at dksX1_count_4 3 rfl rfl)
theorem dX1_count_92 : decode cX1_count 92 = .ok (.invokeinterface 108 1, 5) := by decide +kernel
theorem dX1_count_97 : decode cX1_count 97 = .ok (.goto 15, 3) := dk_167 0 15 (dk_at dksX1_count_4 11 rfl rfl)
theorem dX1_count_100 : decode cX1_count 100 = .ok (.aload_n 0, 1) := dk_42 (dk_at dksX1_count_4 14 rfl rfl)
theorem dX1_count_101 : decode cX1_count 101 = .ok (.getfield 39, 3) := dk_180 0 39 (dk_at dksX1_count_4 15 rfl rfl)
theorem dX1_count_104 : decode cX1_count 104 = .ok (.invokevirtual 150, 3) := dk_182 0 150 (dk_at dksX1_count_4 18 rfl rfl)
theorem dX1_count_107 : decode cX1_count 107 = .ok (.invokeinterface 108 1, 5) := by decide +kernel
theorem dX1_count_112 : decode cX1_count 112 = .ok (.ireturn, 1) := dk_172 (dk_at dksX1_count_5 5 rfl rfl)
abbrev cX1_setting : ByteArray := prog_1_method_24_code
def yX1_setting : MethodName := ⟨RX1, "setting", "(I)I"⟩
def dkwX1_setting_0 : List UInt8 := [27, 3, 6, 184, 0, 64, 184, 0, 68, 42, 180, 0, 39, 180, 0, 154, 27, 46, 172]
abbrev dktX1_setting_0 : List UInt8 := dkwX1_setting_0 ++ []
theorem dksX1_setting_0 : cX1_setting.data.toList.drop 0 = dktX1_setting_0 := by decide +kernel
theorem dX1_setting_0 : decode cX1_setting 0 = .ok (.iload_n 1, 1) := dk_27 (dk_at dksX1_setting_0 0 rfl rfl)
theorem dX1_setting_1 : decode cX1_setting 1 = .ok (.iconst 0, 1) := dk_3 (dk_at dksX1_setting_0 1 rfl rfl)
theorem dX1_setting_2 : decode cX1_setting 2 = .ok (.iconst 3, 1) := dk_6 (dk_at dksX1_setting_0 2 rfl rfl)
theorem dX1_setting_3 : decode cX1_setting 3 = .ok (.invokestatic 64, 3) := dk_184 0 64 (dk_at dksX1_setting_0 3 rfl rfl)
theorem dX1_setting_6 : decode cX1_setting 6 = .ok (.invokestatic 68, 3) := dk_184 0 68 (dk_at dksX1_setting_0 6 rfl rfl)
theorem dX1_setting_9 : decode cX1_setting 9 = .ok (.aload_n 0, 1) := dk_42 (dk_at dksX1_setting_0 9 rfl rfl)
theorem dX1_setting_10 : decode cX1_setting 10 = .ok (.getfield 39, 3) := dk_180 0 39 (dk_at dksX1_setting_0 10 rfl rfl)
theorem dX1_setting_13 : decode cX1_setting 13 = .ok (.getfield 154, 3) := dk_180 0 154 (dk_at dksX1_setting_0 13 rfl rfl)
theorem dX1_setting_16 : decode cX1_setting 16 = .ok (.iload_n 1, 1) := dk_27 (dk_at dksX1_setting_0 16 rfl rfl)
theorem dX1_setting_17 : decode cX1_setting 17 = .ok (.iaload, 1) := dk_46 (dk_at dksX1_setting_0 17 rfl rfl)
theorem dX1_setting_18 : decode cX1_setting 18 = .ok (.ireturn, 1) := dk_172 (dk_at dksX1_setting_0 18 rfl rfl)
abbrev cX1_percentage : ByteArray := prog_1_method_25_code
def yX1_percentage : MethodName := ⟨RX1, "percentage", "(I)I"⟩
def dkwX1_percentage_0 : List UInt8 := [27, 184, 0, 158, 42, 180, 0, 39, 180, 0, 162, 27, 46, 172]
abbrev dktX1_percentage_0 : List UInt8 := dkwX1_percentage_0 ++ []
theorem dksX1_percentage_0 : cX1_percentage.data.toList.drop 0 = dktX1_percentage_0 := by decide +kernel
theorem dX1_percentage_0 : decode cX1_percentage 0 = .ok (.iload_n 1, 1) := dk_27 (dk_at dksX1_percentage_0 0 rfl rfl)
theorem dX1_percentage_1 : decode cX1_percentage 1 = .ok (.invokestatic 158, 3) := dk_184 0 158 (dk_at dksX1_percentage_0 1 rfl rfl)
theorem dX1_percentage_4 : decode cX1_percentage 4 = .ok (.aload_n 0, 1) := dk_42 (dk_at dksX1_percentage_0 4 rfl rfl)
theorem dX1_percentage_5 : decode cX1_percentage 5 = .ok (.getfield 39, 3) := dk_180 0 39 (dk_at dksX1_percentage_0 5 rfl rfl)
theorem dX1_percentage_8 : decode cX1_percentage 8 = .ok (.getfield 162, 3) := dk_180 0 162 (dk_at dksX1_percentage_0 8 rfl rfl)
theorem dX1_percentage_11 : decode cX1_percentage 11 = .ok (.iload_n 1, 1) := dk_27 (dk_at dksX1_percentage_0 11 rfl rfl)
theorem dX1_percentage_12 : decode cX1_percentage 12 = .ok (.iaload, 1) := dk_46 (dk_at dksX1_percentage_0 12 rfl rfl)
theorem dX1_percentage_13 : decode cX1_percentage 13 = .ok (.ireturn, 1) := dk_172 (dk_at dksX1_percentage_0 13 rfl rfl)
abbrev cX1_requireBand : ByteArray := prog_1_method_21_code
def yX1_requireBand : MethodName := ⟨RX1, "requireBand", "(I)V"⟩
def dkwX1_requireBand_0 : List UInt8 := [26, 3, 7, 184, 0, 64, 184, 0, 123, 177]
abbrev dktX1_requireBand_0 : List UInt8 := dkwX1_requireBand_0 ++ []
theorem dksX1_requireBand_0 : cX1_requireBand.data.toList.drop 0 = dktX1_requireBand_0 := by decide +kernel
theorem dX1_requireBand_0 : decode cX1_requireBand 0 = .ok (.iload_n 0, 1) := dk_26 (dk_at dksX1_requireBand_0 0 rfl rfl)
theorem dX1_requireBand_1 : decode cX1_requireBand 1 = .ok (.iconst 0, 1) := dk_3 (dk_at dksX1_requireBand_0 1 rfl rfl)
theorem dX1_requireBand_2 : decode cX1_requireBand 2 = .ok (.iconst 4, 1) := dk_7 (dk_at dksX1_requireBand_0 2 rfl rfl)
theorem dX1_requireBand_3 : decode cX1_requireBand 3 = .ok (.invokestatic 64, 3) := dk_184 0 64 (dk_at dksX1_requireBand_0 3 rfl rfl)
theorem dX1_requireBand_6 : decode cX1_requireBand 6 = .ok (.invokestatic 123, 3) := dk_184 0 123 (dk_at dksX1_requireBand_0 6 rfl rfl)
theorem dX1_requireBand_9 : decode cX1_requireBand 9 = .ok (.return_, 1) := dk_177 (dk_at dksX1_requireBand_0 9 rfl rfl)
abbrev cX1_requireIndex : ByteArray := prog_1_method_2_code
def yX1_requireIndex : MethodName := ⟨RX1, "requireIndex", "(Z)V"⟩
def dkwX1_requireIndex_0 : List UInt8 := [26, 154, 0, 11, 187, 0, 1, 89, 183, 0, 3, 191, 177]
abbrev dktX1_requireIndex_0 : List UInt8 := dkwX1_requireIndex_0 ++ []
theorem dksX1_requireIndex_0 : cX1_requireIndex.data.toList.drop 0 = dktX1_requireIndex_0 := by decide +kernel
theorem dX1_requireIndex_0 : decode cX1_requireIndex 0 = .ok (.iload_n 0, 1) := dk_26 (dk_at dksX1_requireIndex_0 0 rfl rfl)
theorem dX1_requireIndex_1 : decode cX1_requireIndex 1 = .ok (.ifCond .ne 11, 3) := dk_154 0 11 (dk_at dksX1_requireIndex_0 1 rfl rfl)
theorem dX1_requireIndex_4 : decode cX1_requireIndex 4 = .ok (.new 1, 3) := dk_187 0 1 (dk_at dksX1_requireIndex_0 4 rfl rfl)
theorem dX1_requireIndex_7 : decode cX1_requireIndex 7 = .ok (.dup, 1) := dk_89 (dk_at dksX1_requireIndex_0 7 rfl rfl)
theorem dX1_requireIndex_8 : decode cX1_requireIndex 8 = .ok (.invokespecial 3, 3) := dk_183 0 3 (dk_at dksX1_requireIndex_0 8 rfl rfl)
theorem dX1_requireIndex_11 : decode cX1_requireIndex 11 = .ok (.athrow, 1) := dk_191 (dk_at dksX1_requireIndex_0 11 rfl rfl)
theorem dX1_requireIndex_12 : decode cX1_requireIndex 12 = .ok (.return_, 1) := dk_177 (dk_at dksX1_requireIndex_0 12 rfl rfl)
abbrev cX1_find : ByteArray := prog_1_method_26_code
def yX1_find : MethodName := ⟨RX1, "find", "(I)I"⟩
def dkwX1_find_1 : List UInt8 := [182, 0, 165, 182, 0, 169, 172]
abbrev dktX1_find_1 : List UInt8 := dkwX1_find_1 ++ []
def dkwX1_find_0 : List UInt8 := [27, 3, 42, 180, 0, 58, 184, 0, 64, 184, 0, 68, 42, 3, 181, 0, 58, 42, 180, 0, 39, 42, 3, 27]
abbrev dktX1_find_0 : List UInt8 := dkwX1_find_0 ++ dktX1_find_1
theorem dksX1_find_0 : cX1_find.data.toList.drop 0 = dktX1_find_0 := by decide +kernel
theorem dksX1_find_1 : cX1_find.data.toList.drop 24 = dktX1_find_1 := dk_seg dksX1_find_0 24 rfl rfl
theorem dX1_find_0 : decode cX1_find 0 = .ok (.iload_n 1, 1) := dk_27 (dk_at dksX1_find_0 0 rfl rfl)
theorem dX1_find_1 : decode cX1_find 1 = .ok (.iconst 0, 1) := dk_3 (dk_at dksX1_find_0 1 rfl rfl)
theorem dX1_find_2 : decode cX1_find 2 = .ok (.aload_n 0, 1) := dk_42 (dk_at dksX1_find_0 2 rfl rfl)
theorem dX1_find_3 : decode cX1_find 3 = .ok (.getfield 58, 3) := dk_180 0 58 (dk_at dksX1_find_0 3 rfl rfl)
theorem dX1_find_6 : decode cX1_find 6 = .ok (.invokestatic 64, 3) := dk_184 0 64 (dk_at dksX1_find_0 6 rfl rfl)
theorem dX1_find_9 : decode cX1_find 9 = .ok (.invokestatic 68, 3) := dk_184 0 68 (dk_at dksX1_find_0 9 rfl rfl)
theorem dX1_find_12 : decode cX1_find 12 = .ok (.aload_n 0, 1) := dk_42 (dk_at dksX1_find_0 12 rfl rfl)
theorem dX1_find_13 : decode cX1_find 13 = .ok (.iconst 0, 1) := dk_3 (dk_at dksX1_find_0 13 rfl rfl)
theorem dX1_find_14 : decode cX1_find 14 = .ok (.putfield 58, 3) := dk_181 0 58 (dk_at dksX1_find_0 14 rfl rfl)
theorem dX1_find_17 : decode cX1_find 17 = .ok (.aload_n 0, 1) := dk_42 (dk_at dksX1_find_0 17 rfl rfl)
theorem dX1_find_18 : decode cX1_find 18 = .ok (.getfield 39, 3) := dk_180 0 39 (dk_at dksX1_find_0 18 rfl rfl)
theorem dX1_find_21 : decode cX1_find 21 = .ok (.aload_n 0, 1) := dk_42 (dk_at dksX1_find_0 21 rfl rfl)
theorem dX1_find_22 : decode cX1_find 22 = .ok (.iconst 0, 1) := dk_3 (dk_at dksX1_find_0 22 rfl rfl)
theorem dX1_find_23 : decode cX1_find 23 = .ok (.iload_n 1, 1) := dk_27 (dk_at dksX1_find_0 23 rfl rfl)
theorem dX1_find_24 : decode cX1_find 24 = .ok (.invokevirtual 165, 3) := dk_182 0 165 (dk_at dksX1_find_1 0 rfl rfl)
theorem dX1_find_27 : decode cX1_find 27 = .ok (.invokevirtual 169, 3) := dk_182 0 169 (dk_at dksX1_find_1 3 rfl rfl)
theorem dX1_find_30 : decode cX1_find 30 = .ok (.ireturn, 1) := dk_172 (dk_at dksX1_find_1 6 rfl rfl)
abbrev cX1_capacity : ByteArray := prog_1_method_27_code
def yX1_capacity : MethodName := ⟨RX1, "capacity", "(I)I"⟩
def dkwX1_capacity_1 : List UInt8 := [172]
abbrev dktX1_capacity_1 : List UInt8 := dkwX1_capacity_1 ++ []
def dkwX1_capacity_0 : List UInt8 := [42, 27, 182, 0, 173, 42, 180, 0, 39, 180, 0, 176, 27, 185, 0, 129, 2, 0, 192, 0, 179, 182, 0, 181]
abbrev dktX1_capacity_0 : List UInt8 := dkwX1_capacity_0 ++ dktX1_capacity_1
theorem dksX1_capacity_0 : cX1_capacity.data.toList.drop 0 = dktX1_capacity_0 := by decide +kernel
theorem dksX1_capacity_1 : cX1_capacity.data.toList.drop 24 = dktX1_capacity_1 := dk_seg dksX1_capacity_0 24 rfl rfl
theorem dX1_capacity_0 : decode cX1_capacity 0 = .ok (.aload_n 0, 1) := dk_42 (dk_at dksX1_capacity_0 0 rfl rfl)
theorem dX1_capacity_1 : decode cX1_capacity 1 = .ok (.iload_n 1, 1) := dk_27 (dk_at dksX1_capacity_0 1 rfl rfl)
theorem dX1_capacity_2 : decode cX1_capacity 2 = .ok (.invokevirtual 173, 3) := dk_182 0 173 (dk_at dksX1_capacity_0 2 rfl rfl)
theorem dX1_capacity_5 : decode cX1_capacity 5 = .ok (.aload_n 0, 1) := dk_42 (dk_at dksX1_capacity_0 5 rfl rfl)
theorem dX1_capacity_6 : decode cX1_capacity 6 = .ok (.getfield 39, 3) := dk_180 0 39 (dk_at dksX1_capacity_0 6 rfl rfl)
theorem dX1_capacity_9 : decode cX1_capacity 9 = .ok (.getfield 176, 3) := dk_180 0 176 (dk_at dksX1_capacity_0 9 rfl rfl)
theorem dX1_capacity_12 : decode cX1_capacity 12 = .ok (.iload_n 1, 1) := dk_27 (dk_at dksX1_capacity_0 12 rfl rfl)
theorem dX1_capacity_13 : decode cX1_capacity 13 = .ok (.invokeinterface 129 2, 5) := by decide +kernel
theorem dX1_capacity_18 : decode cX1_capacity 18 = .ok (.checkcast 179, 3) := dk_192 0 179 (dk_at dksX1_capacity_0 18 rfl rfl)
theorem dX1_capacity_21 : decode cX1_capacity 21 = .ok (.invokevirtual 181, 3) := dk_182 0 181 (dk_at dksX1_capacity_0 21 rfl rfl)
theorem dX1_capacity_24 : decode cX1_capacity 24 = .ok (.ireturn, 1) := dk_172 (dk_at dksX1_capacity_1 0 rfl rfl)
abbrev cX1_requirePerson : ByteArray := prog_1_method_18_code
def yX1_requirePerson : MethodName := ⟨RX1, "requirePerson", "(I)V"⟩
def dkwX1_requirePerson_0 : List UInt8 := [27, 3, 42, 180, 0, 39, 180, 0, 120, 185, 0, 108, 1, 0, 4, 100, 184, 0, 64, 184, 0, 123, 177]
abbrev dktX1_requirePerson_0 : List UInt8 := dkwX1_requirePerson_0 ++ []
theorem dksX1_requirePerson_0 : cX1_requirePerson.data.toList.drop 0 = dktX1_requirePerson_0 := by decide +kernel
theorem dX1_requirePerson_0 : decode cX1_requirePerson 0 = .ok (.iload_n 1, 1) := dk_27 (dk_at dksX1_requirePerson_0 0 rfl rfl)
theorem dX1_requirePerson_1 : decode cX1_requirePerson 1 = .ok (.iconst 0, 1) := dk_3 (dk_at dksX1_requirePerson_0 1 rfl rfl)
theorem dX1_requirePerson_2 : decode cX1_requirePerson 2 = .ok (.aload_n 0, 1) := dk_42 (dk_at dksX1_requirePerson_0 2 rfl rfl)
theorem dX1_requirePerson_3 : decode cX1_requirePerson 3 = .ok (.getfield 39, 3) := dk_180 0 39 (dk_at dksX1_requirePerson_0 3 rfl rfl)
theorem dX1_requirePerson_6 : decode cX1_requirePerson 6 = .ok (.getfield 120, 3) := dk_180 0 120 (dk_at dksX1_requirePerson_0 6 rfl rfl)
theorem dX1_requirePerson_9 : decode cX1_requirePerson 9 = .ok (.invokeinterface 108 1, 5) := by decide +kernel
theorem dX1_requirePerson_14 : decode cX1_requirePerson 14 = .ok (.iconst 1, 1) := dk_4 (dk_at dksX1_requirePerson_0 14 rfl rfl)
theorem dX1_requirePerson_15 : decode cX1_requirePerson 15 = .ok (.isub, 1) := dk_100 (dk_at dksX1_requirePerson_0 15 rfl rfl)
theorem dX1_requirePerson_16 : decode cX1_requirePerson 16 = .ok (.invokestatic 64, 3) := dk_184 0 64 (dk_at dksX1_requirePerson_0 16 rfl rfl)
theorem dX1_requirePerson_19 : decode cX1_requirePerson 19 = .ok (.invokestatic 123, 3) := dk_184 0 123 (dk_at dksX1_requirePerson_0 19 rfl rfl)
theorem dX1_requirePerson_22 : decode cX1_requirePerson 22 = .ok (.return_, 1) := dk_177 (dk_at dksX1_requirePerson_0 22 rfl rfl)
abbrev cX1_job : ByteArray := prog_1_method_29_code
def yX1_job : MethodName := ⟨RX1, "job", "(II)I"⟩
def dkwX1_job_3 : List UInt8 := [180, 0, 217, 167, 0, 19, 42, 27, 182, 0, 220, 167, 0, 11, 42, 180, 0, 39, 27, 182, 0, 224, 172]
abbrev dktX1_job_3 : List UInt8 := dkwX1_job_3 ++ []
def dkwX1_job_2 : List UInt8 := [45, 180, 0, 208, 167, 0, 40, 45, 180, 0, 211, 167, 0, 33, 45, 180, 0, 214, 167, 0, 26, 45]
abbrev dktX1_job_2 : List UInt8 := dkwX1_job_2 ++ dktX1_job_3
def dkwX1_job_1 : List UInt8 := [170, 0, 0, 0, 0, 0, 0, 72, 0, 0, 0, 0, 0, 0, 0, 4, 0, 0, 0, 36, 0, 0, 0, 43, 0, 0, 0, 50, 0, 0, 0, 57, 0, 0, 0, 64]
abbrev dktX1_job_1 : List UInt8 := dkwX1_job_1 ++ dktX1_job_2
def dkwX1_job_0 : List UInt8 := [42, 27, 182, 0, 204, 78, 28, 3, 8, 184, 0, 64, 184, 0, 68, 28]
abbrev dktX1_job_0 : List UInt8 := dkwX1_job_0 ++ dktX1_job_1
theorem dksX1_job_0 : cX1_job.data.toList.drop 0 = dktX1_job_0 := by decide +kernel
theorem dksX1_job_1 : cX1_job.data.toList.drop 16 = dktX1_job_1 := dk_seg dksX1_job_0 16 rfl rfl
theorem dksX1_job_2 : cX1_job.data.toList.drop 52 = dktX1_job_2 := dk_seg dksX1_job_1 36 rfl rfl
theorem dksX1_job_3 : cX1_job.data.toList.drop 74 = dktX1_job_3 := dk_seg dksX1_job_2 22 rfl rfl
theorem dX1_job_0 : decode cX1_job 0 = .ok (.aload_n 0, 1) := dk_42 (dk_at dksX1_job_0 0 rfl rfl)
theorem dX1_job_1 : decode cX1_job 1 = .ok (.iload_n 1, 1) := dk_27 (dk_at dksX1_job_0 1 rfl rfl)
theorem dX1_job_2 : decode cX1_job 2 = .ok (.invokevirtual 204, 3) := dk_182 0 204 (dk_at dksX1_job_0 2 rfl rfl)
theorem dX1_job_5 : decode cX1_job 5 = .ok (.astore_n 3, 1) := dk_78 (dk_at dksX1_job_0 5 rfl rfl)
theorem dX1_job_6 : decode cX1_job 6 = .ok (.iload_n 2, 1) := dk_28 (dk_at dksX1_job_0 6 rfl rfl)
theorem dX1_job_7 : decode cX1_job 7 = .ok (.iconst 0, 1) := dk_3 (dk_at dksX1_job_0 7 rfl rfl)
theorem dX1_job_8 : decode cX1_job 8 = .ok (.iconst 5, 1) := dk_8 (dk_at dksX1_job_0 8 rfl rfl)
theorem dX1_job_9 : decode cX1_job 9 = .ok (.invokestatic 64, 3) := dk_184 0 64 (dk_at dksX1_job_0 9 rfl rfl)
theorem dX1_job_12 : decode cX1_job 12 = .ok (.invokestatic 68, 3) := dk_184 0 68 (dk_at dksX1_job_0 12 rfl rfl)
theorem dX1_job_15 : decode cX1_job 15 = .ok (.iload_n 2, 1) := dk_28 (dk_at dksX1_job_0 15 rfl rfl)
theorem dX1_job_16 : decode cX1_job 16 = .ok (.tableswitch 72 0 4 #[36, 43, 50, 57, 64], 36) := by decide +kernel
theorem dX1_job_52 : decode cX1_job 52 = .ok (.aload_n 3, 1) := dk_45 (dk_at dksX1_job_2 0 rfl rfl)
theorem dX1_job_53 : decode cX1_job 53 = .ok (.getfield 208, 3) := dk_180 0 208 (dk_at dksX1_job_2 1 rfl rfl)
theorem dX1_job_56 : decode cX1_job 56 = .ok (.goto 40, 3) := dk_167 0 40 (dk_at dksX1_job_2 4 rfl rfl)
theorem dX1_job_59 : decode cX1_job 59 = .ok (.aload_n 3, 1) := dk_45 (dk_at dksX1_job_2 7 rfl rfl)
theorem dX1_job_60 : decode cX1_job 60 = .ok (.getfield 211, 3) := dk_180 0 211 (dk_at dksX1_job_2 8 rfl rfl)
theorem dX1_job_63 : decode cX1_job 63 = .ok (.goto 33, 3) := dk_167 0 33 (dk_at dksX1_job_2 11 rfl rfl)
theorem dX1_job_66 : decode cX1_job 66 = .ok (.aload_n 3, 1) := dk_45 (dk_at dksX1_job_2 14 rfl rfl)
theorem dX1_job_67 : decode cX1_job 67 = .ok (.getfield 214, 3) := dk_180 0 214 (dk_at dksX1_job_2 15 rfl rfl)
theorem dX1_job_70 : decode cX1_job 70 = .ok (.goto 26, 3) := dk_167 0 26 (dk_at dksX1_job_2 18 rfl rfl)
theorem dX1_job_73 : decode cX1_job 73 = .ok (.aload_n 3, 1) := dk_45 (dk_at dksX1_job_2 21 rfl rfl)
theorem dX1_job_74 : decode cX1_job 74 = .ok (.getfield 217, 3) := dk_180 0 217 (dk_at dksX1_job_3 0 rfl rfl)
theorem dX1_job_77 : decode cX1_job 77 = .ok (.goto 19, 3) := dk_167 0 19 (dk_at dksX1_job_3 3 rfl rfl)
theorem dX1_job_80 : decode cX1_job 80 = .ok (.aload_n 0, 1) := dk_42 (dk_at dksX1_job_3 6 rfl rfl)
theorem dX1_job_81 : decode cX1_job 81 = .ok (.iload_n 1, 1) := dk_27 (dk_at dksX1_job_3 7 rfl rfl)
theorem dX1_job_82 : decode cX1_job 82 = .ok (.invokevirtual 220, 3) := dk_182 0 220 (dk_at dksX1_job_3 8 rfl rfl)
theorem dX1_job_85 : decode cX1_job 85 = .ok (.goto 11, 3) := dk_167 0 11 (dk_at dksX1_job_3 11 rfl rfl)
theorem dX1_job_88 : decode cX1_job 88 = .ok (.aload_n 0, 1) := dk_42 (dk_at dksX1_job_3 14 rfl rfl)
theorem dX1_job_89 : decode cX1_job 89 = .ok (.getfield 39, 3) := dk_180 0 39 (dk_at dksX1_job_3 15 rfl rfl)
theorem dX1_job_92 : decode cX1_job 92 = .ok (.iload_n 1, 1) := dk_27 (dk_at dksX1_job_3 18 rfl rfl)
theorem dX1_job_93 : decode cX1_job 93 = .ok (.invokevirtual 224, 3) := dk_182 0 224 (dk_at dksX1_job_3 19 rfl rfl)
theorem dX1_job_96 : decode cX1_job 96 = .ok (.ireturn, 1) := dk_172 (dk_at dksX1_job_3 22 rfl rfl)
abbrev cX1_jobAt : ByteArray := prog_1_method_19_code
def yX1_jobAt : MethodName := ⟨RX1, "jobAt", "(I)LTranslationBureau$Job;"⟩
def dkwX1_jobAt_1 : List UInt8 := [180, 0, 39, 180, 0, 126, 27, 185, 0, 129, 2, 0, 192, 0, 133, 176]
abbrev dktX1_jobAt_1 : List UInt8 := dkwX1_jobAt_1 ++ []
def dkwX1_jobAt_0 : List UInt8 := [27, 3, 42, 180, 0, 39, 180, 0, 126, 185, 0, 108, 1, 0, 4, 100, 184, 0, 64, 184, 0, 123, 42]
abbrev dktX1_jobAt_0 : List UInt8 := dkwX1_jobAt_0 ++ dktX1_jobAt_1
theorem dksX1_jobAt_0 : cX1_jobAt.data.toList.drop 0 = dktX1_jobAt_0 := by decide +kernel
theorem dksX1_jobAt_1 : cX1_jobAt.data.toList.drop 23 = dktX1_jobAt_1 := dk_seg dksX1_jobAt_0 23 rfl rfl
theorem dX1_jobAt_0 : decode cX1_jobAt 0 = .ok (.iload_n 1, 1) := dk_27 (dk_at dksX1_jobAt_0 0 rfl rfl)
theorem dX1_jobAt_1 : decode cX1_jobAt 1 = .ok (.iconst 0, 1) := dk_3 (dk_at dksX1_jobAt_0 1 rfl rfl)
theorem dX1_jobAt_2 : decode cX1_jobAt 2 = .ok (.aload_n 0, 1) := dk_42 (dk_at dksX1_jobAt_0 2 rfl rfl)
theorem dX1_jobAt_3 : decode cX1_jobAt 3 = .ok (.getfield 39, 3) := dk_180 0 39 (dk_at dksX1_jobAt_0 3 rfl rfl)
theorem dX1_jobAt_6 : decode cX1_jobAt 6 = .ok (.getfield 126, 3) := dk_180 0 126 (dk_at dksX1_jobAt_0 6 rfl rfl)
theorem dX1_jobAt_9 : decode cX1_jobAt 9 = .ok (.invokeinterface 108 1, 5) := by decide +kernel
theorem dX1_jobAt_14 : decode cX1_jobAt 14 = .ok (.iconst 1, 1) := dk_4 (dk_at dksX1_jobAt_0 14 rfl rfl)
theorem dX1_jobAt_15 : decode cX1_jobAt 15 = .ok (.isub, 1) := dk_100 (dk_at dksX1_jobAt_0 15 rfl rfl)
theorem dX1_jobAt_16 : decode cX1_jobAt 16 = .ok (.invokestatic 64, 3) := dk_184 0 64 (dk_at dksX1_jobAt_0 16 rfl rfl)
theorem dX1_jobAt_19 : decode cX1_jobAt 19 = .ok (.invokestatic 123, 3) := dk_184 0 123 (dk_at dksX1_jobAt_0 19 rfl rfl)
theorem dX1_jobAt_22 : decode cX1_jobAt 22 = .ok (.aload_n 0, 1) := dk_42 (dk_at dksX1_jobAt_0 22 rfl rfl)
theorem dX1_jobAt_23 : decode cX1_jobAt 23 = .ok (.getfield 39, 3) := dk_180 0 39 (dk_at dksX1_jobAt_1 0 rfl rfl)
theorem dX1_jobAt_26 : decode cX1_jobAt 26 = .ok (.getfield 126, 3) := dk_180 0 126 (dk_at dksX1_jobAt_1 3 rfl rfl)
theorem dX1_jobAt_29 : decode cX1_jobAt 29 = .ok (.iload_n 1, 1) := dk_27 (dk_at dksX1_jobAt_1 6 rfl rfl)
theorem dX1_jobAt_30 : decode cX1_jobAt 30 = .ok (.invokeinterface 129 2, 5) := by decide +kernel
theorem dX1_jobAt_35 : decode cX1_jobAt 35 = .ok (.checkcast 133, 3) := dk_192 0 133 (dk_at dksX1_jobAt_1 12 rfl rfl)
theorem dX1_jobAt_38 : decode cX1_jobAt 38 = .ok (.areturn, 1) := dk_176 (dk_at dksX1_jobAt_1 15 rfl rfl)
abbrev cX1_segmentMany : ByteArray := prog_1_method_28_code
def yX1_segmentMany : MethodName := ⟨RX1, "segmentMany", "(I)I"⟩
def dkwX1_segmentMany_2 : List UInt8 := [96, 61, 167, 255, 220, 28, 172]
abbrev dktX1_segmentMany_2 : List UInt8 := dkwX1_segmentMany_2 ++ []
def dkwX1_segmentMany_1 : List UInt8 := [185, 0, 200, 1, 0, 192, 0, 179, 182, 0, 181, 54, 4, 28, 21, 4, 155, 0, 7, 4, 167, 0, 4, 3]
abbrev dktX1_segmentMany_1 : List UInt8 := dkwX1_segmentMany_1 ++ dktX1_segmentMany_2
def dkwX1_segmentMany_0 : List UInt8 := [3, 61, 42, 180, 0, 39, 27, 182, 0, 184, 182, 0, 188, 78, 45, 185, 0, 194, 1, 0, 153, 0, 33, 45]
abbrev dktX1_segmentMany_0 : List UInt8 := dkwX1_segmentMany_0 ++ dktX1_segmentMany_1
theorem dksX1_segmentMany_0 : cX1_segmentMany.data.toList.drop 0 = dktX1_segmentMany_0 := by decide +kernel
theorem dksX1_segmentMany_1 : cX1_segmentMany.data.toList.drop 24 = dktX1_segmentMany_1 := dk_seg dksX1_segmentMany_0 24 rfl rfl
theorem dksX1_segmentMany_2 : cX1_segmentMany.data.toList.drop 48 = dktX1_segmentMany_2 := dk_seg dksX1_segmentMany_1 24 rfl rfl
theorem dX1_segmentMany_0 : decode cX1_segmentMany 0 = .ok (.iconst 0, 1) := dk_3 (dk_at dksX1_segmentMany_0 0 rfl rfl)
theorem dX1_segmentMany_1 : decode cX1_segmentMany 1 = .ok (.istore_n 2, 1) := dk_61 (dk_at dksX1_segmentMany_0 1 rfl rfl)
theorem dX1_segmentMany_2 : decode cX1_segmentMany 2 = .ok (.aload_n 0, 1) := dk_42 (dk_at dksX1_segmentMany_0 2 rfl rfl)
theorem dX1_segmentMany_3 : decode cX1_segmentMany 3 = .ok (.getfield 39, 3) := dk_180 0 39 (dk_at dksX1_segmentMany_0 3 rfl rfl)
theorem dX1_segmentMany_6 : decode cX1_segmentMany 6 = .ok (.iload_n 1, 1) := dk_27 (dk_at dksX1_segmentMany_0 6 rfl rfl)
theorem dX1_segmentMany_7 : decode cX1_segmentMany 7 = .ok (.invokevirtual 184, 3) := dk_182 0 184 (dk_at dksX1_segmentMany_0 7 rfl rfl)
theorem dX1_segmentMany_10 : decode cX1_segmentMany 10 = .ok (.invokevirtual 188, 3) := dk_182 0 188 (dk_at dksX1_segmentMany_0 10 rfl rfl)
theorem dX1_segmentMany_13 : decode cX1_segmentMany 13 = .ok (.astore_n 3, 1) := dk_78 (dk_at dksX1_segmentMany_0 13 rfl rfl)
theorem dX1_segmentMany_14 : decode cX1_segmentMany 14 = .ok (.aload_n 3, 1) := dk_45 (dk_at dksX1_segmentMany_0 14 rfl rfl)
theorem dX1_segmentMany_15 : decode cX1_segmentMany 15 = .ok (.invokeinterface 194 1, 5) := by decide +kernel
theorem dX1_segmentMany_20 : decode cX1_segmentMany 20 = .ok (.ifCond .eq 33, 3) := dk_153 0 33 (dk_at dksX1_segmentMany_0 20 rfl rfl)
theorem dX1_segmentMany_23 : decode cX1_segmentMany 23 = .ok (.aload_n 3, 1) := dk_45 (dk_at dksX1_segmentMany_0 23 rfl rfl)
theorem dX1_segmentMany_24 : decode cX1_segmentMany 24 = .ok (.invokeinterface 200 1, 5) := by decide +kernel
theorem dX1_segmentMany_29 : decode cX1_segmentMany 29 = .ok (.checkcast 179, 3) := dk_192 0 179 (dk_at dksX1_segmentMany_1 5 rfl rfl)
theorem dX1_segmentMany_32 : decode cX1_segmentMany 32 = .ok (.invokevirtual 181, 3) := dk_182 0 181 (dk_at dksX1_segmentMany_1 8 rfl rfl)
theorem dX1_segmentMany_35 : decode cX1_segmentMany 35 = .ok (.istore 4, 2) := dk_54 4 (dk_at dksX1_segmentMany_1 11 rfl rfl)
theorem dX1_segmentMany_37 : decode cX1_segmentMany 37 = .ok (.iload_n 2, 1) := dk_28 (dk_at dksX1_segmentMany_1 13 rfl rfl)
theorem dX1_segmentMany_38 : decode cX1_segmentMany 38 = .ok (.iload 4, 2) := dk_21 4 (dk_at dksX1_segmentMany_1 14 rfl rfl)
theorem dX1_segmentMany_40 : decode cX1_segmentMany 40 = .ok (.ifCond .lt 7, 3) := dk_155 0 7 (dk_at dksX1_segmentMany_1 16 rfl rfl)
theorem dX1_segmentMany_43 : decode cX1_segmentMany 43 = .ok (.iconst 1, 1) := dk_4 (dk_at dksX1_segmentMany_1 19 rfl rfl)
theorem dX1_segmentMany_44 : decode cX1_segmentMany 44 = .ok (.goto 4, 3) := dk_167 0 4 (dk_at dksX1_segmentMany_1 20 rfl rfl)
theorem dX1_segmentMany_47 : decode cX1_segmentMany 47 = .ok (.iconst 0, 1) := dk_3 (dk_at dksX1_segmentMany_1 23 rfl rfl)
theorem dX1_segmentMany_48 : decode cX1_segmentMany 48 = .ok (.iadd, 1) := dk_96 (dk_at dksX1_segmentMany_2 0 rfl rfl)
theorem dX1_segmentMany_49 : decode cX1_segmentMany 49 = .ok (.istore_n 2, 1) := dk_61 (dk_at dksX1_segmentMany_2 1 rfl rfl)
theorem dX1_segmentMany_50 : decode cX1_segmentMany 50 = .ok (.goto (-36), 3) := dk_167 255 220 (dk_at dksX1_segmentMany_2 2 rfl rfl)
theorem dX1_segmentMany_53 : decode cX1_segmentMany 53 = .ok (.iload_n 2, 1) := dk_28 (dk_at dksX1_segmentMany_2 5 rfl rfl)
theorem dX1_segmentMany_54 : decode cX1_segmentMany 54 = .ok (.ireturn, 1) := dk_172 (dk_at dksX1_segmentMany_2 6 rfl rfl)
abbrev cX1_jobOf : ByteArray := prog_1_method_30_code
def yX1_jobOf : MethodName := ⟨RX1, "jobOf", "(I)I"⟩
def dkwX1_jobOf_0 : List UInt8 := [42, 27, 182, 0, 137, 180, 0, 227, 172]
abbrev dktX1_jobOf_0 : List UInt8 := dkwX1_jobOf_0 ++ []
theorem dksX1_jobOf_0 : cX1_jobOf.data.toList.drop 0 = dktX1_jobOf_0 := by decide +kernel
theorem dX1_jobOf_0 : decode cX1_jobOf 0 = .ok (.aload_n 0, 1) := dk_42 (dk_at dksX1_jobOf_0 0 rfl rfl)
theorem dX1_jobOf_1 : decode cX1_jobOf 1 = .ok (.iload_n 1, 1) := dk_27 (dk_at dksX1_jobOf_0 1 rfl rfl)
theorem dX1_jobOf_2 : decode cX1_jobOf 2 = .ok (.invokevirtual 137, 3) := dk_182 0 137 (dk_at dksX1_jobOf_0 2 rfl rfl)
theorem dX1_jobOf_5 : decode cX1_jobOf 5 = .ok (.getfield 227, 3) := dk_180 0 227 (dk_at dksX1_jobOf_0 5 rfl rfl)
theorem dX1_jobOf_8 : decode cX1_jobOf 8 = .ok (.ireturn, 1) := dk_172 (dk_at dksX1_jobOf_0 8 rfl rfl)
abbrev cX1_segmentAt : ByteArray := prog_1_method_20_code
def yX1_segmentAt : MethodName := ⟨RX1, "segmentAt", "(I)LTranslationBureau$Segment;"⟩
def dkwX1_segmentAt_1 : List UInt8 := [180, 0, 39, 180, 0, 104, 27, 185, 0, 129, 2, 0, 192, 0, 135, 176]
abbrev dktX1_segmentAt_1 : List UInt8 := dkwX1_segmentAt_1 ++ []
def dkwX1_segmentAt_0 : List UInt8 := [27, 3, 42, 180, 0, 39, 180, 0, 104, 185, 0, 108, 1, 0, 4, 100, 184, 0, 64, 184, 0, 123, 42]
abbrev dktX1_segmentAt_0 : List UInt8 := dkwX1_segmentAt_0 ++ dktX1_segmentAt_1
theorem dksX1_segmentAt_0 : cX1_segmentAt.data.toList.drop 0 = dktX1_segmentAt_0 := by decide +kernel
theorem dksX1_segmentAt_1 : cX1_segmentAt.data.toList.drop 23 = dktX1_segmentAt_1 := dk_seg dksX1_segmentAt_0 23 rfl rfl
theorem dX1_segmentAt_0 : decode cX1_segmentAt 0 = .ok (.iload_n 1, 1) := dk_27 (dk_at dksX1_segmentAt_0 0 rfl rfl)
theorem dX1_segmentAt_1 : decode cX1_segmentAt 1 = .ok (.iconst 0, 1) := dk_3 (dk_at dksX1_segmentAt_0 1 rfl rfl)
theorem dX1_segmentAt_2 : decode cX1_segmentAt 2 = .ok (.aload_n 0, 1) := dk_42 (dk_at dksX1_segmentAt_0 2 rfl rfl)
theorem dX1_segmentAt_3 : decode cX1_segmentAt 3 = .ok (.getfield 39, 3) := dk_180 0 39 (dk_at dksX1_segmentAt_0 3 rfl rfl)
theorem dX1_segmentAt_6 : decode cX1_segmentAt 6 = .ok (.getfield 104, 3) := dk_180 0 104 (dk_at dksX1_segmentAt_0 6 rfl rfl)
theorem dX1_segmentAt_9 : decode cX1_segmentAt 9 = .ok (.invokeinterface 108 1, 5) := by decide +kernel
theorem dX1_segmentAt_14 : decode cX1_segmentAt 14 = .ok (.iconst 1, 1) := dk_4 (dk_at dksX1_segmentAt_0 14 rfl rfl)
theorem dX1_segmentAt_15 : decode cX1_segmentAt 15 = .ok (.isub, 1) := dk_100 (dk_at dksX1_segmentAt_0 15 rfl rfl)
theorem dX1_segmentAt_16 : decode cX1_segmentAt 16 = .ok (.invokestatic 64, 3) := dk_184 0 64 (dk_at dksX1_segmentAt_0 16 rfl rfl)
theorem dX1_segmentAt_19 : decode cX1_segmentAt 19 = .ok (.invokestatic 123, 3) := dk_184 0 123 (dk_at dksX1_segmentAt_0 19 rfl rfl)
theorem dX1_segmentAt_22 : decode cX1_segmentAt 22 = .ok (.aload_n 0, 1) := dk_42 (dk_at dksX1_segmentAt_0 22 rfl rfl)
theorem dX1_segmentAt_23 : decode cX1_segmentAt 23 = .ok (.getfield 39, 3) := dk_180 0 39 (dk_at dksX1_segmentAt_1 0 rfl rfl)
theorem dX1_segmentAt_26 : decode cX1_segmentAt 26 = .ok (.getfield 104, 3) := dk_180 0 104 (dk_at dksX1_segmentAt_1 3 rfl rfl)
theorem dX1_segmentAt_29 : decode cX1_segmentAt 29 = .ok (.iload_n 1, 1) := dk_27 (dk_at dksX1_segmentAt_1 6 rfl rfl)
theorem dX1_segmentAt_30 : decode cX1_segmentAt 30 = .ok (.invokeinterface 129 2, 5) := by decide +kernel
theorem dX1_segmentAt_35 : decode cX1_segmentAt 35 = .ok (.checkcast 135, 3) := dk_192 0 135 (dk_at dksX1_segmentAt_1 12 rfl rfl)
theorem dX1_segmentAt_38 : decode cX1_segmentAt 38 = .ok (.areturn, 1) := dk_176 (dk_at dksX1_segmentAt_1 15 rfl rfl)
abbrev cX1_words : ByteArray := prog_1_method_31_code
def yX1_words : MethodName := ⟨RX1, "words", "(IZ)I"⟩
def dkwX1_words_0 : List UInt8 := [42, 27, 182, 0, 137, 28, 182, 0, 141, 185, 0, 108, 1, 0, 172]
abbrev dktX1_words_0 : List UInt8 := dkwX1_words_0 ++ []
theorem dksX1_words_0 : cX1_words.data.toList.drop 0 = dktX1_words_0 := by decide +kernel
theorem dX1_words_0 : decode cX1_words 0 = .ok (.aload_n 0, 1) := dk_42 (dk_at dksX1_words_0 0 rfl rfl)
theorem dX1_words_1 : decode cX1_words 1 = .ok (.iload_n 1, 1) := dk_27 (dk_at dksX1_words_0 1 rfl rfl)
theorem dX1_words_2 : decode cX1_words 2 = .ok (.invokevirtual 137, 3) := dk_182 0 137 (dk_at dksX1_words_0 2 rfl rfl)
theorem dX1_words_5 : decode cX1_words 5 = .ok (.iload_n 2, 1) := dk_28 (dk_at dksX1_words_0 5 rfl rfl)
theorem dX1_words_6 : decode cX1_words 6 = .ok (.invokevirtual 141, 3) := dk_182 0 141 (dk_at dksX1_words_0 6 rfl rfl)
theorem dX1_words_9 : decode cX1_words 9 = .ok (.invokeinterface 108 1, 5) := by decide +kernel
theorem dX1_words_14 : decode cX1_words 14 = .ok (.ireturn, 1) := dk_172 (dk_at dksX1_words_0 14 rfl rfl)
abbrev cX1_isSameWord : ByteArray := prog_1_method_32_code
def yX1_isSameWord : MethodName := ⟨RX1, "isSameWord", "(IIZIIZ)Z"⟩
def dkwX1_isSameWord_0 : List UInt8 := [42, 27, 28, 29, 182, 0, 230, 42, 21, 4, 21, 5, 21, 6, 182, 0, 230, 182, 0, 234, 172]
abbrev dktX1_isSameWord_0 : List UInt8 := dkwX1_isSameWord_0 ++ []
theorem dksX1_isSameWord_0 : cX1_isSameWord.data.toList.drop 0 = dktX1_isSameWord_0 := by decide +kernel
theorem dX1_isSameWord_0 : decode cX1_isSameWord 0 = .ok (.aload_n 0, 1) := dk_42 (dk_at dksX1_isSameWord_0 0 rfl rfl)
theorem dX1_isSameWord_1 : decode cX1_isSameWord 1 = .ok (.iload_n 1, 1) := dk_27 (dk_at dksX1_isSameWord_0 1 rfl rfl)
theorem dX1_isSameWord_2 : decode cX1_isSameWord 2 = .ok (.iload_n 2, 1) := dk_28 (dk_at dksX1_isSameWord_0 2 rfl rfl)
theorem dX1_isSameWord_3 : decode cX1_isSameWord 3 = .ok (.iload_n 3, 1) := dk_29 (dk_at dksX1_isSameWord_0 3 rfl rfl)
theorem dX1_isSameWord_4 : decode cX1_isSameWord 4 = .ok (.invokevirtual 230, 3) := dk_182 0 230 (dk_at dksX1_isSameWord_0 4 rfl rfl)
theorem dX1_isSameWord_7 : decode cX1_isSameWord 7 = .ok (.aload_n 0, 1) := dk_42 (dk_at dksX1_isSameWord_0 7 rfl rfl)
theorem dX1_isSameWord_8 : decode cX1_isSameWord 8 = .ok (.iload 4, 2) := dk_21 4 (dk_at dksX1_isSameWord_0 8 rfl rfl)
theorem dX1_isSameWord_10 : decode cX1_isSameWord 10 = .ok (.iload 5, 2) := dk_21 5 (dk_at dksX1_isSameWord_0 10 rfl rfl)
theorem dX1_isSameWord_12 : decode cX1_isSameWord 12 = .ok (.iload 6, 2) := dk_21 6 (dk_at dksX1_isSameWord_0 12 rfl rfl)
theorem dX1_isSameWord_14 : decode cX1_isSameWord 14 = .ok (.invokevirtual 230, 3) := dk_182 0 230 (dk_at dksX1_isSameWord_0 14 rfl rfl)
theorem dX1_isSameWord_17 : decode cX1_isSameWord 17 = .ok (.invokevirtual 234, 3) := dk_182 0 234 (dk_at dksX1_isSameWord_0 17 rfl rfl)
theorem dX1_isSameWord_20 : decode cX1_isSameWord 20 = .ok (.ireturn, 1) := dk_172 (dk_at dksX1_isSameWord_0 20 rfl rfl)
abbrev cX1_wordAt : ByteArray := prog_1_method_22_code
def yX1_wordAt : MethodName := ⟨RX1, "wordAt", "(IIZ)Ljava/lang/String;"⟩
def dkwX1_wordAt_1 : List UInt8 := [184, 0, 64, 184, 0, 123, 25, 4, 28, 185, 0, 129, 2, 0, 192, 0, 145, 176]
abbrev dktX1_wordAt_1 : List UInt8 := dkwX1_wordAt_1 ++ []
def dkwX1_wordAt_0 : List UInt8 := [42, 27, 182, 0, 137, 29, 182, 0, 141, 58, 4, 28, 3, 25, 4, 185, 0, 108, 1, 0, 4, 100]
abbrev dktX1_wordAt_0 : List UInt8 := dkwX1_wordAt_0 ++ dktX1_wordAt_1
theorem dksX1_wordAt_0 : cX1_wordAt.data.toList.drop 0 = dktX1_wordAt_0 := by decide +kernel
theorem dksX1_wordAt_1 : cX1_wordAt.data.toList.drop 22 = dktX1_wordAt_1 := dk_seg dksX1_wordAt_0 22 rfl rfl
theorem dX1_wordAt_0 : decode cX1_wordAt 0 = .ok (.aload_n 0, 1) := dk_42 (dk_at dksX1_wordAt_0 0 rfl rfl)
theorem dX1_wordAt_1 : decode cX1_wordAt 1 = .ok (.iload_n 1, 1) := dk_27 (dk_at dksX1_wordAt_0 1 rfl rfl)
theorem dX1_wordAt_2 : decode cX1_wordAt 2 = .ok (.invokevirtual 137, 3) := dk_182 0 137 (dk_at dksX1_wordAt_0 2 rfl rfl)
theorem dX1_wordAt_5 : decode cX1_wordAt 5 = .ok (.iload_n 3, 1) := dk_29 (dk_at dksX1_wordAt_0 5 rfl rfl)
theorem dX1_wordAt_6 : decode cX1_wordAt 6 = .ok (.invokevirtual 141, 3) := dk_182 0 141 (dk_at dksX1_wordAt_0 6 rfl rfl)
theorem dX1_wordAt_9 : decode cX1_wordAt 9 = .ok (.astore 4, 2) := dk_58 4 (dk_at dksX1_wordAt_0 9 rfl rfl)
theorem dX1_wordAt_11 : decode cX1_wordAt 11 = .ok (.iload_n 2, 1) := dk_28 (dk_at dksX1_wordAt_0 11 rfl rfl)
theorem dX1_wordAt_12 : decode cX1_wordAt 12 = .ok (.iconst 0, 1) := dk_3 (dk_at dksX1_wordAt_0 12 rfl rfl)
theorem dX1_wordAt_13 : decode cX1_wordAt 13 = .ok (.aload 4, 2) := dk_25 4 (dk_at dksX1_wordAt_0 13 rfl rfl)
theorem dX1_wordAt_15 : decode cX1_wordAt 15 = .ok (.invokeinterface 108 1, 5) := by decide +kernel
theorem dX1_wordAt_20 : decode cX1_wordAt 20 = .ok (.iconst 1, 1) := dk_4 (dk_at dksX1_wordAt_0 20 rfl rfl)
theorem dX1_wordAt_21 : decode cX1_wordAt 21 = .ok (.isub, 1) := dk_100 (dk_at dksX1_wordAt_0 21 rfl rfl)
theorem dX1_wordAt_22 : decode cX1_wordAt 22 = .ok (.invokestatic 64, 3) := dk_184 0 64 (dk_at dksX1_wordAt_1 0 rfl rfl)
theorem dX1_wordAt_25 : decode cX1_wordAt 25 = .ok (.invokestatic 123, 3) := dk_184 0 123 (dk_at dksX1_wordAt_1 3 rfl rfl)
theorem dX1_wordAt_28 : decode cX1_wordAt 28 = .ok (.aload 4, 2) := dk_25 4 (dk_at dksX1_wordAt_1 6 rfl rfl)
theorem dX1_wordAt_30 : decode cX1_wordAt 30 = .ok (.iload_n 2, 1) := dk_28 (dk_at dksX1_wordAt_1 8 rfl rfl)
theorem dX1_wordAt_31 : decode cX1_wordAt 31 = .ok (.invokeinterface 129 2, 5) := by decide +kernel
theorem dX1_wordAt_36 : decode cX1_wordAt 36 = .ok (.checkcast 145, 3) := dk_192 0 145 (dk_at dksX1_wordAt_1 14 rfl rfl)
theorem dX1_wordAt_39 : decode cX1_wordAt 39 = .ok (.areturn, 1) := dk_176 (dk_at dksX1_wordAt_1 17 rfl rfl)
abbrev cX1_distance : ByteArray := prog_1_method_33_code
def yX1_distance : MethodName := ⟨RX1, "distance", "(II)I"⟩
def dkwX1_distance_0 : List UInt8 := [42, 27, 182, 0, 137, 42, 28, 182, 0, 137, 182, 0, 238, 172]
abbrev dktX1_distance_0 : List UInt8 := dkwX1_distance_0 ++ []
theorem dksX1_distance_0 : cX1_distance.data.toList.drop 0 = dktX1_distance_0 := by decide +kernel
theorem dX1_distance_0 : decode cX1_distance 0 = .ok (.aload_n 0, 1) := dk_42 (dk_at dksX1_distance_0 0 rfl rfl)
theorem dX1_distance_1 : decode cX1_distance 1 = .ok (.iload_n 1, 1) := dk_27 (dk_at dksX1_distance_0 1 rfl rfl)
theorem dX1_distance_2 : decode cX1_distance 2 = .ok (.invokevirtual 137, 3) := dk_182 0 137 (dk_at dksX1_distance_0 2 rfl rfl)
theorem dX1_distance_5 : decode cX1_distance 5 = .ok (.aload_n 0, 1) := dk_42 (dk_at dksX1_distance_0 5 rfl rfl)
theorem dX1_distance_6 : decode cX1_distance 6 = .ok (.iload_n 2, 1) := dk_28 (dk_at dksX1_distance_0 6 rfl rfl)
theorem dX1_distance_7 : decode cX1_distance 7 = .ok (.invokevirtual 137, 3) := dk_182 0 137 (dk_at dksX1_distance_0 7 rfl rfl)
theorem dX1_distance_10 : decode cX1_distance 10 = .ok (.invokevirtual 238, 3) := dk_182 0 238 (dk_at dksX1_distance_0 10 rfl rfl)
theorem dX1_distance_13 : decode cX1_distance 13 = .ok (.ireturn, 1) := dk_172 (dk_at dksX1_distance_0 13 rfl rfl)
abbrev cX1_similarity : ByteArray := prog_1_method_34_code
def yX1_similarity : MethodName := ⟨RX1, "similarity", "(II)I"⟩
def dkwX1_similarity_0 : List UInt8 := [42, 27, 182, 0, 137, 42, 28, 182, 0, 137, 182, 0, 242, 172]
abbrev dktX1_similarity_0 : List UInt8 := dkwX1_similarity_0 ++ []
theorem dksX1_similarity_0 : cX1_similarity.data.toList.drop 0 = dktX1_similarity_0 := by decide +kernel
theorem dX1_similarity_0 : decode cX1_similarity 0 = .ok (.aload_n 0, 1) := dk_42 (dk_at dksX1_similarity_0 0 rfl rfl)
theorem dX1_similarity_1 : decode cX1_similarity 1 = .ok (.iload_n 1, 1) := dk_27 (dk_at dksX1_similarity_0 1 rfl rfl)
theorem dX1_similarity_2 : decode cX1_similarity 2 = .ok (.invokevirtual 137, 3) := dk_182 0 137 (dk_at dksX1_similarity_0 2 rfl rfl)
theorem dX1_similarity_5 : decode cX1_similarity 5 = .ok (.aload_n 0, 1) := dk_42 (dk_at dksX1_similarity_0 5 rfl rfl)
theorem dX1_similarity_6 : decode cX1_similarity 6 = .ok (.iload_n 2, 1) := dk_28 (dk_at dksX1_similarity_0 6 rfl rfl)
theorem dX1_similarity_7 : decode cX1_similarity 7 = .ok (.invokevirtual 137, 3) := dk_182 0 137 (dk_at dksX1_similarity_0 7 rfl rfl)
theorem dX1_similarity_10 : decode cX1_similarity 10 = .ok (.invokevirtual 242, 3) := dk_182 0 242 (dk_at dksX1_similarity_0 10 rfl rfl)
theorem dX1_similarity_13 : decode cX1_similarity 13 = .ok (.ireturn, 1) := dk_172 (dk_at dksX1_similarity_0 13 rfl rfl)
abbrev cX1_match : ByteArray := prog_1_method_35_code
def yX1_match : MethodName := ⟨RX1, "match", "(I)I"⟩
def dkwX1_match_1 : List UInt8 := [172]
abbrev dktX1_match_1 : List UInt8 := dkwX1_match_1 ++ []
def dkwX1_match_0 : List UInt8 := [42, 27, 182, 0, 137, 198, 0, 7, 4, 167, 0, 4, 3, 184, 0, 123, 42, 180, 0, 39, 27, 182, 0, 245]
abbrev dktX1_match_0 : List UInt8 := dkwX1_match_0 ++ dktX1_match_1
theorem dksX1_match_0 : cX1_match.data.toList.drop 0 = dktX1_match_0 := by decide +kernel
theorem dksX1_match_1 : cX1_match.data.toList.drop 24 = dktX1_match_1 := dk_seg dksX1_match_0 24 rfl rfl
theorem dX1_match_0 : decode cX1_match 0 = .ok (.aload_n 0, 1) := dk_42 (dk_at dksX1_match_0 0 rfl rfl)
theorem dX1_match_1 : decode cX1_match 1 = .ok (.iload_n 1, 1) := dk_27 (dk_at dksX1_match_0 1 rfl rfl)
theorem dX1_match_2 : decode cX1_match 2 = .ok (.invokevirtual 137, 3) := dk_182 0 137 (dk_at dksX1_match_0 2 rfl rfl)
theorem dX1_match_5 : decode cX1_match 5 = .ok (.ifnull 7, 3) := dk_198 0 7 (dk_at dksX1_match_0 5 rfl rfl)
theorem dX1_match_8 : decode cX1_match 8 = .ok (.iconst 1, 1) := dk_4 (dk_at dksX1_match_0 8 rfl rfl)
theorem dX1_match_9 : decode cX1_match 9 = .ok (.goto 4, 3) := dk_167 0 4 (dk_at dksX1_match_0 9 rfl rfl)
theorem dX1_match_12 : decode cX1_match 12 = .ok (.iconst 0, 1) := dk_3 (dk_at dksX1_match_0 12 rfl rfl)
theorem dX1_match_13 : decode cX1_match 13 = .ok (.invokestatic 123, 3) := dk_184 0 123 (dk_at dksX1_match_0 13 rfl rfl)
theorem dX1_match_16 : decode cX1_match 16 = .ok (.aload_n 0, 1) := dk_42 (dk_at dksX1_match_0 16 rfl rfl)
theorem dX1_match_17 : decode cX1_match 17 = .ok (.getfield 39, 3) := dk_180 0 39 (dk_at dksX1_match_0 17 rfl rfl)
theorem dX1_match_20 : decode cX1_match 20 = .ok (.iload_n 1, 1) := dk_27 (dk_at dksX1_match_0 20 rfl rfl)
theorem dX1_match_21 : decode cX1_match 21 = .ok (.invokevirtual 245, 3) := dk_182 0 245 (dk_at dksX1_match_0 21 rfl rfl)
theorem dX1_match_24 : decode cX1_match 24 = .ok (.ireturn, 1) := dk_172 (dk_at dksX1_match_1 0 rfl rfl)
abbrev cX1_model : ByteArray := prog_1_method_36_code
def yX1_model : MethodName := ⟨RX1, "model", "(I)I"⟩
def dkwX1_model_1 : List UInt8 := [61, 28, 2, 159, 0, 7, 4, 167, 0, 4, 3, 184, 0, 251, 28, 172]
abbrev dktX1_model_1 : List UInt8 := dkwX1_model_1 ++ []
def dkwX1_model_0 : List UInt8 := [42, 27, 182, 0, 137, 198, 0, 7, 4, 167, 0, 4, 3, 184, 0, 123, 42, 180, 0, 39, 27, 182, 0, 248]
abbrev dktX1_model_0 : List UInt8 := dkwX1_model_0 ++ dktX1_model_1
theorem dksX1_model_0 : cX1_model.data.toList.drop 0 = dktX1_model_0 := by decide +kernel
theorem dksX1_model_1 : cX1_model.data.toList.drop 24 = dktX1_model_1 := dk_seg dksX1_model_0 24 rfl rfl
theorem dX1_model_0 : decode cX1_model 0 = .ok (.aload_n 0, 1) := dk_42 (dk_at dksX1_model_0 0 rfl rfl)
theorem dX1_model_1 : decode cX1_model 1 = .ok (.iload_n 1, 1) := dk_27 (dk_at dksX1_model_0 1 rfl rfl)
theorem dX1_model_2 : decode cX1_model 2 = .ok (.invokevirtual 137, 3) := dk_182 0 137 (dk_at dksX1_model_0 2 rfl rfl)
theorem dX1_model_5 : decode cX1_model 5 = .ok (.ifnull 7, 3) := dk_198 0 7 (dk_at dksX1_model_0 5 rfl rfl)
theorem dX1_model_8 : decode cX1_model 8 = .ok (.iconst 1, 1) := dk_4 (dk_at dksX1_model_0 8 rfl rfl)
theorem dX1_model_9 : decode cX1_model 9 = .ok (.goto 4, 3) := dk_167 0 4 (dk_at dksX1_model_0 9 rfl rfl)
theorem dX1_model_12 : decode cX1_model 12 = .ok (.iconst 0, 1) := dk_3 (dk_at dksX1_model_0 12 rfl rfl)
theorem dX1_model_13 : decode cX1_model 13 = .ok (.invokestatic 123, 3) := dk_184 0 123 (dk_at dksX1_model_0 13 rfl rfl)
theorem dX1_model_16 : decode cX1_model 16 = .ok (.aload_n 0, 1) := dk_42 (dk_at dksX1_model_0 16 rfl rfl)
theorem dX1_model_17 : decode cX1_model 17 = .ok (.getfield 39, 3) := dk_180 0 39 (dk_at dksX1_model_0 17 rfl rfl)
theorem dX1_model_20 : decode cX1_model 20 = .ok (.iload_n 1, 1) := dk_27 (dk_at dksX1_model_0 20 rfl rfl)
theorem dX1_model_21 : decode cX1_model 21 = .ok (.invokevirtual 248, 3) := dk_182 0 248 (dk_at dksX1_model_0 21 rfl rfl)
theorem dX1_model_24 : decode cX1_model 24 = .ok (.istore_n 2, 1) := dk_61 (dk_at dksX1_model_1 0 rfl rfl)
theorem dX1_model_25 : decode cX1_model 25 = .ok (.iload_n 2, 1) := dk_28 (dk_at dksX1_model_1 1 rfl rfl)
theorem dX1_model_26 : decode cX1_model 26 = .ok (.iconst (-1), 1) := dk_2 (dk_at dksX1_model_1 2 rfl rfl)
theorem dX1_model_27 : decode cX1_model 27 = .ok (.if_icmp .eq 7, 3) := dk_159 0 7 (dk_at dksX1_model_1 3 rfl rfl)
theorem dX1_model_30 : decode cX1_model 30 = .ok (.iconst 1, 1) := dk_4 (dk_at dksX1_model_1 6 rfl rfl)
theorem dX1_model_31 : decode cX1_model 31 = .ok (.goto 4, 3) := dk_167 0 4 (dk_at dksX1_model_1 7 rfl rfl)
theorem dX1_model_34 : decode cX1_model 34 = .ok (.iconst 0, 1) := dk_3 (dk_at dksX1_model_1 10 rfl rfl)
theorem dX1_model_35 : decode cX1_model 35 = .ok (.invokestatic 251, 3) := dk_184 0 251 (dk_at dksX1_model_1 11 rfl rfl)
theorem dX1_model_38 : decode cX1_model 38 = .ok (.iload_n 2, 1) := dk_28 (dk_at dksX1_model_1 14 rfl rfl)
theorem dX1_model_39 : decode cX1_model 39 = .ok (.ireturn, 1) := dk_172 (dk_at dksX1_model_1 15 rfl rfl)
abbrev cX1_band : ByteArray := prog_1_method_37_code
def yX1_band : MethodName := ⟨RX1, "band", "(I)I"⟩
def dkwX1_band_1 : List UInt8 := [172]
abbrev dktX1_band_1 : List UInt8 := dkwX1_band_1 ++ []
def dkwX1_band_0 : List UInt8 := [42, 27, 182, 0, 137, 198, 0, 7, 4, 167, 0, 4, 3, 184, 0, 123, 42, 180, 0, 39, 27, 182, 0, 254]
abbrev dktX1_band_0 : List UInt8 := dkwX1_band_0 ++ dktX1_band_1
theorem dksX1_band_0 : cX1_band.data.toList.drop 0 = dktX1_band_0 := by decide +kernel
theorem dksX1_band_1 : cX1_band.data.toList.drop 24 = dktX1_band_1 := dk_seg dksX1_band_0 24 rfl rfl
theorem dX1_band_0 : decode cX1_band 0 = .ok (.aload_n 0, 1) := dk_42 (dk_at dksX1_band_0 0 rfl rfl)
theorem dX1_band_1 : decode cX1_band 1 = .ok (.iload_n 1, 1) := dk_27 (dk_at dksX1_band_0 1 rfl rfl)
theorem dX1_band_2 : decode cX1_band 2 = .ok (.invokevirtual 137, 3) := dk_182 0 137 (dk_at dksX1_band_0 2 rfl rfl)
theorem dX1_band_5 : decode cX1_band 5 = .ok (.ifnull 7, 3) := dk_198 0 7 (dk_at dksX1_band_0 5 rfl rfl)
theorem dX1_band_8 : decode cX1_band 8 = .ok (.iconst 1, 1) := dk_4 (dk_at dksX1_band_0 8 rfl rfl)
theorem dX1_band_9 : decode cX1_band 9 = .ok (.goto 4, 3) := dk_167 0 4 (dk_at dksX1_band_0 9 rfl rfl)
theorem dX1_band_12 : decode cX1_band 12 = .ok (.iconst 0, 1) := dk_3 (dk_at dksX1_band_0 12 rfl rfl)
theorem dX1_band_13 : decode cX1_band 13 = .ok (.invokestatic 123, 3) := dk_184 0 123 (dk_at dksX1_band_0 13 rfl rfl)
theorem dX1_band_16 : decode cX1_band 16 = .ok (.aload_n 0, 1) := dk_42 (dk_at dksX1_band_0 16 rfl rfl)
theorem dX1_band_17 : decode cX1_band 17 = .ok (.getfield 39, 3) := dk_180 0 39 (dk_at dksX1_band_0 17 rfl rfl)
theorem dX1_band_20 : decode cX1_band 20 = .ok (.iload_n 1, 1) := dk_27 (dk_at dksX1_band_0 20 rfl rfl)
theorem dX1_band_21 : decode cX1_band 21 = .ok (.invokevirtual 254, 3) := dk_182 0 254 (dk_at dksX1_band_0 21 rfl rfl)
theorem dX1_band_24 : decode cX1_band 24 = .ok (.ireturn, 1) := dk_172 (dk_at dksX1_band_1 0 rfl rfl)
abbrev cX1_bandWords : ByteArray := prog_1_method_38_code
def yX1_bandWords : MethodName := ⟨RX1, "bandWords", "(II)I"⟩
def dkwX1_bandWords_1 : List UInt8 := [27, 182, 1, 1, 28, 46, 172]
abbrev dktX1_bandWords_1 : List UInt8 := dkwX1_bandWords_1 ++ []
def dkwX1_bandWords_0 : List UInt8 := [42, 27, 182, 0, 204, 198, 0, 7, 4, 167, 0, 4, 3, 184, 0, 123, 28, 184, 0, 158, 42, 180, 0, 39]
abbrev dktX1_bandWords_0 : List UInt8 := dkwX1_bandWords_0 ++ dktX1_bandWords_1
theorem dksX1_bandWords_0 : cX1_bandWords.data.toList.drop 0 = dktX1_bandWords_0 := by decide +kernel
theorem dksX1_bandWords_1 : cX1_bandWords.data.toList.drop 24 = dktX1_bandWords_1 := dk_seg dksX1_bandWords_0 24 rfl rfl
theorem dX1_bandWords_0 : decode cX1_bandWords 0 = .ok (.aload_n 0, 1) := dk_42 (dk_at dksX1_bandWords_0 0 rfl rfl)
theorem dX1_bandWords_1 : decode cX1_bandWords 1 = .ok (.iload_n 1, 1) := dk_27 (dk_at dksX1_bandWords_0 1 rfl rfl)
theorem dX1_bandWords_2 : decode cX1_bandWords 2 = .ok (.invokevirtual 204, 3) := dk_182 0 204 (dk_at dksX1_bandWords_0 2 rfl rfl)
theorem dX1_bandWords_5 : decode cX1_bandWords 5 = .ok (.ifnull 7, 3) := dk_198 0 7 (dk_at dksX1_bandWords_0 5 rfl rfl)
theorem dX1_bandWords_8 : decode cX1_bandWords 8 = .ok (.iconst 1, 1) := dk_4 (dk_at dksX1_bandWords_0 8 rfl rfl)
theorem dX1_bandWords_9 : decode cX1_bandWords 9 = .ok (.goto 4, 3) := dk_167 0 4 (dk_at dksX1_bandWords_0 9 rfl rfl)
theorem dX1_bandWords_12 : decode cX1_bandWords 12 = .ok (.iconst 0, 1) := dk_3 (dk_at dksX1_bandWords_0 12 rfl rfl)
theorem dX1_bandWords_13 : decode cX1_bandWords 13 = .ok (.invokestatic 123, 3) := dk_184 0 123 (dk_at dksX1_bandWords_0 13 rfl rfl)
theorem dX1_bandWords_16 : decode cX1_bandWords 16 = .ok (.iload_n 2, 1) := dk_28 (dk_at dksX1_bandWords_0 16 rfl rfl)
theorem dX1_bandWords_17 : decode cX1_bandWords 17 = .ok (.invokestatic 158, 3) := dk_184 0 158 (dk_at dksX1_bandWords_0 17 rfl rfl)
theorem dX1_bandWords_20 : decode cX1_bandWords 20 = .ok (.aload_n 0, 1) := dk_42 (dk_at dksX1_bandWords_0 20 rfl rfl)
theorem dX1_bandWords_21 : decode cX1_bandWords 21 = .ok (.getfield 39, 3) := dk_180 0 39 (dk_at dksX1_bandWords_0 21 rfl rfl)
theorem dX1_bandWords_24 : decode cX1_bandWords 24 = .ok (.iload_n 1, 1) := dk_27 (dk_at dksX1_bandWords_1 0 rfl rfl)
theorem dX1_bandWords_25 : decode cX1_bandWords 25 = .ok (.invokevirtual 257, 3) := dk_182 1 1 (dk_at dksX1_bandWords_1 1 rfl rfl)
theorem dX1_bandWords_28 : decode cX1_bandWords 28 = .ok (.iload_n 2, 1) := dk_28 (dk_at dksX1_bandWords_1 4 rfl rfl)
theorem dX1_bandWords_29 : decode cX1_bandWords 29 = .ok (.iaload, 1) := dk_46 (dk_at dksX1_bandWords_1 5 rfl rfl)
theorem dX1_bandWords_30 : decode cX1_bandWords 30 = .ok (.ireturn, 1) := dk_172 (dk_at dksX1_bandWords_1 6 rfl rfl)
abbrev cX1_repetitions : ByteArray := prog_1_method_39_code
def yX1_repetitions : MethodName := ⟨RX1, "repetitions", "(I)I"⟩
def dkwX1_repetitions_3 : List UInt8 := [132, 4, 1, 167, 255, 199, 29, 172]
abbrev dktX1_repetitions_3 : List UInt8 := dkwX1_repetitions_3 ++ []
def dkwX1_repetitions_2 : List UInt8 := [192, 0, 135, 180, 1, 5, 44, 185, 1, 8, 2, 0, 153, 0, 7, 4, 167, 0, 4, 3, 96, 62]
abbrev dktX1_repetitions_2 : List UInt8 := dkwX1_repetitions_2 ++ dktX1_repetitions_3
def dkwX1_repetitions_1 : List UInt8 := [185, 0, 108, 1, 0, 162, 0, 46, 29, 42, 180, 0, 39, 180, 0, 104, 21, 4, 185, 0, 129, 2, 0]
abbrev dktX1_repetitions_1 : List UInt8 := dkwX1_repetitions_1 ++ dktX1_repetitions_2
def dkwX1_repetitions_0 : List UInt8 := [42, 27, 182, 0, 137, 180, 1, 5, 77, 3, 62, 3, 54, 4, 21, 4, 42, 180, 0, 39, 180, 0, 104]
abbrev dktX1_repetitions_0 : List UInt8 := dkwX1_repetitions_0 ++ dktX1_repetitions_1
theorem dksX1_repetitions_0 : cX1_repetitions.data.toList.drop 0 = dktX1_repetitions_0 := by decide +kernel
theorem dksX1_repetitions_1 : cX1_repetitions.data.toList.drop 23 = dktX1_repetitions_1 := dk_seg dksX1_repetitions_0 23 rfl rfl
theorem dksX1_repetitions_2 : cX1_repetitions.data.toList.drop 46 = dktX1_repetitions_2 := dk_seg dksX1_repetitions_1 23 rfl rfl
theorem dksX1_repetitions_3 : cX1_repetitions.data.toList.drop 68 = dktX1_repetitions_3 := dk_seg dksX1_repetitions_2 22 rfl rfl
theorem dX1_repetitions_0 : decode cX1_repetitions 0 = .ok (.aload_n 0, 1) := dk_42 (dk_at dksX1_repetitions_0 0 rfl rfl)
theorem dX1_repetitions_1 : decode cX1_repetitions 1 = .ok (.iload_n 1, 1) := dk_27 (dk_at dksX1_repetitions_0 1 rfl rfl)
theorem dX1_repetitions_2 : decode cX1_repetitions 2 = .ok (.invokevirtual 137, 3) := dk_182 0 137 (dk_at dksX1_repetitions_0 2 rfl rfl)
theorem dX1_repetitions_5 : decode cX1_repetitions 5 = .ok (.getfield 261, 3) := dk_180 1 5 (dk_at dksX1_repetitions_0 5 rfl rfl)
theorem dX1_repetitions_8 : decode cX1_repetitions 8 = .ok (.astore_n 2, 1) := dk_77 (dk_at dksX1_repetitions_0 8 rfl rfl)
theorem dX1_repetitions_9 : decode cX1_repetitions 9 = .ok (.iconst 0, 1) := dk_3 (dk_at dksX1_repetitions_0 9 rfl rfl)
theorem dX1_repetitions_10 : decode cX1_repetitions 10 = .ok (.istore_n 3, 1) := dk_62 (dk_at dksX1_repetitions_0 10 rfl rfl)
theorem dX1_repetitions_11 : decode cX1_repetitions 11 = .ok (.iconst 0, 1) := dk_3 (dk_at dksX1_repetitions_0 11 rfl rfl)
theorem dX1_repetitions_12 : decode cX1_repetitions 12 = .ok (.istore 4, 2) := dk_54 4 (dk_at dksX1_repetitions_0 12 rfl rfl)
theorem dX1_repetitions_14 : decode cX1_repetitions 14 = .ok (.iload 4, 2) := dk_21 4 (dk_at dksX1_repetitions_0 14 rfl rfl)
theorem dX1_repetitions_16 : decode cX1_repetitions 16 = .ok (.aload_n 0, 1) := dk_42 (dk_at dksX1_repetitions_0 16 rfl rfl)
theorem dX1_repetitions_17 : decode cX1_repetitions 17 = .ok (.getfield 39, 3) := dk_180 0 39 (dk_at dksX1_repetitions_0 17 rfl rfl)
theorem dX1_repetitions_20 : decode cX1_repetitions 20 = .ok (.getfield 104, 3) := dk_180 0 104 (dk_at dksX1_repetitions_0 20 rfl rfl)
theorem dX1_repetitions_23 : decode cX1_repetitions 23 = .ok (.invokeinterface 108 1, 5) := by decide +kernel
theorem dX1_repetitions_28 : decode cX1_repetitions 28 = .ok (.if_icmp .ge 46, 3) := dk_162 0 46 (dk_at dksX1_repetitions_1 5 rfl rfl)
theorem dX1_repetitions_31 : decode cX1_repetitions 31 = .ok (.iload_n 3, 1) := dk_29 (dk_at dksX1_repetitions_1 8 rfl rfl)
theorem dX1_repetitions_32 : decode cX1_repetitions 32 = .ok (.aload_n 0, 1) := dk_42 (dk_at dksX1_repetitions_1 9 rfl rfl)
theorem dX1_repetitions_33 : decode cX1_repetitions 33 = .ok (.getfield 39, 3) := dk_180 0 39 (dk_at dksX1_repetitions_1 10 rfl rfl)
theorem dX1_repetitions_36 : decode cX1_repetitions 36 = .ok (.getfield 104, 3) := dk_180 0 104 (dk_at dksX1_repetitions_1 13 rfl rfl)
theorem dX1_repetitions_39 : decode cX1_repetitions 39 = .ok (.iload 4, 2) := dk_21 4 (dk_at dksX1_repetitions_1 16 rfl rfl)
theorem dX1_repetitions_41 : decode cX1_repetitions 41 = .ok (.invokeinterface 129 2, 5) := by decide +kernel
theorem dX1_repetitions_46 : decode cX1_repetitions 46 = .ok (.checkcast 135, 3) := dk_192 0 135 (dk_at dksX1_repetitions_2 0 rfl rfl)
theorem dX1_repetitions_49 : decode cX1_repetitions 49 = .ok (.getfield 261, 3) := dk_180 1 5 (dk_at dksX1_repetitions_2 3 rfl rfl)
theorem dX1_repetitions_52 : decode cX1_repetitions 52 = .ok (.aload_n 2, 1) := dk_44 (dk_at dksX1_repetitions_2 6 rfl rfl)
theorem dX1_repetitions_53 : decode cX1_repetitions 53 = .ok (.invokeinterface 264 2, 5) := by decide +kernel
theorem dX1_repetitions_58 : decode cX1_repetitions 58 = .ok (.ifCond .eq 7, 3) := dk_153 0 7 (dk_at dksX1_repetitions_2 12 rfl rfl)
theorem dX1_repetitions_61 : decode cX1_repetitions 61 = .ok (.iconst 1, 1) := dk_4 (dk_at dksX1_repetitions_2 15 rfl rfl)
theorem dX1_repetitions_62 : decode cX1_repetitions 62 = .ok (.goto 4, 3) := dk_167 0 4 (dk_at dksX1_repetitions_2 16 rfl rfl)
theorem dX1_repetitions_65 : decode cX1_repetitions 65 = .ok (.iconst 0, 1) := dk_3 (dk_at dksX1_repetitions_2 19 rfl rfl)
theorem dX1_repetitions_66 : decode cX1_repetitions 66 = .ok (.iadd, 1) := dk_96 (dk_at dksX1_repetitions_2 20 rfl rfl)
theorem dX1_repetitions_67 : decode cX1_repetitions 67 = .ok (.istore_n 3, 1) := dk_62 (dk_at dksX1_repetitions_2 21 rfl rfl)
theorem dX1_repetitions_68 : decode cX1_repetitions 68 = .ok (.iinc 4 1, 3) := dk_132 4 1 (dk_at dksX1_repetitions_3 0 rfl rfl)
theorem dX1_repetitions_71 : decode cX1_repetitions 71 = .ok (.goto (-57), 3) := dk_167 255 199 (dk_at dksX1_repetitions_3 3 rfl rfl)
theorem dX1_repetitions_74 : decode cX1_repetitions 74 = .ok (.iload_n 3, 1) := dk_29 (dk_at dksX1_repetitions_3 6 rfl rfl)
theorem dX1_repetitions_75 : decode cX1_repetitions 75 = .ok (.ireturn, 1) := dk_172 (dk_at dksX1_repetitions_3 7 rfl rfl)
abbrev cX1_account : ByteArray := prog_1_method_40_code
def yX1_account : MethodName := ⟨RX1, "account", "(II)I"⟩
def dkwX1_account_1 : List UInt8 := [184, 0, 68, 42, 180, 0, 39, 27, 182, 1, 9, 28, 46, 172]
abbrev dktX1_account_1 : List UInt8 := dkwX1_account_1 ++ []
def dkwX1_account_0 : List UInt8 := [42, 27, 182, 0, 204, 198, 0, 7, 4, 167, 0, 4, 3, 184, 0, 123, 28, 3, 8, 184, 0, 64]
abbrev dktX1_account_0 : List UInt8 := dkwX1_account_0 ++ dktX1_account_1
theorem dksX1_account_0 : cX1_account.data.toList.drop 0 = dktX1_account_0 := by decide +kernel
theorem dksX1_account_1 : cX1_account.data.toList.drop 22 = dktX1_account_1 := dk_seg dksX1_account_0 22 rfl rfl
theorem dX1_account_0 : decode cX1_account 0 = .ok (.aload_n 0, 1) := dk_42 (dk_at dksX1_account_0 0 rfl rfl)
theorem dX1_account_1 : decode cX1_account 1 = .ok (.iload_n 1, 1) := dk_27 (dk_at dksX1_account_0 1 rfl rfl)
theorem dX1_account_2 : decode cX1_account 2 = .ok (.invokevirtual 204, 3) := dk_182 0 204 (dk_at dksX1_account_0 2 rfl rfl)
theorem dX1_account_5 : decode cX1_account 5 = .ok (.ifnull 7, 3) := dk_198 0 7 (dk_at dksX1_account_0 5 rfl rfl)
theorem dX1_account_8 : decode cX1_account 8 = .ok (.iconst 1, 1) := dk_4 (dk_at dksX1_account_0 8 rfl rfl)
theorem dX1_account_9 : decode cX1_account 9 = .ok (.goto 4, 3) := dk_167 0 4 (dk_at dksX1_account_0 9 rfl rfl)
theorem dX1_account_12 : decode cX1_account 12 = .ok (.iconst 0, 1) := dk_3 (dk_at dksX1_account_0 12 rfl rfl)
theorem dX1_account_13 : decode cX1_account 13 = .ok (.invokestatic 123, 3) := dk_184 0 123 (dk_at dksX1_account_0 13 rfl rfl)
theorem dX1_account_16 : decode cX1_account 16 = .ok (.iload_n 2, 1) := dk_28 (dk_at dksX1_account_0 16 rfl rfl)
theorem dX1_account_17 : decode cX1_account 17 = .ok (.iconst 0, 1) := dk_3 (dk_at dksX1_account_0 17 rfl rfl)
theorem dX1_account_18 : decode cX1_account 18 = .ok (.iconst 5, 1) := dk_8 (dk_at dksX1_account_0 18 rfl rfl)
theorem dX1_account_19 : decode cX1_account 19 = .ok (.invokestatic 64, 3) := dk_184 0 64 (dk_at dksX1_account_0 19 rfl rfl)
theorem dX1_account_22 : decode cX1_account 22 = .ok (.invokestatic 68, 3) := dk_184 0 68 (dk_at dksX1_account_1 0 rfl rfl)
theorem dX1_account_25 : decode cX1_account 25 = .ok (.aload_n 0, 1) := dk_42 (dk_at dksX1_account_1 3 rfl rfl)
theorem dX1_account_26 : decode cX1_account 26 = .ok (.getfield 39, 3) := dk_180 0 39 (dk_at dksX1_account_1 4 rfl rfl)
theorem dX1_account_29 : decode cX1_account 29 = .ok (.iload_n 1, 1) := dk_27 (dk_at dksX1_account_1 7 rfl rfl)
theorem dX1_account_30 : decode cX1_account 30 = .ok (.invokevirtual 265, 3) := dk_182 1 9 (dk_at dksX1_account_1 8 rfl rfl)
theorem dX1_account_33 : decode cX1_account 33 = .ok (.iload_n 2, 1) := dk_28 (dk_at dksX1_account_1 11 rfl rfl)
theorem dX1_account_34 : decode cX1_account 34 = .ok (.iaload, 1) := dk_46 (dk_at dksX1_account_1 12 rfl rfl)
theorem dX1_account_35 : decode cX1_account 35 = .ok (.ireturn, 1) := dk_172 (dk_at dksX1_account_1 13 rfl rfl)
abbrev cX1_earned : ByteArray := prog_1_method_41_code
def yX1_earned : MethodName := ⟨RX1, "earned", "(I)I"⟩
def dkwX1_earned_4 : List UInt8 := [167, 255, 175, 28, 172]
abbrev dktX1_earned_4 : List UInt8 := dkwX1_earned_4 ++ []
def dkwX1_earned_3 : List UInt8 := [180, 0, 211, 27, 160, 0, 16, 28, 42, 180, 0, 39, 29, 182, 1, 9, 8, 46, 96, 61, 132, 3, 1]
abbrev dktX1_earned_3 : List UInt8 := dkwX1_earned_3 ++ dktX1_earned_4
def dkwX1_earned_2 : List UInt8 := [180, 0, 208, 27, 160, 0, 16, 28, 42, 180, 0, 39, 29, 182, 1, 9, 7, 46, 96, 61, 25, 4]
abbrev dktX1_earned_2 : List UInt8 := dkwX1_earned_2 ++ dktX1_earned_3
def dkwX1_earned_1 : List UInt8 := [162, 0, 71, 42, 180, 0, 39, 180, 0, 126, 29, 185, 0, 129, 2, 0, 192, 0, 133, 58, 4, 25, 4]
abbrev dktX1_earned_1 : List UInt8 := dkwX1_earned_1 ++ dktX1_earned_2
def dkwX1_earned_0 : List UInt8 := [42, 27, 182, 0, 173, 3, 61, 3, 62, 29, 42, 180, 0, 39, 180, 0, 126, 185, 0, 108, 1, 0]
abbrev dktX1_earned_0 : List UInt8 := dkwX1_earned_0 ++ dktX1_earned_1
theorem dksX1_earned_0 : cX1_earned.data.toList.drop 0 = dktX1_earned_0 := by decide +kernel
theorem dksX1_earned_1 : cX1_earned.data.toList.drop 22 = dktX1_earned_1 := dk_seg dksX1_earned_0 22 rfl rfl
theorem dksX1_earned_2 : cX1_earned.data.toList.drop 45 = dktX1_earned_2 := dk_seg dksX1_earned_1 23 rfl rfl
theorem dksX1_earned_3 : cX1_earned.data.toList.drop 67 = dktX1_earned_3 := dk_seg dksX1_earned_2 22 rfl rfl
theorem dksX1_earned_4 : cX1_earned.data.toList.drop 90 = dktX1_earned_4 := dk_seg dksX1_earned_3 23 rfl rfl
theorem dX1_earned_0 : decode cX1_earned 0 = .ok (.aload_n 0, 1) := dk_42 (dk_at dksX1_earned_0 0 rfl rfl)
theorem dX1_earned_1 : decode cX1_earned 1 = .ok (.iload_n 1, 1) := dk_27 (dk_at dksX1_earned_0 1 rfl rfl)
theorem dX1_earned_2 : decode cX1_earned 2 = .ok (.invokevirtual 173, 3) := dk_182 0 173 (dk_at dksX1_earned_0 2 rfl rfl)
theorem dX1_earned_5 : decode cX1_earned 5 = .ok (.iconst 0, 1) := dk_3 (dk_at dksX1_earned_0 5 rfl rfl)
theorem dX1_earned_6 : decode cX1_earned 6 = .ok (.istore_n 2, 1) := dk_61 (dk_at dksX1_earned_0 6 rfl rfl)
theorem dX1_earned_7 : decode cX1_earned 7 = .ok (.iconst 0, 1) := dk_3 (dk_at dksX1_earned_0 7 rfl rfl)
theorem dX1_earned_8 : decode cX1_earned 8 = .ok (.istore_n 3, 1) := dk_62 (dk_at dksX1_earned_0 8 rfl rfl)
theorem dX1_earned_9 : decode cX1_earned 9 = .ok (.iload_n 3, 1) := dk_29 (dk_at dksX1_earned_0 9 rfl rfl)
theorem dX1_earned_10 : decode cX1_earned 10 = .ok (.aload_n 0, 1) := dk_42 (dk_at dksX1_earned_0 10 rfl rfl)
theorem dX1_earned_11 : decode cX1_earned 11 = .ok (.getfield 39, 3) := dk_180 0 39 (dk_at dksX1_earned_0 11 rfl rfl)
theorem dX1_earned_14 : decode cX1_earned 14 = .ok (.getfield 126, 3) := dk_180 0 126 (dk_at dksX1_earned_0 14 rfl rfl)
theorem dX1_earned_17 : decode cX1_earned 17 = .ok (.invokeinterface 108 1, 5) := by decide +kernel
theorem dX1_earned_22 : decode cX1_earned 22 = .ok (.if_icmp .ge 71, 3) := dk_162 0 71 (dk_at dksX1_earned_1 0 rfl rfl)
theorem dX1_earned_25 : decode cX1_earned 25 = .ok (.aload_n 0, 1) := dk_42 (dk_at dksX1_earned_1 3 rfl rfl)
theorem dX1_earned_26 : decode cX1_earned 26 = .ok (.getfield 39, 3) := dk_180 0 39 (dk_at dksX1_earned_1 4 rfl rfl)
theorem dX1_earned_29 : decode cX1_earned 29 = .ok (.getfield 126, 3) := dk_180 0 126 (dk_at dksX1_earned_1 7 rfl rfl)
theorem dX1_earned_32 : decode cX1_earned 32 = .ok (.iload_n 3, 1) := dk_29 (dk_at dksX1_earned_1 10 rfl rfl)
theorem dX1_earned_33 : decode cX1_earned 33 = .ok (.invokeinterface 129 2, 5) := by decide +kernel
theorem dX1_earned_38 : decode cX1_earned 38 = .ok (.checkcast 133, 3) := dk_192 0 133 (dk_at dksX1_earned_1 16 rfl rfl)
theorem dX1_earned_41 : decode cX1_earned 41 = .ok (.astore 4, 2) := dk_58 4 (dk_at dksX1_earned_1 19 rfl rfl)
theorem dX1_earned_43 : decode cX1_earned 43 = .ok (.aload 4, 2) := dk_25 4 (dk_at dksX1_earned_1 21 rfl rfl)
theorem dX1_earned_45 : decode cX1_earned 45 = .ok (.getfield 208, 3) := dk_180 0 208 (dk_at dksX1_earned_2 0 rfl rfl)
theorem dX1_earned_48 : decode cX1_earned 48 = .ok (.iload_n 1, 1) := dk_27 (dk_at dksX1_earned_2 3 rfl rfl)
theorem dX1_earned_49 : decode cX1_earned 49 = .ok (.if_icmp .ne 16, 3) := dk_160 0 16 (dk_at dksX1_earned_2 4 rfl rfl)
theorem dX1_earned_52 : decode cX1_earned 52 = .ok (.iload_n 2, 1) := dk_28 (dk_at dksX1_earned_2 7 rfl rfl)
theorem dX1_earned_53 : decode cX1_earned 53 = .ok (.aload_n 0, 1) := dk_42 (dk_at dksX1_earned_2 8 rfl rfl)
theorem dX1_earned_54 : decode cX1_earned 54 = .ok (.getfield 39, 3) := dk_180 0 39 (dk_at dksX1_earned_2 9 rfl rfl)
theorem dX1_earned_57 : decode cX1_earned 57 = .ok (.iload_n 3, 1) := dk_29 (dk_at dksX1_earned_2 12 rfl rfl)
theorem dX1_earned_58 : decode cX1_earned 58 = .ok (.invokevirtual 265, 3) := dk_182 1 9 (dk_at dksX1_earned_2 13 rfl rfl)
theorem dX1_earned_61 : decode cX1_earned 61 = .ok (.iconst 4, 1) := dk_7 (dk_at dksX1_earned_2 16 rfl rfl)
theorem dX1_earned_62 : decode cX1_earned 62 = .ok (.iaload, 1) := dk_46 (dk_at dksX1_earned_2 17 rfl rfl)
theorem dX1_earned_63 : decode cX1_earned 63 = .ok (.iadd, 1) := dk_96 (dk_at dksX1_earned_2 18 rfl rfl)
theorem dX1_earned_64 : decode cX1_earned 64 = .ok (.istore_n 2, 1) := dk_61 (dk_at dksX1_earned_2 19 rfl rfl)
theorem dX1_earned_65 : decode cX1_earned 65 = .ok (.aload 4, 2) := dk_25 4 (dk_at dksX1_earned_2 20 rfl rfl)
theorem dX1_earned_67 : decode cX1_earned 67 = .ok (.getfield 211, 3) := dk_180 0 211 (dk_at dksX1_earned_3 0 rfl rfl)
theorem dX1_earned_70 : decode cX1_earned 70 = .ok (.iload_n 1, 1) := dk_27 (dk_at dksX1_earned_3 3 rfl rfl)
theorem dX1_earned_71 : decode cX1_earned 71 = .ok (.if_icmp .ne 16, 3) := dk_160 0 16 (dk_at dksX1_earned_3 4 rfl rfl)
theorem dX1_earned_74 : decode cX1_earned 74 = .ok (.iload_n 2, 1) := dk_28 (dk_at dksX1_earned_3 7 rfl rfl)
theorem dX1_earned_75 : decode cX1_earned 75 = .ok (.aload_n 0, 1) := dk_42 (dk_at dksX1_earned_3 8 rfl rfl)
theorem dX1_earned_76 : decode cX1_earned 76 = .ok (.getfield 39, 3) := dk_180 0 39 (dk_at dksX1_earned_3 9 rfl rfl)
theorem dX1_earned_79 : decode cX1_earned 79 = .ok (.iload_n 3, 1) := dk_29 (dk_at dksX1_earned_3 12 rfl rfl)
theorem dX1_earned_80 : decode cX1_earned 80 = .ok (.invokevirtual 265, 3) := dk_182 1 9 (dk_at dksX1_earned_3 13 rfl rfl)
theorem dX1_earned_83 : decode cX1_earned 83 = .ok (.iconst 5, 1) := dk_8 (dk_at dksX1_earned_3 16 rfl rfl)
theorem dX1_earned_84 : decode cX1_earned 84 = .ok (.iaload, 1) := dk_46 (dk_at dksX1_earned_3 17 rfl rfl)
theorem dX1_earned_85 : decode cX1_earned 85 = .ok (.iadd, 1) := dk_96 (dk_at dksX1_earned_3 18 rfl rfl)
theorem dX1_earned_86 : decode cX1_earned 86 = .ok (.istore_n 2, 1) := dk_61 (dk_at dksX1_earned_3 19 rfl rfl)
theorem dX1_earned_87 : decode cX1_earned 87 = .ok (.iinc 3 1, 3) := dk_132 3 1 (dk_at dksX1_earned_3 20 rfl rfl)
theorem dX1_earned_90 : decode cX1_earned 90 = .ok (.goto (-81), 3) := dk_167 255 175 (dk_at dksX1_earned_4 0 rfl rfl)
theorem dX1_earned_93 : decode cX1_earned 93 = .ok (.iload_n 2, 1) := dk_28 (dk_at dksX1_earned_4 3 rfl rfl)
theorem dX1_earned_94 : decode cX1_earned 94 = .ok (.ireturn, 1) := dk_172 (dk_at dksX1_earned_4 4 rfl rfl)
abbrev cX1_perWord : ByteArray := prog_1_method_43_code
def yX1_perWord : MethodName := ⟨RX1, "perWord", "(I)D"⟩
def dkwX1_perWord_1 : List UInt8 := [61, 28, 154, 0, 7, 14, 167, 0, 17, 42, 180, 0, 39, 27, 182, 1, 9, 7, 46, 135, 28, 135, 111, 175]
abbrev dktX1_perWord_1 : List UInt8 := dkwX1_perWord_1 ++ []
def dkwX1_perWord_0 : List UInt8 := [42, 27, 182, 0, 204, 198, 0, 7, 4, 167, 0, 4, 3, 184, 0, 123, 42, 180, 0, 39, 27, 182, 0, 224]
abbrev dktX1_perWord_0 : List UInt8 := dkwX1_perWord_0 ++ dktX1_perWord_1
theorem dksX1_perWord_0 : cX1_perWord.data.toList.drop 0 = dktX1_perWord_0 := by decide +kernel
theorem dksX1_perWord_1 : cX1_perWord.data.toList.drop 24 = dktX1_perWord_1 := dk_seg dksX1_perWord_0 24 rfl rfl
theorem dX1_perWord_0 : decode cX1_perWord 0 = .ok (.aload_n 0, 1) := dk_42 (dk_at dksX1_perWord_0 0 rfl rfl)
theorem dX1_perWord_1 : decode cX1_perWord 1 = .ok (.iload_n 1, 1) := dk_27 (dk_at dksX1_perWord_0 1 rfl rfl)
theorem dX1_perWord_2 : decode cX1_perWord 2 = .ok (.invokevirtual 204, 3) := dk_182 0 204 (dk_at dksX1_perWord_0 2 rfl rfl)
theorem dX1_perWord_5 : decode cX1_perWord 5 = .ok (.ifnull 7, 3) := dk_198 0 7 (dk_at dksX1_perWord_0 5 rfl rfl)
theorem dX1_perWord_8 : decode cX1_perWord 8 = .ok (.iconst 1, 1) := dk_4 (dk_at dksX1_perWord_0 8 rfl rfl)
theorem dX1_perWord_9 : decode cX1_perWord 9 = .ok (.goto 4, 3) := dk_167 0 4 (dk_at dksX1_perWord_0 9 rfl rfl)
theorem dX1_perWord_12 : decode cX1_perWord 12 = .ok (.iconst 0, 1) := dk_3 (dk_at dksX1_perWord_0 12 rfl rfl)
theorem dX1_perWord_13 : decode cX1_perWord 13 = .ok (.invokestatic 123, 3) := dk_184 0 123 (dk_at dksX1_perWord_0 13 rfl rfl)
theorem dX1_perWord_16 : decode cX1_perWord 16 = .ok (.aload_n 0, 1) := dk_42 (dk_at dksX1_perWord_0 16 rfl rfl)
theorem dX1_perWord_17 : decode cX1_perWord 17 = .ok (.getfield 39, 3) := dk_180 0 39 (dk_at dksX1_perWord_0 17 rfl rfl)
theorem dX1_perWord_20 : decode cX1_perWord 20 = .ok (.iload_n 1, 1) := dk_27 (dk_at dksX1_perWord_0 20 rfl rfl)
theorem dX1_perWord_21 : decode cX1_perWord 21 = .ok (.invokevirtual 224, 3) := dk_182 0 224 (dk_at dksX1_perWord_0 21 rfl rfl)
theorem dX1_perWord_24 : decode cX1_perWord 24 = .ok (.istore_n 2, 1) := dk_61 (dk_at dksX1_perWord_1 0 rfl rfl)
theorem dX1_perWord_25 : decode cX1_perWord 25 = .ok (.iload_n 2, 1) := dk_28 (dk_at dksX1_perWord_1 1 rfl rfl)
theorem dX1_perWord_26 : decode cX1_perWord 26 = .ok (.ifCond .ne 7, 3) := dk_154 0 7 (dk_at dksX1_perWord_1 2 rfl rfl)
theorem dX1_perWord_29 : decode cX1_perWord 29 = .ok (.dconst 0, 1) := dk_14 (dk_at dksX1_perWord_1 5 rfl rfl)
theorem dX1_perWord_30 : decode cX1_perWord 30 = .ok (.goto 17, 3) := dk_167 0 17 (dk_at dksX1_perWord_1 6 rfl rfl)
theorem dX1_perWord_33 : decode cX1_perWord 33 = .ok (.aload_n 0, 1) := dk_42 (dk_at dksX1_perWord_1 9 rfl rfl)
theorem dX1_perWord_34 : decode cX1_perWord 34 = .ok (.getfield 39, 3) := dk_180 0 39 (dk_at dksX1_perWord_1 10 rfl rfl)
theorem dX1_perWord_37 : decode cX1_perWord 37 = .ok (.iload_n 1, 1) := dk_27 (dk_at dksX1_perWord_1 13 rfl rfl)
theorem dX1_perWord_38 : decode cX1_perWord 38 = .ok (.invokevirtual 265, 3) := dk_182 1 9 (dk_at dksX1_perWord_1 14 rfl rfl)
theorem dX1_perWord_41 : decode cX1_perWord 41 = .ok (.iconst 4, 1) := dk_7 (dk_at dksX1_perWord_1 17 rfl rfl)
theorem dX1_perWord_42 : decode cX1_perWord 42 = .ok (.iaload, 1) := dk_46 (dk_at dksX1_perWord_1 18 rfl rfl)
theorem dX1_perWord_43 : decode cX1_perWord 43 = .ok (.i2d, 1) := dk_135 (dk_at dksX1_perWord_1 19 rfl rfl)
theorem dX1_perWord_44 : decode cX1_perWord 44 = .ok (.iload_n 2, 1) := dk_28 (dk_at dksX1_perWord_1 20 rfl rfl)
theorem dX1_perWord_45 : decode cX1_perWord 45 = .ok (.i2d, 1) := dk_135 (dk_at dksX1_perWord_1 21 rfl rfl)
theorem dX1_perWord_46 : decode cX1_perWord 46 = .ok (.ddiv, 1) := dk_111 (dk_at dksX1_perWord_1 22 rfl rfl)
theorem dX1_perWord_47 : decode cX1_perWord 47 = .ok (.dreturn, 1) := dk_175 (dk_at dksX1_perWord_1 23 rfl rfl)
abbrev cX1_loadOf : ByteArray := prog_1_method_44_code
def yX1_loadOf : MethodName := ⟨RX1, "loadOf", "(I)I"⟩
def dkwX1_loadOf_0 : List UInt8 := [42, 27, 182, 0, 173, 42, 180, 0, 39, 27, 2, 182, 1, 15, 172]
abbrev dktX1_loadOf_0 : List UInt8 := dkwX1_loadOf_0 ++ []
theorem dksX1_loadOf_0 : cX1_loadOf.data.toList.drop 0 = dktX1_loadOf_0 := by decide +kernel
theorem dX1_loadOf_0 : decode cX1_loadOf 0 = .ok (.aload_n 0, 1) := dk_42 (dk_at dksX1_loadOf_0 0 rfl rfl)
theorem dX1_loadOf_1 : decode cX1_loadOf 1 = .ok (.iload_n 1, 1) := dk_27 (dk_at dksX1_loadOf_0 1 rfl rfl)
theorem dX1_loadOf_2 : decode cX1_loadOf 2 = .ok (.invokevirtual 173, 3) := dk_182 0 173 (dk_at dksX1_loadOf_0 2 rfl rfl)
theorem dX1_loadOf_5 : decode cX1_loadOf 5 = .ok (.aload_n 0, 1) := dk_42 (dk_at dksX1_loadOf_0 5 rfl rfl)
theorem dX1_loadOf_6 : decode cX1_loadOf 6 = .ok (.getfield 39, 3) := dk_180 0 39 (dk_at dksX1_loadOf_0 6 rfl rfl)
theorem dX1_loadOf_9 : decode cX1_loadOf 9 = .ok (.iload_n 1, 1) := dk_27 (dk_at dksX1_loadOf_0 9 rfl rfl)
theorem dX1_loadOf_10 : decode cX1_loadOf 10 = .ok (.iconst (-1), 1) := dk_2 (dk_at dksX1_loadOf_0 10 rfl rfl)
theorem dX1_loadOf_11 : decode cX1_loadOf 11 = .ok (.invokevirtual 271, 3) := dk_182 1 15 (dk_at dksX1_loadOf_0 11 rfl rfl)
theorem dX1_loadOf_14 : decode cX1_loadOf 14 = .ok (.ireturn, 1) := dk_172 (dk_at dksX1_loadOf_0 14 rfl rfl)
abbrev cX1_halfOf : ByteArray := prog_1_method_8_code
def yX1_halfOf : MethodName := ⟨RX1, "halfOf", "(I)I"⟩
def dkwX1_halfOf_0 : List UInt8 := [26, 4, 96, 5, 108, 172]
abbrev dktX1_halfOf_0 : List UInt8 := dkwX1_halfOf_0 ++ []
theorem dksX1_halfOf_0 : cX1_halfOf.data.toList.drop 0 = dktX1_halfOf_0 := by decide +kernel
theorem dX1_halfOf_0 : decode cX1_halfOf 0 = .ok (.iload_n 0, 1) := dk_26 (dk_at dksX1_halfOf_0 0 rfl rfl)
theorem dX1_halfOf_1 : decode cX1_halfOf 1 = .ok (.iconst 1, 1) := dk_4 (dk_at dksX1_halfOf_0 1 rfl rfl)
theorem dX1_halfOf_2 : decode cX1_halfOf 2 = .ok (.iadd, 1) := dk_96 (dk_at dksX1_halfOf_0 2 rfl rfl)
theorem dX1_halfOf_3 : decode cX1_halfOf 3 = .ok (.iconst 2, 1) := dk_5 (dk_at dksX1_halfOf_0 3 rfl rfl)
theorem dX1_halfOf_4 : decode cX1_halfOf 4 = .ok (.idiv, 1) := dk_108 (dk_at dksX1_halfOf_0 4 rfl rfl)
theorem dX1_halfOf_5 : decode cX1_halfOf 5 = .ok (.ireturn, 1) := dk_172 (dk_at dksX1_halfOf_0 5 rfl rfl)
abbrev cX1_isOverloaded : ByteArray := prog_1_method_45_code
def yX1_isOverloaded : MethodName := ⟨RX1, "isOverloaded", "(I)Z"⟩
def dkwX1_isOverloaded_1 : List UInt8 := [164, 0, 7, 4, 167, 0, 4, 3, 172]
abbrev dktX1_isOverloaded_1 : List UInt8 := dkwX1_isOverloaded_1 ++ []
def dkwX1_isOverloaded_0 : List UInt8 := [42, 27, 182, 1, 19, 42, 180, 0, 39, 180, 0, 176, 27, 185, 0, 129, 2, 0, 192, 0, 179, 182, 0, 181]
abbrev dktX1_isOverloaded_0 : List UInt8 := dkwX1_isOverloaded_0 ++ dktX1_isOverloaded_1
theorem dksX1_isOverloaded_0 : cX1_isOverloaded.data.toList.drop 0 = dktX1_isOverloaded_0 := by decide +kernel
theorem dksX1_isOverloaded_1 : cX1_isOverloaded.data.toList.drop 24 = dktX1_isOverloaded_1 := dk_seg dksX1_isOverloaded_0 24 rfl rfl
theorem dX1_isOverloaded_0 : decode cX1_isOverloaded 0 = .ok (.aload_n 0, 1) := dk_42 (dk_at dksX1_isOverloaded_0 0 rfl rfl)
theorem dX1_isOverloaded_1 : decode cX1_isOverloaded 1 = .ok (.iload_n 1, 1) := dk_27 (dk_at dksX1_isOverloaded_0 1 rfl rfl)
theorem dX1_isOverloaded_2 : decode cX1_isOverloaded 2 = .ok (.invokevirtual 275, 3) := dk_182 1 19 (dk_at dksX1_isOverloaded_0 2 rfl rfl)
theorem dX1_isOverloaded_5 : decode cX1_isOverloaded 5 = .ok (.aload_n 0, 1) := dk_42 (dk_at dksX1_isOverloaded_0 5 rfl rfl)
theorem dX1_isOverloaded_6 : decode cX1_isOverloaded 6 = .ok (.getfield 39, 3) := dk_180 0 39 (dk_at dksX1_isOverloaded_0 6 rfl rfl)
theorem dX1_isOverloaded_9 : decode cX1_isOverloaded 9 = .ok (.getfield 176, 3) := dk_180 0 176 (dk_at dksX1_isOverloaded_0 9 rfl rfl)
theorem dX1_isOverloaded_12 : decode cX1_isOverloaded 12 = .ok (.iload_n 1, 1) := dk_27 (dk_at dksX1_isOverloaded_0 12 rfl rfl)
theorem dX1_isOverloaded_13 : decode cX1_isOverloaded 13 = .ok (.invokeinterface 129 2, 5) := by decide +kernel
theorem dX1_isOverloaded_18 : decode cX1_isOverloaded 18 = .ok (.checkcast 179, 3) := dk_192 0 179 (dk_at dksX1_isOverloaded_0 18 rfl rfl)
theorem dX1_isOverloaded_21 : decode cX1_isOverloaded 21 = .ok (.invokevirtual 181, 3) := dk_182 0 181 (dk_at dksX1_isOverloaded_0 21 rfl rfl)
theorem dX1_isOverloaded_24 : decode cX1_isOverloaded 24 = .ok (.if_icmp .le 7, 3) := dk_164 0 7 (dk_at dksX1_isOverloaded_1 0 rfl rfl)
theorem dX1_isOverloaded_27 : decode cX1_isOverloaded 27 = .ok (.iconst 1, 1) := dk_4 (dk_at dksX1_isOverloaded_1 3 rfl rfl)
theorem dX1_isOverloaded_28 : decode cX1_isOverloaded 28 = .ok (.goto 4, 3) := dk_167 0 4 (dk_at dksX1_isOverloaded_1 4 rfl rfl)
theorem dX1_isOverloaded_31 : decode cX1_isOverloaded 31 = .ok (.iconst 0, 1) := dk_3 (dk_at dksX1_isOverloaded_1 7 rfl rfl)
theorem dX1_isOverloaded_32 : decode cX1_isOverloaded 32 = .ok (.ireturn, 1) := dk_172 (dk_at dksX1_isOverloaded_1 8 rfl rfl)
abbrev cX1_pairs : ByteArray := prog_1_method_46_code
def yX1_pairs : MethodName := ⟨RX1, "pairs", "(II)I"⟩
def dkwX1_pairs_0 : List UInt8 := [42, 27, 182, 0, 173, 42, 28, 182, 0, 173, 42, 180, 0, 39, 27, 28, 2, 182, 1, 22, 172]
abbrev dktX1_pairs_0 : List UInt8 := dkwX1_pairs_0 ++ []
theorem dksX1_pairs_0 : cX1_pairs.data.toList.drop 0 = dktX1_pairs_0 := by decide +kernel
theorem dX1_pairs_0 : decode cX1_pairs 0 = .ok (.aload_n 0, 1) := dk_42 (dk_at dksX1_pairs_0 0 rfl rfl)
theorem dX1_pairs_1 : decode cX1_pairs 1 = .ok (.iload_n 1, 1) := dk_27 (dk_at dksX1_pairs_0 1 rfl rfl)
theorem dX1_pairs_2 : decode cX1_pairs 2 = .ok (.invokevirtual 173, 3) := dk_182 0 173 (dk_at dksX1_pairs_0 2 rfl rfl)
theorem dX1_pairs_5 : decode cX1_pairs 5 = .ok (.aload_n 0, 1) := dk_42 (dk_at dksX1_pairs_0 5 rfl rfl)
theorem dX1_pairs_6 : decode cX1_pairs 6 = .ok (.iload_n 2, 1) := dk_28 (dk_at dksX1_pairs_0 6 rfl rfl)
theorem dX1_pairs_7 : decode cX1_pairs 7 = .ok (.invokevirtual 173, 3) := dk_182 0 173 (dk_at dksX1_pairs_0 7 rfl rfl)
theorem dX1_pairs_10 : decode cX1_pairs 10 = .ok (.aload_n 0, 1) := dk_42 (dk_at dksX1_pairs_0 10 rfl rfl)
theorem dX1_pairs_11 : decode cX1_pairs 11 = .ok (.getfield 39, 3) := dk_180 0 39 (dk_at dksX1_pairs_0 11 rfl rfl)
theorem dX1_pairs_14 : decode cX1_pairs 14 = .ok (.iload_n 1, 1) := dk_27 (dk_at dksX1_pairs_0 14 rfl rfl)
theorem dX1_pairs_15 : decode cX1_pairs 15 = .ok (.iload_n 2, 1) := dk_28 (dk_at dksX1_pairs_0 15 rfl rfl)
theorem dX1_pairs_16 : decode cX1_pairs 16 = .ok (.iconst (-1), 1) := dk_2 (dk_at dksX1_pairs_0 16 rfl rfl)
theorem dX1_pairs_17 : decode cX1_pairs 17 = .ok (.invokevirtual 278, 3) := dk_182 1 22 (dk_at dksX1_pairs_0 17 rfl rfl)
theorem dX1_pairs_20 : decode cX1_pairs 20 = .ok (.ireturn, 1) := dk_172 (dk_at dksX1_pairs_0 20 rfl rfl)
abbrev cX1_suggested : ByteArray := prog_1_method_48_code
def yX1_suggested : MethodName := ⟨RX1, "suggested", "(I)I"⟩
def dkwX1_suggested_1 : List UInt8 := [172]
abbrev dktX1_suggested_1 : List UInt8 := dkwX1_suggested_1 ++ []
def dkwX1_suggested_0 : List UInt8 := [42, 27, 182, 0, 204, 198, 0, 7, 4, 167, 0, 4, 3, 184, 0, 123, 42, 180, 0, 39, 27, 182, 1, 26]
abbrev dktX1_suggested_0 : List UInt8 := dkwX1_suggested_0 ++ dktX1_suggested_1
theorem dksX1_suggested_0 : cX1_suggested.data.toList.drop 0 = dktX1_suggested_0 := by decide +kernel
theorem dksX1_suggested_1 : cX1_suggested.data.toList.drop 24 = dktX1_suggested_1 := dk_seg dksX1_suggested_0 24 rfl rfl
theorem dX1_suggested_0 : decode cX1_suggested 0 = .ok (.aload_n 0, 1) := dk_42 (dk_at dksX1_suggested_0 0 rfl rfl)
theorem dX1_suggested_1 : decode cX1_suggested 1 = .ok (.iload_n 1, 1) := dk_27 (dk_at dksX1_suggested_0 1 rfl rfl)
theorem dX1_suggested_2 : decode cX1_suggested 2 = .ok (.invokevirtual 204, 3) := dk_182 0 204 (dk_at dksX1_suggested_0 2 rfl rfl)
theorem dX1_suggested_5 : decode cX1_suggested 5 = .ok (.ifnull 7, 3) := dk_198 0 7 (dk_at dksX1_suggested_0 5 rfl rfl)
theorem dX1_suggested_8 : decode cX1_suggested 8 = .ok (.iconst 1, 1) := dk_4 (dk_at dksX1_suggested_0 8 rfl rfl)
theorem dX1_suggested_9 : decode cX1_suggested 9 = .ok (.goto 4, 3) := dk_167 0 4 (dk_at dksX1_suggested_0 9 rfl rfl)
theorem dX1_suggested_12 : decode cX1_suggested 12 = .ok (.iconst 0, 1) := dk_3 (dk_at dksX1_suggested_0 12 rfl rfl)
theorem dX1_suggested_13 : decode cX1_suggested 13 = .ok (.invokestatic 123, 3) := dk_184 0 123 (dk_at dksX1_suggested_0 13 rfl rfl)
theorem dX1_suggested_16 : decode cX1_suggested 16 = .ok (.aload_n 0, 1) := dk_42 (dk_at dksX1_suggested_0 16 rfl rfl)
theorem dX1_suggested_17 : decode cX1_suggested 17 = .ok (.getfield 39, 3) := dk_180 0 39 (dk_at dksX1_suggested_0 17 rfl rfl)
theorem dX1_suggested_20 : decode cX1_suggested 20 = .ok (.iload_n 1, 1) := dk_27 (dk_at dksX1_suggested_0 20 rfl rfl)
theorem dX1_suggested_21 : decode cX1_suggested 21 = .ok (.invokevirtual 282, 3) := dk_182 1 26 (dk_at dksX1_suggested_0 21 rfl rfl)
theorem dX1_suggested_24 : decode cX1_suggested 24 = .ok (.ireturn, 1) := dk_172 (dk_at dksX1_suggested_1 0 rfl rfl)
abbrev cX1_version : ByteArray := prog_1_method_50_code
def yX1_version : MethodName := ⟨RX1, "version", "(I)I"⟩
def dkwX1_version_2 : List UInt8 := [153, 0, 7, 4, 167, 0, 4, 3, 96, 62, 132, 4, 1, 167, 255, 212, 29, 172]
abbrev dktX1_version_2 : List UInt8 := dkwX1_version_2 ++ []
def dkwX1_version_1 : List UInt8 := [180, 0, 39, 180, 0, 147, 21, 4, 185, 0, 129, 2, 0, 192, 1, 29, 180, 1, 35, 44, 182, 0, 234]
abbrev dktX1_version_1 : List UInt8 := dkwX1_version_1 ++ dktX1_version_2
def dkwX1_version_0 : List UInt8 := [42, 27, 182, 1, 31, 180, 1, 35, 77, 3, 62, 3, 54, 4, 21, 4, 27, 163, 0, 44, 29, 42]
abbrev dktX1_version_0 : List UInt8 := dkwX1_version_0 ++ dktX1_version_1
theorem dksX1_version_0 : cX1_version.data.toList.drop 0 = dktX1_version_0 := by decide +kernel
theorem dksX1_version_1 : cX1_version.data.toList.drop 22 = dktX1_version_1 := dk_seg dksX1_version_0 22 rfl rfl
theorem dksX1_version_2 : cX1_version.data.toList.drop 45 = dktX1_version_2 := dk_seg dksX1_version_1 23 rfl rfl
theorem dX1_version_0 : decode cX1_version 0 = .ok (.aload_n 0, 1) := dk_42 (dk_at dksX1_version_0 0 rfl rfl)
theorem dX1_version_1 : decode cX1_version 1 = .ok (.iload_n 1, 1) := dk_27 (dk_at dksX1_version_0 1 rfl rfl)
theorem dX1_version_2 : decode cX1_version 2 = .ok (.invokevirtual 287, 3) := dk_182 1 31 (dk_at dksX1_version_0 2 rfl rfl)
theorem dX1_version_5 : decode cX1_version 5 = .ok (.getfield 291, 3) := dk_180 1 35 (dk_at dksX1_version_0 5 rfl rfl)
theorem dX1_version_8 : decode cX1_version 8 = .ok (.astore_n 2, 1) := dk_77 (dk_at dksX1_version_0 8 rfl rfl)
theorem dX1_version_9 : decode cX1_version 9 = .ok (.iconst 0, 1) := dk_3 (dk_at dksX1_version_0 9 rfl rfl)
theorem dX1_version_10 : decode cX1_version 10 = .ok (.istore_n 3, 1) := dk_62 (dk_at dksX1_version_0 10 rfl rfl)
theorem dX1_version_11 : decode cX1_version 11 = .ok (.iconst 0, 1) := dk_3 (dk_at dksX1_version_0 11 rfl rfl)
theorem dX1_version_12 : decode cX1_version 12 = .ok (.istore 4, 2) := dk_54 4 (dk_at dksX1_version_0 12 rfl rfl)
theorem dX1_version_14 : decode cX1_version 14 = .ok (.iload 4, 2) := dk_21 4 (dk_at dksX1_version_0 14 rfl rfl)
theorem dX1_version_16 : decode cX1_version 16 = .ok (.iload_n 1, 1) := dk_27 (dk_at dksX1_version_0 16 rfl rfl)
theorem dX1_version_17 : decode cX1_version 17 = .ok (.if_icmp .gt 44, 3) := dk_163 0 44 (dk_at dksX1_version_0 17 rfl rfl)
theorem dX1_version_20 : decode cX1_version 20 = .ok (.iload_n 3, 1) := dk_29 (dk_at dksX1_version_0 20 rfl rfl)
theorem dX1_version_21 : decode cX1_version 21 = .ok (.aload_n 0, 1) := dk_42 (dk_at dksX1_version_0 21 rfl rfl)
theorem dX1_version_22 : decode cX1_version 22 = .ok (.getfield 39, 3) := dk_180 0 39 (dk_at dksX1_version_1 0 rfl rfl)
theorem dX1_version_25 : decode cX1_version 25 = .ok (.getfield 147, 3) := dk_180 0 147 (dk_at dksX1_version_1 3 rfl rfl)
theorem dX1_version_28 : decode cX1_version 28 = .ok (.iload 4, 2) := dk_21 4 (dk_at dksX1_version_1 6 rfl rfl)
theorem dX1_version_30 : decode cX1_version 30 = .ok (.invokeinterface 129 2, 5) := by decide +kernel
theorem dX1_version_35 : decode cX1_version 35 = .ok (.checkcast 285, 3) := dk_192 1 29 (dk_at dksX1_version_1 13 rfl rfl)
theorem dX1_version_38 : decode cX1_version 38 = .ok (.getfield 291, 3) := dk_180 1 35 (dk_at dksX1_version_1 16 rfl rfl)
theorem dX1_version_41 : decode cX1_version 41 = .ok (.aload_n 2, 1) := dk_44 (dk_at dksX1_version_1 19 rfl rfl)
theorem dX1_version_42 : decode cX1_version 42 = .ok (.invokevirtual 234, 3) := dk_182 0 234 (dk_at dksX1_version_1 20 rfl rfl)
theorem dX1_version_45 : decode cX1_version 45 = .ok (.ifCond .eq 7, 3) := dk_153 0 7 (dk_at dksX1_version_2 0 rfl rfl)
theorem dX1_version_48 : decode cX1_version 48 = .ok (.iconst 1, 1) := dk_4 (dk_at dksX1_version_2 3 rfl rfl)
theorem dX1_version_49 : decode cX1_version 49 = .ok (.goto 4, 3) := dk_167 0 4 (dk_at dksX1_version_2 4 rfl rfl)
theorem dX1_version_52 : decode cX1_version 52 = .ok (.iconst 0, 1) := dk_3 (dk_at dksX1_version_2 7 rfl rfl)
theorem dX1_version_53 : decode cX1_version 53 = .ok (.iadd, 1) := dk_96 (dk_at dksX1_version_2 8 rfl rfl)
theorem dX1_version_54 : decode cX1_version 54 = .ok (.istore_n 3, 1) := dk_62 (dk_at dksX1_version_2 9 rfl rfl)
theorem dX1_version_55 : decode cX1_version 55 = .ok (.iinc 4 1, 3) := dk_132 4 1 (dk_at dksX1_version_2 10 rfl rfl)
theorem dX1_version_58 : decode cX1_version 58 = .ok (.goto (-44), 3) := dk_167 255 212 (dk_at dksX1_version_2 13 rfl rfl)
theorem dX1_version_61 : decode cX1_version 61 = .ok (.iload_n 3, 1) := dk_29 (dk_at dksX1_version_2 16 rfl rfl)
theorem dX1_version_62 : decode cX1_version 62 = .ok (.ireturn, 1) := dk_172 (dk_at dksX1_version_2 17 rfl rfl)
abbrev cX1_termAt : ByteArray := prog_1_method_49_code
def yX1_termAt : MethodName := ⟨RX1, "termAt", "(I)LTranslationBureau$Term;"⟩
def dkwX1_termAt_1 : List UInt8 := [180, 0, 39, 180, 0, 147, 27, 185, 0, 129, 2, 0, 192, 1, 29, 176]
abbrev dktX1_termAt_1 : List UInt8 := dkwX1_termAt_1 ++ []
def dkwX1_termAt_0 : List UInt8 := [27, 3, 42, 180, 0, 39, 180, 0, 147, 185, 0, 108, 1, 0, 4, 100, 184, 0, 64, 184, 0, 123, 42]
abbrev dktX1_termAt_0 : List UInt8 := dkwX1_termAt_0 ++ dktX1_termAt_1
theorem dksX1_termAt_0 : cX1_termAt.data.toList.drop 0 = dktX1_termAt_0 := by decide +kernel
theorem dksX1_termAt_1 : cX1_termAt.data.toList.drop 23 = dktX1_termAt_1 := dk_seg dksX1_termAt_0 23 rfl rfl
theorem dX1_termAt_0 : decode cX1_termAt 0 = .ok (.iload_n 1, 1) := dk_27 (dk_at dksX1_termAt_0 0 rfl rfl)
theorem dX1_termAt_1 : decode cX1_termAt 1 = .ok (.iconst 0, 1) := dk_3 (dk_at dksX1_termAt_0 1 rfl rfl)
theorem dX1_termAt_2 : decode cX1_termAt 2 = .ok (.aload_n 0, 1) := dk_42 (dk_at dksX1_termAt_0 2 rfl rfl)
theorem dX1_termAt_3 : decode cX1_termAt 3 = .ok (.getfield 39, 3) := dk_180 0 39 (dk_at dksX1_termAt_0 3 rfl rfl)
theorem dX1_termAt_6 : decode cX1_termAt 6 = .ok (.getfield 147, 3) := dk_180 0 147 (dk_at dksX1_termAt_0 6 rfl rfl)
theorem dX1_termAt_9 : decode cX1_termAt 9 = .ok (.invokeinterface 108 1, 5) := by decide +kernel
theorem dX1_termAt_14 : decode cX1_termAt 14 = .ok (.iconst 1, 1) := dk_4 (dk_at dksX1_termAt_0 14 rfl rfl)
theorem dX1_termAt_15 : decode cX1_termAt 15 = .ok (.isub, 1) := dk_100 (dk_at dksX1_termAt_0 15 rfl rfl)
theorem dX1_termAt_16 : decode cX1_termAt 16 = .ok (.invokestatic 64, 3) := dk_184 0 64 (dk_at dksX1_termAt_0 16 rfl rfl)
theorem dX1_termAt_19 : decode cX1_termAt 19 = .ok (.invokestatic 123, 3) := dk_184 0 123 (dk_at dksX1_termAt_0 19 rfl rfl)
theorem dX1_termAt_22 : decode cX1_termAt 22 = .ok (.aload_n 0, 1) := dk_42 (dk_at dksX1_termAt_0 22 rfl rfl)
theorem dX1_termAt_23 : decode cX1_termAt 23 = .ok (.getfield 39, 3) := dk_180 0 39 (dk_at dksX1_termAt_1 0 rfl rfl)
theorem dX1_termAt_26 : decode cX1_termAt 26 = .ok (.getfield 147, 3) := dk_180 0 147 (dk_at dksX1_termAt_1 3 rfl rfl)
theorem dX1_termAt_29 : decode cX1_termAt 29 = .ok (.iload_n 1, 1) := dk_27 (dk_at dksX1_termAt_1 6 rfl rfl)
theorem dX1_termAt_30 : decode cX1_termAt 30 = .ok (.invokeinterface 129 2, 5) := by decide +kernel
theorem dX1_termAt_35 : decode cX1_termAt 35 = .ok (.checkcast 285, 3) := dk_192 1 29 (dk_at dksX1_termAt_1 12 rfl rfl)
theorem dX1_termAt_38 : decode cX1_termAt 38 = .ok (.areturn, 1) := dk_176 (dk_at dksX1_termAt_1 15 rfl rfl)
abbrev cX1_rule : ByteArray := prog_1_method_51_code
def yX1_rule : MethodName := ⟨RX1, "rule", "(II)I"⟩
def dkwX1_rule_1 : List UInt8 := [182, 1, 39, 172]
abbrev dktX1_rule_1 : List UInt8 := dkwX1_rule_1 ++ []
def dkwX1_rule_0 : List UInt8 := [42, 27, 28, 3, 182, 0, 230, 198, 0, 7, 4, 167, 0, 4, 3, 184, 0, 123, 42, 180, 0, 39, 27, 28]
abbrev dktX1_rule_0 : List UInt8 := dkwX1_rule_0 ++ dktX1_rule_1
theorem dksX1_rule_0 : cX1_rule.data.toList.drop 0 = dktX1_rule_0 := by decide +kernel
theorem dksX1_rule_1 : cX1_rule.data.toList.drop 24 = dktX1_rule_1 := dk_seg dksX1_rule_0 24 rfl rfl
theorem dX1_rule_0 : decode cX1_rule 0 = .ok (.aload_n 0, 1) := dk_42 (dk_at dksX1_rule_0 0 rfl rfl)
theorem dX1_rule_1 : decode cX1_rule 1 = .ok (.iload_n 1, 1) := dk_27 (dk_at dksX1_rule_0 1 rfl rfl)
theorem dX1_rule_2 : decode cX1_rule 2 = .ok (.iload_n 2, 1) := dk_28 (dk_at dksX1_rule_0 2 rfl rfl)
theorem dX1_rule_3 : decode cX1_rule 3 = .ok (.iconst 0, 1) := dk_3 (dk_at dksX1_rule_0 3 rfl rfl)
theorem dX1_rule_4 : decode cX1_rule 4 = .ok (.invokevirtual 230, 3) := dk_182 0 230 (dk_at dksX1_rule_0 4 rfl rfl)
theorem dX1_rule_7 : decode cX1_rule 7 = .ok (.ifnull 7, 3) := dk_198 0 7 (dk_at dksX1_rule_0 7 rfl rfl)
theorem dX1_rule_10 : decode cX1_rule 10 = .ok (.iconst 1, 1) := dk_4 (dk_at dksX1_rule_0 10 rfl rfl)
theorem dX1_rule_11 : decode cX1_rule 11 = .ok (.goto 4, 3) := dk_167 0 4 (dk_at dksX1_rule_0 11 rfl rfl)
theorem dX1_rule_14 : decode cX1_rule 14 = .ok (.iconst 0, 1) := dk_3 (dk_at dksX1_rule_0 14 rfl rfl)
theorem dX1_rule_15 : decode cX1_rule 15 = .ok (.invokestatic 123, 3) := dk_184 0 123 (dk_at dksX1_rule_0 15 rfl rfl)
theorem dX1_rule_18 : decode cX1_rule 18 = .ok (.aload_n 0, 1) := dk_42 (dk_at dksX1_rule_0 18 rfl rfl)
theorem dX1_rule_19 : decode cX1_rule 19 = .ok (.getfield 39, 3) := dk_180 0 39 (dk_at dksX1_rule_0 19 rfl rfl)
theorem dX1_rule_22 : decode cX1_rule 22 = .ok (.iload_n 1, 1) := dk_27 (dk_at dksX1_rule_0 22 rfl rfl)
theorem dX1_rule_23 : decode cX1_rule 23 = .ok (.iload_n 2, 1) := dk_28 (dk_at dksX1_rule_0 23 rfl rfl)
theorem dX1_rule_24 : decode cX1_rule 24 = .ok (.invokevirtual 295, 3) := dk_182 1 39 (dk_at dksX1_rule_1 0 rfl rfl)
theorem dX1_rule_27 : decode cX1_rule 27 = .ok (.ireturn, 1) := dk_172 (dk_at dksX1_rule_1 3 rfl rfl)
abbrev cX1_uses : ByteArray := prog_1_method_52_code
def yX1_uses : MethodName := ⟨RX1, "uses", "(I)I"⟩
def dkwX1_uses_2 : List UInt8 := [153, 0, 7, 4, 167, 0, 4, 3, 96, 61, 132, 3, 1, 167, 255, 217, 28, 172]
abbrev dktX1_uses_2 : List UInt8 := dkwX1_uses_2 ++ []
def dkwX1_uses_1 : List UInt8 := [180, 0, 39, 180, 0, 104, 185, 0, 108, 1, 0, 162, 0, 29, 28, 42, 180, 0, 39, 29, 27, 182, 1, 42]
abbrev dktX1_uses_1 : List UInt8 := dkwX1_uses_1 ++ dktX1_uses_2
def dkwX1_uses_0 : List UInt8 := [42, 27, 182, 1, 31, 198, 0, 7, 4, 167, 0, 4, 3, 184, 0, 123, 3, 61, 3, 62, 29, 42]
abbrev dktX1_uses_0 : List UInt8 := dkwX1_uses_0 ++ dktX1_uses_1
theorem dksX1_uses_0 : cX1_uses.data.toList.drop 0 = dktX1_uses_0 := by decide +kernel
theorem dksX1_uses_1 : cX1_uses.data.toList.drop 22 = dktX1_uses_1 := dk_seg dksX1_uses_0 22 rfl rfl
theorem dksX1_uses_2 : cX1_uses.data.toList.drop 46 = dktX1_uses_2 := dk_seg dksX1_uses_1 24 rfl rfl
theorem dX1_uses_0 : decode cX1_uses 0 = .ok (.aload_n 0, 1) := dk_42 (dk_at dksX1_uses_0 0 rfl rfl)
theorem dX1_uses_1 : decode cX1_uses 1 = .ok (.iload_n 1, 1) := dk_27 (dk_at dksX1_uses_0 1 rfl rfl)
theorem dX1_uses_2 : decode cX1_uses 2 = .ok (.invokevirtual 287, 3) := dk_182 1 31 (dk_at dksX1_uses_0 2 rfl rfl)
theorem dX1_uses_5 : decode cX1_uses 5 = .ok (.ifnull 7, 3) := dk_198 0 7 (dk_at dksX1_uses_0 5 rfl rfl)
theorem dX1_uses_8 : decode cX1_uses 8 = .ok (.iconst 1, 1) := dk_4 (dk_at dksX1_uses_0 8 rfl rfl)
theorem dX1_uses_9 : decode cX1_uses 9 = .ok (.goto 4, 3) := dk_167 0 4 (dk_at dksX1_uses_0 9 rfl rfl)
theorem dX1_uses_12 : decode cX1_uses 12 = .ok (.iconst 0, 1) := dk_3 (dk_at dksX1_uses_0 12 rfl rfl)
theorem dX1_uses_13 : decode cX1_uses 13 = .ok (.invokestatic 123, 3) := dk_184 0 123 (dk_at dksX1_uses_0 13 rfl rfl)
theorem dX1_uses_16 : decode cX1_uses 16 = .ok (.iconst 0, 1) := dk_3 (dk_at dksX1_uses_0 16 rfl rfl)
theorem dX1_uses_17 : decode cX1_uses 17 = .ok (.istore_n 2, 1) := dk_61 (dk_at dksX1_uses_0 17 rfl rfl)
theorem dX1_uses_18 : decode cX1_uses 18 = .ok (.iconst 0, 1) := dk_3 (dk_at dksX1_uses_0 18 rfl rfl)
theorem dX1_uses_19 : decode cX1_uses 19 = .ok (.istore_n 3, 1) := dk_62 (dk_at dksX1_uses_0 19 rfl rfl)
theorem dX1_uses_20 : decode cX1_uses 20 = .ok (.iload_n 3, 1) := dk_29 (dk_at dksX1_uses_0 20 rfl rfl)
theorem dX1_uses_21 : decode cX1_uses 21 = .ok (.aload_n 0, 1) := dk_42 (dk_at dksX1_uses_0 21 rfl rfl)
theorem dX1_uses_22 : decode cX1_uses 22 = .ok (.getfield 39, 3) := dk_180 0 39 (dk_at dksX1_uses_1 0 rfl rfl)
theorem dX1_uses_25 : decode cX1_uses 25 = .ok (.getfield 104, 3) := dk_180 0 104 (dk_at dksX1_uses_1 3 rfl rfl)
theorem dX1_uses_28 : decode cX1_uses 28 = .ok (.invokeinterface 108 1, 5) := by decide +kernel
theorem dX1_uses_33 : decode cX1_uses 33 = .ok (.if_icmp .ge 29, 3) := dk_162 0 29 (dk_at dksX1_uses_1 11 rfl rfl)
theorem dX1_uses_36 : decode cX1_uses 36 = .ok (.iload_n 2, 1) := dk_28 (dk_at dksX1_uses_1 14 rfl rfl)
theorem dX1_uses_37 : decode cX1_uses 37 = .ok (.aload_n 0, 1) := dk_42 (dk_at dksX1_uses_1 15 rfl rfl)
theorem dX1_uses_38 : decode cX1_uses 38 = .ok (.getfield 39, 3) := dk_180 0 39 (dk_at dksX1_uses_1 16 rfl rfl)
theorem dX1_uses_41 : decode cX1_uses 41 = .ok (.iload_n 3, 1) := dk_29 (dk_at dksX1_uses_1 19 rfl rfl)
theorem dX1_uses_42 : decode cX1_uses 42 = .ok (.iload_n 1, 1) := dk_27 (dk_at dksX1_uses_1 20 rfl rfl)
theorem dX1_uses_43 : decode cX1_uses 43 = .ok (.invokevirtual 298, 3) := dk_182 1 42 (dk_at dksX1_uses_1 21 rfl rfl)
theorem dX1_uses_46 : decode cX1_uses 46 = .ok (.ifCond .eq 7, 3) := dk_153 0 7 (dk_at dksX1_uses_2 0 rfl rfl)
theorem dX1_uses_49 : decode cX1_uses 49 = .ok (.iconst 1, 1) := dk_4 (dk_at dksX1_uses_2 3 rfl rfl)
theorem dX1_uses_50 : decode cX1_uses 50 = .ok (.goto 4, 3) := dk_167 0 4 (dk_at dksX1_uses_2 4 rfl rfl)
theorem dX1_uses_53 : decode cX1_uses 53 = .ok (.iconst 0, 1) := dk_3 (dk_at dksX1_uses_2 7 rfl rfl)
theorem dX1_uses_54 : decode cX1_uses 54 = .ok (.iadd, 1) := dk_96 (dk_at dksX1_uses_2 8 rfl rfl)
theorem dX1_uses_55 : decode cX1_uses 55 = .ok (.istore_n 2, 1) := dk_61 (dk_at dksX1_uses_2 9 rfl rfl)
theorem dX1_uses_56 : decode cX1_uses 56 = .ok (.iinc 3 1, 3) := dk_132 3 1 (dk_at dksX1_uses_2 10 rfl rfl)
theorem dX1_uses_59 : decode cX1_uses 59 = .ok (.goto (-39), 3) := dk_167 255 217 (dk_at dksX1_uses_2 13 rfl rfl)
theorem dX1_uses_62 : decode cX1_uses 62 = .ok (.iload_n 2, 1) := dk_28 (dk_at dksX1_uses_2 16 rfl rfl)
theorem dX1_uses_63 : decode cX1_uses 63 = .ok (.ireturn, 1) := dk_172 (dk_at dksX1_uses_2 17 rfl rfl)
abbrev cX1_finding : ByteArray := prog_1_method_54_code
def yX1_finding : MethodName := ⟨RX1, "finding", "(II)I"⟩
def dkwX1_finding_1 : List UInt8 := [167, 0, 19, 28, 4, 160, 0, 10, 45, 180, 1, 53, 167, 0, 7, 45, 182, 1, 56, 172]
abbrev dktX1_finding_1 : List UInt8 := dkwX1_finding_1 ++ []
def dkwX1_finding_0 : List UInt8 := [42, 27, 182, 1, 48, 78, 28, 3, 5, 184, 0, 64, 184, 0, 68, 28, 154, 0, 10, 45, 182, 1, 52]
abbrev dktX1_finding_0 : List UInt8 := dkwX1_finding_0 ++ dktX1_finding_1
theorem dksX1_finding_0 : cX1_finding.data.toList.drop 0 = dktX1_finding_0 := by decide +kernel
theorem dksX1_finding_1 : cX1_finding.data.toList.drop 23 = dktX1_finding_1 := dk_seg dksX1_finding_0 23 rfl rfl
theorem dX1_finding_0 : decode cX1_finding 0 = .ok (.aload_n 0, 1) := dk_42 (dk_at dksX1_finding_0 0 rfl rfl)
theorem dX1_finding_1 : decode cX1_finding 1 = .ok (.iload_n 1, 1) := dk_27 (dk_at dksX1_finding_0 1 rfl rfl)
theorem dX1_finding_2 : decode cX1_finding 2 = .ok (.invokevirtual 304, 3) := dk_182 1 48 (dk_at dksX1_finding_0 2 rfl rfl)
theorem dX1_finding_5 : decode cX1_finding 5 = .ok (.astore_n 3, 1) := dk_78 (dk_at dksX1_finding_0 5 rfl rfl)
theorem dX1_finding_6 : decode cX1_finding 6 = .ok (.iload_n 2, 1) := dk_28 (dk_at dksX1_finding_0 6 rfl rfl)
theorem dX1_finding_7 : decode cX1_finding 7 = .ok (.iconst 0, 1) := dk_3 (dk_at dksX1_finding_0 7 rfl rfl)
theorem dX1_finding_8 : decode cX1_finding 8 = .ok (.iconst 2, 1) := dk_5 (dk_at dksX1_finding_0 8 rfl rfl)
theorem dX1_finding_9 : decode cX1_finding 9 = .ok (.invokestatic 64, 3) := dk_184 0 64 (dk_at dksX1_finding_0 9 rfl rfl)
theorem dX1_finding_12 : decode cX1_finding 12 = .ok (.invokestatic 68, 3) := dk_184 0 68 (dk_at dksX1_finding_0 12 rfl rfl)
theorem dX1_finding_15 : decode cX1_finding 15 = .ok (.iload_n 2, 1) := dk_28 (dk_at dksX1_finding_0 15 rfl rfl)
theorem dX1_finding_16 : decode cX1_finding 16 = .ok (.ifCond .ne 10, 3) := dk_154 0 10 (dk_at dksX1_finding_0 16 rfl rfl)
theorem dX1_finding_19 : decode cX1_finding 19 = .ok (.aload_n 3, 1) := dk_45 (dk_at dksX1_finding_0 19 rfl rfl)
theorem dX1_finding_20 : decode cX1_finding 20 = .ok (.invokevirtual 308, 3) := dk_182 1 52 (dk_at dksX1_finding_0 20 rfl rfl)
theorem dX1_finding_23 : decode cX1_finding 23 = .ok (.goto 19, 3) := dk_167 0 19 (dk_at dksX1_finding_1 0 rfl rfl)
theorem dX1_finding_26 : decode cX1_finding 26 = .ok (.iload_n 2, 1) := dk_28 (dk_at dksX1_finding_1 3 rfl rfl)
theorem dX1_finding_27 : decode cX1_finding 27 = .ok (.iconst 1, 1) := dk_4 (dk_at dksX1_finding_1 4 rfl rfl)
theorem dX1_finding_28 : decode cX1_finding 28 = .ok (.if_icmp .ne 10, 3) := dk_160 0 10 (dk_at dksX1_finding_1 5 rfl rfl)
theorem dX1_finding_31 : decode cX1_finding 31 = .ok (.aload_n 3, 1) := dk_45 (dk_at dksX1_finding_1 8 rfl rfl)
theorem dX1_finding_32 : decode cX1_finding 32 = .ok (.getfield 309, 3) := dk_180 1 53 (dk_at dksX1_finding_1 9 rfl rfl)
theorem dX1_finding_35 : decode cX1_finding 35 = .ok (.goto 7, 3) := dk_167 0 7 (dk_at dksX1_finding_1 12 rfl rfl)
theorem dX1_finding_38 : decode cX1_finding 38 = .ok (.aload_n 3, 1) := dk_45 (dk_at dksX1_finding_1 15 rfl rfl)
theorem dX1_finding_39 : decode cX1_finding 39 = .ok (.invokevirtual 312, 3) := dk_182 1 56 (dk_at dksX1_finding_1 16 rfl rfl)
theorem dX1_finding_42 : decode cX1_finding 42 = .ok (.ireturn, 1) := dk_172 (dk_at dksX1_finding_1 19 rfl rfl)
abbrev cX1_findingAt : ByteArray := prog_1_method_53_code
def yX1_findingAt : MethodName := ⟨RX1, "findingAt", "(I)LTranslationBureau$Finding;"⟩
def dkwX1_findingAt_1 : List UInt8 := [44, 27, 185, 0, 129, 2, 0, 192, 1, 46, 176]
abbrev dktX1_findingAt_1 : List UInt8 := dkwX1_findingAt_1 ++ []
def dkwX1_findingAt_0 : List UInt8 := [42, 180, 0, 39, 182, 0, 150, 77, 27, 3, 44, 185, 0, 108, 1, 0, 4, 100, 184, 0, 64, 184, 0, 123]
abbrev dktX1_findingAt_0 : List UInt8 := dkwX1_findingAt_0 ++ dktX1_findingAt_1
theorem dksX1_findingAt_0 : cX1_findingAt.data.toList.drop 0 = dktX1_findingAt_0 := by decide +kernel
theorem dksX1_findingAt_1 : cX1_findingAt.data.toList.drop 24 = dktX1_findingAt_1 := dk_seg dksX1_findingAt_0 24 rfl rfl
theorem dX1_findingAt_0 : decode cX1_findingAt 0 = .ok (.aload_n 0, 1) := dk_42 (dk_at dksX1_findingAt_0 0 rfl rfl)
theorem dX1_findingAt_1 : decode cX1_findingAt 1 = .ok (.getfield 39, 3) := dk_180 0 39 (dk_at dksX1_findingAt_0 1 rfl rfl)
theorem dX1_findingAt_4 : decode cX1_findingAt 4 = .ok (.invokevirtual 150, 3) := dk_182 0 150 (dk_at dksX1_findingAt_0 4 rfl rfl)
theorem dX1_findingAt_7 : decode cX1_findingAt 7 = .ok (.astore_n 2, 1) := dk_77 (dk_at dksX1_findingAt_0 7 rfl rfl)
theorem dX1_findingAt_8 : decode cX1_findingAt 8 = .ok (.iload_n 1, 1) := dk_27 (dk_at dksX1_findingAt_0 8 rfl rfl)
theorem dX1_findingAt_9 : decode cX1_findingAt 9 = .ok (.iconst 0, 1) := dk_3 (dk_at dksX1_findingAt_0 9 rfl rfl)
theorem dX1_findingAt_10 : decode cX1_findingAt 10 = .ok (.aload_n 2, 1) := dk_44 (dk_at dksX1_findingAt_0 10 rfl rfl)
theorem dX1_findingAt_11 : decode cX1_findingAt 11 = .ok (.invokeinterface 108 1, 5) := by decide +kernel
theorem dX1_findingAt_16 : decode cX1_findingAt 16 = .ok (.iconst 1, 1) := dk_4 (dk_at dksX1_findingAt_0 16 rfl rfl)
theorem dX1_findingAt_17 : decode cX1_findingAt 17 = .ok (.isub, 1) := dk_100 (dk_at dksX1_findingAt_0 17 rfl rfl)
theorem dX1_findingAt_18 : decode cX1_findingAt 18 = .ok (.invokestatic 64, 3) := dk_184 0 64 (dk_at dksX1_findingAt_0 18 rfl rfl)
theorem dX1_findingAt_21 : decode cX1_findingAt 21 = .ok (.invokestatic 123, 3) := dk_184 0 123 (dk_at dksX1_findingAt_0 21 rfl rfl)
theorem dX1_findingAt_24 : decode cX1_findingAt 24 = .ok (.aload_n 2, 1) := dk_44 (dk_at dksX1_findingAt_1 0 rfl rfl)
theorem dX1_findingAt_25 : decode cX1_findingAt 25 = .ok (.iload_n 1, 1) := dk_27 (dk_at dksX1_findingAt_1 1 rfl rfl)
theorem dX1_findingAt_26 : decode cX1_findingAt 26 = .ok (.invokeinterface 129 2, 5) := by decide +kernel
theorem dX1_findingAt_31 : decode cX1_findingAt 31 = .ok (.checkcast 302, 3) := dk_192 1 46 (dk_at dksX1_findingAt_1 7 rfl rfl)
theorem dX1_findingAt_34 : decode cX1_findingAt 34 = .ok (.areturn, 1) := dk_176 (dk_at dksX1_findingAt_1 10 rfl rfl)
abbrev cX1_findings : ByteArray := prog_1_method_55_code
def yX1_findings : MethodName := ⟨RX1, "findings", "(II)I"⟩
def dkwX1_findings_1 : List UInt8 := [184, 0, 68, 42, 180, 0, 39, 27, 28, 182, 1, 59, 172]
abbrev dktX1_findings_1 : List UInt8 := dkwX1_findings_1 ++ []
def dkwX1_findings_0 : List UInt8 := [42, 27, 182, 0, 204, 198, 0, 7, 4, 167, 0, 4, 3, 184, 0, 123, 28, 3, 5, 184, 0, 64]
abbrev dktX1_findings_0 : List UInt8 := dkwX1_findings_0 ++ dktX1_findings_1
theorem dksX1_findings_0 : cX1_findings.data.toList.drop 0 = dktX1_findings_0 := by decide +kernel
theorem dksX1_findings_1 : cX1_findings.data.toList.drop 22 = dktX1_findings_1 := dk_seg dksX1_findings_0 22 rfl rfl
theorem dX1_findings_0 : decode cX1_findings 0 = .ok (.aload_n 0, 1) := dk_42 (dk_at dksX1_findings_0 0 rfl rfl)
theorem dX1_findings_1 : decode cX1_findings 1 = .ok (.iload_n 1, 1) := dk_27 (dk_at dksX1_findings_0 1 rfl rfl)
theorem dX1_findings_2 : decode cX1_findings 2 = .ok (.invokevirtual 204, 3) := dk_182 0 204 (dk_at dksX1_findings_0 2 rfl rfl)
theorem dX1_findings_5 : decode cX1_findings 5 = .ok (.ifnull 7, 3) := dk_198 0 7 (dk_at dksX1_findings_0 5 rfl rfl)
theorem dX1_findings_8 : decode cX1_findings 8 = .ok (.iconst 1, 1) := dk_4 (dk_at dksX1_findings_0 8 rfl rfl)
theorem dX1_findings_9 : decode cX1_findings 9 = .ok (.goto 4, 3) := dk_167 0 4 (dk_at dksX1_findings_0 9 rfl rfl)
theorem dX1_findings_12 : decode cX1_findings 12 = .ok (.iconst 0, 1) := dk_3 (dk_at dksX1_findings_0 12 rfl rfl)
theorem dX1_findings_13 : decode cX1_findings 13 = .ok (.invokestatic 123, 3) := dk_184 0 123 (dk_at dksX1_findings_0 13 rfl rfl)
theorem dX1_findings_16 : decode cX1_findings 16 = .ok (.iload_n 2, 1) := dk_28 (dk_at dksX1_findings_0 16 rfl rfl)
theorem dX1_findings_17 : decode cX1_findings 17 = .ok (.iconst 0, 1) := dk_3 (dk_at dksX1_findings_0 17 rfl rfl)
theorem dX1_findings_18 : decode cX1_findings 18 = .ok (.iconst 2, 1) := dk_5 (dk_at dksX1_findings_0 18 rfl rfl)
theorem dX1_findings_19 : decode cX1_findings 19 = .ok (.invokestatic 64, 3) := dk_184 0 64 (dk_at dksX1_findings_0 19 rfl rfl)
theorem dX1_findings_22 : decode cX1_findings 22 = .ok (.invokestatic 68, 3) := dk_184 0 68 (dk_at dksX1_findings_1 0 rfl rfl)
theorem dX1_findings_25 : decode cX1_findings 25 = .ok (.aload_n 0, 1) := dk_42 (dk_at dksX1_findings_1 3 rfl rfl)
theorem dX1_findings_26 : decode cX1_findings 26 = .ok (.getfield 39, 3) := dk_180 0 39 (dk_at dksX1_findings_1 4 rfl rfl)
theorem dX1_findings_29 : decode cX1_findings 29 = .ok (.iload_n 1, 1) := dk_27 (dk_at dksX1_findings_1 7 rfl rfl)
theorem dX1_findings_30 : decode cX1_findings 30 = .ok (.iload_n 2, 1) := dk_28 (dk_at dksX1_findings_1 8 rfl rfl)
theorem dX1_findings_31 : decode cX1_findings 31 = .ok (.invokevirtual 315, 3) := dk_182 1 59 (dk_at dksX1_findings_1 9 rfl rfl)
theorem dX1_findings_34 : decode cX1_findings 34 = .ok (.ireturn, 1) := dk_172 (dk_at dksX1_findings_1 12 rfl rfl)
abbrev cX1_clean : ByteArray := prog_1_method_56_code
def yX1_clean : MethodName := ⟨RX1, "clean", "(I)I"⟩
def dkwX1_clean_3 : List UInt8 := [167, 255, 221, 29, 172, 132, 3, 1, 167, 255, 194, 187, 0, 10, 89, 183, 0, 12, 191]
abbrev dktX1_clean_3 : List UInt8 := dkwX1_clean_3 ++ []
def dkwX1_clean_2 : List UInt8 := [21, 4, 185, 0, 129, 2, 0, 192, 1, 46, 180, 1, 53, 29, 160, 0, 6, 167, 0, 11, 132, 4, 1]
abbrev dktX1_clean_2 : List UInt8 := dkwX1_clean_2 ++ dktX1_clean_3
def dkwX1_clean_1 : List UInt8 := [185, 0, 108, 1, 0, 162, 0, 52, 3, 54, 4, 21, 4, 44, 185, 0, 108, 1, 0, 162, 0, 30, 44]
abbrev dktX1_clean_1 : List UInt8 := dkwX1_clean_1 ++ dktX1_clean_2
def dkwX1_clean_0 : List UInt8 := [42, 180, 0, 39, 182, 0, 150, 77, 3, 27, 184, 1, 62, 62, 29, 42, 180, 0, 39, 180, 0, 104]
abbrev dktX1_clean_0 : List UInt8 := dkwX1_clean_0 ++ dktX1_clean_1
theorem dksX1_clean_0 : cX1_clean.data.toList.drop 0 = dktX1_clean_0 := by decide +kernel
theorem dksX1_clean_1 : cX1_clean.data.toList.drop 22 = dktX1_clean_1 := dk_seg dksX1_clean_0 22 rfl rfl
theorem dksX1_clean_2 : cX1_clean.data.toList.drop 45 = dktX1_clean_2 := dk_seg dksX1_clean_1 23 rfl rfl
theorem dksX1_clean_3 : cX1_clean.data.toList.drop 68 = dktX1_clean_3 := dk_seg dksX1_clean_2 23 rfl rfl
theorem dX1_clean_0 : decode cX1_clean 0 = .ok (.aload_n 0, 1) := dk_42 (dk_at dksX1_clean_0 0 rfl rfl)
theorem dX1_clean_1 : decode cX1_clean 1 = .ok (.getfield 39, 3) := dk_180 0 39 (dk_at dksX1_clean_0 1 rfl rfl)
theorem dX1_clean_4 : decode cX1_clean 4 = .ok (.invokevirtual 150, 3) := dk_182 0 150 (dk_at dksX1_clean_0 4 rfl rfl)
theorem dX1_clean_7 : decode cX1_clean 7 = .ok (.astore_n 2, 1) := dk_77 (dk_at dksX1_clean_0 7 rfl rfl)
theorem dX1_clean_8 : decode cX1_clean 8 = .ok (.iconst 0, 1) := dk_3 (dk_at dksX1_clean_0 8 rfl rfl)
theorem dX1_clean_9 : decode cX1_clean 9 = .ok (.iload_n 1, 1) := dk_27 (dk_at dksX1_clean_0 9 rfl rfl)
theorem dX1_clean_10 : decode cX1_clean 10 = .ok (.invokestatic 318, 3) := dk_184 1 62 (dk_at dksX1_clean_0 10 rfl rfl)
theorem dX1_clean_13 : decode cX1_clean 13 = .ok (.istore_n 3, 1) := dk_62 (dk_at dksX1_clean_0 13 rfl rfl)
theorem dX1_clean_14 : decode cX1_clean 14 = .ok (.iload_n 3, 1) := dk_29 (dk_at dksX1_clean_0 14 rfl rfl)
theorem dX1_clean_15 : decode cX1_clean 15 = .ok (.aload_n 0, 1) := dk_42 (dk_at dksX1_clean_0 15 rfl rfl)
theorem dX1_clean_16 : decode cX1_clean 16 = .ok (.getfield 39, 3) := dk_180 0 39 (dk_at dksX1_clean_0 16 rfl rfl)
theorem dX1_clean_19 : decode cX1_clean 19 = .ok (.getfield 104, 3) := dk_180 0 104 (dk_at dksX1_clean_0 19 rfl rfl)
theorem dX1_clean_22 : decode cX1_clean 22 = .ok (.invokeinterface 108 1, 5) := by decide +kernel
theorem dX1_clean_27 : decode cX1_clean 27 = .ok (.if_icmp .ge 52, 3) := dk_162 0 52 (dk_at dksX1_clean_1 5 rfl rfl)
theorem dX1_clean_30 : decode cX1_clean 30 = .ok (.iconst 0, 1) := dk_3 (dk_at dksX1_clean_1 8 rfl rfl)
theorem dX1_clean_31 : decode cX1_clean 31 = .ok (.istore 4, 2) := dk_54 4 (dk_at dksX1_clean_1 9 rfl rfl)
theorem dX1_clean_33 : decode cX1_clean 33 = .ok (.iload 4, 2) := dk_21 4 (dk_at dksX1_clean_1 11 rfl rfl)
theorem dX1_clean_35 : decode cX1_clean 35 = .ok (.aload_n 2, 1) := dk_44 (dk_at dksX1_clean_1 13 rfl rfl)
theorem dX1_clean_36 : decode cX1_clean 36 = .ok (.invokeinterface 108 1, 5) := by decide +kernel
theorem dX1_clean_41 : decode cX1_clean 41 = .ok (.if_icmp .ge 30, 3) := dk_162 0 30 (dk_at dksX1_clean_1 19 rfl rfl)
theorem dX1_clean_44 : decode cX1_clean 44 = .ok (.aload_n 2, 1) := dk_44 (dk_at dksX1_clean_1 22 rfl rfl)
theorem dX1_clean_45 : decode cX1_clean 45 = .ok (.iload 4, 2) := dk_21 4 (dk_at dksX1_clean_2 0 rfl rfl)
theorem dX1_clean_47 : decode cX1_clean 47 = .ok (.invokeinterface 129 2, 5) := by decide +kernel
theorem dX1_clean_52 : decode cX1_clean 52 = .ok (.checkcast 302, 3) := dk_192 1 46 (dk_at dksX1_clean_2 7 rfl rfl)
theorem dX1_clean_55 : decode cX1_clean 55 = .ok (.getfield 309, 3) := dk_180 1 53 (dk_at dksX1_clean_2 10 rfl rfl)
theorem dX1_clean_58 : decode cX1_clean 58 = .ok (.iload_n 3, 1) := dk_29 (dk_at dksX1_clean_2 13 rfl rfl)
theorem dX1_clean_59 : decode cX1_clean 59 = .ok (.if_icmp .ne 6, 3) := dk_160 0 6 (dk_at dksX1_clean_2 14 rfl rfl)
theorem dX1_clean_62 : decode cX1_clean 62 = .ok (.goto 11, 3) := dk_167 0 11 (dk_at dksX1_clean_2 17 rfl rfl)
theorem dX1_clean_65 : decode cX1_clean 65 = .ok (.iinc 4 1, 3) := dk_132 4 1 (dk_at dksX1_clean_2 20 rfl rfl)
theorem dX1_clean_68 : decode cX1_clean 68 = .ok (.goto (-35), 3) := dk_167 255 221 (dk_at dksX1_clean_3 0 rfl rfl)
theorem dX1_clean_71 : decode cX1_clean 71 = .ok (.iload_n 3, 1) := dk_29 (dk_at dksX1_clean_3 3 rfl rfl)
theorem dX1_clean_72 : decode cX1_clean 72 = .ok (.ireturn, 1) := dk_172 (dk_at dksX1_clean_3 4 rfl rfl)
theorem dX1_clean_73 : decode cX1_clean 73 = .ok (.iinc 3 1, 3) := dk_132 3 1 (dk_at dksX1_clean_3 5 rfl rfl)
theorem dX1_clean_76 : decode cX1_clean 76 = .ok (.goto (-62), 3) := dk_167 255 194 (dk_at dksX1_clean_3 8 rfl rfl)
theorem dX1_clean_79 : decode cX1_clean 79 = .ok (.new 10, 3) := dk_187 0 10 (dk_at dksX1_clean_3 11 rfl rfl)
theorem dX1_clean_82 : decode cX1_clean 82 = .ok (.dup, 1) := dk_89 (dk_at dksX1_clean_3 14 rfl rfl)
theorem dX1_clean_83 : decode cX1_clean 83 = .ok (.invokespecial 12, 3) := dk_183 0 12 (dk_at dksX1_clean_3 15 rfl rfl)
theorem dX1_clean_86 : decode cX1_clean 86 = .ok (.athrow, 1) := dk_191 (dk_at dksX1_clean_3 18 rfl rfl)
abbrev cX1_without : ByteArray := prog_1_method_57_code
def yX1_without : MethodName := ⟨RX1, "without", "(I)I"⟩
def dkwX1_without_1 : List UInt8 := [182, 1, 12, 42, 180, 0, 39, 182, 1, 12, 100, 172]
abbrev dktX1_without_1 : List UInt8 := dkwX1_without_1 ++ []
def dkwX1_without_0 : List UInt8 := [42, 27, 182, 0, 137, 198, 0, 7, 4, 167, 0, 4, 3, 184, 0, 123, 42, 180, 0, 39, 27, 182, 1, 67]
abbrev dktX1_without_0 : List UInt8 := dkwX1_without_0 ++ dktX1_without_1
theorem dksX1_without_0 : cX1_without.data.toList.drop 0 = dktX1_without_0 := by decide +kernel
theorem dksX1_without_1 : cX1_without.data.toList.drop 24 = dktX1_without_1 := dk_seg dksX1_without_0 24 rfl rfl
theorem dX1_without_0 : decode cX1_without 0 = .ok (.aload_n 0, 1) := dk_42 (dk_at dksX1_without_0 0 rfl rfl)
theorem dX1_without_1 : decode cX1_without 1 = .ok (.iload_n 1, 1) := dk_27 (dk_at dksX1_without_0 1 rfl rfl)
theorem dX1_without_2 : decode cX1_without 2 = .ok (.invokevirtual 137, 3) := dk_182 0 137 (dk_at dksX1_without_0 2 rfl rfl)
theorem dX1_without_5 : decode cX1_without 5 = .ok (.ifnull 7, 3) := dk_198 0 7 (dk_at dksX1_without_0 5 rfl rfl)
theorem dX1_without_8 : decode cX1_without 8 = .ok (.iconst 1, 1) := dk_4 (dk_at dksX1_without_0 8 rfl rfl)
theorem dX1_without_9 : decode cX1_without 9 = .ok (.goto 4, 3) := dk_167 0 4 (dk_at dksX1_without_0 9 rfl rfl)
theorem dX1_without_12 : decode cX1_without 12 = .ok (.iconst 0, 1) := dk_3 (dk_at dksX1_without_0 12 rfl rfl)
theorem dX1_without_13 : decode cX1_without 13 = .ok (.invokestatic 123, 3) := dk_184 0 123 (dk_at dksX1_without_0 13 rfl rfl)
theorem dX1_without_16 : decode cX1_without 16 = .ok (.aload_n 0, 1) := dk_42 (dk_at dksX1_without_0 16 rfl rfl)
theorem dX1_without_17 : decode cX1_without 17 = .ok (.getfield 39, 3) := dk_180 0 39 (dk_at dksX1_without_0 17 rfl rfl)
theorem dX1_without_20 : decode cX1_without 20 = .ok (.iload_n 1, 1) := dk_27 (dk_at dksX1_without_0 20 rfl rfl)
theorem dX1_without_21 : decode cX1_without 21 = .ok (.invokevirtual 323, 3) := dk_182 1 67 (dk_at dksX1_without_0 21 rfl rfl)
theorem dX1_without_24 : decode cX1_without 24 = .ok (.invokevirtual 268, 3) := dk_182 1 12 (dk_at dksX1_without_1 0 rfl rfl)
theorem dX1_without_27 : decode cX1_without 27 = .ok (.aload_n 0, 1) := dk_42 (dk_at dksX1_without_1 3 rfl rfl)
theorem dX1_without_28 : decode cX1_without 28 = .ok (.getfield 39, 3) := dk_180 0 39 (dk_at dksX1_without_1 4 rfl rfl)
theorem dX1_without_31 : decode cX1_without 31 = .ok (.invokevirtual 268, 3) := dk_182 1 12 (dk_at dksX1_without_1 7 rfl rfl)
theorem dX1_without_34 : decode cX1_without 34 = .ok (.isub, 1) := dk_100 (dk_at dksX1_without_1 10 rfl rfl)
theorem dX1_without_35 : decode cX1_without 35 = .ok (.ireturn, 1) := dk_172 (dk_at dksX1_without_1 11 rfl rfl)
abbrev cX1_alone : ByteArray := prog_1_method_58_code
def yX1_alone : MethodName := ⟨RX1, "alone", "(I)I"⟩
def dkwX1_alone_1 : List UInt8 := [27, 182, 1, 74, 172]
abbrev dktX1_alone_1 : List UInt8 := dkwX1_alone_1 ++ []
def dkwX1_alone_0 : List UInt8 := [42, 27, 182, 0, 204, 198, 0, 7, 4, 167, 0, 4, 3, 184, 0, 123, 42, 180, 0, 39, 27, 182, 1, 71]
abbrev dktX1_alone_0 : List UInt8 := dkwX1_alone_0 ++ dktX1_alone_1
theorem dksX1_alone_0 : cX1_alone.data.toList.drop 0 = dktX1_alone_0 := by decide +kernel
theorem dksX1_alone_1 : cX1_alone.data.toList.drop 24 = dktX1_alone_1 := dk_seg dksX1_alone_0 24 rfl rfl
theorem dX1_alone_0 : decode cX1_alone 0 = .ok (.aload_n 0, 1) := dk_42 (dk_at dksX1_alone_0 0 rfl rfl)
theorem dX1_alone_1 : decode cX1_alone 1 = .ok (.iload_n 1, 1) := dk_27 (dk_at dksX1_alone_0 1 rfl rfl)
theorem dX1_alone_2 : decode cX1_alone 2 = .ok (.invokevirtual 204, 3) := dk_182 0 204 (dk_at dksX1_alone_0 2 rfl rfl)
theorem dX1_alone_5 : decode cX1_alone 5 = .ok (.ifnull 7, 3) := dk_198 0 7 (dk_at dksX1_alone_0 5 rfl rfl)
theorem dX1_alone_8 : decode cX1_alone 8 = .ok (.iconst 1, 1) := dk_4 (dk_at dksX1_alone_0 8 rfl rfl)
theorem dX1_alone_9 : decode cX1_alone 9 = .ok (.goto 4, 3) := dk_167 0 4 (dk_at dksX1_alone_0 9 rfl rfl)
theorem dX1_alone_12 : decode cX1_alone 12 = .ok (.iconst 0, 1) := dk_3 (dk_at dksX1_alone_0 12 rfl rfl)
theorem dX1_alone_13 : decode cX1_alone 13 = .ok (.invokestatic 123, 3) := dk_184 0 123 (dk_at dksX1_alone_0 13 rfl rfl)
theorem dX1_alone_16 : decode cX1_alone 16 = .ok (.aload_n 0, 1) := dk_42 (dk_at dksX1_alone_0 16 rfl rfl)
theorem dX1_alone_17 : decode cX1_alone 17 = .ok (.getfield 39, 3) := dk_180 0 39 (dk_at dksX1_alone_0 17 rfl rfl)
theorem dX1_alone_20 : decode cX1_alone 20 = .ok (.iload_n 1, 1) := dk_27 (dk_at dksX1_alone_0 20 rfl rfl)
theorem dX1_alone_21 : decode cX1_alone 21 = .ok (.invokevirtual 327, 3) := dk_182 1 71 (dk_at dksX1_alone_0 21 rfl rfl)
theorem dX1_alone_24 : decode cX1_alone 24 = .ok (.iload_n 1, 1) := dk_27 (dk_at dksX1_alone_1 0 rfl rfl)
theorem dX1_alone_25 : decode cX1_alone 25 = .ok (.invokevirtual 330, 3) := dk_182 1 74 (dk_at dksX1_alone_1 1 rfl rfl)
theorem dX1_alone_28 : decode cX1_alone 28 = .ok (.ireturn, 1) := dk_172 (dk_at dksX1_alone_1 4 rfl rfl)
abbrev cX1_tightest : ByteArray := prog_1_method_59_code
def yX1_tightest : MethodName := ⟨RX1, "tightest", "(I)I"⟩
def dkwX1_tightest_2 : List UInt8 := [167, 0, 4, 28, 172]
abbrev dktX1_tightest_2 : List UInt8 := dkwX1_tightest_2 ++ []
def dkwX1_tightest_1 : List UInt8 := [180, 0, 39, 27, 28, 182, 1, 77, 154, 0, 9, 132, 2, 255, 167, 255, 237, 28, 154, 0, 7, 2]
abbrev dktX1_tightest_1 : List UInt8 := dkwX1_tightest_1 ++ dktX1_tightest_2
def dkwX1_tightest_0 : List UInt8 := [42, 27, 182, 0, 204, 198, 0, 7, 4, 167, 0, 4, 3, 184, 0, 123, 16, 99, 61, 28, 158, 0, 21, 42]
abbrev dktX1_tightest_0 : List UInt8 := dkwX1_tightest_0 ++ dktX1_tightest_1
theorem dksX1_tightest_0 : cX1_tightest.data.toList.drop 0 = dktX1_tightest_0 := by decide +kernel
theorem dksX1_tightest_1 : cX1_tightest.data.toList.drop 24 = dktX1_tightest_1 := dk_seg dksX1_tightest_0 24 rfl rfl
theorem dksX1_tightest_2 : cX1_tightest.data.toList.drop 46 = dktX1_tightest_2 := dk_seg dksX1_tightest_1 22 rfl rfl
theorem dX1_tightest_0 : decode cX1_tightest 0 = .ok (.aload_n 0, 1) := dk_42 (dk_at dksX1_tightest_0 0 rfl rfl)
theorem dX1_tightest_1 : decode cX1_tightest 1 = .ok (.iload_n 1, 1) := dk_27 (dk_at dksX1_tightest_0 1 rfl rfl)
theorem dX1_tightest_2 : decode cX1_tightest 2 = .ok (.invokevirtual 204, 3) := dk_182 0 204 (dk_at dksX1_tightest_0 2 rfl rfl)
theorem dX1_tightest_5 : decode cX1_tightest 5 = .ok (.ifnull 7, 3) := dk_198 0 7 (dk_at dksX1_tightest_0 5 rfl rfl)
theorem dX1_tightest_8 : decode cX1_tightest 8 = .ok (.iconst 1, 1) := dk_4 (dk_at dksX1_tightest_0 8 rfl rfl)
theorem dX1_tightest_9 : decode cX1_tightest 9 = .ok (.goto 4, 3) := dk_167 0 4 (dk_at dksX1_tightest_0 9 rfl rfl)
theorem dX1_tightest_12 : decode cX1_tightest 12 = .ok (.iconst 0, 1) := dk_3 (dk_at dksX1_tightest_0 12 rfl rfl)
theorem dX1_tightest_13 : decode cX1_tightest 13 = .ok (.invokestatic 123, 3) := dk_184 0 123 (dk_at dksX1_tightest_0 13 rfl rfl)
theorem dX1_tightest_16 : decode cX1_tightest 16 = .ok (.bipush 99, 2) := dk_16 99 (dk_at dksX1_tightest_0 16 rfl rfl)
theorem dX1_tightest_18 : decode cX1_tightest 18 = .ok (.istore_n 2, 1) := dk_61 (dk_at dksX1_tightest_0 18 rfl rfl)
theorem dX1_tightest_19 : decode cX1_tightest 19 = .ok (.iload_n 2, 1) := dk_28 (dk_at dksX1_tightest_0 19 rfl rfl)
theorem dX1_tightest_20 : decode cX1_tightest 20 = .ok (.ifCond .le 21, 3) := dk_158 0 21 (dk_at dksX1_tightest_0 20 rfl rfl)
theorem dX1_tightest_23 : decode cX1_tightest 23 = .ok (.aload_n 0, 1) := dk_42 (dk_at dksX1_tightest_0 23 rfl rfl)
theorem dX1_tightest_24 : decode cX1_tightest 24 = .ok (.getfield 39, 3) := dk_180 0 39 (dk_at dksX1_tightest_1 0 rfl rfl)
theorem dX1_tightest_27 : decode cX1_tightest 27 = .ok (.iload_n 1, 1) := dk_27 (dk_at dksX1_tightest_1 3 rfl rfl)
theorem dX1_tightest_28 : decode cX1_tightest 28 = .ok (.iload_n 2, 1) := dk_28 (dk_at dksX1_tightest_1 4 rfl rfl)
theorem dX1_tightest_29 : decode cX1_tightest 29 = .ok (.invokevirtual 333, 3) := dk_182 1 77 (dk_at dksX1_tightest_1 5 rfl rfl)
theorem dX1_tightest_32 : decode cX1_tightest 32 = .ok (.ifCond .ne 9, 3) := dk_154 0 9 (dk_at dksX1_tightest_1 8 rfl rfl)
theorem dX1_tightest_35 : decode cX1_tightest 35 = .ok (.iinc 2 (-1), 3) := dk_132 2 255 (dk_at dksX1_tightest_1 11 rfl rfl)
theorem dX1_tightest_38 : decode cX1_tightest 38 = .ok (.goto (-19), 3) := dk_167 255 237 (dk_at dksX1_tightest_1 14 rfl rfl)
theorem dX1_tightest_41 : decode cX1_tightest 41 = .ok (.iload_n 2, 1) := dk_28 (dk_at dksX1_tightest_1 17 rfl rfl)
theorem dX1_tightest_42 : decode cX1_tightest 42 = .ok (.ifCond .ne 7, 3) := dk_154 0 7 (dk_at dksX1_tightest_1 18 rfl rfl)
theorem dX1_tightest_45 : decode cX1_tightest 45 = .ok (.iconst (-1), 1) := dk_2 (dk_at dksX1_tightest_1 21 rfl rfl)
theorem dX1_tightest_46 : decode cX1_tightest 46 = .ok (.goto 4, 3) := dk_167 0 4 (dk_at dksX1_tightest_2 0 rfl rfl)
theorem dX1_tightest_49 : decode cX1_tightest 49 = .ok (.iload_n 2, 1) := dk_28 (dk_at dksX1_tightest_2 3 rfl rfl)
theorem dX1_tightest_50 : decode cX1_tightest 50 = .ok (.ireturn, 1) := dk_172 (dk_at dksX1_tightest_2 4 rfl rfl)
abbrev cX1_bestFollowed : ByteArray := prog_1_method_60_code
def yX1_bestFollowed : MethodName := ⟨RX1, "bestFollowed", "(I)I"⟩
def dkwX1_bestFollowed_4 : List UInt8 := [132, 5, 1, 167, 255, 192, 29, 172]
abbrev dktX1_bestFollowed_4 : List UInt8 := dkwX1_bestFollowed_4 ++ []
def dkwX1_bestFollowed_3 : List UInt8 := [29, 2, 159, 0, 13, 21, 6, 21, 4, 164, 0, 6, 167, 0, 10, 21, 5, 62, 21, 6, 54, 4]
abbrev dktX1_bestFollowed_3 : List UInt8 := dkwX1_bestFollowed_3 ++ dktX1_bestFollowed_4
def dkwX1_bestFollowed_2 : List UInt8 := [180, 0, 126, 27, 185, 0, 129, 2, 0, 192, 0, 133, 21, 5, 181, 0, 217, 44, 27, 182, 1, 80, 54, 6]
abbrev dktX1_bestFollowed_2 : List UInt8 := dkwX1_bestFollowed_2 ++ dktX1_bestFollowed_3
def dkwX1_bestFollowed_1 : List UInt8 := [2, 62, 3, 54, 4, 3, 54, 5, 21, 5, 44, 180, 0, 147, 185, 0, 108, 1, 0, 163, 0, 56, 44]
abbrev dktX1_bestFollowed_1 : List UInt8 := dkwX1_bestFollowed_1 ++ dktX1_bestFollowed_2
def dkwX1_bestFollowed_0 : List UInt8 := [42, 27, 182, 0, 204, 198, 0, 7, 4, 167, 0, 4, 3, 184, 0, 123, 42, 180, 0, 39, 182, 0, 113, 77]
abbrev dktX1_bestFollowed_0 : List UInt8 := dkwX1_bestFollowed_0 ++ dktX1_bestFollowed_1
theorem dksX1_bestFollowed_0 : cX1_bestFollowed.data.toList.drop 0 = dktX1_bestFollowed_0 := by decide +kernel
theorem dksX1_bestFollowed_1 : cX1_bestFollowed.data.toList.drop 24 = dktX1_bestFollowed_1 := dk_seg dksX1_bestFollowed_0 24 rfl rfl
theorem dksX1_bestFollowed_2 : cX1_bestFollowed.data.toList.drop 47 = dktX1_bestFollowed_2 := dk_seg dksX1_bestFollowed_1 23 rfl rfl
theorem dksX1_bestFollowed_3 : cX1_bestFollowed.data.toList.drop 71 = dktX1_bestFollowed_3 := dk_seg dksX1_bestFollowed_2 24 rfl rfl
theorem dksX1_bestFollowed_4 : cX1_bestFollowed.data.toList.drop 93 = dktX1_bestFollowed_4 := dk_seg dksX1_bestFollowed_3 22 rfl rfl
theorem dX1_bestFollowed_0 : decode cX1_bestFollowed 0 = .ok (.aload_n 0, 1) := dk_42 (dk_at dksX1_bestFollowed_0 0 rfl rfl)
theorem dX1_bestFollowed_1 : decode cX1_bestFollowed 1 = .ok (.iload_n 1, 1) := dk_27 (dk_at dksX1_bestFollowed_0 1 rfl rfl)
theorem dX1_bestFollowed_2 : decode cX1_bestFollowed 2 = .ok (.invokevirtual 204, 3) := dk_182 0 204 (dk_at dksX1_bestFollowed_0 2 rfl rfl)
theorem dX1_bestFollowed_5 : decode cX1_bestFollowed 5 = .ok (.ifnull 7, 3) := dk_198 0 7 (dk_at dksX1_bestFollowed_0 5 rfl rfl)
theorem dX1_bestFollowed_8 : decode cX1_bestFollowed 8 = .ok (.iconst 1, 1) := dk_4 (dk_at dksX1_bestFollowed_0 8 rfl rfl)
theorem dX1_bestFollowed_9 : decode cX1_bestFollowed 9 = .ok (.goto 4, 3) := dk_167 0 4 (dk_at dksX1_bestFollowed_0 9 rfl rfl)
theorem dX1_bestFollowed_12 : decode cX1_bestFollowed 12 = .ok (.iconst 0, 1) := dk_3 (dk_at dksX1_bestFollowed_0 12 rfl rfl)
theorem dX1_bestFollowed_13 : decode cX1_bestFollowed 13 = .ok (.invokestatic 123, 3) := dk_184 0 123 (dk_at dksX1_bestFollowed_0 13 rfl rfl)
theorem dX1_bestFollowed_16 : decode cX1_bestFollowed 16 = .ok (.aload_n 0, 1) := dk_42 (dk_at dksX1_bestFollowed_0 16 rfl rfl)
theorem dX1_bestFollowed_17 : decode cX1_bestFollowed 17 = .ok (.getfield 39, 3) := dk_180 0 39 (dk_at dksX1_bestFollowed_0 17 rfl rfl)
theorem dX1_bestFollowed_20 : decode cX1_bestFollowed 20 = .ok (.invokevirtual 113, 3) := dk_182 0 113 (dk_at dksX1_bestFollowed_0 20 rfl rfl)
theorem dX1_bestFollowed_23 : decode cX1_bestFollowed 23 = .ok (.astore_n 2, 1) := dk_77 (dk_at dksX1_bestFollowed_0 23 rfl rfl)
theorem dX1_bestFollowed_24 : decode cX1_bestFollowed 24 = .ok (.iconst (-1), 1) := dk_2 (dk_at dksX1_bestFollowed_1 0 rfl rfl)
theorem dX1_bestFollowed_25 : decode cX1_bestFollowed 25 = .ok (.istore_n 3, 1) := dk_62 (dk_at dksX1_bestFollowed_1 1 rfl rfl)
theorem dX1_bestFollowed_26 : decode cX1_bestFollowed 26 = .ok (.iconst 0, 1) := dk_3 (dk_at dksX1_bestFollowed_1 2 rfl rfl)
theorem dX1_bestFollowed_27 : decode cX1_bestFollowed 27 = .ok (.istore 4, 2) := dk_54 4 (dk_at dksX1_bestFollowed_1 3 rfl rfl)
theorem dX1_bestFollowed_29 : decode cX1_bestFollowed 29 = .ok (.iconst 0, 1) := dk_3 (dk_at dksX1_bestFollowed_1 5 rfl rfl)
theorem dX1_bestFollowed_30 : decode cX1_bestFollowed 30 = .ok (.istore 5, 2) := dk_54 5 (dk_at dksX1_bestFollowed_1 6 rfl rfl)
theorem dX1_bestFollowed_32 : decode cX1_bestFollowed 32 = .ok (.iload 5, 2) := dk_21 5 (dk_at dksX1_bestFollowed_1 8 rfl rfl)
theorem dX1_bestFollowed_34 : decode cX1_bestFollowed 34 = .ok (.aload_n 2, 1) := dk_44 (dk_at dksX1_bestFollowed_1 10 rfl rfl)
theorem dX1_bestFollowed_35 : decode cX1_bestFollowed 35 = .ok (.getfield 147, 3) := dk_180 0 147 (dk_at dksX1_bestFollowed_1 11 rfl rfl)
theorem dX1_bestFollowed_38 : decode cX1_bestFollowed 38 = .ok (.invokeinterface 108 1, 5) := by decide +kernel
theorem dX1_bestFollowed_43 : decode cX1_bestFollowed 43 = .ok (.if_icmp .gt 56, 3) := dk_163 0 56 (dk_at dksX1_bestFollowed_1 19 rfl rfl)
theorem dX1_bestFollowed_46 : decode cX1_bestFollowed 46 = .ok (.aload_n 2, 1) := dk_44 (dk_at dksX1_bestFollowed_1 22 rfl rfl)
theorem dX1_bestFollowed_47 : decode cX1_bestFollowed 47 = .ok (.getfield 126, 3) := dk_180 0 126 (dk_at dksX1_bestFollowed_2 0 rfl rfl)
theorem dX1_bestFollowed_50 : decode cX1_bestFollowed 50 = .ok (.iload_n 1, 1) := dk_27 (dk_at dksX1_bestFollowed_2 3 rfl rfl)
theorem dX1_bestFollowed_51 : decode cX1_bestFollowed 51 = .ok (.invokeinterface 129 2, 5) := by decide +kernel
theorem dX1_bestFollowed_56 : decode cX1_bestFollowed 56 = .ok (.checkcast 133, 3) := dk_192 0 133 (dk_at dksX1_bestFollowed_2 9 rfl rfl)
theorem dX1_bestFollowed_59 : decode cX1_bestFollowed 59 = .ok (.iload 5, 2) := dk_21 5 (dk_at dksX1_bestFollowed_2 12 rfl rfl)
theorem dX1_bestFollowed_61 : decode cX1_bestFollowed 61 = .ok (.putfield 217, 3) := dk_181 0 217 (dk_at dksX1_bestFollowed_2 14 rfl rfl)
theorem dX1_bestFollowed_64 : decode cX1_bestFollowed 64 = .ok (.aload_n 2, 1) := dk_44 (dk_at dksX1_bestFollowed_2 17 rfl rfl)
theorem dX1_bestFollowed_65 : decode cX1_bestFollowed 65 = .ok (.iload_n 1, 1) := dk_27 (dk_at dksX1_bestFollowed_2 18 rfl rfl)
theorem dX1_bestFollowed_66 : decode cX1_bestFollowed 66 = .ok (.invokevirtual 336, 3) := dk_182 1 80 (dk_at dksX1_bestFollowed_2 19 rfl rfl)
theorem dX1_bestFollowed_69 : decode cX1_bestFollowed 69 = .ok (.istore 6, 2) := dk_54 6 (dk_at dksX1_bestFollowed_2 22 rfl rfl)
theorem dX1_bestFollowed_71 : decode cX1_bestFollowed 71 = .ok (.iload_n 3, 1) := dk_29 (dk_at dksX1_bestFollowed_3 0 rfl rfl)
theorem dX1_bestFollowed_72 : decode cX1_bestFollowed 72 = .ok (.iconst (-1), 1) := dk_2 (dk_at dksX1_bestFollowed_3 1 rfl rfl)
theorem dX1_bestFollowed_73 : decode cX1_bestFollowed 73 = .ok (.if_icmp .eq 13, 3) := dk_159 0 13 (dk_at dksX1_bestFollowed_3 2 rfl rfl)
theorem dX1_bestFollowed_76 : decode cX1_bestFollowed 76 = .ok (.iload 6, 2) := dk_21 6 (dk_at dksX1_bestFollowed_3 5 rfl rfl)
theorem dX1_bestFollowed_78 : decode cX1_bestFollowed 78 = .ok (.iload 4, 2) := dk_21 4 (dk_at dksX1_bestFollowed_3 7 rfl rfl)
theorem dX1_bestFollowed_80 : decode cX1_bestFollowed 80 = .ok (.if_icmp .le 6, 3) := dk_164 0 6 (dk_at dksX1_bestFollowed_3 9 rfl rfl)
theorem dX1_bestFollowed_83 : decode cX1_bestFollowed 83 = .ok (.goto 10, 3) := dk_167 0 10 (dk_at dksX1_bestFollowed_3 12 rfl rfl)
theorem dX1_bestFollowed_86 : decode cX1_bestFollowed 86 = .ok (.iload 5, 2) := dk_21 5 (dk_at dksX1_bestFollowed_3 15 rfl rfl)
theorem dX1_bestFollowed_88 : decode cX1_bestFollowed 88 = .ok (.istore_n 3, 1) := dk_62 (dk_at dksX1_bestFollowed_3 17 rfl rfl)
theorem dX1_bestFollowed_89 : decode cX1_bestFollowed 89 = .ok (.iload 6, 2) := dk_21 6 (dk_at dksX1_bestFollowed_3 18 rfl rfl)
theorem dX1_bestFollowed_91 : decode cX1_bestFollowed 91 = .ok (.istore 4, 2) := dk_54 4 (dk_at dksX1_bestFollowed_3 20 rfl rfl)
theorem dX1_bestFollowed_93 : decode cX1_bestFollowed 93 = .ok (.iinc 5 1, 3) := dk_132 5 1 (dk_at dksX1_bestFollowed_4 0 rfl rfl)
theorem dX1_bestFollowed_96 : decode cX1_bestFollowed 96 = .ok (.goto (-64), 3) := dk_167 255 192 (dk_at dksX1_bestFollowed_4 3 rfl rfl)
theorem dX1_bestFollowed_99 : decode cX1_bestFollowed 99 = .ok (.iload_n 3, 1) := dk_29 (dk_at dksX1_bestFollowed_4 6 rfl rfl)
theorem dX1_bestFollowed_100 : decode cX1_bestFollowed 100 = .ok (.ireturn, 1) := dk_172 (dk_at dksX1_bestFollowed_4 7 rfl rfl)
abbrev cX1_removeSegment : ByteArray := prog_1_method_63_code
def yX1_removeSegment : MethodName := ⟨RX1, "removeSegment", "(I)I"⟩
def dkwX1_removeSegment_1 : List UInt8 := [182, 1, 67, 182, 0, 116, 42, 180, 0, 39, 180, 0, 104, 185, 0, 108, 1, 0, 172]
abbrev dktX1_removeSegment_1 : List UInt8 := dkwX1_removeSegment_1 ++ []
def dkwX1_removeSegment_0 : List UInt8 := [42, 27, 182, 0, 137, 198, 0, 7, 4, 167, 0, 4, 3, 184, 0, 123, 42, 42, 180, 0, 39, 27]
abbrev dktX1_removeSegment_0 : List UInt8 := dkwX1_removeSegment_0 ++ dktX1_removeSegment_1
theorem dksX1_removeSegment_0 : cX1_removeSegment.data.toList.drop 0 = dktX1_removeSegment_0 := by decide +kernel
theorem dksX1_removeSegment_1 : cX1_removeSegment.data.toList.drop 22 = dktX1_removeSegment_1 := dk_seg dksX1_removeSegment_0 22 rfl rfl
theorem dX1_removeSegment_0 : decode cX1_removeSegment 0 = .ok (.aload_n 0, 1) := dk_42 (dk_at dksX1_removeSegment_0 0 rfl rfl)
theorem dX1_removeSegment_1 : decode cX1_removeSegment 1 = .ok (.iload_n 1, 1) := dk_27 (dk_at dksX1_removeSegment_0 1 rfl rfl)
theorem dX1_removeSegment_2 : decode cX1_removeSegment 2 = .ok (.invokevirtual 137, 3) := dk_182 0 137 (dk_at dksX1_removeSegment_0 2 rfl rfl)
theorem dX1_removeSegment_5 : decode cX1_removeSegment 5 = .ok (.ifnull 7, 3) := dk_198 0 7 (dk_at dksX1_removeSegment_0 5 rfl rfl)
theorem dX1_removeSegment_8 : decode cX1_removeSegment 8 = .ok (.iconst 1, 1) := dk_4 (dk_at dksX1_removeSegment_0 8 rfl rfl)
theorem dX1_removeSegment_9 : decode cX1_removeSegment 9 = .ok (.goto 4, 3) := dk_167 0 4 (dk_at dksX1_removeSegment_0 9 rfl rfl)
theorem dX1_removeSegment_12 : decode cX1_removeSegment 12 = .ok (.iconst 0, 1) := dk_3 (dk_at dksX1_removeSegment_0 12 rfl rfl)
theorem dX1_removeSegment_13 : decode cX1_removeSegment 13 = .ok (.invokestatic 123, 3) := dk_184 0 123 (dk_at dksX1_removeSegment_0 13 rfl rfl)
theorem dX1_removeSegment_16 : decode cX1_removeSegment 16 = .ok (.aload_n 0, 1) := dk_42 (dk_at dksX1_removeSegment_0 16 rfl rfl)
theorem dX1_removeSegment_17 : decode cX1_removeSegment 17 = .ok (.aload_n 0, 1) := dk_42 (dk_at dksX1_removeSegment_0 17 rfl rfl)
theorem dX1_removeSegment_18 : decode cX1_removeSegment 18 = .ok (.getfield 39, 3) := dk_180 0 39 (dk_at dksX1_removeSegment_0 18 rfl rfl)
theorem dX1_removeSegment_21 : decode cX1_removeSegment 21 = .ok (.iload_n 1, 1) := dk_27 (dk_at dksX1_removeSegment_0 21 rfl rfl)
theorem dX1_removeSegment_22 : decode cX1_removeSegment 22 = .ok (.invokevirtual 323, 3) := dk_182 1 67 (dk_at dksX1_removeSegment_1 0 rfl rfl)
theorem dX1_removeSegment_25 : decode cX1_removeSegment 25 = .ok (.invokevirtual 116, 3) := dk_182 0 116 (dk_at dksX1_removeSegment_1 3 rfl rfl)
theorem dX1_removeSegment_28 : decode cX1_removeSegment 28 = .ok (.aload_n 0, 1) := dk_42 (dk_at dksX1_removeSegment_1 6 rfl rfl)
theorem dX1_removeSegment_29 : decode cX1_removeSegment 29 = .ok (.getfield 39, 3) := dk_180 0 39 (dk_at dksX1_removeSegment_1 7 rfl rfl)
theorem dX1_removeSegment_32 : decode cX1_removeSegment 32 = .ok (.getfield 104, 3) := dk_180 0 104 (dk_at dksX1_removeSegment_1 10 rfl rfl)
theorem dX1_removeSegment_35 : decode cX1_removeSegment 35 = .ok (.invokeinterface 108 1, 5) := by decide +kernel
theorem dX1_removeSegment_40 : decode cX1_removeSegment 40 = .ok (.ireturn, 1) := dk_172 (dk_at dksX1_removeSegment_1 18 rfl rfl)
abbrev cX1_moveSegment : ByteArray := prog_1_method_64_code
def yX1_moveSegment : MethodName := ⟨RX1, "moveSegment", "(II)I"⟩
def dkwX1_moveSegment_2 : List UInt8 := [42, 180, 0, 39, 28, 182, 0, 245, 172]
abbrev dktX1_moveSegment_2 : List UInt8 := dkwX1_moveSegment_2 ++ []
def dkwX1_moveSegment_1 : List UInt8 := [180, 0, 39, 27, 182, 1, 67, 182, 0, 116, 42, 180, 0, 39, 180, 0, 104, 28, 45, 185, 1, 91, 3, 0]
abbrev dktX1_moveSegment_1 : List UInt8 := dkwX1_moveSegment_1 ++ dktX1_moveSegment_2
def dkwX1_moveSegment_0 : List UInt8 := [42, 27, 182, 0, 137, 78, 42, 28, 182, 0, 137, 198, 0, 7, 4, 167, 0, 4, 3, 184, 0, 123, 42, 42]
abbrev dktX1_moveSegment_0 : List UInt8 := dkwX1_moveSegment_0 ++ dktX1_moveSegment_1
theorem dksX1_moveSegment_0 : cX1_moveSegment.data.toList.drop 0 = dktX1_moveSegment_0 := by decide +kernel
theorem dksX1_moveSegment_1 : cX1_moveSegment.data.toList.drop 24 = dktX1_moveSegment_1 := dk_seg dksX1_moveSegment_0 24 rfl rfl
theorem dksX1_moveSegment_2 : cX1_moveSegment.data.toList.drop 48 = dktX1_moveSegment_2 := dk_seg dksX1_moveSegment_1 24 rfl rfl
theorem dX1_moveSegment_0 : decode cX1_moveSegment 0 = .ok (.aload_n 0, 1) := dk_42 (dk_at dksX1_moveSegment_0 0 rfl rfl)
theorem dX1_moveSegment_1 : decode cX1_moveSegment 1 = .ok (.iload_n 1, 1) := dk_27 (dk_at dksX1_moveSegment_0 1 rfl rfl)
theorem dX1_moveSegment_2 : decode cX1_moveSegment 2 = .ok (.invokevirtual 137, 3) := dk_182 0 137 (dk_at dksX1_moveSegment_0 2 rfl rfl)
theorem dX1_moveSegment_5 : decode cX1_moveSegment 5 = .ok (.astore_n 3, 1) := dk_78 (dk_at dksX1_moveSegment_0 5 rfl rfl)
theorem dX1_moveSegment_6 : decode cX1_moveSegment 6 = .ok (.aload_n 0, 1) := dk_42 (dk_at dksX1_moveSegment_0 6 rfl rfl)
theorem dX1_moveSegment_7 : decode cX1_moveSegment 7 = .ok (.iload_n 2, 1) := dk_28 (dk_at dksX1_moveSegment_0 7 rfl rfl)
theorem dX1_moveSegment_8 : decode cX1_moveSegment 8 = .ok (.invokevirtual 137, 3) := dk_182 0 137 (dk_at dksX1_moveSegment_0 8 rfl rfl)
theorem dX1_moveSegment_11 : decode cX1_moveSegment 11 = .ok (.ifnull 7, 3) := dk_198 0 7 (dk_at dksX1_moveSegment_0 11 rfl rfl)
theorem dX1_moveSegment_14 : decode cX1_moveSegment 14 = .ok (.iconst 1, 1) := dk_4 (dk_at dksX1_moveSegment_0 14 rfl rfl)
theorem dX1_moveSegment_15 : decode cX1_moveSegment 15 = .ok (.goto 4, 3) := dk_167 0 4 (dk_at dksX1_moveSegment_0 15 rfl rfl)
theorem dX1_moveSegment_18 : decode cX1_moveSegment 18 = .ok (.iconst 0, 1) := dk_3 (dk_at dksX1_moveSegment_0 18 rfl rfl)
theorem dX1_moveSegment_19 : decode cX1_moveSegment 19 = .ok (.invokestatic 123, 3) := dk_184 0 123 (dk_at dksX1_moveSegment_0 19 rfl rfl)
theorem dX1_moveSegment_22 : decode cX1_moveSegment 22 = .ok (.aload_n 0, 1) := dk_42 (dk_at dksX1_moveSegment_0 22 rfl rfl)
theorem dX1_moveSegment_23 : decode cX1_moveSegment 23 = .ok (.aload_n 0, 1) := dk_42 (dk_at dksX1_moveSegment_0 23 rfl rfl)
theorem dX1_moveSegment_24 : decode cX1_moveSegment 24 = .ok (.getfield 39, 3) := dk_180 0 39 (dk_at dksX1_moveSegment_1 0 rfl rfl)
theorem dX1_moveSegment_27 : decode cX1_moveSegment 27 = .ok (.iload_n 1, 1) := dk_27 (dk_at dksX1_moveSegment_1 3 rfl rfl)
theorem dX1_moveSegment_28 : decode cX1_moveSegment 28 = .ok (.invokevirtual 323, 3) := dk_182 1 67 (dk_at dksX1_moveSegment_1 4 rfl rfl)
theorem dX1_moveSegment_31 : decode cX1_moveSegment 31 = .ok (.invokevirtual 116, 3) := dk_182 0 116 (dk_at dksX1_moveSegment_1 7 rfl rfl)
theorem dX1_moveSegment_34 : decode cX1_moveSegment 34 = .ok (.aload_n 0, 1) := dk_42 (dk_at dksX1_moveSegment_1 10 rfl rfl)
theorem dX1_moveSegment_35 : decode cX1_moveSegment 35 = .ok (.getfield 39, 3) := dk_180 0 39 (dk_at dksX1_moveSegment_1 11 rfl rfl)
theorem dX1_moveSegment_38 : decode cX1_moveSegment 38 = .ok (.getfield 104, 3) := dk_180 0 104 (dk_at dksX1_moveSegment_1 14 rfl rfl)
theorem dX1_moveSegment_41 : decode cX1_moveSegment 41 = .ok (.iload_n 2, 1) := dk_28 (dk_at dksX1_moveSegment_1 17 rfl rfl)
theorem dX1_moveSegment_42 : decode cX1_moveSegment 42 = .ok (.aload_n 3, 1) := dk_45 (dk_at dksX1_moveSegment_1 18 rfl rfl)
theorem dX1_moveSegment_43 : decode cX1_moveSegment 43 = .ok (.invokeinterface 347 3, 5) := by decide +kernel
theorem dX1_moveSegment_48 : decode cX1_moveSegment 48 = .ok (.aload_n 0, 1) := dk_42 (dk_at dksX1_moveSegment_2 0 rfl rfl)
theorem dX1_moveSegment_49 : decode cX1_moveSegment 49 = .ok (.getfield 39, 3) := dk_180 0 39 (dk_at dksX1_moveSegment_2 1 rfl rfl)
theorem dX1_moveSegment_52 : decode cX1_moveSegment 52 = .ok (.iload_n 2, 1) := dk_28 (dk_at dksX1_moveSegment_2 4 rfl rfl)
theorem dX1_moveSegment_53 : decode cX1_moveSegment 53 = .ok (.invokevirtual 245, 3) := dk_182 0 245 (dk_at dksX1_moveSegment_2 5 rfl rfl)
theorem dX1_moveSegment_56 : decode cX1_moveSegment 56 = .ok (.ireturn, 1) := dk_172 (dk_at dksX1_moveSegment_2 8 rfl rfl)
abbrev cX1_setJob : ByteArray := prog_1_method_65_code
def yX1_setJob : MethodName := ⟨RX1, "setJob", "(IIII)I"⟩
def dkwX1_setJob_3 : List UInt8 := [25, 6, 29, 181, 0, 211, 25, 6, 21, 4, 181, 0, 214, 21, 5, 172]
abbrev dktX1_setJob_3 : List UInt8 := dkwX1_setJob_3 ++ []
def dkwX1_setJob_2 : List UInt8 := [182, 1, 98, 180, 0, 126, 27, 185, 0, 129, 2, 0, 192, 0, 133, 58, 6, 25, 6, 28, 181, 0, 208]
abbrev dktX1_setJob_2 : List UInt8 := dkwX1_setJob_2 ++ dktX1_setJob_3
def dkwX1_setJob_1 : List UInt8 := [16, 99, 184, 0, 64, 184, 0, 68, 28, 29, 159, 0, 7, 4, 167, 0, 4, 3, 184, 1, 95, 42]
abbrev dktX1_setJob_1 : List UInt8 := dkwX1_setJob_1 ++ dktX1_setJob_2
def dkwX1_setJob_0 : List UInt8 := [42, 27, 182, 0, 204, 180, 0, 214, 54, 5, 42, 28, 182, 0, 173, 42, 29, 182, 0, 173, 21, 4, 4]
abbrev dktX1_setJob_0 : List UInt8 := dkwX1_setJob_0 ++ dktX1_setJob_1
theorem dksX1_setJob_0 : cX1_setJob.data.toList.drop 0 = dktX1_setJob_0 := by decide +kernel
theorem dksX1_setJob_1 : cX1_setJob.data.toList.drop 23 = dktX1_setJob_1 := dk_seg dksX1_setJob_0 23 rfl rfl
theorem dksX1_setJob_2 : cX1_setJob.data.toList.drop 45 = dktX1_setJob_2 := dk_seg dksX1_setJob_1 22 rfl rfl
theorem dksX1_setJob_3 : cX1_setJob.data.toList.drop 68 = dktX1_setJob_3 := dk_seg dksX1_setJob_2 23 rfl rfl
theorem dX1_setJob_0 : decode cX1_setJob 0 = .ok (.aload_n 0, 1) := dk_42 (dk_at dksX1_setJob_0 0 rfl rfl)
theorem dX1_setJob_1 : decode cX1_setJob 1 = .ok (.iload_n 1, 1) := dk_27 (dk_at dksX1_setJob_0 1 rfl rfl)
theorem dX1_setJob_2 : decode cX1_setJob 2 = .ok (.invokevirtual 204, 3) := dk_182 0 204 (dk_at dksX1_setJob_0 2 rfl rfl)
theorem dX1_setJob_5 : decode cX1_setJob 5 = .ok (.getfield 214, 3) := dk_180 0 214 (dk_at dksX1_setJob_0 5 rfl rfl)
theorem dX1_setJob_8 : decode cX1_setJob 8 = .ok (.istore 5, 2) := dk_54 5 (dk_at dksX1_setJob_0 8 rfl rfl)
theorem dX1_setJob_10 : decode cX1_setJob 10 = .ok (.aload_n 0, 1) := dk_42 (dk_at dksX1_setJob_0 10 rfl rfl)
theorem dX1_setJob_11 : decode cX1_setJob 11 = .ok (.iload_n 2, 1) := dk_28 (dk_at dksX1_setJob_0 11 rfl rfl)
theorem dX1_setJob_12 : decode cX1_setJob 12 = .ok (.invokevirtual 173, 3) := dk_182 0 173 (dk_at dksX1_setJob_0 12 rfl rfl)
theorem dX1_setJob_15 : decode cX1_setJob 15 = .ok (.aload_n 0, 1) := dk_42 (dk_at dksX1_setJob_0 15 rfl rfl)
theorem dX1_setJob_16 : decode cX1_setJob 16 = .ok (.iload_n 3, 1) := dk_29 (dk_at dksX1_setJob_0 16 rfl rfl)
theorem dX1_setJob_17 : decode cX1_setJob 17 = .ok (.invokevirtual 173, 3) := dk_182 0 173 (dk_at dksX1_setJob_0 17 rfl rfl)
theorem dX1_setJob_20 : decode cX1_setJob 20 = .ok (.iload 4, 2) := dk_21 4 (dk_at dksX1_setJob_0 20 rfl rfl)
theorem dX1_setJob_22 : decode cX1_setJob 22 = .ok (.iconst 1, 1) := dk_4 (dk_at dksX1_setJob_0 22 rfl rfl)
theorem dX1_setJob_23 : decode cX1_setJob 23 = .ok (.bipush 99, 2) := dk_16 99 (dk_at dksX1_setJob_1 0 rfl rfl)
theorem dX1_setJob_25 : decode cX1_setJob 25 = .ok (.invokestatic 64, 3) := dk_184 0 64 (dk_at dksX1_setJob_1 2 rfl rfl)
theorem dX1_setJob_28 : decode cX1_setJob 28 = .ok (.invokestatic 68, 3) := dk_184 0 68 (dk_at dksX1_setJob_1 5 rfl rfl)
theorem dX1_setJob_31 : decode cX1_setJob 31 = .ok (.iload_n 2, 1) := dk_28 (dk_at dksX1_setJob_1 8 rfl rfl)
theorem dX1_setJob_32 : decode cX1_setJob 32 = .ok (.iload_n 3, 1) := dk_29 (dk_at dksX1_setJob_1 9 rfl rfl)
theorem dX1_setJob_33 : decode cX1_setJob 33 = .ok (.if_icmp .eq 7, 3) := dk_159 0 7 (dk_at dksX1_setJob_1 10 rfl rfl)
theorem dX1_setJob_36 : decode cX1_setJob 36 = .ok (.iconst 1, 1) := dk_4 (dk_at dksX1_setJob_1 13 rfl rfl)
theorem dX1_setJob_37 : decode cX1_setJob 37 = .ok (.goto 4, 3) := dk_167 0 4 (dk_at dksX1_setJob_1 14 rfl rfl)
theorem dX1_setJob_40 : decode cX1_setJob 40 = .ok (.iconst 0, 1) := dk_3 (dk_at dksX1_setJob_1 17 rfl rfl)
theorem dX1_setJob_41 : decode cX1_setJob 41 = .ok (.invokestatic 351, 3) := dk_184 1 95 (dk_at dksX1_setJob_1 18 rfl rfl)
theorem dX1_setJob_44 : decode cX1_setJob 44 = .ok (.aload_n 0, 1) := dk_42 (dk_at dksX1_setJob_1 21 rfl rfl)
theorem dX1_setJob_45 : decode cX1_setJob 45 = .ok (.invokevirtual 354, 3) := dk_182 1 98 (dk_at dksX1_setJob_2 0 rfl rfl)
theorem dX1_setJob_48 : decode cX1_setJob 48 = .ok (.getfield 126, 3) := dk_180 0 126 (dk_at dksX1_setJob_2 3 rfl rfl)
theorem dX1_setJob_51 : decode cX1_setJob 51 = .ok (.iload_n 1, 1) := dk_27 (dk_at dksX1_setJob_2 6 rfl rfl)
theorem dX1_setJob_52 : decode cX1_setJob 52 = .ok (.invokeinterface 129 2, 5) := by decide +kernel
theorem dX1_setJob_57 : decode cX1_setJob 57 = .ok (.checkcast 133, 3) := dk_192 0 133 (dk_at dksX1_setJob_2 12 rfl rfl)
theorem dX1_setJob_60 : decode cX1_setJob 60 = .ok (.astore 6, 2) := dk_58 6 (dk_at dksX1_setJob_2 15 rfl rfl)
theorem dX1_setJob_62 : decode cX1_setJob 62 = .ok (.aload 6, 2) := dk_25 6 (dk_at dksX1_setJob_2 17 rfl rfl)
theorem dX1_setJob_64 : decode cX1_setJob 64 = .ok (.iload_n 2, 1) := dk_28 (dk_at dksX1_setJob_2 19 rfl rfl)
theorem dX1_setJob_65 : decode cX1_setJob 65 = .ok (.putfield 208, 3) := dk_181 0 208 (dk_at dksX1_setJob_2 20 rfl rfl)
theorem dX1_setJob_68 : decode cX1_setJob 68 = .ok (.aload 6, 2) := dk_25 6 (dk_at dksX1_setJob_3 0 rfl rfl)
theorem dX1_setJob_70 : decode cX1_setJob 70 = .ok (.iload_n 3, 1) := dk_29 (dk_at dksX1_setJob_3 2 rfl rfl)
theorem dX1_setJob_71 : decode cX1_setJob 71 = .ok (.putfield 211, 3) := dk_181 0 211 (dk_at dksX1_setJob_3 3 rfl rfl)
theorem dX1_setJob_74 : decode cX1_setJob 74 = .ok (.aload 6, 2) := dk_25 6 (dk_at dksX1_setJob_3 6 rfl rfl)
theorem dX1_setJob_76 : decode cX1_setJob 76 = .ok (.iload 4, 2) := dk_21 4 (dk_at dksX1_setJob_3 8 rfl rfl)
theorem dX1_setJob_78 : decode cX1_setJob 78 = .ok (.putfield 214, 3) := dk_181 0 214 (dk_at dksX1_setJob_3 10 rfl rfl)
theorem dX1_setJob_81 : decode cX1_setJob 81 = .ok (.iload 5, 2) := dk_21 5 (dk_at dksX1_setJob_3 13 rfl rfl)
theorem dX1_setJob_83 : decode cX1_setJob 83 = .ok (.ireturn, 1) := dk_172 (dk_at dksX1_setJob_3 15 rfl rfl)
abbrev cX1_requireState : ByteArray := prog_1_method_5_code
def yX1_requireState : MethodName := ⟨RX1, "requireState", "(Z)V"⟩
def dkwX1_requireState_0 : List UInt8 := [26, 154, 0, 11, 187, 0, 13, 89, 183, 0, 15, 191, 177]
abbrev dktX1_requireState_0 : List UInt8 := dkwX1_requireState_0 ++ []
theorem dksX1_requireState_0 : cX1_requireState.data.toList.drop 0 = dktX1_requireState_0 := by decide +kernel
theorem dX1_requireState_0 : decode cX1_requireState 0 = .ok (.iload_n 0, 1) := dk_26 (dk_at dksX1_requireState_0 0 rfl rfl)
theorem dX1_requireState_1 : decode cX1_requireState 1 = .ok (.ifCond .ne 11, 3) := dk_154 0 11 (dk_at dksX1_requireState_0 1 rfl rfl)
theorem dX1_requireState_4 : decode cX1_requireState 4 = .ok (.new 13, 3) := dk_187 0 13 (dk_at dksX1_requireState_0 4 rfl rfl)
theorem dX1_requireState_7 : decode cX1_requireState 7 = .ok (.dup, 1) := dk_89 (dk_at dksX1_requireState_0 7 rfl rfl)
theorem dX1_requireState_8 : decode cX1_requireState 8 = .ok (.invokespecial 15, 3) := dk_183 0 15 (dk_at dksX1_requireState_0 8 rfl rfl)
theorem dX1_requireState_11 : decode cX1_requireState 11 = .ok (.athrow, 1) := dk_191 (dk_at dksX1_requireState_0 11 rfl rfl)
theorem dX1_requireState_12 : decode cX1_requireState 12 = .ok (.return_, 1) := dk_177 (dk_at dksX1_requireState_0 12 rfl rfl)
abbrev cX1_edit : ByteArray := prog_1_method_62_code
def yX1_edit : MethodName := ⟨RX1, "edit", "()LTranslationBureau$Office;"⟩
def dkwX1_edit_0 : List UInt8 := [42, 42, 180, 0, 39, 182, 0, 113, 182, 0, 116, 42, 180, 0, 39, 176]
abbrev dktX1_edit_0 : List UInt8 := dkwX1_edit_0 ++ []
theorem dksX1_edit_0 : cX1_edit.data.toList.drop 0 = dktX1_edit_0 := by decide +kernel
theorem dX1_edit_0 : decode cX1_edit 0 = .ok (.aload_n 0, 1) := dk_42 (dk_at dksX1_edit_0 0 rfl rfl)
theorem dX1_edit_1 : decode cX1_edit 1 = .ok (.aload_n 0, 1) := dk_42 (dk_at dksX1_edit_0 1 rfl rfl)
theorem dX1_edit_2 : decode cX1_edit 2 = .ok (.getfield 39, 3) := dk_180 0 39 (dk_at dksX1_edit_0 2 rfl rfl)
theorem dX1_edit_5 : decode cX1_edit 5 = .ok (.invokevirtual 113, 3) := dk_182 0 113 (dk_at dksX1_edit_0 5 rfl rfl)
theorem dX1_edit_8 : decode cX1_edit 8 = .ok (.invokevirtual 116, 3) := dk_182 0 116 (dk_at dksX1_edit_0 8 rfl rfl)
theorem dX1_edit_11 : decode cX1_edit 11 = .ok (.aload_n 0, 1) := dk_42 (dk_at dksX1_edit_0 11 rfl rfl)
theorem dX1_edit_12 : decode cX1_edit 12 = .ok (.getfield 39, 3) := dk_180 0 39 (dk_at dksX1_edit_0 12 rfl rfl)
theorem dX1_edit_15 : decode cX1_edit 15 = .ok (.areturn, 1) := dk_176 (dk_at dksX1_edit_0 15 rfl rfl)
abbrev cX1_setFollowed : ByteArray := prog_1_method_66_code
def yX1_setFollowed : MethodName := ⟨RX1, "setFollowed", "(II)I"⟩
def dkwX1_setFollowed_2 : List UInt8 := [181, 0, 217, 29, 172]
abbrev dktX1_setFollowed_2 : List UInt8 := dkwX1_setFollowed_2 ++ []
def dkwX1_setFollowed_1 : List UInt8 := [184, 0, 64, 184, 0, 68, 42, 182, 1, 98, 180, 0, 126, 27, 185, 0, 129, 2, 0, 192, 0, 133, 28]
abbrev dktX1_setFollowed_1 : List UInt8 := dkwX1_setFollowed_1 ++ dktX1_setFollowed_2
def dkwX1_setFollowed_0 : List UInt8 := [42, 27, 182, 0, 204, 180, 0, 217, 62, 28, 3, 42, 180, 0, 39, 180, 0, 147, 185, 0, 108, 1, 0]
abbrev dktX1_setFollowed_0 : List UInt8 := dkwX1_setFollowed_0 ++ dktX1_setFollowed_1
theorem dksX1_setFollowed_0 : cX1_setFollowed.data.toList.drop 0 = dktX1_setFollowed_0 := by decide +kernel
theorem dksX1_setFollowed_1 : cX1_setFollowed.data.toList.drop 23 = dktX1_setFollowed_1 := dk_seg dksX1_setFollowed_0 23 rfl rfl
theorem dksX1_setFollowed_2 : cX1_setFollowed.data.toList.drop 46 = dktX1_setFollowed_2 := dk_seg dksX1_setFollowed_1 23 rfl rfl
theorem dX1_setFollowed_0 : decode cX1_setFollowed 0 = .ok (.aload_n 0, 1) := dk_42 (dk_at dksX1_setFollowed_0 0 rfl rfl)
theorem dX1_setFollowed_1 : decode cX1_setFollowed 1 = .ok (.iload_n 1, 1) := dk_27 (dk_at dksX1_setFollowed_0 1 rfl rfl)
theorem dX1_setFollowed_2 : decode cX1_setFollowed 2 = .ok (.invokevirtual 204, 3) := dk_182 0 204 (dk_at dksX1_setFollowed_0 2 rfl rfl)
theorem dX1_setFollowed_5 : decode cX1_setFollowed 5 = .ok (.getfield 217, 3) := dk_180 0 217 (dk_at dksX1_setFollowed_0 5 rfl rfl)
theorem dX1_setFollowed_8 : decode cX1_setFollowed 8 = .ok (.istore_n 3, 1) := dk_62 (dk_at dksX1_setFollowed_0 8 rfl rfl)
theorem dX1_setFollowed_9 : decode cX1_setFollowed 9 = .ok (.iload_n 2, 1) := dk_28 (dk_at dksX1_setFollowed_0 9 rfl rfl)
theorem dX1_setFollowed_10 : decode cX1_setFollowed 10 = .ok (.iconst 0, 1) := dk_3 (dk_at dksX1_setFollowed_0 10 rfl rfl)
theorem dX1_setFollowed_11 : decode cX1_setFollowed 11 = .ok (.aload_n 0, 1) := dk_42 (dk_at dksX1_setFollowed_0 11 rfl rfl)
theorem dX1_setFollowed_12 : decode cX1_setFollowed 12 = .ok (.getfield 39, 3) := dk_180 0 39 (dk_at dksX1_setFollowed_0 12 rfl rfl)
theorem dX1_setFollowed_15 : decode cX1_setFollowed 15 = .ok (.getfield 147, 3) := dk_180 0 147 (dk_at dksX1_setFollowed_0 15 rfl rfl)
theorem dX1_setFollowed_18 : decode cX1_setFollowed 18 = .ok (.invokeinterface 108 1, 5) := by decide +kernel
theorem dX1_setFollowed_23 : decode cX1_setFollowed 23 = .ok (.invokestatic 64, 3) := dk_184 0 64 (dk_at dksX1_setFollowed_1 0 rfl rfl)
theorem dX1_setFollowed_26 : decode cX1_setFollowed 26 = .ok (.invokestatic 68, 3) := dk_184 0 68 (dk_at dksX1_setFollowed_1 3 rfl rfl)
theorem dX1_setFollowed_29 : decode cX1_setFollowed 29 = .ok (.aload_n 0, 1) := dk_42 (dk_at dksX1_setFollowed_1 6 rfl rfl)
theorem dX1_setFollowed_30 : decode cX1_setFollowed 30 = .ok (.invokevirtual 354, 3) := dk_182 1 98 (dk_at dksX1_setFollowed_1 7 rfl rfl)
theorem dX1_setFollowed_33 : decode cX1_setFollowed 33 = .ok (.getfield 126, 3) := dk_180 0 126 (dk_at dksX1_setFollowed_1 10 rfl rfl)
theorem dX1_setFollowed_36 : decode cX1_setFollowed 36 = .ok (.iload_n 1, 1) := dk_27 (dk_at dksX1_setFollowed_1 13 rfl rfl)
theorem dX1_setFollowed_37 : decode cX1_setFollowed 37 = .ok (.invokeinterface 129 2, 5) := by decide +kernel
theorem dX1_setFollowed_42 : decode cX1_setFollowed 42 = .ok (.checkcast 133, 3) := dk_192 0 133 (dk_at dksX1_setFollowed_1 19 rfl rfl)
theorem dX1_setFollowed_45 : decode cX1_setFollowed 45 = .ok (.iload_n 2, 1) := dk_28 (dk_at dksX1_setFollowed_1 22 rfl rfl)
theorem dX1_setFollowed_46 : decode cX1_setFollowed 46 = .ok (.putfield 217, 3) := dk_181 0 217 (dk_at dksX1_setFollowed_2 0 rfl rfl)
theorem dX1_setFollowed_49 : decode cX1_setFollowed 49 = .ok (.iload_n 3, 1) := dk_29 (dk_at dksX1_setFollowed_2 3 rfl rfl)
theorem dX1_setFollowed_50 : decode cX1_setFollowed 50 = .ok (.ireturn, 1) := dk_172 (dk_at dksX1_setFollowed_2 4 rfl rfl)
abbrev cX1_setBand : ByteArray := prog_1_method_67_code
def yX1_setBand : MethodName := ⟨RX1, "setBand", "(II)I"⟩
def dkwX1_setBand_1 : List UInt8 := [28, 79, 29, 172]
abbrev dktX1_setBand_1 : List UInt8 := dkwX1_setBand_1 ++ []
def dkwX1_setBand_0 : List UInt8 := [42, 27, 182, 1, 101, 62, 28, 3, 16, 100, 184, 0, 64, 184, 0, 68, 42, 182, 1, 98, 180, 0, 162, 27]
abbrev dktX1_setBand_0 : List UInt8 := dkwX1_setBand_0 ++ dktX1_setBand_1
theorem dksX1_setBand_0 : cX1_setBand.data.toList.drop 0 = dktX1_setBand_0 := by decide +kernel
theorem dksX1_setBand_1 : cX1_setBand.data.toList.drop 24 = dktX1_setBand_1 := dk_seg dksX1_setBand_0 24 rfl rfl
theorem dX1_setBand_0 : decode cX1_setBand 0 = .ok (.aload_n 0, 1) := dk_42 (dk_at dksX1_setBand_0 0 rfl rfl)
theorem dX1_setBand_1 : decode cX1_setBand 1 = .ok (.iload_n 1, 1) := dk_27 (dk_at dksX1_setBand_0 1 rfl rfl)
theorem dX1_setBand_2 : decode cX1_setBand 2 = .ok (.invokevirtual 357, 3) := dk_182 1 101 (dk_at dksX1_setBand_0 2 rfl rfl)
theorem dX1_setBand_5 : decode cX1_setBand 5 = .ok (.istore_n 3, 1) := dk_62 (dk_at dksX1_setBand_0 5 rfl rfl)
theorem dX1_setBand_6 : decode cX1_setBand 6 = .ok (.iload_n 2, 1) := dk_28 (dk_at dksX1_setBand_0 6 rfl rfl)
theorem dX1_setBand_7 : decode cX1_setBand 7 = .ok (.iconst 0, 1) := dk_3 (dk_at dksX1_setBand_0 7 rfl rfl)
theorem dX1_setBand_8 : decode cX1_setBand 8 = .ok (.bipush 100, 2) := dk_16 100 (dk_at dksX1_setBand_0 8 rfl rfl)
theorem dX1_setBand_10 : decode cX1_setBand 10 = .ok (.invokestatic 64, 3) := dk_184 0 64 (dk_at dksX1_setBand_0 10 rfl rfl)
theorem dX1_setBand_13 : decode cX1_setBand 13 = .ok (.invokestatic 68, 3) := dk_184 0 68 (dk_at dksX1_setBand_0 13 rfl rfl)
theorem dX1_setBand_16 : decode cX1_setBand 16 = .ok (.aload_n 0, 1) := dk_42 (dk_at dksX1_setBand_0 16 rfl rfl)
theorem dX1_setBand_17 : decode cX1_setBand 17 = .ok (.invokevirtual 354, 3) := dk_182 1 98 (dk_at dksX1_setBand_0 17 rfl rfl)
theorem dX1_setBand_20 : decode cX1_setBand 20 = .ok (.getfield 162, 3) := dk_180 0 162 (dk_at dksX1_setBand_0 20 rfl rfl)
theorem dX1_setBand_23 : decode cX1_setBand 23 = .ok (.iload_n 1, 1) := dk_27 (dk_at dksX1_setBand_0 23 rfl rfl)
theorem dX1_setBand_24 : decode cX1_setBand 24 = .ok (.iload_n 2, 1) := dk_28 (dk_at dksX1_setBand_1 0 rfl rfl)
theorem dX1_setBand_25 : decode cX1_setBand 25 = .ok (.iastore, 1) := dk_79 (dk_at dksX1_setBand_1 1 rfl rfl)
theorem dX1_setBand_26 : decode cX1_setBand 26 = .ok (.iload_n 3, 1) := dk_29 (dk_at dksX1_setBand_1 2 rfl rfl)
theorem dX1_setBand_27 : decode cX1_setBand 27 = .ok (.ireturn, 1) := dk_172 (dk_at dksX1_setBand_1 3 rfl rfl)
abbrev cX1_setSetting : ByteArray := prog_1_method_68_code
def yX1_setSetting : MethodName := ⟨RX1, "setSetting", "(II)I"⟩
def dkwX1_setSetting_1 : List UInt8 := [182, 1, 98, 180, 0, 154, 27, 28, 79, 29, 172]
abbrev dktX1_setSetting_1 : List UInt8 := dkwX1_setSetting_1 ++ []
def dkwX1_setSetting_0 : List UInt8 := [42, 27, 182, 1, 104, 62, 28, 27, 184, 1, 107, 27, 184, 1, 110, 184, 0, 64, 184, 0, 68, 42]
abbrev dktX1_setSetting_0 : List UInt8 := dkwX1_setSetting_0 ++ dktX1_setSetting_1
theorem dksX1_setSetting_0 : cX1_setSetting.data.toList.drop 0 = dktX1_setSetting_0 := by decide +kernel
theorem dksX1_setSetting_1 : cX1_setSetting.data.toList.drop 22 = dktX1_setSetting_1 := dk_seg dksX1_setSetting_0 22 rfl rfl
theorem dX1_setSetting_0 : decode cX1_setSetting 0 = .ok (.aload_n 0, 1) := dk_42 (dk_at dksX1_setSetting_0 0 rfl rfl)
theorem dX1_setSetting_1 : decode cX1_setSetting 1 = .ok (.iload_n 1, 1) := dk_27 (dk_at dksX1_setSetting_0 1 rfl rfl)
theorem dX1_setSetting_2 : decode cX1_setSetting 2 = .ok (.invokevirtual 360, 3) := dk_182 1 104 (dk_at dksX1_setSetting_0 2 rfl rfl)
theorem dX1_setSetting_5 : decode cX1_setSetting 5 = .ok (.istore_n 3, 1) := dk_62 (dk_at dksX1_setSetting_0 5 rfl rfl)
theorem dX1_setSetting_6 : decode cX1_setSetting 6 = .ok (.iload_n 2, 1) := dk_28 (dk_at dksX1_setSetting_0 6 rfl rfl)
theorem dX1_setSetting_7 : decode cX1_setSetting 7 = .ok (.iload_n 1, 1) := dk_27 (dk_at dksX1_setSetting_0 7 rfl rfl)
theorem dX1_setSetting_8 : decode cX1_setSetting 8 = .ok (.invokestatic 363, 3) := dk_184 1 107 (dk_at dksX1_setSetting_0 8 rfl rfl)
theorem dX1_setSetting_11 : decode cX1_setSetting 11 = .ok (.iload_n 1, 1) := dk_27 (dk_at dksX1_setSetting_0 11 rfl rfl)
theorem dX1_setSetting_12 : decode cX1_setSetting 12 = .ok (.invokestatic 366, 3) := dk_184 1 110 (dk_at dksX1_setSetting_0 12 rfl rfl)
theorem dX1_setSetting_15 : decode cX1_setSetting 15 = .ok (.invokestatic 64, 3) := dk_184 0 64 (dk_at dksX1_setSetting_0 15 rfl rfl)
theorem dX1_setSetting_18 : decode cX1_setSetting 18 = .ok (.invokestatic 68, 3) := dk_184 0 68 (dk_at dksX1_setSetting_0 18 rfl rfl)
theorem dX1_setSetting_21 : decode cX1_setSetting 21 = .ok (.aload_n 0, 1) := dk_42 (dk_at dksX1_setSetting_0 21 rfl rfl)
theorem dX1_setSetting_22 : decode cX1_setSetting 22 = .ok (.invokevirtual 354, 3) := dk_182 1 98 (dk_at dksX1_setSetting_1 0 rfl rfl)
theorem dX1_setSetting_25 : decode cX1_setSetting 25 = .ok (.getfield 154, 3) := dk_180 0 154 (dk_at dksX1_setSetting_1 3 rfl rfl)
theorem dX1_setSetting_28 : decode cX1_setSetting 28 = .ok (.iload_n 1, 1) := dk_27 (dk_at dksX1_setSetting_1 6 rfl rfl)
theorem dX1_setSetting_29 : decode cX1_setSetting 29 = .ok (.iload_n 2, 1) := dk_28 (dk_at dksX1_setSetting_1 7 rfl rfl)
theorem dX1_setSetting_30 : decode cX1_setSetting 30 = .ok (.iastore, 1) := dk_79 (dk_at dksX1_setSetting_1 8 rfl rfl)
theorem dX1_setSetting_31 : decode cX1_setSetting 31 = .ok (.iload_n 3, 1) := dk_29 (dk_at dksX1_setSetting_1 9 rfl rfl)
theorem dX1_setSetting_32 : decode cX1_setSetting 32 = .ok (.ireturn, 1) := dk_172 (dk_at dksX1_setSetting_1 10 rfl rfl)
abbrev cX1_swapTargets : ByteArray := prog_1_method_69_code
def yX1_swapTargets : MethodName := ⟨RX1, "swapTargets", "(II)I"⟩
def dkwX1_swapTargets_3 : List UInt8 := [182, 0, 150, 185, 0, 108, 1, 0, 172]
abbrev dktX1_swapTargets_3 : List UInt8 := dkwX1_swapTargets_3 ++ []
def dkwX1_swapTargets_2 : List UInt8 := [25, 4, 45, 180, 1, 113, 182, 1, 116, 185, 1, 120, 3, 0, 192, 0, 135, 58, 7, 42, 180, 0, 39]
abbrev dktX1_swapTargets_2 : List UInt8 := dkwX1_swapTargets_2 ++ dktX1_swapTargets_3
def dkwX1_swapTargets_1 : List UInt8 := [27, 45, 25, 4, 180, 1, 113, 182, 1, 116, 185, 1, 120, 3, 0, 192, 0, 135, 58, 6, 25, 5, 28]
abbrev dktX1_swapTargets_1 : List UInt8 := dkwX1_swapTargets_1 ++ dktX1_swapTargets_2
def dkwX1_swapTargets_0 : List UInt8 := [42, 27, 182, 0, 137, 78, 42, 28, 182, 0, 137, 58, 4, 42, 182, 1, 98, 180, 0, 104, 58, 5, 25, 5]
abbrev dktX1_swapTargets_0 : List UInt8 := dkwX1_swapTargets_0 ++ dktX1_swapTargets_1
theorem dksX1_swapTargets_0 : cX1_swapTargets.data.toList.drop 0 = dktX1_swapTargets_0 := by decide +kernel
theorem dksX1_swapTargets_1 : cX1_swapTargets.data.toList.drop 24 = dktX1_swapTargets_1 := dk_seg dksX1_swapTargets_0 24 rfl rfl
theorem dksX1_swapTargets_2 : cX1_swapTargets.data.toList.drop 47 = dktX1_swapTargets_2 := dk_seg dksX1_swapTargets_1 23 rfl rfl
theorem dksX1_swapTargets_3 : cX1_swapTargets.data.toList.drop 70 = dktX1_swapTargets_3 := dk_seg dksX1_swapTargets_2 23 rfl rfl
theorem dX1_swapTargets_0 : decode cX1_swapTargets 0 = .ok (.aload_n 0, 1) := dk_42 (dk_at dksX1_swapTargets_0 0 rfl rfl)
theorem dX1_swapTargets_1 : decode cX1_swapTargets 1 = .ok (.iload_n 1, 1) := dk_27 (dk_at dksX1_swapTargets_0 1 rfl rfl)
theorem dX1_swapTargets_2 : decode cX1_swapTargets 2 = .ok (.invokevirtual 137, 3) := dk_182 0 137 (dk_at dksX1_swapTargets_0 2 rfl rfl)
theorem dX1_swapTargets_5 : decode cX1_swapTargets 5 = .ok (.astore_n 3, 1) := dk_78 (dk_at dksX1_swapTargets_0 5 rfl rfl)
theorem dX1_swapTargets_6 : decode cX1_swapTargets 6 = .ok (.aload_n 0, 1) := dk_42 (dk_at dksX1_swapTargets_0 6 rfl rfl)
theorem dX1_swapTargets_7 : decode cX1_swapTargets 7 = .ok (.iload_n 2, 1) := dk_28 (dk_at dksX1_swapTargets_0 7 rfl rfl)
theorem dX1_swapTargets_8 : decode cX1_swapTargets 8 = .ok (.invokevirtual 137, 3) := dk_182 0 137 (dk_at dksX1_swapTargets_0 8 rfl rfl)
theorem dX1_swapTargets_11 : decode cX1_swapTargets 11 = .ok (.astore 4, 2) := dk_58 4 (dk_at dksX1_swapTargets_0 11 rfl rfl)
theorem dX1_swapTargets_13 : decode cX1_swapTargets 13 = .ok (.aload_n 0, 1) := dk_42 (dk_at dksX1_swapTargets_0 13 rfl rfl)
theorem dX1_swapTargets_14 : decode cX1_swapTargets 14 = .ok (.invokevirtual 354, 3) := dk_182 1 98 (dk_at dksX1_swapTargets_0 14 rfl rfl)
theorem dX1_swapTargets_17 : decode cX1_swapTargets 17 = .ok (.getfield 104, 3) := dk_180 0 104 (dk_at dksX1_swapTargets_0 17 rfl rfl)
theorem dX1_swapTargets_20 : decode cX1_swapTargets 20 = .ok (.astore 5, 2) := dk_58 5 (dk_at dksX1_swapTargets_0 20 rfl rfl)
theorem dX1_swapTargets_22 : decode cX1_swapTargets 22 = .ok (.aload 5, 2) := dk_25 5 (dk_at dksX1_swapTargets_0 22 rfl rfl)
theorem dX1_swapTargets_24 : decode cX1_swapTargets 24 = .ok (.iload_n 1, 1) := dk_27 (dk_at dksX1_swapTargets_1 0 rfl rfl)
theorem dX1_swapTargets_25 : decode cX1_swapTargets 25 = .ok (.aload_n 3, 1) := dk_45 (dk_at dksX1_swapTargets_1 1 rfl rfl)
theorem dX1_swapTargets_26 : decode cX1_swapTargets 26 = .ok (.aload 4, 2) := dk_25 4 (dk_at dksX1_swapTargets_1 2 rfl rfl)
theorem dX1_swapTargets_28 : decode cX1_swapTargets 28 = .ok (.getfield 369, 3) := dk_180 1 113 (dk_at dksX1_swapTargets_1 4 rfl rfl)
theorem dX1_swapTargets_31 : decode cX1_swapTargets 31 = .ok (.invokevirtual 372, 3) := dk_182 1 116 (dk_at dksX1_swapTargets_1 7 rfl rfl)
theorem dX1_swapTargets_34 : decode cX1_swapTargets 34 = .ok (.invokeinterface 376 3, 5) := by decide +kernel
theorem dX1_swapTargets_39 : decode cX1_swapTargets 39 = .ok (.checkcast 135, 3) := dk_192 0 135 (dk_at dksX1_swapTargets_1 15 rfl rfl)
theorem dX1_swapTargets_42 : decode cX1_swapTargets 42 = .ok (.astore 6, 2) := dk_58 6 (dk_at dksX1_swapTargets_1 18 rfl rfl)
theorem dX1_swapTargets_44 : decode cX1_swapTargets 44 = .ok (.aload 5, 2) := dk_25 5 (dk_at dksX1_swapTargets_1 20 rfl rfl)
theorem dX1_swapTargets_46 : decode cX1_swapTargets 46 = .ok (.iload_n 2, 1) := dk_28 (dk_at dksX1_swapTargets_1 22 rfl rfl)
theorem dX1_swapTargets_47 : decode cX1_swapTargets 47 = .ok (.aload 4, 2) := dk_25 4 (dk_at dksX1_swapTargets_2 0 rfl rfl)
theorem dX1_swapTargets_49 : decode cX1_swapTargets 49 = .ok (.aload_n 3, 1) := dk_45 (dk_at dksX1_swapTargets_2 2 rfl rfl)
theorem dX1_swapTargets_50 : decode cX1_swapTargets 50 = .ok (.getfield 369, 3) := dk_180 1 113 (dk_at dksX1_swapTargets_2 3 rfl rfl)
theorem dX1_swapTargets_53 : decode cX1_swapTargets 53 = .ok (.invokevirtual 372, 3) := dk_182 1 116 (dk_at dksX1_swapTargets_2 6 rfl rfl)
theorem dX1_swapTargets_56 : decode cX1_swapTargets 56 = .ok (.invokeinterface 376 3, 5) := by decide +kernel
theorem dX1_swapTargets_61 : decode cX1_swapTargets 61 = .ok (.checkcast 135, 3) := dk_192 0 135 (dk_at dksX1_swapTargets_2 14 rfl rfl)
theorem dX1_swapTargets_64 : decode cX1_swapTargets 64 = .ok (.astore 7, 2) := dk_58 7 (dk_at dksX1_swapTargets_2 17 rfl rfl)
theorem dX1_swapTargets_66 : decode cX1_swapTargets 66 = .ok (.aload_n 0, 1) := dk_42 (dk_at dksX1_swapTargets_2 19 rfl rfl)
theorem dX1_swapTargets_67 : decode cX1_swapTargets 67 = .ok (.getfield 39, 3) := dk_180 0 39 (dk_at dksX1_swapTargets_2 20 rfl rfl)
theorem dX1_swapTargets_70 : decode cX1_swapTargets 70 = .ok (.invokevirtual 150, 3) := dk_182 0 150 (dk_at dksX1_swapTargets_3 0 rfl rfl)
theorem dX1_swapTargets_73 : decode cX1_swapTargets 73 = .ok (.invokeinterface 108 1, 5) := by decide +kernel
theorem dX1_swapTargets_78 : decode cX1_swapTargets 78 = .ok (.ireturn, 1) := dk_172 (dk_at dksX1_swapTargets_3 8 rfl rfl)
abbrev cX1_write : ByteArray := prog_1_method_71_code
def yX1_write : MethodName := ⟨RX1, "write", "(I)I"⟩
def dkwX1_write_6 : List UInt8 := [180, 0, 54, 182, 1, 163, 172]
abbrev dktX1_write_6 : List UInt8 := dkwX1_write_6 ++ []
def dkwX1_write_5 : List UInt8 := [87, 167, 0, 21, 42, 180, 0, 54, 19, 1, 161, 182, 1, 138, 44, 182, 1, 56, 182, 1, 133, 87, 42]
abbrev dktX1_write_5 : List UInt8 := dkwX1_write_5 ++ dktX1_write_6
def dkwX1_write_4 : List UInt8 := [44, 192, 1, 154, 58, 4, 42, 180, 0, 54, 19, 1, 156, 182, 1, 138, 25, 4, 180, 1, 158, 182, 1, 133]
abbrev dktX1_write_4 : List UInt8 := dkwX1_write_4 ++ dktX1_write_5
def dkwX1_write_3 : List UInt8 := [182, 1, 138, 45, 180, 1, 145, 180, 1, 35, 182, 1, 138, 87, 167, 0, 56, 44, 193, 1, 154, 153, 0, 31]
abbrev dktX1_write_3 : List UInt8 := dkwX1_write_3 ++ dktX1_write_4
def dkwX1_write_2 : List UInt8 := [180, 0, 54, 19, 1, 143, 182, 1, 138, 45, 180, 1, 145, 180, 1, 149, 182, 1, 138, 19, 1, 152]
abbrev dktX1_write_2 : List UInt8 := dkwX1_write_2 ++ dktX1_write_3
def dkwX1_write_1 : List UInt8 := [182, 1, 133, 19, 1, 136, 182, 1, 138, 87, 44, 193, 1, 141, 153, 0, 48, 44, 192, 1, 141, 78, 42]
abbrev dktX1_write_1 : List UInt8 := dkwX1_write_1 ++ dktX1_write_2
def dkwX1_write_0 : List UInt8 := [42, 27, 182, 1, 48, 77, 42, 180, 0, 54, 3, 182, 1, 130, 42, 180, 0, 54, 44, 180, 1, 53]
abbrev dktX1_write_0 : List UInt8 := dkwX1_write_0 ++ dktX1_write_1
theorem dksX1_write_0 : cX1_write.data.toList.drop 0 = dktX1_write_0 := by decide +kernel
theorem dksX1_write_1 : cX1_write.data.toList.drop 22 = dktX1_write_1 := dk_seg dksX1_write_0 22 rfl rfl
theorem dksX1_write_2 : cX1_write.data.toList.drop 45 = dktX1_write_2 := dk_seg dksX1_write_1 23 rfl rfl
theorem dksX1_write_3 : cX1_write.data.toList.drop 67 = dktX1_write_3 := dk_seg dksX1_write_2 22 rfl rfl
theorem dksX1_write_4 : cX1_write.data.toList.drop 91 = dktX1_write_4 := dk_seg dksX1_write_3 24 rfl rfl
theorem dksX1_write_5 : cX1_write.data.toList.drop 115 = dktX1_write_5 := dk_seg dksX1_write_4 24 rfl rfl
theorem dksX1_write_6 : cX1_write.data.toList.drop 138 = dktX1_write_6 := dk_seg dksX1_write_5 23 rfl rfl
theorem dX1_write_0 : decode cX1_write 0 = .ok (.aload_n 0, 1) := dk_42 (dk_at dksX1_write_0 0 rfl rfl)
theorem dX1_write_1 : decode cX1_write 1 = .ok (.iload_n 1, 1) := dk_27 (dk_at dksX1_write_0 1 rfl rfl)
theorem dX1_write_2 : decode cX1_write 2 = .ok (.invokevirtual 304, 3) := dk_182 1 48 (dk_at dksX1_write_0 2 rfl rfl)
theorem dX1_write_5 : decode cX1_write 5 = .ok (.astore_n 2, 1) := dk_77 (dk_at dksX1_write_0 5 rfl rfl)
theorem dX1_write_6 : decode cX1_write 6 = .ok (.aload_n 0, 1) := dk_42 (dk_at dksX1_write_0 6 rfl rfl)
theorem dX1_write_7 : decode cX1_write 7 = .ok (.getfield 54, 3) := dk_180 0 54 (dk_at dksX1_write_0 7 rfl rfl)
theorem dX1_write_10 : decode cX1_write 10 = .ok (.iconst 0, 1) := dk_3 (dk_at dksX1_write_0 10 rfl rfl)
theorem dX1_write_11 : decode cX1_write 11 = .ok (.invokevirtual 386, 3) := dk_182 1 130 (dk_at dksX1_write_0 11 rfl rfl)
theorem dX1_write_14 : decode cX1_write 14 = .ok (.aload_n 0, 1) := dk_42 (dk_at dksX1_write_0 14 rfl rfl)
theorem dX1_write_15 : decode cX1_write 15 = .ok (.getfield 54, 3) := dk_180 0 54 (dk_at dksX1_write_0 15 rfl rfl)
theorem dX1_write_18 : decode cX1_write 18 = .ok (.aload_n 2, 1) := dk_44 (dk_at dksX1_write_0 18 rfl rfl)
theorem dX1_write_19 : decode cX1_write 19 = .ok (.getfield 309, 3) := dk_180 1 53 (dk_at dksX1_write_0 19 rfl rfl)
theorem dX1_write_22 : decode cX1_write 22 = .ok (.invokevirtual 389, 3) := dk_182 1 133 (dk_at dksX1_write_1 0 rfl rfl)
theorem dX1_write_25 : decode cX1_write 25 = .ok (.ldc_w 392, 3) := dk_19 1 136 (dk_at dksX1_write_1 3 rfl rfl)
theorem dX1_write_28 : decode cX1_write 28 = .ok (.invokevirtual 394, 3) := dk_182 1 138 (dk_at dksX1_write_1 6 rfl rfl)
theorem dX1_write_31 : decode cX1_write 31 = .ok (.pop, 1) := dk_87 (dk_at dksX1_write_1 9 rfl rfl)
theorem dX1_write_32 : decode cX1_write 32 = .ok (.aload_n 2, 1) := dk_44 (dk_at dksX1_write_1 10 rfl rfl)
theorem dX1_write_33 : decode cX1_write 33 = .ok (.instanceof 397, 3) := dk_193 1 141 (dk_at dksX1_write_1 11 rfl rfl)
theorem dX1_write_36 : decode cX1_write 36 = .ok (.ifCond .eq 48, 3) := dk_153 0 48 (dk_at dksX1_write_1 14 rfl rfl)
theorem dX1_write_39 : decode cX1_write 39 = .ok (.aload_n 2, 1) := dk_44 (dk_at dksX1_write_1 17 rfl rfl)
theorem dX1_write_40 : decode cX1_write 40 = .ok (.checkcast 397, 3) := dk_192 1 141 (dk_at dksX1_write_1 18 rfl rfl)
theorem dX1_write_43 : decode cX1_write 43 = .ok (.astore_n 3, 1) := dk_78 (dk_at dksX1_write_1 21 rfl rfl)
theorem dX1_write_44 : decode cX1_write 44 = .ok (.aload_n 0, 1) := dk_42 (dk_at dksX1_write_1 22 rfl rfl)
theorem dX1_write_45 : decode cX1_write 45 = .ok (.getfield 54, 3) := dk_180 0 54 (dk_at dksX1_write_2 0 rfl rfl)
theorem dX1_write_48 : decode cX1_write 48 = .ok (.ldc_w 399, 3) := dk_19 1 143 (dk_at dksX1_write_2 3 rfl rfl)
theorem dX1_write_51 : decode cX1_write 51 = .ok (.invokevirtual 394, 3) := dk_182 1 138 (dk_at dksX1_write_2 6 rfl rfl)
theorem dX1_write_54 : decode cX1_write 54 = .ok (.aload_n 3, 1) := dk_45 (dk_at dksX1_write_2 9 rfl rfl)
theorem dX1_write_55 : decode cX1_write 55 = .ok (.getfield 401, 3) := dk_180 1 145 (dk_at dksX1_write_2 10 rfl rfl)
theorem dX1_write_58 : decode cX1_write 58 = .ok (.getfield 405, 3) := dk_180 1 149 (dk_at dksX1_write_2 13 rfl rfl)
theorem dX1_write_61 : decode cX1_write 61 = .ok (.invokevirtual 394, 3) := dk_182 1 138 (dk_at dksX1_write_2 16 rfl rfl)
theorem dX1_write_64 : decode cX1_write 64 = .ok (.ldc_w 408, 3) := dk_19 1 152 (dk_at dksX1_write_2 19 rfl rfl)
theorem dX1_write_67 : decode cX1_write 67 = .ok (.invokevirtual 394, 3) := dk_182 1 138 (dk_at dksX1_write_3 0 rfl rfl)
theorem dX1_write_70 : decode cX1_write 70 = .ok (.aload_n 3, 1) := dk_45 (dk_at dksX1_write_3 3 rfl rfl)
theorem dX1_write_71 : decode cX1_write 71 = .ok (.getfield 401, 3) := dk_180 1 145 (dk_at dksX1_write_3 4 rfl rfl)
theorem dX1_write_74 : decode cX1_write 74 = .ok (.getfield 291, 3) := dk_180 1 35 (dk_at dksX1_write_3 7 rfl rfl)
theorem dX1_write_77 : decode cX1_write 77 = .ok (.invokevirtual 394, 3) := dk_182 1 138 (dk_at dksX1_write_3 10 rfl rfl)
theorem dX1_write_80 : decode cX1_write 80 = .ok (.pop, 1) := dk_87 (dk_at dksX1_write_3 13 rfl rfl)
theorem dX1_write_81 : decode cX1_write 81 = .ok (.goto 56, 3) := dk_167 0 56 (dk_at dksX1_write_3 14 rfl rfl)
theorem dX1_write_84 : decode cX1_write 84 = .ok (.aload_n 2, 1) := dk_44 (dk_at dksX1_write_3 17 rfl rfl)
theorem dX1_write_85 : decode cX1_write 85 = .ok (.instanceof 410, 3) := dk_193 1 154 (dk_at dksX1_write_3 18 rfl rfl)
theorem dX1_write_88 : decode cX1_write 88 = .ok (.ifCond .eq 31, 3) := dk_153 0 31 (dk_at dksX1_write_3 21 rfl rfl)
theorem dX1_write_91 : decode cX1_write 91 = .ok (.aload_n 2, 1) := dk_44 (dk_at dksX1_write_4 0 rfl rfl)
theorem dX1_write_92 : decode cX1_write 92 = .ok (.checkcast 410, 3) := dk_192 1 154 (dk_at dksX1_write_4 1 rfl rfl)
theorem dX1_write_95 : decode cX1_write 95 = .ok (.astore 4, 2) := dk_58 4 (dk_at dksX1_write_4 4 rfl rfl)
theorem dX1_write_97 : decode cX1_write 97 = .ok (.aload_n 0, 1) := dk_42 (dk_at dksX1_write_4 6 rfl rfl)
theorem dX1_write_98 : decode cX1_write 98 = .ok (.getfield 54, 3) := dk_180 0 54 (dk_at dksX1_write_4 7 rfl rfl)
theorem dX1_write_101 : decode cX1_write 101 = .ok (.ldc_w 412, 3) := dk_19 1 156 (dk_at dksX1_write_4 10 rfl rfl)
theorem dX1_write_104 : decode cX1_write 104 = .ok (.invokevirtual 394, 3) := dk_182 1 138 (dk_at dksX1_write_4 13 rfl rfl)
theorem dX1_write_107 : decode cX1_write 107 = .ok (.aload 4, 2) := dk_25 4 (dk_at dksX1_write_4 16 rfl rfl)
theorem dX1_write_109 : decode cX1_write 109 = .ok (.getfield 414, 3) := dk_180 1 158 (dk_at dksX1_write_4 18 rfl rfl)
theorem dX1_write_112 : decode cX1_write 112 = .ok (.invokevirtual 389, 3) := dk_182 1 133 (dk_at dksX1_write_4 21 rfl rfl)
theorem dX1_write_115 : decode cX1_write 115 = .ok (.pop, 1) := dk_87 (dk_at dksX1_write_5 0 rfl rfl)
theorem dX1_write_116 : decode cX1_write 116 = .ok (.goto 21, 3) := dk_167 0 21 (dk_at dksX1_write_5 1 rfl rfl)
theorem dX1_write_119 : decode cX1_write 119 = .ok (.aload_n 0, 1) := dk_42 (dk_at dksX1_write_5 4 rfl rfl)
theorem dX1_write_120 : decode cX1_write 120 = .ok (.getfield 54, 3) := dk_180 0 54 (dk_at dksX1_write_5 5 rfl rfl)
theorem dX1_write_123 : decode cX1_write 123 = .ok (.ldc_w 417, 3) := dk_19 1 161 (dk_at dksX1_write_5 8 rfl rfl)
theorem dX1_write_126 : decode cX1_write 126 = .ok (.invokevirtual 394, 3) := dk_182 1 138 (dk_at dksX1_write_5 11 rfl rfl)
theorem dX1_write_129 : decode cX1_write 129 = .ok (.aload_n 2, 1) := dk_44 (dk_at dksX1_write_5 14 rfl rfl)
theorem dX1_write_130 : decode cX1_write 130 = .ok (.invokevirtual 312, 3) := dk_182 1 56 (dk_at dksX1_write_5 15 rfl rfl)
theorem dX1_write_133 : decode cX1_write 133 = .ok (.invokevirtual 389, 3) := dk_182 1 133 (dk_at dksX1_write_5 18 rfl rfl)
theorem dX1_write_136 : decode cX1_write 136 = .ok (.pop, 1) := dk_87 (dk_at dksX1_write_5 21 rfl rfl)
theorem dX1_write_137 : decode cX1_write 137 = .ok (.aload_n 0, 1) := dk_42 (dk_at dksX1_write_5 22 rfl rfl)
theorem dX1_write_138 : decode cX1_write 138 = .ok (.getfield 54, 3) := dk_180 0 54 (dk_at dksX1_write_6 0 rfl rfl)
theorem dX1_write_141 : decode cX1_write 141 = .ok (.invokevirtual 419, 3) := dk_182 1 163 (dk_at dksX1_write_6 3 rfl rfl)
theorem dX1_write_144 : decode cX1_write 144 = .ok (.ireturn, 1) := dk_172 (dk_at dksX1_write_6 6 rfl rfl)
abbrev cX1_written : ByteArray := prog_1_method_72_code
def yX1_written : MethodName := ⟨RX1, "written", "(I)C"⟩
def dkwX1_written_1 : List UInt8 := [182, 1, 166, 172]
abbrev dktX1_written_1 : List UInt8 := dkwX1_written_1 ++ []
def dkwX1_written_0 : List UInt8 := [27, 3, 42, 180, 0, 54, 182, 1, 163, 4, 100, 184, 0, 64, 184, 0, 123, 42, 180, 0, 54, 27]
abbrev dktX1_written_0 : List UInt8 := dkwX1_written_0 ++ dktX1_written_1
theorem dksX1_written_0 : cX1_written.data.toList.drop 0 = dktX1_written_0 := by decide +kernel
theorem dksX1_written_1 : cX1_written.data.toList.drop 22 = dktX1_written_1 := dk_seg dksX1_written_0 22 rfl rfl
theorem dX1_written_0 : decode cX1_written 0 = .ok (.iload_n 1, 1) := dk_27 (dk_at dksX1_written_0 0 rfl rfl)
theorem dX1_written_1 : decode cX1_written 1 = .ok (.iconst 0, 1) := dk_3 (dk_at dksX1_written_0 1 rfl rfl)
theorem dX1_written_2 : decode cX1_written 2 = .ok (.aload_n 0, 1) := dk_42 (dk_at dksX1_written_0 2 rfl rfl)
theorem dX1_written_3 : decode cX1_written 3 = .ok (.getfield 54, 3) := dk_180 0 54 (dk_at dksX1_written_0 3 rfl rfl)
theorem dX1_written_6 : decode cX1_written 6 = .ok (.invokevirtual 419, 3) := dk_182 1 163 (dk_at dksX1_written_0 6 rfl rfl)
theorem dX1_written_9 : decode cX1_written 9 = .ok (.iconst 1, 1) := dk_4 (dk_at dksX1_written_0 9 rfl rfl)
theorem dX1_written_10 : decode cX1_written 10 = .ok (.isub, 1) := dk_100 (dk_at dksX1_written_0 10 rfl rfl)
theorem dX1_written_11 : decode cX1_written 11 = .ok (.invokestatic 64, 3) := dk_184 0 64 (dk_at dksX1_written_0 11 rfl rfl)
theorem dX1_written_14 : decode cX1_written 14 = .ok (.invokestatic 123, 3) := dk_184 0 123 (dk_at dksX1_written_0 14 rfl rfl)
theorem dX1_written_17 : decode cX1_written 17 = .ok (.aload_n 0, 1) := dk_42 (dk_at dksX1_written_0 17 rfl rfl)
theorem dX1_written_18 : decode cX1_written 18 = .ok (.getfield 54, 3) := dk_180 0 54 (dk_at dksX1_written_0 18 rfl rfl)
theorem dX1_written_21 : decode cX1_written 21 = .ok (.iload_n 1, 1) := dk_27 (dk_at dksX1_written_0 21 rfl rfl)
theorem dX1_written_22 : decode cX1_written 22 = .ok (.invokevirtual 422, 3) := dk_182 1 166 (dk_at dksX1_written_1 0 rfl rfl)
theorem dX1_written_25 : decode cX1_written 25 = .ok (.ireturn, 1) := dk_172 (dk_at dksX1_written_1 3 rfl rfl)
theorem q118 : (Jvm.Cond.initialized "TranslationBureau") ∈ lw_all := lw_g (lw_at lw_m1 1 rfl) rfl
theorem q172 : (Jvm.Cond.instantiable "TranslationBureau" (7 : Nat)) ∈ lw_all := lw_g (lw_at lw_m1 55 rfl) rfl
theorem q174 : (Jvm.Cond.instanceMethod ({ cls := "TranslationBureau", name := "<init>", desc := "()V" } : Jvm.MethodName)) ∈ lw_all := lw_g (lw_at lw_m1 57 rfl) rfl
theorem q175 : (Jvm.Cond.code ({ cls := "TranslationBureau", name := "<init>", desc := "()V" } : Jvm.MethodName) prog_1_method_10_code (1 : Nat) (Option.none : Option Jvm.ClassFile.FieldType)) ∈ lw_all := lw_g (lw_at lw_m1 58 rfl) rfl
theorem q176 : (Jvm.Cond.methodLink "TranslationBureau" (33 : Nat) ({ cls := "java/lang/Object", name := "<init>", desc := "()V" } : Jvm.MethodName)) ∈ lw_all := lw_g (lw_at lw_m1 59 rfl) rfl
theorem q179 : (Jvm.Cond.classLink "TranslationBureau" (36 : Nat) "TranslationBureau$Office") ∈ lw_all := lw_g (lw_at lw_m1 62 rfl) rfl
theorem q181 : (Jvm.Cond.methodLinkNest "TranslationBureau" (38 : Nat) ({ cls := "TranslationBureau$Office", name := "<init>", desc := "()V" } : Jvm.MethodName) "TranslationBureau") ∈ lw_tbl := lw_at lw_m1 64 rfl
theorem q217 : (Jvm.Cond.fieldLinkNest "TranslationBureau" (120 : Nat) "TranslationBureau$Office" "names" "Ljava/util/List;" "TranslationBureau") ∈ lw_tbl := lw_at lw_m1 100 rfl
theorem q220 : (Jvm.Cond.fieldLinkNest "TranslationBureau" (176 : Nat) "TranslationBureau$Office" "capacities" "Ljava/util/List;" "TranslationBureau") ∈ lw_tbl := lw_at lw_m1 103 rfl
theorem q223 : (Jvm.Cond.fieldLinkNest "TranslationBureau" (147 : Nat) "TranslationBureau$Office" "terms" "Ljava/util/List;" "TranslationBureau") ∈ lw_tbl := lw_at lw_m1 106 rfl
theorem q226 : (Jvm.Cond.fieldLinkNest "TranslationBureau" (126 : Nat) "TranslationBureau$Office" "jobs" "Ljava/util/List;" "TranslationBureau") ∈ lw_tbl := lw_at lw_m1 109 rfl
theorem q230 : (Jvm.Cond.fieldLinkNest "TranslationBureau" (104 : Nat) "TranslationBureau$Office" "segments" "Ljava/util/List;" "TranslationBureau") ∈ lw_tbl := lw_at lw_m1 113 rfl
theorem q233 : (Jvm.Cond.fieldLinkNest "TranslationBureau" (154 : Nat) "TranslationBureau$Office" "settings" "[I" "TranslationBureau") ∈ lw_tbl := lw_at lw_m1 116 rfl
theorem q236 : (Jvm.Cond.fieldLinkNest "TranslationBureau" (162 : Nat) "TranslationBureau$Office" "percentages" "[I" "TranslationBureau") ∈ lw_tbl := lw_at lw_m1 119 rfl
theorem q253 : (Jvm.Cond.classLink "TranslationBureau" (43 : Nat) "java/util/ArrayDeque") ∈ lw_all := lw_g (lw_at lw_m1 136 rfl) rfl
theorem q255 : (Jvm.Cond.methodLink "TranslationBureau" (45 : Nat) ({ cls := "java/util/ArrayDeque", name := "<init>", desc := "()V" } : Jvm.MethodName)) ∈ lw_all := lw_g (lw_at lw_m1 138 rfl) rfl
theorem q271 : (Jvm.Cond.classLink "TranslationBureau" (18 : Nat) "java/lang/StringBuilder") ∈ lw_all := lw_g (lw_at lw_m1 154 rfl) rfl
theorem q273 : (Jvm.Cond.methodLink "TranslationBureau" (20 : Nat) ({ cls := "java/lang/StringBuilder", name := "<init>", desc := "()V" } : Jvm.MethodName)) ∈ lw_all := lw_g (lw_at lw_m1 156 rfl) rfl
theorem q304 : (Jvm.Cond.fieldLink "TranslationBureau" (21 : Nat) "TranslationBureau" "buffer" "[B") ∈ lw_all := lw_g (lw_at lw_m1 187 rfl) rfl
theorem q305 : (Jvm.Cond.fieldLink "TranslationBureau" (58 : Nat) "TranslationBureau" "buffered" "I") ∈ lw_all := lw_g (lw_at lw_m1 188 rfl) rfl
theorem q306 : (Jvm.Cond.fieldLink "TranslationBureau" (39 : Nat) "TranslationBureau" "office" "LTranslationBureau$Office;") ∈ lw_all := lw_g (lw_at lw_m1 189 rfl) rfl
theorem q307 : (Jvm.Cond.fieldLink "TranslationBureau" (46 : Nat) "TranslationBureau" "history" "Ljava/util/ArrayDeque;") ∈ lw_all := lw_g (lw_at lw_m1 190 rfl) rfl
theorem q308 : (Jvm.Cond.fieldLink "TranslationBureau" (72 : Nat) "TranslationBureau" "errorKind" "I") ∈ lw_all := lw_g (lw_at lw_m1 191 rfl) rfl
theorem q309 : (Jvm.Cond.fieldLink "TranslationBureau" (50 : Nat) "TranslationBureau" "errorPosition" "I") ∈ lw_all := lw_g (lw_at lw_m1 192 rfl) rfl
theorem q310 : (Jvm.Cond.fieldLink "TranslationBureau" (54 : Nat) "TranslationBureau" "output" "Ljava/lang/StringBuilder;") ∈ lw_all := lw_g (lw_at lw_m1 193 rfl) rfl
theorem q311 : (Jvm.Cond.laysFinal "TranslationBureau" "TranslationBureau" "buffer" "[B") ∈ lw_all := lw_g (lw_at lw_m1 194 rfl) rfl
theorem q312 : (Jvm.Cond.soleField "TranslationBureau" "buffer") ∈ lw_all := lw_g (lw_at lw_m1 195 rfl) rfl
theorem q313 : (Jvm.Cond.lays "TranslationBureau" "TranslationBureau" "buffered" "I") ∈ lw_all := lw_g (lw_at lw_m1 196 rfl) rfl
theorem q314 : (Jvm.Cond.soleField "TranslationBureau" "buffered") ∈ lw_all := lw_g (lw_at lw_m1 197 rfl) rfl
theorem q315 : (Jvm.Cond.lays "TranslationBureau" "TranslationBureau" "office" "LTranslationBureau$Office;") ∈ lw_all := lw_g (lw_at lw_m1 198 rfl) rfl
theorem q316 : (Jvm.Cond.soleField "TranslationBureau" "office") ∈ lw_all := lw_g (lw_at lw_m1 199 rfl) rfl
theorem q317 : (Jvm.Cond.laysFinal "TranslationBureau" "TranslationBureau" "history" "Ljava/util/ArrayDeque;") ∈ lw_all := lw_g (lw_at lw_m1 200 rfl) rfl
theorem q318 : (Jvm.Cond.soleField "TranslationBureau" "history") ∈ lw_all := lw_g (lw_at lw_m1 201 rfl) rfl
theorem q319 : (Jvm.Cond.lays "TranslationBureau" "TranslationBureau" "errorKind" "I") ∈ lw_all := lw_g (lw_at lw_m1 202 rfl) rfl
theorem q320 : (Jvm.Cond.soleField "TranslationBureau" "errorKind") ∈ lw_all := lw_g (lw_at lw_m1 203 rfl) rfl
theorem q321 : (Jvm.Cond.lays "TranslationBureau" "TranslationBureau" "errorPosition" "I") ∈ lw_all := lw_g (lw_at lw_m1 204 rfl) rfl
theorem q322 : (Jvm.Cond.soleField "TranslationBureau" "errorPosition") ∈ lw_all := lw_g (lw_at lw_m1 205 rfl) rfl
theorem q323 : (Jvm.Cond.laysFinal "TranslationBureau" "TranslationBureau" "output" "Ljava/lang/StringBuilder;") ∈ lw_all := lw_g (lw_at lw_m1 206 rfl) rfl
theorem q324 : (Jvm.Cond.soleField "TranslationBureau" "output") ∈ lw_all := lw_g (lw_at lw_m1 207 rfl) rfl
theorem q325 : (Jvm.Cond.superclass "TranslationBureau" "java/lang/Object") ∈ lw_all := lw_g (lw_at lw_m1 208 rfl) rfl
theorem q327 : (Jvm.Cond.instanceMethod ({ cls := "TranslationBureau", name := "feed", desc := "(IIIII)I" } : Jvm.MethodName)) ∈ lw_all := lw_g (lw_at lw_m1 210 rfl) rfl
theorem q328 : (Jvm.Cond.selects "TranslationBureau" ({ cls := "TranslationBureau", name := "feed", desc := "(IIIII)I" } : Jvm.MethodName) ({ cls := "TranslationBureau", name := "feed", desc := "(IIIII)I" } : Jvm.MethodName)) ∈ lw_all := lw_g (lw_at lw_m1 211 rfl) rfl
theorem q329 : (Jvm.Cond.code ({ cls := "TranslationBureau", name := "feed", desc := "(IIIII)I" } : Jvm.MethodName) prog_1_method_11_code (6 : Nat) (Option.some Jvm.ClassFile.FieldType.int)) ∈ lw_all := lw_g (lw_at lw_m1 212 rfl) rfl
theorem q330 : (Jvm.Cond.methodLink "TranslationBureau" (61 : Nat) ({ cls := "TranslationBureau", name := "append", desc := "([I)V" } : Jvm.MethodName)) ∈ lw_all := lw_g (lw_at lw_m1 213 rfl) rfl
theorem q331 : (Jvm.Cond.privateMethod ({ cls := "TranslationBureau", name := "append", desc := "([I)V" } : Jvm.MethodName)) ∈ lw_tbl := lw_at lw_m1 214 rfl
theorem q332 : (Jvm.Cond.instanceMethod ({ cls := "TranslationBureau", name := "append", desc := "([I)V" } : Jvm.MethodName)) ∈ lw_all := lw_g (lw_at lw_m1 215 rfl) rfl
theorem q333 : (Jvm.Cond.code ({ cls := "TranslationBureau", name := "append", desc := "([I)V" } : Jvm.MethodName) prog_1_method_12_code (7 : Nat) (Option.none : Option Jvm.ClassFile.FieldType)) ∈ lw_all := lw_g (lw_at lw_m1 216 rfl) rfl
theorem q335 : (Jvm.Cond.instanceMethod ({ cls := "TranslationBureau", name := "errorKind", desc := "()I" } : Jvm.MethodName)) ∈ lw_all := lw_g (lw_at lw_m1 218 rfl) rfl
theorem q336 : (Jvm.Cond.selects "TranslationBureau" ({ cls := "TranslationBureau", name := "errorKind", desc := "()I" } : Jvm.MethodName) ({ cls := "TranslationBureau", name := "errorKind", desc := "()I" } : Jvm.MethodName)) ∈ lw_all := lw_g (lw_at lw_m1 219 rfl) rfl
theorem q337 : (Jvm.Cond.code ({ cls := "TranslationBureau", name := "errorKind", desc := "()I" } : Jvm.MethodName) prog_1_method_16_code (1 : Nat) (Option.some Jvm.ClassFile.FieldType.int)) ∈ lw_all := lw_g (lw_at lw_m1 220 rfl) rfl
theorem q339 : (Jvm.Cond.instanceMethod ({ cls := "TranslationBureau", name := "errorPosition", desc := "()I" } : Jvm.MethodName)) ∈ lw_all := lw_g (lw_at lw_m1 222 rfl) rfl
theorem q340 : (Jvm.Cond.selects "TranslationBureau" ({ cls := "TranslationBureau", name := "errorPosition", desc := "()I" } : Jvm.MethodName) ({ cls := "TranslationBureau", name := "errorPosition", desc := "()I" } : Jvm.MethodName)) ∈ lw_all := lw_g (lw_at lw_m1 223 rfl) rfl
theorem q341 : (Jvm.Cond.code ({ cls := "TranslationBureau", name := "errorPosition", desc := "()I" } : Jvm.MethodName) prog_1_method_17_code (1 : Nat) (Option.some Jvm.ClassFile.FieldType.int)) ∈ lw_all := lw_g (lw_at lw_m1 224 rfl) rfl
theorem q343 : (Jvm.Cond.instanceMethod ({ cls := "TranslationBureau", name := "total", desc := "()I" } : Jvm.MethodName)) ∈ lw_all := lw_g (lw_at lw_m1 226 rfl) rfl
theorem q344 : (Jvm.Cond.selects "TranslationBureau" ({ cls := "TranslationBureau", name := "total", desc := "()I" } : Jvm.MethodName) ({ cls := "TranslationBureau", name := "total", desc := "()I" } : Jvm.MethodName)) ∈ lw_all := lw_g (lw_at lw_m1 227 rfl) rfl
theorem q345 : (Jvm.Cond.code ({ cls := "TranslationBureau", name := "total", desc := "()I" } : Jvm.MethodName) prog_1_method_42_code (1 : Nat) (Option.some Jvm.ClassFile.FieldType.int)) ∈ lw_all := lw_g (lw_at lw_m1 228 rfl) rfl
theorem q346 : (Jvm.Cond.methodLink "TranslationBureau" (268 : Nat) ({ cls := "TranslationBureau$Office", name := "paid", desc := "()I" } : Jvm.MethodName)) ∈ lw_all := lw_g (lw_at lw_m1 229 rfl) rfl
theorem q465 : (Jvm.Cond.static ({ cls := "TranslationBureau", name := "requireThing", desc := "(Z)V" } : Jvm.MethodName)) ∈ lw_all := lw_g (lw_at lw_m2 108 rfl) rfl
theorem q466 : (Jvm.Cond.code ({ cls := "TranslationBureau", name := "requireThing", desc := "(Z)V" } : Jvm.MethodName) prog_1_method_4_code (1 : Nat) (Option.none : Option Jvm.ClassFile.FieldType)) ∈ lw_all := lw_g (lw_at lw_m2 109 rfl) rfl
theorem q467 : (Jvm.Cond.classLink "TranslationBureau" (10 : Nat) "java/util/NoSuchElementException") ∈ lw_all := lw_g (lw_at lw_m2 110 rfl) rfl
theorem q513 : (Jvm.Cond.methodLink "TranslationBureau" (12 : Nat) ({ cls := "java/util/NoSuchElementException", name := "<init>", desc := "()V" } : Jvm.MethodName)) ∈ lw_all := lw_g (lw_at lw_m2 156 rfl) rfl
theorem q640 : (Jvm.Cond.instanceMethod ({ cls := "TranslationBureau", name := "mutual", desc := "()I" } : Jvm.MethodName)) ∈ lw_all := lw_g (lw_at lw_m3 43 rfl) rfl
theorem q641 : (Jvm.Cond.selects "TranslationBureau" ({ cls := "TranslationBureau", name := "mutual", desc := "()I" } : Jvm.MethodName) ({ cls := "TranslationBureau", name := "mutual", desc := "()I" } : Jvm.MethodName)) ∈ lw_all := lw_g (lw_at lw_m3 44 rfl) rfl
theorem q642 : (Jvm.Cond.code ({ cls := "TranslationBureau", name := "mutual", desc := "()I" } : Jvm.MethodName) prog_1_method_47_code (4 : Nat) (Option.some Jvm.ClassFile.FieldType.int)) ∈ lw_all := lw_g (lw_at lw_m3 45 rfl) rfl
theorem q643 : (Jvm.Cond.interfaceEntry "TranslationBureau" (108 : Nat)) ∈ lw_tbl := lw_at lw_m3 46 rfl
theorem q644 : (Jvm.Cond.methodLink "TranslationBureau" (108 : Nat) ({ cls := "java/util/List", name := "size", desc := "()I" } : Jvm.MethodName)) ∈ lw_all := lw_g (lw_at lw_m3 47 rfl) rfl
theorem q645 : (Jvm.Cond.methodLink "TranslationBureau" (278 : Nat) ({ cls := "TranslationBureau$Office", name := "pairsOf", desc := "(III)I" } : Jvm.MethodName)) ∈ lw_all := lw_g (lw_at lw_m3 48 rfl) rfl
theorem q650 : (Jvm.Cond.instanceMethod ({ cls := "TranslationBureau", name := "undo", desc := "()I" } : Jvm.MethodName)) ∈ lw_all := lw_g (lw_at lw_m3 53 rfl) rfl
theorem q651 : (Jvm.Cond.selects "TranslationBureau" ({ cls := "TranslationBureau", name := "undo", desc := "()I" } : Jvm.MethodName) ({ cls := "TranslationBureau", name := "undo", desc := "()I" } : Jvm.MethodName)) ∈ lw_all := lw_g (lw_at lw_m3 54 rfl) rfl
theorem q652 : (Jvm.Cond.code ({ cls := "TranslationBureau", name := "undo", desc := "()I" } : Jvm.MethodName) prog_1_method_70_code (1 : Nat) (Option.some Jvm.ClassFile.FieldType.int)) ∈ lw_all := lw_g (lw_at lw_m3 55 rfl) rfl
theorem q653 : (Jvm.Cond.methodLink "TranslationBureau" (380 : Nat) ({ cls := "java/util/ArrayDeque", name := "isEmpty", desc := "()Z" } : Jvm.MethodName)) ∈ lw_all := lw_g (lw_at lw_m3 56 rfl) rfl
theorem q657 : (Jvm.Cond.methodLink "TranslationBureau" (383 : Nat) ({ cls := "java/util/ArrayDeque", name := "removeLast", desc := "()Ljava/lang/Object;" } : Jvm.MethodName)) ∈ lw_all := lw_g (lw_at lw_m3 60 rfl) rfl
theorem q673 : (Jvm.Cond.methodLink "TranslationBureau" (339 : Nat) ({ cls := "java/util/ArrayDeque", name := "size", desc := "()I" } : Jvm.MethodName)) ∈ lw_all := lw_g (lw_at lw_m3 76 rfl) rfl
theorem q685 : (Jvm.Cond.instanceMethod ({ cls := "TranslationBureau", name := "load", desc := "(I)I" } : Jvm.MethodName)) ∈ lw_all := lw_g (lw_at lw_m3 88 rfl) rfl
theorem q686 : (Jvm.Cond.selects "TranslationBureau" ({ cls := "TranslationBureau", name := "load", desc := "(I)I" } : Jvm.MethodName) ({ cls := "TranslationBureau", name := "load", desc := "(I)I" } : Jvm.MethodName)) ∈ lw_all := lw_g (lw_at lw_m3 89 rfl) rfl
theorem q687 : (Jvm.Cond.code ({ cls := "TranslationBureau", name := "load", desc := "(I)I" } : Jvm.MethodName) prog_1_method_14_code (3 : Nat) (Option.some Jvm.ClassFile.FieldType.int)) ∈ lw_all := lw_g (lw_at lw_m3 90 rfl) rfl
theorem q688 : (Jvm.Cond.methodLink "TranslationBureau" (97 : Nat) ({ cls := "TranslationBureau", name := "read", desc := "(ILTranslationBureau$Office;)LTranslationBureau$Office;" } : Jvm.MethodName)) ∈ lw_all := lw_g (lw_at lw_m3 91 rfl) rfl
theorem q689 : (Jvm.Cond.privateMethod ({ cls := "TranslationBureau", name := "read", desc := "(ILTranslationBureau$Office;)LTranslationBureau$Office;" } : Jvm.MethodName)) ∈ lw_tbl := lw_at lw_m3 92 rfl
theorem q690 : (Jvm.Cond.instanceMethod ({ cls := "TranslationBureau", name := "read", desc := "(ILTranslationBureau$Office;)LTranslationBureau$Office;" } : Jvm.MethodName)) ∈ lw_all := lw_g (lw_at lw_m3 93 rfl) rfl
theorem q691 : (Jvm.Cond.codeWith ({ cls := "TranslationBureau", name := "read", desc := "(ILTranslationBureau$Office;)LTranslationBureau$Office;" } : Jvm.MethodName) prog_1_method_13_code (4 : Nat) (Option.some (Jvm.ClassFile.FieldType.object "TranslationBureau$Office")) [((27 : Nat), (40 : Nat), (41 : Nat), (84 : Nat)), ((27 : Nat), (40 : Nat), (41 : Nat), (86 : Nat))]) ∈ lw_all := lw_g (lw_at lw_m3 94 rfl) rfl
theorem q692 : (Jvm.Cond.classLink "TranslationBureau" (84 : Nat) "TranslationBureau$SyntaxError") ∈ lw_all := lw_g (lw_at lw_m3 95 rfl) rfl
theorem q693 : (Jvm.Cond.classLink "TranslationBureau" (86 : Nat) "TranslationBureau$Misfit") ∈ lw_all := lw_g (lw_at lw_m3 96 rfl) rfl
theorem q694 : (Jvm.Cond.methodLink "TranslationBureau" (64 : Nat) ({ cls := "TranslationBureau", name := "inRange", desc := "(III)Z" } : Jvm.MethodName)) ∈ lw_all := lw_g (lw_at lw_m3 97 rfl) rfl
theorem q695 : (Jvm.Cond.static ({ cls := "TranslationBureau", name := "inRange", desc := "(III)Z" } : Jvm.MethodName)) ∈ lw_all := lw_g (lw_at lw_m3 98 rfl) rfl
theorem q696 : (Jvm.Cond.code ({ cls := "TranslationBureau", name := "inRange", desc := "(III)Z" } : Jvm.MethodName) prog_1_method_1_code (3 : Nat) (Option.some Jvm.ClassFile.FieldType.boolean)) ∈ lw_all := lw_g (lw_at lw_m3 99 rfl) rfl
theorem q697 : (Jvm.Cond.methodLink "TranslationBureau" (68 : Nat) ({ cls := "TranslationBureau", name := "requireValue", desc := "(Z)V" } : Jvm.MethodName)) ∈ lw_all := lw_g (lw_at lw_m3 100 rfl) rfl
theorem q698 : (Jvm.Cond.static ({ cls := "TranslationBureau", name := "requireValue", desc := "(Z)V" } : Jvm.MethodName)) ∈ lw_all := lw_g (lw_at lw_m3 101 rfl) rfl
theorem q699 : (Jvm.Cond.code ({ cls := "TranslationBureau", name := "requireValue", desc := "(Z)V" } : Jvm.MethodName) prog_1_method_3_code (1 : Nat) (Option.none : Option Jvm.ClassFile.FieldType)) ∈ lw_all := lw_g (lw_at lw_m3 102 rfl) rfl
theorem q700 : (Jvm.Cond.classLink "TranslationBureau" (7 : Nat) "java/lang/IllegalArgumentException") ∈ lw_all := lw_g (lw_at lw_m3 103 rfl) rfl
theorem q709 : (Jvm.Cond.methodLink "TranslationBureau" (9 : Nat) ({ cls := "java/lang/IllegalArgumentException", name := "<init>", desc := "()V" } : Jvm.MethodName)) ∈ lw_all := lw_g (lw_at lw_m3 112 rfl) rfl
theorem q715 : (Jvm.Cond.classLink "TranslationBureau" (75 : Nat) "TranslationBureau$Parser") ∈ lw_all := lw_g (lw_at lw_m3 118 rfl) rfl
theorem q717 : (Jvm.Cond.methodLink "TranslationBureau" (77 : Nat) ({ cls := "TranslationBureau$Parser", name := "<init>", desc := "(LTranslationBureau;ILTranslationBureau$Office;)V" } : Jvm.MethodName)) ∈ lw_all := lw_g (lw_at lw_m3 120 rfl) rfl
theorem q748 : (Jvm.Cond.privateMethod ({ cls := "TranslationBureau", name := "letters", desc := "(II)Ljava/lang/String;" } : Jvm.MethodName)) ∈ lw_tbl := lw_at lw_m3 151 rfl
theorem q749 : (Jvm.Cond.instanceMethod ({ cls := "TranslationBureau", name := "letters", desc := "(II)Ljava/lang/String;" } : Jvm.MethodName)) ∈ lw_all := lw_g (lw_at lw_m3 152 rfl) rfl
theorem q750 : (Jvm.Cond.code ({ cls := "TranslationBureau", name := "letters", desc := "(II)Ljava/lang/String;" } : Jvm.MethodName) prog_1_method_9_code (5 : Nat) (Option.some (Jvm.ClassFile.FieldType.object "java/lang/String"))) ∈ lw_all := lw_g (lw_at lw_m3 153 rfl) rfl
theorem q751 : (Jvm.Cond.methodLink "TranslationBureau" (25 : Nat) ({ cls := "java/lang/StringBuilder", name := "append", desc := "(C)Ljava/lang/StringBuilder;" } : Jvm.MethodName)) ∈ lw_all := lw_g (lw_at lw_m3 154 rfl) rfl
theorem q840 : (Jvm.Cond.methodLink "TranslationBureau" (29 : Nat) ({ cls := "java/lang/StringBuilder", name := "toString", desc := "()Ljava/lang/String;" } : Jvm.MethodName)) ∈ lw_all := lw_g (lw_at lw_m4 3 rfl) rfl
theorem q1042 : (Jvm.Cond.methodLink "TranslationBureau" (80 : Nat) ({ cls := "TranslationBureau$Parser", name := "parse", desc := "()LTranslationBureau$Office;" } : Jvm.MethodName)) ∈ lw_all := lw_g (lw_at lw_m4 205 rfl) rfl
theorem q1297 : (Jvm.Cond.selects "TranslationBureau" ({ cls := "java/lang/Object", name := "equals", desc := "(Ljava/lang/Object;)Z" } : Jvm.MethodName) ({ cls := "java/lang/Object", name := "equals", desc := "(Ljava/lang/Object;)Z" } : Jvm.MethodName)) ∈ lw_all := lw_g (lw_at lw_m5 220 rfl) rfl
theorem q1367 : (Jvm.Cond.selects "TranslationBureau" ({ cls := "java/lang/Object", name := "getClass", desc := "()Ljava/lang/Class;" } : Jvm.MethodName) ({ cls := "java/lang/Object", name := "getClass", desc := "()Ljava/lang/Class;" } : Jvm.MethodName)) ∈ lw_all := lw_g (lw_at lw_m6 50 rfl) rfl
theorem q1434 : (Jvm.Cond.fieldLinkNest "TranslationBureau" (291 : Nat) "TranslationBureau$Term" "word" "Ljava/lang/String;" "TranslationBureau") ∈ lw_tbl := lw_at lw_m6 117 rfl
theorem q1437 : (Jvm.Cond.fieldLinkNest "TranslationBureau" (405 : Nat) "TranslationBureau$Term" "says" "Ljava/lang/String;" "TranslationBureau") ∈ lw_tbl := lw_at lw_m6 120 rfl
theorem q1465 : (Jvm.Cond.fieldLinkNest "TranslationBureau" (208 : Nat) "TranslationBureau$Job" "translator" "I" "TranslationBureau") ∈ lw_tbl := lw_at lw_m6 148 rfl
theorem q1468 : (Jvm.Cond.fieldLinkNest "TranslationBureau" (211 : Nat) "TranslationBureau$Job" "reviser" "I" "TranslationBureau") ∈ lw_tbl := lw_at lw_m6 151 rfl
theorem q1471 : (Jvm.Cond.fieldLinkNest "TranslationBureau" (214 : Nat) "TranslationBureau$Job" "hours" "I" "TranslationBureau") ∈ lw_tbl := lw_at lw_m6 154 rfl
theorem q1474 : (Jvm.Cond.fieldLinkNest "TranslationBureau" (217 : Nat) "TranslationBureau$Job" "followed" "I" "TranslationBureau") ∈ lw_tbl := lw_at lw_m6 157 rfl
theorem q1518 : (Jvm.Cond.fieldLinkNest "TranslationBureau" (227 : Nat) "TranslationBureau$Segment" "job" "I" "TranslationBureau") ∈ lw_tbl := lw_at lw_m6 201 rfl
theorem q1521 : (Jvm.Cond.fieldLinkNest "TranslationBureau" (261 : Nat) "TranslationBureau$Segment" "source" "Ljava/util/List;" "TranslationBureau") ∈ lw_tbl := lw_at lw_m6 204 rfl
theorem q1524 : (Jvm.Cond.fieldLinkNest "TranslationBureau" (369 : Nat) "TranslationBureau$Segment" "target" "Ljava/util/List;" "TranslationBureau") ∈ lw_tbl := lw_at lw_m6 207 rfl
theorem q1540 : (Jvm.Cond.static ({ cls := "TranslationBureau", name := "lowest", desc := "(I)I" } : Jvm.MethodName)) ∈ lw_all := lw_g (lw_at lw_m6 223 rfl) rfl
theorem q1541 : (Jvm.Cond.code ({ cls := "TranslationBureau", name := "lowest", desc := "(I)I" } : Jvm.MethodName) prog_1_method_6_code (1 : Nat) (Option.some Jvm.ClassFile.FieldType.int)) ∈ lw_all := lw_g (lw_at lw_m6 224 rfl) rfl
theorem q1543 : (Jvm.Cond.static ({ cls := "TranslationBureau", name := "highest", desc := "(I)I" } : Jvm.MethodName)) ∈ lw_all := lw_g (lw_at lw_m6 226 rfl) rfl
theorem q1544 : (Jvm.Cond.code ({ cls := "TranslationBureau", name := "highest", desc := "(I)I" } : Jvm.MethodName) prog_1_method_7_code (1 : Nat) (Option.some Jvm.ClassFile.FieldType.int)) ∈ lw_all := lw_g (lw_at lw_m6 227 rfl) rfl
theorem q1547 : (Jvm.Cond.methodLink "TranslationBureau" (88 : Nat) ({ cls := "TranslationBureau$TextError", name := "kind", desc := "()I" } : Jvm.MethodName)) ∈ lw_all := lw_g (lw_at lw_m6 230 rfl) rfl
theorem q1556 : (Jvm.Cond.methodLink "TranslationBureau" (94 : Nat) ({ cls := "TranslationBureau$TextError", name := "where", desc := "()I" } : Jvm.MethodName)) ∈ lw_all := lw_g (lw_at lw_m6 239 rfl) rfl
theorem q1562 : (Jvm.Cond.methodLink "TranslationBureau" (101 : Nat) ({ cls := "java/util/ArrayDeque", name := "clear", desc := "()V" } : Jvm.MethodName)) ∈ lw_all := lw_g (lw_at lw_m7 5 rfl) rfl
theorem q1573 : (Jvm.Cond.instanceMethod ({ cls := "TranslationBureau", name := "extend", desc := "(I)I" } : Jvm.MethodName)) ∈ lw_all := lw_g (lw_at lw_m7 16 rfl) rfl
theorem q1574 : (Jvm.Cond.selects "TranslationBureau" ({ cls := "TranslationBureau", name := "extend", desc := "(I)I" } : Jvm.MethodName) ({ cls := "TranslationBureau", name := "extend", desc := "(I)I" } : Jvm.MethodName)) ∈ lw_all := lw_g (lw_at lw_m7 17 rfl) rfl
theorem q1575 : (Jvm.Cond.code ({ cls := "TranslationBureau", name := "extend", desc := "(I)I" } : Jvm.MethodName) prog_1_method_15_code (3 : Nat) (Option.some Jvm.ClassFile.FieldType.int)) ∈ lw_all := lw_g (lw_at lw_m7 18 rfl) rfl
theorem q1576 : (Jvm.Cond.methodLink "TranslationBureau" (113 : Nat) ({ cls := "TranslationBureau$Office", name := "copy", desc := "()LTranslationBureau$Office;" } : Jvm.MethodName)) ∈ lw_all := lw_g (lw_at lw_m7 19 rfl) rfl
theorem q1626 : (Jvm.Cond.methodLink "TranslationBureau" (116 : Nat) ({ cls := "TranslationBureau", name := "become", desc := "(LTranslationBureau$Office;)V" } : Jvm.MethodName)) ∈ lw_all := lw_g (lw_at lw_m7 69 rfl) rfl
theorem q1627 : (Jvm.Cond.privateMethod ({ cls := "TranslationBureau", name := "become", desc := "(LTranslationBureau$Office;)V" } : Jvm.MethodName)) ∈ lw_tbl := lw_at lw_m7 70 rfl
theorem q1628 : (Jvm.Cond.instanceMethod ({ cls := "TranslationBureau", name := "become", desc := "(LTranslationBureau$Office;)V" } : Jvm.MethodName)) ∈ lw_all := lw_g (lw_at lw_m7 71 rfl) rfl
theorem q1629 : (Jvm.Cond.code ({ cls := "TranslationBureau", name := "become", desc := "(LTranslationBureau$Office;)V" } : Jvm.MethodName) prog_1_method_61_code (2 : Nat) (Option.none : Option Jvm.ClassFile.FieldType)) ∈ lw_all := lw_g (lw_at lw_m7 72 rfl) rfl
theorem q1630 : (Jvm.Cond.methodLink "TranslationBureau" (340 : Nat) ({ cls := "java/util/ArrayDeque", name := "removeFirst", desc := "()Ljava/lang/Object;" } : Jvm.MethodName)) ∈ lw_all := lw_g (lw_at lw_m7 73 rfl) rfl
theorem q1641 : (Jvm.Cond.methodLink "TranslationBureau" (343 : Nat) ({ cls := "java/util/ArrayDeque", name := "addLast", desc := "(Ljava/lang/Object;)V" } : Jvm.MethodName)) ∈ lw_all := lw_g (lw_at lw_m7 84 rfl) rfl
theorem q1676 : (Jvm.Cond.instanceMethod ({ cls := "TranslationBureau", name := "count", desc := "(I)I" } : Jvm.MethodName)) ∈ lw_all := lw_g (lw_at lw_m7 119 rfl) rfl
theorem q1677 : (Jvm.Cond.selects "TranslationBureau" ({ cls := "TranslationBureau", name := "count", desc := "(I)I" } : Jvm.MethodName) ({ cls := "TranslationBureau", name := "count", desc := "(I)I" } : Jvm.MethodName)) ∈ lw_all := lw_g (lw_at lw_m7 120 rfl) rfl
theorem q1678 : (Jvm.Cond.code ({ cls := "TranslationBureau", name := "count", desc := "(I)I" } : Jvm.MethodName) prog_1_method_23_code (2 : Nat) (Option.some Jvm.ClassFile.FieldType.int)) ∈ lw_all := lw_g (lw_at lw_m7 121 rfl) rfl
theorem q1679 : (Jvm.Cond.methodLink "TranslationBureau" (150 : Nat) ({ cls := "TranslationBureau$Office", name := "found", desc := "()Ljava/util/List;" } : Jvm.MethodName)) ∈ lw_all := lw_g (lw_at lw_m7 122 rfl) rfl
theorem q1711 : (Jvm.Cond.fieldLinkNest "TranslationBureau" (401 : Nat) "TranslationBureau$Missing" "rule" "LTranslationBureau$Term;" "TranslationBureau") ∈ lw_tbl := lw_at lw_m7 154 rfl
theorem q1714 : (Jvm.Cond.fieldLinkNest "TranslationBureau" (309 : Nat) "TranslationBureau$Finding" "segment" "I" "TranslationBureau") ∈ lw_tbl := lw_at lw_m7 157 rfl
theorem q1793 : (Jvm.Cond.fieldLinkNest "TranslationBureau" (414 : Nat) "TranslationBureau$Unlike" "earlier" "I" "TranslationBureau") ∈ lw_tbl := lw_at lw_m7 236 rfl
theorem q1813 : (Jvm.Cond.instanceMethod ({ cls := "TranslationBureau", name := "setting", desc := "(I)I" } : Jvm.MethodName)) ∈ lw_all := lw_g (lw_at lw_m8 16 rfl) rfl
theorem q1814 : (Jvm.Cond.selects "TranslationBureau" ({ cls := "TranslationBureau", name := "setting", desc := "(I)I" } : Jvm.MethodName) ({ cls := "TranslationBureau", name := "setting", desc := "(I)I" } : Jvm.MethodName)) ∈ lw_all := lw_g (lw_at lw_m8 17 rfl) rfl
theorem q1815 : (Jvm.Cond.code ({ cls := "TranslationBureau", name := "setting", desc := "(I)I" } : Jvm.MethodName) prog_1_method_24_code (2 : Nat) (Option.some Jvm.ClassFile.FieldType.int)) ∈ lw_all := lw_g (lw_at lw_m8 18 rfl) rfl
theorem q1839 : (Jvm.Cond.instanceMethod ({ cls := "TranslationBureau", name := "percentage", desc := "(I)I" } : Jvm.MethodName)) ∈ lw_all := lw_g (lw_at lw_m8 42 rfl) rfl
theorem q1840 : (Jvm.Cond.selects "TranslationBureau" ({ cls := "TranslationBureau", name := "percentage", desc := "(I)I" } : Jvm.MethodName) ({ cls := "TranslationBureau", name := "percentage", desc := "(I)I" } : Jvm.MethodName)) ∈ lw_all := lw_g (lw_at lw_m8 43 rfl) rfl
theorem q1841 : (Jvm.Cond.code ({ cls := "TranslationBureau", name := "percentage", desc := "(I)I" } : Jvm.MethodName) prog_1_method_25_code (2 : Nat) (Option.some Jvm.ClassFile.FieldType.int)) ∈ lw_all := lw_g (lw_at lw_m8 44 rfl) rfl
theorem q1842 : (Jvm.Cond.methodLink "TranslationBureau" (158 : Nat) ({ cls := "TranslationBureau", name := "requireBand", desc := "(I)V" } : Jvm.MethodName)) ∈ lw_all := lw_g (lw_at lw_m8 45 rfl) rfl
theorem q1843 : (Jvm.Cond.static ({ cls := "TranslationBureau", name := "requireBand", desc := "(I)V" } : Jvm.MethodName)) ∈ lw_all := lw_g (lw_at lw_m8 46 rfl) rfl
theorem q1844 : (Jvm.Cond.code ({ cls := "TranslationBureau", name := "requireBand", desc := "(I)V" } : Jvm.MethodName) prog_1_method_21_code (1 : Nat) (Option.none : Option Jvm.ClassFile.FieldType)) ∈ lw_all := lw_g (lw_at lw_m8 47 rfl) rfl
theorem q1845 : (Jvm.Cond.methodLink "TranslationBureau" (123 : Nat) ({ cls := "TranslationBureau", name := "requireIndex", desc := "(Z)V" } : Jvm.MethodName)) ∈ lw_all := lw_g (lw_at lw_m8 48 rfl) rfl
theorem q1846 : (Jvm.Cond.static ({ cls := "TranslationBureau", name := "requireIndex", desc := "(Z)V" } : Jvm.MethodName)) ∈ lw_all := lw_g (lw_at lw_m8 49 rfl) rfl
theorem q1847 : (Jvm.Cond.code ({ cls := "TranslationBureau", name := "requireIndex", desc := "(Z)V" } : Jvm.MethodName) prog_1_method_2_code (1 : Nat) (Option.none : Option Jvm.ClassFile.FieldType)) ∈ lw_all := lw_g (lw_at lw_m8 50 rfl) rfl
theorem q1848 : (Jvm.Cond.classLink "TranslationBureau" (1 : Nat) "java/lang/IndexOutOfBoundsException") ∈ lw_all := lw_g (lw_at lw_m8 51 rfl) rfl
theorem q1857 : (Jvm.Cond.methodLink "TranslationBureau" (3 : Nat) ({ cls := "java/lang/IndexOutOfBoundsException", name := "<init>", desc := "()V" } : Jvm.MethodName)) ∈ lw_all := lw_g (lw_at lw_m8 60 rfl) rfl
theorem q1867 : (Jvm.Cond.instanceMethod ({ cls := "TranslationBureau", name := "find", desc := "(I)I" } : Jvm.MethodName)) ∈ lw_all := lw_g (lw_at lw_m8 70 rfl) rfl
theorem q1868 : (Jvm.Cond.selects "TranslationBureau" ({ cls := "TranslationBureau", name := "find", desc := "(I)I" } : Jvm.MethodName) ({ cls := "TranslationBureau", name := "find", desc := "(I)I" } : Jvm.MethodName)) ∈ lw_all := lw_g (lw_at lw_m8 71 rfl) rfl
theorem q1869 : (Jvm.Cond.code ({ cls := "TranslationBureau", name := "find", desc := "(I)I" } : Jvm.MethodName) prog_1_method_26_code (2 : Nat) (Option.some Jvm.ClassFile.FieldType.int)) ∈ lw_all := lw_g (lw_at lw_m8 72 rfl) rfl
theorem q1870 : (Jvm.Cond.methodLink "TranslationBureau" (165 : Nat) ({ cls := "TranslationBureau", name := "letters", desc := "(II)Ljava/lang/String;" } : Jvm.MethodName)) ∈ lw_all := lw_g (lw_at lw_m8 73 rfl) rfl
theorem q1871 : (Jvm.Cond.methodLink "TranslationBureau" (169 : Nat) ({ cls := "TranslationBureau$Office", name := "person", desc := "(Ljava/lang/String;)I" } : Jvm.MethodName)) ∈ lw_all := lw_g (lw_at lw_m8 74 rfl) rfl
theorem q1876 : (Jvm.Cond.instanceMethod ({ cls := "TranslationBureau", name := "capacity", desc := "(I)I" } : Jvm.MethodName)) ∈ lw_all := lw_g (lw_at lw_m8 79 rfl) rfl
theorem q1877 : (Jvm.Cond.selects "TranslationBureau" ({ cls := "TranslationBureau", name := "capacity", desc := "(I)I" } : Jvm.MethodName) ({ cls := "TranslationBureau", name := "capacity", desc := "(I)I" } : Jvm.MethodName)) ∈ lw_all := lw_g (lw_at lw_m8 80 rfl) rfl
theorem q1878 : (Jvm.Cond.code ({ cls := "TranslationBureau", name := "capacity", desc := "(I)I" } : Jvm.MethodName) prog_1_method_27_code (2 : Nat) (Option.some Jvm.ClassFile.FieldType.int)) ∈ lw_all := lw_g (lw_at lw_m8 81 rfl) rfl
theorem q1879 : (Jvm.Cond.methodLink "TranslationBureau" (173 : Nat) ({ cls := "TranslationBureau", name := "requirePerson", desc := "(I)V" } : Jvm.MethodName)) ∈ lw_all := lw_g (lw_at lw_m8 82 rfl) rfl
theorem q1880 : (Jvm.Cond.privateMethod ({ cls := "TranslationBureau", name := "requirePerson", desc := "(I)V" } : Jvm.MethodName)) ∈ lw_tbl := lw_at lw_m8 83 rfl
theorem q1881 : (Jvm.Cond.instanceMethod ({ cls := "TranslationBureau", name := "requirePerson", desc := "(I)V" } : Jvm.MethodName)) ∈ lw_all := lw_g (lw_at lw_m8 84 rfl) rfl
theorem q1882 : (Jvm.Cond.code ({ cls := "TranslationBureau", name := "requirePerson", desc := "(I)V" } : Jvm.MethodName) prog_1_method_18_code (2 : Nat) (Option.none : Option Jvm.ClassFile.FieldType)) ∈ lw_all := lw_g (lw_at lw_m8 85 rfl) rfl
theorem q1883 : (Jvm.Cond.interfaceEntry "TranslationBureau" (129 : Nat)) ∈ lw_tbl := lw_at lw_m8 86 rfl
theorem q1884 : (Jvm.Cond.methodLink "TranslationBureau" (129 : Nat) ({ cls := "java/util/List", name := "get", desc := "(I)Ljava/lang/Object;" } : Jvm.MethodName)) ∈ lw_all := lw_g (lw_at lw_m8 87 rfl) rfl
theorem q1885 : (Jvm.Cond.classLink "TranslationBureau" (179 : Nat) "java/lang/Integer") ∈ lw_all := lw_g (lw_at lw_m8 88 rfl) rfl
theorem q1886 : (Jvm.Cond.methodLink "TranslationBureau" (181 : Nat) ({ cls := "java/lang/Integer", name := "intValue", desc := "()I" } : Jvm.MethodName)) ∈ lw_all := lw_g (lw_at lw_m8 89 rfl) rfl
theorem q1891 : (Jvm.Cond.instanceMethod ({ cls := "TranslationBureau", name := "job", desc := "(II)I" } : Jvm.MethodName)) ∈ lw_all := lw_g (lw_at lw_m8 94 rfl) rfl
theorem q1892 : (Jvm.Cond.selects "TranslationBureau" ({ cls := "TranslationBureau", name := "job", desc := "(II)I" } : Jvm.MethodName) ({ cls := "TranslationBureau", name := "job", desc := "(II)I" } : Jvm.MethodName)) ∈ lw_all := lw_g (lw_at lw_m8 95 rfl) rfl
theorem q1893 : (Jvm.Cond.code ({ cls := "TranslationBureau", name := "job", desc := "(II)I" } : Jvm.MethodName) prog_1_method_29_code (4 : Nat) (Option.some Jvm.ClassFile.FieldType.int)) ∈ lw_all := lw_g (lw_at lw_m8 96 rfl) rfl
theorem q1894 : (Jvm.Cond.methodLink "TranslationBureau" (204 : Nat) ({ cls := "TranslationBureau", name := "jobAt", desc := "(I)LTranslationBureau$Job;" } : Jvm.MethodName)) ∈ lw_all := lw_g (lw_at lw_m8 97 rfl) rfl
theorem q1895 : (Jvm.Cond.privateMethod ({ cls := "TranslationBureau", name := "jobAt", desc := "(I)LTranslationBureau$Job;" } : Jvm.MethodName)) ∈ lw_tbl := lw_at lw_m8 98 rfl
theorem q1896 : (Jvm.Cond.instanceMethod ({ cls := "TranslationBureau", name := "jobAt", desc := "(I)LTranslationBureau$Job;" } : Jvm.MethodName)) ∈ lw_all := lw_g (lw_at lw_m8 99 rfl) rfl
theorem q1897 : (Jvm.Cond.code ({ cls := "TranslationBureau", name := "jobAt", desc := "(I)LTranslationBureau$Job;" } : Jvm.MethodName) prog_1_method_19_code (2 : Nat) (Option.some (Jvm.ClassFile.FieldType.object "TranslationBureau$Job"))) ∈ lw_all := lw_g (lw_at lw_m8 100 rfl) rfl
theorem q1898 : (Jvm.Cond.classLink "TranslationBureau" (133 : Nat) "TranslationBureau$Job") ∈ lw_all := lw_g (lw_at lw_m8 101 rfl) rfl
theorem q1899 : (Jvm.Cond.methodLink "TranslationBureau" (220 : Nat) ({ cls := "TranslationBureau", name := "segmentMany", desc := "(I)I" } : Jvm.MethodName)) ∈ lw_all := lw_g (lw_at lw_m8 102 rfl) rfl
theorem q1900 : (Jvm.Cond.privateMethod ({ cls := "TranslationBureau", name := "segmentMany", desc := "(I)I" } : Jvm.MethodName)) ∈ lw_tbl := lw_at lw_m8 103 rfl
theorem q1901 : (Jvm.Cond.instanceMethod ({ cls := "TranslationBureau", name := "segmentMany", desc := "(I)I" } : Jvm.MethodName)) ∈ lw_all := lw_g (lw_at lw_m8 104 rfl) rfl
theorem q1902 : (Jvm.Cond.code ({ cls := "TranslationBureau", name := "segmentMany", desc := "(I)I" } : Jvm.MethodName) prog_1_method_28_code (5 : Nat) (Option.some Jvm.ClassFile.FieldType.int)) ∈ lw_all := lw_g (lw_at lw_m8 105 rfl) rfl
theorem q1903 : (Jvm.Cond.methodLink "TranslationBureau" (184 : Nat) ({ cls := "TranslationBureau$Office", name := "of", desc := "(I)LTranslationBureau$Office$JobSegments;" } : Jvm.MethodName)) ∈ lw_all := lw_g (lw_at lw_m8 106 rfl) rfl
theorem q1904 : (Jvm.Cond.methodLink "TranslationBureau" (188 : Nat) ({ cls := "TranslationBureau$Office$JobSegments", name := "iterator", desc := "()Ljava/util/Iterator;" } : Jvm.MethodName)) ∈ lw_all := lw_g (lw_at lw_m8 107 rfl) rfl
theorem q1905 : (Jvm.Cond.interfaceEntry "TranslationBureau" (194 : Nat)) ∈ lw_tbl := lw_at lw_m8 108 rfl
theorem q1906 : (Jvm.Cond.methodLink "TranslationBureau" (194 : Nat) ({ cls := "java/util/Iterator", name := "hasNext", desc := "()Z" } : Jvm.MethodName)) ∈ lw_all := lw_g (lw_at lw_m8 109 rfl) rfl
theorem q1907 : (Jvm.Cond.interfaceEntry "TranslationBureau" (200 : Nat)) ∈ lw_tbl := lw_at lw_m8 110 rfl
theorem q1908 : (Jvm.Cond.methodLink "TranslationBureau" (200 : Nat) ({ cls := "java/util/Iterator", name := "next", desc := "()Ljava/lang/Object;" } : Jvm.MethodName)) ∈ lw_all := lw_g (lw_at lw_m8 111 rfl) rfl
theorem q1909 : (Jvm.Cond.methodLink "TranslationBureau" (224 : Nat) ({ cls := "TranslationBureau$Office", name := "wordsOf", desc := "(I)I" } : Jvm.MethodName)) ∈ lw_all := lw_g (lw_at lw_m8 112 rfl) rfl
theorem q1914 : (Jvm.Cond.instanceMethod ({ cls := "TranslationBureau", name := "jobOf", desc := "(I)I" } : Jvm.MethodName)) ∈ lw_all := lw_g (lw_at lw_m8 117 rfl) rfl
theorem q1915 : (Jvm.Cond.selects "TranslationBureau" ({ cls := "TranslationBureau", name := "jobOf", desc := "(I)I" } : Jvm.MethodName) ({ cls := "TranslationBureau", name := "jobOf", desc := "(I)I" } : Jvm.MethodName)) ∈ lw_all := lw_g (lw_at lw_m8 118 rfl) rfl
theorem q1916 : (Jvm.Cond.code ({ cls := "TranslationBureau", name := "jobOf", desc := "(I)I" } : Jvm.MethodName) prog_1_method_30_code (2 : Nat) (Option.some Jvm.ClassFile.FieldType.int)) ∈ lw_all := lw_g (lw_at lw_m8 119 rfl) rfl
theorem q1917 : (Jvm.Cond.methodLink "TranslationBureau" (137 : Nat) ({ cls := "TranslationBureau", name := "segmentAt", desc := "(I)LTranslationBureau$Segment;" } : Jvm.MethodName)) ∈ lw_all := lw_g (lw_at lw_m8 120 rfl) rfl
theorem q1918 : (Jvm.Cond.privateMethod ({ cls := "TranslationBureau", name := "segmentAt", desc := "(I)LTranslationBureau$Segment;" } : Jvm.MethodName)) ∈ lw_tbl := lw_at lw_m8 121 rfl
theorem q1919 : (Jvm.Cond.instanceMethod ({ cls := "TranslationBureau", name := "segmentAt", desc := "(I)LTranslationBureau$Segment;" } : Jvm.MethodName)) ∈ lw_all := lw_g (lw_at lw_m8 122 rfl) rfl
theorem q1920 : (Jvm.Cond.code ({ cls := "TranslationBureau", name := "segmentAt", desc := "(I)LTranslationBureau$Segment;" } : Jvm.MethodName) prog_1_method_20_code (2 : Nat) (Option.some (Jvm.ClassFile.FieldType.object "TranslationBureau$Segment"))) ∈ lw_all := lw_g (lw_at lw_m8 123 rfl) rfl
theorem q1921 : (Jvm.Cond.classLink "TranslationBureau" (135 : Nat) "TranslationBureau$Segment") ∈ lw_all := lw_g (lw_at lw_m8 124 rfl) rfl
theorem q1926 : (Jvm.Cond.instanceMethod ({ cls := "TranslationBureau", name := "words", desc := "(IZ)I" } : Jvm.MethodName)) ∈ lw_all := lw_g (lw_at lw_m8 129 rfl) rfl
theorem q1927 : (Jvm.Cond.selects "TranslationBureau" ({ cls := "TranslationBureau", name := "words", desc := "(IZ)I" } : Jvm.MethodName) ({ cls := "TranslationBureau", name := "words", desc := "(IZ)I" } : Jvm.MethodName)) ∈ lw_all := lw_g (lw_at lw_m8 130 rfl) rfl
theorem q1928 : (Jvm.Cond.code ({ cls := "TranslationBureau", name := "words", desc := "(IZ)I" } : Jvm.MethodName) prog_1_method_31_code (3 : Nat) (Option.some Jvm.ClassFile.FieldType.int)) ∈ lw_all := lw_g (lw_at lw_m8 131 rfl) rfl
theorem q1929 : (Jvm.Cond.methodLink "TranslationBureau" (141 : Nat) ({ cls := "TranslationBureau$Segment", name := "side", desc := "(Z)Ljava/util/List;" } : Jvm.MethodName)) ∈ lw_all := lw_g (lw_at lw_m8 132 rfl) rfl
theorem q1937 : (Jvm.Cond.instanceMethod ({ cls := "TranslationBureau", name := "isSameWord", desc := "(IIZIIZ)Z" } : Jvm.MethodName)) ∈ lw_all := lw_g (lw_at lw_m8 140 rfl) rfl
theorem q1938 : (Jvm.Cond.selects "TranslationBureau" ({ cls := "TranslationBureau", name := "isSameWord", desc := "(IIZIIZ)Z" } : Jvm.MethodName) ({ cls := "TranslationBureau", name := "isSameWord", desc := "(IIZIIZ)Z" } : Jvm.MethodName)) ∈ lw_all := lw_g (lw_at lw_m8 141 rfl) rfl
theorem q1939 : (Jvm.Cond.code ({ cls := "TranslationBureau", name := "isSameWord", desc := "(IIZIIZ)Z" } : Jvm.MethodName) prog_1_method_32_code (7 : Nat) (Option.some Jvm.ClassFile.FieldType.boolean)) ∈ lw_all := lw_g (lw_at lw_m8 142 rfl) rfl
theorem q1940 : (Jvm.Cond.methodLink "TranslationBureau" (230 : Nat) ({ cls := "TranslationBureau", name := "wordAt", desc := "(IIZ)Ljava/lang/String;" } : Jvm.MethodName)) ∈ lw_all := lw_g (lw_at lw_m8 143 rfl) rfl
theorem q1941 : (Jvm.Cond.privateMethod ({ cls := "TranslationBureau", name := "wordAt", desc := "(IIZ)Ljava/lang/String;" } : Jvm.MethodName)) ∈ lw_tbl := lw_at lw_m8 144 rfl
theorem q1942 : (Jvm.Cond.instanceMethod ({ cls := "TranslationBureau", name := "wordAt", desc := "(IIZ)Ljava/lang/String;" } : Jvm.MethodName)) ∈ lw_all := lw_g (lw_at lw_m8 145 rfl) rfl
theorem q1943 : (Jvm.Cond.code ({ cls := "TranslationBureau", name := "wordAt", desc := "(IIZ)Ljava/lang/String;" } : Jvm.MethodName) prog_1_method_22_code (5 : Nat) (Option.some (Jvm.ClassFile.FieldType.object "java/lang/String"))) ∈ lw_all := lw_g (lw_at lw_m8 146 rfl) rfl
theorem q1944 : (Jvm.Cond.classLink "TranslationBureau" (145 : Nat) "java/lang/String") ∈ lw_all := lw_g (lw_at lw_m8 147 rfl) rfl
theorem q1945 : (Jvm.Cond.methodLink "TranslationBureau" (234 : Nat) ({ cls := "java/lang/String", name := "equals", desc := "(Ljava/lang/Object;)Z" } : Jvm.MethodName)) ∈ lw_all := lw_g (lw_at lw_m8 148 rfl) rfl
theorem q1950 : (Jvm.Cond.instanceMethod ({ cls := "TranslationBureau", name := "distance", desc := "(II)I" } : Jvm.MethodName)) ∈ lw_all := lw_g (lw_at lw_m8 153 rfl) rfl
theorem q1951 : (Jvm.Cond.selects "TranslationBureau" ({ cls := "TranslationBureau", name := "distance", desc := "(II)I" } : Jvm.MethodName) ({ cls := "TranslationBureau", name := "distance", desc := "(II)I" } : Jvm.MethodName)) ∈ lw_all := lw_g (lw_at lw_m8 154 rfl) rfl
theorem q1952 : (Jvm.Cond.code ({ cls := "TranslationBureau", name := "distance", desc := "(II)I" } : Jvm.MethodName) prog_1_method_33_code (3 : Nat) (Option.some Jvm.ClassFile.FieldType.int)) ∈ lw_all := lw_g (lw_at lw_m8 155 rfl) rfl
theorem q1953 : (Jvm.Cond.methodLink "TranslationBureau" (238 : Nat) ({ cls := "TranslationBureau$Segment", name := "stepsTo", desc := "(LTranslationBureau$Segment;)I" } : Jvm.MethodName)) ∈ lw_all := lw_g (lw_at lw_m8 156 rfl) rfl
theorem q1958 : (Jvm.Cond.instanceMethod ({ cls := "TranslationBureau", name := "similarity", desc := "(II)I" } : Jvm.MethodName)) ∈ lw_all := lw_g (lw_at lw_m8 161 rfl) rfl
theorem q1959 : (Jvm.Cond.selects "TranslationBureau" ({ cls := "TranslationBureau", name := "similarity", desc := "(II)I" } : Jvm.MethodName) ({ cls := "TranslationBureau", name := "similarity", desc := "(II)I" } : Jvm.MethodName)) ∈ lw_all := lw_g (lw_at lw_m8 162 rfl) rfl
theorem q1960 : (Jvm.Cond.code ({ cls := "TranslationBureau", name := "similarity", desc := "(II)I" } : Jvm.MethodName) prog_1_method_34_code (3 : Nat) (Option.some Jvm.ClassFile.FieldType.int)) ∈ lw_all := lw_g (lw_at lw_m8 163 rfl) rfl
theorem q1961 : (Jvm.Cond.methodLink "TranslationBureau" (242 : Nat) ({ cls := "TranslationBureau$Segment", name := "likenessTo", desc := "(LTranslationBureau$Segment;)I" } : Jvm.MethodName)) ∈ lw_all := lw_g (lw_at lw_m8 164 rfl) rfl
theorem q1966 : (Jvm.Cond.instanceMethod ({ cls := "TranslationBureau", name := "match", desc := "(I)I" } : Jvm.MethodName)) ∈ lw_all := lw_g (lw_at lw_m8 169 rfl) rfl
theorem q1967 : (Jvm.Cond.selects "TranslationBureau" ({ cls := "TranslationBureau", name := "match", desc := "(I)I" } : Jvm.MethodName) ({ cls := "TranslationBureau", name := "match", desc := "(I)I" } : Jvm.MethodName)) ∈ lw_all := lw_g (lw_at lw_m8 170 rfl) rfl
theorem q1968 : (Jvm.Cond.code ({ cls := "TranslationBureau", name := "match", desc := "(I)I" } : Jvm.MethodName) prog_1_method_35_code (2 : Nat) (Option.some Jvm.ClassFile.FieldType.int)) ∈ lw_all := lw_g (lw_at lw_m8 171 rfl) rfl
theorem q1969 : (Jvm.Cond.methodLink "TranslationBureau" (245 : Nat) ({ cls := "TranslationBureau$Office", name := "matchOf", desc := "(I)I" } : Jvm.MethodName)) ∈ lw_all := lw_g (lw_at lw_m8 172 rfl) rfl
theorem q1975 : (Jvm.Cond.instanceMethod ({ cls := "TranslationBureau", name := "model", desc := "(I)I" } : Jvm.MethodName)) ∈ lw_all := lw_g (lw_at lw_m8 178 rfl) rfl
theorem q1976 : (Jvm.Cond.selects "TranslationBureau" ({ cls := "TranslationBureau", name := "model", desc := "(I)I" } : Jvm.MethodName) ({ cls := "TranslationBureau", name := "model", desc := "(I)I" } : Jvm.MethodName)) ∈ lw_all := lw_g (lw_at lw_m8 179 rfl) rfl
theorem q1977 : (Jvm.Cond.code ({ cls := "TranslationBureau", name := "model", desc := "(I)I" } : Jvm.MethodName) prog_1_method_36_code (3 : Nat) (Option.some Jvm.ClassFile.FieldType.int)) ∈ lw_all := lw_g (lw_at lw_m8 180 rfl) rfl
theorem q1978 : (Jvm.Cond.methodLink "TranslationBureau" (248 : Nat) ({ cls := "TranslationBureau$Office", name := "modelOf", desc := "(I)I" } : Jvm.MethodName)) ∈ lw_all := lw_g (lw_at lw_m8 181 rfl) rfl
theorem q1979 : (Jvm.Cond.methodLink "TranslationBureau" (251 : Nat) ({ cls := "TranslationBureau", name := "requireThing", desc := "(Z)V" } : Jvm.MethodName)) ∈ lw_all := lw_g (lw_at lw_m8 182 rfl) rfl
theorem q1984 : (Jvm.Cond.instanceMethod ({ cls := "TranslationBureau", name := "band", desc := "(I)I" } : Jvm.MethodName)) ∈ lw_all := lw_g (lw_at lw_m8 187 rfl) rfl
theorem q1985 : (Jvm.Cond.selects "TranslationBureau" ({ cls := "TranslationBureau", name := "band", desc := "(I)I" } : Jvm.MethodName) ({ cls := "TranslationBureau", name := "band", desc := "(I)I" } : Jvm.MethodName)) ∈ lw_all := lw_g (lw_at lw_m8 188 rfl) rfl
theorem q1986 : (Jvm.Cond.code ({ cls := "TranslationBureau", name := "band", desc := "(I)I" } : Jvm.MethodName) prog_1_method_37_code (2 : Nat) (Option.some Jvm.ClassFile.FieldType.int)) ∈ lw_all := lw_g (lw_at lw_m8 189 rfl) rfl
theorem q1987 : (Jvm.Cond.methodLink "TranslationBureau" (254 : Nat) ({ cls := "TranslationBureau$Office", name := "bandOf", desc := "(I)I" } : Jvm.MethodName)) ∈ lw_all := lw_g (lw_at lw_m8 190 rfl) rfl
theorem q1992 : (Jvm.Cond.instanceMethod ({ cls := "TranslationBureau", name := "bandWords", desc := "(II)I" } : Jvm.MethodName)) ∈ lw_all := lw_g (lw_at lw_m8 195 rfl) rfl
theorem q1993 : (Jvm.Cond.selects "TranslationBureau" ({ cls := "TranslationBureau", name := "bandWords", desc := "(II)I" } : Jvm.MethodName) ({ cls := "TranslationBureau", name := "bandWords", desc := "(II)I" } : Jvm.MethodName)) ∈ lw_all := lw_g (lw_at lw_m8 196 rfl) rfl
theorem q1994 : (Jvm.Cond.code ({ cls := "TranslationBureau", name := "bandWords", desc := "(II)I" } : Jvm.MethodName) prog_1_method_38_code (3 : Nat) (Option.some Jvm.ClassFile.FieldType.int)) ∈ lw_all := lw_g (lw_at lw_m8 197 rfl) rfl
theorem q1995 : (Jvm.Cond.methodLink "TranslationBureau" (257 : Nat) ({ cls := "TranslationBureau$Office", name := "bandsOf", desc := "(I)[I" } : Jvm.MethodName)) ∈ lw_all := lw_g (lw_at lw_m8 198 rfl) rfl
theorem q2000 : (Jvm.Cond.instanceMethod ({ cls := "TranslationBureau", name := "repetitions", desc := "(I)I" } : Jvm.MethodName)) ∈ lw_all := lw_g (lw_at lw_m8 203 rfl) rfl
theorem q2001 : (Jvm.Cond.selects "TranslationBureau" ({ cls := "TranslationBureau", name := "repetitions", desc := "(I)I" } : Jvm.MethodName) ({ cls := "TranslationBureau", name := "repetitions", desc := "(I)I" } : Jvm.MethodName)) ∈ lw_all := lw_g (lw_at lw_m8 204 rfl) rfl
theorem q2002 : (Jvm.Cond.code ({ cls := "TranslationBureau", name := "repetitions", desc := "(I)I" } : Jvm.MethodName) prog_1_method_39_code (5 : Nat) (Option.some Jvm.ClassFile.FieldType.int)) ∈ lw_all := lw_g (lw_at lw_m8 205 rfl) rfl
theorem q2003 : (Jvm.Cond.interfaceEntry "TranslationBureau" (264 : Nat)) ∈ lw_tbl := lw_at lw_m8 206 rfl
theorem q2004 : (Jvm.Cond.methodLink "TranslationBureau" (264 : Nat) ({ cls := "java/util/List", name := "equals", desc := "(Ljava/lang/Object;)Z" } : Jvm.MethodName)) ∈ lw_all := lw_g (lw_at lw_m8 207 rfl) rfl
theorem q2009 : (Jvm.Cond.instanceMethod ({ cls := "TranslationBureau", name := "account", desc := "(II)I" } : Jvm.MethodName)) ∈ lw_all := lw_g (lw_at lw_m8 212 rfl) rfl
theorem q2010 : (Jvm.Cond.selects "TranslationBureau" ({ cls := "TranslationBureau", name := "account", desc := "(II)I" } : Jvm.MethodName) ({ cls := "TranslationBureau", name := "account", desc := "(II)I" } : Jvm.MethodName)) ∈ lw_all := lw_g (lw_at lw_m8 213 rfl) rfl
theorem q2011 : (Jvm.Cond.code ({ cls := "TranslationBureau", name := "account", desc := "(II)I" } : Jvm.MethodName) prog_1_method_40_code (3 : Nat) (Option.some Jvm.ClassFile.FieldType.int)) ∈ lw_all := lw_g (lw_at lw_m8 214 rfl) rfl
theorem q2012 : (Jvm.Cond.methodLink "TranslationBureau" (265 : Nat) ({ cls := "TranslationBureau$Office", name := "accountOf", desc := "(I)[I" } : Jvm.MethodName)) ∈ lw_all := lw_g (lw_at lw_m8 215 rfl) rfl
theorem q2017 : (Jvm.Cond.instanceMethod ({ cls := "TranslationBureau", name := "earned", desc := "(I)I" } : Jvm.MethodName)) ∈ lw_all := lw_g (lw_at lw_m8 220 rfl) rfl
theorem q2018 : (Jvm.Cond.selects "TranslationBureau" ({ cls := "TranslationBureau", name := "earned", desc := "(I)I" } : Jvm.MethodName) ({ cls := "TranslationBureau", name := "earned", desc := "(I)I" } : Jvm.MethodName)) ∈ lw_all := lw_g (lw_at lw_m8 221 rfl) rfl
theorem q2019 : (Jvm.Cond.code ({ cls := "TranslationBureau", name := "earned", desc := "(I)I" } : Jvm.MethodName) prog_1_method_41_code (5 : Nat) (Option.some Jvm.ClassFile.FieldType.int)) ∈ lw_all := lw_g (lw_at lw_m8 222 rfl) rfl
theorem q2024 : (Jvm.Cond.instanceMethod ({ cls := "TranslationBureau", name := "perWord", desc := "(I)D" } : Jvm.MethodName)) ∈ lw_all := lw_g (lw_at lw_m8 227 rfl) rfl
theorem q2025 : (Jvm.Cond.selects "TranslationBureau" ({ cls := "TranslationBureau", name := "perWord", desc := "(I)D" } : Jvm.MethodName) ({ cls := "TranslationBureau", name := "perWord", desc := "(I)D" } : Jvm.MethodName)) ∈ lw_all := lw_g (lw_at lw_m8 228 rfl) rfl
theorem q2026 : (Jvm.Cond.code ({ cls := "TranslationBureau", name := "perWord", desc := "(I)D" } : Jvm.MethodName) prog_1_method_43_code (3 : Nat) (Option.some Jvm.ClassFile.FieldType.double)) ∈ lw_all := lw_g (lw_at lw_m8 229 rfl) rfl
theorem q2031 : (Jvm.Cond.instanceMethod ({ cls := "TranslationBureau", name := "loadOf", desc := "(I)I" } : Jvm.MethodName)) ∈ lw_all := lw_g (lw_at lw_m8 234 rfl) rfl
theorem q2032 : (Jvm.Cond.selects "TranslationBureau" ({ cls := "TranslationBureau", name := "loadOf", desc := "(I)I" } : Jvm.MethodName) ({ cls := "TranslationBureau", name := "loadOf", desc := "(I)I" } : Jvm.MethodName)) ∈ lw_all := lw_g (lw_at lw_m8 235 rfl) rfl
theorem q2033 : (Jvm.Cond.code ({ cls := "TranslationBureau", name := "loadOf", desc := "(I)I" } : Jvm.MethodName) prog_1_method_44_code (2 : Nat) (Option.some Jvm.ClassFile.FieldType.int)) ∈ lw_all := lw_g (lw_at lw_m8 236 rfl) rfl
theorem q2034 : (Jvm.Cond.methodLink "TranslationBureau" (271 : Nat) ({ cls := "TranslationBureau$Office", name := "loadBy", desc := "(II)I" } : Jvm.MethodName)) ∈ lw_all := lw_g (lw_at lw_m8 237 rfl) rfl
theorem q2039 : (Jvm.Cond.static ({ cls := "TranslationBureau", name := "halfOf", desc := "(I)I" } : Jvm.MethodName)) ∈ lw_all := lw_g (lw_at lw_m9 2 rfl) rfl
theorem q2040 : (Jvm.Cond.code ({ cls := "TranslationBureau", name := "halfOf", desc := "(I)I" } : Jvm.MethodName) prog_1_method_8_code (1 : Nat) (Option.some Jvm.ClassFile.FieldType.int)) ∈ lw_all := lw_g (lw_at lw_m9 3 rfl) rfl
theorem q2045 : (Jvm.Cond.instanceMethod ({ cls := "TranslationBureau", name := "isOverloaded", desc := "(I)Z" } : Jvm.MethodName)) ∈ lw_all := lw_g (lw_at lw_m9 8 rfl) rfl
theorem q2046 : (Jvm.Cond.selects "TranslationBureau" ({ cls := "TranslationBureau", name := "isOverloaded", desc := "(I)Z" } : Jvm.MethodName) ({ cls := "TranslationBureau", name := "isOverloaded", desc := "(I)Z" } : Jvm.MethodName)) ∈ lw_all := lw_g (lw_at lw_m9 9 rfl) rfl
theorem q2047 : (Jvm.Cond.code ({ cls := "TranslationBureau", name := "isOverloaded", desc := "(I)Z" } : Jvm.MethodName) prog_1_method_45_code (2 : Nat) (Option.some Jvm.ClassFile.FieldType.boolean)) ∈ lw_all := lw_g (lw_at lw_m9 10 rfl) rfl
theorem q2048 : (Jvm.Cond.methodLink "TranslationBureau" (275 : Nat) ({ cls := "TranslationBureau", name := "loadOf", desc := "(I)I" } : Jvm.MethodName)) ∈ lw_all := lw_g (lw_at lw_m9 11 rfl) rfl
theorem q2053 : (Jvm.Cond.instanceMethod ({ cls := "TranslationBureau", name := "pairs", desc := "(II)I" } : Jvm.MethodName)) ∈ lw_all := lw_g (lw_at lw_m9 16 rfl) rfl
theorem q2054 : (Jvm.Cond.selects "TranslationBureau" ({ cls := "TranslationBureau", name := "pairs", desc := "(II)I" } : Jvm.MethodName) ({ cls := "TranslationBureau", name := "pairs", desc := "(II)I" } : Jvm.MethodName)) ∈ lw_all := lw_g (lw_at lw_m9 17 rfl) rfl
theorem q2055 : (Jvm.Cond.code ({ cls := "TranslationBureau", name := "pairs", desc := "(II)I" } : Jvm.MethodName) prog_1_method_46_code (3 : Nat) (Option.some Jvm.ClassFile.FieldType.int)) ∈ lw_all := lw_g (lw_at lw_m9 18 rfl) rfl
theorem q2060 : (Jvm.Cond.instanceMethod ({ cls := "TranslationBureau", name := "suggested", desc := "(I)I" } : Jvm.MethodName)) ∈ lw_all := lw_g (lw_at lw_m9 23 rfl) rfl
theorem q2061 : (Jvm.Cond.selects "TranslationBureau" ({ cls := "TranslationBureau", name := "suggested", desc := "(I)I" } : Jvm.MethodName) ({ cls := "TranslationBureau", name := "suggested", desc := "(I)I" } : Jvm.MethodName)) ∈ lw_all := lw_g (lw_at lw_m9 24 rfl) rfl
theorem q2062 : (Jvm.Cond.code ({ cls := "TranslationBureau", name := "suggested", desc := "(I)I" } : Jvm.MethodName) prog_1_method_48_code (2 : Nat) (Option.some Jvm.ClassFile.FieldType.int)) ∈ lw_all := lw_g (lw_at lw_m9 25 rfl) rfl
theorem q2063 : (Jvm.Cond.methodLink "TranslationBureau" (282 : Nat) ({ cls := "TranslationBureau$Office", name := "suggestedFor", desc := "(I)I" } : Jvm.MethodName)) ∈ lw_all := lw_g (lw_at lw_m9 26 rfl) rfl
theorem q2073 : (Jvm.Cond.instanceMethod ({ cls := "TranslationBureau", name := "version", desc := "(I)I" } : Jvm.MethodName)) ∈ lw_all := lw_g (lw_at lw_m9 36 rfl) rfl
theorem q2074 : (Jvm.Cond.selects "TranslationBureau" ({ cls := "TranslationBureau", name := "version", desc := "(I)I" } : Jvm.MethodName) ({ cls := "TranslationBureau", name := "version", desc := "(I)I" } : Jvm.MethodName)) ∈ lw_all := lw_g (lw_at lw_m9 37 rfl) rfl
theorem q2075 : (Jvm.Cond.code ({ cls := "TranslationBureau", name := "version", desc := "(I)I" } : Jvm.MethodName) prog_1_method_50_code (5 : Nat) (Option.some Jvm.ClassFile.FieldType.int)) ∈ lw_all := lw_g (lw_at lw_m9 38 rfl) rfl
theorem q2076 : (Jvm.Cond.methodLink "TranslationBureau" (287 : Nat) ({ cls := "TranslationBureau", name := "termAt", desc := "(I)LTranslationBureau$Term;" } : Jvm.MethodName)) ∈ lw_all := lw_g (lw_at lw_m9 39 rfl) rfl
theorem q2077 : (Jvm.Cond.privateMethod ({ cls := "TranslationBureau", name := "termAt", desc := "(I)LTranslationBureau$Term;" } : Jvm.MethodName)) ∈ lw_tbl := lw_at lw_m9 40 rfl
theorem q2078 : (Jvm.Cond.instanceMethod ({ cls := "TranslationBureau", name := "termAt", desc := "(I)LTranslationBureau$Term;" } : Jvm.MethodName)) ∈ lw_all := lw_g (lw_at lw_m9 41 rfl) rfl
theorem q2079 : (Jvm.Cond.code ({ cls := "TranslationBureau", name := "termAt", desc := "(I)LTranslationBureau$Term;" } : Jvm.MethodName) prog_1_method_49_code (2 : Nat) (Option.some (Jvm.ClassFile.FieldType.object "TranslationBureau$Term"))) ∈ lw_all := lw_g (lw_at lw_m9 42 rfl) rfl
theorem q2080 : (Jvm.Cond.classLink "TranslationBureau" (285 : Nat) "TranslationBureau$Term") ∈ lw_all := lw_g (lw_at lw_m9 43 rfl) rfl
theorem q2085 : (Jvm.Cond.instanceMethod ({ cls := "TranslationBureau", name := "rule", desc := "(II)I" } : Jvm.MethodName)) ∈ lw_all := lw_g (lw_at lw_m9 48 rfl) rfl
theorem q2086 : (Jvm.Cond.selects "TranslationBureau" ({ cls := "TranslationBureau", name := "rule", desc := "(II)I" } : Jvm.MethodName) ({ cls := "TranslationBureau", name := "rule", desc := "(II)I" } : Jvm.MethodName)) ∈ lw_all := lw_g (lw_at lw_m9 49 rfl) rfl
theorem q2087 : (Jvm.Cond.code ({ cls := "TranslationBureau", name := "rule", desc := "(II)I" } : Jvm.MethodName) prog_1_method_51_code (3 : Nat) (Option.some Jvm.ClassFile.FieldType.int)) ∈ lw_all := lw_g (lw_at lw_m9 50 rfl) rfl
theorem q2088 : (Jvm.Cond.methodLink "TranslationBureau" (295 : Nat) ({ cls := "TranslationBureau$Office", name := "ruleFor", desc := "(II)I" } : Jvm.MethodName)) ∈ lw_all := lw_g (lw_at lw_m9 51 rfl) rfl
theorem q2093 : (Jvm.Cond.instanceMethod ({ cls := "TranslationBureau", name := "uses", desc := "(I)I" } : Jvm.MethodName)) ∈ lw_all := lw_g (lw_at lw_m9 56 rfl) rfl
theorem q2094 : (Jvm.Cond.selects "TranslationBureau" ({ cls := "TranslationBureau", name := "uses", desc := "(I)I" } : Jvm.MethodName) ({ cls := "TranslationBureau", name := "uses", desc := "(I)I" } : Jvm.MethodName)) ∈ lw_all := lw_g (lw_at lw_m9 57 rfl) rfl
theorem q2095 : (Jvm.Cond.code ({ cls := "TranslationBureau", name := "uses", desc := "(I)I" } : Jvm.MethodName) prog_1_method_52_code (4 : Nat) (Option.some Jvm.ClassFile.FieldType.int)) ∈ lw_all := lw_g (lw_at lw_m9 58 rfl) rfl
theorem q2096 : (Jvm.Cond.methodLink "TranslationBureau" (298 : Nat) ({ cls := "TranslationBureau$Office", name := "usesTerm", desc := "(II)Z" } : Jvm.MethodName)) ∈ lw_all := lw_g (lw_at lw_m9 59 rfl) rfl
theorem q2104 : (Jvm.Cond.instanceMethod ({ cls := "TranslationBureau", name := "finding", desc := "(II)I" } : Jvm.MethodName)) ∈ lw_all := lw_g (lw_at lw_m9 67 rfl) rfl
theorem q2105 : (Jvm.Cond.selects "TranslationBureau" ({ cls := "TranslationBureau", name := "finding", desc := "(II)I" } : Jvm.MethodName) ({ cls := "TranslationBureau", name := "finding", desc := "(II)I" } : Jvm.MethodName)) ∈ lw_all := lw_g (lw_at lw_m9 68 rfl) rfl
theorem q2106 : (Jvm.Cond.code ({ cls := "TranslationBureau", name := "finding", desc := "(II)I" } : Jvm.MethodName) prog_1_method_54_code (4 : Nat) (Option.some Jvm.ClassFile.FieldType.int)) ∈ lw_all := lw_g (lw_at lw_m9 69 rfl) rfl
theorem q2107 : (Jvm.Cond.methodLink "TranslationBureau" (304 : Nat) ({ cls := "TranslationBureau", name := "findingAt", desc := "(I)LTranslationBureau$Finding;" } : Jvm.MethodName)) ∈ lw_all := lw_g (lw_at lw_m9 70 rfl) rfl
theorem q2108 : (Jvm.Cond.privateMethod ({ cls := "TranslationBureau", name := "findingAt", desc := "(I)LTranslationBureau$Finding;" } : Jvm.MethodName)) ∈ lw_tbl := lw_at lw_m9 71 rfl
theorem q2109 : (Jvm.Cond.instanceMethod ({ cls := "TranslationBureau", name := "findingAt", desc := "(I)LTranslationBureau$Finding;" } : Jvm.MethodName)) ∈ lw_all := lw_g (lw_at lw_m9 72 rfl) rfl
theorem q2110 : (Jvm.Cond.code ({ cls := "TranslationBureau", name := "findingAt", desc := "(I)LTranslationBureau$Finding;" } : Jvm.MethodName) prog_1_method_53_code (3 : Nat) (Option.some (Jvm.ClassFile.FieldType.object "TranslationBureau$Finding"))) ∈ lw_all := lw_g (lw_at lw_m9 73 rfl) rfl
theorem q2111 : (Jvm.Cond.classLink "TranslationBureau" (302 : Nat) "TranslationBureau$Finding") ∈ lw_all := lw_g (lw_at lw_m9 74 rfl) rfl
theorem q2112 : (Jvm.Cond.methodLink "TranslationBureau" (308 : Nat) ({ cls := "TranslationBureau$Finding", name := "kind", desc := "()I" } : Jvm.MethodName)) ∈ lw_all := lw_g (lw_at lw_m9 75 rfl) rfl
theorem q2124 : (Jvm.Cond.methodLink "TranslationBureau" (312 : Nat) ({ cls := "TranslationBureau$Finding", name := "other", desc := "()I" } : Jvm.MethodName)) ∈ lw_all := lw_g (lw_at lw_m9 87 rfl) rfl
theorem q2140 : (Jvm.Cond.instanceMethod ({ cls := "TranslationBureau", name := "findings", desc := "(II)I" } : Jvm.MethodName)) ∈ lw_all := lw_g (lw_at lw_m9 103 rfl) rfl
theorem q2141 : (Jvm.Cond.selects "TranslationBureau" ({ cls := "TranslationBureau", name := "findings", desc := "(II)I" } : Jvm.MethodName) ({ cls := "TranslationBureau", name := "findings", desc := "(II)I" } : Jvm.MethodName)) ∈ lw_all := lw_g (lw_at lw_m9 104 rfl) rfl
theorem q2142 : (Jvm.Cond.code ({ cls := "TranslationBureau", name := "findings", desc := "(II)I" } : Jvm.MethodName) prog_1_method_55_code (3 : Nat) (Option.some Jvm.ClassFile.FieldType.int)) ∈ lw_all := lw_g (lw_at lw_m9 105 rfl) rfl
theorem q2143 : (Jvm.Cond.methodLink "TranslationBureau" (315 : Nat) ({ cls := "TranslationBureau$Office", name := "findingsOf", desc := "(II)I" } : Jvm.MethodName)) ∈ lw_all := lw_g (lw_at lw_m9 106 rfl) rfl
theorem q2154 : (Jvm.Cond.instanceMethod ({ cls := "TranslationBureau", name := "clean", desc := "(I)I" } : Jvm.MethodName)) ∈ lw_all := lw_g (lw_at lw_m9 117 rfl) rfl
theorem q2155 : (Jvm.Cond.selects "TranslationBureau" ({ cls := "TranslationBureau", name := "clean", desc := "(I)I" } : Jvm.MethodName) ({ cls := "TranslationBureau", name := "clean", desc := "(I)I" } : Jvm.MethodName)) ∈ lw_all := lw_g (lw_at lw_m9 118 rfl) rfl
theorem q2156 : (Jvm.Cond.code ({ cls := "TranslationBureau", name := "clean", desc := "(I)I" } : Jvm.MethodName) prog_1_method_56_code (5 : Nat) (Option.some Jvm.ClassFile.FieldType.int)) ∈ lw_all := lw_g (lw_at lw_m9 119 rfl) rfl
theorem q2157 : (Jvm.Cond.methodLink "TranslationBureau" (318 : Nat) ({ cls := "java/lang/Math", name := "max", desc := "(II)I" } : Jvm.MethodName)) ∈ lw_all := lw_g (lw_at lw_m9 120 rfl) rfl
theorem q2162 : (Jvm.Cond.instanceMethod ({ cls := "TranslationBureau", name := "without", desc := "(I)I" } : Jvm.MethodName)) ∈ lw_all := lw_g (lw_at lw_m9 125 rfl) rfl
theorem q2163 : (Jvm.Cond.selects "TranslationBureau" ({ cls := "TranslationBureau", name := "without", desc := "(I)I" } : Jvm.MethodName) ({ cls := "TranslationBureau", name := "without", desc := "(I)I" } : Jvm.MethodName)) ∈ lw_all := lw_g (lw_at lw_m9 126 rfl) rfl
theorem q2164 : (Jvm.Cond.code ({ cls := "TranslationBureau", name := "without", desc := "(I)I" } : Jvm.MethodName) prog_1_method_57_code (2 : Nat) (Option.some Jvm.ClassFile.FieldType.int)) ∈ lw_all := lw_g (lw_at lw_m9 127 rfl) rfl
theorem q2165 : (Jvm.Cond.methodLink "TranslationBureau" (323 : Nat) ({ cls := "TranslationBureau$Office", name := "lessOne", desc := "(I)LTranslationBureau$Office;" } : Jvm.MethodName)) ∈ lw_all := lw_g (lw_at lw_m9 128 rfl) rfl
theorem q2187 : (Jvm.Cond.instanceMethod ({ cls := "TranslationBureau", name := "alone", desc := "(I)I" } : Jvm.MethodName)) ∈ lw_all := lw_g (lw_at lw_m9 150 rfl) rfl
theorem q2188 : (Jvm.Cond.selects "TranslationBureau" ({ cls := "TranslationBureau", name := "alone", desc := "(I)I" } : Jvm.MethodName) ({ cls := "TranslationBureau", name := "alone", desc := "(I)I" } : Jvm.MethodName)) ∈ lw_all := lw_g (lw_at lw_m9 151 rfl) rfl
theorem q2189 : (Jvm.Cond.code ({ cls := "TranslationBureau", name := "alone", desc := "(I)I" } : Jvm.MethodName) prog_1_method_58_code (2 : Nat) (Option.some Jvm.ClassFile.FieldType.int)) ∈ lw_all := lw_g (lw_at lw_m9 152 rfl) rfl
theorem q2190 : (Jvm.Cond.methodLink "TranslationBureau" (327 : Nat) ({ cls := "TranslationBureau$Office", name := "onlyOf", desc := "(I)LTranslationBureau$Office;" } : Jvm.MethodName)) ∈ lw_all := lw_g (lw_at lw_m9 153 rfl) rfl
theorem q2203 : (Jvm.Cond.methodLink "TranslationBureau" (330 : Nat) ({ cls := "TranslationBureau$Office", name := "basicOf", desc := "(I)I" } : Jvm.MethodName)) ∈ lw_all := lw_g (lw_at lw_m9 166 rfl) rfl
theorem q2208 : (Jvm.Cond.instanceMethod ({ cls := "TranslationBureau", name := "tightest", desc := "(I)I" } : Jvm.MethodName)) ∈ lw_all := lw_g (lw_at lw_m9 171 rfl) rfl
theorem q2209 : (Jvm.Cond.selects "TranslationBureau" ({ cls := "TranslationBureau", name := "tightest", desc := "(I)I" } : Jvm.MethodName) ({ cls := "TranslationBureau", name := "tightest", desc := "(I)I" } : Jvm.MethodName)) ∈ lw_all := lw_g (lw_at lw_m9 172 rfl) rfl
theorem q2210 : (Jvm.Cond.code ({ cls := "TranslationBureau", name := "tightest", desc := "(I)I" } : Jvm.MethodName) prog_1_method_59_code (3 : Nat) (Option.some Jvm.ClassFile.FieldType.int)) ∈ lw_all := lw_g (lw_at lw_m9 173 rfl) rfl
theorem q2211 : (Jvm.Cond.methodLink "TranslationBureau" (333 : Nat) ({ cls := "TranslationBureau$Office", name := "premiumOf", desc := "(II)I" } : Jvm.MethodName)) ∈ lw_all := lw_g (lw_at lw_m9 174 rfl) rfl
theorem q2216 : (Jvm.Cond.instanceMethod ({ cls := "TranslationBureau", name := "bestFollowed", desc := "(I)I" } : Jvm.MethodName)) ∈ lw_all := lw_g (lw_at lw_m9 179 rfl) rfl
theorem q2217 : (Jvm.Cond.selects "TranslationBureau" ({ cls := "TranslationBureau", name := "bestFollowed", desc := "(I)I" } : Jvm.MethodName) ({ cls := "TranslationBureau", name := "bestFollowed", desc := "(I)I" } : Jvm.MethodName)) ∈ lw_all := lw_g (lw_at lw_m9 180 rfl) rfl
theorem q2218 : (Jvm.Cond.code ({ cls := "TranslationBureau", name := "bestFollowed", desc := "(I)I" } : Jvm.MethodName) prog_1_method_60_code (7 : Nat) (Option.some Jvm.ClassFile.FieldType.int)) ∈ lw_all := lw_g (lw_at lw_m9 181 rfl) rfl
theorem q2219 : (Jvm.Cond.methodLink "TranslationBureau" (336 : Nat) ({ cls := "TranslationBureau$Office", name := "missingOf", desc := "(I)I" } : Jvm.MethodName)) ∈ lw_all := lw_g (lw_at lw_m9 182 rfl) rfl
theorem q2227 : (Jvm.Cond.instanceMethod ({ cls := "TranslationBureau", name := "removeSegment", desc := "(I)I" } : Jvm.MethodName)) ∈ lw_all := lw_g (lw_at lw_m9 190 rfl) rfl
theorem q2228 : (Jvm.Cond.selects "TranslationBureau" ({ cls := "TranslationBureau", name := "removeSegment", desc := "(I)I" } : Jvm.MethodName) ({ cls := "TranslationBureau", name := "removeSegment", desc := "(I)I" } : Jvm.MethodName)) ∈ lw_all := lw_g (lw_at lw_m9 191 rfl) rfl
theorem q2229 : (Jvm.Cond.code ({ cls := "TranslationBureau", name := "removeSegment", desc := "(I)I" } : Jvm.MethodName) prog_1_method_63_code (2 : Nat) (Option.some Jvm.ClassFile.FieldType.int)) ∈ lw_all := lw_g (lw_at lw_m9 192 rfl) rfl
theorem q2234 : (Jvm.Cond.instanceMethod ({ cls := "TranslationBureau", name := "moveSegment", desc := "(II)I" } : Jvm.MethodName)) ∈ lw_all := lw_g (lw_at lw_m9 197 rfl) rfl
theorem q2235 : (Jvm.Cond.selects "TranslationBureau" ({ cls := "TranslationBureau", name := "moveSegment", desc := "(II)I" } : Jvm.MethodName) ({ cls := "TranslationBureau", name := "moveSegment", desc := "(II)I" } : Jvm.MethodName)) ∈ lw_all := lw_g (lw_at lw_m9 198 rfl) rfl
theorem q2236 : (Jvm.Cond.code ({ cls := "TranslationBureau", name := "moveSegment", desc := "(II)I" } : Jvm.MethodName) prog_1_method_64_code (4 : Nat) (Option.some Jvm.ClassFile.FieldType.int)) ∈ lw_all := lw_g (lw_at lw_m9 199 rfl) rfl
theorem q2237 : (Jvm.Cond.interfaceEntry "TranslationBureau" (347 : Nat)) ∈ lw_tbl := lw_at lw_m9 200 rfl
theorem q2238 : (Jvm.Cond.methodLink "TranslationBureau" (347 : Nat) ({ cls := "java/util/List", name := "add", desc := "(ILjava/lang/Object;)V" } : Jvm.MethodName)) ∈ lw_all := lw_g (lw_at lw_m9 201 rfl) rfl
theorem q2268 : (Jvm.Cond.instanceMethod ({ cls := "TranslationBureau", name := "setJob", desc := "(IIII)I" } : Jvm.MethodName)) ∈ lw_all := lw_g (lw_at lw_m9 231 rfl) rfl
theorem q2269 : (Jvm.Cond.selects "TranslationBureau" ({ cls := "TranslationBureau", name := "setJob", desc := "(IIII)I" } : Jvm.MethodName) ({ cls := "TranslationBureau", name := "setJob", desc := "(IIII)I" } : Jvm.MethodName)) ∈ lw_all := lw_g (lw_at lw_m9 232 rfl) rfl
theorem q2270 : (Jvm.Cond.code ({ cls := "TranslationBureau", name := "setJob", desc := "(IIII)I" } : Jvm.MethodName) prog_1_method_65_code (7 : Nat) (Option.some Jvm.ClassFile.FieldType.int)) ∈ lw_all := lw_g (lw_at lw_m9 233 rfl) rfl
theorem q2271 : (Jvm.Cond.methodLink "TranslationBureau" (351 : Nat) ({ cls := "TranslationBureau", name := "requireState", desc := "(Z)V" } : Jvm.MethodName)) ∈ lw_all := lw_g (lw_at lw_m9 234 rfl) rfl
theorem q2272 : (Jvm.Cond.static ({ cls := "TranslationBureau", name := "requireState", desc := "(Z)V" } : Jvm.MethodName)) ∈ lw_all := lw_g (lw_at lw_m9 235 rfl) rfl
theorem q2273 : (Jvm.Cond.code ({ cls := "TranslationBureau", name := "requireState", desc := "(Z)V" } : Jvm.MethodName) prog_1_method_5_code (1 : Nat) (Option.none : Option Jvm.ClassFile.FieldType)) ∈ lw_all := lw_g (lw_at lw_m9 236 rfl) rfl
theorem q2274 : (Jvm.Cond.classLink "TranslationBureau" (13 : Nat) "java/lang/IllegalStateException") ∈ lw_all := lw_g (lw_at lw_m9 237 rfl) rfl
theorem q2275 : (Jvm.Cond.methodLink "TranslationBureau" (15 : Nat) ({ cls := "java/lang/IllegalStateException", name := "<init>", desc := "()V" } : Jvm.MethodName)) ∈ lw_all := lw_g (lw_at lw_m9 238 rfl) rfl
theorem q2279 : (Jvm.Cond.methodLink "TranslationBureau" (354 : Nat) ({ cls := "TranslationBureau", name := "edit", desc := "()LTranslationBureau$Office;" } : Jvm.MethodName)) ∈ lw_all := lw_g (lw_at lw_m10 2 rfl) rfl
theorem q2280 : (Jvm.Cond.privateMethod ({ cls := "TranslationBureau", name := "edit", desc := "()LTranslationBureau$Office;" } : Jvm.MethodName)) ∈ lw_tbl := lw_at lw_m10 3 rfl
theorem q2281 : (Jvm.Cond.instanceMethod ({ cls := "TranslationBureau", name := "edit", desc := "()LTranslationBureau$Office;" } : Jvm.MethodName)) ∈ lw_all := lw_g (lw_at lw_m10 4 rfl) rfl
theorem q2282 : (Jvm.Cond.code ({ cls := "TranslationBureau", name := "edit", desc := "()LTranslationBureau$Office;" } : Jvm.MethodName) prog_1_method_62_code (1 : Nat) (Option.some (Jvm.ClassFile.FieldType.object "TranslationBureau$Office"))) ∈ lw_all := lw_g (lw_at lw_m10 5 rfl) rfl
theorem q2287 : (Jvm.Cond.instanceMethod ({ cls := "TranslationBureau", name := "setFollowed", desc := "(II)I" } : Jvm.MethodName)) ∈ lw_all := lw_g (lw_at lw_m10 10 rfl) rfl
theorem q2288 : (Jvm.Cond.selects "TranslationBureau" ({ cls := "TranslationBureau", name := "setFollowed", desc := "(II)I" } : Jvm.MethodName) ({ cls := "TranslationBureau", name := "setFollowed", desc := "(II)I" } : Jvm.MethodName)) ∈ lw_all := lw_g (lw_at lw_m10 11 rfl) rfl
theorem q2289 : (Jvm.Cond.code ({ cls := "TranslationBureau", name := "setFollowed", desc := "(II)I" } : Jvm.MethodName) prog_1_method_66_code (4 : Nat) (Option.some Jvm.ClassFile.FieldType.int)) ∈ lw_all := lw_g (lw_at lw_m10 12 rfl) rfl
theorem q2294 : (Jvm.Cond.instanceMethod ({ cls := "TranslationBureau", name := "setBand", desc := "(II)I" } : Jvm.MethodName)) ∈ lw_all := lw_g (lw_at lw_m10 17 rfl) rfl
theorem q2295 : (Jvm.Cond.selects "TranslationBureau" ({ cls := "TranslationBureau", name := "setBand", desc := "(II)I" } : Jvm.MethodName) ({ cls := "TranslationBureau", name := "setBand", desc := "(II)I" } : Jvm.MethodName)) ∈ lw_all := lw_g (lw_at lw_m10 18 rfl) rfl
theorem q2296 : (Jvm.Cond.code ({ cls := "TranslationBureau", name := "setBand", desc := "(II)I" } : Jvm.MethodName) prog_1_method_67_code (4 : Nat) (Option.some Jvm.ClassFile.FieldType.int)) ∈ lw_all := lw_g (lw_at lw_m10 19 rfl) rfl
theorem q2297 : (Jvm.Cond.methodLink "TranslationBureau" (357 : Nat) ({ cls := "TranslationBureau", name := "percentage", desc := "(I)I" } : Jvm.MethodName)) ∈ lw_all := lw_g (lw_at lw_m10 20 rfl) rfl
theorem q2302 : (Jvm.Cond.instanceMethod ({ cls := "TranslationBureau", name := "setSetting", desc := "(II)I" } : Jvm.MethodName)) ∈ lw_all := lw_g (lw_at lw_m10 25 rfl) rfl
theorem q2303 : (Jvm.Cond.selects "TranslationBureau" ({ cls := "TranslationBureau", name := "setSetting", desc := "(II)I" } : Jvm.MethodName) ({ cls := "TranslationBureau", name := "setSetting", desc := "(II)I" } : Jvm.MethodName)) ∈ lw_all := lw_g (lw_at lw_m10 26 rfl) rfl
theorem q2304 : (Jvm.Cond.code ({ cls := "TranslationBureau", name := "setSetting", desc := "(II)I" } : Jvm.MethodName) prog_1_method_68_code (4 : Nat) (Option.some Jvm.ClassFile.FieldType.int)) ∈ lw_all := lw_g (lw_at lw_m10 27 rfl) rfl
theorem q2305 : (Jvm.Cond.methodLink "TranslationBureau" (360 : Nat) ({ cls := "TranslationBureau", name := "setting", desc := "(I)I" } : Jvm.MethodName)) ∈ lw_all := lw_g (lw_at lw_m10 28 rfl) rfl
theorem q2306 : (Jvm.Cond.methodLink "TranslationBureau" (363 : Nat) ({ cls := "TranslationBureau", name := "lowest", desc := "(I)I" } : Jvm.MethodName)) ∈ lw_all := lw_g (lw_at lw_m10 29 rfl) rfl
theorem q2307 : (Jvm.Cond.methodLink "TranslationBureau" (366 : Nat) ({ cls := "TranslationBureau", name := "highest", desc := "(I)I" } : Jvm.MethodName)) ∈ lw_all := lw_g (lw_at lw_m10 30 rfl) rfl
theorem q2312 : (Jvm.Cond.instanceMethod ({ cls := "TranslationBureau", name := "swapTargets", desc := "(II)I" } : Jvm.MethodName)) ∈ lw_all := lw_g (lw_at lw_m10 35 rfl) rfl
theorem q2313 : (Jvm.Cond.selects "TranslationBureau" ({ cls := "TranslationBureau", name := "swapTargets", desc := "(II)I" } : Jvm.MethodName) ({ cls := "TranslationBureau", name := "swapTargets", desc := "(II)I" } : Jvm.MethodName)) ∈ lw_all := lw_g (lw_at lw_m10 36 rfl) rfl
theorem q2314 : (Jvm.Cond.code ({ cls := "TranslationBureau", name := "swapTargets", desc := "(II)I" } : Jvm.MethodName) prog_1_method_69_code (8 : Nat) (Option.some Jvm.ClassFile.FieldType.int)) ∈ lw_all := lw_g (lw_at lw_m10 37 rfl) rfl
theorem q2315 : (Jvm.Cond.methodLink "TranslationBureau" (372 : Nat) ({ cls := "TranslationBureau$Segment", name := "with", desc := "(Ljava/util/List;)LTranslationBureau$Segment;" } : Jvm.MethodName)) ∈ lw_all := lw_g (lw_at lw_m10 38 rfl) rfl
theorem q2321 : (Jvm.Cond.interfaceEntry "TranslationBureau" (376 : Nat)) ∈ lw_tbl := lw_at lw_m10 44 rfl
theorem q2322 : (Jvm.Cond.methodLink "TranslationBureau" (376 : Nat) ({ cls := "java/util/List", name := "set", desc := "(ILjava/lang/Object;)Ljava/lang/Object;" } : Jvm.MethodName)) ∈ lw_all := lw_g (lw_at lw_m10 45 rfl) rfl
theorem q2334 : (Jvm.Cond.instanceMethod ({ cls := "TranslationBureau", name := "write", desc := "(I)I" } : Jvm.MethodName)) ∈ lw_all := lw_g (lw_at lw_m10 57 rfl) rfl
theorem q2335 : (Jvm.Cond.selects "TranslationBureau" ({ cls := "TranslationBureau", name := "write", desc := "(I)I" } : Jvm.MethodName) ({ cls := "TranslationBureau", name := "write", desc := "(I)I" } : Jvm.MethodName)) ∈ lw_all := lw_g (lw_at lw_m10 58 rfl) rfl
theorem q2336 : (Jvm.Cond.code ({ cls := "TranslationBureau", name := "write", desc := "(I)I" } : Jvm.MethodName) prog_1_method_71_code (5 : Nat) (Option.some Jvm.ClassFile.FieldType.int)) ∈ lw_all := lw_g (lw_at lw_m10 59 rfl) rfl
theorem q2337 : (Jvm.Cond.methodLink "TranslationBureau" (386 : Nat) ({ cls := "java/lang/StringBuilder", name := "setLength", desc := "(I)V" } : Jvm.MethodName)) ∈ lw_all := lw_g (lw_at lw_m10 60 rfl) rfl
theorem q2389 : (Jvm.Cond.methodLink "TranslationBureau" (389 : Nat) ({ cls := "java/lang/StringBuilder", name := "append", desc := "(I)Ljava/lang/StringBuilder;" } : Jvm.MethodName)) ∈ lw_all := lw_g (lw_at lw_m10 112 rfl) rfl
theorem q2390 : (Jvm.Cond.stringRef "TranslationBureau" (392 : Nat) ": ") ∈ lw_tbl := lw_at lw_m10 113 rfl
theorem q2391 : (Jvm.Cond.methodLink "TranslationBureau" (394 : Nat) ({ cls := "java/lang/StringBuilder", name := "append", desc := "(Ljava/lang/String;)Ljava/lang/StringBuilder;" } : Jvm.MethodName)) ∈ lw_all := lw_g (lw_at lw_m10 114 rfl) rfl
theorem q2392 : (Jvm.Cond.classLink "TranslationBureau" (397 : Nat) "TranslationBureau$Missing") ∈ lw_all := lw_g (lw_at lw_m10 115 rfl) rfl
theorem q2393 : (Jvm.Cond.stringRef "TranslationBureau" (399 : Nat) "say ") ∈ lw_tbl := lw_at lw_m10 116 rfl
theorem q2394 : (Jvm.Cond.stringRef "TranslationBureau" (408 : Nat) " for ") ∈ lw_tbl := lw_at lw_m10 117 rfl
theorem q2395 : (Jvm.Cond.classLink "TranslationBureau" (410 : Nat) "TranslationBureau$Unlike") ∈ lw_all := lw_g (lw_at lw_m10 118 rfl) rfl
theorem q2396 : (Jvm.Cond.stringRef "TranslationBureau" (412 : Nat) "unlike ") ∈ lw_tbl := lw_at lw_m10 119 rfl
theorem q2397 : (Jvm.Cond.stringRef "TranslationBureau" (417 : Nat) "stale by ") ∈ lw_tbl := lw_at lw_m10 120 rfl
theorem q2398 : (Jvm.Cond.methodLink "TranslationBureau" (419 : Nat) ({ cls := "java/lang/StringBuilder", name := "length", desc := "()I" } : Jvm.MethodName)) ∈ lw_all := lw_g (lw_at lw_m10 121 rfl) rfl
theorem q2403 : (Jvm.Cond.instanceMethod ({ cls := "TranslationBureau", name := "written", desc := "(I)C" } : Jvm.MethodName)) ∈ lw_all := lw_g (lw_at lw_m10 126 rfl) rfl
theorem q2404 : (Jvm.Cond.selects "TranslationBureau" ({ cls := "TranslationBureau", name := "written", desc := "(I)C" } : Jvm.MethodName) ({ cls := "TranslationBureau", name := "written", desc := "(I)C" } : Jvm.MethodName)) ∈ lw_all := lw_g (lw_at lw_m10 127 rfl) rfl
theorem q2405 : (Jvm.Cond.code ({ cls := "TranslationBureau", name := "written", desc := "(I)C" } : Jvm.MethodName) prog_1_method_72_code (2 : Nat) (Option.some Jvm.ClassFile.FieldType.char)) ∈ lw_all := lw_g (lw_at lw_m10 128 rfl) rfl
theorem q2406 : (Jvm.Cond.methodLink "TranslationBureau" (422 : Nat) ({ cls := "java/lang/StringBuilder", name := "charAt", desc := "(I)C" } : Jvm.MethodName)) ∈ lw_all := lw_g (lw_at lw_m10 129 rfl) rfl
theorem q3105 : (Jvm.Cond.castable "TranslationBureau" "java/lang/Object") ∈ lw_tbl := lw_at lw_m13 108 rfl
theorem in_X1 : ∀ w ∈ wsX10, w ∈ lw_all := lw_in wsX10 [311, 313, 315, 317, 319, 321, 323] (by decide +kernel) (by decide +kernel)

/-! TranslationBureau$Parser$4 -/
set_option maxRecDepth 100000
def RX10 : String := "TranslationBureau$Parser$4"
def TX10 : u_T := fun k => match k with
  | _ => ("TranslationBureau$Parser$4", "this$1", "LTranslationBureau$Parser;", true)
def tyX10 : Nat → FieldType := fun k => match k with
  | _ => .object "TranslationBureau$Parser"
abbrev wsX100 : List Cond := u_ws RX10 TX10 1
theorem nmX10 : ∀ a, a < 1 → ∀ b, b < 1 → a ≠ b → (TX10 a).2.1 ≠ (TX10 b).2.1 := by decide +kernel
theorem tyX10_ok : ∀ k, k < 1 → parseFieldDescriptor (TX10 k).2.2.1 = some (tyX10 k) := by decide +kernel
abbrev cX10_init : ByteArray := prog_14_method_1_code
def yX10_init : MethodName := ⟨RX10, "<init>", "(LTranslationBureau$Parser;)V"⟩
def dkwX10_init_0 : List UInt8 := [42, 43, 181, 0, 1, 42, 183, 0, 7, 177]
abbrev dktX10_init_0 : List UInt8 := dkwX10_init_0 ++ []
theorem dksX10_init_0 : cX10_init.data.toList.drop 0 = dktX10_init_0 := by decide +kernel
theorem dX10_init_0 : decode cX10_init 0 = .ok (.aload_n 0, 1) := dk_42 (dk_at dksX10_init_0 0 rfl rfl)
theorem dX10_init_1 : decode cX10_init 1 = .ok (.aload_n 1, 1) := dk_43 (dk_at dksX10_init_0 1 rfl rfl)
theorem dX10_init_2 : decode cX10_init 2 = .ok (.putfield 1, 3) := dk_181 0 1 (dk_at dksX10_init_0 2 rfl rfl)
theorem dX10_init_5 : decode cX10_init 5 = .ok (.aload_n 0, 1) := dk_42 (dk_at dksX10_init_0 5 rfl rfl)
theorem dX10_init_6 : decode cX10_init 6 = .ok (.invokespecial 7, 3) := dk_183 0 7 (dk_at dksX10_init_0 6 rfl rfl)
theorem dX10_init_9 : decode cX10_init 9 = .ok (.return_, 1) := dk_177 (dk_at dksX10_init_0 9 rfl rfl)
abbrev cX10_read : ByteArray := prog_14_method_2_code
def yX10_read : MethodName := ⟨RX10, "read", "()V"⟩
def dkwX10_read_0 : List UInt8 := [42, 180, 0, 1, 182, 0, 13, 177]
abbrev dktX10_read_0 : List UInt8 := dkwX10_read_0 ++ []
theorem dksX10_read_0 : cX10_read.data.toList.drop 0 = dktX10_read_0 := by decide +kernel
theorem dX10_read_0 : decode cX10_read 0 = .ok (.aload_n 0, 1) := dk_42 (dk_at dksX10_read_0 0 rfl rfl)
theorem dX10_read_1 : decode cX10_read 1 = .ok (.getfield 1, 3) := dk_180 0 1 (dk_at dksX10_read_0 1 rfl rfl)
theorem dX10_read_4 : decode cX10_read 4 = .ok (.invokevirtual 13, 3) := dk_182 0 13 (dk_at dksX10_read_0 4 rfl rfl)
theorem dX10_read_7 : decode cX10_read 7 = .ok (.return_, 1) := dk_177 (dk_at dksX10_read_0 7 rfl rfl)
theorem q149 : (Jvm.Cond.initialized "TranslationBureau$Parser$4") ∈ lw_all := lw_g (lw_at lw_m1 32 rfl) rfl
theorem q1170 : (Jvm.Cond.instantiable "TranslationBureau$Parser$4" (1 : Nat)) ∈ lw_all := lw_g (lw_at lw_m5 93 rfl) rfl
theorem q1172 : (Jvm.Cond.instanceMethod ({ cls := "TranslationBureau$Parser$4", name := "<init>", desc := "(LTranslationBureau$Parser;)V" } : Jvm.MethodName)) ∈ lw_all := lw_g (lw_at lw_m5 95 rfl) rfl
theorem q1173 : (Jvm.Cond.code ({ cls := "TranslationBureau$Parser$4", name := "<init>", desc := "(LTranslationBureau$Parser;)V" } : Jvm.MethodName) prog_14_method_1_code (2 : Nat) (Option.none : Option Jvm.ClassFile.FieldType)) ∈ lw_all := lw_g (lw_at lw_m5 96 rfl) rfl
theorem q1174 : (Jvm.Cond.methodLink "TranslationBureau$Parser$4" (7 : Nat) ({ cls := "java/lang/Object", name := "<init>", desc := "()V" } : Jvm.MethodName)) ∈ lw_all := lw_g (lw_at lw_m5 97 rfl) rfl
theorem q1175 : (Jvm.Cond.fieldLink "TranslationBureau$Parser$4" (1 : Nat) "TranslationBureau$Parser$4" "this$1" "LTranslationBureau$Parser;") ∈ lw_all := lw_g (lw_at lw_m5 98 rfl) rfl
theorem q1176 : (Jvm.Cond.laysFinal "TranslationBureau$Parser$4" "TranslationBureau$Parser$4" "this$1" "LTranslationBureau$Parser;") ∈ lw_all := lw_g (lw_at lw_m5 99 rfl) rfl
theorem q1177 : (Jvm.Cond.soleField "TranslationBureau$Parser$4" "this$1") ∈ lw_all := lw_g (lw_at lw_m5 100 rfl) rfl
theorem q1178 : (Jvm.Cond.superclass "TranslationBureau$Parser$4" "java/lang/Object") ∈ lw_all := lw_g (lw_at lw_m5 101 rfl) rfl
theorem q1311 : (Jvm.Cond.selects "TranslationBureau$Parser$4" ({ cls := "java/lang/Object", name := "equals", desc := "(Ljava/lang/Object;)Z" } : Jvm.MethodName) ({ cls := "java/lang/Object", name := "equals", desc := "(Ljava/lang/Object;)Z" } : Jvm.MethodName)) ∈ lw_all := lw_g (lw_at lw_m5 234 rfl) rfl
theorem q1379 : (Jvm.Cond.selects "TranslationBureau$Parser$4" ({ cls := "java/lang/Object", name := "getClass", desc := "()Ljava/lang/Class;" } : Jvm.MethodName) ({ cls := "java/lang/Object", name := "getClass", desc := "()Ljava/lang/Class;" } : Jvm.MethodName)) ∈ lw_all := lw_g (lw_at lw_m6 62 rfl) rfl
theorem q1443 : (Jvm.Cond.castable "TranslationBureau$Parser$4" "TranslationBureau$Statement") ∈ lw_tbl := lw_at lw_m6 126 rfl
theorem q1444 : (Jvm.Cond.selects "TranslationBureau$Parser$4" ({ cls := "TranslationBureau$Statement", name := "read", desc := "()V" } : Jvm.MethodName) ({ cls := "TranslationBureau$Parser$4", name := "read", desc := "()V" } : Jvm.MethodName)) ∈ lw_all := lw_g (lw_at lw_m6 127 rfl) rfl
theorem q1445 : (Jvm.Cond.unhidden "TranslationBureau$Parser$4" "read" "()V") ∈ lw_tbl := lw_at lw_m6 128 rfl
theorem q1446 : (Jvm.Cond.instanceMethod ({ cls := "TranslationBureau$Parser$4", name := "read", desc := "()V" } : Jvm.MethodName)) ∈ lw_all := lw_g (lw_at lw_m6 129 rfl) rfl
theorem q1447 : (Jvm.Cond.publicMethod ({ cls := "TranslationBureau$Parser$4", name := "read", desc := "()V" } : Jvm.MethodName)) ∈ lw_tbl := lw_at lw_m6 130 rfl
theorem q1448 : (Jvm.Cond.code ({ cls := "TranslationBureau$Parser$4", name := "read", desc := "()V" } : Jvm.MethodName) prog_14_method_2_code (1 : Nat) (Option.none : Option Jvm.ClassFile.FieldType)) ∈ lw_all := lw_g (lw_at lw_m6 131 rfl) rfl
theorem q1449 : (Jvm.Cond.methodLinkNest "TranslationBureau$Parser$4" (13 : Nat) ({ cls := "TranslationBureau$Parser", name := "readJob", desc := "()V" } : Jvm.MethodName) "TranslationBureau") ∈ lw_tbl := lw_at lw_m6 132 rfl
theorem q3121 : (Jvm.Cond.castable "TranslationBureau$Parser$4" "java/lang/Object") ∈ lw_tbl := lw_at lw_m13 124 rfl
theorem in_X10 : ∀ w ∈ wsX100, w ∈ lw_all := lw_in wsX100 [1176] (by decide +kernel) (by decide +kernel)

/-! TranslationBureau$Parser$5 -/
set_option maxRecDepth 100000
def RX11 : String := "TranslationBureau$Parser$5"
def TX11 : u_T := fun k => match k with
  | _ => ("TranslationBureau$Parser$5", "this$1", "LTranslationBureau$Parser;", true)
def tyX11 : Nat → FieldType := fun k => match k with
  | _ => .object "TranslationBureau$Parser"
abbrev wsX110 : List Cond := u_ws RX11 TX11 1
theorem nmX11 : ∀ a, a < 1 → ∀ b, b < 1 → a ≠ b → (TX11 a).2.1 ≠ (TX11 b).2.1 := by decide +kernel
theorem tyX11_ok : ∀ k, k < 1 → parseFieldDescriptor (TX11 k).2.2.1 = some (tyX11 k) := by decide +kernel
abbrev cX11_init : ByteArray := prog_15_method_1_code
def yX11_init : MethodName := ⟨RX11, "<init>", "(LTranslationBureau$Parser;)V"⟩
def dkwX11_init_0 : List UInt8 := [42, 43, 181, 0, 1, 42, 183, 0, 7, 177]
abbrev dktX11_init_0 : List UInt8 := dkwX11_init_0 ++ []
theorem dksX11_init_0 : cX11_init.data.toList.drop 0 = dktX11_init_0 := by decide +kernel
theorem dX11_init_0 : decode cX11_init 0 = .ok (.aload_n 0, 1) := dk_42 (dk_at dksX11_init_0 0 rfl rfl)
theorem dX11_init_1 : decode cX11_init 1 = .ok (.aload_n 1, 1) := dk_43 (dk_at dksX11_init_0 1 rfl rfl)
theorem dX11_init_2 : decode cX11_init 2 = .ok (.putfield 1, 3) := dk_181 0 1 (dk_at dksX11_init_0 2 rfl rfl)
theorem dX11_init_5 : decode cX11_init 5 = .ok (.aload_n 0, 1) := dk_42 (dk_at dksX11_init_0 5 rfl rfl)
theorem dX11_init_6 : decode cX11_init 6 = .ok (.invokespecial 7, 3) := dk_183 0 7 (dk_at dksX11_init_0 6 rfl rfl)
theorem dX11_init_9 : decode cX11_init 9 = .ok (.return_, 1) := dk_177 (dk_at dksX11_init_0 9 rfl rfl)
abbrev cX11_read : ByteArray := prog_15_method_2_code
def yX11_read : MethodName := ⟨RX11, "read", "()V"⟩
def dkwX11_read_0 : List UInt8 := [42, 180, 0, 1, 182, 0, 13, 177]
abbrev dktX11_read_0 : List UInt8 := dkwX11_read_0 ++ []
theorem dksX11_read_0 : cX11_read.data.toList.drop 0 = dktX11_read_0 := by decide +kernel
theorem dX11_read_0 : decode cX11_read 0 = .ok (.aload_n 0, 1) := dk_42 (dk_at dksX11_read_0 0 rfl rfl)
theorem dX11_read_1 : decode cX11_read 1 = .ok (.getfield 1, 3) := dk_180 0 1 (dk_at dksX11_read_0 1 rfl rfl)
theorem dX11_read_4 : decode cX11_read 4 = .ok (.invokevirtual 13, 3) := dk_182 0 13 (dk_at dksX11_read_0 4 rfl rfl)
theorem dX11_read_7 : decode cX11_read 7 = .ok (.return_, 1) := dk_177 (dk_at dksX11_read_0 7 rfl rfl)
theorem q150 : (Jvm.Cond.initialized "TranslationBureau$Parser$5") ∈ lw_all := lw_g (lw_at lw_m1 33 rfl) rfl
theorem q1180 : (Jvm.Cond.instantiable "TranslationBureau$Parser$5" (1 : Nat)) ∈ lw_all := lw_g (lw_at lw_m5 103 rfl) rfl
theorem q1182 : (Jvm.Cond.instanceMethod ({ cls := "TranslationBureau$Parser$5", name := "<init>", desc := "(LTranslationBureau$Parser;)V" } : Jvm.MethodName)) ∈ lw_all := lw_g (lw_at lw_m5 105 rfl) rfl
theorem q1183 : (Jvm.Cond.code ({ cls := "TranslationBureau$Parser$5", name := "<init>", desc := "(LTranslationBureau$Parser;)V" } : Jvm.MethodName) prog_15_method_1_code (2 : Nat) (Option.none : Option Jvm.ClassFile.FieldType)) ∈ lw_all := lw_g (lw_at lw_m5 106 rfl) rfl
theorem q1184 : (Jvm.Cond.methodLink "TranslationBureau$Parser$5" (7 : Nat) ({ cls := "java/lang/Object", name := "<init>", desc := "()V" } : Jvm.MethodName)) ∈ lw_all := lw_g (lw_at lw_m5 107 rfl) rfl
theorem q1185 : (Jvm.Cond.fieldLink "TranslationBureau$Parser$5" (1 : Nat) "TranslationBureau$Parser$5" "this$1" "LTranslationBureau$Parser;") ∈ lw_all := lw_g (lw_at lw_m5 108 rfl) rfl
theorem q1186 : (Jvm.Cond.laysFinal "TranslationBureau$Parser$5" "TranslationBureau$Parser$5" "this$1" "LTranslationBureau$Parser;") ∈ lw_all := lw_g (lw_at lw_m5 109 rfl) rfl
theorem q1187 : (Jvm.Cond.soleField "TranslationBureau$Parser$5" "this$1") ∈ lw_all := lw_g (lw_at lw_m5 110 rfl) rfl
theorem q1188 : (Jvm.Cond.superclass "TranslationBureau$Parser$5" "java/lang/Object") ∈ lw_all := lw_g (lw_at lw_m5 111 rfl) rfl
theorem q1312 : (Jvm.Cond.selects "TranslationBureau$Parser$5" ({ cls := "java/lang/Object", name := "equals", desc := "(Ljava/lang/Object;)Z" } : Jvm.MethodName) ({ cls := "java/lang/Object", name := "equals", desc := "(Ljava/lang/Object;)Z" } : Jvm.MethodName)) ∈ lw_all := lw_g (lw_at lw_m5 235 rfl) rfl
theorem q1380 : (Jvm.Cond.selects "TranslationBureau$Parser$5" ({ cls := "java/lang/Object", name := "getClass", desc := "()Ljava/lang/Class;" } : Jvm.MethodName) ({ cls := "java/lang/Object", name := "getClass", desc := "()Ljava/lang/Class;" } : Jvm.MethodName)) ∈ lw_all := lw_g (lw_at lw_m6 63 rfl) rfl
theorem q1484 : (Jvm.Cond.castable "TranslationBureau$Parser$5" "TranslationBureau$Statement") ∈ lw_tbl := lw_at lw_m6 167 rfl
theorem q1485 : (Jvm.Cond.selects "TranslationBureau$Parser$5" ({ cls := "TranslationBureau$Statement", name := "read", desc := "()V" } : Jvm.MethodName) ({ cls := "TranslationBureau$Parser$5", name := "read", desc := "()V" } : Jvm.MethodName)) ∈ lw_all := lw_g (lw_at lw_m6 168 rfl) rfl
theorem q1486 : (Jvm.Cond.unhidden "TranslationBureau$Parser$5" "read" "()V") ∈ lw_tbl := lw_at lw_m6 169 rfl
theorem q1487 : (Jvm.Cond.instanceMethod ({ cls := "TranslationBureau$Parser$5", name := "read", desc := "()V" } : Jvm.MethodName)) ∈ lw_all := lw_g (lw_at lw_m6 170 rfl) rfl
theorem q1488 : (Jvm.Cond.publicMethod ({ cls := "TranslationBureau$Parser$5", name := "read", desc := "()V" } : Jvm.MethodName)) ∈ lw_tbl := lw_at lw_m6 171 rfl
theorem q1489 : (Jvm.Cond.code ({ cls := "TranslationBureau$Parser$5", name := "read", desc := "()V" } : Jvm.MethodName) prog_15_method_2_code (1 : Nat) (Option.none : Option Jvm.ClassFile.FieldType)) ∈ lw_all := lw_g (lw_at lw_m6 172 rfl) rfl
theorem q1490 : (Jvm.Cond.methodLinkNest "TranslationBureau$Parser$5" (13 : Nat) ({ cls := "TranslationBureau$Parser", name := "segment", desc := "()V" } : Jvm.MethodName) "TranslationBureau") ∈ lw_tbl := lw_at lw_m6 173 rfl
theorem q3122 : (Jvm.Cond.castable "TranslationBureau$Parser$5" "java/lang/Object") ∈ lw_tbl := lw_at lw_m13 125 rfl
theorem in_X11 : ∀ w ∈ wsX110, w ∈ lw_all := lw_in wsX110 [1186] (by decide +kernel) (by decide +kernel)

/-! TranslationBureau$TextError -/
set_option maxRecDepth 100000
def RX12 : String := "TranslationBureau$TextError"
abbrev cX12_init : ByteArray := prog_22_method_1_code
def yX12_init : MethodName := ⟨RX12, "<init>", "(I)V"⟩
def dkwX12_init_0 : List UInt8 := [42, 1, 1, 3, 3, 183, 0, 1, 42, 27, 181, 0, 7, 177]
abbrev dktX12_init_0 : List UInt8 := dkwX12_init_0 ++ []
theorem dksX12_init_0 : cX12_init.data.toList.drop 0 = dktX12_init_0 := by decide +kernel
theorem dX12_init_0 : decode cX12_init 0 = .ok (.aload_n 0, 1) := dk_42 (dk_at dksX12_init_0 0 rfl rfl)
theorem dX12_init_1 : decode cX12_init 1 = .ok (.aconst_null, 1) := dk_1 (dk_at dksX12_init_0 1 rfl rfl)
theorem dX12_init_2 : decode cX12_init 2 = .ok (.aconst_null, 1) := dk_1 (dk_at dksX12_init_0 2 rfl rfl)
theorem dX12_init_3 : decode cX12_init 3 = .ok (.iconst 0, 1) := dk_3 (dk_at dksX12_init_0 3 rfl rfl)
theorem dX12_init_4 : decode cX12_init 4 = .ok (.iconst 0, 1) := dk_3 (dk_at dksX12_init_0 4 rfl rfl)
theorem dX12_init_5 : decode cX12_init 5 = .ok (.invokespecial 1, 3) := dk_183 0 1 (dk_at dksX12_init_0 5 rfl rfl)
theorem dX12_init_8 : decode cX12_init 8 = .ok (.aload_n 0, 1) := dk_42 (dk_at dksX12_init_0 8 rfl rfl)
theorem dX12_init_9 : decode cX12_init 9 = .ok (.iload_n 1, 1) := dk_27 (dk_at dksX12_init_0 9 rfl rfl)
theorem dX12_init_10 : decode cX12_init 10 = .ok (.putfield 7, 3) := dk_181 0 7 (dk_at dksX12_init_0 10 rfl rfl)
theorem dX12_init_13 : decode cX12_init 13 = .ok (.return_, 1) := dk_177 (dk_at dksX12_init_0 13 rfl rfl)
abbrev cX12_where : ByteArray := prog_22_method_3_code
def yX12_where : MethodName := ⟨RX12, "where", "()I"⟩
theorem dX12_where_0 : decode cX12_where 0 = .ok (.aload_n 0, 1) := by decide +kernel
theorem dX12_where_1 : decode cX12_where 1 = .ok (.getfield 7, 3) := by decide +kernel
theorem dX12_where_4 : decode cX12_where 4 = .ok (.ireturn, 1) := by decide +kernel
theorem q151 : (Jvm.Cond.initialized "TranslationBureau$TextError") ∈ lw_all := lw_g (lw_at lw_m1 34 rfl) rfl
theorem q1206 : (Jvm.Cond.instanceMethod ({ cls := "TranslationBureau$TextError", name := "<init>", desc := "(I)V" } : Jvm.MethodName)) ∈ lw_all := lw_g (lw_at lw_m5 129 rfl) rfl
theorem q1207 : (Jvm.Cond.code ({ cls := "TranslationBureau$TextError", name := "<init>", desc := "(I)V" } : Jvm.MethodName) prog_22_method_1_code (2 : Nat) (Option.none : Option Jvm.ClassFile.FieldType)) ∈ lw_all := lw_g (lw_at lw_m5 130 rfl) rfl
theorem q1208 : (Jvm.Cond.methodLink "TranslationBureau$TextError" (1 : Nat) ({ cls := "java/lang/Exception", name := "<init>", desc := "(Ljava/lang/String;Ljava/lang/Throwable;ZZ)V" } : Jvm.MethodName)) ∈ lw_all := lw_g (lw_at lw_m5 131 rfl) rfl
theorem q1215 : (Jvm.Cond.fieldLink "TranslationBureau$TextError" (7 : Nat) "TranslationBureau$TextError" "position" "I") ∈ lw_all := lw_g (lw_at lw_m5 138 rfl) rfl
theorem q1219 : (Jvm.Cond.soleField "TranslationBureau$TextError" "position") ∈ lw_all := lw_g (lw_at lw_m5 142 rfl) rfl
theorem q1548 : (Jvm.Cond.declares ({ cls := "TranslationBureau$TextError", name := "kind", desc := "()I" } : Jvm.MethodName)) ∈ lw_tbl := lw_at lw_m6 231 rfl
theorem q1549 : (Jvm.Cond.sameMethod "TranslationBureau$TextError" "TranslationBureau$TextError" "kind" "()I") ∈ lw_all := lw_g (lw_at lw_m6 232 rfl) rfl
theorem q1557 : (Jvm.Cond.instanceMethod ({ cls := "TranslationBureau$TextError", name := "where", desc := "()I" } : Jvm.MethodName)) ∈ lw_all := lw_g (lw_at lw_m7 0 rfl) rfl
theorem q1558 : (Jvm.Cond.sameMethod "TranslationBureau$TextError" "TranslationBureau$TextError" "where" "()I") ∈ lw_all := lw_g (lw_at lw_m7 1 rfl) rfl
theorem q1561 : (Jvm.Cond.code ({ cls := "TranslationBureau$TextError", name := "where", desc := "()I" } : Jvm.MethodName) prog_22_method_3_code (1 : Nat) (Option.some Jvm.ClassFile.FieldType.int)) ∈ lw_all := lw_g (lw_at lw_m7 4 rfl) rfl

/-! TranslationBureau$SyntaxError -/
set_option maxRecDepth 100000
def RX13 : String := "TranslationBureau$SyntaxError"
def TX13 : u_T := fun k => match k with
  | 0 => ("TranslationBureau$TextError", "position", "I", true)
  | 1 => ("java/lang/Throwable", "cause", "Ljava/lang/Throwable;", false)
  | 2 => ("java/lang/Throwable", "stackTrace", "[Ljava/lang/StackTraceElement;", false)
  | 3 => ("java/lang/Throwable", "suppressedExceptions", "Ljava/util/List;", false)
  | 4 => ("java/lang/Throwable", "detailMessage", "Ljava/lang/String;", false)
  | 5 => ("java/lang/Throwable", "backtrace", "Ljava/lang/Object;", false)
  | 6 => ("java/lang/Throwable", "depth", "I", false)
  | _ => ("TranslationBureau$SyntaxError", "isIllegal", "Z", true)
def tyX13 : Nat → FieldType := fun k => match k with
  | 0 => .int
  | 1 => .object "java/lang/Throwable"
  | 2 => .array (.object "java/lang/StackTraceElement")
  | 3 => .object "java/util/List"
  | 4 => .object "java/lang/String"
  | 5 => .object "java/lang/Object"
  | 6 => .int
  | _ => .boolean
abbrev wsX130 : List Cond := u_ws RX13 TX13 8
theorem nmX13 : ∀ a, a < 8 → ∀ b, b < 8 → a ≠ b → (TX13 a).2.1 ≠ (TX13 b).2.1 := by decide +kernel
theorem tyX13_ok : ∀ k, k < 8 → parseFieldDescriptor (TX13 k).2.2.1 = some (tyX13 k) := by decide +kernel
abbrev cX13_init : ByteArray := prog_20_method_1_code
def yX13_init : MethodName := ⟨RX13, "<init>", "(IZ)V"⟩
def dkwX13_init_0 : List UInt8 := [42, 27, 183, 0, 1, 42, 28, 181, 0, 7, 177]
abbrev dktX13_init_0 : List UInt8 := dkwX13_init_0 ++ []
theorem dksX13_init_0 : cX13_init.data.toList.drop 0 = dktX13_init_0 := by decide +kernel
theorem dX13_init_0 : decode cX13_init 0 = .ok (.aload_n 0, 1) := dk_42 (dk_at dksX13_init_0 0 rfl rfl)
theorem dX13_init_1 : decode cX13_init 1 = .ok (.iload_n 1, 1) := dk_27 (dk_at dksX13_init_0 1 rfl rfl)
theorem dX13_init_2 : decode cX13_init 2 = .ok (.invokespecial 1, 3) := dk_183 0 1 (dk_at dksX13_init_0 2 rfl rfl)
theorem dX13_init_5 : decode cX13_init 5 = .ok (.aload_n 0, 1) := dk_42 (dk_at dksX13_init_0 5 rfl rfl)
theorem dX13_init_6 : decode cX13_init 6 = .ok (.iload_n 2, 1) := dk_28 (dk_at dksX13_init_0 6 rfl rfl)
theorem dX13_init_7 : decode cX13_init 7 = .ok (.putfield 7, 3) := dk_181 0 7 (dk_at dksX13_init_0 7 rfl rfl)
theorem dX13_init_10 : decode cX13_init 10 = .ok (.return_, 1) := dk_177 (dk_at dksX13_init_0 10 rfl rfl)
abbrev cX13_kind : ByteArray := prog_20_method_2_code
def yX13_kind : MethodName := ⟨RX13, "kind", "()I"⟩
def dkwX13_kind_0 : List UInt8 := [42, 180, 0, 7, 153, 0, 7, 4, 167, 0, 4, 5, 172]
abbrev dktX13_kind_0 : List UInt8 := dkwX13_kind_0 ++ []
theorem dksX13_kind_0 : cX13_kind.data.toList.drop 0 = dktX13_kind_0 := by decide +kernel
theorem dX13_kind_0 : decode cX13_kind 0 = .ok (.aload_n 0, 1) := dk_42 (dk_at dksX13_kind_0 0 rfl rfl)
theorem dX13_kind_1 : decode cX13_kind 1 = .ok (.getfield 7, 3) := dk_180 0 7 (dk_at dksX13_kind_0 1 rfl rfl)
theorem dX13_kind_4 : decode cX13_kind 4 = .ok (.ifCond .eq 7, 3) := dk_153 0 7 (dk_at dksX13_kind_0 4 rfl rfl)
theorem dX13_kind_7 : decode cX13_kind 7 = .ok (.iconst 1, 1) := dk_4 (dk_at dksX13_kind_0 7 rfl rfl)
theorem dX13_kind_8 : decode cX13_kind 8 = .ok (.goto 4, 3) := dk_167 0 4 (dk_at dksX13_kind_0 8 rfl rfl)
theorem dX13_kind_11 : decode cX13_kind 11 = .ok (.iconst 2, 1) := dk_5 (dk_at dksX13_kind_0 11 rfl rfl)
theorem dX13_kind_12 : decode cX13_kind 12 = .ok (.ireturn, 1) := dk_172 (dk_at dksX13_kind_0 12 rfl rfl)
theorem q152 : (Jvm.Cond.initialized "TranslationBureau$SyntaxError") ∈ lw_all := lw_g (lw_at lw_m1 35 rfl) rfl
theorem q501 : (Jvm.Cond.selects "TranslationBureau$SyntaxError" ({ cls := "java/lang/Throwable", name := "fillInStackTrace", desc := "()Ljava/lang/Throwable;" } : Jvm.MethodName) ({ cls := "java/lang/Throwable", name := "fillInStackTrace", desc := "()Ljava/lang/Throwable;" } : Jvm.MethodName)) ∈ lw_all := lw_g (lw_at lw_m2 144 rfl) rfl
theorem q1194 : (Jvm.Cond.instantiable "TranslationBureau$SyntaxError" (8 : Nat)) ∈ lw_all := lw_g (lw_at lw_m5 117 rfl) rfl
theorem q1195 : (Jvm.Cond.castable "TranslationBureau$SyntaxError" "TranslationBureau$SyntaxError") ∈ lw_tbl := lw_at lw_m5 118 rfl
theorem q1196 : (Jvm.Cond.selects "TranslationBureau$SyntaxError" ({ cls := "java/lang/Throwable", name := "fillInStackTrace", desc := "(I)Ljava/lang/Throwable;" } : Jvm.MethodName) ({ cls := "java/lang/Throwable", name := "fillInStackTrace", desc := "(I)Ljava/lang/Throwable;" } : Jvm.MethodName)) ∈ lw_all := lw_g (lw_at lw_m5 119 rfl) rfl
theorem q1197 : (Jvm.Cond.lays "TranslationBureau$SyntaxError" "java/lang/Throwable" "cause" "Ljava/lang/Throwable;") ∈ lw_all := lw_g (lw_at lw_m5 120 rfl) rfl
theorem q1198 : (Jvm.Cond.lays "TranslationBureau$SyntaxError" "java/lang/Throwable" "stackTrace" "[Ljava/lang/StackTraceElement;") ∈ lw_all := lw_g (lw_at lw_m5 121 rfl) rfl
theorem q1199 : (Jvm.Cond.lays "TranslationBureau$SyntaxError" "java/lang/Throwable" "suppressedExceptions" "Ljava/util/List;") ∈ lw_all := lw_g (lw_at lw_m5 122 rfl) rfl
theorem q1200 : (Jvm.Cond.lays "TranslationBureau$SyntaxError" "java/lang/Throwable" "detailMessage" "Ljava/lang/String;") ∈ lw_all := lw_g (lw_at lw_m5 123 rfl) rfl
theorem q1201 : (Jvm.Cond.lays "TranslationBureau$SyntaxError" "java/lang/Throwable" "backtrace" "Ljava/lang/Object;") ∈ lw_all := lw_g (lw_at lw_m5 124 rfl) rfl
theorem q1203 : (Jvm.Cond.instanceMethod ({ cls := "TranslationBureau$SyntaxError", name := "<init>", desc := "(IZ)V" } : Jvm.MethodName)) ∈ lw_all := lw_g (lw_at lw_m5 126 rfl) rfl
theorem q1204 : (Jvm.Cond.code ({ cls := "TranslationBureau$SyntaxError", name := "<init>", desc := "(IZ)V" } : Jvm.MethodName) prog_20_method_1_code (3 : Nat) (Option.none : Option Jvm.ClassFile.FieldType)) ∈ lw_all := lw_g (lw_at lw_m5 127 rfl) rfl
theorem q1205 : (Jvm.Cond.methodLink "TranslationBureau$SyntaxError" (1 : Nat) ({ cls := "TranslationBureau$TextError", name := "<init>", desc := "(I)V" } : Jvm.MethodName)) ∈ lw_all := lw_g (lw_at lw_m5 128 rfl) rfl
theorem q1214 : (Jvm.Cond.fieldLink "TranslationBureau$SyntaxError" (7 : Nat) "TranslationBureau$SyntaxError" "isIllegal" "Z") ∈ lw_all := lw_g (lw_at lw_m5 137 rfl) rfl
theorem q1216 : (Jvm.Cond.laysFinal "TranslationBureau$SyntaxError" "TranslationBureau$SyntaxError" "isIllegal" "Z") ∈ lw_all := lw_g (lw_at lw_m5 139 rfl) rfl
theorem q1217 : (Jvm.Cond.soleField "TranslationBureau$SyntaxError" "isIllegal") ∈ lw_all := lw_g (lw_at lw_m5 140 rfl) rfl
theorem q1218 : (Jvm.Cond.laysFinal "TranslationBureau$SyntaxError" "TranslationBureau$TextError" "position" "I") ∈ lw_all := lw_g (lw_at lw_m5 141 rfl) rfl
theorem q1220 : (Jvm.Cond.lays "TranslationBureau$SyntaxError" "java/lang/Throwable" "depth" "I") ∈ lw_all := lw_g (lw_at lw_m5 143 rfl) rfl
theorem q1221 : (Jvm.Cond.superclass "TranslationBureau$SyntaxError" "TranslationBureau$TextError") ∈ lw_all := lw_g (lw_at lw_m5 144 rfl) rfl
theorem q1316 : (Jvm.Cond.selects "TranslationBureau$SyntaxError" ({ cls := "java/lang/Object", name := "equals", desc := "(Ljava/lang/Object;)Z" } : Jvm.MethodName) ({ cls := "java/lang/Object", name := "equals", desc := "(Ljava/lang/Object;)Z" } : Jvm.MethodName)) ∈ lw_all := lw_g (lw_at lw_m5 239 rfl) rfl
theorem q1384 : (Jvm.Cond.selects "TranslationBureau$SyntaxError" ({ cls := "java/lang/Object", name := "getClass", desc := "()Ljava/lang/Class;" } : Jvm.MethodName) ({ cls := "java/lang/Object", name := "getClass", desc := "()Ljava/lang/Class;" } : Jvm.MethodName)) ∈ lw_all := lw_g (lw_at lw_m6 67 rfl) rfl
theorem q1553 : (Jvm.Cond.selects "TranslationBureau$SyntaxError" ({ cls := "TranslationBureau$TextError", name := "kind", desc := "()I" } : Jvm.MethodName) ({ cls := "TranslationBureau$SyntaxError", name := "kind", desc := "()I" } : Jvm.MethodName)) ∈ lw_all := lw_g (lw_at lw_m6 236 rfl) rfl
theorem q1554 : (Jvm.Cond.instanceMethod ({ cls := "TranslationBureau$SyntaxError", name := "kind", desc := "()I" } : Jvm.MethodName)) ∈ lw_all := lw_g (lw_at lw_m6 237 rfl) rfl
theorem q1555 : (Jvm.Cond.code ({ cls := "TranslationBureau$SyntaxError", name := "kind", desc := "()I" } : Jvm.MethodName) prog_20_method_2_code (1 : Nat) (Option.some Jvm.ClassFile.FieldType.int)) ∈ lw_all := lw_g (lw_at lw_m6 238 rfl) rfl
theorem q1560 : (Jvm.Cond.selects "TranslationBureau$SyntaxError" ({ cls := "TranslationBureau$TextError", name := "where", desc := "()I" } : Jvm.MethodName) ({ cls := "TranslationBureau$TextError", name := "where", desc := "()I" } : Jvm.MethodName)) ∈ lw_all := lw_g (lw_at lw_m7 3 rfl) rfl
theorem q3123 : (Jvm.Cond.castable "TranslationBureau$SyntaxError" "java/lang/Object") ∈ lw_tbl := lw_at lw_m13 126 rfl
theorem in_X13 : ∀ w ∈ wsX130, w ∈ lw_all := lw_in wsX130 [1218, 1197, 1198, 1199, 1200, 1201, 1220, 1216] (by decide +kernel) (by decide +kernel)

/-! TranslationBureau$Misfit -/
set_option maxRecDepth 100000
def RX14 : String := "TranslationBureau$Misfit"
def TX14 : u_T := fun k => match k with
  | 0 => ("TranslationBureau$TextError", "position", "I", true)
  | 1 => ("java/lang/Throwable", "cause", "Ljava/lang/Throwable;", false)
  | 2 => ("java/lang/Throwable", "stackTrace", "[Ljava/lang/StackTraceElement;", false)
  | 3 => ("java/lang/Throwable", "suppressedExceptions", "Ljava/util/List;", false)
  | 4 => ("java/lang/Throwable", "detailMessage", "Ljava/lang/String;", false)
  | 5 => ("java/lang/Throwable", "backtrace", "Ljava/lang/Object;", false)
  | 6 => ("java/lang/Throwable", "depth", "I", false)
  | _ => ("TranslationBureau$Misfit", "kind", "I", true)
def tyX14 : Nat → FieldType := fun k => match k with
  | 0 => .int
  | 1 => .object "java/lang/Throwable"
  | 2 => .array (.object "java/lang/StackTraceElement")
  | 3 => .object "java/util/List"
  | 4 => .object "java/lang/String"
  | 5 => .object "java/lang/Object"
  | 6 => .int
  | _ => .int
abbrev wsX140 : List Cond := u_ws RX14 TX14 8
theorem nmX14 : ∀ a, a < 8 → ∀ b, b < 8 → a ≠ b → (TX14 a).2.1 ≠ (TX14 b).2.1 := by decide +kernel
theorem tyX14_ok : ∀ k, k < 8 → parseFieldDescriptor (TX14 k).2.2.1 = some (tyX14 k) := by decide +kernel
abbrev cX14_init : ByteArray := prog_5_method_1_code
def yX14_init : MethodName := ⟨RX14, "<init>", "(II)V"⟩
def dkwX14_init_0 : List UInt8 := [42, 27, 183, 0, 1, 42, 28, 181, 0, 7, 177]
abbrev dktX14_init_0 : List UInt8 := dkwX14_init_0 ++ []
theorem dksX14_init_0 : cX14_init.data.toList.drop 0 = dktX14_init_0 := by decide +kernel
theorem dX14_init_0 : decode cX14_init 0 = .ok (.aload_n 0, 1) := dk_42 (dk_at dksX14_init_0 0 rfl rfl)
theorem dX14_init_1 : decode cX14_init 1 = .ok (.iload_n 1, 1) := dk_27 (dk_at dksX14_init_0 1 rfl rfl)
theorem dX14_init_2 : decode cX14_init 2 = .ok (.invokespecial 1, 3) := dk_183 0 1 (dk_at dksX14_init_0 2 rfl rfl)
theorem dX14_init_5 : decode cX14_init 5 = .ok (.aload_n 0, 1) := dk_42 (dk_at dksX14_init_0 5 rfl rfl)
theorem dX14_init_6 : decode cX14_init 6 = .ok (.iload_n 2, 1) := dk_28 (dk_at dksX14_init_0 6 rfl rfl)
theorem dX14_init_7 : decode cX14_init 7 = .ok (.putfield 7, 3) := dk_181 0 7 (dk_at dksX14_init_0 7 rfl rfl)
theorem dX14_init_10 : decode cX14_init 10 = .ok (.return_, 1) := dk_177 (dk_at dksX14_init_0 10 rfl rfl)
abbrev cX14_kind : ByteArray := prog_5_method_2_code
def yX14_kind : MethodName := ⟨RX14, "kind", "()I"⟩
theorem dX14_kind_0 : decode cX14_kind 0 = .ok (.aload_n 0, 1) := by decide +kernel
theorem dX14_kind_1 : decode cX14_kind 1 = .ok (.getfield 7, 3) := by decide +kernel
theorem dX14_kind_4 : decode cX14_kind 4 = .ok (.ireturn, 1) := by decide +kernel
theorem q153 : (Jvm.Cond.initialized "TranslationBureau$Misfit") ∈ lw_all := lw_g (lw_at lw_m1 36 rfl) rfl
theorem q500 : (Jvm.Cond.selects "TranslationBureau$Misfit" ({ cls := "java/lang/Throwable", name := "fillInStackTrace", desc := "()Ljava/lang/Throwable;" } : Jvm.MethodName) ({ cls := "java/lang/Throwable", name := "fillInStackTrace", desc := "()Ljava/lang/Throwable;" } : Jvm.MethodName)) ∈ lw_all := lw_g (lw_at lw_m2 143 rfl) rfl
theorem q1243 : (Jvm.Cond.instantiable "TranslationBureau$Misfit" (8 : Nat)) ∈ lw_all := lw_g (lw_at lw_m5 166 rfl) rfl
theorem q1244 : (Jvm.Cond.castable "TranslationBureau$Misfit" "TranslationBureau$Misfit") ∈ lw_tbl := lw_at lw_m5 167 rfl
theorem q1245 : (Jvm.Cond.selects "TranslationBureau$Misfit" ({ cls := "java/lang/Throwable", name := "fillInStackTrace", desc := "(I)Ljava/lang/Throwable;" } : Jvm.MethodName) ({ cls := "java/lang/Throwable", name := "fillInStackTrace", desc := "(I)Ljava/lang/Throwable;" } : Jvm.MethodName)) ∈ lw_all := lw_g (lw_at lw_m5 168 rfl) rfl
theorem q1246 : (Jvm.Cond.lays "TranslationBureau$Misfit" "java/lang/Throwable" "cause" "Ljava/lang/Throwable;") ∈ lw_all := lw_g (lw_at lw_m5 169 rfl) rfl
theorem q1247 : (Jvm.Cond.lays "TranslationBureau$Misfit" "java/lang/Throwable" "stackTrace" "[Ljava/lang/StackTraceElement;") ∈ lw_all := lw_g (lw_at lw_m5 170 rfl) rfl
theorem q1248 : (Jvm.Cond.lays "TranslationBureau$Misfit" "java/lang/Throwable" "suppressedExceptions" "Ljava/util/List;") ∈ lw_all := lw_g (lw_at lw_m5 171 rfl) rfl
theorem q1249 : (Jvm.Cond.lays "TranslationBureau$Misfit" "java/lang/Throwable" "detailMessage" "Ljava/lang/String;") ∈ lw_all := lw_g (lw_at lw_m5 172 rfl) rfl
theorem q1250 : (Jvm.Cond.lays "TranslationBureau$Misfit" "java/lang/Throwable" "backtrace" "Ljava/lang/Object;") ∈ lw_all := lw_g (lw_at lw_m5 173 rfl) rfl
theorem q1252 : (Jvm.Cond.instanceMethod ({ cls := "TranslationBureau$Misfit", name := "<init>", desc := "(II)V" } : Jvm.MethodName)) ∈ lw_all := lw_g (lw_at lw_m5 175 rfl) rfl
theorem q1253 : (Jvm.Cond.code ({ cls := "TranslationBureau$Misfit", name := "<init>", desc := "(II)V" } : Jvm.MethodName) prog_5_method_1_code (3 : Nat) (Option.none : Option Jvm.ClassFile.FieldType)) ∈ lw_all := lw_g (lw_at lw_m5 176 rfl) rfl
theorem q1254 : (Jvm.Cond.methodLink "TranslationBureau$Misfit" (1 : Nat) ({ cls := "TranslationBureau$TextError", name := "<init>", desc := "(I)V" } : Jvm.MethodName)) ∈ lw_all := lw_g (lw_at lw_m5 177 rfl) rfl
theorem q1255 : (Jvm.Cond.fieldLink "TranslationBureau$Misfit" (7 : Nat) "TranslationBureau$Misfit" "kind" "I") ∈ lw_all := lw_g (lw_at lw_m5 178 rfl) rfl
theorem q1256 : (Jvm.Cond.laysFinal "TranslationBureau$Misfit" "TranslationBureau$Misfit" "kind" "I") ∈ lw_all := lw_g (lw_at lw_m5 179 rfl) rfl
theorem q1257 : (Jvm.Cond.soleField "TranslationBureau$Misfit" "kind") ∈ lw_all := lw_g (lw_at lw_m5 180 rfl) rfl
theorem q1258 : (Jvm.Cond.laysFinal "TranslationBureau$Misfit" "TranslationBureau$TextError" "position" "I") ∈ lw_all := lw_g (lw_at lw_m5 181 rfl) rfl
theorem q1259 : (Jvm.Cond.lays "TranslationBureau$Misfit" "java/lang/Throwable" "depth" "I") ∈ lw_all := lw_g (lw_at lw_m5 182 rfl) rfl
theorem q1260 : (Jvm.Cond.superclass "TranslationBureau$Misfit" "TranslationBureau$TextError") ∈ lw_all := lw_g (lw_at lw_m5 183 rfl) rfl
theorem q1302 : (Jvm.Cond.selects "TranslationBureau$Misfit" ({ cls := "java/lang/Object", name := "equals", desc := "(Ljava/lang/Object;)Z" } : Jvm.MethodName) ({ cls := "java/lang/Object", name := "equals", desc := "(Ljava/lang/Object;)Z" } : Jvm.MethodName)) ∈ lw_all := lw_g (lw_at lw_m5 225 rfl) rfl
theorem q1370 : (Jvm.Cond.selects "TranslationBureau$Misfit" ({ cls := "java/lang/Object", name := "getClass", desc := "()Ljava/lang/Class;" } : Jvm.MethodName) ({ cls := "java/lang/Object", name := "getClass", desc := "()Ljava/lang/Class;" } : Jvm.MethodName)) ∈ lw_all := lw_g (lw_at lw_m6 53 rfl) rfl
theorem q1550 : (Jvm.Cond.selects "TranslationBureau$Misfit" ({ cls := "TranslationBureau$TextError", name := "kind", desc := "()I" } : Jvm.MethodName) ({ cls := "TranslationBureau$Misfit", name := "kind", desc := "()I" } : Jvm.MethodName)) ∈ lw_all := lw_g (lw_at lw_m6 233 rfl) rfl
theorem q1551 : (Jvm.Cond.instanceMethod ({ cls := "TranslationBureau$Misfit", name := "kind", desc := "()I" } : Jvm.MethodName)) ∈ lw_all := lw_g (lw_at lw_m6 234 rfl) rfl
theorem q1552 : (Jvm.Cond.code ({ cls := "TranslationBureau$Misfit", name := "kind", desc := "()I" } : Jvm.MethodName) prog_5_method_2_code (1 : Nat) (Option.some Jvm.ClassFile.FieldType.int)) ∈ lw_all := lw_g (lw_at lw_m6 235 rfl) rfl
theorem q1559 : (Jvm.Cond.selects "TranslationBureau$Misfit" ({ cls := "TranslationBureau$TextError", name := "where", desc := "()I" } : Jvm.MethodName) ({ cls := "TranslationBureau$TextError", name := "where", desc := "()I" } : Jvm.MethodName)) ∈ lw_all := lw_g (lw_at lw_m7 2 rfl) rfl
theorem q3124 : (Jvm.Cond.castable "TranslationBureau$Misfit" "java/lang/Object") ∈ lw_tbl := lw_at lw_m13 127 rfl
theorem in_X14 : ∀ w ∈ wsX140, w ∈ lw_all := lw_in wsX140 [1258, 1246, 1247, 1248, 1249, 1250, 1259, 1256] (by decide +kernel) (by decide +kernel)

/-! TranslationBureau$Term -/
set_option maxRecDepth 100000
def RX15 : String := "TranslationBureau$Term"
def TX15 : u_T := fun k => match k with
  | 0 => ("TranslationBureau$Term", "word", "Ljava/lang/String;", true)
  | _ => ("TranslationBureau$Term", "says", "Ljava/lang/String;", true)
def tyX15 : Nat → FieldType := fun k => match k with
  | 0 => .object "java/lang/String"
  | _ => .object "java/lang/String"
abbrev wsX150 : List Cond := u_ws RX15 TX15 2
theorem nmX15 : ∀ a, a < 2 → ∀ b, b < 2 → a ≠ b → (TX15 a).2.1 ≠ (TX15 b).2.1 := by decide +kernel
theorem tyX15_ok : ∀ k, k < 2 → parseFieldDescriptor (TX15 k).2.2.1 = some (tyX15 k) := by decide +kernel
abbrev cX15_init : ByteArray := prog_21_method_1_code
def yX15_init : MethodName := ⟨RX15, "<init>", "(Ljava/lang/String;Ljava/lang/String;)V"⟩
def dkwX15_init_0 : List UInt8 := [42, 183, 0, 1, 42, 43, 181, 0, 7, 42, 44, 181, 0, 13, 177]
abbrev dktX15_init_0 : List UInt8 := dkwX15_init_0 ++ []
theorem dksX15_init_0 : cX15_init.data.toList.drop 0 = dktX15_init_0 := by decide +kernel
theorem dX15_init_0 : decode cX15_init 0 = .ok (.aload_n 0, 1) := dk_42 (dk_at dksX15_init_0 0 rfl rfl)
theorem dX15_init_1 : decode cX15_init 1 = .ok (.invokespecial 1, 3) := dk_183 0 1 (dk_at dksX15_init_0 1 rfl rfl)
theorem dX15_init_4 : decode cX15_init 4 = .ok (.aload_n 0, 1) := dk_42 (dk_at dksX15_init_0 4 rfl rfl)
theorem dX15_init_5 : decode cX15_init 5 = .ok (.aload_n 1, 1) := dk_43 (dk_at dksX15_init_0 5 rfl rfl)
theorem dX15_init_6 : decode cX15_init 6 = .ok (.putfield 7, 3) := dk_181 0 7 (dk_at dksX15_init_0 6 rfl rfl)
theorem dX15_init_9 : decode cX15_init 9 = .ok (.aload_n 0, 1) := dk_42 (dk_at dksX15_init_0 9 rfl rfl)
theorem dX15_init_10 : decode cX15_init 10 = .ok (.aload_n 2, 1) := dk_44 (dk_at dksX15_init_0 10 rfl rfl)
theorem dX15_init_11 : decode cX15_init 11 = .ok (.putfield 13, 3) := dk_181 0 13 (dk_at dksX15_init_0 11 rfl rfl)
theorem dX15_init_14 : decode cX15_init 14 = .ok (.return_, 1) := dk_177 (dk_at dksX15_init_0 14 rfl rfl)
theorem q155 : (Jvm.Cond.initialized "TranslationBureau$Term") ∈ lw_all := lw_g (lw_at lw_m1 38 rfl) rfl
theorem q1317 : (Jvm.Cond.selects "TranslationBureau$Term" ({ cls := "java/lang/Object", name := "equals", desc := "(Ljava/lang/Object;)Z" } : Jvm.MethodName) ({ cls := "java/lang/Object", name := "equals", desc := "(Ljava/lang/Object;)Z" } : Jvm.MethodName)) ∈ lw_all := lw_g (lw_at lw_m6 0 rfl) rfl
theorem q1385 : (Jvm.Cond.selects "TranslationBureau$Term" ({ cls := "java/lang/Object", name := "getClass", desc := "()Ljava/lang/Class;" } : Jvm.MethodName) ({ cls := "java/lang/Object", name := "getClass", desc := "()Ljava/lang/Class;" } : Jvm.MethodName)) ∈ lw_all := lw_g (lw_at lw_m6 68 rfl) rfl
theorem q1427 : (Jvm.Cond.instantiable "TranslationBureau$Term" (2 : Nat)) ∈ lw_all := lw_g (lw_at lw_m6 110 rfl) rfl
theorem q1429 : (Jvm.Cond.instanceMethod ({ cls := "TranslationBureau$Term", name := "<init>", desc := "(Ljava/lang/String;Ljava/lang/String;)V" } : Jvm.MethodName)) ∈ lw_all := lw_g (lw_at lw_m6 112 rfl) rfl
theorem q1430 : (Jvm.Cond.code ({ cls := "TranslationBureau$Term", name := "<init>", desc := "(Ljava/lang/String;Ljava/lang/String;)V" } : Jvm.MethodName) prog_21_method_1_code (3 : Nat) (Option.none : Option Jvm.ClassFile.FieldType)) ∈ lw_all := lw_g (lw_at lw_m6 113 rfl) rfl
theorem q1431 : (Jvm.Cond.methodLink "TranslationBureau$Term" (1 : Nat) ({ cls := "java/lang/Object", name := "<init>", desc := "()V" } : Jvm.MethodName)) ∈ lw_all := lw_g (lw_at lw_m6 114 rfl) rfl
theorem q1432 : (Jvm.Cond.fieldLink "TranslationBureau$Term" (7 : Nat) "TranslationBureau$Term" "word" "Ljava/lang/String;") ∈ lw_all := lw_g (lw_at lw_m6 115 rfl) rfl
theorem q1435 : (Jvm.Cond.fieldLink "TranslationBureau$Term" (13 : Nat) "TranslationBureau$Term" "says" "Ljava/lang/String;") ∈ lw_all := lw_g (lw_at lw_m6 118 rfl) rfl
theorem q1438 : (Jvm.Cond.laysFinal "TranslationBureau$Term" "TranslationBureau$Term" "word" "Ljava/lang/String;") ∈ lw_all := lw_g (lw_at lw_m6 121 rfl) rfl
theorem q1439 : (Jvm.Cond.soleField "TranslationBureau$Term" "word") ∈ lw_all := lw_g (lw_at lw_m6 122 rfl) rfl
theorem q1440 : (Jvm.Cond.laysFinal "TranslationBureau$Term" "TranslationBureau$Term" "says" "Ljava/lang/String;") ∈ lw_all := lw_g (lw_at lw_m6 123 rfl) rfl
theorem q1441 : (Jvm.Cond.soleField "TranslationBureau$Term" "says") ∈ lw_all := lw_g (lw_at lw_m6 124 rfl) rfl
theorem q1442 : (Jvm.Cond.superclass "TranslationBureau$Term" "java/lang/Object") ∈ lw_all := lw_g (lw_at lw_m6 125 rfl) rfl
theorem q3126 : (Jvm.Cond.castable "TranslationBureau$Term" "java/lang/Object") ∈ lw_tbl := lw_at lw_m13 129 rfl
theorem in_X15 : ∀ w ∈ wsX150, w ∈ lw_all := lw_in wsX150 [1438, 1440] (by decide +kernel) (by decide +kernel)

/-! TranslationBureau$Job -/
set_option maxRecDepth 100000
def RX16 : String := "TranslationBureau$Job"
def TX16 : u_T := fun k => match k with
  | 0 => ("TranslationBureau$Job", "translator", "I", false)
  | 1 => ("TranslationBureau$Job", "reviser", "I", false)
  | 2 => ("TranslationBureau$Job", "hours", "I", false)
  | _ => ("TranslationBureau$Job", "followed", "I", false)
def tyX16 : Nat → FieldType := fun k => match k with
  | 0 => .int
  | 1 => .int
  | 2 => .int
  | _ => .int
abbrev wsX160 : List Cond := u_ws RX16 TX16 4
theorem nmX16 : ∀ a, a < 4 → ∀ b, b < 4 → a ≠ b → (TX16 a).2.1 ≠ (TX16 b).2.1 := by decide +kernel
theorem tyX16_ok : ∀ k, k < 4 → parseFieldDescriptor (TX16 k).2.2.1 = some (tyX16 k) := by decide +kernel
abbrev cX16_init : ByteArray := prog_3_method_1_code
def yX16_init : MethodName := ⟨RX16, "<init>", "(IIII)V"⟩
def dkwX16_init_1 : List UInt8 := [181, 0, 19, 177]
abbrev dktX16_init_1 : List UInt8 := dkwX16_init_1 ++ []
def dkwX16_init_0 : List UInt8 := [42, 183, 0, 1, 42, 27, 181, 0, 7, 42, 28, 181, 0, 13, 42, 29, 181, 0, 16, 42, 21, 4]
abbrev dktX16_init_0 : List UInt8 := dkwX16_init_0 ++ dktX16_init_1
theorem dksX16_init_0 : cX16_init.data.toList.drop 0 = dktX16_init_0 := by decide +kernel
theorem dksX16_init_1 : cX16_init.data.toList.drop 22 = dktX16_init_1 := dk_seg dksX16_init_0 22 rfl rfl
theorem dX16_init_0 : decode cX16_init 0 = .ok (.aload_n 0, 1) := dk_42 (dk_at dksX16_init_0 0 rfl rfl)
theorem dX16_init_1 : decode cX16_init 1 = .ok (.invokespecial 1, 3) := dk_183 0 1 (dk_at dksX16_init_0 1 rfl rfl)
theorem dX16_init_4 : decode cX16_init 4 = .ok (.aload_n 0, 1) := dk_42 (dk_at dksX16_init_0 4 rfl rfl)
theorem dX16_init_5 : decode cX16_init 5 = .ok (.iload_n 1, 1) := dk_27 (dk_at dksX16_init_0 5 rfl rfl)
theorem dX16_init_6 : decode cX16_init 6 = .ok (.putfield 7, 3) := dk_181 0 7 (dk_at dksX16_init_0 6 rfl rfl)
theorem dX16_init_9 : decode cX16_init 9 = .ok (.aload_n 0, 1) := dk_42 (dk_at dksX16_init_0 9 rfl rfl)
theorem dX16_init_10 : decode cX16_init 10 = .ok (.iload_n 2, 1) := dk_28 (dk_at dksX16_init_0 10 rfl rfl)
theorem dX16_init_11 : decode cX16_init 11 = .ok (.putfield 13, 3) := dk_181 0 13 (dk_at dksX16_init_0 11 rfl rfl)
theorem dX16_init_14 : decode cX16_init 14 = .ok (.aload_n 0, 1) := dk_42 (dk_at dksX16_init_0 14 rfl rfl)
theorem dX16_init_15 : decode cX16_init 15 = .ok (.iload_n 3, 1) := dk_29 (dk_at dksX16_init_0 15 rfl rfl)
theorem dX16_init_16 : decode cX16_init 16 = .ok (.putfield 16, 3) := dk_181 0 16 (dk_at dksX16_init_0 16 rfl rfl)
theorem dX16_init_19 : decode cX16_init 19 = .ok (.aload_n 0, 1) := dk_42 (dk_at dksX16_init_0 19 rfl rfl)
theorem dX16_init_20 : decode cX16_init 20 = .ok (.iload 4, 2) := dk_21 4 (dk_at dksX16_init_0 20 rfl rfl)
theorem dX16_init_22 : decode cX16_init 22 = .ok (.putfield 19, 3) := dk_181 0 19 (dk_at dksX16_init_1 0 rfl rfl)
theorem dX16_init_25 : decode cX16_init 25 = .ok (.return_, 1) := dk_177 (dk_at dksX16_init_1 3 rfl rfl)
abbrev cX16_copy : ByteArray := prog_3_method_2_code
def yX16_copy : MethodName := ⟨RX16, "copy", "()LTranslationBureau$Job;"⟩
def dkwX16_copy_0 : List UInt8 := [187, 0, 8, 89, 42, 180, 0, 7, 42, 180, 0, 13, 42, 180, 0, 16, 42, 180, 0, 19, 183, 0, 22, 176]
abbrev dktX16_copy_0 : List UInt8 := dkwX16_copy_0 ++ []
theorem dksX16_copy_0 : cX16_copy.data.toList.drop 0 = dktX16_copy_0 := by decide +kernel
theorem dX16_copy_0 : decode cX16_copy 0 = .ok (.new 8, 3) := dk_187 0 8 (dk_at dksX16_copy_0 0 rfl rfl)
theorem dX16_copy_3 : decode cX16_copy 3 = .ok (.dup, 1) := dk_89 (dk_at dksX16_copy_0 3 rfl rfl)
theorem dX16_copy_4 : decode cX16_copy 4 = .ok (.aload_n 0, 1) := dk_42 (dk_at dksX16_copy_0 4 rfl rfl)
theorem dX16_copy_5 : decode cX16_copy 5 = .ok (.getfield 7, 3) := dk_180 0 7 (dk_at dksX16_copy_0 5 rfl rfl)
theorem dX16_copy_8 : decode cX16_copy 8 = .ok (.aload_n 0, 1) := dk_42 (dk_at dksX16_copy_0 8 rfl rfl)
theorem dX16_copy_9 : decode cX16_copy 9 = .ok (.getfield 13, 3) := dk_180 0 13 (dk_at dksX16_copy_0 9 rfl rfl)
theorem dX16_copy_12 : decode cX16_copy 12 = .ok (.aload_n 0, 1) := dk_42 (dk_at dksX16_copy_0 12 rfl rfl)
theorem dX16_copy_13 : decode cX16_copy 13 = .ok (.getfield 16, 3) := dk_180 0 16 (dk_at dksX16_copy_0 13 rfl rfl)
theorem dX16_copy_16 : decode cX16_copy 16 = .ok (.aload_n 0, 1) := dk_42 (dk_at dksX16_copy_0 16 rfl rfl)
theorem dX16_copy_17 : decode cX16_copy 17 = .ok (.getfield 19, 3) := dk_180 0 19 (dk_at dksX16_copy_0 17 rfl rfl)
theorem dX16_copy_20 : decode cX16_copy 20 = .ok (.invokespecial 22, 3) := dk_183 0 22 (dk_at dksX16_copy_0 20 rfl rfl)
theorem dX16_copy_23 : decode cX16_copy 23 = .ok (.areturn, 1) := dk_176 (dk_at dksX16_copy_0 23 rfl rfl)
theorem q156 : (Jvm.Cond.initialized "TranslationBureau$Job") ∈ lw_all := lw_g (lw_at lw_m1 39 rfl) rfl
theorem q1298 : (Jvm.Cond.selects "TranslationBureau$Job" ({ cls := "java/lang/Object", name := "equals", desc := "(Ljava/lang/Object;)Z" } : Jvm.MethodName) ({ cls := "java/lang/Object", name := "equals", desc := "(Ljava/lang/Object;)Z" } : Jvm.MethodName)) ∈ lw_all := lw_g (lw_at lw_m5 221 rfl) rfl
theorem q1368 : (Jvm.Cond.selects "TranslationBureau$Job" ({ cls := "java/lang/Object", name := "getClass", desc := "()Ljava/lang/Class;" } : Jvm.MethodName) ({ cls := "java/lang/Object", name := "getClass", desc := "()Ljava/lang/Class;" } : Jvm.MethodName)) ∈ lw_all := lw_g (lw_at lw_m6 51 rfl) rfl
theorem q1458 : (Jvm.Cond.instantiable "TranslationBureau$Job" (4 : Nat)) ∈ lw_all := lw_g (lw_at lw_m6 141 rfl) rfl
theorem q1460 : (Jvm.Cond.instanceMethod ({ cls := "TranslationBureau$Job", name := "<init>", desc := "(IIII)V" } : Jvm.MethodName)) ∈ lw_all := lw_g (lw_at lw_m6 143 rfl) rfl
theorem q1461 : (Jvm.Cond.code ({ cls := "TranslationBureau$Job", name := "<init>", desc := "(IIII)V" } : Jvm.MethodName) prog_3_method_1_code (5 : Nat) (Option.none : Option Jvm.ClassFile.FieldType)) ∈ lw_all := lw_g (lw_at lw_m6 144 rfl) rfl
theorem q1462 : (Jvm.Cond.methodLink "TranslationBureau$Job" (1 : Nat) ({ cls := "java/lang/Object", name := "<init>", desc := "()V" } : Jvm.MethodName)) ∈ lw_all := lw_g (lw_at lw_m6 145 rfl) rfl
theorem q1463 : (Jvm.Cond.fieldLink "TranslationBureau$Job" (7 : Nat) "TranslationBureau$Job" "translator" "I") ∈ lw_all := lw_g (lw_at lw_m6 146 rfl) rfl
theorem q1466 : (Jvm.Cond.fieldLink "TranslationBureau$Job" (13 : Nat) "TranslationBureau$Job" "reviser" "I") ∈ lw_all := lw_g (lw_at lw_m6 149 rfl) rfl
theorem q1469 : (Jvm.Cond.fieldLink "TranslationBureau$Job" (16 : Nat) "TranslationBureau$Job" "hours" "I") ∈ lw_all := lw_g (lw_at lw_m6 152 rfl) rfl
theorem q1472 : (Jvm.Cond.fieldLink "TranslationBureau$Job" (19 : Nat) "TranslationBureau$Job" "followed" "I") ∈ lw_all := lw_g (lw_at lw_m6 155 rfl) rfl
theorem q1475 : (Jvm.Cond.lays "TranslationBureau$Job" "TranslationBureau$Job" "translator" "I") ∈ lw_all := lw_g (lw_at lw_m6 158 rfl) rfl
theorem q1476 : (Jvm.Cond.soleField "TranslationBureau$Job" "translator") ∈ lw_all := lw_g (lw_at lw_m6 159 rfl) rfl
theorem q1477 : (Jvm.Cond.lays "TranslationBureau$Job" "TranslationBureau$Job" "reviser" "I") ∈ lw_all := lw_g (lw_at lw_m6 160 rfl) rfl
theorem q1478 : (Jvm.Cond.soleField "TranslationBureau$Job" "reviser") ∈ lw_all := lw_g (lw_at lw_m6 161 rfl) rfl
theorem q1479 : (Jvm.Cond.lays "TranslationBureau$Job" "TranslationBureau$Job" "hours" "I") ∈ lw_all := lw_g (lw_at lw_m6 162 rfl) rfl
theorem q1480 : (Jvm.Cond.soleField "TranslationBureau$Job" "hours") ∈ lw_all := lw_g (lw_at lw_m6 163 rfl) rfl
theorem q1481 : (Jvm.Cond.lays "TranslationBureau$Job" "TranslationBureau$Job" "followed" "I") ∈ lw_all := lw_g (lw_at lw_m6 164 rfl) rfl
theorem q1482 : (Jvm.Cond.soleField "TranslationBureau$Job" "followed") ∈ lw_all := lw_g (lw_at lw_m6 165 rfl) rfl
theorem q1483 : (Jvm.Cond.superclass "TranslationBureau$Job" "java/lang/Object") ∈ lw_all := lw_g (lw_at lw_m6 166 rfl) rfl
theorem q1618 : (Jvm.Cond.instanceMethod ({ cls := "TranslationBureau$Job", name := "copy", desc := "()LTranslationBureau$Job;" } : Jvm.MethodName)) ∈ lw_all := lw_g (lw_at lw_m7 61 rfl) rfl
theorem q1619 : (Jvm.Cond.selects "TranslationBureau$Job" ({ cls := "TranslationBureau$Job", name := "copy", desc := "()LTranslationBureau$Job;" } : Jvm.MethodName) ({ cls := "TranslationBureau$Job", name := "copy", desc := "()LTranslationBureau$Job;" } : Jvm.MethodName)) ∈ lw_all := lw_g (lw_at lw_m7 62 rfl) rfl
theorem q1620 : (Jvm.Cond.code ({ cls := "TranslationBureau$Job", name := "copy", desc := "()LTranslationBureau$Job;" } : Jvm.MethodName) prog_3_method_2_code (1 : Nat) (Option.some (Jvm.ClassFile.FieldType.object "TranslationBureau$Job"))) ∈ lw_all := lw_g (lw_at lw_m7 63 rfl) rfl
theorem q1621 : (Jvm.Cond.classLink "TranslationBureau$Job" (8 : Nat) "TranslationBureau$Job") ∈ lw_all := lw_g (lw_at lw_m7 64 rfl) rfl
theorem q1622 : (Jvm.Cond.methodLink "TranslationBureau$Job" (22 : Nat) ({ cls := "TranslationBureau$Job", name := "<init>", desc := "(IIII)V" } : Jvm.MethodName)) ∈ lw_all := lw_g (lw_at lw_m7 65 rfl) rfl
theorem q3127 : (Jvm.Cond.castable "TranslationBureau$Job" "java/lang/Object") ∈ lw_tbl := lw_at lw_m13 130 rfl
theorem in_X16 : ∀ w ∈ wsX160, w ∈ lw_all := lw_in wsX160 [1475, 1477, 1479, 1481] (by decide +kernel) (by decide +kernel)

/-! TranslationBureau$Segment -/
set_option maxRecDepth 100000
def RX17 : String := "TranslationBureau$Segment"
def TX17 : u_T := fun k => match k with
  | 0 => ("TranslationBureau$Segment", "job", "I", true)
  | 1 => ("TranslationBureau$Segment", "source", "Ljava/util/List;", true)
  | _ => ("TranslationBureau$Segment", "target", "Ljava/util/List;", true)
def tyX17 : Nat → FieldType := fun k => match k with
  | 0 => .int
  | 1 => .object "java/util/List"
  | _ => .object "java/util/List"
abbrev wsX170 : List Cond := u_ws RX17 TX17 3
theorem nmX17 : ∀ a, a < 3 → ∀ b, b < 3 → a ≠ b → (TX17 a).2.1 ≠ (TX17 b).2.1 := by decide +kernel
theorem tyX17_ok : ∀ k, k < 3 → parseFieldDescriptor (TX17 k).2.2.1 = some (tyX17 k) := by decide +kernel
abbrev cX17_likenessTo : ByteArray := prog_17_method_7_code
def yX17_likenessTo : MethodName := ⟨RX17, "likenessTo", "(LTranslationBureau$Segment;)I"⟩
def dkwX17_likenessTo_1 : List UInt8 := [172]
abbrev dktX17_likenessTo_1 : List UInt8 := dkwX17_likenessTo_1 ++ []
def dkwX17_likenessTo_0 : List UInt8 := [42, 182, 0, 39, 43, 182, 0, 39, 184, 0, 54, 61, 16, 100, 28, 42, 43, 182, 0, 57, 100, 104, 28, 108]
abbrev dktX17_likenessTo_0 : List UInt8 := dkwX17_likenessTo_0 ++ dktX17_likenessTo_1
theorem dksX17_likenessTo_0 : cX17_likenessTo.data.toList.drop 0 = dktX17_likenessTo_0 := by decide +kernel
theorem dksX17_likenessTo_1 : cX17_likenessTo.data.toList.drop 24 = dktX17_likenessTo_1 := dk_seg dksX17_likenessTo_0 24 rfl rfl
theorem dX17_likenessTo_0 : decode cX17_likenessTo 0 = .ok (.aload_n 0, 1) := dk_42 (dk_at dksX17_likenessTo_0 0 rfl rfl)
theorem dX17_likenessTo_1 : decode cX17_likenessTo 1 = .ok (.invokevirtual 39, 3) := dk_182 0 39 (dk_at dksX17_likenessTo_0 1 rfl rfl)
theorem dX17_likenessTo_4 : decode cX17_likenessTo 4 = .ok (.aload_n 1, 1) := dk_43 (dk_at dksX17_likenessTo_0 4 rfl rfl)
theorem dX17_likenessTo_5 : decode cX17_likenessTo 5 = .ok (.invokevirtual 39, 3) := dk_182 0 39 (dk_at dksX17_likenessTo_0 5 rfl rfl)
theorem dX17_likenessTo_8 : decode cX17_likenessTo 8 = .ok (.invokestatic 54, 3) := dk_184 0 54 (dk_at dksX17_likenessTo_0 8 rfl rfl)
theorem dX17_likenessTo_11 : decode cX17_likenessTo 11 = .ok (.istore_n 2, 1) := dk_61 (dk_at dksX17_likenessTo_0 11 rfl rfl)
theorem dX17_likenessTo_12 : decode cX17_likenessTo 12 = .ok (.bipush 100, 2) := dk_16 100 (dk_at dksX17_likenessTo_0 12 rfl rfl)
theorem dX17_likenessTo_14 : decode cX17_likenessTo 14 = .ok (.iload_n 2, 1) := dk_28 (dk_at dksX17_likenessTo_0 14 rfl rfl)
theorem dX17_likenessTo_15 : decode cX17_likenessTo 15 = .ok (.aload_n 0, 1) := dk_42 (dk_at dksX17_likenessTo_0 15 rfl rfl)
theorem dX17_likenessTo_16 : decode cX17_likenessTo 16 = .ok (.aload_n 1, 1) := dk_43 (dk_at dksX17_likenessTo_0 16 rfl rfl)
theorem dX17_likenessTo_17 : decode cX17_likenessTo 17 = .ok (.invokevirtual 57, 3) := dk_182 0 57 (dk_at dksX17_likenessTo_0 17 rfl rfl)
theorem dX17_likenessTo_20 : decode cX17_likenessTo 20 = .ok (.isub, 1) := dk_100 (dk_at dksX17_likenessTo_0 20 rfl rfl)
theorem dX17_likenessTo_21 : decode cX17_likenessTo 21 = .ok (.imul, 1) := dk_104 (dk_at dksX17_likenessTo_0 21 rfl rfl)
theorem dX17_likenessTo_22 : decode cX17_likenessTo 22 = .ok (.iload_n 2, 1) := dk_28 (dk_at dksX17_likenessTo_0 22 rfl rfl)
theorem dX17_likenessTo_23 : decode cX17_likenessTo 23 = .ok (.idiv, 1) := dk_108 (dk_at dksX17_likenessTo_0 23 rfl rfl)
theorem dX17_likenessTo_24 : decode cX17_likenessTo 24 = .ok (.ireturn, 1) := dk_172 (dk_at dksX17_likenessTo_1 0 rfl rfl)
abbrev cX17_many : ByteArray := prog_17_method_3_code
def yX17_many : MethodName := ⟨RX17, "many", "()I"⟩
def dkwX17_many_0 : List UInt8 := [42, 180, 0, 15, 185, 0, 25, 1, 0, 172]
abbrev dktX17_many_0 : List UInt8 := dkwX17_many_0 ++ []
theorem dksX17_many_0 : cX17_many.data.toList.drop 0 = dktX17_many_0 := by decide +kernel
theorem dX17_many_0 : decode cX17_many 0 = .ok (.aload_n 0, 1) := dk_42 (dk_at dksX17_many_0 0 rfl rfl)
theorem dX17_many_1 : decode cX17_many 1 = .ok (.getfield 15, 3) := dk_180 0 15 (dk_at dksX17_many_0 1 rfl rfl)
theorem dX17_many_4 : decode cX17_many 4 = .ok (.invokeinterface 25 1, 5) := by decide +kernel
theorem dX17_many_9 : decode cX17_many 9 = .ok (.ireturn, 1) := dk_172 (dk_at dksX17_many_0 9 rfl rfl)
abbrev cX17_stepsTo : ByteArray := prog_17_method_6_code
def yX17_stepsTo : MethodName := ⟨RX17, "stepsTo", "(LTranslationBureau$Segment;)I"⟩
def dkwX17_stepsTo_6 : List UInt8 := [167, 255, 146, 44, 44, 190, 4, 100, 46, 172]
abbrev dktX17_stepsTo_6 : List UInt8 := dkwX17_stepsTo_6 ++ []
def dkwX17_stepsTo_5 : List UInt8 := [21, 5, 4, 100, 46, 184, 0, 48, 4, 96, 184, 0, 48, 79, 132, 5, 1, 167, 255, 174, 132, 3, 1]
abbrev dktX17_stepsTo_5 : List UInt8 := dkwX17_stepsTo_5 ++ dktX17_stepsTo_6
def dkwX17_stepsTo_4 : List UInt8 := [167, 0, 4, 4, 96, 54, 6, 44, 21, 5, 46, 54, 4, 44, 21, 5, 21, 6, 44, 21, 5, 46, 44]
abbrev dktX17_stepsTo_4 : List UInt8 := dkwX17_stepsTo_4 ++ dktX17_stepsTo_5
def dkwX17_stepsTo_3 : List UInt8 := [192, 0, 42, 43, 180, 0, 15, 21, 5, 4, 100, 185, 0, 31, 2, 0, 182, 0, 44, 153, 0, 7, 3]
abbrev dktX17_stepsTo_3 : List UInt8 := dkwX17_stepsTo_3 ++ dktX17_stepsTo_4
def dkwX17_stepsTo_2 : List UInt8 := [4, 54, 5, 21, 5, 44, 190, 162, 0, 81, 21, 4, 42, 180, 0, 15, 29, 185, 0, 31, 2, 0]
abbrev dktX17_stepsTo_2 : List UInt8 := dkwX17_stepsTo_2 ++ dktX17_stepsTo_3
def dkwX17_stepsTo_1 : List UInt8 := [167, 255, 243, 3, 62, 29, 42, 182, 0, 39, 162, 0, 108, 44, 3, 46, 54, 4, 44, 3, 29, 4, 96, 79]
abbrev dktX17_stepsTo_1 : List UInt8 := dkwX17_stepsTo_1 ++ dktX17_stepsTo_2
def dkwX17_stepsTo_0 : List UInt8 := [43, 182, 0, 39, 4, 96, 188, 10, 77, 3, 62, 29, 44, 190, 162, 0, 13, 44, 29, 29, 79, 132, 3, 1]
abbrev dktX17_stepsTo_0 : List UInt8 := dkwX17_stepsTo_0 ++ dktX17_stepsTo_1
theorem dksX17_stepsTo_0 : cX17_stepsTo.data.toList.drop 0 = dktX17_stepsTo_0 := by decide +kernel
theorem dksX17_stepsTo_1 : cX17_stepsTo.data.toList.drop 24 = dktX17_stepsTo_1 := dk_seg dksX17_stepsTo_0 24 rfl rfl
theorem dksX17_stepsTo_2 : cX17_stepsTo.data.toList.drop 48 = dktX17_stepsTo_2 := dk_seg dksX17_stepsTo_1 24 rfl rfl
theorem dksX17_stepsTo_3 : cX17_stepsTo.data.toList.drop 70 = dktX17_stepsTo_3 := dk_seg dksX17_stepsTo_2 22 rfl rfl
theorem dksX17_stepsTo_4 : cX17_stepsTo.data.toList.drop 93 = dktX17_stepsTo_4 := dk_seg dksX17_stepsTo_3 23 rfl rfl
theorem dksX17_stepsTo_5 : cX17_stepsTo.data.toList.drop 116 = dktX17_stepsTo_5 := dk_seg dksX17_stepsTo_4 23 rfl rfl
theorem dksX17_stepsTo_6 : cX17_stepsTo.data.toList.drop 139 = dktX17_stepsTo_6 := dk_seg dksX17_stepsTo_5 23 rfl rfl
theorem dX17_stepsTo_0 : decode cX17_stepsTo 0 = .ok (.aload_n 1, 1) := dk_43 (dk_at dksX17_stepsTo_0 0 rfl rfl)
theorem dX17_stepsTo_1 : decode cX17_stepsTo 1 = .ok (.invokevirtual 39, 3) := dk_182 0 39 (dk_at dksX17_stepsTo_0 1 rfl rfl)
theorem dX17_stepsTo_4 : decode cX17_stepsTo 4 = .ok (.iconst 1, 1) := dk_4 (dk_at dksX17_stepsTo_0 4 rfl rfl)
theorem dX17_stepsTo_5 : decode cX17_stepsTo 5 = .ok (.iadd, 1) := dk_96 (dk_at dksX17_stepsTo_0 5 rfl rfl)
theorem dX17_stepsTo_6 : decode cX17_stepsTo 6 = .ok (.newarray .int, 2) := dk_188_10 (dk_at dksX17_stepsTo_0 6 rfl rfl)
theorem dX17_stepsTo_8 : decode cX17_stepsTo 8 = .ok (.astore_n 2, 1) := dk_77 (dk_at dksX17_stepsTo_0 8 rfl rfl)
theorem dX17_stepsTo_9 : decode cX17_stepsTo 9 = .ok (.iconst 0, 1) := dk_3 (dk_at dksX17_stepsTo_0 9 rfl rfl)
theorem dX17_stepsTo_10 : decode cX17_stepsTo 10 = .ok (.istore_n 3, 1) := dk_62 (dk_at dksX17_stepsTo_0 10 rfl rfl)
theorem dX17_stepsTo_11 : decode cX17_stepsTo 11 = .ok (.iload_n 3, 1) := dk_29 (dk_at dksX17_stepsTo_0 11 rfl rfl)
theorem dX17_stepsTo_12 : decode cX17_stepsTo 12 = .ok (.aload_n 2, 1) := dk_44 (dk_at dksX17_stepsTo_0 12 rfl rfl)
theorem dX17_stepsTo_13 : decode cX17_stepsTo 13 = .ok (.arraylength, 1) := dk_190 (dk_at dksX17_stepsTo_0 13 rfl rfl)
theorem dX17_stepsTo_14 : decode cX17_stepsTo 14 = .ok (.if_icmp .ge 13, 3) := dk_162 0 13 (dk_at dksX17_stepsTo_0 14 rfl rfl)
theorem dX17_stepsTo_17 : decode cX17_stepsTo 17 = .ok (.aload_n 2, 1) := dk_44 (dk_at dksX17_stepsTo_0 17 rfl rfl)
theorem dX17_stepsTo_18 : decode cX17_stepsTo 18 = .ok (.iload_n 3, 1) := dk_29 (dk_at dksX17_stepsTo_0 18 rfl rfl)
theorem dX17_stepsTo_19 : decode cX17_stepsTo 19 = .ok (.iload_n 3, 1) := dk_29 (dk_at dksX17_stepsTo_0 19 rfl rfl)
theorem dX17_stepsTo_20 : decode cX17_stepsTo 20 = .ok (.iastore, 1) := dk_79 (dk_at dksX17_stepsTo_0 20 rfl rfl)
theorem dX17_stepsTo_21 : decode cX17_stepsTo 21 = .ok (.iinc 3 1, 3) := dk_132 3 1 (dk_at dksX17_stepsTo_0 21 rfl rfl)
theorem dX17_stepsTo_24 : decode cX17_stepsTo 24 = .ok (.goto (-13), 3) := dk_167 255 243 (dk_at dksX17_stepsTo_1 0 rfl rfl)
theorem dX17_stepsTo_27 : decode cX17_stepsTo 27 = .ok (.iconst 0, 1) := dk_3 (dk_at dksX17_stepsTo_1 3 rfl rfl)
theorem dX17_stepsTo_28 : decode cX17_stepsTo 28 = .ok (.istore_n 3, 1) := dk_62 (dk_at dksX17_stepsTo_1 4 rfl rfl)
theorem dX17_stepsTo_29 : decode cX17_stepsTo 29 = .ok (.iload_n 3, 1) := dk_29 (dk_at dksX17_stepsTo_1 5 rfl rfl)
theorem dX17_stepsTo_30 : decode cX17_stepsTo 30 = .ok (.aload_n 0, 1) := dk_42 (dk_at dksX17_stepsTo_1 6 rfl rfl)
theorem dX17_stepsTo_31 : decode cX17_stepsTo 31 = .ok (.invokevirtual 39, 3) := dk_182 0 39 (dk_at dksX17_stepsTo_1 7 rfl rfl)
theorem dX17_stepsTo_34 : decode cX17_stepsTo 34 = .ok (.if_icmp .ge 108, 3) := dk_162 0 108 (dk_at dksX17_stepsTo_1 10 rfl rfl)
theorem dX17_stepsTo_37 : decode cX17_stepsTo 37 = .ok (.aload_n 2, 1) := dk_44 (dk_at dksX17_stepsTo_1 13 rfl rfl)
theorem dX17_stepsTo_38 : decode cX17_stepsTo 38 = .ok (.iconst 0, 1) := dk_3 (dk_at dksX17_stepsTo_1 14 rfl rfl)
theorem dX17_stepsTo_39 : decode cX17_stepsTo 39 = .ok (.iaload, 1) := dk_46 (dk_at dksX17_stepsTo_1 15 rfl rfl)
theorem dX17_stepsTo_40 : decode cX17_stepsTo 40 = .ok (.istore 4, 2) := dk_54 4 (dk_at dksX17_stepsTo_1 16 rfl rfl)
theorem dX17_stepsTo_42 : decode cX17_stepsTo 42 = .ok (.aload_n 2, 1) := dk_44 (dk_at dksX17_stepsTo_1 18 rfl rfl)
theorem dX17_stepsTo_43 : decode cX17_stepsTo 43 = .ok (.iconst 0, 1) := dk_3 (dk_at dksX17_stepsTo_1 19 rfl rfl)
theorem dX17_stepsTo_44 : decode cX17_stepsTo 44 = .ok (.iload_n 3, 1) := dk_29 (dk_at dksX17_stepsTo_1 20 rfl rfl)
theorem dX17_stepsTo_45 : decode cX17_stepsTo 45 = .ok (.iconst 1, 1) := dk_4 (dk_at dksX17_stepsTo_1 21 rfl rfl)
theorem dX17_stepsTo_46 : decode cX17_stepsTo 46 = .ok (.iadd, 1) := dk_96 (dk_at dksX17_stepsTo_1 22 rfl rfl)
theorem dX17_stepsTo_47 : decode cX17_stepsTo 47 = .ok (.iastore, 1) := dk_79 (dk_at dksX17_stepsTo_1 23 rfl rfl)
theorem dX17_stepsTo_48 : decode cX17_stepsTo 48 = .ok (.iconst 1, 1) := dk_4 (dk_at dksX17_stepsTo_2 0 rfl rfl)
theorem dX17_stepsTo_49 : decode cX17_stepsTo 49 = .ok (.istore 5, 2) := dk_54 5 (dk_at dksX17_stepsTo_2 1 rfl rfl)
theorem dX17_stepsTo_51 : decode cX17_stepsTo 51 = .ok (.iload 5, 2) := dk_21 5 (dk_at dksX17_stepsTo_2 3 rfl rfl)
theorem dX17_stepsTo_53 : decode cX17_stepsTo 53 = .ok (.aload_n 2, 1) := dk_44 (dk_at dksX17_stepsTo_2 5 rfl rfl)
theorem dX17_stepsTo_54 : decode cX17_stepsTo 54 = .ok (.arraylength, 1) := dk_190 (dk_at dksX17_stepsTo_2 6 rfl rfl)
theorem dX17_stepsTo_55 : decode cX17_stepsTo 55 = .ok (.if_icmp .ge 81, 3) := dk_162 0 81 (dk_at dksX17_stepsTo_2 7 rfl rfl)
theorem dX17_stepsTo_58 : decode cX17_stepsTo 58 = .ok (.iload 4, 2) := dk_21 4 (dk_at dksX17_stepsTo_2 10 rfl rfl)
theorem dX17_stepsTo_60 : decode cX17_stepsTo 60 = .ok (.aload_n 0, 1) := dk_42 (dk_at dksX17_stepsTo_2 12 rfl rfl)
theorem dX17_stepsTo_61 : decode cX17_stepsTo 61 = .ok (.getfield 15, 3) := dk_180 0 15 (dk_at dksX17_stepsTo_2 13 rfl rfl)
theorem dX17_stepsTo_64 : decode cX17_stepsTo 64 = .ok (.iload_n 3, 1) := dk_29 (dk_at dksX17_stepsTo_2 16 rfl rfl)
theorem dX17_stepsTo_65 : decode cX17_stepsTo 65 = .ok (.invokeinterface 31 2, 5) := by decide +kernel
theorem dX17_stepsTo_70 : decode cX17_stepsTo 70 = .ok (.checkcast 42, 3) := dk_192 0 42 (dk_at dksX17_stepsTo_3 0 rfl rfl)
theorem dX17_stepsTo_73 : decode cX17_stepsTo 73 = .ok (.aload_n 1, 1) := dk_43 (dk_at dksX17_stepsTo_3 3 rfl rfl)
theorem dX17_stepsTo_74 : decode cX17_stepsTo 74 = .ok (.getfield 15, 3) := dk_180 0 15 (dk_at dksX17_stepsTo_3 4 rfl rfl)
theorem dX17_stepsTo_77 : decode cX17_stepsTo 77 = .ok (.iload 5, 2) := dk_21 5 (dk_at dksX17_stepsTo_3 7 rfl rfl)
theorem dX17_stepsTo_79 : decode cX17_stepsTo 79 = .ok (.iconst 1, 1) := dk_4 (dk_at dksX17_stepsTo_3 9 rfl rfl)
theorem dX17_stepsTo_80 : decode cX17_stepsTo 80 = .ok (.isub, 1) := dk_100 (dk_at dksX17_stepsTo_3 10 rfl rfl)
theorem dX17_stepsTo_81 : decode cX17_stepsTo 81 = .ok (.invokeinterface 31 2, 5) := by decide +kernel
theorem dX17_stepsTo_86 : decode cX17_stepsTo 86 = .ok (.invokevirtual 44, 3) := dk_182 0 44 (dk_at dksX17_stepsTo_3 16 rfl rfl)
theorem dX17_stepsTo_89 : decode cX17_stepsTo 89 = .ok (.ifCond .eq 7, 3) := dk_153 0 7 (dk_at dksX17_stepsTo_3 19 rfl rfl)
theorem dX17_stepsTo_92 : decode cX17_stepsTo 92 = .ok (.iconst 0, 1) := dk_3 (dk_at dksX17_stepsTo_3 22 rfl rfl)
theorem dX17_stepsTo_93 : decode cX17_stepsTo 93 = .ok (.goto 4, 3) := dk_167 0 4 (dk_at dksX17_stepsTo_4 0 rfl rfl)
theorem dX17_stepsTo_96 : decode cX17_stepsTo 96 = .ok (.iconst 1, 1) := dk_4 (dk_at dksX17_stepsTo_4 3 rfl rfl)
theorem dX17_stepsTo_97 : decode cX17_stepsTo 97 = .ok (.iadd, 1) := dk_96 (dk_at dksX17_stepsTo_4 4 rfl rfl)
theorem dX17_stepsTo_98 : decode cX17_stepsTo 98 = .ok (.istore 6, 2) := dk_54 6 (dk_at dksX17_stepsTo_4 5 rfl rfl)
theorem dX17_stepsTo_100 : decode cX17_stepsTo 100 = .ok (.aload_n 2, 1) := dk_44 (dk_at dksX17_stepsTo_4 7 rfl rfl)
theorem dX17_stepsTo_101 : decode cX17_stepsTo 101 = .ok (.iload 5, 2) := dk_21 5 (dk_at dksX17_stepsTo_4 8 rfl rfl)
theorem dX17_stepsTo_103 : decode cX17_stepsTo 103 = .ok (.iaload, 1) := dk_46 (dk_at dksX17_stepsTo_4 10 rfl rfl)
theorem dX17_stepsTo_104 : decode cX17_stepsTo 104 = .ok (.istore 4, 2) := dk_54 4 (dk_at dksX17_stepsTo_4 11 rfl rfl)
theorem dX17_stepsTo_106 : decode cX17_stepsTo 106 = .ok (.aload_n 2, 1) := dk_44 (dk_at dksX17_stepsTo_4 13 rfl rfl)
theorem dX17_stepsTo_107 : decode cX17_stepsTo 107 = .ok (.iload 5, 2) := dk_21 5 (dk_at dksX17_stepsTo_4 14 rfl rfl)
theorem dX17_stepsTo_109 : decode cX17_stepsTo 109 = .ok (.iload 6, 2) := dk_21 6 (dk_at dksX17_stepsTo_4 16 rfl rfl)
theorem dX17_stepsTo_111 : decode cX17_stepsTo 111 = .ok (.aload_n 2, 1) := dk_44 (dk_at dksX17_stepsTo_4 18 rfl rfl)
theorem dX17_stepsTo_112 : decode cX17_stepsTo 112 = .ok (.iload 5, 2) := dk_21 5 (dk_at dksX17_stepsTo_4 19 rfl rfl)
theorem dX17_stepsTo_114 : decode cX17_stepsTo 114 = .ok (.iaload, 1) := dk_46 (dk_at dksX17_stepsTo_4 21 rfl rfl)
theorem dX17_stepsTo_115 : decode cX17_stepsTo 115 = .ok (.aload_n 2, 1) := dk_44 (dk_at dksX17_stepsTo_4 22 rfl rfl)
theorem dX17_stepsTo_116 : decode cX17_stepsTo 116 = .ok (.iload 5, 2) := dk_21 5 (dk_at dksX17_stepsTo_5 0 rfl rfl)
theorem dX17_stepsTo_118 : decode cX17_stepsTo 118 = .ok (.iconst 1, 1) := dk_4 (dk_at dksX17_stepsTo_5 2 rfl rfl)
theorem dX17_stepsTo_119 : decode cX17_stepsTo 119 = .ok (.isub, 1) := dk_100 (dk_at dksX17_stepsTo_5 3 rfl rfl)
theorem dX17_stepsTo_120 : decode cX17_stepsTo 120 = .ok (.iaload, 1) := dk_46 (dk_at dksX17_stepsTo_5 4 rfl rfl)
theorem dX17_stepsTo_121 : decode cX17_stepsTo 121 = .ok (.invokestatic 48, 3) := dk_184 0 48 (dk_at dksX17_stepsTo_5 5 rfl rfl)
theorem dX17_stepsTo_124 : decode cX17_stepsTo 124 = .ok (.iconst 1, 1) := dk_4 (dk_at dksX17_stepsTo_5 8 rfl rfl)
theorem dX17_stepsTo_125 : decode cX17_stepsTo 125 = .ok (.iadd, 1) := dk_96 (dk_at dksX17_stepsTo_5 9 rfl rfl)
theorem dX17_stepsTo_126 : decode cX17_stepsTo 126 = .ok (.invokestatic 48, 3) := dk_184 0 48 (dk_at dksX17_stepsTo_5 10 rfl rfl)
theorem dX17_stepsTo_129 : decode cX17_stepsTo 129 = .ok (.iastore, 1) := dk_79 (dk_at dksX17_stepsTo_5 13 rfl rfl)
theorem dX17_stepsTo_130 : decode cX17_stepsTo 130 = .ok (.iinc 5 1, 3) := dk_132 5 1 (dk_at dksX17_stepsTo_5 14 rfl rfl)
theorem dX17_stepsTo_133 : decode cX17_stepsTo 133 = .ok (.goto (-82), 3) := dk_167 255 174 (dk_at dksX17_stepsTo_5 17 rfl rfl)
theorem dX17_stepsTo_136 : decode cX17_stepsTo 136 = .ok (.iinc 3 1, 3) := dk_132 3 1 (dk_at dksX17_stepsTo_5 20 rfl rfl)
theorem dX17_stepsTo_139 : decode cX17_stepsTo 139 = .ok (.goto (-110), 3) := dk_167 255 146 (dk_at dksX17_stepsTo_6 0 rfl rfl)
theorem dX17_stepsTo_142 : decode cX17_stepsTo 142 = .ok (.aload_n 2, 1) := dk_44 (dk_at dksX17_stepsTo_6 3 rfl rfl)
theorem dX17_stepsTo_143 : decode cX17_stepsTo 143 = .ok (.aload_n 2, 1) := dk_44 (dk_at dksX17_stepsTo_6 4 rfl rfl)
theorem dX17_stepsTo_144 : decode cX17_stepsTo 144 = .ok (.arraylength, 1) := dk_190 (dk_at dksX17_stepsTo_6 5 rfl rfl)
theorem dX17_stepsTo_145 : decode cX17_stepsTo 145 = .ok (.iconst 1, 1) := dk_4 (dk_at dksX17_stepsTo_6 6 rfl rfl)
theorem dX17_stepsTo_146 : decode cX17_stepsTo 146 = .ok (.isub, 1) := dk_100 (dk_at dksX17_stepsTo_6 7 rfl rfl)
theorem dX17_stepsTo_147 : decode cX17_stepsTo 147 = .ok (.iaload, 1) := dk_46 (dk_at dksX17_stepsTo_6 8 rfl rfl)
theorem dX17_stepsTo_148 : decode cX17_stepsTo 148 = .ok (.ireturn, 1) := dk_172 (dk_at dksX17_stepsTo_6 9 rfl rfl)
abbrev cX17_init : ByteArray := prog_17_method_1_code
def yX17_init : MethodName := ⟨RX17, "<init>", "(ILjava/util/List;Ljava/util/List;)V"⟩
def dkwX17_init_0 : List UInt8 := [42, 183, 0, 3, 42, 27, 181, 0, 9, 42, 44, 181, 0, 15, 42, 45, 181, 0, 19, 177]
abbrev dktX17_init_0 : List UInt8 := dkwX17_init_0 ++ []
theorem dksX17_init_0 : cX17_init.data.toList.drop 0 = dktX17_init_0 := by decide +kernel
theorem dX17_init_0 : decode cX17_init 0 = .ok (.aload_n 0, 1) := dk_42 (dk_at dksX17_init_0 0 rfl rfl)
theorem dX17_init_1 : decode cX17_init 1 = .ok (.invokespecial 3, 3) := dk_183 0 3 (dk_at dksX17_init_0 1 rfl rfl)
theorem dX17_init_4 : decode cX17_init 4 = .ok (.aload_n 0, 1) := dk_42 (dk_at dksX17_init_0 4 rfl rfl)
theorem dX17_init_5 : decode cX17_init 5 = .ok (.iload_n 1, 1) := dk_27 (dk_at dksX17_init_0 5 rfl rfl)
theorem dX17_init_6 : decode cX17_init 6 = .ok (.putfield 9, 3) := dk_181 0 9 (dk_at dksX17_init_0 6 rfl rfl)
theorem dX17_init_9 : decode cX17_init 9 = .ok (.aload_n 0, 1) := dk_42 (dk_at dksX17_init_0 9 rfl rfl)
theorem dX17_init_10 : decode cX17_init 10 = .ok (.aload_n 2, 1) := dk_44 (dk_at dksX17_init_0 10 rfl rfl)
theorem dX17_init_11 : decode cX17_init 11 = .ok (.putfield 15, 3) := dk_181 0 15 (dk_at dksX17_init_0 11 rfl rfl)
theorem dX17_init_14 : decode cX17_init 14 = .ok (.aload_n 0, 1) := dk_42 (dk_at dksX17_init_0 14 rfl rfl)
theorem dX17_init_15 : decode cX17_init 15 = .ok (.aload_n 3, 1) := dk_45 (dk_at dksX17_init_0 15 rfl rfl)
theorem dX17_init_16 : decode cX17_init 16 = .ok (.putfield 19, 3) := dk_181 0 19 (dk_at dksX17_init_0 16 rfl rfl)
theorem dX17_init_19 : decode cX17_init 19 = .ok (.return_, 1) := dk_177 (dk_at dksX17_init_0 19 rfl rfl)
abbrev cX17_isFirstPlace : ByteArray := prog_17_method_5_code
def yX17_isFirstPlace : MethodName := ⟨RX17, "isFirstPlace", "(I)Z"⟩
def dkwX17_isFirstPlace_1 : List UInt8 := [167, 0, 4, 3, 172]
abbrev dktX17_isFirstPlace_1 : List UInt8 := dkwX17_isFirstPlace_1 ++ []
def dkwX17_isFirstPlace_0 : List UInt8 := [42, 180, 0, 15, 42, 180, 0, 15, 27, 185, 0, 31, 2, 0, 185, 0, 35, 2, 0, 27, 160, 0, 7, 4]
abbrev dktX17_isFirstPlace_0 : List UInt8 := dkwX17_isFirstPlace_0 ++ dktX17_isFirstPlace_1
theorem dksX17_isFirstPlace_0 : cX17_isFirstPlace.data.toList.drop 0 = dktX17_isFirstPlace_0 := by decide +kernel
theorem dksX17_isFirstPlace_1 : cX17_isFirstPlace.data.toList.drop 24 = dktX17_isFirstPlace_1 := dk_seg dksX17_isFirstPlace_0 24 rfl rfl
theorem dX17_isFirstPlace_0 : decode cX17_isFirstPlace 0 = .ok (.aload_n 0, 1) := dk_42 (dk_at dksX17_isFirstPlace_0 0 rfl rfl)
theorem dX17_isFirstPlace_1 : decode cX17_isFirstPlace 1 = .ok (.getfield 15, 3) := dk_180 0 15 (dk_at dksX17_isFirstPlace_0 1 rfl rfl)
theorem dX17_isFirstPlace_4 : decode cX17_isFirstPlace 4 = .ok (.aload_n 0, 1) := dk_42 (dk_at dksX17_isFirstPlace_0 4 rfl rfl)
theorem dX17_isFirstPlace_5 : decode cX17_isFirstPlace 5 = .ok (.getfield 15, 3) := dk_180 0 15 (dk_at dksX17_isFirstPlace_0 5 rfl rfl)
theorem dX17_isFirstPlace_8 : decode cX17_isFirstPlace 8 = .ok (.iload_n 1, 1) := dk_27 (dk_at dksX17_isFirstPlace_0 8 rfl rfl)
theorem dX17_isFirstPlace_9 : decode cX17_isFirstPlace 9 = .ok (.invokeinterface 31 2, 5) := by decide +kernel
theorem dX17_isFirstPlace_14 : decode cX17_isFirstPlace 14 = .ok (.invokeinterface 35 2, 5) := by decide +kernel
theorem dX17_isFirstPlace_19 : decode cX17_isFirstPlace 19 = .ok (.iload_n 1, 1) := dk_27 (dk_at dksX17_isFirstPlace_0 19 rfl rfl)
theorem dX17_isFirstPlace_20 : decode cX17_isFirstPlace 20 = .ok (.if_icmp .ne 7, 3) := dk_160 0 7 (dk_at dksX17_isFirstPlace_0 20 rfl rfl)
theorem dX17_isFirstPlace_23 : decode cX17_isFirstPlace 23 = .ok (.iconst 1, 1) := dk_4 (dk_at dksX17_isFirstPlace_0 23 rfl rfl)
theorem dX17_isFirstPlace_24 : decode cX17_isFirstPlace 24 = .ok (.goto 4, 3) := dk_167 0 4 (dk_at dksX17_isFirstPlace_1 0 rfl rfl)
theorem dX17_isFirstPlace_27 : decode cX17_isFirstPlace 27 = .ok (.iconst 0, 1) := dk_3 (dk_at dksX17_isFirstPlace_1 3 rfl rfl)
theorem dX17_isFirstPlace_28 : decode cX17_isFirstPlace 28 = .ok (.ireturn, 1) := dk_172 (dk_at dksX17_isFirstPlace_1 4 rfl rfl)
abbrev cX17_side : ByteArray := prog_17_method_4_code
def yX17_side : MethodName := ⟨RX17, "side", "(Z)Ljava/util/List;"⟩
def dkwX17_side_0 : List UInt8 := [27, 153, 0, 10, 42, 180, 0, 19, 167, 0, 7, 42, 180, 0, 15, 176]
abbrev dktX17_side_0 : List UInt8 := dkwX17_side_0 ++ []
theorem dksX17_side_0 : cX17_side.data.toList.drop 0 = dktX17_side_0 := by decide +kernel
theorem dX17_side_0 : decode cX17_side 0 = .ok (.iload_n 1, 1) := dk_27 (dk_at dksX17_side_0 0 rfl rfl)
theorem dX17_side_1 : decode cX17_side 1 = .ok (.ifCond .eq 10, 3) := dk_153 0 10 (dk_at dksX17_side_0 1 rfl rfl)
theorem dX17_side_4 : decode cX17_side 4 = .ok (.aload_n 0, 1) := dk_42 (dk_at dksX17_side_0 4 rfl rfl)
theorem dX17_side_5 : decode cX17_side 5 = .ok (.getfield 19, 3) := dk_180 0 19 (dk_at dksX17_side_0 5 rfl rfl)
theorem dX17_side_8 : decode cX17_side 8 = .ok (.goto 7, 3) := dk_167 0 7 (dk_at dksX17_side_0 8 rfl rfl)
theorem dX17_side_11 : decode cX17_side 11 = .ok (.aload_n 0, 1) := dk_42 (dk_at dksX17_side_0 11 rfl rfl)
theorem dX17_side_12 : decode cX17_side 12 = .ok (.getfield 15, 3) := dk_180 0 15 (dk_at dksX17_side_0 12 rfl rfl)
theorem dX17_side_15 : decode cX17_side 15 = .ok (.areturn, 1) := dk_176 (dk_at dksX17_side_0 15 rfl rfl)
abbrev cX17_with : ByteArray := prog_17_method_2_code
def yX17_with : MethodName := ⟨RX17, "with", "(Ljava/util/List;)LTranslationBureau$Segment;"⟩
def dkwX17_with_0 : List UInt8 := [187, 0, 10, 89, 42, 180, 0, 9, 42, 180, 0, 15, 43, 183, 0, 22, 176]
abbrev dktX17_with_0 : List UInt8 := dkwX17_with_0 ++ []
theorem dksX17_with_0 : cX17_with.data.toList.drop 0 = dktX17_with_0 := by decide +kernel
theorem dX17_with_0 : decode cX17_with 0 = .ok (.new 10, 3) := dk_187 0 10 (dk_at dksX17_with_0 0 rfl rfl)
theorem dX17_with_3 : decode cX17_with 3 = .ok (.dup, 1) := dk_89 (dk_at dksX17_with_0 3 rfl rfl)
theorem dX17_with_4 : decode cX17_with 4 = .ok (.aload_n 0, 1) := dk_42 (dk_at dksX17_with_0 4 rfl rfl)
theorem dX17_with_5 : decode cX17_with 5 = .ok (.getfield 9, 3) := dk_180 0 9 (dk_at dksX17_with_0 5 rfl rfl)
theorem dX17_with_8 : decode cX17_with 8 = .ok (.aload_n 0, 1) := dk_42 (dk_at dksX17_with_0 8 rfl rfl)
theorem dX17_with_9 : decode cX17_with 9 = .ok (.getfield 15, 3) := dk_180 0 15 (dk_at dksX17_with_0 9 rfl rfl)
theorem dX17_with_12 : decode cX17_with 12 = .ok (.aload_n 1, 1) := dk_43 (dk_at dksX17_with_0 12 rfl rfl)
theorem dX17_with_13 : decode cX17_with 13 = .ok (.invokespecial 22, 3) := dk_183 0 22 (dk_at dksX17_with_0 13 rfl rfl)
theorem dX17_with_16 : decode cX17_with 16 = .ok (.areturn, 1) := dk_176 (dk_at dksX17_with_0 16 rfl rfl)
theorem q157 : (Jvm.Cond.initialized "TranslationBureau$Segment") ∈ lw_all := lw_g (lw_at lw_m1 40 rfl) rfl
theorem q588 : (Jvm.Cond.instanceMethod ({ cls := "TranslationBureau$Segment", name := "likenessTo", desc := "(LTranslationBureau$Segment;)I" } : Jvm.MethodName)) ∈ lw_all := lw_g (lw_at lw_m2 231 rfl) rfl
theorem q589 : (Jvm.Cond.selects "TranslationBureau$Segment" ({ cls := "TranslationBureau$Segment", name := "likenessTo", desc := "(LTranslationBureau$Segment;)I" } : Jvm.MethodName) ({ cls := "TranslationBureau$Segment", name := "likenessTo", desc := "(LTranslationBureau$Segment;)I" } : Jvm.MethodName)) ∈ lw_all := lw_g (lw_at lw_m2 232 rfl) rfl
theorem q590 : (Jvm.Cond.code ({ cls := "TranslationBureau$Segment", name := "likenessTo", desc := "(LTranslationBureau$Segment;)I" } : Jvm.MethodName) prog_17_method_7_code (3 : Nat) (Option.some Jvm.ClassFile.FieldType.int)) ∈ lw_all := lw_g (lw_at lw_m2 233 rfl) rfl
theorem q591 : (Jvm.Cond.methodLink "TranslationBureau$Segment" (39 : Nat) ({ cls := "TranslationBureau$Segment", name := "many", desc := "()I" } : Jvm.MethodName)) ∈ lw_all := lw_g (lw_at lw_m2 234 rfl) rfl
theorem q592 : (Jvm.Cond.instanceMethod ({ cls := "TranslationBureau$Segment", name := "many", desc := "()I" } : Jvm.MethodName)) ∈ lw_all := lw_g (lw_at lw_m2 235 rfl) rfl
theorem q593 : (Jvm.Cond.selects "TranslationBureau$Segment" ({ cls := "TranslationBureau$Segment", name := "many", desc := "()I" } : Jvm.MethodName) ({ cls := "TranslationBureau$Segment", name := "many", desc := "()I" } : Jvm.MethodName)) ∈ lw_all := lw_g (lw_at lw_m2 236 rfl) rfl
theorem q594 : (Jvm.Cond.code ({ cls := "TranslationBureau$Segment", name := "many", desc := "()I" } : Jvm.MethodName) prog_17_method_3_code (1 : Nat) (Option.some Jvm.ClassFile.FieldType.int)) ∈ lw_all := lw_g (lw_at lw_m2 237 rfl) rfl
theorem q595 : (Jvm.Cond.interfaceEntry "TranslationBureau$Segment" (25 : Nat)) ∈ lw_tbl := lw_at lw_m2 238 rfl
theorem q596 : (Jvm.Cond.methodLink "TranslationBureau$Segment" (25 : Nat) ({ cls := "java/util/List", name := "size", desc := "()I" } : Jvm.MethodName)) ∈ lw_all := lw_g (lw_at lw_m2 239 rfl) rfl
theorem q597 : (Jvm.Cond.methodLink "TranslationBureau$Segment" (54 : Nat) ({ cls := "java/lang/Math", name := "max", desc := "(II)I" } : Jvm.MethodName)) ∈ lw_all := lw_g (lw_at lw_m3 0 rfl) rfl
theorem q600 : (Jvm.Cond.methodLink "TranslationBureau$Segment" (57 : Nat) ({ cls := "TranslationBureau$Segment", name := "stepsTo", desc := "(LTranslationBureau$Segment;)I" } : Jvm.MethodName)) ∈ lw_all := lw_g (lw_at lw_m3 3 rfl) rfl
theorem q601 : (Jvm.Cond.instanceMethod ({ cls := "TranslationBureau$Segment", name := "stepsTo", desc := "(LTranslationBureau$Segment;)I" } : Jvm.MethodName)) ∈ lw_all := lw_g (lw_at lw_m3 4 rfl) rfl
theorem q602 : (Jvm.Cond.selects "TranslationBureau$Segment" ({ cls := "TranslationBureau$Segment", name := "stepsTo", desc := "(LTranslationBureau$Segment;)I" } : Jvm.MethodName) ({ cls := "TranslationBureau$Segment", name := "stepsTo", desc := "(LTranslationBureau$Segment;)I" } : Jvm.MethodName)) ∈ lw_all := lw_g (lw_at lw_m3 5 rfl) rfl
theorem q603 : (Jvm.Cond.code ({ cls := "TranslationBureau$Segment", name := "stepsTo", desc := "(LTranslationBureau$Segment;)I" } : Jvm.MethodName) prog_17_method_6_code (7 : Nat) (Option.some Jvm.ClassFile.FieldType.int)) ∈ lw_all := lw_g (lw_at lw_m3 6 rfl) rfl
theorem q604 : (Jvm.Cond.interfaceEntry "TranslationBureau$Segment" (31 : Nat)) ∈ lw_tbl := lw_at lw_m3 7 rfl
theorem q605 : (Jvm.Cond.methodLink "TranslationBureau$Segment" (31 : Nat) ({ cls := "java/util/List", name := "get", desc := "(I)Ljava/lang/Object;" } : Jvm.MethodName)) ∈ lw_all := lw_g (lw_at lw_m3 8 rfl) rfl
theorem q606 : (Jvm.Cond.classLink "TranslationBureau$Segment" (42 : Nat) "java/lang/String") ∈ lw_all := lw_g (lw_at lw_m3 9 rfl) rfl
theorem q607 : (Jvm.Cond.methodLink "TranslationBureau$Segment" (44 : Nat) ({ cls := "java/lang/String", name := "equals", desc := "(Ljava/lang/Object;)Z" } : Jvm.MethodName)) ∈ lw_all := lw_g (lw_at lw_m3 10 rfl) rfl
theorem q616 : (Jvm.Cond.methodLink "TranslationBureau$Segment" (48 : Nat) ({ cls := "java/lang/Math", name := "min", desc := "(II)I" } : Jvm.MethodName)) ∈ lw_all := lw_g (lw_at lw_m3 19 rfl) rfl
theorem q1314 : (Jvm.Cond.selects "TranslationBureau$Segment" ({ cls := "java/lang/Object", name := "equals", desc := "(Ljava/lang/Object;)Z" } : Jvm.MethodName) ({ cls := "java/lang/Object", name := "equals", desc := "(Ljava/lang/Object;)Z" } : Jvm.MethodName)) ∈ lw_all := lw_g (lw_at lw_m5 237 rfl) rfl
theorem q1382 : (Jvm.Cond.selects "TranslationBureau$Segment" ({ cls := "java/lang/Object", name := "getClass", desc := "()Ljava/lang/Class;" } : Jvm.MethodName) ({ cls := "java/lang/Object", name := "getClass", desc := "()Ljava/lang/Class;" } : Jvm.MethodName)) ∈ lw_all := lw_g (lw_at lw_m6 65 rfl) rfl
theorem q1510 : (Jvm.Cond.instantiable "TranslationBureau$Segment" (3 : Nat)) ∈ lw_all := lw_g (lw_at lw_m6 193 rfl) rfl
theorem q1512 : (Jvm.Cond.instanceMethod ({ cls := "TranslationBureau$Segment", name := "<init>", desc := "(ILjava/util/List;Ljava/util/List;)V" } : Jvm.MethodName)) ∈ lw_all := lw_g (lw_at lw_m6 195 rfl) rfl
theorem q1513 : (Jvm.Cond.code ({ cls := "TranslationBureau$Segment", name := "<init>", desc := "(ILjava/util/List;Ljava/util/List;)V" } : Jvm.MethodName) prog_17_method_1_code (4 : Nat) (Option.none : Option Jvm.ClassFile.FieldType)) ∈ lw_all := lw_g (lw_at lw_m6 196 rfl) rfl
theorem q1514 : (Jvm.Cond.methodLink "TranslationBureau$Segment" (3 : Nat) ({ cls := "java/lang/Object", name := "<init>", desc := "()V" } : Jvm.MethodName)) ∈ lw_all := lw_g (lw_at lw_m6 197 rfl) rfl
theorem q1515 : (Jvm.Cond.fieldLink "TranslationBureau$Segment" (9 : Nat) "TranslationBureau$Segment" "job" "I") ∈ lw_all := lw_g (lw_at lw_m6 198 rfl) rfl
theorem q1519 : (Jvm.Cond.fieldLink "TranslationBureau$Segment" (15 : Nat) "TranslationBureau$Segment" "source" "Ljava/util/List;") ∈ lw_all := lw_g (lw_at lw_m6 202 rfl) rfl
theorem q1522 : (Jvm.Cond.fieldLink "TranslationBureau$Segment" (19 : Nat) "TranslationBureau$Segment" "target" "Ljava/util/List;") ∈ lw_all := lw_g (lw_at lw_m6 205 rfl) rfl
theorem q1525 : (Jvm.Cond.laysFinal "TranslationBureau$Segment" "TranslationBureau$Segment" "job" "I") ∈ lw_all := lw_g (lw_at lw_m6 208 rfl) rfl
theorem q1526 : (Jvm.Cond.soleField "TranslationBureau$Segment" "job") ∈ lw_all := lw_g (lw_at lw_m6 209 rfl) rfl
theorem q1527 : (Jvm.Cond.laysFinal "TranslationBureau$Segment" "TranslationBureau$Segment" "source" "Ljava/util/List;") ∈ lw_all := lw_g (lw_at lw_m6 210 rfl) rfl
theorem q1528 : (Jvm.Cond.soleField "TranslationBureau$Segment" "source") ∈ lw_all := lw_g (lw_at lw_m6 211 rfl) rfl
theorem q1529 : (Jvm.Cond.laysFinal "TranslationBureau$Segment" "TranslationBureau$Segment" "target" "Ljava/util/List;") ∈ lw_all := lw_g (lw_at lw_m6 212 rfl) rfl
theorem q1530 : (Jvm.Cond.soleField "TranslationBureau$Segment" "target") ∈ lw_all := lw_g (lw_at lw_m6 213 rfl) rfl
theorem q1531 : (Jvm.Cond.superclass "TranslationBureau$Segment" "java/lang/Object") ∈ lw_all := lw_g (lw_at lw_m6 214 rfl) rfl
theorem q1688 : (Jvm.Cond.instanceMethod ({ cls := "TranslationBureau$Segment", name := "isFirstPlace", desc := "(I)Z" } : Jvm.MethodName)) ∈ lw_all := lw_g (lw_at lw_m7 131 rfl) rfl
theorem q1689 : (Jvm.Cond.selects "TranslationBureau$Segment" ({ cls := "TranslationBureau$Segment", name := "isFirstPlace", desc := "(I)Z" } : Jvm.MethodName) ({ cls := "TranslationBureau$Segment", name := "isFirstPlace", desc := "(I)Z" } : Jvm.MethodName)) ∈ lw_all := lw_g (lw_at lw_m7 132 rfl) rfl
theorem q1690 : (Jvm.Cond.code ({ cls := "TranslationBureau$Segment", name := "isFirstPlace", desc := "(I)Z" } : Jvm.MethodName) prog_17_method_5_code (2 : Nat) (Option.some Jvm.ClassFile.FieldType.boolean)) ∈ lw_all := lw_g (lw_at lw_m7 133 rfl) rfl
theorem q1691 : (Jvm.Cond.interfaceEntry "TranslationBureau$Segment" (35 : Nat)) ∈ lw_tbl := lw_at lw_m7 134 rfl
theorem q1692 : (Jvm.Cond.methodLink "TranslationBureau$Segment" (35 : Nat) ({ cls := "java/util/List", name := "indexOf", desc := "(Ljava/lang/Object;)I" } : Jvm.MethodName)) ∈ lw_all := lw_g (lw_at lw_m7 135 rfl) rfl
theorem q1930 : (Jvm.Cond.instanceMethod ({ cls := "TranslationBureau$Segment", name := "side", desc := "(Z)Ljava/util/List;" } : Jvm.MethodName)) ∈ lw_all := lw_g (lw_at lw_m8 133 rfl) rfl
theorem q1931 : (Jvm.Cond.selects "TranslationBureau$Segment" ({ cls := "TranslationBureau$Segment", name := "side", desc := "(Z)Ljava/util/List;" } : Jvm.MethodName) ({ cls := "TranslationBureau$Segment", name := "side", desc := "(Z)Ljava/util/List;" } : Jvm.MethodName)) ∈ lw_all := lw_g (lw_at lw_m8 134 rfl) rfl
theorem q1932 : (Jvm.Cond.code ({ cls := "TranslationBureau$Segment", name := "side", desc := "(Z)Ljava/util/List;" } : Jvm.MethodName) prog_17_method_4_code (2 : Nat) (Option.some (Jvm.ClassFile.FieldType.object "java/util/List"))) ∈ lw_all := lw_g (lw_at lw_m8 135 rfl) rfl
theorem q2316 : (Jvm.Cond.instanceMethod ({ cls := "TranslationBureau$Segment", name := "with", desc := "(Ljava/util/List;)LTranslationBureau$Segment;" } : Jvm.MethodName)) ∈ lw_all := lw_g (lw_at lw_m10 39 rfl) rfl
theorem q2317 : (Jvm.Cond.selects "TranslationBureau$Segment" ({ cls := "TranslationBureau$Segment", name := "with", desc := "(Ljava/util/List;)LTranslationBureau$Segment;" } : Jvm.MethodName) ({ cls := "TranslationBureau$Segment", name := "with", desc := "(Ljava/util/List;)LTranslationBureau$Segment;" } : Jvm.MethodName)) ∈ lw_all := lw_g (lw_at lw_m10 40 rfl) rfl
theorem q2318 : (Jvm.Cond.code ({ cls := "TranslationBureau$Segment", name := "with", desc := "(Ljava/util/List;)LTranslationBureau$Segment;" } : Jvm.MethodName) prog_17_method_2_code (2 : Nat) (Option.some (Jvm.ClassFile.FieldType.object "TranslationBureau$Segment"))) ∈ lw_all := lw_g (lw_at lw_m10 41 rfl) rfl
theorem q2319 : (Jvm.Cond.classLink "TranslationBureau$Segment" (10 : Nat) "TranslationBureau$Segment") ∈ lw_all := lw_g (lw_at lw_m10 42 rfl) rfl
theorem q2320 : (Jvm.Cond.methodLink "TranslationBureau$Segment" (22 : Nat) ({ cls := "TranslationBureau$Segment", name := "<init>", desc := "(ILjava/util/List;Ljava/util/List;)V" } : Jvm.MethodName)) ∈ lw_all := lw_g (lw_at lw_m10 43 rfl) rfl
theorem q3128 : (Jvm.Cond.castable "TranslationBureau$Segment" "java/lang/Object") ∈ lw_tbl := lw_at lw_m13 131 rfl
theorem in_X17 : ∀ w ∈ wsX170, w ∈ lw_all := lw_in wsX170 [1525, 1527, 1529] (by decide +kernel) (by decide +kernel)

/-! TranslationBureau$Finding -/
set_option maxRecDepth 100000
def RX18 : String := "TranslationBureau$Finding"
abbrev cX18_init : ByteArray := prog_2_method_1_code
def yX18_init : MethodName := ⟨RX18, "<init>", "(I)V"⟩
def dkwX18_init_0 : List UInt8 := [42, 183, 0, 1, 42, 27, 181, 0, 7, 177]
abbrev dktX18_init_0 : List UInt8 := dkwX18_init_0 ++ []
theorem dksX18_init_0 : cX18_init.data.toList.drop 0 = dktX18_init_0 := by decide +kernel
theorem dX18_init_0 : decode cX18_init 0 = .ok (.aload_n 0, 1) := dk_42 (dk_at dksX18_init_0 0 rfl rfl)
theorem dX18_init_1 : decode cX18_init 1 = .ok (.invokespecial 1, 3) := dk_183 0 1 (dk_at dksX18_init_0 1 rfl rfl)
theorem dX18_init_4 : decode cX18_init 4 = .ok (.aload_n 0, 1) := dk_42 (dk_at dksX18_init_0 4 rfl rfl)
theorem dX18_init_5 : decode cX18_init 5 = .ok (.iload_n 1, 1) := dk_27 (dk_at dksX18_init_0 5 rfl rfl)
theorem dX18_init_6 : decode cX18_init 6 = .ok (.putfield 7, 3) := dk_181 0 7 (dk_at dksX18_init_0 6 rfl rfl)
theorem dX18_init_9 : decode cX18_init 9 = .ok (.return_, 1) := dk_177 (dk_at dksX18_init_0 9 rfl rfl)
theorem q161 : (Jvm.Cond.initialized "TranslationBureau$Finding") ∈ lw_all := lw_g (lw_at lw_m1 44 rfl) rfl
theorem q1706 : (Jvm.Cond.instanceMethod ({ cls := "TranslationBureau$Finding", name := "<init>", desc := "(I)V" } : Jvm.MethodName)) ∈ lw_all := lw_g (lw_at lw_m7 149 rfl) rfl
theorem q1707 : (Jvm.Cond.code ({ cls := "TranslationBureau$Finding", name := "<init>", desc := "(I)V" } : Jvm.MethodName) prog_2_method_1_code (2 : Nat) (Option.none : Option Jvm.ClassFile.FieldType)) ∈ lw_all := lw_g (lw_at lw_m7 150 rfl) rfl
theorem q1708 : (Jvm.Cond.methodLink "TranslationBureau$Finding" (1 : Nat) ({ cls := "java/lang/Object", name := "<init>", desc := "()V" } : Jvm.MethodName)) ∈ lw_all := lw_g (lw_at lw_m7 151 rfl) rfl
theorem q1712 : (Jvm.Cond.fieldLink "TranslationBureau$Finding" (7 : Nat) "TranslationBureau$Finding" "segment" "I") ∈ lw_all := lw_g (lw_at lw_m7 155 rfl) rfl
theorem q1720 : (Jvm.Cond.soleField "TranslationBureau$Finding" "segment") ∈ lw_all := lw_g (lw_at lw_m7 163 rfl) rfl
theorem q2113 : (Jvm.Cond.declares ({ cls := "TranslationBureau$Finding", name := "kind", desc := "()I" } : Jvm.MethodName)) ∈ lw_tbl := lw_at lw_m9 76 rfl
theorem q2114 : (Jvm.Cond.sameMethod "TranslationBureau$Finding" "TranslationBureau$Finding" "kind" "()I") ∈ lw_all := lw_g (lw_at lw_m9 77 rfl) rfl
theorem q2125 : (Jvm.Cond.declares ({ cls := "TranslationBureau$Finding", name := "other", desc := "()I" } : Jvm.MethodName)) ∈ lw_tbl := lw_at lw_m9 88 rfl
theorem q2126 : (Jvm.Cond.sameMethod "TranslationBureau$Finding" "TranslationBureau$Finding" "other" "()I") ∈ lw_all := lw_g (lw_at lw_m9 89 rfl) rfl

/-! TranslationBureau$Missing -/
set_option maxRecDepth 100000
def RX19 : String := "TranslationBureau$Missing"
def TX19 : u_T := fun k => match k with
  | 0 => ("TranslationBureau$Finding", "segment", "I", true)
  | 1 => ("TranslationBureau$Missing", "place", "I", true)
  | _ => ("TranslationBureau$Missing", "rule", "LTranslationBureau$Term;", true)
def tyX19 : Nat → FieldType := fun k => match k with
  | 0 => .int
  | 1 => .int
  | _ => .object "TranslationBureau$Term"
abbrev wsX190 : List Cond := u_ws RX19 TX19 3
theorem nmX19 : ∀ a, a < 3 → ∀ b, b < 3 → a ≠ b → (TX19 a).2.1 ≠ (TX19 b).2.1 := by decide +kernel
theorem tyX19_ok : ∀ k, k < 3 → parseFieldDescriptor (TX19 k).2.2.1 = some (tyX19 k) := by decide +kernel
abbrev cX19_init : ByteArray := prog_6_method_1_code
def yX19_init : MethodName := ⟨RX19, "<init>", "(IILTranslationBureau$Term;)V"⟩
def dkwX19_init_0 : List UInt8 := [42, 27, 183, 0, 1, 42, 28, 181, 0, 7, 42, 45, 181, 0, 13, 177]
abbrev dktX19_init_0 : List UInt8 := dkwX19_init_0 ++ []
theorem dksX19_init_0 : cX19_init.data.toList.drop 0 = dktX19_init_0 := by decide +kernel
theorem dX19_init_0 : decode cX19_init 0 = .ok (.aload_n 0, 1) := dk_42 (dk_at dksX19_init_0 0 rfl rfl)
theorem dX19_init_1 : decode cX19_init 1 = .ok (.iload_n 1, 1) := dk_27 (dk_at dksX19_init_0 1 rfl rfl)
theorem dX19_init_2 : decode cX19_init 2 = .ok (.invokespecial 1, 3) := dk_183 0 1 (dk_at dksX19_init_0 2 rfl rfl)
theorem dX19_init_5 : decode cX19_init 5 = .ok (.aload_n 0, 1) := dk_42 (dk_at dksX19_init_0 5 rfl rfl)
theorem dX19_init_6 : decode cX19_init 6 = .ok (.iload_n 2, 1) := dk_28 (dk_at dksX19_init_0 6 rfl rfl)
theorem dX19_init_7 : decode cX19_init 7 = .ok (.putfield 7, 3) := dk_181 0 7 (dk_at dksX19_init_0 7 rfl rfl)
theorem dX19_init_10 : decode cX19_init 10 = .ok (.aload_n 0, 1) := dk_42 (dk_at dksX19_init_0 10 rfl rfl)
theorem dX19_init_11 : decode cX19_init 11 = .ok (.aload_n 3, 1) := dk_45 (dk_at dksX19_init_0 11 rfl rfl)
theorem dX19_init_12 : decode cX19_init 12 = .ok (.putfield 13, 3) := dk_181 0 13 (dk_at dksX19_init_0 12 rfl rfl)
theorem dX19_init_15 : decode cX19_init 15 = .ok (.return_, 1) := dk_177 (dk_at dksX19_init_0 15 rfl rfl)
abbrev cX19_kind : ByteArray := prog_6_method_2_code
def yX19_kind : MethodName := ⟨RX19, "kind", "()I"⟩
theorem dX19_kind_0 : decode cX19_kind 0 = .ok (.iconst 0, 1) := by decide +kernel
theorem dX19_kind_1 : decode cX19_kind 1 = .ok (.ireturn, 1) := by decide +kernel
abbrev cX19_other : ByteArray := prog_6_method_3_code
def yX19_other : MethodName := ⟨RX19, "other", "()I"⟩
theorem dX19_other_0 : decode cX19_other 0 = .ok (.aload_n 0, 1) := by decide +kernel
theorem dX19_other_1 : decode cX19_other 1 = .ok (.getfield 7, 3) := by decide +kernel
theorem dX19_other_4 : decode cX19_other 4 = .ok (.ireturn, 1) := by decide +kernel
theorem q162 : (Jvm.Cond.initialized "TranslationBureau$Missing") ∈ lw_all := lw_g (lw_at lw_m1 45 rfl) rfl
theorem q1303 : (Jvm.Cond.selects "TranslationBureau$Missing" ({ cls := "java/lang/Object", name := "equals", desc := "(Ljava/lang/Object;)Z" } : Jvm.MethodName) ({ cls := "java/lang/Object", name := "equals", desc := "(Ljava/lang/Object;)Z" } : Jvm.MethodName)) ∈ lw_all := lw_g (lw_at lw_m5 226 rfl) rfl
theorem q1371 : (Jvm.Cond.selects "TranslationBureau$Missing" ({ cls := "java/lang/Object", name := "getClass", desc := "()Ljava/lang/Class;" } : Jvm.MethodName) ({ cls := "java/lang/Object", name := "getClass", desc := "()Ljava/lang/Class;" } : Jvm.MethodName)) ∈ lw_all := lw_g (lw_at lw_m6 54 rfl) rfl
theorem q1701 : (Jvm.Cond.instantiable "TranslationBureau$Missing" (3 : Nat)) ∈ lw_all := lw_g (lw_at lw_m7 144 rfl) rfl
theorem q1703 : (Jvm.Cond.instanceMethod ({ cls := "TranslationBureau$Missing", name := "<init>", desc := "(IILTranslationBureau$Term;)V" } : Jvm.MethodName)) ∈ lw_all := lw_g (lw_at lw_m7 146 rfl) rfl
theorem q1704 : (Jvm.Cond.code ({ cls := "TranslationBureau$Missing", name := "<init>", desc := "(IILTranslationBureau$Term;)V" } : Jvm.MethodName) prog_6_method_1_code (4 : Nat) (Option.none : Option Jvm.ClassFile.FieldType)) ∈ lw_all := lw_g (lw_at lw_m7 147 rfl) rfl
theorem q1705 : (Jvm.Cond.methodLink "TranslationBureau$Missing" (1 : Nat) ({ cls := "TranslationBureau$Finding", name := "<init>", desc := "(I)V" } : Jvm.MethodName)) ∈ lw_all := lw_g (lw_at lw_m7 148 rfl) rfl
theorem q1709 : (Jvm.Cond.fieldLink "TranslationBureau$Missing" (7 : Nat) "TranslationBureau$Missing" "place" "I") ∈ lw_all := lw_g (lw_at lw_m7 152 rfl) rfl
theorem q1710 : (Jvm.Cond.fieldLink "TranslationBureau$Missing" (13 : Nat) "TranslationBureau$Missing" "rule" "LTranslationBureau$Term;") ∈ lw_all := lw_g (lw_at lw_m7 153 rfl) rfl
theorem q1715 : (Jvm.Cond.laysFinal "TranslationBureau$Missing" "TranslationBureau$Missing" "place" "I") ∈ lw_all := lw_g (lw_at lw_m7 158 rfl) rfl
theorem q1716 : (Jvm.Cond.soleField "TranslationBureau$Missing" "place") ∈ lw_all := lw_g (lw_at lw_m7 159 rfl) rfl
theorem q1717 : (Jvm.Cond.laysFinal "TranslationBureau$Missing" "TranslationBureau$Missing" "rule" "LTranslationBureau$Term;") ∈ lw_all := lw_g (lw_at lw_m7 160 rfl) rfl
theorem q1718 : (Jvm.Cond.soleField "TranslationBureau$Missing" "rule") ∈ lw_all := lw_g (lw_at lw_m7 161 rfl) rfl
theorem q1719 : (Jvm.Cond.laysFinal "TranslationBureau$Missing" "TranslationBureau$Finding" "segment" "I") ∈ lw_all := lw_g (lw_at lw_m7 162 rfl) rfl
theorem q1721 : (Jvm.Cond.superclass "TranslationBureau$Missing" "TranslationBureau$Finding") ∈ lw_all := lw_g (lw_at lw_m7 164 rfl) rfl
theorem q2115 : (Jvm.Cond.selects "TranslationBureau$Missing" ({ cls := "TranslationBureau$Finding", name := "kind", desc := "()I" } : Jvm.MethodName) ({ cls := "TranslationBureau$Missing", name := "kind", desc := "()I" } : Jvm.MethodName)) ∈ lw_all := lw_g (lw_at lw_m9 78 rfl) rfl
theorem q2116 : (Jvm.Cond.instanceMethod ({ cls := "TranslationBureau$Missing", name := "kind", desc := "()I" } : Jvm.MethodName)) ∈ lw_all := lw_g (lw_at lw_m9 79 rfl) rfl
theorem q2117 : (Jvm.Cond.code ({ cls := "TranslationBureau$Missing", name := "kind", desc := "()I" } : Jvm.MethodName) prog_6_method_2_code (1 : Nat) (Option.some Jvm.ClassFile.FieldType.int)) ∈ lw_all := lw_g (lw_at lw_m9 80 rfl) rfl
theorem q2127 : (Jvm.Cond.selects "TranslationBureau$Missing" ({ cls := "TranslationBureau$Finding", name := "other", desc := "()I" } : Jvm.MethodName) ({ cls := "TranslationBureau$Missing", name := "other", desc := "()I" } : Jvm.MethodName)) ∈ lw_all := lw_g (lw_at lw_m9 90 rfl) rfl
theorem q2128 : (Jvm.Cond.instanceMethod ({ cls := "TranslationBureau$Missing", name := "other", desc := "()I" } : Jvm.MethodName)) ∈ lw_all := lw_g (lw_at lw_m9 91 rfl) rfl
theorem q2129 : (Jvm.Cond.code ({ cls := "TranslationBureau$Missing", name := "other", desc := "()I" } : Jvm.MethodName) prog_6_method_3_code (1 : Nat) (Option.some Jvm.ClassFile.FieldType.int)) ∈ lw_all := lw_g (lw_at lw_m9 92 rfl) rfl
theorem q3102 : (Jvm.Cond.castable "TranslationBureau$Missing" "TranslationBureau$Finding") ∈ lw_tbl := lw_at lw_m13 105 rfl
theorem q3131 : (Jvm.Cond.castable "TranslationBureau$Missing" "java/lang/Object") ∈ lw_tbl := lw_at lw_m13 134 rfl
theorem in_X19 : ∀ w ∈ wsX190, w ∈ lw_all := lw_in wsX190 [1719, 1715, 1717] (by decide +kernel) (by decide +kernel)

/-! TranslationBureau$Office -/
set_option maxRecDepth 100000
def RX2 : String := "TranslationBureau$Office"
def TX2 : u_T := fun k => match k with
  | 0 => ("TranslationBureau$Office", "names", "Ljava/util/List;", true)
  | 1 => ("TranslationBureau$Office", "capacities", "Ljava/util/List;", true)
  | 2 => ("TranslationBureau$Office", "terms", "Ljava/util/List;", true)
  | 3 => ("TranslationBureau$Office", "jobs", "Ljava/util/List;", true)
  | 4 => ("TranslationBureau$Office", "segments", "Ljava/util/List;", true)
  | 5 => ("TranslationBureau$Office", "settings", "[I", true)
  | _ => ("TranslationBureau$Office", "percentages", "[I", true)
def tyX2 : Nat → FieldType := fun k => match k with
  | 0 => .object "java/util/List"
  | 1 => .object "java/util/List"
  | 2 => .object "java/util/List"
  | 3 => .object "java/util/List"
  | 4 => .object "java/util/List"
  | 5 => .array .int
  | _ => .array .int
abbrev wsX20 : List Cond := u_ws RX2 TX2 7
theorem nmX2 : ∀ a, a < 7 → ∀ b, b < 7 → a ≠ b → (TX2 a).2.1 ≠ (TX2 b).2.1 := by decide +kernel
theorem tyX2_ok : ∀ k, k < 7 → parseFieldDescriptor (TX2 k).2.2.1 = some (tyX2 k) := by decide +kernel
abbrev cX2_init : ByteArray := prog_7_method_1_code
def yX2_init : MethodName := ⟨RX2, "<init>", "()V"⟩
def dkwX2_init_5 : List UInt8 := [181, 0, 34, 177]
abbrev dktX2_init_5 : List UInt8 := dkwX2_init_5 ++ []
def dkwX2_init_4 : List UInt8 := [16, 100, 79, 89, 4, 16, 80, 79, 89, 5, 16, 60, 79, 89, 6, 16, 40, 79, 89, 7, 16, 20, 79]
abbrev dktX2_init_4 : List UInt8 := dkwX2_init_4 ++ dktX2_init_5
def dkwX2_init_3 : List UInt8 := [4, 17, 0, 250, 79, 89, 5, 16, 20, 79, 89, 6, 7, 79, 181, 0, 30, 42, 8, 188, 10, 89, 3]
abbrev dktX2_init_3 : List UInt8 := dkwX2_init_3 ++ dktX2_init_4
def dkwX2_init_2 : List UInt8 := [181, 0, 24, 42, 187, 0, 9, 89, 183, 0, 11, 181, 0, 27, 42, 7, 188, 10, 89, 3, 16, 10, 79, 89]
abbrev dktX2_init_2 : List UInt8 := dkwX2_init_2 ++ dktX2_init_3
def dkwX2_init_1 : List UInt8 := [181, 0, 18, 42, 187, 0, 9, 89, 183, 0, 11, 181, 0, 21, 42, 187, 0, 9, 89, 183, 0, 11]
abbrev dktX2_init_1 : List UInt8 := dkwX2_init_1 ++ dktX2_init_2
def dkwX2_init_0 : List UInt8 := [42, 183, 0, 3, 42, 187, 0, 9, 89, 183, 0, 11, 181, 0, 12, 42, 187, 0, 9, 89, 183, 0, 11]
abbrev dktX2_init_0 : List UInt8 := dkwX2_init_0 ++ dktX2_init_1
theorem dksX2_init_0 : cX2_init.data.toList.drop 0 = dktX2_init_0 := by decide +kernel
theorem dksX2_init_1 : cX2_init.data.toList.drop 23 = dktX2_init_1 := dk_seg dksX2_init_0 23 rfl rfl
theorem dksX2_init_2 : cX2_init.data.toList.drop 45 = dktX2_init_2 := dk_seg dksX2_init_1 22 rfl rfl
theorem dksX2_init_3 : cX2_init.data.toList.drop 69 = dktX2_init_3 := dk_seg dksX2_init_2 24 rfl rfl
theorem dksX2_init_4 : cX2_init.data.toList.drop 92 = dktX2_init_4 := dk_seg dksX2_init_3 23 rfl rfl
theorem dksX2_init_5 : cX2_init.data.toList.drop 115 = dktX2_init_5 := dk_seg dksX2_init_4 23 rfl rfl
theorem dX2_init_0 : decode cX2_init 0 = .ok (.aload_n 0, 1) := dk_42 (dk_at dksX2_init_0 0 rfl rfl)
theorem dX2_init_1 : decode cX2_init 1 = .ok (.invokespecial 3, 3) := dk_183 0 3 (dk_at dksX2_init_0 1 rfl rfl)
theorem dX2_init_4 : decode cX2_init 4 = .ok (.aload_n 0, 1) := dk_42 (dk_at dksX2_init_0 4 rfl rfl)
theorem dX2_init_5 : decode cX2_init 5 = .ok (.new 9, 3) := dk_187 0 9 (dk_at dksX2_init_0 5 rfl rfl)
theorem dX2_init_8 : decode cX2_init 8 = .ok (.dup, 1) := dk_89 (dk_at dksX2_init_0 8 rfl rfl)
theorem dX2_init_9 : decode cX2_init 9 = .ok (.invokespecial 11, 3) := dk_183 0 11 (dk_at dksX2_init_0 9 rfl rfl)
theorem dX2_init_12 : decode cX2_init 12 = .ok (.putfield 12, 3) := dk_181 0 12 (dk_at dksX2_init_0 12 rfl rfl)
theorem dX2_init_15 : decode cX2_init 15 = .ok (.aload_n 0, 1) := dk_42 (dk_at dksX2_init_0 15 rfl rfl)
theorem dX2_init_16 : decode cX2_init 16 = .ok (.new 9, 3) := dk_187 0 9 (dk_at dksX2_init_0 16 rfl rfl)
theorem dX2_init_19 : decode cX2_init 19 = .ok (.dup, 1) := dk_89 (dk_at dksX2_init_0 19 rfl rfl)
theorem dX2_init_20 : decode cX2_init 20 = .ok (.invokespecial 11, 3) := dk_183 0 11 (dk_at dksX2_init_0 20 rfl rfl)
theorem dX2_init_23 : decode cX2_init 23 = .ok (.putfield 18, 3) := dk_181 0 18 (dk_at dksX2_init_1 0 rfl rfl)
theorem dX2_init_26 : decode cX2_init 26 = .ok (.aload_n 0, 1) := dk_42 (dk_at dksX2_init_1 3 rfl rfl)
theorem dX2_init_27 : decode cX2_init 27 = .ok (.new 9, 3) := dk_187 0 9 (dk_at dksX2_init_1 4 rfl rfl)
theorem dX2_init_30 : decode cX2_init 30 = .ok (.dup, 1) := dk_89 (dk_at dksX2_init_1 7 rfl rfl)
theorem dX2_init_31 : decode cX2_init 31 = .ok (.invokespecial 11, 3) := dk_183 0 11 (dk_at dksX2_init_1 8 rfl rfl)
theorem dX2_init_34 : decode cX2_init 34 = .ok (.putfield 21, 3) := dk_181 0 21 (dk_at dksX2_init_1 11 rfl rfl)
theorem dX2_init_37 : decode cX2_init 37 = .ok (.aload_n 0, 1) := dk_42 (dk_at dksX2_init_1 14 rfl rfl)
theorem dX2_init_38 : decode cX2_init 38 = .ok (.new 9, 3) := dk_187 0 9 (dk_at dksX2_init_1 15 rfl rfl)
theorem dX2_init_41 : decode cX2_init 41 = .ok (.dup, 1) := dk_89 (dk_at dksX2_init_1 18 rfl rfl)
theorem dX2_init_42 : decode cX2_init 42 = .ok (.invokespecial 11, 3) := dk_183 0 11 (dk_at dksX2_init_1 19 rfl rfl)
theorem dX2_init_45 : decode cX2_init 45 = .ok (.putfield 24, 3) := dk_181 0 24 (dk_at dksX2_init_2 0 rfl rfl)
theorem dX2_init_48 : decode cX2_init 48 = .ok (.aload_n 0, 1) := dk_42 (dk_at dksX2_init_2 3 rfl rfl)
theorem dX2_init_49 : decode cX2_init 49 = .ok (.new 9, 3) := dk_187 0 9 (dk_at dksX2_init_2 4 rfl rfl)
theorem dX2_init_52 : decode cX2_init 52 = .ok (.dup, 1) := dk_89 (dk_at dksX2_init_2 7 rfl rfl)
theorem dX2_init_53 : decode cX2_init 53 = .ok (.invokespecial 11, 3) := dk_183 0 11 (dk_at dksX2_init_2 8 rfl rfl)
theorem dX2_init_56 : decode cX2_init 56 = .ok (.putfield 27, 3) := dk_181 0 27 (dk_at dksX2_init_2 11 rfl rfl)
theorem dX2_init_59 : decode cX2_init 59 = .ok (.aload_n 0, 1) := dk_42 (dk_at dksX2_init_2 14 rfl rfl)
theorem dX2_init_60 : decode cX2_init 60 = .ok (.iconst 4, 1) := dk_7 (dk_at dksX2_init_2 15 rfl rfl)
theorem dX2_init_61 : decode cX2_init 61 = .ok (.newarray .int, 2) := dk_188_10 (dk_at dksX2_init_2 16 rfl rfl)
theorem dX2_init_63 : decode cX2_init 63 = .ok (.dup, 1) := dk_89 (dk_at dksX2_init_2 18 rfl rfl)
theorem dX2_init_64 : decode cX2_init 64 = .ok (.iconst 0, 1) := dk_3 (dk_at dksX2_init_2 19 rfl rfl)
theorem dX2_init_65 : decode cX2_init 65 = .ok (.bipush 10, 2) := dk_16 10 (dk_at dksX2_init_2 20 rfl rfl)
theorem dX2_init_67 : decode cX2_init 67 = .ok (.iastore, 1) := dk_79 (dk_at dksX2_init_2 22 rfl rfl)
theorem dX2_init_68 : decode cX2_init 68 = .ok (.dup, 1) := dk_89 (dk_at dksX2_init_2 23 rfl rfl)
theorem dX2_init_69 : decode cX2_init 69 = .ok (.iconst 1, 1) := dk_4 (dk_at dksX2_init_3 0 rfl rfl)
theorem dX2_init_70 : decode cX2_init 70 = .ok (.sipush 250, 3) := dk_17 0 250 (dk_at dksX2_init_3 1 rfl rfl)
theorem dX2_init_73 : decode cX2_init 73 = .ok (.iastore, 1) := dk_79 (dk_at dksX2_init_3 4 rfl rfl)
theorem dX2_init_74 : decode cX2_init 74 = .ok (.dup, 1) := dk_89 (dk_at dksX2_init_3 5 rfl rfl)
theorem dX2_init_75 : decode cX2_init 75 = .ok (.iconst 2, 1) := dk_5 (dk_at dksX2_init_3 6 rfl rfl)
theorem dX2_init_76 : decode cX2_init 76 = .ok (.bipush 20, 2) := dk_16 20 (dk_at dksX2_init_3 7 rfl rfl)
theorem dX2_init_78 : decode cX2_init 78 = .ok (.iastore, 1) := dk_79 (dk_at dksX2_init_3 9 rfl rfl)
theorem dX2_init_79 : decode cX2_init 79 = .ok (.dup, 1) := dk_89 (dk_at dksX2_init_3 10 rfl rfl)
theorem dX2_init_80 : decode cX2_init 80 = .ok (.iconst 3, 1) := dk_6 (dk_at dksX2_init_3 11 rfl rfl)
theorem dX2_init_81 : decode cX2_init 81 = .ok (.iconst 4, 1) := dk_7 (dk_at dksX2_init_3 12 rfl rfl)
theorem dX2_init_82 : decode cX2_init 82 = .ok (.iastore, 1) := dk_79 (dk_at dksX2_init_3 13 rfl rfl)
theorem dX2_init_83 : decode cX2_init 83 = .ok (.putfield 30, 3) := dk_181 0 30 (dk_at dksX2_init_3 14 rfl rfl)
theorem dX2_init_86 : decode cX2_init 86 = .ok (.aload_n 0, 1) := dk_42 (dk_at dksX2_init_3 17 rfl rfl)
theorem dX2_init_87 : decode cX2_init 87 = .ok (.iconst 5, 1) := dk_8 (dk_at dksX2_init_3 18 rfl rfl)
theorem dX2_init_88 : decode cX2_init 88 = .ok (.newarray .int, 2) := dk_188_10 (dk_at dksX2_init_3 19 rfl rfl)
theorem dX2_init_90 : decode cX2_init 90 = .ok (.dup, 1) := dk_89 (dk_at dksX2_init_3 21 rfl rfl)
theorem dX2_init_91 : decode cX2_init 91 = .ok (.iconst 0, 1) := dk_3 (dk_at dksX2_init_3 22 rfl rfl)
theorem dX2_init_92 : decode cX2_init 92 = .ok (.bipush 100, 2) := dk_16 100 (dk_at dksX2_init_4 0 rfl rfl)
theorem dX2_init_94 : decode cX2_init 94 = .ok (.iastore, 1) := dk_79 (dk_at dksX2_init_4 2 rfl rfl)
theorem dX2_init_95 : decode cX2_init 95 = .ok (.dup, 1) := dk_89 (dk_at dksX2_init_4 3 rfl rfl)
theorem dX2_init_96 : decode cX2_init 96 = .ok (.iconst 1, 1) := dk_4 (dk_at dksX2_init_4 4 rfl rfl)
theorem dX2_init_97 : decode cX2_init 97 = .ok (.bipush 80, 2) := dk_16 80 (dk_at dksX2_init_4 5 rfl rfl)
theorem dX2_init_99 : decode cX2_init 99 = .ok (.iastore, 1) := dk_79 (dk_at dksX2_init_4 7 rfl rfl)
theorem dX2_init_100 : decode cX2_init 100 = .ok (.dup, 1) := dk_89 (dk_at dksX2_init_4 8 rfl rfl)
theorem dX2_init_101 : decode cX2_init 101 = .ok (.iconst 2, 1) := dk_5 (dk_at dksX2_init_4 9 rfl rfl)
theorem dX2_init_102 : decode cX2_init 102 = .ok (.bipush 60, 2) := dk_16 60 (dk_at dksX2_init_4 10 rfl rfl)
theorem dX2_init_104 : decode cX2_init 104 = .ok (.iastore, 1) := dk_79 (dk_at dksX2_init_4 12 rfl rfl)
theorem dX2_init_105 : decode cX2_init 105 = .ok (.dup, 1) := dk_89 (dk_at dksX2_init_4 13 rfl rfl)
theorem dX2_init_106 : decode cX2_init 106 = .ok (.iconst 3, 1) := dk_6 (dk_at dksX2_init_4 14 rfl rfl)
theorem dX2_init_107 : decode cX2_init 107 = .ok (.bipush 40, 2) := dk_16 40 (dk_at dksX2_init_4 15 rfl rfl)
theorem dX2_init_109 : decode cX2_init 109 = .ok (.iastore, 1) := dk_79 (dk_at dksX2_init_4 17 rfl rfl)
theorem dX2_init_110 : decode cX2_init 110 = .ok (.dup, 1) := dk_89 (dk_at dksX2_init_4 18 rfl rfl)
theorem dX2_init_111 : decode cX2_init 111 = .ok (.iconst 4, 1) := dk_7 (dk_at dksX2_init_4 19 rfl rfl)
theorem dX2_init_112 : decode cX2_init 112 = .ok (.bipush 20, 2) := dk_16 20 (dk_at dksX2_init_4 20 rfl rfl)
theorem dX2_init_114 : decode cX2_init 114 = .ok (.iastore, 1) := dk_79 (dk_at dksX2_init_4 22 rfl rfl)
theorem dX2_init_115 : decode cX2_init 115 = .ok (.putfield 34, 3) := dk_181 0 34 (dk_at dksX2_init_5 0 rfl rfl)
theorem dX2_init_118 : decode cX2_init 118 = .ok (.return_, 1) := dk_177 (dk_at dksX2_init_5 3 rfl rfl)
abbrev cX2_paid : ByteArray := prog_7_method_16_code
def yX2_paid : MethodName := ⟨RX2, "paid", "()I"⟩
def dkwX2_paid_1 : List UInt8 := [45, 7, 46, 45, 8, 46, 96, 96, 60, 132, 2, 1, 167, 255, 224, 27, 172]
abbrev dktX2_paid_1 : List UInt8 := dkwX2_paid_1 ++ []
def dkwX2_paid_0 : List UInt8 := [3, 60, 3, 61, 28, 42, 180, 0, 24, 185, 0, 44, 1, 0, 162, 0, 25, 42, 28, 182, 0, 156, 78, 27]
abbrev dktX2_paid_0 : List UInt8 := dkwX2_paid_0 ++ dktX2_paid_1
theorem dksX2_paid_0 : cX2_paid.data.toList.drop 0 = dktX2_paid_0 := by decide +kernel
theorem dksX2_paid_1 : cX2_paid.data.toList.drop 24 = dktX2_paid_1 := dk_seg dksX2_paid_0 24 rfl rfl
theorem dX2_paid_0 : decode cX2_paid 0 = .ok (.iconst 0, 1) := dk_3 (dk_at dksX2_paid_0 0 rfl rfl)
theorem dX2_paid_1 : decode cX2_paid 1 = .ok (.istore_n 1, 1) := dk_60 (dk_at dksX2_paid_0 1 rfl rfl)
theorem dX2_paid_2 : decode cX2_paid 2 = .ok (.iconst 0, 1) := dk_3 (dk_at dksX2_paid_0 2 rfl rfl)
theorem dX2_paid_3 : decode cX2_paid 3 = .ok (.istore_n 2, 1) := dk_61 (dk_at dksX2_paid_0 3 rfl rfl)
theorem dX2_paid_4 : decode cX2_paid 4 = .ok (.iload_n 2, 1) := dk_28 (dk_at dksX2_paid_0 4 rfl rfl)
theorem dX2_paid_5 : decode cX2_paid 5 = .ok (.aload_n 0, 1) := dk_42 (dk_at dksX2_paid_0 5 rfl rfl)
theorem dX2_paid_6 : decode cX2_paid 6 = .ok (.getfield 24, 3) := dk_180 0 24 (dk_at dksX2_paid_0 6 rfl rfl)
theorem dX2_paid_9 : decode cX2_paid 9 = .ok (.invokeinterface 44 1, 5) := by decide +kernel
theorem dX2_paid_14 : decode cX2_paid 14 = .ok (.if_icmp .ge 25, 3) := dk_162 0 25 (dk_at dksX2_paid_0 14 rfl rfl)
theorem dX2_paid_17 : decode cX2_paid 17 = .ok (.aload_n 0, 1) := dk_42 (dk_at dksX2_paid_0 17 rfl rfl)
theorem dX2_paid_18 : decode cX2_paid 18 = .ok (.iload_n 2, 1) := dk_28 (dk_at dksX2_paid_0 18 rfl rfl)
theorem dX2_paid_19 : decode cX2_paid 19 = .ok (.invokevirtual 156, 3) := dk_182 0 156 (dk_at dksX2_paid_0 19 rfl rfl)
theorem dX2_paid_22 : decode cX2_paid 22 = .ok (.astore_n 3, 1) := dk_78 (dk_at dksX2_paid_0 22 rfl rfl)
theorem dX2_paid_23 : decode cX2_paid 23 = .ok (.iload_n 1, 1) := dk_27 (dk_at dksX2_paid_0 23 rfl rfl)
theorem dX2_paid_24 : decode cX2_paid 24 = .ok (.aload_n 3, 1) := dk_45 (dk_at dksX2_paid_1 0 rfl rfl)
theorem dX2_paid_25 : decode cX2_paid 25 = .ok (.iconst 4, 1) := dk_7 (dk_at dksX2_paid_1 1 rfl rfl)
theorem dX2_paid_26 : decode cX2_paid 26 = .ok (.iaload, 1) := dk_46 (dk_at dksX2_paid_1 2 rfl rfl)
theorem dX2_paid_27 : decode cX2_paid 27 = .ok (.aload_n 3, 1) := dk_45 (dk_at dksX2_paid_1 3 rfl rfl)
theorem dX2_paid_28 : decode cX2_paid 28 = .ok (.iconst 5, 1) := dk_8 (dk_at dksX2_paid_1 4 rfl rfl)
theorem dX2_paid_29 : decode cX2_paid 29 = .ok (.iaload, 1) := dk_46 (dk_at dksX2_paid_1 5 rfl rfl)
theorem dX2_paid_30 : decode cX2_paid 30 = .ok (.iadd, 1) := dk_96 (dk_at dksX2_paid_1 6 rfl rfl)
theorem dX2_paid_31 : decode cX2_paid 31 = .ok (.iadd, 1) := dk_96 (dk_at dksX2_paid_1 7 rfl rfl)
theorem dX2_paid_32 : decode cX2_paid 32 = .ok (.istore_n 1, 1) := dk_60 (dk_at dksX2_paid_1 8 rfl rfl)
theorem dX2_paid_33 : decode cX2_paid 33 = .ok (.iinc 2 1, 3) := dk_132 2 1 (dk_at dksX2_paid_1 9 rfl rfl)
theorem dX2_paid_36 : decode cX2_paid 36 = .ok (.goto (-32), 3) := dk_167 255 224 (dk_at dksX2_paid_1 12 rfl rfl)
theorem dX2_paid_39 : decode cX2_paid 39 = .ok (.iload_n 1, 1) := dk_27 (dk_at dksX2_paid_1 15 rfl rfl)
theorem dX2_paid_40 : decode cX2_paid 40 = .ok (.ireturn, 1) := dk_172 (dk_at dksX2_paid_1 16 rfl rfl)
abbrev cX2_accountOf : ByteArray := prog_7_method_15_code
def yX2_accountOf : MethodName := ⟨RX2, "accountOf", "(I)[I"⟩
def dkwX2_accountOf_3 : List UInt8 := [182, 0, 153, 79, 176]
abbrev dktX2_accountOf_3 : List UInt8 := dkwX2_accountOf_3 ++ []
def dkwX2_accountOf_2 : List UInt8 := [182, 0, 137, 79, 89, 5, 29, 79, 89, 6, 21, 4, 79, 89, 7, 28, 21, 4, 96, 79, 89, 8, 42, 27]
abbrev dktX2_accountOf_2 : List UInt8 := dkwX2_accountOf_2 ++ dktX2_accountOf_3
def dkwX2_accountOf_1 : List UInt8 := [182, 0, 150, 62, 28, 29, 104, 16, 100, 108, 54, 4, 16, 6, 188, 10, 89, 3, 28, 79, 89, 4, 42, 27]
abbrev dktX2_accountOf_1 : List UInt8 := dkwX2_accountOf_1 ++ dktX2_accountOf_2
def dkwX2_accountOf_0 : List UInt8 := [42, 27, 182, 0, 143, 61, 42, 27, 42, 180, 0, 24, 27, 185, 0, 48, 2, 0, 192, 0, 52, 180, 0, 146]
abbrev dktX2_accountOf_0 : List UInt8 := dkwX2_accountOf_0 ++ dktX2_accountOf_1
theorem dksX2_accountOf_0 : cX2_accountOf.data.toList.drop 0 = dktX2_accountOf_0 := by decide +kernel
theorem dksX2_accountOf_1 : cX2_accountOf.data.toList.drop 24 = dktX2_accountOf_1 := dk_seg dksX2_accountOf_0 24 rfl rfl
theorem dksX2_accountOf_2 : cX2_accountOf.data.toList.drop 48 = dktX2_accountOf_2 := dk_seg dksX2_accountOf_1 24 rfl rfl
theorem dksX2_accountOf_3 : cX2_accountOf.data.toList.drop 72 = dktX2_accountOf_3 := dk_seg dksX2_accountOf_2 24 rfl rfl
theorem dX2_accountOf_0 : decode cX2_accountOf 0 = .ok (.aload_n 0, 1) := dk_42 (dk_at dksX2_accountOf_0 0 rfl rfl)
theorem dX2_accountOf_1 : decode cX2_accountOf 1 = .ok (.iload_n 1, 1) := dk_27 (dk_at dksX2_accountOf_0 1 rfl rfl)
theorem dX2_accountOf_2 : decode cX2_accountOf 2 = .ok (.invokevirtual 143, 3) := dk_182 0 143 (dk_at dksX2_accountOf_0 2 rfl rfl)
theorem dX2_accountOf_5 : decode cX2_accountOf 5 = .ok (.istore_n 2, 1) := dk_61 (dk_at dksX2_accountOf_0 5 rfl rfl)
theorem dX2_accountOf_6 : decode cX2_accountOf 6 = .ok (.aload_n 0, 1) := dk_42 (dk_at dksX2_accountOf_0 6 rfl rfl)
theorem dX2_accountOf_7 : decode cX2_accountOf 7 = .ok (.iload_n 1, 1) := dk_27 (dk_at dksX2_accountOf_0 7 rfl rfl)
theorem dX2_accountOf_8 : decode cX2_accountOf 8 = .ok (.aload_n 0, 1) := dk_42 (dk_at dksX2_accountOf_0 8 rfl rfl)
theorem dX2_accountOf_9 : decode cX2_accountOf 9 = .ok (.getfield 24, 3) := dk_180 0 24 (dk_at dksX2_accountOf_0 9 rfl rfl)
theorem dX2_accountOf_12 : decode cX2_accountOf 12 = .ok (.iload_n 1, 1) := dk_27 (dk_at dksX2_accountOf_0 12 rfl rfl)
theorem dX2_accountOf_13 : decode cX2_accountOf 13 = .ok (.invokeinterface 48 2, 5) := by decide +kernel
theorem dX2_accountOf_18 : decode cX2_accountOf 18 = .ok (.checkcast 52, 3) := dk_192 0 52 (dk_at dksX2_accountOf_0 18 rfl rfl)
theorem dX2_accountOf_21 : decode cX2_accountOf 21 = .ok (.getfield 146, 3) := dk_180 0 146 (dk_at dksX2_accountOf_0 21 rfl rfl)
theorem dX2_accountOf_24 : decode cX2_accountOf 24 = .ok (.invokevirtual 150, 3) := dk_182 0 150 (dk_at dksX2_accountOf_1 0 rfl rfl)
theorem dX2_accountOf_27 : decode cX2_accountOf 27 = .ok (.istore_n 3, 1) := dk_62 (dk_at dksX2_accountOf_1 3 rfl rfl)
theorem dX2_accountOf_28 : decode cX2_accountOf 28 = .ok (.iload_n 2, 1) := dk_28 (dk_at dksX2_accountOf_1 4 rfl rfl)
theorem dX2_accountOf_29 : decode cX2_accountOf 29 = .ok (.iload_n 3, 1) := dk_29 (dk_at dksX2_accountOf_1 5 rfl rfl)
theorem dX2_accountOf_30 : decode cX2_accountOf 30 = .ok (.imul, 1) := dk_104 (dk_at dksX2_accountOf_1 6 rfl rfl)
theorem dX2_accountOf_31 : decode cX2_accountOf 31 = .ok (.bipush 100, 2) := dk_16 100 (dk_at dksX2_accountOf_1 7 rfl rfl)
theorem dX2_accountOf_33 : decode cX2_accountOf 33 = .ok (.idiv, 1) := dk_108 (dk_at dksX2_accountOf_1 9 rfl rfl)
theorem dX2_accountOf_34 : decode cX2_accountOf 34 = .ok (.istore 4, 2) := dk_54 4 (dk_at dksX2_accountOf_1 10 rfl rfl)
theorem dX2_accountOf_36 : decode cX2_accountOf 36 = .ok (.bipush 6, 2) := dk_16 6 (dk_at dksX2_accountOf_1 12 rfl rfl)
theorem dX2_accountOf_38 : decode cX2_accountOf 38 = .ok (.newarray .int, 2) := dk_188_10 (dk_at dksX2_accountOf_1 14 rfl rfl)
theorem dX2_accountOf_40 : decode cX2_accountOf 40 = .ok (.dup, 1) := dk_89 (dk_at dksX2_accountOf_1 16 rfl rfl)
theorem dX2_accountOf_41 : decode cX2_accountOf 41 = .ok (.iconst 0, 1) := dk_3 (dk_at dksX2_accountOf_1 17 rfl rfl)
theorem dX2_accountOf_42 : decode cX2_accountOf 42 = .ok (.iload_n 2, 1) := dk_28 (dk_at dksX2_accountOf_1 18 rfl rfl)
theorem dX2_accountOf_43 : decode cX2_accountOf 43 = .ok (.iastore, 1) := dk_79 (dk_at dksX2_accountOf_1 19 rfl rfl)
theorem dX2_accountOf_44 : decode cX2_accountOf 44 = .ok (.dup, 1) := dk_89 (dk_at dksX2_accountOf_1 20 rfl rfl)
theorem dX2_accountOf_45 : decode cX2_accountOf 45 = .ok (.iconst 1, 1) := dk_4 (dk_at dksX2_accountOf_1 21 rfl rfl)
theorem dX2_accountOf_46 : decode cX2_accountOf 46 = .ok (.aload_n 0, 1) := dk_42 (dk_at dksX2_accountOf_1 22 rfl rfl)
theorem dX2_accountOf_47 : decode cX2_accountOf 47 = .ok (.iload_n 1, 1) := dk_27 (dk_at dksX2_accountOf_1 23 rfl rfl)
theorem dX2_accountOf_48 : decode cX2_accountOf 48 = .ok (.invokevirtual 137, 3) := dk_182 0 137 (dk_at dksX2_accountOf_2 0 rfl rfl)
theorem dX2_accountOf_51 : decode cX2_accountOf 51 = .ok (.iastore, 1) := dk_79 (dk_at dksX2_accountOf_2 3 rfl rfl)
theorem dX2_accountOf_52 : decode cX2_accountOf 52 = .ok (.dup, 1) := dk_89 (dk_at dksX2_accountOf_2 4 rfl rfl)
theorem dX2_accountOf_53 : decode cX2_accountOf 53 = .ok (.iconst 2, 1) := dk_5 (dk_at dksX2_accountOf_2 5 rfl rfl)
theorem dX2_accountOf_54 : decode cX2_accountOf 54 = .ok (.iload_n 3, 1) := dk_29 (dk_at dksX2_accountOf_2 6 rfl rfl)
theorem dX2_accountOf_55 : decode cX2_accountOf 55 = .ok (.iastore, 1) := dk_79 (dk_at dksX2_accountOf_2 7 rfl rfl)
theorem dX2_accountOf_56 : decode cX2_accountOf 56 = .ok (.dup, 1) := dk_89 (dk_at dksX2_accountOf_2 8 rfl rfl)
theorem dX2_accountOf_57 : decode cX2_accountOf 57 = .ok (.iconst 3, 1) := dk_6 (dk_at dksX2_accountOf_2 9 rfl rfl)
theorem dX2_accountOf_58 : decode cX2_accountOf 58 = .ok (.iload 4, 2) := dk_21 4 (dk_at dksX2_accountOf_2 10 rfl rfl)
theorem dX2_accountOf_60 : decode cX2_accountOf 60 = .ok (.iastore, 1) := dk_79 (dk_at dksX2_accountOf_2 12 rfl rfl)
theorem dX2_accountOf_61 : decode cX2_accountOf 61 = .ok (.dup, 1) := dk_89 (dk_at dksX2_accountOf_2 13 rfl rfl)
theorem dX2_accountOf_62 : decode cX2_accountOf 62 = .ok (.iconst 4, 1) := dk_7 (dk_at dksX2_accountOf_2 14 rfl rfl)
theorem dX2_accountOf_63 : decode cX2_accountOf 63 = .ok (.iload_n 2, 1) := dk_28 (dk_at dksX2_accountOf_2 15 rfl rfl)
theorem dX2_accountOf_64 : decode cX2_accountOf 64 = .ok (.iload 4, 2) := dk_21 4 (dk_at dksX2_accountOf_2 16 rfl rfl)
theorem dX2_accountOf_66 : decode cX2_accountOf 66 = .ok (.iadd, 1) := dk_96 (dk_at dksX2_accountOf_2 18 rfl rfl)
theorem dX2_accountOf_67 : decode cX2_accountOf 67 = .ok (.iastore, 1) := dk_79 (dk_at dksX2_accountOf_2 19 rfl rfl)
theorem dX2_accountOf_68 : decode cX2_accountOf 68 = .ok (.dup, 1) := dk_89 (dk_at dksX2_accountOf_2 20 rfl rfl)
theorem dX2_accountOf_69 : decode cX2_accountOf 69 = .ok (.iconst 5, 1) := dk_8 (dk_at dksX2_accountOf_2 21 rfl rfl)
theorem dX2_accountOf_70 : decode cX2_accountOf 70 = .ok (.aload_n 0, 1) := dk_42 (dk_at dksX2_accountOf_2 22 rfl rfl)
theorem dX2_accountOf_71 : decode cX2_accountOf 71 = .ok (.iload_n 1, 1) := dk_27 (dk_at dksX2_accountOf_2 23 rfl rfl)
theorem dX2_accountOf_72 : decode cX2_accountOf 72 = .ok (.invokevirtual 153, 3) := dk_182 0 153 (dk_at dksX2_accountOf_3 0 rfl rfl)
theorem dX2_accountOf_75 : decode cX2_accountOf 75 = .ok (.iastore, 1) := dk_79 (dk_at dksX2_accountOf_3 3 rfl rfl)
theorem dX2_accountOf_76 : decode cX2_accountOf 76 = .ok (.areturn, 1) := dk_176 (dk_at dksX2_accountOf_3 4 rfl rfl)
abbrev cX2_basicOf : ByteArray := prog_7_method_11_code
def yX2_basicOf : MethodName := ⟨RX2, "basicOf", "(I)I"⟩
def dkwX2_basicOf_2 : List UInt8 := [167, 255, 222, 29, 172]
abbrev dktX2_basicOf_2 : List UInt8 := dkwX2_basicOf_2 ++ []
def dkwX2_basicOf_1 : List UInt8 := [180, 0, 30, 3, 46, 104, 42, 180, 0, 34, 21, 4, 46, 104, 16, 100, 108, 96, 62, 132, 4, 1]
abbrev dktX2_basicOf_1 : List UInt8 := dkwX2_basicOf_1 ++ dktX2_basicOf_2
def dkwX2_basicOf_0 : List UInt8 := [42, 27, 182, 0, 130, 77, 3, 62, 3, 54, 4, 21, 4, 8, 162, 0, 34, 29, 44, 21, 4, 46, 42]
abbrev dktX2_basicOf_0 : List UInt8 := dkwX2_basicOf_0 ++ dktX2_basicOf_1
theorem dksX2_basicOf_0 : cX2_basicOf.data.toList.drop 0 = dktX2_basicOf_0 := by decide +kernel
theorem dksX2_basicOf_1 : cX2_basicOf.data.toList.drop 23 = dktX2_basicOf_1 := dk_seg dksX2_basicOf_0 23 rfl rfl
theorem dksX2_basicOf_2 : cX2_basicOf.data.toList.drop 45 = dktX2_basicOf_2 := dk_seg dksX2_basicOf_1 22 rfl rfl
theorem dX2_basicOf_0 : decode cX2_basicOf 0 = .ok (.aload_n 0, 1) := dk_42 (dk_at dksX2_basicOf_0 0 rfl rfl)
theorem dX2_basicOf_1 : decode cX2_basicOf 1 = .ok (.iload_n 1, 1) := dk_27 (dk_at dksX2_basicOf_0 1 rfl rfl)
theorem dX2_basicOf_2 : decode cX2_basicOf 2 = .ok (.invokevirtual 130, 3) := dk_182 0 130 (dk_at dksX2_basicOf_0 2 rfl rfl)
theorem dX2_basicOf_5 : decode cX2_basicOf 5 = .ok (.astore_n 2, 1) := dk_77 (dk_at dksX2_basicOf_0 5 rfl rfl)
theorem dX2_basicOf_6 : decode cX2_basicOf 6 = .ok (.iconst 0, 1) := dk_3 (dk_at dksX2_basicOf_0 6 rfl rfl)
theorem dX2_basicOf_7 : decode cX2_basicOf 7 = .ok (.istore_n 3, 1) := dk_62 (dk_at dksX2_basicOf_0 7 rfl rfl)
theorem dX2_basicOf_8 : decode cX2_basicOf 8 = .ok (.iconst 0, 1) := dk_3 (dk_at dksX2_basicOf_0 8 rfl rfl)
theorem dX2_basicOf_9 : decode cX2_basicOf 9 = .ok (.istore 4, 2) := dk_54 4 (dk_at dksX2_basicOf_0 9 rfl rfl)
theorem dX2_basicOf_11 : decode cX2_basicOf 11 = .ok (.iload 4, 2) := dk_21 4 (dk_at dksX2_basicOf_0 11 rfl rfl)
theorem dX2_basicOf_13 : decode cX2_basicOf 13 = .ok (.iconst 5, 1) := dk_8 (dk_at dksX2_basicOf_0 13 rfl rfl)
theorem dX2_basicOf_14 : decode cX2_basicOf 14 = .ok (.if_icmp .ge 34, 3) := dk_162 0 34 (dk_at dksX2_basicOf_0 14 rfl rfl)
theorem dX2_basicOf_17 : decode cX2_basicOf 17 = .ok (.iload_n 3, 1) := dk_29 (dk_at dksX2_basicOf_0 17 rfl rfl)
theorem dX2_basicOf_18 : decode cX2_basicOf 18 = .ok (.aload_n 2, 1) := dk_44 (dk_at dksX2_basicOf_0 18 rfl rfl)
theorem dX2_basicOf_19 : decode cX2_basicOf 19 = .ok (.iload 4, 2) := dk_21 4 (dk_at dksX2_basicOf_0 19 rfl rfl)
theorem dX2_basicOf_21 : decode cX2_basicOf 21 = .ok (.iaload, 1) := dk_46 (dk_at dksX2_basicOf_0 21 rfl rfl)
theorem dX2_basicOf_22 : decode cX2_basicOf 22 = .ok (.aload_n 0, 1) := dk_42 (dk_at dksX2_basicOf_0 22 rfl rfl)
theorem dX2_basicOf_23 : decode cX2_basicOf 23 = .ok (.getfield 30, 3) := dk_180 0 30 (dk_at dksX2_basicOf_1 0 rfl rfl)
theorem dX2_basicOf_26 : decode cX2_basicOf 26 = .ok (.iconst 0, 1) := dk_3 (dk_at dksX2_basicOf_1 3 rfl rfl)
theorem dX2_basicOf_27 : decode cX2_basicOf 27 = .ok (.iaload, 1) := dk_46 (dk_at dksX2_basicOf_1 4 rfl rfl)
theorem dX2_basicOf_28 : decode cX2_basicOf 28 = .ok (.imul, 1) := dk_104 (dk_at dksX2_basicOf_1 5 rfl rfl)
theorem dX2_basicOf_29 : decode cX2_basicOf 29 = .ok (.aload_n 0, 1) := dk_42 (dk_at dksX2_basicOf_1 6 rfl rfl)
theorem dX2_basicOf_30 : decode cX2_basicOf 30 = .ok (.getfield 34, 3) := dk_180 0 34 (dk_at dksX2_basicOf_1 7 rfl rfl)
theorem dX2_basicOf_33 : decode cX2_basicOf 33 = .ok (.iload 4, 2) := dk_21 4 (dk_at dksX2_basicOf_1 10 rfl rfl)
theorem dX2_basicOf_35 : decode cX2_basicOf 35 = .ok (.iaload, 1) := dk_46 (dk_at dksX2_basicOf_1 12 rfl rfl)
theorem dX2_basicOf_36 : decode cX2_basicOf 36 = .ok (.imul, 1) := dk_104 (dk_at dksX2_basicOf_1 13 rfl rfl)
theorem dX2_basicOf_37 : decode cX2_basicOf 37 = .ok (.bipush 100, 2) := dk_16 100 (dk_at dksX2_basicOf_1 14 rfl rfl)
theorem dX2_basicOf_39 : decode cX2_basicOf 39 = .ok (.idiv, 1) := dk_108 (dk_at dksX2_basicOf_1 16 rfl rfl)
theorem dX2_basicOf_40 : decode cX2_basicOf 40 = .ok (.iadd, 1) := dk_96 (dk_at dksX2_basicOf_1 17 rfl rfl)
theorem dX2_basicOf_41 : decode cX2_basicOf 41 = .ok (.istore_n 3, 1) := dk_62 (dk_at dksX2_basicOf_1 18 rfl rfl)
theorem dX2_basicOf_42 : decode cX2_basicOf 42 = .ok (.iinc 4 1, 3) := dk_132 4 1 (dk_at dksX2_basicOf_1 19 rfl rfl)
theorem dX2_basicOf_45 : decode cX2_basicOf 45 = .ok (.goto (-34), 3) := dk_167 255 222 (dk_at dksX2_basicOf_2 0 rfl rfl)
theorem dX2_basicOf_48 : decode cX2_basicOf 48 = .ok (.iload_n 3, 1) := dk_29 (dk_at dksX2_basicOf_2 3 rfl rfl)
theorem dX2_basicOf_49 : decode cX2_basicOf 49 = .ok (.ireturn, 1) := dk_172 (dk_at dksX2_basicOf_2 4 rfl rfl)
abbrev cX2_bandsOf : ByteArray := prog_7_method_10_code
def yX2_bandsOf : MethodName := ⟨RX2, "bandsOf", "(I)[I"⟩
def dkwX2_bandsOf_2 : List UInt8 := [180, 0, 27, 21, 4, 185, 0, 48, 2, 0, 192, 0, 98, 182, 0, 124, 96, 79, 167, 255, 205, 44, 176]
abbrev dktX2_bandsOf_2 : List UInt8 := dkwX2_bandsOf_2 ++ []
def dkwX2_bandsOf_1 : List UInt8 := [185, 0, 89, 1, 0, 192, 0, 93, 182, 0, 95, 54, 4, 44, 42, 21, 4, 182, 0, 127, 92, 46, 42]
abbrev dktX2_bandsOf_1 : List UInt8 := dkwX2_bandsOf_1 ++ dktX2_bandsOf_2
def dkwX2_bandsOf_0 : List UInt8 := [8, 188, 10, 77, 42, 27, 182, 0, 120, 182, 0, 79, 78, 45, 185, 0, 83, 1, 0, 153, 0, 48, 45]
abbrev dktX2_bandsOf_0 : List UInt8 := dkwX2_bandsOf_0 ++ dktX2_bandsOf_1
theorem dksX2_bandsOf_0 : cX2_bandsOf.data.toList.drop 0 = dktX2_bandsOf_0 := by decide +kernel
theorem dksX2_bandsOf_1 : cX2_bandsOf.data.toList.drop 23 = dktX2_bandsOf_1 := dk_seg dksX2_bandsOf_0 23 rfl rfl
theorem dksX2_bandsOf_2 : cX2_bandsOf.data.toList.drop 46 = dktX2_bandsOf_2 := dk_seg dksX2_bandsOf_1 23 rfl rfl
theorem dX2_bandsOf_0 : decode cX2_bandsOf 0 = .ok (.iconst 5, 1) := dk_8 (dk_at dksX2_bandsOf_0 0 rfl rfl)
theorem dX2_bandsOf_1 : decode cX2_bandsOf 1 = .ok (.newarray .int, 2) := dk_188_10 (dk_at dksX2_bandsOf_0 1 rfl rfl)
theorem dX2_bandsOf_3 : decode cX2_bandsOf 3 = .ok (.astore_n 2, 1) := dk_77 (dk_at dksX2_bandsOf_0 3 rfl rfl)
theorem dX2_bandsOf_4 : decode cX2_bandsOf 4 = .ok (.aload_n 0, 1) := dk_42 (dk_at dksX2_bandsOf_0 4 rfl rfl)
theorem dX2_bandsOf_5 : decode cX2_bandsOf 5 = .ok (.iload_n 1, 1) := dk_27 (dk_at dksX2_bandsOf_0 5 rfl rfl)
theorem dX2_bandsOf_6 : decode cX2_bandsOf 6 = .ok (.invokevirtual 120, 3) := dk_182 0 120 (dk_at dksX2_bandsOf_0 6 rfl rfl)
theorem dX2_bandsOf_9 : decode cX2_bandsOf 9 = .ok (.invokevirtual 79, 3) := dk_182 0 79 (dk_at dksX2_bandsOf_0 9 rfl rfl)
theorem dX2_bandsOf_12 : decode cX2_bandsOf 12 = .ok (.astore_n 3, 1) := dk_78 (dk_at dksX2_bandsOf_0 12 rfl rfl)
theorem dX2_bandsOf_13 : decode cX2_bandsOf 13 = .ok (.aload_n 3, 1) := dk_45 (dk_at dksX2_bandsOf_0 13 rfl rfl)
theorem dX2_bandsOf_14 : decode cX2_bandsOf 14 = .ok (.invokeinterface 83 1, 5) := by decide +kernel
theorem dX2_bandsOf_19 : decode cX2_bandsOf 19 = .ok (.ifCond .eq 48, 3) := dk_153 0 48 (dk_at dksX2_bandsOf_0 19 rfl rfl)
theorem dX2_bandsOf_22 : decode cX2_bandsOf 22 = .ok (.aload_n 3, 1) := dk_45 (dk_at dksX2_bandsOf_0 22 rfl rfl)
theorem dX2_bandsOf_23 : decode cX2_bandsOf 23 = .ok (.invokeinterface 89 1, 5) := by decide +kernel
theorem dX2_bandsOf_28 : decode cX2_bandsOf 28 = .ok (.checkcast 93, 3) := dk_192 0 93 (dk_at dksX2_bandsOf_1 5 rfl rfl)
theorem dX2_bandsOf_31 : decode cX2_bandsOf 31 = .ok (.invokevirtual 95, 3) := dk_182 0 95 (dk_at dksX2_bandsOf_1 8 rfl rfl)
theorem dX2_bandsOf_34 : decode cX2_bandsOf 34 = .ok (.istore 4, 2) := dk_54 4 (dk_at dksX2_bandsOf_1 11 rfl rfl)
theorem dX2_bandsOf_36 : decode cX2_bandsOf 36 = .ok (.aload_n 2, 1) := dk_44 (dk_at dksX2_bandsOf_1 13 rfl rfl)
theorem dX2_bandsOf_37 : decode cX2_bandsOf 37 = .ok (.aload_n 0, 1) := dk_42 (dk_at dksX2_bandsOf_1 14 rfl rfl)
theorem dX2_bandsOf_38 : decode cX2_bandsOf 38 = .ok (.iload 4, 2) := dk_21 4 (dk_at dksX2_bandsOf_1 15 rfl rfl)
theorem dX2_bandsOf_40 : decode cX2_bandsOf 40 = .ok (.invokevirtual 127, 3) := dk_182 0 127 (dk_at dksX2_bandsOf_1 17 rfl rfl)
theorem dX2_bandsOf_43 : decode cX2_bandsOf 43 = .ok (.dup2, 1) := dk_92 (dk_at dksX2_bandsOf_1 20 rfl rfl)
theorem dX2_bandsOf_44 : decode cX2_bandsOf 44 = .ok (.iaload, 1) := dk_46 (dk_at dksX2_bandsOf_1 21 rfl rfl)
theorem dX2_bandsOf_45 : decode cX2_bandsOf 45 = .ok (.aload_n 0, 1) := dk_42 (dk_at dksX2_bandsOf_1 22 rfl rfl)
theorem dX2_bandsOf_46 : decode cX2_bandsOf 46 = .ok (.getfield 27, 3) := dk_180 0 27 (dk_at dksX2_bandsOf_2 0 rfl rfl)
theorem dX2_bandsOf_49 : decode cX2_bandsOf 49 = .ok (.iload 4, 2) := dk_21 4 (dk_at dksX2_bandsOf_2 3 rfl rfl)
theorem dX2_bandsOf_51 : decode cX2_bandsOf 51 = .ok (.invokeinterface 48 2, 5) := by decide +kernel
theorem dX2_bandsOf_56 : decode cX2_bandsOf 56 = .ok (.checkcast 98, 3) := dk_192 0 98 (dk_at dksX2_bandsOf_2 10 rfl rfl)
theorem dX2_bandsOf_59 : decode cX2_bandsOf 59 = .ok (.invokevirtual 124, 3) := dk_182 0 124 (dk_at dksX2_bandsOf_2 13 rfl rfl)
theorem dX2_bandsOf_62 : decode cX2_bandsOf 62 = .ok (.iadd, 1) := dk_96 (dk_at dksX2_bandsOf_2 16 rfl rfl)
theorem dX2_bandsOf_63 : decode cX2_bandsOf 63 = .ok (.iastore, 1) := dk_79 (dk_at dksX2_bandsOf_2 17 rfl rfl)
theorem dX2_bandsOf_64 : decode cX2_bandsOf 64 = .ok (.goto (-51), 3) := dk_167 255 205 (dk_at dksX2_bandsOf_2 18 rfl rfl)
theorem dX2_bandsOf_67 : decode cX2_bandsOf 67 = .ok (.aload_n 2, 1) := dk_44 (dk_at dksX2_bandsOf_2 21 rfl rfl)
theorem dX2_bandsOf_68 : decode cX2_bandsOf 68 = .ok (.areturn, 1) := dk_176 (dk_at dksX2_bandsOf_2 22 rfl rfl)
abbrev cX2_of : ByteArray := prog_7_method_5_code
def yX2_of : MethodName := ⟨RX2, "of", "(I)LTranslationBureau$Office$JobSegments;"⟩
def dkwX2_of_0 : List UInt8 := [187, 0, 74, 89, 42, 27, 183, 0, 76, 176]
abbrev dktX2_of_0 : List UInt8 := dkwX2_of_0 ++ []
theorem dksX2_of_0 : cX2_of.data.toList.drop 0 = dktX2_of_0 := by decide +kernel
theorem dX2_of_0 : decode cX2_of 0 = .ok (.new 74, 3) := dk_187 0 74 (dk_at dksX2_of_0 0 rfl rfl)
theorem dX2_of_3 : decode cX2_of 3 = .ok (.dup, 1) := dk_89 (dk_at dksX2_of_0 3 rfl rfl)
theorem dX2_of_4 : decode cX2_of 4 = .ok (.aload_n 0, 1) := dk_42 (dk_at dksX2_of_0 4 rfl rfl)
theorem dX2_of_5 : decode cX2_of 5 = .ok (.iload_n 1, 1) := dk_27 (dk_at dksX2_of_0 5 rfl rfl)
theorem dX2_of_6 : decode cX2_of 6 = .ok (.invokespecial 76, 3) := dk_183 0 76 (dk_at dksX2_of_0 6 rfl rfl)
theorem dX2_of_9 : decode cX2_of 9 = .ok (.areturn, 1) := dk_176 (dk_at dksX2_of_0 9 rfl rfl)
abbrev cX2_bandOf : ByteArray := prog_7_method_8_code
def yX2_bandOf : MethodName := ⟨RX2, "bandOf", "(I)I"⟩
def dkwX2_bandOf_2 : List UInt8 := [172]
abbrev dktX2_bandOf_2 : List UInt8 := dkwX2_bandOf_2 ++ []
def dkwX2_bandOf_1 : List UInt8 := [167, 0, 24, 28, 16, 70, 161, 0, 7, 5, 167, 0, 14, 28, 16, 50, 161, 0, 7, 4, 167, 0, 4, 3]
abbrev dktX2_bandOf_1 : List UInt8 := dkwX2_bandOf_1 ++ dktX2_bandOf_2
def dkwX2_bandOf_0 : List UInt8 := [42, 27, 182, 0, 117, 61, 28, 16, 100, 160, 0, 7, 7, 167, 0, 34, 28, 16, 85, 161, 0, 7, 6]
abbrev dktX2_bandOf_0 : List UInt8 := dkwX2_bandOf_0 ++ dktX2_bandOf_1
theorem dksX2_bandOf_0 : cX2_bandOf.data.toList.drop 0 = dktX2_bandOf_0 := by decide +kernel
theorem dksX2_bandOf_1 : cX2_bandOf.data.toList.drop 23 = dktX2_bandOf_1 := dk_seg dksX2_bandOf_0 23 rfl rfl
theorem dksX2_bandOf_2 : cX2_bandOf.data.toList.drop 47 = dktX2_bandOf_2 := dk_seg dksX2_bandOf_1 24 rfl rfl
theorem dX2_bandOf_0 : decode cX2_bandOf 0 = .ok (.aload_n 0, 1) := dk_42 (dk_at dksX2_bandOf_0 0 rfl rfl)
theorem dX2_bandOf_1 : decode cX2_bandOf 1 = .ok (.iload_n 1, 1) := dk_27 (dk_at dksX2_bandOf_0 1 rfl rfl)
theorem dX2_bandOf_2 : decode cX2_bandOf 2 = .ok (.invokevirtual 117, 3) := dk_182 0 117 (dk_at dksX2_bandOf_0 2 rfl rfl)
theorem dX2_bandOf_5 : decode cX2_bandOf 5 = .ok (.istore_n 2, 1) := dk_61 (dk_at dksX2_bandOf_0 5 rfl rfl)
theorem dX2_bandOf_6 : decode cX2_bandOf 6 = .ok (.iload_n 2, 1) := dk_28 (dk_at dksX2_bandOf_0 6 rfl rfl)
theorem dX2_bandOf_7 : decode cX2_bandOf 7 = .ok (.bipush 100, 2) := dk_16 100 (dk_at dksX2_bandOf_0 7 rfl rfl)
theorem dX2_bandOf_9 : decode cX2_bandOf 9 = .ok (.if_icmp .ne 7, 3) := dk_160 0 7 (dk_at dksX2_bandOf_0 9 rfl rfl)
theorem dX2_bandOf_12 : decode cX2_bandOf 12 = .ok (.iconst 4, 1) := dk_7 (dk_at dksX2_bandOf_0 12 rfl rfl)
theorem dX2_bandOf_13 : decode cX2_bandOf 13 = .ok (.goto 34, 3) := dk_167 0 34 (dk_at dksX2_bandOf_0 13 rfl rfl)
theorem dX2_bandOf_16 : decode cX2_bandOf 16 = .ok (.iload_n 2, 1) := dk_28 (dk_at dksX2_bandOf_0 16 rfl rfl)
theorem dX2_bandOf_17 : decode cX2_bandOf 17 = .ok (.bipush 85, 2) := dk_16 85 (dk_at dksX2_bandOf_0 17 rfl rfl)
theorem dX2_bandOf_19 : decode cX2_bandOf 19 = .ok (.if_icmp .lt 7, 3) := dk_161 0 7 (dk_at dksX2_bandOf_0 19 rfl rfl)
theorem dX2_bandOf_22 : decode cX2_bandOf 22 = .ok (.iconst 3, 1) := dk_6 (dk_at dksX2_bandOf_0 22 rfl rfl)
theorem dX2_bandOf_23 : decode cX2_bandOf 23 = .ok (.goto 24, 3) := dk_167 0 24 (dk_at dksX2_bandOf_1 0 rfl rfl)
theorem dX2_bandOf_26 : decode cX2_bandOf 26 = .ok (.iload_n 2, 1) := dk_28 (dk_at dksX2_bandOf_1 3 rfl rfl)
theorem dX2_bandOf_27 : decode cX2_bandOf 27 = .ok (.bipush 70, 2) := dk_16 70 (dk_at dksX2_bandOf_1 4 rfl rfl)
theorem dX2_bandOf_29 : decode cX2_bandOf 29 = .ok (.if_icmp .lt 7, 3) := dk_161 0 7 (dk_at dksX2_bandOf_1 6 rfl rfl)
theorem dX2_bandOf_32 : decode cX2_bandOf 32 = .ok (.iconst 2, 1) := dk_5 (dk_at dksX2_bandOf_1 9 rfl rfl)
theorem dX2_bandOf_33 : decode cX2_bandOf 33 = .ok (.goto 14, 3) := dk_167 0 14 (dk_at dksX2_bandOf_1 10 rfl rfl)
theorem dX2_bandOf_36 : decode cX2_bandOf 36 = .ok (.iload_n 2, 1) := dk_28 (dk_at dksX2_bandOf_1 13 rfl rfl)
theorem dX2_bandOf_37 : decode cX2_bandOf 37 = .ok (.bipush 50, 2) := dk_16 50 (dk_at dksX2_bandOf_1 14 rfl rfl)
theorem dX2_bandOf_39 : decode cX2_bandOf 39 = .ok (.if_icmp .lt 7, 3) := dk_161 0 7 (dk_at dksX2_bandOf_1 16 rfl rfl)
theorem dX2_bandOf_42 : decode cX2_bandOf 42 = .ok (.iconst 1, 1) := dk_4 (dk_at dksX2_bandOf_1 19 rfl rfl)
theorem dX2_bandOf_43 : decode cX2_bandOf 43 = .ok (.goto 4, 3) := dk_167 0 4 (dk_at dksX2_bandOf_1 20 rfl rfl)
theorem dX2_bandOf_46 : decode cX2_bandOf 46 = .ok (.iconst 0, 1) := dk_3 (dk_at dksX2_bandOf_1 23 rfl rfl)
theorem dX2_bandOf_47 : decode cX2_bandOf 47 = .ok (.ireturn, 1) := dk_172 (dk_at dksX2_bandOf_2 0 rfl rfl)
abbrev cX2_matchOf : ByteArray := prog_7_method_7_code
def yX2_matchOf : MethodName := ⟨RX2, "matchOf", "(I)I"⟩
def dkwX2_matchOf_2 : List UInt8 := [172]
abbrev dktX2_matchOf_2 : List UInt8 := dkwX2_matchOf_2 ++ []
def dkwX2_matchOf_1 : List UInt8 := [185, 0, 48, 2, 0, 192, 0, 98, 42, 180, 0, 27, 28, 185, 0, 48, 2, 0, 192, 0, 98, 182, 0, 103]
abbrev dktX2_matchOf_1 : List UInt8 := dkwX2_matchOf_1 ++ dktX2_matchOf_2
def dkwX2_matchOf_0 : List UInt8 := [42, 27, 182, 0, 113, 61, 28, 2, 160, 0, 7, 3, 167, 0, 32, 42, 180, 0, 27, 27]
abbrev dktX2_matchOf_0 : List UInt8 := dkwX2_matchOf_0 ++ dktX2_matchOf_1
theorem dksX2_matchOf_0 : cX2_matchOf.data.toList.drop 0 = dktX2_matchOf_0 := by decide +kernel
theorem dksX2_matchOf_1 : cX2_matchOf.data.toList.drop 20 = dktX2_matchOf_1 := dk_seg dksX2_matchOf_0 20 rfl rfl
theorem dksX2_matchOf_2 : cX2_matchOf.data.toList.drop 44 = dktX2_matchOf_2 := dk_seg dksX2_matchOf_1 24 rfl rfl
theorem dX2_matchOf_0 : decode cX2_matchOf 0 = .ok (.aload_n 0, 1) := dk_42 (dk_at dksX2_matchOf_0 0 rfl rfl)
theorem dX2_matchOf_1 : decode cX2_matchOf 1 = .ok (.iload_n 1, 1) := dk_27 (dk_at dksX2_matchOf_0 1 rfl rfl)
theorem dX2_matchOf_2 : decode cX2_matchOf 2 = .ok (.invokevirtual 113, 3) := dk_182 0 113 (dk_at dksX2_matchOf_0 2 rfl rfl)
theorem dX2_matchOf_5 : decode cX2_matchOf 5 = .ok (.istore_n 2, 1) := dk_61 (dk_at dksX2_matchOf_0 5 rfl rfl)
theorem dX2_matchOf_6 : decode cX2_matchOf 6 = .ok (.iload_n 2, 1) := dk_28 (dk_at dksX2_matchOf_0 6 rfl rfl)
theorem dX2_matchOf_7 : decode cX2_matchOf 7 = .ok (.iconst (-1), 1) := dk_2 (dk_at dksX2_matchOf_0 7 rfl rfl)
theorem dX2_matchOf_8 : decode cX2_matchOf 8 = .ok (.if_icmp .ne 7, 3) := dk_160 0 7 (dk_at dksX2_matchOf_0 8 rfl rfl)
theorem dX2_matchOf_11 : decode cX2_matchOf 11 = .ok (.iconst 0, 1) := dk_3 (dk_at dksX2_matchOf_0 11 rfl rfl)
theorem dX2_matchOf_12 : decode cX2_matchOf 12 = .ok (.goto 32, 3) := dk_167 0 32 (dk_at dksX2_matchOf_0 12 rfl rfl)
theorem dX2_matchOf_15 : decode cX2_matchOf 15 = .ok (.aload_n 0, 1) := dk_42 (dk_at dksX2_matchOf_0 15 rfl rfl)
theorem dX2_matchOf_16 : decode cX2_matchOf 16 = .ok (.getfield 27, 3) := dk_180 0 27 (dk_at dksX2_matchOf_0 16 rfl rfl)
theorem dX2_matchOf_19 : decode cX2_matchOf 19 = .ok (.iload_n 1, 1) := dk_27 (dk_at dksX2_matchOf_0 19 rfl rfl)
theorem dX2_matchOf_20 : decode cX2_matchOf 20 = .ok (.invokeinterface 48 2, 5) := by decide +kernel
theorem dX2_matchOf_25 : decode cX2_matchOf 25 = .ok (.checkcast 98, 3) := dk_192 0 98 (dk_at dksX2_matchOf_1 5 rfl rfl)
theorem dX2_matchOf_28 : decode cX2_matchOf 28 = .ok (.aload_n 0, 1) := dk_42 (dk_at dksX2_matchOf_1 8 rfl rfl)
theorem dX2_matchOf_29 : decode cX2_matchOf 29 = .ok (.getfield 27, 3) := dk_180 0 27 (dk_at dksX2_matchOf_1 9 rfl rfl)
theorem dX2_matchOf_32 : decode cX2_matchOf 32 = .ok (.iload_n 2, 1) := dk_28 (dk_at dksX2_matchOf_1 12 rfl rfl)
theorem dX2_matchOf_33 : decode cX2_matchOf 33 = .ok (.invokeinterface 48 2, 5) := by decide +kernel
theorem dX2_matchOf_38 : decode cX2_matchOf 38 = .ok (.checkcast 98, 3) := dk_192 0 98 (dk_at dksX2_matchOf_1 18 rfl rfl)
theorem dX2_matchOf_41 : decode cX2_matchOf 41 = .ok (.invokevirtual 103, 3) := dk_182 0 103 (dk_at dksX2_matchOf_1 21 rfl rfl)
theorem dX2_matchOf_44 : decode cX2_matchOf 44 = .ok (.ireturn, 1) := dk_172 (dk_at dksX2_matchOf_2 0 rfl rfl)
abbrev cX2_modelOf : ByteArray := prog_7_method_6_code
def yX2_modelOf : MethodName := ⟨RX2, "modelOf", "(I)I"⟩
def dkwX2_modelOf_3 : List UInt8 := [28, 172]
abbrev dktX2_modelOf_3 : List UInt8 := dkwX2_modelOf_3 ++ []
def dkwX2_modelOf_2 : List UInt8 := [29, 161, 0, 8, 21, 4, 167, 0, 4, 28, 61, 29, 21, 5, 184, 0, 107, 62, 132, 4, 1, 167, 255, 195]
abbrev dktX2_modelOf_2 : List UInt8 := dkwX2_modelOf_2 ++ dktX2_modelOf_3
def dkwX2_modelOf_1 : List UInt8 := [192, 0, 98, 42, 180, 0, 27, 21, 4, 185, 0, 48, 2, 0, 192, 0, 98, 182, 0, 103, 54, 5, 21, 5]
abbrev dktX2_modelOf_1 : List UInt8 := dkwX2_modelOf_1 ++ dktX2_modelOf_2
def dkwX2_modelOf_0 : List UInt8 := [2, 61, 3, 62, 3, 54, 4, 21, 4, 27, 162, 0, 61, 42, 180, 0, 27, 27, 185, 0, 48, 2, 0]
abbrev dktX2_modelOf_0 : List UInt8 := dkwX2_modelOf_0 ++ dktX2_modelOf_1
theorem dksX2_modelOf_0 : cX2_modelOf.data.toList.drop 0 = dktX2_modelOf_0 := by decide +kernel
theorem dksX2_modelOf_1 : cX2_modelOf.data.toList.drop 23 = dktX2_modelOf_1 := dk_seg dksX2_modelOf_0 23 rfl rfl
theorem dksX2_modelOf_2 : cX2_modelOf.data.toList.drop 47 = dktX2_modelOf_2 := dk_seg dksX2_modelOf_1 24 rfl rfl
theorem dksX2_modelOf_3 : cX2_modelOf.data.toList.drop 71 = dktX2_modelOf_3 := dk_seg dksX2_modelOf_2 24 rfl rfl
theorem dX2_modelOf_0 : decode cX2_modelOf 0 = .ok (.iconst (-1), 1) := dk_2 (dk_at dksX2_modelOf_0 0 rfl rfl)
theorem dX2_modelOf_1 : decode cX2_modelOf 1 = .ok (.istore_n 2, 1) := dk_61 (dk_at dksX2_modelOf_0 1 rfl rfl)
theorem dX2_modelOf_2 : decode cX2_modelOf 2 = .ok (.iconst 0, 1) := dk_3 (dk_at dksX2_modelOf_0 2 rfl rfl)
theorem dX2_modelOf_3 : decode cX2_modelOf 3 = .ok (.istore_n 3, 1) := dk_62 (dk_at dksX2_modelOf_0 3 rfl rfl)
theorem dX2_modelOf_4 : decode cX2_modelOf 4 = .ok (.iconst 0, 1) := dk_3 (dk_at dksX2_modelOf_0 4 rfl rfl)
theorem dX2_modelOf_5 : decode cX2_modelOf 5 = .ok (.istore 4, 2) := dk_54 4 (dk_at dksX2_modelOf_0 5 rfl rfl)
theorem dX2_modelOf_7 : decode cX2_modelOf 7 = .ok (.iload 4, 2) := dk_21 4 (dk_at dksX2_modelOf_0 7 rfl rfl)
theorem dX2_modelOf_9 : decode cX2_modelOf 9 = .ok (.iload_n 1, 1) := dk_27 (dk_at dksX2_modelOf_0 9 rfl rfl)
theorem dX2_modelOf_10 : decode cX2_modelOf 10 = .ok (.if_icmp .ge 61, 3) := dk_162 0 61 (dk_at dksX2_modelOf_0 10 rfl rfl)
theorem dX2_modelOf_13 : decode cX2_modelOf 13 = .ok (.aload_n 0, 1) := dk_42 (dk_at dksX2_modelOf_0 13 rfl rfl)
theorem dX2_modelOf_14 : decode cX2_modelOf 14 = .ok (.getfield 27, 3) := dk_180 0 27 (dk_at dksX2_modelOf_0 14 rfl rfl)
theorem dX2_modelOf_17 : decode cX2_modelOf 17 = .ok (.iload_n 1, 1) := dk_27 (dk_at dksX2_modelOf_0 17 rfl rfl)
theorem dX2_modelOf_18 : decode cX2_modelOf 18 = .ok (.invokeinterface 48 2, 5) := by decide +kernel
theorem dX2_modelOf_23 : decode cX2_modelOf 23 = .ok (.checkcast 98, 3) := dk_192 0 98 (dk_at dksX2_modelOf_1 0 rfl rfl)
theorem dX2_modelOf_26 : decode cX2_modelOf 26 = .ok (.aload_n 0, 1) := dk_42 (dk_at dksX2_modelOf_1 3 rfl rfl)
theorem dX2_modelOf_27 : decode cX2_modelOf 27 = .ok (.getfield 27, 3) := dk_180 0 27 (dk_at dksX2_modelOf_1 4 rfl rfl)
theorem dX2_modelOf_30 : decode cX2_modelOf 30 = .ok (.iload 4, 2) := dk_21 4 (dk_at dksX2_modelOf_1 7 rfl rfl)
theorem dX2_modelOf_32 : decode cX2_modelOf 32 = .ok (.invokeinterface 48 2, 5) := by decide +kernel
theorem dX2_modelOf_37 : decode cX2_modelOf 37 = .ok (.checkcast 98, 3) := dk_192 0 98 (dk_at dksX2_modelOf_1 14 rfl rfl)
theorem dX2_modelOf_40 : decode cX2_modelOf 40 = .ok (.invokevirtual 103, 3) := dk_182 0 103 (dk_at dksX2_modelOf_1 17 rfl rfl)
theorem dX2_modelOf_43 : decode cX2_modelOf 43 = .ok (.istore 5, 2) := dk_54 5 (dk_at dksX2_modelOf_1 20 rfl rfl)
theorem dX2_modelOf_45 : decode cX2_modelOf 45 = .ok (.iload 5, 2) := dk_21 5 (dk_at dksX2_modelOf_1 22 rfl rfl)
theorem dX2_modelOf_47 : decode cX2_modelOf 47 = .ok (.iload_n 3, 1) := dk_29 (dk_at dksX2_modelOf_2 0 rfl rfl)
theorem dX2_modelOf_48 : decode cX2_modelOf 48 = .ok (.if_icmp .lt 8, 3) := dk_161 0 8 (dk_at dksX2_modelOf_2 1 rfl rfl)
theorem dX2_modelOf_51 : decode cX2_modelOf 51 = .ok (.iload 4, 2) := dk_21 4 (dk_at dksX2_modelOf_2 4 rfl rfl)
theorem dX2_modelOf_53 : decode cX2_modelOf 53 = .ok (.goto 4, 3) := dk_167 0 4 (dk_at dksX2_modelOf_2 6 rfl rfl)
theorem dX2_modelOf_56 : decode cX2_modelOf 56 = .ok (.iload_n 2, 1) := dk_28 (dk_at dksX2_modelOf_2 9 rfl rfl)
theorem dX2_modelOf_57 : decode cX2_modelOf 57 = .ok (.istore_n 2, 1) := dk_61 (dk_at dksX2_modelOf_2 10 rfl rfl)
theorem dX2_modelOf_58 : decode cX2_modelOf 58 = .ok (.iload_n 3, 1) := dk_29 (dk_at dksX2_modelOf_2 11 rfl rfl)
theorem dX2_modelOf_59 : decode cX2_modelOf 59 = .ok (.iload 5, 2) := dk_21 5 (dk_at dksX2_modelOf_2 12 rfl rfl)
theorem dX2_modelOf_61 : decode cX2_modelOf 61 = .ok (.invokestatic 107, 3) := dk_184 0 107 (dk_at dksX2_modelOf_2 14 rfl rfl)
theorem dX2_modelOf_64 : decode cX2_modelOf 64 = .ok (.istore_n 3, 1) := dk_62 (dk_at dksX2_modelOf_2 17 rfl rfl)
theorem dX2_modelOf_65 : decode cX2_modelOf 65 = .ok (.iinc 4 1, 3) := dk_132 4 1 (dk_at dksX2_modelOf_2 18 rfl rfl)
theorem dX2_modelOf_68 : decode cX2_modelOf 68 = .ok (.goto (-61), 3) := dk_167 255 195 (dk_at dksX2_modelOf_2 21 rfl rfl)
theorem dX2_modelOf_71 : decode cX2_modelOf 71 = .ok (.iload_n 2, 1) := dk_28 (dk_at dksX2_modelOf_3 0 rfl rfl)
theorem dX2_modelOf_72 : decode cX2_modelOf 72 = .ok (.ireturn, 1) := dk_172 (dk_at dksX2_modelOf_3 1 rfl rfl)
abbrev cX2_premiumOf : ByteArray := prog_7_method_13_code
def yX2_premiumOf : MethodName := ⟨RX2, "premiumOf", "(II)I"⟩
def dkwX2_premiumOf_0 : List UInt8 := [16, 100, 42, 180, 0, 30, 5, 46, 3, 42, 27, 182, 0, 137, 28, 100, 184, 0, 107, 104, 184, 0, 140, 172]
abbrev dktX2_premiumOf_0 : List UInt8 := dkwX2_premiumOf_0 ++ []
theorem dksX2_premiumOf_0 : cX2_premiumOf.data.toList.drop 0 = dktX2_premiumOf_0 := by decide +kernel
theorem dX2_premiumOf_0 : decode cX2_premiumOf 0 = .ok (.bipush 100, 2) := dk_16 100 (dk_at dksX2_premiumOf_0 0 rfl rfl)
theorem dX2_premiumOf_2 : decode cX2_premiumOf 2 = .ok (.aload_n 0, 1) := dk_42 (dk_at dksX2_premiumOf_0 2 rfl rfl)
theorem dX2_premiumOf_3 : decode cX2_premiumOf 3 = .ok (.getfield 30, 3) := dk_180 0 30 (dk_at dksX2_premiumOf_0 3 rfl rfl)
theorem dX2_premiumOf_6 : decode cX2_premiumOf 6 = .ok (.iconst 2, 1) := dk_5 (dk_at dksX2_premiumOf_0 6 rfl rfl)
theorem dX2_premiumOf_7 : decode cX2_premiumOf 7 = .ok (.iaload, 1) := dk_46 (dk_at dksX2_premiumOf_0 7 rfl rfl)
theorem dX2_premiumOf_8 : decode cX2_premiumOf 8 = .ok (.iconst 0, 1) := dk_3 (dk_at dksX2_premiumOf_0 8 rfl rfl)
theorem dX2_premiumOf_9 : decode cX2_premiumOf 9 = .ok (.aload_n 0, 1) := dk_42 (dk_at dksX2_premiumOf_0 9 rfl rfl)
theorem dX2_premiumOf_10 : decode cX2_premiumOf 10 = .ok (.iload_n 1, 1) := dk_27 (dk_at dksX2_premiumOf_0 10 rfl rfl)
theorem dX2_premiumOf_11 : decode cX2_premiumOf 11 = .ok (.invokevirtual 137, 3) := dk_182 0 137 (dk_at dksX2_premiumOf_0 11 rfl rfl)
theorem dX2_premiumOf_14 : decode cX2_premiumOf 14 = .ok (.iload_n 2, 1) := dk_28 (dk_at dksX2_premiumOf_0 14 rfl rfl)
theorem dX2_premiumOf_15 : decode cX2_premiumOf 15 = .ok (.isub, 1) := dk_100 (dk_at dksX2_premiumOf_0 15 rfl rfl)
theorem dX2_premiumOf_16 : decode cX2_premiumOf 16 = .ok (.invokestatic 107, 3) := dk_184 0 107 (dk_at dksX2_premiumOf_0 16 rfl rfl)
theorem dX2_premiumOf_19 : decode cX2_premiumOf 19 = .ok (.imul, 1) := dk_104 (dk_at dksX2_premiumOf_0 19 rfl rfl)
theorem dX2_premiumOf_20 : decode cX2_premiumOf 20 = .ok (.invokestatic 140, 3) := dk_184 0 140 (dk_at dksX2_premiumOf_0 20 rfl rfl)
theorem dX2_premiumOf_23 : decode cX2_premiumOf 23 = .ok (.ireturn, 1) := dk_172 (dk_at dksX2_premiumOf_0 23 rfl rfl)
abbrev cX2_hoursOf : ByteArray := prog_7_method_12_code
def yX2_hoursOf : MethodName := ⟨RX2, "hoursOf", "(I)I"⟩
def dkwX2_hoursOf_0 : List UInt8 := [42, 27, 182, 0, 134, 42, 180, 0, 30, 4, 46, 96, 4, 100, 42, 180, 0, 30, 4, 46, 108, 172]
abbrev dktX2_hoursOf_0 : List UInt8 := dkwX2_hoursOf_0 ++ []
theorem dksX2_hoursOf_0 : cX2_hoursOf.data.toList.drop 0 = dktX2_hoursOf_0 := by decide +kernel
theorem dX2_hoursOf_0 : decode cX2_hoursOf 0 = .ok (.aload_n 0, 1) := dk_42 (dk_at dksX2_hoursOf_0 0 rfl rfl)
theorem dX2_hoursOf_1 : decode cX2_hoursOf 1 = .ok (.iload_n 1, 1) := dk_27 (dk_at dksX2_hoursOf_0 1 rfl rfl)
theorem dX2_hoursOf_2 : decode cX2_hoursOf 2 = .ok (.invokevirtual 134, 3) := dk_182 0 134 (dk_at dksX2_hoursOf_0 2 rfl rfl)
theorem dX2_hoursOf_5 : decode cX2_hoursOf 5 = .ok (.aload_n 0, 1) := dk_42 (dk_at dksX2_hoursOf_0 5 rfl rfl)
theorem dX2_hoursOf_6 : decode cX2_hoursOf 6 = .ok (.getfield 30, 3) := dk_180 0 30 (dk_at dksX2_hoursOf_0 6 rfl rfl)
theorem dX2_hoursOf_9 : decode cX2_hoursOf 9 = .ok (.iconst 1, 1) := dk_4 (dk_at dksX2_hoursOf_0 9 rfl rfl)
theorem dX2_hoursOf_10 : decode cX2_hoursOf 10 = .ok (.iaload, 1) := dk_46 (dk_at dksX2_hoursOf_0 10 rfl rfl)
theorem dX2_hoursOf_11 : decode cX2_hoursOf 11 = .ok (.iadd, 1) := dk_96 (dk_at dksX2_hoursOf_0 11 rfl rfl)
theorem dX2_hoursOf_12 : decode cX2_hoursOf 12 = .ok (.iconst 1, 1) := dk_4 (dk_at dksX2_hoursOf_0 12 rfl rfl)
theorem dX2_hoursOf_13 : decode cX2_hoursOf 13 = .ok (.isub, 1) := dk_100 (dk_at dksX2_hoursOf_0 13 rfl rfl)
theorem dX2_hoursOf_14 : decode cX2_hoursOf 14 = .ok (.aload_n 0, 1) := dk_42 (dk_at dksX2_hoursOf_0 14 rfl rfl)
theorem dX2_hoursOf_15 : decode cX2_hoursOf 15 = .ok (.getfield 30, 3) := dk_180 0 30 (dk_at dksX2_hoursOf_0 15 rfl rfl)
theorem dX2_hoursOf_18 : decode cX2_hoursOf 18 = .ok (.iconst 1, 1) := dk_4 (dk_at dksX2_hoursOf_0 18 rfl rfl)
theorem dX2_hoursOf_19 : decode cX2_hoursOf 19 = .ok (.iaload, 1) := dk_46 (dk_at dksX2_hoursOf_0 19 rfl rfl)
theorem dX2_hoursOf_20 : decode cX2_hoursOf 20 = .ok (.idiv, 1) := dk_108 (dk_at dksX2_hoursOf_0 20 rfl rfl)
theorem dX2_hoursOf_21 : decode cX2_hoursOf 21 = .ok (.ireturn, 1) := dk_172 (dk_at dksX2_hoursOf_0 21 rfl rfl)
abbrev cX2_wordsOf : ByteArray := prog_7_method_9_code
def yX2_wordsOf : MethodName := ⟨RX2, "wordsOf", "(I)I"⟩
def dkwX2_wordsOf_2 : List UInt8 := [185, 0, 48, 2, 0, 192, 0, 98, 182, 0, 124, 96, 61, 167, 255, 213, 28, 172]
abbrev dktX2_wordsOf_2 : List UInt8 := dkwX2_wordsOf_2 ++ []
def dkwX2_wordsOf_1 : List UInt8 := [185, 0, 89, 1, 0, 192, 0, 93, 182, 0, 95, 54, 4, 28, 42, 180, 0, 27, 21, 4]
abbrev dktX2_wordsOf_1 : List UInt8 := dkwX2_wordsOf_1 ++ dktX2_wordsOf_2
def dkwX2_wordsOf_0 : List UInt8 := [3, 61, 42, 27, 182, 0, 120, 182, 0, 79, 78, 45, 185, 0, 83, 1, 0, 153, 0, 40, 45]
abbrev dktX2_wordsOf_0 : List UInt8 := dkwX2_wordsOf_0 ++ dktX2_wordsOf_1
theorem dksX2_wordsOf_0 : cX2_wordsOf.data.toList.drop 0 = dktX2_wordsOf_0 := by decide +kernel
theorem dksX2_wordsOf_1 : cX2_wordsOf.data.toList.drop 21 = dktX2_wordsOf_1 := dk_seg dksX2_wordsOf_0 21 rfl rfl
theorem dksX2_wordsOf_2 : cX2_wordsOf.data.toList.drop 41 = dktX2_wordsOf_2 := dk_seg dksX2_wordsOf_1 20 rfl rfl
theorem dX2_wordsOf_0 : decode cX2_wordsOf 0 = .ok (.iconst 0, 1) := dk_3 (dk_at dksX2_wordsOf_0 0 rfl rfl)
theorem dX2_wordsOf_1 : decode cX2_wordsOf 1 = .ok (.istore_n 2, 1) := dk_61 (dk_at dksX2_wordsOf_0 1 rfl rfl)
theorem dX2_wordsOf_2 : decode cX2_wordsOf 2 = .ok (.aload_n 0, 1) := dk_42 (dk_at dksX2_wordsOf_0 2 rfl rfl)
theorem dX2_wordsOf_3 : decode cX2_wordsOf 3 = .ok (.iload_n 1, 1) := dk_27 (dk_at dksX2_wordsOf_0 3 rfl rfl)
theorem dX2_wordsOf_4 : decode cX2_wordsOf 4 = .ok (.invokevirtual 120, 3) := dk_182 0 120 (dk_at dksX2_wordsOf_0 4 rfl rfl)
theorem dX2_wordsOf_7 : decode cX2_wordsOf 7 = .ok (.invokevirtual 79, 3) := dk_182 0 79 (dk_at dksX2_wordsOf_0 7 rfl rfl)
theorem dX2_wordsOf_10 : decode cX2_wordsOf 10 = .ok (.astore_n 3, 1) := dk_78 (dk_at dksX2_wordsOf_0 10 rfl rfl)
theorem dX2_wordsOf_11 : decode cX2_wordsOf 11 = .ok (.aload_n 3, 1) := dk_45 (dk_at dksX2_wordsOf_0 11 rfl rfl)
theorem dX2_wordsOf_12 : decode cX2_wordsOf 12 = .ok (.invokeinterface 83 1, 5) := by decide +kernel
theorem dX2_wordsOf_17 : decode cX2_wordsOf 17 = .ok (.ifCond .eq 40, 3) := dk_153 0 40 (dk_at dksX2_wordsOf_0 17 rfl rfl)
theorem dX2_wordsOf_20 : decode cX2_wordsOf 20 = .ok (.aload_n 3, 1) := dk_45 (dk_at dksX2_wordsOf_0 20 rfl rfl)
theorem dX2_wordsOf_21 : decode cX2_wordsOf 21 = .ok (.invokeinterface 89 1, 5) := by decide +kernel
theorem dX2_wordsOf_26 : decode cX2_wordsOf 26 = .ok (.checkcast 93, 3) := dk_192 0 93 (dk_at dksX2_wordsOf_1 5 rfl rfl)
theorem dX2_wordsOf_29 : decode cX2_wordsOf 29 = .ok (.invokevirtual 95, 3) := dk_182 0 95 (dk_at dksX2_wordsOf_1 8 rfl rfl)
theorem dX2_wordsOf_32 : decode cX2_wordsOf 32 = .ok (.istore 4, 2) := dk_54 4 (dk_at dksX2_wordsOf_1 11 rfl rfl)
theorem dX2_wordsOf_34 : decode cX2_wordsOf 34 = .ok (.iload_n 2, 1) := dk_28 (dk_at dksX2_wordsOf_1 13 rfl rfl)
theorem dX2_wordsOf_35 : decode cX2_wordsOf 35 = .ok (.aload_n 0, 1) := dk_42 (dk_at dksX2_wordsOf_1 14 rfl rfl)
theorem dX2_wordsOf_36 : decode cX2_wordsOf 36 = .ok (.getfield 27, 3) := dk_180 0 27 (dk_at dksX2_wordsOf_1 15 rfl rfl)
theorem dX2_wordsOf_39 : decode cX2_wordsOf 39 = .ok (.iload 4, 2) := dk_21 4 (dk_at dksX2_wordsOf_1 18 rfl rfl)
theorem dX2_wordsOf_41 : decode cX2_wordsOf 41 = .ok (.invokeinterface 48 2, 5) := by decide +kernel
theorem dX2_wordsOf_46 : decode cX2_wordsOf 46 = .ok (.checkcast 98, 3) := dk_192 0 98 (dk_at dksX2_wordsOf_2 5 rfl rfl)
theorem dX2_wordsOf_49 : decode cX2_wordsOf 49 = .ok (.invokevirtual 124, 3) := dk_182 0 124 (dk_at dksX2_wordsOf_2 8 rfl rfl)
theorem dX2_wordsOf_52 : decode cX2_wordsOf 52 = .ok (.iadd, 1) := dk_96 (dk_at dksX2_wordsOf_2 11 rfl rfl)
theorem dX2_wordsOf_53 : decode cX2_wordsOf 53 = .ok (.istore_n 2, 1) := dk_61 (dk_at dksX2_wordsOf_2 12 rfl rfl)
theorem dX2_wordsOf_54 : decode cX2_wordsOf 54 = .ok (.goto (-43), 3) := dk_167 255 213 (dk_at dksX2_wordsOf_2 13 rfl rfl)
theorem dX2_wordsOf_57 : decode cX2_wordsOf 57 = .ok (.iload_n 2, 1) := dk_28 (dk_at dksX2_wordsOf_2 16 rfl rfl)
theorem dX2_wordsOf_58 : decode cX2_wordsOf 58 = .ok (.ireturn, 1) := dk_172 (dk_at dksX2_wordsOf_2 17 rfl rfl)
abbrev cX2_revised : ByteArray := prog_7_method_14_code
def yX2_revised : MethodName := ⟨RX2, "revised", "(I)I"⟩
def dkwX2_revised_0 : List UInt8 := [42, 180, 0, 30, 6, 46, 42, 27, 182, 0, 134, 42, 27, 182, 0, 130, 7, 46, 100, 104, 172]
abbrev dktX2_revised_0 : List UInt8 := dkwX2_revised_0 ++ []
theorem dksX2_revised_0 : cX2_revised.data.toList.drop 0 = dktX2_revised_0 := by decide +kernel
theorem dX2_revised_0 : decode cX2_revised 0 = .ok (.aload_n 0, 1) := dk_42 (dk_at dksX2_revised_0 0 rfl rfl)
theorem dX2_revised_1 : decode cX2_revised 1 = .ok (.getfield 30, 3) := dk_180 0 30 (dk_at dksX2_revised_0 1 rfl rfl)
theorem dX2_revised_4 : decode cX2_revised 4 = .ok (.iconst 3, 1) := dk_6 (dk_at dksX2_revised_0 4 rfl rfl)
theorem dX2_revised_5 : decode cX2_revised 5 = .ok (.iaload, 1) := dk_46 (dk_at dksX2_revised_0 5 rfl rfl)
theorem dX2_revised_6 : decode cX2_revised 6 = .ok (.aload_n 0, 1) := dk_42 (dk_at dksX2_revised_0 6 rfl rfl)
theorem dX2_revised_7 : decode cX2_revised 7 = .ok (.iload_n 1, 1) := dk_27 (dk_at dksX2_revised_0 7 rfl rfl)
theorem dX2_revised_8 : decode cX2_revised 8 = .ok (.invokevirtual 134, 3) := dk_182 0 134 (dk_at dksX2_revised_0 8 rfl rfl)
theorem dX2_revised_11 : decode cX2_revised 11 = .ok (.aload_n 0, 1) := dk_42 (dk_at dksX2_revised_0 11 rfl rfl)
theorem dX2_revised_12 : decode cX2_revised 12 = .ok (.iload_n 1, 1) := dk_27 (dk_at dksX2_revised_0 12 rfl rfl)
theorem dX2_revised_13 : decode cX2_revised 13 = .ok (.invokevirtual 130, 3) := dk_182 0 130 (dk_at dksX2_revised_0 13 rfl rfl)
theorem dX2_revised_16 : decode cX2_revised 16 = .ok (.iconst 4, 1) := dk_7 (dk_at dksX2_revised_0 16 rfl rfl)
theorem dX2_revised_17 : decode cX2_revised 17 = .ok (.iaload, 1) := dk_46 (dk_at dksX2_revised_0 17 rfl rfl)
theorem dX2_revised_18 : decode cX2_revised 18 = .ok (.isub, 1) := dk_100 (dk_at dksX2_revised_0 18 rfl rfl)
theorem dX2_revised_19 : decode cX2_revised 19 = .ok (.imul, 1) := dk_104 (dk_at dksX2_revised_0 19 rfl rfl)
theorem dX2_revised_20 : decode cX2_revised 20 = .ok (.ireturn, 1) := dk_172 (dk_at dksX2_revised_0 20 rfl rfl)
abbrev cX2_pairsOf : ByteArray := prog_7_method_19_code
def yX2_pairsOf : MethodName := ⟨RX2, "pairsOf", "(III)I"⟩
def dkwX2_pairsOf_3 : List UInt8 := [4, 167, 0, 4, 3, 96, 54, 4, 132, 5, 1, 167, 255, 181, 21, 4, 172]
abbrev dktX2_pairsOf_3 : List UInt8 := dkwX2_pairsOf_3 ++ []
def dkwX2_pairsOf_2 : List UInt8 := [160, 0, 28, 42, 180, 0, 24, 21, 5, 185, 0, 48, 2, 0, 192, 0, 52, 180, 0, 166, 28, 160, 0, 7]
abbrev dktX2_pairsOf_2 : List UInt8 := dkwX2_pairsOf_2 ++ dktX2_pairsOf_3
def dkwX2_pairsOf_1 : List UInt8 := [29, 159, 0, 49, 42, 180, 0, 24, 21, 5, 185, 0, 48, 2, 0, 192, 0, 52, 180, 0, 163, 27]
abbrev dktX2_pairsOf_1 : List UInt8 := dkwX2_pairsOf_1 ++ dktX2_pairsOf_2
def dkwX2_pairsOf_0 : List UInt8 := [3, 54, 4, 3, 54, 5, 21, 5, 42, 180, 0, 24, 185, 0, 44, 1, 0, 162, 0, 67, 21, 4, 21, 5]
abbrev dktX2_pairsOf_0 : List UInt8 := dkwX2_pairsOf_0 ++ dktX2_pairsOf_1
theorem dksX2_pairsOf_0 : cX2_pairsOf.data.toList.drop 0 = dktX2_pairsOf_0 := by decide +kernel
theorem dksX2_pairsOf_1 : cX2_pairsOf.data.toList.drop 24 = dktX2_pairsOf_1 := dk_seg dksX2_pairsOf_0 24 rfl rfl
theorem dksX2_pairsOf_2 : cX2_pairsOf.data.toList.drop 46 = dktX2_pairsOf_2 := dk_seg dksX2_pairsOf_1 22 rfl rfl
theorem dksX2_pairsOf_3 : cX2_pairsOf.data.toList.drop 70 = dktX2_pairsOf_3 := dk_seg dksX2_pairsOf_2 24 rfl rfl
theorem dX2_pairsOf_0 : decode cX2_pairsOf 0 = .ok (.iconst 0, 1) := dk_3 (dk_at dksX2_pairsOf_0 0 rfl rfl)
theorem dX2_pairsOf_1 : decode cX2_pairsOf 1 = .ok (.istore 4, 2) := dk_54 4 (dk_at dksX2_pairsOf_0 1 rfl rfl)
theorem dX2_pairsOf_3 : decode cX2_pairsOf 3 = .ok (.iconst 0, 1) := dk_3 (dk_at dksX2_pairsOf_0 3 rfl rfl)
theorem dX2_pairsOf_4 : decode cX2_pairsOf 4 = .ok (.istore 5, 2) := dk_54 5 (dk_at dksX2_pairsOf_0 4 rfl rfl)
theorem dX2_pairsOf_6 : decode cX2_pairsOf 6 = .ok (.iload 5, 2) := dk_21 5 (dk_at dksX2_pairsOf_0 6 rfl rfl)
theorem dX2_pairsOf_8 : decode cX2_pairsOf 8 = .ok (.aload_n 0, 1) := dk_42 (dk_at dksX2_pairsOf_0 8 rfl rfl)
theorem dX2_pairsOf_9 : decode cX2_pairsOf 9 = .ok (.getfield 24, 3) := dk_180 0 24 (dk_at dksX2_pairsOf_0 9 rfl rfl)
theorem dX2_pairsOf_12 : decode cX2_pairsOf 12 = .ok (.invokeinterface 44 1, 5) := by decide +kernel
theorem dX2_pairsOf_17 : decode cX2_pairsOf 17 = .ok (.if_icmp .ge 67, 3) := dk_162 0 67 (dk_at dksX2_pairsOf_0 17 rfl rfl)
theorem dX2_pairsOf_20 : decode cX2_pairsOf 20 = .ok (.iload 4, 2) := dk_21 4 (dk_at dksX2_pairsOf_0 20 rfl rfl)
theorem dX2_pairsOf_22 : decode cX2_pairsOf 22 = .ok (.iload 5, 2) := dk_21 5 (dk_at dksX2_pairsOf_0 22 rfl rfl)
theorem dX2_pairsOf_24 : decode cX2_pairsOf 24 = .ok (.iload_n 3, 1) := dk_29 (dk_at dksX2_pairsOf_1 0 rfl rfl)
theorem dX2_pairsOf_25 : decode cX2_pairsOf 25 = .ok (.if_icmp .eq 49, 3) := dk_159 0 49 (dk_at dksX2_pairsOf_1 1 rfl rfl)
theorem dX2_pairsOf_28 : decode cX2_pairsOf 28 = .ok (.aload_n 0, 1) := dk_42 (dk_at dksX2_pairsOf_1 4 rfl rfl)
theorem dX2_pairsOf_29 : decode cX2_pairsOf 29 = .ok (.getfield 24, 3) := dk_180 0 24 (dk_at dksX2_pairsOf_1 5 rfl rfl)
theorem dX2_pairsOf_32 : decode cX2_pairsOf 32 = .ok (.iload 5, 2) := dk_21 5 (dk_at dksX2_pairsOf_1 8 rfl rfl)
theorem dX2_pairsOf_34 : decode cX2_pairsOf 34 = .ok (.invokeinterface 48 2, 5) := by decide +kernel
theorem dX2_pairsOf_39 : decode cX2_pairsOf 39 = .ok (.checkcast 52, 3) := dk_192 0 52 (dk_at dksX2_pairsOf_1 15 rfl rfl)
theorem dX2_pairsOf_42 : decode cX2_pairsOf 42 = .ok (.getfield 163, 3) := dk_180 0 163 (dk_at dksX2_pairsOf_1 18 rfl rfl)
theorem dX2_pairsOf_45 : decode cX2_pairsOf 45 = .ok (.iload_n 1, 1) := dk_27 (dk_at dksX2_pairsOf_1 21 rfl rfl)
theorem dX2_pairsOf_46 : decode cX2_pairsOf 46 = .ok (.if_icmp .ne 28, 3) := dk_160 0 28 (dk_at dksX2_pairsOf_2 0 rfl rfl)
theorem dX2_pairsOf_49 : decode cX2_pairsOf 49 = .ok (.aload_n 0, 1) := dk_42 (dk_at dksX2_pairsOf_2 3 rfl rfl)
theorem dX2_pairsOf_50 : decode cX2_pairsOf 50 = .ok (.getfield 24, 3) := dk_180 0 24 (dk_at dksX2_pairsOf_2 4 rfl rfl)
theorem dX2_pairsOf_53 : decode cX2_pairsOf 53 = .ok (.iload 5, 2) := dk_21 5 (dk_at dksX2_pairsOf_2 7 rfl rfl)
theorem dX2_pairsOf_55 : decode cX2_pairsOf 55 = .ok (.invokeinterface 48 2, 5) := by decide +kernel
theorem dX2_pairsOf_60 : decode cX2_pairsOf 60 = .ok (.checkcast 52, 3) := dk_192 0 52 (dk_at dksX2_pairsOf_2 14 rfl rfl)
theorem dX2_pairsOf_63 : decode cX2_pairsOf 63 = .ok (.getfield 166, 3) := dk_180 0 166 (dk_at dksX2_pairsOf_2 17 rfl rfl)
theorem dX2_pairsOf_66 : decode cX2_pairsOf 66 = .ok (.iload_n 2, 1) := dk_28 (dk_at dksX2_pairsOf_2 20 rfl rfl)
theorem dX2_pairsOf_67 : decode cX2_pairsOf 67 = .ok (.if_icmp .ne 7, 3) := dk_160 0 7 (dk_at dksX2_pairsOf_2 21 rfl rfl)
theorem dX2_pairsOf_70 : decode cX2_pairsOf 70 = .ok (.iconst 1, 1) := dk_4 (dk_at dksX2_pairsOf_3 0 rfl rfl)
theorem dX2_pairsOf_71 : decode cX2_pairsOf 71 = .ok (.goto 4, 3) := dk_167 0 4 (dk_at dksX2_pairsOf_3 1 rfl rfl)
theorem dX2_pairsOf_74 : decode cX2_pairsOf 74 = .ok (.iconst 0, 1) := dk_3 (dk_at dksX2_pairsOf_3 4 rfl rfl)
theorem dX2_pairsOf_75 : decode cX2_pairsOf 75 = .ok (.iadd, 1) := dk_96 (dk_at dksX2_pairsOf_3 5 rfl rfl)
theorem dX2_pairsOf_76 : decode cX2_pairsOf 76 = .ok (.istore 4, 2) := dk_54 4 (dk_at dksX2_pairsOf_3 6 rfl rfl)
theorem dX2_pairsOf_78 : decode cX2_pairsOf 78 = .ok (.iinc 5 1, 3) := dk_132 5 1 (dk_at dksX2_pairsOf_3 8 rfl rfl)
theorem dX2_pairsOf_81 : decode cX2_pairsOf 81 = .ok (.goto (-75), 3) := dk_167 255 181 (dk_at dksX2_pairsOf_3 11 rfl rfl)
theorem dX2_pairsOf_84 : decode cX2_pairsOf 84 = .ok (.iload 4, 2) := dk_21 4 (dk_at dksX2_pairsOf_3 14 rfl rfl)
theorem dX2_pairsOf_86 : decode cX2_pairsOf 86 = .ok (.ireturn, 1) := dk_172 (dk_at dksX2_pairsOf_3 16 rfl rfl)
abbrev cX2_person : ByteArray := prog_7_method_17_code
def yX2_person : MethodName := ⟨RX2, "person", "(Ljava/lang/String;)I"⟩
def dkwX2_person_0 : List UInt8 := [42, 180, 0, 12, 43, 185, 0, 159, 2, 0, 172]
abbrev dktX2_person_0 : List UInt8 := dkwX2_person_0 ++ []
theorem dksX2_person_0 : cX2_person.data.toList.drop 0 = dktX2_person_0 := by decide +kernel
theorem dX2_person_0 : decode cX2_person 0 = .ok (.aload_n 0, 1) := dk_42 (dk_at dksX2_person_0 0 rfl rfl)
theorem dX2_person_1 : decode cX2_person 1 = .ok (.getfield 12, 3) := dk_180 0 12 (dk_at dksX2_person_0 1 rfl rfl)
theorem dX2_person_4 : decode cX2_person 4 = .ok (.aload_n 1, 1) := dk_43 (dk_at dksX2_person_0 4 rfl rfl)
theorem dX2_person_5 : decode cX2_person 5 = .ok (.invokeinterface 159 2, 5) := by decide +kernel
theorem dX2_person_10 : decode cX2_person 10 = .ok (.ireturn, 1) := dk_172 (dk_at dksX2_person_0 10 rfl rfl)
abbrev cX2_copy : ByteArray := prog_7_method_2_code
def yX2_copy : MethodName := ⟨RX2, "copy", "()LTranslationBureau$Office;"⟩
def dkwX2_copy_6 : List UInt8 := [184, 0, 62, 43, 176]
abbrev dktX2_copy_6 : List UInt8 := dkwX2_copy_6 ++ []
def dkwX2_copy_5 : List UInt8 := [180, 0, 30, 3, 43, 180, 0, 30, 3, 7, 184, 0, 62, 42, 180, 0, 34, 3, 43, 180, 0, 34, 3, 8]
abbrev dktX2_copy_5 : List UInt8 := dkwX2_copy_5 ++ dktX2_copy_6
def dkwX2_copy_4 : List UInt8 := [87, 132, 2, 1, 167, 255, 214, 43, 180, 0, 27, 42, 180, 0, 27, 185, 0, 38, 2, 0, 87, 42]
abbrev dktX2_copy_4 : List UInt8 := dkwX2_copy_4 ++ dktX2_copy_5
def dkwX2_copy_3 : List UInt8 := [180, 0, 24, 42, 180, 0, 24, 28, 185, 0, 48, 2, 0, 192, 0, 52, 182, 0, 54, 185, 0, 58, 2, 0]
abbrev dktX2_copy_3 : List UInt8 := dkwX2_copy_3 ++ dktX2_copy_4
def dkwX2_copy_2 : List UInt8 := [185, 0, 38, 2, 0, 87, 3, 61, 28, 42, 180, 0, 24, 185, 0, 44, 1, 0, 162, 0, 35, 43]
abbrev dktX2_copy_2 : List UInt8 := dkwX2_copy_2 ++ dktX2_copy_3
def dkwX2_copy_1 : List UInt8 := [180, 0, 18, 42, 180, 0, 18, 185, 0, 38, 2, 0, 87, 43, 180, 0, 21, 42, 180, 0, 21]
abbrev dktX2_copy_1 : List UInt8 := dkwX2_copy_1 ++ dktX2_copy_2
def dkwX2_copy_0 : List UInt8 := [187, 0, 13, 89, 183, 0, 37, 76, 43, 180, 0, 12, 42, 180, 0, 12, 185, 0, 38, 2, 0, 87, 43]
abbrev dktX2_copy_0 : List UInt8 := dkwX2_copy_0 ++ dktX2_copy_1
theorem dksX2_copy_0 : cX2_copy.data.toList.drop 0 = dktX2_copy_0 := by decide +kernel
theorem dksX2_copy_1 : cX2_copy.data.toList.drop 23 = dktX2_copy_1 := dk_seg dksX2_copy_0 23 rfl rfl
theorem dksX2_copy_2 : cX2_copy.data.toList.drop 44 = dktX2_copy_2 := dk_seg dksX2_copy_1 21 rfl rfl
theorem dksX2_copy_3 : cX2_copy.data.toList.drop 66 = dktX2_copy_3 := dk_seg dksX2_copy_2 22 rfl rfl
theorem dksX2_copy_4 : cX2_copy.data.toList.drop 90 = dktX2_copy_4 := dk_seg dksX2_copy_3 24 rfl rfl
theorem dksX2_copy_5 : cX2_copy.data.toList.drop 112 = dktX2_copy_5 := dk_seg dksX2_copy_4 22 rfl rfl
theorem dksX2_copy_6 : cX2_copy.data.toList.drop 136 = dktX2_copy_6 := dk_seg dksX2_copy_5 24 rfl rfl
theorem dX2_copy_0 : decode cX2_copy 0 = .ok (.new 13, 3) := dk_187 0 13 (dk_at dksX2_copy_0 0 rfl rfl)
theorem dX2_copy_3 : decode cX2_copy 3 = .ok (.dup, 1) := dk_89 (dk_at dksX2_copy_0 3 rfl rfl)
theorem dX2_copy_4 : decode cX2_copy 4 = .ok (.invokespecial 37, 3) := dk_183 0 37 (dk_at dksX2_copy_0 4 rfl rfl)
theorem dX2_copy_7 : decode cX2_copy 7 = .ok (.astore_n 1, 1) := dk_76 (dk_at dksX2_copy_0 7 rfl rfl)
theorem dX2_copy_8 : decode cX2_copy 8 = .ok (.aload_n 1, 1) := dk_43 (dk_at dksX2_copy_0 8 rfl rfl)
theorem dX2_copy_9 : decode cX2_copy 9 = .ok (.getfield 12, 3) := dk_180 0 12 (dk_at dksX2_copy_0 9 rfl rfl)
theorem dX2_copy_12 : decode cX2_copy 12 = .ok (.aload_n 0, 1) := dk_42 (dk_at dksX2_copy_0 12 rfl rfl)
theorem dX2_copy_13 : decode cX2_copy 13 = .ok (.getfield 12, 3) := dk_180 0 12 (dk_at dksX2_copy_0 13 rfl rfl)
theorem dX2_copy_16 : decode cX2_copy 16 = .ok (.invokeinterface 38 2, 5) := by decide +kernel
theorem dX2_copy_21 : decode cX2_copy 21 = .ok (.pop, 1) := dk_87 (dk_at dksX2_copy_0 21 rfl rfl)
theorem dX2_copy_22 : decode cX2_copy 22 = .ok (.aload_n 1, 1) := dk_43 (dk_at dksX2_copy_0 22 rfl rfl)
theorem dX2_copy_23 : decode cX2_copy 23 = .ok (.getfield 18, 3) := dk_180 0 18 (dk_at dksX2_copy_1 0 rfl rfl)
theorem dX2_copy_26 : decode cX2_copy 26 = .ok (.aload_n 0, 1) := dk_42 (dk_at dksX2_copy_1 3 rfl rfl)
theorem dX2_copy_27 : decode cX2_copy 27 = .ok (.getfield 18, 3) := dk_180 0 18 (dk_at dksX2_copy_1 4 rfl rfl)
theorem dX2_copy_30 : decode cX2_copy 30 = .ok (.invokeinterface 38 2, 5) := by decide +kernel
theorem dX2_copy_35 : decode cX2_copy 35 = .ok (.pop, 1) := dk_87 (dk_at dksX2_copy_1 12 rfl rfl)
theorem dX2_copy_36 : decode cX2_copy 36 = .ok (.aload_n 1, 1) := dk_43 (dk_at dksX2_copy_1 13 rfl rfl)
theorem dX2_copy_37 : decode cX2_copy 37 = .ok (.getfield 21, 3) := dk_180 0 21 (dk_at dksX2_copy_1 14 rfl rfl)
theorem dX2_copy_40 : decode cX2_copy 40 = .ok (.aload_n 0, 1) := dk_42 (dk_at dksX2_copy_1 17 rfl rfl)
theorem dX2_copy_41 : decode cX2_copy 41 = .ok (.getfield 21, 3) := dk_180 0 21 (dk_at dksX2_copy_1 18 rfl rfl)
theorem dX2_copy_44 : decode cX2_copy 44 = .ok (.invokeinterface 38 2, 5) := by decide +kernel
theorem dX2_copy_49 : decode cX2_copy 49 = .ok (.pop, 1) := dk_87 (dk_at dksX2_copy_2 5 rfl rfl)
theorem dX2_copy_50 : decode cX2_copy 50 = .ok (.iconst 0, 1) := dk_3 (dk_at dksX2_copy_2 6 rfl rfl)
theorem dX2_copy_51 : decode cX2_copy 51 = .ok (.istore_n 2, 1) := dk_61 (dk_at dksX2_copy_2 7 rfl rfl)
theorem dX2_copy_52 : decode cX2_copy 52 = .ok (.iload_n 2, 1) := dk_28 (dk_at dksX2_copy_2 8 rfl rfl)
theorem dX2_copy_53 : decode cX2_copy 53 = .ok (.aload_n 0, 1) := dk_42 (dk_at dksX2_copy_2 9 rfl rfl)
theorem dX2_copy_54 : decode cX2_copy 54 = .ok (.getfield 24, 3) := dk_180 0 24 (dk_at dksX2_copy_2 10 rfl rfl)
theorem dX2_copy_57 : decode cX2_copy 57 = .ok (.invokeinterface 44 1, 5) := by decide +kernel
theorem dX2_copy_62 : decode cX2_copy 62 = .ok (.if_icmp .ge 35, 3) := dk_162 0 35 (dk_at dksX2_copy_2 18 rfl rfl)
theorem dX2_copy_65 : decode cX2_copy 65 = .ok (.aload_n 1, 1) := dk_43 (dk_at dksX2_copy_2 21 rfl rfl)
theorem dX2_copy_66 : decode cX2_copy 66 = .ok (.getfield 24, 3) := dk_180 0 24 (dk_at dksX2_copy_3 0 rfl rfl)
theorem dX2_copy_69 : decode cX2_copy 69 = .ok (.aload_n 0, 1) := dk_42 (dk_at dksX2_copy_3 3 rfl rfl)
theorem dX2_copy_70 : decode cX2_copy 70 = .ok (.getfield 24, 3) := dk_180 0 24 (dk_at dksX2_copy_3 4 rfl rfl)
theorem dX2_copy_73 : decode cX2_copy 73 = .ok (.iload_n 2, 1) := dk_28 (dk_at dksX2_copy_3 7 rfl rfl)
theorem dX2_copy_74 : decode cX2_copy 74 = .ok (.invokeinterface 48 2, 5) := by decide +kernel
theorem dX2_copy_79 : decode cX2_copy 79 = .ok (.checkcast 52, 3) := dk_192 0 52 (dk_at dksX2_copy_3 13 rfl rfl)
theorem dX2_copy_82 : decode cX2_copy 82 = .ok (.invokevirtual 54, 3) := dk_182 0 54 (dk_at dksX2_copy_3 16 rfl rfl)
theorem dX2_copy_85 : decode cX2_copy 85 = .ok (.invokeinterface 58 2, 5) := by decide +kernel
theorem dX2_copy_90 : decode cX2_copy 90 = .ok (.pop, 1) := dk_87 (dk_at dksX2_copy_4 0 rfl rfl)
theorem dX2_copy_91 : decode cX2_copy 91 = .ok (.iinc 2 1, 3) := dk_132 2 1 (dk_at dksX2_copy_4 1 rfl rfl)
theorem dX2_copy_94 : decode cX2_copy 94 = .ok (.goto (-42), 3) := dk_167 255 214 (dk_at dksX2_copy_4 4 rfl rfl)
theorem dX2_copy_97 : decode cX2_copy 97 = .ok (.aload_n 1, 1) := dk_43 (dk_at dksX2_copy_4 7 rfl rfl)
theorem dX2_copy_98 : decode cX2_copy 98 = .ok (.getfield 27, 3) := dk_180 0 27 (dk_at dksX2_copy_4 8 rfl rfl)
theorem dX2_copy_101 : decode cX2_copy 101 = .ok (.aload_n 0, 1) := dk_42 (dk_at dksX2_copy_4 11 rfl rfl)
theorem dX2_copy_102 : decode cX2_copy 102 = .ok (.getfield 27, 3) := dk_180 0 27 (dk_at dksX2_copy_4 12 rfl rfl)
theorem dX2_copy_105 : decode cX2_copy 105 = .ok (.invokeinterface 38 2, 5) := by decide +kernel
theorem dX2_copy_110 : decode cX2_copy 110 = .ok (.pop, 1) := dk_87 (dk_at dksX2_copy_4 20 rfl rfl)
theorem dX2_copy_111 : decode cX2_copy 111 = .ok (.aload_n 0, 1) := dk_42 (dk_at dksX2_copy_4 21 rfl rfl)
theorem dX2_copy_112 : decode cX2_copy 112 = .ok (.getfield 30, 3) := dk_180 0 30 (dk_at dksX2_copy_5 0 rfl rfl)
theorem dX2_copy_115 : decode cX2_copy 115 = .ok (.iconst 0, 1) := dk_3 (dk_at dksX2_copy_5 3 rfl rfl)
theorem dX2_copy_116 : decode cX2_copy 116 = .ok (.aload_n 1, 1) := dk_43 (dk_at dksX2_copy_5 4 rfl rfl)
theorem dX2_copy_117 : decode cX2_copy 117 = .ok (.getfield 30, 3) := dk_180 0 30 (dk_at dksX2_copy_5 5 rfl rfl)
theorem dX2_copy_120 : decode cX2_copy 120 = .ok (.iconst 0, 1) := dk_3 (dk_at dksX2_copy_5 8 rfl rfl)
theorem dX2_copy_121 : decode cX2_copy 121 = .ok (.iconst 4, 1) := dk_7 (dk_at dksX2_copy_5 9 rfl rfl)
theorem dX2_copy_122 : decode cX2_copy 122 = .ok (.invokestatic 62, 3) := dk_184 0 62 (dk_at dksX2_copy_5 10 rfl rfl)
theorem dX2_copy_125 : decode cX2_copy 125 = .ok (.aload_n 0, 1) := dk_42 (dk_at dksX2_copy_5 13 rfl rfl)
theorem dX2_copy_126 : decode cX2_copy 126 = .ok (.getfield 34, 3) := dk_180 0 34 (dk_at dksX2_copy_5 14 rfl rfl)
theorem dX2_copy_129 : decode cX2_copy 129 = .ok (.iconst 0, 1) := dk_3 (dk_at dksX2_copy_5 17 rfl rfl)
theorem dX2_copy_130 : decode cX2_copy 130 = .ok (.aload_n 1, 1) := dk_43 (dk_at dksX2_copy_5 18 rfl rfl)
theorem dX2_copy_131 : decode cX2_copy 131 = .ok (.getfield 34, 3) := dk_180 0 34 (dk_at dksX2_copy_5 19 rfl rfl)
theorem dX2_copy_134 : decode cX2_copy 134 = .ok (.iconst 0, 1) := dk_3 (dk_at dksX2_copy_5 22 rfl rfl)
theorem dX2_copy_135 : decode cX2_copy 135 = .ok (.iconst 5, 1) := dk_8 (dk_at dksX2_copy_5 23 rfl rfl)
theorem dX2_copy_136 : decode cX2_copy 136 = .ok (.invokestatic 62, 3) := dk_184 0 62 (dk_at dksX2_copy_6 0 rfl rfl)
theorem dX2_copy_139 : decode cX2_copy 139 = .ok (.aload_n 1, 1) := dk_43 (dk_at dksX2_copy_6 3 rfl rfl)
theorem dX2_copy_140 : decode cX2_copy 140 = .ok (.areturn, 1) := dk_176 (dk_at dksX2_copy_6 4 rfl rfl)
abbrev cX2_found : ByteArray := prog_7_method_23_code
def yX2_found : MethodName := ⟨RX2, "found", "()Ljava/util/List;"⟩
def dkwX2_found_7 : List UInt8 := [187, 0, 209, 89, 28, 29, 183, 0, 211, 185, 0, 58, 2, 0, 87, 132, 2, 1, 167, 255, 90, 43, 176]
abbrev dktX2_found_7 : List UInt8 := dkwX2_found_7 ++ []
def dkwX2_found_6 : List UInt8 := [192, 0, 52, 180, 0, 182, 159, 0, 7, 4, 167, 0, 4, 3, 54, 4, 21, 4, 153, 0, 19, 43]
abbrev dktX2_found_6 : List UInt8 := dkwX2_found_6 ++ dktX2_found_7
def dkwX2_found_5 : List UInt8 := [180, 0, 24, 42, 180, 0, 27, 29, 185, 0, 48, 2, 0, 192, 0, 98, 180, 0, 179, 185, 0, 48, 2, 0]
abbrev dktX2_found_5 : List UInt8 := dkwX2_found_5 ++ dktX2_found_6
def dkwX2_found_4 : List UInt8 := [185, 0, 48, 2, 0, 192, 0, 98, 180, 0, 179, 185, 0, 48, 2, 0, 192, 0, 52, 180, 0, 182, 42]
abbrev dktX2_found_4 : List UInt8 := dkwX2_found_4 ++ dktX2_found_5
def dkwX2_found_3 : List UInt8 := [192, 0, 98, 182, 0, 103, 16, 100, 160, 0, 72, 42, 180, 0, 24, 42, 180, 0, 27, 28]
abbrev dktX2_found_3 : List UInt8 := dkwX2_found_3 ++ dktX2_found_4
def dkwX2_found_2 : List UInt8 := [180, 0, 27, 28, 185, 0, 48, 2, 0, 192, 0, 98, 42, 180, 0, 27, 29, 185, 0, 48, 2, 0]
abbrev dktX2_found_2 : List UInt8 := dkwX2_found_2 ++ dktX2_found_3
def dkwX2_found_1 : List UInt8 := [28, 43, 182, 0, 202, 42, 28, 43, 182, 0, 206, 42, 28, 182, 0, 113, 62, 29, 2, 159, 0, 106, 42]
abbrev dktX2_found_1 : List UInt8 := dkwX2_found_1 ++ dktX2_found_2
def dkwX2_found_0 : List UInt8 := [187, 0, 9, 89, 183, 0, 11, 76, 3, 61, 28, 42, 180, 0, 27, 185, 0, 44, 1, 0, 162, 0, 159, 42]
abbrev dktX2_found_0 : List UInt8 := dkwX2_found_0 ++ dktX2_found_1
theorem dksX2_found_0 : cX2_found.data.toList.drop 0 = dktX2_found_0 := by decide +kernel
theorem dksX2_found_1 : cX2_found.data.toList.drop 24 = dktX2_found_1 := dk_seg dksX2_found_0 24 rfl rfl
theorem dksX2_found_2 : cX2_found.data.toList.drop 47 = dktX2_found_2 := dk_seg dksX2_found_1 23 rfl rfl
theorem dksX2_found_3 : cX2_found.data.toList.drop 69 = dktX2_found_3 := dk_seg dksX2_found_2 22 rfl rfl
theorem dksX2_found_4 : cX2_found.data.toList.drop 89 = dktX2_found_4 := dk_seg dksX2_found_3 20 rfl rfl
theorem dksX2_found_5 : cX2_found.data.toList.drop 112 = dktX2_found_5 := dk_seg dksX2_found_4 23 rfl rfl
theorem dksX2_found_6 : cX2_found.data.toList.drop 136 = dktX2_found_6 := dk_seg dksX2_found_5 24 rfl rfl
theorem dksX2_found_7 : cX2_found.data.toList.drop 158 = dktX2_found_7 := dk_seg dksX2_found_6 22 rfl rfl
theorem dX2_found_0 : decode cX2_found 0 = .ok (.new 9, 3) := dk_187 0 9 (dk_at dksX2_found_0 0 rfl rfl)
theorem dX2_found_3 : decode cX2_found 3 = .ok (.dup, 1) := dk_89 (dk_at dksX2_found_0 3 rfl rfl)
theorem dX2_found_4 : decode cX2_found 4 = .ok (.invokespecial 11, 3) := dk_183 0 11 (dk_at dksX2_found_0 4 rfl rfl)
theorem dX2_found_7 : decode cX2_found 7 = .ok (.astore_n 1, 1) := dk_76 (dk_at dksX2_found_0 7 rfl rfl)
theorem dX2_found_8 : decode cX2_found 8 = .ok (.iconst 0, 1) := dk_3 (dk_at dksX2_found_0 8 rfl rfl)
theorem dX2_found_9 : decode cX2_found 9 = .ok (.istore_n 2, 1) := dk_61 (dk_at dksX2_found_0 9 rfl rfl)
theorem dX2_found_10 : decode cX2_found 10 = .ok (.iload_n 2, 1) := dk_28 (dk_at dksX2_found_0 10 rfl rfl)
theorem dX2_found_11 : decode cX2_found 11 = .ok (.aload_n 0, 1) := dk_42 (dk_at dksX2_found_0 11 rfl rfl)
theorem dX2_found_12 : decode cX2_found 12 = .ok (.getfield 27, 3) := dk_180 0 27 (dk_at dksX2_found_0 12 rfl rfl)
theorem dX2_found_15 : decode cX2_found 15 = .ok (.invokeinterface 44 1, 5) := by decide +kernel
theorem dX2_found_20 : decode cX2_found 20 = .ok (.if_icmp .ge 159, 3) := dk_162 0 159 (dk_at dksX2_found_0 20 rfl rfl)
theorem dX2_found_23 : decode cX2_found 23 = .ok (.aload_n 0, 1) := dk_42 (dk_at dksX2_found_0 23 rfl rfl)
theorem dX2_found_24 : decode cX2_found 24 = .ok (.iload_n 2, 1) := dk_28 (dk_at dksX2_found_1 0 rfl rfl)
theorem dX2_found_25 : decode cX2_found 25 = .ok (.aload_n 1, 1) := dk_43 (dk_at dksX2_found_1 1 rfl rfl)
theorem dX2_found_26 : decode cX2_found 26 = .ok (.invokevirtual 202, 3) := dk_182 0 202 (dk_at dksX2_found_1 2 rfl rfl)
theorem dX2_found_29 : decode cX2_found 29 = .ok (.aload_n 0, 1) := dk_42 (dk_at dksX2_found_1 5 rfl rfl)
theorem dX2_found_30 : decode cX2_found 30 = .ok (.iload_n 2, 1) := dk_28 (dk_at dksX2_found_1 6 rfl rfl)
theorem dX2_found_31 : decode cX2_found 31 = .ok (.aload_n 1, 1) := dk_43 (dk_at dksX2_found_1 7 rfl rfl)
theorem dX2_found_32 : decode cX2_found 32 = .ok (.invokevirtual 206, 3) := dk_182 0 206 (dk_at dksX2_found_1 8 rfl rfl)
theorem dX2_found_35 : decode cX2_found 35 = .ok (.aload_n 0, 1) := dk_42 (dk_at dksX2_found_1 11 rfl rfl)
theorem dX2_found_36 : decode cX2_found 36 = .ok (.iload_n 2, 1) := dk_28 (dk_at dksX2_found_1 12 rfl rfl)
theorem dX2_found_37 : decode cX2_found 37 = .ok (.invokevirtual 113, 3) := dk_182 0 113 (dk_at dksX2_found_1 13 rfl rfl)
theorem dX2_found_40 : decode cX2_found 40 = .ok (.istore_n 3, 1) := dk_62 (dk_at dksX2_found_1 16 rfl rfl)
theorem dX2_found_41 : decode cX2_found 41 = .ok (.iload_n 3, 1) := dk_29 (dk_at dksX2_found_1 17 rfl rfl)
theorem dX2_found_42 : decode cX2_found 42 = .ok (.iconst (-1), 1) := dk_2 (dk_at dksX2_found_1 18 rfl rfl)
theorem dX2_found_43 : decode cX2_found 43 = .ok (.if_icmp .eq 106, 3) := dk_159 0 106 (dk_at dksX2_found_1 19 rfl rfl)
theorem dX2_found_46 : decode cX2_found 46 = .ok (.aload_n 0, 1) := dk_42 (dk_at dksX2_found_1 22 rfl rfl)
theorem dX2_found_47 : decode cX2_found 47 = .ok (.getfield 27, 3) := dk_180 0 27 (dk_at dksX2_found_2 0 rfl rfl)
theorem dX2_found_50 : decode cX2_found 50 = .ok (.iload_n 2, 1) := dk_28 (dk_at dksX2_found_2 3 rfl rfl)
theorem dX2_found_51 : decode cX2_found 51 = .ok (.invokeinterface 48 2, 5) := by decide +kernel
theorem dX2_found_56 : decode cX2_found 56 = .ok (.checkcast 98, 3) := dk_192 0 98 (dk_at dksX2_found_2 9 rfl rfl)
theorem dX2_found_59 : decode cX2_found 59 = .ok (.aload_n 0, 1) := dk_42 (dk_at dksX2_found_2 12 rfl rfl)
theorem dX2_found_60 : decode cX2_found 60 = .ok (.getfield 27, 3) := dk_180 0 27 (dk_at dksX2_found_2 13 rfl rfl)
theorem dX2_found_63 : decode cX2_found 63 = .ok (.iload_n 3, 1) := dk_29 (dk_at dksX2_found_2 16 rfl rfl)
theorem dX2_found_64 : decode cX2_found 64 = .ok (.invokeinterface 48 2, 5) := by decide +kernel
theorem dX2_found_69 : decode cX2_found 69 = .ok (.checkcast 98, 3) := dk_192 0 98 (dk_at dksX2_found_3 0 rfl rfl)
theorem dX2_found_72 : decode cX2_found 72 = .ok (.invokevirtual 103, 3) := dk_182 0 103 (dk_at dksX2_found_3 3 rfl rfl)
theorem dX2_found_75 : decode cX2_found 75 = .ok (.bipush 100, 2) := dk_16 100 (dk_at dksX2_found_3 6 rfl rfl)
theorem dX2_found_77 : decode cX2_found 77 = .ok (.if_icmp .ne 72, 3) := dk_160 0 72 (dk_at dksX2_found_3 8 rfl rfl)
theorem dX2_found_80 : decode cX2_found 80 = .ok (.aload_n 0, 1) := dk_42 (dk_at dksX2_found_3 11 rfl rfl)
theorem dX2_found_81 : decode cX2_found 81 = .ok (.getfield 24, 3) := dk_180 0 24 (dk_at dksX2_found_3 12 rfl rfl)
theorem dX2_found_84 : decode cX2_found 84 = .ok (.aload_n 0, 1) := dk_42 (dk_at dksX2_found_3 15 rfl rfl)
theorem dX2_found_85 : decode cX2_found 85 = .ok (.getfield 27, 3) := dk_180 0 27 (dk_at dksX2_found_3 16 rfl rfl)
theorem dX2_found_88 : decode cX2_found 88 = .ok (.iload_n 2, 1) := dk_28 (dk_at dksX2_found_3 19 rfl rfl)
theorem dX2_found_89 : decode cX2_found 89 = .ok (.invokeinterface 48 2, 5) := by decide +kernel
theorem dX2_found_94 : decode cX2_found 94 = .ok (.checkcast 98, 3) := dk_192 0 98 (dk_at dksX2_found_4 5 rfl rfl)
theorem dX2_found_97 : decode cX2_found 97 = .ok (.getfield 179, 3) := dk_180 0 179 (dk_at dksX2_found_4 8 rfl rfl)
theorem dX2_found_100 : decode cX2_found 100 = .ok (.invokeinterface 48 2, 5) := by decide +kernel
theorem dX2_found_105 : decode cX2_found 105 = .ok (.checkcast 52, 3) := dk_192 0 52 (dk_at dksX2_found_4 16 rfl rfl)
theorem dX2_found_108 : decode cX2_found 108 = .ok (.getfield 182, 3) := dk_180 0 182 (dk_at dksX2_found_4 19 rfl rfl)
theorem dX2_found_111 : decode cX2_found 111 = .ok (.aload_n 0, 1) := dk_42 (dk_at dksX2_found_4 22 rfl rfl)
theorem dX2_found_112 : decode cX2_found 112 = .ok (.getfield 24, 3) := dk_180 0 24 (dk_at dksX2_found_5 0 rfl rfl)
theorem dX2_found_115 : decode cX2_found 115 = .ok (.aload_n 0, 1) := dk_42 (dk_at dksX2_found_5 3 rfl rfl)
theorem dX2_found_116 : decode cX2_found 116 = .ok (.getfield 27, 3) := dk_180 0 27 (dk_at dksX2_found_5 4 rfl rfl)
theorem dX2_found_119 : decode cX2_found 119 = .ok (.iload_n 3, 1) := dk_29 (dk_at dksX2_found_5 7 rfl rfl)
theorem dX2_found_120 : decode cX2_found 120 = .ok (.invokeinterface 48 2, 5) := by decide +kernel
theorem dX2_found_125 : decode cX2_found 125 = .ok (.checkcast 98, 3) := dk_192 0 98 (dk_at dksX2_found_5 13 rfl rfl)
theorem dX2_found_128 : decode cX2_found 128 = .ok (.getfield 179, 3) := dk_180 0 179 (dk_at dksX2_found_5 16 rfl rfl)
theorem dX2_found_131 : decode cX2_found 131 = .ok (.invokeinterface 48 2, 5) := by decide +kernel
theorem dX2_found_136 : decode cX2_found 136 = .ok (.checkcast 52, 3) := dk_192 0 52 (dk_at dksX2_found_6 0 rfl rfl)
theorem dX2_found_139 : decode cX2_found 139 = .ok (.getfield 182, 3) := dk_180 0 182 (dk_at dksX2_found_6 3 rfl rfl)
theorem dX2_found_142 : decode cX2_found 142 = .ok (.if_icmp .eq 7, 3) := dk_159 0 7 (dk_at dksX2_found_6 6 rfl rfl)
theorem dX2_found_145 : decode cX2_found 145 = .ok (.iconst 1, 1) := dk_4 (dk_at dksX2_found_6 9 rfl rfl)
theorem dX2_found_146 : decode cX2_found 146 = .ok (.goto 4, 3) := dk_167 0 4 (dk_at dksX2_found_6 10 rfl rfl)
theorem dX2_found_149 : decode cX2_found 149 = .ok (.iconst 0, 1) := dk_3 (dk_at dksX2_found_6 13 rfl rfl)
theorem dX2_found_150 : decode cX2_found 150 = .ok (.istore 4, 2) := dk_54 4 (dk_at dksX2_found_6 14 rfl rfl)
theorem dX2_found_152 : decode cX2_found 152 = .ok (.iload 4, 2) := dk_21 4 (dk_at dksX2_found_6 16 rfl rfl)
theorem dX2_found_154 : decode cX2_found 154 = .ok (.ifCond .eq 19, 3) := dk_153 0 19 (dk_at dksX2_found_6 18 rfl rfl)
theorem dX2_found_157 : decode cX2_found 157 = .ok (.aload_n 1, 1) := dk_43 (dk_at dksX2_found_6 21 rfl rfl)
theorem dX2_found_158 : decode cX2_found 158 = .ok (.new 209, 3) := dk_187 0 209 (dk_at dksX2_found_7 0 rfl rfl)
theorem dX2_found_161 : decode cX2_found 161 = .ok (.dup, 1) := dk_89 (dk_at dksX2_found_7 3 rfl rfl)
theorem dX2_found_162 : decode cX2_found 162 = .ok (.iload_n 2, 1) := dk_28 (dk_at dksX2_found_7 4 rfl rfl)
theorem dX2_found_163 : decode cX2_found 163 = .ok (.iload_n 3, 1) := dk_29 (dk_at dksX2_found_7 5 rfl rfl)
theorem dX2_found_164 : decode cX2_found 164 = .ok (.invokespecial 211, 3) := dk_183 0 211 (dk_at dksX2_found_7 6 rfl rfl)
theorem dX2_found_167 : decode cX2_found 167 = .ok (.invokeinterface 58 2, 5) := by decide +kernel
theorem dX2_found_172 : decode cX2_found 172 = .ok (.pop, 1) := dk_87 (dk_at dksX2_found_7 14 rfl rfl)
theorem dX2_found_173 : decode cX2_found 173 = .ok (.iinc 2 1, 3) := dk_132 2 1 (dk_at dksX2_found_7 15 rfl rfl)
theorem dX2_found_176 : decode cX2_found 176 = .ok (.goto (-166), 3) := dk_167 255 90 (dk_at dksX2_found_7 18 rfl rfl)
theorem dX2_found_179 : decode cX2_found 179 = .ok (.aload_n 1, 1) := dk_43 (dk_at dksX2_found_7 21 rfl rfl)
theorem dX2_found_180 : decode cX2_found 180 = .ok (.areturn, 1) := dk_176 (dk_at dksX2_found_7 22 rfl rfl)
abbrev cX2_addMissing : ByteArray := prog_7_method_24_code
def yX2_addMissing : MethodName := ⟨RX2, "addMissing", "(ILjava/util/List;)V"⟩
def dkwX2_addMissing_6 : List UInt8 := [192, 0, 185, 183, 0, 226, 185, 0, 58, 2, 0, 87, 132, 4, 1, 167, 255, 120, 177]
abbrev dktX2_addMissing_6 : List UInt8 := dkwX2_addMissing_6 ++ []
def dkwX2_addMissing_5 : List UInt8 := [167, 255, 199, 44, 187, 0, 224, 89, 27, 21, 4, 42, 180, 0, 21, 21, 5, 185, 0, 48, 2, 0]
abbrev dktX2_addMissing_5 : List UInt8 := dkwX2_addMissing_5 ++ dktX2_addMissing_6
def dkwX2_addMissing_4 : List UInt8 := [185, 0, 48, 2, 0, 192, 0, 185, 180, 0, 221, 182, 0, 194, 153, 0, 6, 167, 0, 40, 132, 6, 1]
abbrev dktX2_addMissing_4 : List UInt8 := dkwX2_addMissing_4 ++ dktX2_addMissing_5
def dkwX2_addMissing_3 : List UInt8 := [162, 0, 49, 45, 180, 0, 218, 21, 6, 185, 0, 48, 2, 0, 192, 0, 195, 42, 180, 0, 21, 21, 5]
abbrev dktX2_addMissing_3 : List UInt8 := dkwX2_addMissing_3 ++ dktX2_addMissing_4
def dkwX2_addMissing_2 : List UInt8 := [21, 5, 2, 160, 0, 6, 167, 0, 97, 3, 54, 6, 21, 6, 45, 180, 0, 218, 185, 0, 44, 1, 0]
abbrev dktX2_addMissing_2 : List UInt8 := dkwX2_addMissing_2 ++ dktX2_addMissing_3
def dkwX2_addMissing_1 : List UInt8 := [162, 0, 133, 45, 21, 4, 182, 0, 214, 154, 0, 6, 167, 0, 115, 42, 27, 21, 4, 182, 0, 199, 54, 5]
abbrev dktX2_addMissing_1 : List UInt8 := dkwX2_addMissing_1 ++ dktX2_addMissing_2
def dkwX2_addMissing_0 : List UInt8 := [42, 180, 0, 27, 27, 185, 0, 48, 2, 0, 192, 0, 98, 78, 3, 54, 4, 21, 4, 45, 182, 0, 124]
abbrev dktX2_addMissing_0 : List UInt8 := dkwX2_addMissing_0 ++ dktX2_addMissing_1
theorem dksX2_addMissing_0 : cX2_addMissing.data.toList.drop 0 = dktX2_addMissing_0 := by decide +kernel
theorem dksX2_addMissing_1 : cX2_addMissing.data.toList.drop 23 = dktX2_addMissing_1 := dk_seg dksX2_addMissing_0 23 rfl rfl
theorem dksX2_addMissing_2 : cX2_addMissing.data.toList.drop 47 = dktX2_addMissing_2 := dk_seg dksX2_addMissing_1 24 rfl rfl
theorem dksX2_addMissing_3 : cX2_addMissing.data.toList.drop 70 = dktX2_addMissing_3 := dk_seg dksX2_addMissing_2 23 rfl rfl
theorem dksX2_addMissing_4 : cX2_addMissing.data.toList.drop 93 = dktX2_addMissing_4 := dk_seg dksX2_addMissing_3 23 rfl rfl
theorem dksX2_addMissing_5 : cX2_addMissing.data.toList.drop 116 = dktX2_addMissing_5 := dk_seg dksX2_addMissing_4 23 rfl rfl
theorem dksX2_addMissing_6 : cX2_addMissing.data.toList.drop 138 = dktX2_addMissing_6 := dk_seg dksX2_addMissing_5 22 rfl rfl
theorem dX2_addMissing_0 : decode cX2_addMissing 0 = .ok (.aload_n 0, 1) := dk_42 (dk_at dksX2_addMissing_0 0 rfl rfl)
theorem dX2_addMissing_1 : decode cX2_addMissing 1 = .ok (.getfield 27, 3) := dk_180 0 27 (dk_at dksX2_addMissing_0 1 rfl rfl)
theorem dX2_addMissing_4 : decode cX2_addMissing 4 = .ok (.iload_n 1, 1) := dk_27 (dk_at dksX2_addMissing_0 4 rfl rfl)
theorem dX2_addMissing_5 : decode cX2_addMissing 5 = .ok (.invokeinterface 48 2, 5) := by decide +kernel
theorem dX2_addMissing_10 : decode cX2_addMissing 10 = .ok (.checkcast 98, 3) := dk_192 0 98 (dk_at dksX2_addMissing_0 10 rfl rfl)
theorem dX2_addMissing_13 : decode cX2_addMissing 13 = .ok (.astore_n 3, 1) := dk_78 (dk_at dksX2_addMissing_0 13 rfl rfl)
theorem dX2_addMissing_14 : decode cX2_addMissing 14 = .ok (.iconst 0, 1) := dk_3 (dk_at dksX2_addMissing_0 14 rfl rfl)
theorem dX2_addMissing_15 : decode cX2_addMissing 15 = .ok (.istore 4, 2) := dk_54 4 (dk_at dksX2_addMissing_0 15 rfl rfl)
theorem dX2_addMissing_17 : decode cX2_addMissing 17 = .ok (.iload 4, 2) := dk_21 4 (dk_at dksX2_addMissing_0 17 rfl rfl)
theorem dX2_addMissing_19 : decode cX2_addMissing 19 = .ok (.aload_n 3, 1) := dk_45 (dk_at dksX2_addMissing_0 19 rfl rfl)
theorem dX2_addMissing_20 : decode cX2_addMissing 20 = .ok (.invokevirtual 124, 3) := dk_182 0 124 (dk_at dksX2_addMissing_0 20 rfl rfl)
theorem dX2_addMissing_23 : decode cX2_addMissing 23 = .ok (.if_icmp .ge 133, 3) := dk_162 0 133 (dk_at dksX2_addMissing_1 0 rfl rfl)
theorem dX2_addMissing_26 : decode cX2_addMissing 26 = .ok (.aload_n 3, 1) := dk_45 (dk_at dksX2_addMissing_1 3 rfl rfl)
theorem dX2_addMissing_27 : decode cX2_addMissing 27 = .ok (.iload 4, 2) := dk_21 4 (dk_at dksX2_addMissing_1 4 rfl rfl)
theorem dX2_addMissing_29 : decode cX2_addMissing 29 = .ok (.invokevirtual 214, 3) := dk_182 0 214 (dk_at dksX2_addMissing_1 6 rfl rfl)
theorem dX2_addMissing_32 : decode cX2_addMissing 32 = .ok (.ifCond .ne 6, 3) := dk_154 0 6 (dk_at dksX2_addMissing_1 9 rfl rfl)
theorem dX2_addMissing_35 : decode cX2_addMissing 35 = .ok (.goto 115, 3) := dk_167 0 115 (dk_at dksX2_addMissing_1 12 rfl rfl)
theorem dX2_addMissing_38 : decode cX2_addMissing 38 = .ok (.aload_n 0, 1) := dk_42 (dk_at dksX2_addMissing_1 15 rfl rfl)
theorem dX2_addMissing_39 : decode cX2_addMissing 39 = .ok (.iload_n 1, 1) := dk_27 (dk_at dksX2_addMissing_1 16 rfl rfl)
theorem dX2_addMissing_40 : decode cX2_addMissing 40 = .ok (.iload 4, 2) := dk_21 4 (dk_at dksX2_addMissing_1 17 rfl rfl)
theorem dX2_addMissing_42 : decode cX2_addMissing 42 = .ok (.invokevirtual 199, 3) := dk_182 0 199 (dk_at dksX2_addMissing_1 19 rfl rfl)
theorem dX2_addMissing_45 : decode cX2_addMissing 45 = .ok (.istore 5, 2) := dk_54 5 (dk_at dksX2_addMissing_1 22 rfl rfl)
theorem dX2_addMissing_47 : decode cX2_addMissing 47 = .ok (.iload 5, 2) := dk_21 5 (dk_at dksX2_addMissing_2 0 rfl rfl)
theorem dX2_addMissing_49 : decode cX2_addMissing 49 = .ok (.iconst (-1), 1) := dk_2 (dk_at dksX2_addMissing_2 2 rfl rfl)
theorem dX2_addMissing_50 : decode cX2_addMissing 50 = .ok (.if_icmp .ne 6, 3) := dk_160 0 6 (dk_at dksX2_addMissing_2 3 rfl rfl)
theorem dX2_addMissing_53 : decode cX2_addMissing 53 = .ok (.goto 97, 3) := dk_167 0 97 (dk_at dksX2_addMissing_2 6 rfl rfl)
theorem dX2_addMissing_56 : decode cX2_addMissing 56 = .ok (.iconst 0, 1) := dk_3 (dk_at dksX2_addMissing_2 9 rfl rfl)
theorem dX2_addMissing_57 : decode cX2_addMissing 57 = .ok (.istore 6, 2) := dk_54 6 (dk_at dksX2_addMissing_2 10 rfl rfl)
theorem dX2_addMissing_59 : decode cX2_addMissing 59 = .ok (.iload 6, 2) := dk_21 6 (dk_at dksX2_addMissing_2 12 rfl rfl)
theorem dX2_addMissing_61 : decode cX2_addMissing 61 = .ok (.aload_n 3, 1) := dk_45 (dk_at dksX2_addMissing_2 14 rfl rfl)
theorem dX2_addMissing_62 : decode cX2_addMissing 62 = .ok (.getfield 218, 3) := dk_180 0 218 (dk_at dksX2_addMissing_2 15 rfl rfl)
theorem dX2_addMissing_65 : decode cX2_addMissing 65 = .ok (.invokeinterface 44 1, 5) := by decide +kernel
theorem dX2_addMissing_70 : decode cX2_addMissing 70 = .ok (.if_icmp .ge 49, 3) := dk_162 0 49 (dk_at dksX2_addMissing_3 0 rfl rfl)
theorem dX2_addMissing_73 : decode cX2_addMissing 73 = .ok (.aload_n 3, 1) := dk_45 (dk_at dksX2_addMissing_3 3 rfl rfl)
theorem dX2_addMissing_74 : decode cX2_addMissing 74 = .ok (.getfield 218, 3) := dk_180 0 218 (dk_at dksX2_addMissing_3 4 rfl rfl)
theorem dX2_addMissing_77 : decode cX2_addMissing 77 = .ok (.iload 6, 2) := dk_21 6 (dk_at dksX2_addMissing_3 7 rfl rfl)
theorem dX2_addMissing_79 : decode cX2_addMissing 79 = .ok (.invokeinterface 48 2, 5) := by decide +kernel
theorem dX2_addMissing_84 : decode cX2_addMissing 84 = .ok (.checkcast 195, 3) := dk_192 0 195 (dk_at dksX2_addMissing_3 14 rfl rfl)
theorem dX2_addMissing_87 : decode cX2_addMissing 87 = .ok (.aload_n 0, 1) := dk_42 (dk_at dksX2_addMissing_3 17 rfl rfl)
theorem dX2_addMissing_88 : decode cX2_addMissing 88 = .ok (.getfield 21, 3) := dk_180 0 21 (dk_at dksX2_addMissing_3 18 rfl rfl)
theorem dX2_addMissing_91 : decode cX2_addMissing 91 = .ok (.iload 5, 2) := dk_21 5 (dk_at dksX2_addMissing_3 21 rfl rfl)
theorem dX2_addMissing_93 : decode cX2_addMissing 93 = .ok (.invokeinterface 48 2, 5) := by decide +kernel
theorem dX2_addMissing_98 : decode cX2_addMissing 98 = .ok (.checkcast 185, 3) := dk_192 0 185 (dk_at dksX2_addMissing_4 5 rfl rfl)
theorem dX2_addMissing_101 : decode cX2_addMissing 101 = .ok (.getfield 221, 3) := dk_180 0 221 (dk_at dksX2_addMissing_4 8 rfl rfl)
theorem dX2_addMissing_104 : decode cX2_addMissing 104 = .ok (.invokevirtual 194, 3) := dk_182 0 194 (dk_at dksX2_addMissing_4 11 rfl rfl)
theorem dX2_addMissing_107 : decode cX2_addMissing 107 = .ok (.ifCond .eq 6, 3) := dk_153 0 6 (dk_at dksX2_addMissing_4 14 rfl rfl)
theorem dX2_addMissing_110 : decode cX2_addMissing 110 = .ok (.goto 40, 3) := dk_167 0 40 (dk_at dksX2_addMissing_4 17 rfl rfl)
theorem dX2_addMissing_113 : decode cX2_addMissing 113 = .ok (.iinc 6 1, 3) := dk_132 6 1 (dk_at dksX2_addMissing_4 20 rfl rfl)
theorem dX2_addMissing_116 : decode cX2_addMissing 116 = .ok (.goto (-57), 3) := dk_167 255 199 (dk_at dksX2_addMissing_5 0 rfl rfl)
theorem dX2_addMissing_119 : decode cX2_addMissing 119 = .ok (.aload_n 2, 1) := dk_44 (dk_at dksX2_addMissing_5 3 rfl rfl)
theorem dX2_addMissing_120 : decode cX2_addMissing 120 = .ok (.new 224, 3) := dk_187 0 224 (dk_at dksX2_addMissing_5 4 rfl rfl)
theorem dX2_addMissing_123 : decode cX2_addMissing 123 = .ok (.dup, 1) := dk_89 (dk_at dksX2_addMissing_5 7 rfl rfl)
theorem dX2_addMissing_124 : decode cX2_addMissing 124 = .ok (.iload_n 1, 1) := dk_27 (dk_at dksX2_addMissing_5 8 rfl rfl)
theorem dX2_addMissing_125 : decode cX2_addMissing 125 = .ok (.iload 4, 2) := dk_21 4 (dk_at dksX2_addMissing_5 9 rfl rfl)
theorem dX2_addMissing_127 : decode cX2_addMissing 127 = .ok (.aload_n 0, 1) := dk_42 (dk_at dksX2_addMissing_5 11 rfl rfl)
theorem dX2_addMissing_128 : decode cX2_addMissing 128 = .ok (.getfield 21, 3) := dk_180 0 21 (dk_at dksX2_addMissing_5 12 rfl rfl)
theorem dX2_addMissing_131 : decode cX2_addMissing 131 = .ok (.iload 5, 2) := dk_21 5 (dk_at dksX2_addMissing_5 15 rfl rfl)
theorem dX2_addMissing_133 : decode cX2_addMissing 133 = .ok (.invokeinterface 48 2, 5) := by decide +kernel
theorem dX2_addMissing_138 : decode cX2_addMissing 138 = .ok (.checkcast 185, 3) := dk_192 0 185 (dk_at dksX2_addMissing_6 0 rfl rfl)
theorem dX2_addMissing_141 : decode cX2_addMissing 141 = .ok (.invokespecial 226, 3) := dk_183 0 226 (dk_at dksX2_addMissing_6 3 rfl rfl)
theorem dX2_addMissing_144 : decode cX2_addMissing 144 = .ok (.invokeinterface 58 2, 5) := by decide +kernel
theorem dX2_addMissing_149 : decode cX2_addMissing 149 = .ok (.pop, 1) := dk_87 (dk_at dksX2_addMissing_6 11 rfl rfl)
theorem dX2_addMissing_150 : decode cX2_addMissing 150 = .ok (.iinc 4 1, 3) := dk_132 4 1 (dk_at dksX2_addMissing_6 12 rfl rfl)
theorem dX2_addMissing_153 : decode cX2_addMissing 153 = .ok (.goto (-136), 3) := dk_167 255 120 (dk_at dksX2_addMissing_6 15 rfl rfl)
theorem dX2_addMissing_156 : decode cX2_addMissing 156 = .ok (.return_, 1) := dk_177 (dk_at dksX2_addMissing_6 18 rfl rfl)
abbrev cX2_ruleFor : ByteArray := prog_7_method_21_code
def yX2_ruleFor : MethodName := ⟨RX2, "ruleFor", "(II)I"⟩
def dkwX2_ruleFor_4 : List UInt8 := [167, 255, 187, 21, 4, 172]
abbrev dktX2_ruleFor_4 : List UInt8 := dkwX2_ruleFor_4 ++ []
def dkwX2_ruleFor_3 : List UInt8 := [185, 0, 48, 2, 0, 182, 0, 194, 153, 0, 8, 21, 5, 167, 0, 5, 21, 4, 54, 4, 132, 5, 1]
abbrev dktX2_ruleFor_3 : List UInt8 := dkwX2_ruleFor_3 ++ dktX2_ruleFor_4
def dkwX2_ruleFor_2 : List UInt8 := [180, 0, 21, 21, 5, 185, 0, 48, 2, 0, 192, 0, 185, 180, 0, 187, 45, 180, 0, 191, 28]
abbrev dktX2_ruleFor_2 : List UInt8 := dkwX2_ruleFor_2 ++ dktX2_ruleFor_3
def dkwX2_ruleFor_1 : List UInt8 := [180, 0, 24, 45, 180, 0, 179, 185, 0, 48, 2, 0, 192, 0, 52, 180, 0, 182, 162, 0, 51, 42]
abbrev dktX2_ruleFor_1 : List UInt8 := dkwX2_ruleFor_1 ++ dktX2_ruleFor_2
def dkwX2_ruleFor_0 : List UInt8 := [42, 180, 0, 27, 27, 185, 0, 48, 2, 0, 192, 0, 98, 78, 2, 54, 4, 3, 54, 5, 21, 5, 42]
abbrev dktX2_ruleFor_0 : List UInt8 := dkwX2_ruleFor_0 ++ dktX2_ruleFor_1
theorem dksX2_ruleFor_0 : cX2_ruleFor.data.toList.drop 0 = dktX2_ruleFor_0 := by decide +kernel
theorem dksX2_ruleFor_1 : cX2_ruleFor.data.toList.drop 23 = dktX2_ruleFor_1 := dk_seg dksX2_ruleFor_0 23 rfl rfl
theorem dksX2_ruleFor_2 : cX2_ruleFor.data.toList.drop 45 = dktX2_ruleFor_2 := dk_seg dksX2_ruleFor_1 22 rfl rfl
theorem dksX2_ruleFor_3 : cX2_ruleFor.data.toList.drop 66 = dktX2_ruleFor_3 := dk_seg dksX2_ruleFor_2 21 rfl rfl
theorem dksX2_ruleFor_4 : cX2_ruleFor.data.toList.drop 89 = dktX2_ruleFor_4 := dk_seg dksX2_ruleFor_3 23 rfl rfl
theorem dX2_ruleFor_0 : decode cX2_ruleFor 0 = .ok (.aload_n 0, 1) := dk_42 (dk_at dksX2_ruleFor_0 0 rfl rfl)
theorem dX2_ruleFor_1 : decode cX2_ruleFor 1 = .ok (.getfield 27, 3) := dk_180 0 27 (dk_at dksX2_ruleFor_0 1 rfl rfl)
theorem dX2_ruleFor_4 : decode cX2_ruleFor 4 = .ok (.iload_n 1, 1) := dk_27 (dk_at dksX2_ruleFor_0 4 rfl rfl)
theorem dX2_ruleFor_5 : decode cX2_ruleFor 5 = .ok (.invokeinterface 48 2, 5) := by decide +kernel
theorem dX2_ruleFor_10 : decode cX2_ruleFor 10 = .ok (.checkcast 98, 3) := dk_192 0 98 (dk_at dksX2_ruleFor_0 10 rfl rfl)
theorem dX2_ruleFor_13 : decode cX2_ruleFor 13 = .ok (.astore_n 3, 1) := dk_78 (dk_at dksX2_ruleFor_0 13 rfl rfl)
theorem dX2_ruleFor_14 : decode cX2_ruleFor 14 = .ok (.iconst (-1), 1) := dk_2 (dk_at dksX2_ruleFor_0 14 rfl rfl)
theorem dX2_ruleFor_15 : decode cX2_ruleFor 15 = .ok (.istore 4, 2) := dk_54 4 (dk_at dksX2_ruleFor_0 15 rfl rfl)
theorem dX2_ruleFor_17 : decode cX2_ruleFor 17 = .ok (.iconst 0, 1) := dk_3 (dk_at dksX2_ruleFor_0 17 rfl rfl)
theorem dX2_ruleFor_18 : decode cX2_ruleFor 18 = .ok (.istore 5, 2) := dk_54 5 (dk_at dksX2_ruleFor_0 18 rfl rfl)
theorem dX2_ruleFor_20 : decode cX2_ruleFor 20 = .ok (.iload 5, 2) := dk_21 5 (dk_at dksX2_ruleFor_0 20 rfl rfl)
theorem dX2_ruleFor_22 : decode cX2_ruleFor 22 = .ok (.aload_n 0, 1) := dk_42 (dk_at dksX2_ruleFor_0 22 rfl rfl)
theorem dX2_ruleFor_23 : decode cX2_ruleFor 23 = .ok (.getfield 24, 3) := dk_180 0 24 (dk_at dksX2_ruleFor_1 0 rfl rfl)
theorem dX2_ruleFor_26 : decode cX2_ruleFor 26 = .ok (.aload_n 3, 1) := dk_45 (dk_at dksX2_ruleFor_1 3 rfl rfl)
theorem dX2_ruleFor_27 : decode cX2_ruleFor 27 = .ok (.getfield 179, 3) := dk_180 0 179 (dk_at dksX2_ruleFor_1 4 rfl rfl)
theorem dX2_ruleFor_30 : decode cX2_ruleFor 30 = .ok (.invokeinterface 48 2, 5) := by decide +kernel
theorem dX2_ruleFor_35 : decode cX2_ruleFor 35 = .ok (.checkcast 52, 3) := dk_192 0 52 (dk_at dksX2_ruleFor_1 12 rfl rfl)
theorem dX2_ruleFor_38 : decode cX2_ruleFor 38 = .ok (.getfield 182, 3) := dk_180 0 182 (dk_at dksX2_ruleFor_1 15 rfl rfl)
theorem dX2_ruleFor_41 : decode cX2_ruleFor 41 = .ok (.if_icmp .ge 51, 3) := dk_162 0 51 (dk_at dksX2_ruleFor_1 18 rfl rfl)
theorem dX2_ruleFor_44 : decode cX2_ruleFor 44 = .ok (.aload_n 0, 1) := dk_42 (dk_at dksX2_ruleFor_1 21 rfl rfl)
theorem dX2_ruleFor_45 : decode cX2_ruleFor 45 = .ok (.getfield 21, 3) := dk_180 0 21 (dk_at dksX2_ruleFor_2 0 rfl rfl)
theorem dX2_ruleFor_48 : decode cX2_ruleFor 48 = .ok (.iload 5, 2) := dk_21 5 (dk_at dksX2_ruleFor_2 3 rfl rfl)
theorem dX2_ruleFor_50 : decode cX2_ruleFor 50 = .ok (.invokeinterface 48 2, 5) := by decide +kernel
theorem dX2_ruleFor_55 : decode cX2_ruleFor 55 = .ok (.checkcast 185, 3) := dk_192 0 185 (dk_at dksX2_ruleFor_2 10 rfl rfl)
theorem dX2_ruleFor_58 : decode cX2_ruleFor 58 = .ok (.getfield 187, 3) := dk_180 0 187 (dk_at dksX2_ruleFor_2 13 rfl rfl)
theorem dX2_ruleFor_61 : decode cX2_ruleFor 61 = .ok (.aload_n 3, 1) := dk_45 (dk_at dksX2_ruleFor_2 16 rfl rfl)
theorem dX2_ruleFor_62 : decode cX2_ruleFor 62 = .ok (.getfield 191, 3) := dk_180 0 191 (dk_at dksX2_ruleFor_2 17 rfl rfl)
theorem dX2_ruleFor_65 : decode cX2_ruleFor 65 = .ok (.iload_n 2, 1) := dk_28 (dk_at dksX2_ruleFor_2 20 rfl rfl)
theorem dX2_ruleFor_66 : decode cX2_ruleFor 66 = .ok (.invokeinterface 48 2, 5) := by decide +kernel
theorem dX2_ruleFor_71 : decode cX2_ruleFor 71 = .ok (.invokevirtual 194, 3) := dk_182 0 194 (dk_at dksX2_ruleFor_3 5 rfl rfl)
theorem dX2_ruleFor_74 : decode cX2_ruleFor 74 = .ok (.ifCond .eq 8, 3) := dk_153 0 8 (dk_at dksX2_ruleFor_3 8 rfl rfl)
theorem dX2_ruleFor_77 : decode cX2_ruleFor 77 = .ok (.iload 5, 2) := dk_21 5 (dk_at dksX2_ruleFor_3 11 rfl rfl)
theorem dX2_ruleFor_79 : decode cX2_ruleFor 79 = .ok (.goto 5, 3) := dk_167 0 5 (dk_at dksX2_ruleFor_3 13 rfl rfl)
theorem dX2_ruleFor_82 : decode cX2_ruleFor 82 = .ok (.iload 4, 2) := dk_21 4 (dk_at dksX2_ruleFor_3 16 rfl rfl)
theorem dX2_ruleFor_84 : decode cX2_ruleFor 84 = .ok (.istore 4, 2) := dk_54 4 (dk_at dksX2_ruleFor_3 18 rfl rfl)
theorem dX2_ruleFor_86 : decode cX2_ruleFor 86 = .ok (.iinc 5 1, 3) := dk_132 5 1 (dk_at dksX2_ruleFor_3 20 rfl rfl)
theorem dX2_ruleFor_89 : decode cX2_ruleFor 89 = .ok (.goto (-69), 3) := dk_167 255 187 (dk_at dksX2_ruleFor_4 0 rfl rfl)
theorem dX2_ruleFor_92 : decode cX2_ruleFor 92 = .ok (.iload 4, 2) := dk_21 4 (dk_at dksX2_ruleFor_4 3 rfl rfl)
theorem dX2_ruleFor_94 : decode cX2_ruleFor 94 = .ok (.ireturn, 1) := dk_172 (dk_at dksX2_ruleFor_4 5 rfl rfl)
abbrev cX2_addUnlike : ByteArray := prog_7_method_25_code
def yX2_addUnlike : MethodName := ⟨RX2, "addUnlike", "(ILjava/util/List;)V"⟩
def dkwX2_addUnlike_4 : List UInt8 := [167, 255, 180, 177]
abbrev dktX2_addUnlike_4 : List UInt8 := dkwX2_addUnlike_4 ++ []
def dkwX2_addUnlike_3 : List UInt8 := [154, 0, 20, 44, 187, 0, 230, 89, 27, 21, 4, 183, 0, 232, 185, 0, 58, 2, 0, 87, 132, 4, 1]
abbrev dktX2_addUnlike_3 : List UInt8 := dkwX2_addUnlike_3 ++ dktX2_addUnlike_4
def dkwX2_addUnlike_2 : List UInt8 := [185, 0, 229, 2, 0, 153, 0, 37, 25, 5, 180, 0, 218, 45, 180, 0, 218, 185, 0, 229, 2, 0]
abbrev dktX2_addUnlike_2 : List UInt8 := dkwX2_addUnlike_2 ++ dktX2_addUnlike_3
def dkwX2_addUnlike_1 : List UInt8 := [180, 0, 27, 21, 4, 185, 0, 48, 2, 0, 192, 0, 98, 58, 5, 25, 5, 180, 0, 191, 45, 180, 0, 191]
abbrev dktX2_addUnlike_1 : List UInt8 := dkwX2_addUnlike_1 ++ dktX2_addUnlike_2
def dkwX2_addUnlike_0 : List UInt8 := [42, 180, 0, 27, 27, 185, 0, 48, 2, 0, 192, 0, 98, 78, 3, 54, 4, 21, 4, 27, 162, 0, 76, 42]
abbrev dktX2_addUnlike_0 : List UInt8 := dkwX2_addUnlike_0 ++ dktX2_addUnlike_1
theorem dksX2_addUnlike_0 : cX2_addUnlike.data.toList.drop 0 = dktX2_addUnlike_0 := by decide +kernel
theorem dksX2_addUnlike_1 : cX2_addUnlike.data.toList.drop 24 = dktX2_addUnlike_1 := dk_seg dksX2_addUnlike_0 24 rfl rfl
theorem dksX2_addUnlike_2 : cX2_addUnlike.data.toList.drop 48 = dktX2_addUnlike_2 := dk_seg dksX2_addUnlike_1 24 rfl rfl
theorem dksX2_addUnlike_3 : cX2_addUnlike.data.toList.drop 70 = dktX2_addUnlike_3 := dk_seg dksX2_addUnlike_2 22 rfl rfl
theorem dksX2_addUnlike_4 : cX2_addUnlike.data.toList.drop 93 = dktX2_addUnlike_4 := dk_seg dksX2_addUnlike_3 23 rfl rfl
theorem dX2_addUnlike_0 : decode cX2_addUnlike 0 = .ok (.aload_n 0, 1) := dk_42 (dk_at dksX2_addUnlike_0 0 rfl rfl)
theorem dX2_addUnlike_1 : decode cX2_addUnlike 1 = .ok (.getfield 27, 3) := dk_180 0 27 (dk_at dksX2_addUnlike_0 1 rfl rfl)
theorem dX2_addUnlike_4 : decode cX2_addUnlike 4 = .ok (.iload_n 1, 1) := dk_27 (dk_at dksX2_addUnlike_0 4 rfl rfl)
theorem dX2_addUnlike_5 : decode cX2_addUnlike 5 = .ok (.invokeinterface 48 2, 5) := by decide +kernel
theorem dX2_addUnlike_10 : decode cX2_addUnlike 10 = .ok (.checkcast 98, 3) := dk_192 0 98 (dk_at dksX2_addUnlike_0 10 rfl rfl)
theorem dX2_addUnlike_13 : decode cX2_addUnlike 13 = .ok (.astore_n 3, 1) := dk_78 (dk_at dksX2_addUnlike_0 13 rfl rfl)
theorem dX2_addUnlike_14 : decode cX2_addUnlike 14 = .ok (.iconst 0, 1) := dk_3 (dk_at dksX2_addUnlike_0 14 rfl rfl)
theorem dX2_addUnlike_15 : decode cX2_addUnlike 15 = .ok (.istore 4, 2) := dk_54 4 (dk_at dksX2_addUnlike_0 15 rfl rfl)
theorem dX2_addUnlike_17 : decode cX2_addUnlike 17 = .ok (.iload 4, 2) := dk_21 4 (dk_at dksX2_addUnlike_0 17 rfl rfl)
theorem dX2_addUnlike_19 : decode cX2_addUnlike 19 = .ok (.iload_n 1, 1) := dk_27 (dk_at dksX2_addUnlike_0 19 rfl rfl)
theorem dX2_addUnlike_20 : decode cX2_addUnlike 20 = .ok (.if_icmp .ge 76, 3) := dk_162 0 76 (dk_at dksX2_addUnlike_0 20 rfl rfl)
theorem dX2_addUnlike_23 : decode cX2_addUnlike 23 = .ok (.aload_n 0, 1) := dk_42 (dk_at dksX2_addUnlike_0 23 rfl rfl)
theorem dX2_addUnlike_24 : decode cX2_addUnlike 24 = .ok (.getfield 27, 3) := dk_180 0 27 (dk_at dksX2_addUnlike_1 0 rfl rfl)
theorem dX2_addUnlike_27 : decode cX2_addUnlike 27 = .ok (.iload 4, 2) := dk_21 4 (dk_at dksX2_addUnlike_1 3 rfl rfl)
theorem dX2_addUnlike_29 : decode cX2_addUnlike 29 = .ok (.invokeinterface 48 2, 5) := by decide +kernel
theorem dX2_addUnlike_34 : decode cX2_addUnlike 34 = .ok (.checkcast 98, 3) := dk_192 0 98 (dk_at dksX2_addUnlike_1 10 rfl rfl)
theorem dX2_addUnlike_37 : decode cX2_addUnlike 37 = .ok (.astore 5, 2) := dk_58 5 (dk_at dksX2_addUnlike_1 13 rfl rfl)
theorem dX2_addUnlike_39 : decode cX2_addUnlike 39 = .ok (.aload 5, 2) := dk_25 5 (dk_at dksX2_addUnlike_1 15 rfl rfl)
theorem dX2_addUnlike_41 : decode cX2_addUnlike 41 = .ok (.getfield 191, 3) := dk_180 0 191 (dk_at dksX2_addUnlike_1 17 rfl rfl)
theorem dX2_addUnlike_44 : decode cX2_addUnlike 44 = .ok (.aload_n 3, 1) := dk_45 (dk_at dksX2_addUnlike_1 20 rfl rfl)
theorem dX2_addUnlike_45 : decode cX2_addUnlike 45 = .ok (.getfield 191, 3) := dk_180 0 191 (dk_at dksX2_addUnlike_1 21 rfl rfl)
theorem dX2_addUnlike_48 : decode cX2_addUnlike 48 = .ok (.invokeinterface 229 2, 5) := by decide +kernel
theorem dX2_addUnlike_53 : decode cX2_addUnlike 53 = .ok (.ifCond .eq 37, 3) := dk_153 0 37 (dk_at dksX2_addUnlike_2 5 rfl rfl)
theorem dX2_addUnlike_56 : decode cX2_addUnlike 56 = .ok (.aload 5, 2) := dk_25 5 (dk_at dksX2_addUnlike_2 8 rfl rfl)
theorem dX2_addUnlike_58 : decode cX2_addUnlike 58 = .ok (.getfield 218, 3) := dk_180 0 218 (dk_at dksX2_addUnlike_2 10 rfl rfl)
theorem dX2_addUnlike_61 : decode cX2_addUnlike 61 = .ok (.aload_n 3, 1) := dk_45 (dk_at dksX2_addUnlike_2 13 rfl rfl)
theorem dX2_addUnlike_62 : decode cX2_addUnlike 62 = .ok (.getfield 218, 3) := dk_180 0 218 (dk_at dksX2_addUnlike_2 14 rfl rfl)
theorem dX2_addUnlike_65 : decode cX2_addUnlike 65 = .ok (.invokeinterface 229 2, 5) := by decide +kernel
theorem dX2_addUnlike_70 : decode cX2_addUnlike 70 = .ok (.ifCond .ne 20, 3) := dk_154 0 20 (dk_at dksX2_addUnlike_3 0 rfl rfl)
theorem dX2_addUnlike_73 : decode cX2_addUnlike 73 = .ok (.aload_n 2, 1) := dk_44 (dk_at dksX2_addUnlike_3 3 rfl rfl)
theorem dX2_addUnlike_74 : decode cX2_addUnlike 74 = .ok (.new 230, 3) := dk_187 0 230 (dk_at dksX2_addUnlike_3 4 rfl rfl)
theorem dX2_addUnlike_77 : decode cX2_addUnlike 77 = .ok (.dup, 1) := dk_89 (dk_at dksX2_addUnlike_3 7 rfl rfl)
theorem dX2_addUnlike_78 : decode cX2_addUnlike 78 = .ok (.iload_n 1, 1) := dk_27 (dk_at dksX2_addUnlike_3 8 rfl rfl)
theorem dX2_addUnlike_79 : decode cX2_addUnlike 79 = .ok (.iload 4, 2) := dk_21 4 (dk_at dksX2_addUnlike_3 9 rfl rfl)
theorem dX2_addUnlike_81 : decode cX2_addUnlike 81 = .ok (.invokespecial 232, 3) := dk_183 0 232 (dk_at dksX2_addUnlike_3 11 rfl rfl)
theorem dX2_addUnlike_84 : decode cX2_addUnlike 84 = .ok (.invokeinterface 58 2, 5) := by decide +kernel
theorem dX2_addUnlike_89 : decode cX2_addUnlike 89 = .ok (.pop, 1) := dk_87 (dk_at dksX2_addUnlike_3 19 rfl rfl)
theorem dX2_addUnlike_90 : decode cX2_addUnlike 90 = .ok (.iinc 4 1, 3) := dk_132 4 1 (dk_at dksX2_addUnlike_3 20 rfl rfl)
theorem dX2_addUnlike_93 : decode cX2_addUnlike 93 = .ok (.goto (-76), 3) := dk_167 255 180 (dk_at dksX2_addUnlike_4 0 rfl rfl)
theorem dX2_addUnlike_96 : decode cX2_addUnlike 96 = .ok (.return_, 1) := dk_177 (dk_at dksX2_addUnlike_4 3 rfl rfl)
abbrev cX2_loadBy : ByteArray := prog_7_method_18_code
def yX2_loadBy : MethodName := ⟨RX2, "loadBy", "(II)I"⟩
def dkwX2_loadBy_4 : List UInt8 := [29, 172]
abbrev dktX2_loadBy_4 : List UInt8 := dkwX2_loadBy_4 ++ []
def dkwX2_loadBy_3 : List UInt8 := [21, 4, 28, 159, 0, 15, 29, 42, 21, 4, 182, 0, 134, 184, 0, 169, 96, 62, 132, 4, 1, 167, 255, 170]
abbrev dktX2_loadBy_3 : List UInt8 := dkwX2_loadBy_3 ++ dktX2_loadBy_4
def dkwX2_loadBy_2 : List UInt8 := [96, 62, 42, 180, 0, 24, 21, 4, 185, 0, 48, 2, 0, 192, 0, 52, 180, 0, 166, 27, 160, 0, 21]
abbrev dktX2_loadBy_2 : List UInt8 := dkwX2_loadBy_2 ++ dktX2_loadBy_3
def dkwX2_loadBy_1 : List UInt8 := [21, 4, 185, 0, 48, 2, 0, 192, 0, 52, 180, 0, 163, 27, 160, 0, 12, 29, 42, 21, 4, 182, 0, 134]
abbrev dktX2_loadBy_1 : List UInt8 := dkwX2_loadBy_1 ++ dktX2_loadBy_2
def dkwX2_loadBy_0 : List UInt8 := [3, 62, 3, 54, 4, 21, 4, 42, 180, 0, 24, 185, 0, 44, 1, 0, 162, 0, 78, 42, 180, 0, 24]
abbrev dktX2_loadBy_0 : List UInt8 := dkwX2_loadBy_0 ++ dktX2_loadBy_1
theorem dksX2_loadBy_0 : cX2_loadBy.data.toList.drop 0 = dktX2_loadBy_0 := by decide +kernel
theorem dksX2_loadBy_1 : cX2_loadBy.data.toList.drop 23 = dktX2_loadBy_1 := dk_seg dksX2_loadBy_0 23 rfl rfl
theorem dksX2_loadBy_2 : cX2_loadBy.data.toList.drop 47 = dktX2_loadBy_2 := dk_seg dksX2_loadBy_1 24 rfl rfl
theorem dksX2_loadBy_3 : cX2_loadBy.data.toList.drop 70 = dktX2_loadBy_3 := dk_seg dksX2_loadBy_2 23 rfl rfl
theorem dksX2_loadBy_4 : cX2_loadBy.data.toList.drop 94 = dktX2_loadBy_4 := dk_seg dksX2_loadBy_3 24 rfl rfl
theorem dX2_loadBy_0 : decode cX2_loadBy 0 = .ok (.iconst 0, 1) := dk_3 (dk_at dksX2_loadBy_0 0 rfl rfl)
theorem dX2_loadBy_1 : decode cX2_loadBy 1 = .ok (.istore_n 3, 1) := dk_62 (dk_at dksX2_loadBy_0 1 rfl rfl)
theorem dX2_loadBy_2 : decode cX2_loadBy 2 = .ok (.iconst 0, 1) := dk_3 (dk_at dksX2_loadBy_0 2 rfl rfl)
theorem dX2_loadBy_3 : decode cX2_loadBy 3 = .ok (.istore 4, 2) := dk_54 4 (dk_at dksX2_loadBy_0 3 rfl rfl)
theorem dX2_loadBy_5 : decode cX2_loadBy 5 = .ok (.iload 4, 2) := dk_21 4 (dk_at dksX2_loadBy_0 5 rfl rfl)
theorem dX2_loadBy_7 : decode cX2_loadBy 7 = .ok (.aload_n 0, 1) := dk_42 (dk_at dksX2_loadBy_0 7 rfl rfl)
theorem dX2_loadBy_8 : decode cX2_loadBy 8 = .ok (.getfield 24, 3) := dk_180 0 24 (dk_at dksX2_loadBy_0 8 rfl rfl)
theorem dX2_loadBy_11 : decode cX2_loadBy 11 = .ok (.invokeinterface 44 1, 5) := by decide +kernel
theorem dX2_loadBy_16 : decode cX2_loadBy 16 = .ok (.if_icmp .ge 78, 3) := dk_162 0 78 (dk_at dksX2_loadBy_0 16 rfl rfl)
theorem dX2_loadBy_19 : decode cX2_loadBy 19 = .ok (.aload_n 0, 1) := dk_42 (dk_at dksX2_loadBy_0 19 rfl rfl)
theorem dX2_loadBy_20 : decode cX2_loadBy 20 = .ok (.getfield 24, 3) := dk_180 0 24 (dk_at dksX2_loadBy_0 20 rfl rfl)
theorem dX2_loadBy_23 : decode cX2_loadBy 23 = .ok (.iload 4, 2) := dk_21 4 (dk_at dksX2_loadBy_1 0 rfl rfl)
theorem dX2_loadBy_25 : decode cX2_loadBy 25 = .ok (.invokeinterface 48 2, 5) := by decide +kernel
theorem dX2_loadBy_30 : decode cX2_loadBy 30 = .ok (.checkcast 52, 3) := dk_192 0 52 (dk_at dksX2_loadBy_1 7 rfl rfl)
theorem dX2_loadBy_33 : decode cX2_loadBy 33 = .ok (.getfield 163, 3) := dk_180 0 163 (dk_at dksX2_loadBy_1 10 rfl rfl)
theorem dX2_loadBy_36 : decode cX2_loadBy 36 = .ok (.iload_n 1, 1) := dk_27 (dk_at dksX2_loadBy_1 13 rfl rfl)
theorem dX2_loadBy_37 : decode cX2_loadBy 37 = .ok (.if_icmp .ne 12, 3) := dk_160 0 12 (dk_at dksX2_loadBy_1 14 rfl rfl)
theorem dX2_loadBy_40 : decode cX2_loadBy 40 = .ok (.iload_n 3, 1) := dk_29 (dk_at dksX2_loadBy_1 17 rfl rfl)
theorem dX2_loadBy_41 : decode cX2_loadBy 41 = .ok (.aload_n 0, 1) := dk_42 (dk_at dksX2_loadBy_1 18 rfl rfl)
theorem dX2_loadBy_42 : decode cX2_loadBy 42 = .ok (.iload 4, 2) := dk_21 4 (dk_at dksX2_loadBy_1 19 rfl rfl)
theorem dX2_loadBy_44 : decode cX2_loadBy 44 = .ok (.invokevirtual 134, 3) := dk_182 0 134 (dk_at dksX2_loadBy_1 21 rfl rfl)
theorem dX2_loadBy_47 : decode cX2_loadBy 47 = .ok (.iadd, 1) := dk_96 (dk_at dksX2_loadBy_2 0 rfl rfl)
theorem dX2_loadBy_48 : decode cX2_loadBy 48 = .ok (.istore_n 3, 1) := dk_62 (dk_at dksX2_loadBy_2 1 rfl rfl)
theorem dX2_loadBy_49 : decode cX2_loadBy 49 = .ok (.aload_n 0, 1) := dk_42 (dk_at dksX2_loadBy_2 2 rfl rfl)
theorem dX2_loadBy_50 : decode cX2_loadBy 50 = .ok (.getfield 24, 3) := dk_180 0 24 (dk_at dksX2_loadBy_2 3 rfl rfl)
theorem dX2_loadBy_53 : decode cX2_loadBy 53 = .ok (.iload 4, 2) := dk_21 4 (dk_at dksX2_loadBy_2 6 rfl rfl)
theorem dX2_loadBy_55 : decode cX2_loadBy 55 = .ok (.invokeinterface 48 2, 5) := by decide +kernel
theorem dX2_loadBy_60 : decode cX2_loadBy 60 = .ok (.checkcast 52, 3) := dk_192 0 52 (dk_at dksX2_loadBy_2 13 rfl rfl)
theorem dX2_loadBy_63 : decode cX2_loadBy 63 = .ok (.getfield 166, 3) := dk_180 0 166 (dk_at dksX2_loadBy_2 16 rfl rfl)
theorem dX2_loadBy_66 : decode cX2_loadBy 66 = .ok (.iload_n 1, 1) := dk_27 (dk_at dksX2_loadBy_2 19 rfl rfl)
theorem dX2_loadBy_67 : decode cX2_loadBy 67 = .ok (.if_icmp .ne 21, 3) := dk_160 0 21 (dk_at dksX2_loadBy_2 20 rfl rfl)
theorem dX2_loadBy_70 : decode cX2_loadBy 70 = .ok (.iload 4, 2) := dk_21 4 (dk_at dksX2_loadBy_3 0 rfl rfl)
theorem dX2_loadBy_72 : decode cX2_loadBy 72 = .ok (.iload_n 2, 1) := dk_28 (dk_at dksX2_loadBy_3 2 rfl rfl)
theorem dX2_loadBy_73 : decode cX2_loadBy 73 = .ok (.if_icmp .eq 15, 3) := dk_159 0 15 (dk_at dksX2_loadBy_3 3 rfl rfl)
theorem dX2_loadBy_76 : decode cX2_loadBy 76 = .ok (.iload_n 3, 1) := dk_29 (dk_at dksX2_loadBy_3 6 rfl rfl)
theorem dX2_loadBy_77 : decode cX2_loadBy 77 = .ok (.aload_n 0, 1) := dk_42 (dk_at dksX2_loadBy_3 7 rfl rfl)
theorem dX2_loadBy_78 : decode cX2_loadBy 78 = .ok (.iload 4, 2) := dk_21 4 (dk_at dksX2_loadBy_3 8 rfl rfl)
theorem dX2_loadBy_80 : decode cX2_loadBy 80 = .ok (.invokevirtual 134, 3) := dk_182 0 134 (dk_at dksX2_loadBy_3 10 rfl rfl)
theorem dX2_loadBy_83 : decode cX2_loadBy 83 = .ok (.invokestatic 169, 3) := dk_184 0 169 (dk_at dksX2_loadBy_3 13 rfl rfl)
theorem dX2_loadBy_86 : decode cX2_loadBy 86 = .ok (.iadd, 1) := dk_96 (dk_at dksX2_loadBy_3 16 rfl rfl)
theorem dX2_loadBy_87 : decode cX2_loadBy 87 = .ok (.istore_n 3, 1) := dk_62 (dk_at dksX2_loadBy_3 17 rfl rfl)
theorem dX2_loadBy_88 : decode cX2_loadBy 88 = .ok (.iinc 4 1, 3) := dk_132 4 1 (dk_at dksX2_loadBy_3 18 rfl rfl)
theorem dX2_loadBy_91 : decode cX2_loadBy 91 = .ok (.goto (-86), 3) := dk_167 255 170 (dk_at dksX2_loadBy_3 21 rfl rfl)
theorem dX2_loadBy_94 : decode cX2_loadBy 94 = .ok (.iload_n 3, 1) := dk_29 (dk_at dksX2_loadBy_4 0 rfl rfl)
theorem dX2_loadBy_95 : decode cX2_loadBy 95 = .ok (.ireturn, 1) := dk_172 (dk_at dksX2_loadBy_4 1 rfl rfl)
abbrev cX2_suggestedFor : ByteArray := prog_7_method_20_code
def yX2_suggestedFor : MethodName := ⟨RX2, "suggestedFor", "(I)I"⟩
def dkwX2_suggestedFor_6 : List UInt8 := [167, 255, 139, 29, 172]
abbrev dktX2_suggestedFor_6 : List UInt8 := dkwX2_suggestedFor_6 ++ []
def dkwX2_suggestedFor_5 : List UInt8 := [21, 4, 27, 182, 0, 172, 42, 29, 27, 182, 0, 172, 161, 0, 6, 167, 0, 6, 21, 4, 62, 132, 4, 1]
abbrev dktX2_suggestedFor_5 : List UInt8 := dkwX2_suggestedFor_5 ++ dktX2_suggestedFor_6
def dkwX2_suggestedFor_4 : List UInt8 := [182, 0, 175, 42, 28, 29, 27, 182, 0, 175, 100, 54, 5, 21, 5, 157, 0, 30, 21, 5, 154, 0, 22, 42]
abbrev dktX2_suggestedFor_4 : List UInt8 := dkwX2_suggestedFor_4 ++ dktX2_suggestedFor_5
def dkwX2_suggestedFor_3 : List UInt8 := [192, 0, 93, 182, 0, 95, 164, 0, 6, 167, 0, 58, 29, 2, 159, 0, 50, 42, 28, 21, 4, 27]
abbrev dktX2_suggestedFor_3 : List UInt8 := dkwX2_suggestedFor_3 ++ dktX2_suggestedFor_4
def dkwX2_suggestedFor_2 : List UInt8 := [182, 0, 172, 42, 27, 182, 0, 134, 184, 0, 169, 96, 42, 180, 0, 18, 21, 4, 185, 0, 48, 2, 0]
abbrev dktX2_suggestedFor_2 : List UInt8 := dkwX2_suggestedFor_2 ++ dktX2_suggestedFor_3
def dkwX2_suggestedFor_1 : List UInt8 := [42, 180, 0, 12, 185, 0, 44, 1, 0, 162, 0, 109, 21, 4, 28, 159, 0, 97, 42, 21, 4, 27]
abbrev dktX2_suggestedFor_1 : List UInt8 := dkwX2_suggestedFor_1 ++ dktX2_suggestedFor_2
def dkwX2_suggestedFor_0 : List UInt8 := [42, 180, 0, 24, 27, 185, 0, 48, 2, 0, 192, 0, 52, 180, 0, 163, 61, 2, 62, 3, 54, 4, 21, 4]
abbrev dktX2_suggestedFor_0 : List UInt8 := dkwX2_suggestedFor_0 ++ dktX2_suggestedFor_1
theorem dksX2_suggestedFor_0 : cX2_suggestedFor.data.toList.drop 0 = dktX2_suggestedFor_0 := by decide +kernel
theorem dksX2_suggestedFor_1 : cX2_suggestedFor.data.toList.drop 24 = dktX2_suggestedFor_1 := dk_seg dksX2_suggestedFor_0 24 rfl rfl
theorem dksX2_suggestedFor_2 : cX2_suggestedFor.data.toList.drop 46 = dktX2_suggestedFor_2 := dk_seg dksX2_suggestedFor_1 22 rfl rfl
theorem dksX2_suggestedFor_3 : cX2_suggestedFor.data.toList.drop 69 = dktX2_suggestedFor_3 := dk_seg dksX2_suggestedFor_2 23 rfl rfl
theorem dksX2_suggestedFor_4 : cX2_suggestedFor.data.toList.drop 91 = dktX2_suggestedFor_4 := dk_seg dksX2_suggestedFor_3 22 rfl rfl
theorem dksX2_suggestedFor_5 : cX2_suggestedFor.data.toList.drop 115 = dktX2_suggestedFor_5 := dk_seg dksX2_suggestedFor_4 24 rfl rfl
theorem dksX2_suggestedFor_6 : cX2_suggestedFor.data.toList.drop 139 = dktX2_suggestedFor_6 := dk_seg dksX2_suggestedFor_5 24 rfl rfl
theorem dX2_suggestedFor_0 : decode cX2_suggestedFor 0 = .ok (.aload_n 0, 1) := dk_42 (dk_at dksX2_suggestedFor_0 0 rfl rfl)
theorem dX2_suggestedFor_1 : decode cX2_suggestedFor 1 = .ok (.getfield 24, 3) := dk_180 0 24 (dk_at dksX2_suggestedFor_0 1 rfl rfl)
theorem dX2_suggestedFor_4 : decode cX2_suggestedFor 4 = .ok (.iload_n 1, 1) := dk_27 (dk_at dksX2_suggestedFor_0 4 rfl rfl)
theorem dX2_suggestedFor_5 : decode cX2_suggestedFor 5 = .ok (.invokeinterface 48 2, 5) := by decide +kernel
theorem dX2_suggestedFor_10 : decode cX2_suggestedFor 10 = .ok (.checkcast 52, 3) := dk_192 0 52 (dk_at dksX2_suggestedFor_0 10 rfl rfl)
theorem dX2_suggestedFor_13 : decode cX2_suggestedFor 13 = .ok (.getfield 163, 3) := dk_180 0 163 (dk_at dksX2_suggestedFor_0 13 rfl rfl)
theorem dX2_suggestedFor_16 : decode cX2_suggestedFor 16 = .ok (.istore_n 2, 1) := dk_61 (dk_at dksX2_suggestedFor_0 16 rfl rfl)
theorem dX2_suggestedFor_17 : decode cX2_suggestedFor 17 = .ok (.iconst (-1), 1) := dk_2 (dk_at dksX2_suggestedFor_0 17 rfl rfl)
theorem dX2_suggestedFor_18 : decode cX2_suggestedFor 18 = .ok (.istore_n 3, 1) := dk_62 (dk_at dksX2_suggestedFor_0 18 rfl rfl)
theorem dX2_suggestedFor_19 : decode cX2_suggestedFor 19 = .ok (.iconst 0, 1) := dk_3 (dk_at dksX2_suggestedFor_0 19 rfl rfl)
theorem dX2_suggestedFor_20 : decode cX2_suggestedFor 20 = .ok (.istore 4, 2) := dk_54 4 (dk_at dksX2_suggestedFor_0 20 rfl rfl)
theorem dX2_suggestedFor_22 : decode cX2_suggestedFor 22 = .ok (.iload 4, 2) := dk_21 4 (dk_at dksX2_suggestedFor_0 22 rfl rfl)
theorem dX2_suggestedFor_24 : decode cX2_suggestedFor 24 = .ok (.aload_n 0, 1) := dk_42 (dk_at dksX2_suggestedFor_1 0 rfl rfl)
theorem dX2_suggestedFor_25 : decode cX2_suggestedFor 25 = .ok (.getfield 12, 3) := dk_180 0 12 (dk_at dksX2_suggestedFor_1 1 rfl rfl)
theorem dX2_suggestedFor_28 : decode cX2_suggestedFor 28 = .ok (.invokeinterface 44 1, 5) := by decide +kernel
theorem dX2_suggestedFor_33 : decode cX2_suggestedFor 33 = .ok (.if_icmp .ge 109, 3) := dk_162 0 109 (dk_at dksX2_suggestedFor_1 9 rfl rfl)
theorem dX2_suggestedFor_36 : decode cX2_suggestedFor 36 = .ok (.iload 4, 2) := dk_21 4 (dk_at dksX2_suggestedFor_1 12 rfl rfl)
theorem dX2_suggestedFor_38 : decode cX2_suggestedFor 38 = .ok (.iload_n 2, 1) := dk_28 (dk_at dksX2_suggestedFor_1 14 rfl rfl)
theorem dX2_suggestedFor_39 : decode cX2_suggestedFor 39 = .ok (.if_icmp .eq 97, 3) := dk_159 0 97 (dk_at dksX2_suggestedFor_1 15 rfl rfl)
theorem dX2_suggestedFor_42 : decode cX2_suggestedFor 42 = .ok (.aload_n 0, 1) := dk_42 (dk_at dksX2_suggestedFor_1 18 rfl rfl)
theorem dX2_suggestedFor_43 : decode cX2_suggestedFor 43 = .ok (.iload 4, 2) := dk_21 4 (dk_at dksX2_suggestedFor_1 19 rfl rfl)
theorem dX2_suggestedFor_45 : decode cX2_suggestedFor 45 = .ok (.iload_n 1, 1) := dk_27 (dk_at dksX2_suggestedFor_1 21 rfl rfl)
theorem dX2_suggestedFor_46 : decode cX2_suggestedFor 46 = .ok (.invokevirtual 172, 3) := dk_182 0 172 (dk_at dksX2_suggestedFor_2 0 rfl rfl)
theorem dX2_suggestedFor_49 : decode cX2_suggestedFor 49 = .ok (.aload_n 0, 1) := dk_42 (dk_at dksX2_suggestedFor_2 3 rfl rfl)
theorem dX2_suggestedFor_50 : decode cX2_suggestedFor 50 = .ok (.iload_n 1, 1) := dk_27 (dk_at dksX2_suggestedFor_2 4 rfl rfl)
theorem dX2_suggestedFor_51 : decode cX2_suggestedFor 51 = .ok (.invokevirtual 134, 3) := dk_182 0 134 (dk_at dksX2_suggestedFor_2 5 rfl rfl)
theorem dX2_suggestedFor_54 : decode cX2_suggestedFor 54 = .ok (.invokestatic 169, 3) := dk_184 0 169 (dk_at dksX2_suggestedFor_2 8 rfl rfl)
theorem dX2_suggestedFor_57 : decode cX2_suggestedFor 57 = .ok (.iadd, 1) := dk_96 (dk_at dksX2_suggestedFor_2 11 rfl rfl)
theorem dX2_suggestedFor_58 : decode cX2_suggestedFor 58 = .ok (.aload_n 0, 1) := dk_42 (dk_at dksX2_suggestedFor_2 12 rfl rfl)
theorem dX2_suggestedFor_59 : decode cX2_suggestedFor 59 = .ok (.getfield 18, 3) := dk_180 0 18 (dk_at dksX2_suggestedFor_2 13 rfl rfl)
theorem dX2_suggestedFor_62 : decode cX2_suggestedFor 62 = .ok (.iload 4, 2) := dk_21 4 (dk_at dksX2_suggestedFor_2 16 rfl rfl)
theorem dX2_suggestedFor_64 : decode cX2_suggestedFor 64 = .ok (.invokeinterface 48 2, 5) := by decide +kernel
theorem dX2_suggestedFor_69 : decode cX2_suggestedFor 69 = .ok (.checkcast 93, 3) := dk_192 0 93 (dk_at dksX2_suggestedFor_3 0 rfl rfl)
theorem dX2_suggestedFor_72 : decode cX2_suggestedFor 72 = .ok (.invokevirtual 95, 3) := dk_182 0 95 (dk_at dksX2_suggestedFor_3 3 rfl rfl)
theorem dX2_suggestedFor_75 : decode cX2_suggestedFor 75 = .ok (.if_icmp .le 6, 3) := dk_164 0 6 (dk_at dksX2_suggestedFor_3 6 rfl rfl)
theorem dX2_suggestedFor_78 : decode cX2_suggestedFor 78 = .ok (.goto 58, 3) := dk_167 0 58 (dk_at dksX2_suggestedFor_3 9 rfl rfl)
theorem dX2_suggestedFor_81 : decode cX2_suggestedFor 81 = .ok (.iload_n 3, 1) := dk_29 (dk_at dksX2_suggestedFor_3 12 rfl rfl)
theorem dX2_suggestedFor_82 : decode cX2_suggestedFor 82 = .ok (.iconst (-1), 1) := dk_2 (dk_at dksX2_suggestedFor_3 13 rfl rfl)
theorem dX2_suggestedFor_83 : decode cX2_suggestedFor 83 = .ok (.if_icmp .eq 50, 3) := dk_159 0 50 (dk_at dksX2_suggestedFor_3 14 rfl rfl)
theorem dX2_suggestedFor_86 : decode cX2_suggestedFor 86 = .ok (.aload_n 0, 1) := dk_42 (dk_at dksX2_suggestedFor_3 17 rfl rfl)
theorem dX2_suggestedFor_87 : decode cX2_suggestedFor 87 = .ok (.iload_n 2, 1) := dk_28 (dk_at dksX2_suggestedFor_3 18 rfl rfl)
theorem dX2_suggestedFor_88 : decode cX2_suggestedFor 88 = .ok (.iload 4, 2) := dk_21 4 (dk_at dksX2_suggestedFor_3 19 rfl rfl)
theorem dX2_suggestedFor_90 : decode cX2_suggestedFor 90 = .ok (.iload_n 1, 1) := dk_27 (dk_at dksX2_suggestedFor_3 21 rfl rfl)
theorem dX2_suggestedFor_91 : decode cX2_suggestedFor 91 = .ok (.invokevirtual 175, 3) := dk_182 0 175 (dk_at dksX2_suggestedFor_4 0 rfl rfl)
theorem dX2_suggestedFor_94 : decode cX2_suggestedFor 94 = .ok (.aload_n 0, 1) := dk_42 (dk_at dksX2_suggestedFor_4 3 rfl rfl)
theorem dX2_suggestedFor_95 : decode cX2_suggestedFor 95 = .ok (.iload_n 2, 1) := dk_28 (dk_at dksX2_suggestedFor_4 4 rfl rfl)
theorem dX2_suggestedFor_96 : decode cX2_suggestedFor 96 = .ok (.iload_n 3, 1) := dk_29 (dk_at dksX2_suggestedFor_4 5 rfl rfl)
theorem dX2_suggestedFor_97 : decode cX2_suggestedFor 97 = .ok (.iload_n 1, 1) := dk_27 (dk_at dksX2_suggestedFor_4 6 rfl rfl)
theorem dX2_suggestedFor_98 : decode cX2_suggestedFor 98 = .ok (.invokevirtual 175, 3) := dk_182 0 175 (dk_at dksX2_suggestedFor_4 7 rfl rfl)
theorem dX2_suggestedFor_101 : decode cX2_suggestedFor 101 = .ok (.isub, 1) := dk_100 (dk_at dksX2_suggestedFor_4 10 rfl rfl)
theorem dX2_suggestedFor_102 : decode cX2_suggestedFor 102 = .ok (.istore 5, 2) := dk_54 5 (dk_at dksX2_suggestedFor_4 11 rfl rfl)
theorem dX2_suggestedFor_104 : decode cX2_suggestedFor 104 = .ok (.iload 5, 2) := dk_21 5 (dk_at dksX2_suggestedFor_4 13 rfl rfl)
theorem dX2_suggestedFor_106 : decode cX2_suggestedFor 106 = .ok (.ifCond .gt 30, 3) := dk_157 0 30 (dk_at dksX2_suggestedFor_4 15 rfl rfl)
theorem dX2_suggestedFor_109 : decode cX2_suggestedFor 109 = .ok (.iload 5, 2) := dk_21 5 (dk_at dksX2_suggestedFor_4 18 rfl rfl)
theorem dX2_suggestedFor_111 : decode cX2_suggestedFor 111 = .ok (.ifCond .ne 22, 3) := dk_154 0 22 (dk_at dksX2_suggestedFor_4 20 rfl rfl)
theorem dX2_suggestedFor_114 : decode cX2_suggestedFor 114 = .ok (.aload_n 0, 1) := dk_42 (dk_at dksX2_suggestedFor_4 23 rfl rfl)
theorem dX2_suggestedFor_115 : decode cX2_suggestedFor 115 = .ok (.iload 4, 2) := dk_21 4 (dk_at dksX2_suggestedFor_5 0 rfl rfl)
theorem dX2_suggestedFor_117 : decode cX2_suggestedFor 117 = .ok (.iload_n 1, 1) := dk_27 (dk_at dksX2_suggestedFor_5 2 rfl rfl)
theorem dX2_suggestedFor_118 : decode cX2_suggestedFor 118 = .ok (.invokevirtual 172, 3) := dk_182 0 172 (dk_at dksX2_suggestedFor_5 3 rfl rfl)
theorem dX2_suggestedFor_121 : decode cX2_suggestedFor 121 = .ok (.aload_n 0, 1) := dk_42 (dk_at dksX2_suggestedFor_5 6 rfl rfl)
theorem dX2_suggestedFor_122 : decode cX2_suggestedFor 122 = .ok (.iload_n 3, 1) := dk_29 (dk_at dksX2_suggestedFor_5 7 rfl rfl)
theorem dX2_suggestedFor_123 : decode cX2_suggestedFor 123 = .ok (.iload_n 1, 1) := dk_27 (dk_at dksX2_suggestedFor_5 8 rfl rfl)
theorem dX2_suggestedFor_124 : decode cX2_suggestedFor 124 = .ok (.invokevirtual 172, 3) := dk_182 0 172 (dk_at dksX2_suggestedFor_5 9 rfl rfl)
theorem dX2_suggestedFor_127 : decode cX2_suggestedFor 127 = .ok (.if_icmp .lt 6, 3) := dk_161 0 6 (dk_at dksX2_suggestedFor_5 12 rfl rfl)
theorem dX2_suggestedFor_130 : decode cX2_suggestedFor 130 = .ok (.goto 6, 3) := dk_167 0 6 (dk_at dksX2_suggestedFor_5 15 rfl rfl)
theorem dX2_suggestedFor_133 : decode cX2_suggestedFor 133 = .ok (.iload 4, 2) := dk_21 4 (dk_at dksX2_suggestedFor_5 18 rfl rfl)
theorem dX2_suggestedFor_135 : decode cX2_suggestedFor 135 = .ok (.istore_n 3, 1) := dk_62 (dk_at dksX2_suggestedFor_5 20 rfl rfl)
theorem dX2_suggestedFor_136 : decode cX2_suggestedFor 136 = .ok (.iinc 4 1, 3) := dk_132 4 1 (dk_at dksX2_suggestedFor_5 21 rfl rfl)
theorem dX2_suggestedFor_139 : decode cX2_suggestedFor 139 = .ok (.goto (-117), 3) := dk_167 255 139 (dk_at dksX2_suggestedFor_6 0 rfl rfl)
theorem dX2_suggestedFor_142 : decode cX2_suggestedFor 142 = .ok (.iload_n 3, 1) := dk_29 (dk_at dksX2_suggestedFor_6 3 rfl rfl)
theorem dX2_suggestedFor_143 : decode cX2_suggestedFor 143 = .ok (.ireturn, 1) := dk_172 (dk_at dksX2_suggestedFor_6 4 rfl rfl)
abbrev cX2_usesTerm : ByteArray := prog_7_method_22_code
def yX2_usesTerm : MethodName := ⟨RX2, "usesTerm", "(II)Z"⟩
def dkwX2_usesTerm_1 : List UInt8 := [29, 182, 0, 199, 28, 160, 0, 5, 4, 172, 132, 3, 1, 167, 255, 221, 3, 172]
abbrev dktX2_usesTerm_1 : List UInt8 := dkwX2_usesTerm_1 ++ []
def dkwX2_usesTerm_0 : List UInt8 := [3, 62, 29, 42, 180, 0, 27, 27, 185, 0, 48, 2, 0, 192, 0, 98, 182, 0, 124, 162, 0, 21, 42, 27]
abbrev dktX2_usesTerm_0 : List UInt8 := dkwX2_usesTerm_0 ++ dktX2_usesTerm_1
theorem dksX2_usesTerm_0 : cX2_usesTerm.data.toList.drop 0 = dktX2_usesTerm_0 := by decide +kernel
theorem dksX2_usesTerm_1 : cX2_usesTerm.data.toList.drop 24 = dktX2_usesTerm_1 := dk_seg dksX2_usesTerm_0 24 rfl rfl
theorem dX2_usesTerm_0 : decode cX2_usesTerm 0 = .ok (.iconst 0, 1) := dk_3 (dk_at dksX2_usesTerm_0 0 rfl rfl)
theorem dX2_usesTerm_1 : decode cX2_usesTerm 1 = .ok (.istore_n 3, 1) := dk_62 (dk_at dksX2_usesTerm_0 1 rfl rfl)
theorem dX2_usesTerm_2 : decode cX2_usesTerm 2 = .ok (.iload_n 3, 1) := dk_29 (dk_at dksX2_usesTerm_0 2 rfl rfl)
theorem dX2_usesTerm_3 : decode cX2_usesTerm 3 = .ok (.aload_n 0, 1) := dk_42 (dk_at dksX2_usesTerm_0 3 rfl rfl)
theorem dX2_usesTerm_4 : decode cX2_usesTerm 4 = .ok (.getfield 27, 3) := dk_180 0 27 (dk_at dksX2_usesTerm_0 4 rfl rfl)
theorem dX2_usesTerm_7 : decode cX2_usesTerm 7 = .ok (.iload_n 1, 1) := dk_27 (dk_at dksX2_usesTerm_0 7 rfl rfl)
theorem dX2_usesTerm_8 : decode cX2_usesTerm 8 = .ok (.invokeinterface 48 2, 5) := by decide +kernel
theorem dX2_usesTerm_13 : decode cX2_usesTerm 13 = .ok (.checkcast 98, 3) := dk_192 0 98 (dk_at dksX2_usesTerm_0 13 rfl rfl)
theorem dX2_usesTerm_16 : decode cX2_usesTerm 16 = .ok (.invokevirtual 124, 3) := dk_182 0 124 (dk_at dksX2_usesTerm_0 16 rfl rfl)
theorem dX2_usesTerm_19 : decode cX2_usesTerm 19 = .ok (.if_icmp .ge 21, 3) := dk_162 0 21 (dk_at dksX2_usesTerm_0 19 rfl rfl)
theorem dX2_usesTerm_22 : decode cX2_usesTerm 22 = .ok (.aload_n 0, 1) := dk_42 (dk_at dksX2_usesTerm_0 22 rfl rfl)
theorem dX2_usesTerm_23 : decode cX2_usesTerm 23 = .ok (.iload_n 1, 1) := dk_27 (dk_at dksX2_usesTerm_0 23 rfl rfl)
theorem dX2_usesTerm_24 : decode cX2_usesTerm 24 = .ok (.iload_n 3, 1) := dk_29 (dk_at dksX2_usesTerm_1 0 rfl rfl)
theorem dX2_usesTerm_25 : decode cX2_usesTerm 25 = .ok (.invokevirtual 199, 3) := dk_182 0 199 (dk_at dksX2_usesTerm_1 1 rfl rfl)
theorem dX2_usesTerm_28 : decode cX2_usesTerm 28 = .ok (.iload_n 2, 1) := dk_28 (dk_at dksX2_usesTerm_1 4 rfl rfl)
theorem dX2_usesTerm_29 : decode cX2_usesTerm 29 = .ok (.if_icmp .ne 5, 3) := dk_160 0 5 (dk_at dksX2_usesTerm_1 5 rfl rfl)
theorem dX2_usesTerm_32 : decode cX2_usesTerm 32 = .ok (.iconst 1, 1) := dk_4 (dk_at dksX2_usesTerm_1 8 rfl rfl)
theorem dX2_usesTerm_33 : decode cX2_usesTerm 33 = .ok (.ireturn, 1) := dk_172 (dk_at dksX2_usesTerm_1 9 rfl rfl)
theorem dX2_usesTerm_34 : decode cX2_usesTerm 34 = .ok (.iinc 3 1, 3) := dk_132 3 1 (dk_at dksX2_usesTerm_1 10 rfl rfl)
theorem dX2_usesTerm_37 : decode cX2_usesTerm 37 = .ok (.goto (-35), 3) := dk_167 255 221 (dk_at dksX2_usesTerm_1 13 rfl rfl)
theorem dX2_usesTerm_40 : decode cX2_usesTerm 40 = .ok (.iconst 0, 1) := dk_3 (dk_at dksX2_usesTerm_1 16 rfl rfl)
theorem dX2_usesTerm_41 : decode cX2_usesTerm 41 = .ok (.ireturn, 1) := dk_172 (dk_at dksX2_usesTerm_1 17 rfl rfl)
abbrev cX2_findingsOf : ByteArray := prog_7_method_27_code
def yX2_findingsOf : MethodName := ⟨RX2, "findingsOf", "(II)I"⟩
def dkwX2_findingsOf_3 : List UInt8 := [27, 160, 0, 7, 4, 167, 0, 4, 3, 96, 54, 4, 132, 5, 1, 167, 255, 181, 21, 4, 172]
abbrev dktX2_findingsOf_3 : List UInt8 := dkwX2_findingsOf_3 ++ []
def dkwX2_findingsOf_2 : List UInt8 := [21, 5, 185, 0, 48, 2, 0, 192, 0, 237, 180, 0, 242, 185, 0, 48, 2, 0, 192, 0, 98, 180, 0, 179]
abbrev dktX2_findingsOf_2 : List UInt8 := dkwX2_findingsOf_2 ++ dktX2_findingsOf_3
def dkwX2_findingsOf_1 : List UInt8 := [45, 21, 5, 185, 0, 48, 2, 0, 192, 0, 237, 182, 0, 239, 28, 160, 0, 40, 42, 180, 0, 27, 45]
abbrev dktX2_findingsOf_1 : List UInt8 := dkwX2_findingsOf_1 ++ dktX2_findingsOf_2
def dkwX2_findingsOf_0 : List UInt8 := [42, 182, 0, 233, 78, 3, 54, 4, 3, 54, 5, 21, 5, 45, 185, 0, 44, 1, 0, 162, 0, 70, 21, 4]
abbrev dktX2_findingsOf_0 : List UInt8 := dkwX2_findingsOf_0 ++ dktX2_findingsOf_1
theorem dksX2_findingsOf_0 : cX2_findingsOf.data.toList.drop 0 = dktX2_findingsOf_0 := by decide +kernel
theorem dksX2_findingsOf_1 : cX2_findingsOf.data.toList.drop 24 = dktX2_findingsOf_1 := dk_seg dksX2_findingsOf_0 24 rfl rfl
theorem dksX2_findingsOf_2 : cX2_findingsOf.data.toList.drop 47 = dktX2_findingsOf_2 := dk_seg dksX2_findingsOf_1 23 rfl rfl
theorem dksX2_findingsOf_3 : cX2_findingsOf.data.toList.drop 71 = dktX2_findingsOf_3 := dk_seg dksX2_findingsOf_2 24 rfl rfl
theorem dX2_findingsOf_0 : decode cX2_findingsOf 0 = .ok (.aload_n 0, 1) := dk_42 (dk_at dksX2_findingsOf_0 0 rfl rfl)
theorem dX2_findingsOf_1 : decode cX2_findingsOf 1 = .ok (.invokevirtual 233, 3) := dk_182 0 233 (dk_at dksX2_findingsOf_0 1 rfl rfl)
theorem dX2_findingsOf_4 : decode cX2_findingsOf 4 = .ok (.astore_n 3, 1) := dk_78 (dk_at dksX2_findingsOf_0 4 rfl rfl)
theorem dX2_findingsOf_5 : decode cX2_findingsOf 5 = .ok (.iconst 0, 1) := dk_3 (dk_at dksX2_findingsOf_0 5 rfl rfl)
theorem dX2_findingsOf_6 : decode cX2_findingsOf 6 = .ok (.istore 4, 2) := dk_54 4 (dk_at dksX2_findingsOf_0 6 rfl rfl)
theorem dX2_findingsOf_8 : decode cX2_findingsOf 8 = .ok (.iconst 0, 1) := dk_3 (dk_at dksX2_findingsOf_0 8 rfl rfl)
theorem dX2_findingsOf_9 : decode cX2_findingsOf 9 = .ok (.istore 5, 2) := dk_54 5 (dk_at dksX2_findingsOf_0 9 rfl rfl)
theorem dX2_findingsOf_11 : decode cX2_findingsOf 11 = .ok (.iload 5, 2) := dk_21 5 (dk_at dksX2_findingsOf_0 11 rfl rfl)
theorem dX2_findingsOf_13 : decode cX2_findingsOf 13 = .ok (.aload_n 3, 1) := dk_45 (dk_at dksX2_findingsOf_0 13 rfl rfl)
theorem dX2_findingsOf_14 : decode cX2_findingsOf 14 = .ok (.invokeinterface 44 1, 5) := by decide +kernel
theorem dX2_findingsOf_19 : decode cX2_findingsOf 19 = .ok (.if_icmp .ge 70, 3) := dk_162 0 70 (dk_at dksX2_findingsOf_0 19 rfl rfl)
theorem dX2_findingsOf_22 : decode cX2_findingsOf 22 = .ok (.iload 4, 2) := dk_21 4 (dk_at dksX2_findingsOf_0 22 rfl rfl)
theorem dX2_findingsOf_24 : decode cX2_findingsOf 24 = .ok (.aload_n 3, 1) := dk_45 (dk_at dksX2_findingsOf_1 0 rfl rfl)
theorem dX2_findingsOf_25 : decode cX2_findingsOf 25 = .ok (.iload 5, 2) := dk_21 5 (dk_at dksX2_findingsOf_1 1 rfl rfl)
theorem dX2_findingsOf_27 : decode cX2_findingsOf 27 = .ok (.invokeinterface 48 2, 5) := by decide +kernel
theorem dX2_findingsOf_32 : decode cX2_findingsOf 32 = .ok (.checkcast 237, 3) := dk_192 0 237 (dk_at dksX2_findingsOf_1 8 rfl rfl)
theorem dX2_findingsOf_35 : decode cX2_findingsOf 35 = .ok (.invokevirtual 239, 3) := dk_182 0 239 (dk_at dksX2_findingsOf_1 11 rfl rfl)
theorem dX2_findingsOf_38 : decode cX2_findingsOf 38 = .ok (.iload_n 2, 1) := dk_28 (dk_at dksX2_findingsOf_1 14 rfl rfl)
theorem dX2_findingsOf_39 : decode cX2_findingsOf 39 = .ok (.if_icmp .ne 40, 3) := dk_160 0 40 (dk_at dksX2_findingsOf_1 15 rfl rfl)
theorem dX2_findingsOf_42 : decode cX2_findingsOf 42 = .ok (.aload_n 0, 1) := dk_42 (dk_at dksX2_findingsOf_1 18 rfl rfl)
theorem dX2_findingsOf_43 : decode cX2_findingsOf 43 = .ok (.getfield 27, 3) := dk_180 0 27 (dk_at dksX2_findingsOf_1 19 rfl rfl)
theorem dX2_findingsOf_46 : decode cX2_findingsOf 46 = .ok (.aload_n 3, 1) := dk_45 (dk_at dksX2_findingsOf_1 22 rfl rfl)
theorem dX2_findingsOf_47 : decode cX2_findingsOf 47 = .ok (.iload 5, 2) := dk_21 5 (dk_at dksX2_findingsOf_2 0 rfl rfl)
theorem dX2_findingsOf_49 : decode cX2_findingsOf 49 = .ok (.invokeinterface 48 2, 5) := by decide +kernel
theorem dX2_findingsOf_54 : decode cX2_findingsOf 54 = .ok (.checkcast 237, 3) := dk_192 0 237 (dk_at dksX2_findingsOf_2 7 rfl rfl)
theorem dX2_findingsOf_57 : decode cX2_findingsOf 57 = .ok (.getfield 242, 3) := dk_180 0 242 (dk_at dksX2_findingsOf_2 10 rfl rfl)
theorem dX2_findingsOf_60 : decode cX2_findingsOf 60 = .ok (.invokeinterface 48 2, 5) := by decide +kernel
theorem dX2_findingsOf_65 : decode cX2_findingsOf 65 = .ok (.checkcast 98, 3) := dk_192 0 98 (dk_at dksX2_findingsOf_2 18 rfl rfl)
theorem dX2_findingsOf_68 : decode cX2_findingsOf 68 = .ok (.getfield 179, 3) := dk_180 0 179 (dk_at dksX2_findingsOf_2 21 rfl rfl)
theorem dX2_findingsOf_71 : decode cX2_findingsOf 71 = .ok (.iload_n 1, 1) := dk_27 (dk_at dksX2_findingsOf_3 0 rfl rfl)
theorem dX2_findingsOf_72 : decode cX2_findingsOf 72 = .ok (.if_icmp .ne 7, 3) := dk_160 0 7 (dk_at dksX2_findingsOf_3 1 rfl rfl)
theorem dX2_findingsOf_75 : decode cX2_findingsOf 75 = .ok (.iconst 1, 1) := dk_4 (dk_at dksX2_findingsOf_3 4 rfl rfl)
theorem dX2_findingsOf_76 : decode cX2_findingsOf 76 = .ok (.goto 4, 3) := dk_167 0 4 (dk_at dksX2_findingsOf_3 5 rfl rfl)
theorem dX2_findingsOf_79 : decode cX2_findingsOf 79 = .ok (.iconst 0, 1) := dk_3 (dk_at dksX2_findingsOf_3 8 rfl rfl)
theorem dX2_findingsOf_80 : decode cX2_findingsOf 80 = .ok (.iadd, 1) := dk_96 (dk_at dksX2_findingsOf_3 9 rfl rfl)
theorem dX2_findingsOf_81 : decode cX2_findingsOf 81 = .ok (.istore 4, 2) := dk_54 4 (dk_at dksX2_findingsOf_3 10 rfl rfl)
theorem dX2_findingsOf_83 : decode cX2_findingsOf 83 = .ok (.iinc 5 1, 3) := dk_132 5 1 (dk_at dksX2_findingsOf_3 12 rfl rfl)
theorem dX2_findingsOf_86 : decode cX2_findingsOf 86 = .ok (.goto (-75), 3) := dk_167 255 181 (dk_at dksX2_findingsOf_3 15 rfl rfl)
theorem dX2_findingsOf_89 : decode cX2_findingsOf 89 = .ok (.iload 4, 2) := dk_21 4 (dk_at dksX2_findingsOf_3 18 rfl rfl)
theorem dX2_findingsOf_91 : decode cX2_findingsOf 91 = .ok (.ireturn, 1) := dk_172 (dk_at dksX2_findingsOf_3 20 rfl rfl)
abbrev cX2_lessOne : ByteArray := prog_7_method_4_code
def yX2_lessOne : MethodName := ⟨RX2, "lessOne", "(I)LTranslationBureau$Office;"⟩
def dkwX2_lessOne_0 : List UInt8 := [42, 182, 0, 68, 77, 44, 180, 0, 27, 27, 185, 0, 100, 2, 0, 192, 0, 98, 78, 44, 176]
abbrev dktX2_lessOne_0 : List UInt8 := dkwX2_lessOne_0 ++ []
theorem dksX2_lessOne_0 : cX2_lessOne.data.toList.drop 0 = dktX2_lessOne_0 := by decide +kernel
theorem dX2_lessOne_0 : decode cX2_lessOne 0 = .ok (.aload_n 0, 1) := dk_42 (dk_at dksX2_lessOne_0 0 rfl rfl)
theorem dX2_lessOne_1 : decode cX2_lessOne 1 = .ok (.invokevirtual 68, 3) := dk_182 0 68 (dk_at dksX2_lessOne_0 1 rfl rfl)
theorem dX2_lessOne_4 : decode cX2_lessOne 4 = .ok (.astore_n 2, 1) := dk_77 (dk_at dksX2_lessOne_0 4 rfl rfl)
theorem dX2_lessOne_5 : decode cX2_lessOne 5 = .ok (.aload_n 2, 1) := dk_44 (dk_at dksX2_lessOne_0 5 rfl rfl)
theorem dX2_lessOne_6 : decode cX2_lessOne 6 = .ok (.getfield 27, 3) := dk_180 0 27 (dk_at dksX2_lessOne_0 6 rfl rfl)
theorem dX2_lessOne_9 : decode cX2_lessOne 9 = .ok (.iload_n 1, 1) := dk_27 (dk_at dksX2_lessOne_0 9 rfl rfl)
theorem dX2_lessOne_10 : decode cX2_lessOne 10 = .ok (.invokeinterface 100 2, 5) := by decide +kernel
theorem dX2_lessOne_15 : decode cX2_lessOne 15 = .ok (.checkcast 98, 3) := dk_192 0 98 (dk_at dksX2_lessOne_0 15 rfl rfl)
theorem dX2_lessOne_18 : decode cX2_lessOne 18 = .ok (.astore_n 3, 1) := dk_78 (dk_at dksX2_lessOne_0 18 rfl rfl)
theorem dX2_lessOne_19 : decode cX2_lessOne 19 = .ok (.aload_n 2, 1) := dk_44 (dk_at dksX2_lessOne_0 19 rfl rfl)
theorem dX2_lessOne_20 : decode cX2_lessOne 20 = .ok (.areturn, 1) := dk_176 (dk_at dksX2_lessOne_0 20 rfl rfl)
abbrev cX2_onlyOf : ByteArray := prog_7_method_3_code
def yX2_onlyOf : MethodName := ⟨RX2, "onlyOf", "(I)LTranslationBureau$Office;"⟩
def dkwX2_onlyOf_3 : List UInt8 := [185, 0, 58, 2, 0, 87, 167, 255, 209, 44, 176]
abbrev dktX2_onlyOf_3 : List UInt8 := dkwX2_onlyOf_3 ++ []
def dkwX2_onlyOf_2 : List UInt8 := [182, 0, 95, 54, 4, 44, 180, 0, 27, 42, 180, 0, 27, 21, 4, 185, 0, 48, 2, 0, 192, 0, 98]
abbrev dktX2_onlyOf_2 : List UInt8 := dkwX2_onlyOf_2 ++ dktX2_onlyOf_3
def dkwX2_onlyOf_1 : List UInt8 := [182, 0, 79, 78, 45, 185, 0, 83, 1, 0, 153, 0, 44, 45, 185, 0, 89, 1, 0, 192, 0, 93]
abbrev dktX2_onlyOf_1 : List UInt8 := dkwX2_onlyOf_1 ++ dktX2_onlyOf_2
def dkwX2_onlyOf_0 : List UInt8 := [42, 182, 0, 68, 77, 44, 180, 0, 27, 185, 0, 71, 1, 0, 187, 0, 74, 89, 42, 27, 183, 0, 76]
abbrev dktX2_onlyOf_0 : List UInt8 := dkwX2_onlyOf_0 ++ dktX2_onlyOf_1
theorem dksX2_onlyOf_0 : cX2_onlyOf.data.toList.drop 0 = dktX2_onlyOf_0 := by decide +kernel
theorem dksX2_onlyOf_1 : cX2_onlyOf.data.toList.drop 23 = dktX2_onlyOf_1 := dk_seg dksX2_onlyOf_0 23 rfl rfl
theorem dksX2_onlyOf_2 : cX2_onlyOf.data.toList.drop 45 = dktX2_onlyOf_2 := dk_seg dksX2_onlyOf_1 22 rfl rfl
theorem dksX2_onlyOf_3 : cX2_onlyOf.data.toList.drop 68 = dktX2_onlyOf_3 := dk_seg dksX2_onlyOf_2 23 rfl rfl
theorem dX2_onlyOf_0 : decode cX2_onlyOf 0 = .ok (.aload_n 0, 1) := dk_42 (dk_at dksX2_onlyOf_0 0 rfl rfl)
theorem dX2_onlyOf_1 : decode cX2_onlyOf 1 = .ok (.invokevirtual 68, 3) := dk_182 0 68 (dk_at dksX2_onlyOf_0 1 rfl rfl)
theorem dX2_onlyOf_4 : decode cX2_onlyOf 4 = .ok (.astore_n 2, 1) := dk_77 (dk_at dksX2_onlyOf_0 4 rfl rfl)
theorem dX2_onlyOf_5 : decode cX2_onlyOf 5 = .ok (.aload_n 2, 1) := dk_44 (dk_at dksX2_onlyOf_0 5 rfl rfl)
theorem dX2_onlyOf_6 : decode cX2_onlyOf 6 = .ok (.getfield 27, 3) := dk_180 0 27 (dk_at dksX2_onlyOf_0 6 rfl rfl)
theorem dX2_onlyOf_9 : decode cX2_onlyOf 9 = .ok (.invokeinterface 71 1, 5) := by decide +kernel
theorem dX2_onlyOf_14 : decode cX2_onlyOf 14 = .ok (.new 74, 3) := dk_187 0 74 (dk_at dksX2_onlyOf_0 14 rfl rfl)
theorem dX2_onlyOf_17 : decode cX2_onlyOf 17 = .ok (.dup, 1) := dk_89 (dk_at dksX2_onlyOf_0 17 rfl rfl)
theorem dX2_onlyOf_18 : decode cX2_onlyOf 18 = .ok (.aload_n 0, 1) := dk_42 (dk_at dksX2_onlyOf_0 18 rfl rfl)
theorem dX2_onlyOf_19 : decode cX2_onlyOf 19 = .ok (.iload_n 1, 1) := dk_27 (dk_at dksX2_onlyOf_0 19 rfl rfl)
theorem dX2_onlyOf_20 : decode cX2_onlyOf 20 = .ok (.invokespecial 76, 3) := dk_183 0 76 (dk_at dksX2_onlyOf_0 20 rfl rfl)
theorem dX2_onlyOf_23 : decode cX2_onlyOf 23 = .ok (.invokevirtual 79, 3) := dk_182 0 79 (dk_at dksX2_onlyOf_1 0 rfl rfl)
theorem dX2_onlyOf_26 : decode cX2_onlyOf 26 = .ok (.astore_n 3, 1) := dk_78 (dk_at dksX2_onlyOf_1 3 rfl rfl)
theorem dX2_onlyOf_27 : decode cX2_onlyOf 27 = .ok (.aload_n 3, 1) := dk_45 (dk_at dksX2_onlyOf_1 4 rfl rfl)
theorem dX2_onlyOf_28 : decode cX2_onlyOf 28 = .ok (.invokeinterface 83 1, 5) := by decide +kernel
theorem dX2_onlyOf_33 : decode cX2_onlyOf 33 = .ok (.ifCond .eq 44, 3) := dk_153 0 44 (dk_at dksX2_onlyOf_1 10 rfl rfl)
theorem dX2_onlyOf_36 : decode cX2_onlyOf 36 = .ok (.aload_n 3, 1) := dk_45 (dk_at dksX2_onlyOf_1 13 rfl rfl)
theorem dX2_onlyOf_37 : decode cX2_onlyOf 37 = .ok (.invokeinterface 89 1, 5) := by decide +kernel
theorem dX2_onlyOf_42 : decode cX2_onlyOf 42 = .ok (.checkcast 93, 3) := dk_192 0 93 (dk_at dksX2_onlyOf_1 19 rfl rfl)
theorem dX2_onlyOf_45 : decode cX2_onlyOf 45 = .ok (.invokevirtual 95, 3) := dk_182 0 95 (dk_at dksX2_onlyOf_2 0 rfl rfl)
theorem dX2_onlyOf_48 : decode cX2_onlyOf 48 = .ok (.istore 4, 2) := dk_54 4 (dk_at dksX2_onlyOf_2 3 rfl rfl)
theorem dX2_onlyOf_50 : decode cX2_onlyOf 50 = .ok (.aload_n 2, 1) := dk_44 (dk_at dksX2_onlyOf_2 5 rfl rfl)
theorem dX2_onlyOf_51 : decode cX2_onlyOf 51 = .ok (.getfield 27, 3) := dk_180 0 27 (dk_at dksX2_onlyOf_2 6 rfl rfl)
theorem dX2_onlyOf_54 : decode cX2_onlyOf 54 = .ok (.aload_n 0, 1) := dk_42 (dk_at dksX2_onlyOf_2 9 rfl rfl)
theorem dX2_onlyOf_55 : decode cX2_onlyOf 55 = .ok (.getfield 27, 3) := dk_180 0 27 (dk_at dksX2_onlyOf_2 10 rfl rfl)
theorem dX2_onlyOf_58 : decode cX2_onlyOf 58 = .ok (.iload 4, 2) := dk_21 4 (dk_at dksX2_onlyOf_2 13 rfl rfl)
theorem dX2_onlyOf_60 : decode cX2_onlyOf 60 = .ok (.invokeinterface 48 2, 5) := by decide +kernel
theorem dX2_onlyOf_65 : decode cX2_onlyOf 65 = .ok (.checkcast 98, 3) := dk_192 0 98 (dk_at dksX2_onlyOf_2 20 rfl rfl)
theorem dX2_onlyOf_68 : decode cX2_onlyOf 68 = .ok (.invokeinterface 58 2, 5) := by decide +kernel
theorem dX2_onlyOf_73 : decode cX2_onlyOf 73 = .ok (.pop, 1) := dk_87 (dk_at dksX2_onlyOf_3 5 rfl rfl)
theorem dX2_onlyOf_74 : decode cX2_onlyOf 74 = .ok (.goto (-47), 3) := dk_167 255 209 (dk_at dksX2_onlyOf_3 6 rfl rfl)
theorem dX2_onlyOf_77 : decode cX2_onlyOf 77 = .ok (.aload_n 2, 1) := dk_44 (dk_at dksX2_onlyOf_3 9 rfl rfl)
theorem dX2_onlyOf_78 : decode cX2_onlyOf 78 = .ok (.areturn, 1) := dk_176 (dk_at dksX2_onlyOf_3 10 rfl rfl)
abbrev cX2_missingOf : ByteArray := prog_7_method_26_code
def yX2_missingOf : MethodName := ⟨RX2, "missingOf", "(I)I"⟩
def dkwX2_missingOf_2 : List UInt8 := [167, 255, 226, 44, 185, 0, 44, 1, 0, 172]
abbrev dktX2_missingOf_2 : List UInt8 := dkwX2_missingOf_2 ++ []
def dkwX2_missingOf_1 : List UInt8 := [153, 0, 27, 45, 185, 0, 89, 1, 0, 192, 0, 93, 182, 0, 95, 54, 4, 42, 21, 4, 44, 182, 0, 202]
abbrev dktX2_missingOf_1 : List UInt8 := dkwX2_missingOf_1 ++ dktX2_missingOf_2
def dkwX2_missingOf_0 : List UInt8 := [187, 0, 9, 89, 183, 0, 11, 77, 42, 27, 182, 0, 120, 182, 0, 79, 78, 45, 185, 0, 83, 1, 0]
abbrev dktX2_missingOf_0 : List UInt8 := dkwX2_missingOf_0 ++ dktX2_missingOf_1
theorem dksX2_missingOf_0 : cX2_missingOf.data.toList.drop 0 = dktX2_missingOf_0 := by decide +kernel
theorem dksX2_missingOf_1 : cX2_missingOf.data.toList.drop 23 = dktX2_missingOf_1 := dk_seg dksX2_missingOf_0 23 rfl rfl
theorem dksX2_missingOf_2 : cX2_missingOf.data.toList.drop 47 = dktX2_missingOf_2 := dk_seg dksX2_missingOf_1 24 rfl rfl
theorem dX2_missingOf_0 : decode cX2_missingOf 0 = .ok (.new 9, 3) := dk_187 0 9 (dk_at dksX2_missingOf_0 0 rfl rfl)
theorem dX2_missingOf_3 : decode cX2_missingOf 3 = .ok (.dup, 1) := dk_89 (dk_at dksX2_missingOf_0 3 rfl rfl)
theorem dX2_missingOf_4 : decode cX2_missingOf 4 = .ok (.invokespecial 11, 3) := dk_183 0 11 (dk_at dksX2_missingOf_0 4 rfl rfl)
theorem dX2_missingOf_7 : decode cX2_missingOf 7 = .ok (.astore_n 2, 1) := dk_77 (dk_at dksX2_missingOf_0 7 rfl rfl)
theorem dX2_missingOf_8 : decode cX2_missingOf 8 = .ok (.aload_n 0, 1) := dk_42 (dk_at dksX2_missingOf_0 8 rfl rfl)
theorem dX2_missingOf_9 : decode cX2_missingOf 9 = .ok (.iload_n 1, 1) := dk_27 (dk_at dksX2_missingOf_0 9 rfl rfl)
theorem dX2_missingOf_10 : decode cX2_missingOf 10 = .ok (.invokevirtual 120, 3) := dk_182 0 120 (dk_at dksX2_missingOf_0 10 rfl rfl)
theorem dX2_missingOf_13 : decode cX2_missingOf 13 = .ok (.invokevirtual 79, 3) := dk_182 0 79 (dk_at dksX2_missingOf_0 13 rfl rfl)
theorem dX2_missingOf_16 : decode cX2_missingOf 16 = .ok (.astore_n 3, 1) := dk_78 (dk_at dksX2_missingOf_0 16 rfl rfl)
theorem dX2_missingOf_17 : decode cX2_missingOf 17 = .ok (.aload_n 3, 1) := dk_45 (dk_at dksX2_missingOf_0 17 rfl rfl)
theorem dX2_missingOf_18 : decode cX2_missingOf 18 = .ok (.invokeinterface 83 1, 5) := by decide +kernel
theorem dX2_missingOf_23 : decode cX2_missingOf 23 = .ok (.ifCond .eq 27, 3) := dk_153 0 27 (dk_at dksX2_missingOf_1 0 rfl rfl)
theorem dX2_missingOf_26 : decode cX2_missingOf 26 = .ok (.aload_n 3, 1) := dk_45 (dk_at dksX2_missingOf_1 3 rfl rfl)
theorem dX2_missingOf_27 : decode cX2_missingOf 27 = .ok (.invokeinterface 89 1, 5) := by decide +kernel
theorem dX2_missingOf_32 : decode cX2_missingOf 32 = .ok (.checkcast 93, 3) := dk_192 0 93 (dk_at dksX2_missingOf_1 9 rfl rfl)
theorem dX2_missingOf_35 : decode cX2_missingOf 35 = .ok (.invokevirtual 95, 3) := dk_182 0 95 (dk_at dksX2_missingOf_1 12 rfl rfl)
theorem dX2_missingOf_38 : decode cX2_missingOf 38 = .ok (.istore 4, 2) := dk_54 4 (dk_at dksX2_missingOf_1 15 rfl rfl)
theorem dX2_missingOf_40 : decode cX2_missingOf 40 = .ok (.aload_n 0, 1) := dk_42 (dk_at dksX2_missingOf_1 17 rfl rfl)
theorem dX2_missingOf_41 : decode cX2_missingOf 41 = .ok (.iload 4, 2) := dk_21 4 (dk_at dksX2_missingOf_1 18 rfl rfl)
theorem dX2_missingOf_43 : decode cX2_missingOf 43 = .ok (.aload_n 2, 1) := dk_44 (dk_at dksX2_missingOf_1 20 rfl rfl)
theorem dX2_missingOf_44 : decode cX2_missingOf 44 = .ok (.invokevirtual 202, 3) := dk_182 0 202 (dk_at dksX2_missingOf_1 21 rfl rfl)
theorem dX2_missingOf_47 : decode cX2_missingOf 47 = .ok (.goto (-30), 3) := dk_167 255 226 (dk_at dksX2_missingOf_2 0 rfl rfl)
theorem dX2_missingOf_50 : decode cX2_missingOf 50 = .ok (.aload_n 2, 1) := dk_44 (dk_at dksX2_missingOf_2 3 rfl rfl)
theorem dX2_missingOf_51 : decode cX2_missingOf 51 = .ok (.invokeinterface 44 1, 5) := by decide +kernel
theorem dX2_missingOf_56 : decode cX2_missingOf 56 = .ok (.ireturn, 1) := dk_172 (dk_at dksX2_missingOf_2 9 rfl rfl)
theorem q119 : (Jvm.Cond.initialized "TranslationBureau$Office") ∈ lw_all := lw_g (lw_at lw_m1 2 rfl) rfl
theorem q180 : (Jvm.Cond.instantiable "TranslationBureau$Office" (7 : Nat)) ∈ lw_all := lw_g (lw_at lw_m1 63 rfl) rfl
theorem q182 : (Jvm.Cond.instanceMethod ({ cls := "TranslationBureau$Office", name := "<init>", desc := "()V" } : Jvm.MethodName)) ∈ lw_all := lw_g (lw_at lw_m1 65 rfl) rfl
theorem q183 : (Jvm.Cond.code ({ cls := "TranslationBureau$Office", name := "<init>", desc := "()V" } : Jvm.MethodName) prog_7_method_1_code (1 : Nat) (Option.none : Option Jvm.ClassFile.FieldType)) ∈ lw_all := lw_g (lw_at lw_m1 66 rfl) rfl
theorem q184 : (Jvm.Cond.methodLink "TranslationBureau$Office" (3 : Nat) ({ cls := "java/lang/Object", name := "<init>", desc := "()V" } : Jvm.MethodName)) ∈ lw_all := lw_g (lw_at lw_m1 67 rfl) rfl
theorem q185 : (Jvm.Cond.classLink "TranslationBureau$Office" (9 : Nat) "java/util/ArrayList") ∈ lw_all := lw_g (lw_at lw_m1 68 rfl) rfl
theorem q187 : (Jvm.Cond.methodLink "TranslationBureau$Office" (11 : Nat) ({ cls := "java/util/ArrayList", name := "<init>", desc := "()V" } : Jvm.MethodName)) ∈ lw_all := lw_g (lw_at lw_m1 70 rfl) rfl
theorem q215 : (Jvm.Cond.fieldLink "TranslationBureau$Office" (12 : Nat) "TranslationBureau$Office" "names" "Ljava/util/List;") ∈ lw_all := lw_g (lw_at lw_m1 98 rfl) rfl
theorem q218 : (Jvm.Cond.fieldLink "TranslationBureau$Office" (18 : Nat) "TranslationBureau$Office" "capacities" "Ljava/util/List;") ∈ lw_all := lw_g (lw_at lw_m1 101 rfl) rfl
theorem q221 : (Jvm.Cond.fieldLink "TranslationBureau$Office" (21 : Nat) "TranslationBureau$Office" "terms" "Ljava/util/List;") ∈ lw_all := lw_g (lw_at lw_m1 104 rfl) rfl
theorem q224 : (Jvm.Cond.fieldLink "TranslationBureau$Office" (24 : Nat) "TranslationBureau$Office" "jobs" "Ljava/util/List;") ∈ lw_all := lw_g (lw_at lw_m1 107 rfl) rfl
theorem q227 : (Jvm.Cond.fieldLink "TranslationBureau$Office" (27 : Nat) "TranslationBureau$Office" "segments" "Ljava/util/List;") ∈ lw_all := lw_g (lw_at lw_m1 110 rfl) rfl
theorem q231 : (Jvm.Cond.fieldLink "TranslationBureau$Office" (30 : Nat) "TranslationBureau$Office" "settings" "[I") ∈ lw_all := lw_g (lw_at lw_m1 114 rfl) rfl
theorem q234 : (Jvm.Cond.fieldLink "TranslationBureau$Office" (34 : Nat) "TranslationBureau$Office" "percentages" "[I") ∈ lw_all := lw_g (lw_at lw_m1 117 rfl) rfl
theorem q237 : (Jvm.Cond.laysFinal "TranslationBureau$Office" "TranslationBureau$Office" "names" "Ljava/util/List;") ∈ lw_all := lw_g (lw_at lw_m1 120 rfl) rfl
theorem q238 : (Jvm.Cond.soleField "TranslationBureau$Office" "names") ∈ lw_all := lw_g (lw_at lw_m1 121 rfl) rfl
theorem q239 : (Jvm.Cond.laysFinal "TranslationBureau$Office" "TranslationBureau$Office" "capacities" "Ljava/util/List;") ∈ lw_all := lw_g (lw_at lw_m1 122 rfl) rfl
theorem q240 : (Jvm.Cond.soleField "TranslationBureau$Office" "capacities") ∈ lw_all := lw_g (lw_at lw_m1 123 rfl) rfl
theorem q241 : (Jvm.Cond.laysFinal "TranslationBureau$Office" "TranslationBureau$Office" "terms" "Ljava/util/List;") ∈ lw_all := lw_g (lw_at lw_m1 124 rfl) rfl
theorem q242 : (Jvm.Cond.soleField "TranslationBureau$Office" "terms") ∈ lw_all := lw_g (lw_at lw_m1 125 rfl) rfl
theorem q243 : (Jvm.Cond.laysFinal "TranslationBureau$Office" "TranslationBureau$Office" "jobs" "Ljava/util/List;") ∈ lw_all := lw_g (lw_at lw_m1 126 rfl) rfl
theorem q244 : (Jvm.Cond.soleField "TranslationBureau$Office" "jobs") ∈ lw_all := lw_g (lw_at lw_m1 127 rfl) rfl
theorem q245 : (Jvm.Cond.laysFinal "TranslationBureau$Office" "TranslationBureau$Office" "segments" "Ljava/util/List;") ∈ lw_all := lw_g (lw_at lw_m1 128 rfl) rfl
theorem q246 : (Jvm.Cond.soleField "TranslationBureau$Office" "segments") ∈ lw_all := lw_g (lw_at lw_m1 129 rfl) rfl
theorem q247 : (Jvm.Cond.laysFinal "TranslationBureau$Office" "TranslationBureau$Office" "settings" "[I") ∈ lw_all := lw_g (lw_at lw_m1 130 rfl) rfl
theorem q248 : (Jvm.Cond.soleField "TranslationBureau$Office" "settings") ∈ lw_all := lw_g (lw_at lw_m1 131 rfl) rfl
theorem q249 : (Jvm.Cond.laysFinal "TranslationBureau$Office" "TranslationBureau$Office" "percentages" "[I") ∈ lw_all := lw_g (lw_at lw_m1 132 rfl) rfl
theorem q250 : (Jvm.Cond.soleField "TranslationBureau$Office" "percentages") ∈ lw_all := lw_g (lw_at lw_m1 133 rfl) rfl
theorem q251 : (Jvm.Cond.superclass "TranslationBureau$Office" "java/lang/Object") ∈ lw_all := lw_g (lw_at lw_m1 134 rfl) rfl
theorem q347 : (Jvm.Cond.instanceMethod ({ cls := "TranslationBureau$Office", name := "paid", desc := "()I" } : Jvm.MethodName)) ∈ lw_all := lw_g (lw_at lw_m1 230 rfl) rfl
theorem q348 : (Jvm.Cond.selects "TranslationBureau$Office" ({ cls := "TranslationBureau$Office", name := "paid", desc := "()I" } : Jvm.MethodName) ({ cls := "TranslationBureau$Office", name := "paid", desc := "()I" } : Jvm.MethodName)) ∈ lw_all := lw_g (lw_at lw_m1 231 rfl) rfl
theorem q349 : (Jvm.Cond.code ({ cls := "TranslationBureau$Office", name := "paid", desc := "()I" } : Jvm.MethodName) prog_7_method_16_code (4 : Nat) (Option.some Jvm.ClassFile.FieldType.int)) ∈ lw_all := lw_g (lw_at lw_m1 232 rfl) rfl
theorem q350 : (Jvm.Cond.interfaceEntry "TranslationBureau$Office" (44 : Nat)) ∈ lw_tbl := lw_at lw_m1 233 rfl
theorem q351 : (Jvm.Cond.methodLink "TranslationBureau$Office" (44 : Nat) ({ cls := "java/util/List", name := "size", desc := "()I" } : Jvm.MethodName)) ∈ lw_all := lw_g (lw_at lw_m1 234 rfl) rfl
theorem q360 : (Jvm.Cond.methodLink "TranslationBureau$Office" (156 : Nat) ({ cls := "TranslationBureau$Office", name := "accountOf", desc := "(I)[I" } : Jvm.MethodName)) ∈ lw_all := lw_g (lw_at lw_m2 3 rfl) rfl
theorem q361 : (Jvm.Cond.instanceMethod ({ cls := "TranslationBureau$Office", name := "accountOf", desc := "(I)[I" } : Jvm.MethodName)) ∈ lw_all := lw_g (lw_at lw_m2 4 rfl) rfl
theorem q362 : (Jvm.Cond.selects "TranslationBureau$Office" ({ cls := "TranslationBureau$Office", name := "accountOf", desc := "(I)[I" } : Jvm.MethodName) ({ cls := "TranslationBureau$Office", name := "accountOf", desc := "(I)[I" } : Jvm.MethodName)) ∈ lw_all := lw_g (lw_at lw_m2 5 rfl) rfl
theorem q363 : (Jvm.Cond.code ({ cls := "TranslationBureau$Office", name := "accountOf", desc := "(I)[I" } : Jvm.MethodName) prog_7_method_15_code (5 : Nat) (Option.some (Jvm.ClassFile.FieldType.array Jvm.ClassFile.FieldType.int))) ∈ lw_all := lw_g (lw_at lw_m2 6 rfl) rfl
theorem q364 : (Jvm.Cond.methodLink "TranslationBureau$Office" (143 : Nat) ({ cls := "TranslationBureau$Office", name := "basicOf", desc := "(I)I" } : Jvm.MethodName)) ∈ lw_all := lw_g (lw_at lw_m2 7 rfl) rfl
theorem q365 : (Jvm.Cond.instanceMethod ({ cls := "TranslationBureau$Office", name := "basicOf", desc := "(I)I" } : Jvm.MethodName)) ∈ lw_all := lw_g (lw_at lw_m2 8 rfl) rfl
theorem q366 : (Jvm.Cond.selects "TranslationBureau$Office" ({ cls := "TranslationBureau$Office", name := "basicOf", desc := "(I)I" } : Jvm.MethodName) ({ cls := "TranslationBureau$Office", name := "basicOf", desc := "(I)I" } : Jvm.MethodName)) ∈ lw_all := lw_g (lw_at lw_m2 9 rfl) rfl
theorem q367 : (Jvm.Cond.code ({ cls := "TranslationBureau$Office", name := "basicOf", desc := "(I)I" } : Jvm.MethodName) prog_7_method_11_code (5 : Nat) (Option.some Jvm.ClassFile.FieldType.int)) ∈ lw_all := lw_g (lw_at lw_m2 10 rfl) rfl
theorem q368 : (Jvm.Cond.methodLink "TranslationBureau$Office" (130 : Nat) ({ cls := "TranslationBureau$Office", name := "bandsOf", desc := "(I)[I" } : Jvm.MethodName)) ∈ lw_all := lw_g (lw_at lw_m2 11 rfl) rfl
theorem q369 : (Jvm.Cond.instanceMethod ({ cls := "TranslationBureau$Office", name := "bandsOf", desc := "(I)[I" } : Jvm.MethodName)) ∈ lw_all := lw_g (lw_at lw_m2 12 rfl) rfl
theorem q370 : (Jvm.Cond.selects "TranslationBureau$Office" ({ cls := "TranslationBureau$Office", name := "bandsOf", desc := "(I)[I" } : Jvm.MethodName) ({ cls := "TranslationBureau$Office", name := "bandsOf", desc := "(I)[I" } : Jvm.MethodName)) ∈ lw_all := lw_g (lw_at lw_m2 13 rfl) rfl
theorem q371 : (Jvm.Cond.code ({ cls := "TranslationBureau$Office", name := "bandsOf", desc := "(I)[I" } : Jvm.MethodName) prog_7_method_10_code (5 : Nat) (Option.some (Jvm.ClassFile.FieldType.array Jvm.ClassFile.FieldType.int))) ∈ lw_all := lw_g (lw_at lw_m2 14 rfl) rfl
theorem q372 : (Jvm.Cond.methodLink "TranslationBureau$Office" (120 : Nat) ({ cls := "TranslationBureau$Office", name := "of", desc := "(I)LTranslationBureau$Office$JobSegments;" } : Jvm.MethodName)) ∈ lw_all := lw_g (lw_at lw_m2 15 rfl) rfl
theorem q373 : (Jvm.Cond.instanceMethod ({ cls := "TranslationBureau$Office", name := "of", desc := "(I)LTranslationBureau$Office$JobSegments;" } : Jvm.MethodName)) ∈ lw_all := lw_g (lw_at lw_m2 16 rfl) rfl
theorem q374 : (Jvm.Cond.selects "TranslationBureau$Office" ({ cls := "TranslationBureau$Office", name := "of", desc := "(I)LTranslationBureau$Office$JobSegments;" } : Jvm.MethodName) ({ cls := "TranslationBureau$Office", name := "of", desc := "(I)LTranslationBureau$Office$JobSegments;" } : Jvm.MethodName)) ∈ lw_all := lw_g (lw_at lw_m2 17 rfl) rfl
theorem q375 : (Jvm.Cond.code ({ cls := "TranslationBureau$Office", name := "of", desc := "(I)LTranslationBureau$Office$JobSegments;" } : Jvm.MethodName) prog_7_method_5_code (2 : Nat) (Option.some (Jvm.ClassFile.FieldType.object "TranslationBureau$Office$JobSegments"))) ∈ lw_all := lw_g (lw_at lw_m2 18 rfl) rfl
theorem q376 : (Jvm.Cond.classLink "TranslationBureau$Office" (74 : Nat) "TranslationBureau$Office$JobSegments") ∈ lw_all := lw_g (lw_at lw_m2 19 rfl) rfl
theorem q378 : (Jvm.Cond.methodLink "TranslationBureau$Office" (76 : Nat) ({ cls := "TranslationBureau$Office$JobSegments", name := "<init>", desc := "(LTranslationBureau$Office;I)V" } : Jvm.MethodName)) ∈ lw_all := lw_g (lw_at lw_m2 21 rfl) rfl
theorem q391 : (Jvm.Cond.methodLink "TranslationBureau$Office" (79 : Nat) ({ cls := "TranslationBureau$Office$JobSegments", name := "iterator", desc := "()Ljava/util/Iterator;" } : Jvm.MethodName)) ∈ lw_all := lw_g (lw_at lw_m2 34 rfl) rfl
theorem q434 : (Jvm.Cond.interfaceEntry "TranslationBureau$Office" (83 : Nat)) ∈ lw_tbl := lw_at lw_m2 77 rfl
theorem q435 : (Jvm.Cond.methodLink "TranslationBureau$Office" (83 : Nat) ({ cls := "java/util/Iterator", name := "hasNext", desc := "()Z" } : Jvm.MethodName)) ∈ lw_all := lw_g (lw_at lw_m2 78 rfl) rfl
theorem q450 : (Jvm.Cond.interfaceEntry "TranslationBureau$Office" (89 : Nat)) ∈ lw_tbl := lw_at lw_m2 93 rfl
theorem q451 : (Jvm.Cond.methodLink "TranslationBureau$Office" (89 : Nat) ({ cls := "java/util/Iterator", name := "next", desc := "()Ljava/lang/Object;" } : Jvm.MethodName)) ∈ lw_all := lw_g (lw_at lw_m2 94 rfl) rfl
theorem q567 : (Jvm.Cond.classLink "TranslationBureau$Office" (93 : Nat) "java/lang/Integer") ∈ lw_all := lw_g (lw_at lw_m2 210 rfl) rfl
theorem q568 : (Jvm.Cond.methodLink "TranslationBureau$Office" (95 : Nat) ({ cls := "java/lang/Integer", name := "intValue", desc := "()I" } : Jvm.MethodName)) ∈ lw_all := lw_g (lw_at lw_m2 211 rfl) rfl
theorem q572 : (Jvm.Cond.methodLink "TranslationBureau$Office" (127 : Nat) ({ cls := "TranslationBureau$Office", name := "bandOf", desc := "(I)I" } : Jvm.MethodName)) ∈ lw_all := lw_g (lw_at lw_m2 215 rfl) rfl
theorem q573 : (Jvm.Cond.instanceMethod ({ cls := "TranslationBureau$Office", name := "bandOf", desc := "(I)I" } : Jvm.MethodName)) ∈ lw_all := lw_g (lw_at lw_m2 216 rfl) rfl
theorem q574 : (Jvm.Cond.selects "TranslationBureau$Office" ({ cls := "TranslationBureau$Office", name := "bandOf", desc := "(I)I" } : Jvm.MethodName) ({ cls := "TranslationBureau$Office", name := "bandOf", desc := "(I)I" } : Jvm.MethodName)) ∈ lw_all := lw_g (lw_at lw_m2 217 rfl) rfl
theorem q575 : (Jvm.Cond.code ({ cls := "TranslationBureau$Office", name := "bandOf", desc := "(I)I" } : Jvm.MethodName) prog_7_method_8_code (3 : Nat) (Option.some Jvm.ClassFile.FieldType.int)) ∈ lw_all := lw_g (lw_at lw_m2 218 rfl) rfl
theorem q576 : (Jvm.Cond.methodLink "TranslationBureau$Office" (117 : Nat) ({ cls := "TranslationBureau$Office", name := "matchOf", desc := "(I)I" } : Jvm.MethodName)) ∈ lw_all := lw_g (lw_at lw_m2 219 rfl) rfl
theorem q577 : (Jvm.Cond.instanceMethod ({ cls := "TranslationBureau$Office", name := "matchOf", desc := "(I)I" } : Jvm.MethodName)) ∈ lw_all := lw_g (lw_at lw_m2 220 rfl) rfl
theorem q578 : (Jvm.Cond.selects "TranslationBureau$Office" ({ cls := "TranslationBureau$Office", name := "matchOf", desc := "(I)I" } : Jvm.MethodName) ({ cls := "TranslationBureau$Office", name := "matchOf", desc := "(I)I" } : Jvm.MethodName)) ∈ lw_all := lw_g (lw_at lw_m2 221 rfl) rfl
theorem q579 : (Jvm.Cond.code ({ cls := "TranslationBureau$Office", name := "matchOf", desc := "(I)I" } : Jvm.MethodName) prog_7_method_7_code (3 : Nat) (Option.some Jvm.ClassFile.FieldType.int)) ∈ lw_all := lw_g (lw_at lw_m2 222 rfl) rfl
theorem q580 : (Jvm.Cond.methodLink "TranslationBureau$Office" (113 : Nat) ({ cls := "TranslationBureau$Office", name := "modelOf", desc := "(I)I" } : Jvm.MethodName)) ∈ lw_all := lw_g (lw_at lw_m2 223 rfl) rfl
theorem q581 : (Jvm.Cond.instanceMethod ({ cls := "TranslationBureau$Office", name := "modelOf", desc := "(I)I" } : Jvm.MethodName)) ∈ lw_all := lw_g (lw_at lw_m2 224 rfl) rfl
theorem q582 : (Jvm.Cond.selects "TranslationBureau$Office" ({ cls := "TranslationBureau$Office", name := "modelOf", desc := "(I)I" } : Jvm.MethodName) ({ cls := "TranslationBureau$Office", name := "modelOf", desc := "(I)I" } : Jvm.MethodName)) ∈ lw_all := lw_g (lw_at lw_m2 225 rfl) rfl
theorem q583 : (Jvm.Cond.code ({ cls := "TranslationBureau$Office", name := "modelOf", desc := "(I)I" } : Jvm.MethodName) prog_7_method_6_code (6 : Nat) (Option.some Jvm.ClassFile.FieldType.int)) ∈ lw_all := lw_g (lw_at lw_m2 226 rfl) rfl
theorem q584 : (Jvm.Cond.interfaceEntry "TranslationBureau$Office" (48 : Nat)) ∈ lw_tbl := lw_at lw_m2 227 rfl
theorem q585 : (Jvm.Cond.methodLink "TranslationBureau$Office" (48 : Nat) ({ cls := "java/util/List", name := "get", desc := "(I)Ljava/lang/Object;" } : Jvm.MethodName)) ∈ lw_all := lw_g (lw_at lw_m2 228 rfl) rfl
theorem q586 : (Jvm.Cond.classLink "TranslationBureau$Office" (98 : Nat) "TranslationBureau$Segment") ∈ lw_all := lw_g (lw_at lw_m2 229 rfl) rfl
theorem q587 : (Jvm.Cond.methodLink "TranslationBureau$Office" (103 : Nat) ({ cls := "TranslationBureau$Segment", name := "likenessTo", desc := "(LTranslationBureau$Segment;)I" } : Jvm.MethodName)) ∈ lw_all := lw_g (lw_at lw_m2 230 rfl) rfl
theorem q619 : (Jvm.Cond.methodLink "TranslationBureau$Office" (107 : Nat) ({ cls := "java/lang/Math", name := "max", desc := "(II)I" } : Jvm.MethodName)) ∈ lw_all := lw_g (lw_at lw_m3 22 rfl) rfl
theorem q620 : (Jvm.Cond.methodLink "TranslationBureau$Office" (124 : Nat) ({ cls := "TranslationBureau$Segment", name := "many", desc := "()I" } : Jvm.MethodName)) ∈ lw_all := lw_g (lw_at lw_m3 23 rfl) rfl
theorem q621 : (Jvm.Cond.classLink "TranslationBureau$Office" (52 : Nat) "TranslationBureau$Job") ∈ lw_all := lw_g (lw_at lw_m3 24 rfl) rfl
theorem q622 : (Jvm.Cond.methodLink "TranslationBureau$Office" (150 : Nat) ({ cls := "TranslationBureau$Office", name := "premiumOf", desc := "(II)I" } : Jvm.MethodName)) ∈ lw_all := lw_g (lw_at lw_m3 25 rfl) rfl
theorem q623 : (Jvm.Cond.instanceMethod ({ cls := "TranslationBureau$Office", name := "premiumOf", desc := "(II)I" } : Jvm.MethodName)) ∈ lw_all := lw_g (lw_at lw_m3 26 rfl) rfl
theorem q624 : (Jvm.Cond.selects "TranslationBureau$Office" ({ cls := "TranslationBureau$Office", name := "premiumOf", desc := "(II)I" } : Jvm.MethodName) ({ cls := "TranslationBureau$Office", name := "premiumOf", desc := "(II)I" } : Jvm.MethodName)) ∈ lw_all := lw_g (lw_at lw_m3 27 rfl) rfl
theorem q625 : (Jvm.Cond.code ({ cls := "TranslationBureau$Office", name := "premiumOf", desc := "(II)I" } : Jvm.MethodName) prog_7_method_13_code (3 : Nat) (Option.some Jvm.ClassFile.FieldType.int)) ∈ lw_all := lw_g (lw_at lw_m3 28 rfl) rfl
theorem q626 : (Jvm.Cond.methodLink "TranslationBureau$Office" (137 : Nat) ({ cls := "TranslationBureau$Office", name := "hoursOf", desc := "(I)I" } : Jvm.MethodName)) ∈ lw_all := lw_g (lw_at lw_m3 29 rfl) rfl
theorem q627 : (Jvm.Cond.instanceMethod ({ cls := "TranslationBureau$Office", name := "hoursOf", desc := "(I)I" } : Jvm.MethodName)) ∈ lw_all := lw_g (lw_at lw_m3 30 rfl) rfl
theorem q628 : (Jvm.Cond.selects "TranslationBureau$Office" ({ cls := "TranslationBureau$Office", name := "hoursOf", desc := "(I)I" } : Jvm.MethodName) ({ cls := "TranslationBureau$Office", name := "hoursOf", desc := "(I)I" } : Jvm.MethodName)) ∈ lw_all := lw_g (lw_at lw_m3 31 rfl) rfl
theorem q629 : (Jvm.Cond.code ({ cls := "TranslationBureau$Office", name := "hoursOf", desc := "(I)I" } : Jvm.MethodName) prog_7_method_12_code (2 : Nat) (Option.some Jvm.ClassFile.FieldType.int)) ∈ lw_all := lw_g (lw_at lw_m3 32 rfl) rfl
theorem q630 : (Jvm.Cond.methodLink "TranslationBureau$Office" (134 : Nat) ({ cls := "TranslationBureau$Office", name := "wordsOf", desc := "(I)I" } : Jvm.MethodName)) ∈ lw_all := lw_g (lw_at lw_m3 33 rfl) rfl
theorem q631 : (Jvm.Cond.instanceMethod ({ cls := "TranslationBureau$Office", name := "wordsOf", desc := "(I)I" } : Jvm.MethodName)) ∈ lw_all := lw_g (lw_at lw_m3 34 rfl) rfl
theorem q632 : (Jvm.Cond.selects "TranslationBureau$Office" ({ cls := "TranslationBureau$Office", name := "wordsOf", desc := "(I)I" } : Jvm.MethodName) ({ cls := "TranslationBureau$Office", name := "wordsOf", desc := "(I)I" } : Jvm.MethodName)) ∈ lw_all := lw_g (lw_at lw_m3 35 rfl) rfl
theorem q633 : (Jvm.Cond.code ({ cls := "TranslationBureau$Office", name := "wordsOf", desc := "(I)I" } : Jvm.MethodName) prog_7_method_9_code (5 : Nat) (Option.some Jvm.ClassFile.FieldType.int)) ∈ lw_all := lw_g (lw_at lw_m3 36 rfl) rfl
theorem q634 : (Jvm.Cond.methodLink "TranslationBureau$Office" (140 : Nat) ({ cls := "java/lang/Math", name := "min", desc := "(II)I" } : Jvm.MethodName)) ∈ lw_all := lw_g (lw_at lw_m3 37 rfl) rfl
theorem q635 : (Jvm.Cond.methodLink "TranslationBureau$Office" (153 : Nat) ({ cls := "TranslationBureau$Office", name := "revised", desc := "(I)I" } : Jvm.MethodName)) ∈ lw_all := lw_g (lw_at lw_m3 38 rfl) rfl
theorem q636 : (Jvm.Cond.instanceMethod ({ cls := "TranslationBureau$Office", name := "revised", desc := "(I)I" } : Jvm.MethodName)) ∈ lw_all := lw_g (lw_at lw_m3 39 rfl) rfl
theorem q637 : (Jvm.Cond.selects "TranslationBureau$Office" ({ cls := "TranslationBureau$Office", name := "revised", desc := "(I)I" } : Jvm.MethodName) ({ cls := "TranslationBureau$Office", name := "revised", desc := "(I)I" } : Jvm.MethodName)) ∈ lw_all := lw_g (lw_at lw_m3 40 rfl) rfl
theorem q638 : (Jvm.Cond.code ({ cls := "TranslationBureau$Office", name := "revised", desc := "(I)I" } : Jvm.MethodName) prog_7_method_14_code (2 : Nat) (Option.some Jvm.ClassFile.FieldType.int)) ∈ lw_all := lw_g (lw_at lw_m3 41 rfl) rfl
theorem q646 : (Jvm.Cond.instanceMethod ({ cls := "TranslationBureau$Office", name := "pairsOf", desc := "(III)I" } : Jvm.MethodName)) ∈ lw_all := lw_g (lw_at lw_m3 49 rfl) rfl
theorem q647 : (Jvm.Cond.selects "TranslationBureau$Office" ({ cls := "TranslationBureau$Office", name := "pairsOf", desc := "(III)I" } : Jvm.MethodName) ({ cls := "TranslationBureau$Office", name := "pairsOf", desc := "(III)I" } : Jvm.MethodName)) ∈ lw_all := lw_g (lw_at lw_m3 50 rfl) rfl
theorem q648 : (Jvm.Cond.code ({ cls := "TranslationBureau$Office", name := "pairsOf", desc := "(III)I" } : Jvm.MethodName) prog_7_method_19_code (6 : Nat) (Option.some Jvm.ClassFile.FieldType.int)) ∈ lw_all := lw_g (lw_at lw_m3 51 rfl) rfl
theorem q1277 : (Jvm.Cond.instanceMethod ({ cls := "TranslationBureau$Office", name := "person", desc := "(Ljava/lang/String;)I" } : Jvm.MethodName)) ∈ lw_all := lw_g (lw_at lw_m5 200 rfl) rfl
theorem q1278 : (Jvm.Cond.selects "TranslationBureau$Office" ({ cls := "TranslationBureau$Office", name := "person", desc := "(Ljava/lang/String;)I" } : Jvm.MethodName) ({ cls := "TranslationBureau$Office", name := "person", desc := "(Ljava/lang/String;)I" } : Jvm.MethodName)) ∈ lw_all := lw_g (lw_at lw_m5 201 rfl) rfl
theorem q1279 : (Jvm.Cond.code ({ cls := "TranslationBureau$Office", name := "person", desc := "(Ljava/lang/String;)I" } : Jvm.MethodName) prog_7_method_17_code (2 : Nat) (Option.some Jvm.ClassFile.FieldType.int)) ∈ lw_all := lw_g (lw_at lw_m5 202 rfl) rfl
theorem q1280 : (Jvm.Cond.interfaceEntry "TranslationBureau$Office" (159 : Nat)) ∈ lw_tbl := lw_at lw_m5 203 rfl
theorem q1281 : (Jvm.Cond.methodLink "TranslationBureau$Office" (159 : Nat) ({ cls := "java/util/List", name := "indexOf", desc := "(Ljava/lang/Object;)I" } : Jvm.MethodName)) ∈ lw_all := lw_g (lw_at lw_m5 204 rfl) rfl
theorem q1304 : (Jvm.Cond.selects "TranslationBureau$Office" ({ cls := "java/lang/Object", name := "equals", desc := "(Ljava/lang/Object;)Z" } : Jvm.MethodName) ({ cls := "java/lang/Object", name := "equals", desc := "(Ljava/lang/Object;)Z" } : Jvm.MethodName)) ∈ lw_all := lw_g (lw_at lw_m5 227 rfl) rfl
theorem q1372 : (Jvm.Cond.selects "TranslationBureau$Office" ({ cls := "java/lang/Object", name := "getClass", desc := "()Ljava/lang/Class;" } : Jvm.MethodName) ({ cls := "java/lang/Object", name := "getClass", desc := "()Ljava/lang/Class;" } : Jvm.MethodName)) ∈ lw_all := lw_g (lw_at lw_m6 55 rfl) rfl
theorem q1433 : (Jvm.Cond.fieldLinkNest "TranslationBureau$Office" (187 : Nat) "TranslationBureau$Term" "word" "Ljava/lang/String;" "TranslationBureau") ∈ lw_tbl := lw_at lw_m6 116 rfl
theorem q1436 : (Jvm.Cond.fieldLinkNest "TranslationBureau$Office" (221 : Nat) "TranslationBureau$Term" "says" "Ljava/lang/String;" "TranslationBureau") ∈ lw_tbl := lw_at lw_m6 119 rfl
theorem q1464 : (Jvm.Cond.fieldLinkNest "TranslationBureau$Office" (163 : Nat) "TranslationBureau$Job" "translator" "I" "TranslationBureau") ∈ lw_tbl := lw_at lw_m6 147 rfl
theorem q1467 : (Jvm.Cond.fieldLinkNest "TranslationBureau$Office" (166 : Nat) "TranslationBureau$Job" "reviser" "I" "TranslationBureau") ∈ lw_tbl := lw_at lw_m6 150 rfl
theorem q1470 : (Jvm.Cond.fieldLinkNest "TranslationBureau$Office" (146 : Nat) "TranslationBureau$Job" "hours" "I" "TranslationBureau") ∈ lw_tbl := lw_at lw_m6 153 rfl
theorem q1473 : (Jvm.Cond.fieldLinkNest "TranslationBureau$Office" (182 : Nat) "TranslationBureau$Job" "followed" "I" "TranslationBureau") ∈ lw_tbl := lw_at lw_m6 156 rfl
theorem q1517 : (Jvm.Cond.fieldLinkNest "TranslationBureau$Office" (179 : Nat) "TranslationBureau$Segment" "job" "I" "TranslationBureau") ∈ lw_tbl := lw_at lw_m6 200 rfl
theorem q1520 : (Jvm.Cond.fieldLinkNest "TranslationBureau$Office" (191 : Nat) "TranslationBureau$Segment" "source" "Ljava/util/List;" "TranslationBureau") ∈ lw_tbl := lw_at lw_m6 203 rfl
theorem q1523 : (Jvm.Cond.fieldLinkNest "TranslationBureau$Office" (218 : Nat) "TranslationBureau$Segment" "target" "Ljava/util/List;" "TranslationBureau") ∈ lw_tbl := lw_at lw_m6 206 rfl
theorem q1577 : (Jvm.Cond.instanceMethod ({ cls := "TranslationBureau$Office", name := "copy", desc := "()LTranslationBureau$Office;" } : Jvm.MethodName)) ∈ lw_all := lw_g (lw_at lw_m7 20 rfl) rfl
theorem q1578 : (Jvm.Cond.selects "TranslationBureau$Office" ({ cls := "TranslationBureau$Office", name := "copy", desc := "()LTranslationBureau$Office;" } : Jvm.MethodName) ({ cls := "TranslationBureau$Office", name := "copy", desc := "()LTranslationBureau$Office;" } : Jvm.MethodName)) ∈ lw_all := lw_g (lw_at lw_m7 21 rfl) rfl
theorem q1579 : (Jvm.Cond.code ({ cls := "TranslationBureau$Office", name := "copy", desc := "()LTranslationBureau$Office;" } : Jvm.MethodName) prog_7_method_2_code (3 : Nat) (Option.some (Jvm.ClassFile.FieldType.object "TranslationBureau$Office"))) ∈ lw_all := lw_g (lw_at lw_m7 22 rfl) rfl
theorem q1580 : (Jvm.Cond.classLink "TranslationBureau$Office" (13 : Nat) "TranslationBureau$Office") ∈ lw_all := lw_g (lw_at lw_m7 23 rfl) rfl
theorem q1581 : (Jvm.Cond.methodLink "TranslationBureau$Office" (37 : Nat) ({ cls := "TranslationBureau$Office", name := "<init>", desc := "()V" } : Jvm.MethodName)) ∈ lw_all := lw_g (lw_at lw_m7 24 rfl) rfl
theorem q1582 : (Jvm.Cond.interfaceEntry "TranslationBureau$Office" (38 : Nat)) ∈ lw_tbl := lw_at lw_m7 25 rfl
theorem q1583 : (Jvm.Cond.methodLink "TranslationBureau$Office" (38 : Nat) ({ cls := "java/util/List", name := "addAll", desc := "(Ljava/util/Collection;)Z" } : Jvm.MethodName)) ∈ lw_all := lw_g (lw_at lw_m7 26 rfl) rfl
theorem q1617 : (Jvm.Cond.methodLink "TranslationBureau$Office" (54 : Nat) ({ cls := "TranslationBureau$Job", name := "copy", desc := "()LTranslationBureau$Job;" } : Jvm.MethodName)) ∈ lw_all := lw_g (lw_at lw_m7 60 rfl) rfl
theorem q1623 : (Jvm.Cond.interfaceEntry "TranslationBureau$Office" (58 : Nat)) ∈ lw_tbl := lw_at lw_m7 66 rfl
theorem q1624 : (Jvm.Cond.methodLink "TranslationBureau$Office" (58 : Nat) ({ cls := "java/util/List", name := "add", desc := "(Ljava/lang/Object;)Z" } : Jvm.MethodName)) ∈ lw_all := lw_g (lw_at lw_m7 67 rfl) rfl
theorem q1625 : (Jvm.Cond.methodLink "TranslationBureau$Office" (62 : Nat) ({ cls := "java/lang/System", name := "arraycopy", desc := "(Ljava/lang/Object;ILjava/lang/Object;II)V" } : Jvm.MethodName)) ∈ lw_all := lw_g (lw_at lw_m7 68 rfl) rfl
theorem q1680 : (Jvm.Cond.instanceMethod ({ cls := "TranslationBureau$Office", name := "found", desc := "()Ljava/util/List;" } : Jvm.MethodName)) ∈ lw_all := lw_g (lw_at lw_m7 123 rfl) rfl
theorem q1681 : (Jvm.Cond.selects "TranslationBureau$Office" ({ cls := "TranslationBureau$Office", name := "found", desc := "()Ljava/util/List;" } : Jvm.MethodName) ({ cls := "TranslationBureau$Office", name := "found", desc := "()Ljava/util/List;" } : Jvm.MethodName)) ∈ lw_all := lw_g (lw_at lw_m7 124 rfl) rfl
theorem q1682 : (Jvm.Cond.code ({ cls := "TranslationBureau$Office", name := "found", desc := "()Ljava/util/List;" } : Jvm.MethodName) prog_7_method_23_code (5 : Nat) (Option.some (Jvm.ClassFile.FieldType.object "java/util/List"))) ∈ lw_all := lw_g (lw_at lw_m7 125 rfl) rfl
theorem q1683 : (Jvm.Cond.methodLink "TranslationBureau$Office" (202 : Nat) ({ cls := "TranslationBureau$Office", name := "addMissing", desc := "(ILjava/util/List;)V" } : Jvm.MethodName)) ∈ lw_all := lw_g (lw_at lw_m7 126 rfl) rfl
theorem q1684 : (Jvm.Cond.privateMethod ({ cls := "TranslationBureau$Office", name := "addMissing", desc := "(ILjava/util/List;)V" } : Jvm.MethodName)) ∈ lw_tbl := lw_at lw_m7 127 rfl
theorem q1685 : (Jvm.Cond.instanceMethod ({ cls := "TranslationBureau$Office", name := "addMissing", desc := "(ILjava/util/List;)V" } : Jvm.MethodName)) ∈ lw_all := lw_g (lw_at lw_m7 128 rfl) rfl
theorem q1686 : (Jvm.Cond.code ({ cls := "TranslationBureau$Office", name := "addMissing", desc := "(ILjava/util/List;)V" } : Jvm.MethodName) prog_7_method_24_code (7 : Nat) (Option.none : Option Jvm.ClassFile.FieldType)) ∈ lw_all := lw_g (lw_at lw_m7 129 rfl) rfl
theorem q1687 : (Jvm.Cond.methodLink "TranslationBureau$Office" (214 : Nat) ({ cls := "TranslationBureau$Segment", name := "isFirstPlace", desc := "(I)Z" } : Jvm.MethodName)) ∈ lw_all := lw_g (lw_at lw_m7 130 rfl) rfl
theorem q1693 : (Jvm.Cond.methodLink "TranslationBureau$Office" (199 : Nat) ({ cls := "TranslationBureau$Office", name := "ruleFor", desc := "(II)I" } : Jvm.MethodName)) ∈ lw_all := lw_g (lw_at lw_m7 136 rfl) rfl
theorem q1694 : (Jvm.Cond.instanceMethod ({ cls := "TranslationBureau$Office", name := "ruleFor", desc := "(II)I" } : Jvm.MethodName)) ∈ lw_all := lw_g (lw_at lw_m7 137 rfl) rfl
theorem q1695 : (Jvm.Cond.selects "TranslationBureau$Office" ({ cls := "TranslationBureau$Office", name := "ruleFor", desc := "(II)I" } : Jvm.MethodName) ({ cls := "TranslationBureau$Office", name := "ruleFor", desc := "(II)I" } : Jvm.MethodName)) ∈ lw_all := lw_g (lw_at lw_m7 138 rfl) rfl
theorem q1696 : (Jvm.Cond.code ({ cls := "TranslationBureau$Office", name := "ruleFor", desc := "(II)I" } : Jvm.MethodName) prog_7_method_21_code (6 : Nat) (Option.some Jvm.ClassFile.FieldType.int)) ∈ lw_all := lw_g (lw_at lw_m7 139 rfl) rfl
theorem q1697 : (Jvm.Cond.classLink "TranslationBureau$Office" (185 : Nat) "TranslationBureau$Term") ∈ lw_all := lw_g (lw_at lw_m7 140 rfl) rfl
theorem q1698 : (Jvm.Cond.methodLink "TranslationBureau$Office" (194 : Nat) ({ cls := "java/lang/String", name := "equals", desc := "(Ljava/lang/Object;)Z" } : Jvm.MethodName)) ∈ lw_all := lw_g (lw_at lw_m7 141 rfl) rfl
theorem q1699 : (Jvm.Cond.classLink "TranslationBureau$Office" (195 : Nat) "java/lang/String") ∈ lw_all := lw_g (lw_at lw_m7 142 rfl) rfl
theorem q1700 : (Jvm.Cond.classLink "TranslationBureau$Office" (224 : Nat) "TranslationBureau$Missing") ∈ lw_all := lw_g (lw_at lw_m7 143 rfl) rfl
theorem q1702 : (Jvm.Cond.methodLink "TranslationBureau$Office" (226 : Nat) ({ cls := "TranslationBureau$Missing", name := "<init>", desc := "(IILTranslationBureau$Term;)V" } : Jvm.MethodName)) ∈ lw_all := lw_g (lw_at lw_m7 145 rfl) rfl
theorem q1713 : (Jvm.Cond.fieldLinkNest "TranslationBureau$Office" (242 : Nat) "TranslationBureau$Finding" "segment" "I" "TranslationBureau") ∈ lw_tbl := lw_at lw_m7 156 rfl
theorem q1722 : (Jvm.Cond.methodLink "TranslationBureau$Office" (206 : Nat) ({ cls := "TranslationBureau$Office", name := "addUnlike", desc := "(ILjava/util/List;)V" } : Jvm.MethodName)) ∈ lw_all := lw_g (lw_at lw_m7 165 rfl) rfl
theorem q1723 : (Jvm.Cond.privateMethod ({ cls := "TranslationBureau$Office", name := "addUnlike", desc := "(ILjava/util/List;)V" } : Jvm.MethodName)) ∈ lw_tbl := lw_at lw_m7 166 rfl
theorem q1724 : (Jvm.Cond.instanceMethod ({ cls := "TranslationBureau$Office", name := "addUnlike", desc := "(ILjava/util/List;)V" } : Jvm.MethodName)) ∈ lw_all := lw_g (lw_at lw_m7 167 rfl) rfl
theorem q1725 : (Jvm.Cond.code ({ cls := "TranslationBureau$Office", name := "addUnlike", desc := "(ILjava/util/List;)V" } : Jvm.MethodName) prog_7_method_25_code (6 : Nat) (Option.none : Option Jvm.ClassFile.FieldType)) ∈ lw_all := lw_g (lw_at lw_m7 168 rfl) rfl
theorem q1726 : (Jvm.Cond.interfaceEntry "TranslationBureau$Office" (229 : Nat)) ∈ lw_tbl := lw_at lw_m7 169 rfl
theorem q1727 : (Jvm.Cond.methodLink "TranslationBureau$Office" (229 : Nat) ({ cls := "java/util/List", name := "equals", desc := "(Ljava/lang/Object;)Z" } : Jvm.MethodName)) ∈ lw_all := lw_g (lw_at lw_m7 170 rfl) rfl
theorem q1786 : (Jvm.Cond.classLink "TranslationBureau$Office" (230 : Nat) "TranslationBureau$Unlike") ∈ lw_all := lw_g (lw_at lw_m7 229 rfl) rfl
theorem q1788 : (Jvm.Cond.methodLink "TranslationBureau$Office" (232 : Nat) ({ cls := "TranslationBureau$Unlike", name := "<init>", desc := "(II)V" } : Jvm.MethodName)) ∈ lw_all := lw_g (lw_at lw_m7 231 rfl) rfl
theorem q1798 : (Jvm.Cond.classLink "TranslationBureau$Office" (209 : Nat) "TranslationBureau$Stale") ∈ lw_all := lw_g (lw_at lw_m8 1 rfl) rfl
theorem q1800 : (Jvm.Cond.methodLink "TranslationBureau$Office" (211 : Nat) ({ cls := "TranslationBureau$Stale", name := "<init>", desc := "(II)V" } : Jvm.MethodName)) ∈ lw_all := lw_g (lw_at lw_m8 3 rfl) rfl
theorem q2035 : (Jvm.Cond.instanceMethod ({ cls := "TranslationBureau$Office", name := "loadBy", desc := "(II)I" } : Jvm.MethodName)) ∈ lw_all := lw_g (lw_at lw_m8 238 rfl) rfl
theorem q2036 : (Jvm.Cond.selects "TranslationBureau$Office" ({ cls := "TranslationBureau$Office", name := "loadBy", desc := "(II)I" } : Jvm.MethodName) ({ cls := "TranslationBureau$Office", name := "loadBy", desc := "(II)I" } : Jvm.MethodName)) ∈ lw_all := lw_g (lw_at lw_m8 239 rfl) rfl
theorem q2037 : (Jvm.Cond.code ({ cls := "TranslationBureau$Office", name := "loadBy", desc := "(II)I" } : Jvm.MethodName) prog_7_method_18_code (5 : Nat) (Option.some Jvm.ClassFile.FieldType.int)) ∈ lw_all := lw_g (lw_at lw_m9 0 rfl) rfl
theorem q2038 : (Jvm.Cond.methodLinkNest "TranslationBureau$Office" (169 : Nat) ({ cls := "TranslationBureau", name := "halfOf", desc := "(I)I" } : Jvm.MethodName) "TranslationBureau") ∈ lw_tbl := lw_at lw_m9 1 rfl
theorem q2064 : (Jvm.Cond.instanceMethod ({ cls := "TranslationBureau$Office", name := "suggestedFor", desc := "(I)I" } : Jvm.MethodName)) ∈ lw_all := lw_g (lw_at lw_m9 27 rfl) rfl
theorem q2065 : (Jvm.Cond.selects "TranslationBureau$Office" ({ cls := "TranslationBureau$Office", name := "suggestedFor", desc := "(I)I" } : Jvm.MethodName) ({ cls := "TranslationBureau$Office", name := "suggestedFor", desc := "(I)I" } : Jvm.MethodName)) ∈ lw_all := lw_g (lw_at lw_m9 28 rfl) rfl
theorem q2066 : (Jvm.Cond.code ({ cls := "TranslationBureau$Office", name := "suggestedFor", desc := "(I)I" } : Jvm.MethodName) prog_7_method_20_code (6 : Nat) (Option.some Jvm.ClassFile.FieldType.int)) ∈ lw_all := lw_g (lw_at lw_m9 29 rfl) rfl
theorem q2067 : (Jvm.Cond.methodLink "TranslationBureau$Office" (172 : Nat) ({ cls := "TranslationBureau$Office", name := "loadBy", desc := "(II)I" } : Jvm.MethodName)) ∈ lw_all := lw_g (lw_at lw_m9 30 rfl) rfl
theorem q2068 : (Jvm.Cond.methodLink "TranslationBureau$Office" (175 : Nat) ({ cls := "TranslationBureau$Office", name := "pairsOf", desc := "(III)I" } : Jvm.MethodName)) ∈ lw_all := lw_g (lw_at lw_m9 31 rfl) rfl
theorem q2097 : (Jvm.Cond.instanceMethod ({ cls := "TranslationBureau$Office", name := "usesTerm", desc := "(II)Z" } : Jvm.MethodName)) ∈ lw_all := lw_g (lw_at lw_m9 60 rfl) rfl
theorem q2098 : (Jvm.Cond.selects "TranslationBureau$Office" ({ cls := "TranslationBureau$Office", name := "usesTerm", desc := "(II)Z" } : Jvm.MethodName) ({ cls := "TranslationBureau$Office", name := "usesTerm", desc := "(II)Z" } : Jvm.MethodName)) ∈ lw_all := lw_g (lw_at lw_m9 61 rfl) rfl
theorem q2099 : (Jvm.Cond.code ({ cls := "TranslationBureau$Office", name := "usesTerm", desc := "(II)Z" } : Jvm.MethodName) prog_7_method_22_code (4 : Nat) (Option.some Jvm.ClassFile.FieldType.boolean)) ∈ lw_all := lw_g (lw_at lw_m9 62 rfl) rfl
theorem q2144 : (Jvm.Cond.instanceMethod ({ cls := "TranslationBureau$Office", name := "findingsOf", desc := "(II)I" } : Jvm.MethodName)) ∈ lw_all := lw_g (lw_at lw_m9 107 rfl) rfl
theorem q2145 : (Jvm.Cond.selects "TranslationBureau$Office" ({ cls := "TranslationBureau$Office", name := "findingsOf", desc := "(II)I" } : Jvm.MethodName) ({ cls := "TranslationBureau$Office", name := "findingsOf", desc := "(II)I" } : Jvm.MethodName)) ∈ lw_all := lw_g (lw_at lw_m9 108 rfl) rfl
theorem q2146 : (Jvm.Cond.code ({ cls := "TranslationBureau$Office", name := "findingsOf", desc := "(II)I" } : Jvm.MethodName) prog_7_method_27_code (6 : Nat) (Option.some Jvm.ClassFile.FieldType.int)) ∈ lw_all := lw_g (lw_at lw_m9 109 rfl) rfl
theorem q2147 : (Jvm.Cond.methodLink "TranslationBureau$Office" (233 : Nat) ({ cls := "TranslationBureau$Office", name := "found", desc := "()Ljava/util/List;" } : Jvm.MethodName)) ∈ lw_all := lw_g (lw_at lw_m9 110 rfl) rfl
theorem q2148 : (Jvm.Cond.classLink "TranslationBureau$Office" (237 : Nat) "TranslationBureau$Finding") ∈ lw_all := lw_g (lw_at lw_m9 111 rfl) rfl
theorem q2149 : (Jvm.Cond.methodLink "TranslationBureau$Office" (239 : Nat) ({ cls := "TranslationBureau$Finding", name := "kind", desc := "()I" } : Jvm.MethodName)) ∈ lw_all := lw_g (lw_at lw_m9 112 rfl) rfl
theorem q2166 : (Jvm.Cond.instanceMethod ({ cls := "TranslationBureau$Office", name := "lessOne", desc := "(I)LTranslationBureau$Office;" } : Jvm.MethodName)) ∈ lw_all := lw_g (lw_at lw_m9 129 rfl) rfl
theorem q2167 : (Jvm.Cond.selects "TranslationBureau$Office" ({ cls := "TranslationBureau$Office", name := "lessOne", desc := "(I)LTranslationBureau$Office;" } : Jvm.MethodName) ({ cls := "TranslationBureau$Office", name := "lessOne", desc := "(I)LTranslationBureau$Office;" } : Jvm.MethodName)) ∈ lw_all := lw_g (lw_at lw_m9 130 rfl) rfl
theorem q2168 : (Jvm.Cond.code ({ cls := "TranslationBureau$Office", name := "lessOne", desc := "(I)LTranslationBureau$Office;" } : Jvm.MethodName) prog_7_method_4_code (4 : Nat) (Option.some (Jvm.ClassFile.FieldType.object "TranslationBureau$Office"))) ∈ lw_all := lw_g (lw_at lw_m9 131 rfl) rfl
theorem q2169 : (Jvm.Cond.methodLink "TranslationBureau$Office" (68 : Nat) ({ cls := "TranslationBureau$Office", name := "copy", desc := "()LTranslationBureau$Office;" } : Jvm.MethodName)) ∈ lw_all := lw_g (lw_at lw_m9 132 rfl) rfl
theorem q2170 : (Jvm.Cond.interfaceEntry "TranslationBureau$Office" (100 : Nat)) ∈ lw_tbl := lw_at lw_m9 133 rfl
theorem q2171 : (Jvm.Cond.methodLink "TranslationBureau$Office" (100 : Nat) ({ cls := "java/util/List", name := "remove", desc := "(I)Ljava/lang/Object;" } : Jvm.MethodName)) ∈ lw_all := lw_g (lw_at lw_m9 134 rfl) rfl
theorem q2191 : (Jvm.Cond.instanceMethod ({ cls := "TranslationBureau$Office", name := "onlyOf", desc := "(I)LTranslationBureau$Office;" } : Jvm.MethodName)) ∈ lw_all := lw_g (lw_at lw_m9 154 rfl) rfl
theorem q2192 : (Jvm.Cond.selects "TranslationBureau$Office" ({ cls := "TranslationBureau$Office", name := "onlyOf", desc := "(I)LTranslationBureau$Office;" } : Jvm.MethodName) ({ cls := "TranslationBureau$Office", name := "onlyOf", desc := "(I)LTranslationBureau$Office;" } : Jvm.MethodName)) ∈ lw_all := lw_g (lw_at lw_m9 155 rfl) rfl
theorem q2193 : (Jvm.Cond.code ({ cls := "TranslationBureau$Office", name := "onlyOf", desc := "(I)LTranslationBureau$Office;" } : Jvm.MethodName) prog_7_method_3_code (5 : Nat) (Option.some (Jvm.ClassFile.FieldType.object "TranslationBureau$Office"))) ∈ lw_all := lw_g (lw_at lw_m9 156 rfl) rfl
theorem q2194 : (Jvm.Cond.interfaceEntry "TranslationBureau$Office" (71 : Nat)) ∈ lw_tbl := lw_at lw_m9 157 rfl
theorem q2195 : (Jvm.Cond.methodLink "TranslationBureau$Office" (71 : Nat) ({ cls := "java/util/List", name := "clear", desc := "()V" } : Jvm.MethodName)) ∈ lw_all := lw_g (lw_at lw_m9 158 rfl) rfl
theorem q2220 : (Jvm.Cond.instanceMethod ({ cls := "TranslationBureau$Office", name := "missingOf", desc := "(I)I" } : Jvm.MethodName)) ∈ lw_all := lw_g (lw_at lw_m9 183 rfl) rfl
theorem q2221 : (Jvm.Cond.selects "TranslationBureau$Office" ({ cls := "TranslationBureau$Office", name := "missingOf", desc := "(I)I" } : Jvm.MethodName) ({ cls := "TranslationBureau$Office", name := "missingOf", desc := "(I)I" } : Jvm.MethodName)) ∈ lw_all := lw_g (lw_at lw_m9 184 rfl) rfl
theorem q2222 : (Jvm.Cond.code ({ cls := "TranslationBureau$Office", name := "missingOf", desc := "(I)I" } : Jvm.MethodName) prog_7_method_26_code (5 : Nat) (Option.some Jvm.ClassFile.FieldType.int)) ∈ lw_all := lw_g (lw_at lw_m9 185 rfl) rfl
theorem q3106 : (Jvm.Cond.castable "TranslationBureau$Office" "java/lang/Object") ∈ lw_tbl := lw_at lw_m13 109 rfl
theorem in_X2 : ∀ w ∈ wsX20, w ∈ lw_all := lw_in wsX20 [237, 239, 241, 243, 245, 247, 249] (by decide +kernel) (by decide +kernel)

/-! TranslationBureau$Unlike -/
set_option maxRecDepth 100000
def RX20 : String := "TranslationBureau$Unlike"
def TX20 : u_T := fun k => match k with
  | 0 => ("TranslationBureau$Finding", "segment", "I", true)
  | _ => ("TranslationBureau$Unlike", "earlier", "I", true)
def tyX20 : Nat → FieldType := fun k => match k with
  | 0 => .int
  | _ => .int
abbrev wsX200 : List Cond := u_ws RX20 TX20 2
theorem nmX20 : ∀ a, a < 2 → ∀ b, b < 2 → a ≠ b → (TX20 a).2.1 ≠ (TX20 b).2.1 := by decide +kernel
theorem tyX20_ok : ∀ k, k < 2 → parseFieldDescriptor (TX20 k).2.2.1 = some (tyX20 k) := by decide +kernel
abbrev cX20_init : ByteArray := prog_24_method_1_code
def yX20_init : MethodName := ⟨RX20, "<init>", "(II)V"⟩
def dkwX20_init_0 : List UInt8 := [42, 27, 183, 0, 1, 42, 28, 181, 0, 7, 177]
abbrev dktX20_init_0 : List UInt8 := dkwX20_init_0 ++ []
theorem dksX20_init_0 : cX20_init.data.toList.drop 0 = dktX20_init_0 := by decide +kernel
theorem dX20_init_0 : decode cX20_init 0 = .ok (.aload_n 0, 1) := dk_42 (dk_at dksX20_init_0 0 rfl rfl)
theorem dX20_init_1 : decode cX20_init 1 = .ok (.iload_n 1, 1) := dk_27 (dk_at dksX20_init_0 1 rfl rfl)
theorem dX20_init_2 : decode cX20_init 2 = .ok (.invokespecial 1, 3) := dk_183 0 1 (dk_at dksX20_init_0 2 rfl rfl)
theorem dX20_init_5 : decode cX20_init 5 = .ok (.aload_n 0, 1) := dk_42 (dk_at dksX20_init_0 5 rfl rfl)
theorem dX20_init_6 : decode cX20_init 6 = .ok (.iload_n 2, 1) := dk_28 (dk_at dksX20_init_0 6 rfl rfl)
theorem dX20_init_7 : decode cX20_init 7 = .ok (.putfield 7, 3) := dk_181 0 7 (dk_at dksX20_init_0 7 rfl rfl)
theorem dX20_init_10 : decode cX20_init 10 = .ok (.return_, 1) := dk_177 (dk_at dksX20_init_0 10 rfl rfl)
abbrev cX20_kind : ByteArray := prog_24_method_2_code
def yX20_kind : MethodName := ⟨RX20, "kind", "()I"⟩
theorem dX20_kind_0 : decode cX20_kind 0 = .ok (.iconst 1, 1) := by decide +kernel
theorem dX20_kind_1 : decode cX20_kind 1 = .ok (.ireturn, 1) := by decide +kernel
abbrev cX20_other : ByteArray := prog_24_method_3_code
def yX20_other : MethodName := ⟨RX20, "other", "()I"⟩
theorem dX20_other_0 : decode cX20_other 0 = .ok (.aload_n 0, 1) := by decide +kernel
theorem dX20_other_1 : decode cX20_other 1 = .ok (.getfield 7, 3) := by decide +kernel
theorem dX20_other_4 : decode cX20_other 4 = .ok (.ireturn, 1) := by decide +kernel
theorem q164 : (Jvm.Cond.initialized "TranslationBureau$Unlike") ∈ lw_all := lw_g (lw_at lw_m1 47 rfl) rfl
theorem q1319 : (Jvm.Cond.selects "TranslationBureau$Unlike" ({ cls := "java/lang/Object", name := "equals", desc := "(Ljava/lang/Object;)Z" } : Jvm.MethodName) ({ cls := "java/lang/Object", name := "equals", desc := "(Ljava/lang/Object;)Z" } : Jvm.MethodName)) ∈ lw_all := lw_g (lw_at lw_m6 2 rfl) rfl
theorem q1387 : (Jvm.Cond.selects "TranslationBureau$Unlike" ({ cls := "java/lang/Object", name := "getClass", desc := "()Ljava/lang/Class;" } : Jvm.MethodName) ({ cls := "java/lang/Object", name := "getClass", desc := "()Ljava/lang/Class;" } : Jvm.MethodName)) ∈ lw_all := lw_g (lw_at lw_m6 70 rfl) rfl
theorem q1787 : (Jvm.Cond.instantiable "TranslationBureau$Unlike" (2 : Nat)) ∈ lw_all := lw_g (lw_at lw_m7 230 rfl) rfl
theorem q1789 : (Jvm.Cond.instanceMethod ({ cls := "TranslationBureau$Unlike", name := "<init>", desc := "(II)V" } : Jvm.MethodName)) ∈ lw_all := lw_g (lw_at lw_m7 232 rfl) rfl
theorem q1790 : (Jvm.Cond.code ({ cls := "TranslationBureau$Unlike", name := "<init>", desc := "(II)V" } : Jvm.MethodName) prog_24_method_1_code (3 : Nat) (Option.none : Option Jvm.ClassFile.FieldType)) ∈ lw_all := lw_g (lw_at lw_m7 233 rfl) rfl
theorem q1791 : (Jvm.Cond.methodLink "TranslationBureau$Unlike" (1 : Nat) ({ cls := "TranslationBureau$Finding", name := "<init>", desc := "(I)V" } : Jvm.MethodName)) ∈ lw_all := lw_g (lw_at lw_m7 234 rfl) rfl
theorem q1792 : (Jvm.Cond.fieldLink "TranslationBureau$Unlike" (7 : Nat) "TranslationBureau$Unlike" "earlier" "I") ∈ lw_all := lw_g (lw_at lw_m7 235 rfl) rfl
theorem q1794 : (Jvm.Cond.laysFinal "TranslationBureau$Unlike" "TranslationBureau$Unlike" "earlier" "I") ∈ lw_all := lw_g (lw_at lw_m7 237 rfl) rfl
theorem q1795 : (Jvm.Cond.soleField "TranslationBureau$Unlike" "earlier") ∈ lw_all := lw_g (lw_at lw_m7 238 rfl) rfl
theorem q1796 : (Jvm.Cond.laysFinal "TranslationBureau$Unlike" "TranslationBureau$Finding" "segment" "I") ∈ lw_all := lw_g (lw_at lw_m7 239 rfl) rfl
theorem q1797 : (Jvm.Cond.superclass "TranslationBureau$Unlike" "TranslationBureau$Finding") ∈ lw_all := lw_g (lw_at lw_m8 0 rfl) rfl
theorem q2121 : (Jvm.Cond.selects "TranslationBureau$Unlike" ({ cls := "TranslationBureau$Finding", name := "kind", desc := "()I" } : Jvm.MethodName) ({ cls := "TranslationBureau$Unlike", name := "kind", desc := "()I" } : Jvm.MethodName)) ∈ lw_all := lw_g (lw_at lw_m9 84 rfl) rfl
theorem q2122 : (Jvm.Cond.instanceMethod ({ cls := "TranslationBureau$Unlike", name := "kind", desc := "()I" } : Jvm.MethodName)) ∈ lw_all := lw_g (lw_at lw_m9 85 rfl) rfl
theorem q2123 : (Jvm.Cond.code ({ cls := "TranslationBureau$Unlike", name := "kind", desc := "()I" } : Jvm.MethodName) prog_24_method_2_code (1 : Nat) (Option.some Jvm.ClassFile.FieldType.int)) ∈ lw_all := lw_g (lw_at lw_m9 86 rfl) rfl
theorem q2133 : (Jvm.Cond.selects "TranslationBureau$Unlike" ({ cls := "TranslationBureau$Finding", name := "other", desc := "()I" } : Jvm.MethodName) ({ cls := "TranslationBureau$Unlike", name := "other", desc := "()I" } : Jvm.MethodName)) ∈ lw_all := lw_g (lw_at lw_m9 96 rfl) rfl
theorem q2134 : (Jvm.Cond.instanceMethod ({ cls := "TranslationBureau$Unlike", name := "other", desc := "()I" } : Jvm.MethodName)) ∈ lw_all := lw_g (lw_at lw_m9 97 rfl) rfl
theorem q2135 : (Jvm.Cond.code ({ cls := "TranslationBureau$Unlike", name := "other", desc := "()I" } : Jvm.MethodName) prog_24_method_3_code (1 : Nat) (Option.some Jvm.ClassFile.FieldType.int)) ∈ lw_all := lw_g (lw_at lw_m9 98 rfl) rfl
theorem q3104 : (Jvm.Cond.castable "TranslationBureau$Unlike" "TranslationBureau$Finding") ∈ lw_tbl := lw_at lw_m13 107 rfl
theorem q3133 : (Jvm.Cond.castable "TranslationBureau$Unlike" "java/lang/Object") ∈ lw_tbl := lw_at lw_m13 136 rfl
theorem in_X20 : ∀ w ∈ wsX200, w ∈ lw_all := lw_in wsX200 [1796, 1794] (by decide +kernel) (by decide +kernel)

/-! TranslationBureau$Stale -/
set_option maxRecDepth 100000
def RX21 : String := "TranslationBureau$Stale"
def TX21 : u_T := fun k => match k with
  | 0 => ("TranslationBureau$Finding", "segment", "I", true)
  | _ => ("TranslationBureau$Stale", "model", "I", true)
def tyX21 : Nat → FieldType := fun k => match k with
  | 0 => .int
  | _ => .int
abbrev wsX210 : List Cond := u_ws RX21 TX21 2
theorem nmX21 : ∀ a, a < 2 → ∀ b, b < 2 → a ≠ b → (TX21 a).2.1 ≠ (TX21 b).2.1 := by decide +kernel
theorem tyX21_ok : ∀ k, k < 2 → parseFieldDescriptor (TX21 k).2.2.1 = some (tyX21 k) := by decide +kernel
abbrev cX21_init : ByteArray := prog_18_method_1_code
def yX21_init : MethodName := ⟨RX21, "<init>", "(II)V"⟩
def dkwX21_init_0 : List UInt8 := [42, 27, 183, 0, 1, 42, 28, 181, 0, 7, 177]
abbrev dktX21_init_0 : List UInt8 := dkwX21_init_0 ++ []
theorem dksX21_init_0 : cX21_init.data.toList.drop 0 = dktX21_init_0 := by decide +kernel
theorem dX21_init_0 : decode cX21_init 0 = .ok (.aload_n 0, 1) := dk_42 (dk_at dksX21_init_0 0 rfl rfl)
theorem dX21_init_1 : decode cX21_init 1 = .ok (.iload_n 1, 1) := dk_27 (dk_at dksX21_init_0 1 rfl rfl)
theorem dX21_init_2 : decode cX21_init 2 = .ok (.invokespecial 1, 3) := dk_183 0 1 (dk_at dksX21_init_0 2 rfl rfl)
theorem dX21_init_5 : decode cX21_init 5 = .ok (.aload_n 0, 1) := dk_42 (dk_at dksX21_init_0 5 rfl rfl)
theorem dX21_init_6 : decode cX21_init 6 = .ok (.iload_n 2, 1) := dk_28 (dk_at dksX21_init_0 6 rfl rfl)
theorem dX21_init_7 : decode cX21_init 7 = .ok (.putfield 7, 3) := dk_181 0 7 (dk_at dksX21_init_0 7 rfl rfl)
theorem dX21_init_10 : decode cX21_init 10 = .ok (.return_, 1) := dk_177 (dk_at dksX21_init_0 10 rfl rfl)
abbrev cX21_kind : ByteArray := prog_18_method_2_code
def yX21_kind : MethodName := ⟨RX21, "kind", "()I"⟩
theorem dX21_kind_0 : decode cX21_kind 0 = .ok (.iconst 2, 1) := by decide +kernel
theorem dX21_kind_1 : decode cX21_kind 1 = .ok (.ireturn, 1) := by decide +kernel
abbrev cX21_other : ByteArray := prog_18_method_3_code
def yX21_other : MethodName := ⟨RX21, "other", "()I"⟩
theorem dX21_other_0 : decode cX21_other 0 = .ok (.aload_n 0, 1) := by decide +kernel
theorem dX21_other_1 : decode cX21_other 1 = .ok (.getfield 7, 3) := by decide +kernel
theorem dX21_other_4 : decode cX21_other 4 = .ok (.ireturn, 1) := by decide +kernel
theorem q165 : (Jvm.Cond.initialized "TranslationBureau$Stale") ∈ lw_all := lw_g (lw_at lw_m1 48 rfl) rfl
theorem q1315 : (Jvm.Cond.selects "TranslationBureau$Stale" ({ cls := "java/lang/Object", name := "equals", desc := "(Ljava/lang/Object;)Z" } : Jvm.MethodName) ({ cls := "java/lang/Object", name := "equals", desc := "(Ljava/lang/Object;)Z" } : Jvm.MethodName)) ∈ lw_all := lw_g (lw_at lw_m5 238 rfl) rfl
theorem q1383 : (Jvm.Cond.selects "TranslationBureau$Stale" ({ cls := "java/lang/Object", name := "getClass", desc := "()Ljava/lang/Class;" } : Jvm.MethodName) ({ cls := "java/lang/Object", name := "getClass", desc := "()Ljava/lang/Class;" } : Jvm.MethodName)) ∈ lw_all := lw_g (lw_at lw_m6 66 rfl) rfl
theorem q1799 : (Jvm.Cond.instantiable "TranslationBureau$Stale" (2 : Nat)) ∈ lw_all := lw_g (lw_at lw_m8 2 rfl) rfl
theorem q1801 : (Jvm.Cond.instanceMethod ({ cls := "TranslationBureau$Stale", name := "<init>", desc := "(II)V" } : Jvm.MethodName)) ∈ lw_all := lw_g (lw_at lw_m8 4 rfl) rfl
theorem q1802 : (Jvm.Cond.code ({ cls := "TranslationBureau$Stale", name := "<init>", desc := "(II)V" } : Jvm.MethodName) prog_18_method_1_code (3 : Nat) (Option.none : Option Jvm.ClassFile.FieldType)) ∈ lw_all := lw_g (lw_at lw_m8 5 rfl) rfl
theorem q1803 : (Jvm.Cond.methodLink "TranslationBureau$Stale" (1 : Nat) ({ cls := "TranslationBureau$Finding", name := "<init>", desc := "(I)V" } : Jvm.MethodName)) ∈ lw_all := lw_g (lw_at lw_m8 6 rfl) rfl
theorem q1804 : (Jvm.Cond.fieldLink "TranslationBureau$Stale" (7 : Nat) "TranslationBureau$Stale" "model" "I") ∈ lw_all := lw_g (lw_at lw_m8 7 rfl) rfl
theorem q1805 : (Jvm.Cond.laysFinal "TranslationBureau$Stale" "TranslationBureau$Stale" "model" "I") ∈ lw_all := lw_g (lw_at lw_m8 8 rfl) rfl
theorem q1806 : (Jvm.Cond.soleField "TranslationBureau$Stale" "model") ∈ lw_all := lw_g (lw_at lw_m8 9 rfl) rfl
theorem q1807 : (Jvm.Cond.laysFinal "TranslationBureau$Stale" "TranslationBureau$Finding" "segment" "I") ∈ lw_all := lw_g (lw_at lw_m8 10 rfl) rfl
theorem q1808 : (Jvm.Cond.superclass "TranslationBureau$Stale" "TranslationBureau$Finding") ∈ lw_all := lw_g (lw_at lw_m8 11 rfl) rfl
theorem q2118 : (Jvm.Cond.selects "TranslationBureau$Stale" ({ cls := "TranslationBureau$Finding", name := "kind", desc := "()I" } : Jvm.MethodName) ({ cls := "TranslationBureau$Stale", name := "kind", desc := "()I" } : Jvm.MethodName)) ∈ lw_all := lw_g (lw_at lw_m9 81 rfl) rfl
theorem q2119 : (Jvm.Cond.instanceMethod ({ cls := "TranslationBureau$Stale", name := "kind", desc := "()I" } : Jvm.MethodName)) ∈ lw_all := lw_g (lw_at lw_m9 82 rfl) rfl
theorem q2120 : (Jvm.Cond.code ({ cls := "TranslationBureau$Stale", name := "kind", desc := "()I" } : Jvm.MethodName) prog_18_method_2_code (1 : Nat) (Option.some Jvm.ClassFile.FieldType.int)) ∈ lw_all := lw_g (lw_at lw_m9 83 rfl) rfl
theorem q2130 : (Jvm.Cond.selects "TranslationBureau$Stale" ({ cls := "TranslationBureau$Finding", name := "other", desc := "()I" } : Jvm.MethodName) ({ cls := "TranslationBureau$Stale", name := "other", desc := "()I" } : Jvm.MethodName)) ∈ lw_all := lw_g (lw_at lw_m9 93 rfl) rfl
theorem q2131 : (Jvm.Cond.instanceMethod ({ cls := "TranslationBureau$Stale", name := "other", desc := "()I" } : Jvm.MethodName)) ∈ lw_all := lw_g (lw_at lw_m9 94 rfl) rfl
theorem q2132 : (Jvm.Cond.code ({ cls := "TranslationBureau$Stale", name := "other", desc := "()I" } : Jvm.MethodName) prog_18_method_3_code (1 : Nat) (Option.some Jvm.ClassFile.FieldType.int)) ∈ lw_all := lw_g (lw_at lw_m9 95 rfl) rfl
theorem q3103 : (Jvm.Cond.castable "TranslationBureau$Stale" "TranslationBureau$Finding") ∈ lw_tbl := lw_at lw_m13 106 rfl
theorem q3134 : (Jvm.Cond.castable "TranslationBureau$Stale" "java/lang/Object") ∈ lw_tbl := lw_at lw_m13 137 rfl
theorem in_X21 : ∀ w ∈ wsX210, w ∈ lw_all := lw_in wsX210 [1807, 1805] (by decide +kernel) (by decide +kernel)

/-! TranslationBureau$Office$JobSegments -/
set_option maxRecDepth 100000
def RX22 : String := "TranslationBureau$Office$JobSegments"
def TX22 : u_T := fun k => match k with
  | 0 => ("TranslationBureau$Office$JobSegments", "job", "I", true)
  | _ => ("TranslationBureau$Office$JobSegments", "this$0", "LTranslationBureau$Office;", true)
def tyX22 : Nat → FieldType := fun k => match k with
  | 0 => .int
  | _ => .object "TranslationBureau$Office"
abbrev wsX220 : List Cond := u_ws RX22 TX22 2
theorem nmX22 : ∀ a, a < 2 → ∀ b, b < 2 → a ≠ b → (TX22 a).2.1 ≠ (TX22 b).2.1 := by decide +kernel
theorem tyX22_ok : ∀ k, k < 2 → parseFieldDescriptor (TX22 k).2.2.1 = some (tyX22 k) := by decide +kernel
abbrev cX22_init : ByteArray := prog_8_method_1_code
def yX22_init : MethodName := ⟨RX22, "<init>", "(LTranslationBureau$Office;I)V"⟩
def dkwX22_init_0 : List UInt8 := [42, 43, 181, 0, 1, 42, 183, 0, 7, 42, 28, 181, 0, 13, 177]
abbrev dktX22_init_0 : List UInt8 := dkwX22_init_0 ++ []
theorem dksX22_init_0 : cX22_init.data.toList.drop 0 = dktX22_init_0 := by decide +kernel
theorem dX22_init_0 : decode cX22_init 0 = .ok (.aload_n 0, 1) := dk_42 (dk_at dksX22_init_0 0 rfl rfl)
theorem dX22_init_1 : decode cX22_init 1 = .ok (.aload_n 1, 1) := dk_43 (dk_at dksX22_init_0 1 rfl rfl)
theorem dX22_init_2 : decode cX22_init 2 = .ok (.putfield 1, 3) := dk_181 0 1 (dk_at dksX22_init_0 2 rfl rfl)
theorem dX22_init_5 : decode cX22_init 5 = .ok (.aload_n 0, 1) := dk_42 (dk_at dksX22_init_0 5 rfl rfl)
theorem dX22_init_6 : decode cX22_init 6 = .ok (.invokespecial 7, 3) := dk_183 0 7 (dk_at dksX22_init_0 6 rfl rfl)
theorem dX22_init_9 : decode cX22_init 9 = .ok (.aload_n 0, 1) := dk_42 (dk_at dksX22_init_0 9 rfl rfl)
theorem dX22_init_10 : decode cX22_init 10 = .ok (.iload_n 2, 1) := dk_28 (dk_at dksX22_init_0 10 rfl rfl)
theorem dX22_init_11 : decode cX22_init 11 = .ok (.putfield 13, 3) := dk_181 0 13 (dk_at dksX22_init_0 11 rfl rfl)
theorem dX22_init_14 : decode cX22_init 14 = .ok (.return_, 1) := dk_177 (dk_at dksX22_init_0 14 rfl rfl)
abbrev cX22_iterator : ByteArray := prog_8_method_2_code
def yX22_iterator : MethodName := ⟨RX22, "iterator", "()Ljava/util/Iterator;"⟩
def dkwX22_iterator_0 : List UInt8 := [187, 0, 17, 89, 42, 183, 0, 19, 176]
abbrev dktX22_iterator_0 : List UInt8 := dkwX22_iterator_0 ++ []
theorem dksX22_iterator_0 : cX22_iterator.data.toList.drop 0 = dktX22_iterator_0 := by decide +kernel
theorem dX22_iterator_0 : decode cX22_iterator 0 = .ok (.new 17, 3) := dk_187 0 17 (dk_at dksX22_iterator_0 0 rfl rfl)
theorem dX22_iterator_3 : decode cX22_iterator 3 = .ok (.dup, 1) := dk_89 (dk_at dksX22_iterator_0 3 rfl rfl)
theorem dX22_iterator_4 : decode cX22_iterator 4 = .ok (.aload_n 0, 1) := dk_42 (dk_at dksX22_iterator_0 4 rfl rfl)
theorem dX22_iterator_5 : decode cX22_iterator 5 = .ok (.invokespecial 19, 3) := dk_183 0 19 (dk_at dksX22_iterator_0 5 rfl rfl)
theorem dX22_iterator_8 : decode cX22_iterator 8 = .ok (.areturn, 1) := dk_176 (dk_at dksX22_iterator_0 8 rfl rfl)
theorem q168 : (Jvm.Cond.initialized "TranslationBureau$Office$JobSegments") ∈ lw_all := lw_g (lw_at lw_m1 51 rfl) rfl
theorem q377 : (Jvm.Cond.instantiable "TranslationBureau$Office$JobSegments" (2 : Nat)) ∈ lw_all := lw_g (lw_at lw_m2 20 rfl) rfl
theorem q379 : (Jvm.Cond.instanceMethod ({ cls := "TranslationBureau$Office$JobSegments", name := "<init>", desc := "(LTranslationBureau$Office;I)V" } : Jvm.MethodName)) ∈ lw_all := lw_g (lw_at lw_m2 22 rfl) rfl
theorem q380 : (Jvm.Cond.code ({ cls := "TranslationBureau$Office$JobSegments", name := "<init>", desc := "(LTranslationBureau$Office;I)V" } : Jvm.MethodName) prog_8_method_1_code (3 : Nat) (Option.none : Option Jvm.ClassFile.FieldType)) ∈ lw_all := lw_g (lw_at lw_m2 23 rfl) rfl
theorem q381 : (Jvm.Cond.methodLink "TranslationBureau$Office$JobSegments" (7 : Nat) ({ cls := "java/lang/Object", name := "<init>", desc := "()V" } : Jvm.MethodName)) ∈ lw_all := lw_g (lw_at lw_m2 24 rfl) rfl
theorem q382 : (Jvm.Cond.fieldLink "TranslationBureau$Office$JobSegments" (13 : Nat) "TranslationBureau$Office$JobSegments" "job" "I") ∈ lw_all := lw_g (lw_at lw_m2 25 rfl) rfl
theorem q384 : (Jvm.Cond.fieldLink "TranslationBureau$Office$JobSegments" (1 : Nat) "TranslationBureau$Office$JobSegments" "this$0" "LTranslationBureau$Office;") ∈ lw_all := lw_g (lw_at lw_m2 27 rfl) rfl
theorem q386 : (Jvm.Cond.laysFinal "TranslationBureau$Office$JobSegments" "TranslationBureau$Office$JobSegments" "job" "I") ∈ lw_all := lw_g (lw_at lw_m2 29 rfl) rfl
theorem q387 : (Jvm.Cond.soleField "TranslationBureau$Office$JobSegments" "job") ∈ lw_all := lw_g (lw_at lw_m2 30 rfl) rfl
theorem q388 : (Jvm.Cond.laysFinal "TranslationBureau$Office$JobSegments" "TranslationBureau$Office$JobSegments" "this$0" "LTranslationBureau$Office;") ∈ lw_all := lw_g (lw_at lw_m2 31 rfl) rfl
theorem q389 : (Jvm.Cond.soleField "TranslationBureau$Office$JobSegments" "this$0") ∈ lw_all := lw_g (lw_at lw_m2 32 rfl) rfl
theorem q390 : (Jvm.Cond.superclass "TranslationBureau$Office$JobSegments" "java/lang/Object") ∈ lw_all := lw_g (lw_at lw_m2 33 rfl) rfl
theorem q392 : (Jvm.Cond.instanceMethod ({ cls := "TranslationBureau$Office$JobSegments", name := "iterator", desc := "()Ljava/util/Iterator;" } : Jvm.MethodName)) ∈ lw_all := lw_g (lw_at lw_m2 35 rfl) rfl
theorem q393 : (Jvm.Cond.selects "TranslationBureau$Office$JobSegments" ({ cls := "TranslationBureau$Office$JobSegments", name := "iterator", desc := "()Ljava/util/Iterator;" } : Jvm.MethodName) ({ cls := "TranslationBureau$Office$JobSegments", name := "iterator", desc := "()Ljava/util/Iterator;" } : Jvm.MethodName)) ∈ lw_all := lw_g (lw_at lw_m2 36 rfl) rfl
theorem q394 : (Jvm.Cond.code ({ cls := "TranslationBureau$Office$JobSegments", name := "iterator", desc := "()Ljava/util/Iterator;" } : Jvm.MethodName) prog_8_method_2_code (1 : Nat) (Option.some (Jvm.ClassFile.FieldType.object "java/util/Iterator"))) ∈ lw_all := lw_g (lw_at lw_m2 37 rfl) rfl
theorem q395 : (Jvm.Cond.classLink "TranslationBureau$Office$JobSegments" (17 : Nat) "TranslationBureau$Office$JobSegments$1") ∈ lw_all := lw_g (lw_at lw_m2 38 rfl) rfl
theorem q397 : (Jvm.Cond.methodLink "TranslationBureau$Office$JobSegments" (19 : Nat) ({ cls := "TranslationBureau$Office$JobSegments$1", name := "<init>", desc := "(LTranslationBureau$Office$JobSegments;)V" } : Jvm.MethodName)) ∈ lw_all := lw_g (lw_at lw_m2 40 rfl) rfl
theorem q1305 : (Jvm.Cond.selects "TranslationBureau$Office$JobSegments" ({ cls := "java/lang/Object", name := "equals", desc := "(Ljava/lang/Object;)Z" } : Jvm.MethodName) ({ cls := "java/lang/Object", name := "equals", desc := "(Ljava/lang/Object;)Z" } : Jvm.MethodName)) ∈ lw_all := lw_g (lw_at lw_m5 228 rfl) rfl
theorem q1373 : (Jvm.Cond.selects "TranslationBureau$Office$JobSegments" ({ cls := "java/lang/Object", name := "getClass", desc := "()Ljava/lang/Class;" } : Jvm.MethodName) ({ cls := "java/lang/Object", name := "getClass", desc := "()Ljava/lang/Class;" } : Jvm.MethodName)) ∈ lw_all := lw_g (lw_at lw_m6 56 rfl) rfl
theorem q3137 : (Jvm.Cond.castable "TranslationBureau$Office$JobSegments" "java/lang/Object") ∈ lw_tbl := lw_at lw_m13 140 rfl
theorem in_X22 : ∀ w ∈ wsX220, w ∈ lw_all := lw_in wsX220 [386, 388] (by decide +kernel) (by decide +kernel)

/-! TranslationBureau$Office$JobSegments$1 -/
set_option maxRecDepth 100000
def RX23 : String := "TranslationBureau$Office$JobSegments$1"
def TX23 : u_T := fun k => match k with
  | 0 => ("TranslationBureau$Office$JobSegments$1", "next", "I", false)
  | _ => ("TranslationBureau$Office$JobSegments$1", "this$1", "LTranslationBureau$Office$JobSegments;", true)
def tyX23 : Nat → FieldType := fun k => match k with
  | 0 => .int
  | _ => .object "TranslationBureau$Office$JobSegments"
abbrev wsX230 : List Cond := u_ws RX23 TX23 2
theorem nmX23 : ∀ a, a < 2 → ∀ b, b < 2 → a ≠ b → (TX23 a).2.1 ≠ (TX23 b).2.1 := by decide +kernel
theorem tyX23_ok : ∀ k, k < 2 → parseFieldDescriptor (TX23 k).2.2.1 = some (tyX23 k) := by decide +kernel
abbrev cX23_init : ByteArray := prog_9_method_1_code
def yX23_init : MethodName := ⟨RX23, "<init>", "(LTranslationBureau$Office$JobSegments;)V"⟩
def dkwX23_init_0 : List UInt8 := [42, 43, 181, 0, 3, 42, 183, 0, 9, 42, 2, 181, 0, 15, 42, 182, 0, 19, 177]
abbrev dktX23_init_0 : List UInt8 := dkwX23_init_0 ++ []
theorem dksX23_init_0 : cX23_init.data.toList.drop 0 = dktX23_init_0 := by decide +kernel
theorem dX23_init_0 : decode cX23_init 0 = .ok (.aload_n 0, 1) := dk_42 (dk_at dksX23_init_0 0 rfl rfl)
theorem dX23_init_1 : decode cX23_init 1 = .ok (.aload_n 1, 1) := dk_43 (dk_at dksX23_init_0 1 rfl rfl)
theorem dX23_init_2 : decode cX23_init 2 = .ok (.putfield 3, 3) := dk_181 0 3 (dk_at dksX23_init_0 2 rfl rfl)
theorem dX23_init_5 : decode cX23_init 5 = .ok (.aload_n 0, 1) := dk_42 (dk_at dksX23_init_0 5 rfl rfl)
theorem dX23_init_6 : decode cX23_init 6 = .ok (.invokespecial 9, 3) := dk_183 0 9 (dk_at dksX23_init_0 6 rfl rfl)
theorem dX23_init_9 : decode cX23_init 9 = .ok (.aload_n 0, 1) := dk_42 (dk_at dksX23_init_0 9 rfl rfl)
theorem dX23_init_10 : decode cX23_init 10 = .ok (.iconst (-1), 1) := dk_2 (dk_at dksX23_init_0 10 rfl rfl)
theorem dX23_init_11 : decode cX23_init 11 = .ok (.putfield 15, 3) := dk_181 0 15 (dk_at dksX23_init_0 11 rfl rfl)
theorem dX23_init_14 : decode cX23_init 14 = .ok (.aload_n 0, 1) := dk_42 (dk_at dksX23_init_0 14 rfl rfl)
theorem dX23_init_15 : decode cX23_init 15 = .ok (.invokevirtual 19, 3) := dk_182 0 19 (dk_at dksX23_init_0 15 rfl rfl)
theorem dX23_init_18 : decode cX23_init 18 = .ok (.return_, 1) := dk_177 (dk_at dksX23_init_0 18 rfl rfl)
abbrev cX23_goesOn : ByteArray := prog_9_method_2_code
def yX23_goesOn : MethodName := ⟨RX23, "goesOn", "()V"⟩
def dkwX23_goesOn_2 : List UInt8 := [185, 0, 40, 2, 0, 192, 0, 44, 180, 0, 46, 42, 180, 0, 3, 180, 0, 49, 160, 255, 192, 177]
abbrev dktX23_goesOn_2 : List UInt8 := dkwX23_goesOn_2 ++ []
def dkwX23_goesOn_1 : List UInt8 := [185, 0, 34, 1, 0, 162, 0, 38, 42, 180, 0, 3, 180, 0, 22, 180, 0, 28, 42, 180, 0, 15]
abbrev dktX23_goesOn_1 : List UInt8 := dkwX23_goesOn_1 ++ dktX23_goesOn_2
def dkwX23_goesOn_0 : List UInt8 := [42, 89, 180, 0, 15, 4, 96, 181, 0, 15, 42, 180, 0, 15, 42, 180, 0, 3, 180, 0, 22, 180, 0, 28]
abbrev dktX23_goesOn_0 : List UInt8 := dkwX23_goesOn_0 ++ dktX23_goesOn_1
theorem dksX23_goesOn_0 : cX23_goesOn.data.toList.drop 0 = dktX23_goesOn_0 := by decide +kernel
theorem dksX23_goesOn_1 : cX23_goesOn.data.toList.drop 24 = dktX23_goesOn_1 := dk_seg dksX23_goesOn_0 24 rfl rfl
theorem dksX23_goesOn_2 : cX23_goesOn.data.toList.drop 46 = dktX23_goesOn_2 := dk_seg dksX23_goesOn_1 22 rfl rfl
theorem dX23_goesOn_0 : decode cX23_goesOn 0 = .ok (.aload_n 0, 1) := dk_42 (dk_at dksX23_goesOn_0 0 rfl rfl)
theorem dX23_goesOn_1 : decode cX23_goesOn 1 = .ok (.dup, 1) := dk_89 (dk_at dksX23_goesOn_0 1 rfl rfl)
theorem dX23_goesOn_2 : decode cX23_goesOn 2 = .ok (.getfield 15, 3) := dk_180 0 15 (dk_at dksX23_goesOn_0 2 rfl rfl)
theorem dX23_goesOn_5 : decode cX23_goesOn 5 = .ok (.iconst 1, 1) := dk_4 (dk_at dksX23_goesOn_0 5 rfl rfl)
theorem dX23_goesOn_6 : decode cX23_goesOn 6 = .ok (.iadd, 1) := dk_96 (dk_at dksX23_goesOn_0 6 rfl rfl)
theorem dX23_goesOn_7 : decode cX23_goesOn 7 = .ok (.putfield 15, 3) := dk_181 0 15 (dk_at dksX23_goesOn_0 7 rfl rfl)
theorem dX23_goesOn_10 : decode cX23_goesOn 10 = .ok (.aload_n 0, 1) := dk_42 (dk_at dksX23_goesOn_0 10 rfl rfl)
theorem dX23_goesOn_11 : decode cX23_goesOn 11 = .ok (.getfield 15, 3) := dk_180 0 15 (dk_at dksX23_goesOn_0 11 rfl rfl)
theorem dX23_goesOn_14 : decode cX23_goesOn 14 = .ok (.aload_n 0, 1) := dk_42 (dk_at dksX23_goesOn_0 14 rfl rfl)
theorem dX23_goesOn_15 : decode cX23_goesOn 15 = .ok (.getfield 3, 3) := dk_180 0 3 (dk_at dksX23_goesOn_0 15 rfl rfl)
theorem dX23_goesOn_18 : decode cX23_goesOn 18 = .ok (.getfield 22, 3) := dk_180 0 22 (dk_at dksX23_goesOn_0 18 rfl rfl)
theorem dX23_goesOn_21 : decode cX23_goesOn 21 = .ok (.getfield 28, 3) := dk_180 0 28 (dk_at dksX23_goesOn_0 21 rfl rfl)
theorem dX23_goesOn_24 : decode cX23_goesOn 24 = .ok (.invokeinterface 34 1, 5) := by decide +kernel
theorem dX23_goesOn_29 : decode cX23_goesOn 29 = .ok (.if_icmp .ge 38, 3) := dk_162 0 38 (dk_at dksX23_goesOn_1 5 rfl rfl)
theorem dX23_goesOn_32 : decode cX23_goesOn 32 = .ok (.aload_n 0, 1) := dk_42 (dk_at dksX23_goesOn_1 8 rfl rfl)
theorem dX23_goesOn_33 : decode cX23_goesOn 33 = .ok (.getfield 3, 3) := dk_180 0 3 (dk_at dksX23_goesOn_1 9 rfl rfl)
theorem dX23_goesOn_36 : decode cX23_goesOn 36 = .ok (.getfield 22, 3) := dk_180 0 22 (dk_at dksX23_goesOn_1 12 rfl rfl)
theorem dX23_goesOn_39 : decode cX23_goesOn 39 = .ok (.getfield 28, 3) := dk_180 0 28 (dk_at dksX23_goesOn_1 15 rfl rfl)
theorem dX23_goesOn_42 : decode cX23_goesOn 42 = .ok (.aload_n 0, 1) := dk_42 (dk_at dksX23_goesOn_1 18 rfl rfl)
theorem dX23_goesOn_43 : decode cX23_goesOn 43 = .ok (.getfield 15, 3) := dk_180 0 15 (dk_at dksX23_goesOn_1 19 rfl rfl)
theorem dX23_goesOn_46 : decode cX23_goesOn 46 = .ok (.invokeinterface 40 2, 5) := by decide +kernel
theorem dX23_goesOn_51 : decode cX23_goesOn 51 = .ok (.checkcast 44, 3) := dk_192 0 44 (dk_at dksX23_goesOn_2 5 rfl rfl)
theorem dX23_goesOn_54 : decode cX23_goesOn 54 = .ok (.getfield 46, 3) := dk_180 0 46 (dk_at dksX23_goesOn_2 8 rfl rfl)
theorem dX23_goesOn_57 : decode cX23_goesOn 57 = .ok (.aload_n 0, 1) := dk_42 (dk_at dksX23_goesOn_2 11 rfl rfl)
theorem dX23_goesOn_58 : decode cX23_goesOn 58 = .ok (.getfield 3, 3) := dk_180 0 3 (dk_at dksX23_goesOn_2 12 rfl rfl)
theorem dX23_goesOn_61 : decode cX23_goesOn 61 = .ok (.getfield 49, 3) := dk_180 0 49 (dk_at dksX23_goesOn_2 15 rfl rfl)
theorem dX23_goesOn_64 : decode cX23_goesOn 64 = .ok (.if_icmp .ne (-64), 3) := dk_160 255 192 (dk_at dksX23_goesOn_2 18 rfl rfl)
theorem dX23_goesOn_67 : decode cX23_goesOn 67 = .ok (.return_, 1) := dk_177 (dk_at dksX23_goesOn_2 21 rfl rfl)
abbrev cX23_hasNext : ByteArray := prog_9_method_3_code
def yX23_hasNext : MethodName := ⟨RX23, "hasNext", "()Z"⟩
def dkwX23_hasNext_1 : List UInt8 := [167, 0, 4, 3, 172]
abbrev dktX23_hasNext_1 : List UInt8 := dkwX23_hasNext_1 ++ []
def dkwX23_hasNext_0 : List UInt8 := [42, 180, 0, 15, 42, 180, 0, 3, 180, 0, 22, 180, 0, 28, 185, 0, 34, 1, 0, 162, 0, 7, 4]
abbrev dktX23_hasNext_0 : List UInt8 := dkwX23_hasNext_0 ++ dktX23_hasNext_1
theorem dksX23_hasNext_0 : cX23_hasNext.data.toList.drop 0 = dktX23_hasNext_0 := by decide +kernel
theorem dksX23_hasNext_1 : cX23_hasNext.data.toList.drop 23 = dktX23_hasNext_1 := dk_seg dksX23_hasNext_0 23 rfl rfl
theorem dX23_hasNext_0 : decode cX23_hasNext 0 = .ok (.aload_n 0, 1) := dk_42 (dk_at dksX23_hasNext_0 0 rfl rfl)
theorem dX23_hasNext_1 : decode cX23_hasNext 1 = .ok (.getfield 15, 3) := dk_180 0 15 (dk_at dksX23_hasNext_0 1 rfl rfl)
theorem dX23_hasNext_4 : decode cX23_hasNext 4 = .ok (.aload_n 0, 1) := dk_42 (dk_at dksX23_hasNext_0 4 rfl rfl)
theorem dX23_hasNext_5 : decode cX23_hasNext 5 = .ok (.getfield 3, 3) := dk_180 0 3 (dk_at dksX23_hasNext_0 5 rfl rfl)
theorem dX23_hasNext_8 : decode cX23_hasNext 8 = .ok (.getfield 22, 3) := dk_180 0 22 (dk_at dksX23_hasNext_0 8 rfl rfl)
theorem dX23_hasNext_11 : decode cX23_hasNext 11 = .ok (.getfield 28, 3) := dk_180 0 28 (dk_at dksX23_hasNext_0 11 rfl rfl)
theorem dX23_hasNext_14 : decode cX23_hasNext 14 = .ok (.invokeinterface 34 1, 5) := by decide +kernel
theorem dX23_hasNext_19 : decode cX23_hasNext 19 = .ok (.if_icmp .ge 7, 3) := dk_162 0 7 (dk_at dksX23_hasNext_0 19 rfl rfl)
theorem dX23_hasNext_22 : decode cX23_hasNext 22 = .ok (.iconst 1, 1) := dk_4 (dk_at dksX23_hasNext_0 22 rfl rfl)
theorem dX23_hasNext_23 : decode cX23_hasNext 23 = .ok (.goto 4, 3) := dk_167 0 4 (dk_at dksX23_hasNext_1 0 rfl rfl)
theorem dX23_hasNext_26 : decode cX23_hasNext 26 = .ok (.iconst 0, 1) := dk_3 (dk_at dksX23_hasNext_1 3 rfl rfl)
theorem dX23_hasNext_27 : decode cX23_hasNext 27 = .ok (.ireturn, 1) := dk_172 (dk_at dksX23_hasNext_1 4 rfl rfl)
abbrev cX23_next : ByteArray := prog_9_method_5_code
def yX23_next : MethodName := ⟨RX23, "next", "()Ljava/lang/Object;"⟩
theorem dX23_next_0 : decode cX23_next 0 = .ok (.aload_n 0, 1) := by decide +kernel
theorem dX23_next_1 : decode cX23_next 1 = .ok (.invokevirtual 64, 3) := by decide +kernel
theorem dX23_next_4 : decode cX23_next 4 = .ok (.areturn, 1) := by decide +kernel
abbrev cX23_next_2 : ByteArray := prog_9_method_4_code
def yX23_next_2 : MethodName := ⟨RX23, "next", "()Ljava/lang/Integer;"⟩
def dkwX23_next_2_0 : List UInt8 := [42, 182, 0, 50, 184, 0, 54, 42, 180, 0, 15, 60, 42, 182, 0, 19, 27, 184, 0, 58, 176]
abbrev dktX23_next_2_0 : List UInt8 := dkwX23_next_2_0 ++ []
theorem dksX23_next_2_0 : cX23_next_2.data.toList.drop 0 = dktX23_next_2_0 := by decide +kernel
theorem dX23_next_2_0 : decode cX23_next_2 0 = .ok (.aload_n 0, 1) := dk_42 (dk_at dksX23_next_2_0 0 rfl rfl)
theorem dX23_next_2_1 : decode cX23_next_2 1 = .ok (.invokevirtual 50, 3) := dk_182 0 50 (dk_at dksX23_next_2_0 1 rfl rfl)
theorem dX23_next_2_4 : decode cX23_next_2 4 = .ok (.invokestatic 54, 3) := dk_184 0 54 (dk_at dksX23_next_2_0 4 rfl rfl)
theorem dX23_next_2_7 : decode cX23_next_2 7 = .ok (.aload_n 0, 1) := dk_42 (dk_at dksX23_next_2_0 7 rfl rfl)
theorem dX23_next_2_8 : decode cX23_next_2 8 = .ok (.getfield 15, 3) := dk_180 0 15 (dk_at dksX23_next_2_0 8 rfl rfl)
theorem dX23_next_2_11 : decode cX23_next_2 11 = .ok (.istore_n 1, 1) := dk_60 (dk_at dksX23_next_2_0 11 rfl rfl)
theorem dX23_next_2_12 : decode cX23_next_2 12 = .ok (.aload_n 0, 1) := dk_42 (dk_at dksX23_next_2_0 12 rfl rfl)
theorem dX23_next_2_13 : decode cX23_next_2 13 = .ok (.invokevirtual 19, 3) := dk_182 0 19 (dk_at dksX23_next_2_0 13 rfl rfl)
theorem dX23_next_2_16 : decode cX23_next_2 16 = .ok (.iload_n 1, 1) := dk_27 (dk_at dksX23_next_2_0 16 rfl rfl)
theorem dX23_next_2_17 : decode cX23_next_2 17 = .ok (.invokestatic 58, 3) := dk_184 0 58 (dk_at dksX23_next_2_0 17 rfl rfl)
theorem dX23_next_2_20 : decode cX23_next_2 20 = .ok (.areturn, 1) := dk_176 (dk_at dksX23_next_2_0 20 rfl rfl)
theorem q169 : (Jvm.Cond.initialized "TranslationBureau$Office$JobSegments$1") ∈ lw_all := lw_g (lw_at lw_m1 52 rfl) rfl
theorem q228 : (Jvm.Cond.fieldLinkNest "TranslationBureau$Office$JobSegments$1" (28 : Nat) "TranslationBureau$Office" "segments" "Ljava/util/List;" "TranslationBureau") ∈ lw_tbl := lw_at lw_m1 111 rfl
theorem q383 : (Jvm.Cond.fieldLinkNest "TranslationBureau$Office$JobSegments$1" (49 : Nat) "TranslationBureau$Office$JobSegments" "job" "I" "TranslationBureau") ∈ lw_tbl := lw_at lw_m2 26 rfl
theorem q385 : (Jvm.Cond.fieldLink "TranslationBureau$Office$JobSegments$1" (22 : Nat) "TranslationBureau$Office$JobSegments" "this$0" "LTranslationBureau$Office;") ∈ lw_all := lw_g (lw_at lw_m2 28 rfl) rfl
theorem q396 : (Jvm.Cond.instantiable "TranslationBureau$Office$JobSegments$1" (2 : Nat)) ∈ lw_all := lw_g (lw_at lw_m2 39 rfl) rfl
theorem q398 : (Jvm.Cond.instanceMethod ({ cls := "TranslationBureau$Office$JobSegments$1", name := "<init>", desc := "(LTranslationBureau$Office$JobSegments;)V" } : Jvm.MethodName)) ∈ lw_all := lw_g (lw_at lw_m2 41 rfl) rfl
theorem q399 : (Jvm.Cond.code ({ cls := "TranslationBureau$Office$JobSegments$1", name := "<init>", desc := "(LTranslationBureau$Office$JobSegments;)V" } : Jvm.MethodName) prog_9_method_1_code (2 : Nat) (Option.none : Option Jvm.ClassFile.FieldType)) ∈ lw_all := lw_g (lw_at lw_m2 42 rfl) rfl
theorem q400 : (Jvm.Cond.methodLink "TranslationBureau$Office$JobSegments$1" (9 : Nat) ({ cls := "java/lang/Object", name := "<init>", desc := "()V" } : Jvm.MethodName)) ∈ lw_all := lw_g (lw_at lw_m2 43 rfl) rfl
theorem q401 : (Jvm.Cond.methodLink "TranslationBureau$Office$JobSegments$1" (19 : Nat) ({ cls := "TranslationBureau$Office$JobSegments$1", name := "goesOn", desc := "()V" } : Jvm.MethodName)) ∈ lw_all := lw_g (lw_at lw_m2 44 rfl) rfl
theorem q402 : (Jvm.Cond.privateMethod ({ cls := "TranslationBureau$Office$JobSegments$1", name := "goesOn", desc := "()V" } : Jvm.MethodName)) ∈ lw_tbl := lw_at lw_m2 45 rfl
theorem q403 : (Jvm.Cond.instanceMethod ({ cls := "TranslationBureau$Office$JobSegments$1", name := "goesOn", desc := "()V" } : Jvm.MethodName)) ∈ lw_all := lw_g (lw_at lw_m2 46 rfl) rfl
theorem q404 : (Jvm.Cond.code ({ cls := "TranslationBureau$Office$JobSegments$1", name := "goesOn", desc := "()V" } : Jvm.MethodName) prog_9_method_2_code (1 : Nat) (Option.none : Option Jvm.ClassFile.FieldType)) ∈ lw_all := lw_g (lw_at lw_m2 47 rfl) rfl
theorem q405 : (Jvm.Cond.interfaceEntry "TranslationBureau$Office$JobSegments$1" (34 : Nat)) ∈ lw_tbl := lw_at lw_m2 48 rfl
theorem q406 : (Jvm.Cond.methodLink "TranslationBureau$Office$JobSegments$1" (34 : Nat) ({ cls := "java/util/List", name := "size", desc := "()I" } : Jvm.MethodName)) ∈ lw_all := lw_g (lw_at lw_m2 49 rfl) rfl
theorem q407 : (Jvm.Cond.interfaceEntry "TranslationBureau$Office$JobSegments$1" (40 : Nat)) ∈ lw_tbl := lw_at lw_m2 50 rfl
theorem q408 : (Jvm.Cond.methodLink "TranslationBureau$Office$JobSegments$1" (40 : Nat) ({ cls := "java/util/List", name := "get", desc := "(I)Ljava/lang/Object;" } : Jvm.MethodName)) ∈ lw_all := lw_g (lw_at lw_m2 51 rfl) rfl
theorem q426 : (Jvm.Cond.classLink "TranslationBureau$Office$JobSegments$1" (44 : Nat) "TranslationBureau$Segment") ∈ lw_all := lw_g (lw_at lw_m2 69 rfl) rfl
theorem q427 : (Jvm.Cond.fieldLink "TranslationBureau$Office$JobSegments$1" (15 : Nat) "TranslationBureau$Office$JobSegments$1" "next" "I") ∈ lw_all := lw_g (lw_at lw_m2 70 rfl) rfl
theorem q428 : (Jvm.Cond.fieldLink "TranslationBureau$Office$JobSegments$1" (3 : Nat) "TranslationBureau$Office$JobSegments$1" "this$1" "LTranslationBureau$Office$JobSegments;") ∈ lw_all := lw_g (lw_at lw_m2 71 rfl) rfl
theorem q429 : (Jvm.Cond.lays "TranslationBureau$Office$JobSegments$1" "TranslationBureau$Office$JobSegments$1" "next" "I") ∈ lw_all := lw_g (lw_at lw_m2 72 rfl) rfl
theorem q430 : (Jvm.Cond.soleField "TranslationBureau$Office$JobSegments$1" "next") ∈ lw_all := lw_g (lw_at lw_m2 73 rfl) rfl
theorem q431 : (Jvm.Cond.laysFinal "TranslationBureau$Office$JobSegments$1" "TranslationBureau$Office$JobSegments$1" "this$1" "LTranslationBureau$Office$JobSegments;") ∈ lw_all := lw_g (lw_at lw_m2 74 rfl) rfl
theorem q432 : (Jvm.Cond.soleField "TranslationBureau$Office$JobSegments$1" "this$1") ∈ lw_all := lw_g (lw_at lw_m2 75 rfl) rfl
theorem q433 : (Jvm.Cond.superclass "TranslationBureau$Office$JobSegments$1" "java/lang/Object") ∈ lw_all := lw_g (lw_at lw_m2 76 rfl) rfl
theorem q438 : (Jvm.Cond.castable "TranslationBureau$Office$JobSegments$1" "java/util/Iterator") ∈ lw_tbl := lw_at lw_m2 81 rfl
theorem q439 : (Jvm.Cond.selects "TranslationBureau$Office$JobSegments$1" ({ cls := "java/util/Iterator", name := "hasNext", desc := "()Z" } : Jvm.MethodName) ({ cls := "TranslationBureau$Office$JobSegments$1", name := "hasNext", desc := "()Z" } : Jvm.MethodName)) ∈ lw_all := lw_g (lw_at lw_m2 82 rfl) rfl
theorem q440 : (Jvm.Cond.unhidden "TranslationBureau$Office$JobSegments$1" "hasNext" "()Z") ∈ lw_tbl := lw_at lw_m2 83 rfl
theorem q441 : (Jvm.Cond.instanceMethod ({ cls := "TranslationBureau$Office$JobSegments$1", name := "hasNext", desc := "()Z" } : Jvm.MethodName)) ∈ lw_all := lw_g (lw_at lw_m2 84 rfl) rfl
theorem q442 : (Jvm.Cond.publicMethod ({ cls := "TranslationBureau$Office$JobSegments$1", name := "hasNext", desc := "()Z" } : Jvm.MethodName)) ∈ lw_tbl := lw_at lw_m2 85 rfl
theorem q443 : (Jvm.Cond.code ({ cls := "TranslationBureau$Office$JobSegments$1", name := "hasNext", desc := "()Z" } : Jvm.MethodName) prog_9_method_3_code (1 : Nat) (Option.some Jvm.ClassFile.FieldType.boolean)) ∈ lw_all := lw_g (lw_at lw_m2 86 rfl) rfl
theorem q454 : (Jvm.Cond.selects "TranslationBureau$Office$JobSegments$1" ({ cls := "java/util/Iterator", name := "next", desc := "()Ljava/lang/Object;" } : Jvm.MethodName) ({ cls := "TranslationBureau$Office$JobSegments$1", name := "next", desc := "()Ljava/lang/Object;" } : Jvm.MethodName)) ∈ lw_all := lw_g (lw_at lw_m2 97 rfl) rfl
theorem q455 : (Jvm.Cond.unhidden "TranslationBureau$Office$JobSegments$1" "next" "()Ljava/lang/Object;") ∈ lw_tbl := lw_at lw_m2 98 rfl
theorem q456 : (Jvm.Cond.instanceMethod ({ cls := "TranslationBureau$Office$JobSegments$1", name := "next", desc := "()Ljava/lang/Object;" } : Jvm.MethodName)) ∈ lw_all := lw_g (lw_at lw_m2 99 rfl) rfl
theorem q457 : (Jvm.Cond.publicMethod ({ cls := "TranslationBureau$Office$JobSegments$1", name := "next", desc := "()Ljava/lang/Object;" } : Jvm.MethodName)) ∈ lw_tbl := lw_at lw_m2 100 rfl
theorem q458 : (Jvm.Cond.code ({ cls := "TranslationBureau$Office$JobSegments$1", name := "next", desc := "()Ljava/lang/Object;" } : Jvm.MethodName) prog_9_method_5_code (1 : Nat) (Option.some (Jvm.ClassFile.FieldType.object "java/lang/Object"))) ∈ lw_all := lw_g (lw_at lw_m2 101 rfl) rfl
theorem q459 : (Jvm.Cond.methodLink "TranslationBureau$Office$JobSegments$1" (64 : Nat) ({ cls := "TranslationBureau$Office$JobSegments$1", name := "next", desc := "()Ljava/lang/Integer;" } : Jvm.MethodName)) ∈ lw_all := lw_g (lw_at lw_m2 102 rfl) rfl
theorem q460 : (Jvm.Cond.instanceMethod ({ cls := "TranslationBureau$Office$JobSegments$1", name := "next", desc := "()Ljava/lang/Integer;" } : Jvm.MethodName)) ∈ lw_all := lw_g (lw_at lw_m2 103 rfl) rfl
theorem q461 : (Jvm.Cond.selects "TranslationBureau$Office$JobSegments$1" ({ cls := "TranslationBureau$Office$JobSegments$1", name := "next", desc := "()Ljava/lang/Integer;" } : Jvm.MethodName) ({ cls := "TranslationBureau$Office$JobSegments$1", name := "next", desc := "()Ljava/lang/Integer;" } : Jvm.MethodName)) ∈ lw_all := lw_g (lw_at lw_m2 104 rfl) rfl
theorem q462 : (Jvm.Cond.code ({ cls := "TranslationBureau$Office$JobSegments$1", name := "next", desc := "()Ljava/lang/Integer;" } : Jvm.MethodName) prog_9_method_4_code (2 : Nat) (Option.some (Jvm.ClassFile.FieldType.object "java/lang/Integer"))) ∈ lw_all := lw_g (lw_at lw_m2 105 rfl) rfl
theorem q463 : (Jvm.Cond.methodLink "TranslationBureau$Office$JobSegments$1" (50 : Nat) ({ cls := "TranslationBureau$Office$JobSegments$1", name := "hasNext", desc := "()Z" } : Jvm.MethodName)) ∈ lw_all := lw_g (lw_at lw_m2 106 rfl) rfl
theorem q464 : (Jvm.Cond.methodLinkNest "TranslationBureau$Office$JobSegments$1" (54 : Nat) ({ cls := "TranslationBureau", name := "requireThing", desc := "(Z)V" } : Jvm.MethodName) "TranslationBureau") ∈ lw_tbl := lw_at lw_m2 107 rfl
theorem q536 : (Jvm.Cond.methodLink "TranslationBureau$Office$JobSegments$1" (58 : Nat) ({ cls := "java/lang/Integer", name := "valueOf", desc := "(I)Ljava/lang/Integer;" } : Jvm.MethodName)) ∈ lw_all := lw_g (lw_at lw_m2 179 rfl) rfl
theorem q1306 : (Jvm.Cond.selects "TranslationBureau$Office$JobSegments$1" ({ cls := "java/lang/Object", name := "equals", desc := "(Ljava/lang/Object;)Z" } : Jvm.MethodName) ({ cls := "java/lang/Object", name := "equals", desc := "(Ljava/lang/Object;)Z" } : Jvm.MethodName)) ∈ lw_all := lw_g (lw_at lw_m5 229 rfl) rfl
theorem q1374 : (Jvm.Cond.selects "TranslationBureau$Office$JobSegments$1" ({ cls := "java/lang/Object", name := "getClass", desc := "()Ljava/lang/Class;" } : Jvm.MethodName) ({ cls := "java/lang/Object", name := "getClass", desc := "()Ljava/lang/Class;" } : Jvm.MethodName)) ∈ lw_all := lw_g (lw_at lw_m6 57 rfl) rfl
theorem q1516 : (Jvm.Cond.fieldLinkNest "TranslationBureau$Office$JobSegments$1" (46 : Nat) "TranslationBureau$Segment" "job" "I" "TranslationBureau") ∈ lw_tbl := lw_at lw_m6 199 rfl
theorem q3085 : (Jvm.Cond.selects "TranslationBureau$Office$JobSegments$1" ({ cls := "TranslationBureau$Office$JobSegments$1", name := "hasNext", desc := "()Z" } : Jvm.MethodName) ({ cls := "TranslationBureau$Office$JobSegments$1", name := "hasNext", desc := "()Z" } : Jvm.MethodName)) ∈ lw_all := lw_g (lw_at lw_m13 88 rfl) rfl
theorem q3138 : (Jvm.Cond.castable "TranslationBureau$Office$JobSegments$1" "java/lang/Object") ∈ lw_tbl := lw_at lw_m13 141 rfl
theorem in_X23 : ∀ w ∈ wsX230, w ∈ lw_all := lw_in wsX230 [429, 431] (by decide +kernel) (by decide +kernel)

/-! TranslationBureau$Parser -/
set_option maxRecDepth 100000
def RX4 : String := "TranslationBureau$Parser"
def TX4 : u_T := fun k => match k with
  | 0 => ("TranslationBureau$Parser", "tokens", "LTranslationBureau$Tokens;", true)
  | 1 => ("TranslationBureau$Parser", "read", "LTranslationBureau$Office;", true)
  | _ => ("TranslationBureau$Parser", "this$0", "LTranslationBureau;", true)
def tyX4 : Nat → FieldType := fun k => match k with
  | 0 => .object "TranslationBureau$Tokens"
  | 1 => .object "TranslationBureau$Office"
  | _ => .object "TranslationBureau"
abbrev wsX40 : List Cond := u_ws RX4 TX4 3
theorem nmX4 : ∀ a, a < 3 → ∀ b, b < 3 → a ≠ b → (TX4 a).2.1 ≠ (TX4 b).2.1 := by decide +kernel
theorem tyX4_ok : ∀ k, k < 3 → parseFieldDescriptor (TX4 k).2.2.1 = some (tyX4 k) := by decide +kernel
abbrev cX4_init : ByteArray := prog_10_method_1_code
def yX4_init : MethodName := ⟨RX4, "<init>", "(LTranslationBureau;ILTranslationBureau$Office;)V"⟩
def dkwX4_init_1 : List UInt8 := [181, 0, 24, 177]
abbrev dktX4_init_1 : List UInt8 := dkwX4_init_1 ++ []
def dkwX4_init_0 : List UInt8 := [42, 43, 181, 0, 3, 42, 183, 0, 9, 42, 187, 0, 15, 89, 43, 28, 183, 0, 17, 181, 0, 20, 42, 45]
abbrev dktX4_init_0 : List UInt8 := dkwX4_init_0 ++ dktX4_init_1
theorem dksX4_init_0 : cX4_init.data.toList.drop 0 = dktX4_init_0 := by decide +kernel
theorem dksX4_init_1 : cX4_init.data.toList.drop 24 = dktX4_init_1 := dk_seg dksX4_init_0 24 rfl rfl
theorem dX4_init_0 : decode cX4_init 0 = .ok (.aload_n 0, 1) := dk_42 (dk_at dksX4_init_0 0 rfl rfl)
theorem dX4_init_1 : decode cX4_init 1 = .ok (.aload_n 1, 1) := dk_43 (dk_at dksX4_init_0 1 rfl rfl)
theorem dX4_init_2 : decode cX4_init 2 = .ok (.putfield 3, 3) := dk_181 0 3 (dk_at dksX4_init_0 2 rfl rfl)
theorem dX4_init_5 : decode cX4_init 5 = .ok (.aload_n 0, 1) := dk_42 (dk_at dksX4_init_0 5 rfl rfl)
theorem dX4_init_6 : decode cX4_init 6 = .ok (.invokespecial 9, 3) := dk_183 0 9 (dk_at dksX4_init_0 6 rfl rfl)
theorem dX4_init_9 : decode cX4_init 9 = .ok (.aload_n 0, 1) := dk_42 (dk_at dksX4_init_0 9 rfl rfl)
theorem dX4_init_10 : decode cX4_init 10 = .ok (.new 15, 3) := dk_187 0 15 (dk_at dksX4_init_0 10 rfl rfl)
theorem dX4_init_13 : decode cX4_init 13 = .ok (.dup, 1) := dk_89 (dk_at dksX4_init_0 13 rfl rfl)
theorem dX4_init_14 : decode cX4_init 14 = .ok (.aload_n 1, 1) := dk_43 (dk_at dksX4_init_0 14 rfl rfl)
theorem dX4_init_15 : decode cX4_init 15 = .ok (.iload_n 2, 1) := dk_28 (dk_at dksX4_init_0 15 rfl rfl)
theorem dX4_init_16 : decode cX4_init 16 = .ok (.invokespecial 17, 3) := dk_183 0 17 (dk_at dksX4_init_0 16 rfl rfl)
theorem dX4_init_19 : decode cX4_init 19 = .ok (.putfield 20, 3) := dk_181 0 20 (dk_at dksX4_init_0 19 rfl rfl)
theorem dX4_init_22 : decode cX4_init 22 = .ok (.aload_n 0, 1) := dk_42 (dk_at dksX4_init_0 22 rfl rfl)
theorem dX4_init_23 : decode cX4_init 23 = .ok (.aload_n 3, 1) := dk_45 (dk_at dksX4_init_0 23 rfl rfl)
theorem dX4_init_24 : decode cX4_init 24 = .ok (.putfield 24, 3) := dk_181 0 24 (dk_at dksX4_init_1 0 rfl rfl)
theorem dX4_init_27 : decode cX4_init 27 = .ok (.return_, 1) := dk_177 (dk_at dksX4_init_1 3 rfl rfl)
abbrev cX4_parse : ByteArray := prog_10_method_2_code
def yX4_parse : MethodName := ⟨RX4, "parse", "()LTranslationBureau$Office;"⟩
def dkwX4_parse_2 : List UInt8 := [182, 0, 52, 167, 255, 206, 42, 180, 0, 24, 176]
abbrev dktX4_parse_2 : List UInt8 := dkwX4_parse_2 ++ []
def dkwX4_parse_1 : List UInt8 := [198, 0, 7, 4, 167, 0, 4, 3, 182, 0, 41, 43, 185, 0, 45, 1, 0, 42, 180, 0, 20, 178, 0, 49]
abbrev dktX4_parse_1 : List UInt8 := dkwX4_parse_1 ++ dktX4_parse_2
def dkwX4_parse_0 : List UInt8 := [42, 180, 0, 20, 180, 0, 28, 178, 0, 32, 165, 0, 43, 42, 182, 0, 37, 76, 42, 180, 0, 20, 43]
abbrev dktX4_parse_0 : List UInt8 := dkwX4_parse_0 ++ dktX4_parse_1
theorem dksX4_parse_0 : cX4_parse.data.toList.drop 0 = dktX4_parse_0 := by decide +kernel
theorem dksX4_parse_1 : cX4_parse.data.toList.drop 23 = dktX4_parse_1 := dk_seg dksX4_parse_0 23 rfl rfl
theorem dksX4_parse_2 : cX4_parse.data.toList.drop 47 = dktX4_parse_2 := dk_seg dksX4_parse_1 24 rfl rfl
theorem dX4_parse_0 : decode cX4_parse 0 = .ok (.aload_n 0, 1) := dk_42 (dk_at dksX4_parse_0 0 rfl rfl)
theorem dX4_parse_1 : decode cX4_parse 1 = .ok (.getfield 20, 3) := dk_180 0 20 (dk_at dksX4_parse_0 1 rfl rfl)
theorem dX4_parse_4 : decode cX4_parse 4 = .ok (.getfield 28, 3) := dk_180 0 28 (dk_at dksX4_parse_0 4 rfl rfl)
theorem dX4_parse_7 : decode cX4_parse 7 = .ok (.getstatic 32, 3) := dk_178 0 32 (dk_at dksX4_parse_0 7 rfl rfl)
theorem dX4_parse_10 : decode cX4_parse 10 = .ok (.if_acmp .eq 43, 3) := dk_165 0 43 (dk_at dksX4_parse_0 10 rfl rfl)
theorem dX4_parse_13 : decode cX4_parse 13 = .ok (.aload_n 0, 1) := dk_42 (dk_at dksX4_parse_0 13 rfl rfl)
theorem dX4_parse_14 : decode cX4_parse 14 = .ok (.invokevirtual 37, 3) := dk_182 0 37 (dk_at dksX4_parse_0 14 rfl rfl)
theorem dX4_parse_17 : decode cX4_parse 17 = .ok (.astore_n 1, 1) := dk_76 (dk_at dksX4_parse_0 17 rfl rfl)
theorem dX4_parse_18 : decode cX4_parse 18 = .ok (.aload_n 0, 1) := dk_42 (dk_at dksX4_parse_0 18 rfl rfl)
theorem dX4_parse_19 : decode cX4_parse 19 = .ok (.getfield 20, 3) := dk_180 0 20 (dk_at dksX4_parse_0 19 rfl rfl)
theorem dX4_parse_22 : decode cX4_parse 22 = .ok (.aload_n 1, 1) := dk_43 (dk_at dksX4_parse_0 22 rfl rfl)
theorem dX4_parse_23 : decode cX4_parse 23 = .ok (.ifnull 7, 3) := dk_198 0 7 (dk_at dksX4_parse_1 0 rfl rfl)
theorem dX4_parse_26 : decode cX4_parse 26 = .ok (.iconst 1, 1) := dk_4 (dk_at dksX4_parse_1 3 rfl rfl)
theorem dX4_parse_27 : decode cX4_parse 27 = .ok (.goto 4, 3) := dk_167 0 4 (dk_at dksX4_parse_1 4 rfl rfl)
theorem dX4_parse_30 : decode cX4_parse 30 = .ok (.iconst 0, 1) := dk_3 (dk_at dksX4_parse_1 7 rfl rfl)
theorem dX4_parse_31 : decode cX4_parse 31 = .ok (.invokevirtual 41, 3) := dk_182 0 41 (dk_at dksX4_parse_1 8 rfl rfl)
theorem dX4_parse_34 : decode cX4_parse 34 = .ok (.aload_n 1, 1) := dk_43 (dk_at dksX4_parse_1 11 rfl rfl)
theorem dX4_parse_35 : decode cX4_parse 35 = .ok (.invokeinterface 45 1, 5) := by decide +kernel
theorem dX4_parse_40 : decode cX4_parse 40 = .ok (.aload_n 0, 1) := dk_42 (dk_at dksX4_parse_1 17 rfl rfl)
theorem dX4_parse_41 : decode cX4_parse 41 = .ok (.getfield 20, 3) := dk_180 0 20 (dk_at dksX4_parse_1 18 rfl rfl)
theorem dX4_parse_44 : decode cX4_parse 44 = .ok (.getstatic 49, 3) := dk_178 0 49 (dk_at dksX4_parse_1 21 rfl rfl)
theorem dX4_parse_47 : decode cX4_parse 47 = .ok (.invokevirtual 52, 3) := dk_182 0 52 (dk_at dksX4_parse_2 0 rfl rfl)
theorem dX4_parse_50 : decode cX4_parse 50 = .ok (.goto (-50), 3) := dk_167 255 206 (dk_at dksX4_parse_2 3 rfl rfl)
theorem dX4_parse_53 : decode cX4_parse 53 = .ok (.aload_n 0, 1) := dk_42 (dk_at dksX4_parse_2 6 rfl rfl)
theorem dX4_parse_54 : decode cX4_parse 54 = .ok (.getfield 24, 3) := dk_180 0 24 (dk_at dksX4_parse_2 7 rfl rfl)
theorem dX4_parse_57 : decode cX4_parse 57 = .ok (.areturn, 1) := dk_176 (dk_at dksX4_parse_2 10 rfl rfl)
abbrev cX4_statementAt : ByteArray := prog_10_method_3_code
def yX4_statementAt : MethodName := ⟨RX4, "statementAt", "()LTranslationBureau$Statement;"⟩
def dkwX4_statementAt_12 : List UInt8 := [183, 0, 105, 167, 0, 15, 187, 0, 106, 89, 42, 183, 0, 108, 167, 0, 4, 1, 176]
abbrev dktX4_statementAt_12 : List UInt8 := dkwX4_statementAt_12 ++ []
def dkwX4_statementAt_11 : List UInt8 := [183, 0, 99, 167, 0, 37, 187, 0, 100, 89, 42, 183, 0, 102, 167, 0, 26, 187, 0, 103, 89, 42]
abbrev dktX4_statementAt_11 : List UInt8 := dkwX4_statementAt_11 ++ dktX4_statementAt_12
def dkwX4_statementAt_10 : List UInt8 := [42, 6, 182, 0, 88, 167, 0, 59, 187, 0, 92, 89, 42, 183, 0, 94, 167, 0, 48, 187, 0, 97, 89, 42]
abbrev dktX4_statementAt_10 : List UInt8 := dkwX4_statementAt_10 ++ dktX4_statementAt_11
def dkwX4_statementAt_9 : List UInt8 := [42, 3, 182, 0, 88, 167, 0, 83, 42, 4, 182, 0, 88, 167, 0, 75, 42, 5, 182, 0, 88, 167, 0, 67]
abbrev dktX4_statementAt_9 : List UInt8 := dkwX4_statementAt_9 ++ dktX4_statementAt_10
def dkwX4_statementAt_8 : List UInt8 := [170, 0, 0, 0, 136, 0, 0, 0, 0, 0, 0, 0, 8, 0, 0, 0, 49, 0, 0, 0, 57, 0, 0, 0, 65, 0, 0, 0, 73, 0, 0, 0, 81, 0, 0, 0, 92, 0, 0, 0, 103, 0, 0, 0, 114, 0, 0, 0, 125]
abbrev dktX4_statementAt_8 : List UInt8 := dkwX4_statementAt_8 ++ dktX4_statementAt_9
def dkwX4_statementAt_7 : List UInt8 := [182, 0, 68, 153, 0, 6, 16, 8, 61, 28]
abbrev dktX4_statementAt_7 : List UInt8 := dkwX4_statementAt_7 ++ dktX4_statementAt_8
def dkwX4_statementAt_6 : List UInt8 := [61, 167, 0, 30, 43, 18, 84, 182, 0, 68, 153, 0, 21, 16, 7, 61, 167, 0, 15, 43, 18, 86]
abbrev dktX4_statementAt_6 : List UInt8 := dkwX4_statementAt_6 ++ dktX4_statementAt_7
def dkwX4_statementAt_5 : List UInt8 := [18, 80, 182, 0, 68, 153, 0, 50, 8, 61, 167, 0, 45, 43, 18, 82, 182, 0, 68, 153, 0, 36, 16, 6]
abbrev dktX4_statementAt_5 : List UInt8 := dkwX4_statementAt_5 ++ dktX4_statementAt_6
def dkwX4_statementAt_4 : List UInt8 := [153, 0, 78, 6, 61, 167, 0, 73, 43, 18, 78, 182, 0, 68, 153, 0, 64, 7, 61, 167, 0, 59, 43]
abbrev dktX4_statementAt_4 : List UInt8 := dkwX4_statementAt_4 ++ dktX4_statementAt_5
def dkwX4_statementAt_3 : List UInt8 := [61, 167, 0, 101, 43, 18, 74, 182, 0, 68, 153, 0, 92, 5, 61, 167, 0, 87, 43, 18, 76, 182, 0, 68]
abbrev dktX4_statementAt_3 : List UInt8 := dkwX4_statementAt_3 ++ dktX4_statementAt_4
def dkwX4_statementAt_2 : List UInt8 := [43, 18, 66, 182, 0, 68, 153, 0, 120, 3, 61, 167, 0, 115, 43, 18, 72, 182, 0, 68, 153, 0, 106, 4]
abbrev dktX4_statementAt_2 : List UInt8 := dkwX4_statementAt_2 ++ dktX4_statementAt_3
def dkwX4_statementAt_1 : List UInt8 := [171, 0, 0, 0, 0, 208, 0, 0, 0, 9, 196, 227, 155, 85, 0, 0, 0, 152, 200, 78, 248, 248, 0, 0, 0, 124, 0, 1, 155, 189, 0, 0, 0, 181, 0, 46, 6, 53, 0, 0, 0, 138, 0, 53, 151, 216, 0, 0, 0, 110, 0, 54, 68, 108, 0, 0, 0, 166, 6, 95, 177, 73, 0, 0, 0, 82, 6, 137, 0, 71, 0, 0, 0, 96, 117, 164, 159, 51, 0, 0, 0, 196]
abbrev dktX4_statementAt_1 : List UInt8 := dkwX4_statementAt_1 ++ dktX4_statementAt_2
def dkwX4_statementAt_0 : List UInt8 := [42, 180, 0, 20, 180, 0, 56, 76, 2, 61, 43, 182, 0, 60]
abbrev dktX4_statementAt_0 : List UInt8 := dkwX4_statementAt_0 ++ dktX4_statementAt_1
theorem dksX4_statementAt_0 : cX4_statementAt.data.toList.drop 0 = dktX4_statementAt_0 := by decide +kernel
theorem dksX4_statementAt_1 : cX4_statementAt.data.toList.drop 14 = dktX4_statementAt_1 := dk_seg dksX4_statementAt_0 14 rfl rfl
theorem dksX4_statementAt_2 : cX4_statementAt.data.toList.drop 96 = dktX4_statementAt_2 := dk_seg dksX4_statementAt_1 82 rfl rfl
theorem dksX4_statementAt_3 : cX4_statementAt.data.toList.drop 120 = dktX4_statementAt_3 := dk_seg dksX4_statementAt_2 24 rfl rfl
theorem dksX4_statementAt_4 : cX4_statementAt.data.toList.drop 144 = dktX4_statementAt_4 := dk_seg dksX4_statementAt_3 24 rfl rfl
theorem dksX4_statementAt_5 : cX4_statementAt.data.toList.drop 167 = dktX4_statementAt_5 := dk_seg dksX4_statementAt_4 23 rfl rfl
theorem dksX4_statementAt_6 : cX4_statementAt.data.toList.drop 191 = dktX4_statementAt_6 := dk_seg dksX4_statementAt_5 24 rfl rfl
theorem dksX4_statementAt_7 : cX4_statementAt.data.toList.drop 213 = dktX4_statementAt_7 := dk_seg dksX4_statementAt_6 22 rfl rfl
theorem dksX4_statementAt_8 : cX4_statementAt.data.toList.drop 223 = dktX4_statementAt_8 := dk_seg dksX4_statementAt_7 10 rfl rfl
theorem dksX4_statementAt_9 : cX4_statementAt.data.toList.drop 272 = dktX4_statementAt_9 := dk_seg dksX4_statementAt_8 49 rfl rfl
theorem dksX4_statementAt_10 : cX4_statementAt.data.toList.drop 296 = dktX4_statementAt_10 := dk_seg dksX4_statementAt_9 24 rfl rfl
theorem dksX4_statementAt_11 : cX4_statementAt.data.toList.drop 320 = dktX4_statementAt_11 := dk_seg dksX4_statementAt_10 24 rfl rfl
theorem dksX4_statementAt_12 : cX4_statementAt.data.toList.drop 342 = dktX4_statementAt_12 := dk_seg dksX4_statementAt_11 22 rfl rfl
theorem dX4_statementAt_0 : decode cX4_statementAt 0 = .ok (.aload_n 0, 1) := dk_42 (dk_at dksX4_statementAt_0 0 rfl rfl)
theorem dX4_statementAt_1 : decode cX4_statementAt 1 = .ok (.getfield 20, 3) := dk_180 0 20 (dk_at dksX4_statementAt_0 1 rfl rfl)
theorem dX4_statementAt_4 : decode cX4_statementAt 4 = .ok (.getfield 56, 3) := dk_180 0 56 (dk_at dksX4_statementAt_0 4 rfl rfl)
theorem dX4_statementAt_7 : decode cX4_statementAt 7 = .ok (.astore_n 1, 1) := dk_76 (dk_at dksX4_statementAt_0 7 rfl rfl)
theorem dX4_statementAt_8 : decode cX4_statementAt 8 = .ok (.iconst (-1), 1) := dk_2 (dk_at dksX4_statementAt_0 8 rfl rfl)
theorem dX4_statementAt_9 : decode cX4_statementAt 9 = .ok (.istore_n 2, 1) := dk_61 (dk_at dksX4_statementAt_0 9 rfl rfl)
theorem dX4_statementAt_10 : decode cX4_statementAt 10 = .ok (.aload_n 1, 1) := dk_43 (dk_at dksX4_statementAt_0 10 rfl rfl)
theorem dX4_statementAt_11 : decode cX4_statementAt 11 = .ok (.invokevirtual 60, 3) := dk_182 0 60 (dk_at dksX4_statementAt_0 11 rfl rfl)
theorem dX4_statementAt_14 : decode cX4_statementAt 14 = .ok (.lookupswitch 208 #[(-991716523, 152), (-934348552, 124), (105405, 181), (3016245, 138), (3512280, 110), (3556460, 166), (106934601, 82), (109641799, 96), (1973722931, 196)], 82) := by decide +kernel
theorem dX4_statementAt_96 : decode cX4_statementAt 96 = .ok (.aload_n 1, 1) := dk_43 (dk_at dksX4_statementAt_2 0 rfl rfl)
theorem dX4_statementAt_97 : decode cX4_statementAt 97 = .ok (.ldc 66, 2) := dk_18 66 (dk_at dksX4_statementAt_2 1 rfl rfl)
theorem dX4_statementAt_99 : decode cX4_statementAt 99 = .ok (.invokevirtual 68, 3) := dk_182 0 68 (dk_at dksX4_statementAt_2 3 rfl rfl)
theorem dX4_statementAt_102 : decode cX4_statementAt 102 = .ok (.ifCond .eq 120, 3) := dk_153 0 120 (dk_at dksX4_statementAt_2 6 rfl rfl)
theorem dX4_statementAt_105 : decode cX4_statementAt 105 = .ok (.iconst 0, 1) := dk_3 (dk_at dksX4_statementAt_2 9 rfl rfl)
theorem dX4_statementAt_106 : decode cX4_statementAt 106 = .ok (.istore_n 2, 1) := dk_61 (dk_at dksX4_statementAt_2 10 rfl rfl)
theorem dX4_statementAt_107 : decode cX4_statementAt 107 = .ok (.goto 115, 3) := dk_167 0 115 (dk_at dksX4_statementAt_2 11 rfl rfl)
theorem dX4_statementAt_110 : decode cX4_statementAt 110 = .ok (.aload_n 1, 1) := dk_43 (dk_at dksX4_statementAt_2 14 rfl rfl)
theorem dX4_statementAt_111 : decode cX4_statementAt 111 = .ok (.ldc 72, 2) := dk_18 72 (dk_at dksX4_statementAt_2 15 rfl rfl)
theorem dX4_statementAt_113 : decode cX4_statementAt 113 = .ok (.invokevirtual 68, 3) := dk_182 0 68 (dk_at dksX4_statementAt_2 17 rfl rfl)
theorem dX4_statementAt_116 : decode cX4_statementAt 116 = .ok (.ifCond .eq 106, 3) := dk_153 0 106 (dk_at dksX4_statementAt_2 20 rfl rfl)
theorem dX4_statementAt_119 : decode cX4_statementAt 119 = .ok (.iconst 1, 1) := dk_4 (dk_at dksX4_statementAt_2 23 rfl rfl)
theorem dX4_statementAt_120 : decode cX4_statementAt 120 = .ok (.istore_n 2, 1) := dk_61 (dk_at dksX4_statementAt_3 0 rfl rfl)
theorem dX4_statementAt_121 : decode cX4_statementAt 121 = .ok (.goto 101, 3) := dk_167 0 101 (dk_at dksX4_statementAt_3 1 rfl rfl)
theorem dX4_statementAt_124 : decode cX4_statementAt 124 = .ok (.aload_n 1, 1) := dk_43 (dk_at dksX4_statementAt_3 4 rfl rfl)
theorem dX4_statementAt_125 : decode cX4_statementAt 125 = .ok (.ldc 74, 2) := dk_18 74 (dk_at dksX4_statementAt_3 5 rfl rfl)
theorem dX4_statementAt_127 : decode cX4_statementAt 127 = .ok (.invokevirtual 68, 3) := dk_182 0 68 (dk_at dksX4_statementAt_3 7 rfl rfl)
theorem dX4_statementAt_130 : decode cX4_statementAt 130 = .ok (.ifCond .eq 92, 3) := dk_153 0 92 (dk_at dksX4_statementAt_3 10 rfl rfl)
theorem dX4_statementAt_133 : decode cX4_statementAt 133 = .ok (.iconst 2, 1) := dk_5 (dk_at dksX4_statementAt_3 13 rfl rfl)
theorem dX4_statementAt_134 : decode cX4_statementAt 134 = .ok (.istore_n 2, 1) := dk_61 (dk_at dksX4_statementAt_3 14 rfl rfl)
theorem dX4_statementAt_135 : decode cX4_statementAt 135 = .ok (.goto 87, 3) := dk_167 0 87 (dk_at dksX4_statementAt_3 15 rfl rfl)
theorem dX4_statementAt_138 : decode cX4_statementAt 138 = .ok (.aload_n 1, 1) := dk_43 (dk_at dksX4_statementAt_3 18 rfl rfl)
theorem dX4_statementAt_139 : decode cX4_statementAt 139 = .ok (.ldc 76, 2) := dk_18 76 (dk_at dksX4_statementAt_3 19 rfl rfl)
theorem dX4_statementAt_141 : decode cX4_statementAt 141 = .ok (.invokevirtual 68, 3) := dk_182 0 68 (dk_at dksX4_statementAt_3 21 rfl rfl)
theorem dX4_statementAt_144 : decode cX4_statementAt 144 = .ok (.ifCond .eq 78, 3) := dk_153 0 78 (dk_at dksX4_statementAt_4 0 rfl rfl)
theorem dX4_statementAt_147 : decode cX4_statementAt 147 = .ok (.iconst 3, 1) := dk_6 (dk_at dksX4_statementAt_4 3 rfl rfl)
theorem dX4_statementAt_148 : decode cX4_statementAt 148 = .ok (.istore_n 2, 1) := dk_61 (dk_at dksX4_statementAt_4 4 rfl rfl)
theorem dX4_statementAt_149 : decode cX4_statementAt 149 = .ok (.goto 73, 3) := dk_167 0 73 (dk_at dksX4_statementAt_4 5 rfl rfl)
theorem dX4_statementAt_152 : decode cX4_statementAt 152 = .ok (.aload_n 1, 1) := dk_43 (dk_at dksX4_statementAt_4 8 rfl rfl)
theorem dX4_statementAt_153 : decode cX4_statementAt 153 = .ok (.ldc 78, 2) := dk_18 78 (dk_at dksX4_statementAt_4 9 rfl rfl)
theorem dX4_statementAt_155 : decode cX4_statementAt 155 = .ok (.invokevirtual 68, 3) := dk_182 0 68 (dk_at dksX4_statementAt_4 11 rfl rfl)
theorem dX4_statementAt_158 : decode cX4_statementAt 158 = .ok (.ifCond .eq 64, 3) := dk_153 0 64 (dk_at dksX4_statementAt_4 14 rfl rfl)
theorem dX4_statementAt_161 : decode cX4_statementAt 161 = .ok (.iconst 4, 1) := dk_7 (dk_at dksX4_statementAt_4 17 rfl rfl)
theorem dX4_statementAt_162 : decode cX4_statementAt 162 = .ok (.istore_n 2, 1) := dk_61 (dk_at dksX4_statementAt_4 18 rfl rfl)
theorem dX4_statementAt_163 : decode cX4_statementAt 163 = .ok (.goto 59, 3) := dk_167 0 59 (dk_at dksX4_statementAt_4 19 rfl rfl)
theorem dX4_statementAt_166 : decode cX4_statementAt 166 = .ok (.aload_n 1, 1) := dk_43 (dk_at dksX4_statementAt_4 22 rfl rfl)
theorem dX4_statementAt_167 : decode cX4_statementAt 167 = .ok (.ldc 80, 2) := dk_18 80 (dk_at dksX4_statementAt_5 0 rfl rfl)
theorem dX4_statementAt_169 : decode cX4_statementAt 169 = .ok (.invokevirtual 68, 3) := dk_182 0 68 (dk_at dksX4_statementAt_5 2 rfl rfl)
theorem dX4_statementAt_172 : decode cX4_statementAt 172 = .ok (.ifCond .eq 50, 3) := dk_153 0 50 (dk_at dksX4_statementAt_5 5 rfl rfl)
theorem dX4_statementAt_175 : decode cX4_statementAt 175 = .ok (.iconst 5, 1) := dk_8 (dk_at dksX4_statementAt_5 8 rfl rfl)
theorem dX4_statementAt_176 : decode cX4_statementAt 176 = .ok (.istore_n 2, 1) := dk_61 (dk_at dksX4_statementAt_5 9 rfl rfl)
theorem dX4_statementAt_177 : decode cX4_statementAt 177 = .ok (.goto 45, 3) := dk_167 0 45 (dk_at dksX4_statementAt_5 10 rfl rfl)
theorem dX4_statementAt_180 : decode cX4_statementAt 180 = .ok (.aload_n 1, 1) := dk_43 (dk_at dksX4_statementAt_5 13 rfl rfl)
theorem dX4_statementAt_181 : decode cX4_statementAt 181 = .ok (.ldc 82, 2) := dk_18 82 (dk_at dksX4_statementAt_5 14 rfl rfl)
theorem dX4_statementAt_183 : decode cX4_statementAt 183 = .ok (.invokevirtual 68, 3) := dk_182 0 68 (dk_at dksX4_statementAt_5 16 rfl rfl)
theorem dX4_statementAt_186 : decode cX4_statementAt 186 = .ok (.ifCond .eq 36, 3) := dk_153 0 36 (dk_at dksX4_statementAt_5 19 rfl rfl)
theorem dX4_statementAt_189 : decode cX4_statementAt 189 = .ok (.bipush 6, 2) := dk_16 6 (dk_at dksX4_statementAt_5 22 rfl rfl)
theorem dX4_statementAt_191 : decode cX4_statementAt 191 = .ok (.istore_n 2, 1) := dk_61 (dk_at dksX4_statementAt_6 0 rfl rfl)
theorem dX4_statementAt_192 : decode cX4_statementAt 192 = .ok (.goto 30, 3) := dk_167 0 30 (dk_at dksX4_statementAt_6 1 rfl rfl)
theorem dX4_statementAt_195 : decode cX4_statementAt 195 = .ok (.aload_n 1, 1) := dk_43 (dk_at dksX4_statementAt_6 4 rfl rfl)
theorem dX4_statementAt_196 : decode cX4_statementAt 196 = .ok (.ldc 84, 2) := dk_18 84 (dk_at dksX4_statementAt_6 5 rfl rfl)
theorem dX4_statementAt_198 : decode cX4_statementAt 198 = .ok (.invokevirtual 68, 3) := dk_182 0 68 (dk_at dksX4_statementAt_6 7 rfl rfl)
theorem dX4_statementAt_201 : decode cX4_statementAt 201 = .ok (.ifCond .eq 21, 3) := dk_153 0 21 (dk_at dksX4_statementAt_6 10 rfl rfl)
theorem dX4_statementAt_204 : decode cX4_statementAt 204 = .ok (.bipush 7, 2) := dk_16 7 (dk_at dksX4_statementAt_6 13 rfl rfl)
theorem dX4_statementAt_206 : decode cX4_statementAt 206 = .ok (.istore_n 2, 1) := dk_61 (dk_at dksX4_statementAt_6 15 rfl rfl)
theorem dX4_statementAt_207 : decode cX4_statementAt 207 = .ok (.goto 15, 3) := dk_167 0 15 (dk_at dksX4_statementAt_6 16 rfl rfl)
theorem dX4_statementAt_210 : decode cX4_statementAt 210 = .ok (.aload_n 1, 1) := dk_43 (dk_at dksX4_statementAt_6 19 rfl rfl)
theorem dX4_statementAt_211 : decode cX4_statementAt 211 = .ok (.ldc 86, 2) := dk_18 86 (dk_at dksX4_statementAt_6 20 rfl rfl)
theorem dX4_statementAt_213 : decode cX4_statementAt 213 = .ok (.invokevirtual 68, 3) := dk_182 0 68 (dk_at dksX4_statementAt_7 0 rfl rfl)
theorem dX4_statementAt_216 : decode cX4_statementAt 216 = .ok (.ifCond .eq 6, 3) := dk_153 0 6 (dk_at dksX4_statementAt_7 3 rfl rfl)
theorem dX4_statementAt_219 : decode cX4_statementAt 219 = .ok (.bipush 8, 2) := dk_16 8 (dk_at dksX4_statementAt_7 6 rfl rfl)
theorem dX4_statementAt_221 : decode cX4_statementAt 221 = .ok (.istore_n 2, 1) := dk_61 (dk_at dksX4_statementAt_7 8 rfl rfl)
theorem dX4_statementAt_222 : decode cX4_statementAt 222 = .ok (.iload_n 2, 1) := dk_28 (dk_at dksX4_statementAt_7 9 rfl rfl)
theorem dX4_statementAt_223 : decode cX4_statementAt 223 = .ok (.tableswitch 136 0 8 #[49, 57, 65, 73, 81, 92, 103, 114, 125], 49) := by decide +kernel
theorem dX4_statementAt_272 : decode cX4_statementAt 272 = .ok (.aload_n 0, 1) := dk_42 (dk_at dksX4_statementAt_9 0 rfl rfl)
theorem dX4_statementAt_273 : decode cX4_statementAt 273 = .ok (.iconst 0, 1) := dk_3 (dk_at dksX4_statementAt_9 1 rfl rfl)
theorem dX4_statementAt_274 : decode cX4_statementAt 274 = .ok (.invokevirtual 88, 3) := dk_182 0 88 (dk_at dksX4_statementAt_9 2 rfl rfl)
theorem dX4_statementAt_277 : decode cX4_statementAt 277 = .ok (.goto 83, 3) := dk_167 0 83 (dk_at dksX4_statementAt_9 5 rfl rfl)
theorem dX4_statementAt_280 : decode cX4_statementAt 280 = .ok (.aload_n 0, 1) := dk_42 (dk_at dksX4_statementAt_9 8 rfl rfl)
theorem dX4_statementAt_281 : decode cX4_statementAt 281 = .ok (.iconst 1, 1) := dk_4 (dk_at dksX4_statementAt_9 9 rfl rfl)
theorem dX4_statementAt_282 : decode cX4_statementAt 282 = .ok (.invokevirtual 88, 3) := dk_182 0 88 (dk_at dksX4_statementAt_9 10 rfl rfl)
theorem dX4_statementAt_285 : decode cX4_statementAt 285 = .ok (.goto 75, 3) := dk_167 0 75 (dk_at dksX4_statementAt_9 13 rfl rfl)
theorem dX4_statementAt_288 : decode cX4_statementAt 288 = .ok (.aload_n 0, 1) := dk_42 (dk_at dksX4_statementAt_9 16 rfl rfl)
theorem dX4_statementAt_289 : decode cX4_statementAt 289 = .ok (.iconst 2, 1) := dk_5 (dk_at dksX4_statementAt_9 17 rfl rfl)
theorem dX4_statementAt_290 : decode cX4_statementAt 290 = .ok (.invokevirtual 88, 3) := dk_182 0 88 (dk_at dksX4_statementAt_9 18 rfl rfl)
theorem dX4_statementAt_293 : decode cX4_statementAt 293 = .ok (.goto 67, 3) := dk_167 0 67 (dk_at dksX4_statementAt_9 21 rfl rfl)
theorem dX4_statementAt_296 : decode cX4_statementAt 296 = .ok (.aload_n 0, 1) := dk_42 (dk_at dksX4_statementAt_10 0 rfl rfl)
theorem dX4_statementAt_297 : decode cX4_statementAt 297 = .ok (.iconst 3, 1) := dk_6 (dk_at dksX4_statementAt_10 1 rfl rfl)
theorem dX4_statementAt_298 : decode cX4_statementAt 298 = .ok (.invokevirtual 88, 3) := dk_182 0 88 (dk_at dksX4_statementAt_10 2 rfl rfl)
theorem dX4_statementAt_301 : decode cX4_statementAt 301 = .ok (.goto 59, 3) := dk_167 0 59 (dk_at dksX4_statementAt_10 5 rfl rfl)
theorem dX4_statementAt_304 : decode cX4_statementAt 304 = .ok (.new 92, 3) := dk_187 0 92 (dk_at dksX4_statementAt_10 8 rfl rfl)
theorem dX4_statementAt_307 : decode cX4_statementAt 307 = .ok (.dup, 1) := dk_89 (dk_at dksX4_statementAt_10 11 rfl rfl)
theorem dX4_statementAt_308 : decode cX4_statementAt 308 = .ok (.aload_n 0, 1) := dk_42 (dk_at dksX4_statementAt_10 12 rfl rfl)
theorem dX4_statementAt_309 : decode cX4_statementAt 309 = .ok (.invokespecial 94, 3) := dk_183 0 94 (dk_at dksX4_statementAt_10 13 rfl rfl)
theorem dX4_statementAt_312 : decode cX4_statementAt 312 = .ok (.goto 48, 3) := dk_167 0 48 (dk_at dksX4_statementAt_10 16 rfl rfl)
theorem dX4_statementAt_315 : decode cX4_statementAt 315 = .ok (.new 97, 3) := dk_187 0 97 (dk_at dksX4_statementAt_10 19 rfl rfl)
theorem dX4_statementAt_318 : decode cX4_statementAt 318 = .ok (.dup, 1) := dk_89 (dk_at dksX4_statementAt_10 22 rfl rfl)
theorem dX4_statementAt_319 : decode cX4_statementAt 319 = .ok (.aload_n 0, 1) := dk_42 (dk_at dksX4_statementAt_10 23 rfl rfl)
theorem dX4_statementAt_320 : decode cX4_statementAt 320 = .ok (.invokespecial 99, 3) := dk_183 0 99 (dk_at dksX4_statementAt_11 0 rfl rfl)
theorem dX4_statementAt_323 : decode cX4_statementAt 323 = .ok (.goto 37, 3) := dk_167 0 37 (dk_at dksX4_statementAt_11 3 rfl rfl)
theorem dX4_statementAt_326 : decode cX4_statementAt 326 = .ok (.new 100, 3) := dk_187 0 100 (dk_at dksX4_statementAt_11 6 rfl rfl)
theorem dX4_statementAt_329 : decode cX4_statementAt 329 = .ok (.dup, 1) := dk_89 (dk_at dksX4_statementAt_11 9 rfl rfl)
theorem dX4_statementAt_330 : decode cX4_statementAt 330 = .ok (.aload_n 0, 1) := dk_42 (dk_at dksX4_statementAt_11 10 rfl rfl)
theorem dX4_statementAt_331 : decode cX4_statementAt 331 = .ok (.invokespecial 102, 3) := dk_183 0 102 (dk_at dksX4_statementAt_11 11 rfl rfl)
theorem dX4_statementAt_334 : decode cX4_statementAt 334 = .ok (.goto 26, 3) := dk_167 0 26 (dk_at dksX4_statementAt_11 14 rfl rfl)
theorem dX4_statementAt_337 : decode cX4_statementAt 337 = .ok (.new 103, 3) := dk_187 0 103 (dk_at dksX4_statementAt_11 17 rfl rfl)
theorem dX4_statementAt_340 : decode cX4_statementAt 340 = .ok (.dup, 1) := dk_89 (dk_at dksX4_statementAt_11 20 rfl rfl)
theorem dX4_statementAt_341 : decode cX4_statementAt 341 = .ok (.aload_n 0, 1) := dk_42 (dk_at dksX4_statementAt_11 21 rfl rfl)
theorem dX4_statementAt_342 : decode cX4_statementAt 342 = .ok (.invokespecial 105, 3) := dk_183 0 105 (dk_at dksX4_statementAt_12 0 rfl rfl)
theorem dX4_statementAt_345 : decode cX4_statementAt 345 = .ok (.goto 15, 3) := dk_167 0 15 (dk_at dksX4_statementAt_12 3 rfl rfl)
theorem dX4_statementAt_348 : decode cX4_statementAt 348 = .ok (.new 106, 3) := dk_187 0 106 (dk_at dksX4_statementAt_12 6 rfl rfl)
theorem dX4_statementAt_351 : decode cX4_statementAt 351 = .ok (.dup, 1) := dk_89 (dk_at dksX4_statementAt_12 9 rfl rfl)
theorem dX4_statementAt_352 : decode cX4_statementAt 352 = .ok (.aload_n 0, 1) := dk_42 (dk_at dksX4_statementAt_12 10 rfl rfl)
theorem dX4_statementAt_353 : decode cX4_statementAt 353 = .ok (.invokespecial 108, 3) := dk_183 0 108 (dk_at dksX4_statementAt_12 11 rfl rfl)
theorem dX4_statementAt_356 : decode cX4_statementAt 356 = .ok (.goto 4, 3) := dk_167 0 4 (dk_at dksX4_statementAt_12 14 rfl rfl)
theorem dX4_statementAt_359 : decode cX4_statementAt 359 = .ok (.aconst_null, 1) := dk_1 (dk_at dksX4_statementAt_12 17 rfl rfl)
theorem dX4_statementAt_360 : decode cX4_statementAt 360 = .ok (.areturn, 1) := dk_176 (dk_at dksX4_statementAt_12 18 rfl rfl)
abbrev cX4_settingOf : ByteArray := prog_10_method_4_code
def yX4_settingOf : MethodName := ⟨RX4, "settingOf", "(I)LTranslationBureau$Statement;"⟩
def dkwX4_settingOf_0 : List UInt8 := [187, 0, 109, 89, 42, 27, 183, 0, 111, 176]
abbrev dktX4_settingOf_0 : List UInt8 := dkwX4_settingOf_0 ++ []
theorem dksX4_settingOf_0 : cX4_settingOf.data.toList.drop 0 = dktX4_settingOf_0 := by decide +kernel
theorem dX4_settingOf_0 : decode cX4_settingOf 0 = .ok (.new 109, 3) := dk_187 0 109 (dk_at dksX4_settingOf_0 0 rfl rfl)
theorem dX4_settingOf_3 : decode cX4_settingOf 3 = .ok (.dup, 1) := dk_89 (dk_at dksX4_settingOf_0 3 rfl rfl)
theorem dX4_settingOf_4 : decode cX4_settingOf 4 = .ok (.aload_n 0, 1) := dk_42 (dk_at dksX4_settingOf_0 4 rfl rfl)
theorem dX4_settingOf_5 : decode cX4_settingOf 5 = .ok (.iload_n 1, 1) := dk_27 (dk_at dksX4_settingOf_0 5 rfl rfl)
theorem dX4_settingOf_6 : decode cX4_settingOf 6 = .ok (.invokespecial 111, 3) := dk_183 0 111 (dk_at dksX4_settingOf_0 6 rfl rfl)
theorem dX4_settingOf_9 : decode cX4_settingOf 9 = .ok (.areturn, 1) := dk_176 (dk_at dksX4_settingOf_0 9 rfl rfl)
abbrev cX4_person : ByteArray := prog_10_method_5_code
def yX4_person : MethodName := ⟨RX4, "person", "()V"⟩
def dkwX4_person_6 : List UInt8 := [185, 0, 145, 2, 0, 87, 177]
abbrev dktX4_person_6 : List UInt8 := dkwX4_person_6 ++ []
def dkwX4_person_5 : List UInt8 := [180, 0, 114, 43, 185, 0, 145, 2, 0, 87, 42, 180, 0, 24, 180, 0, 148, 28, 184, 0, 151]
abbrev dktX4_person_5 : List UInt8 := dkwX4_person_5 ++ dktX4_person_6
def dkwX4_person_4 : List UInt8 := [180, 0, 20, 182, 0, 138, 76, 42, 180, 0, 20, 3, 17, 39, 15, 182, 0, 141, 61, 42, 180, 0, 24]
abbrev dktX4_person_4 : List UInt8 := dkwX4_person_4 ++ dktX4_person_5
def dkwX4_person_3 : List UInt8 := [180, 0, 20, 180, 0, 56, 182, 0, 135, 2, 160, 0, 7, 4, 167, 0, 4, 3, 7, 182, 0, 125, 42]
abbrev dktX4_person_3 : List UInt8 := dkwX4_person_3 ++ dktX4_person_4
def dkwX4_person_2 : List UInt8 := [178, 0, 132, 166, 0, 7, 4, 167, 0, 4, 3, 182, 0, 41, 42, 180, 0, 20, 42, 180, 0, 24, 42]
abbrev dktX4_person_2 : List UInt8 := dkwX4_person_2 ++ dktX4_person_3
def dkwX4_person_1 : List UInt8 := [3, 8, 182, 0, 125, 42, 180, 0, 20, 182, 0, 129, 42, 180, 0, 20, 42, 180, 0, 20, 180, 0, 28]
abbrev dktX4_person_1 : List UInt8 := dkwX4_person_1 ++ dktX4_person_2
def dkwX4_person_0 : List UInt8 := [42, 180, 0, 20, 42, 180, 0, 24, 180, 0, 114, 185, 0, 120, 1, 0, 8, 162, 0, 7, 4, 167, 0, 4]
abbrev dktX4_person_0 : List UInt8 := dkwX4_person_0 ++ dktX4_person_1
theorem dksX4_person_0 : cX4_person.data.toList.drop 0 = dktX4_person_0 := by decide +kernel
theorem dksX4_person_1 : cX4_person.data.toList.drop 24 = dktX4_person_1 := dk_seg dksX4_person_0 24 rfl rfl
theorem dksX4_person_2 : cX4_person.data.toList.drop 47 = dktX4_person_2 := dk_seg dksX4_person_1 23 rfl rfl
theorem dksX4_person_3 : cX4_person.data.toList.drop 70 = dktX4_person_3 := dk_seg dksX4_person_2 23 rfl rfl
theorem dksX4_person_4 : cX4_person.data.toList.drop 93 = dktX4_person_4 := dk_seg dksX4_person_3 23 rfl rfl
theorem dksX4_person_5 : cX4_person.data.toList.drop 116 = dktX4_person_5 := dk_seg dksX4_person_4 23 rfl rfl
theorem dksX4_person_6 : cX4_person.data.toList.drop 137 = dktX4_person_6 := dk_seg dksX4_person_5 21 rfl rfl
theorem dX4_person_0 : decode cX4_person 0 = .ok (.aload_n 0, 1) := dk_42 (dk_at dksX4_person_0 0 rfl rfl)
theorem dX4_person_1 : decode cX4_person 1 = .ok (.getfield 20, 3) := dk_180 0 20 (dk_at dksX4_person_0 1 rfl rfl)
theorem dX4_person_4 : decode cX4_person 4 = .ok (.aload_n 0, 1) := dk_42 (dk_at dksX4_person_0 4 rfl rfl)
theorem dX4_person_5 : decode cX4_person 5 = .ok (.getfield 24, 3) := dk_180 0 24 (dk_at dksX4_person_0 5 rfl rfl)
theorem dX4_person_8 : decode cX4_person 8 = .ok (.getfield 114, 3) := dk_180 0 114 (dk_at dksX4_person_0 8 rfl rfl)
theorem dX4_person_11 : decode cX4_person 11 = .ok (.invokeinterface 120 1, 5) := by decide +kernel
theorem dX4_person_16 : decode cX4_person 16 = .ok (.iconst 5, 1) := dk_8 (dk_at dksX4_person_0 16 rfl rfl)
theorem dX4_person_17 : decode cX4_person 17 = .ok (.if_icmp .ge 7, 3) := dk_162 0 7 (dk_at dksX4_person_0 17 rfl rfl)
theorem dX4_person_20 : decode cX4_person 20 = .ok (.iconst 1, 1) := dk_4 (dk_at dksX4_person_0 20 rfl rfl)
theorem dX4_person_21 : decode cX4_person 21 = .ok (.goto 4, 3) := dk_167 0 4 (dk_at dksX4_person_0 21 rfl rfl)
theorem dX4_person_24 : decode cX4_person 24 = .ok (.iconst 0, 1) := dk_3 (dk_at dksX4_person_1 0 rfl rfl)
theorem dX4_person_25 : decode cX4_person 25 = .ok (.iconst 5, 1) := dk_8 (dk_at dksX4_person_1 1 rfl rfl)
theorem dX4_person_26 : decode cX4_person 26 = .ok (.invokevirtual 125, 3) := dk_182 0 125 (dk_at dksX4_person_1 2 rfl rfl)
theorem dX4_person_29 : decode cX4_person 29 = .ok (.aload_n 0, 1) := dk_42 (dk_at dksX4_person_1 5 rfl rfl)
theorem dX4_person_30 : decode cX4_person 30 = .ok (.getfield 20, 3) := dk_180 0 20 (dk_at dksX4_person_1 6 rfl rfl)
theorem dX4_person_33 : decode cX4_person 33 = .ok (.invokevirtual 129, 3) := dk_182 0 129 (dk_at dksX4_person_1 9 rfl rfl)
theorem dX4_person_36 : decode cX4_person 36 = .ok (.aload_n 0, 1) := dk_42 (dk_at dksX4_person_1 12 rfl rfl)
theorem dX4_person_37 : decode cX4_person 37 = .ok (.getfield 20, 3) := dk_180 0 20 (dk_at dksX4_person_1 13 rfl rfl)
theorem dX4_person_40 : decode cX4_person 40 = .ok (.aload_n 0, 1) := dk_42 (dk_at dksX4_person_1 16 rfl rfl)
theorem dX4_person_41 : decode cX4_person 41 = .ok (.getfield 20, 3) := dk_180 0 20 (dk_at dksX4_person_1 17 rfl rfl)
theorem dX4_person_44 : decode cX4_person 44 = .ok (.getfield 28, 3) := dk_180 0 28 (dk_at dksX4_person_1 20 rfl rfl)
theorem dX4_person_47 : decode cX4_person 47 = .ok (.getstatic 132, 3) := dk_178 0 132 (dk_at dksX4_person_2 0 rfl rfl)
theorem dX4_person_50 : decode cX4_person 50 = .ok (.if_acmp .ne 7, 3) := dk_166 0 7 (dk_at dksX4_person_2 3 rfl rfl)
theorem dX4_person_53 : decode cX4_person 53 = .ok (.iconst 1, 1) := dk_4 (dk_at dksX4_person_2 6 rfl rfl)
theorem dX4_person_54 : decode cX4_person 54 = .ok (.goto 4, 3) := dk_167 0 4 (dk_at dksX4_person_2 7 rfl rfl)
theorem dX4_person_57 : decode cX4_person 57 = .ok (.iconst 0, 1) := dk_3 (dk_at dksX4_person_2 10 rfl rfl)
theorem dX4_person_58 : decode cX4_person 58 = .ok (.invokevirtual 41, 3) := dk_182 0 41 (dk_at dksX4_person_2 11 rfl rfl)
theorem dX4_person_61 : decode cX4_person 61 = .ok (.aload_n 0, 1) := dk_42 (dk_at dksX4_person_2 14 rfl rfl)
theorem dX4_person_62 : decode cX4_person 62 = .ok (.getfield 20, 3) := dk_180 0 20 (dk_at dksX4_person_2 15 rfl rfl)
theorem dX4_person_65 : decode cX4_person 65 = .ok (.aload_n 0, 1) := dk_42 (dk_at dksX4_person_2 18 rfl rfl)
theorem dX4_person_66 : decode cX4_person 66 = .ok (.getfield 24, 3) := dk_180 0 24 (dk_at dksX4_person_2 19 rfl rfl)
theorem dX4_person_69 : decode cX4_person 69 = .ok (.aload_n 0, 1) := dk_42 (dk_at dksX4_person_2 22 rfl rfl)
theorem dX4_person_70 : decode cX4_person 70 = .ok (.getfield 20, 3) := dk_180 0 20 (dk_at dksX4_person_3 0 rfl rfl)
theorem dX4_person_73 : decode cX4_person 73 = .ok (.getfield 56, 3) := dk_180 0 56 (dk_at dksX4_person_3 3 rfl rfl)
theorem dX4_person_76 : decode cX4_person 76 = .ok (.invokevirtual 135, 3) := dk_182 0 135 (dk_at dksX4_person_3 6 rfl rfl)
theorem dX4_person_79 : decode cX4_person 79 = .ok (.iconst (-1), 1) := dk_2 (dk_at dksX4_person_3 9 rfl rfl)
theorem dX4_person_80 : decode cX4_person 80 = .ok (.if_icmp .ne 7, 3) := dk_160 0 7 (dk_at dksX4_person_3 10 rfl rfl)
theorem dX4_person_83 : decode cX4_person 83 = .ok (.iconst 1, 1) := dk_4 (dk_at dksX4_person_3 13 rfl rfl)
theorem dX4_person_84 : decode cX4_person 84 = .ok (.goto 4, 3) := dk_167 0 4 (dk_at dksX4_person_3 14 rfl rfl)
theorem dX4_person_87 : decode cX4_person 87 = .ok (.iconst 0, 1) := dk_3 (dk_at dksX4_person_3 17 rfl rfl)
theorem dX4_person_88 : decode cX4_person 88 = .ok (.iconst 4, 1) := dk_7 (dk_at dksX4_person_3 18 rfl rfl)
theorem dX4_person_89 : decode cX4_person 89 = .ok (.invokevirtual 125, 3) := dk_182 0 125 (dk_at dksX4_person_3 19 rfl rfl)
theorem dX4_person_92 : decode cX4_person 92 = .ok (.aload_n 0, 1) := dk_42 (dk_at dksX4_person_3 22 rfl rfl)
theorem dX4_person_93 : decode cX4_person 93 = .ok (.getfield 20, 3) := dk_180 0 20 (dk_at dksX4_person_4 0 rfl rfl)
theorem dX4_person_96 : decode cX4_person 96 = .ok (.invokevirtual 138, 3) := dk_182 0 138 (dk_at dksX4_person_4 3 rfl rfl)
theorem dX4_person_99 : decode cX4_person 99 = .ok (.astore_n 1, 1) := dk_76 (dk_at dksX4_person_4 6 rfl rfl)
theorem dX4_person_100 : decode cX4_person 100 = .ok (.aload_n 0, 1) := dk_42 (dk_at dksX4_person_4 7 rfl rfl)
theorem dX4_person_101 : decode cX4_person 101 = .ok (.getfield 20, 3) := dk_180 0 20 (dk_at dksX4_person_4 8 rfl rfl)
theorem dX4_person_104 : decode cX4_person 104 = .ok (.iconst 0, 1) := dk_3 (dk_at dksX4_person_4 11 rfl rfl)
theorem dX4_person_105 : decode cX4_person 105 = .ok (.sipush 9999, 3) := dk_17 39 15 (dk_at dksX4_person_4 12 rfl rfl)
theorem dX4_person_108 : decode cX4_person 108 = .ok (.invokevirtual 141, 3) := dk_182 0 141 (dk_at dksX4_person_4 15 rfl rfl)
theorem dX4_person_111 : decode cX4_person 111 = .ok (.istore_n 2, 1) := dk_61 (dk_at dksX4_person_4 18 rfl rfl)
theorem dX4_person_112 : decode cX4_person 112 = .ok (.aload_n 0, 1) := dk_42 (dk_at dksX4_person_4 19 rfl rfl)
theorem dX4_person_113 : decode cX4_person 113 = .ok (.getfield 24, 3) := dk_180 0 24 (dk_at dksX4_person_4 20 rfl rfl)
theorem dX4_person_116 : decode cX4_person 116 = .ok (.getfield 114, 3) := dk_180 0 114 (dk_at dksX4_person_5 0 rfl rfl)
theorem dX4_person_119 : decode cX4_person 119 = .ok (.aload_n 1, 1) := dk_43 (dk_at dksX4_person_5 3 rfl rfl)
theorem dX4_person_120 : decode cX4_person 120 = .ok (.invokeinterface 145 2, 5) := by decide +kernel
theorem dX4_person_125 : decode cX4_person 125 = .ok (.pop, 1) := dk_87 (dk_at dksX4_person_5 9 rfl rfl)
theorem dX4_person_126 : decode cX4_person 126 = .ok (.aload_n 0, 1) := dk_42 (dk_at dksX4_person_5 10 rfl rfl)
theorem dX4_person_127 : decode cX4_person 127 = .ok (.getfield 24, 3) := dk_180 0 24 (dk_at dksX4_person_5 11 rfl rfl)
theorem dX4_person_130 : decode cX4_person 130 = .ok (.getfield 148, 3) := dk_180 0 148 (dk_at dksX4_person_5 14 rfl rfl)
theorem dX4_person_133 : decode cX4_person 133 = .ok (.iload_n 2, 1) := dk_28 (dk_at dksX4_person_5 17 rfl rfl)
theorem dX4_person_134 : decode cX4_person 134 = .ok (.invokestatic 151, 3) := dk_184 0 151 (dk_at dksX4_person_5 18 rfl rfl)
theorem dX4_person_137 : decode cX4_person 137 = .ok (.invokeinterface 145 2, 5) := by decide +kernel
theorem dX4_person_142 : decode cX4_person 142 = .ok (.pop, 1) := dk_87 (dk_at dksX4_person_6 5 rfl rfl)
theorem dX4_person_143 : decode cX4_person 143 = .ok (.return_, 1) := dk_177 (dk_at dksX4_person_6 6 rfl rfl)
abbrev cX4_term : ByteArray := prog_10_method_6_code
def yX4_term : MethodName := ⟨RX4, "term", "()V"⟩
def dkwX4_term_3 : List UInt8 := [180, 0, 20, 182, 0, 138, 183, 0, 165, 185, 0, 145, 2, 0, 87, 177]
abbrev dktX4_term_3 : List UInt8 := dkwX4_term_3 ++ []
def dkwX4_term_2 : List UInt8 := [180, 0, 20, 178, 0, 160, 182, 0, 52, 42, 180, 0, 24, 180, 0, 157, 187, 0, 163, 89, 43, 42]
abbrev dktX4_term_2 : List UInt8 := dkwX4_term_2 ++ dktX4_term_3
def dkwX4_term_1 : List UInt8 := [167, 0, 4, 3, 8, 182, 0, 125, 42, 180, 0, 20, 182, 0, 129, 42, 180, 0, 20, 182, 0, 138, 76, 42]
abbrev dktX4_term_1 : List UInt8 := dkwX4_term_1 ++ dktX4_term_2
def dkwX4_term_0 : List UInt8 := [42, 180, 0, 20, 42, 180, 0, 24, 180, 0, 157, 185, 0, 120, 1, 0, 16, 12, 162, 0, 7, 4]
abbrev dktX4_term_0 : List UInt8 := dkwX4_term_0 ++ dktX4_term_1
theorem dksX4_term_0 : cX4_term.data.toList.drop 0 = dktX4_term_0 := by decide +kernel
theorem dksX4_term_1 : cX4_term.data.toList.drop 22 = dktX4_term_1 := dk_seg dksX4_term_0 22 rfl rfl
theorem dksX4_term_2 : cX4_term.data.toList.drop 46 = dktX4_term_2 := dk_seg dksX4_term_1 24 rfl rfl
theorem dksX4_term_3 : cX4_term.data.toList.drop 68 = dktX4_term_3 := dk_seg dksX4_term_2 22 rfl rfl
theorem dX4_term_0 : decode cX4_term 0 = .ok (.aload_n 0, 1) := dk_42 (dk_at dksX4_term_0 0 rfl rfl)
theorem dX4_term_1 : decode cX4_term 1 = .ok (.getfield 20, 3) := dk_180 0 20 (dk_at dksX4_term_0 1 rfl rfl)
theorem dX4_term_4 : decode cX4_term 4 = .ok (.aload_n 0, 1) := dk_42 (dk_at dksX4_term_0 4 rfl rfl)
theorem dX4_term_5 : decode cX4_term 5 = .ok (.getfield 24, 3) := dk_180 0 24 (dk_at dksX4_term_0 5 rfl rfl)
theorem dX4_term_8 : decode cX4_term 8 = .ok (.getfield 157, 3) := dk_180 0 157 (dk_at dksX4_term_0 8 rfl rfl)
theorem dX4_term_11 : decode cX4_term 11 = .ok (.invokeinterface 120 1, 5) := by decide +kernel
theorem dX4_term_16 : decode cX4_term 16 = .ok (.bipush 12, 2) := dk_16 12 (dk_at dksX4_term_0 16 rfl rfl)
theorem dX4_term_18 : decode cX4_term 18 = .ok (.if_icmp .ge 7, 3) := dk_162 0 7 (dk_at dksX4_term_0 18 rfl rfl)
theorem dX4_term_21 : decode cX4_term 21 = .ok (.iconst 1, 1) := dk_4 (dk_at dksX4_term_0 21 rfl rfl)
theorem dX4_term_22 : decode cX4_term 22 = .ok (.goto 4, 3) := dk_167 0 4 (dk_at dksX4_term_1 0 rfl rfl)
theorem dX4_term_25 : decode cX4_term 25 = .ok (.iconst 0, 1) := dk_3 (dk_at dksX4_term_1 3 rfl rfl)
theorem dX4_term_26 : decode cX4_term 26 = .ok (.iconst 5, 1) := dk_8 (dk_at dksX4_term_1 4 rfl rfl)
theorem dX4_term_27 : decode cX4_term 27 = .ok (.invokevirtual 125, 3) := dk_182 0 125 (dk_at dksX4_term_1 5 rfl rfl)
theorem dX4_term_30 : decode cX4_term 30 = .ok (.aload_n 0, 1) := dk_42 (dk_at dksX4_term_1 8 rfl rfl)
theorem dX4_term_31 : decode cX4_term 31 = .ok (.getfield 20, 3) := dk_180 0 20 (dk_at dksX4_term_1 9 rfl rfl)
theorem dX4_term_34 : decode cX4_term 34 = .ok (.invokevirtual 129, 3) := dk_182 0 129 (dk_at dksX4_term_1 12 rfl rfl)
theorem dX4_term_37 : decode cX4_term 37 = .ok (.aload_n 0, 1) := dk_42 (dk_at dksX4_term_1 15 rfl rfl)
theorem dX4_term_38 : decode cX4_term 38 = .ok (.getfield 20, 3) := dk_180 0 20 (dk_at dksX4_term_1 16 rfl rfl)
theorem dX4_term_41 : decode cX4_term 41 = .ok (.invokevirtual 138, 3) := dk_182 0 138 (dk_at dksX4_term_1 19 rfl rfl)
theorem dX4_term_44 : decode cX4_term 44 = .ok (.astore_n 1, 1) := dk_76 (dk_at dksX4_term_1 22 rfl rfl)
theorem dX4_term_45 : decode cX4_term 45 = .ok (.aload_n 0, 1) := dk_42 (dk_at dksX4_term_1 23 rfl rfl)
theorem dX4_term_46 : decode cX4_term 46 = .ok (.getfield 20, 3) := dk_180 0 20 (dk_at dksX4_term_2 0 rfl rfl)
theorem dX4_term_49 : decode cX4_term 49 = .ok (.getstatic 160, 3) := dk_178 0 160 (dk_at dksX4_term_2 3 rfl rfl)
theorem dX4_term_52 : decode cX4_term 52 = .ok (.invokevirtual 52, 3) := dk_182 0 52 (dk_at dksX4_term_2 6 rfl rfl)
theorem dX4_term_55 : decode cX4_term 55 = .ok (.aload_n 0, 1) := dk_42 (dk_at dksX4_term_2 9 rfl rfl)
theorem dX4_term_56 : decode cX4_term 56 = .ok (.getfield 24, 3) := dk_180 0 24 (dk_at dksX4_term_2 10 rfl rfl)
theorem dX4_term_59 : decode cX4_term 59 = .ok (.getfield 157, 3) := dk_180 0 157 (dk_at dksX4_term_2 13 rfl rfl)
theorem dX4_term_62 : decode cX4_term 62 = .ok (.new 163, 3) := dk_187 0 163 (dk_at dksX4_term_2 16 rfl rfl)
theorem dX4_term_65 : decode cX4_term 65 = .ok (.dup, 1) := dk_89 (dk_at dksX4_term_2 19 rfl rfl)
theorem dX4_term_66 : decode cX4_term 66 = .ok (.aload_n 1, 1) := dk_43 (dk_at dksX4_term_2 20 rfl rfl)
theorem dX4_term_67 : decode cX4_term 67 = .ok (.aload_n 0, 1) := dk_42 (dk_at dksX4_term_2 21 rfl rfl)
theorem dX4_term_68 : decode cX4_term 68 = .ok (.getfield 20, 3) := dk_180 0 20 (dk_at dksX4_term_3 0 rfl rfl)
theorem dX4_term_71 : decode cX4_term 71 = .ok (.invokevirtual 138, 3) := dk_182 0 138 (dk_at dksX4_term_3 3 rfl rfl)
theorem dX4_term_74 : decode cX4_term 74 = .ok (.invokespecial 165, 3) := dk_183 0 165 (dk_at dksX4_term_3 6 rfl rfl)
theorem dX4_term_77 : decode cX4_term 77 = .ok (.invokeinterface 145 2, 5) := by decide +kernel
theorem dX4_term_82 : decode cX4_term 82 = .ok (.pop, 1) := dk_87 (dk_at dksX4_term_3 14 rfl rfl)
theorem dX4_term_83 : decode cX4_term 83 = .ok (.return_, 1) := dk_177 (dk_at dksX4_term_3 15 rfl rfl)
abbrev cX4_readJob : ByteArray := prog_10_method_8_code
def yX4_readJob : MethodName := ⟨RX4, "readJob", "()V"⟩
def dkwX4_readJob_3 : List UInt8 := [180, 0, 24, 180, 0, 157, 185, 0, 120, 1, 0, 183, 0, 177, 185, 0, 145, 2, 0, 87, 177]
abbrev dktX4_readJob_3 : List UInt8 := dkwX4_readJob_3 ++ []
def dkwX4_readJob_2 : List UInt8 := [42, 180, 0, 24, 180, 0, 168, 187, 0, 175, 89, 27, 28, 42, 180, 0, 20, 4, 16, 99, 182, 0, 141, 42]
abbrev dktX4_readJob_2 : List UInt8 := dkwX4_readJob_2 ++ dktX4_readJob_3
def dkwX4_readJob_1 : List UInt8 := [3, 8, 182, 0, 125, 42, 180, 0, 20, 182, 0, 129, 42, 2, 182, 0, 171, 60, 42, 27, 182, 0, 171, 61]
abbrev dktX4_readJob_1 : List UInt8 := dkwX4_readJob_1 ++ dktX4_readJob_2
def dkwX4_readJob_0 : List UInt8 := [42, 180, 0, 20, 42, 180, 0, 24, 180, 0, 168, 185, 0, 120, 1, 0, 8, 162, 0, 7, 4, 167, 0, 4]
abbrev dktX4_readJob_0 : List UInt8 := dkwX4_readJob_0 ++ dktX4_readJob_1
theorem dksX4_readJob_0 : cX4_readJob.data.toList.drop 0 = dktX4_readJob_0 := by decide +kernel
theorem dksX4_readJob_1 : cX4_readJob.data.toList.drop 24 = dktX4_readJob_1 := dk_seg dksX4_readJob_0 24 rfl rfl
theorem dksX4_readJob_2 : cX4_readJob.data.toList.drop 48 = dktX4_readJob_2 := dk_seg dksX4_readJob_1 24 rfl rfl
theorem dksX4_readJob_3 : cX4_readJob.data.toList.drop 72 = dktX4_readJob_3 := dk_seg dksX4_readJob_2 24 rfl rfl
theorem dX4_readJob_0 : decode cX4_readJob 0 = .ok (.aload_n 0, 1) := dk_42 (dk_at dksX4_readJob_0 0 rfl rfl)
theorem dX4_readJob_1 : decode cX4_readJob 1 = .ok (.getfield 20, 3) := dk_180 0 20 (dk_at dksX4_readJob_0 1 rfl rfl)
theorem dX4_readJob_4 : decode cX4_readJob 4 = .ok (.aload_n 0, 1) := dk_42 (dk_at dksX4_readJob_0 4 rfl rfl)
theorem dX4_readJob_5 : decode cX4_readJob 5 = .ok (.getfield 24, 3) := dk_180 0 24 (dk_at dksX4_readJob_0 5 rfl rfl)
theorem dX4_readJob_8 : decode cX4_readJob 8 = .ok (.getfield 168, 3) := dk_180 0 168 (dk_at dksX4_readJob_0 8 rfl rfl)
theorem dX4_readJob_11 : decode cX4_readJob 11 = .ok (.invokeinterface 120 1, 5) := by decide +kernel
theorem dX4_readJob_16 : decode cX4_readJob 16 = .ok (.iconst 5, 1) := dk_8 (dk_at dksX4_readJob_0 16 rfl rfl)
theorem dX4_readJob_17 : decode cX4_readJob 17 = .ok (.if_icmp .ge 7, 3) := dk_162 0 7 (dk_at dksX4_readJob_0 17 rfl rfl)
theorem dX4_readJob_20 : decode cX4_readJob 20 = .ok (.iconst 1, 1) := dk_4 (dk_at dksX4_readJob_0 20 rfl rfl)
theorem dX4_readJob_21 : decode cX4_readJob 21 = .ok (.goto 4, 3) := dk_167 0 4 (dk_at dksX4_readJob_0 21 rfl rfl)
theorem dX4_readJob_24 : decode cX4_readJob 24 = .ok (.iconst 0, 1) := dk_3 (dk_at dksX4_readJob_1 0 rfl rfl)
theorem dX4_readJob_25 : decode cX4_readJob 25 = .ok (.iconst 5, 1) := dk_8 (dk_at dksX4_readJob_1 1 rfl rfl)
theorem dX4_readJob_26 : decode cX4_readJob 26 = .ok (.invokevirtual 125, 3) := dk_182 0 125 (dk_at dksX4_readJob_1 2 rfl rfl)
theorem dX4_readJob_29 : decode cX4_readJob 29 = .ok (.aload_n 0, 1) := dk_42 (dk_at dksX4_readJob_1 5 rfl rfl)
theorem dX4_readJob_30 : decode cX4_readJob 30 = .ok (.getfield 20, 3) := dk_180 0 20 (dk_at dksX4_readJob_1 6 rfl rfl)
theorem dX4_readJob_33 : decode cX4_readJob 33 = .ok (.invokevirtual 129, 3) := dk_182 0 129 (dk_at dksX4_readJob_1 9 rfl rfl)
theorem dX4_readJob_36 : decode cX4_readJob 36 = .ok (.aload_n 0, 1) := dk_42 (dk_at dksX4_readJob_1 12 rfl rfl)
theorem dX4_readJob_37 : decode cX4_readJob 37 = .ok (.iconst (-1), 1) := dk_2 (dk_at dksX4_readJob_1 13 rfl rfl)
theorem dX4_readJob_38 : decode cX4_readJob 38 = .ok (.invokevirtual 171, 3) := dk_182 0 171 (dk_at dksX4_readJob_1 14 rfl rfl)
theorem dX4_readJob_41 : decode cX4_readJob 41 = .ok (.istore_n 1, 1) := dk_60 (dk_at dksX4_readJob_1 17 rfl rfl)
theorem dX4_readJob_42 : decode cX4_readJob 42 = .ok (.aload_n 0, 1) := dk_42 (dk_at dksX4_readJob_1 18 rfl rfl)
theorem dX4_readJob_43 : decode cX4_readJob 43 = .ok (.iload_n 1, 1) := dk_27 (dk_at dksX4_readJob_1 19 rfl rfl)
theorem dX4_readJob_44 : decode cX4_readJob 44 = .ok (.invokevirtual 171, 3) := dk_182 0 171 (dk_at dksX4_readJob_1 20 rfl rfl)
theorem dX4_readJob_47 : decode cX4_readJob 47 = .ok (.istore_n 2, 1) := dk_61 (dk_at dksX4_readJob_1 23 rfl rfl)
theorem dX4_readJob_48 : decode cX4_readJob 48 = .ok (.aload_n 0, 1) := dk_42 (dk_at dksX4_readJob_2 0 rfl rfl)
theorem dX4_readJob_49 : decode cX4_readJob 49 = .ok (.getfield 24, 3) := dk_180 0 24 (dk_at dksX4_readJob_2 1 rfl rfl)
theorem dX4_readJob_52 : decode cX4_readJob 52 = .ok (.getfield 168, 3) := dk_180 0 168 (dk_at dksX4_readJob_2 4 rfl rfl)
theorem dX4_readJob_55 : decode cX4_readJob 55 = .ok (.new 175, 3) := dk_187 0 175 (dk_at dksX4_readJob_2 7 rfl rfl)
theorem dX4_readJob_58 : decode cX4_readJob 58 = .ok (.dup, 1) := dk_89 (dk_at dksX4_readJob_2 10 rfl rfl)
theorem dX4_readJob_59 : decode cX4_readJob 59 = .ok (.iload_n 1, 1) := dk_27 (dk_at dksX4_readJob_2 11 rfl rfl)
theorem dX4_readJob_60 : decode cX4_readJob 60 = .ok (.iload_n 2, 1) := dk_28 (dk_at dksX4_readJob_2 12 rfl rfl)
theorem dX4_readJob_61 : decode cX4_readJob 61 = .ok (.aload_n 0, 1) := dk_42 (dk_at dksX4_readJob_2 13 rfl rfl)
theorem dX4_readJob_62 : decode cX4_readJob 62 = .ok (.getfield 20, 3) := dk_180 0 20 (dk_at dksX4_readJob_2 14 rfl rfl)
theorem dX4_readJob_65 : decode cX4_readJob 65 = .ok (.iconst 1, 1) := dk_4 (dk_at dksX4_readJob_2 17 rfl rfl)
theorem dX4_readJob_66 : decode cX4_readJob 66 = .ok (.bipush 99, 2) := dk_16 99 (dk_at dksX4_readJob_2 18 rfl rfl)
theorem dX4_readJob_68 : decode cX4_readJob 68 = .ok (.invokevirtual 141, 3) := dk_182 0 141 (dk_at dksX4_readJob_2 20 rfl rfl)
theorem dX4_readJob_71 : decode cX4_readJob 71 = .ok (.aload_n 0, 1) := dk_42 (dk_at dksX4_readJob_2 23 rfl rfl)
theorem dX4_readJob_72 : decode cX4_readJob 72 = .ok (.getfield 24, 3) := dk_180 0 24 (dk_at dksX4_readJob_3 0 rfl rfl)
theorem dX4_readJob_75 : decode cX4_readJob 75 = .ok (.getfield 157, 3) := dk_180 0 157 (dk_at dksX4_readJob_3 3 rfl rfl)
theorem dX4_readJob_78 : decode cX4_readJob 78 = .ok (.invokeinterface 120 1, 5) := by decide +kernel
theorem dX4_readJob_83 : decode cX4_readJob 83 = .ok (.invokespecial 177, 3) := dk_183 0 177 (dk_at dksX4_readJob_3 11 rfl rfl)
theorem dX4_readJob_86 : decode cX4_readJob 86 = .ok (.invokeinterface 145 2, 5) := by decide +kernel
theorem dX4_readJob_91 : decode cX4_readJob 91 = .ok (.pop, 1) := dk_87 (dk_at dksX4_readJob_3 19 rfl rfl)
theorem dX4_readJob_92 : decode cX4_readJob 92 = .ok (.return_, 1) := dk_177 (dk_at dksX4_readJob_3 20 rfl rfl)
abbrev cX4_known : ByteArray := prog_10_method_7_code
def yX4_known : MethodName := ⟨RX4, "known", "(I)I"⟩
def dkwX4_known_3 : List UInt8 := [28, 172]
abbrev dktX4_known_3 : List UInt8 := dkwX4_known_3 ++ []
def dkwX4_known_2 : List UInt8 := [159, 0, 12, 28, 27, 159, 0, 7, 4, 167, 0, 4, 3, 7, 182, 0, 125, 42, 180, 0, 20, 182, 0, 129]
abbrev dktX4_known_2 : List UInt8 := dkwX4_known_2 ++ dktX4_known_3
def dkwX4_known_1 : List UInt8 := [182, 0, 41, 42, 180, 0, 24, 42, 180, 0, 20, 180, 0, 56, 182, 0, 135, 61, 42, 180, 0, 20, 28, 2]
abbrev dktX4_known_1 : List UInt8 := dkwX4_known_1 ++ dktX4_known_2
def dkwX4_known_0 : List UInt8 := [42, 180, 0, 20, 42, 180, 0, 20, 180, 0, 28, 178, 0, 132, 166, 0, 7, 4, 167, 0, 4, 3]
abbrev dktX4_known_0 : List UInt8 := dkwX4_known_0 ++ dktX4_known_1
theorem dksX4_known_0 : cX4_known.data.toList.drop 0 = dktX4_known_0 := by decide +kernel
theorem dksX4_known_1 : cX4_known.data.toList.drop 22 = dktX4_known_1 := dk_seg dksX4_known_0 22 rfl rfl
theorem dksX4_known_2 : cX4_known.data.toList.drop 46 = dktX4_known_2 := dk_seg dksX4_known_1 24 rfl rfl
theorem dksX4_known_3 : cX4_known.data.toList.drop 70 = dktX4_known_3 := dk_seg dksX4_known_2 24 rfl rfl
theorem dX4_known_0 : decode cX4_known 0 = .ok (.aload_n 0, 1) := dk_42 (dk_at dksX4_known_0 0 rfl rfl)
theorem dX4_known_1 : decode cX4_known 1 = .ok (.getfield 20, 3) := dk_180 0 20 (dk_at dksX4_known_0 1 rfl rfl)
theorem dX4_known_4 : decode cX4_known 4 = .ok (.aload_n 0, 1) := dk_42 (dk_at dksX4_known_0 4 rfl rfl)
theorem dX4_known_5 : decode cX4_known 5 = .ok (.getfield 20, 3) := dk_180 0 20 (dk_at dksX4_known_0 5 rfl rfl)
theorem dX4_known_8 : decode cX4_known 8 = .ok (.getfield 28, 3) := dk_180 0 28 (dk_at dksX4_known_0 8 rfl rfl)
theorem dX4_known_11 : decode cX4_known 11 = .ok (.getstatic 132, 3) := dk_178 0 132 (dk_at dksX4_known_0 11 rfl rfl)
theorem dX4_known_14 : decode cX4_known 14 = .ok (.if_acmp .ne 7, 3) := dk_166 0 7 (dk_at dksX4_known_0 14 rfl rfl)
theorem dX4_known_17 : decode cX4_known 17 = .ok (.iconst 1, 1) := dk_4 (dk_at dksX4_known_0 17 rfl rfl)
theorem dX4_known_18 : decode cX4_known 18 = .ok (.goto 4, 3) := dk_167 0 4 (dk_at dksX4_known_0 18 rfl rfl)
theorem dX4_known_21 : decode cX4_known 21 = .ok (.iconst 0, 1) := dk_3 (dk_at dksX4_known_0 21 rfl rfl)
theorem dX4_known_22 : decode cX4_known 22 = .ok (.invokevirtual 41, 3) := dk_182 0 41 (dk_at dksX4_known_1 0 rfl rfl)
theorem dX4_known_25 : decode cX4_known 25 = .ok (.aload_n 0, 1) := dk_42 (dk_at dksX4_known_1 3 rfl rfl)
theorem dX4_known_26 : decode cX4_known 26 = .ok (.getfield 24, 3) := dk_180 0 24 (dk_at dksX4_known_1 4 rfl rfl)
theorem dX4_known_29 : decode cX4_known 29 = .ok (.aload_n 0, 1) := dk_42 (dk_at dksX4_known_1 7 rfl rfl)
theorem dX4_known_30 : decode cX4_known 30 = .ok (.getfield 20, 3) := dk_180 0 20 (dk_at dksX4_known_1 8 rfl rfl)
theorem dX4_known_33 : decode cX4_known 33 = .ok (.getfield 56, 3) := dk_180 0 56 (dk_at dksX4_known_1 11 rfl rfl)
theorem dX4_known_36 : decode cX4_known 36 = .ok (.invokevirtual 135, 3) := dk_182 0 135 (dk_at dksX4_known_1 14 rfl rfl)
theorem dX4_known_39 : decode cX4_known 39 = .ok (.istore_n 2, 1) := dk_61 (dk_at dksX4_known_1 17 rfl rfl)
theorem dX4_known_40 : decode cX4_known 40 = .ok (.aload_n 0, 1) := dk_42 (dk_at dksX4_known_1 18 rfl rfl)
theorem dX4_known_41 : decode cX4_known 41 = .ok (.getfield 20, 3) := dk_180 0 20 (dk_at dksX4_known_1 19 rfl rfl)
theorem dX4_known_44 : decode cX4_known 44 = .ok (.iload_n 2, 1) := dk_28 (dk_at dksX4_known_1 22 rfl rfl)
theorem dX4_known_45 : decode cX4_known 45 = .ok (.iconst (-1), 1) := dk_2 (dk_at dksX4_known_1 23 rfl rfl)
theorem dX4_known_46 : decode cX4_known 46 = .ok (.if_icmp .eq 12, 3) := dk_159 0 12 (dk_at dksX4_known_2 0 rfl rfl)
theorem dX4_known_49 : decode cX4_known 49 = .ok (.iload_n 2, 1) := dk_28 (dk_at dksX4_known_2 3 rfl rfl)
theorem dX4_known_50 : decode cX4_known 50 = .ok (.iload_n 1, 1) := dk_27 (dk_at dksX4_known_2 4 rfl rfl)
theorem dX4_known_51 : decode cX4_known 51 = .ok (.if_icmp .eq 7, 3) := dk_159 0 7 (dk_at dksX4_known_2 5 rfl rfl)
theorem dX4_known_54 : decode cX4_known 54 = .ok (.iconst 1, 1) := dk_4 (dk_at dksX4_known_2 8 rfl rfl)
theorem dX4_known_55 : decode cX4_known 55 = .ok (.goto 4, 3) := dk_167 0 4 (dk_at dksX4_known_2 9 rfl rfl)
theorem dX4_known_58 : decode cX4_known 58 = .ok (.iconst 0, 1) := dk_3 (dk_at dksX4_known_2 12 rfl rfl)
theorem dX4_known_59 : decode cX4_known 59 = .ok (.iconst 4, 1) := dk_7 (dk_at dksX4_known_2 13 rfl rfl)
theorem dX4_known_60 : decode cX4_known 60 = .ok (.invokevirtual 125, 3) := dk_182 0 125 (dk_at dksX4_known_2 14 rfl rfl)
theorem dX4_known_63 : decode cX4_known 63 = .ok (.aload_n 0, 1) := dk_42 (dk_at dksX4_known_2 17 rfl rfl)
theorem dX4_known_64 : decode cX4_known 64 = .ok (.getfield 20, 3) := dk_180 0 20 (dk_at dksX4_known_2 18 rfl rfl)
theorem dX4_known_67 : decode cX4_known 67 = .ok (.invokevirtual 129, 3) := dk_182 0 129 (dk_at dksX4_known_2 21 rfl rfl)
theorem dX4_known_70 : decode cX4_known 70 = .ok (.iload_n 2, 1) := dk_28 (dk_at dksX4_known_3 0 rfl rfl)
theorem dX4_known_71 : decode cX4_known 71 = .ok (.ireturn, 1) := dk_172 (dk_at dksX4_known_3 1 rfl rfl)
abbrev cX4_segment : ByteArray := prog_10_method_10_code
def yX4_segment : MethodName := ⟨RX4, "segment", "()V"⟩
def dkwX4_segment_5 : List UInt8 := [177]
abbrev dktX4_segment_5 : List UInt8 := dkwX4_segment_5 ++ []
def dkwX4_segment_4 : List UInt8 := [180, 0, 168, 185, 0, 120, 1, 0, 4, 100, 43, 42, 182, 0, 190, 183, 0, 196, 185, 0, 145, 2, 0, 87]
abbrev dktX4_segment_4 : List UInt8 := dkwX4_segment_4 ++ dktX4_segment_5
def dkwX4_segment_3 : List UInt8 := [180, 0, 20, 178, 0, 160, 182, 0, 52, 42, 180, 0, 24, 180, 0, 187, 187, 0, 194, 89, 42, 180, 0, 24]
abbrev dktX4_segment_3 : List UInt8 := dkwX4_segment_3 ++ dktX4_segment_4
def dkwX4_segment_2 : List UInt8 := [4, 167, 0, 4, 3, 8, 182, 0, 125, 42, 180, 0, 20, 182, 0, 129, 42, 182, 0, 190, 76, 42]
abbrev dktX4_segment_2 : List UInt8 := dkwX4_segment_2 ++ dktX4_segment_3
def dkwX4_segment_1 : List UInt8 := [182, 0, 41, 42, 180, 0, 20, 42, 180, 0, 24, 180, 0, 187, 185, 0, 120, 1, 0, 16, 20, 162, 0, 7]
abbrev dktX4_segment_1 : List UInt8 := dkwX4_segment_1 ++ dktX4_segment_2
def dkwX4_segment_0 : List UInt8 := [42, 180, 0, 20, 42, 180, 0, 24, 180, 0, 168, 185, 0, 183, 1, 0, 154, 0, 7, 4, 167, 0, 4, 3]
abbrev dktX4_segment_0 : List UInt8 := dkwX4_segment_0 ++ dktX4_segment_1
theorem dksX4_segment_0 : cX4_segment.data.toList.drop 0 = dktX4_segment_0 := by decide +kernel
theorem dksX4_segment_1 : cX4_segment.data.toList.drop 24 = dktX4_segment_1 := dk_seg dksX4_segment_0 24 rfl rfl
theorem dksX4_segment_2 : cX4_segment.data.toList.drop 48 = dktX4_segment_2 := dk_seg dksX4_segment_1 24 rfl rfl
theorem dksX4_segment_3 : cX4_segment.data.toList.drop 70 = dktX4_segment_3 := dk_seg dksX4_segment_2 22 rfl rfl
theorem dksX4_segment_4 : cX4_segment.data.toList.drop 94 = dktX4_segment_4 := dk_seg dksX4_segment_3 24 rfl rfl
theorem dksX4_segment_5 : cX4_segment.data.toList.drop 118 = dktX4_segment_5 := dk_seg dksX4_segment_4 24 rfl rfl
theorem dX4_segment_0 : decode cX4_segment 0 = .ok (.aload_n 0, 1) := dk_42 (dk_at dksX4_segment_0 0 rfl rfl)
theorem dX4_segment_1 : decode cX4_segment 1 = .ok (.getfield 20, 3) := dk_180 0 20 (dk_at dksX4_segment_0 1 rfl rfl)
theorem dX4_segment_4 : decode cX4_segment 4 = .ok (.aload_n 0, 1) := dk_42 (dk_at dksX4_segment_0 4 rfl rfl)
theorem dX4_segment_5 : decode cX4_segment 5 = .ok (.getfield 24, 3) := dk_180 0 24 (dk_at dksX4_segment_0 5 rfl rfl)
theorem dX4_segment_8 : decode cX4_segment 8 = .ok (.getfield 168, 3) := dk_180 0 168 (dk_at dksX4_segment_0 8 rfl rfl)
theorem dX4_segment_11 : decode cX4_segment 11 = .ok (.invokeinterface 183 1, 5) := by decide +kernel
theorem dX4_segment_16 : decode cX4_segment 16 = .ok (.ifCond .ne 7, 3) := dk_154 0 7 (dk_at dksX4_segment_0 16 rfl rfl)
theorem dX4_segment_19 : decode cX4_segment 19 = .ok (.iconst 1, 1) := dk_4 (dk_at dksX4_segment_0 19 rfl rfl)
theorem dX4_segment_20 : decode cX4_segment 20 = .ok (.goto 4, 3) := dk_167 0 4 (dk_at dksX4_segment_0 20 rfl rfl)
theorem dX4_segment_23 : decode cX4_segment 23 = .ok (.iconst 0, 1) := dk_3 (dk_at dksX4_segment_0 23 rfl rfl)
theorem dX4_segment_24 : decode cX4_segment 24 = .ok (.invokevirtual 41, 3) := dk_182 0 41 (dk_at dksX4_segment_1 0 rfl rfl)
theorem dX4_segment_27 : decode cX4_segment 27 = .ok (.aload_n 0, 1) := dk_42 (dk_at dksX4_segment_1 3 rfl rfl)
theorem dX4_segment_28 : decode cX4_segment 28 = .ok (.getfield 20, 3) := dk_180 0 20 (dk_at dksX4_segment_1 4 rfl rfl)
theorem dX4_segment_31 : decode cX4_segment 31 = .ok (.aload_n 0, 1) := dk_42 (dk_at dksX4_segment_1 7 rfl rfl)
theorem dX4_segment_32 : decode cX4_segment 32 = .ok (.getfield 24, 3) := dk_180 0 24 (dk_at dksX4_segment_1 8 rfl rfl)
theorem dX4_segment_35 : decode cX4_segment 35 = .ok (.getfield 187, 3) := dk_180 0 187 (dk_at dksX4_segment_1 11 rfl rfl)
theorem dX4_segment_38 : decode cX4_segment 38 = .ok (.invokeinterface 120 1, 5) := by decide +kernel
theorem dX4_segment_43 : decode cX4_segment 43 = .ok (.bipush 20, 2) := dk_16 20 (dk_at dksX4_segment_1 19 rfl rfl)
theorem dX4_segment_45 : decode cX4_segment 45 = .ok (.if_icmp .ge 7, 3) := dk_162 0 7 (dk_at dksX4_segment_1 21 rfl rfl)
theorem dX4_segment_48 : decode cX4_segment 48 = .ok (.iconst 1, 1) := dk_4 (dk_at dksX4_segment_2 0 rfl rfl)
theorem dX4_segment_49 : decode cX4_segment 49 = .ok (.goto 4, 3) := dk_167 0 4 (dk_at dksX4_segment_2 1 rfl rfl)
theorem dX4_segment_52 : decode cX4_segment 52 = .ok (.iconst 0, 1) := dk_3 (dk_at dksX4_segment_2 4 rfl rfl)
theorem dX4_segment_53 : decode cX4_segment 53 = .ok (.iconst 5, 1) := dk_8 (dk_at dksX4_segment_2 5 rfl rfl)
theorem dX4_segment_54 : decode cX4_segment 54 = .ok (.invokevirtual 125, 3) := dk_182 0 125 (dk_at dksX4_segment_2 6 rfl rfl)
theorem dX4_segment_57 : decode cX4_segment 57 = .ok (.aload_n 0, 1) := dk_42 (dk_at dksX4_segment_2 9 rfl rfl)
theorem dX4_segment_58 : decode cX4_segment 58 = .ok (.getfield 20, 3) := dk_180 0 20 (dk_at dksX4_segment_2 10 rfl rfl)
theorem dX4_segment_61 : decode cX4_segment 61 = .ok (.invokevirtual 129, 3) := dk_182 0 129 (dk_at dksX4_segment_2 13 rfl rfl)
theorem dX4_segment_64 : decode cX4_segment 64 = .ok (.aload_n 0, 1) := dk_42 (dk_at dksX4_segment_2 16 rfl rfl)
theorem dX4_segment_65 : decode cX4_segment 65 = .ok (.invokevirtual 190, 3) := dk_182 0 190 (dk_at dksX4_segment_2 17 rfl rfl)
theorem dX4_segment_68 : decode cX4_segment 68 = .ok (.astore_n 1, 1) := dk_76 (dk_at dksX4_segment_2 20 rfl rfl)
theorem dX4_segment_69 : decode cX4_segment 69 = .ok (.aload_n 0, 1) := dk_42 (dk_at dksX4_segment_2 21 rfl rfl)
theorem dX4_segment_70 : decode cX4_segment 70 = .ok (.getfield 20, 3) := dk_180 0 20 (dk_at dksX4_segment_3 0 rfl rfl)
theorem dX4_segment_73 : decode cX4_segment 73 = .ok (.getstatic 160, 3) := dk_178 0 160 (dk_at dksX4_segment_3 3 rfl rfl)
theorem dX4_segment_76 : decode cX4_segment 76 = .ok (.invokevirtual 52, 3) := dk_182 0 52 (dk_at dksX4_segment_3 6 rfl rfl)
theorem dX4_segment_79 : decode cX4_segment 79 = .ok (.aload_n 0, 1) := dk_42 (dk_at dksX4_segment_3 9 rfl rfl)
theorem dX4_segment_80 : decode cX4_segment 80 = .ok (.getfield 24, 3) := dk_180 0 24 (dk_at dksX4_segment_3 10 rfl rfl)
theorem dX4_segment_83 : decode cX4_segment 83 = .ok (.getfield 187, 3) := dk_180 0 187 (dk_at dksX4_segment_3 13 rfl rfl)
theorem dX4_segment_86 : decode cX4_segment 86 = .ok (.new 194, 3) := dk_187 0 194 (dk_at dksX4_segment_3 16 rfl rfl)
theorem dX4_segment_89 : decode cX4_segment 89 = .ok (.dup, 1) := dk_89 (dk_at dksX4_segment_3 19 rfl rfl)
theorem dX4_segment_90 : decode cX4_segment 90 = .ok (.aload_n 0, 1) := dk_42 (dk_at dksX4_segment_3 20 rfl rfl)
theorem dX4_segment_91 : decode cX4_segment 91 = .ok (.getfield 24, 3) := dk_180 0 24 (dk_at dksX4_segment_3 21 rfl rfl)
theorem dX4_segment_94 : decode cX4_segment 94 = .ok (.getfield 168, 3) := dk_180 0 168 (dk_at dksX4_segment_4 0 rfl rfl)
theorem dX4_segment_97 : decode cX4_segment 97 = .ok (.invokeinterface 120 1, 5) := by decide +kernel
theorem dX4_segment_102 : decode cX4_segment 102 = .ok (.iconst 1, 1) := dk_4 (dk_at dksX4_segment_4 8 rfl rfl)
theorem dX4_segment_103 : decode cX4_segment 103 = .ok (.isub, 1) := dk_100 (dk_at dksX4_segment_4 9 rfl rfl)
theorem dX4_segment_104 : decode cX4_segment 104 = .ok (.aload_n 1, 1) := dk_43 (dk_at dksX4_segment_4 10 rfl rfl)
theorem dX4_segment_105 : decode cX4_segment 105 = .ok (.aload_n 0, 1) := dk_42 (dk_at dksX4_segment_4 11 rfl rfl)
theorem dX4_segment_106 : decode cX4_segment 106 = .ok (.invokevirtual 190, 3) := dk_182 0 190 (dk_at dksX4_segment_4 12 rfl rfl)
theorem dX4_segment_109 : decode cX4_segment 109 = .ok (.invokespecial 196, 3) := dk_183 0 196 (dk_at dksX4_segment_4 15 rfl rfl)
theorem dX4_segment_112 : decode cX4_segment 112 = .ok (.invokeinterface 145 2, 5) := by decide +kernel
theorem dX4_segment_117 : decode cX4_segment 117 = .ok (.pop, 1) := dk_87 (dk_at dksX4_segment_4 23 rfl rfl)
theorem dX4_segment_118 : decode cX4_segment 118 = .ok (.return_, 1) := dk_177 (dk_at dksX4_segment_5 0 rfl rfl)
abbrev cX4_row : ByteArray := prog_10_method_9_code
def yX4_row : MethodName := ⟨RX4, "row", "()Ljava/util/List;"⟩
def dkwX4_row_3 : List UInt8 := [185, 0, 145, 2, 0, 87, 42, 180, 0, 20, 180, 0, 28, 178, 0, 132, 165, 255, 183, 43, 176]
abbrev dktX4_row_3 : List UInt8 := dkwX4_row_3 ++ []
def dkwX4_row_2 : List UInt8 := [162, 0, 7, 4, 167, 0, 4, 3, 8, 182, 0, 125, 43, 42, 180, 0, 20, 182, 0, 138]
abbrev dktX4_row_2 : List UInt8 := dkwX4_row_2 ++ dktX4_row_3
def dkwX4_row_1 : List UInt8 := [166, 0, 7, 4, 167, 0, 4, 3, 182, 0, 41, 42, 180, 0, 20, 43, 185, 0, 120, 1, 0, 16, 8]
abbrev dktX4_row_1 : List UInt8 := dkwX4_row_1 ++ dktX4_row_2
def dkwX4_row_0 : List UInt8 := [187, 0, 180, 89, 183, 0, 182, 76, 42, 180, 0, 20, 42, 180, 0, 20, 180, 0, 28, 178, 0, 132]
abbrev dktX4_row_0 : List UInt8 := dkwX4_row_0 ++ dktX4_row_1
theorem dksX4_row_0 : cX4_row.data.toList.drop 0 = dktX4_row_0 := by decide +kernel
theorem dksX4_row_1 : cX4_row.data.toList.drop 22 = dktX4_row_1 := dk_seg dksX4_row_0 22 rfl rfl
theorem dksX4_row_2 : cX4_row.data.toList.drop 45 = dktX4_row_2 := dk_seg dksX4_row_1 23 rfl rfl
theorem dksX4_row_3 : cX4_row.data.toList.drop 65 = dktX4_row_3 := dk_seg dksX4_row_2 20 rfl rfl
theorem dX4_row_0 : decode cX4_row 0 = .ok (.new 180, 3) := dk_187 0 180 (dk_at dksX4_row_0 0 rfl rfl)
theorem dX4_row_3 : decode cX4_row 3 = .ok (.dup, 1) := dk_89 (dk_at dksX4_row_0 3 rfl rfl)
theorem dX4_row_4 : decode cX4_row 4 = .ok (.invokespecial 182, 3) := dk_183 0 182 (dk_at dksX4_row_0 4 rfl rfl)
theorem dX4_row_7 : decode cX4_row 7 = .ok (.astore_n 1, 1) := dk_76 (dk_at dksX4_row_0 7 rfl rfl)
theorem dX4_row_8 : decode cX4_row 8 = .ok (.aload_n 0, 1) := dk_42 (dk_at dksX4_row_0 8 rfl rfl)
theorem dX4_row_9 : decode cX4_row 9 = .ok (.getfield 20, 3) := dk_180 0 20 (dk_at dksX4_row_0 9 rfl rfl)
theorem dX4_row_12 : decode cX4_row 12 = .ok (.aload_n 0, 1) := dk_42 (dk_at dksX4_row_0 12 rfl rfl)
theorem dX4_row_13 : decode cX4_row 13 = .ok (.getfield 20, 3) := dk_180 0 20 (dk_at dksX4_row_0 13 rfl rfl)
theorem dX4_row_16 : decode cX4_row 16 = .ok (.getfield 28, 3) := dk_180 0 28 (dk_at dksX4_row_0 16 rfl rfl)
theorem dX4_row_19 : decode cX4_row 19 = .ok (.getstatic 132, 3) := dk_178 0 132 (dk_at dksX4_row_0 19 rfl rfl)
theorem dX4_row_22 : decode cX4_row 22 = .ok (.if_acmp .ne 7, 3) := dk_166 0 7 (dk_at dksX4_row_1 0 rfl rfl)
theorem dX4_row_25 : decode cX4_row 25 = .ok (.iconst 1, 1) := dk_4 (dk_at dksX4_row_1 3 rfl rfl)
theorem dX4_row_26 : decode cX4_row 26 = .ok (.goto 4, 3) := dk_167 0 4 (dk_at dksX4_row_1 4 rfl rfl)
theorem dX4_row_29 : decode cX4_row 29 = .ok (.iconst 0, 1) := dk_3 (dk_at dksX4_row_1 7 rfl rfl)
theorem dX4_row_30 : decode cX4_row 30 = .ok (.invokevirtual 41, 3) := dk_182 0 41 (dk_at dksX4_row_1 8 rfl rfl)
theorem dX4_row_33 : decode cX4_row 33 = .ok (.aload_n 0, 1) := dk_42 (dk_at dksX4_row_1 11 rfl rfl)
theorem dX4_row_34 : decode cX4_row 34 = .ok (.getfield 20, 3) := dk_180 0 20 (dk_at dksX4_row_1 12 rfl rfl)
theorem dX4_row_37 : decode cX4_row 37 = .ok (.aload_n 1, 1) := dk_43 (dk_at dksX4_row_1 15 rfl rfl)
theorem dX4_row_38 : decode cX4_row 38 = .ok (.invokeinterface 120 1, 5) := by decide +kernel
theorem dX4_row_43 : decode cX4_row 43 = .ok (.bipush 8, 2) := dk_16 8 (dk_at dksX4_row_1 21 rfl rfl)
theorem dX4_row_45 : decode cX4_row 45 = .ok (.if_icmp .ge 7, 3) := dk_162 0 7 (dk_at dksX4_row_2 0 rfl rfl)
theorem dX4_row_48 : decode cX4_row 48 = .ok (.iconst 1, 1) := dk_4 (dk_at dksX4_row_2 3 rfl rfl)
theorem dX4_row_49 : decode cX4_row 49 = .ok (.goto 4, 3) := dk_167 0 4 (dk_at dksX4_row_2 4 rfl rfl)
theorem dX4_row_52 : decode cX4_row 52 = .ok (.iconst 0, 1) := dk_3 (dk_at dksX4_row_2 7 rfl rfl)
theorem dX4_row_53 : decode cX4_row 53 = .ok (.iconst 5, 1) := dk_8 (dk_at dksX4_row_2 8 rfl rfl)
theorem dX4_row_54 : decode cX4_row 54 = .ok (.invokevirtual 125, 3) := dk_182 0 125 (dk_at dksX4_row_2 9 rfl rfl)
theorem dX4_row_57 : decode cX4_row 57 = .ok (.aload_n 1, 1) := dk_43 (dk_at dksX4_row_2 12 rfl rfl)
theorem dX4_row_58 : decode cX4_row 58 = .ok (.aload_n 0, 1) := dk_42 (dk_at dksX4_row_2 13 rfl rfl)
theorem dX4_row_59 : decode cX4_row 59 = .ok (.getfield 20, 3) := dk_180 0 20 (dk_at dksX4_row_2 14 rfl rfl)
theorem dX4_row_62 : decode cX4_row 62 = .ok (.invokevirtual 138, 3) := dk_182 0 138 (dk_at dksX4_row_2 17 rfl rfl)
theorem dX4_row_65 : decode cX4_row 65 = .ok (.invokeinterface 145 2, 5) := by decide +kernel
theorem dX4_row_70 : decode cX4_row 70 = .ok (.pop, 1) := dk_87 (dk_at dksX4_row_3 5 rfl rfl)
theorem dX4_row_71 : decode cX4_row 71 = .ok (.aload_n 0, 1) := dk_42 (dk_at dksX4_row_3 6 rfl rfl)
theorem dX4_row_72 : decode cX4_row 72 = .ok (.getfield 20, 3) := dk_180 0 20 (dk_at dksX4_row_3 7 rfl rfl)
theorem dX4_row_75 : decode cX4_row 75 = .ok (.getfield 28, 3) := dk_180 0 28 (dk_at dksX4_row_3 10 rfl rfl)
theorem dX4_row_78 : decode cX4_row 78 = .ok (.getstatic 132, 3) := dk_178 0 132 (dk_at dksX4_row_3 13 rfl rfl)
theorem dX4_row_81 : decode cX4_row 81 = .ok (.if_acmp .eq (-73), 3) := dk_165 255 183 (dk_at dksX4_row_3 16 rfl rfl)
theorem dX4_row_84 : decode cX4_row 84 = .ok (.aload_n 1, 1) := dk_43 (dk_at dksX4_row_3 19 rfl rfl)
theorem dX4_row_85 : decode cX4_row 85 = .ok (.areturn, 1) := dk_176 (dk_at dksX4_row_3 20 rfl rfl)
theorem q133 : (Jvm.Cond.initialized "TranslationBureau$Parser") ∈ lw_all := lw_g (lw_at lw_m1 16 rfl) rfl
theorem q216 : (Jvm.Cond.fieldLinkNest "TranslationBureau$Parser" (114 : Nat) "TranslationBureau$Office" "names" "Ljava/util/List;" "TranslationBureau") ∈ lw_tbl := lw_at lw_m1 99 rfl
theorem q219 : (Jvm.Cond.fieldLinkNest "TranslationBureau$Parser" (148 : Nat) "TranslationBureau$Office" "capacities" "Ljava/util/List;" "TranslationBureau") ∈ lw_tbl := lw_at lw_m1 102 rfl
theorem q222 : (Jvm.Cond.fieldLinkNest "TranslationBureau$Parser" (157 : Nat) "TranslationBureau$Office" "terms" "Ljava/util/List;" "TranslationBureau") ∈ lw_tbl := lw_at lw_m1 105 rfl
theorem q225 : (Jvm.Cond.fieldLinkNest "TranslationBureau$Parser" (168 : Nat) "TranslationBureau$Office" "jobs" "Ljava/util/List;" "TranslationBureau") ∈ lw_tbl := lw_at lw_m1 108 rfl
theorem q229 : (Jvm.Cond.fieldLinkNest "TranslationBureau$Parser" (187 : Nat) "TranslationBureau$Office" "segments" "Ljava/util/List;" "TranslationBureau") ∈ lw_tbl := lw_at lw_m1 112 rfl
theorem q716 : (Jvm.Cond.instantiable "TranslationBureau$Parser" (3 : Nat)) ∈ lw_all := lw_g (lw_at lw_m3 119 rfl) rfl
theorem q718 : (Jvm.Cond.instanceMethod ({ cls := "TranslationBureau$Parser", name := "<init>", desc := "(LTranslationBureau;ILTranslationBureau$Office;)V" } : Jvm.MethodName)) ∈ lw_all := lw_g (lw_at lw_m3 121 rfl) rfl
theorem q719 : (Jvm.Cond.code ({ cls := "TranslationBureau$Parser", name := "<init>", desc := "(LTranslationBureau;ILTranslationBureau$Office;)V" } : Jvm.MethodName) prog_10_method_1_code (4 : Nat) (Option.none : Option Jvm.ClassFile.FieldType)) ∈ lw_all := lw_g (lw_at lw_m3 122 rfl) rfl
theorem q720 : (Jvm.Cond.methodLink "TranslationBureau$Parser" (9 : Nat) ({ cls := "java/lang/Object", name := "<init>", desc := "()V" } : Jvm.MethodName)) ∈ lw_all := lw_g (lw_at lw_m3 123 rfl) rfl
theorem q721 : (Jvm.Cond.classLink "TranslationBureau$Parser" (15 : Nat) "TranslationBureau$Tokens") ∈ lw_all := lw_g (lw_at lw_m3 124 rfl) rfl
theorem q723 : (Jvm.Cond.methodLink "TranslationBureau$Parser" (17 : Nat) ({ cls := "TranslationBureau$Tokens", name := "<init>", desc := "(LTranslationBureau;I)V" } : Jvm.MethodName)) ∈ lw_all := lw_g (lw_at lw_m3 126 rfl) rfl
theorem q1008 : (Jvm.Cond.fieldLinkNest "TranslationBureau$Parser" (28 : Nat) "TranslationBureau$Tokens" "kind" "LTranslationBureau$Kind;" "TranslationBureau") ∈ lw_tbl := lw_at lw_m4 171 rfl
theorem q1010 : (Jvm.Cond.fieldLinkNest "TranslationBureau$Parser" (56 : Nat) "TranslationBureau$Tokens" "word" "Ljava/lang/String;" "TranslationBureau") ∈ lw_tbl := lw_at lw_m4 173 rfl
theorem q1028 : (Jvm.Cond.fieldLink "TranslationBureau$Parser" (20 : Nat) "TranslationBureau$Parser" "tokens" "LTranslationBureau$Tokens;") ∈ lw_all := lw_g (lw_at lw_m4 191 rfl) rfl
theorem q1031 : (Jvm.Cond.fieldLink "TranslationBureau$Parser" (24 : Nat) "TranslationBureau$Parser" "read" "LTranslationBureau$Office;") ∈ lw_all := lw_g (lw_at lw_m4 194 rfl) rfl
theorem q1034 : (Jvm.Cond.fieldLink "TranslationBureau$Parser" (3 : Nat) "TranslationBureau$Parser" "this$0" "LTranslationBureau;") ∈ lw_all := lw_g (lw_at lw_m4 197 rfl) rfl
theorem q1035 : (Jvm.Cond.laysFinal "TranslationBureau$Parser" "TranslationBureau$Parser" "tokens" "LTranslationBureau$Tokens;") ∈ lw_all := lw_g (lw_at lw_m4 198 rfl) rfl
theorem q1036 : (Jvm.Cond.soleField "TranslationBureau$Parser" "tokens") ∈ lw_all := lw_g (lw_at lw_m4 199 rfl) rfl
theorem q1037 : (Jvm.Cond.laysFinal "TranslationBureau$Parser" "TranslationBureau$Parser" "read" "LTranslationBureau$Office;") ∈ lw_all := lw_g (lw_at lw_m4 200 rfl) rfl
theorem q1038 : (Jvm.Cond.soleField "TranslationBureau$Parser" "read") ∈ lw_all := lw_g (lw_at lw_m4 201 rfl) rfl
theorem q1039 : (Jvm.Cond.laysFinal "TranslationBureau$Parser" "TranslationBureau$Parser" "this$0" "LTranslationBureau;") ∈ lw_all := lw_g (lw_at lw_m4 202 rfl) rfl
theorem q1040 : (Jvm.Cond.soleField "TranslationBureau$Parser" "this$0") ∈ lw_all := lw_g (lw_at lw_m4 203 rfl) rfl
theorem q1041 : (Jvm.Cond.superclass "TranslationBureau$Parser" "java/lang/Object") ∈ lw_all := lw_g (lw_at lw_m4 204 rfl) rfl
theorem q1043 : (Jvm.Cond.instanceMethod ({ cls := "TranslationBureau$Parser", name := "parse", desc := "()LTranslationBureau$Office;" } : Jvm.MethodName)) ∈ lw_all := lw_g (lw_at lw_m4 206 rfl) rfl
theorem q1044 : (Jvm.Cond.selects "TranslationBureau$Parser" ({ cls := "TranslationBureau$Parser", name := "parse", desc := "()LTranslationBureau$Office;" } : Jvm.MethodName) ({ cls := "TranslationBureau$Parser", name := "parse", desc := "()LTranslationBureau$Office;" } : Jvm.MethodName)) ∈ lw_all := lw_g (lw_at lw_m4 207 rfl) rfl
theorem q1045 : (Jvm.Cond.code ({ cls := "TranslationBureau$Parser", name := "parse", desc := "()LTranslationBureau$Office;" } : Jvm.MethodName) prog_10_method_2_code (2 : Nat) (Option.some (Jvm.ClassFile.FieldType.object "TranslationBureau$Office"))) ∈ lw_all := lw_g (lw_at lw_m4 208 rfl) rfl
theorem q1046 : (Jvm.Cond.fieldLink "TranslationBureau$Parser" (32 : Nat) "TranslationBureau$Kind" "END" "LTranslationBureau$Kind;") ∈ lw_all := lw_g (lw_at lw_m4 209 rfl) rfl
theorem q1047 : (Jvm.Cond.methodLink "TranslationBureau$Parser" (37 : Nat) ({ cls := "TranslationBureau$Parser", name := "statementAt", desc := "()LTranslationBureau$Statement;" } : Jvm.MethodName)) ∈ lw_all := lw_g (lw_at lw_m4 210 rfl) rfl
theorem q1048 : (Jvm.Cond.privateMethod ({ cls := "TranslationBureau$Parser", name := "statementAt", desc := "()LTranslationBureau$Statement;" } : Jvm.MethodName)) ∈ lw_tbl := lw_at lw_m4 211 rfl
theorem q1049 : (Jvm.Cond.instanceMethod ({ cls := "TranslationBureau$Parser", name := "statementAt", desc := "()LTranslationBureau$Statement;" } : Jvm.MethodName)) ∈ lw_all := lw_g (lw_at lw_m4 212 rfl) rfl
theorem q1050 : (Jvm.Cond.code ({ cls := "TranslationBureau$Parser", name := "statementAt", desc := "()LTranslationBureau$Statement;" } : Jvm.MethodName) prog_10_method_3_code (3 : Nat) (Option.some (Jvm.ClassFile.FieldType.object "TranslationBureau$Statement"))) ∈ lw_all := lw_g (lw_at lw_m4 213 rfl) rfl
theorem q1051 : (Jvm.Cond.methodLink "TranslationBureau$Parser" (60 : Nat) ({ cls := "java/lang/String", name := "hashCode", desc := "()I" } : Jvm.MethodName)) ∈ lw_all := lw_g (lw_at lw_m4 214 rfl) rfl
theorem q1112 : (Jvm.Cond.stringRef "TranslationBureau$Parser" (66 : Nat) "price") ∈ lw_tbl := lw_at lw_m5 35 rfl
theorem q1113 : (Jvm.Cond.methodLink "TranslationBureau$Parser" (68 : Nat) ({ cls := "java/lang/String", name := "equals", desc := "(Ljava/lang/Object;)Z" } : Jvm.MethodName)) ∈ lw_all := lw_g (lw_at lw_m5 36 rfl) rfl
theorem q1114 : (Jvm.Cond.stringRef "TranslationBureau$Parser" (72 : Nat) "speed") ∈ lw_tbl := lw_at lw_m5 37 rfl
theorem q1115 : (Jvm.Cond.stringRef "TranslationBureau$Parser" (74 : Nat) "rush") ∈ lw_tbl := lw_at lw_m5 38 rfl
theorem q1116 : (Jvm.Cond.stringRef "TranslationBureau$Parser" (76 : Nat) "revise") ∈ lw_tbl := lw_at lw_m5 39 rfl
theorem q1117 : (Jvm.Cond.stringRef "TranslationBureau$Parser" (78 : Nat) "band") ∈ lw_tbl := lw_at lw_m5 40 rfl
theorem q1118 : (Jvm.Cond.stringRef "TranslationBureau$Parser" (80 : Nat) "person") ∈ lw_tbl := lw_at lw_m5 41 rfl
theorem q1119 : (Jvm.Cond.stringRef "TranslationBureau$Parser" (82 : Nat) "term") ∈ lw_tbl := lw_at lw_m5 42 rfl
theorem q1120 : (Jvm.Cond.stringRef "TranslationBureau$Parser" (84 : Nat) "job") ∈ lw_tbl := lw_at lw_m5 43 rfl
theorem q1121 : (Jvm.Cond.stringRef "TranslationBureau$Parser" (86 : Nat) "segment") ∈ lw_tbl := lw_at lw_m5 44 rfl
theorem q1122 : (Jvm.Cond.methodLink "TranslationBureau$Parser" (88 : Nat) ({ cls := "TranslationBureau$Parser", name := "settingOf", desc := "(I)LTranslationBureau$Statement;" } : Jvm.MethodName)) ∈ lw_all := lw_g (lw_at lw_m5 45 rfl) rfl
theorem q1123 : (Jvm.Cond.privateMethod ({ cls := "TranslationBureau$Parser", name := "settingOf", desc := "(I)LTranslationBureau$Statement;" } : Jvm.MethodName)) ∈ lw_tbl := lw_at lw_m5 46 rfl
theorem q1124 : (Jvm.Cond.instanceMethod ({ cls := "TranslationBureau$Parser", name := "settingOf", desc := "(I)LTranslationBureau$Statement;" } : Jvm.MethodName)) ∈ lw_all := lw_g (lw_at lw_m5 47 rfl) rfl
theorem q1125 : (Jvm.Cond.code ({ cls := "TranslationBureau$Parser", name := "settingOf", desc := "(I)LTranslationBureau$Statement;" } : Jvm.MethodName) prog_10_method_4_code (2 : Nat) (Option.some (Jvm.ClassFile.FieldType.object "TranslationBureau$Statement"))) ∈ lw_all := lw_g (lw_at lw_m5 48 rfl) rfl
theorem q1126 : (Jvm.Cond.classLink "TranslationBureau$Parser" (109 : Nat) "TranslationBureau$Parser$6") ∈ lw_all := lw_g (lw_at lw_m5 49 rfl) rfl
theorem q1128 : (Jvm.Cond.methodLink "TranslationBureau$Parser" (111 : Nat) ({ cls := "TranslationBureau$Parser$6", name := "<init>", desc := "(LTranslationBureau$Parser;I)V" } : Jvm.MethodName)) ∈ lw_all := lw_g (lw_at lw_m5 51 rfl) rfl
theorem q1139 : (Jvm.Cond.classLink "TranslationBureau$Parser" (92 : Nat) "TranslationBureau$Parser$1") ∈ lw_all := lw_g (lw_at lw_m5 62 rfl) rfl
theorem q1141 : (Jvm.Cond.methodLink "TranslationBureau$Parser" (94 : Nat) ({ cls := "TranslationBureau$Parser$1", name := "<init>", desc := "(LTranslationBureau$Parser;)V" } : Jvm.MethodName)) ∈ lw_all := lw_g (lw_at lw_m5 64 rfl) rfl
theorem q1149 : (Jvm.Cond.classLink "TranslationBureau$Parser" (97 : Nat) "TranslationBureau$Parser$2") ∈ lw_all := lw_g (lw_at lw_m5 72 rfl) rfl
theorem q1151 : (Jvm.Cond.methodLink "TranslationBureau$Parser" (99 : Nat) ({ cls := "TranslationBureau$Parser$2", name := "<init>", desc := "(LTranslationBureau$Parser;)V" } : Jvm.MethodName)) ∈ lw_all := lw_g (lw_at lw_m5 74 rfl) rfl
theorem q1159 : (Jvm.Cond.classLink "TranslationBureau$Parser" (100 : Nat) "TranslationBureau$Parser$3") ∈ lw_all := lw_g (lw_at lw_m5 82 rfl) rfl
theorem q1161 : (Jvm.Cond.methodLink "TranslationBureau$Parser" (102 : Nat) ({ cls := "TranslationBureau$Parser$3", name := "<init>", desc := "(LTranslationBureau$Parser;)V" } : Jvm.MethodName)) ∈ lw_all := lw_g (lw_at lw_m5 84 rfl) rfl
theorem q1169 : (Jvm.Cond.classLink "TranslationBureau$Parser" (103 : Nat) "TranslationBureau$Parser$4") ∈ lw_all := lw_g (lw_at lw_m5 92 rfl) rfl
theorem q1171 : (Jvm.Cond.methodLink "TranslationBureau$Parser" (105 : Nat) ({ cls := "TranslationBureau$Parser$4", name := "<init>", desc := "(LTranslationBureau$Parser;)V" } : Jvm.MethodName)) ∈ lw_all := lw_g (lw_at lw_m5 94 rfl) rfl
theorem q1179 : (Jvm.Cond.classLink "TranslationBureau$Parser" (106 : Nat) "TranslationBureau$Parser$5") ∈ lw_all := lw_g (lw_at lw_m5 102 rfl) rfl
theorem q1181 : (Jvm.Cond.methodLink "TranslationBureau$Parser" (108 : Nat) ({ cls := "TranslationBureau$Parser$5", name := "<init>", desc := "(LTranslationBureau$Parser;)V" } : Jvm.MethodName)) ∈ lw_all := lw_g (lw_at lw_m5 104 rfl) rfl
theorem q1189 : (Jvm.Cond.methodLink "TranslationBureau$Parser" (41 : Nat) ({ cls := "TranslationBureau$Tokens", name := "expect", desc := "(Z)V" } : Jvm.MethodName)) ∈ lw_all := lw_g (lw_at lw_m5 112 rfl) rfl
theorem q1222 : (Jvm.Cond.interfaceEntry "TranslationBureau$Parser" (45 : Nat)) ∈ lw_tbl := lw_at lw_m5 145 rfl
theorem q1223 : (Jvm.Cond.methodLink "TranslationBureau$Parser" (45 : Nat) ({ cls := "TranslationBureau$Statement", name := "read", desc := "()V" } : Jvm.MethodName)) ∈ lw_all := lw_g (lw_at lw_m5 146 rfl) rfl
theorem q1268 : (Jvm.Cond.privateMethod ({ cls := "TranslationBureau$Parser", name := "person", desc := "()V" } : Jvm.MethodName)) ∈ lw_tbl := lw_at lw_m5 191 rfl
theorem q1269 : (Jvm.Cond.instanceMethod ({ cls := "TranslationBureau$Parser", name := "person", desc := "()V" } : Jvm.MethodName)) ∈ lw_all := lw_g (lw_at lw_m5 192 rfl) rfl
theorem q1270 : (Jvm.Cond.code ({ cls := "TranslationBureau$Parser", name := "person", desc := "()V" } : Jvm.MethodName) prog_10_method_5_code (3 : Nat) (Option.none : Option Jvm.ClassFile.FieldType)) ∈ lw_all := lw_g (lw_at lw_m5 193 rfl) rfl
theorem q1271 : (Jvm.Cond.interfaceEntry "TranslationBureau$Parser" (120 : Nat)) ∈ lw_tbl := lw_at lw_m5 194 rfl
theorem q1272 : (Jvm.Cond.methodLink "TranslationBureau$Parser" (120 : Nat) ({ cls := "java/util/List", name := "size", desc := "()I" } : Jvm.MethodName)) ∈ lw_all := lw_g (lw_at lw_m5 195 rfl) rfl
theorem q1273 : (Jvm.Cond.methodLink "TranslationBureau$Parser" (125 : Nat) ({ cls := "TranslationBureau$Tokens", name := "require", desc := "(ZI)V" } : Jvm.MethodName)) ∈ lw_all := lw_g (lw_at lw_m5 196 rfl) rfl
theorem q1274 : (Jvm.Cond.methodLink "TranslationBureau$Parser" (129 : Nat) ({ cls := "TranslationBureau$Tokens", name := "advance", desc := "()V" } : Jvm.MethodName)) ∈ lw_all := lw_g (lw_at lw_m5 197 rfl) rfl
theorem q1275 : (Jvm.Cond.fieldLink "TranslationBureau$Parser" (132 : Nat) "TranslationBureau$Kind" "WORD" "LTranslationBureau$Kind;") ∈ lw_all := lw_g (lw_at lw_m5 198 rfl) rfl
theorem q1276 : (Jvm.Cond.methodLink "TranslationBureau$Parser" (135 : Nat) ({ cls := "TranslationBureau$Office", name := "person", desc := "(Ljava/lang/String;)I" } : Jvm.MethodName)) ∈ lw_all := lw_g (lw_at lw_m5 199 rfl) rfl
theorem q1307 : (Jvm.Cond.selects "TranslationBureau$Parser" ({ cls := "java/lang/Object", name := "equals", desc := "(Ljava/lang/Object;)Z" } : Jvm.MethodName) ({ cls := "java/lang/Object", name := "equals", desc := "(Ljava/lang/Object;)Z" } : Jvm.MethodName)) ∈ lw_all := lw_g (lw_at lw_m5 230 rfl) rfl
theorem q1334 : (Jvm.Cond.methodLink "TranslationBureau$Parser" (138 : Nat) ({ cls := "TranslationBureau$Tokens", name := "word", desc := "()Ljava/lang/String;" } : Jvm.MethodName)) ∈ lw_all := lw_g (lw_at lw_m6 17 rfl) rfl
theorem q1338 : (Jvm.Cond.methodLink "TranslationBureau$Parser" (141 : Nat) ({ cls := "TranslationBureau$Tokens", name := "between", desc := "(II)I" } : Jvm.MethodName)) ∈ lw_all := lw_g (lw_at lw_m6 21 rfl) rfl
theorem q1339 : (Jvm.Cond.interfaceEntry "TranslationBureau$Parser" (145 : Nat)) ∈ lw_tbl := lw_at lw_m6 22 rfl
theorem q1340 : (Jvm.Cond.methodLink "TranslationBureau$Parser" (145 : Nat) ({ cls := "java/util/List", name := "add", desc := "(Ljava/lang/Object;)Z" } : Jvm.MethodName)) ∈ lw_all := lw_g (lw_at lw_m6 23 rfl) rfl
theorem q1375 : (Jvm.Cond.selects "TranslationBureau$Parser" ({ cls := "java/lang/Object", name := "getClass", desc := "()Ljava/lang/Class;" } : Jvm.MethodName) ({ cls := "java/lang/Object", name := "getClass", desc := "()Ljava/lang/Class;" } : Jvm.MethodName)) ∈ lw_all := lw_g (lw_at lw_m6 58 rfl) rfl
theorem q1410 : (Jvm.Cond.methodLink "TranslationBureau$Parser" (151 : Nat) ({ cls := "java/lang/Integer", name := "valueOf", desc := "(I)Ljava/lang/Integer;" } : Jvm.MethodName)) ∈ lw_all := lw_g (lw_at lw_m6 93 rfl) rfl
theorem q1418 : (Jvm.Cond.privateMethod ({ cls := "TranslationBureau$Parser", name := "term", desc := "()V" } : Jvm.MethodName)) ∈ lw_tbl := lw_at lw_m6 101 rfl
theorem q1419 : (Jvm.Cond.instanceMethod ({ cls := "TranslationBureau$Parser", name := "term", desc := "()V" } : Jvm.MethodName)) ∈ lw_all := lw_g (lw_at lw_m6 102 rfl) rfl
theorem q1420 : (Jvm.Cond.code ({ cls := "TranslationBureau$Parser", name := "term", desc := "()V" } : Jvm.MethodName) prog_10_method_6_code (2 : Nat) (Option.none : Option Jvm.ClassFile.FieldType)) ∈ lw_all := lw_g (lw_at lw_m6 103 rfl) rfl
theorem q1421 : (Jvm.Cond.fieldLink "TranslationBureau$Parser" (160 : Nat) "TranslationBureau$Kind" "EQUALS" "LTranslationBureau$Kind;") ∈ lw_all := lw_g (lw_at lw_m6 104 rfl) rfl
theorem q1422 : (Jvm.Cond.methodLink "TranslationBureau$Parser" (52 : Nat) ({ cls := "TranslationBureau$Tokens", name := "sign", desc := "(LTranslationBureau$Kind;)V" } : Jvm.MethodName)) ∈ lw_all := lw_g (lw_at lw_m6 105 rfl) rfl
theorem q1426 : (Jvm.Cond.classLink "TranslationBureau$Parser" (163 : Nat) "TranslationBureau$Term") ∈ lw_all := lw_g (lw_at lw_m6 109 rfl) rfl
theorem q1428 : (Jvm.Cond.methodLink "TranslationBureau$Parser" (165 : Nat) ({ cls := "TranslationBureau$Term", name := "<init>", desc := "(Ljava/lang/String;Ljava/lang/String;)V" } : Jvm.MethodName)) ∈ lw_all := lw_g (lw_at lw_m6 111 rfl) rfl
theorem q1450 : (Jvm.Cond.privateMethod ({ cls := "TranslationBureau$Parser", name := "readJob", desc := "()V" } : Jvm.MethodName)) ∈ lw_tbl := lw_at lw_m6 133 rfl
theorem q1451 : (Jvm.Cond.instanceMethod ({ cls := "TranslationBureau$Parser", name := "readJob", desc := "()V" } : Jvm.MethodName)) ∈ lw_all := lw_g (lw_at lw_m6 134 rfl) rfl
theorem q1452 : (Jvm.Cond.code ({ cls := "TranslationBureau$Parser", name := "readJob", desc := "()V" } : Jvm.MethodName) prog_10_method_8_code (3 : Nat) (Option.none : Option Jvm.ClassFile.FieldType)) ∈ lw_all := lw_g (lw_at lw_m6 135 rfl) rfl
theorem q1453 : (Jvm.Cond.methodLink "TranslationBureau$Parser" (171 : Nat) ({ cls := "TranslationBureau$Parser", name := "known", desc := "(I)I" } : Jvm.MethodName)) ∈ lw_all := lw_g (lw_at lw_m6 136 rfl) rfl
theorem q1454 : (Jvm.Cond.privateMethod ({ cls := "TranslationBureau$Parser", name := "known", desc := "(I)I" } : Jvm.MethodName)) ∈ lw_tbl := lw_at lw_m6 137 rfl
theorem q1455 : (Jvm.Cond.instanceMethod ({ cls := "TranslationBureau$Parser", name := "known", desc := "(I)I" } : Jvm.MethodName)) ∈ lw_all := lw_g (lw_at lw_m6 138 rfl) rfl
theorem q1456 : (Jvm.Cond.code ({ cls := "TranslationBureau$Parser", name := "known", desc := "(I)I" } : Jvm.MethodName) prog_10_method_7_code (3 : Nat) (Option.some Jvm.ClassFile.FieldType.int)) ∈ lw_all := lw_g (lw_at lw_m6 139 rfl) rfl
theorem q1457 : (Jvm.Cond.classLink "TranslationBureau$Parser" (175 : Nat) "TranslationBureau$Job") ∈ lw_all := lw_g (lw_at lw_m6 140 rfl) rfl
theorem q1459 : (Jvm.Cond.methodLink "TranslationBureau$Parser" (177 : Nat) ({ cls := "TranslationBureau$Job", name := "<init>", desc := "(IIII)V" } : Jvm.MethodName)) ∈ lw_all := lw_g (lw_at lw_m6 142 rfl) rfl
theorem q1491 : (Jvm.Cond.privateMethod ({ cls := "TranslationBureau$Parser", name := "segment", desc := "()V" } : Jvm.MethodName)) ∈ lw_tbl := lw_at lw_m6 174 rfl
theorem q1492 : (Jvm.Cond.instanceMethod ({ cls := "TranslationBureau$Parser", name := "segment", desc := "()V" } : Jvm.MethodName)) ∈ lw_all := lw_g (lw_at lw_m6 175 rfl) rfl
theorem q1493 : (Jvm.Cond.code ({ cls := "TranslationBureau$Parser", name := "segment", desc := "()V" } : Jvm.MethodName) prog_10_method_10_code (2 : Nat) (Option.none : Option Jvm.ClassFile.FieldType)) ∈ lw_all := lw_g (lw_at lw_m6 176 rfl) rfl
theorem q1494 : (Jvm.Cond.interfaceEntry "TranslationBureau$Parser" (183 : Nat)) ∈ lw_tbl := lw_at lw_m6 177 rfl
theorem q1495 : (Jvm.Cond.methodLink "TranslationBureau$Parser" (183 : Nat) ({ cls := "java/util/List", name := "isEmpty", desc := "()Z" } : Jvm.MethodName)) ∈ lw_all := lw_g (lw_at lw_m6 178 rfl) rfl
theorem q1503 : (Jvm.Cond.methodLink "TranslationBureau$Parser" (190 : Nat) ({ cls := "TranslationBureau$Parser", name := "row", desc := "()Ljava/util/List;" } : Jvm.MethodName)) ∈ lw_all := lw_g (lw_at lw_m6 186 rfl) rfl
theorem q1504 : (Jvm.Cond.privateMethod ({ cls := "TranslationBureau$Parser", name := "row", desc := "()Ljava/util/List;" } : Jvm.MethodName)) ∈ lw_tbl := lw_at lw_m6 187 rfl
theorem q1505 : (Jvm.Cond.instanceMethod ({ cls := "TranslationBureau$Parser", name := "row", desc := "()Ljava/util/List;" } : Jvm.MethodName)) ∈ lw_all := lw_g (lw_at lw_m6 188 rfl) rfl
theorem q1506 : (Jvm.Cond.code ({ cls := "TranslationBureau$Parser", name := "row", desc := "()Ljava/util/List;" } : Jvm.MethodName) prog_10_method_9_code (2 : Nat) (Option.some (Jvm.ClassFile.FieldType.object "java/util/List"))) ∈ lw_all := lw_g (lw_at lw_m6 189 rfl) rfl
theorem q1507 : (Jvm.Cond.classLink "TranslationBureau$Parser" (180 : Nat) "java/util/ArrayList") ∈ lw_all := lw_g (lw_at lw_m6 190 rfl) rfl
theorem q1508 : (Jvm.Cond.methodLink "TranslationBureau$Parser" (182 : Nat) ({ cls := "java/util/ArrayList", name := "<init>", desc := "()V" } : Jvm.MethodName)) ∈ lw_all := lw_g (lw_at lw_m6 191 rfl) rfl
theorem q1509 : (Jvm.Cond.classLink "TranslationBureau$Parser" (194 : Nat) "TranslationBureau$Segment") ∈ lw_all := lw_g (lw_at lw_m6 192 rfl) rfl
theorem q1511 : (Jvm.Cond.methodLink "TranslationBureau$Parser" (196 : Nat) ({ cls := "TranslationBureau$Segment", name := "<init>", desc := "(ILjava/util/List;Ljava/util/List;)V" } : Jvm.MethodName)) ∈ lw_all := lw_g (lw_at lw_m6 194 rfl) rfl
theorem q1546 : (Jvm.Cond.fieldLink "TranslationBureau$Parser" (49 : Nat) "TranslationBureau$Kind" "SEMICOLON" "LTranslationBureau$Kind;") ∈ lw_all := lw_g (lw_at lw_m6 229 rfl) rfl
theorem q3112 : (Jvm.Cond.castable "TranslationBureau$Parser" "java/lang/Object") ∈ lw_tbl := lw_at lw_m13 115 rfl
theorem in_X4 : ∀ w ∈ wsX40, w ∈ lw_all := lw_in wsX40 [1035, 1037, 1039] (by decide +kernel) (by decide +kernel)

/-! TranslationBureau$Tokens -/
set_option maxRecDepth 100000
def RX5 : String := "TranslationBureau$Tokens"
def TX5 : u_T := fun k => match k with
  | 0 => ("TranslationBureau$Tokens", "length", "I", true)
  | 1 => ("TranslationBureau$Tokens", "start", "I", false)
  | 2 => ("TranslationBureau$Tokens", "end", "I", false)
  | 3 => ("TranslationBureau$Tokens", "number", "I", false)
  | 4 => ("TranslationBureau$Tokens", "kind", "LTranslationBureau$Kind;", false)
  | 5 => ("TranslationBureau$Tokens", "word", "Ljava/lang/String;", false)
  | _ => ("TranslationBureau$Tokens", "this$0", "LTranslationBureau;", true)
def tyX5 : Nat → FieldType := fun k => match k with
  | 0 => .int
  | 1 => .int
  | 2 => .int
  | 3 => .int
  | 4 => .object "TranslationBureau$Kind"
  | 5 => .object "java/lang/String"
  | _ => .object "TranslationBureau"
abbrev wsX50 : List Cond := u_ws RX5 TX5 7
theorem nmX5 : ∀ a, a < 7 → ∀ b, b < 7 → a ≠ b → (TX5 a).2.1 ≠ (TX5 b).2.1 := by decide +kernel
theorem tyX5_ok : ∀ k, k < 7 → parseFieldDescriptor (TX5 k).2.2.1 = some (tyX5 k) := by decide +kernel
abbrev cX5_init : ByteArray := prog_23_method_1_code
def yX5_init : MethodName := ⟨RX5, "<init>", "(LTranslationBureau;I)V"⟩
def dkwX5_init_0 : List UInt8 := [42, 43, 181, 0, 3, 42, 183, 0, 9, 42, 28, 181, 0, 15, 42, 182, 0, 19, 177]
abbrev dktX5_init_0 : List UInt8 := dkwX5_init_0 ++ []
theorem dksX5_init_0 : cX5_init.data.toList.drop 0 = dktX5_init_0 := by decide +kernel
theorem dX5_init_0 : decode cX5_init 0 = .ok (.aload_n 0, 1) := dk_42 (dk_at dksX5_init_0 0 rfl rfl)
theorem dX5_init_1 : decode cX5_init 1 = .ok (.aload_n 1, 1) := dk_43 (dk_at dksX5_init_0 1 rfl rfl)
theorem dX5_init_2 : decode cX5_init 2 = .ok (.putfield 3, 3) := dk_181 0 3 (dk_at dksX5_init_0 2 rfl rfl)
theorem dX5_init_5 : decode cX5_init 5 = .ok (.aload_n 0, 1) := dk_42 (dk_at dksX5_init_0 5 rfl rfl)
theorem dX5_init_6 : decode cX5_init 6 = .ok (.invokespecial 9, 3) := dk_183 0 9 (dk_at dksX5_init_0 6 rfl rfl)
theorem dX5_init_9 : decode cX5_init 9 = .ok (.aload_n 0, 1) := dk_42 (dk_at dksX5_init_0 9 rfl rfl)
theorem dX5_init_10 : decode cX5_init 10 = .ok (.iload_n 2, 1) := dk_28 (dk_at dksX5_init_0 10 rfl rfl)
theorem dX5_init_11 : decode cX5_init 11 = .ok (.putfield 15, 3) := dk_181 0 15 (dk_at dksX5_init_0 11 rfl rfl)
theorem dX5_init_14 : decode cX5_init 14 = .ok (.aload_n 0, 1) := dk_42 (dk_at dksX5_init_0 14 rfl rfl)
theorem dX5_init_15 : decode cX5_init 15 = .ok (.invokevirtual 19, 3) := dk_182 0 19 (dk_at dksX5_init_0 15 rfl rfl)
theorem dX5_init_18 : decode cX5_init 18 = .ok (.return_, 1) := dk_177 (dk_at dksX5_init_0 18 rfl rfl)
abbrev cX5_advance : ByteArray := prog_23_method_6_code
def yX5_advance : MethodName := ⟨RX5, "advance", "()V"⟩
def dkwX5_advance_6 : List UInt8 := [181, 0, 48, 42, 89, 180, 0, 30, 4, 96, 181, 0, 30, 177]
abbrev dktX5_advance_6 : List UInt8 := dkwX5_advance_6 ++ []
def dkwX5_advance_5 : List UInt8 := [182, 0, 33, 153, 0, 10, 42, 182, 0, 79, 167, 0, 25, 42, 42, 42, 180, 0, 36, 182, 0, 82]
abbrev dktX5_advance_5 : List UInt8 := dkwX5_advance_5 ++ dktX5_advance_6
def dkwX5_advance_4 : List UInt8 := [16, 122, 182, 0, 33, 153, 0, 10, 42, 182, 0, 76, 167, 0, 47, 42, 42, 180, 0, 36, 16, 48, 16, 57]
abbrev dktX5_advance_4 : List UInt8 := dkwX5_advance_4 ++ dktX5_advance_5
def dkwX5_advance_3 : List UInt8 := [180, 0, 15, 161, 0, 13, 42, 178, 0, 73, 181, 0, 48, 167, 0, 69, 42, 42, 180, 0, 36, 16, 97]
abbrev dktX5_advance_3 : List UInt8 := dkwX5_advance_3 ++ dktX5_advance_4
def dkwX5_advance_2 : List UInt8 := [167, 255, 216, 42, 42, 180, 0, 36, 181, 0, 30, 42, 18, 55, 181, 0, 57, 42, 180, 0, 36, 42]
abbrev dktX5_advance_2 : List UInt8 := dkwX5_advance_2 ++ dktX5_advance_3
def dkwX5_advance_1 : List UInt8 := [42, 180, 0, 36, 16, 10, 16, 10, 182, 0, 33, 153, 0, 16, 42, 89, 180, 0, 36, 4, 96, 181, 0, 36]
abbrev dktX5_advance_1 : List UInt8 := dkwX5_advance_1 ++ dktX5_advance_2
def dkwX5_advance_0 : List UInt8 := [42, 42, 180, 0, 30, 181, 0, 36, 42, 42, 180, 0, 36, 16, 32, 16, 32, 182, 0, 33, 154, 0, 18, 42]
abbrev dktX5_advance_0 : List UInt8 := dkwX5_advance_0 ++ dktX5_advance_1
theorem dksX5_advance_0 : cX5_advance.data.toList.drop 0 = dktX5_advance_0 := by decide +kernel
theorem dksX5_advance_1 : cX5_advance.data.toList.drop 24 = dktX5_advance_1 := dk_seg dksX5_advance_0 24 rfl rfl
theorem dksX5_advance_2 : cX5_advance.data.toList.drop 48 = dktX5_advance_2 := dk_seg dksX5_advance_1 24 rfl rfl
theorem dksX5_advance_3 : cX5_advance.data.toList.drop 70 = dktX5_advance_3 := dk_seg dksX5_advance_2 22 rfl rfl
theorem dksX5_advance_4 : cX5_advance.data.toList.drop 93 = dktX5_advance_4 := dk_seg dksX5_advance_3 23 rfl rfl
theorem dksX5_advance_5 : cX5_advance.data.toList.drop 117 = dktX5_advance_5 := dk_seg dksX5_advance_4 24 rfl rfl
theorem dksX5_advance_6 : cX5_advance.data.toList.drop 139 = dktX5_advance_6 := dk_seg dksX5_advance_5 22 rfl rfl
theorem dX5_advance_0 : decode cX5_advance 0 = .ok (.aload_n 0, 1) := dk_42 (dk_at dksX5_advance_0 0 rfl rfl)
theorem dX5_advance_1 : decode cX5_advance 1 = .ok (.aload_n 0, 1) := dk_42 (dk_at dksX5_advance_0 1 rfl rfl)
theorem dX5_advance_2 : decode cX5_advance 2 = .ok (.getfield 30, 3) := dk_180 0 30 (dk_at dksX5_advance_0 2 rfl rfl)
theorem dX5_advance_5 : decode cX5_advance 5 = .ok (.putfield 36, 3) := dk_181 0 36 (dk_at dksX5_advance_0 5 rfl rfl)
theorem dX5_advance_8 : decode cX5_advance 8 = .ok (.aload_n 0, 1) := dk_42 (dk_at dksX5_advance_0 8 rfl rfl)
theorem dX5_advance_9 : decode cX5_advance 9 = .ok (.aload_n 0, 1) := dk_42 (dk_at dksX5_advance_0 9 rfl rfl)
theorem dX5_advance_10 : decode cX5_advance 10 = .ok (.getfield 36, 3) := dk_180 0 36 (dk_at dksX5_advance_0 10 rfl rfl)
theorem dX5_advance_13 : decode cX5_advance 13 = .ok (.bipush 32, 2) := dk_16 32 (dk_at dksX5_advance_0 13 rfl rfl)
theorem dX5_advance_15 : decode cX5_advance 15 = .ok (.bipush 32, 2) := dk_16 32 (dk_at dksX5_advance_0 15 rfl rfl)
theorem dX5_advance_17 : decode cX5_advance 17 = .ok (.invokevirtual 33, 3) := dk_182 0 33 (dk_at dksX5_advance_0 17 rfl rfl)
theorem dX5_advance_20 : decode cX5_advance 20 = .ok (.ifCond .ne 18, 3) := dk_154 0 18 (dk_at dksX5_advance_0 20 rfl rfl)
theorem dX5_advance_23 : decode cX5_advance 23 = .ok (.aload_n 0, 1) := dk_42 (dk_at dksX5_advance_0 23 rfl rfl)
theorem dX5_advance_24 : decode cX5_advance 24 = .ok (.aload_n 0, 1) := dk_42 (dk_at dksX5_advance_1 0 rfl rfl)
theorem dX5_advance_25 : decode cX5_advance 25 = .ok (.getfield 36, 3) := dk_180 0 36 (dk_at dksX5_advance_1 1 rfl rfl)
theorem dX5_advance_28 : decode cX5_advance 28 = .ok (.bipush 10, 2) := dk_16 10 (dk_at dksX5_advance_1 4 rfl rfl)
theorem dX5_advance_30 : decode cX5_advance 30 = .ok (.bipush 10, 2) := dk_16 10 (dk_at dksX5_advance_1 6 rfl rfl)
theorem dX5_advance_32 : decode cX5_advance 32 = .ok (.invokevirtual 33, 3) := dk_182 0 33 (dk_at dksX5_advance_1 8 rfl rfl)
theorem dX5_advance_35 : decode cX5_advance 35 = .ok (.ifCond .eq 16, 3) := dk_153 0 16 (dk_at dksX5_advance_1 11 rfl rfl)
theorem dX5_advance_38 : decode cX5_advance 38 = .ok (.aload_n 0, 1) := dk_42 (dk_at dksX5_advance_1 14 rfl rfl)
theorem dX5_advance_39 : decode cX5_advance 39 = .ok (.dup, 1) := dk_89 (dk_at dksX5_advance_1 15 rfl rfl)
theorem dX5_advance_40 : decode cX5_advance 40 = .ok (.getfield 36, 3) := dk_180 0 36 (dk_at dksX5_advance_1 16 rfl rfl)
theorem dX5_advance_43 : decode cX5_advance 43 = .ok (.iconst 1, 1) := dk_4 (dk_at dksX5_advance_1 19 rfl rfl)
theorem dX5_advance_44 : decode cX5_advance 44 = .ok (.iadd, 1) := dk_96 (dk_at dksX5_advance_1 20 rfl rfl)
theorem dX5_advance_45 : decode cX5_advance 45 = .ok (.putfield 36, 3) := dk_181 0 36 (dk_at dksX5_advance_1 21 rfl rfl)
theorem dX5_advance_48 : decode cX5_advance 48 = .ok (.goto (-40), 3) := dk_167 255 216 (dk_at dksX5_advance_2 0 rfl rfl)
theorem dX5_advance_51 : decode cX5_advance 51 = .ok (.aload_n 0, 1) := dk_42 (dk_at dksX5_advance_2 3 rfl rfl)
theorem dX5_advance_52 : decode cX5_advance 52 = .ok (.aload_n 0, 1) := dk_42 (dk_at dksX5_advance_2 4 rfl rfl)
theorem dX5_advance_53 : decode cX5_advance 53 = .ok (.getfield 36, 3) := dk_180 0 36 (dk_at dksX5_advance_2 5 rfl rfl)
theorem dX5_advance_56 : decode cX5_advance 56 = .ok (.putfield 30, 3) := dk_181 0 30 (dk_at dksX5_advance_2 8 rfl rfl)
theorem dX5_advance_59 : decode cX5_advance 59 = .ok (.aload_n 0, 1) := dk_42 (dk_at dksX5_advance_2 11 rfl rfl)
theorem dX5_advance_60 : decode cX5_advance 60 = .ok (.ldc 55, 2) := dk_18 55 (dk_at dksX5_advance_2 12 rfl rfl)
theorem dX5_advance_62 : decode cX5_advance 62 = .ok (.putfield 57, 3) := dk_181 0 57 (dk_at dksX5_advance_2 14 rfl rfl)
theorem dX5_advance_65 : decode cX5_advance 65 = .ok (.aload_n 0, 1) := dk_42 (dk_at dksX5_advance_2 17 rfl rfl)
theorem dX5_advance_66 : decode cX5_advance 66 = .ok (.getfield 36, 3) := dk_180 0 36 (dk_at dksX5_advance_2 18 rfl rfl)
theorem dX5_advance_69 : decode cX5_advance 69 = .ok (.aload_n 0, 1) := dk_42 (dk_at dksX5_advance_2 21 rfl rfl)
theorem dX5_advance_70 : decode cX5_advance 70 = .ok (.getfield 15, 3) := dk_180 0 15 (dk_at dksX5_advance_3 0 rfl rfl)
theorem dX5_advance_73 : decode cX5_advance 73 = .ok (.if_icmp .lt 13, 3) := dk_161 0 13 (dk_at dksX5_advance_3 3 rfl rfl)
theorem dX5_advance_76 : decode cX5_advance 76 = .ok (.aload_n 0, 1) := dk_42 (dk_at dksX5_advance_3 6 rfl rfl)
theorem dX5_advance_77 : decode cX5_advance 77 = .ok (.getstatic 73, 3) := dk_178 0 73 (dk_at dksX5_advance_3 7 rfl rfl)
theorem dX5_advance_80 : decode cX5_advance 80 = .ok (.putfield 48, 3) := dk_181 0 48 (dk_at dksX5_advance_3 10 rfl rfl)
theorem dX5_advance_83 : decode cX5_advance 83 = .ok (.goto 69, 3) := dk_167 0 69 (dk_at dksX5_advance_3 13 rfl rfl)
theorem dX5_advance_86 : decode cX5_advance 86 = .ok (.aload_n 0, 1) := dk_42 (dk_at dksX5_advance_3 16 rfl rfl)
theorem dX5_advance_87 : decode cX5_advance 87 = .ok (.aload_n 0, 1) := dk_42 (dk_at dksX5_advance_3 17 rfl rfl)
theorem dX5_advance_88 : decode cX5_advance 88 = .ok (.getfield 36, 3) := dk_180 0 36 (dk_at dksX5_advance_3 18 rfl rfl)
theorem dX5_advance_91 : decode cX5_advance 91 = .ok (.bipush 97, 2) := dk_16 97 (dk_at dksX5_advance_3 21 rfl rfl)
theorem dX5_advance_93 : decode cX5_advance 93 = .ok (.bipush 122, 2) := dk_16 122 (dk_at dksX5_advance_4 0 rfl rfl)
theorem dX5_advance_95 : decode cX5_advance 95 = .ok (.invokevirtual 33, 3) := dk_182 0 33 (dk_at dksX5_advance_4 2 rfl rfl)
theorem dX5_advance_98 : decode cX5_advance 98 = .ok (.ifCond .eq 10, 3) := dk_153 0 10 (dk_at dksX5_advance_4 5 rfl rfl)
theorem dX5_advance_101 : decode cX5_advance 101 = .ok (.aload_n 0, 1) := dk_42 (dk_at dksX5_advance_4 8 rfl rfl)
theorem dX5_advance_102 : decode cX5_advance 102 = .ok (.invokevirtual 76, 3) := dk_182 0 76 (dk_at dksX5_advance_4 9 rfl rfl)
theorem dX5_advance_105 : decode cX5_advance 105 = .ok (.goto 47, 3) := dk_167 0 47 (dk_at dksX5_advance_4 12 rfl rfl)
theorem dX5_advance_108 : decode cX5_advance 108 = .ok (.aload_n 0, 1) := dk_42 (dk_at dksX5_advance_4 15 rfl rfl)
theorem dX5_advance_109 : decode cX5_advance 109 = .ok (.aload_n 0, 1) := dk_42 (dk_at dksX5_advance_4 16 rfl rfl)
theorem dX5_advance_110 : decode cX5_advance 110 = .ok (.getfield 36, 3) := dk_180 0 36 (dk_at dksX5_advance_4 17 rfl rfl)
theorem dX5_advance_113 : decode cX5_advance 113 = .ok (.bipush 48, 2) := dk_16 48 (dk_at dksX5_advance_4 20 rfl rfl)
theorem dX5_advance_115 : decode cX5_advance 115 = .ok (.bipush 57, 2) := dk_16 57 (dk_at dksX5_advance_4 22 rfl rfl)
theorem dX5_advance_117 : decode cX5_advance 117 = .ok (.invokevirtual 33, 3) := dk_182 0 33 (dk_at dksX5_advance_5 0 rfl rfl)
theorem dX5_advance_120 : decode cX5_advance 120 = .ok (.ifCond .eq 10, 3) := dk_153 0 10 (dk_at dksX5_advance_5 3 rfl rfl)
theorem dX5_advance_123 : decode cX5_advance 123 = .ok (.aload_n 0, 1) := dk_42 (dk_at dksX5_advance_5 6 rfl rfl)
theorem dX5_advance_124 : decode cX5_advance 124 = .ok (.invokevirtual 79, 3) := dk_182 0 79 (dk_at dksX5_advance_5 7 rfl rfl)
theorem dX5_advance_127 : decode cX5_advance 127 = .ok (.goto 25, 3) := dk_167 0 25 (dk_at dksX5_advance_5 10 rfl rfl)
theorem dX5_advance_130 : decode cX5_advance 130 = .ok (.aload_n 0, 1) := dk_42 (dk_at dksX5_advance_5 13 rfl rfl)
theorem dX5_advance_131 : decode cX5_advance 131 = .ok (.aload_n 0, 1) := dk_42 (dk_at dksX5_advance_5 14 rfl rfl)
theorem dX5_advance_132 : decode cX5_advance 132 = .ok (.aload_n 0, 1) := dk_42 (dk_at dksX5_advance_5 15 rfl rfl)
theorem dX5_advance_133 : decode cX5_advance 133 = .ok (.getfield 36, 3) := dk_180 0 36 (dk_at dksX5_advance_5 16 rfl rfl)
theorem dX5_advance_136 : decode cX5_advance 136 = .ok (.invokevirtual 82, 3) := dk_182 0 82 (dk_at dksX5_advance_5 19 rfl rfl)
theorem dX5_advance_139 : decode cX5_advance 139 = .ok (.putfield 48, 3) := dk_181 0 48 (dk_at dksX5_advance_6 0 rfl rfl)
theorem dX5_advance_142 : decode cX5_advance 142 = .ok (.aload_n 0, 1) := dk_42 (dk_at dksX5_advance_6 3 rfl rfl)
theorem dX5_advance_143 : decode cX5_advance 143 = .ok (.dup, 1) := dk_89 (dk_at dksX5_advance_6 4 rfl rfl)
theorem dX5_advance_144 : decode cX5_advance 144 = .ok (.getfield 30, 3) := dk_180 0 30 (dk_at dksX5_advance_6 5 rfl rfl)
theorem dX5_advance_147 : decode cX5_advance 147 = .ok (.iconst 1, 1) := dk_4 (dk_at dksX5_advance_6 8 rfl rfl)
theorem dX5_advance_148 : decode cX5_advance 148 = .ok (.iadd, 1) := dk_96 (dk_at dksX5_advance_6 9 rfl rfl)
theorem dX5_advance_149 : decode cX5_advance 149 = .ok (.putfield 30, 3) := dk_181 0 30 (dk_at dksX5_advance_6 10 rfl rfl)
theorem dX5_advance_152 : decode cX5_advance 152 = .ok (.return_, 1) := dk_177 (dk_at dksX5_advance_6 13 rfl rfl)
abbrev cX5_isAt : ByteArray := prog_23_method_2_code
def yX5_isAt : MethodName := ⟨RX5, "isAt", "(III)Z"⟩
def dkwX5_isAt_1 : List UInt8 := [153, 0, 7, 4, 167, 0, 4, 3, 172]
abbrev dktX5_isAt_1 : List UInt8 := dkwX5_isAt_1 ++ []
def dkwX5_isAt_0 : List UInt8 := [27, 42, 180, 0, 15, 162, 0, 24, 42, 180, 0, 3, 180, 0, 22, 27, 51, 28, 29, 184, 0, 26]
abbrev dktX5_isAt_0 : List UInt8 := dkwX5_isAt_0 ++ dktX5_isAt_1
theorem dksX5_isAt_0 : cX5_isAt.data.toList.drop 0 = dktX5_isAt_0 := by decide +kernel
theorem dksX5_isAt_1 : cX5_isAt.data.toList.drop 22 = dktX5_isAt_1 := dk_seg dksX5_isAt_0 22 rfl rfl
theorem dX5_isAt_0 : decode cX5_isAt 0 = .ok (.iload_n 1, 1) := dk_27 (dk_at dksX5_isAt_0 0 rfl rfl)
theorem dX5_isAt_1 : decode cX5_isAt 1 = .ok (.aload_n 0, 1) := dk_42 (dk_at dksX5_isAt_0 1 rfl rfl)
theorem dX5_isAt_2 : decode cX5_isAt 2 = .ok (.getfield 15, 3) := dk_180 0 15 (dk_at dksX5_isAt_0 2 rfl rfl)
theorem dX5_isAt_5 : decode cX5_isAt 5 = .ok (.if_icmp .ge 24, 3) := dk_162 0 24 (dk_at dksX5_isAt_0 5 rfl rfl)
theorem dX5_isAt_8 : decode cX5_isAt 8 = .ok (.aload_n 0, 1) := dk_42 (dk_at dksX5_isAt_0 8 rfl rfl)
theorem dX5_isAt_9 : decode cX5_isAt 9 = .ok (.getfield 3, 3) := dk_180 0 3 (dk_at dksX5_isAt_0 9 rfl rfl)
theorem dX5_isAt_12 : decode cX5_isAt 12 = .ok (.getfield 22, 3) := dk_180 0 22 (dk_at dksX5_isAt_0 12 rfl rfl)
theorem dX5_isAt_15 : decode cX5_isAt 15 = .ok (.iload_n 1, 1) := dk_27 (dk_at dksX5_isAt_0 15 rfl rfl)
theorem dX5_isAt_16 : decode cX5_isAt 16 = .ok (.baload, 1) := dk_51 (dk_at dksX5_isAt_0 16 rfl rfl)
theorem dX5_isAt_17 : decode cX5_isAt 17 = .ok (.iload_n 2, 1) := dk_28 (dk_at dksX5_isAt_0 17 rfl rfl)
theorem dX5_isAt_18 : decode cX5_isAt 18 = .ok (.iload_n 3, 1) := dk_29 (dk_at dksX5_isAt_0 18 rfl rfl)
theorem dX5_isAt_19 : decode cX5_isAt 19 = .ok (.invokestatic 26, 3) := dk_184 0 26 (dk_at dksX5_isAt_0 19 rfl rfl)
theorem dX5_isAt_22 : decode cX5_isAt 22 = .ok (.ifCond .eq 7, 3) := dk_153 0 7 (dk_at dksX5_isAt_1 0 rfl rfl)
theorem dX5_isAt_25 : decode cX5_isAt 25 = .ok (.iconst 1, 1) := dk_4 (dk_at dksX5_isAt_1 3 rfl rfl)
theorem dX5_isAt_26 : decode cX5_isAt 26 = .ok (.goto 4, 3) := dk_167 0 4 (dk_at dksX5_isAt_1 4 rfl rfl)
theorem dX5_isAt_29 : decode cX5_isAt 29 = .ok (.iconst 0, 1) := dk_3 (dk_at dksX5_isAt_1 7 rfl rfl)
theorem dX5_isAt_30 : decode cX5_isAt 30 = .ok (.ireturn, 1) := dk_172 (dk_at dksX5_isAt_1 8 rfl rfl)
abbrev cX5_readWord : ByteArray := prog_23_method_3_code
def yX5_readWord : MethodName := ⟨RX5, "readWord", "()V"⟩
def dkwX5_readWord_3 : List UInt8 := [42, 180, 0, 36, 42, 180, 0, 30, 182, 0, 51, 167, 0, 5, 18, 55, 181, 0, 57, 177]
abbrev dktX5_readWord_3 : List UInt8 := dkwX5_readWord_3 ++ []
def dkwX5_readWord_2 : List UInt8 := [167, 0, 6, 178, 0, 45, 181, 0, 48, 42, 42, 180, 0, 48, 178, 0, 45, 166, 0, 21, 42, 180, 0, 3]
abbrev dktX5_readWord_2 : List UInt8 := dkwX5_readWord_2 ++ dktX5_readWord_3
def dkwX5_readWord_1 : List UInt8 := [181, 0, 30, 167, 255, 231, 42, 42, 180, 0, 30, 42, 180, 0, 36, 100, 16, 8, 164, 0, 9, 178, 0, 39]
abbrev dktX5_readWord_1 : List UInt8 := dkwX5_readWord_1 ++ dktX5_readWord_2
def dkwX5_readWord_0 : List UInt8 := [42, 42, 180, 0, 30, 16, 97, 16, 122, 182, 0, 33, 153, 0, 16, 42, 89, 180, 0, 30, 4, 96]
abbrev dktX5_readWord_0 : List UInt8 := dkwX5_readWord_0 ++ dktX5_readWord_1
theorem dksX5_readWord_0 : cX5_readWord.data.toList.drop 0 = dktX5_readWord_0 := by decide +kernel
theorem dksX5_readWord_1 : cX5_readWord.data.toList.drop 22 = dktX5_readWord_1 := dk_seg dksX5_readWord_0 22 rfl rfl
theorem dksX5_readWord_2 : cX5_readWord.data.toList.drop 46 = dktX5_readWord_2 := dk_seg dksX5_readWord_1 24 rfl rfl
theorem dksX5_readWord_3 : cX5_readWord.data.toList.drop 70 = dktX5_readWord_3 := dk_seg dksX5_readWord_2 24 rfl rfl
theorem dX5_readWord_0 : decode cX5_readWord 0 = .ok (.aload_n 0, 1) := dk_42 (dk_at dksX5_readWord_0 0 rfl rfl)
theorem dX5_readWord_1 : decode cX5_readWord 1 = .ok (.aload_n 0, 1) := dk_42 (dk_at dksX5_readWord_0 1 rfl rfl)
theorem dX5_readWord_2 : decode cX5_readWord 2 = .ok (.getfield 30, 3) := dk_180 0 30 (dk_at dksX5_readWord_0 2 rfl rfl)
theorem dX5_readWord_5 : decode cX5_readWord 5 = .ok (.bipush 97, 2) := dk_16 97 (dk_at dksX5_readWord_0 5 rfl rfl)
theorem dX5_readWord_7 : decode cX5_readWord 7 = .ok (.bipush 122, 2) := dk_16 122 (dk_at dksX5_readWord_0 7 rfl rfl)
theorem dX5_readWord_9 : decode cX5_readWord 9 = .ok (.invokevirtual 33, 3) := dk_182 0 33 (dk_at dksX5_readWord_0 9 rfl rfl)
theorem dX5_readWord_12 : decode cX5_readWord 12 = .ok (.ifCond .eq 16, 3) := dk_153 0 16 (dk_at dksX5_readWord_0 12 rfl rfl)
theorem dX5_readWord_15 : decode cX5_readWord 15 = .ok (.aload_n 0, 1) := dk_42 (dk_at dksX5_readWord_0 15 rfl rfl)
theorem dX5_readWord_16 : decode cX5_readWord 16 = .ok (.dup, 1) := dk_89 (dk_at dksX5_readWord_0 16 rfl rfl)
theorem dX5_readWord_17 : decode cX5_readWord 17 = .ok (.getfield 30, 3) := dk_180 0 30 (dk_at dksX5_readWord_0 17 rfl rfl)
theorem dX5_readWord_20 : decode cX5_readWord 20 = .ok (.iconst 1, 1) := dk_4 (dk_at dksX5_readWord_0 20 rfl rfl)
theorem dX5_readWord_21 : decode cX5_readWord 21 = .ok (.iadd, 1) := dk_96 (dk_at dksX5_readWord_0 21 rfl rfl)
theorem dX5_readWord_22 : decode cX5_readWord 22 = .ok (.putfield 30, 3) := dk_181 0 30 (dk_at dksX5_readWord_1 0 rfl rfl)
theorem dX5_readWord_25 : decode cX5_readWord 25 = .ok (.goto (-25), 3) := dk_167 255 231 (dk_at dksX5_readWord_1 3 rfl rfl)
theorem dX5_readWord_28 : decode cX5_readWord 28 = .ok (.aload_n 0, 1) := dk_42 (dk_at dksX5_readWord_1 6 rfl rfl)
theorem dX5_readWord_29 : decode cX5_readWord 29 = .ok (.aload_n 0, 1) := dk_42 (dk_at dksX5_readWord_1 7 rfl rfl)
theorem dX5_readWord_30 : decode cX5_readWord 30 = .ok (.getfield 30, 3) := dk_180 0 30 (dk_at dksX5_readWord_1 8 rfl rfl)
theorem dX5_readWord_33 : decode cX5_readWord 33 = .ok (.aload_n 0, 1) := dk_42 (dk_at dksX5_readWord_1 11 rfl rfl)
theorem dX5_readWord_34 : decode cX5_readWord 34 = .ok (.getfield 36, 3) := dk_180 0 36 (dk_at dksX5_readWord_1 12 rfl rfl)
theorem dX5_readWord_37 : decode cX5_readWord 37 = .ok (.isub, 1) := dk_100 (dk_at dksX5_readWord_1 15 rfl rfl)
theorem dX5_readWord_38 : decode cX5_readWord 38 = .ok (.bipush 8, 2) := dk_16 8 (dk_at dksX5_readWord_1 16 rfl rfl)
theorem dX5_readWord_40 : decode cX5_readWord 40 = .ok (.if_icmp .le 9, 3) := dk_164 0 9 (dk_at dksX5_readWord_1 18 rfl rfl)
theorem dX5_readWord_43 : decode cX5_readWord 43 = .ok (.getstatic 39, 3) := dk_178 0 39 (dk_at dksX5_readWord_1 21 rfl rfl)
theorem dX5_readWord_46 : decode cX5_readWord 46 = .ok (.goto 6, 3) := dk_167 0 6 (dk_at dksX5_readWord_2 0 rfl rfl)
theorem dX5_readWord_49 : decode cX5_readWord 49 = .ok (.getstatic 45, 3) := dk_178 0 45 (dk_at dksX5_readWord_2 3 rfl rfl)
theorem dX5_readWord_52 : decode cX5_readWord 52 = .ok (.putfield 48, 3) := dk_181 0 48 (dk_at dksX5_readWord_2 6 rfl rfl)
theorem dX5_readWord_55 : decode cX5_readWord 55 = .ok (.aload_n 0, 1) := dk_42 (dk_at dksX5_readWord_2 9 rfl rfl)
theorem dX5_readWord_56 : decode cX5_readWord 56 = .ok (.aload_n 0, 1) := dk_42 (dk_at dksX5_readWord_2 10 rfl rfl)
theorem dX5_readWord_57 : decode cX5_readWord 57 = .ok (.getfield 48, 3) := dk_180 0 48 (dk_at dksX5_readWord_2 11 rfl rfl)
theorem dX5_readWord_60 : decode cX5_readWord 60 = .ok (.getstatic 45, 3) := dk_178 0 45 (dk_at dksX5_readWord_2 14 rfl rfl)
theorem dX5_readWord_63 : decode cX5_readWord 63 = .ok (.if_acmp .ne 21, 3) := dk_166 0 21 (dk_at dksX5_readWord_2 17 rfl rfl)
theorem dX5_readWord_66 : decode cX5_readWord 66 = .ok (.aload_n 0, 1) := dk_42 (dk_at dksX5_readWord_2 20 rfl rfl)
theorem dX5_readWord_67 : decode cX5_readWord 67 = .ok (.getfield 3, 3) := dk_180 0 3 (dk_at dksX5_readWord_2 21 rfl rfl)
theorem dX5_readWord_70 : decode cX5_readWord 70 = .ok (.aload_n 0, 1) := dk_42 (dk_at dksX5_readWord_3 0 rfl rfl)
theorem dX5_readWord_71 : decode cX5_readWord 71 = .ok (.getfield 36, 3) := dk_180 0 36 (dk_at dksX5_readWord_3 1 rfl rfl)
theorem dX5_readWord_74 : decode cX5_readWord 74 = .ok (.aload_n 0, 1) := dk_42 (dk_at dksX5_readWord_3 4 rfl rfl)
theorem dX5_readWord_75 : decode cX5_readWord 75 = .ok (.getfield 30, 3) := dk_180 0 30 (dk_at dksX5_readWord_3 5 rfl rfl)
theorem dX5_readWord_78 : decode cX5_readWord 78 = .ok (.invokevirtual 51, 3) := dk_182 0 51 (dk_at dksX5_readWord_3 8 rfl rfl)
theorem dX5_readWord_81 : decode cX5_readWord 81 = .ok (.goto 5, 3) := dk_167 0 5 (dk_at dksX5_readWord_3 11 rfl rfl)
theorem dX5_readWord_84 : decode cX5_readWord 84 = .ok (.ldc 55, 2) := dk_18 55 (dk_at dksX5_readWord_3 14 rfl rfl)
theorem dX5_readWord_86 : decode cX5_readWord 86 = .ok (.putfield 57, 3) := dk_181 0 57 (dk_at dksX5_readWord_3 16 rfl rfl)
theorem dX5_readWord_89 : decode cX5_readWord 89 = .ok (.return_, 1) := dk_177 (dk_at dksX5_readWord_3 19 rfl rfl)
abbrev cX5_readNumber : ByteArray := prog_23_method_4_code
def yX5_readNumber : MethodName := ⟨RX5, "readNumber", "()V"⟩
def dkwX5_readNumber_4 : List UInt8 := [178, 0, 64, 181, 0, 48, 177]
abbrev dktX5_readNumber_4 : List UInt8 := dkwX5_readNumber_4 ++ []
def dkwX5_readNumber_3 : List UInt8 := [167, 255, 191, 42, 42, 180, 0, 30, 42, 180, 0, 36, 100, 7, 164, 0, 9, 178, 0, 39, 167, 0, 6]
abbrev dktX5_readNumber_3 : List UInt8 := dkwX5_readNumber_3 ++ dktX5_readNumber_4
def dkwX5_readNumber_2 : List UInt8 := [42, 180, 0, 30, 51, 96, 16, 48, 100, 181, 0, 61, 42, 89, 180, 0, 30, 4, 96, 181, 0, 30]
abbrev dktX5_readNumber_2 : List UInt8 := dkwX5_readNumber_2 ++ dktX5_readNumber_3
def dkwX5_readNumber_1 : List UInt8 := [42, 180, 0, 36, 100, 7, 162, 0, 30, 42, 16, 10, 42, 180, 0, 61, 104, 42, 180, 0, 3, 180, 0, 22]
abbrev dktX5_readNumber_1 : List UInt8 := dkwX5_readNumber_1 ++ dktX5_readNumber_2
def dkwX5_readNumber_0 : List UInt8 := [42, 3, 181, 0, 61, 42, 42, 180, 0, 30, 16, 48, 16, 57, 182, 0, 33, 153, 0, 56, 42, 180, 0, 30]
abbrev dktX5_readNumber_0 : List UInt8 := dkwX5_readNumber_0 ++ dktX5_readNumber_1
theorem dksX5_readNumber_0 : cX5_readNumber.data.toList.drop 0 = dktX5_readNumber_0 := by decide +kernel
theorem dksX5_readNumber_1 : cX5_readNumber.data.toList.drop 24 = dktX5_readNumber_1 := dk_seg dksX5_readNumber_0 24 rfl rfl
theorem dksX5_readNumber_2 : cX5_readNumber.data.toList.drop 48 = dktX5_readNumber_2 := dk_seg dksX5_readNumber_1 24 rfl rfl
theorem dksX5_readNumber_3 : cX5_readNumber.data.toList.drop 70 = dktX5_readNumber_3 := dk_seg dksX5_readNumber_2 22 rfl rfl
theorem dksX5_readNumber_4 : cX5_readNumber.data.toList.drop 93 = dktX5_readNumber_4 := dk_seg dksX5_readNumber_3 23 rfl rfl
theorem dX5_readNumber_0 : decode cX5_readNumber 0 = .ok (.aload_n 0, 1) := dk_42 (dk_at dksX5_readNumber_0 0 rfl rfl)
theorem dX5_readNumber_1 : decode cX5_readNumber 1 = .ok (.iconst 0, 1) := dk_3 (dk_at dksX5_readNumber_0 1 rfl rfl)
theorem dX5_readNumber_2 : decode cX5_readNumber 2 = .ok (.putfield 61, 3) := dk_181 0 61 (dk_at dksX5_readNumber_0 2 rfl rfl)
theorem dX5_readNumber_5 : decode cX5_readNumber 5 = .ok (.aload_n 0, 1) := dk_42 (dk_at dksX5_readNumber_0 5 rfl rfl)
theorem dX5_readNumber_6 : decode cX5_readNumber 6 = .ok (.aload_n 0, 1) := dk_42 (dk_at dksX5_readNumber_0 6 rfl rfl)
theorem dX5_readNumber_7 : decode cX5_readNumber 7 = .ok (.getfield 30, 3) := dk_180 0 30 (dk_at dksX5_readNumber_0 7 rfl rfl)
theorem dX5_readNumber_10 : decode cX5_readNumber 10 = .ok (.bipush 48, 2) := dk_16 48 (dk_at dksX5_readNumber_0 10 rfl rfl)
theorem dX5_readNumber_12 : decode cX5_readNumber 12 = .ok (.bipush 57, 2) := dk_16 57 (dk_at dksX5_readNumber_0 12 rfl rfl)
theorem dX5_readNumber_14 : decode cX5_readNumber 14 = .ok (.invokevirtual 33, 3) := dk_182 0 33 (dk_at dksX5_readNumber_0 14 rfl rfl)
theorem dX5_readNumber_17 : decode cX5_readNumber 17 = .ok (.ifCond .eq 56, 3) := dk_153 0 56 (dk_at dksX5_readNumber_0 17 rfl rfl)
theorem dX5_readNumber_20 : decode cX5_readNumber 20 = .ok (.aload_n 0, 1) := dk_42 (dk_at dksX5_readNumber_0 20 rfl rfl)
theorem dX5_readNumber_21 : decode cX5_readNumber 21 = .ok (.getfield 30, 3) := dk_180 0 30 (dk_at dksX5_readNumber_0 21 rfl rfl)
theorem dX5_readNumber_24 : decode cX5_readNumber 24 = .ok (.aload_n 0, 1) := dk_42 (dk_at dksX5_readNumber_1 0 rfl rfl)
theorem dX5_readNumber_25 : decode cX5_readNumber 25 = .ok (.getfield 36, 3) := dk_180 0 36 (dk_at dksX5_readNumber_1 1 rfl rfl)
theorem dX5_readNumber_28 : decode cX5_readNumber 28 = .ok (.isub, 1) := dk_100 (dk_at dksX5_readNumber_1 4 rfl rfl)
theorem dX5_readNumber_29 : decode cX5_readNumber 29 = .ok (.iconst 4, 1) := dk_7 (dk_at dksX5_readNumber_1 5 rfl rfl)
theorem dX5_readNumber_30 : decode cX5_readNumber 30 = .ok (.if_icmp .ge 30, 3) := dk_162 0 30 (dk_at dksX5_readNumber_1 6 rfl rfl)
theorem dX5_readNumber_33 : decode cX5_readNumber 33 = .ok (.aload_n 0, 1) := dk_42 (dk_at dksX5_readNumber_1 9 rfl rfl)
theorem dX5_readNumber_34 : decode cX5_readNumber 34 = .ok (.bipush 10, 2) := dk_16 10 (dk_at dksX5_readNumber_1 10 rfl rfl)
theorem dX5_readNumber_36 : decode cX5_readNumber 36 = .ok (.aload_n 0, 1) := dk_42 (dk_at dksX5_readNumber_1 12 rfl rfl)
theorem dX5_readNumber_37 : decode cX5_readNumber 37 = .ok (.getfield 61, 3) := dk_180 0 61 (dk_at dksX5_readNumber_1 13 rfl rfl)
theorem dX5_readNumber_40 : decode cX5_readNumber 40 = .ok (.imul, 1) := dk_104 (dk_at dksX5_readNumber_1 16 rfl rfl)
theorem dX5_readNumber_41 : decode cX5_readNumber 41 = .ok (.aload_n 0, 1) := dk_42 (dk_at dksX5_readNumber_1 17 rfl rfl)
theorem dX5_readNumber_42 : decode cX5_readNumber 42 = .ok (.getfield 3, 3) := dk_180 0 3 (dk_at dksX5_readNumber_1 18 rfl rfl)
theorem dX5_readNumber_45 : decode cX5_readNumber 45 = .ok (.getfield 22, 3) := dk_180 0 22 (dk_at dksX5_readNumber_1 21 rfl rfl)
theorem dX5_readNumber_48 : decode cX5_readNumber 48 = .ok (.aload_n 0, 1) := dk_42 (dk_at dksX5_readNumber_2 0 rfl rfl)
theorem dX5_readNumber_49 : decode cX5_readNumber 49 = .ok (.getfield 30, 3) := dk_180 0 30 (dk_at dksX5_readNumber_2 1 rfl rfl)
theorem dX5_readNumber_52 : decode cX5_readNumber 52 = .ok (.baload, 1) := dk_51 (dk_at dksX5_readNumber_2 4 rfl rfl)
theorem dX5_readNumber_53 : decode cX5_readNumber 53 = .ok (.iadd, 1) := dk_96 (dk_at dksX5_readNumber_2 5 rfl rfl)
theorem dX5_readNumber_54 : decode cX5_readNumber 54 = .ok (.bipush 48, 2) := dk_16 48 (dk_at dksX5_readNumber_2 6 rfl rfl)
theorem dX5_readNumber_56 : decode cX5_readNumber 56 = .ok (.isub, 1) := dk_100 (dk_at dksX5_readNumber_2 8 rfl rfl)
theorem dX5_readNumber_57 : decode cX5_readNumber 57 = .ok (.putfield 61, 3) := dk_181 0 61 (dk_at dksX5_readNumber_2 9 rfl rfl)
theorem dX5_readNumber_60 : decode cX5_readNumber 60 = .ok (.aload_n 0, 1) := dk_42 (dk_at dksX5_readNumber_2 12 rfl rfl)
theorem dX5_readNumber_61 : decode cX5_readNumber 61 = .ok (.dup, 1) := dk_89 (dk_at dksX5_readNumber_2 13 rfl rfl)
theorem dX5_readNumber_62 : decode cX5_readNumber 62 = .ok (.getfield 30, 3) := dk_180 0 30 (dk_at dksX5_readNumber_2 14 rfl rfl)
theorem dX5_readNumber_65 : decode cX5_readNumber 65 = .ok (.iconst 1, 1) := dk_4 (dk_at dksX5_readNumber_2 17 rfl rfl)
theorem dX5_readNumber_66 : decode cX5_readNumber 66 = .ok (.iadd, 1) := dk_96 (dk_at dksX5_readNumber_2 18 rfl rfl)
theorem dX5_readNumber_67 : decode cX5_readNumber 67 = .ok (.putfield 30, 3) := dk_181 0 30 (dk_at dksX5_readNumber_2 19 rfl rfl)
theorem dX5_readNumber_70 : decode cX5_readNumber 70 = .ok (.goto (-65), 3) := dk_167 255 191 (dk_at dksX5_readNumber_3 0 rfl rfl)
theorem dX5_readNumber_73 : decode cX5_readNumber 73 = .ok (.aload_n 0, 1) := dk_42 (dk_at dksX5_readNumber_3 3 rfl rfl)
theorem dX5_readNumber_74 : decode cX5_readNumber 74 = .ok (.aload_n 0, 1) := dk_42 (dk_at dksX5_readNumber_3 4 rfl rfl)
theorem dX5_readNumber_75 : decode cX5_readNumber 75 = .ok (.getfield 30, 3) := dk_180 0 30 (dk_at dksX5_readNumber_3 5 rfl rfl)
theorem dX5_readNumber_78 : decode cX5_readNumber 78 = .ok (.aload_n 0, 1) := dk_42 (dk_at dksX5_readNumber_3 8 rfl rfl)
theorem dX5_readNumber_79 : decode cX5_readNumber 79 = .ok (.getfield 36, 3) := dk_180 0 36 (dk_at dksX5_readNumber_3 9 rfl rfl)
theorem dX5_readNumber_82 : decode cX5_readNumber 82 = .ok (.isub, 1) := dk_100 (dk_at dksX5_readNumber_3 12 rfl rfl)
theorem dX5_readNumber_83 : decode cX5_readNumber 83 = .ok (.iconst 4, 1) := dk_7 (dk_at dksX5_readNumber_3 13 rfl rfl)
theorem dX5_readNumber_84 : decode cX5_readNumber 84 = .ok (.if_icmp .le 9, 3) := dk_164 0 9 (dk_at dksX5_readNumber_3 14 rfl rfl)
theorem dX5_readNumber_87 : decode cX5_readNumber 87 = .ok (.getstatic 39, 3) := dk_178 0 39 (dk_at dksX5_readNumber_3 17 rfl rfl)
theorem dX5_readNumber_90 : decode cX5_readNumber 90 = .ok (.goto 6, 3) := dk_167 0 6 (dk_at dksX5_readNumber_3 20 rfl rfl)
theorem dX5_readNumber_93 : decode cX5_readNumber 93 = .ok (.getstatic 64, 3) := dk_178 0 64 (dk_at dksX5_readNumber_4 0 rfl rfl)
theorem dX5_readNumber_96 : decode cX5_readNumber 96 = .ok (.putfield 48, 3) := dk_181 0 48 (dk_at dksX5_readNumber_4 3 rfl rfl)
theorem dX5_readNumber_99 : decode cX5_readNumber 99 = .ok (.return_, 1) := dk_177 (dk_at dksX5_readNumber_4 6 rfl rfl)
abbrev cX5_signAt : ByteArray := prog_23_method_5_code
def yX5_signAt : MethodName := ⟨RX5, "signAt", "(I)LTranslationBureau$Kind;"⟩
def dkwX5_signAt_1 : List UInt8 := [180, 0, 22, 27, 51, 16, 61, 160, 0, 9, 178, 0, 70, 167, 0, 6, 178, 0, 39, 176]
abbrev dktX5_signAt_1 : List UInt8 := dkwX5_signAt_1 ++ []
def dkwX5_signAt_0 : List UInt8 := [42, 180, 0, 3, 180, 0, 22, 27, 51, 16, 59, 160, 0, 9, 178, 0, 67, 167, 0, 26, 42, 180, 0, 3]
abbrev dktX5_signAt_0 : List UInt8 := dkwX5_signAt_0 ++ dktX5_signAt_1
theorem dksX5_signAt_0 : cX5_signAt.data.toList.drop 0 = dktX5_signAt_0 := by decide +kernel
theorem dksX5_signAt_1 : cX5_signAt.data.toList.drop 24 = dktX5_signAt_1 := dk_seg dksX5_signAt_0 24 rfl rfl
theorem dX5_signAt_0 : decode cX5_signAt 0 = .ok (.aload_n 0, 1) := dk_42 (dk_at dksX5_signAt_0 0 rfl rfl)
theorem dX5_signAt_1 : decode cX5_signAt 1 = .ok (.getfield 3, 3) := dk_180 0 3 (dk_at dksX5_signAt_0 1 rfl rfl)
theorem dX5_signAt_4 : decode cX5_signAt 4 = .ok (.getfield 22, 3) := dk_180 0 22 (dk_at dksX5_signAt_0 4 rfl rfl)
theorem dX5_signAt_7 : decode cX5_signAt 7 = .ok (.iload_n 1, 1) := dk_27 (dk_at dksX5_signAt_0 7 rfl rfl)
theorem dX5_signAt_8 : decode cX5_signAt 8 = .ok (.baload, 1) := dk_51 (dk_at dksX5_signAt_0 8 rfl rfl)
theorem dX5_signAt_9 : decode cX5_signAt 9 = .ok (.bipush 59, 2) := dk_16 59 (dk_at dksX5_signAt_0 9 rfl rfl)
theorem dX5_signAt_11 : decode cX5_signAt 11 = .ok (.if_icmp .ne 9, 3) := dk_160 0 9 (dk_at dksX5_signAt_0 11 rfl rfl)
theorem dX5_signAt_14 : decode cX5_signAt 14 = .ok (.getstatic 67, 3) := dk_178 0 67 (dk_at dksX5_signAt_0 14 rfl rfl)
theorem dX5_signAt_17 : decode cX5_signAt 17 = .ok (.goto 26, 3) := dk_167 0 26 (dk_at dksX5_signAt_0 17 rfl rfl)
theorem dX5_signAt_20 : decode cX5_signAt 20 = .ok (.aload_n 0, 1) := dk_42 (dk_at dksX5_signAt_0 20 rfl rfl)
theorem dX5_signAt_21 : decode cX5_signAt 21 = .ok (.getfield 3, 3) := dk_180 0 3 (dk_at dksX5_signAt_0 21 rfl rfl)
theorem dX5_signAt_24 : decode cX5_signAt 24 = .ok (.getfield 22, 3) := dk_180 0 22 (dk_at dksX5_signAt_1 0 rfl rfl)
theorem dX5_signAt_27 : decode cX5_signAt 27 = .ok (.iload_n 1, 1) := dk_27 (dk_at dksX5_signAt_1 3 rfl rfl)
theorem dX5_signAt_28 : decode cX5_signAt 28 = .ok (.baload, 1) := dk_51 (dk_at dksX5_signAt_1 4 rfl rfl)
theorem dX5_signAt_29 : decode cX5_signAt 29 = .ok (.bipush 61, 2) := dk_16 61 (dk_at dksX5_signAt_1 5 rfl rfl)
theorem dX5_signAt_31 : decode cX5_signAt 31 = .ok (.if_icmp .ne 9, 3) := dk_160 0 9 (dk_at dksX5_signAt_1 7 rfl rfl)
theorem dX5_signAt_34 : decode cX5_signAt 34 = .ok (.getstatic 70, 3) := dk_178 0 70 (dk_at dksX5_signAt_1 10 rfl rfl)
theorem dX5_signAt_37 : decode cX5_signAt 37 = .ok (.goto 6, 3) := dk_167 0 6 (dk_at dksX5_signAt_1 13 rfl rfl)
theorem dX5_signAt_40 : decode cX5_signAt 40 = .ok (.getstatic 39, 3) := dk_178 0 39 (dk_at dksX5_signAt_1 16 rfl rfl)
theorem dX5_signAt_43 : decode cX5_signAt 43 = .ok (.areturn, 1) := dk_176 (dk_at dksX5_signAt_1 19 rfl rfl)
abbrev cX5_expect : ByteArray := prog_23_method_7_code
def yX5_expect : MethodName := ⟨RX5, "expect", "(Z)V"⟩
def dkwX5_expect_1 : List UInt8 := [167, 0, 4, 3, 183, 0, 88, 191, 177]
abbrev dktX5_expect_1 : List UInt8 := dkwX5_expect_1 ++ []
def dkwX5_expect_0 : List UInt8 := [27, 154, 0, 30, 187, 0, 86, 89, 42, 180, 0, 36, 42, 180, 0, 48, 178, 0, 39, 166, 0, 7, 4]
abbrev dktX5_expect_0 : List UInt8 := dkwX5_expect_0 ++ dktX5_expect_1
theorem dksX5_expect_0 : cX5_expect.data.toList.drop 0 = dktX5_expect_0 := by decide +kernel
theorem dksX5_expect_1 : cX5_expect.data.toList.drop 23 = dktX5_expect_1 := dk_seg dksX5_expect_0 23 rfl rfl
theorem dX5_expect_0 : decode cX5_expect 0 = .ok (.iload_n 1, 1) := dk_27 (dk_at dksX5_expect_0 0 rfl rfl)
theorem dX5_expect_1 : decode cX5_expect 1 = .ok (.ifCond .ne 30, 3) := dk_154 0 30 (dk_at dksX5_expect_0 1 rfl rfl)
theorem dX5_expect_4 : decode cX5_expect 4 = .ok (.new 86, 3) := dk_187 0 86 (dk_at dksX5_expect_0 4 rfl rfl)
theorem dX5_expect_7 : decode cX5_expect 7 = .ok (.dup, 1) := dk_89 (dk_at dksX5_expect_0 7 rfl rfl)
theorem dX5_expect_8 : decode cX5_expect 8 = .ok (.aload_n 0, 1) := dk_42 (dk_at dksX5_expect_0 8 rfl rfl)
theorem dX5_expect_9 : decode cX5_expect 9 = .ok (.getfield 36, 3) := dk_180 0 36 (dk_at dksX5_expect_0 9 rfl rfl)
theorem dX5_expect_12 : decode cX5_expect 12 = .ok (.aload_n 0, 1) := dk_42 (dk_at dksX5_expect_0 12 rfl rfl)
theorem dX5_expect_13 : decode cX5_expect 13 = .ok (.getfield 48, 3) := dk_180 0 48 (dk_at dksX5_expect_0 13 rfl rfl)
theorem dX5_expect_16 : decode cX5_expect 16 = .ok (.getstatic 39, 3) := dk_178 0 39 (dk_at dksX5_expect_0 16 rfl rfl)
theorem dX5_expect_19 : decode cX5_expect 19 = .ok (.if_acmp .ne 7, 3) := dk_166 0 7 (dk_at dksX5_expect_0 19 rfl rfl)
theorem dX5_expect_22 : decode cX5_expect 22 = .ok (.iconst 1, 1) := dk_4 (dk_at dksX5_expect_0 22 rfl rfl)
theorem dX5_expect_23 : decode cX5_expect 23 = .ok (.goto 4, 3) := dk_167 0 4 (dk_at dksX5_expect_1 0 rfl rfl)
theorem dX5_expect_26 : decode cX5_expect 26 = .ok (.iconst 0, 1) := dk_3 (dk_at dksX5_expect_1 3 rfl rfl)
theorem dX5_expect_27 : decode cX5_expect 27 = .ok (.invokespecial 88, 3) := dk_183 0 88 (dk_at dksX5_expect_1 4 rfl rfl)
theorem dX5_expect_30 : decode cX5_expect 30 = .ok (.athrow, 1) := dk_191 (dk_at dksX5_expect_1 7 rfl rfl)
theorem dX5_expect_31 : decode cX5_expect 31 = .ok (.return_, 1) := dk_177 (dk_at dksX5_expect_1 8 rfl rfl)
abbrev cX5_between : ByteArray := prog_23_method_11_code
def yX5_between : MethodName := ⟨RX5, "between", "(II)I"⟩
def dkwX5_between_1 : List UInt8 := [27, 28, 184, 0, 26, 6, 182, 0, 100, 42, 180, 0, 61, 62, 42, 182, 0, 19, 29, 172]
abbrev dktX5_between_1 : List UInt8 := dkwX5_between_1 ++ []
def dkwX5_between_0 : List UInt8 := [42, 42, 180, 0, 48, 178, 0, 64, 166, 0, 7, 4, 167, 0, 4, 3, 182, 0, 96, 42, 42, 180, 0, 61]
abbrev dktX5_between_0 : List UInt8 := dkwX5_between_0 ++ dktX5_between_1
theorem dksX5_between_0 : cX5_between.data.toList.drop 0 = dktX5_between_0 := by decide +kernel
theorem dksX5_between_1 : cX5_between.data.toList.drop 24 = dktX5_between_1 := dk_seg dksX5_between_0 24 rfl rfl
theorem dX5_between_0 : decode cX5_between 0 = .ok (.aload_n 0, 1) := dk_42 (dk_at dksX5_between_0 0 rfl rfl)
theorem dX5_between_1 : decode cX5_between 1 = .ok (.aload_n 0, 1) := dk_42 (dk_at dksX5_between_0 1 rfl rfl)
theorem dX5_between_2 : decode cX5_between 2 = .ok (.getfield 48, 3) := dk_180 0 48 (dk_at dksX5_between_0 2 rfl rfl)
theorem dX5_between_5 : decode cX5_between 5 = .ok (.getstatic 64, 3) := dk_178 0 64 (dk_at dksX5_between_0 5 rfl rfl)
theorem dX5_between_8 : decode cX5_between 8 = .ok (.if_acmp .ne 7, 3) := dk_166 0 7 (dk_at dksX5_between_0 8 rfl rfl)
theorem dX5_between_11 : decode cX5_between 11 = .ok (.iconst 1, 1) := dk_4 (dk_at dksX5_between_0 11 rfl rfl)
theorem dX5_between_12 : decode cX5_between 12 = .ok (.goto 4, 3) := dk_167 0 4 (dk_at dksX5_between_0 12 rfl rfl)
theorem dX5_between_15 : decode cX5_between 15 = .ok (.iconst 0, 1) := dk_3 (dk_at dksX5_between_0 15 rfl rfl)
theorem dX5_between_16 : decode cX5_between 16 = .ok (.invokevirtual 96, 3) := dk_182 0 96 (dk_at dksX5_between_0 16 rfl rfl)
theorem dX5_between_19 : decode cX5_between 19 = .ok (.aload_n 0, 1) := dk_42 (dk_at dksX5_between_0 19 rfl rfl)
theorem dX5_between_20 : decode cX5_between 20 = .ok (.aload_n 0, 1) := dk_42 (dk_at dksX5_between_0 20 rfl rfl)
theorem dX5_between_21 : decode cX5_between 21 = .ok (.getfield 61, 3) := dk_180 0 61 (dk_at dksX5_between_0 21 rfl rfl)
theorem dX5_between_24 : decode cX5_between 24 = .ok (.iload_n 1, 1) := dk_27 (dk_at dksX5_between_1 0 rfl rfl)
theorem dX5_between_25 : decode cX5_between 25 = .ok (.iload_n 2, 1) := dk_28 (dk_at dksX5_between_1 1 rfl rfl)
theorem dX5_between_26 : decode cX5_between 26 = .ok (.invokestatic 26, 3) := dk_184 0 26 (dk_at dksX5_between_1 2 rfl rfl)
theorem dX5_between_29 : decode cX5_between 29 = .ok (.iconst 3, 1) := dk_6 (dk_at dksX5_between_1 5 rfl rfl)
theorem dX5_between_30 : decode cX5_between 30 = .ok (.invokevirtual 100, 3) := dk_182 0 100 (dk_at dksX5_between_1 6 rfl rfl)
theorem dX5_between_33 : decode cX5_between 33 = .ok (.aload_n 0, 1) := dk_42 (dk_at dksX5_between_1 9 rfl rfl)
theorem dX5_between_34 : decode cX5_between 34 = .ok (.getfield 61, 3) := dk_180 0 61 (dk_at dksX5_between_1 10 rfl rfl)
theorem dX5_between_37 : decode cX5_between 37 = .ok (.istore_n 3, 1) := dk_62 (dk_at dksX5_between_1 13 rfl rfl)
theorem dX5_between_38 : decode cX5_between 38 = .ok (.aload_n 0, 1) := dk_42 (dk_at dksX5_between_1 14 rfl rfl)
theorem dX5_between_39 : decode cX5_between 39 = .ok (.invokevirtual 19, 3) := dk_182 0 19 (dk_at dksX5_between_1 15 rfl rfl)
theorem dX5_between_42 : decode cX5_between 42 = .ok (.iload_n 3, 1) := dk_29 (dk_at dksX5_between_1 18 rfl rfl)
theorem dX5_between_43 : decode cX5_between 43 = .ok (.ireturn, 1) := dk_172 (dk_at dksX5_between_1 19 rfl rfl)
abbrev cX5_require : ByteArray := prog_23_method_8_code
def yX5_require : MethodName := ⟨RX5, "require", "(ZI)V"⟩
def dkwX5_require_0 : List UInt8 := [27, 154, 0, 16, 187, 0, 91, 89, 42, 180, 0, 36, 28, 183, 0, 93, 191, 177]
abbrev dktX5_require_0 : List UInt8 := dkwX5_require_0 ++ []
theorem dksX5_require_0 : cX5_require.data.toList.drop 0 = dktX5_require_0 := by decide +kernel
theorem dX5_require_0 : decode cX5_require 0 = .ok (.iload_n 1, 1) := dk_27 (dk_at dksX5_require_0 0 rfl rfl)
theorem dX5_require_1 : decode cX5_require 1 = .ok (.ifCond .ne 16, 3) := dk_154 0 16 (dk_at dksX5_require_0 1 rfl rfl)
theorem dX5_require_4 : decode cX5_require 4 = .ok (.new 91, 3) := dk_187 0 91 (dk_at dksX5_require_0 4 rfl rfl)
theorem dX5_require_7 : decode cX5_require 7 = .ok (.dup, 1) := dk_89 (dk_at dksX5_require_0 7 rfl rfl)
theorem dX5_require_8 : decode cX5_require 8 = .ok (.aload_n 0, 1) := dk_42 (dk_at dksX5_require_0 8 rfl rfl)
theorem dX5_require_9 : decode cX5_require 9 = .ok (.getfield 36, 3) := dk_180 0 36 (dk_at dksX5_require_0 9 rfl rfl)
theorem dX5_require_12 : decode cX5_require 12 = .ok (.iload_n 2, 1) := dk_28 (dk_at dksX5_require_0 12 rfl rfl)
theorem dX5_require_13 : decode cX5_require 13 = .ok (.invokespecial 93, 3) := dk_183 0 93 (dk_at dksX5_require_0 13 rfl rfl)
theorem dX5_require_16 : decode cX5_require 16 = .ok (.athrow, 1) := dk_191 (dk_at dksX5_require_0 16 rfl rfl)
theorem dX5_require_17 : decode cX5_require 17 = .ok (.return_, 1) := dk_177 (dk_at dksX5_require_0 17 rfl rfl)
abbrev cX5_word : ByteArray := prog_23_method_10_code
def yX5_word : MethodName := ⟨RX5, "word", "()Ljava/lang/String;"⟩
def dkwX5_word_1 : List UInt8 := [42, 182, 0, 19, 43, 176]
abbrev dktX5_word_1 : List UInt8 := dkwX5_word_1 ++ []
def dkwX5_word_0 : List UInt8 := [42, 42, 180, 0, 48, 178, 0, 45, 166, 0, 7, 4, 167, 0, 4, 3, 182, 0, 96, 42, 180, 0, 57, 76]
abbrev dktX5_word_0 : List UInt8 := dkwX5_word_0 ++ dktX5_word_1
theorem dksX5_word_0 : cX5_word.data.toList.drop 0 = dktX5_word_0 := by decide +kernel
theorem dksX5_word_1 : cX5_word.data.toList.drop 24 = dktX5_word_1 := dk_seg dksX5_word_0 24 rfl rfl
theorem dX5_word_0 : decode cX5_word 0 = .ok (.aload_n 0, 1) := dk_42 (dk_at dksX5_word_0 0 rfl rfl)
theorem dX5_word_1 : decode cX5_word 1 = .ok (.aload_n 0, 1) := dk_42 (dk_at dksX5_word_0 1 rfl rfl)
theorem dX5_word_2 : decode cX5_word 2 = .ok (.getfield 48, 3) := dk_180 0 48 (dk_at dksX5_word_0 2 rfl rfl)
theorem dX5_word_5 : decode cX5_word 5 = .ok (.getstatic 45, 3) := dk_178 0 45 (dk_at dksX5_word_0 5 rfl rfl)
theorem dX5_word_8 : decode cX5_word 8 = .ok (.if_acmp .ne 7, 3) := dk_166 0 7 (dk_at dksX5_word_0 8 rfl rfl)
theorem dX5_word_11 : decode cX5_word 11 = .ok (.iconst 1, 1) := dk_4 (dk_at dksX5_word_0 11 rfl rfl)
theorem dX5_word_12 : decode cX5_word 12 = .ok (.goto 4, 3) := dk_167 0 4 (dk_at dksX5_word_0 12 rfl rfl)
theorem dX5_word_15 : decode cX5_word 15 = .ok (.iconst 0, 1) := dk_3 (dk_at dksX5_word_0 15 rfl rfl)
theorem dX5_word_16 : decode cX5_word 16 = .ok (.invokevirtual 96, 3) := dk_182 0 96 (dk_at dksX5_word_0 16 rfl rfl)
theorem dX5_word_19 : decode cX5_word 19 = .ok (.aload_n 0, 1) := dk_42 (dk_at dksX5_word_0 19 rfl rfl)
theorem dX5_word_20 : decode cX5_word 20 = .ok (.getfield 57, 3) := dk_180 0 57 (dk_at dksX5_word_0 20 rfl rfl)
theorem dX5_word_23 : decode cX5_word 23 = .ok (.astore_n 1, 1) := dk_76 (dk_at dksX5_word_0 23 rfl rfl)
theorem dX5_word_24 : decode cX5_word 24 = .ok (.aload_n 0, 1) := dk_42 (dk_at dksX5_word_1 0 rfl rfl)
theorem dX5_word_25 : decode cX5_word 25 = .ok (.invokevirtual 19, 3) := dk_182 0 19 (dk_at dksX5_word_1 1 rfl rfl)
theorem dX5_word_28 : decode cX5_word 28 = .ok (.aload_n 1, 1) := dk_43 (dk_at dksX5_word_1 4 rfl rfl)
theorem dX5_word_29 : decode cX5_word 29 = .ok (.areturn, 1) := dk_176 (dk_at dksX5_word_1 5 rfl rfl)
abbrev cX5_sign : ByteArray := prog_23_method_9_code
def yX5_sign : MethodName := ⟨RX5, "sign", "(LTranslationBureau$Kind;)V"⟩
def dkwX5_sign_0 : List UInt8 := [42, 42, 180, 0, 48, 43, 166, 0, 7, 4, 167, 0, 4, 3, 182, 0, 96, 42, 182, 0, 19, 177]
abbrev dktX5_sign_0 : List UInt8 := dkwX5_sign_0 ++ []
theorem dksX5_sign_0 : cX5_sign.data.toList.drop 0 = dktX5_sign_0 := by decide +kernel
theorem dX5_sign_0 : decode cX5_sign 0 = .ok (.aload_n 0, 1) := dk_42 (dk_at dksX5_sign_0 0 rfl rfl)
theorem dX5_sign_1 : decode cX5_sign 1 = .ok (.aload_n 0, 1) := dk_42 (dk_at dksX5_sign_0 1 rfl rfl)
theorem dX5_sign_2 : decode cX5_sign 2 = .ok (.getfield 48, 3) := dk_180 0 48 (dk_at dksX5_sign_0 2 rfl rfl)
theorem dX5_sign_5 : decode cX5_sign 5 = .ok (.aload_n 1, 1) := dk_43 (dk_at dksX5_sign_0 5 rfl rfl)
theorem dX5_sign_6 : decode cX5_sign 6 = .ok (.if_acmp .ne 7, 3) := dk_166 0 7 (dk_at dksX5_sign_0 6 rfl rfl)
theorem dX5_sign_9 : decode cX5_sign 9 = .ok (.iconst 1, 1) := dk_4 (dk_at dksX5_sign_0 9 rfl rfl)
theorem dX5_sign_10 : decode cX5_sign 10 = .ok (.goto 4, 3) := dk_167 0 4 (dk_at dksX5_sign_0 10 rfl rfl)
theorem dX5_sign_13 : decode cX5_sign 13 = .ok (.iconst 0, 1) := dk_3 (dk_at dksX5_sign_0 13 rfl rfl)
theorem dX5_sign_14 : decode cX5_sign 14 = .ok (.invokevirtual 96, 3) := dk_182 0 96 (dk_at dksX5_sign_0 14 rfl rfl)
theorem dX5_sign_17 : decode cX5_sign 17 = .ok (.aload_n 0, 1) := dk_42 (dk_at dksX5_sign_0 17 rfl rfl)
theorem dX5_sign_18 : decode cX5_sign 18 = .ok (.invokevirtual 19, 3) := dk_182 0 19 (dk_at dksX5_sign_0 18 rfl rfl)
theorem dX5_sign_21 : decode cX5_sign 21 = .ok (.return_, 1) := dk_177 (dk_at dksX5_sign_0 21 rfl rfl)
theorem q134 : (Jvm.Cond.initialized "TranslationBureau$Tokens") ∈ lw_all := lw_g (lw_at lw_m1 17 rfl) rfl
theorem q303 : (Jvm.Cond.fieldLinkNest "TranslationBureau$Tokens" (22 : Nat) "TranslationBureau" "buffer" "[B" "TranslationBureau") ∈ lw_tbl := lw_at lw_m1 186 rfl
theorem q722 : (Jvm.Cond.instantiable "TranslationBureau$Tokens" (7 : Nat)) ∈ lw_all := lw_g (lw_at lw_m3 125 rfl) rfl
theorem q724 : (Jvm.Cond.instanceMethod ({ cls := "TranslationBureau$Tokens", name := "<init>", desc := "(LTranslationBureau;I)V" } : Jvm.MethodName)) ∈ lw_all := lw_g (lw_at lw_m3 127 rfl) rfl
theorem q725 : (Jvm.Cond.code ({ cls := "TranslationBureau$Tokens", name := "<init>", desc := "(LTranslationBureau;I)V" } : Jvm.MethodName) prog_23_method_1_code (3 : Nat) (Option.none : Option Jvm.ClassFile.FieldType)) ∈ lw_all := lw_g (lw_at lw_m3 128 rfl) rfl
theorem q726 : (Jvm.Cond.methodLink "TranslationBureau$Tokens" (9 : Nat) ({ cls := "java/lang/Object", name := "<init>", desc := "()V" } : Jvm.MethodName)) ∈ lw_all := lw_g (lw_at lw_m3 129 rfl) rfl
theorem q727 : (Jvm.Cond.methodLink "TranslationBureau$Tokens" (19 : Nat) ({ cls := "TranslationBureau$Tokens", name := "advance", desc := "()V" } : Jvm.MethodName)) ∈ lw_all := lw_g (lw_at lw_m3 130 rfl) rfl
theorem q728 : (Jvm.Cond.instanceMethod ({ cls := "TranslationBureau$Tokens", name := "advance", desc := "()V" } : Jvm.MethodName)) ∈ lw_all := lw_g (lw_at lw_m3 131 rfl) rfl
theorem q729 : (Jvm.Cond.selects "TranslationBureau$Tokens" ({ cls := "TranslationBureau$Tokens", name := "advance", desc := "()V" } : Jvm.MethodName) ({ cls := "TranslationBureau$Tokens", name := "advance", desc := "()V" } : Jvm.MethodName)) ∈ lw_all := lw_g (lw_at lw_m3 132 rfl) rfl
theorem q730 : (Jvm.Cond.code ({ cls := "TranslationBureau$Tokens", name := "advance", desc := "()V" } : Jvm.MethodName) prog_23_method_6_code (1 : Nat) (Option.none : Option Jvm.ClassFile.FieldType)) ∈ lw_all := lw_g (lw_at lw_m3 133 rfl) rfl
theorem q731 : (Jvm.Cond.methodLink "TranslationBureau$Tokens" (33 : Nat) ({ cls := "TranslationBureau$Tokens", name := "isAt", desc := "(III)Z" } : Jvm.MethodName)) ∈ lw_all := lw_g (lw_at lw_m3 134 rfl) rfl
theorem q732 : (Jvm.Cond.privateMethod ({ cls := "TranslationBureau$Tokens", name := "isAt", desc := "(III)Z" } : Jvm.MethodName)) ∈ lw_tbl := lw_at lw_m3 135 rfl
theorem q733 : (Jvm.Cond.instanceMethod ({ cls := "TranslationBureau$Tokens", name := "isAt", desc := "(III)Z" } : Jvm.MethodName)) ∈ lw_all := lw_g (lw_at lw_m3 136 rfl) rfl
theorem q734 : (Jvm.Cond.code ({ cls := "TranslationBureau$Tokens", name := "isAt", desc := "(III)Z" } : Jvm.MethodName) prog_23_method_2_code (4 : Nat) (Option.some Jvm.ClassFile.FieldType.boolean)) ∈ lw_all := lw_g (lw_at lw_m3 137 rfl) rfl
theorem q735 : (Jvm.Cond.methodLinkNest "TranslationBureau$Tokens" (26 : Nat) ({ cls := "TranslationBureau", name := "inRange", desc := "(III)Z" } : Jvm.MethodName) "TranslationBureau") ∈ lw_tbl := lw_at lw_m3 138 rfl
theorem q736 : (Jvm.Cond.stringRef "TranslationBureau$Tokens" (55 : Nat) "") ∈ lw_tbl := lw_at lw_m3 139 rfl
theorem q737 : (Jvm.Cond.fieldLink "TranslationBureau$Tokens" (73 : Nat) "TranslationBureau$Kind" "END" "LTranslationBureau$Kind;") ∈ lw_all := lw_g (lw_at lw_m3 140 rfl) rfl
theorem q739 : (Jvm.Cond.methodLink "TranslationBureau$Tokens" (76 : Nat) ({ cls := "TranslationBureau$Tokens", name := "readWord", desc := "()V" } : Jvm.MethodName)) ∈ lw_all := lw_g (lw_at lw_m3 142 rfl) rfl
theorem q740 : (Jvm.Cond.privateMethod ({ cls := "TranslationBureau$Tokens", name := "readWord", desc := "()V" } : Jvm.MethodName)) ∈ lw_tbl := lw_at lw_m3 143 rfl
theorem q741 : (Jvm.Cond.instanceMethod ({ cls := "TranslationBureau$Tokens", name := "readWord", desc := "()V" } : Jvm.MethodName)) ∈ lw_all := lw_g (lw_at lw_m3 144 rfl) rfl
theorem q742 : (Jvm.Cond.code ({ cls := "TranslationBureau$Tokens", name := "readWord", desc := "()V" } : Jvm.MethodName) prog_23_method_3_code (1 : Nat) (Option.none : Option Jvm.ClassFile.FieldType)) ∈ lw_all := lw_g (lw_at lw_m3 145 rfl) rfl
theorem q743 : (Jvm.Cond.fieldLink "TranslationBureau$Tokens" (39 : Nat) "TranslationBureau$Kind" "ILLEGAL" "LTranslationBureau$Kind;") ∈ lw_all := lw_g (lw_at lw_m3 146 rfl) rfl
theorem q745 : (Jvm.Cond.fieldLink "TranslationBureau$Tokens" (45 : Nat) "TranslationBureau$Kind" "WORD" "LTranslationBureau$Kind;") ∈ lw_all := lw_g (lw_at lw_m3 148 rfl) rfl
theorem q747 : (Jvm.Cond.methodLinkNest "TranslationBureau$Tokens" (51 : Nat) ({ cls := "TranslationBureau", name := "letters", desc := "(II)Ljava/lang/String;" } : Jvm.MethodName) "TranslationBureau") ∈ lw_tbl := lw_at lw_m3 150 rfl
theorem q990 : (Jvm.Cond.methodLink "TranslationBureau$Tokens" (79 : Nat) ({ cls := "TranslationBureau$Tokens", name := "readNumber", desc := "()V" } : Jvm.MethodName)) ∈ lw_all := lw_g (lw_at lw_m4 153 rfl) rfl
theorem q991 : (Jvm.Cond.privateMethod ({ cls := "TranslationBureau$Tokens", name := "readNumber", desc := "()V" } : Jvm.MethodName)) ∈ lw_tbl := lw_at lw_m4 154 rfl
theorem q992 : (Jvm.Cond.instanceMethod ({ cls := "TranslationBureau$Tokens", name := "readNumber", desc := "()V" } : Jvm.MethodName)) ∈ lw_all := lw_g (lw_at lw_m4 155 rfl) rfl
theorem q993 : (Jvm.Cond.code ({ cls := "TranslationBureau$Tokens", name := "readNumber", desc := "()V" } : Jvm.MethodName) prog_23_method_4_code (1 : Nat) (Option.none : Option Jvm.ClassFile.FieldType)) ∈ lw_all := lw_g (lw_at lw_m4 156 rfl) rfl
theorem q994 : (Jvm.Cond.fieldLink "TranslationBureau$Tokens" (64 : Nat) "TranslationBureau$Kind" "NUMBER" "LTranslationBureau$Kind;") ∈ lw_all := lw_g (lw_at lw_m4 157 rfl) rfl
theorem q996 : (Jvm.Cond.methodLink "TranslationBureau$Tokens" (82 : Nat) ({ cls := "TranslationBureau$Tokens", name := "signAt", desc := "(I)LTranslationBureau$Kind;" } : Jvm.MethodName)) ∈ lw_all := lw_g (lw_at lw_m4 159 rfl) rfl
theorem q997 : (Jvm.Cond.privateMethod ({ cls := "TranslationBureau$Tokens", name := "signAt", desc := "(I)LTranslationBureau$Kind;" } : Jvm.MethodName)) ∈ lw_tbl := lw_at lw_m4 160 rfl
theorem q998 : (Jvm.Cond.instanceMethod ({ cls := "TranslationBureau$Tokens", name := "signAt", desc := "(I)LTranslationBureau$Kind;" } : Jvm.MethodName)) ∈ lw_all := lw_g (lw_at lw_m4 161 rfl) rfl
theorem q999 : (Jvm.Cond.code ({ cls := "TranslationBureau$Tokens", name := "signAt", desc := "(I)LTranslationBureau$Kind;" } : Jvm.MethodName) prog_23_method_5_code (2 : Nat) (Option.some (Jvm.ClassFile.FieldType.object "TranslationBureau$Kind"))) ∈ lw_all := lw_g (lw_at lw_m4 162 rfl) rfl
theorem q1000 : (Jvm.Cond.fieldLink "TranslationBureau$Tokens" (67 : Nat) "TranslationBureau$Kind" "SEMICOLON" "LTranslationBureau$Kind;") ∈ lw_all := lw_g (lw_at lw_m4 163 rfl) rfl
theorem q1002 : (Jvm.Cond.fieldLink "TranslationBureau$Tokens" (70 : Nat) "TranslationBureau$Kind" "EQUALS" "LTranslationBureau$Kind;") ∈ lw_all := lw_g (lw_at lw_m4 165 rfl) rfl
theorem q1004 : (Jvm.Cond.fieldLink "TranslationBureau$Tokens" (15 : Nat) "TranslationBureau$Tokens" "length" "I") ∈ lw_all := lw_g (lw_at lw_m4 167 rfl) rfl
theorem q1005 : (Jvm.Cond.fieldLink "TranslationBureau$Tokens" (36 : Nat) "TranslationBureau$Tokens" "start" "I") ∈ lw_all := lw_g (lw_at lw_m4 168 rfl) rfl
theorem q1006 : (Jvm.Cond.fieldLink "TranslationBureau$Tokens" (30 : Nat) "TranslationBureau$Tokens" "end" "I") ∈ lw_all := lw_g (lw_at lw_m4 169 rfl) rfl
theorem q1007 : (Jvm.Cond.fieldLink "TranslationBureau$Tokens" (61 : Nat) "TranslationBureau$Tokens" "number" "I") ∈ lw_all := lw_g (lw_at lw_m4 170 rfl) rfl
theorem q1009 : (Jvm.Cond.fieldLink "TranslationBureau$Tokens" (48 : Nat) "TranslationBureau$Tokens" "kind" "LTranslationBureau$Kind;") ∈ lw_all := lw_g (lw_at lw_m4 172 rfl) rfl
theorem q1011 : (Jvm.Cond.fieldLink "TranslationBureau$Tokens" (57 : Nat) "TranslationBureau$Tokens" "word" "Ljava/lang/String;") ∈ lw_all := lw_g (lw_at lw_m4 174 rfl) rfl
theorem q1012 : (Jvm.Cond.fieldLink "TranslationBureau$Tokens" (3 : Nat) "TranslationBureau$Tokens" "this$0" "LTranslationBureau;") ∈ lw_all := lw_g (lw_at lw_m4 175 rfl) rfl
theorem q1013 : (Jvm.Cond.laysFinal "TranslationBureau$Tokens" "TranslationBureau$Tokens" "length" "I") ∈ lw_all := lw_g (lw_at lw_m4 176 rfl) rfl
theorem q1014 : (Jvm.Cond.soleField "TranslationBureau$Tokens" "length") ∈ lw_all := lw_g (lw_at lw_m4 177 rfl) rfl
theorem q1015 : (Jvm.Cond.lays "TranslationBureau$Tokens" "TranslationBureau$Tokens" "start" "I") ∈ lw_all := lw_g (lw_at lw_m4 178 rfl) rfl
theorem q1016 : (Jvm.Cond.soleField "TranslationBureau$Tokens" "start") ∈ lw_all := lw_g (lw_at lw_m4 179 rfl) rfl
theorem q1017 : (Jvm.Cond.lays "TranslationBureau$Tokens" "TranslationBureau$Tokens" "end" "I") ∈ lw_all := lw_g (lw_at lw_m4 180 rfl) rfl
theorem q1018 : (Jvm.Cond.soleField "TranslationBureau$Tokens" "end") ∈ lw_all := lw_g (lw_at lw_m4 181 rfl) rfl
theorem q1019 : (Jvm.Cond.lays "TranslationBureau$Tokens" "TranslationBureau$Tokens" "number" "I") ∈ lw_all := lw_g (lw_at lw_m4 182 rfl) rfl
theorem q1020 : (Jvm.Cond.soleField "TranslationBureau$Tokens" "number") ∈ lw_all := lw_g (lw_at lw_m4 183 rfl) rfl
theorem q1021 : (Jvm.Cond.lays "TranslationBureau$Tokens" "TranslationBureau$Tokens" "kind" "LTranslationBureau$Kind;") ∈ lw_all := lw_g (lw_at lw_m4 184 rfl) rfl
theorem q1022 : (Jvm.Cond.soleField "TranslationBureau$Tokens" "kind") ∈ lw_all := lw_g (lw_at lw_m4 185 rfl) rfl
theorem q1023 : (Jvm.Cond.lays "TranslationBureau$Tokens" "TranslationBureau$Tokens" "word" "Ljava/lang/String;") ∈ lw_all := lw_g (lw_at lw_m4 186 rfl) rfl
theorem q1024 : (Jvm.Cond.soleField "TranslationBureau$Tokens" "word") ∈ lw_all := lw_g (lw_at lw_m4 187 rfl) rfl
theorem q1025 : (Jvm.Cond.laysFinal "TranslationBureau$Tokens" "TranslationBureau$Tokens" "this$0" "LTranslationBureau;") ∈ lw_all := lw_g (lw_at lw_m4 188 rfl) rfl
theorem q1026 : (Jvm.Cond.soleField "TranslationBureau$Tokens" "this$0") ∈ lw_all := lw_g (lw_at lw_m4 189 rfl) rfl
theorem q1027 : (Jvm.Cond.superclass "TranslationBureau$Tokens" "java/lang/Object") ∈ lw_all := lw_g (lw_at lw_m4 190 rfl) rfl
theorem q1190 : (Jvm.Cond.instanceMethod ({ cls := "TranslationBureau$Tokens", name := "expect", desc := "(Z)V" } : Jvm.MethodName)) ∈ lw_all := lw_g (lw_at lw_m5 113 rfl) rfl
theorem q1191 : (Jvm.Cond.selects "TranslationBureau$Tokens" ({ cls := "TranslationBureau$Tokens", name := "expect", desc := "(Z)V" } : Jvm.MethodName) ({ cls := "TranslationBureau$Tokens", name := "expect", desc := "(Z)V" } : Jvm.MethodName)) ∈ lw_all := lw_g (lw_at lw_m5 114 rfl) rfl
theorem q1192 : (Jvm.Cond.code ({ cls := "TranslationBureau$Tokens", name := "expect", desc := "(Z)V" } : Jvm.MethodName) prog_23_method_7_code (2 : Nat) (Option.none : Option Jvm.ClassFile.FieldType)) ∈ lw_all := lw_g (lw_at lw_m5 115 rfl) rfl
theorem q1193 : (Jvm.Cond.classLink "TranslationBureau$Tokens" (86 : Nat) "TranslationBureau$SyntaxError") ∈ lw_all := lw_g (lw_at lw_m5 116 rfl) rfl
theorem q1202 : (Jvm.Cond.methodLink "TranslationBureau$Tokens" (88 : Nat) ({ cls := "TranslationBureau$SyntaxError", name := "<init>", desc := "(IZ)V" } : Jvm.MethodName)) ∈ lw_all := lw_g (lw_at lw_m5 125 rfl) rfl
theorem q1234 : (Jvm.Cond.instanceMethod ({ cls := "TranslationBureau$Tokens", name := "between", desc := "(II)I" } : Jvm.MethodName)) ∈ lw_all := lw_g (lw_at lw_m5 157 rfl) rfl
theorem q1235 : (Jvm.Cond.selects "TranslationBureau$Tokens" ({ cls := "TranslationBureau$Tokens", name := "between", desc := "(II)I" } : Jvm.MethodName) ({ cls := "TranslationBureau$Tokens", name := "between", desc := "(II)I" } : Jvm.MethodName)) ∈ lw_all := lw_g (lw_at lw_m5 158 rfl) rfl
theorem q1236 : (Jvm.Cond.code ({ cls := "TranslationBureau$Tokens", name := "between", desc := "(II)I" } : Jvm.MethodName) prog_23_method_11_code (4 : Nat) (Option.some Jvm.ClassFile.FieldType.int)) ∈ lw_all := lw_g (lw_at lw_m5 159 rfl) rfl
theorem q1237 : (Jvm.Cond.methodLink "TranslationBureau$Tokens" (96 : Nat) ({ cls := "TranslationBureau$Tokens", name := "expect", desc := "(Z)V" } : Jvm.MethodName)) ∈ lw_all := lw_g (lw_at lw_m5 160 rfl) rfl
theorem q1238 : (Jvm.Cond.methodLink "TranslationBureau$Tokens" (100 : Nat) ({ cls := "TranslationBureau$Tokens", name := "require", desc := "(ZI)V" } : Jvm.MethodName)) ∈ lw_all := lw_g (lw_at lw_m5 161 rfl) rfl
theorem q1239 : (Jvm.Cond.instanceMethod ({ cls := "TranslationBureau$Tokens", name := "require", desc := "(ZI)V" } : Jvm.MethodName)) ∈ lw_all := lw_g (lw_at lw_m5 162 rfl) rfl
theorem q1240 : (Jvm.Cond.selects "TranslationBureau$Tokens" ({ cls := "TranslationBureau$Tokens", name := "require", desc := "(ZI)V" } : Jvm.MethodName) ({ cls := "TranslationBureau$Tokens", name := "require", desc := "(ZI)V" } : Jvm.MethodName)) ∈ lw_all := lw_g (lw_at lw_m5 163 rfl) rfl
theorem q1241 : (Jvm.Cond.code ({ cls := "TranslationBureau$Tokens", name := "require", desc := "(ZI)V" } : Jvm.MethodName) prog_23_method_8_code (3 : Nat) (Option.none : Option Jvm.ClassFile.FieldType)) ∈ lw_all := lw_g (lw_at lw_m5 164 rfl) rfl
theorem q1242 : (Jvm.Cond.classLink "TranslationBureau$Tokens" (91 : Nat) "TranslationBureau$Misfit") ∈ lw_all := lw_g (lw_at lw_m5 165 rfl) rfl
theorem q1251 : (Jvm.Cond.methodLink "TranslationBureau$Tokens" (93 : Nat) ({ cls := "TranslationBureau$Misfit", name := "<init>", desc := "(II)V" } : Jvm.MethodName)) ∈ lw_all := lw_g (lw_at lw_m5 174 rfl) rfl
theorem q1318 : (Jvm.Cond.selects "TranslationBureau$Tokens" ({ cls := "java/lang/Object", name := "equals", desc := "(Ljava/lang/Object;)Z" } : Jvm.MethodName) ({ cls := "java/lang/Object", name := "equals", desc := "(Ljava/lang/Object;)Z" } : Jvm.MethodName)) ∈ lw_all := lw_g (lw_at lw_m6 1 rfl) rfl
theorem q1335 : (Jvm.Cond.instanceMethod ({ cls := "TranslationBureau$Tokens", name := "word", desc := "()Ljava/lang/String;" } : Jvm.MethodName)) ∈ lw_all := lw_g (lw_at lw_m6 18 rfl) rfl
theorem q1336 : (Jvm.Cond.selects "TranslationBureau$Tokens" ({ cls := "TranslationBureau$Tokens", name := "word", desc := "()Ljava/lang/String;" } : Jvm.MethodName) ({ cls := "TranslationBureau$Tokens", name := "word", desc := "()Ljava/lang/String;" } : Jvm.MethodName)) ∈ lw_all := lw_g (lw_at lw_m6 19 rfl) rfl
theorem q1337 : (Jvm.Cond.code ({ cls := "TranslationBureau$Tokens", name := "word", desc := "()Ljava/lang/String;" } : Jvm.MethodName) prog_23_method_10_code (2 : Nat) (Option.some (Jvm.ClassFile.FieldType.object "java/lang/String"))) ∈ lw_all := lw_g (lw_at lw_m6 20 rfl) rfl
theorem q1386 : (Jvm.Cond.selects "TranslationBureau$Tokens" ({ cls := "java/lang/Object", name := "getClass", desc := "()Ljava/lang/Class;" } : Jvm.MethodName) ({ cls := "java/lang/Object", name := "getClass", desc := "()Ljava/lang/Class;" } : Jvm.MethodName)) ∈ lw_all := lw_g (lw_at lw_m6 69 rfl) rfl
theorem q1423 : (Jvm.Cond.instanceMethod ({ cls := "TranslationBureau$Tokens", name := "sign", desc := "(LTranslationBureau$Kind;)V" } : Jvm.MethodName)) ∈ lw_all := lw_g (lw_at lw_m6 106 rfl) rfl
theorem q1424 : (Jvm.Cond.selects "TranslationBureau$Tokens" ({ cls := "TranslationBureau$Tokens", name := "sign", desc := "(LTranslationBureau$Kind;)V" } : Jvm.MethodName) ({ cls := "TranslationBureau$Tokens", name := "sign", desc := "(LTranslationBureau$Kind;)V" } : Jvm.MethodName)) ∈ lw_all := lw_g (lw_at lw_m6 107 rfl) rfl
theorem q1425 : (Jvm.Cond.code ({ cls := "TranslationBureau$Tokens", name := "sign", desc := "(LTranslationBureau$Kind;)V" } : Jvm.MethodName) prog_23_method_9_code (2 : Nat) (Option.none : Option Jvm.ClassFile.FieldType)) ∈ lw_all := lw_g (lw_at lw_m6 108 rfl) rfl
theorem q3113 : (Jvm.Cond.castable "TranslationBureau$Tokens" "java/lang/Object") ∈ lw_tbl := lw_at lw_m13 116 rfl
theorem in_X5 : ∀ w ∈ wsX50, w ∈ lw_all := lw_in wsX50 [1013, 1015, 1017, 1019, 1021, 1023, 1025] (by decide +kernel) (by decide +kernel)

/-! TranslationBureau$Parser$6 -/
set_option maxRecDepth 100000
def RX6 : String := "TranslationBureau$Parser$6"
def TX6 : u_T := fun k => match k with
  | 0 => ("TranslationBureau$Parser$6", "val$setting", "I", true)
  | _ => ("TranslationBureau$Parser$6", "this$1", "LTranslationBureau$Parser;", true)
def tyX6 : Nat → FieldType := fun k => match k with
  | 0 => .int
  | _ => .object "TranslationBureau$Parser"
abbrev wsX60 : List Cond := u_ws RX6 TX6 2
theorem nmX6 : ∀ a, a < 2 → ∀ b, b < 2 → a ≠ b → (TX6 a).2.1 ≠ (TX6 b).2.1 := by decide +kernel
theorem tyX6_ok : ∀ k, k < 2 → parseFieldDescriptor (TX6 k).2.2.1 = some (tyX6 k) := by decide +kernel
abbrev cX6_init : ByteArray := prog_16_method_1_code
def yX6_init : MethodName := ⟨RX6, "<init>", "(LTranslationBureau$Parser;I)V"⟩
def dkwX6_init_0 : List UInt8 := [42, 43, 181, 0, 1, 42, 28, 181, 0, 7, 42, 183, 0, 11, 177]
abbrev dktX6_init_0 : List UInt8 := dkwX6_init_0 ++ []
theorem dksX6_init_0 : cX6_init.data.toList.drop 0 = dktX6_init_0 := by decide +kernel
theorem dX6_init_0 : decode cX6_init 0 = .ok (.aload_n 0, 1) := dk_42 (dk_at dksX6_init_0 0 rfl rfl)
theorem dX6_init_1 : decode cX6_init 1 = .ok (.aload_n 1, 1) := dk_43 (dk_at dksX6_init_0 1 rfl rfl)
theorem dX6_init_2 : decode cX6_init 2 = .ok (.putfield 1, 3) := dk_181 0 1 (dk_at dksX6_init_0 2 rfl rfl)
theorem dX6_init_5 : decode cX6_init 5 = .ok (.aload_n 0, 1) := dk_42 (dk_at dksX6_init_0 5 rfl rfl)
theorem dX6_init_6 : decode cX6_init 6 = .ok (.iload_n 2, 1) := dk_28 (dk_at dksX6_init_0 6 rfl rfl)
theorem dX6_init_7 : decode cX6_init 7 = .ok (.putfield 7, 3) := dk_181 0 7 (dk_at dksX6_init_0 7 rfl rfl)
theorem dX6_init_10 : decode cX6_init 10 = .ok (.aload_n 0, 1) := dk_42 (dk_at dksX6_init_0 10 rfl rfl)
theorem dX6_init_11 : decode cX6_init 11 = .ok (.invokespecial 11, 3) := dk_183 0 11 (dk_at dksX6_init_0 11 rfl rfl)
theorem dX6_init_14 : decode cX6_init 14 = .ok (.return_, 1) := dk_177 (dk_at dksX6_init_0 14 rfl rfl)
abbrev cX6_read : ByteArray := prog_16_method_2_code
def yX6_read : MethodName := ⟨RX6, "read", "()V"⟩
def dkwX6_read_2 : List UInt8 := [79, 177]
abbrev dktX6_read_2 : List UInt8 := dkwX6_read_2 ++ []
def dkwX6_read_1 : List UInt8 := [42, 180, 0, 1, 180, 0, 17, 42, 180, 0, 7, 184, 0, 38, 42, 180, 0, 7, 184, 0, 44, 182, 0, 47]
abbrev dktX6_read_1 : List UInt8 := dkwX6_read_1 ++ dktX6_read_2
def dkwX6_read_0 : List UInt8 := [42, 180, 0, 1, 180, 0, 17, 182, 0, 23, 42, 180, 0, 1, 180, 0, 28, 180, 0, 32, 42, 180, 0, 7]
abbrev dktX6_read_0 : List UInt8 := dkwX6_read_0 ++ dktX6_read_1
theorem dksX6_read_0 : cX6_read.data.toList.drop 0 = dktX6_read_0 := by decide +kernel
theorem dksX6_read_1 : cX6_read.data.toList.drop 24 = dktX6_read_1 := dk_seg dksX6_read_0 24 rfl rfl
theorem dksX6_read_2 : cX6_read.data.toList.drop 48 = dktX6_read_2 := dk_seg dksX6_read_1 24 rfl rfl
theorem dX6_read_0 : decode cX6_read 0 = .ok (.aload_n 0, 1) := dk_42 (dk_at dksX6_read_0 0 rfl rfl)
theorem dX6_read_1 : decode cX6_read 1 = .ok (.getfield 1, 3) := dk_180 0 1 (dk_at dksX6_read_0 1 rfl rfl)
theorem dX6_read_4 : decode cX6_read 4 = .ok (.getfield 17, 3) := dk_180 0 17 (dk_at dksX6_read_0 4 rfl rfl)
theorem dX6_read_7 : decode cX6_read 7 = .ok (.invokevirtual 23, 3) := dk_182 0 23 (dk_at dksX6_read_0 7 rfl rfl)
theorem dX6_read_10 : decode cX6_read 10 = .ok (.aload_n 0, 1) := dk_42 (dk_at dksX6_read_0 10 rfl rfl)
theorem dX6_read_11 : decode cX6_read 11 = .ok (.getfield 1, 3) := dk_180 0 1 (dk_at dksX6_read_0 11 rfl rfl)
theorem dX6_read_14 : decode cX6_read 14 = .ok (.getfield 28, 3) := dk_180 0 28 (dk_at dksX6_read_0 14 rfl rfl)
theorem dX6_read_17 : decode cX6_read 17 = .ok (.getfield 32, 3) := dk_180 0 32 (dk_at dksX6_read_0 17 rfl rfl)
theorem dX6_read_20 : decode cX6_read 20 = .ok (.aload_n 0, 1) := dk_42 (dk_at dksX6_read_0 20 rfl rfl)
theorem dX6_read_21 : decode cX6_read 21 = .ok (.getfield 7, 3) := dk_180 0 7 (dk_at dksX6_read_0 21 rfl rfl)
theorem dX6_read_24 : decode cX6_read 24 = .ok (.aload_n 0, 1) := dk_42 (dk_at dksX6_read_1 0 rfl rfl)
theorem dX6_read_25 : decode cX6_read 25 = .ok (.getfield 1, 3) := dk_180 0 1 (dk_at dksX6_read_1 1 rfl rfl)
theorem dX6_read_28 : decode cX6_read 28 = .ok (.getfield 17, 3) := dk_180 0 17 (dk_at dksX6_read_1 4 rfl rfl)
theorem dX6_read_31 : decode cX6_read 31 = .ok (.aload_n 0, 1) := dk_42 (dk_at dksX6_read_1 7 rfl rfl)
theorem dX6_read_32 : decode cX6_read 32 = .ok (.getfield 7, 3) := dk_180 0 7 (dk_at dksX6_read_1 8 rfl rfl)
theorem dX6_read_35 : decode cX6_read 35 = .ok (.invokestatic 38, 3) := dk_184 0 38 (dk_at dksX6_read_1 11 rfl rfl)
theorem dX6_read_38 : decode cX6_read 38 = .ok (.aload_n 0, 1) := dk_42 (dk_at dksX6_read_1 14 rfl rfl)
theorem dX6_read_39 : decode cX6_read 39 = .ok (.getfield 7, 3) := dk_180 0 7 (dk_at dksX6_read_1 15 rfl rfl)
theorem dX6_read_42 : decode cX6_read 42 = .ok (.invokestatic 44, 3) := dk_184 0 44 (dk_at dksX6_read_1 18 rfl rfl)
theorem dX6_read_45 : decode cX6_read 45 = .ok (.invokevirtual 47, 3) := dk_182 0 47 (dk_at dksX6_read_1 21 rfl rfl)
theorem dX6_read_48 : decode cX6_read 48 = .ok (.iastore, 1) := dk_79 (dk_at dksX6_read_2 0 rfl rfl)
theorem dX6_read_49 : decode cX6_read 49 = .ok (.return_, 1) := dk_177 (dk_at dksX6_read_2 1 rfl rfl)
theorem q145 : (Jvm.Cond.initialized "TranslationBureau$Parser$6") ∈ lw_all := lw_g (lw_at lw_m1 28 rfl) rfl
theorem q232 : (Jvm.Cond.fieldLinkNest "TranslationBureau$Parser$6" (32 : Nat) "TranslationBureau$Office" "settings" "[I" "TranslationBureau") ∈ lw_tbl := lw_at lw_m1 115 rfl
theorem q1030 : (Jvm.Cond.fieldLinkNest "TranslationBureau$Parser$6" (17 : Nat) "TranslationBureau$Parser" "tokens" "LTranslationBureau$Tokens;" "TranslationBureau") ∈ lw_tbl := lw_at lw_m4 193 rfl
theorem q1032 : (Jvm.Cond.fieldLinkNest "TranslationBureau$Parser$6" (28 : Nat) "TranslationBureau$Parser" "read" "LTranslationBureau$Office;" "TranslationBureau") ∈ lw_tbl := lw_at lw_m4 195 rfl
theorem q1127 : (Jvm.Cond.instantiable "TranslationBureau$Parser$6" (2 : Nat)) ∈ lw_all := lw_g (lw_at lw_m5 50 rfl) rfl
theorem q1129 : (Jvm.Cond.instanceMethod ({ cls := "TranslationBureau$Parser$6", name := "<init>", desc := "(LTranslationBureau$Parser;I)V" } : Jvm.MethodName)) ∈ lw_all := lw_g (lw_at lw_m5 52 rfl) rfl
theorem q1130 : (Jvm.Cond.code ({ cls := "TranslationBureau$Parser$6", name := "<init>", desc := "(LTranslationBureau$Parser;I)V" } : Jvm.MethodName) prog_16_method_1_code (3 : Nat) (Option.none : Option Jvm.ClassFile.FieldType)) ∈ lw_all := lw_g (lw_at lw_m5 53 rfl) rfl
theorem q1131 : (Jvm.Cond.methodLink "TranslationBureau$Parser$6" (11 : Nat) ({ cls := "java/lang/Object", name := "<init>", desc := "()V" } : Jvm.MethodName)) ∈ lw_all := lw_g (lw_at lw_m5 54 rfl) rfl
theorem q1132 : (Jvm.Cond.fieldLink "TranslationBureau$Parser$6" (7 : Nat) "TranslationBureau$Parser$6" "val$setting" "I") ∈ lw_all := lw_g (lw_at lw_m5 55 rfl) rfl
theorem q1133 : (Jvm.Cond.fieldLink "TranslationBureau$Parser$6" (1 : Nat) "TranslationBureau$Parser$6" "this$1" "LTranslationBureau$Parser;") ∈ lw_all := lw_g (lw_at lw_m5 56 rfl) rfl
theorem q1134 : (Jvm.Cond.laysFinal "TranslationBureau$Parser$6" "TranslationBureau$Parser$6" "val$setting" "I") ∈ lw_all := lw_g (lw_at lw_m5 57 rfl) rfl
theorem q1135 : (Jvm.Cond.soleField "TranslationBureau$Parser$6" "val$setting") ∈ lw_all := lw_g (lw_at lw_m5 58 rfl) rfl
theorem q1136 : (Jvm.Cond.laysFinal "TranslationBureau$Parser$6" "TranslationBureau$Parser$6" "this$1" "LTranslationBureau$Parser;") ∈ lw_all := lw_g (lw_at lw_m5 59 rfl) rfl
theorem q1137 : (Jvm.Cond.soleField "TranslationBureau$Parser$6" "this$1") ∈ lw_all := lw_g (lw_at lw_m5 60 rfl) rfl
theorem q1138 : (Jvm.Cond.superclass "TranslationBureau$Parser$6" "java/lang/Object") ∈ lw_all := lw_g (lw_at lw_m5 61 rfl) rfl
theorem q1313 : (Jvm.Cond.selects "TranslationBureau$Parser$6" ({ cls := "java/lang/Object", name := "equals", desc := "(Ljava/lang/Object;)Z" } : Jvm.MethodName) ({ cls := "java/lang/Object", name := "equals", desc := "(Ljava/lang/Object;)Z" } : Jvm.MethodName)) ∈ lw_all := lw_g (lw_at lw_m5 236 rfl) rfl
theorem q1381 : (Jvm.Cond.selects "TranslationBureau$Parser$6" ({ cls := "java/lang/Object", name := "getClass", desc := "()Ljava/lang/Class;" } : Jvm.MethodName) ({ cls := "java/lang/Object", name := "getClass", desc := "()Ljava/lang/Class;" } : Jvm.MethodName)) ∈ lw_all := lw_g (lw_at lw_m6 64 rfl) rfl
theorem q1532 : (Jvm.Cond.castable "TranslationBureau$Parser$6" "TranslationBureau$Statement") ∈ lw_tbl := lw_at lw_m6 215 rfl
theorem q1533 : (Jvm.Cond.selects "TranslationBureau$Parser$6" ({ cls := "TranslationBureau$Statement", name := "read", desc := "()V" } : Jvm.MethodName) ({ cls := "TranslationBureau$Parser$6", name := "read", desc := "()V" } : Jvm.MethodName)) ∈ lw_all := lw_g (lw_at lw_m6 216 rfl) rfl
theorem q1534 : (Jvm.Cond.unhidden "TranslationBureau$Parser$6" "read" "()V") ∈ lw_tbl := lw_at lw_m6 217 rfl
theorem q1535 : (Jvm.Cond.instanceMethod ({ cls := "TranslationBureau$Parser$6", name := "read", desc := "()V" } : Jvm.MethodName)) ∈ lw_all := lw_g (lw_at lw_m6 218 rfl) rfl
theorem q1536 : (Jvm.Cond.publicMethod ({ cls := "TranslationBureau$Parser$6", name := "read", desc := "()V" } : Jvm.MethodName)) ∈ lw_tbl := lw_at lw_m6 219 rfl
theorem q1537 : (Jvm.Cond.code ({ cls := "TranslationBureau$Parser$6", name := "read", desc := "()V" } : Jvm.MethodName) prog_16_method_2_code (1 : Nat) (Option.none : Option Jvm.ClassFile.FieldType)) ∈ lw_all := lw_g (lw_at lw_m6 220 rfl) rfl
theorem q1538 : (Jvm.Cond.methodLink "TranslationBureau$Parser$6" (23 : Nat) ({ cls := "TranslationBureau$Tokens", name := "advance", desc := "()V" } : Jvm.MethodName)) ∈ lw_all := lw_g (lw_at lw_m6 221 rfl) rfl
theorem q1539 : (Jvm.Cond.methodLinkNest "TranslationBureau$Parser$6" (38 : Nat) ({ cls := "TranslationBureau", name := "lowest", desc := "(I)I" } : Jvm.MethodName) "TranslationBureau") ∈ lw_tbl := lw_at lw_m6 222 rfl
theorem q1542 : (Jvm.Cond.methodLinkNest "TranslationBureau$Parser$6" (44 : Nat) ({ cls := "TranslationBureau", name := "highest", desc := "(I)I" } : Jvm.MethodName) "TranslationBureau") ∈ lw_tbl := lw_at lw_m6 225 rfl
theorem q1545 : (Jvm.Cond.methodLink "TranslationBureau$Parser$6" (47 : Nat) ({ cls := "TranslationBureau$Tokens", name := "between", desc := "(II)I" } : Jvm.MethodName)) ∈ lw_all := lw_g (lw_at lw_m6 228 rfl) rfl
theorem q3117 : (Jvm.Cond.castable "TranslationBureau$Parser$6" "java/lang/Object") ∈ lw_tbl := lw_at lw_m13 120 rfl
theorem in_X6 : ∀ w ∈ wsX60, w ∈ lw_all := lw_in wsX60 [1134, 1136] (by decide +kernel) (by decide +kernel)

/-! TranslationBureau$Parser$1 -/
set_option maxRecDepth 100000
def RX7 : String := "TranslationBureau$Parser$1"
def TX7 : u_T := fun k => match k with
  | _ => ("TranslationBureau$Parser$1", "this$1", "LTranslationBureau$Parser;", true)
def tyX7 : Nat → FieldType := fun k => match k with
  | _ => .object "TranslationBureau$Parser"
abbrev wsX70 : List Cond := u_ws RX7 TX7 1
theorem nmX7 : ∀ a, a < 1 → ∀ b, b < 1 → a ≠ b → (TX7 a).2.1 ≠ (TX7 b).2.1 := by decide +kernel
theorem tyX7_ok : ∀ k, k < 1 → parseFieldDescriptor (TX7 k).2.2.1 = some (tyX7 k) := by decide +kernel
abbrev cX7_init : ByteArray := prog_11_method_1_code
def yX7_init : MethodName := ⟨RX7, "<init>", "(LTranslationBureau$Parser;)V"⟩
def dkwX7_init_0 : List UInt8 := [42, 43, 181, 0, 3, 42, 183, 0, 9, 177]
abbrev dktX7_init_0 : List UInt8 := dkwX7_init_0 ++ []
theorem dksX7_init_0 : cX7_init.data.toList.drop 0 = dktX7_init_0 := by decide +kernel
theorem dX7_init_0 : decode cX7_init 0 = .ok (.aload_n 0, 1) := dk_42 (dk_at dksX7_init_0 0 rfl rfl)
theorem dX7_init_1 : decode cX7_init 1 = .ok (.aload_n 1, 1) := dk_43 (dk_at dksX7_init_0 1 rfl rfl)
theorem dX7_init_2 : decode cX7_init 2 = .ok (.putfield 3, 3) := dk_181 0 3 (dk_at dksX7_init_0 2 rfl rfl)
theorem dX7_init_5 : decode cX7_init 5 = .ok (.aload_n 0, 1) := dk_42 (dk_at dksX7_init_0 5 rfl rfl)
theorem dX7_init_6 : decode cX7_init 6 = .ok (.invokespecial 9, 3) := dk_183 0 9 (dk_at dksX7_init_0 6 rfl rfl)
theorem dX7_init_9 : decode cX7_init 9 = .ok (.return_, 1) := dk_177 (dk_at dksX7_init_0 9 rfl rfl)
abbrev cX7_read : ByteArray := prog_11_method_2_code
def yX7_read : MethodName := ⟨RX7, "read", "()V"⟩
def dkwX7_read_2 : List UInt8 := [177]
abbrev dktX7_read_2 : List UInt8 := dkwX7_read_2 ++ []
def dkwX7_read_1 : List UInt8 := [180, 0, 3, 180, 0, 30, 180, 0, 34, 27, 42, 180, 0, 3, 180, 0, 15, 3, 16, 100, 182, 0, 26, 79]
abbrev dktX7_read_1 : List UInt8 := dkwX7_read_1 ++ dktX7_read_2
def dkwX7_read_0 : List UInt8 := [42, 180, 0, 3, 180, 0, 15, 182, 0, 21, 42, 180, 0, 3, 180, 0, 15, 3, 7, 182, 0, 26, 60, 42]
abbrev dktX7_read_0 : List UInt8 := dkwX7_read_0 ++ dktX7_read_1
theorem dksX7_read_0 : cX7_read.data.toList.drop 0 = dktX7_read_0 := by decide +kernel
theorem dksX7_read_1 : cX7_read.data.toList.drop 24 = dktX7_read_1 := dk_seg dksX7_read_0 24 rfl rfl
theorem dksX7_read_2 : cX7_read.data.toList.drop 48 = dktX7_read_2 := dk_seg dksX7_read_1 24 rfl rfl
theorem dX7_read_0 : decode cX7_read 0 = .ok (.aload_n 0, 1) := dk_42 (dk_at dksX7_read_0 0 rfl rfl)
theorem dX7_read_1 : decode cX7_read 1 = .ok (.getfield 3, 3) := dk_180 0 3 (dk_at dksX7_read_0 1 rfl rfl)
theorem dX7_read_4 : decode cX7_read 4 = .ok (.getfield 15, 3) := dk_180 0 15 (dk_at dksX7_read_0 4 rfl rfl)
theorem dX7_read_7 : decode cX7_read 7 = .ok (.invokevirtual 21, 3) := dk_182 0 21 (dk_at dksX7_read_0 7 rfl rfl)
theorem dX7_read_10 : decode cX7_read 10 = .ok (.aload_n 0, 1) := dk_42 (dk_at dksX7_read_0 10 rfl rfl)
theorem dX7_read_11 : decode cX7_read 11 = .ok (.getfield 3, 3) := dk_180 0 3 (dk_at dksX7_read_0 11 rfl rfl)
theorem dX7_read_14 : decode cX7_read 14 = .ok (.getfield 15, 3) := dk_180 0 15 (dk_at dksX7_read_0 14 rfl rfl)
theorem dX7_read_17 : decode cX7_read 17 = .ok (.iconst 0, 1) := dk_3 (dk_at dksX7_read_0 17 rfl rfl)
theorem dX7_read_18 : decode cX7_read 18 = .ok (.iconst 4, 1) := dk_7 (dk_at dksX7_read_0 18 rfl rfl)
theorem dX7_read_19 : decode cX7_read 19 = .ok (.invokevirtual 26, 3) := dk_182 0 26 (dk_at dksX7_read_0 19 rfl rfl)
theorem dX7_read_22 : decode cX7_read 22 = .ok (.istore_n 1, 1) := dk_60 (dk_at dksX7_read_0 22 rfl rfl)
theorem dX7_read_23 : decode cX7_read 23 = .ok (.aload_n 0, 1) := dk_42 (dk_at dksX7_read_0 23 rfl rfl)
theorem dX7_read_24 : decode cX7_read 24 = .ok (.getfield 3, 3) := dk_180 0 3 (dk_at dksX7_read_1 0 rfl rfl)
theorem dX7_read_27 : decode cX7_read 27 = .ok (.getfield 30, 3) := dk_180 0 30 (dk_at dksX7_read_1 3 rfl rfl)
theorem dX7_read_30 : decode cX7_read 30 = .ok (.getfield 34, 3) := dk_180 0 34 (dk_at dksX7_read_1 6 rfl rfl)
theorem dX7_read_33 : decode cX7_read 33 = .ok (.iload_n 1, 1) := dk_27 (dk_at dksX7_read_1 9 rfl rfl)
theorem dX7_read_34 : decode cX7_read 34 = .ok (.aload_n 0, 1) := dk_42 (dk_at dksX7_read_1 10 rfl rfl)
theorem dX7_read_35 : decode cX7_read 35 = .ok (.getfield 3, 3) := dk_180 0 3 (dk_at dksX7_read_1 11 rfl rfl)
theorem dX7_read_38 : decode cX7_read 38 = .ok (.getfield 15, 3) := dk_180 0 15 (dk_at dksX7_read_1 14 rfl rfl)
theorem dX7_read_41 : decode cX7_read 41 = .ok (.iconst 0, 1) := dk_3 (dk_at dksX7_read_1 17 rfl rfl)
theorem dX7_read_42 : decode cX7_read 42 = .ok (.bipush 100, 2) := dk_16 100 (dk_at dksX7_read_1 18 rfl rfl)
theorem dX7_read_44 : decode cX7_read 44 = .ok (.invokevirtual 26, 3) := dk_182 0 26 (dk_at dksX7_read_1 20 rfl rfl)
theorem dX7_read_47 : decode cX7_read 47 = .ok (.iastore, 1) := dk_79 (dk_at dksX7_read_1 23 rfl rfl)
theorem dX7_read_48 : decode cX7_read 48 = .ok (.return_, 1) := dk_177 (dk_at dksX7_read_2 0 rfl rfl)
theorem q146 : (Jvm.Cond.initialized "TranslationBureau$Parser$1") ∈ lw_all := lw_g (lw_at lw_m1 29 rfl) rfl
theorem q235 : (Jvm.Cond.fieldLinkNest "TranslationBureau$Parser$1" (34 : Nat) "TranslationBureau$Office" "percentages" "[I" "TranslationBureau") ∈ lw_tbl := lw_at lw_m1 118 rfl
theorem q1029 : (Jvm.Cond.fieldLinkNest "TranslationBureau$Parser$1" (15 : Nat) "TranslationBureau$Parser" "tokens" "LTranslationBureau$Tokens;" "TranslationBureau") ∈ lw_tbl := lw_at lw_m4 192 rfl
theorem q1033 : (Jvm.Cond.fieldLinkNest "TranslationBureau$Parser$1" (30 : Nat) "TranslationBureau$Parser" "read" "LTranslationBureau$Office;" "TranslationBureau") ∈ lw_tbl := lw_at lw_m4 196 rfl
theorem q1140 : (Jvm.Cond.instantiable "TranslationBureau$Parser$1" (1 : Nat)) ∈ lw_all := lw_g (lw_at lw_m5 63 rfl) rfl
theorem q1142 : (Jvm.Cond.instanceMethod ({ cls := "TranslationBureau$Parser$1", name := "<init>", desc := "(LTranslationBureau$Parser;)V" } : Jvm.MethodName)) ∈ lw_all := lw_g (lw_at lw_m5 65 rfl) rfl
theorem q1143 : (Jvm.Cond.code ({ cls := "TranslationBureau$Parser$1", name := "<init>", desc := "(LTranslationBureau$Parser;)V" } : Jvm.MethodName) prog_11_method_1_code (2 : Nat) (Option.none : Option Jvm.ClassFile.FieldType)) ∈ lw_all := lw_g (lw_at lw_m5 66 rfl) rfl
theorem q1144 : (Jvm.Cond.methodLink "TranslationBureau$Parser$1" (9 : Nat) ({ cls := "java/lang/Object", name := "<init>", desc := "()V" } : Jvm.MethodName)) ∈ lw_all := lw_g (lw_at lw_m5 67 rfl) rfl
theorem q1145 : (Jvm.Cond.fieldLink "TranslationBureau$Parser$1" (3 : Nat) "TranslationBureau$Parser$1" "this$1" "LTranslationBureau$Parser;") ∈ lw_all := lw_g (lw_at lw_m5 68 rfl) rfl
theorem q1146 : (Jvm.Cond.laysFinal "TranslationBureau$Parser$1" "TranslationBureau$Parser$1" "this$1" "LTranslationBureau$Parser;") ∈ lw_all := lw_g (lw_at lw_m5 69 rfl) rfl
theorem q1147 : (Jvm.Cond.soleField "TranslationBureau$Parser$1" "this$1") ∈ lw_all := lw_g (lw_at lw_m5 70 rfl) rfl
theorem q1148 : (Jvm.Cond.superclass "TranslationBureau$Parser$1" "java/lang/Object") ∈ lw_all := lw_g (lw_at lw_m5 71 rfl) rfl
theorem q1226 : (Jvm.Cond.castable "TranslationBureau$Parser$1" "TranslationBureau$Statement") ∈ lw_tbl := lw_at lw_m5 149 rfl
theorem q1227 : (Jvm.Cond.selects "TranslationBureau$Parser$1" ({ cls := "TranslationBureau$Statement", name := "read", desc := "()V" } : Jvm.MethodName) ({ cls := "TranslationBureau$Parser$1", name := "read", desc := "()V" } : Jvm.MethodName)) ∈ lw_all := lw_g (lw_at lw_m5 150 rfl) rfl
theorem q1228 : (Jvm.Cond.unhidden "TranslationBureau$Parser$1" "read" "()V") ∈ lw_tbl := lw_at lw_m5 151 rfl
theorem q1229 : (Jvm.Cond.instanceMethod ({ cls := "TranslationBureau$Parser$1", name := "read", desc := "()V" } : Jvm.MethodName)) ∈ lw_all := lw_g (lw_at lw_m5 152 rfl) rfl
theorem q1230 : (Jvm.Cond.publicMethod ({ cls := "TranslationBureau$Parser$1", name := "read", desc := "()V" } : Jvm.MethodName)) ∈ lw_tbl := lw_at lw_m5 153 rfl
theorem q1231 : (Jvm.Cond.code ({ cls := "TranslationBureau$Parser$1", name := "read", desc := "()V" } : Jvm.MethodName) prog_11_method_2_code (2 : Nat) (Option.none : Option Jvm.ClassFile.FieldType)) ∈ lw_all := lw_g (lw_at lw_m5 154 rfl) rfl
theorem q1232 : (Jvm.Cond.methodLink "TranslationBureau$Parser$1" (21 : Nat) ({ cls := "TranslationBureau$Tokens", name := "advance", desc := "()V" } : Jvm.MethodName)) ∈ lw_all := lw_g (lw_at lw_m5 155 rfl) rfl
theorem q1233 : (Jvm.Cond.methodLink "TranslationBureau$Parser$1" (26 : Nat) ({ cls := "TranslationBureau$Tokens", name := "between", desc := "(II)I" } : Jvm.MethodName)) ∈ lw_all := lw_g (lw_at lw_m5 156 rfl) rfl
theorem q1308 : (Jvm.Cond.selects "TranslationBureau$Parser$1" ({ cls := "java/lang/Object", name := "equals", desc := "(Ljava/lang/Object;)Z" } : Jvm.MethodName) ({ cls := "java/lang/Object", name := "equals", desc := "(Ljava/lang/Object;)Z" } : Jvm.MethodName)) ∈ lw_all := lw_g (lw_at lw_m5 231 rfl) rfl
theorem q1376 : (Jvm.Cond.selects "TranslationBureau$Parser$1" ({ cls := "java/lang/Object", name := "getClass", desc := "()Ljava/lang/Class;" } : Jvm.MethodName) ({ cls := "java/lang/Object", name := "getClass", desc := "()Ljava/lang/Class;" } : Jvm.MethodName)) ∈ lw_all := lw_g (lw_at lw_m6 59 rfl) rfl
theorem q3118 : (Jvm.Cond.castable "TranslationBureau$Parser$1" "java/lang/Object") ∈ lw_tbl := lw_at lw_m13 121 rfl
theorem in_X7 : ∀ w ∈ wsX70, w ∈ lw_all := lw_in wsX70 [1146] (by decide +kernel) (by decide +kernel)

/-! TranslationBureau$Parser$2 -/
set_option maxRecDepth 100000
def RX8 : String := "TranslationBureau$Parser$2"
def TX8 : u_T := fun k => match k with
  | _ => ("TranslationBureau$Parser$2", "this$1", "LTranslationBureau$Parser;", true)
def tyX8 : Nat → FieldType := fun k => match k with
  | _ => .object "TranslationBureau$Parser"
abbrev wsX80 : List Cond := u_ws RX8 TX8 1
theorem nmX8 : ∀ a, a < 1 → ∀ b, b < 1 → a ≠ b → (TX8 a).2.1 ≠ (TX8 b).2.1 := by decide +kernel
theorem tyX8_ok : ∀ k, k < 1 → parseFieldDescriptor (TX8 k).2.2.1 = some (tyX8 k) := by decide +kernel
abbrev cX8_init : ByteArray := prog_12_method_1_code
def yX8_init : MethodName := ⟨RX8, "<init>", "(LTranslationBureau$Parser;)V"⟩
def dkwX8_init_0 : List UInt8 := [42, 43, 181, 0, 1, 42, 183, 0, 7, 177]
abbrev dktX8_init_0 : List UInt8 := dkwX8_init_0 ++ []
theorem dksX8_init_0 : cX8_init.data.toList.drop 0 = dktX8_init_0 := by decide +kernel
theorem dX8_init_0 : decode cX8_init 0 = .ok (.aload_n 0, 1) := dk_42 (dk_at dksX8_init_0 0 rfl rfl)
theorem dX8_init_1 : decode cX8_init 1 = .ok (.aload_n 1, 1) := dk_43 (dk_at dksX8_init_0 1 rfl rfl)
theorem dX8_init_2 : decode cX8_init 2 = .ok (.putfield 1, 3) := dk_181 0 1 (dk_at dksX8_init_0 2 rfl rfl)
theorem dX8_init_5 : decode cX8_init 5 = .ok (.aload_n 0, 1) := dk_42 (dk_at dksX8_init_0 5 rfl rfl)
theorem dX8_init_6 : decode cX8_init 6 = .ok (.invokespecial 7, 3) := dk_183 0 7 (dk_at dksX8_init_0 6 rfl rfl)
theorem dX8_init_9 : decode cX8_init 9 = .ok (.return_, 1) := dk_177 (dk_at dksX8_init_0 9 rfl rfl)
abbrev cX8_read : ByteArray := prog_12_method_2_code
def yX8_read : MethodName := ⟨RX8, "read", "()V"⟩
def dkwX8_read_0 : List UInt8 := [42, 180, 0, 1, 182, 0, 13, 177]
abbrev dktX8_read_0 : List UInt8 := dkwX8_read_0 ++ []
theorem dksX8_read_0 : cX8_read.data.toList.drop 0 = dktX8_read_0 := by decide +kernel
theorem dX8_read_0 : decode cX8_read 0 = .ok (.aload_n 0, 1) := dk_42 (dk_at dksX8_read_0 0 rfl rfl)
theorem dX8_read_1 : decode cX8_read 1 = .ok (.getfield 1, 3) := dk_180 0 1 (dk_at dksX8_read_0 1 rfl rfl)
theorem dX8_read_4 : decode cX8_read 4 = .ok (.invokevirtual 13, 3) := dk_182 0 13 (dk_at dksX8_read_0 4 rfl rfl)
theorem dX8_read_7 : decode cX8_read 7 = .ok (.return_, 1) := dk_177 (dk_at dksX8_read_0 7 rfl rfl)
theorem q147 : (Jvm.Cond.initialized "TranslationBureau$Parser$2") ∈ lw_all := lw_g (lw_at lw_m1 30 rfl) rfl
theorem q1150 : (Jvm.Cond.instantiable "TranslationBureau$Parser$2" (1 : Nat)) ∈ lw_all := lw_g (lw_at lw_m5 73 rfl) rfl
theorem q1152 : (Jvm.Cond.instanceMethod ({ cls := "TranslationBureau$Parser$2", name := "<init>", desc := "(LTranslationBureau$Parser;)V" } : Jvm.MethodName)) ∈ lw_all := lw_g (lw_at lw_m5 75 rfl) rfl
theorem q1153 : (Jvm.Cond.code ({ cls := "TranslationBureau$Parser$2", name := "<init>", desc := "(LTranslationBureau$Parser;)V" } : Jvm.MethodName) prog_12_method_1_code (2 : Nat) (Option.none : Option Jvm.ClassFile.FieldType)) ∈ lw_all := lw_g (lw_at lw_m5 76 rfl) rfl
theorem q1154 : (Jvm.Cond.methodLink "TranslationBureau$Parser$2" (7 : Nat) ({ cls := "java/lang/Object", name := "<init>", desc := "()V" } : Jvm.MethodName)) ∈ lw_all := lw_g (lw_at lw_m5 77 rfl) rfl
theorem q1155 : (Jvm.Cond.fieldLink "TranslationBureau$Parser$2" (1 : Nat) "TranslationBureau$Parser$2" "this$1" "LTranslationBureau$Parser;") ∈ lw_all := lw_g (lw_at lw_m5 78 rfl) rfl
theorem q1156 : (Jvm.Cond.laysFinal "TranslationBureau$Parser$2" "TranslationBureau$Parser$2" "this$1" "LTranslationBureau$Parser;") ∈ lw_all := lw_g (lw_at lw_m5 79 rfl) rfl
theorem q1157 : (Jvm.Cond.soleField "TranslationBureau$Parser$2" "this$1") ∈ lw_all := lw_g (lw_at lw_m5 80 rfl) rfl
theorem q1158 : (Jvm.Cond.superclass "TranslationBureau$Parser$2" "java/lang/Object") ∈ lw_all := lw_g (lw_at lw_m5 81 rfl) rfl
theorem q1261 : (Jvm.Cond.castable "TranslationBureau$Parser$2" "TranslationBureau$Statement") ∈ lw_tbl := lw_at lw_m5 184 rfl
theorem q1262 : (Jvm.Cond.selects "TranslationBureau$Parser$2" ({ cls := "TranslationBureau$Statement", name := "read", desc := "()V" } : Jvm.MethodName) ({ cls := "TranslationBureau$Parser$2", name := "read", desc := "()V" } : Jvm.MethodName)) ∈ lw_all := lw_g (lw_at lw_m5 185 rfl) rfl
theorem q1263 : (Jvm.Cond.unhidden "TranslationBureau$Parser$2" "read" "()V") ∈ lw_tbl := lw_at lw_m5 186 rfl
theorem q1264 : (Jvm.Cond.instanceMethod ({ cls := "TranslationBureau$Parser$2", name := "read", desc := "()V" } : Jvm.MethodName)) ∈ lw_all := lw_g (lw_at lw_m5 187 rfl) rfl
theorem q1265 : (Jvm.Cond.publicMethod ({ cls := "TranslationBureau$Parser$2", name := "read", desc := "()V" } : Jvm.MethodName)) ∈ lw_tbl := lw_at lw_m5 188 rfl
theorem q1266 : (Jvm.Cond.code ({ cls := "TranslationBureau$Parser$2", name := "read", desc := "()V" } : Jvm.MethodName) prog_12_method_2_code (1 : Nat) (Option.none : Option Jvm.ClassFile.FieldType)) ∈ lw_all := lw_g (lw_at lw_m5 189 rfl) rfl
theorem q1267 : (Jvm.Cond.methodLinkNest "TranslationBureau$Parser$2" (13 : Nat) ({ cls := "TranslationBureau$Parser", name := "person", desc := "()V" } : Jvm.MethodName) "TranslationBureau") ∈ lw_tbl := lw_at lw_m5 190 rfl
theorem q1309 : (Jvm.Cond.selects "TranslationBureau$Parser$2" ({ cls := "java/lang/Object", name := "equals", desc := "(Ljava/lang/Object;)Z" } : Jvm.MethodName) ({ cls := "java/lang/Object", name := "equals", desc := "(Ljava/lang/Object;)Z" } : Jvm.MethodName)) ∈ lw_all := lw_g (lw_at lw_m5 232 rfl) rfl
theorem q1377 : (Jvm.Cond.selects "TranslationBureau$Parser$2" ({ cls := "java/lang/Object", name := "getClass", desc := "()Ljava/lang/Class;" } : Jvm.MethodName) ({ cls := "java/lang/Object", name := "getClass", desc := "()Ljava/lang/Class;" } : Jvm.MethodName)) ∈ lw_all := lw_g (lw_at lw_m6 60 rfl) rfl
theorem q3119 : (Jvm.Cond.castable "TranslationBureau$Parser$2" "java/lang/Object") ∈ lw_tbl := lw_at lw_m13 122 rfl
theorem in_X8 : ∀ w ∈ wsX80, w ∈ lw_all := lw_in wsX80 [1156] (by decide +kernel) (by decide +kernel)

/-! TranslationBureau$Parser$3 -/
set_option maxRecDepth 100000
def RX9 : String := "TranslationBureau$Parser$3"
def TX9 : u_T := fun k => match k with
  | _ => ("TranslationBureau$Parser$3", "this$1", "LTranslationBureau$Parser;", true)
def tyX9 : Nat → FieldType := fun k => match k with
  | _ => .object "TranslationBureau$Parser"
abbrev wsX90 : List Cond := u_ws RX9 TX9 1
theorem nmX9 : ∀ a, a < 1 → ∀ b, b < 1 → a ≠ b → (TX9 a).2.1 ≠ (TX9 b).2.1 := by decide +kernel
theorem tyX9_ok : ∀ k, k < 1 → parseFieldDescriptor (TX9 k).2.2.1 = some (tyX9 k) := by decide +kernel
abbrev cX9_init : ByteArray := prog_13_method_1_code
def yX9_init : MethodName := ⟨RX9, "<init>", "(LTranslationBureau$Parser;)V"⟩
def dkwX9_init_0 : List UInt8 := [42, 43, 181, 0, 1, 42, 183, 0, 7, 177]
abbrev dktX9_init_0 : List UInt8 := dkwX9_init_0 ++ []
theorem dksX9_init_0 : cX9_init.data.toList.drop 0 = dktX9_init_0 := by decide +kernel
theorem dX9_init_0 : decode cX9_init 0 = .ok (.aload_n 0, 1) := dk_42 (dk_at dksX9_init_0 0 rfl rfl)
theorem dX9_init_1 : decode cX9_init 1 = .ok (.aload_n 1, 1) := dk_43 (dk_at dksX9_init_0 1 rfl rfl)
theorem dX9_init_2 : decode cX9_init 2 = .ok (.putfield 1, 3) := dk_181 0 1 (dk_at dksX9_init_0 2 rfl rfl)
theorem dX9_init_5 : decode cX9_init 5 = .ok (.aload_n 0, 1) := dk_42 (dk_at dksX9_init_0 5 rfl rfl)
theorem dX9_init_6 : decode cX9_init 6 = .ok (.invokespecial 7, 3) := dk_183 0 7 (dk_at dksX9_init_0 6 rfl rfl)
theorem dX9_init_9 : decode cX9_init 9 = .ok (.return_, 1) := dk_177 (dk_at dksX9_init_0 9 rfl rfl)
abbrev cX9_read : ByteArray := prog_13_method_2_code
def yX9_read : MethodName := ⟨RX9, "read", "()V"⟩
def dkwX9_read_0 : List UInt8 := [42, 180, 0, 1, 182, 0, 13, 177]
abbrev dktX9_read_0 : List UInt8 := dkwX9_read_0 ++ []
theorem dksX9_read_0 : cX9_read.data.toList.drop 0 = dktX9_read_0 := by decide +kernel
theorem dX9_read_0 : decode cX9_read 0 = .ok (.aload_n 0, 1) := dk_42 (dk_at dksX9_read_0 0 rfl rfl)
theorem dX9_read_1 : decode cX9_read 1 = .ok (.getfield 1, 3) := dk_180 0 1 (dk_at dksX9_read_0 1 rfl rfl)
theorem dX9_read_4 : decode cX9_read 4 = .ok (.invokevirtual 13, 3) := dk_182 0 13 (dk_at dksX9_read_0 4 rfl rfl)
theorem dX9_read_7 : decode cX9_read 7 = .ok (.return_, 1) := dk_177 (dk_at dksX9_read_0 7 rfl rfl)
theorem q148 : (Jvm.Cond.initialized "TranslationBureau$Parser$3") ∈ lw_all := lw_g (lw_at lw_m1 31 rfl) rfl
theorem q1160 : (Jvm.Cond.instantiable "TranslationBureau$Parser$3" (1 : Nat)) ∈ lw_all := lw_g (lw_at lw_m5 83 rfl) rfl
theorem q1162 : (Jvm.Cond.instanceMethod ({ cls := "TranslationBureau$Parser$3", name := "<init>", desc := "(LTranslationBureau$Parser;)V" } : Jvm.MethodName)) ∈ lw_all := lw_g (lw_at lw_m5 85 rfl) rfl
theorem q1163 : (Jvm.Cond.code ({ cls := "TranslationBureau$Parser$3", name := "<init>", desc := "(LTranslationBureau$Parser;)V" } : Jvm.MethodName) prog_13_method_1_code (2 : Nat) (Option.none : Option Jvm.ClassFile.FieldType)) ∈ lw_all := lw_g (lw_at lw_m5 86 rfl) rfl
theorem q1164 : (Jvm.Cond.methodLink "TranslationBureau$Parser$3" (7 : Nat) ({ cls := "java/lang/Object", name := "<init>", desc := "()V" } : Jvm.MethodName)) ∈ lw_all := lw_g (lw_at lw_m5 87 rfl) rfl
theorem q1165 : (Jvm.Cond.fieldLink "TranslationBureau$Parser$3" (1 : Nat) "TranslationBureau$Parser$3" "this$1" "LTranslationBureau$Parser;") ∈ lw_all := lw_g (lw_at lw_m5 88 rfl) rfl
theorem q1166 : (Jvm.Cond.laysFinal "TranslationBureau$Parser$3" "TranslationBureau$Parser$3" "this$1" "LTranslationBureau$Parser;") ∈ lw_all := lw_g (lw_at lw_m5 89 rfl) rfl
theorem q1167 : (Jvm.Cond.soleField "TranslationBureau$Parser$3" "this$1") ∈ lw_all := lw_g (lw_at lw_m5 90 rfl) rfl
theorem q1168 : (Jvm.Cond.superclass "TranslationBureau$Parser$3" "java/lang/Object") ∈ lw_all := lw_g (lw_at lw_m5 91 rfl) rfl
theorem q1310 : (Jvm.Cond.selects "TranslationBureau$Parser$3" ({ cls := "java/lang/Object", name := "equals", desc := "(Ljava/lang/Object;)Z" } : Jvm.MethodName) ({ cls := "java/lang/Object", name := "equals", desc := "(Ljava/lang/Object;)Z" } : Jvm.MethodName)) ∈ lw_all := lw_g (lw_at lw_m5 233 rfl) rfl
theorem q1378 : (Jvm.Cond.selects "TranslationBureau$Parser$3" ({ cls := "java/lang/Object", name := "getClass", desc := "()Ljava/lang/Class;" } : Jvm.MethodName) ({ cls := "java/lang/Object", name := "getClass", desc := "()Ljava/lang/Class;" } : Jvm.MethodName)) ∈ lw_all := lw_g (lw_at lw_m6 61 rfl) rfl
theorem q1411 : (Jvm.Cond.castable "TranslationBureau$Parser$3" "TranslationBureau$Statement") ∈ lw_tbl := lw_at lw_m6 94 rfl
theorem q1412 : (Jvm.Cond.selects "TranslationBureau$Parser$3" ({ cls := "TranslationBureau$Statement", name := "read", desc := "()V" } : Jvm.MethodName) ({ cls := "TranslationBureau$Parser$3", name := "read", desc := "()V" } : Jvm.MethodName)) ∈ lw_all := lw_g (lw_at lw_m6 95 rfl) rfl
theorem q1413 : (Jvm.Cond.unhidden "TranslationBureau$Parser$3" "read" "()V") ∈ lw_tbl := lw_at lw_m6 96 rfl
theorem q1414 : (Jvm.Cond.instanceMethod ({ cls := "TranslationBureau$Parser$3", name := "read", desc := "()V" } : Jvm.MethodName)) ∈ lw_all := lw_g (lw_at lw_m6 97 rfl) rfl
theorem q1415 : (Jvm.Cond.publicMethod ({ cls := "TranslationBureau$Parser$3", name := "read", desc := "()V" } : Jvm.MethodName)) ∈ lw_tbl := lw_at lw_m6 98 rfl
theorem q1416 : (Jvm.Cond.code ({ cls := "TranslationBureau$Parser$3", name := "read", desc := "()V" } : Jvm.MethodName) prog_13_method_2_code (1 : Nat) (Option.none : Option Jvm.ClassFile.FieldType)) ∈ lw_all := lw_g (lw_at lw_m6 99 rfl) rfl
theorem q1417 : (Jvm.Cond.methodLinkNest "TranslationBureau$Parser$3" (13 : Nat) ({ cls := "TranslationBureau$Parser", name := "term", desc := "()V" } : Jvm.MethodName) "TranslationBureau") ∈ lw_tbl := lw_at lw_m6 100 rfl
theorem q3120 : (Jvm.Cond.castable "TranslationBureau$Parser$3" "java/lang/Object") ∈ lw_tbl := lw_at lw_m13 123 rfl
theorem in_X9 : ∀ w ∈ wsX90, w ∈ lw_all := lw_in wsX90 [1166] (by decide +kernel) (by decide +kernel)

