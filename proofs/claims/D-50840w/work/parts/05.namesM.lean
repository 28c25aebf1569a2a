/-! RenamedWordsModel -/
set_option maxRecDepth 100000
def RX9 : String := "RenamedWordsModel"
def TX9 : u_T := fun k => match k with
  | 0 => ("RenamedWordsModel", "w", "[I", true)
  | 1 => ("RenamedWordsModel", "other", "[I", true)
  | 2 => ("RenamedWordsModel", "ahead", "[I", true)
  | 3 => ("RenamedWordsModel", "past", "[I", true)
  | 4 => ("RenamedWordsModel", "kept", "[I", true)
  | 5 => ("RenamedWordsModel", "isKept", "[Z", true)
  | 6 => ("RenamedWordsModel", "undos", "I", false)
  | 7 => ("RenamedWordsModel", "thrown", "I", false)
  | 8 => ("RenamedWordsModel", "often", "[I", true)
  | 9 => ("RenamedWordsModel", "oftenThen", "[I", true)
  | 10 => ("RenamedWordsModel", "soMany", "[I", true)
  | 11 => ("RenamedWordsModel", "buffer", "[I", true)
  | 12 => ("RenamedWordsModel", "filled", "I", false)
  | 13 => ("RenamedWordsModel", "begin", "I", false)
  | 14 => ("RenamedWordsModel", "next", "I", false)
  | 15 => ("RenamedWordsModel", "token", "I", false)
  | 16 => ("RenamedWordsModel", "value", "I", false)
  | 17 => ("RenamedWordsModel", "error", "I", false)
  | 18 => ("RenamedWordsModel", "errorAt", "I", false)
  | 19 => ("RenamedWordsModel", "lastError", "I", false)
  | 20 => ("RenamedWordsModel", "toldOnce", "I", false)
  | 21 => ("RenamedWordsModel", "ends", "Z", false)
  | 22 => ("RenamedWordsModel", "orders", "[I", true)
  | 23 => ("RenamedWordsModel", "first", "[I", true)
  | 24 => ("RenamedWordsModel", "second", "[I", true)
  | 25 => ("RenamedWordsModel", "third", "[I", true)
  | 26 => ("RenamedWordsModel", "closers", "[I", true)
  | 27 => ("RenamedWordsModel", "begun", "[I", true)
  | 28 => ("RenamedWordsModel", "left", "[I", true)
  | 29 => ("RenamedWordsModel", "lines", "I", false)
  | 30 => ("RenamedWordsModel", "told", "I", false)
  | 31 => ("RenamedWordsModel", "opened", "I", false)
  | 32 => ("RenamedWordsModel", "page", "[I", true)
  | _ => ("RenamedWordsModel", "pageMany", "I", false)
def tyX9 : Nat → FieldType := fun k => match k with
  | 0 => .array .int
  | 1 => .array .int
  | 2 => .array .int
  | 3 => .array .int
  | 4 => .array .int
  | 5 => .array .boolean
  | 6 => .int
  | 7 => .int
  | 8 => .array .int
  | 9 => .array .int
  | 10 => .array .int
  | 11 => .array .int
  | 12 => .int
  | 13 => .int
  | 14 => .int
  | 15 => .int
  | 16 => .int
  | 17 => .int
  | 18 => .int
  | 19 => .int
  | 20 => .int
  | 21 => .boolean
  | 22 => .array .int
  | 23 => .array .int
  | 24 => .array .int
  | 25 => .array .int
  | 26 => .array .int
  | 27 => .array .int
  | 28 => .array .int
  | 29 => .int
  | 30 => .int
  | 31 => .int
  | 32 => .array .int
  | _ => .int
abbrev wsX90 : List Cond := u_ws RX9 TX9 34
set_option maxRecDepth 100000 in
theorem nmX9 : ∀ a, a < 34 → ∀ b, b < 34 → a ≠ b → (TX9 a).2.1 ≠ (TX9 b).2.1 := by decide +kernel
set_option maxRecDepth 100000 in
theorem tyX9_ok : ∀ k, k < 34 → parseFieldDescriptor (TX9 k).2.2.1 = some (tyX9 k) := by decide +kernel
abbrev cX9_init : ByteArray := prog_29_method_1_code
def yX9_init : MethodName := ⟨RX9, "<init>", "()V"⟩
def dkwX9_init_7 : List UInt8 := [4, 79, 177]
abbrev dktX9_init_7 : List UInt8 := dkwX9_init_7 ++ []
def dkwX9_init_6 : List UInt8 := [181, 0, 60, 42, 5, 188, 10, 181, 0, 63, 42, 17, 4, 176, 188, 10, 181, 0, 66, 42, 180, 0, 9, 4]
abbrev dktX9_init_6 : List UInt8 := dkwX9_init_6 ++ dktX9_init_7
def dkwX9_init_5 : List UInt8 := [181, 0, 51, 42, 16, 64, 188, 10, 181, 0, 54, 42, 16, 64, 188, 10, 181, 0, 57, 42, 5, 188, 10]
abbrev dktX9_init_5 : List UInt8 := dkwX9_init_5 ++ dktX9_init_6
def dkwX9_init_4 : List UInt8 := [181, 0, 41, 42, 16, 64, 188, 10, 181, 0, 45, 42, 16, 64, 188, 10, 181, 0, 48, 42, 16, 64, 188, 10]
abbrev dktX9_init_4 : List UInt8 := dkwX9_init_4 ++ dktX9_init_5
def dkwX9_init_3 : List UInt8 := [181, 0, 32, 42, 16, 21, 188, 10, 181, 0, 35, 42, 17, 2, 88, 188, 10, 181, 0, 38, 42, 2]
abbrev dktX9_init_3 : List UInt8 := dkwX9_init_3 ++ dktX9_init_4
def dkwX9_init_2 : List UInt8 := [181, 0, 22, 42, 5, 188, 4, 181, 0, 25, 42, 16, 26, 188, 10, 181, 0, 29, 42, 16, 26, 188, 10]
abbrev dktX9_init_2 : List UInt8 := dkwX9_init_2 ++ dktX9_init_3
def dkwX9_init_1 : List UInt8 := [17, 2, 64, 188, 10, 181, 0, 16, 42, 17, 18, 0, 188, 10, 181, 0, 19, 42, 17, 4, 128, 188, 10]
abbrev dktX9_init_1 : List UInt8 := dkwX9_init_1 ++ dktX9_init_2
def dkwX9_init_0 : List UInt8 := [42, 183, 0, 1, 42, 17, 2, 64, 188, 10, 181, 0, 9, 42, 17, 2, 64, 188, 10, 181, 0, 13, 42]
abbrev dktX9_init_0 : List UInt8 := dkwX9_init_0 ++ dktX9_init_1
theorem dksX9_init_0 : cX9_init.data.toList.drop 0 = dktX9_init_0 := by decide +kernel
theorem dksX9_init_1 : cX9_init.data.toList.drop 23 = dktX9_init_1 := dk_seg dksX9_init_0 23 rfl rfl
theorem dksX9_init_2 : cX9_init.data.toList.drop 46 = dktX9_init_2 := dk_seg dksX9_init_1 23 rfl rfl
theorem dksX9_init_3 : cX9_init.data.toList.drop 69 = dktX9_init_3 := dk_seg dksX9_init_2 23 rfl rfl
theorem dksX9_init_4 : cX9_init.data.toList.drop 91 = dktX9_init_4 := dk_seg dksX9_init_3 22 rfl rfl
theorem dksX9_init_5 : cX9_init.data.toList.drop 115 = dktX9_init_5 := dk_seg dksX9_init_4 24 rfl rfl
theorem dksX9_init_6 : cX9_init.data.toList.drop 138 = dktX9_init_6 := dk_seg dksX9_init_5 23 rfl rfl
theorem dksX9_init_7 : cX9_init.data.toList.drop 162 = dktX9_init_7 := dk_seg dksX9_init_6 24 rfl rfl
theorem dX9_init_0 : decode cX9_init 0 = .ok (.aload_n 0, 1) := dk_42 (dk_at dksX9_init_0 0 rfl rfl)
theorem dX9_init_1 : decode cX9_init 1 = .ok (.invokespecial 1, 3) := dk_183 0 1 (dk_at dksX9_init_0 1 rfl rfl)
theorem dX9_init_4 : decode cX9_init 4 = .ok (.aload_n 0, 1) := dk_42 (dk_at dksX9_init_0 4 rfl rfl)
theorem dX9_init_5 : decode cX9_init 5 = .ok (.sipush 576, 3) := dk_17 2 64 (dk_at dksX9_init_0 5 rfl rfl)
theorem dX9_init_8 : decode cX9_init 8 = .ok (.newarray .int, 2) := dk_188_10 (dk_at dksX9_init_0 8 rfl rfl)
theorem dX9_init_10 : decode cX9_init 10 = .ok (.putfield 9, 3) := dk_181 0 9 (dk_at dksX9_init_0 10 rfl rfl)
theorem dX9_init_13 : decode cX9_init 13 = .ok (.aload_n 0, 1) := dk_42 (dk_at dksX9_init_0 13 rfl rfl)
theorem dX9_init_14 : decode cX9_init 14 = .ok (.sipush 576, 3) := dk_17 2 64 (dk_at dksX9_init_0 14 rfl rfl)
theorem dX9_init_17 : decode cX9_init 17 = .ok (.newarray .int, 2) := dk_188_10 (dk_at dksX9_init_0 17 rfl rfl)
theorem dX9_init_19 : decode cX9_init 19 = .ok (.putfield 13, 3) := dk_181 0 13 (dk_at dksX9_init_0 19 rfl rfl)
theorem dX9_init_22 : decode cX9_init 22 = .ok (.aload_n 0, 1) := dk_42 (dk_at dksX9_init_0 22 rfl rfl)
theorem dX9_init_23 : decode cX9_init 23 = .ok (.sipush 576, 3) := dk_17 2 64 (dk_at dksX9_init_1 0 rfl rfl)
theorem dX9_init_26 : decode cX9_init 26 = .ok (.newarray .int, 2) := dk_188_10 (dk_at dksX9_init_1 3 rfl rfl)
theorem dX9_init_28 : decode cX9_init 28 = .ok (.putfield 16, 3) := dk_181 0 16 (dk_at dksX9_init_1 5 rfl rfl)
theorem dX9_init_31 : decode cX9_init 31 = .ok (.aload_n 0, 1) := dk_42 (dk_at dksX9_init_1 8 rfl rfl)
theorem dX9_init_32 : decode cX9_init 32 = .ok (.sipush 4608, 3) := dk_17 18 0 (dk_at dksX9_init_1 9 rfl rfl)
theorem dX9_init_35 : decode cX9_init 35 = .ok (.newarray .int, 2) := dk_188_10 (dk_at dksX9_init_1 12 rfl rfl)
theorem dX9_init_37 : decode cX9_init 37 = .ok (.putfield 19, 3) := dk_181 0 19 (dk_at dksX9_init_1 14 rfl rfl)
theorem dX9_init_40 : decode cX9_init 40 = .ok (.aload_n 0, 1) := dk_42 (dk_at dksX9_init_1 17 rfl rfl)
theorem dX9_init_41 : decode cX9_init 41 = .ok (.sipush 1152, 3) := dk_17 4 128 (dk_at dksX9_init_1 18 rfl rfl)
theorem dX9_init_44 : decode cX9_init 44 = .ok (.newarray .int, 2) := dk_188_10 (dk_at dksX9_init_1 21 rfl rfl)
theorem dX9_init_46 : decode cX9_init 46 = .ok (.putfield 22, 3) := dk_181 0 22 (dk_at dksX9_init_2 0 rfl rfl)
theorem dX9_init_49 : decode cX9_init 49 = .ok (.aload_n 0, 1) := dk_42 (dk_at dksX9_init_2 3 rfl rfl)
theorem dX9_init_50 : decode cX9_init 50 = .ok (.iconst 2, 1) := dk_5 (dk_at dksX9_init_2 4 rfl rfl)
theorem dX9_init_51 : decode cX9_init 51 = .ok (.newarray .boolean, 2) := dk_188_4 (dk_at dksX9_init_2 5 rfl rfl)
theorem dX9_init_53 : decode cX9_init 53 = .ok (.putfield 25, 3) := dk_181 0 25 (dk_at dksX9_init_2 7 rfl rfl)
theorem dX9_init_56 : decode cX9_init 56 = .ok (.aload_n 0, 1) := dk_42 (dk_at dksX9_init_2 10 rfl rfl)
theorem dX9_init_57 : decode cX9_init 57 = .ok (.bipush 26, 2) := dk_16 26 (dk_at dksX9_init_2 11 rfl rfl)
theorem dX9_init_59 : decode cX9_init 59 = .ok (.newarray .int, 2) := dk_188_10 (dk_at dksX9_init_2 13 rfl rfl)
theorem dX9_init_61 : decode cX9_init 61 = .ok (.putfield 29, 3) := dk_181 0 29 (dk_at dksX9_init_2 15 rfl rfl)
theorem dX9_init_64 : decode cX9_init 64 = .ok (.aload_n 0, 1) := dk_42 (dk_at dksX9_init_2 18 rfl rfl)
theorem dX9_init_65 : decode cX9_init 65 = .ok (.bipush 26, 2) := dk_16 26 (dk_at dksX9_init_2 19 rfl rfl)
theorem dX9_init_67 : decode cX9_init 67 = .ok (.newarray .int, 2) := dk_188_10 (dk_at dksX9_init_2 21 rfl rfl)
theorem dX9_init_69 : decode cX9_init 69 = .ok (.putfield 32, 3) := dk_181 0 32 (dk_at dksX9_init_3 0 rfl rfl)
theorem dX9_init_72 : decode cX9_init 72 = .ok (.aload_n 0, 1) := dk_42 (dk_at dksX9_init_3 3 rfl rfl)
theorem dX9_init_73 : decode cX9_init 73 = .ok (.bipush 21, 2) := dk_16 21 (dk_at dksX9_init_3 4 rfl rfl)
theorem dX9_init_75 : decode cX9_init 75 = .ok (.newarray .int, 2) := dk_188_10 (dk_at dksX9_init_3 6 rfl rfl)
theorem dX9_init_77 : decode cX9_init 77 = .ok (.putfield 35, 3) := dk_181 0 35 (dk_at dksX9_init_3 8 rfl rfl)
theorem dX9_init_80 : decode cX9_init 80 = .ok (.aload_n 0, 1) := dk_42 (dk_at dksX9_init_3 11 rfl rfl)
theorem dX9_init_81 : decode cX9_init 81 = .ok (.sipush 600, 3) := dk_17 2 88 (dk_at dksX9_init_3 12 rfl rfl)
theorem dX9_init_84 : decode cX9_init 84 = .ok (.newarray .int, 2) := dk_188_10 (dk_at dksX9_init_3 15 rfl rfl)
theorem dX9_init_86 : decode cX9_init 86 = .ok (.putfield 38, 3) := dk_181 0 38 (dk_at dksX9_init_3 17 rfl rfl)
theorem dX9_init_89 : decode cX9_init 89 = .ok (.aload_n 0, 1) := dk_42 (dk_at dksX9_init_3 20 rfl rfl)
theorem dX9_init_90 : decode cX9_init 90 = .ok (.iconst (-1), 1) := dk_2 (dk_at dksX9_init_3 21 rfl rfl)
theorem dX9_init_91 : decode cX9_init 91 = .ok (.putfield 41, 3) := dk_181 0 41 (dk_at dksX9_init_4 0 rfl rfl)
theorem dX9_init_94 : decode cX9_init 94 = .ok (.aload_n 0, 1) := dk_42 (dk_at dksX9_init_4 3 rfl rfl)
theorem dX9_init_95 : decode cX9_init 95 = .ok (.bipush 64, 2) := dk_16 64 (dk_at dksX9_init_4 4 rfl rfl)
theorem dX9_init_97 : decode cX9_init 97 = .ok (.newarray .int, 2) := dk_188_10 (dk_at dksX9_init_4 6 rfl rfl)
theorem dX9_init_99 : decode cX9_init 99 = .ok (.putfield 45, 3) := dk_181 0 45 (dk_at dksX9_init_4 8 rfl rfl)
theorem dX9_init_102 : decode cX9_init 102 = .ok (.aload_n 0, 1) := dk_42 (dk_at dksX9_init_4 11 rfl rfl)
theorem dX9_init_103 : decode cX9_init 103 = .ok (.bipush 64, 2) := dk_16 64 (dk_at dksX9_init_4 12 rfl rfl)
theorem dX9_init_105 : decode cX9_init 105 = .ok (.newarray .int, 2) := dk_188_10 (dk_at dksX9_init_4 14 rfl rfl)
theorem dX9_init_107 : decode cX9_init 107 = .ok (.putfield 48, 3) := dk_181 0 48 (dk_at dksX9_init_4 16 rfl rfl)
theorem dX9_init_110 : decode cX9_init 110 = .ok (.aload_n 0, 1) := dk_42 (dk_at dksX9_init_4 19 rfl rfl)
theorem dX9_init_111 : decode cX9_init 111 = .ok (.bipush 64, 2) := dk_16 64 (dk_at dksX9_init_4 20 rfl rfl)
theorem dX9_init_113 : decode cX9_init 113 = .ok (.newarray .int, 2) := dk_188_10 (dk_at dksX9_init_4 22 rfl rfl)
theorem dX9_init_115 : decode cX9_init 115 = .ok (.putfield 51, 3) := dk_181 0 51 (dk_at dksX9_init_5 0 rfl rfl)
theorem dX9_init_118 : decode cX9_init 118 = .ok (.aload_n 0, 1) := dk_42 (dk_at dksX9_init_5 3 rfl rfl)
theorem dX9_init_119 : decode cX9_init 119 = .ok (.bipush 64, 2) := dk_16 64 (dk_at dksX9_init_5 4 rfl rfl)
theorem dX9_init_121 : decode cX9_init 121 = .ok (.newarray .int, 2) := dk_188_10 (dk_at dksX9_init_5 6 rfl rfl)
theorem dX9_init_123 : decode cX9_init 123 = .ok (.putfield 54, 3) := dk_181 0 54 (dk_at dksX9_init_5 8 rfl rfl)
theorem dX9_init_126 : decode cX9_init 126 = .ok (.aload_n 0, 1) := dk_42 (dk_at dksX9_init_5 11 rfl rfl)
theorem dX9_init_127 : decode cX9_init 127 = .ok (.bipush 64, 2) := dk_16 64 (dk_at dksX9_init_5 12 rfl rfl)
theorem dX9_init_129 : decode cX9_init 129 = .ok (.newarray .int, 2) := dk_188_10 (dk_at dksX9_init_5 14 rfl rfl)
theorem dX9_init_131 : decode cX9_init 131 = .ok (.putfield 57, 3) := dk_181 0 57 (dk_at dksX9_init_5 16 rfl rfl)
theorem dX9_init_134 : decode cX9_init 134 = .ok (.aload_n 0, 1) := dk_42 (dk_at dksX9_init_5 19 rfl rfl)
theorem dX9_init_135 : decode cX9_init 135 = .ok (.iconst 2, 1) := dk_5 (dk_at dksX9_init_5 20 rfl rfl)
theorem dX9_init_136 : decode cX9_init 136 = .ok (.newarray .int, 2) := dk_188_10 (dk_at dksX9_init_5 21 rfl rfl)
theorem dX9_init_138 : decode cX9_init 138 = .ok (.putfield 60, 3) := dk_181 0 60 (dk_at dksX9_init_6 0 rfl rfl)
theorem dX9_init_141 : decode cX9_init 141 = .ok (.aload_n 0, 1) := dk_42 (dk_at dksX9_init_6 3 rfl rfl)
theorem dX9_init_142 : decode cX9_init 142 = .ok (.iconst 2, 1) := dk_5 (dk_at dksX9_init_6 4 rfl rfl)
theorem dX9_init_143 : decode cX9_init 143 = .ok (.newarray .int, 2) := dk_188_10 (dk_at dksX9_init_6 5 rfl rfl)
theorem dX9_init_145 : decode cX9_init 145 = .ok (.putfield 63, 3) := dk_181 0 63 (dk_at dksX9_init_6 7 rfl rfl)
theorem dX9_init_148 : decode cX9_init 148 = .ok (.aload_n 0, 1) := dk_42 (dk_at dksX9_init_6 10 rfl rfl)
theorem dX9_init_149 : decode cX9_init 149 = .ok (.sipush 1200, 3) := dk_17 4 176 (dk_at dksX9_init_6 11 rfl rfl)
theorem dX9_init_152 : decode cX9_init 152 = .ok (.newarray .int, 2) := dk_188_10 (dk_at dksX9_init_6 14 rfl rfl)
theorem dX9_init_154 : decode cX9_init 154 = .ok (.putfield 66, 3) := dk_181 0 66 (dk_at dksX9_init_6 16 rfl rfl)
theorem dX9_init_157 : decode cX9_init 157 = .ok (.aload_n 0, 1) := dk_42 (dk_at dksX9_init_6 19 rfl rfl)
theorem dX9_init_158 : decode cX9_init 158 = .ok (.getfield 9, 3) := dk_180 0 9 (dk_at dksX9_init_6 20 rfl rfl)
theorem dX9_init_161 : decode cX9_init 161 = .ok (.iconst 1, 1) := dk_4 (dk_at dksX9_init_6 23 rfl rfl)
theorem dX9_init_162 : decode cX9_init 162 = .ok (.iconst 1, 1) := dk_4 (dk_at dksX9_init_7 0 rfl rfl)
theorem dX9_init_163 : decode cX9_init 163 = .ok (.iastore, 1) := dk_79 (dk_at dksX9_init_7 1 rfl rfl)
theorem dX9_init_164 : decode cX9_init 164 = .ok (.return_, 1) := dk_177 (dk_at dksX9_init_7 2 rfl rfl)
abbrev cX9_thrown : ByteArray := prog_29_method_2_code
def yX9_thrown : MethodName := ⟨RX9, "thrown", "()I"⟩
theorem dX9_thrown_0 : decode cX9_thrown 0 = .ok (.aload_n 0, 1) := by decide +kernel
theorem dX9_thrown_1 : decode cX9_thrown 1 = .ok (.getfield 69, 3) := by decide +kernel
theorem dX9_thrown_4 : decode cX9_thrown 4 = .ok (.ireturn, 1) := by decide +kernel
abbrev cX9_feed : ByteArray := prog_29_method_36_code
def yX9_feed : MethodName := ⟨RX9, "feed", "(IIIII)I"⟩
def dkwX9_feed_3 : List UInt8 := [182, 0, 154, 42, 180, 0, 148, 172]
abbrev dktX9_feed_3 : List UInt8 := dkwX9_feed_3 ++ []
def dkwX9_feed_2 : List UInt8 := [182, 0, 154, 42, 28, 182, 0, 154, 42, 29, 182, 0, 154, 42, 21, 4, 182, 0, 154, 42, 21, 5]
abbrev dktX9_feed_2 : List UInt8 := dkwX9_feed_2 ++ dktX9_feed_3
def dkwX9_feed_1 : List UInt8 := [21, 4, 184, 0, 151, 96, 21, 5, 184, 0, 151, 96, 17, 2, 88, 164, 0, 5, 2, 172, 42, 27]
abbrev dktX9_feed_1 : List UInt8 := dkwX9_feed_1 ++ dktX9_feed_2
def dkwX9_feed_0 : List UInt8 := [42, 3, 181, 0, 69, 42, 180, 0, 148, 27, 184, 0, 151, 96, 28, 184, 0, 151, 96, 29, 184, 0, 151, 96]
abbrev dktX9_feed_0 : List UInt8 := dkwX9_feed_0 ++ dktX9_feed_1
theorem dksX9_feed_0 : cX9_feed.data.toList.drop 0 = dktX9_feed_0 := by decide +kernel
theorem dksX9_feed_1 : cX9_feed.data.toList.drop 24 = dktX9_feed_1 := dk_seg dksX9_feed_0 24 rfl rfl
theorem dksX9_feed_2 : cX9_feed.data.toList.drop 46 = dktX9_feed_2 := dk_seg dksX9_feed_1 22 rfl rfl
theorem dksX9_feed_3 : cX9_feed.data.toList.drop 68 = dktX9_feed_3 := dk_seg dksX9_feed_2 22 rfl rfl
theorem dX9_feed_0 : decode cX9_feed 0 = .ok (.aload_n 0, 1) := dk_42 (dk_at dksX9_feed_0 0 rfl rfl)
theorem dX9_feed_1 : decode cX9_feed 1 = .ok (.iconst 0, 1) := dk_3 (dk_at dksX9_feed_0 1 rfl rfl)
theorem dX9_feed_2 : decode cX9_feed 2 = .ok (.putfield 69, 3) := dk_181 0 69 (dk_at dksX9_feed_0 2 rfl rfl)
theorem dX9_feed_5 : decode cX9_feed 5 = .ok (.aload_n 0, 1) := dk_42 (dk_at dksX9_feed_0 5 rfl rfl)
theorem dX9_feed_6 : decode cX9_feed 6 = .ok (.getfield 148, 3) := dk_180 0 148 (dk_at dksX9_feed_0 6 rfl rfl)
theorem dX9_feed_9 : decode cX9_feed 9 = .ok (.iload_n 1, 1) := dk_27 (dk_at dksX9_feed_0 9 rfl rfl)
theorem dX9_feed_10 : decode cX9_feed 10 = .ok (.invokestatic 151, 3) := dk_184 0 151 (dk_at dksX9_feed_0 10 rfl rfl)
theorem dX9_feed_13 : decode cX9_feed 13 = .ok (.iadd, 1) := dk_96 (dk_at dksX9_feed_0 13 rfl rfl)
theorem dX9_feed_14 : decode cX9_feed 14 = .ok (.iload_n 2, 1) := dk_28 (dk_at dksX9_feed_0 14 rfl rfl)
theorem dX9_feed_15 : decode cX9_feed 15 = .ok (.invokestatic 151, 3) := dk_184 0 151 (dk_at dksX9_feed_0 15 rfl rfl)
theorem dX9_feed_18 : decode cX9_feed 18 = .ok (.iadd, 1) := dk_96 (dk_at dksX9_feed_0 18 rfl rfl)
theorem dX9_feed_19 : decode cX9_feed 19 = .ok (.iload_n 3, 1) := dk_29 (dk_at dksX9_feed_0 19 rfl rfl)
theorem dX9_feed_20 : decode cX9_feed 20 = .ok (.invokestatic 151, 3) := dk_184 0 151 (dk_at dksX9_feed_0 20 rfl rfl)
theorem dX9_feed_23 : decode cX9_feed 23 = .ok (.iadd, 1) := dk_96 (dk_at dksX9_feed_0 23 rfl rfl)
theorem dX9_feed_24 : decode cX9_feed 24 = .ok (.iload 4, 2) := dk_21 4 (dk_at dksX9_feed_1 0 rfl rfl)
theorem dX9_feed_26 : decode cX9_feed 26 = .ok (.invokestatic 151, 3) := dk_184 0 151 (dk_at dksX9_feed_1 2 rfl rfl)
theorem dX9_feed_29 : decode cX9_feed 29 = .ok (.iadd, 1) := dk_96 (dk_at dksX9_feed_1 5 rfl rfl)
theorem dX9_feed_30 : decode cX9_feed 30 = .ok (.iload 5, 2) := dk_21 5 (dk_at dksX9_feed_1 6 rfl rfl)
theorem dX9_feed_32 : decode cX9_feed 32 = .ok (.invokestatic 151, 3) := dk_184 0 151 (dk_at dksX9_feed_1 8 rfl rfl)
theorem dX9_feed_35 : decode cX9_feed 35 = .ok (.iadd, 1) := dk_96 (dk_at dksX9_feed_1 11 rfl rfl)
theorem dX9_feed_36 : decode cX9_feed 36 = .ok (.sipush 600, 3) := dk_17 2 88 (dk_at dksX9_feed_1 12 rfl rfl)
theorem dX9_feed_39 : decode cX9_feed 39 = .ok (.if_icmp .le 5, 3) := dk_164 0 5 (dk_at dksX9_feed_1 15 rfl rfl)
theorem dX9_feed_42 : decode cX9_feed 42 = .ok (.iconst (-1), 1) := dk_2 (dk_at dksX9_feed_1 18 rfl rfl)
theorem dX9_feed_43 : decode cX9_feed 43 = .ok (.ireturn, 1) := dk_172 (dk_at dksX9_feed_1 19 rfl rfl)
theorem dX9_feed_44 : decode cX9_feed 44 = .ok (.aload_n 0, 1) := dk_42 (dk_at dksX9_feed_1 20 rfl rfl)
theorem dX9_feed_45 : decode cX9_feed 45 = .ok (.iload_n 1, 1) := dk_27 (dk_at dksX9_feed_1 21 rfl rfl)
theorem dX9_feed_46 : decode cX9_feed 46 = .ok (.invokevirtual 154, 3) := dk_182 0 154 (dk_at dksX9_feed_2 0 rfl rfl)
theorem dX9_feed_49 : decode cX9_feed 49 = .ok (.aload_n 0, 1) := dk_42 (dk_at dksX9_feed_2 3 rfl rfl)
theorem dX9_feed_50 : decode cX9_feed 50 = .ok (.iload_n 2, 1) := dk_28 (dk_at dksX9_feed_2 4 rfl rfl)
theorem dX9_feed_51 : decode cX9_feed 51 = .ok (.invokevirtual 154, 3) := dk_182 0 154 (dk_at dksX9_feed_2 5 rfl rfl)
theorem dX9_feed_54 : decode cX9_feed 54 = .ok (.aload_n 0, 1) := dk_42 (dk_at dksX9_feed_2 8 rfl rfl)
theorem dX9_feed_55 : decode cX9_feed 55 = .ok (.iload_n 3, 1) := dk_29 (dk_at dksX9_feed_2 9 rfl rfl)
theorem dX9_feed_56 : decode cX9_feed 56 = .ok (.invokevirtual 154, 3) := dk_182 0 154 (dk_at dksX9_feed_2 10 rfl rfl)
theorem dX9_feed_59 : decode cX9_feed 59 = .ok (.aload_n 0, 1) := dk_42 (dk_at dksX9_feed_2 13 rfl rfl)
theorem dX9_feed_60 : decode cX9_feed 60 = .ok (.iload 4, 2) := dk_21 4 (dk_at dksX9_feed_2 14 rfl rfl)
theorem dX9_feed_62 : decode cX9_feed 62 = .ok (.invokevirtual 154, 3) := dk_182 0 154 (dk_at dksX9_feed_2 16 rfl rfl)
theorem dX9_feed_65 : decode cX9_feed 65 = .ok (.aload_n 0, 1) := dk_42 (dk_at dksX9_feed_2 19 rfl rfl)
theorem dX9_feed_66 : decode cX9_feed 66 = .ok (.iload 5, 2) := dk_21 5 (dk_at dksX9_feed_2 20 rfl rfl)
theorem dX9_feed_68 : decode cX9_feed 68 = .ok (.invokevirtual 154, 3) := dk_182 0 154 (dk_at dksX9_feed_3 0 rfl rfl)
theorem dX9_feed_71 : decode cX9_feed 71 = .ok (.aload_n 0, 1) := dk_42 (dk_at dksX9_feed_3 3 rfl rfl)
theorem dX9_feed_72 : decode cX9_feed 72 = .ok (.getfield 148, 3) := dk_180 0 148 (dk_at dksX9_feed_3 4 rfl rfl)
theorem dX9_feed_75 : decode cX9_feed 75 = .ok (.ireturn, 1) := dk_172 (dk_at dksX9_feed_3 7 rfl rfl)
abbrev cX9_bytesIn : ByteArray := prog_29_method_35_code
def yX9_bytesIn : MethodName := ⟨RX9, "bytesIn", "(I)I"⟩
def dkwX9_bytesIn_3 : List UInt8 := [3, 184, 0, 113, 96, 172]
abbrev dktX9_bytesIn_3 : List UInt8 := dkwX9_bytesIn_3 ++ []
def dkwX9_bytesIn_2 : List UInt8 := [158, 0, 7, 4, 167, 0, 4, 3, 184, 0, 113, 96, 26, 17, 0, 255, 126, 158, 0, 7, 4, 167, 0, 4]
abbrev dktX9_bytesIn_2 : List UInt8 := dkwX9_bytesIn_2 ++ dktX9_bytesIn_3
def dkwX9_bytesIn_1 : List UInt8 := [17, 0, 255, 126, 158, 0, 7, 4, 167, 0, 4, 3, 184, 0, 113, 96, 26, 16, 8, 122, 17, 0, 255, 126]
abbrev dktX9_bytesIn_1 : List UInt8 := dkwX9_bytesIn_1 ++ dktX9_bytesIn_2
def dkwX9_bytesIn_0 : List UInt8 := [26, 16, 24, 122, 17, 0, 255, 126, 158, 0, 7, 4, 167, 0, 4, 3, 184, 0, 113, 26, 16, 16, 122]
abbrev dktX9_bytesIn_0 : List UInt8 := dkwX9_bytesIn_0 ++ dktX9_bytesIn_1
theorem dksX9_bytesIn_0 : cX9_bytesIn.data.toList.drop 0 = dktX9_bytesIn_0 := by decide +kernel
theorem dksX9_bytesIn_1 : cX9_bytesIn.data.toList.drop 23 = dktX9_bytesIn_1 := dk_seg dksX9_bytesIn_0 23 rfl rfl
theorem dksX9_bytesIn_2 : cX9_bytesIn.data.toList.drop 47 = dktX9_bytesIn_2 := dk_seg dksX9_bytesIn_1 24 rfl rfl
theorem dksX9_bytesIn_3 : cX9_bytesIn.data.toList.drop 71 = dktX9_bytesIn_3 := dk_seg dksX9_bytesIn_2 24 rfl rfl
theorem dX9_bytesIn_0 : decode cX9_bytesIn 0 = .ok (.iload_n 0, 1) := dk_26 (dk_at dksX9_bytesIn_0 0 rfl rfl)
theorem dX9_bytesIn_1 : decode cX9_bytesIn 1 = .ok (.bipush 24, 2) := dk_16 24 (dk_at dksX9_bytesIn_0 1 rfl rfl)
theorem dX9_bytesIn_3 : decode cX9_bytesIn 3 = .ok (.ishr, 1) := dk_122 (dk_at dksX9_bytesIn_0 3 rfl rfl)
theorem dX9_bytesIn_4 : decode cX9_bytesIn 4 = .ok (.sipush 255, 3) := dk_17 0 255 (dk_at dksX9_bytesIn_0 4 rfl rfl)
theorem dX9_bytesIn_7 : decode cX9_bytesIn 7 = .ok (.iand, 1) := dk_126 (dk_at dksX9_bytesIn_0 7 rfl rfl)
theorem dX9_bytesIn_8 : decode cX9_bytesIn 8 = .ok (.ifCond .le 7, 3) := dk_158 0 7 (dk_at dksX9_bytesIn_0 8 rfl rfl)
theorem dX9_bytesIn_11 : decode cX9_bytesIn 11 = .ok (.iconst 1, 1) := dk_4 (dk_at dksX9_bytesIn_0 11 rfl rfl)
theorem dX9_bytesIn_12 : decode cX9_bytesIn 12 = .ok (.goto 4, 3) := dk_167 0 4 (dk_at dksX9_bytesIn_0 12 rfl rfl)
theorem dX9_bytesIn_15 : decode cX9_bytesIn 15 = .ok (.iconst 0, 1) := dk_3 (dk_at dksX9_bytesIn_0 15 rfl rfl)
theorem dX9_bytesIn_16 : decode cX9_bytesIn 16 = .ok (.invokestatic 113, 3) := dk_184 0 113 (dk_at dksX9_bytesIn_0 16 rfl rfl)
theorem dX9_bytesIn_19 : decode cX9_bytesIn 19 = .ok (.iload_n 0, 1) := dk_26 (dk_at dksX9_bytesIn_0 19 rfl rfl)
theorem dX9_bytesIn_20 : decode cX9_bytesIn 20 = .ok (.bipush 16, 2) := dk_16 16 (dk_at dksX9_bytesIn_0 20 rfl rfl)
theorem dX9_bytesIn_22 : decode cX9_bytesIn 22 = .ok (.ishr, 1) := dk_122 (dk_at dksX9_bytesIn_0 22 rfl rfl)
theorem dX9_bytesIn_23 : decode cX9_bytesIn 23 = .ok (.sipush 255, 3) := dk_17 0 255 (dk_at dksX9_bytesIn_1 0 rfl rfl)
theorem dX9_bytesIn_26 : decode cX9_bytesIn 26 = .ok (.iand, 1) := dk_126 (dk_at dksX9_bytesIn_1 3 rfl rfl)
theorem dX9_bytesIn_27 : decode cX9_bytesIn 27 = .ok (.ifCond .le 7, 3) := dk_158 0 7 (dk_at dksX9_bytesIn_1 4 rfl rfl)
theorem dX9_bytesIn_30 : decode cX9_bytesIn 30 = .ok (.iconst 1, 1) := dk_4 (dk_at dksX9_bytesIn_1 7 rfl rfl)
theorem dX9_bytesIn_31 : decode cX9_bytesIn 31 = .ok (.goto 4, 3) := dk_167 0 4 (dk_at dksX9_bytesIn_1 8 rfl rfl)
theorem dX9_bytesIn_34 : decode cX9_bytesIn 34 = .ok (.iconst 0, 1) := dk_3 (dk_at dksX9_bytesIn_1 11 rfl rfl)
theorem dX9_bytesIn_35 : decode cX9_bytesIn 35 = .ok (.invokestatic 113, 3) := dk_184 0 113 (dk_at dksX9_bytesIn_1 12 rfl rfl)
theorem dX9_bytesIn_38 : decode cX9_bytesIn 38 = .ok (.iadd, 1) := dk_96 (dk_at dksX9_bytesIn_1 15 rfl rfl)
theorem dX9_bytesIn_39 : decode cX9_bytesIn 39 = .ok (.iload_n 0, 1) := dk_26 (dk_at dksX9_bytesIn_1 16 rfl rfl)
theorem dX9_bytesIn_40 : decode cX9_bytesIn 40 = .ok (.bipush 8, 2) := dk_16 8 (dk_at dksX9_bytesIn_1 17 rfl rfl)
theorem dX9_bytesIn_42 : decode cX9_bytesIn 42 = .ok (.ishr, 1) := dk_122 (dk_at dksX9_bytesIn_1 19 rfl rfl)
theorem dX9_bytesIn_43 : decode cX9_bytesIn 43 = .ok (.sipush 255, 3) := dk_17 0 255 (dk_at dksX9_bytesIn_1 20 rfl rfl)
theorem dX9_bytesIn_46 : decode cX9_bytesIn 46 = .ok (.iand, 1) := dk_126 (dk_at dksX9_bytesIn_1 23 rfl rfl)
theorem dX9_bytesIn_47 : decode cX9_bytesIn 47 = .ok (.ifCond .le 7, 3) := dk_158 0 7 (dk_at dksX9_bytesIn_2 0 rfl rfl)
theorem dX9_bytesIn_50 : decode cX9_bytesIn 50 = .ok (.iconst 1, 1) := dk_4 (dk_at dksX9_bytesIn_2 3 rfl rfl)
theorem dX9_bytesIn_51 : decode cX9_bytesIn 51 = .ok (.goto 4, 3) := dk_167 0 4 (dk_at dksX9_bytesIn_2 4 rfl rfl)
theorem dX9_bytesIn_54 : decode cX9_bytesIn 54 = .ok (.iconst 0, 1) := dk_3 (dk_at dksX9_bytesIn_2 7 rfl rfl)
theorem dX9_bytesIn_55 : decode cX9_bytesIn 55 = .ok (.invokestatic 113, 3) := dk_184 0 113 (dk_at dksX9_bytesIn_2 8 rfl rfl)
theorem dX9_bytesIn_58 : decode cX9_bytesIn 58 = .ok (.iadd, 1) := dk_96 (dk_at dksX9_bytesIn_2 11 rfl rfl)
theorem dX9_bytesIn_59 : decode cX9_bytesIn 59 = .ok (.iload_n 0, 1) := dk_26 (dk_at dksX9_bytesIn_2 12 rfl rfl)
theorem dX9_bytesIn_60 : decode cX9_bytesIn 60 = .ok (.sipush 255, 3) := dk_17 0 255 (dk_at dksX9_bytesIn_2 13 rfl rfl)
theorem dX9_bytesIn_63 : decode cX9_bytesIn 63 = .ok (.iand, 1) := dk_126 (dk_at dksX9_bytesIn_2 16 rfl rfl)
theorem dX9_bytesIn_64 : decode cX9_bytesIn 64 = .ok (.ifCond .le 7, 3) := dk_158 0 7 (dk_at dksX9_bytesIn_2 17 rfl rfl)
theorem dX9_bytesIn_67 : decode cX9_bytesIn 67 = .ok (.iconst 1, 1) := dk_4 (dk_at dksX9_bytesIn_2 20 rfl rfl)
theorem dX9_bytesIn_68 : decode cX9_bytesIn 68 = .ok (.goto 4, 3) := dk_167 0 4 (dk_at dksX9_bytesIn_2 21 rfl rfl)
theorem dX9_bytesIn_71 : decode cX9_bytesIn 71 = .ok (.iconst 0, 1) := dk_3 (dk_at dksX9_bytesIn_3 0 rfl rfl)
theorem dX9_bytesIn_72 : decode cX9_bytesIn 72 = .ok (.invokestatic 113, 3) := dk_184 0 113 (dk_at dksX9_bytesIn_3 1 rfl rfl)
theorem dX9_bytesIn_75 : decode cX9_bytesIn 75 = .ok (.iadd, 1) := dk_96 (dk_at dksX9_bytesIn_3 4 rfl rfl)
theorem dX9_bytesIn_76 : decode cX9_bytesIn 76 = .ok (.ireturn, 1) := dk_172 (dk_at dksX9_bytesIn_3 5 rfl rfl)
abbrev cX9_one : ByteArray := prog_29_method_4_code
def yX9_one : MethodName := ⟨RX9, "one", "(Z)I"⟩
def dkwX9_one_0 : List UInt8 := [26, 153, 0, 7, 4, 167, 0, 4, 3, 172]
abbrev dktX9_one_0 : List UInt8 := dkwX9_one_0 ++ []
theorem dksX9_one_0 : cX9_one.data.toList.drop 0 = dktX9_one_0 := by decide +kernel
theorem dX9_one_0 : decode cX9_one 0 = .ok (.iload_n 0, 1) := dk_26 (dk_at dksX9_one_0 0 rfl rfl)
theorem dX9_one_1 : decode cX9_one 1 = .ok (.ifCond .eq 7, 3) := dk_153 0 7 (dk_at dksX9_one_0 1 rfl rfl)
theorem dX9_one_4 : decode cX9_one 4 = .ok (.iconst 1, 1) := dk_4 (dk_at dksX9_one_0 4 rfl rfl)
theorem dX9_one_5 : decode cX9_one 5 = .ok (.goto 4, 3) := dk_167 0 4 (dk_at dksX9_one_0 5 rfl rfl)
theorem dX9_one_8 : decode cX9_one 8 = .ok (.iconst 0, 1) := dk_3 (dk_at dksX9_one_0 8 rfl rfl)
theorem dX9_one_9 : decode cX9_one 9 = .ok (.ireturn, 1) := dk_172 (dk_at dksX9_one_0 9 rfl rfl)
abbrev cX9_feeds : ByteArray := prog_29_method_34_code
def yX9_feeds : MethodName := ⟨RX9, "feeds", "(I)V"⟩
def dkwX9_feeds_2 : List UInt8 := [167, 255, 214, 177]
abbrev dktX9_feeds_2 : List UInt8 := dkwX9_feeds_2 ++ []
def dkwX9_feeds_1 : List UInt8 := [180, 0, 38, 42, 180, 0, 148, 29, 79, 42, 89, 180, 0, 148, 4, 96, 181, 0, 148, 132, 2, 248]
abbrev dktX9_feeds_1 : List UInt8 := dkwX9_feeds_1 ++ dktX9_feeds_2
def dkwX9_feeds_0 : List UInt8 := [16, 24, 61, 28, 155, 0, 44, 27, 28, 122, 17, 0, 255, 126, 62, 29, 154, 0, 6, 167, 0, 23, 42]
abbrev dktX9_feeds_0 : List UInt8 := dkwX9_feeds_0 ++ dktX9_feeds_1
theorem dksX9_feeds_0 : cX9_feeds.data.toList.drop 0 = dktX9_feeds_0 := by decide +kernel
theorem dksX9_feeds_1 : cX9_feeds.data.toList.drop 23 = dktX9_feeds_1 := dk_seg dksX9_feeds_0 23 rfl rfl
theorem dksX9_feeds_2 : cX9_feeds.data.toList.drop 45 = dktX9_feeds_2 := dk_seg dksX9_feeds_1 22 rfl rfl
theorem dX9_feeds_0 : decode cX9_feeds 0 = .ok (.bipush 24, 2) := dk_16 24 (dk_at dksX9_feeds_0 0 rfl rfl)
theorem dX9_feeds_2 : decode cX9_feeds 2 = .ok (.istore_n 2, 1) := dk_61 (dk_at dksX9_feeds_0 2 rfl rfl)
theorem dX9_feeds_3 : decode cX9_feeds 3 = .ok (.iload_n 2, 1) := dk_28 (dk_at dksX9_feeds_0 3 rfl rfl)
theorem dX9_feeds_4 : decode cX9_feeds 4 = .ok (.ifCond .lt 44, 3) := dk_155 0 44 (dk_at dksX9_feeds_0 4 rfl rfl)
theorem dX9_feeds_7 : decode cX9_feeds 7 = .ok (.iload_n 1, 1) := dk_27 (dk_at dksX9_feeds_0 7 rfl rfl)
theorem dX9_feeds_8 : decode cX9_feeds 8 = .ok (.iload_n 2, 1) := dk_28 (dk_at dksX9_feeds_0 8 rfl rfl)
theorem dX9_feeds_9 : decode cX9_feeds 9 = .ok (.ishr, 1) := dk_122 (dk_at dksX9_feeds_0 9 rfl rfl)
theorem dX9_feeds_10 : decode cX9_feeds 10 = .ok (.sipush 255, 3) := dk_17 0 255 (dk_at dksX9_feeds_0 10 rfl rfl)
theorem dX9_feeds_13 : decode cX9_feeds 13 = .ok (.iand, 1) := dk_126 (dk_at dksX9_feeds_0 13 rfl rfl)
theorem dX9_feeds_14 : decode cX9_feeds 14 = .ok (.istore_n 3, 1) := dk_62 (dk_at dksX9_feeds_0 14 rfl rfl)
theorem dX9_feeds_15 : decode cX9_feeds 15 = .ok (.iload_n 3, 1) := dk_29 (dk_at dksX9_feeds_0 15 rfl rfl)
theorem dX9_feeds_16 : decode cX9_feeds 16 = .ok (.ifCond .ne 6, 3) := dk_154 0 6 (dk_at dksX9_feeds_0 16 rfl rfl)
theorem dX9_feeds_19 : decode cX9_feeds 19 = .ok (.goto 23, 3) := dk_167 0 23 (dk_at dksX9_feeds_0 19 rfl rfl)
theorem dX9_feeds_22 : decode cX9_feeds 22 = .ok (.aload_n 0, 1) := dk_42 (dk_at dksX9_feeds_0 22 rfl rfl)
theorem dX9_feeds_23 : decode cX9_feeds 23 = .ok (.getfield 38, 3) := dk_180 0 38 (dk_at dksX9_feeds_1 0 rfl rfl)
theorem dX9_feeds_26 : decode cX9_feeds 26 = .ok (.aload_n 0, 1) := dk_42 (dk_at dksX9_feeds_1 3 rfl rfl)
theorem dX9_feeds_27 : decode cX9_feeds 27 = .ok (.getfield 148, 3) := dk_180 0 148 (dk_at dksX9_feeds_1 4 rfl rfl)
theorem dX9_feeds_30 : decode cX9_feeds 30 = .ok (.iload_n 3, 1) := dk_29 (dk_at dksX9_feeds_1 7 rfl rfl)
theorem dX9_feeds_31 : decode cX9_feeds 31 = .ok (.iastore, 1) := dk_79 (dk_at dksX9_feeds_1 8 rfl rfl)
theorem dX9_feeds_32 : decode cX9_feeds 32 = .ok (.aload_n 0, 1) := dk_42 (dk_at dksX9_feeds_1 9 rfl rfl)
theorem dX9_feeds_33 : decode cX9_feeds 33 = .ok (.dup, 1) := dk_89 (dk_at dksX9_feeds_1 10 rfl rfl)
theorem dX9_feeds_34 : decode cX9_feeds 34 = .ok (.getfield 148, 3) := dk_180 0 148 (dk_at dksX9_feeds_1 11 rfl rfl)
theorem dX9_feeds_37 : decode cX9_feeds 37 = .ok (.iconst 1, 1) := dk_4 (dk_at dksX9_feeds_1 14 rfl rfl)
theorem dX9_feeds_38 : decode cX9_feeds 38 = .ok (.iadd, 1) := dk_96 (dk_at dksX9_feeds_1 15 rfl rfl)
theorem dX9_feeds_39 : decode cX9_feeds 39 = .ok (.putfield 148, 3) := dk_181 0 148 (dk_at dksX9_feeds_1 16 rfl rfl)
theorem dX9_feeds_42 : decode cX9_feeds 42 = .ok (.iinc 2 (-8), 3) := dk_132 2 248 (dk_at dksX9_feeds_1 19 rfl rfl)
theorem dX9_feeds_45 : decode cX9_feeds 45 = .ok (.goto (-42), 3) := dk_167 255 214 (dk_at dksX9_feeds_2 0 rfl rfl)
theorem dX9_feeds_48 : decode cX9_feeds 48 = .ok (.return_, 1) := dk_177 (dk_at dksX9_feeds_2 3 rfl rfl)
abbrev cX9_load : ByteArray := prog_29_method_56_code
def yX9_load : MethodName := ⟨RX9, "load", "()I"⟩
def dkwX9_load_2 : List UInt8 := [180, 0, 9, 4, 46, 172]
abbrev dktX9_load_2 : List UInt8 := dkwX9_load_2 ++ []
def dkwX9_load_1 : List UInt8 := [182, 1, 5, 172, 42, 3, 181, 1, 8, 42, 180, 0, 25, 3, 3, 84, 42, 180, 0, 25, 4, 3, 84, 42]
abbrev dktX9_load_1 : List UInt8 := dkwX9_load_1 ++ dktX9_load_2
def dkwX9_load_0 : List UInt8 := [42, 3, 181, 0, 69, 42, 182, 0, 252, 42, 182, 0, 255, 42, 182, 1, 2, 60, 27, 156, 0, 9, 42, 27]
abbrev dktX9_load_0 : List UInt8 := dkwX9_load_0 ++ dktX9_load_1
theorem dksX9_load_0 : cX9_load.data.toList.drop 0 = dktX9_load_0 := by decide +kernel
theorem dksX9_load_1 : cX9_load.data.toList.drop 24 = dktX9_load_1 := dk_seg dksX9_load_0 24 rfl rfl
theorem dksX9_load_2 : cX9_load.data.toList.drop 48 = dktX9_load_2 := dk_seg dksX9_load_1 24 rfl rfl
theorem dX9_load_0 : decode cX9_load 0 = .ok (.aload_n 0, 1) := dk_42 (dk_at dksX9_load_0 0 rfl rfl)
theorem dX9_load_1 : decode cX9_load 1 = .ok (.iconst 0, 1) := dk_3 (dk_at dksX9_load_0 1 rfl rfl)
theorem dX9_load_2 : decode cX9_load 2 = .ok (.putfield 69, 3) := dk_181 0 69 (dk_at dksX9_load_0 2 rfl rfl)
theorem dX9_load_5 : decode cX9_load 5 = .ok (.aload_n 0, 1) := dk_42 (dk_at dksX9_load_0 5 rfl rfl)
theorem dX9_load_6 : decode cX9_load 6 = .ok (.invokevirtual 252, 3) := dk_182 0 252 (dk_at dksX9_load_0 6 rfl rfl)
theorem dX9_load_9 : decode cX9_load 9 = .ok (.aload_n 0, 1) := dk_42 (dk_at dksX9_load_0 9 rfl rfl)
theorem dX9_load_10 : decode cX9_load 10 = .ok (.invokevirtual 255, 3) := dk_182 0 255 (dk_at dksX9_load_0 10 rfl rfl)
theorem dX9_load_13 : decode cX9_load 13 = .ok (.aload_n 0, 1) := dk_42 (dk_at dksX9_load_0 13 rfl rfl)
theorem dX9_load_14 : decode cX9_load 14 = .ok (.invokevirtual 258, 3) := dk_182 1 2 (dk_at dksX9_load_0 14 rfl rfl)
theorem dX9_load_17 : decode cX9_load 17 = .ok (.istore_n 1, 1) := dk_60 (dk_at dksX9_load_0 17 rfl rfl)
theorem dX9_load_18 : decode cX9_load 18 = .ok (.iload_n 1, 1) := dk_27 (dk_at dksX9_load_0 18 rfl rfl)
theorem dX9_load_19 : decode cX9_load 19 = .ok (.ifCond .ge 9, 3) := dk_156 0 9 (dk_at dksX9_load_0 19 rfl rfl)
theorem dX9_load_22 : decode cX9_load 22 = .ok (.aload_n 0, 1) := dk_42 (dk_at dksX9_load_0 22 rfl rfl)
theorem dX9_load_23 : decode cX9_load 23 = .ok (.iload_n 1, 1) := dk_27 (dk_at dksX9_load_0 23 rfl rfl)
theorem dX9_load_24 : decode cX9_load 24 = .ok (.invokevirtual 261, 3) := dk_182 1 5 (dk_at dksX9_load_1 0 rfl rfl)
theorem dX9_load_27 : decode cX9_load 27 = .ok (.ireturn, 1) := dk_172 (dk_at dksX9_load_1 3 rfl rfl)
theorem dX9_load_28 : decode cX9_load 28 = .ok (.aload_n 0, 1) := dk_42 (dk_at dksX9_load_1 4 rfl rfl)
theorem dX9_load_29 : decode cX9_load 29 = .ok (.iconst 0, 1) := dk_3 (dk_at dksX9_load_1 5 rfl rfl)
theorem dX9_load_30 : decode cX9_load 30 = .ok (.putfield 264, 3) := dk_181 1 8 (dk_at dksX9_load_1 6 rfl rfl)
theorem dX9_load_33 : decode cX9_load 33 = .ok (.aload_n 0, 1) := dk_42 (dk_at dksX9_load_1 9 rfl rfl)
theorem dX9_load_34 : decode cX9_load 34 = .ok (.getfield 25, 3) := dk_180 0 25 (dk_at dksX9_load_1 10 rfl rfl)
theorem dX9_load_37 : decode cX9_load 37 = .ok (.iconst 0, 1) := dk_3 (dk_at dksX9_load_1 13 rfl rfl)
theorem dX9_load_38 : decode cX9_load 38 = .ok (.iconst 0, 1) := dk_3 (dk_at dksX9_load_1 14 rfl rfl)
theorem dX9_load_39 : decode cX9_load 39 = .ok (.bastore, 1) := dk_84 (dk_at dksX9_load_1 15 rfl rfl)
theorem dX9_load_40 : decode cX9_load 40 = .ok (.aload_n 0, 1) := dk_42 (dk_at dksX9_load_1 16 rfl rfl)
theorem dX9_load_41 : decode cX9_load 41 = .ok (.getfield 25, 3) := dk_180 0 25 (dk_at dksX9_load_1 17 rfl rfl)
theorem dX9_load_44 : decode cX9_load 44 = .ok (.iconst 1, 1) := dk_4 (dk_at dksX9_load_1 20 rfl rfl)
theorem dX9_load_45 : decode cX9_load 45 = .ok (.iconst 0, 1) := dk_3 (dk_at dksX9_load_1 21 rfl rfl)
theorem dX9_load_46 : decode cX9_load 46 = .ok (.bastore, 1) := dk_84 (dk_at dksX9_load_1 22 rfl rfl)
theorem dX9_load_47 : decode cX9_load 47 = .ok (.aload_n 0, 1) := dk_42 (dk_at dksX9_load_1 23 rfl rfl)
theorem dX9_load_48 : decode cX9_load 48 = .ok (.getfield 9, 3) := dk_180 0 9 (dk_at dksX9_load_2 0 rfl rfl)
theorem dX9_load_51 : decode cX9_load 51 = .ok (.iconst 1, 1) := dk_4 (dk_at dksX9_load_2 3 rfl rfl)
theorem dX9_load_52 : decode cX9_load 52 = .ok (.iaload, 1) := dk_46 (dk_at dksX9_load_2 4 rfl rfl)
theorem dX9_load_53 : decode cX9_load 53 = .ok (.ireturn, 1) := dk_172 (dk_at dksX9_load_2 5 rfl rfl)
abbrev cX9_aside : ByteArray := prog_29_method_32_code
def yX9_aside : MethodName := ⟨RX9, "aside", "()V"⟩
def dkwX9_aside_0 : List UInt8 := [42, 180, 0, 9, 3, 42, 180, 0, 13, 3, 184, 0, 144, 177]
abbrev dktX9_aside_0 : List UInt8 := dkwX9_aside_0 ++ []
theorem dksX9_aside_0 : cX9_aside.data.toList.drop 0 = dktX9_aside_0 := by decide +kernel
theorem dX9_aside_0 : decode cX9_aside 0 = .ok (.aload_n 0, 1) := dk_42 (dk_at dksX9_aside_0 0 rfl rfl)
theorem dX9_aside_1 : decode cX9_aside 1 = .ok (.getfield 9, 3) := dk_180 0 9 (dk_at dksX9_aside_0 1 rfl rfl)
theorem dX9_aside_4 : decode cX9_aside 4 = .ok (.iconst 0, 1) := dk_3 (dk_at dksX9_aside_0 4 rfl rfl)
theorem dX9_aside_5 : decode cX9_aside 5 = .ok (.aload_n 0, 1) := dk_42 (dk_at dksX9_aside_0 5 rfl rfl)
theorem dX9_aside_6 : decode cX9_aside 6 = .ok (.getfield 13, 3) := dk_180 0 13 (dk_at dksX9_aside_0 6 rfl rfl)
theorem dX9_aside_9 : decode cX9_aside 9 = .ok (.iconst 0, 1) := dk_3 (dk_at dksX9_aside_0 9 rfl rfl)
theorem dX9_aside_10 : decode cX9_aside 10 = .ok (.invokestatic 144, 3) := dk_184 0 144 (dk_at dksX9_aside_0 10 rfl rfl)
theorem dX9_aside_13 : decode cX9_aside 13 = .ok (.return_, 1) := dk_177 (dk_at dksX9_aside_0 13 rfl rfl)
abbrev cX9_lays : ByteArray := prog_29_method_6_code
def yX9_lays : MethodName := ⟨RX9, "lays", "([II[II)V"⟩
def dkwX9_lays_1 : List UInt8 := [132, 4, 1, 167, 255, 233, 177]
abbrev dktX9_lays_1 : List UInt8 := dkwX9_lays_1 ++ []
def dkwX9_lays_0 : List UInt8 := [3, 54, 4, 21, 4, 17, 2, 64, 162, 0, 21, 44, 29, 21, 4, 96, 42, 27, 21, 4, 96, 46, 79]
abbrev dktX9_lays_0 : List UInt8 := dkwX9_lays_0 ++ dktX9_lays_1
theorem dksX9_lays_0 : cX9_lays.data.toList.drop 0 = dktX9_lays_0 := by decide +kernel
theorem dksX9_lays_1 : cX9_lays.data.toList.drop 23 = dktX9_lays_1 := dk_seg dksX9_lays_0 23 rfl rfl
theorem dX9_lays_0 : decode cX9_lays 0 = .ok (.iconst 0, 1) := dk_3 (dk_at dksX9_lays_0 0 rfl rfl)
theorem dX9_lays_1 : decode cX9_lays 1 = .ok (.istore 4, 2) := dk_54 4 (dk_at dksX9_lays_0 1 rfl rfl)
theorem dX9_lays_3 : decode cX9_lays 3 = .ok (.iload 4, 2) := dk_21 4 (dk_at dksX9_lays_0 3 rfl rfl)
theorem dX9_lays_5 : decode cX9_lays 5 = .ok (.sipush 576, 3) := dk_17 2 64 (dk_at dksX9_lays_0 5 rfl rfl)
theorem dX9_lays_8 : decode cX9_lays 8 = .ok (.if_icmp .ge 21, 3) := dk_162 0 21 (dk_at dksX9_lays_0 8 rfl rfl)
theorem dX9_lays_11 : decode cX9_lays 11 = .ok (.aload_n 2, 1) := dk_44 (dk_at dksX9_lays_0 11 rfl rfl)
theorem dX9_lays_12 : decode cX9_lays 12 = .ok (.iload_n 3, 1) := dk_29 (dk_at dksX9_lays_0 12 rfl rfl)
theorem dX9_lays_13 : decode cX9_lays 13 = .ok (.iload 4, 2) := dk_21 4 (dk_at dksX9_lays_0 13 rfl rfl)
theorem dX9_lays_15 : decode cX9_lays 15 = .ok (.iadd, 1) := dk_96 (dk_at dksX9_lays_0 15 rfl rfl)
theorem dX9_lays_16 : decode cX9_lays 16 = .ok (.aload_n 0, 1) := dk_42 (dk_at dksX9_lays_0 16 rfl rfl)
theorem dX9_lays_17 : decode cX9_lays 17 = .ok (.iload_n 1, 1) := dk_27 (dk_at dksX9_lays_0 17 rfl rfl)
theorem dX9_lays_18 : decode cX9_lays 18 = .ok (.iload 4, 2) := dk_21 4 (dk_at dksX9_lays_0 18 rfl rfl)
theorem dX9_lays_20 : decode cX9_lays 20 = .ok (.iadd, 1) := dk_96 (dk_at dksX9_lays_0 20 rfl rfl)
theorem dX9_lays_21 : decode cX9_lays 21 = .ok (.iaload, 1) := dk_46 (dk_at dksX9_lays_0 21 rfl rfl)
theorem dX9_lays_22 : decode cX9_lays 22 = .ok (.iastore, 1) := dk_79 (dk_at dksX9_lays_0 22 rfl rfl)
theorem dX9_lays_23 : decode cX9_lays 23 = .ok (.iinc 4 1, 3) := dk_132 4 1 (dk_at dksX9_lays_1 0 rfl rfl)
theorem dX9_lays_26 : decode cX9_lays 26 = .ok (.goto (-23), 3) := dk_167 255 233 (dk_at dksX9_lays_1 3 rfl rfl)
theorem dX9_lays_29 : decode cX9_lays 29 = .ok (.return_, 1) := dk_177 (dk_at dksX9_lays_1 6 rfl rfl)
abbrev cX9_setup : ByteArray := prog_29_method_54_code
def yX9_setup : MethodName := ⟨RX9, "setup", "()V"⟩
def dkwX9_setup_7 : List UInt8 := [3, 4, 182, 0, 202, 181, 0, 248, 177]
abbrev dktX9_setup_7 : List UInt8 := dkwX9_setup_7 ++ []
def dkwX9_setup_6 : List UInt8 := [4, 4, 182, 0, 202, 181, 0, 248, 167, 255, 201, 42, 42, 42, 180, 0, 172, 153, 0, 7, 4, 167, 0, 4]
abbrev dktX9_setup_6 : List UInt8 := dkwX9_setup_6 ++ dktX9_setup_7
def dkwX9_setup_5 : List UInt8 := [182, 0, 240, 167, 255, 230, 42, 18, 243, 182, 0, 231, 153, 0, 10, 42, 182, 0, 245, 167, 255, 214, 42, 42]
abbrev dktX9_setup_5 : List UInt8 := dkwX9_setup_5 ++ dktX9_setup_6
def dkwX9_setup_4 : List UInt8 := [16, 59, 182, 0, 199, 153, 0, 52, 42, 182, 0, 206, 42, 18, 238, 182, 0, 231, 153, 0, 10, 42]
abbrev dktX9_setup_4 : List UInt8 := dkwX9_setup_4 ++ dktX9_setup_5
def dkwX9_setup_3 : List UInt8 := [42, 180, 0, 182, 154, 0, 18, 42, 180, 0, 172, 4, 160, 0, 10, 42, 182, 0, 235, 167, 255, 237, 42]
abbrev dktX9_setup_3 : List UInt8 := dkwX9_setup_3 ++ dktX9_setup_4
def dkwX9_setup_2 : List UInt8 := [154, 0, 7, 4, 167, 0, 4, 3, 4, 182, 0, 202, 153, 0, 4, 177, 42, 182, 0, 206, 42, 182, 0, 235]
abbrev dktX9_setup_2 : List UInt8 := dkwX9_setup_2 ++ dktX9_setup_3
def dkwX9_setup_1 : List UInt8 := [42, 180, 0, 9, 27, 3, 79, 132, 1, 1, 167, 255, 239, 42, 182, 0, 206, 42, 42, 18, 229, 182, 0, 231]
abbrev dktX9_setup_1 : List UInt8 := dkwX9_setup_1 ++ dktX9_setup_2
def dkwX9_setup_0 : List UInt8 := [42, 3, 181, 0, 163, 42, 3, 181, 0, 182, 42, 3, 181, 0, 223, 3, 60, 27, 17, 2, 64, 162, 0, 16]
abbrev dktX9_setup_0 : List UInt8 := dkwX9_setup_0 ++ dktX9_setup_1
theorem dksX9_setup_0 : cX9_setup.data.toList.drop 0 = dktX9_setup_0 := by decide +kernel
theorem dksX9_setup_1 : cX9_setup.data.toList.drop 24 = dktX9_setup_1 := dk_seg dksX9_setup_0 24 rfl rfl
theorem dksX9_setup_2 : cX9_setup.data.toList.drop 48 = dktX9_setup_2 := dk_seg dksX9_setup_1 24 rfl rfl
theorem dksX9_setup_3 : cX9_setup.data.toList.drop 72 = dktX9_setup_3 := dk_seg dksX9_setup_2 24 rfl rfl
theorem dksX9_setup_4 : cX9_setup.data.toList.drop 95 = dktX9_setup_4 := dk_seg dksX9_setup_3 23 rfl rfl
theorem dksX9_setup_5 : cX9_setup.data.toList.drop 117 = dktX9_setup_5 := dk_seg dksX9_setup_4 22 rfl rfl
theorem dksX9_setup_6 : cX9_setup.data.toList.drop 141 = dktX9_setup_6 := dk_seg dksX9_setup_5 24 rfl rfl
theorem dksX9_setup_7 : cX9_setup.data.toList.drop 165 = dktX9_setup_7 := dk_seg dksX9_setup_6 24 rfl rfl
theorem dX9_setup_0 : decode cX9_setup 0 = .ok (.aload_n 0, 1) := dk_42 (dk_at dksX9_setup_0 0 rfl rfl)
theorem dX9_setup_1 : decode cX9_setup 1 = .ok (.iconst 0, 1) := dk_3 (dk_at dksX9_setup_0 1 rfl rfl)
theorem dX9_setup_2 : decode cX9_setup 2 = .ok (.putfield 163, 3) := dk_181 0 163 (dk_at dksX9_setup_0 2 rfl rfl)
theorem dX9_setup_5 : decode cX9_setup 5 = .ok (.aload_n 0, 1) := dk_42 (dk_at dksX9_setup_0 5 rfl rfl)
theorem dX9_setup_6 : decode cX9_setup 6 = .ok (.iconst 0, 1) := dk_3 (dk_at dksX9_setup_0 6 rfl rfl)
theorem dX9_setup_7 : decode cX9_setup 7 = .ok (.putfield 182, 3) := dk_181 0 182 (dk_at dksX9_setup_0 7 rfl rfl)
theorem dX9_setup_10 : decode cX9_setup 10 = .ok (.aload_n 0, 1) := dk_42 (dk_at dksX9_setup_0 10 rfl rfl)
theorem dX9_setup_11 : decode cX9_setup 11 = .ok (.iconst 0, 1) := dk_3 (dk_at dksX9_setup_0 11 rfl rfl)
theorem dX9_setup_12 : decode cX9_setup 12 = .ok (.putfield 223, 3) := dk_181 0 223 (dk_at dksX9_setup_0 12 rfl rfl)
theorem dX9_setup_15 : decode cX9_setup 15 = .ok (.iconst 0, 1) := dk_3 (dk_at dksX9_setup_0 15 rfl rfl)
theorem dX9_setup_16 : decode cX9_setup 16 = .ok (.istore_n 1, 1) := dk_60 (dk_at dksX9_setup_0 16 rfl rfl)
theorem dX9_setup_17 : decode cX9_setup 17 = .ok (.iload_n 1, 1) := dk_27 (dk_at dksX9_setup_0 17 rfl rfl)
theorem dX9_setup_18 : decode cX9_setup 18 = .ok (.sipush 576, 3) := dk_17 2 64 (dk_at dksX9_setup_0 18 rfl rfl)
theorem dX9_setup_21 : decode cX9_setup 21 = .ok (.if_icmp .ge 16, 3) := dk_162 0 16 (dk_at dksX9_setup_0 21 rfl rfl)
theorem dX9_setup_24 : decode cX9_setup 24 = .ok (.aload_n 0, 1) := dk_42 (dk_at dksX9_setup_1 0 rfl rfl)
theorem dX9_setup_25 : decode cX9_setup 25 = .ok (.getfield 9, 3) := dk_180 0 9 (dk_at dksX9_setup_1 1 rfl rfl)
theorem dX9_setup_28 : decode cX9_setup 28 = .ok (.iload_n 1, 1) := dk_27 (dk_at dksX9_setup_1 4 rfl rfl)
theorem dX9_setup_29 : decode cX9_setup 29 = .ok (.iconst 0, 1) := dk_3 (dk_at dksX9_setup_1 5 rfl rfl)
theorem dX9_setup_30 : decode cX9_setup 30 = .ok (.iastore, 1) := dk_79 (dk_at dksX9_setup_1 6 rfl rfl)
theorem dX9_setup_31 : decode cX9_setup 31 = .ok (.iinc 1 1, 3) := dk_132 1 1 (dk_at dksX9_setup_1 7 rfl rfl)
theorem dX9_setup_34 : decode cX9_setup 34 = .ok (.goto (-17), 3) := dk_167 255 239 (dk_at dksX9_setup_1 10 rfl rfl)
theorem dX9_setup_37 : decode cX9_setup 37 = .ok (.aload_n 0, 1) := dk_42 (dk_at dksX9_setup_1 13 rfl rfl)
theorem dX9_setup_38 : decode cX9_setup 38 = .ok (.invokevirtual 206, 3) := dk_182 0 206 (dk_at dksX9_setup_1 14 rfl rfl)
theorem dX9_setup_41 : decode cX9_setup 41 = .ok (.aload_n 0, 1) := dk_42 (dk_at dksX9_setup_1 17 rfl rfl)
theorem dX9_setup_42 : decode cX9_setup 42 = .ok (.aload_n 0, 1) := dk_42 (dk_at dksX9_setup_1 18 rfl rfl)
theorem dX9_setup_43 : decode cX9_setup 43 = .ok (.ldc 229, 2) := dk_18 229 (dk_at dksX9_setup_1 19 rfl rfl)
theorem dX9_setup_45 : decode cX9_setup 45 = .ok (.invokevirtual 231, 3) := dk_182 0 231 (dk_at dksX9_setup_1 21 rfl rfl)
theorem dX9_setup_48 : decode cX9_setup 48 = .ok (.ifCond .ne 7, 3) := dk_154 0 7 (dk_at dksX9_setup_2 0 rfl rfl)
theorem dX9_setup_51 : decode cX9_setup 51 = .ok (.iconst 1, 1) := dk_4 (dk_at dksX9_setup_2 3 rfl rfl)
theorem dX9_setup_52 : decode cX9_setup 52 = .ok (.goto 4, 3) := dk_167 0 4 (dk_at dksX9_setup_2 4 rfl rfl)
theorem dX9_setup_55 : decode cX9_setup 55 = .ok (.iconst 0, 1) := dk_3 (dk_at dksX9_setup_2 7 rfl rfl)
theorem dX9_setup_56 : decode cX9_setup 56 = .ok (.iconst 1, 1) := dk_4 (dk_at dksX9_setup_2 8 rfl rfl)
theorem dX9_setup_57 : decode cX9_setup 57 = .ok (.invokevirtual 202, 3) := dk_182 0 202 (dk_at dksX9_setup_2 9 rfl rfl)
theorem dX9_setup_60 : decode cX9_setup 60 = .ok (.ifCond .eq 4, 3) := dk_153 0 4 (dk_at dksX9_setup_2 12 rfl rfl)
theorem dX9_setup_63 : decode cX9_setup 63 = .ok (.return_, 1) := dk_177 (dk_at dksX9_setup_2 15 rfl rfl)
theorem dX9_setup_64 : decode cX9_setup 64 = .ok (.aload_n 0, 1) := dk_42 (dk_at dksX9_setup_2 16 rfl rfl)
theorem dX9_setup_65 : decode cX9_setup 65 = .ok (.invokevirtual 206, 3) := dk_182 0 206 (dk_at dksX9_setup_2 17 rfl rfl)
theorem dX9_setup_68 : decode cX9_setup 68 = .ok (.aload_n 0, 1) := dk_42 (dk_at dksX9_setup_2 20 rfl rfl)
theorem dX9_setup_69 : decode cX9_setup 69 = .ok (.invokevirtual 235, 3) := dk_182 0 235 (dk_at dksX9_setup_2 21 rfl rfl)
theorem dX9_setup_72 : decode cX9_setup 72 = .ok (.aload_n 0, 1) := dk_42 (dk_at dksX9_setup_3 0 rfl rfl)
theorem dX9_setup_73 : decode cX9_setup 73 = .ok (.getfield 182, 3) := dk_180 0 182 (dk_at dksX9_setup_3 1 rfl rfl)
theorem dX9_setup_76 : decode cX9_setup 76 = .ok (.ifCond .ne 18, 3) := dk_154 0 18 (dk_at dksX9_setup_3 4 rfl rfl)
theorem dX9_setup_79 : decode cX9_setup 79 = .ok (.aload_n 0, 1) := dk_42 (dk_at dksX9_setup_3 7 rfl rfl)
theorem dX9_setup_80 : decode cX9_setup 80 = .ok (.getfield 172, 3) := dk_180 0 172 (dk_at dksX9_setup_3 8 rfl rfl)
theorem dX9_setup_83 : decode cX9_setup 83 = .ok (.iconst 1, 1) := dk_4 (dk_at dksX9_setup_3 11 rfl rfl)
theorem dX9_setup_84 : decode cX9_setup 84 = .ok (.if_icmp .ne 10, 3) := dk_160 0 10 (dk_at dksX9_setup_3 12 rfl rfl)
theorem dX9_setup_87 : decode cX9_setup 87 = .ok (.aload_n 0, 1) := dk_42 (dk_at dksX9_setup_3 15 rfl rfl)
theorem dX9_setup_88 : decode cX9_setup 88 = .ok (.invokevirtual 235, 3) := dk_182 0 235 (dk_at dksX9_setup_3 16 rfl rfl)
theorem dX9_setup_91 : decode cX9_setup 91 = .ok (.goto (-19), 3) := dk_167 255 237 (dk_at dksX9_setup_3 19 rfl rfl)
theorem dX9_setup_94 : decode cX9_setup 94 = .ok (.aload_n 0, 1) := dk_42 (dk_at dksX9_setup_3 22 rfl rfl)
theorem dX9_setup_95 : decode cX9_setup 95 = .ok (.bipush 59, 2) := dk_16 59 (dk_at dksX9_setup_4 0 rfl rfl)
theorem dX9_setup_97 : decode cX9_setup 97 = .ok (.invokevirtual 199, 3) := dk_182 0 199 (dk_at dksX9_setup_4 2 rfl rfl)
theorem dX9_setup_100 : decode cX9_setup 100 = .ok (.ifCond .eq 52, 3) := dk_153 0 52 (dk_at dksX9_setup_4 5 rfl rfl)
theorem dX9_setup_103 : decode cX9_setup 103 = .ok (.aload_n 0, 1) := dk_42 (dk_at dksX9_setup_4 8 rfl rfl)
theorem dX9_setup_104 : decode cX9_setup 104 = .ok (.invokevirtual 206, 3) := dk_182 0 206 (dk_at dksX9_setup_4 9 rfl rfl)
theorem dX9_setup_107 : decode cX9_setup 107 = .ok (.aload_n 0, 1) := dk_42 (dk_at dksX9_setup_4 12 rfl rfl)
theorem dX9_setup_108 : decode cX9_setup 108 = .ok (.ldc 238, 2) := dk_18 238 (dk_at dksX9_setup_4 13 rfl rfl)
theorem dX9_setup_110 : decode cX9_setup 110 = .ok (.invokevirtual 231, 3) := dk_182 0 231 (dk_at dksX9_setup_4 15 rfl rfl)
theorem dX9_setup_113 : decode cX9_setup 113 = .ok (.ifCond .eq 10, 3) := dk_153 0 10 (dk_at dksX9_setup_4 18 rfl rfl)
theorem dX9_setup_116 : decode cX9_setup 116 = .ok (.aload_n 0, 1) := dk_42 (dk_at dksX9_setup_4 21 rfl rfl)
theorem dX9_setup_117 : decode cX9_setup 117 = .ok (.invokevirtual 240, 3) := dk_182 0 240 (dk_at dksX9_setup_5 0 rfl rfl)
theorem dX9_setup_120 : decode cX9_setup 120 = .ok (.goto (-26), 3) := dk_167 255 230 (dk_at dksX9_setup_5 3 rfl rfl)
theorem dX9_setup_123 : decode cX9_setup 123 = .ok (.aload_n 0, 1) := dk_42 (dk_at dksX9_setup_5 6 rfl rfl)
theorem dX9_setup_124 : decode cX9_setup 124 = .ok (.ldc 243, 2) := dk_18 243 (dk_at dksX9_setup_5 7 rfl rfl)
theorem dX9_setup_126 : decode cX9_setup 126 = .ok (.invokevirtual 231, 3) := dk_182 0 231 (dk_at dksX9_setup_5 9 rfl rfl)
theorem dX9_setup_129 : decode cX9_setup 129 = .ok (.ifCond .eq 10, 3) := dk_153 0 10 (dk_at dksX9_setup_5 12 rfl rfl)
theorem dX9_setup_132 : decode cX9_setup 132 = .ok (.aload_n 0, 1) := dk_42 (dk_at dksX9_setup_5 15 rfl rfl)
theorem dX9_setup_133 : decode cX9_setup 133 = .ok (.invokevirtual 245, 3) := dk_182 0 245 (dk_at dksX9_setup_5 16 rfl rfl)
theorem dX9_setup_136 : decode cX9_setup 136 = .ok (.goto (-42), 3) := dk_167 255 214 (dk_at dksX9_setup_5 19 rfl rfl)
theorem dX9_setup_139 : decode cX9_setup 139 = .ok (.aload_n 0, 1) := dk_42 (dk_at dksX9_setup_5 22 rfl rfl)
theorem dX9_setup_140 : decode cX9_setup 140 = .ok (.aload_n 0, 1) := dk_42 (dk_at dksX9_setup_5 23 rfl rfl)
theorem dX9_setup_141 : decode cX9_setup 141 = .ok (.iconst 1, 1) := dk_4 (dk_at dksX9_setup_6 0 rfl rfl)
theorem dX9_setup_142 : decode cX9_setup 142 = .ok (.iconst 1, 1) := dk_4 (dk_at dksX9_setup_6 1 rfl rfl)
theorem dX9_setup_143 : decode cX9_setup 143 = .ok (.invokevirtual 202, 3) := dk_182 0 202 (dk_at dksX9_setup_6 2 rfl rfl)
theorem dX9_setup_146 : decode cX9_setup 146 = .ok (.putfield 248, 3) := dk_181 0 248 (dk_at dksX9_setup_6 5 rfl rfl)
theorem dX9_setup_149 : decode cX9_setup 149 = .ok (.goto (-55), 3) := dk_167 255 201 (dk_at dksX9_setup_6 8 rfl rfl)
theorem dX9_setup_152 : decode cX9_setup 152 = .ok (.aload_n 0, 1) := dk_42 (dk_at dksX9_setup_6 11 rfl rfl)
theorem dX9_setup_153 : decode cX9_setup 153 = .ok (.aload_n 0, 1) := dk_42 (dk_at dksX9_setup_6 12 rfl rfl)
theorem dX9_setup_154 : decode cX9_setup 154 = .ok (.aload_n 0, 1) := dk_42 (dk_at dksX9_setup_6 13 rfl rfl)
theorem dX9_setup_155 : decode cX9_setup 155 = .ok (.getfield 172, 3) := dk_180 0 172 (dk_at dksX9_setup_6 14 rfl rfl)
theorem dX9_setup_158 : decode cX9_setup 158 = .ok (.ifCond .eq 7, 3) := dk_153 0 7 (dk_at dksX9_setup_6 17 rfl rfl)
theorem dX9_setup_161 : decode cX9_setup 161 = .ok (.iconst 1, 1) := dk_4 (dk_at dksX9_setup_6 20 rfl rfl)
theorem dX9_setup_162 : decode cX9_setup 162 = .ok (.goto 4, 3) := dk_167 0 4 (dk_at dksX9_setup_6 21 rfl rfl)
theorem dX9_setup_165 : decode cX9_setup 165 = .ok (.iconst 0, 1) := dk_3 (dk_at dksX9_setup_7 0 rfl rfl)
theorem dX9_setup_166 : decode cX9_setup 166 = .ok (.iconst 1, 1) := dk_4 (dk_at dksX9_setup_7 1 rfl rfl)
theorem dX9_setup_167 : decode cX9_setup 167 = .ok (.invokevirtual 202, 3) := dk_182 0 202 (dk_at dksX9_setup_7 2 rfl rfl)
theorem dX9_setup_170 : decode cX9_setup 170 = .ok (.putfield 248, 3) := dk_181 0 248 (dk_at dksX9_setup_7 5 rfl rfl)
theorem dX9_setup_173 : decode cX9_setup 173 = .ok (.return_, 1) := dk_177 (dk_at dksX9_setup_7 8 rfl rfl)
abbrev cX9_advance : ByteArray := prog_29_method_40_code
def yX9_advance : MethodName := ⟨RX9, "advance", "()V"⟩
def dkwX9_advance_10 : List UInt8 := [4, 96, 181, 0, 163, 177]
abbrev dktX9_advance_10 : List UInt8 := dkwX9_advance_10 ++ []
def dkwX9_advance_9 : List UInt8 := [16, 40, 159, 0, 9, 27, 16, 41, 160, 0, 7, 6, 167, 0, 4, 7, 181, 0, 172, 42, 89, 180, 0, 163]
abbrev dktX9_advance_9 : List UInt8 := dkwX9_advance_9 ++ dktX9_advance_10
def dkwX9_advance_8 : List UInt8 := [181, 0, 163, 167, 255, 192, 42, 180, 0, 38, 42, 180, 0, 166, 46, 60, 42, 27, 16, 59, 159, 0, 15, 27]
abbrev dktX9_advance_8 : List UInt8 := dkwX9_advance_8 ++ dktX9_advance_9
def dkwX9_advance_7 : List UInt8 := [180, 0, 163, 46, 96, 16, 48, 100, 167, 0, 5, 18, 181, 181, 0, 169, 42, 89, 180, 0, 163, 4, 96]
abbrev dktX9_advance_7 : List UInt8 := dkwX9_advance_7 ++ dktX9_advance_8
def dkwX9_advance_6 : List UInt8 := [42, 180, 0, 166, 100, 16, 6, 162, 0, 26, 16, 10, 42, 180, 0, 169, 104, 42, 180, 0, 38, 42]
abbrev dktX9_advance_6 : List UInt8 := dkwX9_advance_6 ++ dktX9_advance_7
def dkwX9_advance_5 : List UInt8 := [153, 0, 75, 42, 5, 181, 0, 172, 42, 42, 180, 0, 163, 182, 0, 178, 153, 0, 106, 42, 42, 180, 0, 163]
abbrev dktX9_advance_5 : List UInt8 := dkwX9_advance_5 ++ dktX9_advance_6
def dkwX9_advance_4 : List UInt8 := [153, 0, 146, 42, 89, 180, 0, 163, 4, 96, 181, 0, 163, 167, 255, 235, 42, 42, 180, 0, 166, 182, 0, 178]
abbrev dktX9_advance_4 : List UInt8 := dkwX9_advance_4 ++ dktX9_advance_5
def dkwX9_advance_3 : List UInt8 := [42, 42, 180, 0, 166, 182, 0, 175, 153, 0, 32, 42, 4, 181, 0, 172, 42, 42, 180, 0, 163, 182, 0, 175]
abbrev dktX9_advance_3 : List UInt8 := dkwX9_advance_3 ++ dktX9_advance_4
def dkwX9_advance_2 : List UInt8 := [42, 3, 181, 0, 169, 42, 180, 0, 166, 42, 180, 0, 148, 160, 0, 11, 42, 3, 181, 0, 172, 167, 0, 173]
abbrev dktX9_advance_2 : List UInt8 := dkwX9_advance_2 ++ dktX9_advance_3
def dkwX9_advance_1 : List UInt8 := [160, 0, 16, 42, 89, 180, 0, 163, 4, 96, 181, 0, 163, 167, 255, 220, 42, 42, 180, 0, 163, 181, 0, 166]
abbrev dktX9_advance_1 : List UInt8 := dkwX9_advance_1 ++ dktX9_advance_2
def dkwX9_advance_0 : List UInt8 := [42, 42, 180, 0, 163, 182, 0, 157, 16, 32, 159, 0, 16, 42, 42, 180, 0, 163, 182, 0, 157, 16, 10]
abbrev dktX9_advance_0 : List UInt8 := dkwX9_advance_0 ++ dktX9_advance_1
theorem dksX9_advance_0 : cX9_advance.data.toList.drop 0 = dktX9_advance_0 := by decide +kernel
theorem dksX9_advance_1 : cX9_advance.data.toList.drop 23 = dktX9_advance_1 := dk_seg dksX9_advance_0 23 rfl rfl
theorem dksX9_advance_2 : cX9_advance.data.toList.drop 47 = dktX9_advance_2 := dk_seg dksX9_advance_1 24 rfl rfl
theorem dksX9_advance_3 : cX9_advance.data.toList.drop 71 = dktX9_advance_3 := dk_seg dksX9_advance_2 24 rfl rfl
theorem dksX9_advance_4 : cX9_advance.data.toList.drop 95 = dktX9_advance_4 := dk_seg dksX9_advance_3 24 rfl rfl
theorem dksX9_advance_5 : cX9_advance.data.toList.drop 119 = dktX9_advance_5 := dk_seg dksX9_advance_4 24 rfl rfl
theorem dksX9_advance_6 : cX9_advance.data.toList.drop 143 = dktX9_advance_6 := dk_seg dksX9_advance_5 24 rfl rfl
theorem dksX9_advance_7 : cX9_advance.data.toList.drop 165 = dktX9_advance_7 := dk_seg dksX9_advance_6 22 rfl rfl
theorem dksX9_advance_8 : cX9_advance.data.toList.drop 188 = dktX9_advance_8 := dk_seg dksX9_advance_7 23 rfl rfl
theorem dksX9_advance_9 : cX9_advance.data.toList.drop 212 = dktX9_advance_9 := dk_seg dksX9_advance_8 24 rfl rfl
theorem dksX9_advance_10 : cX9_advance.data.toList.drop 236 = dktX9_advance_10 := dk_seg dksX9_advance_9 24 rfl rfl
theorem dX9_advance_0 : decode cX9_advance 0 = .ok (.aload_n 0, 1) := dk_42 (dk_at dksX9_advance_0 0 rfl rfl)
theorem dX9_advance_1 : decode cX9_advance 1 = .ok (.aload_n 0, 1) := dk_42 (dk_at dksX9_advance_0 1 rfl rfl)
theorem dX9_advance_2 : decode cX9_advance 2 = .ok (.getfield 163, 3) := dk_180 0 163 (dk_at dksX9_advance_0 2 rfl rfl)
theorem dX9_advance_5 : decode cX9_advance 5 = .ok (.invokevirtual 157, 3) := dk_182 0 157 (dk_at dksX9_advance_0 5 rfl rfl)
theorem dX9_advance_8 : decode cX9_advance 8 = .ok (.bipush 32, 2) := dk_16 32 (dk_at dksX9_advance_0 8 rfl rfl)
theorem dX9_advance_10 : decode cX9_advance 10 = .ok (.if_icmp .eq 16, 3) := dk_159 0 16 (dk_at dksX9_advance_0 10 rfl rfl)
theorem dX9_advance_13 : decode cX9_advance 13 = .ok (.aload_n 0, 1) := dk_42 (dk_at dksX9_advance_0 13 rfl rfl)
theorem dX9_advance_14 : decode cX9_advance 14 = .ok (.aload_n 0, 1) := dk_42 (dk_at dksX9_advance_0 14 rfl rfl)
theorem dX9_advance_15 : decode cX9_advance 15 = .ok (.getfield 163, 3) := dk_180 0 163 (dk_at dksX9_advance_0 15 rfl rfl)
theorem dX9_advance_18 : decode cX9_advance 18 = .ok (.invokevirtual 157, 3) := dk_182 0 157 (dk_at dksX9_advance_0 18 rfl rfl)
theorem dX9_advance_21 : decode cX9_advance 21 = .ok (.bipush 10, 2) := dk_16 10 (dk_at dksX9_advance_0 21 rfl rfl)
theorem dX9_advance_23 : decode cX9_advance 23 = .ok (.if_icmp .ne 16, 3) := dk_160 0 16 (dk_at dksX9_advance_1 0 rfl rfl)
theorem dX9_advance_26 : decode cX9_advance 26 = .ok (.aload_n 0, 1) := dk_42 (dk_at dksX9_advance_1 3 rfl rfl)
theorem dX9_advance_27 : decode cX9_advance 27 = .ok (.dup, 1) := dk_89 (dk_at dksX9_advance_1 4 rfl rfl)
theorem dX9_advance_28 : decode cX9_advance 28 = .ok (.getfield 163, 3) := dk_180 0 163 (dk_at dksX9_advance_1 5 rfl rfl)
theorem dX9_advance_31 : decode cX9_advance 31 = .ok (.iconst 1, 1) := dk_4 (dk_at dksX9_advance_1 8 rfl rfl)
theorem dX9_advance_32 : decode cX9_advance 32 = .ok (.iadd, 1) := dk_96 (dk_at dksX9_advance_1 9 rfl rfl)
theorem dX9_advance_33 : decode cX9_advance 33 = .ok (.putfield 163, 3) := dk_181 0 163 (dk_at dksX9_advance_1 10 rfl rfl)
theorem dX9_advance_36 : decode cX9_advance 36 = .ok (.goto (-36), 3) := dk_167 255 220 (dk_at dksX9_advance_1 13 rfl rfl)
theorem dX9_advance_39 : decode cX9_advance 39 = .ok (.aload_n 0, 1) := dk_42 (dk_at dksX9_advance_1 16 rfl rfl)
theorem dX9_advance_40 : decode cX9_advance 40 = .ok (.aload_n 0, 1) := dk_42 (dk_at dksX9_advance_1 17 rfl rfl)
theorem dX9_advance_41 : decode cX9_advance 41 = .ok (.getfield 163, 3) := dk_180 0 163 (dk_at dksX9_advance_1 18 rfl rfl)
theorem dX9_advance_44 : decode cX9_advance 44 = .ok (.putfield 166, 3) := dk_181 0 166 (dk_at dksX9_advance_1 21 rfl rfl)
theorem dX9_advance_47 : decode cX9_advance 47 = .ok (.aload_n 0, 1) := dk_42 (dk_at dksX9_advance_2 0 rfl rfl)
theorem dX9_advance_48 : decode cX9_advance 48 = .ok (.iconst 0, 1) := dk_3 (dk_at dksX9_advance_2 1 rfl rfl)
theorem dX9_advance_49 : decode cX9_advance 49 = .ok (.putfield 169, 3) := dk_181 0 169 (dk_at dksX9_advance_2 2 rfl rfl)
theorem dX9_advance_52 : decode cX9_advance 52 = .ok (.aload_n 0, 1) := dk_42 (dk_at dksX9_advance_2 5 rfl rfl)
theorem dX9_advance_53 : decode cX9_advance 53 = .ok (.getfield 166, 3) := dk_180 0 166 (dk_at dksX9_advance_2 6 rfl rfl)
theorem dX9_advance_56 : decode cX9_advance 56 = .ok (.aload_n 0, 1) := dk_42 (dk_at dksX9_advance_2 9 rfl rfl)
theorem dX9_advance_57 : decode cX9_advance 57 = .ok (.getfield 148, 3) := dk_180 0 148 (dk_at dksX9_advance_2 10 rfl rfl)
theorem dX9_advance_60 : decode cX9_advance 60 = .ok (.if_icmp .ne 11, 3) := dk_160 0 11 (dk_at dksX9_advance_2 13 rfl rfl)
theorem dX9_advance_63 : decode cX9_advance 63 = .ok (.aload_n 0, 1) := dk_42 (dk_at dksX9_advance_2 16 rfl rfl)
theorem dX9_advance_64 : decode cX9_advance 64 = .ok (.iconst 0, 1) := dk_3 (dk_at dksX9_advance_2 17 rfl rfl)
theorem dX9_advance_65 : decode cX9_advance 65 = .ok (.putfield 172, 3) := dk_181 0 172 (dk_at dksX9_advance_2 18 rfl rfl)
theorem dX9_advance_68 : decode cX9_advance 68 = .ok (.goto 173, 3) := dk_167 0 173 (dk_at dksX9_advance_2 21 rfl rfl)
theorem dX9_advance_71 : decode cX9_advance 71 = .ok (.aload_n 0, 1) := dk_42 (dk_at dksX9_advance_3 0 rfl rfl)
theorem dX9_advance_72 : decode cX9_advance 72 = .ok (.aload_n 0, 1) := dk_42 (dk_at dksX9_advance_3 1 rfl rfl)
theorem dX9_advance_73 : decode cX9_advance 73 = .ok (.getfield 166, 3) := dk_180 0 166 (dk_at dksX9_advance_3 2 rfl rfl)
theorem dX9_advance_76 : decode cX9_advance 76 = .ok (.invokevirtual 175, 3) := dk_182 0 175 (dk_at dksX9_advance_3 5 rfl rfl)
theorem dX9_advance_79 : decode cX9_advance 79 = .ok (.ifCond .eq 32, 3) := dk_153 0 32 (dk_at dksX9_advance_3 8 rfl rfl)
theorem dX9_advance_82 : decode cX9_advance 82 = .ok (.aload_n 0, 1) := dk_42 (dk_at dksX9_advance_3 11 rfl rfl)
theorem dX9_advance_83 : decode cX9_advance 83 = .ok (.iconst 1, 1) := dk_4 (dk_at dksX9_advance_3 12 rfl rfl)
theorem dX9_advance_84 : decode cX9_advance 84 = .ok (.putfield 172, 3) := dk_181 0 172 (dk_at dksX9_advance_3 13 rfl rfl)
theorem dX9_advance_87 : decode cX9_advance 87 = .ok (.aload_n 0, 1) := dk_42 (dk_at dksX9_advance_3 16 rfl rfl)
theorem dX9_advance_88 : decode cX9_advance 88 = .ok (.aload_n 0, 1) := dk_42 (dk_at dksX9_advance_3 17 rfl rfl)
theorem dX9_advance_89 : decode cX9_advance 89 = .ok (.getfield 163, 3) := dk_180 0 163 (dk_at dksX9_advance_3 18 rfl rfl)
theorem dX9_advance_92 : decode cX9_advance 92 = .ok (.invokevirtual 175, 3) := dk_182 0 175 (dk_at dksX9_advance_3 21 rfl rfl)
theorem dX9_advance_95 : decode cX9_advance 95 = .ok (.ifCond .eq 146, 3) := dk_153 0 146 (dk_at dksX9_advance_4 0 rfl rfl)
theorem dX9_advance_98 : decode cX9_advance 98 = .ok (.aload_n 0, 1) := dk_42 (dk_at dksX9_advance_4 3 rfl rfl)
theorem dX9_advance_99 : decode cX9_advance 99 = .ok (.dup, 1) := dk_89 (dk_at dksX9_advance_4 4 rfl rfl)
theorem dX9_advance_100 : decode cX9_advance 100 = .ok (.getfield 163, 3) := dk_180 0 163 (dk_at dksX9_advance_4 5 rfl rfl)
theorem dX9_advance_103 : decode cX9_advance 103 = .ok (.iconst 1, 1) := dk_4 (dk_at dksX9_advance_4 8 rfl rfl)
theorem dX9_advance_104 : decode cX9_advance 104 = .ok (.iadd, 1) := dk_96 (dk_at dksX9_advance_4 9 rfl rfl)
theorem dX9_advance_105 : decode cX9_advance 105 = .ok (.putfield 163, 3) := dk_181 0 163 (dk_at dksX9_advance_4 10 rfl rfl)
theorem dX9_advance_108 : decode cX9_advance 108 = .ok (.goto (-21), 3) := dk_167 255 235 (dk_at dksX9_advance_4 13 rfl rfl)
theorem dX9_advance_111 : decode cX9_advance 111 = .ok (.aload_n 0, 1) := dk_42 (dk_at dksX9_advance_4 16 rfl rfl)
theorem dX9_advance_112 : decode cX9_advance 112 = .ok (.aload_n 0, 1) := dk_42 (dk_at dksX9_advance_4 17 rfl rfl)
theorem dX9_advance_113 : decode cX9_advance 113 = .ok (.getfield 166, 3) := dk_180 0 166 (dk_at dksX9_advance_4 18 rfl rfl)
theorem dX9_advance_116 : decode cX9_advance 116 = .ok (.invokevirtual 178, 3) := dk_182 0 178 (dk_at dksX9_advance_4 21 rfl rfl)
theorem dX9_advance_119 : decode cX9_advance 119 = .ok (.ifCond .eq 75, 3) := dk_153 0 75 (dk_at dksX9_advance_5 0 rfl rfl)
theorem dX9_advance_122 : decode cX9_advance 122 = .ok (.aload_n 0, 1) := dk_42 (dk_at dksX9_advance_5 3 rfl rfl)
theorem dX9_advance_123 : decode cX9_advance 123 = .ok (.iconst 2, 1) := dk_5 (dk_at dksX9_advance_5 4 rfl rfl)
theorem dX9_advance_124 : decode cX9_advance 124 = .ok (.putfield 172, 3) := dk_181 0 172 (dk_at dksX9_advance_5 5 rfl rfl)
theorem dX9_advance_127 : decode cX9_advance 127 = .ok (.aload_n 0, 1) := dk_42 (dk_at dksX9_advance_5 8 rfl rfl)
theorem dX9_advance_128 : decode cX9_advance 128 = .ok (.aload_n 0, 1) := dk_42 (dk_at dksX9_advance_5 9 rfl rfl)
theorem dX9_advance_129 : decode cX9_advance 129 = .ok (.getfield 163, 3) := dk_180 0 163 (dk_at dksX9_advance_5 10 rfl rfl)
theorem dX9_advance_132 : decode cX9_advance 132 = .ok (.invokevirtual 178, 3) := dk_182 0 178 (dk_at dksX9_advance_5 13 rfl rfl)
theorem dX9_advance_135 : decode cX9_advance 135 = .ok (.ifCond .eq 106, 3) := dk_153 0 106 (dk_at dksX9_advance_5 16 rfl rfl)
theorem dX9_advance_138 : decode cX9_advance 138 = .ok (.aload_n 0, 1) := dk_42 (dk_at dksX9_advance_5 19 rfl rfl)
theorem dX9_advance_139 : decode cX9_advance 139 = .ok (.aload_n 0, 1) := dk_42 (dk_at dksX9_advance_5 20 rfl rfl)
theorem dX9_advance_140 : decode cX9_advance 140 = .ok (.getfield 163, 3) := dk_180 0 163 (dk_at dksX9_advance_5 21 rfl rfl)
theorem dX9_advance_143 : decode cX9_advance 143 = .ok (.aload_n 0, 1) := dk_42 (dk_at dksX9_advance_6 0 rfl rfl)
theorem dX9_advance_144 : decode cX9_advance 144 = .ok (.getfield 166, 3) := dk_180 0 166 (dk_at dksX9_advance_6 1 rfl rfl)
theorem dX9_advance_147 : decode cX9_advance 147 = .ok (.isub, 1) := dk_100 (dk_at dksX9_advance_6 4 rfl rfl)
theorem dX9_advance_148 : decode cX9_advance 148 = .ok (.bipush 6, 2) := dk_16 6 (dk_at dksX9_advance_6 5 rfl rfl)
theorem dX9_advance_150 : decode cX9_advance 150 = .ok (.if_icmp .ge 26, 3) := dk_162 0 26 (dk_at dksX9_advance_6 7 rfl rfl)
theorem dX9_advance_153 : decode cX9_advance 153 = .ok (.bipush 10, 2) := dk_16 10 (dk_at dksX9_advance_6 10 rfl rfl)
theorem dX9_advance_155 : decode cX9_advance 155 = .ok (.aload_n 0, 1) := dk_42 (dk_at dksX9_advance_6 12 rfl rfl)
theorem dX9_advance_156 : decode cX9_advance 156 = .ok (.getfield 169, 3) := dk_180 0 169 (dk_at dksX9_advance_6 13 rfl rfl)
theorem dX9_advance_159 : decode cX9_advance 159 = .ok (.imul, 1) := dk_104 (dk_at dksX9_advance_6 16 rfl rfl)
theorem dX9_advance_160 : decode cX9_advance 160 = .ok (.aload_n 0, 1) := dk_42 (dk_at dksX9_advance_6 17 rfl rfl)
theorem dX9_advance_161 : decode cX9_advance 161 = .ok (.getfield 38, 3) := dk_180 0 38 (dk_at dksX9_advance_6 18 rfl rfl)
theorem dX9_advance_164 : decode cX9_advance 164 = .ok (.aload_n 0, 1) := dk_42 (dk_at dksX9_advance_6 21 rfl rfl)
theorem dX9_advance_165 : decode cX9_advance 165 = .ok (.getfield 163, 3) := dk_180 0 163 (dk_at dksX9_advance_7 0 rfl rfl)
theorem dX9_advance_168 : decode cX9_advance 168 = .ok (.iaload, 1) := dk_46 (dk_at dksX9_advance_7 3 rfl rfl)
theorem dX9_advance_169 : decode cX9_advance 169 = .ok (.iadd, 1) := dk_96 (dk_at dksX9_advance_7 4 rfl rfl)
theorem dX9_advance_170 : decode cX9_advance 170 = .ok (.bipush 48, 2) := dk_16 48 (dk_at dksX9_advance_7 5 rfl rfl)
theorem dX9_advance_172 : decode cX9_advance 172 = .ok (.isub, 1) := dk_100 (dk_at dksX9_advance_7 7 rfl rfl)
theorem dX9_advance_173 : decode cX9_advance 173 = .ok (.goto 5, 3) := dk_167 0 5 (dk_at dksX9_advance_7 8 rfl rfl)
theorem dX9_advance_176 : decode cX9_advance 176 = .ok (.ldc 181, 2) := dk_18 181 (dk_at dksX9_advance_7 11 rfl rfl)
theorem dX9_advance_178 : decode cX9_advance 178 = .ok (.putfield 169, 3) := dk_181 0 169 (dk_at dksX9_advance_7 13 rfl rfl)
theorem dX9_advance_181 : decode cX9_advance 181 = .ok (.aload_n 0, 1) := dk_42 (dk_at dksX9_advance_7 16 rfl rfl)
theorem dX9_advance_182 : decode cX9_advance 182 = .ok (.dup, 1) := dk_89 (dk_at dksX9_advance_7 17 rfl rfl)
theorem dX9_advance_183 : decode cX9_advance 183 = .ok (.getfield 163, 3) := dk_180 0 163 (dk_at dksX9_advance_7 18 rfl rfl)
theorem dX9_advance_186 : decode cX9_advance 186 = .ok (.iconst 1, 1) := dk_4 (dk_at dksX9_advance_7 21 rfl rfl)
theorem dX9_advance_187 : decode cX9_advance 187 = .ok (.iadd, 1) := dk_96 (dk_at dksX9_advance_7 22 rfl rfl)
theorem dX9_advance_188 : decode cX9_advance 188 = .ok (.putfield 163, 3) := dk_181 0 163 (dk_at dksX9_advance_8 0 rfl rfl)
theorem dX9_advance_191 : decode cX9_advance 191 = .ok (.goto (-64), 3) := dk_167 255 192 (dk_at dksX9_advance_8 3 rfl rfl)
theorem dX9_advance_194 : decode cX9_advance 194 = .ok (.aload_n 0, 1) := dk_42 (dk_at dksX9_advance_8 6 rfl rfl)
theorem dX9_advance_195 : decode cX9_advance 195 = .ok (.getfield 38, 3) := dk_180 0 38 (dk_at dksX9_advance_8 7 rfl rfl)
theorem dX9_advance_198 : decode cX9_advance 198 = .ok (.aload_n 0, 1) := dk_42 (dk_at dksX9_advance_8 10 rfl rfl)
theorem dX9_advance_199 : decode cX9_advance 199 = .ok (.getfield 166, 3) := dk_180 0 166 (dk_at dksX9_advance_8 11 rfl rfl)
theorem dX9_advance_202 : decode cX9_advance 202 = .ok (.iaload, 1) := dk_46 (dk_at dksX9_advance_8 14 rfl rfl)
theorem dX9_advance_203 : decode cX9_advance 203 = .ok (.istore_n 1, 1) := dk_60 (dk_at dksX9_advance_8 15 rfl rfl)
theorem dX9_advance_204 : decode cX9_advance 204 = .ok (.aload_n 0, 1) := dk_42 (dk_at dksX9_advance_8 16 rfl rfl)
theorem dX9_advance_205 : decode cX9_advance 205 = .ok (.iload_n 1, 1) := dk_27 (dk_at dksX9_advance_8 17 rfl rfl)
theorem dX9_advance_206 : decode cX9_advance 206 = .ok (.bipush 59, 2) := dk_16 59 (dk_at dksX9_advance_8 18 rfl rfl)
theorem dX9_advance_208 : decode cX9_advance 208 = .ok (.if_icmp .eq 15, 3) := dk_159 0 15 (dk_at dksX9_advance_8 20 rfl rfl)
theorem dX9_advance_211 : decode cX9_advance 211 = .ok (.iload_n 1, 1) := dk_27 (dk_at dksX9_advance_8 23 rfl rfl)
theorem dX9_advance_212 : decode cX9_advance 212 = .ok (.bipush 40, 2) := dk_16 40 (dk_at dksX9_advance_9 0 rfl rfl)
theorem dX9_advance_214 : decode cX9_advance 214 = .ok (.if_icmp .eq 9, 3) := dk_159 0 9 (dk_at dksX9_advance_9 2 rfl rfl)
theorem dX9_advance_217 : decode cX9_advance 217 = .ok (.iload_n 1, 1) := dk_27 (dk_at dksX9_advance_9 5 rfl rfl)
theorem dX9_advance_218 : decode cX9_advance 218 = .ok (.bipush 41, 2) := dk_16 41 (dk_at dksX9_advance_9 6 rfl rfl)
theorem dX9_advance_220 : decode cX9_advance 220 = .ok (.if_icmp .ne 7, 3) := dk_160 0 7 (dk_at dksX9_advance_9 8 rfl rfl)
theorem dX9_advance_223 : decode cX9_advance 223 = .ok (.iconst 3, 1) := dk_6 (dk_at dksX9_advance_9 11 rfl rfl)
theorem dX9_advance_224 : decode cX9_advance 224 = .ok (.goto 4, 3) := dk_167 0 4 (dk_at dksX9_advance_9 12 rfl rfl)
theorem dX9_advance_227 : decode cX9_advance 227 = .ok (.iconst 4, 1) := dk_7 (dk_at dksX9_advance_9 15 rfl rfl)
theorem dX9_advance_228 : decode cX9_advance 228 = .ok (.putfield 172, 3) := dk_181 0 172 (dk_at dksX9_advance_9 16 rfl rfl)
theorem dX9_advance_231 : decode cX9_advance 231 = .ok (.aload_n 0, 1) := dk_42 (dk_at dksX9_advance_9 19 rfl rfl)
theorem dX9_advance_232 : decode cX9_advance 232 = .ok (.dup, 1) := dk_89 (dk_at dksX9_advance_9 20 rfl rfl)
theorem dX9_advance_233 : decode cX9_advance 233 = .ok (.getfield 163, 3) := dk_180 0 163 (dk_at dksX9_advance_9 21 rfl rfl)
theorem dX9_advance_236 : decode cX9_advance 236 = .ok (.iconst 1, 1) := dk_4 (dk_at dksX9_advance_10 0 rfl rfl)
theorem dX9_advance_237 : decode cX9_advance 237 = .ok (.iadd, 1) := dk_96 (dk_at dksX9_advance_10 1 rfl rfl)
theorem dX9_advance_238 : decode cX9_advance 238 = .ok (.putfield 163, 3) := dk_181 0 163 (dk_at dksX9_advance_10 2 rfl rfl)
theorem dX9_advance_241 : decode cX9_advance 241 = .ok (.return_, 1) := dk_177 (dk_at dksX9_advance_10 5 rfl rfl)
abbrev cX9_byteAt : ByteArray := prog_29_method_37_code
def yX9_byteAt : MethodName := ⟨RX9, "byteAt", "(I)I"⟩
def dkwX9_byteAt_0 : List UInt8 := [27, 42, 180, 0, 148, 162, 0, 12, 42, 180, 0, 38, 27, 46, 167, 0, 4, 2, 172]
abbrev dktX9_byteAt_0 : List UInt8 := dkwX9_byteAt_0 ++ []
theorem dksX9_byteAt_0 : cX9_byteAt.data.toList.drop 0 = dktX9_byteAt_0 := by decide +kernel
theorem dX9_byteAt_0 : decode cX9_byteAt 0 = .ok (.iload_n 1, 1) := dk_27 (dk_at dksX9_byteAt_0 0 rfl rfl)
theorem dX9_byteAt_1 : decode cX9_byteAt 1 = .ok (.aload_n 0, 1) := dk_42 (dk_at dksX9_byteAt_0 1 rfl rfl)
theorem dX9_byteAt_2 : decode cX9_byteAt 2 = .ok (.getfield 148, 3) := dk_180 0 148 (dk_at dksX9_byteAt_0 2 rfl rfl)
theorem dX9_byteAt_5 : decode cX9_byteAt 5 = .ok (.if_icmp .ge 12, 3) := dk_162 0 12 (dk_at dksX9_byteAt_0 5 rfl rfl)
theorem dX9_byteAt_8 : decode cX9_byteAt 8 = .ok (.aload_n 0, 1) := dk_42 (dk_at dksX9_byteAt_0 8 rfl rfl)
theorem dX9_byteAt_9 : decode cX9_byteAt 9 = .ok (.getfield 38, 3) := dk_180 0 38 (dk_at dksX9_byteAt_0 9 rfl rfl)
theorem dX9_byteAt_12 : decode cX9_byteAt 12 = .ok (.iload_n 1, 1) := dk_27 (dk_at dksX9_byteAt_0 12 rfl rfl)
theorem dX9_byteAt_13 : decode cX9_byteAt 13 = .ok (.iaload, 1) := dk_46 (dk_at dksX9_byteAt_0 13 rfl rfl)
theorem dX9_byteAt_14 : decode cX9_byteAt 14 = .ok (.goto 4, 3) := dk_167 0 4 (dk_at dksX9_byteAt_0 14 rfl rfl)
theorem dX9_byteAt_17 : decode cX9_byteAt 17 = .ok (.iconst (-1), 1) := dk_2 (dk_at dksX9_byteAt_0 17 rfl rfl)
theorem dX9_byteAt_18 : decode cX9_byteAt 18 = .ok (.ireturn, 1) := dk_172 (dk_at dksX9_byteAt_0 18 rfl rfl)
abbrev cX9_isLetterAt : ByteArray := prog_29_method_38_code
def yX9_isLetterAt : MethodName := ⟨RX9, "isLetterAt", "(I)Z"⟩
def dkwX9_isLetterAt_0 : List UInt8 := [42, 27, 182, 0, 157, 16, 97, 16, 122, 184, 0, 160, 172]
abbrev dktX9_isLetterAt_0 : List UInt8 := dkwX9_isLetterAt_0 ++ []
theorem dksX9_isLetterAt_0 : cX9_isLetterAt.data.toList.drop 0 = dktX9_isLetterAt_0 := by decide +kernel
theorem dX9_isLetterAt_0 : decode cX9_isLetterAt 0 = .ok (.aload_n 0, 1) := dk_42 (dk_at dksX9_isLetterAt_0 0 rfl rfl)
theorem dX9_isLetterAt_1 : decode cX9_isLetterAt 1 = .ok (.iload_n 1, 1) := dk_27 (dk_at dksX9_isLetterAt_0 1 rfl rfl)
theorem dX9_isLetterAt_2 : decode cX9_isLetterAt 2 = .ok (.invokevirtual 157, 3) := dk_182 0 157 (dk_at dksX9_isLetterAt_0 2 rfl rfl)
theorem dX9_isLetterAt_5 : decode cX9_isLetterAt 5 = .ok (.bipush 97, 2) := dk_16 97 (dk_at dksX9_isLetterAt_0 5 rfl rfl)
theorem dX9_isLetterAt_7 : decode cX9_isLetterAt 7 = .ok (.bipush 122, 2) := dk_16 122 (dk_at dksX9_isLetterAt_0 7 rfl rfl)
theorem dX9_isLetterAt_9 : decode cX9_isLetterAt 9 = .ok (.invokestatic 160, 3) := dk_184 0 160 (dk_at dksX9_isLetterAt_0 9 rfl rfl)
theorem dX9_isLetterAt_12 : decode cX9_isLetterAt 12 = .ok (.ireturn, 1) := dk_172 (dk_at dksX9_isLetterAt_0 12 rfl rfl)
abbrev cX9_in : ByteArray := prog_29_method_3_code
def yX9_in : MethodName := ⟨RX9, "in", "(III)Z"⟩
def dkwX9_in_0 : List UInt8 := [26, 27, 161, 0, 12, 26, 28, 163, 0, 7, 4, 167, 0, 4, 3, 172]
abbrev dktX9_in_0 : List UInt8 := dkwX9_in_0 ++ []
theorem dksX9_in_0 : cX9_in.data.toList.drop 0 = dktX9_in_0 := by decide +kernel
theorem dX9_in_0 : decode cX9_in 0 = .ok (.iload_n 0, 1) := dk_26 (dk_at dksX9_in_0 0 rfl rfl)
theorem dX9_in_1 : decode cX9_in 1 = .ok (.iload_n 1, 1) := dk_27 (dk_at dksX9_in_0 1 rfl rfl)
theorem dX9_in_2 : decode cX9_in 2 = .ok (.if_icmp .lt 12, 3) := dk_161 0 12 (dk_at dksX9_in_0 2 rfl rfl)
theorem dX9_in_5 : decode cX9_in 5 = .ok (.iload_n 0, 1) := dk_26 (dk_at dksX9_in_0 5 rfl rfl)
theorem dX9_in_6 : decode cX9_in 6 = .ok (.iload_n 2, 1) := dk_28 (dk_at dksX9_in_0 6 rfl rfl)
theorem dX9_in_7 : decode cX9_in 7 = .ok (.if_icmp .gt 7, 3) := dk_163 0 7 (dk_at dksX9_in_0 7 rfl rfl)
theorem dX9_in_10 : decode cX9_in 10 = .ok (.iconst 1, 1) := dk_4 (dk_at dksX9_in_0 10 rfl rfl)
theorem dX9_in_11 : decode cX9_in 11 = .ok (.goto 4, 3) := dk_167 0 4 (dk_at dksX9_in_0 11 rfl rfl)
theorem dX9_in_14 : decode cX9_in 14 = .ok (.iconst 0, 1) := dk_3 (dk_at dksX9_in_0 14 rfl rfl)
theorem dX9_in_15 : decode cX9_in 15 = .ok (.ireturn, 1) := dk_172 (dk_at dksX9_in_0 15 rfl rfl)
abbrev cX9_isDigitAt : ByteArray := prog_29_method_39_code
def yX9_isDigitAt : MethodName := ⟨RX9, "isDigitAt", "(I)Z"⟩
def dkwX9_isDigitAt_0 : List UInt8 := [42, 27, 182, 0, 157, 16, 48, 16, 57, 184, 0, 160, 172]
abbrev dktX9_isDigitAt_0 : List UInt8 := dkwX9_isDigitAt_0 ++ []
theorem dksX9_isDigitAt_0 : cX9_isDigitAt.data.toList.drop 0 = dktX9_isDigitAt_0 := by decide +kernel
theorem dX9_isDigitAt_0 : decode cX9_isDigitAt 0 = .ok (.aload_n 0, 1) := dk_42 (dk_at dksX9_isDigitAt_0 0 rfl rfl)
theorem dX9_isDigitAt_1 : decode cX9_isDigitAt 1 = .ok (.iload_n 1, 1) := dk_27 (dk_at dksX9_isDigitAt_0 1 rfl rfl)
theorem dX9_isDigitAt_2 : decode cX9_isDigitAt 2 = .ok (.invokevirtual 157, 3) := dk_182 0 157 (dk_at dksX9_isDigitAt_0 2 rfl rfl)
theorem dX9_isDigitAt_5 : decode cX9_isDigitAt 5 = .ok (.bipush 48, 2) := dk_16 48 (dk_at dksX9_isDigitAt_0 5 rfl rfl)
theorem dX9_isDigitAt_7 : decode cX9_isDigitAt 7 = .ok (.bipush 57, 2) := dk_16 57 (dk_at dksX9_isDigitAt_0 7 rfl rfl)
theorem dX9_isDigitAt_9 : decode cX9_isDigitAt 9 = .ok (.invokestatic 160, 3) := dk_184 0 160 (dk_at dksX9_isDigitAt_0 9 rfl rfl)
theorem dX9_isDigitAt_12 : decode cX9_isDigitAt 12 = .ok (.ireturn, 1) := dk_172 (dk_at dksX9_isDigitAt_0 12 rfl rfl)
abbrev cX9_isKey : ByteArray := prog_29_method_43_code
def yX9_isKey : MethodName := ⟨RX9, "isKey", "(Ljava/lang/String;)Z"⟩
def dkwX9_isKey_2 : List UInt8 := [96, 46, 43, 28, 182, 0, 195, 159, 0, 5, 3, 172, 132, 2, 1, 167, 255, 224, 4, 172]
abbrev dktX9_isKey_2 : List UInt8 := dkwX9_isKey_2 ++ []
def dkwX9_isKey_1 : List UInt8 := [159, 0, 5, 3, 172, 3, 61, 28, 42, 182, 0, 188, 162, 0, 30, 42, 180, 0, 38, 42, 180, 0, 166, 28]
abbrev dktX9_isKey_1 : List UInt8 := dkwX9_isKey_1 ++ dktX9_isKey_2
def dkwX9_isKey_0 : List UInt8 := [42, 180, 0, 182, 154, 0, 22, 42, 180, 0, 172, 4, 160, 0, 14, 42, 182, 0, 188, 43, 182, 0, 192]
abbrev dktX9_isKey_0 : List UInt8 := dkwX9_isKey_0 ++ dktX9_isKey_1
theorem dksX9_isKey_0 : cX9_isKey.data.toList.drop 0 = dktX9_isKey_0 := by decide +kernel
theorem dksX9_isKey_1 : cX9_isKey.data.toList.drop 23 = dktX9_isKey_1 := dk_seg dksX9_isKey_0 23 rfl rfl
theorem dksX9_isKey_2 : cX9_isKey.data.toList.drop 47 = dktX9_isKey_2 := dk_seg dksX9_isKey_1 24 rfl rfl
theorem dX9_isKey_0 : decode cX9_isKey 0 = .ok (.aload_n 0, 1) := dk_42 (dk_at dksX9_isKey_0 0 rfl rfl)
theorem dX9_isKey_1 : decode cX9_isKey 1 = .ok (.getfield 182, 3) := dk_180 0 182 (dk_at dksX9_isKey_0 1 rfl rfl)
theorem dX9_isKey_4 : decode cX9_isKey 4 = .ok (.ifCond .ne 22, 3) := dk_154 0 22 (dk_at dksX9_isKey_0 4 rfl rfl)
theorem dX9_isKey_7 : decode cX9_isKey 7 = .ok (.aload_n 0, 1) := dk_42 (dk_at dksX9_isKey_0 7 rfl rfl)
theorem dX9_isKey_8 : decode cX9_isKey 8 = .ok (.getfield 172, 3) := dk_180 0 172 (dk_at dksX9_isKey_0 8 rfl rfl)
theorem dX9_isKey_11 : decode cX9_isKey 11 = .ok (.iconst 1, 1) := dk_4 (dk_at dksX9_isKey_0 11 rfl rfl)
theorem dX9_isKey_12 : decode cX9_isKey 12 = .ok (.if_icmp .ne 14, 3) := dk_160 0 14 (dk_at dksX9_isKey_0 12 rfl rfl)
theorem dX9_isKey_15 : decode cX9_isKey 15 = .ok (.aload_n 0, 1) := dk_42 (dk_at dksX9_isKey_0 15 rfl rfl)
theorem dX9_isKey_16 : decode cX9_isKey 16 = .ok (.invokevirtual 188, 3) := dk_182 0 188 (dk_at dksX9_isKey_0 16 rfl rfl)
theorem dX9_isKey_19 : decode cX9_isKey 19 = .ok (.aload_n 1, 1) := dk_43 (dk_at dksX9_isKey_0 19 rfl rfl)
theorem dX9_isKey_20 : decode cX9_isKey 20 = .ok (.invokevirtual 192, 3) := dk_182 0 192 (dk_at dksX9_isKey_0 20 rfl rfl)
theorem dX9_isKey_23 : decode cX9_isKey 23 = .ok (.if_icmp .eq 5, 3) := dk_159 0 5 (dk_at dksX9_isKey_1 0 rfl rfl)
theorem dX9_isKey_26 : decode cX9_isKey 26 = .ok (.iconst 0, 1) := dk_3 (dk_at dksX9_isKey_1 3 rfl rfl)
theorem dX9_isKey_27 : decode cX9_isKey 27 = .ok (.ireturn, 1) := dk_172 (dk_at dksX9_isKey_1 4 rfl rfl)
theorem dX9_isKey_28 : decode cX9_isKey 28 = .ok (.iconst 0, 1) := dk_3 (dk_at dksX9_isKey_1 5 rfl rfl)
theorem dX9_isKey_29 : decode cX9_isKey 29 = .ok (.istore_n 2, 1) := dk_61 (dk_at dksX9_isKey_1 6 rfl rfl)
theorem dX9_isKey_30 : decode cX9_isKey 30 = .ok (.iload_n 2, 1) := dk_28 (dk_at dksX9_isKey_1 7 rfl rfl)
theorem dX9_isKey_31 : decode cX9_isKey 31 = .ok (.aload_n 0, 1) := dk_42 (dk_at dksX9_isKey_1 8 rfl rfl)
theorem dX9_isKey_32 : decode cX9_isKey 32 = .ok (.invokevirtual 188, 3) := dk_182 0 188 (dk_at dksX9_isKey_1 9 rfl rfl)
theorem dX9_isKey_35 : decode cX9_isKey 35 = .ok (.if_icmp .ge 30, 3) := dk_162 0 30 (dk_at dksX9_isKey_1 12 rfl rfl)
theorem dX9_isKey_38 : decode cX9_isKey 38 = .ok (.aload_n 0, 1) := dk_42 (dk_at dksX9_isKey_1 15 rfl rfl)
theorem dX9_isKey_39 : decode cX9_isKey 39 = .ok (.getfield 38, 3) := dk_180 0 38 (dk_at dksX9_isKey_1 16 rfl rfl)
theorem dX9_isKey_42 : decode cX9_isKey 42 = .ok (.aload_n 0, 1) := dk_42 (dk_at dksX9_isKey_1 19 rfl rfl)
theorem dX9_isKey_43 : decode cX9_isKey 43 = .ok (.getfield 166, 3) := dk_180 0 166 (dk_at dksX9_isKey_1 20 rfl rfl)
theorem dX9_isKey_46 : decode cX9_isKey 46 = .ok (.iload_n 2, 1) := dk_28 (dk_at dksX9_isKey_1 23 rfl rfl)
theorem dX9_isKey_47 : decode cX9_isKey 47 = .ok (.iadd, 1) := dk_96 (dk_at dksX9_isKey_2 0 rfl rfl)
theorem dX9_isKey_48 : decode cX9_isKey 48 = .ok (.iaload, 1) := dk_46 (dk_at dksX9_isKey_2 1 rfl rfl)
theorem dX9_isKey_49 : decode cX9_isKey 49 = .ok (.aload_n 1, 1) := dk_43 (dk_at dksX9_isKey_2 2 rfl rfl)
theorem dX9_isKey_50 : decode cX9_isKey 50 = .ok (.iload_n 2, 1) := dk_28 (dk_at dksX9_isKey_2 3 rfl rfl)
theorem dX9_isKey_51 : decode cX9_isKey 51 = .ok (.invokevirtual 195, 3) := dk_182 0 195 (dk_at dksX9_isKey_2 4 rfl rfl)
theorem dX9_isKey_54 : decode cX9_isKey 54 = .ok (.if_icmp .eq 5, 3) := dk_159 0 5 (dk_at dksX9_isKey_2 7 rfl rfl)
theorem dX9_isKey_57 : decode cX9_isKey 57 = .ok (.iconst 0, 1) := dk_3 (dk_at dksX9_isKey_2 10 rfl rfl)
theorem dX9_isKey_58 : decode cX9_isKey 58 = .ok (.ireturn, 1) := dk_172 (dk_at dksX9_isKey_2 11 rfl rfl)
theorem dX9_isKey_59 : decode cX9_isKey 59 = .ok (.iinc 2 1, 3) := dk_132 2 1 (dk_at dksX9_isKey_2 12 rfl rfl)
theorem dX9_isKey_62 : decode cX9_isKey 62 = .ok (.goto (-32), 3) := dk_167 255 224 (dk_at dksX9_isKey_2 15 rfl rfl)
theorem dX9_isKey_65 : decode cX9_isKey 65 = .ok (.iconst 1, 1) := dk_4 (dk_at dksX9_isKey_2 18 rfl rfl)
theorem dX9_isKey_66 : decode cX9_isKey 66 = .ok (.ireturn, 1) := dk_172 (dk_at dksX9_isKey_2 19 rfl rfl)
abbrev cX9_length : ByteArray := prog_29_method_42_code
def yX9_length : MethodName := ⟨RX9, "length", "()I"⟩
def dkwX9_length_0 : List UInt8 := [42, 180, 0, 163, 42, 180, 0, 166, 100, 172]
abbrev dktX9_length_0 : List UInt8 := dkwX9_length_0 ++ []
theorem dksX9_length_0 : cX9_length.data.toList.drop 0 = dktX9_length_0 := by decide +kernel
theorem dX9_length_0 : decode cX9_length 0 = .ok (.aload_n 0, 1) := dk_42 (dk_at dksX9_length_0 0 rfl rfl)
theorem dX9_length_1 : decode cX9_length 1 = .ok (.getfield 163, 3) := dk_180 0 163 (dk_at dksX9_length_0 1 rfl rfl)
theorem dX9_length_4 : decode cX9_length 4 = .ok (.aload_n 0, 1) := dk_42 (dk_at dksX9_length_0 4 rfl rfl)
theorem dX9_length_5 : decode cX9_length 5 = .ok (.getfield 166, 3) := dk_180 0 166 (dk_at dksX9_length_0 5 rfl rfl)
theorem dX9_length_8 : decode cX9_length 8 = .ok (.isub, 1) := dk_100 (dk_at dksX9_length_0 8 rfl rfl)
theorem dX9_length_9 : decode cX9_length 9 = .ok (.ireturn, 1) := dk_172 (dk_at dksX9_length_0 9 rfl rfl)
abbrev cX9_faulty : ByteArray := prog_29_method_41_code
def yX9_faulty : MethodName := ⟨RX9, "faulty", "(ZI)Z"⟩
def dkwX9_faulty_1 : List UInt8 := [42, 180, 0, 182, 153, 0, 7, 4, 167, 0, 4, 3, 172]
abbrev dktX9_faulty_1 : List UInt8 := dkwX9_faulty_1 ++ []
def dkwX9_faulty_0 : List UInt8 := [42, 180, 0, 182, 154, 0, 20, 27, 153, 0, 16, 42, 28, 181, 0, 182, 42, 42, 180, 0, 166, 181, 0, 185]
abbrev dktX9_faulty_0 : List UInt8 := dkwX9_faulty_0 ++ dktX9_faulty_1
theorem dksX9_faulty_0 : cX9_faulty.data.toList.drop 0 = dktX9_faulty_0 := by decide +kernel
theorem dksX9_faulty_1 : cX9_faulty.data.toList.drop 24 = dktX9_faulty_1 := dk_seg dksX9_faulty_0 24 rfl rfl
theorem dX9_faulty_0 : decode cX9_faulty 0 = .ok (.aload_n 0, 1) := dk_42 (dk_at dksX9_faulty_0 0 rfl rfl)
theorem dX9_faulty_1 : decode cX9_faulty 1 = .ok (.getfield 182, 3) := dk_180 0 182 (dk_at dksX9_faulty_0 1 rfl rfl)
theorem dX9_faulty_4 : decode cX9_faulty 4 = .ok (.ifCond .ne 20, 3) := dk_154 0 20 (dk_at dksX9_faulty_0 4 rfl rfl)
theorem dX9_faulty_7 : decode cX9_faulty 7 = .ok (.iload_n 1, 1) := dk_27 (dk_at dksX9_faulty_0 7 rfl rfl)
theorem dX9_faulty_8 : decode cX9_faulty 8 = .ok (.ifCond .eq 16, 3) := dk_153 0 16 (dk_at dksX9_faulty_0 8 rfl rfl)
theorem dX9_faulty_11 : decode cX9_faulty 11 = .ok (.aload_n 0, 1) := dk_42 (dk_at dksX9_faulty_0 11 rfl rfl)
theorem dX9_faulty_12 : decode cX9_faulty 12 = .ok (.iload_n 2, 1) := dk_28 (dk_at dksX9_faulty_0 12 rfl rfl)
theorem dX9_faulty_13 : decode cX9_faulty 13 = .ok (.putfield 182, 3) := dk_181 0 182 (dk_at dksX9_faulty_0 13 rfl rfl)
theorem dX9_faulty_16 : decode cX9_faulty 16 = .ok (.aload_n 0, 1) := dk_42 (dk_at dksX9_faulty_0 16 rfl rfl)
theorem dX9_faulty_17 : decode cX9_faulty 17 = .ok (.aload_n 0, 1) := dk_42 (dk_at dksX9_faulty_0 17 rfl rfl)
theorem dX9_faulty_18 : decode cX9_faulty 18 = .ok (.getfield 166, 3) := dk_180 0 166 (dk_at dksX9_faulty_0 18 rfl rfl)
theorem dX9_faulty_21 : decode cX9_faulty 21 = .ok (.putfield 185, 3) := dk_181 0 185 (dk_at dksX9_faulty_0 21 rfl rfl)
theorem dX9_faulty_24 : decode cX9_faulty 24 = .ok (.aload_n 0, 1) := dk_42 (dk_at dksX9_faulty_1 0 rfl rfl)
theorem dX9_faulty_25 : decode cX9_faulty 25 = .ok (.getfield 182, 3) := dk_180 0 182 (dk_at dksX9_faulty_1 1 rfl rfl)
theorem dX9_faulty_28 : decode cX9_faulty 28 = .ok (.ifCond .eq 7, 3) := dk_153 0 7 (dk_at dksX9_faulty_1 4 rfl rfl)
theorem dX9_faulty_31 : decode cX9_faulty 31 = .ok (.iconst 1, 1) := dk_4 (dk_at dksX9_faulty_1 7 rfl rfl)
theorem dX9_faulty_32 : decode cX9_faulty 32 = .ok (.goto 4, 3) := dk_167 0 4 (dk_at dksX9_faulty_1 8 rfl rfl)
theorem dX9_faulty_35 : decode cX9_faulty 35 = .ok (.iconst 0, 1) := dk_3 (dk_at dksX9_faulty_1 11 rfl rfl)
theorem dX9_faulty_36 : decode cX9_faulty 36 = .ok (.ireturn, 1) := dk_172 (dk_at dksX9_faulty_1 12 rfl rfl)
abbrev cX9_textWord : ByteArray := prog_29_method_51_code
def yX9_textWord : MethodName := ⟨RX9, "textWord", "()V"⟩
def dkwX9_textWord_4 : List UInt8 := [132, 1, 1, 167, 255, 215, 42, 180, 0, 9, 4, 92, 46, 42, 182, 0, 188, 96, 79, 42, 182, 0, 206, 177]
abbrev dktX9_textWord_4 : List UInt8 := dkwX9_textWord_4 ++ []
def dkwX9_textWord_3 : List UInt8 := [180, 0, 9, 4, 46, 96, 27, 96, 42, 180, 0, 38, 42, 180, 0, 166, 27, 96, 46, 16, 97, 100, 79]
abbrev dktX9_textWord_3 : List UInt8 := dkwX9_textWord_3 ++ dktX9_textWord_4
def dkwX9_textWord_2 : List UInt8 := [182, 0, 202, 153, 0, 4, 177, 3, 60, 27, 42, 182, 0, 188, 162, 0, 39, 42, 180, 0, 9, 16, 16, 42]
abbrev dktX9_textWord_2 : List UInt8 := dkwX9_textWord_2 ++ dktX9_textWord_3
def dkwX9_textWord_1 : List UInt8 := [180, 0, 9, 4, 46, 42, 182, 0, 188, 96, 17, 0, 200, 164, 0, 7, 4, 167, 0, 4, 3, 5]
abbrev dktX9_textWord_1 : List UInt8 := dkwX9_textWord_1 ++ dktX9_textWord_2
def dkwX9_textWord_0 : List UInt8 := [42, 42, 180, 0, 172, 4, 159, 0, 7, 4, 167, 0, 4, 3, 4, 182, 0, 202, 154, 0, 33, 42, 42]
abbrev dktX9_textWord_0 : List UInt8 := dkwX9_textWord_0 ++ dktX9_textWord_1
theorem dksX9_textWord_0 : cX9_textWord.data.toList.drop 0 = dktX9_textWord_0 := by decide +kernel
theorem dksX9_textWord_1 : cX9_textWord.data.toList.drop 23 = dktX9_textWord_1 := dk_seg dksX9_textWord_0 23 rfl rfl
theorem dksX9_textWord_2 : cX9_textWord.data.toList.drop 45 = dktX9_textWord_2 := dk_seg dksX9_textWord_1 22 rfl rfl
theorem dksX9_textWord_3 : cX9_textWord.data.toList.drop 69 = dktX9_textWord_3 := dk_seg dksX9_textWord_2 24 rfl rfl
theorem dksX9_textWord_4 : cX9_textWord.data.toList.drop 92 = dktX9_textWord_4 := dk_seg dksX9_textWord_3 23 rfl rfl
theorem dX9_textWord_0 : decode cX9_textWord 0 = .ok (.aload_n 0, 1) := dk_42 (dk_at dksX9_textWord_0 0 rfl rfl)
theorem dX9_textWord_1 : decode cX9_textWord 1 = .ok (.aload_n 0, 1) := dk_42 (dk_at dksX9_textWord_0 1 rfl rfl)
theorem dX9_textWord_2 : decode cX9_textWord 2 = .ok (.getfield 172, 3) := dk_180 0 172 (dk_at dksX9_textWord_0 2 rfl rfl)
theorem dX9_textWord_5 : decode cX9_textWord 5 = .ok (.iconst 1, 1) := dk_4 (dk_at dksX9_textWord_0 5 rfl rfl)
theorem dX9_textWord_6 : decode cX9_textWord 6 = .ok (.if_icmp .eq 7, 3) := dk_159 0 7 (dk_at dksX9_textWord_0 6 rfl rfl)
theorem dX9_textWord_9 : decode cX9_textWord 9 = .ok (.iconst 1, 1) := dk_4 (dk_at dksX9_textWord_0 9 rfl rfl)
theorem dX9_textWord_10 : decode cX9_textWord 10 = .ok (.goto 4, 3) := dk_167 0 4 (dk_at dksX9_textWord_0 10 rfl rfl)
theorem dX9_textWord_13 : decode cX9_textWord 13 = .ok (.iconst 0, 1) := dk_3 (dk_at dksX9_textWord_0 13 rfl rfl)
theorem dX9_textWord_14 : decode cX9_textWord 14 = .ok (.iconst 1, 1) := dk_4 (dk_at dksX9_textWord_0 14 rfl rfl)
theorem dX9_textWord_15 : decode cX9_textWord 15 = .ok (.invokevirtual 202, 3) := dk_182 0 202 (dk_at dksX9_textWord_0 15 rfl rfl)
theorem dX9_textWord_18 : decode cX9_textWord 18 = .ok (.ifCond .ne 33, 3) := dk_154 0 33 (dk_at dksX9_textWord_0 18 rfl rfl)
theorem dX9_textWord_21 : decode cX9_textWord 21 = .ok (.aload_n 0, 1) := dk_42 (dk_at dksX9_textWord_0 21 rfl rfl)
theorem dX9_textWord_22 : decode cX9_textWord 22 = .ok (.aload_n 0, 1) := dk_42 (dk_at dksX9_textWord_0 22 rfl rfl)
theorem dX9_textWord_23 : decode cX9_textWord 23 = .ok (.getfield 9, 3) := dk_180 0 9 (dk_at dksX9_textWord_1 0 rfl rfl)
theorem dX9_textWord_26 : decode cX9_textWord 26 = .ok (.iconst 1, 1) := dk_4 (dk_at dksX9_textWord_1 3 rfl rfl)
theorem dX9_textWord_27 : decode cX9_textWord 27 = .ok (.iaload, 1) := dk_46 (dk_at dksX9_textWord_1 4 rfl rfl)
theorem dX9_textWord_28 : decode cX9_textWord 28 = .ok (.aload_n 0, 1) := dk_42 (dk_at dksX9_textWord_1 5 rfl rfl)
theorem dX9_textWord_29 : decode cX9_textWord 29 = .ok (.invokevirtual 188, 3) := dk_182 0 188 (dk_at dksX9_textWord_1 6 rfl rfl)
theorem dX9_textWord_32 : decode cX9_textWord 32 = .ok (.iadd, 1) := dk_96 (dk_at dksX9_textWord_1 9 rfl rfl)
theorem dX9_textWord_33 : decode cX9_textWord 33 = .ok (.sipush 200, 3) := dk_17 0 200 (dk_at dksX9_textWord_1 10 rfl rfl)
theorem dX9_textWord_36 : decode cX9_textWord 36 = .ok (.if_icmp .le 7, 3) := dk_164 0 7 (dk_at dksX9_textWord_1 13 rfl rfl)
theorem dX9_textWord_39 : decode cX9_textWord 39 = .ok (.iconst 1, 1) := dk_4 (dk_at dksX9_textWord_1 16 rfl rfl)
theorem dX9_textWord_40 : decode cX9_textWord 40 = .ok (.goto 4, 3) := dk_167 0 4 (dk_at dksX9_textWord_1 17 rfl rfl)
theorem dX9_textWord_43 : decode cX9_textWord 43 = .ok (.iconst 0, 1) := dk_3 (dk_at dksX9_textWord_1 20 rfl rfl)
theorem dX9_textWord_44 : decode cX9_textWord 44 = .ok (.iconst 2, 1) := dk_5 (dk_at dksX9_textWord_1 21 rfl rfl)
theorem dX9_textWord_45 : decode cX9_textWord 45 = .ok (.invokevirtual 202, 3) := dk_182 0 202 (dk_at dksX9_textWord_2 0 rfl rfl)
theorem dX9_textWord_48 : decode cX9_textWord 48 = .ok (.ifCond .eq 4, 3) := dk_153 0 4 (dk_at dksX9_textWord_2 3 rfl rfl)
theorem dX9_textWord_51 : decode cX9_textWord 51 = .ok (.return_, 1) := dk_177 (dk_at dksX9_textWord_2 6 rfl rfl)
theorem dX9_textWord_52 : decode cX9_textWord 52 = .ok (.iconst 0, 1) := dk_3 (dk_at dksX9_textWord_2 7 rfl rfl)
theorem dX9_textWord_53 : decode cX9_textWord 53 = .ok (.istore_n 1, 1) := dk_60 (dk_at dksX9_textWord_2 8 rfl rfl)
theorem dX9_textWord_54 : decode cX9_textWord 54 = .ok (.iload_n 1, 1) := dk_27 (dk_at dksX9_textWord_2 9 rfl rfl)
theorem dX9_textWord_55 : decode cX9_textWord 55 = .ok (.aload_n 0, 1) := dk_42 (dk_at dksX9_textWord_2 10 rfl rfl)
theorem dX9_textWord_56 : decode cX9_textWord 56 = .ok (.invokevirtual 188, 3) := dk_182 0 188 (dk_at dksX9_textWord_2 11 rfl rfl)
theorem dX9_textWord_59 : decode cX9_textWord 59 = .ok (.if_icmp .ge 39, 3) := dk_162 0 39 (dk_at dksX9_textWord_2 14 rfl rfl)
theorem dX9_textWord_62 : decode cX9_textWord 62 = .ok (.aload_n 0, 1) := dk_42 (dk_at dksX9_textWord_2 17 rfl rfl)
theorem dX9_textWord_63 : decode cX9_textWord 63 = .ok (.getfield 9, 3) := dk_180 0 9 (dk_at dksX9_textWord_2 18 rfl rfl)
theorem dX9_textWord_66 : decode cX9_textWord 66 = .ok (.bipush 16, 2) := dk_16 16 (dk_at dksX9_textWord_2 21 rfl rfl)
theorem dX9_textWord_68 : decode cX9_textWord 68 = .ok (.aload_n 0, 1) := dk_42 (dk_at dksX9_textWord_2 23 rfl rfl)
theorem dX9_textWord_69 : decode cX9_textWord 69 = .ok (.getfield 9, 3) := dk_180 0 9 (dk_at dksX9_textWord_3 0 rfl rfl)
theorem dX9_textWord_72 : decode cX9_textWord 72 = .ok (.iconst 1, 1) := dk_4 (dk_at dksX9_textWord_3 3 rfl rfl)
theorem dX9_textWord_73 : decode cX9_textWord 73 = .ok (.iaload, 1) := dk_46 (dk_at dksX9_textWord_3 4 rfl rfl)
theorem dX9_textWord_74 : decode cX9_textWord 74 = .ok (.iadd, 1) := dk_96 (dk_at dksX9_textWord_3 5 rfl rfl)
theorem dX9_textWord_75 : decode cX9_textWord 75 = .ok (.iload_n 1, 1) := dk_27 (dk_at dksX9_textWord_3 6 rfl rfl)
theorem dX9_textWord_76 : decode cX9_textWord 76 = .ok (.iadd, 1) := dk_96 (dk_at dksX9_textWord_3 7 rfl rfl)
theorem dX9_textWord_77 : decode cX9_textWord 77 = .ok (.aload_n 0, 1) := dk_42 (dk_at dksX9_textWord_3 8 rfl rfl)
theorem dX9_textWord_78 : decode cX9_textWord 78 = .ok (.getfield 38, 3) := dk_180 0 38 (dk_at dksX9_textWord_3 9 rfl rfl)
theorem dX9_textWord_81 : decode cX9_textWord 81 = .ok (.aload_n 0, 1) := dk_42 (dk_at dksX9_textWord_3 12 rfl rfl)
theorem dX9_textWord_82 : decode cX9_textWord 82 = .ok (.getfield 166, 3) := dk_180 0 166 (dk_at dksX9_textWord_3 13 rfl rfl)
theorem dX9_textWord_85 : decode cX9_textWord 85 = .ok (.iload_n 1, 1) := dk_27 (dk_at dksX9_textWord_3 16 rfl rfl)
theorem dX9_textWord_86 : decode cX9_textWord 86 = .ok (.iadd, 1) := dk_96 (dk_at dksX9_textWord_3 17 rfl rfl)
theorem dX9_textWord_87 : decode cX9_textWord 87 = .ok (.iaload, 1) := dk_46 (dk_at dksX9_textWord_3 18 rfl rfl)
theorem dX9_textWord_88 : decode cX9_textWord 88 = .ok (.bipush 97, 2) := dk_16 97 (dk_at dksX9_textWord_3 19 rfl rfl)
theorem dX9_textWord_90 : decode cX9_textWord 90 = .ok (.isub, 1) := dk_100 (dk_at dksX9_textWord_3 21 rfl rfl)
theorem dX9_textWord_91 : decode cX9_textWord 91 = .ok (.iastore, 1) := dk_79 (dk_at dksX9_textWord_3 22 rfl rfl)
theorem dX9_textWord_92 : decode cX9_textWord 92 = .ok (.iinc 1 1, 3) := dk_132 1 1 (dk_at dksX9_textWord_4 0 rfl rfl)
theorem dX9_textWord_95 : decode cX9_textWord 95 = .ok (.goto (-41), 3) := dk_167 255 215 (dk_at dksX9_textWord_4 3 rfl rfl)
theorem dX9_textWord_98 : decode cX9_textWord 98 = .ok (.aload_n 0, 1) := dk_42 (dk_at dksX9_textWord_4 6 rfl rfl)
theorem dX9_textWord_99 : decode cX9_textWord 99 = .ok (.getfield 9, 3) := dk_180 0 9 (dk_at dksX9_textWord_4 7 rfl rfl)
theorem dX9_textWord_102 : decode cX9_textWord 102 = .ok (.iconst 1, 1) := dk_4 (dk_at dksX9_textWord_4 10 rfl rfl)
theorem dX9_textWord_103 : decode cX9_textWord 103 = .ok (.dup2, 1) := dk_92 (dk_at dksX9_textWord_4 11 rfl rfl)
theorem dX9_textWord_104 : decode cX9_textWord 104 = .ok (.iaload, 1) := dk_46 (dk_at dksX9_textWord_4 12 rfl rfl)
theorem dX9_textWord_105 : decode cX9_textWord 105 = .ok (.aload_n 0, 1) := dk_42 (dk_at dksX9_textWord_4 13 rfl rfl)
theorem dX9_textWord_106 : decode cX9_textWord 106 = .ok (.invokevirtual 188, 3) := dk_182 0 188 (dk_at dksX9_textWord_4 14 rfl rfl)
theorem dX9_textWord_109 : decode cX9_textWord 109 = .ok (.iadd, 1) := dk_96 (dk_at dksX9_textWord_4 17 rfl rfl)
theorem dX9_textWord_110 : decode cX9_textWord 110 = .ok (.iastore, 1) := dk_79 (dk_at dksX9_textWord_4 18 rfl rfl)
theorem dX9_textWord_111 : decode cX9_textWord 111 = .ok (.aload_n 0, 1) := dk_42 (dk_at dksX9_textWord_4 19 rfl rfl)
theorem dX9_textWord_112 : decode cX9_textWord 112 = .ok (.invokevirtual 206, 3) := dk_182 0 206 (dk_at dksX9_textWord_4 20 rfl rfl)
theorem dX9_textWord_115 : decode cX9_textWord 115 = .ok (.return_, 1) := dk_177 (dk_at dksX9_textWord_4 23 rfl rfl)
abbrev cX9_isSign : ByteArray := prog_29_method_44_code
def yX9_isSign : MethodName := ⟨RX9, "isSign", "(I)Z"⟩
def dkwX9_isSign_1 : List UInt8 := [27, 160, 0, 7, 4, 167, 0, 4, 3, 172]
abbrev dktX9_isSign_1 : List UInt8 := dkwX9_isSign_1 ++ []
def dkwX9_isSign_0 : List UInt8 := [42, 180, 0, 182, 154, 0, 28, 42, 180, 0, 172, 6, 160, 0, 20, 42, 180, 0, 38, 42, 180, 0, 166, 46]
abbrev dktX9_isSign_0 : List UInt8 := dkwX9_isSign_0 ++ dktX9_isSign_1
theorem dksX9_isSign_0 : cX9_isSign.data.toList.drop 0 = dktX9_isSign_0 := by decide +kernel
theorem dksX9_isSign_1 : cX9_isSign.data.toList.drop 24 = dktX9_isSign_1 := dk_seg dksX9_isSign_0 24 rfl rfl
theorem dX9_isSign_0 : decode cX9_isSign 0 = .ok (.aload_n 0, 1) := dk_42 (dk_at dksX9_isSign_0 0 rfl rfl)
theorem dX9_isSign_1 : decode cX9_isSign 1 = .ok (.getfield 182, 3) := dk_180 0 182 (dk_at dksX9_isSign_0 1 rfl rfl)
theorem dX9_isSign_4 : decode cX9_isSign 4 = .ok (.ifCond .ne 28, 3) := dk_154 0 28 (dk_at dksX9_isSign_0 4 rfl rfl)
theorem dX9_isSign_7 : decode cX9_isSign 7 = .ok (.aload_n 0, 1) := dk_42 (dk_at dksX9_isSign_0 7 rfl rfl)
theorem dX9_isSign_8 : decode cX9_isSign 8 = .ok (.getfield 172, 3) := dk_180 0 172 (dk_at dksX9_isSign_0 8 rfl rfl)
theorem dX9_isSign_11 : decode cX9_isSign 11 = .ok (.iconst 3, 1) := dk_6 (dk_at dksX9_isSign_0 11 rfl rfl)
theorem dX9_isSign_12 : decode cX9_isSign 12 = .ok (.if_icmp .ne 20, 3) := dk_160 0 20 (dk_at dksX9_isSign_0 12 rfl rfl)
theorem dX9_isSign_15 : decode cX9_isSign 15 = .ok (.aload_n 0, 1) := dk_42 (dk_at dksX9_isSign_0 15 rfl rfl)
theorem dX9_isSign_16 : decode cX9_isSign 16 = .ok (.getfield 38, 3) := dk_180 0 38 (dk_at dksX9_isSign_0 16 rfl rfl)
theorem dX9_isSign_19 : decode cX9_isSign 19 = .ok (.aload_n 0, 1) := dk_42 (dk_at dksX9_isSign_0 19 rfl rfl)
theorem dX9_isSign_20 : decode cX9_isSign 20 = .ok (.getfield 166, 3) := dk_180 0 166 (dk_at dksX9_isSign_0 20 rfl rfl)
theorem dX9_isSign_23 : decode cX9_isSign 23 = .ok (.iaload, 1) := dk_46 (dk_at dksX9_isSign_0 23 rfl rfl)
theorem dX9_isSign_24 : decode cX9_isSign 24 = .ok (.iload_n 1, 1) := dk_27 (dk_at dksX9_isSign_1 0 rfl rfl)
theorem dX9_isSign_25 : decode cX9_isSign 25 = .ok (.if_icmp .ne 7, 3) := dk_160 0 7 (dk_at dksX9_isSign_1 1 rfl rfl)
theorem dX9_isSign_28 : decode cX9_isSign 28 = .ok (.iconst 1, 1) := dk_4 (dk_at dksX9_isSign_1 4 rfl rfl)
theorem dX9_isSign_29 : decode cX9_isSign 29 = .ok (.goto 4, 3) := dk_167 0 4 (dk_at dksX9_isSign_1 5 rfl rfl)
theorem dX9_isSign_32 : decode cX9_isSign 32 = .ok (.iconst 0, 1) := dk_3 (dk_at dksX9_isSign_1 8 rfl rfl)
theorem dX9_isSign_33 : decode cX9_isSign 33 = .ok (.ireturn, 1) := dk_172 (dk_at dksX9_isSign_1 9 rfl rfl)
abbrev cX9_newPattern : ByteArray := prog_29_method_52_code
def yX9_newPattern : MethodName := ⟨RX9, "newPattern", "()V"⟩
def dkwX9_newPattern_9 : List UInt8 := [182, 0, 206, 177]
abbrev dktX9_newPattern_9 : List UInt8 := dkwX9_newPattern_9 ++ []
def dkwX9_newPattern_8 : List UInt8 := [46, 16, 97, 100, 182, 0, 219, 132, 2, 1, 167, 255, 222, 42, 180, 0, 9, 5, 92, 46, 4, 96, 79, 42]
abbrev dktX9_newPattern_8 : List UInt8 := dkwX9_newPattern_8 ++ dktX9_newPattern_9
def dkwX9_newPattern_7 : List UInt8 := [28, 42, 182, 0, 188, 162, 0, 32, 42, 27, 16, 10, 28, 96, 42, 180, 0, 38, 42, 180, 0, 166, 28, 96]
abbrev dktX9_newPattern_7 : List UInt8 := dkwX9_newPattern_7 ++ dktX9_newPattern_8
def dkwX9_newPattern_6 : List UInt8 := [167, 0, 4, 3, 5, 182, 0, 202, 153, 0, 4, 177, 42, 27, 3, 42, 182, 0, 188, 182, 0, 219, 3, 61]
abbrev dktX9_newPattern_6 : List UInt8 := dkwX9_newPattern_6 ++ dktX9_newPattern_7
def dkwX9_newPattern_5 : List UInt8 := [167, 0, 4, 3, 4, 182, 0, 202, 154, 0, 25, 42, 42, 182, 0, 188, 16, 20, 164, 0, 7, 4]
abbrev dktX9_newPattern_5 : List UInt8 := dkwX9_newPattern_5 ++ dktX9_newPattern_6
def dkwX9_newPattern_4 : List UInt8 := [46, 182, 0, 219, 132, 2, 1, 167, 255, 226, 42, 182, 0, 206, 42, 42, 180, 0, 172, 4, 159, 0, 7, 4]
abbrev dktX9_newPattern_4 : List UInt8 := dkwX9_newPattern_4 ++ dktX9_newPattern_5
def dkwX9_newPattern_3 : List UInt8 := [61, 28, 42, 182, 0, 188, 162, 0, 28, 42, 27, 5, 28, 96, 42, 180, 0, 38, 42, 180, 0, 166, 28, 96]
abbrev dktX9_newPattern_3 : List UInt8 := dkwX9_newPattern_3 ++ dktX9_newPattern_4
def dkwX9_newPattern_2 : List UInt8 := [4, 167, 0, 4, 3, 6, 182, 0, 202, 153, 0, 4, 177, 42, 27, 4, 42, 182, 0, 188, 182, 0, 219, 3]
abbrev dktX9_newPattern_2 : List UInt8 := dkwX9_newPattern_2 ++ dktX9_newPattern_3
def dkwX9_newPattern_1 : List UInt8 := [153, 0, 4, 177, 42, 182, 0, 206, 42, 182, 0, 212, 154, 0, 24, 42, 42, 182, 0, 216, 2, 159, 0, 7]
abbrev dktX9_newPattern_1 : List UInt8 := dkwX9_newPattern_1 ++ dktX9_newPattern_2
def dkwX9_newPattern_0 : List UInt8 := [42, 180, 0, 9, 5, 46, 60, 42, 27, 16, 8, 160, 0, 7, 4, 167, 0, 4, 3, 8, 182, 0, 202]
abbrev dktX9_newPattern_0 : List UInt8 := dkwX9_newPattern_0 ++ dktX9_newPattern_1
theorem dksX9_newPattern_0 : cX9_newPattern.data.toList.drop 0 = dktX9_newPattern_0 := by decide +kernel
theorem dksX9_newPattern_1 : cX9_newPattern.data.toList.drop 23 = dktX9_newPattern_1 := dk_seg dksX9_newPattern_0 23 rfl rfl
theorem dksX9_newPattern_2 : cX9_newPattern.data.toList.drop 47 = dktX9_newPattern_2 := dk_seg dksX9_newPattern_1 24 rfl rfl
theorem dksX9_newPattern_3 : cX9_newPattern.data.toList.drop 71 = dktX9_newPattern_3 := dk_seg dksX9_newPattern_2 24 rfl rfl
theorem dksX9_newPattern_4 : cX9_newPattern.data.toList.drop 95 = dktX9_newPattern_4 := dk_seg dksX9_newPattern_3 24 rfl rfl
theorem dksX9_newPattern_5 : cX9_newPattern.data.toList.drop 119 = dktX9_newPattern_5 := dk_seg dksX9_newPattern_4 24 rfl rfl
theorem dksX9_newPattern_6 : cX9_newPattern.data.toList.drop 141 = dktX9_newPattern_6 := dk_seg dksX9_newPattern_5 22 rfl rfl
theorem dksX9_newPattern_7 : cX9_newPattern.data.toList.drop 165 = dktX9_newPattern_7 := dk_seg dksX9_newPattern_6 24 rfl rfl
theorem dksX9_newPattern_8 : cX9_newPattern.data.toList.drop 189 = dktX9_newPattern_8 := dk_seg dksX9_newPattern_7 24 rfl rfl
theorem dksX9_newPattern_9 : cX9_newPattern.data.toList.drop 213 = dktX9_newPattern_9 := dk_seg dksX9_newPattern_8 24 rfl rfl
theorem dX9_newPattern_0 : decode cX9_newPattern 0 = .ok (.aload_n 0, 1) := dk_42 (dk_at dksX9_newPattern_0 0 rfl rfl)
theorem dX9_newPattern_1 : decode cX9_newPattern 1 = .ok (.getfield 9, 3) := dk_180 0 9 (dk_at dksX9_newPattern_0 1 rfl rfl)
theorem dX9_newPattern_4 : decode cX9_newPattern 4 = .ok (.iconst 2, 1) := dk_5 (dk_at dksX9_newPattern_0 4 rfl rfl)
theorem dX9_newPattern_5 : decode cX9_newPattern 5 = .ok (.iaload, 1) := dk_46 (dk_at dksX9_newPattern_0 5 rfl rfl)
theorem dX9_newPattern_6 : decode cX9_newPattern 6 = .ok (.istore_n 1, 1) := dk_60 (dk_at dksX9_newPattern_0 6 rfl rfl)
theorem dX9_newPattern_7 : decode cX9_newPattern 7 = .ok (.aload_n 0, 1) := dk_42 (dk_at dksX9_newPattern_0 7 rfl rfl)
theorem dX9_newPattern_8 : decode cX9_newPattern 8 = .ok (.iload_n 1, 1) := dk_27 (dk_at dksX9_newPattern_0 8 rfl rfl)
theorem dX9_newPattern_9 : decode cX9_newPattern 9 = .ok (.bipush 8, 2) := dk_16 8 (dk_at dksX9_newPattern_0 9 rfl rfl)
theorem dX9_newPattern_11 : decode cX9_newPattern 11 = .ok (.if_icmp .ne 7, 3) := dk_160 0 7 (dk_at dksX9_newPattern_0 11 rfl rfl)
theorem dX9_newPattern_14 : decode cX9_newPattern 14 = .ok (.iconst 1, 1) := dk_4 (dk_at dksX9_newPattern_0 14 rfl rfl)
theorem dX9_newPattern_15 : decode cX9_newPattern 15 = .ok (.goto 4, 3) := dk_167 0 4 (dk_at dksX9_newPattern_0 15 rfl rfl)
theorem dX9_newPattern_18 : decode cX9_newPattern 18 = .ok (.iconst 0, 1) := dk_3 (dk_at dksX9_newPattern_0 18 rfl rfl)
theorem dX9_newPattern_19 : decode cX9_newPattern 19 = .ok (.iconst 5, 1) := dk_8 (dk_at dksX9_newPattern_0 19 rfl rfl)
theorem dX9_newPattern_20 : decode cX9_newPattern 20 = .ok (.invokevirtual 202, 3) := dk_182 0 202 (dk_at dksX9_newPattern_0 20 rfl rfl)
theorem dX9_newPattern_23 : decode cX9_newPattern 23 = .ok (.ifCond .eq 4, 3) := dk_153 0 4 (dk_at dksX9_newPattern_1 0 rfl rfl)
theorem dX9_newPattern_26 : decode cX9_newPattern 26 = .ok (.return_, 1) := dk_177 (dk_at dksX9_newPattern_1 3 rfl rfl)
theorem dX9_newPattern_27 : decode cX9_newPattern 27 = .ok (.aload_n 0, 1) := dk_42 (dk_at dksX9_newPattern_1 4 rfl rfl)
theorem dX9_newPattern_28 : decode cX9_newPattern 28 = .ok (.invokevirtual 206, 3) := dk_182 0 206 (dk_at dksX9_newPattern_1 5 rfl rfl)
theorem dX9_newPattern_31 : decode cX9_newPattern 31 = .ok (.aload_n 0, 1) := dk_42 (dk_at dksX9_newPattern_1 8 rfl rfl)
theorem dX9_newPattern_32 : decode cX9_newPattern 32 = .ok (.invokevirtual 212, 3) := dk_182 0 212 (dk_at dksX9_newPattern_1 9 rfl rfl)
theorem dX9_newPattern_35 : decode cX9_newPattern 35 = .ok (.ifCond .ne 24, 3) := dk_154 0 24 (dk_at dksX9_newPattern_1 12 rfl rfl)
theorem dX9_newPattern_38 : decode cX9_newPattern 38 = .ok (.aload_n 0, 1) := dk_42 (dk_at dksX9_newPattern_1 15 rfl rfl)
theorem dX9_newPattern_39 : decode cX9_newPattern 39 = .ok (.aload_n 0, 1) := dk_42 (dk_at dksX9_newPattern_1 16 rfl rfl)
theorem dX9_newPattern_40 : decode cX9_newPattern 40 = .ok (.invokevirtual 216, 3) := dk_182 0 216 (dk_at dksX9_newPattern_1 17 rfl rfl)
theorem dX9_newPattern_43 : decode cX9_newPattern 43 = .ok (.iconst (-1), 1) := dk_2 (dk_at dksX9_newPattern_1 20 rfl rfl)
theorem dX9_newPattern_44 : decode cX9_newPattern 44 = .ok (.if_icmp .eq 7, 3) := dk_159 0 7 (dk_at dksX9_newPattern_1 21 rfl rfl)
theorem dX9_newPattern_47 : decode cX9_newPattern 47 = .ok (.iconst 1, 1) := dk_4 (dk_at dksX9_newPattern_2 0 rfl rfl)
theorem dX9_newPattern_48 : decode cX9_newPattern 48 = .ok (.goto 4, 3) := dk_167 0 4 (dk_at dksX9_newPattern_2 1 rfl rfl)
theorem dX9_newPattern_51 : decode cX9_newPattern 51 = .ok (.iconst 0, 1) := dk_3 (dk_at dksX9_newPattern_2 4 rfl rfl)
theorem dX9_newPattern_52 : decode cX9_newPattern 52 = .ok (.iconst 3, 1) := dk_6 (dk_at dksX9_newPattern_2 5 rfl rfl)
theorem dX9_newPattern_53 : decode cX9_newPattern 53 = .ok (.invokevirtual 202, 3) := dk_182 0 202 (dk_at dksX9_newPattern_2 6 rfl rfl)
theorem dX9_newPattern_56 : decode cX9_newPattern 56 = .ok (.ifCond .eq 4, 3) := dk_153 0 4 (dk_at dksX9_newPattern_2 9 rfl rfl)
theorem dX9_newPattern_59 : decode cX9_newPattern 59 = .ok (.return_, 1) := dk_177 (dk_at dksX9_newPattern_2 12 rfl rfl)
theorem dX9_newPattern_60 : decode cX9_newPattern 60 = .ok (.aload_n 0, 1) := dk_42 (dk_at dksX9_newPattern_2 13 rfl rfl)
theorem dX9_newPattern_61 : decode cX9_newPattern 61 = .ok (.iload_n 1, 1) := dk_27 (dk_at dksX9_newPattern_2 14 rfl rfl)
theorem dX9_newPattern_62 : decode cX9_newPattern 62 = .ok (.iconst 1, 1) := dk_4 (dk_at dksX9_newPattern_2 15 rfl rfl)
theorem dX9_newPattern_63 : decode cX9_newPattern 63 = .ok (.aload_n 0, 1) := dk_42 (dk_at dksX9_newPattern_2 16 rfl rfl)
theorem dX9_newPattern_64 : decode cX9_newPattern 64 = .ok (.invokevirtual 188, 3) := dk_182 0 188 (dk_at dksX9_newPattern_2 17 rfl rfl)
theorem dX9_newPattern_67 : decode cX9_newPattern 67 = .ok (.invokevirtual 219, 3) := dk_182 0 219 (dk_at dksX9_newPattern_2 20 rfl rfl)
theorem dX9_newPattern_70 : decode cX9_newPattern 70 = .ok (.iconst 0, 1) := dk_3 (dk_at dksX9_newPattern_2 23 rfl rfl)
theorem dX9_newPattern_71 : decode cX9_newPattern 71 = .ok (.istore_n 2, 1) := dk_61 (dk_at dksX9_newPattern_3 0 rfl rfl)
theorem dX9_newPattern_72 : decode cX9_newPattern 72 = .ok (.iload_n 2, 1) := dk_28 (dk_at dksX9_newPattern_3 1 rfl rfl)
theorem dX9_newPattern_73 : decode cX9_newPattern 73 = .ok (.aload_n 0, 1) := dk_42 (dk_at dksX9_newPattern_3 2 rfl rfl)
theorem dX9_newPattern_74 : decode cX9_newPattern 74 = .ok (.invokevirtual 188, 3) := dk_182 0 188 (dk_at dksX9_newPattern_3 3 rfl rfl)
theorem dX9_newPattern_77 : decode cX9_newPattern 77 = .ok (.if_icmp .ge 28, 3) := dk_162 0 28 (dk_at dksX9_newPattern_3 6 rfl rfl)
theorem dX9_newPattern_80 : decode cX9_newPattern 80 = .ok (.aload_n 0, 1) := dk_42 (dk_at dksX9_newPattern_3 9 rfl rfl)
theorem dX9_newPattern_81 : decode cX9_newPattern 81 = .ok (.iload_n 1, 1) := dk_27 (dk_at dksX9_newPattern_3 10 rfl rfl)
theorem dX9_newPattern_82 : decode cX9_newPattern 82 = .ok (.iconst 2, 1) := dk_5 (dk_at dksX9_newPattern_3 11 rfl rfl)
theorem dX9_newPattern_83 : decode cX9_newPattern 83 = .ok (.iload_n 2, 1) := dk_28 (dk_at dksX9_newPattern_3 12 rfl rfl)
theorem dX9_newPattern_84 : decode cX9_newPattern 84 = .ok (.iadd, 1) := dk_96 (dk_at dksX9_newPattern_3 13 rfl rfl)
theorem dX9_newPattern_85 : decode cX9_newPattern 85 = .ok (.aload_n 0, 1) := dk_42 (dk_at dksX9_newPattern_3 14 rfl rfl)
theorem dX9_newPattern_86 : decode cX9_newPattern 86 = .ok (.getfield 38, 3) := dk_180 0 38 (dk_at dksX9_newPattern_3 15 rfl rfl)
theorem dX9_newPattern_89 : decode cX9_newPattern 89 = .ok (.aload_n 0, 1) := dk_42 (dk_at dksX9_newPattern_3 18 rfl rfl)
theorem dX9_newPattern_90 : decode cX9_newPattern 90 = .ok (.getfield 166, 3) := dk_180 0 166 (dk_at dksX9_newPattern_3 19 rfl rfl)
theorem dX9_newPattern_93 : decode cX9_newPattern 93 = .ok (.iload_n 2, 1) := dk_28 (dk_at dksX9_newPattern_3 22 rfl rfl)
theorem dX9_newPattern_94 : decode cX9_newPattern 94 = .ok (.iadd, 1) := dk_96 (dk_at dksX9_newPattern_3 23 rfl rfl)
theorem dX9_newPattern_95 : decode cX9_newPattern 95 = .ok (.iaload, 1) := dk_46 (dk_at dksX9_newPattern_4 0 rfl rfl)
theorem dX9_newPattern_96 : decode cX9_newPattern 96 = .ok (.invokevirtual 219, 3) := dk_182 0 219 (dk_at dksX9_newPattern_4 1 rfl rfl)
theorem dX9_newPattern_99 : decode cX9_newPattern 99 = .ok (.iinc 2 1, 3) := dk_132 2 1 (dk_at dksX9_newPattern_4 4 rfl rfl)
theorem dX9_newPattern_102 : decode cX9_newPattern 102 = .ok (.goto (-30), 3) := dk_167 255 226 (dk_at dksX9_newPattern_4 7 rfl rfl)
theorem dX9_newPattern_105 : decode cX9_newPattern 105 = .ok (.aload_n 0, 1) := dk_42 (dk_at dksX9_newPattern_4 10 rfl rfl)
theorem dX9_newPattern_106 : decode cX9_newPattern 106 = .ok (.invokevirtual 206, 3) := dk_182 0 206 (dk_at dksX9_newPattern_4 11 rfl rfl)
theorem dX9_newPattern_109 : decode cX9_newPattern 109 = .ok (.aload_n 0, 1) := dk_42 (dk_at dksX9_newPattern_4 14 rfl rfl)
theorem dX9_newPattern_110 : decode cX9_newPattern 110 = .ok (.aload_n 0, 1) := dk_42 (dk_at dksX9_newPattern_4 15 rfl rfl)
theorem dX9_newPattern_111 : decode cX9_newPattern 111 = .ok (.getfield 172, 3) := dk_180 0 172 (dk_at dksX9_newPattern_4 16 rfl rfl)
theorem dX9_newPattern_114 : decode cX9_newPattern 114 = .ok (.iconst 1, 1) := dk_4 (dk_at dksX9_newPattern_4 19 rfl rfl)
theorem dX9_newPattern_115 : decode cX9_newPattern 115 = .ok (.if_icmp .eq 7, 3) := dk_159 0 7 (dk_at dksX9_newPattern_4 20 rfl rfl)
theorem dX9_newPattern_118 : decode cX9_newPattern 118 = .ok (.iconst 1, 1) := dk_4 (dk_at dksX9_newPattern_4 23 rfl rfl)
theorem dX9_newPattern_119 : decode cX9_newPattern 119 = .ok (.goto 4, 3) := dk_167 0 4 (dk_at dksX9_newPattern_5 0 rfl rfl)
theorem dX9_newPattern_122 : decode cX9_newPattern 122 = .ok (.iconst 0, 1) := dk_3 (dk_at dksX9_newPattern_5 3 rfl rfl)
theorem dX9_newPattern_123 : decode cX9_newPattern 123 = .ok (.iconst 1, 1) := dk_4 (dk_at dksX9_newPattern_5 4 rfl rfl)
theorem dX9_newPattern_124 : decode cX9_newPattern 124 = .ok (.invokevirtual 202, 3) := dk_182 0 202 (dk_at dksX9_newPattern_5 5 rfl rfl)
theorem dX9_newPattern_127 : decode cX9_newPattern 127 = .ok (.ifCond .ne 25, 3) := dk_154 0 25 (dk_at dksX9_newPattern_5 8 rfl rfl)
theorem dX9_newPattern_130 : decode cX9_newPattern 130 = .ok (.aload_n 0, 1) := dk_42 (dk_at dksX9_newPattern_5 11 rfl rfl)
theorem dX9_newPattern_131 : decode cX9_newPattern 131 = .ok (.aload_n 0, 1) := dk_42 (dk_at dksX9_newPattern_5 12 rfl rfl)
theorem dX9_newPattern_132 : decode cX9_newPattern 132 = .ok (.invokevirtual 188, 3) := dk_182 0 188 (dk_at dksX9_newPattern_5 13 rfl rfl)
theorem dX9_newPattern_135 : decode cX9_newPattern 135 = .ok (.bipush 20, 2) := dk_16 20 (dk_at dksX9_newPattern_5 16 rfl rfl)
theorem dX9_newPattern_137 : decode cX9_newPattern 137 = .ok (.if_icmp .le 7, 3) := dk_164 0 7 (dk_at dksX9_newPattern_5 18 rfl rfl)
theorem dX9_newPattern_140 : decode cX9_newPattern 140 = .ok (.iconst 1, 1) := dk_4 (dk_at dksX9_newPattern_5 21 rfl rfl)
theorem dX9_newPattern_141 : decode cX9_newPattern 141 = .ok (.goto 4, 3) := dk_167 0 4 (dk_at dksX9_newPattern_6 0 rfl rfl)
theorem dX9_newPattern_144 : decode cX9_newPattern 144 = .ok (.iconst 0, 1) := dk_3 (dk_at dksX9_newPattern_6 3 rfl rfl)
theorem dX9_newPattern_145 : decode cX9_newPattern 145 = .ok (.iconst 2, 1) := dk_5 (dk_at dksX9_newPattern_6 4 rfl rfl)
theorem dX9_newPattern_146 : decode cX9_newPattern 146 = .ok (.invokevirtual 202, 3) := dk_182 0 202 (dk_at dksX9_newPattern_6 5 rfl rfl)
theorem dX9_newPattern_149 : decode cX9_newPattern 149 = .ok (.ifCond .eq 4, 3) := dk_153 0 4 (dk_at dksX9_newPattern_6 8 rfl rfl)
theorem dX9_newPattern_152 : decode cX9_newPattern 152 = .ok (.return_, 1) := dk_177 (dk_at dksX9_newPattern_6 11 rfl rfl)
theorem dX9_newPattern_153 : decode cX9_newPattern 153 = .ok (.aload_n 0, 1) := dk_42 (dk_at dksX9_newPattern_6 12 rfl rfl)
theorem dX9_newPattern_154 : decode cX9_newPattern 154 = .ok (.iload_n 1, 1) := dk_27 (dk_at dksX9_newPattern_6 13 rfl rfl)
theorem dX9_newPattern_155 : decode cX9_newPattern 155 = .ok (.iconst 0, 1) := dk_3 (dk_at dksX9_newPattern_6 14 rfl rfl)
theorem dX9_newPattern_156 : decode cX9_newPattern 156 = .ok (.aload_n 0, 1) := dk_42 (dk_at dksX9_newPattern_6 15 rfl rfl)
theorem dX9_newPattern_157 : decode cX9_newPattern 157 = .ok (.invokevirtual 188, 3) := dk_182 0 188 (dk_at dksX9_newPattern_6 16 rfl rfl)
theorem dX9_newPattern_160 : decode cX9_newPattern 160 = .ok (.invokevirtual 219, 3) := dk_182 0 219 (dk_at dksX9_newPattern_6 19 rfl rfl)
theorem dX9_newPattern_163 : decode cX9_newPattern 163 = .ok (.iconst 0, 1) := dk_3 (dk_at dksX9_newPattern_6 22 rfl rfl)
theorem dX9_newPattern_164 : decode cX9_newPattern 164 = .ok (.istore_n 2, 1) := dk_61 (dk_at dksX9_newPattern_6 23 rfl rfl)
theorem dX9_newPattern_165 : decode cX9_newPattern 165 = .ok (.iload_n 2, 1) := dk_28 (dk_at dksX9_newPattern_7 0 rfl rfl)
theorem dX9_newPattern_166 : decode cX9_newPattern 166 = .ok (.aload_n 0, 1) := dk_42 (dk_at dksX9_newPattern_7 1 rfl rfl)
theorem dX9_newPattern_167 : decode cX9_newPattern 167 = .ok (.invokevirtual 188, 3) := dk_182 0 188 (dk_at dksX9_newPattern_7 2 rfl rfl)
theorem dX9_newPattern_170 : decode cX9_newPattern 170 = .ok (.if_icmp .ge 32, 3) := dk_162 0 32 (dk_at dksX9_newPattern_7 5 rfl rfl)
theorem dX9_newPattern_173 : decode cX9_newPattern 173 = .ok (.aload_n 0, 1) := dk_42 (dk_at dksX9_newPattern_7 8 rfl rfl)
theorem dX9_newPattern_174 : decode cX9_newPattern 174 = .ok (.iload_n 1, 1) := dk_27 (dk_at dksX9_newPattern_7 9 rfl rfl)
theorem dX9_newPattern_175 : decode cX9_newPattern 175 = .ok (.bipush 10, 2) := dk_16 10 (dk_at dksX9_newPattern_7 10 rfl rfl)
theorem dX9_newPattern_177 : decode cX9_newPattern 177 = .ok (.iload_n 2, 1) := dk_28 (dk_at dksX9_newPattern_7 12 rfl rfl)
theorem dX9_newPattern_178 : decode cX9_newPattern 178 = .ok (.iadd, 1) := dk_96 (dk_at dksX9_newPattern_7 13 rfl rfl)
theorem dX9_newPattern_179 : decode cX9_newPattern 179 = .ok (.aload_n 0, 1) := dk_42 (dk_at dksX9_newPattern_7 14 rfl rfl)
theorem dX9_newPattern_180 : decode cX9_newPattern 180 = .ok (.getfield 38, 3) := dk_180 0 38 (dk_at dksX9_newPattern_7 15 rfl rfl)
theorem dX9_newPattern_183 : decode cX9_newPattern 183 = .ok (.aload_n 0, 1) := dk_42 (dk_at dksX9_newPattern_7 18 rfl rfl)
theorem dX9_newPattern_184 : decode cX9_newPattern 184 = .ok (.getfield 166, 3) := dk_180 0 166 (dk_at dksX9_newPattern_7 19 rfl rfl)
theorem dX9_newPattern_187 : decode cX9_newPattern 187 = .ok (.iload_n 2, 1) := dk_28 (dk_at dksX9_newPattern_7 22 rfl rfl)
theorem dX9_newPattern_188 : decode cX9_newPattern 188 = .ok (.iadd, 1) := dk_96 (dk_at dksX9_newPattern_7 23 rfl rfl)
theorem dX9_newPattern_189 : decode cX9_newPattern 189 = .ok (.iaload, 1) := dk_46 (dk_at dksX9_newPattern_8 0 rfl rfl)
theorem dX9_newPattern_190 : decode cX9_newPattern 190 = .ok (.bipush 97, 2) := dk_16 97 (dk_at dksX9_newPattern_8 1 rfl rfl)
theorem dX9_newPattern_192 : decode cX9_newPattern 192 = .ok (.isub, 1) := dk_100 (dk_at dksX9_newPattern_8 3 rfl rfl)
theorem dX9_newPattern_193 : decode cX9_newPattern 193 = .ok (.invokevirtual 219, 3) := dk_182 0 219 (dk_at dksX9_newPattern_8 4 rfl rfl)
theorem dX9_newPattern_196 : decode cX9_newPattern 196 = .ok (.iinc 2 1, 3) := dk_132 2 1 (dk_at dksX9_newPattern_8 7 rfl rfl)
theorem dX9_newPattern_199 : decode cX9_newPattern 199 = .ok (.goto (-34), 3) := dk_167 255 222 (dk_at dksX9_newPattern_8 10 rfl rfl)
theorem dX9_newPattern_202 : decode cX9_newPattern 202 = .ok (.aload_n 0, 1) := dk_42 (dk_at dksX9_newPattern_8 13 rfl rfl)
theorem dX9_newPattern_203 : decode cX9_newPattern 203 = .ok (.getfield 9, 3) := dk_180 0 9 (dk_at dksX9_newPattern_8 14 rfl rfl)
theorem dX9_newPattern_206 : decode cX9_newPattern 206 = .ok (.iconst 2, 1) := dk_5 (dk_at dksX9_newPattern_8 17 rfl rfl)
theorem dX9_newPattern_207 : decode cX9_newPattern 207 = .ok (.dup2, 1) := dk_92 (dk_at dksX9_newPattern_8 18 rfl rfl)
theorem dX9_newPattern_208 : decode cX9_newPattern 208 = .ok (.iaload, 1) := dk_46 (dk_at dksX9_newPattern_8 19 rfl rfl)
theorem dX9_newPattern_209 : decode cX9_newPattern 209 = .ok (.iconst 1, 1) := dk_4 (dk_at dksX9_newPattern_8 20 rfl rfl)
theorem dX9_newPattern_210 : decode cX9_newPattern 210 = .ok (.iadd, 1) := dk_96 (dk_at dksX9_newPattern_8 21 rfl rfl)
theorem dX9_newPattern_211 : decode cX9_newPattern 211 = .ok (.iastore, 1) := dk_79 (dk_at dksX9_newPattern_8 22 rfl rfl)
theorem dX9_newPattern_212 : decode cX9_newPattern 212 = .ok (.aload_n 0, 1) := dk_42 (dk_at dksX9_newPattern_8 23 rfl rfl)
theorem dX9_newPattern_213 : decode cX9_newPattern 213 = .ok (.invokevirtual 206, 3) := dk_182 0 206 (dk_at dksX9_newPattern_9 0 rfl rfl)
theorem dX9_newPattern_216 : decode cX9_newPattern 216 = .ok (.return_, 1) := dk_177 (dk_at dksX9_newPattern_9 3 rfl rfl)
abbrev cX9_noName : ByteArray := prog_29_method_49_code
def yX9_noName : MethodName := ⟨RX9, "noName", "()Z"⟩
def dkwX9_noName_1 : List UInt8 := [182, 0, 202, 172]
abbrev dktX9_noName_1 : List UInt8 := dkwX9_noName_1 ++ []
def dkwX9_noName_0 : List UInt8 := [42, 42, 180, 0, 172, 4, 160, 0, 12, 42, 182, 0, 188, 16, 8, 164, 0, 7, 4, 167, 0, 4, 3, 4]
abbrev dktX9_noName_0 : List UInt8 := dkwX9_noName_0 ++ dktX9_noName_1
theorem dksX9_noName_0 : cX9_noName.data.toList.drop 0 = dktX9_noName_0 := by decide +kernel
theorem dksX9_noName_1 : cX9_noName.data.toList.drop 24 = dktX9_noName_1 := dk_seg dksX9_noName_0 24 rfl rfl
theorem dX9_noName_0 : decode cX9_noName 0 = .ok (.aload_n 0, 1) := dk_42 (dk_at dksX9_noName_0 0 rfl rfl)
theorem dX9_noName_1 : decode cX9_noName 1 = .ok (.aload_n 0, 1) := dk_42 (dk_at dksX9_noName_0 1 rfl rfl)
theorem dX9_noName_2 : decode cX9_noName 2 = .ok (.getfield 172, 3) := dk_180 0 172 (dk_at dksX9_noName_0 2 rfl rfl)
theorem dX9_noName_5 : decode cX9_noName 5 = .ok (.iconst 1, 1) := dk_4 (dk_at dksX9_noName_0 5 rfl rfl)
theorem dX9_noName_6 : decode cX9_noName 6 = .ok (.if_icmp .ne 12, 3) := dk_160 0 12 (dk_at dksX9_noName_0 6 rfl rfl)
theorem dX9_noName_9 : decode cX9_noName 9 = .ok (.aload_n 0, 1) := dk_42 (dk_at dksX9_noName_0 9 rfl rfl)
theorem dX9_noName_10 : decode cX9_noName 10 = .ok (.invokevirtual 188, 3) := dk_182 0 188 (dk_at dksX9_noName_0 10 rfl rfl)
theorem dX9_noName_13 : decode cX9_noName 13 = .ok (.bipush 8, 2) := dk_16 8 (dk_at dksX9_noName_0 13 rfl rfl)
theorem dX9_noName_15 : decode cX9_noName 15 = .ok (.if_icmp .le 7, 3) := dk_164 0 7 (dk_at dksX9_noName_0 15 rfl rfl)
theorem dX9_noName_18 : decode cX9_noName 18 = .ok (.iconst 1, 1) := dk_4 (dk_at dksX9_noName_0 18 rfl rfl)
theorem dX9_noName_19 : decode cX9_noName 19 = .ok (.goto 4, 3) := dk_167 0 4 (dk_at dksX9_noName_0 19 rfl rfl)
theorem dX9_noName_22 : decode cX9_noName 22 = .ok (.iconst 0, 1) := dk_3 (dk_at dksX9_noName_0 22 rfl rfl)
theorem dX9_noName_23 : decode cX9_noName 23 = .ok (.iconst 1, 1) := dk_4 (dk_at dksX9_noName_0 23 rfl rfl)
theorem dX9_noName_24 : decode cX9_noName 24 = .ok (.invokevirtual 202, 3) := dk_182 0 202 (dk_at dksX9_noName_1 0 rfl rfl)
theorem dX9_noName_27 : decode cX9_noName 27 = .ok (.ireturn, 1) := dk_172 (dk_at dksX9_noName_1 3 rfl rfl)
abbrev cX9_found : ByteArray := prog_29_method_48_code
def yX9_found : MethodName := ⟨RX9, "found", "()I"⟩
def dkwX9_found_1 : List UInt8 := [132, 1, 1, 167, 255, 233, 2, 172]
abbrev dktX9_found_1 : List UInt8 := dkwX9_found_1 ++ []
def dkwX9_found_0 : List UInt8 := [3, 60, 27, 42, 180, 0, 9, 5, 46, 162, 0, 19, 42, 27, 182, 0, 209, 153, 0, 5, 27, 172]
abbrev dktX9_found_0 : List UInt8 := dkwX9_found_0 ++ dktX9_found_1
theorem dksX9_found_0 : cX9_found.data.toList.drop 0 = dktX9_found_0 := by decide +kernel
theorem dksX9_found_1 : cX9_found.data.toList.drop 22 = dktX9_found_1 := dk_seg dksX9_found_0 22 rfl rfl
theorem dX9_found_0 : decode cX9_found 0 = .ok (.iconst 0, 1) := dk_3 (dk_at dksX9_found_0 0 rfl rfl)
theorem dX9_found_1 : decode cX9_found 1 = .ok (.istore_n 1, 1) := dk_60 (dk_at dksX9_found_0 1 rfl rfl)
theorem dX9_found_2 : decode cX9_found 2 = .ok (.iload_n 1, 1) := dk_27 (dk_at dksX9_found_0 2 rfl rfl)
theorem dX9_found_3 : decode cX9_found 3 = .ok (.aload_n 0, 1) := dk_42 (dk_at dksX9_found_0 3 rfl rfl)
theorem dX9_found_4 : decode cX9_found 4 = .ok (.getfield 9, 3) := dk_180 0 9 (dk_at dksX9_found_0 4 rfl rfl)
theorem dX9_found_7 : decode cX9_found 7 = .ok (.iconst 2, 1) := dk_5 (dk_at dksX9_found_0 7 rfl rfl)
theorem dX9_found_8 : decode cX9_found 8 = .ok (.iaload, 1) := dk_46 (dk_at dksX9_found_0 8 rfl rfl)
theorem dX9_found_9 : decode cX9_found 9 = .ok (.if_icmp .ge 19, 3) := dk_162 0 19 (dk_at dksX9_found_0 9 rfl rfl)
theorem dX9_found_12 : decode cX9_found 12 = .ok (.aload_n 0, 1) := dk_42 (dk_at dksX9_found_0 12 rfl rfl)
theorem dX9_found_13 : decode cX9_found 13 = .ok (.iload_n 1, 1) := dk_27 (dk_at dksX9_found_0 13 rfl rfl)
theorem dX9_found_14 : decode cX9_found 14 = .ok (.invokevirtual 209, 3) := dk_182 0 209 (dk_at dksX9_found_0 14 rfl rfl)
theorem dX9_found_17 : decode cX9_found 17 = .ok (.ifCond .eq 5, 3) := dk_153 0 5 (dk_at dksX9_found_0 17 rfl rfl)
theorem dX9_found_20 : decode cX9_found 20 = .ok (.iload_n 1, 1) := dk_27 (dk_at dksX9_found_0 20 rfl rfl)
theorem dX9_found_21 : decode cX9_found 21 = .ok (.ireturn, 1) := dk_172 (dk_at dksX9_found_0 21 rfl rfl)
theorem dX9_found_22 : decode cX9_found 22 = .ok (.iinc 1 1, 3) := dk_132 1 1 (dk_at dksX9_found_1 0 rfl rfl)
theorem dX9_found_25 : decode cX9_found 25 = .ok (.goto (-23), 3) := dk_167 255 233 (dk_at dksX9_found_1 3 rfl rfl)
theorem dX9_found_28 : decode cX9_found 28 = .ok (.iconst (-1), 1) := dk_2 (dk_at dksX9_found_1 6 rfl rfl)
theorem dX9_found_29 : decode cX9_found 29 = .ok (.ireturn, 1) := dk_172 (dk_at dksX9_found_1 7 rfl rfl)
abbrev cX9_isName : ByteArray := prog_29_method_47_code
def yX9_isName : MethodName := ⟨RX9, "isName", "(I)Z"⟩
def dkwX9_isName_2 : List UInt8 := [180, 0, 38, 42, 180, 0, 166, 29, 96, 46, 159, 0, 5, 3, 172, 132, 3, 1, 167, 255, 219, 4, 172]
abbrev dktX9_isName_2 : List UInt8 := dkwX9_isName_2 ++ []
def dkwX9_isName_1 : List UInt8 := [3, 172, 3, 62, 29, 42, 182, 0, 188, 162, 0, 35, 42, 180, 0, 9, 28, 4, 96, 29, 96, 46, 42]
abbrev dktX9_isName_1 : List UInt8 := dkwX9_isName_1 ++ dktX9_isName_2
def dkwX9_isName_0 : List UInt8 := [17, 0, 216, 16, 30, 27, 104, 96, 4, 96, 61, 42, 180, 0, 9, 28, 46, 42, 182, 0, 188, 159, 0, 5]
abbrev dktX9_isName_0 : List UInt8 := dkwX9_isName_0 ++ dktX9_isName_1
theorem dksX9_isName_0 : cX9_isName.data.toList.drop 0 = dktX9_isName_0 := by decide +kernel
theorem dksX9_isName_1 : cX9_isName.data.toList.drop 24 = dktX9_isName_1 := dk_seg dksX9_isName_0 24 rfl rfl
theorem dksX9_isName_2 : cX9_isName.data.toList.drop 47 = dktX9_isName_2 := dk_seg dksX9_isName_1 23 rfl rfl
theorem dX9_isName_0 : decode cX9_isName 0 = .ok (.sipush 216, 3) := dk_17 0 216 (dk_at dksX9_isName_0 0 rfl rfl)
theorem dX9_isName_3 : decode cX9_isName 3 = .ok (.bipush 30, 2) := dk_16 30 (dk_at dksX9_isName_0 3 rfl rfl)
theorem dX9_isName_5 : decode cX9_isName 5 = .ok (.iload_n 1, 1) := dk_27 (dk_at dksX9_isName_0 5 rfl rfl)
theorem dX9_isName_6 : decode cX9_isName 6 = .ok (.imul, 1) := dk_104 (dk_at dksX9_isName_0 6 rfl rfl)
theorem dX9_isName_7 : decode cX9_isName 7 = .ok (.iadd, 1) := dk_96 (dk_at dksX9_isName_0 7 rfl rfl)
theorem dX9_isName_8 : decode cX9_isName 8 = .ok (.iconst 1, 1) := dk_4 (dk_at dksX9_isName_0 8 rfl rfl)
theorem dX9_isName_9 : decode cX9_isName 9 = .ok (.iadd, 1) := dk_96 (dk_at dksX9_isName_0 9 rfl rfl)
theorem dX9_isName_10 : decode cX9_isName 10 = .ok (.istore_n 2, 1) := dk_61 (dk_at dksX9_isName_0 10 rfl rfl)
theorem dX9_isName_11 : decode cX9_isName 11 = .ok (.aload_n 0, 1) := dk_42 (dk_at dksX9_isName_0 11 rfl rfl)
theorem dX9_isName_12 : decode cX9_isName 12 = .ok (.getfield 9, 3) := dk_180 0 9 (dk_at dksX9_isName_0 12 rfl rfl)
theorem dX9_isName_15 : decode cX9_isName 15 = .ok (.iload_n 2, 1) := dk_28 (dk_at dksX9_isName_0 15 rfl rfl)
theorem dX9_isName_16 : decode cX9_isName 16 = .ok (.iaload, 1) := dk_46 (dk_at dksX9_isName_0 16 rfl rfl)
theorem dX9_isName_17 : decode cX9_isName 17 = .ok (.aload_n 0, 1) := dk_42 (dk_at dksX9_isName_0 17 rfl rfl)
theorem dX9_isName_18 : decode cX9_isName 18 = .ok (.invokevirtual 188, 3) := dk_182 0 188 (dk_at dksX9_isName_0 18 rfl rfl)
theorem dX9_isName_21 : decode cX9_isName 21 = .ok (.if_icmp .eq 5, 3) := dk_159 0 5 (dk_at dksX9_isName_0 21 rfl rfl)
theorem dX9_isName_24 : decode cX9_isName 24 = .ok (.iconst 0, 1) := dk_3 (dk_at dksX9_isName_1 0 rfl rfl)
theorem dX9_isName_25 : decode cX9_isName 25 = .ok (.ireturn, 1) := dk_172 (dk_at dksX9_isName_1 1 rfl rfl)
theorem dX9_isName_26 : decode cX9_isName 26 = .ok (.iconst 0, 1) := dk_3 (dk_at dksX9_isName_1 2 rfl rfl)
theorem dX9_isName_27 : decode cX9_isName 27 = .ok (.istore_n 3, 1) := dk_62 (dk_at dksX9_isName_1 3 rfl rfl)
theorem dX9_isName_28 : decode cX9_isName 28 = .ok (.iload_n 3, 1) := dk_29 (dk_at dksX9_isName_1 4 rfl rfl)
theorem dX9_isName_29 : decode cX9_isName 29 = .ok (.aload_n 0, 1) := dk_42 (dk_at dksX9_isName_1 5 rfl rfl)
theorem dX9_isName_30 : decode cX9_isName 30 = .ok (.invokevirtual 188, 3) := dk_182 0 188 (dk_at dksX9_isName_1 6 rfl rfl)
theorem dX9_isName_33 : decode cX9_isName 33 = .ok (.if_icmp .ge 35, 3) := dk_162 0 35 (dk_at dksX9_isName_1 9 rfl rfl)
theorem dX9_isName_36 : decode cX9_isName 36 = .ok (.aload_n 0, 1) := dk_42 (dk_at dksX9_isName_1 12 rfl rfl)
theorem dX9_isName_37 : decode cX9_isName 37 = .ok (.getfield 9, 3) := dk_180 0 9 (dk_at dksX9_isName_1 13 rfl rfl)
theorem dX9_isName_40 : decode cX9_isName 40 = .ok (.iload_n 2, 1) := dk_28 (dk_at dksX9_isName_1 16 rfl rfl)
theorem dX9_isName_41 : decode cX9_isName 41 = .ok (.iconst 1, 1) := dk_4 (dk_at dksX9_isName_1 17 rfl rfl)
theorem dX9_isName_42 : decode cX9_isName 42 = .ok (.iadd, 1) := dk_96 (dk_at dksX9_isName_1 18 rfl rfl)
theorem dX9_isName_43 : decode cX9_isName 43 = .ok (.iload_n 3, 1) := dk_29 (dk_at dksX9_isName_1 19 rfl rfl)
theorem dX9_isName_44 : decode cX9_isName 44 = .ok (.iadd, 1) := dk_96 (dk_at dksX9_isName_1 20 rfl rfl)
theorem dX9_isName_45 : decode cX9_isName 45 = .ok (.iaload, 1) := dk_46 (dk_at dksX9_isName_1 21 rfl rfl)
theorem dX9_isName_46 : decode cX9_isName 46 = .ok (.aload_n 0, 1) := dk_42 (dk_at dksX9_isName_1 22 rfl rfl)
theorem dX9_isName_47 : decode cX9_isName 47 = .ok (.getfield 38, 3) := dk_180 0 38 (dk_at dksX9_isName_2 0 rfl rfl)
theorem dX9_isName_50 : decode cX9_isName 50 = .ok (.aload_n 0, 1) := dk_42 (dk_at dksX9_isName_2 3 rfl rfl)
theorem dX9_isName_51 : decode cX9_isName 51 = .ok (.getfield 166, 3) := dk_180 0 166 (dk_at dksX9_isName_2 4 rfl rfl)
theorem dX9_isName_54 : decode cX9_isName 54 = .ok (.iload_n 3, 1) := dk_29 (dk_at dksX9_isName_2 7 rfl rfl)
theorem dX9_isName_55 : decode cX9_isName 55 = .ok (.iadd, 1) := dk_96 (dk_at dksX9_isName_2 8 rfl rfl)
theorem dX9_isName_56 : decode cX9_isName 56 = .ok (.iaload, 1) := dk_46 (dk_at dksX9_isName_2 9 rfl rfl)
theorem dX9_isName_57 : decode cX9_isName 57 = .ok (.if_icmp .eq 5, 3) := dk_159 0 5 (dk_at dksX9_isName_2 10 rfl rfl)
theorem dX9_isName_60 : decode cX9_isName 60 = .ok (.iconst 0, 1) := dk_3 (dk_at dksX9_isName_2 13 rfl rfl)
theorem dX9_isName_61 : decode cX9_isName 61 = .ok (.ireturn, 1) := dk_172 (dk_at dksX9_isName_2 14 rfl rfl)
theorem dX9_isName_62 : decode cX9_isName 62 = .ok (.iinc 3 1, 3) := dk_132 3 1 (dk_at dksX9_isName_2 15 rfl rfl)
theorem dX9_isName_65 : decode cX9_isName 65 = .ok (.goto (-37), 3) := dk_167 255 219 (dk_at dksX9_isName_2 18 rfl rfl)
theorem dX9_isName_68 : decode cX9_isName 68 = .ok (.iconst 1, 1) := dk_4 (dk_at dksX9_isName_2 21 rfl rfl)
theorem dX9_isName_69 : decode cX9_isName 69 = .ok (.ireturn, 1) := dk_172 (dk_at dksX9_isName_2 22 rfl rfl)
abbrev cX9_puts : ByteArray := prog_29_method_8_code
def yX9_puts : MethodName := ⟨RX9, "puts", "(III)V"⟩
def dkwX9_puts_0 : List UInt8 := [42, 180, 0, 9, 17, 0, 216, 16, 30, 27, 104, 96, 28, 96, 29, 79, 177]
abbrev dktX9_puts_0 : List UInt8 := dkwX9_puts_0 ++ []
theorem dksX9_puts_0 : cX9_puts.data.toList.drop 0 = dktX9_puts_0 := by decide +kernel
theorem dX9_puts_0 : decode cX9_puts 0 = .ok (.aload_n 0, 1) := dk_42 (dk_at dksX9_puts_0 0 rfl rfl)
theorem dX9_puts_1 : decode cX9_puts 1 = .ok (.getfield 9, 3) := dk_180 0 9 (dk_at dksX9_puts_0 1 rfl rfl)
theorem dX9_puts_4 : decode cX9_puts 4 = .ok (.sipush 216, 3) := dk_17 0 216 (dk_at dksX9_puts_0 4 rfl rfl)
theorem dX9_puts_7 : decode cX9_puts 7 = .ok (.bipush 30, 2) := dk_16 30 (dk_at dksX9_puts_0 7 rfl rfl)
theorem dX9_puts_9 : decode cX9_puts 9 = .ok (.iload_n 1, 1) := dk_27 (dk_at dksX9_puts_0 9 rfl rfl)
theorem dX9_puts_10 : decode cX9_puts 10 = .ok (.imul, 1) := dk_104 (dk_at dksX9_puts_0 10 rfl rfl)
theorem dX9_puts_11 : decode cX9_puts 11 = .ok (.iadd, 1) := dk_96 (dk_at dksX9_puts_0 11 rfl rfl)
theorem dX9_puts_12 : decode cX9_puts 12 = .ok (.iload_n 2, 1) := dk_28 (dk_at dksX9_puts_0 12 rfl rfl)
theorem dX9_puts_13 : decode cX9_puts 13 = .ok (.iadd, 1) := dk_96 (dk_at dksX9_puts_0 13 rfl rfl)
theorem dX9_puts_14 : decode cX9_puts 14 = .ok (.iload_n 3, 1) := dk_29 (dk_at dksX9_puts_0 14 rfl rfl)
theorem dX9_puts_15 : decode cX9_puts 15 = .ok (.iastore, 1) := dk_79 (dk_at dksX9_puts_0 15 rfl rfl)
theorem dX9_puts_16 : decode cX9_puts 16 = .ok (.return_, 1) := dk_177 (dk_at dksX9_puts_0 16 rfl rfl)
abbrev cX9_firm0 : ByteArray := prog_29_method_53_code
def yX9_firm0 : MethodName := ⟨RX9, "firm0", "()V"⟩
def dkwX9_firm0_1 : List UInt8 := [181, 0, 223, 42, 182, 0, 206, 42, 180, 0, 9, 3, 42, 3, 16, 26, 182, 0, 226, 79, 177]
abbrev dktX9_firm0_1 : List UInt8 := dkwX9_firm0_1 ++ []
def dkwX9_firm0_0 : List UInt8 := [42, 42, 180, 0, 223, 4, 160, 0, 7, 4, 167, 0, 4, 3, 6, 182, 0, 202, 153, 0, 4, 177, 42, 4]
abbrev dktX9_firm0_0 : List UInt8 := dkwX9_firm0_0 ++ dktX9_firm0_1
theorem dksX9_firm0_0 : cX9_firm0.data.toList.drop 0 = dktX9_firm0_0 := by decide +kernel
theorem dksX9_firm0_1 : cX9_firm0.data.toList.drop 24 = dktX9_firm0_1 := dk_seg dksX9_firm0_0 24 rfl rfl
theorem dX9_firm0_0 : decode cX9_firm0 0 = .ok (.aload_n 0, 1) := dk_42 (dk_at dksX9_firm0_0 0 rfl rfl)
theorem dX9_firm0_1 : decode cX9_firm0 1 = .ok (.aload_n 0, 1) := dk_42 (dk_at dksX9_firm0_0 1 rfl rfl)
theorem dX9_firm0_2 : decode cX9_firm0 2 = .ok (.getfield 223, 3) := dk_180 0 223 (dk_at dksX9_firm0_0 2 rfl rfl)
theorem dX9_firm0_5 : decode cX9_firm0 5 = .ok (.iconst 1, 1) := dk_4 (dk_at dksX9_firm0_0 5 rfl rfl)
theorem dX9_firm0_6 : decode cX9_firm0 6 = .ok (.if_icmp .ne 7, 3) := dk_160 0 7 (dk_at dksX9_firm0_0 6 rfl rfl)
theorem dX9_firm0_9 : decode cX9_firm0 9 = .ok (.iconst 1, 1) := dk_4 (dk_at dksX9_firm0_0 9 rfl rfl)
theorem dX9_firm0_10 : decode cX9_firm0 10 = .ok (.goto 4, 3) := dk_167 0 4 (dk_at dksX9_firm0_0 10 rfl rfl)
theorem dX9_firm0_13 : decode cX9_firm0 13 = .ok (.iconst 0, 1) := dk_3 (dk_at dksX9_firm0_0 13 rfl rfl)
theorem dX9_firm0_14 : decode cX9_firm0 14 = .ok (.iconst 3, 1) := dk_6 (dk_at dksX9_firm0_0 14 rfl rfl)
theorem dX9_firm0_15 : decode cX9_firm0 15 = .ok (.invokevirtual 202, 3) := dk_182 0 202 (dk_at dksX9_firm0_0 15 rfl rfl)
theorem dX9_firm0_18 : decode cX9_firm0 18 = .ok (.ifCond .eq 4, 3) := dk_153 0 4 (dk_at dksX9_firm0_0 18 rfl rfl)
theorem dX9_firm0_21 : decode cX9_firm0 21 = .ok (.return_, 1) := dk_177 (dk_at dksX9_firm0_0 21 rfl rfl)
theorem dX9_firm0_22 : decode cX9_firm0 22 = .ok (.aload_n 0, 1) := dk_42 (dk_at dksX9_firm0_0 22 rfl rfl)
theorem dX9_firm0_23 : decode cX9_firm0 23 = .ok (.iconst 1, 1) := dk_4 (dk_at dksX9_firm0_0 23 rfl rfl)
theorem dX9_firm0_24 : decode cX9_firm0 24 = .ok (.putfield 223, 3) := dk_181 0 223 (dk_at dksX9_firm0_1 0 rfl rfl)
theorem dX9_firm0_27 : decode cX9_firm0 27 = .ok (.aload_n 0, 1) := dk_42 (dk_at dksX9_firm0_1 3 rfl rfl)
theorem dX9_firm0_28 : decode cX9_firm0 28 = .ok (.invokevirtual 206, 3) := dk_182 0 206 (dk_at dksX9_firm0_1 4 rfl rfl)
theorem dX9_firm0_31 : decode cX9_firm0 31 = .ok (.aload_n 0, 1) := dk_42 (dk_at dksX9_firm0_1 7 rfl rfl)
theorem dX9_firm0_32 : decode cX9_firm0 32 = .ok (.getfield 9, 3) := dk_180 0 9 (dk_at dksX9_firm0_1 8 rfl rfl)
theorem dX9_firm0_35 : decode cX9_firm0 35 = .ok (.iconst 0, 1) := dk_3 (dk_at dksX9_firm0_1 11 rfl rfl)
theorem dX9_firm0_36 : decode cX9_firm0 36 = .ok (.aload_n 0, 1) := dk_42 (dk_at dksX9_firm0_1 12 rfl rfl)
theorem dX9_firm0_37 : decode cX9_firm0 37 = .ok (.iconst 0, 1) := dk_3 (dk_at dksX9_firm0_1 13 rfl rfl)
theorem dX9_firm0_38 : decode cX9_firm0 38 = .ok (.bipush 26, 2) := dk_16 26 (dk_at dksX9_firm0_1 14 rfl rfl)
theorem dX9_firm0_40 : decode cX9_firm0 40 = .ok (.invokevirtual 226, 3) := dk_182 0 226 (dk_at dksX9_firm0_1 16 rfl rfl)
theorem dX9_firm0_43 : decode cX9_firm0 43 = .ok (.iastore, 1) := dk_79 (dk_at dksX9_firm0_1 19 rfl rfl)
theorem dX9_firm0_44 : decode cX9_firm0 44 = .ok (.return_, 1) := dk_177 (dk_at dksX9_firm0_1 20 rfl rfl)
abbrev cX9_number : ByteArray := prog_29_method_46_code
def yX9_number : MethodName := ⟨RX9, "number", "(II)I"⟩
def dkwX9_number_2 : List UInt8 := [172, 42, 180, 0, 169, 62, 42, 182, 0, 206, 29, 172]
abbrev dktX9_number_2 : List UInt8 := dkwX9_number_2 ++ []
def dkwX9_number_1 : List UInt8 := [180, 0, 169, 27, 28, 184, 0, 160, 154, 0, 7, 4, 167, 0, 4, 3, 5, 182, 0, 202, 153, 0, 5, 27]
abbrev dktX9_number_1 : List UInt8 := dkwX9_number_1 ++ dktX9_number_2
def dkwX9_number_0 : List UInt8 := [42, 42, 180, 0, 172, 5, 159, 0, 7, 4, 167, 0, 4, 3, 4, 182, 0, 202, 154, 0, 28, 42, 42]
abbrev dktX9_number_0 : List UInt8 := dkwX9_number_0 ++ dktX9_number_1
theorem dksX9_number_0 : cX9_number.data.toList.drop 0 = dktX9_number_0 := by decide +kernel
theorem dksX9_number_1 : cX9_number.data.toList.drop 23 = dktX9_number_1 := dk_seg dksX9_number_0 23 rfl rfl
theorem dksX9_number_2 : cX9_number.data.toList.drop 47 = dktX9_number_2 := dk_seg dksX9_number_1 24 rfl rfl
theorem dX9_number_0 : decode cX9_number 0 = .ok (.aload_n 0, 1) := dk_42 (dk_at dksX9_number_0 0 rfl rfl)
theorem dX9_number_1 : decode cX9_number 1 = .ok (.aload_n 0, 1) := dk_42 (dk_at dksX9_number_0 1 rfl rfl)
theorem dX9_number_2 : decode cX9_number 2 = .ok (.getfield 172, 3) := dk_180 0 172 (dk_at dksX9_number_0 2 rfl rfl)
theorem dX9_number_5 : decode cX9_number 5 = .ok (.iconst 2, 1) := dk_5 (dk_at dksX9_number_0 5 rfl rfl)
theorem dX9_number_6 : decode cX9_number 6 = .ok (.if_icmp .eq 7, 3) := dk_159 0 7 (dk_at dksX9_number_0 6 rfl rfl)
theorem dX9_number_9 : decode cX9_number 9 = .ok (.iconst 1, 1) := dk_4 (dk_at dksX9_number_0 9 rfl rfl)
theorem dX9_number_10 : decode cX9_number 10 = .ok (.goto 4, 3) := dk_167 0 4 (dk_at dksX9_number_0 10 rfl rfl)
theorem dX9_number_13 : decode cX9_number 13 = .ok (.iconst 0, 1) := dk_3 (dk_at dksX9_number_0 13 rfl rfl)
theorem dX9_number_14 : decode cX9_number 14 = .ok (.iconst 1, 1) := dk_4 (dk_at dksX9_number_0 14 rfl rfl)
theorem dX9_number_15 : decode cX9_number 15 = .ok (.invokevirtual 202, 3) := dk_182 0 202 (dk_at dksX9_number_0 15 rfl rfl)
theorem dX9_number_18 : decode cX9_number 18 = .ok (.ifCond .ne 28, 3) := dk_154 0 28 (dk_at dksX9_number_0 18 rfl rfl)
theorem dX9_number_21 : decode cX9_number 21 = .ok (.aload_n 0, 1) := dk_42 (dk_at dksX9_number_0 21 rfl rfl)
theorem dX9_number_22 : decode cX9_number 22 = .ok (.aload_n 0, 1) := dk_42 (dk_at dksX9_number_0 22 rfl rfl)
theorem dX9_number_23 : decode cX9_number 23 = .ok (.getfield 169, 3) := dk_180 0 169 (dk_at dksX9_number_1 0 rfl rfl)
theorem dX9_number_26 : decode cX9_number 26 = .ok (.iload_n 1, 1) := dk_27 (dk_at dksX9_number_1 3 rfl rfl)
theorem dX9_number_27 : decode cX9_number 27 = .ok (.iload_n 2, 1) := dk_28 (dk_at dksX9_number_1 4 rfl rfl)
theorem dX9_number_28 : decode cX9_number 28 = .ok (.invokestatic 160, 3) := dk_184 0 160 (dk_at dksX9_number_1 5 rfl rfl)
theorem dX9_number_31 : decode cX9_number 31 = .ok (.ifCond .ne 7, 3) := dk_154 0 7 (dk_at dksX9_number_1 8 rfl rfl)
theorem dX9_number_34 : decode cX9_number 34 = .ok (.iconst 1, 1) := dk_4 (dk_at dksX9_number_1 11 rfl rfl)
theorem dX9_number_35 : decode cX9_number 35 = .ok (.goto 4, 3) := dk_167 0 4 (dk_at dksX9_number_1 12 rfl rfl)
theorem dX9_number_38 : decode cX9_number 38 = .ok (.iconst 0, 1) := dk_3 (dk_at dksX9_number_1 15 rfl rfl)
theorem dX9_number_39 : decode cX9_number 39 = .ok (.iconst 2, 1) := dk_5 (dk_at dksX9_number_1 16 rfl rfl)
theorem dX9_number_40 : decode cX9_number 40 = .ok (.invokevirtual 202, 3) := dk_182 0 202 (dk_at dksX9_number_1 17 rfl rfl)
theorem dX9_number_43 : decode cX9_number 43 = .ok (.ifCond .eq 5, 3) := dk_153 0 5 (dk_at dksX9_number_1 20 rfl rfl)
theorem dX9_number_46 : decode cX9_number 46 = .ok (.iload_n 1, 1) := dk_27 (dk_at dksX9_number_1 23 rfl rfl)
theorem dX9_number_47 : decode cX9_number 47 = .ok (.ireturn, 1) := dk_172 (dk_at dksX9_number_2 0 rfl rfl)
theorem dX9_number_48 : decode cX9_number 48 = .ok (.aload_n 0, 1) := dk_42 (dk_at dksX9_number_2 1 rfl rfl)
theorem dX9_number_49 : decode cX9_number 49 = .ok (.getfield 169, 3) := dk_180 0 169 (dk_at dksX9_number_2 2 rfl rfl)
theorem dX9_number_52 : decode cX9_number 52 = .ok (.istore_n 3, 1) := dk_62 (dk_at dksX9_number_2 5 rfl rfl)
theorem dX9_number_53 : decode cX9_number 53 = .ok (.aload_n 0, 1) := dk_42 (dk_at dksX9_number_2 6 rfl rfl)
theorem dX9_number_54 : decode cX9_number 54 = .ok (.invokevirtual 206, 3) := dk_182 0 206 (dk_at dksX9_number_2 7 rfl rfl)
theorem dX9_number_57 : decode cX9_number 57 = .ok (.iload_n 3, 1) := dk_29 (dk_at dksX9_number_2 10 rfl rfl)
theorem dX9_number_58 : decode cX9_number 58 = .ok (.ireturn, 1) := dk_172 (dk_at dksX9_number_2 11 rfl rfl)
abbrev cX9_ended : ByteArray := prog_29_method_55_code
def yX9_ended : MethodName := ⟨RX9, "ended", "()I"⟩
def dkwX9_ended_1 : List UInt8 := [42, 180, 0, 182, 154, 0, 7, 3, 167, 0, 10, 16, 246, 42, 180, 0, 182, 100, 172]
abbrev dktX9_ended_1 : List UInt8 := dkwX9_ended_1 ++ []
def dkwX9_ended_0 : List UInt8 := [42, 3, 181, 0, 148, 42, 42, 180, 0, 182, 154, 0, 7, 2, 167, 0, 7, 42, 180, 0, 185, 181, 0, 41]
abbrev dktX9_ended_0 : List UInt8 := dkwX9_ended_0 ++ dktX9_ended_1
theorem dksX9_ended_0 : cX9_ended.data.toList.drop 0 = dktX9_ended_0 := by decide +kernel
theorem dksX9_ended_1 : cX9_ended.data.toList.drop 24 = dktX9_ended_1 := dk_seg dksX9_ended_0 24 rfl rfl
theorem dX9_ended_0 : decode cX9_ended 0 = .ok (.aload_n 0, 1) := dk_42 (dk_at dksX9_ended_0 0 rfl rfl)
theorem dX9_ended_1 : decode cX9_ended 1 = .ok (.iconst 0, 1) := dk_3 (dk_at dksX9_ended_0 1 rfl rfl)
theorem dX9_ended_2 : decode cX9_ended 2 = .ok (.putfield 148, 3) := dk_181 0 148 (dk_at dksX9_ended_0 2 rfl rfl)
theorem dX9_ended_5 : decode cX9_ended 5 = .ok (.aload_n 0, 1) := dk_42 (dk_at dksX9_ended_0 5 rfl rfl)
theorem dX9_ended_6 : decode cX9_ended 6 = .ok (.aload_n 0, 1) := dk_42 (dk_at dksX9_ended_0 6 rfl rfl)
theorem dX9_ended_7 : decode cX9_ended 7 = .ok (.getfield 182, 3) := dk_180 0 182 (dk_at dksX9_ended_0 7 rfl rfl)
theorem dX9_ended_10 : decode cX9_ended 10 = .ok (.ifCond .ne 7, 3) := dk_154 0 7 (dk_at dksX9_ended_0 10 rfl rfl)
theorem dX9_ended_13 : decode cX9_ended 13 = .ok (.iconst (-1), 1) := dk_2 (dk_at dksX9_ended_0 13 rfl rfl)
theorem dX9_ended_14 : decode cX9_ended 14 = .ok (.goto 7, 3) := dk_167 0 7 (dk_at dksX9_ended_0 14 rfl rfl)
theorem dX9_ended_17 : decode cX9_ended 17 = .ok (.aload_n 0, 1) := dk_42 (dk_at dksX9_ended_0 17 rfl rfl)
theorem dX9_ended_18 : decode cX9_ended 18 = .ok (.getfield 185, 3) := dk_180 0 185 (dk_at dksX9_ended_0 18 rfl rfl)
theorem dX9_ended_21 : decode cX9_ended 21 = .ok (.putfield 41, 3) := dk_181 0 41 (dk_at dksX9_ended_0 21 rfl rfl)
theorem dX9_ended_24 : decode cX9_ended 24 = .ok (.aload_n 0, 1) := dk_42 (dk_at dksX9_ended_1 0 rfl rfl)
theorem dX9_ended_25 : decode cX9_ended 25 = .ok (.getfield 182, 3) := dk_180 0 182 (dk_at dksX9_ended_1 1 rfl rfl)
theorem dX9_ended_28 : decode cX9_ended 28 = .ok (.ifCond .ne 7, 3) := dk_154 0 7 (dk_at dksX9_ended_1 4 rfl rfl)
theorem dX9_ended_31 : decode cX9_ended 31 = .ok (.iconst 0, 1) := dk_3 (dk_at dksX9_ended_1 7 rfl rfl)
theorem dX9_ended_32 : decode cX9_ended 32 = .ok (.goto 10, 3) := dk_167 0 10 (dk_at dksX9_ended_1 8 rfl rfl)
theorem dX9_ended_35 : decode cX9_ended 35 = .ok (.bipush (-10), 2) := dk_16 246 (dk_at dksX9_ended_1 11 rfl rfl)
theorem dX9_ended_37 : decode cX9_ended 37 = .ok (.aload_n 0, 1) := dk_42 (dk_at dksX9_ended_1 13 rfl rfl)
theorem dX9_ended_38 : decode cX9_ended 38 = .ok (.getfield 182, 3) := dk_180 0 182 (dk_at dksX9_ended_1 14 rfl rfl)
theorem dX9_ended_41 : decode cX9_ended 41 = .ok (.isub, 1) := dk_100 (dk_at dksX9_ended_1 17 rfl rfl)
theorem dX9_ended_42 : decode cX9_ended 42 = .ok (.ireturn, 1) := dk_172 (dk_at dksX9_ended_1 18 rfl rfl)
abbrev cX9_back0 : ByteArray := prog_29_method_33_code
def yX9_back0 : MethodName := ⟨RX9, "back0", "(I)I"⟩
def dkwX9_back0_0 : List UInt8 := [42, 180, 0, 13, 3, 42, 180, 0, 9, 3, 184, 0, 144, 27, 172]
abbrev dktX9_back0_0 : List UInt8 := dkwX9_back0_0 ++ []
theorem dksX9_back0_0 : cX9_back0.data.toList.drop 0 = dktX9_back0_0 := by decide +kernel
theorem dX9_back0_0 : decode cX9_back0 0 = .ok (.aload_n 0, 1) := dk_42 (dk_at dksX9_back0_0 0 rfl rfl)
theorem dX9_back0_1 : decode cX9_back0 1 = .ok (.getfield 13, 3) := dk_180 0 13 (dk_at dksX9_back0_0 1 rfl rfl)
theorem dX9_back0_4 : decode cX9_back0 4 = .ok (.iconst 0, 1) := dk_3 (dk_at dksX9_back0_0 4 rfl rfl)
theorem dX9_back0_5 : decode cX9_back0 5 = .ok (.aload_n 0, 1) := dk_42 (dk_at dksX9_back0_0 5 rfl rfl)
theorem dX9_back0_6 : decode cX9_back0 6 = .ok (.getfield 9, 3) := dk_180 0 9 (dk_at dksX9_back0_0 6 rfl rfl)
theorem dX9_back0_9 : decode cX9_back0 9 = .ok (.iconst 0, 1) := dk_3 (dk_at dksX9_back0_0 9 rfl rfl)
theorem dX9_back0_10 : decode cX9_back0 10 = .ok (.invokestatic 144, 3) := dk_184 0 144 (dk_at dksX9_back0_0 10 rfl rfl)
theorem dX9_back0_13 : decode cX9_back0 13 = .ok (.iload_n 1, 1) := dk_27 (dk_at dksX9_back0_0 13 rfl rfl)
theorem dX9_back0_14 : decode cX9_back0 14 = .ok (.ireturn, 1) := dk_172 (dk_at dksX9_back0_0 14 rfl rfl)
abbrev cX9_errorPosition : ByteArray := prog_29_method_57_code
def yX9_errorPosition : MethodName := ⟨RX9, "errorPosition", "()I"⟩
def dkwX9_errorPosition_0 : List UInt8 := [42, 3, 181, 0, 69, 42, 180, 0, 41, 172]
abbrev dktX9_errorPosition_0 : List UInt8 := dkwX9_errorPosition_0 ++ []
theorem dksX9_errorPosition_0 : cX9_errorPosition.data.toList.drop 0 = dktX9_errorPosition_0 := by decide +kernel
theorem dX9_errorPosition_0 : decode cX9_errorPosition 0 = .ok (.aload_n 0, 1) := dk_42 (dk_at dksX9_errorPosition_0 0 rfl rfl)
theorem dX9_errorPosition_1 : decode cX9_errorPosition 1 = .ok (.iconst 0, 1) := dk_3 (dk_at dksX9_errorPosition_0 1 rfl rfl)
theorem dX9_errorPosition_2 : decode cX9_errorPosition 2 = .ok (.putfield 69, 3) := dk_181 0 69 (dk_at dksX9_errorPosition_0 2 rfl rfl)
theorem dX9_errorPosition_5 : decode cX9_errorPosition 5 = .ok (.aload_n 0, 1) := dk_42 (dk_at dksX9_errorPosition_0 5 rfl rfl)
theorem dX9_errorPosition_6 : decode cX9_errorPosition 6 = .ok (.getfield 41, 3) := dk_180 0 41 (dk_at dksX9_errorPosition_0 6 rfl rfl)
theorem dX9_errorPosition_9 : decode cX9_errorPosition 9 = .ok (.ireturn, 1) := dk_172 (dk_at dksX9_errorPosition_0 9 rfl rfl)
abbrev cX9_play : ByteArray := prog_29_method_69_code
def yX9_play : MethodName := ⟨RX9, "play", "()I"⟩
def dkwX9_play_1 : List UInt8 := [180, 0, 9, 182, 1, 97, 42, 182, 1, 101, 172]
abbrev dktX9_play_1 : List UInt8 := dkwX9_play_1 ++ []
def dkwX9_play_0 : List UInt8 := [42, 3, 181, 0, 69, 42, 182, 1, 94, 42, 182, 1, 2, 60, 27, 156, 0, 5, 27, 172, 42, 42]
abbrev dktX9_play_0 : List UInt8 := dkwX9_play_0 ++ dktX9_play_1
theorem dksX9_play_0 : cX9_play.data.toList.drop 0 = dktX9_play_0 := by decide +kernel
theorem dksX9_play_1 : cX9_play.data.toList.drop 22 = dktX9_play_1 := dk_seg dksX9_play_0 22 rfl rfl
theorem dX9_play_0 : decode cX9_play 0 = .ok (.aload_n 0, 1) := dk_42 (dk_at dksX9_play_0 0 rfl rfl)
theorem dX9_play_1 : decode cX9_play 1 = .ok (.iconst 0, 1) := dk_3 (dk_at dksX9_play_0 1 rfl rfl)
theorem dX9_play_2 : decode cX9_play 2 = .ok (.putfield 69, 3) := dk_181 0 69 (dk_at dksX9_play_0 2 rfl rfl)
theorem dX9_play_5 : decode cX9_play 5 = .ok (.aload_n 0, 1) := dk_42 (dk_at dksX9_play_0 5 rfl rfl)
theorem dX9_play_6 : decode cX9_play 6 = .ok (.invokevirtual 350, 3) := dk_182 1 94 (dk_at dksX9_play_0 6 rfl rfl)
theorem dX9_play_9 : decode cX9_play 9 = .ok (.aload_n 0, 1) := dk_42 (dk_at dksX9_play_0 9 rfl rfl)
theorem dX9_play_10 : decode cX9_play 10 = .ok (.invokevirtual 258, 3) := dk_182 1 2 (dk_at dksX9_play_0 10 rfl rfl)
theorem dX9_play_13 : decode cX9_play 13 = .ok (.istore_n 1, 1) := dk_60 (dk_at dksX9_play_0 13 rfl rfl)
theorem dX9_play_14 : decode cX9_play 14 = .ok (.iload_n 1, 1) := dk_27 (dk_at dksX9_play_0 14 rfl rfl)
theorem dX9_play_15 : decode cX9_play 15 = .ok (.ifCond .ge 5, 3) := dk_156 0 5 (dk_at dksX9_play_0 15 rfl rfl)
theorem dX9_play_18 : decode cX9_play 18 = .ok (.iload_n 1, 1) := dk_27 (dk_at dksX9_play_0 18 rfl rfl)
theorem dX9_play_19 : decode cX9_play 19 = .ok (.ireturn, 1) := dk_172 (dk_at dksX9_play_0 19 rfl rfl)
theorem dX9_play_20 : decode cX9_play 20 = .ok (.aload_n 0, 1) := dk_42 (dk_at dksX9_play_0 20 rfl rfl)
theorem dX9_play_21 : decode cX9_play 21 = .ok (.aload_n 0, 1) := dk_42 (dk_at dksX9_play_0 21 rfl rfl)
theorem dX9_play_22 : decode cX9_play 22 = .ok (.getfield 9, 3) := dk_180 0 9 (dk_at dksX9_play_1 0 rfl rfl)
theorem dX9_play_25 : decode cX9_play 25 = .ok (.invokevirtual 353, 3) := dk_182 1 97 (dk_at dksX9_play_1 3 rfl rfl)
theorem dX9_play_28 : decode cX9_play 28 = .ok (.aload_n 0, 1) := dk_42 (dk_at dksX9_play_1 6 rfl rfl)
theorem dX9_play_29 : decode cX9_play 29 = .ok (.invokevirtual 357, 3) := dk_182 1 101 (dk_at dksX9_play_1 7 rfl rfl)
theorem dX9_play_32 : decode cX9_play 32 = .ok (.ireturn, 1) := dk_172 (dk_at dksX9_play_1 10 rfl rfl)
abbrev cX9_script : ByteArray := prog_29_method_65_code
def yX9_script : MethodName := ⟨RX9, "script", "()V"⟩
def dkwX9_script_3 : List UInt8 := [4, 182, 0, 202, 181, 0, 248, 177]
abbrev dktX9_script_3 : List UInt8 := dkwX9_script_3 ++ []
def dkwX9_script_2 : List UInt8 := [182, 1, 57, 42, 182, 1, 60, 167, 255, 234, 42, 42, 42, 180, 1, 54, 158, 0, 7, 4, 167, 0, 4, 3]
abbrev dktX9_script_2 : List UInt8 := dkwX9_script_2 ++ dktX9_script_3
def dkwX9_script_1 : List UInt8 := [181, 1, 54, 42, 182, 0, 206, 42, 180, 0, 182, 154, 0, 21, 42, 180, 0, 172, 153, 0, 14, 42]
abbrev dktX9_script_1 : List UInt8 := dkwX9_script_1 ++ dktX9_script_2
def dkwX9_script_0 : List UInt8 := [42, 3, 181, 0, 163, 42, 3, 181, 0, 182, 42, 3, 181, 1, 30, 42, 3, 181, 1, 42, 42, 3]
abbrev dktX9_script_0 : List UInt8 := dkwX9_script_0 ++ dktX9_script_1
theorem dksX9_script_0 : cX9_script.data.toList.drop 0 = dktX9_script_0 := by decide +kernel
theorem dksX9_script_1 : cX9_script.data.toList.drop 22 = dktX9_script_1 := dk_seg dksX9_script_0 22 rfl rfl
theorem dksX9_script_2 : cX9_script.data.toList.drop 44 = dktX9_script_2 := dk_seg dksX9_script_1 22 rfl rfl
theorem dksX9_script_3 : cX9_script.data.toList.drop 68 = dktX9_script_3 := dk_seg dksX9_script_2 24 rfl rfl
theorem dX9_script_0 : decode cX9_script 0 = .ok (.aload_n 0, 1) := dk_42 (dk_at dksX9_script_0 0 rfl rfl)
theorem dX9_script_1 : decode cX9_script 1 = .ok (.iconst 0, 1) := dk_3 (dk_at dksX9_script_0 1 rfl rfl)
theorem dX9_script_2 : decode cX9_script 2 = .ok (.putfield 163, 3) := dk_181 0 163 (dk_at dksX9_script_0 2 rfl rfl)
theorem dX9_script_5 : decode cX9_script 5 = .ok (.aload_n 0, 1) := dk_42 (dk_at dksX9_script_0 5 rfl rfl)
theorem dX9_script_6 : decode cX9_script 6 = .ok (.iconst 0, 1) := dk_3 (dk_at dksX9_script_0 6 rfl rfl)
theorem dX9_script_7 : decode cX9_script 7 = .ok (.putfield 182, 3) := dk_181 0 182 (dk_at dksX9_script_0 7 rfl rfl)
theorem dX9_script_10 : decode cX9_script 10 = .ok (.aload_n 0, 1) := dk_42 (dk_at dksX9_script_0 10 rfl rfl)
theorem dX9_script_11 : decode cX9_script 11 = .ok (.iconst 0, 1) := dk_3 (dk_at dksX9_script_0 11 rfl rfl)
theorem dX9_script_12 : decode cX9_script 12 = .ok (.putfield 286, 3) := dk_181 1 30 (dk_at dksX9_script_0 12 rfl rfl)
theorem dX9_script_15 : decode cX9_script 15 = .ok (.aload_n 0, 1) := dk_42 (dk_at dksX9_script_0 15 rfl rfl)
theorem dX9_script_16 : decode cX9_script 16 = .ok (.iconst 0, 1) := dk_3 (dk_at dksX9_script_0 16 rfl rfl)
theorem dX9_script_17 : decode cX9_script 17 = .ok (.putfield 298, 3) := dk_181 1 42 (dk_at dksX9_script_0 17 rfl rfl)
theorem dX9_script_20 : decode cX9_script 20 = .ok (.aload_n 0, 1) := dk_42 (dk_at dksX9_script_0 20 rfl rfl)
theorem dX9_script_21 : decode cX9_script 21 = .ok (.iconst 0, 1) := dk_3 (dk_at dksX9_script_0 21 rfl rfl)
theorem dX9_script_22 : decode cX9_script 22 = .ok (.putfield 310, 3) := dk_181 1 54 (dk_at dksX9_script_1 0 rfl rfl)
theorem dX9_script_25 : decode cX9_script 25 = .ok (.aload_n 0, 1) := dk_42 (dk_at dksX9_script_1 3 rfl rfl)
theorem dX9_script_26 : decode cX9_script 26 = .ok (.invokevirtual 206, 3) := dk_182 0 206 (dk_at dksX9_script_1 4 rfl rfl)
theorem dX9_script_29 : decode cX9_script 29 = .ok (.aload_n 0, 1) := dk_42 (dk_at dksX9_script_1 7 rfl rfl)
theorem dX9_script_30 : decode cX9_script 30 = .ok (.getfield 182, 3) := dk_180 0 182 (dk_at dksX9_script_1 8 rfl rfl)
theorem dX9_script_33 : decode cX9_script 33 = .ok (.ifCond .ne 21, 3) := dk_154 0 21 (dk_at dksX9_script_1 11 rfl rfl)
theorem dX9_script_36 : decode cX9_script 36 = .ok (.aload_n 0, 1) := dk_42 (dk_at dksX9_script_1 14 rfl rfl)
theorem dX9_script_37 : decode cX9_script 37 = .ok (.getfield 172, 3) := dk_180 0 172 (dk_at dksX9_script_1 15 rfl rfl)
theorem dX9_script_40 : decode cX9_script 40 = .ok (.ifCond .eq 14, 3) := dk_153 0 14 (dk_at dksX9_script_1 18 rfl rfl)
theorem dX9_script_43 : decode cX9_script 43 = .ok (.aload_n 0, 1) := dk_42 (dk_at dksX9_script_1 21 rfl rfl)
theorem dX9_script_44 : decode cX9_script 44 = .ok (.invokevirtual 313, 3) := dk_182 1 57 (dk_at dksX9_script_2 0 rfl rfl)
theorem dX9_script_47 : decode cX9_script 47 = .ok (.aload_n 0, 1) := dk_42 (dk_at dksX9_script_2 3 rfl rfl)
theorem dX9_script_48 : decode cX9_script 48 = .ok (.invokevirtual 316, 3) := dk_182 1 60 (dk_at dksX9_script_2 4 rfl rfl)
theorem dX9_script_51 : decode cX9_script 51 = .ok (.goto (-22), 3) := dk_167 255 234 (dk_at dksX9_script_2 7 rfl rfl)
theorem dX9_script_54 : decode cX9_script 54 = .ok (.aload_n 0, 1) := dk_42 (dk_at dksX9_script_2 10 rfl rfl)
theorem dX9_script_55 : decode cX9_script 55 = .ok (.aload_n 0, 1) := dk_42 (dk_at dksX9_script_2 11 rfl rfl)
theorem dX9_script_56 : decode cX9_script 56 = .ok (.aload_n 0, 1) := dk_42 (dk_at dksX9_script_2 12 rfl rfl)
theorem dX9_script_57 : decode cX9_script 57 = .ok (.getfield 310, 3) := dk_180 1 54 (dk_at dksX9_script_2 13 rfl rfl)
theorem dX9_script_60 : decode cX9_script 60 = .ok (.ifCond .le 7, 3) := dk_158 0 7 (dk_at dksX9_script_2 16 rfl rfl)
theorem dX9_script_63 : decode cX9_script 63 = .ok (.iconst 1, 1) := dk_4 (dk_at dksX9_script_2 19 rfl rfl)
theorem dX9_script_64 : decode cX9_script 64 = .ok (.goto 4, 3) := dk_167 0 4 (dk_at dksX9_script_2 20 rfl rfl)
theorem dX9_script_67 : decode cX9_script 67 = .ok (.iconst 0, 1) := dk_3 (dk_at dksX9_script_2 23 rfl rfl)
theorem dX9_script_68 : decode cX9_script 68 = .ok (.iconst 1, 1) := dk_4 (dk_at dksX9_script_3 0 rfl rfl)
theorem dX9_script_69 : decode cX9_script 69 = .ok (.invokevirtual 202, 3) := dk_182 0 202 (dk_at dksX9_script_3 1 rfl rfl)
theorem dX9_script_72 : decode cX9_script 72 = .ok (.putfield 248, 3) := dk_181 0 248 (dk_at dksX9_script_3 4 rfl rfl)
theorem dX9_script_75 : decode cX9_script 75 = .ok (.return_, 1) := dk_177 (dk_at dksX9_script_3 7 rfl rfl)
abbrev cX9_readsOrder : ByteArray := prog_29_method_63_code
def yX9_readsOrder : MethodName := ⟨RX9, "readsOrder", "()V"⟩
def dkwX9_readsOrder_7 : List UInt8 := [89, 180, 1, 54, 4, 96, 181, 1, 54, 42, 89, 180, 1, 30, 4, 96, 181, 1, 30, 177]
abbrev dktX9_readsOrder_7 : List UInt8 := dkwX9_readsOrder_7 ++ []
def dkwX9_readsOrder_6 : List UInt8 := [42, 16, 40, 182, 1, 51, 42, 180, 0, 60, 42, 180, 1, 54, 4, 184, 0, 101, 42, 180, 1, 30, 79, 42]
abbrev dktX9_readsOrder_6 : List UInt8 := dkwX9_readsOrder_6 ++ dktX9_readsOrder_7
def dkwX9_readsOrder_5 : List UInt8 := [153, 0, 15, 42, 180, 1, 54, 5, 160, 0, 7, 4, 167, 0, 4, 3, 8, 182, 0, 202, 153, 0, 4, 177]
abbrev dktX9_readsOrder_5 : List UInt8 := dkwX9_readsOrder_5 ++ dktX9_readsOrder_6
def dkwX9_readsOrder_4 : List UInt8 := [42, 89, 180, 1, 30, 4, 96, 181, 1, 30, 42, 16, 59, 182, 1, 51, 177, 42, 42, 16, 40, 182, 0, 199]
abbrev dktX9_readsOrder_4 : List UInt8 := dkwX9_readsOrder_4 ++ dktX9_readsOrder_5
def dkwX9_readsOrder_3 : List UInt8 := [180, 0, 48, 42, 180, 1, 30, 42, 27, 182, 1, 45, 79, 42, 27, 182, 1, 48, 27, 16, 8, 159, 0, 20]
abbrev dktX9_readsOrder_3 : List UInt8 := dkwX9_readsOrder_3 ++ dktX9_readsOrder_4
def dkwX9_readsOrder_2 : List UInt8 := [180, 1, 42, 4, 96, 181, 1, 42, 42, 182, 0, 206, 42, 180, 0, 45, 42, 180, 1, 30, 27, 79, 42]
abbrev dktX9_readsOrder_2 : List UInt8 := dkwX9_readsOrder_2 ++ dktX9_readsOrder_3
def dkwX9_readsOrder_1 : List UInt8 := [42, 180, 1, 42, 16, 30, 160, 0, 7, 4, 167, 0, 4, 3, 8, 182, 0, 202, 153, 0, 4, 177, 42, 89]
abbrev dktX9_readsOrder_1 : List UInt8 := dkwX9_readsOrder_1 ++ dktX9_readsOrder_2
def dkwX9_readsOrder_0 : List UInt8 := [42, 182, 1, 39, 60, 42, 27, 2, 160, 0, 7, 4, 167, 0, 4, 3, 4, 182, 0, 202, 154, 0, 25, 42]
abbrev dktX9_readsOrder_0 : List UInt8 := dkwX9_readsOrder_0 ++ dktX9_readsOrder_1
theorem dksX9_readsOrder_0 : cX9_readsOrder.data.toList.drop 0 = dktX9_readsOrder_0 := by decide +kernel
theorem dksX9_readsOrder_1 : cX9_readsOrder.data.toList.drop 24 = dktX9_readsOrder_1 := dk_seg dksX9_readsOrder_0 24 rfl rfl
theorem dksX9_readsOrder_2 : cX9_readsOrder.data.toList.drop 48 = dktX9_readsOrder_2 := dk_seg dksX9_readsOrder_1 24 rfl rfl
theorem dksX9_readsOrder_3 : cX9_readsOrder.data.toList.drop 71 = dktX9_readsOrder_3 := dk_seg dksX9_readsOrder_2 23 rfl rfl
theorem dksX9_readsOrder_4 : cX9_readsOrder.data.toList.drop 95 = dktX9_readsOrder_4 := dk_seg dksX9_readsOrder_3 24 rfl rfl
theorem dksX9_readsOrder_5 : cX9_readsOrder.data.toList.drop 119 = dktX9_readsOrder_5 := dk_seg dksX9_readsOrder_4 24 rfl rfl
theorem dksX9_readsOrder_6 : cX9_readsOrder.data.toList.drop 143 = dktX9_readsOrder_6 := dk_seg dksX9_readsOrder_5 24 rfl rfl
theorem dksX9_readsOrder_7 : cX9_readsOrder.data.toList.drop 167 = dktX9_readsOrder_7 := dk_seg dksX9_readsOrder_6 24 rfl rfl
theorem dX9_readsOrder_0 : decode cX9_readsOrder 0 = .ok (.aload_n 0, 1) := dk_42 (dk_at dksX9_readsOrder_0 0 rfl rfl)
theorem dX9_readsOrder_1 : decode cX9_readsOrder 1 = .ok (.invokevirtual 295, 3) := dk_182 1 39 (dk_at dksX9_readsOrder_0 1 rfl rfl)
theorem dX9_readsOrder_4 : decode cX9_readsOrder 4 = .ok (.istore_n 1, 1) := dk_60 (dk_at dksX9_readsOrder_0 4 rfl rfl)
theorem dX9_readsOrder_5 : decode cX9_readsOrder 5 = .ok (.aload_n 0, 1) := dk_42 (dk_at dksX9_readsOrder_0 5 rfl rfl)
theorem dX9_readsOrder_6 : decode cX9_readsOrder 6 = .ok (.iload_n 1, 1) := dk_27 (dk_at dksX9_readsOrder_0 6 rfl rfl)
theorem dX9_readsOrder_7 : decode cX9_readsOrder 7 = .ok (.iconst (-1), 1) := dk_2 (dk_at dksX9_readsOrder_0 7 rfl rfl)
theorem dX9_readsOrder_8 : decode cX9_readsOrder 8 = .ok (.if_icmp .ne 7, 3) := dk_160 0 7 (dk_at dksX9_readsOrder_0 8 rfl rfl)
theorem dX9_readsOrder_11 : decode cX9_readsOrder 11 = .ok (.iconst 1, 1) := dk_4 (dk_at dksX9_readsOrder_0 11 rfl rfl)
theorem dX9_readsOrder_12 : decode cX9_readsOrder 12 = .ok (.goto 4, 3) := dk_167 0 4 (dk_at dksX9_readsOrder_0 12 rfl rfl)
theorem dX9_readsOrder_15 : decode cX9_readsOrder 15 = .ok (.iconst 0, 1) := dk_3 (dk_at dksX9_readsOrder_0 15 rfl rfl)
theorem dX9_readsOrder_16 : decode cX9_readsOrder 16 = .ok (.iconst 1, 1) := dk_4 (dk_at dksX9_readsOrder_0 16 rfl rfl)
theorem dX9_readsOrder_17 : decode cX9_readsOrder 17 = .ok (.invokevirtual 202, 3) := dk_182 0 202 (dk_at dksX9_readsOrder_0 17 rfl rfl)
theorem dX9_readsOrder_20 : decode cX9_readsOrder 20 = .ok (.ifCond .ne 25, 3) := dk_154 0 25 (dk_at dksX9_readsOrder_0 20 rfl rfl)
theorem dX9_readsOrder_23 : decode cX9_readsOrder 23 = .ok (.aload_n 0, 1) := dk_42 (dk_at dksX9_readsOrder_0 23 rfl rfl)
theorem dX9_readsOrder_24 : decode cX9_readsOrder 24 = .ok (.aload_n 0, 1) := dk_42 (dk_at dksX9_readsOrder_1 0 rfl rfl)
theorem dX9_readsOrder_25 : decode cX9_readsOrder 25 = .ok (.getfield 298, 3) := dk_180 1 42 (dk_at dksX9_readsOrder_1 1 rfl rfl)
theorem dX9_readsOrder_28 : decode cX9_readsOrder 28 = .ok (.bipush 30, 2) := dk_16 30 (dk_at dksX9_readsOrder_1 4 rfl rfl)
theorem dX9_readsOrder_30 : decode cX9_readsOrder 30 = .ok (.if_icmp .ne 7, 3) := dk_160 0 7 (dk_at dksX9_readsOrder_1 6 rfl rfl)
theorem dX9_readsOrder_33 : decode cX9_readsOrder 33 = .ok (.iconst 1, 1) := dk_4 (dk_at dksX9_readsOrder_1 9 rfl rfl)
theorem dX9_readsOrder_34 : decode cX9_readsOrder 34 = .ok (.goto 4, 3) := dk_167 0 4 (dk_at dksX9_readsOrder_1 10 rfl rfl)
theorem dX9_readsOrder_37 : decode cX9_readsOrder 37 = .ok (.iconst 0, 1) := dk_3 (dk_at dksX9_readsOrder_1 13 rfl rfl)
theorem dX9_readsOrder_38 : decode cX9_readsOrder 38 = .ok (.iconst 5, 1) := dk_8 (dk_at dksX9_readsOrder_1 14 rfl rfl)
theorem dX9_readsOrder_39 : decode cX9_readsOrder 39 = .ok (.invokevirtual 202, 3) := dk_182 0 202 (dk_at dksX9_readsOrder_1 15 rfl rfl)
theorem dX9_readsOrder_42 : decode cX9_readsOrder 42 = .ok (.ifCond .eq 4, 3) := dk_153 0 4 (dk_at dksX9_readsOrder_1 18 rfl rfl)
theorem dX9_readsOrder_45 : decode cX9_readsOrder 45 = .ok (.return_, 1) := dk_177 (dk_at dksX9_readsOrder_1 21 rfl rfl)
theorem dX9_readsOrder_46 : decode cX9_readsOrder 46 = .ok (.aload_n 0, 1) := dk_42 (dk_at dksX9_readsOrder_1 22 rfl rfl)
theorem dX9_readsOrder_47 : decode cX9_readsOrder 47 = .ok (.dup, 1) := dk_89 (dk_at dksX9_readsOrder_1 23 rfl rfl)
theorem dX9_readsOrder_48 : decode cX9_readsOrder 48 = .ok (.getfield 298, 3) := dk_180 1 42 (dk_at dksX9_readsOrder_2 0 rfl rfl)
theorem dX9_readsOrder_51 : decode cX9_readsOrder 51 = .ok (.iconst 1, 1) := dk_4 (dk_at dksX9_readsOrder_2 3 rfl rfl)
theorem dX9_readsOrder_52 : decode cX9_readsOrder 52 = .ok (.iadd, 1) := dk_96 (dk_at dksX9_readsOrder_2 4 rfl rfl)
theorem dX9_readsOrder_53 : decode cX9_readsOrder 53 = .ok (.putfield 298, 3) := dk_181 1 42 (dk_at dksX9_readsOrder_2 5 rfl rfl)
theorem dX9_readsOrder_56 : decode cX9_readsOrder 56 = .ok (.aload_n 0, 1) := dk_42 (dk_at dksX9_readsOrder_2 8 rfl rfl)
theorem dX9_readsOrder_57 : decode cX9_readsOrder 57 = .ok (.invokevirtual 206, 3) := dk_182 0 206 (dk_at dksX9_readsOrder_2 9 rfl rfl)
theorem dX9_readsOrder_60 : decode cX9_readsOrder 60 = .ok (.aload_n 0, 1) := dk_42 (dk_at dksX9_readsOrder_2 12 rfl rfl)
theorem dX9_readsOrder_61 : decode cX9_readsOrder 61 = .ok (.getfield 45, 3) := dk_180 0 45 (dk_at dksX9_readsOrder_2 13 rfl rfl)
theorem dX9_readsOrder_64 : decode cX9_readsOrder 64 = .ok (.aload_n 0, 1) := dk_42 (dk_at dksX9_readsOrder_2 16 rfl rfl)
theorem dX9_readsOrder_65 : decode cX9_readsOrder 65 = .ok (.getfield 286, 3) := dk_180 1 30 (dk_at dksX9_readsOrder_2 17 rfl rfl)
theorem dX9_readsOrder_68 : decode cX9_readsOrder 68 = .ok (.iload_n 1, 1) := dk_27 (dk_at dksX9_readsOrder_2 20 rfl rfl)
theorem dX9_readsOrder_69 : decode cX9_readsOrder 69 = .ok (.iastore, 1) := dk_79 (dk_at dksX9_readsOrder_2 21 rfl rfl)
theorem dX9_readsOrder_70 : decode cX9_readsOrder 70 = .ok (.aload_n 0, 1) := dk_42 (dk_at dksX9_readsOrder_2 22 rfl rfl)
theorem dX9_readsOrder_71 : decode cX9_readsOrder 71 = .ok (.getfield 48, 3) := dk_180 0 48 (dk_at dksX9_readsOrder_3 0 rfl rfl)
theorem dX9_readsOrder_74 : decode cX9_readsOrder 74 = .ok (.aload_n 0, 1) := dk_42 (dk_at dksX9_readsOrder_3 3 rfl rfl)
theorem dX9_readsOrder_75 : decode cX9_readsOrder 75 = .ok (.getfield 286, 3) := dk_180 1 30 (dk_at dksX9_readsOrder_3 4 rfl rfl)
theorem dX9_readsOrder_78 : decode cX9_readsOrder 78 = .ok (.aload_n 0, 1) := dk_42 (dk_at dksX9_readsOrder_3 7 rfl rfl)
theorem dX9_readsOrder_79 : decode cX9_readsOrder 79 = .ok (.iload_n 1, 1) := dk_27 (dk_at dksX9_readsOrder_3 8 rfl rfl)
theorem dX9_readsOrder_80 : decode cX9_readsOrder 80 = .ok (.invokevirtual 301, 3) := dk_182 1 45 (dk_at dksX9_readsOrder_3 9 rfl rfl)
theorem dX9_readsOrder_83 : decode cX9_readsOrder 83 = .ok (.iastore, 1) := dk_79 (dk_at dksX9_readsOrder_3 12 rfl rfl)
theorem dX9_readsOrder_84 : decode cX9_readsOrder 84 = .ok (.aload_n 0, 1) := dk_42 (dk_at dksX9_readsOrder_3 13 rfl rfl)
theorem dX9_readsOrder_85 : decode cX9_readsOrder 85 = .ok (.iload_n 1, 1) := dk_27 (dk_at dksX9_readsOrder_3 14 rfl rfl)
theorem dX9_readsOrder_86 : decode cX9_readsOrder 86 = .ok (.invokevirtual 304, 3) := dk_182 1 48 (dk_at dksX9_readsOrder_3 15 rfl rfl)
theorem dX9_readsOrder_89 : decode cX9_readsOrder 89 = .ok (.iload_n 1, 1) := dk_27 (dk_at dksX9_readsOrder_3 18 rfl rfl)
theorem dX9_readsOrder_90 : decode cX9_readsOrder 90 = .ok (.bipush 8, 2) := dk_16 8 (dk_at dksX9_readsOrder_3 19 rfl rfl)
theorem dX9_readsOrder_92 : decode cX9_readsOrder 92 = .ok (.if_icmp .eq 20, 3) := dk_159 0 20 (dk_at dksX9_readsOrder_3 21 rfl rfl)
theorem dX9_readsOrder_95 : decode cX9_readsOrder 95 = .ok (.aload_n 0, 1) := dk_42 (dk_at dksX9_readsOrder_4 0 rfl rfl)
theorem dX9_readsOrder_96 : decode cX9_readsOrder 96 = .ok (.dup, 1) := dk_89 (dk_at dksX9_readsOrder_4 1 rfl rfl)
theorem dX9_readsOrder_97 : decode cX9_readsOrder 97 = .ok (.getfield 286, 3) := dk_180 1 30 (dk_at dksX9_readsOrder_4 2 rfl rfl)
theorem dX9_readsOrder_100 : decode cX9_readsOrder 100 = .ok (.iconst 1, 1) := dk_4 (dk_at dksX9_readsOrder_4 5 rfl rfl)
theorem dX9_readsOrder_101 : decode cX9_readsOrder 101 = .ok (.iadd, 1) := dk_96 (dk_at dksX9_readsOrder_4 6 rfl rfl)
theorem dX9_readsOrder_102 : decode cX9_readsOrder 102 = .ok (.putfield 286, 3) := dk_181 1 30 (dk_at dksX9_readsOrder_4 7 rfl rfl)
theorem dX9_readsOrder_105 : decode cX9_readsOrder 105 = .ok (.aload_n 0, 1) := dk_42 (dk_at dksX9_readsOrder_4 10 rfl rfl)
theorem dX9_readsOrder_106 : decode cX9_readsOrder 106 = .ok (.bipush 59, 2) := dk_16 59 (dk_at dksX9_readsOrder_4 11 rfl rfl)
theorem dX9_readsOrder_108 : decode cX9_readsOrder 108 = .ok (.invokevirtual 307, 3) := dk_182 1 51 (dk_at dksX9_readsOrder_4 13 rfl rfl)
theorem dX9_readsOrder_111 : decode cX9_readsOrder 111 = .ok (.return_, 1) := dk_177 (dk_at dksX9_readsOrder_4 16 rfl rfl)
theorem dX9_readsOrder_112 : decode cX9_readsOrder 112 = .ok (.aload_n 0, 1) := dk_42 (dk_at dksX9_readsOrder_4 17 rfl rfl)
theorem dX9_readsOrder_113 : decode cX9_readsOrder 113 = .ok (.aload_n 0, 1) := dk_42 (dk_at dksX9_readsOrder_4 18 rfl rfl)
theorem dX9_readsOrder_114 : decode cX9_readsOrder 114 = .ok (.bipush 40, 2) := dk_16 40 (dk_at dksX9_readsOrder_4 19 rfl rfl)
theorem dX9_readsOrder_116 : decode cX9_readsOrder 116 = .ok (.invokevirtual 199, 3) := dk_182 0 199 (dk_at dksX9_readsOrder_4 21 rfl rfl)
theorem dX9_readsOrder_119 : decode cX9_readsOrder 119 = .ok (.ifCond .eq 15, 3) := dk_153 0 15 (dk_at dksX9_readsOrder_5 0 rfl rfl)
theorem dX9_readsOrder_122 : decode cX9_readsOrder 122 = .ok (.aload_n 0, 1) := dk_42 (dk_at dksX9_readsOrder_5 3 rfl rfl)
theorem dX9_readsOrder_123 : decode cX9_readsOrder 123 = .ok (.getfield 310, 3) := dk_180 1 54 (dk_at dksX9_readsOrder_5 4 rfl rfl)
theorem dX9_readsOrder_126 : decode cX9_readsOrder 126 = .ok (.iconst 2, 1) := dk_5 (dk_at dksX9_readsOrder_5 7 rfl rfl)
theorem dX9_readsOrder_127 : decode cX9_readsOrder 127 = .ok (.if_icmp .ne 7, 3) := dk_160 0 7 (dk_at dksX9_readsOrder_5 8 rfl rfl)
theorem dX9_readsOrder_130 : decode cX9_readsOrder 130 = .ok (.iconst 1, 1) := dk_4 (dk_at dksX9_readsOrder_5 11 rfl rfl)
theorem dX9_readsOrder_131 : decode cX9_readsOrder 131 = .ok (.goto 4, 3) := dk_167 0 4 (dk_at dksX9_readsOrder_5 12 rfl rfl)
theorem dX9_readsOrder_134 : decode cX9_readsOrder 134 = .ok (.iconst 0, 1) := dk_3 (dk_at dksX9_readsOrder_5 15 rfl rfl)
theorem dX9_readsOrder_135 : decode cX9_readsOrder 135 = .ok (.iconst 5, 1) := dk_8 (dk_at dksX9_readsOrder_5 16 rfl rfl)
theorem dX9_readsOrder_136 : decode cX9_readsOrder 136 = .ok (.invokevirtual 202, 3) := dk_182 0 202 (dk_at dksX9_readsOrder_5 17 rfl rfl)
theorem dX9_readsOrder_139 : decode cX9_readsOrder 139 = .ok (.ifCond .eq 4, 3) := dk_153 0 4 (dk_at dksX9_readsOrder_5 20 rfl rfl)
theorem dX9_readsOrder_142 : decode cX9_readsOrder 142 = .ok (.return_, 1) := dk_177 (dk_at dksX9_readsOrder_5 23 rfl rfl)
theorem dX9_readsOrder_143 : decode cX9_readsOrder 143 = .ok (.aload_n 0, 1) := dk_42 (dk_at dksX9_readsOrder_6 0 rfl rfl)
theorem dX9_readsOrder_144 : decode cX9_readsOrder 144 = .ok (.bipush 40, 2) := dk_16 40 (dk_at dksX9_readsOrder_6 1 rfl rfl)
theorem dX9_readsOrder_146 : decode cX9_readsOrder 146 = .ok (.invokevirtual 307, 3) := dk_182 1 51 (dk_at dksX9_readsOrder_6 3 rfl rfl)
theorem dX9_readsOrder_149 : decode cX9_readsOrder 149 = .ok (.aload_n 0, 1) := dk_42 (dk_at dksX9_readsOrder_6 6 rfl rfl)
theorem dX9_readsOrder_150 : decode cX9_readsOrder 150 = .ok (.getfield 60, 3) := dk_180 0 60 (dk_at dksX9_readsOrder_6 7 rfl rfl)
theorem dX9_readsOrder_153 : decode cX9_readsOrder 153 = .ok (.aload_n 0, 1) := dk_42 (dk_at dksX9_readsOrder_6 10 rfl rfl)
theorem dX9_readsOrder_154 : decode cX9_readsOrder 154 = .ok (.getfield 310, 3) := dk_180 1 54 (dk_at dksX9_readsOrder_6 11 rfl rfl)
theorem dX9_readsOrder_157 : decode cX9_readsOrder 157 = .ok (.iconst 1, 1) := dk_4 (dk_at dksX9_readsOrder_6 14 rfl rfl)
theorem dX9_readsOrder_158 : decode cX9_readsOrder 158 = .ok (.invokestatic 101, 3) := dk_184 0 101 (dk_at dksX9_readsOrder_6 15 rfl rfl)
theorem dX9_readsOrder_161 : decode cX9_readsOrder 161 = .ok (.aload_n 0, 1) := dk_42 (dk_at dksX9_readsOrder_6 18 rfl rfl)
theorem dX9_readsOrder_162 : decode cX9_readsOrder 162 = .ok (.getfield 286, 3) := dk_180 1 30 (dk_at dksX9_readsOrder_6 19 rfl rfl)
theorem dX9_readsOrder_165 : decode cX9_readsOrder 165 = .ok (.iastore, 1) := dk_79 (dk_at dksX9_readsOrder_6 22 rfl rfl)
theorem dX9_readsOrder_166 : decode cX9_readsOrder 166 = .ok (.aload_n 0, 1) := dk_42 (dk_at dksX9_readsOrder_6 23 rfl rfl)
theorem dX9_readsOrder_167 : decode cX9_readsOrder 167 = .ok (.dup, 1) := dk_89 (dk_at dksX9_readsOrder_7 0 rfl rfl)
theorem dX9_readsOrder_168 : decode cX9_readsOrder 168 = .ok (.getfield 310, 3) := dk_180 1 54 (dk_at dksX9_readsOrder_7 1 rfl rfl)
theorem dX9_readsOrder_171 : decode cX9_readsOrder 171 = .ok (.iconst 1, 1) := dk_4 (dk_at dksX9_readsOrder_7 4 rfl rfl)
theorem dX9_readsOrder_172 : decode cX9_readsOrder 172 = .ok (.iadd, 1) := dk_96 (dk_at dksX9_readsOrder_7 5 rfl rfl)
theorem dX9_readsOrder_173 : decode cX9_readsOrder 173 = .ok (.putfield 310, 3) := dk_181 1 54 (dk_at dksX9_readsOrder_7 6 rfl rfl)
theorem dX9_readsOrder_176 : decode cX9_readsOrder 176 = .ok (.aload_n 0, 1) := dk_42 (dk_at dksX9_readsOrder_7 9 rfl rfl)
theorem dX9_readsOrder_177 : decode cX9_readsOrder 177 = .ok (.dup, 1) := dk_89 (dk_at dksX9_readsOrder_7 10 rfl rfl)
theorem dX9_readsOrder_178 : decode cX9_readsOrder 178 = .ok (.getfield 286, 3) := dk_180 1 30 (dk_at dksX9_readsOrder_7 11 rfl rfl)
theorem dX9_readsOrder_181 : decode cX9_readsOrder 181 = .ok (.iconst 1, 1) := dk_4 (dk_at dksX9_readsOrder_7 14 rfl rfl)
theorem dX9_readsOrder_182 : decode cX9_readsOrder 182 = .ok (.iadd, 1) := dk_96 (dk_at dksX9_readsOrder_7 15 rfl rfl)
theorem dX9_readsOrder_183 : decode cX9_readsOrder 183 = .ok (.putfield 286, 3) := dk_181 1 30 (dk_at dksX9_readsOrder_7 16 rfl rfl)
theorem dX9_readsOrder_186 : decode cX9_readsOrder 186 = .ok (.return_, 1) := dk_177 (dk_at dksX9_readsOrder_7 19 rfl rfl)
abbrev cX9_orderHere : ByteArray := prog_29_method_58_code
def yX9_orderHere : MethodName := ⟨RX9, "orderHere", "()I"⟩
def dkwX9_orderHere_4 : List UInt8 := [172, 42, 19, 1, 25, 182, 0, 231, 153, 0, 8, 16, 8, 167, 0, 4, 2, 172]
abbrev dktX9_orderHere_4 : List UInt8 := dkwX9_orderHere_4 ++ []
def dkwX9_orderHere_3 : List UInt8 := [42, 19, 1, 23, 182, 0, 231, 153, 0, 6, 16, 6, 172, 42, 18, 243, 182, 0, 231, 153, 0, 6, 16, 7]
abbrev dktX9_orderHere_3 : List UInt8 := dkwX9_orderHere_3 ++ dktX9_orderHere_4
def dkwX9_orderHere_2 : List UInt8 := [42, 19, 1, 19, 182, 0, 231, 153, 0, 5, 7, 172, 42, 19, 1, 21, 182, 0, 231, 153, 0, 5, 8, 172]
abbrev dktX9_orderHere_2 : List UInt8 := dkwX9_orderHere_2 ++ dktX9_orderHere_3
def dkwX9_orderHere_1 : List UInt8 := [42, 19, 1, 15, 182, 0, 231, 153, 0, 5, 5, 172, 42, 19, 1, 17, 182, 0, 231, 153, 0, 5, 6, 172]
abbrev dktX9_orderHere_1 : List UInt8 := dkwX9_orderHere_1 ++ dktX9_orderHere_2
def dkwX9_orderHere_0 : List UInt8 := [42, 19, 1, 11, 182, 0, 231, 153, 0, 5, 3, 172, 42, 19, 1, 13, 182, 0, 231, 153, 0, 5, 4, 172]
abbrev dktX9_orderHere_0 : List UInt8 := dkwX9_orderHere_0 ++ dktX9_orderHere_1
theorem dksX9_orderHere_0 : cX9_orderHere.data.toList.drop 0 = dktX9_orderHere_0 := by decide +kernel
theorem dksX9_orderHere_1 : cX9_orderHere.data.toList.drop 24 = dktX9_orderHere_1 := dk_seg dksX9_orderHere_0 24 rfl rfl
theorem dksX9_orderHere_2 : cX9_orderHere.data.toList.drop 48 = dktX9_orderHere_2 := dk_seg dksX9_orderHere_1 24 rfl rfl
theorem dksX9_orderHere_3 : cX9_orderHere.data.toList.drop 72 = dktX9_orderHere_3 := dk_seg dksX9_orderHere_2 24 rfl rfl
theorem dksX9_orderHere_4 : cX9_orderHere.data.toList.drop 96 = dktX9_orderHere_4 := dk_seg dksX9_orderHere_3 24 rfl rfl
theorem dX9_orderHere_0 : decode cX9_orderHere 0 = .ok (.aload_n 0, 1) := dk_42 (dk_at dksX9_orderHere_0 0 rfl rfl)
theorem dX9_orderHere_1 : decode cX9_orderHere 1 = .ok (.ldc_w 267, 3) := dk_19 1 11 (dk_at dksX9_orderHere_0 1 rfl rfl)
theorem dX9_orderHere_4 : decode cX9_orderHere 4 = .ok (.invokevirtual 231, 3) := dk_182 0 231 (dk_at dksX9_orderHere_0 4 rfl rfl)
theorem dX9_orderHere_7 : decode cX9_orderHere 7 = .ok (.ifCond .eq 5, 3) := dk_153 0 5 (dk_at dksX9_orderHere_0 7 rfl rfl)
theorem dX9_orderHere_10 : decode cX9_orderHere 10 = .ok (.iconst 0, 1) := dk_3 (dk_at dksX9_orderHere_0 10 rfl rfl)
theorem dX9_orderHere_11 : decode cX9_orderHere 11 = .ok (.ireturn, 1) := dk_172 (dk_at dksX9_orderHere_0 11 rfl rfl)
theorem dX9_orderHere_12 : decode cX9_orderHere 12 = .ok (.aload_n 0, 1) := dk_42 (dk_at dksX9_orderHere_0 12 rfl rfl)
theorem dX9_orderHere_13 : decode cX9_orderHere 13 = .ok (.ldc_w 269, 3) := dk_19 1 13 (dk_at dksX9_orderHere_0 13 rfl rfl)
theorem dX9_orderHere_16 : decode cX9_orderHere 16 = .ok (.invokevirtual 231, 3) := dk_182 0 231 (dk_at dksX9_orderHere_0 16 rfl rfl)
theorem dX9_orderHere_19 : decode cX9_orderHere 19 = .ok (.ifCond .eq 5, 3) := dk_153 0 5 (dk_at dksX9_orderHere_0 19 rfl rfl)
theorem dX9_orderHere_22 : decode cX9_orderHere 22 = .ok (.iconst 1, 1) := dk_4 (dk_at dksX9_orderHere_0 22 rfl rfl)
theorem dX9_orderHere_23 : decode cX9_orderHere 23 = .ok (.ireturn, 1) := dk_172 (dk_at dksX9_orderHere_0 23 rfl rfl)
theorem dX9_orderHere_24 : decode cX9_orderHere 24 = .ok (.aload_n 0, 1) := dk_42 (dk_at dksX9_orderHere_1 0 rfl rfl)
theorem dX9_orderHere_25 : decode cX9_orderHere 25 = .ok (.ldc_w 271, 3) := dk_19 1 15 (dk_at dksX9_orderHere_1 1 rfl rfl)
theorem dX9_orderHere_28 : decode cX9_orderHere 28 = .ok (.invokevirtual 231, 3) := dk_182 0 231 (dk_at dksX9_orderHere_1 4 rfl rfl)
theorem dX9_orderHere_31 : decode cX9_orderHere 31 = .ok (.ifCond .eq 5, 3) := dk_153 0 5 (dk_at dksX9_orderHere_1 7 rfl rfl)
theorem dX9_orderHere_34 : decode cX9_orderHere 34 = .ok (.iconst 2, 1) := dk_5 (dk_at dksX9_orderHere_1 10 rfl rfl)
theorem dX9_orderHere_35 : decode cX9_orderHere 35 = .ok (.ireturn, 1) := dk_172 (dk_at dksX9_orderHere_1 11 rfl rfl)
theorem dX9_orderHere_36 : decode cX9_orderHere 36 = .ok (.aload_n 0, 1) := dk_42 (dk_at dksX9_orderHere_1 12 rfl rfl)
theorem dX9_orderHere_37 : decode cX9_orderHere 37 = .ok (.ldc_w 273, 3) := dk_19 1 17 (dk_at dksX9_orderHere_1 13 rfl rfl)
theorem dX9_orderHere_40 : decode cX9_orderHere 40 = .ok (.invokevirtual 231, 3) := dk_182 0 231 (dk_at dksX9_orderHere_1 16 rfl rfl)
theorem dX9_orderHere_43 : decode cX9_orderHere 43 = .ok (.ifCond .eq 5, 3) := dk_153 0 5 (dk_at dksX9_orderHere_1 19 rfl rfl)
theorem dX9_orderHere_46 : decode cX9_orderHere 46 = .ok (.iconst 3, 1) := dk_6 (dk_at dksX9_orderHere_1 22 rfl rfl)
theorem dX9_orderHere_47 : decode cX9_orderHere 47 = .ok (.ireturn, 1) := dk_172 (dk_at dksX9_orderHere_1 23 rfl rfl)
theorem dX9_orderHere_48 : decode cX9_orderHere 48 = .ok (.aload_n 0, 1) := dk_42 (dk_at dksX9_orderHere_2 0 rfl rfl)
theorem dX9_orderHere_49 : decode cX9_orderHere 49 = .ok (.ldc_w 275, 3) := dk_19 1 19 (dk_at dksX9_orderHere_2 1 rfl rfl)
theorem dX9_orderHere_52 : decode cX9_orderHere 52 = .ok (.invokevirtual 231, 3) := dk_182 0 231 (dk_at dksX9_orderHere_2 4 rfl rfl)
theorem dX9_orderHere_55 : decode cX9_orderHere 55 = .ok (.ifCond .eq 5, 3) := dk_153 0 5 (dk_at dksX9_orderHere_2 7 rfl rfl)
theorem dX9_orderHere_58 : decode cX9_orderHere 58 = .ok (.iconst 4, 1) := dk_7 (dk_at dksX9_orderHere_2 10 rfl rfl)
theorem dX9_orderHere_59 : decode cX9_orderHere 59 = .ok (.ireturn, 1) := dk_172 (dk_at dksX9_orderHere_2 11 rfl rfl)
theorem dX9_orderHere_60 : decode cX9_orderHere 60 = .ok (.aload_n 0, 1) := dk_42 (dk_at dksX9_orderHere_2 12 rfl rfl)
theorem dX9_orderHere_61 : decode cX9_orderHere 61 = .ok (.ldc_w 277, 3) := dk_19 1 21 (dk_at dksX9_orderHere_2 13 rfl rfl)
theorem dX9_orderHere_64 : decode cX9_orderHere 64 = .ok (.invokevirtual 231, 3) := dk_182 0 231 (dk_at dksX9_orderHere_2 16 rfl rfl)
theorem dX9_orderHere_67 : decode cX9_orderHere 67 = .ok (.ifCond .eq 5, 3) := dk_153 0 5 (dk_at dksX9_orderHere_2 19 rfl rfl)
theorem dX9_orderHere_70 : decode cX9_orderHere 70 = .ok (.iconst 5, 1) := dk_8 (dk_at dksX9_orderHere_2 22 rfl rfl)
theorem dX9_orderHere_71 : decode cX9_orderHere 71 = .ok (.ireturn, 1) := dk_172 (dk_at dksX9_orderHere_2 23 rfl rfl)
theorem dX9_orderHere_72 : decode cX9_orderHere 72 = .ok (.aload_n 0, 1) := dk_42 (dk_at dksX9_orderHere_3 0 rfl rfl)
theorem dX9_orderHere_73 : decode cX9_orderHere 73 = .ok (.ldc_w 279, 3) := dk_19 1 23 (dk_at dksX9_orderHere_3 1 rfl rfl)
theorem dX9_orderHere_76 : decode cX9_orderHere 76 = .ok (.invokevirtual 231, 3) := dk_182 0 231 (dk_at dksX9_orderHere_3 4 rfl rfl)
theorem dX9_orderHere_79 : decode cX9_orderHere 79 = .ok (.ifCond .eq 6, 3) := dk_153 0 6 (dk_at dksX9_orderHere_3 7 rfl rfl)
theorem dX9_orderHere_82 : decode cX9_orderHere 82 = .ok (.bipush 6, 2) := dk_16 6 (dk_at dksX9_orderHere_3 10 rfl rfl)
theorem dX9_orderHere_84 : decode cX9_orderHere 84 = .ok (.ireturn, 1) := dk_172 (dk_at dksX9_orderHere_3 12 rfl rfl)
theorem dX9_orderHere_85 : decode cX9_orderHere 85 = .ok (.aload_n 0, 1) := dk_42 (dk_at dksX9_orderHere_3 13 rfl rfl)
theorem dX9_orderHere_86 : decode cX9_orderHere 86 = .ok (.ldc 243, 2) := dk_18 243 (dk_at dksX9_orderHere_3 14 rfl rfl)
theorem dX9_orderHere_88 : decode cX9_orderHere 88 = .ok (.invokevirtual 231, 3) := dk_182 0 231 (dk_at dksX9_orderHere_3 16 rfl rfl)
theorem dX9_orderHere_91 : decode cX9_orderHere 91 = .ok (.ifCond .eq 6, 3) := dk_153 0 6 (dk_at dksX9_orderHere_3 19 rfl rfl)
theorem dX9_orderHere_94 : decode cX9_orderHere 94 = .ok (.bipush 7, 2) := dk_16 7 (dk_at dksX9_orderHere_3 22 rfl rfl)
theorem dX9_orderHere_96 : decode cX9_orderHere 96 = .ok (.ireturn, 1) := dk_172 (dk_at dksX9_orderHere_4 0 rfl rfl)
theorem dX9_orderHere_97 : decode cX9_orderHere 97 = .ok (.aload_n 0, 1) := dk_42 (dk_at dksX9_orderHere_4 1 rfl rfl)
theorem dX9_orderHere_98 : decode cX9_orderHere 98 = .ok (.ldc_w 281, 3) := dk_19 1 25 (dk_at dksX9_orderHere_4 2 rfl rfl)
theorem dX9_orderHere_101 : decode cX9_orderHere 101 = .ok (.invokevirtual 231, 3) := dk_182 0 231 (dk_at dksX9_orderHere_4 5 rfl rfl)
theorem dX9_orderHere_104 : decode cX9_orderHere 104 = .ok (.ifCond .eq 8, 3) := dk_153 0 8 (dk_at dksX9_orderHere_4 8 rfl rfl)
theorem dX9_orderHere_107 : decode cX9_orderHere 107 = .ok (.bipush 8, 2) := dk_16 8 (dk_at dksX9_orderHere_4 11 rfl rfl)
theorem dX9_orderHere_109 : decode cX9_orderHere 109 = .ok (.goto 4, 3) := dk_167 0 4 (dk_at dksX9_orderHere_4 13 rfl rfl)
theorem dX9_orderHere_112 : decode cX9_orderHere 112 = .ok (.iconst (-1), 1) := dk_2 (dk_at dksX9_orderHere_4 16 rfl rfl)
theorem dX9_orderHere_113 : decode cX9_orderHere 113 = .ok (.ireturn, 1) := dk_172 (dk_at dksX9_orderHere_4 17 rfl rfl)
abbrev cX9_firstHere : ByteArray := prog_29_method_59_code
def yX9_firstHere : MethodName := ⟨RX9, "firstHere", "(I)I"⟩
def dkwX9_firstHere_3 : List UInt8 := [16, 20, 182, 0, 226, 172, 42, 3, 17, 0, 200, 182, 0, 226, 172]
abbrev dktX9_firstHere_3 : List UInt8 := dkwX9_firstHere_3 ++ []
def dkwX9_firstHere_2 : List UInt8 := [42, 182, 1, 27, 172, 42, 3, 16, 59, 182, 0, 226, 172, 42, 3, 16, 26, 182, 0, 226, 172, 42, 3]
abbrev dktX9_firstHere_2 : List UInt8 := dkwX9_firstHere_2 ++ dktX9_firstHere_3
def dkwX9_firstHere_1 : List UInt8 := [170, 0, 0, 0, 0, 0, 68, 0, 0, 0, 3, 0, 0, 0, 8, 0, 0, 0, 39, 0, 0, 0, 44, 0, 0, 0, 68, 0, 0, 0, 39, 0, 0, 0, 52, 0, 0, 0, 60]
abbrev dktX9_firstHere_1 : List UInt8 := dkwX9_firstHere_1 ++ dktX9_firstHere_2
def dkwX9_firstHere_0 : List UInt8 := [27]
abbrev dktX9_firstHere_0 : List UInt8 := dkwX9_firstHere_0 ++ dktX9_firstHere_1
theorem dksX9_firstHere_0 : cX9_firstHere.data.toList.drop 0 = dktX9_firstHere_0 := by decide +kernel
theorem dksX9_firstHere_1 : cX9_firstHere.data.toList.drop 1 = dktX9_firstHere_1 := dk_seg dksX9_firstHere_0 1 rfl rfl
theorem dksX9_firstHere_2 : cX9_firstHere.data.toList.drop 40 = dktX9_firstHere_2 := dk_seg dksX9_firstHere_1 39 rfl rfl
theorem dksX9_firstHere_3 : cX9_firstHere.data.toList.drop 63 = dktX9_firstHere_3 := dk_seg dksX9_firstHere_2 23 rfl rfl
theorem dX9_firstHere_0 : decode cX9_firstHere 0 = .ok (.iload_n 1, 1) := dk_27 (dk_at dksX9_firstHere_0 0 rfl rfl)
theorem dX9_firstHere_1 : decode cX9_firstHere 1 = .ok (.tableswitch 68 3 8 #[39, 44, 68, 39, 52, 60], 39) := by decide +kernel
theorem dX9_firstHere_40 : decode cX9_firstHere 40 = .ok (.aload_n 0, 1) := dk_42 (dk_at dksX9_firstHere_2 0 rfl rfl)
theorem dX9_firstHere_41 : decode cX9_firstHere 41 = .ok (.invokevirtual 283, 3) := dk_182 1 27 (dk_at dksX9_firstHere_2 1 rfl rfl)
theorem dX9_firstHere_44 : decode cX9_firstHere 44 = .ok (.ireturn, 1) := dk_172 (dk_at dksX9_firstHere_2 4 rfl rfl)
theorem dX9_firstHere_45 : decode cX9_firstHere 45 = .ok (.aload_n 0, 1) := dk_42 (dk_at dksX9_firstHere_2 5 rfl rfl)
theorem dX9_firstHere_46 : decode cX9_firstHere 46 = .ok (.iconst 0, 1) := dk_3 (dk_at dksX9_firstHere_2 6 rfl rfl)
theorem dX9_firstHere_47 : decode cX9_firstHere 47 = .ok (.bipush 59, 2) := dk_16 59 (dk_at dksX9_firstHere_2 7 rfl rfl)
theorem dX9_firstHere_49 : decode cX9_firstHere 49 = .ok (.invokevirtual 226, 3) := dk_182 0 226 (dk_at dksX9_firstHere_2 9 rfl rfl)
theorem dX9_firstHere_52 : decode cX9_firstHere 52 = .ok (.ireturn, 1) := dk_172 (dk_at dksX9_firstHere_2 12 rfl rfl)
theorem dX9_firstHere_53 : decode cX9_firstHere 53 = .ok (.aload_n 0, 1) := dk_42 (dk_at dksX9_firstHere_2 13 rfl rfl)
theorem dX9_firstHere_54 : decode cX9_firstHere 54 = .ok (.iconst 0, 1) := dk_3 (dk_at dksX9_firstHere_2 14 rfl rfl)
theorem dX9_firstHere_55 : decode cX9_firstHere 55 = .ok (.bipush 26, 2) := dk_16 26 (dk_at dksX9_firstHere_2 15 rfl rfl)
theorem dX9_firstHere_57 : decode cX9_firstHere 57 = .ok (.invokevirtual 226, 3) := dk_182 0 226 (dk_at dksX9_firstHere_2 17 rfl rfl)
theorem dX9_firstHere_60 : decode cX9_firstHere 60 = .ok (.ireturn, 1) := dk_172 (dk_at dksX9_firstHere_2 20 rfl rfl)
theorem dX9_firstHere_61 : decode cX9_firstHere 61 = .ok (.aload_n 0, 1) := dk_42 (dk_at dksX9_firstHere_2 21 rfl rfl)
theorem dX9_firstHere_62 : decode cX9_firstHere 62 = .ok (.iconst 0, 1) := dk_3 (dk_at dksX9_firstHere_2 22 rfl rfl)
theorem dX9_firstHere_63 : decode cX9_firstHere 63 = .ok (.bipush 20, 2) := dk_16 20 (dk_at dksX9_firstHere_3 0 rfl rfl)
theorem dX9_firstHere_65 : decode cX9_firstHere 65 = .ok (.invokevirtual 226, 3) := dk_182 0 226 (dk_at dksX9_firstHere_3 2 rfl rfl)
theorem dX9_firstHere_68 : decode cX9_firstHere 68 = .ok (.ireturn, 1) := dk_172 (dk_at dksX9_firstHere_3 5 rfl rfl)
theorem dX9_firstHere_69 : decode cX9_firstHere 69 = .ok (.aload_n 0, 1) := dk_42 (dk_at dksX9_firstHere_3 6 rfl rfl)
theorem dX9_firstHere_70 : decode cX9_firstHere 70 = .ok (.iconst 0, 1) := dk_3 (dk_at dksX9_firstHere_3 7 rfl rfl)
theorem dX9_firstHere_71 : decode cX9_firstHere 71 = .ok (.sipush 200, 3) := dk_17 0 200 (dk_at dksX9_firstHere_3 8 rfl rfl)
theorem dX9_firstHere_74 : decode cX9_firstHere 74 = .ok (.invokevirtual 226, 3) := dk_182 0 226 (dk_at dksX9_firstHere_3 11 rfl rfl)
theorem dX9_firstHere_77 : decode cX9_firstHere 77 = .ok (.ireturn, 1) := dk_172 (dk_at dksX9_firstHere_3 14 rfl rfl)
abbrev cX9_named : ByteArray := prog_29_method_50_code
def yX9_named : MethodName := ⟨RX9, "named", "()I"⟩
def dkwX9_named_1 : List UInt8 := [182, 0, 202, 153, 0, 5, 3, 172, 42, 182, 0, 216, 60, 42, 182, 0, 206, 27, 172]
abbrev dktX9_named_1 : List UInt8 := dkwX9_named_1 ++ []
def dkwX9_named_0 : List UInt8 := [42, 182, 0, 212, 154, 0, 24, 42, 42, 182, 0, 216, 2, 160, 0, 7, 4, 167, 0, 4, 3, 7]
abbrev dktX9_named_0 : List UInt8 := dkwX9_named_0 ++ dktX9_named_1
theorem dksX9_named_0 : cX9_named.data.toList.drop 0 = dktX9_named_0 := by decide +kernel
theorem dksX9_named_1 : cX9_named.data.toList.drop 22 = dktX9_named_1 := dk_seg dksX9_named_0 22 rfl rfl
theorem dX9_named_0 : decode cX9_named 0 = .ok (.aload_n 0, 1) := dk_42 (dk_at dksX9_named_0 0 rfl rfl)
theorem dX9_named_1 : decode cX9_named 1 = .ok (.invokevirtual 212, 3) := dk_182 0 212 (dk_at dksX9_named_0 1 rfl rfl)
theorem dX9_named_4 : decode cX9_named 4 = .ok (.ifCond .ne 24, 3) := dk_154 0 24 (dk_at dksX9_named_0 4 rfl rfl)
theorem dX9_named_7 : decode cX9_named 7 = .ok (.aload_n 0, 1) := dk_42 (dk_at dksX9_named_0 7 rfl rfl)
theorem dX9_named_8 : decode cX9_named 8 = .ok (.aload_n 0, 1) := dk_42 (dk_at dksX9_named_0 8 rfl rfl)
theorem dX9_named_9 : decode cX9_named 9 = .ok (.invokevirtual 216, 3) := dk_182 0 216 (dk_at dksX9_named_0 9 rfl rfl)
theorem dX9_named_12 : decode cX9_named 12 = .ok (.iconst (-1), 1) := dk_2 (dk_at dksX9_named_0 12 rfl rfl)
theorem dX9_named_13 : decode cX9_named 13 = .ok (.if_icmp .ne 7, 3) := dk_160 0 7 (dk_at dksX9_named_0 13 rfl rfl)
theorem dX9_named_16 : decode cX9_named 16 = .ok (.iconst 1, 1) := dk_4 (dk_at dksX9_named_0 16 rfl rfl)
theorem dX9_named_17 : decode cX9_named 17 = .ok (.goto 4, 3) := dk_167 0 4 (dk_at dksX9_named_0 17 rfl rfl)
theorem dX9_named_20 : decode cX9_named 20 = .ok (.iconst 0, 1) := dk_3 (dk_at dksX9_named_0 20 rfl rfl)
theorem dX9_named_21 : decode cX9_named 21 = .ok (.iconst 4, 1) := dk_7 (dk_at dksX9_named_0 21 rfl rfl)
theorem dX9_named_22 : decode cX9_named 22 = .ok (.invokevirtual 202, 3) := dk_182 0 202 (dk_at dksX9_named_1 0 rfl rfl)
theorem dX9_named_25 : decode cX9_named 25 = .ok (.ifCond .eq 5, 3) := dk_153 0 5 (dk_at dksX9_named_1 3 rfl rfl)
theorem dX9_named_28 : decode cX9_named 28 = .ok (.iconst 0, 1) := dk_3 (dk_at dksX9_named_1 6 rfl rfl)
theorem dX9_named_29 : decode cX9_named 29 = .ok (.ireturn, 1) := dk_172 (dk_at dksX9_named_1 7 rfl rfl)
theorem dX9_named_30 : decode cX9_named 30 = .ok (.aload_n 0, 1) := dk_42 (dk_at dksX9_named_1 8 rfl rfl)
theorem dX9_named_31 : decode cX9_named 31 = .ok (.invokevirtual 216, 3) := dk_182 0 216 (dk_at dksX9_named_1 9 rfl rfl)
theorem dX9_named_34 : decode cX9_named 34 = .ok (.istore_n 1, 1) := dk_60 (dk_at dksX9_named_1 12 rfl rfl)
theorem dX9_named_35 : decode cX9_named 35 = .ok (.aload_n 0, 1) := dk_42 (dk_at dksX9_named_1 13 rfl rfl)
theorem dX9_named_36 : decode cX9_named 36 = .ok (.invokevirtual 206, 3) := dk_182 0 206 (dk_at dksX9_named_1 14 rfl rfl)
theorem dX9_named_39 : decode cX9_named 39 = .ok (.iload_n 1, 1) := dk_27 (dk_at dksX9_named_1 17 rfl rfl)
theorem dX9_named_40 : decode cX9_named 40 = .ok (.ireturn, 1) := dk_172 (dk_at dksX9_named_1 18 rfl rfl)
abbrev cX9_restHere : ByteArray := prog_29_method_62_code
def yX9_restHere : MethodName := ⟨RX9, "restHere", "(I)V"⟩
def dkwX9_restHere_6 : List UInt8 := [42, 4, 16, 20, 182, 0, 226, 79, 167, 0, 13, 42, 180, 0, 51, 42, 180, 1, 30, 3, 79, 177]
abbrev dktX9_restHere_6 : List UInt8 := dkwX9_restHere_6 ++ []
def dkwX9_restHere_5 : List UInt8 := [180, 0, 51, 42, 180, 1, 30, 42, 3, 17, 0, 200, 182, 0, 226, 79, 42, 180, 0, 54, 42, 180, 1, 30]
abbrev dktX9_restHere_5 : List UInt8 := dkwX9_restHere_5 ++ dktX9_restHere_6
def dkwX9_restHere_4 : List UInt8 := [17, 0, 200, 182, 0, 226, 79, 42, 180, 0, 54, 42, 180, 1, 30, 42, 182, 1, 36, 79, 167, 0, 49, 42]
abbrev dktX9_restHere_4 : List UInt8 := dkwX9_restHere_4 ++ dktX9_restHere_5
def dkwX9_restHere_3 : List UInt8 := [42, 4, 17, 0, 200, 182, 0, 226, 79, 167, 0, 82, 42, 180, 0, 51, 42, 180, 1, 30, 42, 4]
abbrev dktX9_restHere_3 : List UInt8 := dkwX9_restHere_3 ++ dktX9_restHere_4
def dkwX9_restHere_2 : List UInt8 := [42, 180, 0, 51, 42, 180, 1, 30, 42, 182, 1, 33, 79, 167, 0, 102, 42, 180, 0, 51, 42, 180, 1, 30]
abbrev dktX9_restHere_2 : List UInt8 := dkwX9_restHere_2 ++ dktX9_restHere_3
def dkwX9_restHere_1 : List UInt8 := [170, 0, 0, 0, 0, 0, 148, 0, 0, 0, 0, 0, 0, 0, 6, 0, 0, 0, 43, 0, 0, 0, 43, 0, 0, 0, 59, 0, 0, 0, 148, 0, 0, 0, 148, 0, 0, 0, 79, 0, 0, 0, 112]
abbrev dktX9_restHere_1 : List UInt8 := dkwX9_restHere_1 ++ dktX9_restHere_2
def dkwX9_restHere_0 : List UInt8 := [27]
abbrev dktX9_restHere_0 : List UInt8 := dkwX9_restHere_0 ++ dktX9_restHere_1
theorem dksX9_restHere_0 : cX9_restHere.data.toList.drop 0 = dktX9_restHere_0 := by decide +kernel
theorem dksX9_restHere_1 : cX9_restHere.data.toList.drop 1 = dktX9_restHere_1 := dk_seg dksX9_restHere_0 1 rfl rfl
theorem dksX9_restHere_2 : cX9_restHere.data.toList.drop 44 = dktX9_restHere_2 := dk_seg dksX9_restHere_1 43 rfl rfl
theorem dksX9_restHere_3 : cX9_restHere.data.toList.drop 68 = dktX9_restHere_3 := dk_seg dksX9_restHere_2 24 rfl rfl
theorem dksX9_restHere_4 : cX9_restHere.data.toList.drop 90 = dktX9_restHere_4 := dk_seg dksX9_restHere_3 22 rfl rfl
theorem dksX9_restHere_5 : cX9_restHere.data.toList.drop 114 = dktX9_restHere_5 := dk_seg dksX9_restHere_4 24 rfl rfl
theorem dksX9_restHere_6 : cX9_restHere.data.toList.drop 138 = dktX9_restHere_6 := dk_seg dksX9_restHere_5 24 rfl rfl
theorem dX9_restHere_0 : decode cX9_restHere 0 = .ok (.iload_n 1, 1) := dk_27 (dk_at dksX9_restHere_0 0 rfl rfl)
theorem dX9_restHere_1 : decode cX9_restHere 1 = .ok (.tableswitch 148 0 6 #[43, 43, 59, 148, 148, 79, 112], 43) := by decide +kernel
theorem dX9_restHere_44 : decode cX9_restHere 44 = .ok (.aload_n 0, 1) := dk_42 (dk_at dksX9_restHere_2 0 rfl rfl)
theorem dX9_restHere_45 : decode cX9_restHere 45 = .ok (.getfield 51, 3) := dk_180 0 51 (dk_at dksX9_restHere_2 1 rfl rfl)
theorem dX9_restHere_48 : decode cX9_restHere 48 = .ok (.aload_n 0, 1) := dk_42 (dk_at dksX9_restHere_2 4 rfl rfl)
theorem dX9_restHere_49 : decode cX9_restHere 49 = .ok (.getfield 286, 3) := dk_180 1 30 (dk_at dksX9_restHere_2 5 rfl rfl)
theorem dX9_restHere_52 : decode cX9_restHere 52 = .ok (.aload_n 0, 1) := dk_42 (dk_at dksX9_restHere_2 8 rfl rfl)
theorem dX9_restHere_53 : decode cX9_restHere 53 = .ok (.invokevirtual 289, 3) := dk_182 1 33 (dk_at dksX9_restHere_2 9 rfl rfl)
theorem dX9_restHere_56 : decode cX9_restHere 56 = .ok (.iastore, 1) := dk_79 (dk_at dksX9_restHere_2 12 rfl rfl)
theorem dX9_restHere_57 : decode cX9_restHere 57 = .ok (.goto 102, 3) := dk_167 0 102 (dk_at dksX9_restHere_2 13 rfl rfl)
theorem dX9_restHere_60 : decode cX9_restHere 60 = .ok (.aload_n 0, 1) := dk_42 (dk_at dksX9_restHere_2 16 rfl rfl)
theorem dX9_restHere_61 : decode cX9_restHere 61 = .ok (.getfield 51, 3) := dk_180 0 51 (dk_at dksX9_restHere_2 17 rfl rfl)
theorem dX9_restHere_64 : decode cX9_restHere 64 = .ok (.aload_n 0, 1) := dk_42 (dk_at dksX9_restHere_2 20 rfl rfl)
theorem dX9_restHere_65 : decode cX9_restHere 65 = .ok (.getfield 286, 3) := dk_180 1 30 (dk_at dksX9_restHere_2 21 rfl rfl)
theorem dX9_restHere_68 : decode cX9_restHere 68 = .ok (.aload_n 0, 1) := dk_42 (dk_at dksX9_restHere_3 0 rfl rfl)
theorem dX9_restHere_69 : decode cX9_restHere 69 = .ok (.iconst 1, 1) := dk_4 (dk_at dksX9_restHere_3 1 rfl rfl)
theorem dX9_restHere_70 : decode cX9_restHere 70 = .ok (.sipush 200, 3) := dk_17 0 200 (dk_at dksX9_restHere_3 2 rfl rfl)
theorem dX9_restHere_73 : decode cX9_restHere 73 = .ok (.invokevirtual 226, 3) := dk_182 0 226 (dk_at dksX9_restHere_3 5 rfl rfl)
theorem dX9_restHere_76 : decode cX9_restHere 76 = .ok (.iastore, 1) := dk_79 (dk_at dksX9_restHere_3 8 rfl rfl)
theorem dX9_restHere_77 : decode cX9_restHere 77 = .ok (.goto 82, 3) := dk_167 0 82 (dk_at dksX9_restHere_3 9 rfl rfl)
theorem dX9_restHere_80 : decode cX9_restHere 80 = .ok (.aload_n 0, 1) := dk_42 (dk_at dksX9_restHere_3 12 rfl rfl)
theorem dX9_restHere_81 : decode cX9_restHere 81 = .ok (.getfield 51, 3) := dk_180 0 51 (dk_at dksX9_restHere_3 13 rfl rfl)
theorem dX9_restHere_84 : decode cX9_restHere 84 = .ok (.aload_n 0, 1) := dk_42 (dk_at dksX9_restHere_3 16 rfl rfl)
theorem dX9_restHere_85 : decode cX9_restHere 85 = .ok (.getfield 286, 3) := dk_180 1 30 (dk_at dksX9_restHere_3 17 rfl rfl)
theorem dX9_restHere_88 : decode cX9_restHere 88 = .ok (.aload_n 0, 1) := dk_42 (dk_at dksX9_restHere_3 20 rfl rfl)
theorem dX9_restHere_89 : decode cX9_restHere 89 = .ok (.iconst 1, 1) := dk_4 (dk_at dksX9_restHere_3 21 rfl rfl)
theorem dX9_restHere_90 : decode cX9_restHere 90 = .ok (.sipush 200, 3) := dk_17 0 200 (dk_at dksX9_restHere_4 0 rfl rfl)
theorem dX9_restHere_93 : decode cX9_restHere 93 = .ok (.invokevirtual 226, 3) := dk_182 0 226 (dk_at dksX9_restHere_4 3 rfl rfl)
theorem dX9_restHere_96 : decode cX9_restHere 96 = .ok (.iastore, 1) := dk_79 (dk_at dksX9_restHere_4 6 rfl rfl)
theorem dX9_restHere_97 : decode cX9_restHere 97 = .ok (.aload_n 0, 1) := dk_42 (dk_at dksX9_restHere_4 7 rfl rfl)
theorem dX9_restHere_98 : decode cX9_restHere 98 = .ok (.getfield 54, 3) := dk_180 0 54 (dk_at dksX9_restHere_4 8 rfl rfl)
theorem dX9_restHere_101 : decode cX9_restHere 101 = .ok (.aload_n 0, 1) := dk_42 (dk_at dksX9_restHere_4 11 rfl rfl)
theorem dX9_restHere_102 : decode cX9_restHere 102 = .ok (.getfield 286, 3) := dk_180 1 30 (dk_at dksX9_restHere_4 12 rfl rfl)
theorem dX9_restHere_105 : decode cX9_restHere 105 = .ok (.aload_n 0, 1) := dk_42 (dk_at dksX9_restHere_4 15 rfl rfl)
theorem dX9_restHere_106 : decode cX9_restHere 106 = .ok (.invokevirtual 292, 3) := dk_182 1 36 (dk_at dksX9_restHere_4 16 rfl rfl)
theorem dX9_restHere_109 : decode cX9_restHere 109 = .ok (.iastore, 1) := dk_79 (dk_at dksX9_restHere_4 19 rfl rfl)
theorem dX9_restHere_110 : decode cX9_restHere 110 = .ok (.goto 49, 3) := dk_167 0 49 (dk_at dksX9_restHere_4 20 rfl rfl)
theorem dX9_restHere_113 : decode cX9_restHere 113 = .ok (.aload_n 0, 1) := dk_42 (dk_at dksX9_restHere_4 23 rfl rfl)
theorem dX9_restHere_114 : decode cX9_restHere 114 = .ok (.getfield 51, 3) := dk_180 0 51 (dk_at dksX9_restHere_5 0 rfl rfl)
theorem dX9_restHere_117 : decode cX9_restHere 117 = .ok (.aload_n 0, 1) := dk_42 (dk_at dksX9_restHere_5 3 rfl rfl)
theorem dX9_restHere_118 : decode cX9_restHere 118 = .ok (.getfield 286, 3) := dk_180 1 30 (dk_at dksX9_restHere_5 4 rfl rfl)
theorem dX9_restHere_121 : decode cX9_restHere 121 = .ok (.aload_n 0, 1) := dk_42 (dk_at dksX9_restHere_5 7 rfl rfl)
theorem dX9_restHere_122 : decode cX9_restHere 122 = .ok (.iconst 0, 1) := dk_3 (dk_at dksX9_restHere_5 8 rfl rfl)
theorem dX9_restHere_123 : decode cX9_restHere 123 = .ok (.sipush 200, 3) := dk_17 0 200 (dk_at dksX9_restHere_5 9 rfl rfl)
theorem dX9_restHere_126 : decode cX9_restHere 126 = .ok (.invokevirtual 226, 3) := dk_182 0 226 (dk_at dksX9_restHere_5 12 rfl rfl)
theorem dX9_restHere_129 : decode cX9_restHere 129 = .ok (.iastore, 1) := dk_79 (dk_at dksX9_restHere_5 15 rfl rfl)
theorem dX9_restHere_130 : decode cX9_restHere 130 = .ok (.aload_n 0, 1) := dk_42 (dk_at dksX9_restHere_5 16 rfl rfl)
theorem dX9_restHere_131 : decode cX9_restHere 131 = .ok (.getfield 54, 3) := dk_180 0 54 (dk_at dksX9_restHere_5 17 rfl rfl)
theorem dX9_restHere_134 : decode cX9_restHere 134 = .ok (.aload_n 0, 1) := dk_42 (dk_at dksX9_restHere_5 20 rfl rfl)
theorem dX9_restHere_135 : decode cX9_restHere 135 = .ok (.getfield 286, 3) := dk_180 1 30 (dk_at dksX9_restHere_5 21 rfl rfl)
theorem dX9_restHere_138 : decode cX9_restHere 138 = .ok (.aload_n 0, 1) := dk_42 (dk_at dksX9_restHere_6 0 rfl rfl)
theorem dX9_restHere_139 : decode cX9_restHere 139 = .ok (.iconst 1, 1) := dk_4 (dk_at dksX9_restHere_6 1 rfl rfl)
theorem dX9_restHere_140 : decode cX9_restHere 140 = .ok (.bipush 20, 2) := dk_16 20 (dk_at dksX9_restHere_6 2 rfl rfl)
theorem dX9_restHere_142 : decode cX9_restHere 142 = .ok (.invokevirtual 226, 3) := dk_182 0 226 (dk_at dksX9_restHere_6 4 rfl rfl)
theorem dX9_restHere_145 : decode cX9_restHere 145 = .ok (.iastore, 1) := dk_79 (dk_at dksX9_restHere_6 7 rfl rfl)
theorem dX9_restHere_146 : decode cX9_restHere 146 = .ok (.goto 13, 3) := dk_167 0 13 (dk_at dksX9_restHere_6 8 rfl rfl)
theorem dX9_restHere_149 : decode cX9_restHere 149 = .ok (.aload_n 0, 1) := dk_42 (dk_at dksX9_restHere_6 11 rfl rfl)
theorem dX9_restHere_150 : decode cX9_restHere 150 = .ok (.getfield 51, 3) := dk_180 0 51 (dk_at dksX9_restHere_6 12 rfl rfl)
theorem dX9_restHere_153 : decode cX9_restHere 153 = .ok (.aload_n 0, 1) := dk_42 (dk_at dksX9_restHere_6 15 rfl rfl)
theorem dX9_restHere_154 : decode cX9_restHere 154 = .ok (.getfield 286, 3) := dk_180 1 30 (dk_at dksX9_restHere_6 16 rfl rfl)
theorem dX9_restHere_157 : decode cX9_restHere 157 = .ok (.iconst 0, 1) := dk_3 (dk_at dksX9_restHere_6 19 rfl rfl)
theorem dX9_restHere_158 : decode cX9_restHere 158 = .ok (.iastore, 1) := dk_79 (dk_at dksX9_restHere_6 20 rfl rfl)
theorem dX9_restHere_159 : decode cX9_restHere 159 = .ok (.return_, 1) := dk_177 (dk_at dksX9_restHere_6 21 rfl rfl)
abbrev cX9_lettersHere : ByteArray := prog_29_method_60_code
def yX9_lettersHere : MethodName := ⟨RX9, "lettersHere", "()I"⟩
def dkwX9_lettersHere_1 : List UInt8 := [180, 0, 166, 60, 42, 180, 0, 54, 42, 180, 1, 30, 42, 182, 0, 188, 79, 42, 182, 0, 206, 27, 172]
abbrev dktX9_lettersHere_1 : List UInt8 := dkwX9_lettersHere_1 ++ []
def dkwX9_lettersHere_0 : List UInt8 := [42, 42, 180, 0, 172, 4, 159, 0, 7, 4, 167, 0, 4, 3, 4, 182, 0, 202, 153, 0, 5, 3, 172, 42]
abbrev dktX9_lettersHere_0 : List UInt8 := dkwX9_lettersHere_0 ++ dktX9_lettersHere_1
theorem dksX9_lettersHere_0 : cX9_lettersHere.data.toList.drop 0 = dktX9_lettersHere_0 := by decide +kernel
theorem dksX9_lettersHere_1 : cX9_lettersHere.data.toList.drop 24 = dktX9_lettersHere_1 := dk_seg dksX9_lettersHere_0 24 rfl rfl
theorem dX9_lettersHere_0 : decode cX9_lettersHere 0 = .ok (.aload_n 0, 1) := dk_42 (dk_at dksX9_lettersHere_0 0 rfl rfl)
theorem dX9_lettersHere_1 : decode cX9_lettersHere 1 = .ok (.aload_n 0, 1) := dk_42 (dk_at dksX9_lettersHere_0 1 rfl rfl)
theorem dX9_lettersHere_2 : decode cX9_lettersHere 2 = .ok (.getfield 172, 3) := dk_180 0 172 (dk_at dksX9_lettersHere_0 2 rfl rfl)
theorem dX9_lettersHere_5 : decode cX9_lettersHere 5 = .ok (.iconst 1, 1) := dk_4 (dk_at dksX9_lettersHere_0 5 rfl rfl)
theorem dX9_lettersHere_6 : decode cX9_lettersHere 6 = .ok (.if_icmp .eq 7, 3) := dk_159 0 7 (dk_at dksX9_lettersHere_0 6 rfl rfl)
theorem dX9_lettersHere_9 : decode cX9_lettersHere 9 = .ok (.iconst 1, 1) := dk_4 (dk_at dksX9_lettersHere_0 9 rfl rfl)
theorem dX9_lettersHere_10 : decode cX9_lettersHere 10 = .ok (.goto 4, 3) := dk_167 0 4 (dk_at dksX9_lettersHere_0 10 rfl rfl)
theorem dX9_lettersHere_13 : decode cX9_lettersHere 13 = .ok (.iconst 0, 1) := dk_3 (dk_at dksX9_lettersHere_0 13 rfl rfl)
theorem dX9_lettersHere_14 : decode cX9_lettersHere 14 = .ok (.iconst 1, 1) := dk_4 (dk_at dksX9_lettersHere_0 14 rfl rfl)
theorem dX9_lettersHere_15 : decode cX9_lettersHere 15 = .ok (.invokevirtual 202, 3) := dk_182 0 202 (dk_at dksX9_lettersHere_0 15 rfl rfl)
theorem dX9_lettersHere_18 : decode cX9_lettersHere 18 = .ok (.ifCond .eq 5, 3) := dk_153 0 5 (dk_at dksX9_lettersHere_0 18 rfl rfl)
theorem dX9_lettersHere_21 : decode cX9_lettersHere 21 = .ok (.iconst 0, 1) := dk_3 (dk_at dksX9_lettersHere_0 21 rfl rfl)
theorem dX9_lettersHere_22 : decode cX9_lettersHere 22 = .ok (.ireturn, 1) := dk_172 (dk_at dksX9_lettersHere_0 22 rfl rfl)
theorem dX9_lettersHere_23 : decode cX9_lettersHere 23 = .ok (.aload_n 0, 1) := dk_42 (dk_at dksX9_lettersHere_0 23 rfl rfl)
theorem dX9_lettersHere_24 : decode cX9_lettersHere 24 = .ok (.getfield 166, 3) := dk_180 0 166 (dk_at dksX9_lettersHere_1 0 rfl rfl)
theorem dX9_lettersHere_27 : decode cX9_lettersHere 27 = .ok (.istore_n 1, 1) := dk_60 (dk_at dksX9_lettersHere_1 3 rfl rfl)
theorem dX9_lettersHere_28 : decode cX9_lettersHere 28 = .ok (.aload_n 0, 1) := dk_42 (dk_at dksX9_lettersHere_1 4 rfl rfl)
theorem dX9_lettersHere_29 : decode cX9_lettersHere 29 = .ok (.getfield 54, 3) := dk_180 0 54 (dk_at dksX9_lettersHere_1 5 rfl rfl)
theorem dX9_lettersHere_32 : decode cX9_lettersHere 32 = .ok (.aload_n 0, 1) := dk_42 (dk_at dksX9_lettersHere_1 8 rfl rfl)
theorem dX9_lettersHere_33 : decode cX9_lettersHere 33 = .ok (.getfield 286, 3) := dk_180 1 30 (dk_at dksX9_lettersHere_1 9 rfl rfl)
theorem dX9_lettersHere_36 : decode cX9_lettersHere 36 = .ok (.aload_n 0, 1) := dk_42 (dk_at dksX9_lettersHere_1 12 rfl rfl)
theorem dX9_lettersHere_37 : decode cX9_lettersHere 37 = .ok (.invokevirtual 188, 3) := dk_182 0 188 (dk_at dksX9_lettersHere_1 13 rfl rfl)
theorem dX9_lettersHere_40 : decode cX9_lettersHere 40 = .ok (.iastore, 1) := dk_79 (dk_at dksX9_lettersHere_1 16 rfl rfl)
theorem dX9_lettersHere_41 : decode cX9_lettersHere 41 = .ok (.aload_n 0, 1) := dk_42 (dk_at dksX9_lettersHere_1 17 rfl rfl)
theorem dX9_lettersHere_42 : decode cX9_lettersHere 42 = .ok (.invokevirtual 206, 3) := dk_182 0 206 (dk_at dksX9_lettersHere_1 18 rfl rfl)
theorem dX9_lettersHere_45 : decode cX9_lettersHere 45 = .ok (.iload_n 1, 1) := dk_27 (dk_at dksX9_lettersHere_1 21 rfl rfl)
theorem dX9_lettersHere_46 : decode cX9_lettersHere 46 = .ok (.ireturn, 1) := dk_172 (dk_at dksX9_lettersHere_1 22 rfl rfl)
abbrev cX9_twoHere : ByteArray := prog_29_method_61_code
def yX9_twoHere : MethodName := ⟨RX9, "twoHere", "()I"⟩
def dkwX9_twoHere_4 : List UInt8 := [16, 97, 100, 60, 42, 182, 0, 206, 27, 172]
abbrev dktX9_twoHere_4 : List UInt8 := dkwX9_twoHere_4 ++ []
def dkwX9_twoHere_3 : List UInt8 := [180, 0, 38, 42, 180, 0, 166, 46, 16, 97, 100, 104, 42, 180, 0, 38, 42, 180, 0, 166, 4, 96, 46, 96]
abbrev dktX9_twoHere_3 : List UInt8 := dkwX9_twoHere_3 ++ dktX9_twoHere_4
def dkwX9_twoHere_2 : List UInt8 := [4, 96, 46, 160, 0, 7, 4, 167, 0, 4, 3, 5, 182, 0, 202, 153, 0, 5, 3, 172, 16, 26, 42]
abbrev dktX9_twoHere_2 : List UInt8 := dkwX9_twoHere_2 ++ dktX9_twoHere_3
def dkwX9_twoHere_1 : List UInt8 := [182, 0, 188, 5, 160, 0, 26, 42, 180, 0, 38, 42, 180, 0, 166, 46, 42, 180, 0, 38, 42, 180, 0, 166]
abbrev dktX9_twoHere_1 : List UInt8 := dkwX9_twoHere_1 ++ dktX9_twoHere_2
def dkwX9_twoHere_0 : List UInt8 := [42, 42, 180, 0, 172, 4, 159, 0, 7, 4, 167, 0, 4, 3, 4, 182, 0, 202, 154, 0, 47, 42, 42]
abbrev dktX9_twoHere_0 : List UInt8 := dkwX9_twoHere_0 ++ dktX9_twoHere_1
theorem dksX9_twoHere_0 : cX9_twoHere.data.toList.drop 0 = dktX9_twoHere_0 := by decide +kernel
theorem dksX9_twoHere_1 : cX9_twoHere.data.toList.drop 23 = dktX9_twoHere_1 := dk_seg dksX9_twoHere_0 23 rfl rfl
theorem dksX9_twoHere_2 : cX9_twoHere.data.toList.drop 47 = dktX9_twoHere_2 := dk_seg dksX9_twoHere_1 24 rfl rfl
theorem dksX9_twoHere_3 : cX9_twoHere.data.toList.drop 70 = dktX9_twoHere_3 := dk_seg dksX9_twoHere_2 23 rfl rfl
theorem dksX9_twoHere_4 : cX9_twoHere.data.toList.drop 94 = dktX9_twoHere_4 := dk_seg dksX9_twoHere_3 24 rfl rfl
theorem dX9_twoHere_0 : decode cX9_twoHere 0 = .ok (.aload_n 0, 1) := dk_42 (dk_at dksX9_twoHere_0 0 rfl rfl)
theorem dX9_twoHere_1 : decode cX9_twoHere 1 = .ok (.aload_n 0, 1) := dk_42 (dk_at dksX9_twoHere_0 1 rfl rfl)
theorem dX9_twoHere_2 : decode cX9_twoHere 2 = .ok (.getfield 172, 3) := dk_180 0 172 (dk_at dksX9_twoHere_0 2 rfl rfl)
theorem dX9_twoHere_5 : decode cX9_twoHere 5 = .ok (.iconst 1, 1) := dk_4 (dk_at dksX9_twoHere_0 5 rfl rfl)
theorem dX9_twoHere_6 : decode cX9_twoHere 6 = .ok (.if_icmp .eq 7, 3) := dk_159 0 7 (dk_at dksX9_twoHere_0 6 rfl rfl)
theorem dX9_twoHere_9 : decode cX9_twoHere 9 = .ok (.iconst 1, 1) := dk_4 (dk_at dksX9_twoHere_0 9 rfl rfl)
theorem dX9_twoHere_10 : decode cX9_twoHere 10 = .ok (.goto 4, 3) := dk_167 0 4 (dk_at dksX9_twoHere_0 10 rfl rfl)
theorem dX9_twoHere_13 : decode cX9_twoHere 13 = .ok (.iconst 0, 1) := dk_3 (dk_at dksX9_twoHere_0 13 rfl rfl)
theorem dX9_twoHere_14 : decode cX9_twoHere 14 = .ok (.iconst 1, 1) := dk_4 (dk_at dksX9_twoHere_0 14 rfl rfl)
theorem dX9_twoHere_15 : decode cX9_twoHere 15 = .ok (.invokevirtual 202, 3) := dk_182 0 202 (dk_at dksX9_twoHere_0 15 rfl rfl)
theorem dX9_twoHere_18 : decode cX9_twoHere 18 = .ok (.ifCond .ne 47, 3) := dk_154 0 47 (dk_at dksX9_twoHere_0 18 rfl rfl)
theorem dX9_twoHere_21 : decode cX9_twoHere 21 = .ok (.aload_n 0, 1) := dk_42 (dk_at dksX9_twoHere_0 21 rfl rfl)
theorem dX9_twoHere_22 : decode cX9_twoHere 22 = .ok (.aload_n 0, 1) := dk_42 (dk_at dksX9_twoHere_0 22 rfl rfl)
theorem dX9_twoHere_23 : decode cX9_twoHere 23 = .ok (.invokevirtual 188, 3) := dk_182 0 188 (dk_at dksX9_twoHere_1 0 rfl rfl)
theorem dX9_twoHere_26 : decode cX9_twoHere 26 = .ok (.iconst 2, 1) := dk_5 (dk_at dksX9_twoHere_1 3 rfl rfl)
theorem dX9_twoHere_27 : decode cX9_twoHere 27 = .ok (.if_icmp .ne 26, 3) := dk_160 0 26 (dk_at dksX9_twoHere_1 4 rfl rfl)
theorem dX9_twoHere_30 : decode cX9_twoHere 30 = .ok (.aload_n 0, 1) := dk_42 (dk_at dksX9_twoHere_1 7 rfl rfl)
theorem dX9_twoHere_31 : decode cX9_twoHere 31 = .ok (.getfield 38, 3) := dk_180 0 38 (dk_at dksX9_twoHere_1 8 rfl rfl)
theorem dX9_twoHere_34 : decode cX9_twoHere 34 = .ok (.aload_n 0, 1) := dk_42 (dk_at dksX9_twoHere_1 11 rfl rfl)
theorem dX9_twoHere_35 : decode cX9_twoHere 35 = .ok (.getfield 166, 3) := dk_180 0 166 (dk_at dksX9_twoHere_1 12 rfl rfl)
theorem dX9_twoHere_38 : decode cX9_twoHere 38 = .ok (.iaload, 1) := dk_46 (dk_at dksX9_twoHere_1 15 rfl rfl)
theorem dX9_twoHere_39 : decode cX9_twoHere 39 = .ok (.aload_n 0, 1) := dk_42 (dk_at dksX9_twoHere_1 16 rfl rfl)
theorem dX9_twoHere_40 : decode cX9_twoHere 40 = .ok (.getfield 38, 3) := dk_180 0 38 (dk_at dksX9_twoHere_1 17 rfl rfl)
theorem dX9_twoHere_43 : decode cX9_twoHere 43 = .ok (.aload_n 0, 1) := dk_42 (dk_at dksX9_twoHere_1 20 rfl rfl)
theorem dX9_twoHere_44 : decode cX9_twoHere 44 = .ok (.getfield 166, 3) := dk_180 0 166 (dk_at dksX9_twoHere_1 21 rfl rfl)
theorem dX9_twoHere_47 : decode cX9_twoHere 47 = .ok (.iconst 1, 1) := dk_4 (dk_at dksX9_twoHere_2 0 rfl rfl)
theorem dX9_twoHere_48 : decode cX9_twoHere 48 = .ok (.iadd, 1) := dk_96 (dk_at dksX9_twoHere_2 1 rfl rfl)
theorem dX9_twoHere_49 : decode cX9_twoHere 49 = .ok (.iaload, 1) := dk_46 (dk_at dksX9_twoHere_2 2 rfl rfl)
theorem dX9_twoHere_50 : decode cX9_twoHere 50 = .ok (.if_icmp .ne 7, 3) := dk_160 0 7 (dk_at dksX9_twoHere_2 3 rfl rfl)
theorem dX9_twoHere_53 : decode cX9_twoHere 53 = .ok (.iconst 1, 1) := dk_4 (dk_at dksX9_twoHere_2 6 rfl rfl)
theorem dX9_twoHere_54 : decode cX9_twoHere 54 = .ok (.goto 4, 3) := dk_167 0 4 (dk_at dksX9_twoHere_2 7 rfl rfl)
theorem dX9_twoHere_57 : decode cX9_twoHere 57 = .ok (.iconst 0, 1) := dk_3 (dk_at dksX9_twoHere_2 10 rfl rfl)
theorem dX9_twoHere_58 : decode cX9_twoHere 58 = .ok (.iconst 2, 1) := dk_5 (dk_at dksX9_twoHere_2 11 rfl rfl)
theorem dX9_twoHere_59 : decode cX9_twoHere 59 = .ok (.invokevirtual 202, 3) := dk_182 0 202 (dk_at dksX9_twoHere_2 12 rfl rfl)
theorem dX9_twoHere_62 : decode cX9_twoHere 62 = .ok (.ifCond .eq 5, 3) := dk_153 0 5 (dk_at dksX9_twoHere_2 15 rfl rfl)
theorem dX9_twoHere_65 : decode cX9_twoHere 65 = .ok (.iconst 0, 1) := dk_3 (dk_at dksX9_twoHere_2 18 rfl rfl)
theorem dX9_twoHere_66 : decode cX9_twoHere 66 = .ok (.ireturn, 1) := dk_172 (dk_at dksX9_twoHere_2 19 rfl rfl)
theorem dX9_twoHere_67 : decode cX9_twoHere 67 = .ok (.bipush 26, 2) := dk_16 26 (dk_at dksX9_twoHere_2 20 rfl rfl)
theorem dX9_twoHere_69 : decode cX9_twoHere 69 = .ok (.aload_n 0, 1) := dk_42 (dk_at dksX9_twoHere_2 22 rfl rfl)
theorem dX9_twoHere_70 : decode cX9_twoHere 70 = .ok (.getfield 38, 3) := dk_180 0 38 (dk_at dksX9_twoHere_3 0 rfl rfl)
theorem dX9_twoHere_73 : decode cX9_twoHere 73 = .ok (.aload_n 0, 1) := dk_42 (dk_at dksX9_twoHere_3 3 rfl rfl)
theorem dX9_twoHere_74 : decode cX9_twoHere 74 = .ok (.getfield 166, 3) := dk_180 0 166 (dk_at dksX9_twoHere_3 4 rfl rfl)
theorem dX9_twoHere_77 : decode cX9_twoHere 77 = .ok (.iaload, 1) := dk_46 (dk_at dksX9_twoHere_3 7 rfl rfl)
theorem dX9_twoHere_78 : decode cX9_twoHere 78 = .ok (.bipush 97, 2) := dk_16 97 (dk_at dksX9_twoHere_3 8 rfl rfl)
theorem dX9_twoHere_80 : decode cX9_twoHere 80 = .ok (.isub, 1) := dk_100 (dk_at dksX9_twoHere_3 10 rfl rfl)
theorem dX9_twoHere_81 : decode cX9_twoHere 81 = .ok (.imul, 1) := dk_104 (dk_at dksX9_twoHere_3 11 rfl rfl)
theorem dX9_twoHere_82 : decode cX9_twoHere 82 = .ok (.aload_n 0, 1) := dk_42 (dk_at dksX9_twoHere_3 12 rfl rfl)
theorem dX9_twoHere_83 : decode cX9_twoHere 83 = .ok (.getfield 38, 3) := dk_180 0 38 (dk_at dksX9_twoHere_3 13 rfl rfl)
theorem dX9_twoHere_86 : decode cX9_twoHere 86 = .ok (.aload_n 0, 1) := dk_42 (dk_at dksX9_twoHere_3 16 rfl rfl)
theorem dX9_twoHere_87 : decode cX9_twoHere 87 = .ok (.getfield 166, 3) := dk_180 0 166 (dk_at dksX9_twoHere_3 17 rfl rfl)
theorem dX9_twoHere_90 : decode cX9_twoHere 90 = .ok (.iconst 1, 1) := dk_4 (dk_at dksX9_twoHere_3 20 rfl rfl)
theorem dX9_twoHere_91 : decode cX9_twoHere 91 = .ok (.iadd, 1) := dk_96 (dk_at dksX9_twoHere_3 21 rfl rfl)
theorem dX9_twoHere_92 : decode cX9_twoHere 92 = .ok (.iaload, 1) := dk_46 (dk_at dksX9_twoHere_3 22 rfl rfl)
theorem dX9_twoHere_93 : decode cX9_twoHere 93 = .ok (.iadd, 1) := dk_96 (dk_at dksX9_twoHere_3 23 rfl rfl)
theorem dX9_twoHere_94 : decode cX9_twoHere 94 = .ok (.bipush 97, 2) := dk_16 97 (dk_at dksX9_twoHere_4 0 rfl rfl)
theorem dX9_twoHere_96 : decode cX9_twoHere 96 = .ok (.isub, 1) := dk_100 (dk_at dksX9_twoHere_4 2 rfl rfl)
theorem dX9_twoHere_97 : decode cX9_twoHere 97 = .ok (.istore_n 1, 1) := dk_60 (dk_at dksX9_twoHere_4 3 rfl rfl)
theorem dX9_twoHere_98 : decode cX9_twoHere 98 = .ok (.aload_n 0, 1) := dk_42 (dk_at dksX9_twoHere_4 4 rfl rfl)
theorem dX9_twoHere_99 : decode cX9_twoHere 99 = .ok (.invokevirtual 206, 3) := dk_182 0 206 (dk_at dksX9_twoHere_4 5 rfl rfl)
theorem dX9_twoHere_102 : decode cX9_twoHere 102 = .ok (.iload_n 1, 1) := dk_27 (dk_at dksX9_twoHere_4 8 rfl rfl)
theorem dX9_twoHere_103 : decode cX9_twoHere 103 = .ok (.ireturn, 1) := dk_172 (dk_at dksX9_twoHere_4 9 rfl rfl)
abbrev cX9_takesSign : ByteArray := prog_29_method_45_code
def yX9_takesSign : MethodName := ⟨RX9, "takesSign", "(I)V"⟩
def dkwX9_takesSign_1 : List UInt8 := [182, 0, 206, 177]
abbrev dktX9_takesSign_1 : List UInt8 := dkwX9_takesSign_1 ++ []
def dkwX9_takesSign_0 : List UInt8 := [42, 42, 27, 182, 0, 199, 154, 0, 7, 4, 167, 0, 4, 3, 4, 182, 0, 202, 154, 0, 7, 42]
abbrev dktX9_takesSign_0 : List UInt8 := dkwX9_takesSign_0 ++ dktX9_takesSign_1
theorem dksX9_takesSign_0 : cX9_takesSign.data.toList.drop 0 = dktX9_takesSign_0 := by decide +kernel
theorem dksX9_takesSign_1 : cX9_takesSign.data.toList.drop 22 = dktX9_takesSign_1 := dk_seg dksX9_takesSign_0 22 rfl rfl
theorem dX9_takesSign_0 : decode cX9_takesSign 0 = .ok (.aload_n 0, 1) := dk_42 (dk_at dksX9_takesSign_0 0 rfl rfl)
theorem dX9_takesSign_1 : decode cX9_takesSign 1 = .ok (.aload_n 0, 1) := dk_42 (dk_at dksX9_takesSign_0 1 rfl rfl)
theorem dX9_takesSign_2 : decode cX9_takesSign 2 = .ok (.iload_n 1, 1) := dk_27 (dk_at dksX9_takesSign_0 2 rfl rfl)
theorem dX9_takesSign_3 : decode cX9_takesSign 3 = .ok (.invokevirtual 199, 3) := dk_182 0 199 (dk_at dksX9_takesSign_0 3 rfl rfl)
theorem dX9_takesSign_6 : decode cX9_takesSign 6 = .ok (.ifCond .ne 7, 3) := dk_154 0 7 (dk_at dksX9_takesSign_0 6 rfl rfl)
theorem dX9_takesSign_9 : decode cX9_takesSign 9 = .ok (.iconst 1, 1) := dk_4 (dk_at dksX9_takesSign_0 9 rfl rfl)
theorem dX9_takesSign_10 : decode cX9_takesSign 10 = .ok (.goto 4, 3) := dk_167 0 4 (dk_at dksX9_takesSign_0 10 rfl rfl)
theorem dX9_takesSign_13 : decode cX9_takesSign 13 = .ok (.iconst 0, 1) := dk_3 (dk_at dksX9_takesSign_0 13 rfl rfl)
theorem dX9_takesSign_14 : decode cX9_takesSign 14 = .ok (.iconst 1, 1) := dk_4 (dk_at dksX9_takesSign_0 14 rfl rfl)
theorem dX9_takesSign_15 : decode cX9_takesSign 15 = .ok (.invokevirtual 202, 3) := dk_182 0 202 (dk_at dksX9_takesSign_0 15 rfl rfl)
theorem dX9_takesSign_18 : decode cX9_takesSign 18 = .ok (.ifCond .ne 7, 3) := dk_154 0 7 (dk_at dksX9_takesSign_0 18 rfl rfl)
theorem dX9_takesSign_21 : decode cX9_takesSign 21 = .ok (.aload_n 0, 1) := dk_42 (dk_at dksX9_takesSign_0 21 rfl rfl)
theorem dX9_takesSign_22 : decode cX9_takesSign 22 = .ok (.invokevirtual 206, 3) := dk_182 0 206 (dk_at dksX9_takesSign_1 0 rfl rfl)
theorem dX9_takesSign_25 : decode cX9_takesSign 25 = .ok (.return_, 1) := dk_177 (dk_at dksX9_takesSign_1 3 rfl rfl)
abbrev cX9_closes : ByteArray := prog_29_method_64_code
def yX9_closes : MethodName := ⟨RX9, "closes", "()V"⟩
def dkwX9_closes_3 : List UInt8 := [42, 16, 59, 182, 1, 51, 167, 255, 181, 177]
abbrev dktX9_closes_3 : List UInt8 := dkwX9_closes_3 ++ []
def dkwX9_closes_2 : List UInt8 := [180, 0, 45, 42, 180, 1, 30, 16, 9, 79, 42, 89, 180, 1, 30, 4, 96, 181, 1, 30, 42, 182, 0, 206]
abbrev dktX9_closes_2 : List UInt8 := dkwX9_closes_2 ++ dktX9_closes_3
def dkwX9_closes_1 : List UInt8 := [181, 1, 54, 42, 180, 0, 57, 42, 180, 0, 60, 42, 180, 1, 54, 46, 42, 180, 1, 30, 79, 42]
abbrev dktX9_closes_1 : List UInt8 := dkwX9_closes_1 ++ dktX9_closes_2
def dkwX9_closes_0 : List UInt8 := [42, 180, 1, 54, 158, 0, 74, 42, 16, 41, 182, 0, 199, 153, 0, 65, 42, 89, 180, 1, 54, 4, 100]
abbrev dktX9_closes_0 : List UInt8 := dkwX9_closes_0 ++ dktX9_closes_1
theorem dksX9_closes_0 : cX9_closes.data.toList.drop 0 = dktX9_closes_0 := by decide +kernel
theorem dksX9_closes_1 : cX9_closes.data.toList.drop 23 = dktX9_closes_1 := dk_seg dksX9_closes_0 23 rfl rfl
theorem dksX9_closes_2 : cX9_closes.data.toList.drop 45 = dktX9_closes_2 := dk_seg dksX9_closes_1 22 rfl rfl
theorem dksX9_closes_3 : cX9_closes.data.toList.drop 69 = dktX9_closes_3 := dk_seg dksX9_closes_2 24 rfl rfl
theorem dX9_closes_0 : decode cX9_closes 0 = .ok (.aload_n 0, 1) := dk_42 (dk_at dksX9_closes_0 0 rfl rfl)
theorem dX9_closes_1 : decode cX9_closes 1 = .ok (.getfield 310, 3) := dk_180 1 54 (dk_at dksX9_closes_0 1 rfl rfl)
theorem dX9_closes_4 : decode cX9_closes 4 = .ok (.ifCond .le 74, 3) := dk_158 0 74 (dk_at dksX9_closes_0 4 rfl rfl)
theorem dX9_closes_7 : decode cX9_closes 7 = .ok (.aload_n 0, 1) := dk_42 (dk_at dksX9_closes_0 7 rfl rfl)
theorem dX9_closes_8 : decode cX9_closes 8 = .ok (.bipush 41, 2) := dk_16 41 (dk_at dksX9_closes_0 8 rfl rfl)
theorem dX9_closes_10 : decode cX9_closes 10 = .ok (.invokevirtual 199, 3) := dk_182 0 199 (dk_at dksX9_closes_0 10 rfl rfl)
theorem dX9_closes_13 : decode cX9_closes 13 = .ok (.ifCond .eq 65, 3) := dk_153 0 65 (dk_at dksX9_closes_0 13 rfl rfl)
theorem dX9_closes_16 : decode cX9_closes 16 = .ok (.aload_n 0, 1) := dk_42 (dk_at dksX9_closes_0 16 rfl rfl)
theorem dX9_closes_17 : decode cX9_closes 17 = .ok (.dup, 1) := dk_89 (dk_at dksX9_closes_0 17 rfl rfl)
theorem dX9_closes_18 : decode cX9_closes 18 = .ok (.getfield 310, 3) := dk_180 1 54 (dk_at dksX9_closes_0 18 rfl rfl)
theorem dX9_closes_21 : decode cX9_closes 21 = .ok (.iconst 1, 1) := dk_4 (dk_at dksX9_closes_0 21 rfl rfl)
theorem dX9_closes_22 : decode cX9_closes 22 = .ok (.isub, 1) := dk_100 (dk_at dksX9_closes_0 22 rfl rfl)
theorem dX9_closes_23 : decode cX9_closes 23 = .ok (.putfield 310, 3) := dk_181 1 54 (dk_at dksX9_closes_1 0 rfl rfl)
theorem dX9_closes_26 : decode cX9_closes 26 = .ok (.aload_n 0, 1) := dk_42 (dk_at dksX9_closes_1 3 rfl rfl)
theorem dX9_closes_27 : decode cX9_closes 27 = .ok (.getfield 57, 3) := dk_180 0 57 (dk_at dksX9_closes_1 4 rfl rfl)
theorem dX9_closes_30 : decode cX9_closes 30 = .ok (.aload_n 0, 1) := dk_42 (dk_at dksX9_closes_1 7 rfl rfl)
theorem dX9_closes_31 : decode cX9_closes 31 = .ok (.getfield 60, 3) := dk_180 0 60 (dk_at dksX9_closes_1 8 rfl rfl)
theorem dX9_closes_34 : decode cX9_closes 34 = .ok (.aload_n 0, 1) := dk_42 (dk_at dksX9_closes_1 11 rfl rfl)
theorem dX9_closes_35 : decode cX9_closes 35 = .ok (.getfield 310, 3) := dk_180 1 54 (dk_at dksX9_closes_1 12 rfl rfl)
theorem dX9_closes_38 : decode cX9_closes 38 = .ok (.iaload, 1) := dk_46 (dk_at dksX9_closes_1 15 rfl rfl)
theorem dX9_closes_39 : decode cX9_closes 39 = .ok (.aload_n 0, 1) := dk_42 (dk_at dksX9_closes_1 16 rfl rfl)
theorem dX9_closes_40 : decode cX9_closes 40 = .ok (.getfield 286, 3) := dk_180 1 30 (dk_at dksX9_closes_1 17 rfl rfl)
theorem dX9_closes_43 : decode cX9_closes 43 = .ok (.iastore, 1) := dk_79 (dk_at dksX9_closes_1 20 rfl rfl)
theorem dX9_closes_44 : decode cX9_closes 44 = .ok (.aload_n 0, 1) := dk_42 (dk_at dksX9_closes_1 21 rfl rfl)
theorem dX9_closes_45 : decode cX9_closes 45 = .ok (.getfield 45, 3) := dk_180 0 45 (dk_at dksX9_closes_2 0 rfl rfl)
theorem dX9_closes_48 : decode cX9_closes 48 = .ok (.aload_n 0, 1) := dk_42 (dk_at dksX9_closes_2 3 rfl rfl)
theorem dX9_closes_49 : decode cX9_closes 49 = .ok (.getfield 286, 3) := dk_180 1 30 (dk_at dksX9_closes_2 4 rfl rfl)
theorem dX9_closes_52 : decode cX9_closes 52 = .ok (.bipush 9, 2) := dk_16 9 (dk_at dksX9_closes_2 7 rfl rfl)
theorem dX9_closes_54 : decode cX9_closes 54 = .ok (.iastore, 1) := dk_79 (dk_at dksX9_closes_2 9 rfl rfl)
theorem dX9_closes_55 : decode cX9_closes 55 = .ok (.aload_n 0, 1) := dk_42 (dk_at dksX9_closes_2 10 rfl rfl)
theorem dX9_closes_56 : decode cX9_closes 56 = .ok (.dup, 1) := dk_89 (dk_at dksX9_closes_2 11 rfl rfl)
theorem dX9_closes_57 : decode cX9_closes 57 = .ok (.getfield 286, 3) := dk_180 1 30 (dk_at dksX9_closes_2 12 rfl rfl)
theorem dX9_closes_60 : decode cX9_closes 60 = .ok (.iconst 1, 1) := dk_4 (dk_at dksX9_closes_2 15 rfl rfl)
theorem dX9_closes_61 : decode cX9_closes 61 = .ok (.iadd, 1) := dk_96 (dk_at dksX9_closes_2 16 rfl rfl)
theorem dX9_closes_62 : decode cX9_closes 62 = .ok (.putfield 286, 3) := dk_181 1 30 (dk_at dksX9_closes_2 17 rfl rfl)
theorem dX9_closes_65 : decode cX9_closes 65 = .ok (.aload_n 0, 1) := dk_42 (dk_at dksX9_closes_2 20 rfl rfl)
theorem dX9_closes_66 : decode cX9_closes 66 = .ok (.invokevirtual 206, 3) := dk_182 0 206 (dk_at dksX9_closes_2 21 rfl rfl)
theorem dX9_closes_69 : decode cX9_closes 69 = .ok (.aload_n 0, 1) := dk_42 (dk_at dksX9_closes_3 0 rfl rfl)
theorem dX9_closes_70 : decode cX9_closes 70 = .ok (.bipush 59, 2) := dk_16 59 (dk_at dksX9_closes_3 1 rfl rfl)
theorem dX9_closes_72 : decode cX9_closes 72 = .ok (.invokevirtual 307, 3) := dk_182 1 51 (dk_at dksX9_closes_3 3 rfl rfl)
theorem dX9_closes_75 : decode cX9_closes 75 = .ok (.goto (-75), 3) := dk_167 255 181 (dk_at dksX9_closes_3 6 rfl rfl)
theorem dX9_closes_78 : decode cX9_closes 78 = .ok (.return_, 1) := dk_177 (dk_at dksX9_closes_3 9 rfl rfl)
abbrev cX9_remembers : ByteArray := prog_29_method_114_code
def yX9_remembers : MethodName := ⟨RX9, "remembers", "([I)V"⟩
def dkwX9_remembers_3 : List UInt8 := [180, 1, 8, 4, 96, 181, 1, 8, 177]
abbrev dktX9_remembers_3 : List UInt8 := dkwX9_remembers_3 ++ []
def dkwX9_remembers_2 : List UInt8 := [181, 1, 8, 43, 3, 42, 180, 0, 19, 17, 2, 64, 42, 180, 1, 8, 104, 184, 0, 144, 42, 89]
abbrev dktX9_remembers_2 : List UInt8 := dkwX9_remembers_2 ++ dktX9_remembers_3
def dkwX9_remembers_1 : List UInt8 := [180, 0, 19, 28, 17, 2, 64, 96, 46, 79, 132, 2, 1, 167, 255, 230, 42, 89, 180, 1, 8, 4, 100]
abbrev dktX9_remembers_1 : List UInt8 := dkwX9_remembers_1 ++ dktX9_remembers_2
def dkwX9_remembers_0 : List UInt8 := [42, 180, 1, 8, 16, 8, 160, 0, 44, 3, 61, 28, 17, 15, 192, 162, 0, 25, 42, 180, 0, 19, 28, 42]
abbrev dktX9_remembers_0 : List UInt8 := dkwX9_remembers_0 ++ dktX9_remembers_1
theorem dksX9_remembers_0 : cX9_remembers.data.toList.drop 0 = dktX9_remembers_0 := by decide +kernel
theorem dksX9_remembers_1 : cX9_remembers.data.toList.drop 24 = dktX9_remembers_1 := dk_seg dksX9_remembers_0 24 rfl rfl
theorem dksX9_remembers_2 : cX9_remembers.data.toList.drop 47 = dktX9_remembers_2 := dk_seg dksX9_remembers_1 23 rfl rfl
theorem dksX9_remembers_3 : cX9_remembers.data.toList.drop 69 = dktX9_remembers_3 := dk_seg dksX9_remembers_2 22 rfl rfl
theorem dX9_remembers_0 : decode cX9_remembers 0 = .ok (.aload_n 0, 1) := dk_42 (dk_at dksX9_remembers_0 0 rfl rfl)
theorem dX9_remembers_1 : decode cX9_remembers 1 = .ok (.getfield 264, 3) := dk_180 1 8 (dk_at dksX9_remembers_0 1 rfl rfl)
theorem dX9_remembers_4 : decode cX9_remembers 4 = .ok (.bipush 8, 2) := dk_16 8 (dk_at dksX9_remembers_0 4 rfl rfl)
theorem dX9_remembers_6 : decode cX9_remembers 6 = .ok (.if_icmp .ne 44, 3) := dk_160 0 44 (dk_at dksX9_remembers_0 6 rfl rfl)
theorem dX9_remembers_9 : decode cX9_remembers 9 = .ok (.iconst 0, 1) := dk_3 (dk_at dksX9_remembers_0 9 rfl rfl)
theorem dX9_remembers_10 : decode cX9_remembers 10 = .ok (.istore_n 2, 1) := dk_61 (dk_at dksX9_remembers_0 10 rfl rfl)
theorem dX9_remembers_11 : decode cX9_remembers 11 = .ok (.iload_n 2, 1) := dk_28 (dk_at dksX9_remembers_0 11 rfl rfl)
theorem dX9_remembers_12 : decode cX9_remembers 12 = .ok (.sipush 4032, 3) := dk_17 15 192 (dk_at dksX9_remembers_0 12 rfl rfl)
theorem dX9_remembers_15 : decode cX9_remembers 15 = .ok (.if_icmp .ge 25, 3) := dk_162 0 25 (dk_at dksX9_remembers_0 15 rfl rfl)
theorem dX9_remembers_18 : decode cX9_remembers 18 = .ok (.aload_n 0, 1) := dk_42 (dk_at dksX9_remembers_0 18 rfl rfl)
theorem dX9_remembers_19 : decode cX9_remembers 19 = .ok (.getfield 19, 3) := dk_180 0 19 (dk_at dksX9_remembers_0 19 rfl rfl)
theorem dX9_remembers_22 : decode cX9_remembers 22 = .ok (.iload_n 2, 1) := dk_28 (dk_at dksX9_remembers_0 22 rfl rfl)
theorem dX9_remembers_23 : decode cX9_remembers 23 = .ok (.aload_n 0, 1) := dk_42 (dk_at dksX9_remembers_0 23 rfl rfl)
theorem dX9_remembers_24 : decode cX9_remembers 24 = .ok (.getfield 19, 3) := dk_180 0 19 (dk_at dksX9_remembers_1 0 rfl rfl)
theorem dX9_remembers_27 : decode cX9_remembers 27 = .ok (.iload_n 2, 1) := dk_28 (dk_at dksX9_remembers_1 3 rfl rfl)
theorem dX9_remembers_28 : decode cX9_remembers 28 = .ok (.sipush 576, 3) := dk_17 2 64 (dk_at dksX9_remembers_1 4 rfl rfl)
theorem dX9_remembers_31 : decode cX9_remembers 31 = .ok (.iadd, 1) := dk_96 (dk_at dksX9_remembers_1 7 rfl rfl)
theorem dX9_remembers_32 : decode cX9_remembers 32 = .ok (.iaload, 1) := dk_46 (dk_at dksX9_remembers_1 8 rfl rfl)
theorem dX9_remembers_33 : decode cX9_remembers 33 = .ok (.iastore, 1) := dk_79 (dk_at dksX9_remembers_1 9 rfl rfl)
theorem dX9_remembers_34 : decode cX9_remembers 34 = .ok (.iinc 2 1, 3) := dk_132 2 1 (dk_at dksX9_remembers_1 10 rfl rfl)
theorem dX9_remembers_37 : decode cX9_remembers 37 = .ok (.goto (-26), 3) := dk_167 255 230 (dk_at dksX9_remembers_1 13 rfl rfl)
theorem dX9_remembers_40 : decode cX9_remembers 40 = .ok (.aload_n 0, 1) := dk_42 (dk_at dksX9_remembers_1 16 rfl rfl)
theorem dX9_remembers_41 : decode cX9_remembers 41 = .ok (.dup, 1) := dk_89 (dk_at dksX9_remembers_1 17 rfl rfl)
theorem dX9_remembers_42 : decode cX9_remembers 42 = .ok (.getfield 264, 3) := dk_180 1 8 (dk_at dksX9_remembers_1 18 rfl rfl)
theorem dX9_remembers_45 : decode cX9_remembers 45 = .ok (.iconst 1, 1) := dk_4 (dk_at dksX9_remembers_1 21 rfl rfl)
theorem dX9_remembers_46 : decode cX9_remembers 46 = .ok (.isub, 1) := dk_100 (dk_at dksX9_remembers_1 22 rfl rfl)
theorem dX9_remembers_47 : decode cX9_remembers 47 = .ok (.putfield 264, 3) := dk_181 1 8 (dk_at dksX9_remembers_2 0 rfl rfl)
theorem dX9_remembers_50 : decode cX9_remembers 50 = .ok (.aload_n 1, 1) := dk_43 (dk_at dksX9_remembers_2 3 rfl rfl)
theorem dX9_remembers_51 : decode cX9_remembers 51 = .ok (.iconst 0, 1) := dk_3 (dk_at dksX9_remembers_2 4 rfl rfl)
theorem dX9_remembers_52 : decode cX9_remembers 52 = .ok (.aload_n 0, 1) := dk_42 (dk_at dksX9_remembers_2 5 rfl rfl)
theorem dX9_remembers_53 : decode cX9_remembers 53 = .ok (.getfield 19, 3) := dk_180 0 19 (dk_at dksX9_remembers_2 6 rfl rfl)
theorem dX9_remembers_56 : decode cX9_remembers 56 = .ok (.sipush 576, 3) := dk_17 2 64 (dk_at dksX9_remembers_2 9 rfl rfl)
theorem dX9_remembers_59 : decode cX9_remembers 59 = .ok (.aload_n 0, 1) := dk_42 (dk_at dksX9_remembers_2 12 rfl rfl)
theorem dX9_remembers_60 : decode cX9_remembers 60 = .ok (.getfield 264, 3) := dk_180 1 8 (dk_at dksX9_remembers_2 13 rfl rfl)
theorem dX9_remembers_63 : decode cX9_remembers 63 = .ok (.imul, 1) := dk_104 (dk_at dksX9_remembers_2 16 rfl rfl)
theorem dX9_remembers_64 : decode cX9_remembers 64 = .ok (.invokestatic 144, 3) := dk_184 0 144 (dk_at dksX9_remembers_2 17 rfl rfl)
theorem dX9_remembers_67 : decode cX9_remembers 67 = .ok (.aload_n 0, 1) := dk_42 (dk_at dksX9_remembers_2 20 rfl rfl)
theorem dX9_remembers_68 : decode cX9_remembers 68 = .ok (.dup, 1) := dk_89 (dk_at dksX9_remembers_2 21 rfl rfl)
theorem dX9_remembers_69 : decode cX9_remembers 69 = .ok (.getfield 264, 3) := dk_180 1 8 (dk_at dksX9_remembers_3 0 rfl rfl)
theorem dX9_remembers_72 : decode cX9_remembers 72 = .ok (.iconst 1, 1) := dk_4 (dk_at dksX9_remembers_3 3 rfl rfl)
theorem dX9_remembers_73 : decode cX9_remembers 73 = .ok (.iadd, 1) := dk_96 (dk_at dksX9_remembers_3 4 rfl rfl)
theorem dX9_remembers_74 : decode cX9_remembers 74 = .ok (.putfield 264, 3) := dk_181 1 8 (dk_at dksX9_remembers_3 5 rfl rfl)
theorem dX9_remembers_77 : decode cX9_remembers 77 = .ok (.return_, 1) := dk_177 (dk_at dksX9_remembers_3 8 rfl rfl)
abbrev cX9_plays : ByteArray := prog_29_method_68_code
def yX9_plays : MethodName := ⟨RX9, "plays", "()I"⟩
def dkwX9_plays_6 : List UInt8 := [182, 1, 91, 156, 0, 5, 27, 172, 132, 1, 1, 132, 3, 1, 167, 255, 108, 27, 172]
abbrev dktX9_plays_6 : List UInt8 := dkwX9_plays_6 ++ []
def dkwX9_plays_5 : List UInt8 := [46, 158, 0, 15, 42, 180, 0, 60, 28, 4, 100, 46, 62, 167, 0, 22, 132, 2, 255, 167, 0, 16, 42, 29]
abbrev dktX9_plays_5 : List UInt8 := dkwX9_plays_5 ++ dktX9_plays_6
def dkwX9_plays_4 : List UInt8 := [16, 9, 160, 0, 44, 42, 180, 0, 63, 28, 4, 100, 92, 46, 4, 100, 79, 42, 180, 0, 63, 28, 4, 100]
abbrev dktX9_plays_4 : List UInt8 := dkwX9_plays_4 ++ dktX9_plays_5
def dkwX9_plays_3 : List UInt8 := [180, 0, 63, 28, 42, 180, 0, 48, 29, 46, 79, 132, 2, 1, 167, 0, 68, 42, 180, 0, 45, 29, 46]
abbrev dktX9_plays_3 : List UInt8 := dkwX9_plays_3 ++ dktX9_plays_4
def dkwX9_plays_2 : List UInt8 := [167, 0, 104, 42, 180, 0, 45, 29, 46, 16, 8, 160, 0, 28, 42, 180, 0, 60, 28, 29, 79, 42]
abbrev dktX9_plays_2 : List UInt8 := dkwX9_plays_2 ++ dktX9_plays_3
def dkwX9_plays_1 : List UInt8 := [29, 46, 16, 8, 160, 0, 22, 42, 180, 0, 48, 29, 46, 154, 0, 13, 42, 180, 0, 57, 29, 46, 62]
abbrev dktX9_plays_1 : List UInt8 := dkwX9_plays_1 ++ dktX9_plays_2
def dkwX9_plays_0 : List UInt8 := [3, 60, 3, 61, 3, 62, 29, 42, 180, 1, 30, 162, 0, 146, 27, 16, 40, 162, 0, 140, 42, 180, 0, 45]
abbrev dktX9_plays_0 : List UInt8 := dkwX9_plays_0 ++ dktX9_plays_1
theorem dksX9_plays_0 : cX9_plays.data.toList.drop 0 = dktX9_plays_0 := by decide +kernel
theorem dksX9_plays_1 : cX9_plays.data.toList.drop 24 = dktX9_plays_1 := dk_seg dksX9_plays_0 24 rfl rfl
theorem dksX9_plays_2 : cX9_plays.data.toList.drop 47 = dktX9_plays_2 := dk_seg dksX9_plays_1 23 rfl rfl
theorem dksX9_plays_3 : cX9_plays.data.toList.drop 69 = dktX9_plays_3 := dk_seg dksX9_plays_2 22 rfl rfl
theorem dksX9_plays_4 : cX9_plays.data.toList.drop 92 = dktX9_plays_4 := dk_seg dksX9_plays_3 23 rfl rfl
theorem dksX9_plays_5 : cX9_plays.data.toList.drop 116 = dktX9_plays_5 := dk_seg dksX9_plays_4 24 rfl rfl
theorem dksX9_plays_6 : cX9_plays.data.toList.drop 140 = dktX9_plays_6 := dk_seg dksX9_plays_5 24 rfl rfl
theorem dX9_plays_0 : decode cX9_plays 0 = .ok (.iconst 0, 1) := dk_3 (dk_at dksX9_plays_0 0 rfl rfl)
theorem dX9_plays_1 : decode cX9_plays 1 = .ok (.istore_n 1, 1) := dk_60 (dk_at dksX9_plays_0 1 rfl rfl)
theorem dX9_plays_2 : decode cX9_plays 2 = .ok (.iconst 0, 1) := dk_3 (dk_at dksX9_plays_0 2 rfl rfl)
theorem dX9_plays_3 : decode cX9_plays 3 = .ok (.istore_n 2, 1) := dk_61 (dk_at dksX9_plays_0 3 rfl rfl)
theorem dX9_plays_4 : decode cX9_plays 4 = .ok (.iconst 0, 1) := dk_3 (dk_at dksX9_plays_0 4 rfl rfl)
theorem dX9_plays_5 : decode cX9_plays 5 = .ok (.istore_n 3, 1) := dk_62 (dk_at dksX9_plays_0 5 rfl rfl)
theorem dX9_plays_6 : decode cX9_plays 6 = .ok (.iload_n 3, 1) := dk_29 (dk_at dksX9_plays_0 6 rfl rfl)
theorem dX9_plays_7 : decode cX9_plays 7 = .ok (.aload_n 0, 1) := dk_42 (dk_at dksX9_plays_0 7 rfl rfl)
theorem dX9_plays_8 : decode cX9_plays 8 = .ok (.getfield 286, 3) := dk_180 1 30 (dk_at dksX9_plays_0 8 rfl rfl)
theorem dX9_plays_11 : decode cX9_plays 11 = .ok (.if_icmp .ge 146, 3) := dk_162 0 146 (dk_at dksX9_plays_0 11 rfl rfl)
theorem dX9_plays_14 : decode cX9_plays 14 = .ok (.iload_n 1, 1) := dk_27 (dk_at dksX9_plays_0 14 rfl rfl)
theorem dX9_plays_15 : decode cX9_plays 15 = .ok (.bipush 40, 2) := dk_16 40 (dk_at dksX9_plays_0 15 rfl rfl)
theorem dX9_plays_17 : decode cX9_plays 17 = .ok (.if_icmp .ge 140, 3) := dk_162 0 140 (dk_at dksX9_plays_0 17 rfl rfl)
theorem dX9_plays_20 : decode cX9_plays 20 = .ok (.aload_n 0, 1) := dk_42 (dk_at dksX9_plays_0 20 rfl rfl)
theorem dX9_plays_21 : decode cX9_plays 21 = .ok (.getfield 45, 3) := dk_180 0 45 (dk_at dksX9_plays_0 21 rfl rfl)
theorem dX9_plays_24 : decode cX9_plays 24 = .ok (.iload_n 3, 1) := dk_29 (dk_at dksX9_plays_1 0 rfl rfl)
theorem dX9_plays_25 : decode cX9_plays 25 = .ok (.iaload, 1) := dk_46 (dk_at dksX9_plays_1 1 rfl rfl)
theorem dX9_plays_26 : decode cX9_plays 26 = .ok (.bipush 8, 2) := dk_16 8 (dk_at dksX9_plays_1 2 rfl rfl)
theorem dX9_plays_28 : decode cX9_plays 28 = .ok (.if_icmp .ne 22, 3) := dk_160 0 22 (dk_at dksX9_plays_1 4 rfl rfl)
theorem dX9_plays_31 : decode cX9_plays 31 = .ok (.aload_n 0, 1) := dk_42 (dk_at dksX9_plays_1 7 rfl rfl)
theorem dX9_plays_32 : decode cX9_plays 32 = .ok (.getfield 48, 3) := dk_180 0 48 (dk_at dksX9_plays_1 8 rfl rfl)
theorem dX9_plays_35 : decode cX9_plays 35 = .ok (.iload_n 3, 1) := dk_29 (dk_at dksX9_plays_1 11 rfl rfl)
theorem dX9_plays_36 : decode cX9_plays 36 = .ok (.iaload, 1) := dk_46 (dk_at dksX9_plays_1 12 rfl rfl)
theorem dX9_plays_37 : decode cX9_plays 37 = .ok (.ifCond .ne 13, 3) := dk_154 0 13 (dk_at dksX9_plays_1 13 rfl rfl)
theorem dX9_plays_40 : decode cX9_plays 40 = .ok (.aload_n 0, 1) := dk_42 (dk_at dksX9_plays_1 16 rfl rfl)
theorem dX9_plays_41 : decode cX9_plays 41 = .ok (.getfield 57, 3) := dk_180 0 57 (dk_at dksX9_plays_1 17 rfl rfl)
theorem dX9_plays_44 : decode cX9_plays 44 = .ok (.iload_n 3, 1) := dk_29 (dk_at dksX9_plays_1 20 rfl rfl)
theorem dX9_plays_45 : decode cX9_plays 45 = .ok (.iaload, 1) := dk_46 (dk_at dksX9_plays_1 21 rfl rfl)
theorem dX9_plays_46 : decode cX9_plays 46 = .ok (.istore_n 3, 1) := dk_62 (dk_at dksX9_plays_1 22 rfl rfl)
theorem dX9_plays_47 : decode cX9_plays 47 = .ok (.goto 104, 3) := dk_167 0 104 (dk_at dksX9_plays_2 0 rfl rfl)
theorem dX9_plays_50 : decode cX9_plays 50 = .ok (.aload_n 0, 1) := dk_42 (dk_at dksX9_plays_2 3 rfl rfl)
theorem dX9_plays_51 : decode cX9_plays 51 = .ok (.getfield 45, 3) := dk_180 0 45 (dk_at dksX9_plays_2 4 rfl rfl)
theorem dX9_plays_54 : decode cX9_plays 54 = .ok (.iload_n 3, 1) := dk_29 (dk_at dksX9_plays_2 7 rfl rfl)
theorem dX9_plays_55 : decode cX9_plays 55 = .ok (.iaload, 1) := dk_46 (dk_at dksX9_plays_2 8 rfl rfl)
theorem dX9_plays_56 : decode cX9_plays 56 = .ok (.bipush 8, 2) := dk_16 8 (dk_at dksX9_plays_2 9 rfl rfl)
theorem dX9_plays_58 : decode cX9_plays 58 = .ok (.if_icmp .ne 28, 3) := dk_160 0 28 (dk_at dksX9_plays_2 11 rfl rfl)
theorem dX9_plays_61 : decode cX9_plays 61 = .ok (.aload_n 0, 1) := dk_42 (dk_at dksX9_plays_2 14 rfl rfl)
theorem dX9_plays_62 : decode cX9_plays 62 = .ok (.getfield 60, 3) := dk_180 0 60 (dk_at dksX9_plays_2 15 rfl rfl)
theorem dX9_plays_65 : decode cX9_plays 65 = .ok (.iload_n 2, 1) := dk_28 (dk_at dksX9_plays_2 18 rfl rfl)
theorem dX9_plays_66 : decode cX9_plays 66 = .ok (.iload_n 3, 1) := dk_29 (dk_at dksX9_plays_2 19 rfl rfl)
theorem dX9_plays_67 : decode cX9_plays 67 = .ok (.iastore, 1) := dk_79 (dk_at dksX9_plays_2 20 rfl rfl)
theorem dX9_plays_68 : decode cX9_plays 68 = .ok (.aload_n 0, 1) := dk_42 (dk_at dksX9_plays_2 21 rfl rfl)
theorem dX9_plays_69 : decode cX9_plays 69 = .ok (.getfield 63, 3) := dk_180 0 63 (dk_at dksX9_plays_3 0 rfl rfl)
theorem dX9_plays_72 : decode cX9_plays 72 = .ok (.iload_n 2, 1) := dk_28 (dk_at dksX9_plays_3 3 rfl rfl)
theorem dX9_plays_73 : decode cX9_plays 73 = .ok (.aload_n 0, 1) := dk_42 (dk_at dksX9_plays_3 4 rfl rfl)
theorem dX9_plays_74 : decode cX9_plays 74 = .ok (.getfield 48, 3) := dk_180 0 48 (dk_at dksX9_plays_3 5 rfl rfl)
theorem dX9_plays_77 : decode cX9_plays 77 = .ok (.iload_n 3, 1) := dk_29 (dk_at dksX9_plays_3 8 rfl rfl)
theorem dX9_plays_78 : decode cX9_plays 78 = .ok (.iaload, 1) := dk_46 (dk_at dksX9_plays_3 9 rfl rfl)
theorem dX9_plays_79 : decode cX9_plays 79 = .ok (.iastore, 1) := dk_79 (dk_at dksX9_plays_3 10 rfl rfl)
theorem dX9_plays_80 : decode cX9_plays 80 = .ok (.iinc 2 1, 3) := dk_132 2 1 (dk_at dksX9_plays_3 11 rfl rfl)
theorem dX9_plays_83 : decode cX9_plays 83 = .ok (.goto 68, 3) := dk_167 0 68 (dk_at dksX9_plays_3 14 rfl rfl)
theorem dX9_plays_86 : decode cX9_plays 86 = .ok (.aload_n 0, 1) := dk_42 (dk_at dksX9_plays_3 17 rfl rfl)
theorem dX9_plays_87 : decode cX9_plays 87 = .ok (.getfield 45, 3) := dk_180 0 45 (dk_at dksX9_plays_3 18 rfl rfl)
theorem dX9_plays_90 : decode cX9_plays 90 = .ok (.iload_n 3, 1) := dk_29 (dk_at dksX9_plays_3 21 rfl rfl)
theorem dX9_plays_91 : decode cX9_plays 91 = .ok (.iaload, 1) := dk_46 (dk_at dksX9_plays_3 22 rfl rfl)
theorem dX9_plays_92 : decode cX9_plays 92 = .ok (.bipush 9, 2) := dk_16 9 (dk_at dksX9_plays_4 0 rfl rfl)
theorem dX9_plays_94 : decode cX9_plays 94 = .ok (.if_icmp .ne 44, 3) := dk_160 0 44 (dk_at dksX9_plays_4 2 rfl rfl)
theorem dX9_plays_97 : decode cX9_plays 97 = .ok (.aload_n 0, 1) := dk_42 (dk_at dksX9_plays_4 5 rfl rfl)
theorem dX9_plays_98 : decode cX9_plays 98 = .ok (.getfield 63, 3) := dk_180 0 63 (dk_at dksX9_plays_4 6 rfl rfl)
theorem dX9_plays_101 : decode cX9_plays 101 = .ok (.iload_n 2, 1) := dk_28 (dk_at dksX9_plays_4 9 rfl rfl)
theorem dX9_plays_102 : decode cX9_plays 102 = .ok (.iconst 1, 1) := dk_4 (dk_at dksX9_plays_4 10 rfl rfl)
theorem dX9_plays_103 : decode cX9_plays 103 = .ok (.isub, 1) := dk_100 (dk_at dksX9_plays_4 11 rfl rfl)
theorem dX9_plays_104 : decode cX9_plays 104 = .ok (.dup2, 1) := dk_92 (dk_at dksX9_plays_4 12 rfl rfl)
theorem dX9_plays_105 : decode cX9_plays 105 = .ok (.iaload, 1) := dk_46 (dk_at dksX9_plays_4 13 rfl rfl)
theorem dX9_plays_106 : decode cX9_plays 106 = .ok (.iconst 1, 1) := dk_4 (dk_at dksX9_plays_4 14 rfl rfl)
theorem dX9_plays_107 : decode cX9_plays 107 = .ok (.isub, 1) := dk_100 (dk_at dksX9_plays_4 15 rfl rfl)
theorem dX9_plays_108 : decode cX9_plays 108 = .ok (.iastore, 1) := dk_79 (dk_at dksX9_plays_4 16 rfl rfl)
theorem dX9_plays_109 : decode cX9_plays 109 = .ok (.aload_n 0, 1) := dk_42 (dk_at dksX9_plays_4 17 rfl rfl)
theorem dX9_plays_110 : decode cX9_plays 110 = .ok (.getfield 63, 3) := dk_180 0 63 (dk_at dksX9_plays_4 18 rfl rfl)
theorem dX9_plays_113 : decode cX9_plays 113 = .ok (.iload_n 2, 1) := dk_28 (dk_at dksX9_plays_4 21 rfl rfl)
theorem dX9_plays_114 : decode cX9_plays 114 = .ok (.iconst 1, 1) := dk_4 (dk_at dksX9_plays_4 22 rfl rfl)
theorem dX9_plays_115 : decode cX9_plays 115 = .ok (.isub, 1) := dk_100 (dk_at dksX9_plays_4 23 rfl rfl)
theorem dX9_plays_116 : decode cX9_plays 116 = .ok (.iaload, 1) := dk_46 (dk_at dksX9_plays_5 0 rfl rfl)
theorem dX9_plays_117 : decode cX9_plays 117 = .ok (.ifCond .le 15, 3) := dk_158 0 15 (dk_at dksX9_plays_5 1 rfl rfl)
theorem dX9_plays_120 : decode cX9_plays 120 = .ok (.aload_n 0, 1) := dk_42 (dk_at dksX9_plays_5 4 rfl rfl)
theorem dX9_plays_121 : decode cX9_plays 121 = .ok (.getfield 60, 3) := dk_180 0 60 (dk_at dksX9_plays_5 5 rfl rfl)
theorem dX9_plays_124 : decode cX9_plays 124 = .ok (.iload_n 2, 1) := dk_28 (dk_at dksX9_plays_5 8 rfl rfl)
theorem dX9_plays_125 : decode cX9_plays 125 = .ok (.iconst 1, 1) := dk_4 (dk_at dksX9_plays_5 9 rfl rfl)
theorem dX9_plays_126 : decode cX9_plays 126 = .ok (.isub, 1) := dk_100 (dk_at dksX9_plays_5 10 rfl rfl)
theorem dX9_plays_127 : decode cX9_plays 127 = .ok (.iaload, 1) := dk_46 (dk_at dksX9_plays_5 11 rfl rfl)
theorem dX9_plays_128 : decode cX9_plays 128 = .ok (.istore_n 3, 1) := dk_62 (dk_at dksX9_plays_5 12 rfl rfl)
theorem dX9_plays_129 : decode cX9_plays 129 = .ok (.goto 22, 3) := dk_167 0 22 (dk_at dksX9_plays_5 13 rfl rfl)
theorem dX9_plays_132 : decode cX9_plays 132 = .ok (.iinc 2 (-1), 3) := dk_132 2 255 (dk_at dksX9_plays_5 16 rfl rfl)
theorem dX9_plays_135 : decode cX9_plays 135 = .ok (.goto 16, 3) := dk_167 0 16 (dk_at dksX9_plays_5 19 rfl rfl)
theorem dX9_plays_138 : decode cX9_plays 138 = .ok (.aload_n 0, 1) := dk_42 (dk_at dksX9_plays_5 22 rfl rfl)
theorem dX9_plays_139 : decode cX9_plays 139 = .ok (.iload_n 3, 1) := dk_29 (dk_at dksX9_plays_5 23 rfl rfl)
theorem dX9_plays_140 : decode cX9_plays 140 = .ok (.invokevirtual 347, 3) := dk_182 1 91 (dk_at dksX9_plays_6 0 rfl rfl)
theorem dX9_plays_143 : decode cX9_plays 143 = .ok (.ifCond .ge 5, 3) := dk_156 0 5 (dk_at dksX9_plays_6 3 rfl rfl)
theorem dX9_plays_146 : decode cX9_plays 146 = .ok (.iload_n 1, 1) := dk_27 (dk_at dksX9_plays_6 6 rfl rfl)
theorem dX9_plays_147 : decode cX9_plays 147 = .ok (.ireturn, 1) := dk_172 (dk_at dksX9_plays_6 7 rfl rfl)
theorem dX9_plays_148 : decode cX9_plays 148 = .ok (.iinc 1 1, 3) := dk_132 1 1 (dk_at dksX9_plays_6 8 rfl rfl)
theorem dX9_plays_151 : decode cX9_plays 151 = .ok (.iinc 3 1, 3) := dk_132 3 1 (dk_at dksX9_plays_6 11 rfl rfl)
theorem dX9_plays_154 : decode cX9_plays 154 = .ok (.goto (-148), 3) := dk_167 255 108 (dk_at dksX9_plays_6 14 rfl rfl)
theorem dX9_plays_157 : decode cX9_plays 157 = .ok (.iload_n 1, 1) := dk_27 (dk_at dksX9_plays_6 17 rfl rfl)
theorem dX9_plays_158 : decode cX9_plays 158 = .ok (.ireturn, 1) := dk_172 (dk_at dksX9_plays_6 18 rfl rfl)
abbrev cX9_does : ByteArray := prog_29_method_67_code
def yX9_does : MethodName := ⟨RX9, "does", "(I)I"⟩
def dkwX9_does_5 : List UInt8 := [112, 182, 1, 82, 172, 42, 28, 29, 21, 4, 182, 1, 85, 172, 42, 28, 182, 1, 88, 172]
abbrev dktX9_does_5 : List UInt8 := dkwX9_does_5 ++ []
def dkwX9_does_4 : List UInt8 := [42, 28, 182, 1, 76, 172, 42, 28, 182, 1, 79, 172, 42, 28, 29, 21, 4, 16, 26, 108, 21, 4, 16, 26]
abbrev dktX9_does_4 : List UInt8 := dkwX9_does_4 ++ dktX9_does_5
def dkwX9_does_3 : List UInt8 := [42, 42, 180, 0, 45, 27, 46, 28, 29, 21, 4, 182, 1, 72, 172, 42, 5, 28, 3, 29, 182, 1, 72, 172]
abbrev dktX9_does_3 : List UInt8 := dkwX9_does_3 ++ dktX9_does_4
def dkwX9_does_2 : List UInt8 := [170, 0, 0, 0, 0, 0, 0, 106, 0, 0, 0, 0, 0, 0, 0, 6, 0, 0, 0, 44, 0, 0, 0, 44, 0, 0, 0, 59, 0, 0, 0, 68, 0, 0, 0, 74, 0, 0, 0, 80, 0, 0, 0, 97]
abbrev dktX9_does_2 : List UInt8 := dkwX9_does_2 ++ dktX9_does_3
def dkwX9_does_1 : List UInt8 := [180, 0, 45, 27, 46]
abbrev dktX9_does_1 : List UInt8 := dkwX9_does_1 ++ dktX9_does_2
def dkwX9_does_0 : List UInt8 := [42, 180, 0, 48, 27, 46, 61, 42, 180, 0, 51, 27, 46, 62, 42, 180, 0, 54, 27, 46, 54, 4, 42]
abbrev dktX9_does_0 : List UInt8 := dkwX9_does_0 ++ dktX9_does_1
theorem dksX9_does_0 : cX9_does.data.toList.drop 0 = dktX9_does_0 := by decide +kernel
theorem dksX9_does_1 : cX9_does.data.toList.drop 23 = dktX9_does_1 := dk_seg dksX9_does_0 23 rfl rfl
theorem dksX9_does_2 : cX9_does.data.toList.drop 28 = dktX9_does_2 := dk_seg dksX9_does_1 5 rfl rfl
theorem dksX9_does_3 : cX9_does.data.toList.drop 72 = dktX9_does_3 := dk_seg dksX9_does_2 44 rfl rfl
theorem dksX9_does_4 : cX9_does.data.toList.drop 96 = dktX9_does_4 := dk_seg dksX9_does_3 24 rfl rfl
theorem dksX9_does_5 : cX9_does.data.toList.drop 120 = dktX9_does_5 := dk_seg dksX9_does_4 24 rfl rfl
theorem dX9_does_0 : decode cX9_does 0 = .ok (.aload_n 0, 1) := dk_42 (dk_at dksX9_does_0 0 rfl rfl)
theorem dX9_does_1 : decode cX9_does 1 = .ok (.getfield 48, 3) := dk_180 0 48 (dk_at dksX9_does_0 1 rfl rfl)
theorem dX9_does_4 : decode cX9_does 4 = .ok (.iload_n 1, 1) := dk_27 (dk_at dksX9_does_0 4 rfl rfl)
theorem dX9_does_5 : decode cX9_does 5 = .ok (.iaload, 1) := dk_46 (dk_at dksX9_does_0 5 rfl rfl)
theorem dX9_does_6 : decode cX9_does 6 = .ok (.istore_n 2, 1) := dk_61 (dk_at dksX9_does_0 6 rfl rfl)
theorem dX9_does_7 : decode cX9_does 7 = .ok (.aload_n 0, 1) := dk_42 (dk_at dksX9_does_0 7 rfl rfl)
theorem dX9_does_8 : decode cX9_does 8 = .ok (.getfield 51, 3) := dk_180 0 51 (dk_at dksX9_does_0 8 rfl rfl)
theorem dX9_does_11 : decode cX9_does 11 = .ok (.iload_n 1, 1) := dk_27 (dk_at dksX9_does_0 11 rfl rfl)
theorem dX9_does_12 : decode cX9_does 12 = .ok (.iaload, 1) := dk_46 (dk_at dksX9_does_0 12 rfl rfl)
theorem dX9_does_13 : decode cX9_does 13 = .ok (.istore_n 3, 1) := dk_62 (dk_at dksX9_does_0 13 rfl rfl)
theorem dX9_does_14 : decode cX9_does 14 = .ok (.aload_n 0, 1) := dk_42 (dk_at dksX9_does_0 14 rfl rfl)
theorem dX9_does_15 : decode cX9_does 15 = .ok (.getfield 54, 3) := dk_180 0 54 (dk_at dksX9_does_0 15 rfl rfl)
theorem dX9_does_18 : decode cX9_does 18 = .ok (.iload_n 1, 1) := dk_27 (dk_at dksX9_does_0 18 rfl rfl)
theorem dX9_does_19 : decode cX9_does 19 = .ok (.iaload, 1) := dk_46 (dk_at dksX9_does_0 19 rfl rfl)
theorem dX9_does_20 : decode cX9_does 20 = .ok (.istore 4, 2) := dk_54 4 (dk_at dksX9_does_0 20 rfl rfl)
theorem dX9_does_22 : decode cX9_does 22 = .ok (.aload_n 0, 1) := dk_42 (dk_at dksX9_does_0 22 rfl rfl)
theorem dX9_does_23 : decode cX9_does 23 = .ok (.getfield 45, 3) := dk_180 0 45 (dk_at dksX9_does_1 0 rfl rfl)
theorem dX9_does_26 : decode cX9_does 26 = .ok (.iload_n 1, 1) := dk_27 (dk_at dksX9_does_1 3 rfl rfl)
theorem dX9_does_27 : decode cX9_does 27 = .ok (.iaload, 1) := dk_46 (dk_at dksX9_does_1 4 rfl rfl)
theorem dX9_does_28 : decode cX9_does 28 = .ok (.tableswitch 106 0 6 #[44, 44, 59, 68, 74, 80, 97], 44) := by decide +kernel
theorem dX9_does_72 : decode cX9_does 72 = .ok (.aload_n 0, 1) := dk_42 (dk_at dksX9_does_3 0 rfl rfl)
theorem dX9_does_73 : decode cX9_does 73 = .ok (.aload_n 0, 1) := dk_42 (dk_at dksX9_does_3 1 rfl rfl)
theorem dX9_does_74 : decode cX9_does 74 = .ok (.getfield 45, 3) := dk_180 0 45 (dk_at dksX9_does_3 2 rfl rfl)
theorem dX9_does_77 : decode cX9_does 77 = .ok (.iload_n 1, 1) := dk_27 (dk_at dksX9_does_3 5 rfl rfl)
theorem dX9_does_78 : decode cX9_does 78 = .ok (.iaload, 1) := dk_46 (dk_at dksX9_does_3 6 rfl rfl)
theorem dX9_does_79 : decode cX9_does 79 = .ok (.iload_n 2, 1) := dk_28 (dk_at dksX9_does_3 7 rfl rfl)
theorem dX9_does_80 : decode cX9_does 80 = .ok (.iload_n 3, 1) := dk_29 (dk_at dksX9_does_3 8 rfl rfl)
theorem dX9_does_81 : decode cX9_does 81 = .ok (.iload 4, 2) := dk_21 4 (dk_at dksX9_does_3 9 rfl rfl)
theorem dX9_does_83 : decode cX9_does 83 = .ok (.invokevirtual 328, 3) := dk_182 1 72 (dk_at dksX9_does_3 11 rfl rfl)
theorem dX9_does_86 : decode cX9_does 86 = .ok (.ireturn, 1) := dk_172 (dk_at dksX9_does_3 14 rfl rfl)
theorem dX9_does_87 : decode cX9_does 87 = .ok (.aload_n 0, 1) := dk_42 (dk_at dksX9_does_3 15 rfl rfl)
theorem dX9_does_88 : decode cX9_does 88 = .ok (.iconst 2, 1) := dk_5 (dk_at dksX9_does_3 16 rfl rfl)
theorem dX9_does_89 : decode cX9_does 89 = .ok (.iload_n 2, 1) := dk_28 (dk_at dksX9_does_3 17 rfl rfl)
theorem dX9_does_90 : decode cX9_does 90 = .ok (.iconst 0, 1) := dk_3 (dk_at dksX9_does_3 18 rfl rfl)
theorem dX9_does_91 : decode cX9_does 91 = .ok (.iload_n 3, 1) := dk_29 (dk_at dksX9_does_3 19 rfl rfl)
theorem dX9_does_92 : decode cX9_does 92 = .ok (.invokevirtual 328, 3) := dk_182 1 72 (dk_at dksX9_does_3 20 rfl rfl)
theorem dX9_does_95 : decode cX9_does 95 = .ok (.ireturn, 1) := dk_172 (dk_at dksX9_does_3 23 rfl rfl)
theorem dX9_does_96 : decode cX9_does 96 = .ok (.aload_n 0, 1) := dk_42 (dk_at dksX9_does_4 0 rfl rfl)
theorem dX9_does_97 : decode cX9_does 97 = .ok (.iload_n 2, 1) := dk_28 (dk_at dksX9_does_4 1 rfl rfl)
theorem dX9_does_98 : decode cX9_does 98 = .ok (.invokevirtual 332, 3) := dk_182 1 76 (dk_at dksX9_does_4 2 rfl rfl)
theorem dX9_does_101 : decode cX9_does 101 = .ok (.ireturn, 1) := dk_172 (dk_at dksX9_does_4 5 rfl rfl)
theorem dX9_does_102 : decode cX9_does 102 = .ok (.aload_n 0, 1) := dk_42 (dk_at dksX9_does_4 6 rfl rfl)
theorem dX9_does_103 : decode cX9_does 103 = .ok (.iload_n 2, 1) := dk_28 (dk_at dksX9_does_4 7 rfl rfl)
theorem dX9_does_104 : decode cX9_does 104 = .ok (.invokevirtual 335, 3) := dk_182 1 79 (dk_at dksX9_does_4 8 rfl rfl)
theorem dX9_does_107 : decode cX9_does 107 = .ok (.ireturn, 1) := dk_172 (dk_at dksX9_does_4 11 rfl rfl)
theorem dX9_does_108 : decode cX9_does 108 = .ok (.aload_n 0, 1) := dk_42 (dk_at dksX9_does_4 12 rfl rfl)
theorem dX9_does_109 : decode cX9_does 109 = .ok (.iload_n 2, 1) := dk_28 (dk_at dksX9_does_4 13 rfl rfl)
theorem dX9_does_110 : decode cX9_does 110 = .ok (.iload_n 3, 1) := dk_29 (dk_at dksX9_does_4 14 rfl rfl)
theorem dX9_does_111 : decode cX9_does 111 = .ok (.iload 4, 2) := dk_21 4 (dk_at dksX9_does_4 15 rfl rfl)
theorem dX9_does_113 : decode cX9_does 113 = .ok (.bipush 26, 2) := dk_16 26 (dk_at dksX9_does_4 17 rfl rfl)
theorem dX9_does_115 : decode cX9_does 115 = .ok (.idiv, 1) := dk_108 (dk_at dksX9_does_4 19 rfl rfl)
theorem dX9_does_116 : decode cX9_does 116 = .ok (.iload 4, 2) := dk_21 4 (dk_at dksX9_does_4 20 rfl rfl)
theorem dX9_does_118 : decode cX9_does 118 = .ok (.bipush 26, 2) := dk_16 26 (dk_at dksX9_does_4 22 rfl rfl)
theorem dX9_does_120 : decode cX9_does 120 = .ok (.irem, 1) := dk_112 (dk_at dksX9_does_5 0 rfl rfl)
theorem dX9_does_121 : decode cX9_does 121 = .ok (.invokevirtual 338, 3) := dk_182 1 82 (dk_at dksX9_does_5 1 rfl rfl)
theorem dX9_does_124 : decode cX9_does 124 = .ok (.ireturn, 1) := dk_172 (dk_at dksX9_does_5 4 rfl rfl)
theorem dX9_does_125 : decode cX9_does 125 = .ok (.aload_n 0, 1) := dk_42 (dk_at dksX9_does_5 5 rfl rfl)
theorem dX9_does_126 : decode cX9_does 126 = .ok (.iload_n 2, 1) := dk_28 (dk_at dksX9_does_5 6 rfl rfl)
theorem dX9_does_127 : decode cX9_does 127 = .ok (.iload_n 3, 1) := dk_29 (dk_at dksX9_does_5 7 rfl rfl)
theorem dX9_does_128 : decode cX9_does 128 = .ok (.iload 4, 2) := dk_21 4 (dk_at dksX9_does_5 8 rfl rfl)
theorem dX9_does_130 : decode cX9_does 130 = .ok (.invokevirtual 341, 3) := dk_182 1 85 (dk_at dksX9_does_5 10 rfl rfl)
theorem dX9_does_133 : decode cX9_does 133 = .ok (.ireturn, 1) := dk_172 (dk_at dksX9_does_5 13 rfl rfl)
theorem dX9_does_134 : decode cX9_does 134 = .ok (.aload_n 0, 1) := dk_42 (dk_at dksX9_does_5 14 rfl rfl)
theorem dX9_does_135 : decode cX9_does 135 = .ok (.iload_n 2, 1) := dk_28 (dk_at dksX9_does_5 15 rfl rfl)
theorem dX9_does_136 : decode cX9_does 136 = .ok (.invokevirtual 344, 3) := dk_182 1 88 (dk_at dksX9_does_5 16 rfl rfl)
theorem dX9_does_139 : decode cX9_does 139 = .ok (.ireturn, 1) := dk_172 (dk_at dksX9_does_5 19 rfl rfl)
abbrev cX9_doesMany : ByteArray := prog_29_method_66_code
def yX9_doesMany : MethodName := ⟨RX9, "doesMany", "(IIII)I"⟩
def dkwX9_doesMany_3 : List UInt8 := [16, 97, 100, 182, 1, 69, 54, 5, 132, 6, 1, 167, 255, 179, 21, 5, 172]
abbrev dktX9_doesMany_3 : List UInt8 := dkwX9_doesMany_3 ++ []
def dkwX9_doesMany_2 : List UInt8 := [46, 16, 97, 100, 182, 1, 66, 167, 0, 23, 42, 28, 21, 6, 96, 42, 180, 0, 38, 29, 21, 6, 96, 46]
abbrev dktX9_doesMany_2 : List UInt8 := dkwX9_doesMany_2 ++ dktX9_doesMany_3
def dkwX9_doesMany_1 : List UInt8 := [28, 182, 1, 63, 167, 0, 50, 27, 154, 0, 26, 42, 28, 21, 6, 96, 42, 180, 0, 38, 29, 21, 6, 96]
abbrev dktX9_doesMany_1 : List UInt8 := dkwX9_doesMany_1 ++ dktX9_doesMany_2
def dkwX9_doesMany_0 : List UInt8 := [3, 54, 5, 3, 54, 6, 21, 6, 21, 4, 162, 0, 76, 21, 5, 155, 0, 71, 27, 5, 160, 0, 11, 42]
abbrev dktX9_doesMany_0 : List UInt8 := dkwX9_doesMany_0 ++ dktX9_doesMany_1
theorem dksX9_doesMany_0 : cX9_doesMany.data.toList.drop 0 = dktX9_doesMany_0 := by decide +kernel
theorem dksX9_doesMany_1 : cX9_doesMany.data.toList.drop 24 = dktX9_doesMany_1 := dk_seg dksX9_doesMany_0 24 rfl rfl
theorem dksX9_doesMany_2 : cX9_doesMany.data.toList.drop 48 = dktX9_doesMany_2 := dk_seg dksX9_doesMany_1 24 rfl rfl
theorem dksX9_doesMany_3 : cX9_doesMany.data.toList.drop 72 = dktX9_doesMany_3 := dk_seg dksX9_doesMany_2 24 rfl rfl
theorem dX9_doesMany_0 : decode cX9_doesMany 0 = .ok (.iconst 0, 1) := dk_3 (dk_at dksX9_doesMany_0 0 rfl rfl)
theorem dX9_doesMany_1 : decode cX9_doesMany 1 = .ok (.istore 5, 2) := dk_54 5 (dk_at dksX9_doesMany_0 1 rfl rfl)
theorem dX9_doesMany_3 : decode cX9_doesMany 3 = .ok (.iconst 0, 1) := dk_3 (dk_at dksX9_doesMany_0 3 rfl rfl)
theorem dX9_doesMany_4 : decode cX9_doesMany 4 = .ok (.istore 6, 2) := dk_54 6 (dk_at dksX9_doesMany_0 4 rfl rfl)
theorem dX9_doesMany_6 : decode cX9_doesMany 6 = .ok (.iload 6, 2) := dk_21 6 (dk_at dksX9_doesMany_0 6 rfl rfl)
theorem dX9_doesMany_8 : decode cX9_doesMany 8 = .ok (.iload 4, 2) := dk_21 4 (dk_at dksX9_doesMany_0 8 rfl rfl)
theorem dX9_doesMany_10 : decode cX9_doesMany 10 = .ok (.if_icmp .ge 76, 3) := dk_162 0 76 (dk_at dksX9_doesMany_0 10 rfl rfl)
theorem dX9_doesMany_13 : decode cX9_doesMany 13 = .ok (.iload 5, 2) := dk_21 5 (dk_at dksX9_doesMany_0 13 rfl rfl)
theorem dX9_doesMany_15 : decode cX9_doesMany 15 = .ok (.ifCond .lt 71, 3) := dk_155 0 71 (dk_at dksX9_doesMany_0 15 rfl rfl)
theorem dX9_doesMany_18 : decode cX9_doesMany 18 = .ok (.iload_n 1, 1) := dk_27 (dk_at dksX9_doesMany_0 18 rfl rfl)
theorem dX9_doesMany_19 : decode cX9_doesMany 19 = .ok (.iconst 2, 1) := dk_5 (dk_at dksX9_doesMany_0 19 rfl rfl)
theorem dX9_doesMany_20 : decode cX9_doesMany 20 = .ok (.if_icmp .ne 11, 3) := dk_160 0 11 (dk_at dksX9_doesMany_0 20 rfl rfl)
theorem dX9_doesMany_23 : decode cX9_doesMany 23 = .ok (.aload_n 0, 1) := dk_42 (dk_at dksX9_doesMany_0 23 rfl rfl)
theorem dX9_doesMany_24 : decode cX9_doesMany 24 = .ok (.iload_n 2, 1) := dk_28 (dk_at dksX9_doesMany_1 0 rfl rfl)
theorem dX9_doesMany_25 : decode cX9_doesMany 25 = .ok (.invokevirtual 319, 3) := dk_182 1 63 (dk_at dksX9_doesMany_1 1 rfl rfl)
theorem dX9_doesMany_28 : decode cX9_doesMany 28 = .ok (.goto 50, 3) := dk_167 0 50 (dk_at dksX9_doesMany_1 4 rfl rfl)
theorem dX9_doesMany_31 : decode cX9_doesMany 31 = .ok (.iload_n 1, 1) := dk_27 (dk_at dksX9_doesMany_1 7 rfl rfl)
theorem dX9_doesMany_32 : decode cX9_doesMany 32 = .ok (.ifCond .ne 26, 3) := dk_154 0 26 (dk_at dksX9_doesMany_1 8 rfl rfl)
theorem dX9_doesMany_35 : decode cX9_doesMany 35 = .ok (.aload_n 0, 1) := dk_42 (dk_at dksX9_doesMany_1 11 rfl rfl)
theorem dX9_doesMany_36 : decode cX9_doesMany 36 = .ok (.iload_n 2, 1) := dk_28 (dk_at dksX9_doesMany_1 12 rfl rfl)
theorem dX9_doesMany_37 : decode cX9_doesMany 37 = .ok (.iload 6, 2) := dk_21 6 (dk_at dksX9_doesMany_1 13 rfl rfl)
theorem dX9_doesMany_39 : decode cX9_doesMany 39 = .ok (.iadd, 1) := dk_96 (dk_at dksX9_doesMany_1 15 rfl rfl)
theorem dX9_doesMany_40 : decode cX9_doesMany 40 = .ok (.aload_n 0, 1) := dk_42 (dk_at dksX9_doesMany_1 16 rfl rfl)
theorem dX9_doesMany_41 : decode cX9_doesMany 41 = .ok (.getfield 38, 3) := dk_180 0 38 (dk_at dksX9_doesMany_1 17 rfl rfl)
theorem dX9_doesMany_44 : decode cX9_doesMany 44 = .ok (.iload_n 3, 1) := dk_29 (dk_at dksX9_doesMany_1 20 rfl rfl)
theorem dX9_doesMany_45 : decode cX9_doesMany 45 = .ok (.iload 6, 2) := dk_21 6 (dk_at dksX9_doesMany_1 21 rfl rfl)
theorem dX9_doesMany_47 : decode cX9_doesMany 47 = .ok (.iadd, 1) := dk_96 (dk_at dksX9_doesMany_1 23 rfl rfl)
theorem dX9_doesMany_48 : decode cX9_doesMany 48 = .ok (.iaload, 1) := dk_46 (dk_at dksX9_doesMany_2 0 rfl rfl)
theorem dX9_doesMany_49 : decode cX9_doesMany 49 = .ok (.bipush 97, 2) := dk_16 97 (dk_at dksX9_doesMany_2 1 rfl rfl)
theorem dX9_doesMany_51 : decode cX9_doesMany 51 = .ok (.isub, 1) := dk_100 (dk_at dksX9_doesMany_2 3 rfl rfl)
theorem dX9_doesMany_52 : decode cX9_doesMany 52 = .ok (.invokevirtual 322, 3) := dk_182 1 66 (dk_at dksX9_doesMany_2 4 rfl rfl)
theorem dX9_doesMany_55 : decode cX9_doesMany 55 = .ok (.goto 23, 3) := dk_167 0 23 (dk_at dksX9_doesMany_2 7 rfl rfl)
theorem dX9_doesMany_58 : decode cX9_doesMany 58 = .ok (.aload_n 0, 1) := dk_42 (dk_at dksX9_doesMany_2 10 rfl rfl)
theorem dX9_doesMany_59 : decode cX9_doesMany 59 = .ok (.iload_n 2, 1) := dk_28 (dk_at dksX9_doesMany_2 11 rfl rfl)
theorem dX9_doesMany_60 : decode cX9_doesMany 60 = .ok (.iload 6, 2) := dk_21 6 (dk_at dksX9_doesMany_2 12 rfl rfl)
theorem dX9_doesMany_62 : decode cX9_doesMany 62 = .ok (.iadd, 1) := dk_96 (dk_at dksX9_doesMany_2 14 rfl rfl)
theorem dX9_doesMany_63 : decode cX9_doesMany 63 = .ok (.aload_n 0, 1) := dk_42 (dk_at dksX9_doesMany_2 15 rfl rfl)
theorem dX9_doesMany_64 : decode cX9_doesMany 64 = .ok (.getfield 38, 3) := dk_180 0 38 (dk_at dksX9_doesMany_2 16 rfl rfl)
theorem dX9_doesMany_67 : decode cX9_doesMany 67 = .ok (.iload_n 3, 1) := dk_29 (dk_at dksX9_doesMany_2 19 rfl rfl)
theorem dX9_doesMany_68 : decode cX9_doesMany 68 = .ok (.iload 6, 2) := dk_21 6 (dk_at dksX9_doesMany_2 20 rfl rfl)
theorem dX9_doesMany_70 : decode cX9_doesMany 70 = .ok (.iadd, 1) := dk_96 (dk_at dksX9_doesMany_2 22 rfl rfl)
theorem dX9_doesMany_71 : decode cX9_doesMany 71 = .ok (.iaload, 1) := dk_46 (dk_at dksX9_doesMany_2 23 rfl rfl)
theorem dX9_doesMany_72 : decode cX9_doesMany 72 = .ok (.bipush 97, 2) := dk_16 97 (dk_at dksX9_doesMany_3 0 rfl rfl)
theorem dX9_doesMany_74 : decode cX9_doesMany 74 = .ok (.isub, 1) := dk_100 (dk_at dksX9_doesMany_3 2 rfl rfl)
theorem dX9_doesMany_75 : decode cX9_doesMany 75 = .ok (.invokevirtual 325, 3) := dk_182 1 69 (dk_at dksX9_doesMany_3 3 rfl rfl)
theorem dX9_doesMany_78 : decode cX9_doesMany 78 = .ok (.istore 5, 2) := dk_54 5 (dk_at dksX9_doesMany_3 6 rfl rfl)
theorem dX9_doesMany_80 : decode cX9_doesMany 80 = .ok (.iinc 6 1, 3) := dk_132 6 1 (dk_at dksX9_doesMany_3 8 rfl rfl)
theorem dX9_doesMany_83 : decode cX9_doesMany 83 = .ok (.goto (-77), 3) := dk_167 255 179 (dk_at dksX9_doesMany_3 11 rfl rfl)
theorem dX9_doesMany_86 : decode cX9_doesMany 86 = .ok (.iload 5, 2) := dk_21 5 (dk_at dksX9_doesMany_3 14 rfl rfl)
theorem dX9_doesMany_88 : decode cX9_doesMany 88 = .ok (.ireturn, 1) := dk_172 (dk_at dksX9_doesMany_3 16 rfl rfl)
abbrev cX9_eraseNow : ByteArray := prog_29_method_108_code
def yX9_eraseNow : MethodName := ⟨RX9, "eraseNow", "(I)I"⟩
def dkwX9_eraseNow_4 : List UInt8 := [42, 180, 0, 9, 4, 46, 172]
abbrev dktX9_eraseNow_4 : List UInt8 := dkwX9_eraseNow_4 ++ []
def dkwX9_eraseNow_3 : List UInt8 := [132, 2, 1, 167, 255, 223, 42, 5, 4, 182, 0, 140, 42, 27, 4, 96, 2, 182, 1, 165, 42, 182, 1, 162]
abbrev dktX9_eraseNow_3 : List UInt8 := dkwX9_eraseNow_3 ++ dktX9_eraseNow_4
def dkwX9_eraseNow_2 : List UInt8 := [162, 0, 29, 42, 180, 0, 9, 16, 16, 28, 96, 42, 180, 0, 9, 16, 16, 28, 96, 4, 96, 46, 79]
abbrev dktX9_eraseNow_2 : List UInt8 := dkwX9_eraseNow_2 ++ dktX9_eraseNow_3
def dkwX9_eraseNow_1 : List UInt8 := [16, 252, 172, 42, 180, 0, 9, 4, 92, 46, 4, 100, 79, 27, 61, 28, 42, 180, 0, 9, 4, 46]
abbrev dktX9_eraseNow_1 : List UInt8 := dkwX9_eraseNow_1 ++ dktX9_eraseNow_2
def dkwX9_eraseNow_0 : List UInt8 := [42, 180, 0, 9, 4, 46, 4, 160, 0, 6, 16, 253, 172, 27, 42, 180, 0, 9, 4, 46, 161, 0, 6]
abbrev dktX9_eraseNow_0 : List UInt8 := dkwX9_eraseNow_0 ++ dktX9_eraseNow_1
theorem dksX9_eraseNow_0 : cX9_eraseNow.data.toList.drop 0 = dktX9_eraseNow_0 := by decide +kernel
theorem dksX9_eraseNow_1 : cX9_eraseNow.data.toList.drop 23 = dktX9_eraseNow_1 := dk_seg dksX9_eraseNow_0 23 rfl rfl
theorem dksX9_eraseNow_2 : cX9_eraseNow.data.toList.drop 45 = dktX9_eraseNow_2 := dk_seg dksX9_eraseNow_1 22 rfl rfl
theorem dksX9_eraseNow_3 : cX9_eraseNow.data.toList.drop 68 = dktX9_eraseNow_3 := dk_seg dksX9_eraseNow_2 23 rfl rfl
theorem dksX9_eraseNow_4 : cX9_eraseNow.data.toList.drop 92 = dktX9_eraseNow_4 := dk_seg dksX9_eraseNow_3 24 rfl rfl
theorem dX9_eraseNow_0 : decode cX9_eraseNow 0 = .ok (.aload_n 0, 1) := dk_42 (dk_at dksX9_eraseNow_0 0 rfl rfl)
theorem dX9_eraseNow_1 : decode cX9_eraseNow 1 = .ok (.getfield 9, 3) := dk_180 0 9 (dk_at dksX9_eraseNow_0 1 rfl rfl)
theorem dX9_eraseNow_4 : decode cX9_eraseNow 4 = .ok (.iconst 1, 1) := dk_4 (dk_at dksX9_eraseNow_0 4 rfl rfl)
theorem dX9_eraseNow_5 : decode cX9_eraseNow 5 = .ok (.iaload, 1) := dk_46 (dk_at dksX9_eraseNow_0 5 rfl rfl)
theorem dX9_eraseNow_6 : decode cX9_eraseNow 6 = .ok (.iconst 1, 1) := dk_4 (dk_at dksX9_eraseNow_0 6 rfl rfl)
theorem dX9_eraseNow_7 : decode cX9_eraseNow 7 = .ok (.if_icmp .ne 6, 3) := dk_160 0 6 (dk_at dksX9_eraseNow_0 7 rfl rfl)
theorem dX9_eraseNow_10 : decode cX9_eraseNow 10 = .ok (.bipush (-3), 2) := dk_16 253 (dk_at dksX9_eraseNow_0 10 rfl rfl)
theorem dX9_eraseNow_12 : decode cX9_eraseNow 12 = .ok (.ireturn, 1) := dk_172 (dk_at dksX9_eraseNow_0 12 rfl rfl)
theorem dX9_eraseNow_13 : decode cX9_eraseNow 13 = .ok (.iload_n 1, 1) := dk_27 (dk_at dksX9_eraseNow_0 13 rfl rfl)
theorem dX9_eraseNow_14 : decode cX9_eraseNow 14 = .ok (.aload_n 0, 1) := dk_42 (dk_at dksX9_eraseNow_0 14 rfl rfl)
theorem dX9_eraseNow_15 : decode cX9_eraseNow 15 = .ok (.getfield 9, 3) := dk_180 0 9 (dk_at dksX9_eraseNow_0 15 rfl rfl)
theorem dX9_eraseNow_18 : decode cX9_eraseNow 18 = .ok (.iconst 1, 1) := dk_4 (dk_at dksX9_eraseNow_0 18 rfl rfl)
theorem dX9_eraseNow_19 : decode cX9_eraseNow 19 = .ok (.iaload, 1) := dk_46 (dk_at dksX9_eraseNow_0 19 rfl rfl)
theorem dX9_eraseNow_20 : decode cX9_eraseNow 20 = .ok (.if_icmp .lt 6, 3) := dk_161 0 6 (dk_at dksX9_eraseNow_0 20 rfl rfl)
theorem dX9_eraseNow_23 : decode cX9_eraseNow 23 = .ok (.bipush (-4), 2) := dk_16 252 (dk_at dksX9_eraseNow_1 0 rfl rfl)
theorem dX9_eraseNow_25 : decode cX9_eraseNow 25 = .ok (.ireturn, 1) := dk_172 (dk_at dksX9_eraseNow_1 2 rfl rfl)
theorem dX9_eraseNow_26 : decode cX9_eraseNow 26 = .ok (.aload_n 0, 1) := dk_42 (dk_at dksX9_eraseNow_1 3 rfl rfl)
theorem dX9_eraseNow_27 : decode cX9_eraseNow 27 = .ok (.getfield 9, 3) := dk_180 0 9 (dk_at dksX9_eraseNow_1 4 rfl rfl)
theorem dX9_eraseNow_30 : decode cX9_eraseNow 30 = .ok (.iconst 1, 1) := dk_4 (dk_at dksX9_eraseNow_1 7 rfl rfl)
theorem dX9_eraseNow_31 : decode cX9_eraseNow 31 = .ok (.dup2, 1) := dk_92 (dk_at dksX9_eraseNow_1 8 rfl rfl)
theorem dX9_eraseNow_32 : decode cX9_eraseNow 32 = .ok (.iaload, 1) := dk_46 (dk_at dksX9_eraseNow_1 9 rfl rfl)
theorem dX9_eraseNow_33 : decode cX9_eraseNow 33 = .ok (.iconst 1, 1) := dk_4 (dk_at dksX9_eraseNow_1 10 rfl rfl)
theorem dX9_eraseNow_34 : decode cX9_eraseNow 34 = .ok (.isub, 1) := dk_100 (dk_at dksX9_eraseNow_1 11 rfl rfl)
theorem dX9_eraseNow_35 : decode cX9_eraseNow 35 = .ok (.iastore, 1) := dk_79 (dk_at dksX9_eraseNow_1 12 rfl rfl)
theorem dX9_eraseNow_36 : decode cX9_eraseNow 36 = .ok (.iload_n 1, 1) := dk_27 (dk_at dksX9_eraseNow_1 13 rfl rfl)
theorem dX9_eraseNow_37 : decode cX9_eraseNow 37 = .ok (.istore_n 2, 1) := dk_61 (dk_at dksX9_eraseNow_1 14 rfl rfl)
theorem dX9_eraseNow_38 : decode cX9_eraseNow 38 = .ok (.iload_n 2, 1) := dk_28 (dk_at dksX9_eraseNow_1 15 rfl rfl)
theorem dX9_eraseNow_39 : decode cX9_eraseNow 39 = .ok (.aload_n 0, 1) := dk_42 (dk_at dksX9_eraseNow_1 16 rfl rfl)
theorem dX9_eraseNow_40 : decode cX9_eraseNow 40 = .ok (.getfield 9, 3) := dk_180 0 9 (dk_at dksX9_eraseNow_1 17 rfl rfl)
theorem dX9_eraseNow_43 : decode cX9_eraseNow 43 = .ok (.iconst 1, 1) := dk_4 (dk_at dksX9_eraseNow_1 20 rfl rfl)
theorem dX9_eraseNow_44 : decode cX9_eraseNow 44 = .ok (.iaload, 1) := dk_46 (dk_at dksX9_eraseNow_1 21 rfl rfl)
theorem dX9_eraseNow_45 : decode cX9_eraseNow 45 = .ok (.if_icmp .ge 29, 3) := dk_162 0 29 (dk_at dksX9_eraseNow_2 0 rfl rfl)
theorem dX9_eraseNow_48 : decode cX9_eraseNow 48 = .ok (.aload_n 0, 1) := dk_42 (dk_at dksX9_eraseNow_2 3 rfl rfl)
theorem dX9_eraseNow_49 : decode cX9_eraseNow 49 = .ok (.getfield 9, 3) := dk_180 0 9 (dk_at dksX9_eraseNow_2 4 rfl rfl)
theorem dX9_eraseNow_52 : decode cX9_eraseNow 52 = .ok (.bipush 16, 2) := dk_16 16 (dk_at dksX9_eraseNow_2 7 rfl rfl)
theorem dX9_eraseNow_54 : decode cX9_eraseNow 54 = .ok (.iload_n 2, 1) := dk_28 (dk_at dksX9_eraseNow_2 9 rfl rfl)
theorem dX9_eraseNow_55 : decode cX9_eraseNow 55 = .ok (.iadd, 1) := dk_96 (dk_at dksX9_eraseNow_2 10 rfl rfl)
theorem dX9_eraseNow_56 : decode cX9_eraseNow 56 = .ok (.aload_n 0, 1) := dk_42 (dk_at dksX9_eraseNow_2 11 rfl rfl)
theorem dX9_eraseNow_57 : decode cX9_eraseNow 57 = .ok (.getfield 9, 3) := dk_180 0 9 (dk_at dksX9_eraseNow_2 12 rfl rfl)
theorem dX9_eraseNow_60 : decode cX9_eraseNow 60 = .ok (.bipush 16, 2) := dk_16 16 (dk_at dksX9_eraseNow_2 15 rfl rfl)
theorem dX9_eraseNow_62 : decode cX9_eraseNow 62 = .ok (.iload_n 2, 1) := dk_28 (dk_at dksX9_eraseNow_2 17 rfl rfl)
theorem dX9_eraseNow_63 : decode cX9_eraseNow 63 = .ok (.iadd, 1) := dk_96 (dk_at dksX9_eraseNow_2 18 rfl rfl)
theorem dX9_eraseNow_64 : decode cX9_eraseNow 64 = .ok (.iconst 1, 1) := dk_4 (dk_at dksX9_eraseNow_2 19 rfl rfl)
theorem dX9_eraseNow_65 : decode cX9_eraseNow 65 = .ok (.iadd, 1) := dk_96 (dk_at dksX9_eraseNow_2 20 rfl rfl)
theorem dX9_eraseNow_66 : decode cX9_eraseNow 66 = .ok (.iaload, 1) := dk_46 (dk_at dksX9_eraseNow_2 21 rfl rfl)
theorem dX9_eraseNow_67 : decode cX9_eraseNow 67 = .ok (.iastore, 1) := dk_79 (dk_at dksX9_eraseNow_2 22 rfl rfl)
theorem dX9_eraseNow_68 : decode cX9_eraseNow 68 = .ok (.iinc 2 1, 3) := dk_132 2 1 (dk_at dksX9_eraseNow_3 0 rfl rfl)
theorem dX9_eraseNow_71 : decode cX9_eraseNow 71 = .ok (.goto (-33), 3) := dk_167 255 223 (dk_at dksX9_eraseNow_3 3 rfl rfl)
theorem dX9_eraseNow_74 : decode cX9_eraseNow 74 = .ok (.aload_n 0, 1) := dk_42 (dk_at dksX9_eraseNow_3 6 rfl rfl)
theorem dX9_eraseNow_75 : decode cX9_eraseNow 75 = .ok (.iconst 2, 1) := dk_5 (dk_at dksX9_eraseNow_3 7 rfl rfl)
theorem dX9_eraseNow_76 : decode cX9_eraseNow 76 = .ok (.iconst 1, 1) := dk_4 (dk_at dksX9_eraseNow_3 8 rfl rfl)
theorem dX9_eraseNow_77 : decode cX9_eraseNow 77 = .ok (.invokevirtual 140, 3) := dk_182 0 140 (dk_at dksX9_eraseNow_3 9 rfl rfl)
theorem dX9_eraseNow_80 : decode cX9_eraseNow 80 = .ok (.aload_n 0, 1) := dk_42 (dk_at dksX9_eraseNow_3 12 rfl rfl)
theorem dX9_eraseNow_81 : decode cX9_eraseNow 81 = .ok (.iload_n 1, 1) := dk_27 (dk_at dksX9_eraseNow_3 13 rfl rfl)
theorem dX9_eraseNow_82 : decode cX9_eraseNow 82 = .ok (.iconst 1, 1) := dk_4 (dk_at dksX9_eraseNow_3 14 rfl rfl)
theorem dX9_eraseNow_83 : decode cX9_eraseNow 83 = .ok (.iadd, 1) := dk_96 (dk_at dksX9_eraseNow_3 15 rfl rfl)
theorem dX9_eraseNow_84 : decode cX9_eraseNow 84 = .ok (.iconst (-1), 1) := dk_2 (dk_at dksX9_eraseNow_3 16 rfl rfl)
theorem dX9_eraseNow_85 : decode cX9_eraseNow 85 = .ok (.invokevirtual 421, 3) := dk_182 1 165 (dk_at dksX9_eraseNow_3 17 rfl rfl)
theorem dX9_eraseNow_88 : decode cX9_eraseNow 88 = .ok (.aload_n 0, 1) := dk_42 (dk_at dksX9_eraseNow_3 20 rfl rfl)
theorem dX9_eraseNow_89 : decode cX9_eraseNow 89 = .ok (.invokevirtual 418, 3) := dk_182 1 162 (dk_at dksX9_eraseNow_3 21 rfl rfl)
theorem dX9_eraseNow_92 : decode cX9_eraseNow 92 = .ok (.aload_n 0, 1) := dk_42 (dk_at dksX9_eraseNow_4 0 rfl rfl)
theorem dX9_eraseNow_93 : decode cX9_eraseNow 93 = .ok (.getfield 9, 3) := dk_180 0 9 (dk_at dksX9_eraseNow_4 1 rfl rfl)
theorem dX9_eraseNow_96 : decode cX9_eraseNow 96 = .ok (.iconst 1, 1) := dk_4 (dk_at dksX9_eraseNow_4 4 rfl rfl)
theorem dX9_eraseNow_97 : decode cX9_eraseNow 97 = .ok (.iaload, 1) := dk_46 (dk_at dksX9_eraseNow_4 5 rfl rfl)
theorem dX9_eraseNow_98 : decode cX9_eraseNow 98 = .ok (.ireturn, 1) := dk_172 (dk_at dksX9_eraseNow_4 6 rfl rfl)
abbrev cX9_counts : ByteArray := prog_29_method_9_code
def yX9_counts : MethodName := ⟨RX9, "counts", "(II)V"⟩
def dkwX9_counts_0 : List UInt8 := [42, 180, 0, 9, 7, 27, 96, 92, 46, 28, 96, 79, 177]
abbrev dktX9_counts_0 : List UInt8 := dkwX9_counts_0 ++ []
theorem dksX9_counts_0 : cX9_counts.data.toList.drop 0 = dktX9_counts_0 := by decide +kernel
theorem dX9_counts_0 : decode cX9_counts 0 = .ok (.aload_n 0, 1) := dk_42 (dk_at dksX9_counts_0 0 rfl rfl)
theorem dX9_counts_1 : decode cX9_counts 1 = .ok (.getfield 9, 3) := dk_180 0 9 (dk_at dksX9_counts_0 1 rfl rfl)
theorem dX9_counts_4 : decode cX9_counts 4 = .ok (.iconst 4, 1) := dk_7 (dk_at dksX9_counts_0 4 rfl rfl)
theorem dX9_counts_5 : decode cX9_counts 5 = .ok (.iload_n 1, 1) := dk_27 (dk_at dksX9_counts_0 5 rfl rfl)
theorem dX9_counts_6 : decode cX9_counts 6 = .ok (.iadd, 1) := dk_96 (dk_at dksX9_counts_0 6 rfl rfl)
theorem dX9_counts_7 : decode cX9_counts 7 = .ok (.dup2, 1) := dk_92 (dk_at dksX9_counts_0 7 rfl rfl)
theorem dX9_counts_8 : decode cX9_counts 8 = .ok (.iaload, 1) := dk_46 (dk_at dksX9_counts_0 8 rfl rfl)
theorem dX9_counts_9 : decode cX9_counts 9 = .ok (.iload_n 2, 1) := dk_28 (dk_at dksX9_counts_0 9 rfl rfl)
theorem dX9_counts_10 : decode cX9_counts 10 = .ok (.iadd, 1) := dk_96 (dk_at dksX9_counts_0 10 rfl rfl)
theorem dX9_counts_11 : decode cX9_counts 11 = .ok (.iastore, 1) := dk_79 (dk_at dksX9_counts_0 11 rfl rfl)
theorem dX9_counts_12 : decode cX9_counts 12 = .ok (.return_, 1) := dk_177 (dk_at dksX9_counts_0 12 rfl rfl)
abbrev cX9_shifts : ByteArray := prog_29_method_30_code
def yX9_shifts : MethodName := ⟨RX9, "shifts", "(II)V"⟩
def dkwX9_shifts_1 : List UInt8 := [180, 0, 9, 17, 1, 200, 5, 29, 104, 96, 92, 46, 28, 96, 79, 132, 3, 1, 167, 255, 218, 177]
abbrev dktX9_shifts_1 : List UInt8 := dkwX9_shifts_1 ++ []
def dkwX9_shifts_0 : List UInt8 := [3, 62, 29, 42, 180, 0, 9, 6, 46, 162, 0, 34, 42, 29, 182, 0, 124, 27, 161, 0, 19, 42]
abbrev dktX9_shifts_0 : List UInt8 := dkwX9_shifts_0 ++ dktX9_shifts_1
theorem dksX9_shifts_0 : cX9_shifts.data.toList.drop 0 = dktX9_shifts_0 := by decide +kernel
theorem dksX9_shifts_1 : cX9_shifts.data.toList.drop 22 = dktX9_shifts_1 := dk_seg dksX9_shifts_0 22 rfl rfl
theorem dX9_shifts_0 : decode cX9_shifts 0 = .ok (.iconst 0, 1) := dk_3 (dk_at dksX9_shifts_0 0 rfl rfl)
theorem dX9_shifts_1 : decode cX9_shifts 1 = .ok (.istore_n 3, 1) := dk_62 (dk_at dksX9_shifts_0 1 rfl rfl)
theorem dX9_shifts_2 : decode cX9_shifts 2 = .ok (.iload_n 3, 1) := dk_29 (dk_at dksX9_shifts_0 2 rfl rfl)
theorem dX9_shifts_3 : decode cX9_shifts 3 = .ok (.aload_n 0, 1) := dk_42 (dk_at dksX9_shifts_0 3 rfl rfl)
theorem dX9_shifts_4 : decode cX9_shifts 4 = .ok (.getfield 9, 3) := dk_180 0 9 (dk_at dksX9_shifts_0 4 rfl rfl)
theorem dX9_shifts_7 : decode cX9_shifts 7 = .ok (.iconst 3, 1) := dk_6 (dk_at dksX9_shifts_0 7 rfl rfl)
theorem dX9_shifts_8 : decode cX9_shifts 8 = .ok (.iaload, 1) := dk_46 (dk_at dksX9_shifts_0 8 rfl rfl)
theorem dX9_shifts_9 : decode cX9_shifts 9 = .ok (.if_icmp .ge 34, 3) := dk_162 0 34 (dk_at dksX9_shifts_0 9 rfl rfl)
theorem dX9_shifts_12 : decode cX9_shifts 12 = .ok (.aload_n 0, 1) := dk_42 (dk_at dksX9_shifts_0 12 rfl rfl)
theorem dX9_shifts_13 : decode cX9_shifts 13 = .ok (.iload_n 3, 1) := dk_29 (dk_at dksX9_shifts_0 13 rfl rfl)
theorem dX9_shifts_14 : decode cX9_shifts 14 = .ok (.invokevirtual 124, 3) := dk_182 0 124 (dk_at dksX9_shifts_0 14 rfl rfl)
theorem dX9_shifts_17 : decode cX9_shifts 17 = .ok (.iload_n 1, 1) := dk_27 (dk_at dksX9_shifts_0 17 rfl rfl)
theorem dX9_shifts_18 : decode cX9_shifts 18 = .ok (.if_icmp .lt 19, 3) := dk_161 0 19 (dk_at dksX9_shifts_0 18 rfl rfl)
theorem dX9_shifts_21 : decode cX9_shifts 21 = .ok (.aload_n 0, 1) := dk_42 (dk_at dksX9_shifts_0 21 rfl rfl)
theorem dX9_shifts_22 : decode cX9_shifts 22 = .ok (.getfield 9, 3) := dk_180 0 9 (dk_at dksX9_shifts_1 0 rfl rfl)
theorem dX9_shifts_25 : decode cX9_shifts 25 = .ok (.sipush 456, 3) := dk_17 1 200 (dk_at dksX9_shifts_1 3 rfl rfl)
theorem dX9_shifts_28 : decode cX9_shifts 28 = .ok (.iconst 2, 1) := dk_5 (dk_at dksX9_shifts_1 6 rfl rfl)
theorem dX9_shifts_29 : decode cX9_shifts 29 = .ok (.iload_n 3, 1) := dk_29 (dk_at dksX9_shifts_1 7 rfl rfl)
theorem dX9_shifts_30 : decode cX9_shifts 30 = .ok (.imul, 1) := dk_104 (dk_at dksX9_shifts_1 8 rfl rfl)
theorem dX9_shifts_31 : decode cX9_shifts 31 = .ok (.iadd, 1) := dk_96 (dk_at dksX9_shifts_1 9 rfl rfl)
theorem dX9_shifts_32 : decode cX9_shifts 32 = .ok (.dup2, 1) := dk_92 (dk_at dksX9_shifts_1 10 rfl rfl)
theorem dX9_shifts_33 : decode cX9_shifts 33 = .ok (.iaload, 1) := dk_46 (dk_at dksX9_shifts_1 11 rfl rfl)
theorem dX9_shifts_34 : decode cX9_shifts 34 = .ok (.iload_n 2, 1) := dk_28 (dk_at dksX9_shifts_1 12 rfl rfl)
theorem dX9_shifts_35 : decode cX9_shifts 35 = .ok (.iadd, 1) := dk_96 (dk_at dksX9_shifts_1 13 rfl rfl)
theorem dX9_shifts_36 : decode cX9_shifts 36 = .ok (.iastore, 1) := dk_79 (dk_at dksX9_shifts_1 14 rfl rfl)
theorem dX9_shifts_37 : decode cX9_shifts 37 = .ok (.iinc 3 1, 3) := dk_132 3 1 (dk_at dksX9_shifts_1 15 rfl rfl)
theorem dX9_shifts_40 : decode cX9_shifts 40 = .ok (.goto (-38), 3) := dk_167 255 218 (dk_at dksX9_shifts_1 18 rfl rfl)
theorem dX9_shifts_43 : decode cX9_shifts 43 = .ok (.return_, 1) := dk_177 (dk_at dksX9_shifts_1 21 rfl rfl)
abbrev cX9_markPlace : ByteArray := prog_29_method_24_code
def yX9_markPlace : MethodName := ⟨RX9, "markPlace", "(I)I"⟩
def dkwX9_markPlace_0 : List UInt8 := [42, 180, 0, 9, 17, 1, 200, 5, 27, 104, 96, 46, 172]
abbrev dktX9_markPlace_0 : List UInt8 := dkwX9_markPlace_0 ++ []
theorem dksX9_markPlace_0 : cX9_markPlace.data.toList.drop 0 = dktX9_markPlace_0 := by decide +kernel
theorem dX9_markPlace_0 : decode cX9_markPlace 0 = .ok (.aload_n 0, 1) := dk_42 (dk_at dksX9_markPlace_0 0 rfl rfl)
theorem dX9_markPlace_1 : decode cX9_markPlace 1 = .ok (.getfield 9, 3) := dk_180 0 9 (dk_at dksX9_markPlace_0 1 rfl rfl)
theorem dX9_markPlace_4 : decode cX9_markPlace 4 = .ok (.sipush 456, 3) := dk_17 1 200 (dk_at dksX9_markPlace_0 4 rfl rfl)
theorem dX9_markPlace_7 : decode cX9_markPlace 7 = .ok (.iconst 2, 1) := dk_5 (dk_at dksX9_markPlace_0 7 rfl rfl)
theorem dX9_markPlace_8 : decode cX9_markPlace 8 = .ok (.iload_n 1, 1) := dk_27 (dk_at dksX9_markPlace_0 8 rfl rfl)
theorem dX9_markPlace_9 : decode cX9_markPlace 9 = .ok (.imul, 1) := dk_104 (dk_at dksX9_markPlace_0 9 rfl rfl)
theorem dX9_markPlace_10 : decode cX9_markPlace 10 = .ok (.iadd, 1) := dk_96 (dk_at dksX9_markPlace_0 10 rfl rfl)
theorem dX9_markPlace_11 : decode cX9_markPlace 11 = .ok (.iaload, 1) := dk_46 (dk_at dksX9_markPlace_0 11 rfl rfl)
theorem dX9_markPlace_12 : decode cX9_markPlace 12 = .ok (.ireturn, 1) := dk_172 (dk_at dksX9_markPlace_0 12 rfl rfl)
abbrev cX9_cleans : ByteArray := prog_29_method_29_code
def yX9_cleans : MethodName := ⟨RX9, "cleans", "()V"⟩
def dkwX9_cleans_1 : List UInt8 := [182, 0, 136, 42, 7, 4, 182, 0, 140, 27, 28, 184, 0, 113, 96, 60, 167, 255, 218, 177]
abbrev dktX9_cleans_1 : List UInt8 := dkwX9_cleans_1 ++ []
def dkwX9_cleans_0 : List UInt8 := [3, 60, 27, 42, 180, 0, 9, 6, 46, 162, 0, 34, 42, 27, 182, 0, 133, 61, 28, 154, 0, 14, 42, 27]
abbrev dktX9_cleans_0 : List UInt8 := dkwX9_cleans_0 ++ dktX9_cleans_1
theorem dksX9_cleans_0 : cX9_cleans.data.toList.drop 0 = dktX9_cleans_0 := by decide +kernel
theorem dksX9_cleans_1 : cX9_cleans.data.toList.drop 24 = dktX9_cleans_1 := dk_seg dksX9_cleans_0 24 rfl rfl
theorem dX9_cleans_0 : decode cX9_cleans 0 = .ok (.iconst 0, 1) := dk_3 (dk_at dksX9_cleans_0 0 rfl rfl)
theorem dX9_cleans_1 : decode cX9_cleans 1 = .ok (.istore_n 1, 1) := dk_60 (dk_at dksX9_cleans_0 1 rfl rfl)
theorem dX9_cleans_2 : decode cX9_cleans 2 = .ok (.iload_n 1, 1) := dk_27 (dk_at dksX9_cleans_0 2 rfl rfl)
theorem dX9_cleans_3 : decode cX9_cleans 3 = .ok (.aload_n 0, 1) := dk_42 (dk_at dksX9_cleans_0 3 rfl rfl)
theorem dX9_cleans_4 : decode cX9_cleans 4 = .ok (.getfield 9, 3) := dk_180 0 9 (dk_at dksX9_cleans_0 4 rfl rfl)
theorem dX9_cleans_7 : decode cX9_cleans 7 = .ok (.iconst 3, 1) := dk_6 (dk_at dksX9_cleans_0 7 rfl rfl)
theorem dX9_cleans_8 : decode cX9_cleans 8 = .ok (.iaload, 1) := dk_46 (dk_at dksX9_cleans_0 8 rfl rfl)
theorem dX9_cleans_9 : decode cX9_cleans 9 = .ok (.if_icmp .ge 34, 3) := dk_162 0 34 (dk_at dksX9_cleans_0 9 rfl rfl)
theorem dX9_cleans_12 : decode cX9_cleans 12 = .ok (.aload_n 0, 1) := dk_42 (dk_at dksX9_cleans_0 12 rfl rfl)
theorem dX9_cleans_13 : decode cX9_cleans 13 = .ok (.iload_n 1, 1) := dk_27 (dk_at dksX9_cleans_0 13 rfl rfl)
theorem dX9_cleans_14 : decode cX9_cleans 14 = .ok (.invokevirtual 133, 3) := dk_182 0 133 (dk_at dksX9_cleans_0 14 rfl rfl)
theorem dX9_cleans_17 : decode cX9_cleans 17 = .ok (.istore_n 2, 1) := dk_61 (dk_at dksX9_cleans_0 17 rfl rfl)
theorem dX9_cleans_18 : decode cX9_cleans 18 = .ok (.iload_n 2, 1) := dk_28 (dk_at dksX9_cleans_0 18 rfl rfl)
theorem dX9_cleans_19 : decode cX9_cleans 19 = .ok (.ifCond .ne 14, 3) := dk_154 0 14 (dk_at dksX9_cleans_0 19 rfl rfl)
theorem dX9_cleans_22 : decode cX9_cleans 22 = .ok (.aload_n 0, 1) := dk_42 (dk_at dksX9_cleans_0 22 rfl rfl)
theorem dX9_cleans_23 : decode cX9_cleans 23 = .ok (.iload_n 1, 1) := dk_27 (dk_at dksX9_cleans_0 23 rfl rfl)
theorem dX9_cleans_24 : decode cX9_cleans 24 = .ok (.invokevirtual 136, 3) := dk_182 0 136 (dk_at dksX9_cleans_1 0 rfl rfl)
theorem dX9_cleans_27 : decode cX9_cleans 27 = .ok (.aload_n 0, 1) := dk_42 (dk_at dksX9_cleans_1 3 rfl rfl)
theorem dX9_cleans_28 : decode cX9_cleans 28 = .ok (.iconst 4, 1) := dk_7 (dk_at dksX9_cleans_1 4 rfl rfl)
theorem dX9_cleans_29 : decode cX9_cleans 29 = .ok (.iconst 1, 1) := dk_4 (dk_at dksX9_cleans_1 5 rfl rfl)
theorem dX9_cleans_30 : decode cX9_cleans 30 = .ok (.invokevirtual 140, 3) := dk_182 0 140 (dk_at dksX9_cleans_1 6 rfl rfl)
theorem dX9_cleans_33 : decode cX9_cleans 33 = .ok (.iload_n 1, 1) := dk_27 (dk_at dksX9_cleans_1 9 rfl rfl)
theorem dX9_cleans_34 : decode cX9_cleans 34 = .ok (.iload_n 2, 1) := dk_28 (dk_at dksX9_cleans_1 10 rfl rfl)
theorem dX9_cleans_35 : decode cX9_cleans 35 = .ok (.invokestatic 113, 3) := dk_184 0 113 (dk_at dksX9_cleans_1 11 rfl rfl)
theorem dX9_cleans_38 : decode cX9_cleans 38 = .ok (.iadd, 1) := dk_96 (dk_at dksX9_cleans_1 14 rfl rfl)
theorem dX9_cleans_39 : decode cX9_cleans 39 = .ok (.istore_n 1, 1) := dk_60 (dk_at dksX9_cleans_1 15 rfl rfl)
theorem dX9_cleans_40 : decode cX9_cleans 40 = .ok (.goto (-38), 3) := dk_167 255 218 (dk_at dksX9_cleans_1 16 rfl rfl)
theorem dX9_cleans_43 : decode cX9_cleans 43 = .ok (.return_, 1) := dk_177 (dk_at dksX9_cleans_1 19 rfl rfl)
abbrev cX9_isRight : ByteArray := prog_29_method_28_code
def yX9_isRight : MethodName := ⟨RX9, "isRight", "(I)Z"⟩
def dkwX9_isRight_1 : List UInt8 := [27, 182, 0, 124, 27, 182, 0, 130, 2, 160, 0, 7, 4, 167, 0, 4, 3, 172]
abbrev dktX9_isRight_1 : List UInt8 := dkwX9_isRight_1 ++ []
def dkwX9_isRight_0 : List UInt8 := [42, 42, 27, 182, 0, 127, 42, 27, 182, 0, 124, 182, 0, 109, 153, 0, 26, 42, 42, 27, 182, 0, 127, 42]
abbrev dktX9_isRight_0 : List UInt8 := dkwX9_isRight_0 ++ dktX9_isRight_1
theorem dksX9_isRight_0 : cX9_isRight.data.toList.drop 0 = dktX9_isRight_0 := by decide +kernel
theorem dksX9_isRight_1 : cX9_isRight.data.toList.drop 24 = dktX9_isRight_1 := dk_seg dksX9_isRight_0 24 rfl rfl
theorem dX9_isRight_0 : decode cX9_isRight 0 = .ok (.aload_n 0, 1) := dk_42 (dk_at dksX9_isRight_0 0 rfl rfl)
theorem dX9_isRight_1 : decode cX9_isRight 1 = .ok (.aload_n 0, 1) := dk_42 (dk_at dksX9_isRight_0 1 rfl rfl)
theorem dX9_isRight_2 : decode cX9_isRight 2 = .ok (.iload_n 1, 1) := dk_27 (dk_at dksX9_isRight_0 2 rfl rfl)
theorem dX9_isRight_3 : decode cX9_isRight 3 = .ok (.invokevirtual 127, 3) := dk_182 0 127 (dk_at dksX9_isRight_0 3 rfl rfl)
theorem dX9_isRight_6 : decode cX9_isRight 6 = .ok (.aload_n 0, 1) := dk_42 (dk_at dksX9_isRight_0 6 rfl rfl)
theorem dX9_isRight_7 : decode cX9_isRight 7 = .ok (.iload_n 1, 1) := dk_27 (dk_at dksX9_isRight_0 7 rfl rfl)
theorem dX9_isRight_8 : decode cX9_isRight 8 = .ok (.invokevirtual 124, 3) := dk_182 0 124 (dk_at dksX9_isRight_0 8 rfl rfl)
theorem dX9_isRight_11 : decode cX9_isRight 11 = .ok (.invokevirtual 109, 3) := dk_182 0 109 (dk_at dksX9_isRight_0 11 rfl rfl)
theorem dX9_isRight_14 : decode cX9_isRight 14 = .ok (.ifCond .eq 26, 3) := dk_153 0 26 (dk_at dksX9_isRight_0 14 rfl rfl)
theorem dX9_isRight_17 : decode cX9_isRight 17 = .ok (.aload_n 0, 1) := dk_42 (dk_at dksX9_isRight_0 17 rfl rfl)
theorem dX9_isRight_18 : decode cX9_isRight 18 = .ok (.aload_n 0, 1) := dk_42 (dk_at dksX9_isRight_0 18 rfl rfl)
theorem dX9_isRight_19 : decode cX9_isRight 19 = .ok (.iload_n 1, 1) := dk_27 (dk_at dksX9_isRight_0 19 rfl rfl)
theorem dX9_isRight_20 : decode cX9_isRight 20 = .ok (.invokevirtual 127, 3) := dk_182 0 127 (dk_at dksX9_isRight_0 20 rfl rfl)
theorem dX9_isRight_23 : decode cX9_isRight 23 = .ok (.aload_n 0, 1) := dk_42 (dk_at dksX9_isRight_0 23 rfl rfl)
theorem dX9_isRight_24 : decode cX9_isRight 24 = .ok (.iload_n 1, 1) := dk_27 (dk_at dksX9_isRight_1 0 rfl rfl)
theorem dX9_isRight_25 : decode cX9_isRight 25 = .ok (.invokevirtual 124, 3) := dk_182 0 124 (dk_at dksX9_isRight_1 1 rfl rfl)
theorem dX9_isRight_28 : decode cX9_isRight 28 = .ok (.iload_n 1, 1) := dk_27 (dk_at dksX9_isRight_1 4 rfl rfl)
theorem dX9_isRight_29 : decode cX9_isRight 29 = .ok (.invokevirtual 130, 3) := dk_182 0 130 (dk_at dksX9_isRight_1 5 rfl rfl)
theorem dX9_isRight_32 : decode cX9_isRight 32 = .ok (.iconst (-1), 1) := dk_2 (dk_at dksX9_isRight_1 8 rfl rfl)
theorem dX9_isRight_33 : decode cX9_isRight 33 = .ok (.if_icmp .ne 7, 3) := dk_160 0 7 (dk_at dksX9_isRight_1 9 rfl rfl)
theorem dX9_isRight_36 : decode cX9_isRight 36 = .ok (.iconst 1, 1) := dk_4 (dk_at dksX9_isRight_1 12 rfl rfl)
theorem dX9_isRight_37 : decode cX9_isRight 37 = .ok (.goto 4, 3) := dk_167 0 4 (dk_at dksX9_isRight_1 13 rfl rfl)
theorem dX9_isRight_40 : decode cX9_isRight 40 = .ok (.iconst 0, 1) := dk_3 (dk_at dksX9_isRight_1 16 rfl rfl)
theorem dX9_isRight_41 : decode cX9_isRight 41 = .ok (.ireturn, 1) := dk_172 (dk_at dksX9_isRight_1 17 rfl rfl)
abbrev cX9_markPattern : ByteArray := prog_29_method_25_code
def yX9_markPattern : MethodName := ⟨RX9, "markPattern", "(I)I"⟩
def dkwX9_markPattern_0 : List UInt8 := [42, 180, 0, 9, 17, 1, 200, 5, 27, 104, 96, 4, 96, 46, 172]
abbrev dktX9_markPattern_0 : List UInt8 := dkwX9_markPattern_0 ++ []
theorem dksX9_markPattern_0 : cX9_markPattern.data.toList.drop 0 = dktX9_markPattern_0 := by decide +kernel
theorem dX9_markPattern_0 : decode cX9_markPattern 0 = .ok (.aload_n 0, 1) := dk_42 (dk_at dksX9_markPattern_0 0 rfl rfl)
theorem dX9_markPattern_1 : decode cX9_markPattern 1 = .ok (.getfield 9, 3) := dk_180 0 9 (dk_at dksX9_markPattern_0 1 rfl rfl)
theorem dX9_markPattern_4 : decode cX9_markPattern 4 = .ok (.sipush 456, 3) := dk_17 1 200 (dk_at dksX9_markPattern_0 4 rfl rfl)
theorem dX9_markPattern_7 : decode cX9_markPattern 7 = .ok (.iconst 2, 1) := dk_5 (dk_at dksX9_markPattern_0 7 rfl rfl)
theorem dX9_markPattern_8 : decode cX9_markPattern 8 = .ok (.iload_n 1, 1) := dk_27 (dk_at dksX9_markPattern_0 8 rfl rfl)
theorem dX9_markPattern_9 : decode cX9_markPattern 9 = .ok (.imul, 1) := dk_104 (dk_at dksX9_markPattern_0 9 rfl rfl)
theorem dX9_markPattern_10 : decode cX9_markPattern 10 = .ok (.iadd, 1) := dk_96 (dk_at dksX9_markPattern_0 10 rfl rfl)
theorem dX9_markPattern_11 : decode cX9_markPattern 11 = .ok (.iconst 1, 1) := dk_4 (dk_at dksX9_markPattern_0 11 rfl rfl)
theorem dX9_markPattern_12 : decode cX9_markPattern 12 = .ok (.iadd, 1) := dk_96 (dk_at dksX9_markPattern_0 12 rfl rfl)
theorem dX9_markPattern_13 : decode cX9_markPattern 13 = .ok (.iaload, 1) := dk_46 (dk_at dksX9_markPattern_0 13 rfl rfl)
theorem dX9_markPattern_14 : decode cX9_markPattern 14 = .ok (.ireturn, 1) := dk_172 (dk_at dksX9_markPattern_0 14 rfl rfl)
abbrev cX9_isThere : ByteArray := prog_29_method_19_code
def yX9_isThere : MethodName := ⟨RX9, "isThere", "(II)Z"⟩
def dkwX9_isThere_1 : List UInt8 := [160, 0, 7, 4, 167, 0, 4, 3, 172]
abbrev dktX9_isThere_1 : List UInt8 := dkwX9_isThere_1 ++ []
def dkwX9_isThere_0 : List UInt8 := [28, 42, 180, 0, 9, 4, 46, 162, 0, 22, 42, 27, 28, 182, 0, 106, 42, 27, 3, 182, 0, 98]
abbrev dktX9_isThere_0 : List UInt8 := dkwX9_isThere_0 ++ dktX9_isThere_1
theorem dksX9_isThere_0 : cX9_isThere.data.toList.drop 0 = dktX9_isThere_0 := by decide +kernel
theorem dksX9_isThere_1 : cX9_isThere.data.toList.drop 22 = dktX9_isThere_1 := dk_seg dksX9_isThere_0 22 rfl rfl
theorem dX9_isThere_0 : decode cX9_isThere 0 = .ok (.iload_n 2, 1) := dk_28 (dk_at dksX9_isThere_0 0 rfl rfl)
theorem dX9_isThere_1 : decode cX9_isThere 1 = .ok (.aload_n 0, 1) := dk_42 (dk_at dksX9_isThere_0 1 rfl rfl)
theorem dX9_isThere_2 : decode cX9_isThere 2 = .ok (.getfield 9, 3) := dk_180 0 9 (dk_at dksX9_isThere_0 2 rfl rfl)
theorem dX9_isThere_5 : decode cX9_isThere 5 = .ok (.iconst 1, 1) := dk_4 (dk_at dksX9_isThere_0 5 rfl rfl)
theorem dX9_isThere_6 : decode cX9_isThere 6 = .ok (.iaload, 1) := dk_46 (dk_at dksX9_isThere_0 6 rfl rfl)
theorem dX9_isThere_7 : decode cX9_isThere 7 = .ok (.if_icmp .ge 22, 3) := dk_162 0 22 (dk_at dksX9_isThere_0 7 rfl rfl)
theorem dX9_isThere_10 : decode cX9_isThere 10 = .ok (.aload_n 0, 1) := dk_42 (dk_at dksX9_isThere_0 10 rfl rfl)
theorem dX9_isThere_11 : decode cX9_isThere 11 = .ok (.iload_n 1, 1) := dk_27 (dk_at dksX9_isThere_0 11 rfl rfl)
theorem dX9_isThere_12 : decode cX9_isThere 12 = .ok (.iload_n 2, 1) := dk_28 (dk_at dksX9_isThere_0 12 rfl rfl)
theorem dX9_isThere_13 : decode cX9_isThere 13 = .ok (.invokevirtual 106, 3) := dk_182 0 106 (dk_at dksX9_isThere_0 13 rfl rfl)
theorem dX9_isThere_16 : decode cX9_isThere 16 = .ok (.aload_n 0, 1) := dk_42 (dk_at dksX9_isThere_0 16 rfl rfl)
theorem dX9_isThere_17 : decode cX9_isThere 17 = .ok (.iload_n 1, 1) := dk_27 (dk_at dksX9_isThere_0 17 rfl rfl)
theorem dX9_isThere_18 : decode cX9_isThere 18 = .ok (.iconst 0, 1) := dk_3 (dk_at dksX9_isThere_0 18 rfl rfl)
theorem dX9_isThere_19 : decode cX9_isThere 19 = .ok (.invokevirtual 98, 3) := dk_182 0 98 (dk_at dksX9_isThere_0 19 rfl rfl)
theorem dX9_isThere_22 : decode cX9_isThere 22 = .ok (.if_icmp .ne 7, 3) := dk_160 0 7 (dk_at dksX9_isThere_1 0 rfl rfl)
theorem dX9_isThere_25 : decode cX9_isThere 25 = .ok (.iconst 1, 1) := dk_4 (dk_at dksX9_isThere_1 3 rfl rfl)
theorem dX9_isThere_26 : decode cX9_isThere 26 = .ok (.goto 4, 3) := dk_167 0 4 (dk_at dksX9_isThere_1 4 rfl rfl)
theorem dX9_isThere_29 : decode cX9_isThere 29 = .ok (.iconst 0, 1) := dk_3 (dk_at dksX9_isThere_1 7 rfl rfl)
theorem dX9_isThere_30 : decode cX9_isThere 30 = .ok (.ireturn, 1) := dk_172 (dk_at dksX9_isThere_1 8 rfl rfl)
abbrev cX9_matched : ByteArray := prog_29_method_18_code
def yX9_matched : MethodName := ⟨RX9, "matched", "(II)I"⟩
def dkwX9_matched_1 : List UInt8 := [184, 0, 101, 182, 0, 83, 172]
abbrev dktX9_matched_1 : List UInt8 := dkwX9_matched_1 ++ []
def dkwX9_matched_0 : List UInt8 := [42, 27, 184, 0, 91, 28, 184, 0, 95, 42, 27, 3, 182, 0, 98, 42, 180, 0, 9, 4, 46, 28, 100]
abbrev dktX9_matched_0 : List UInt8 := dkwX9_matched_0 ++ dktX9_matched_1
theorem dksX9_matched_0 : cX9_matched.data.toList.drop 0 = dktX9_matched_0 := by decide +kernel
theorem dksX9_matched_1 : cX9_matched.data.toList.drop 23 = dktX9_matched_1 := dk_seg dksX9_matched_0 23 rfl rfl
theorem dX9_matched_0 : decode cX9_matched 0 = .ok (.aload_n 0, 1) := dk_42 (dk_at dksX9_matched_0 0 rfl rfl)
theorem dX9_matched_1 : decode cX9_matched 1 = .ok (.iload_n 1, 1) := dk_27 (dk_at dksX9_matched_0 1 rfl rfl)
theorem dX9_matched_2 : decode cX9_matched 2 = .ok (.invokestatic 91, 3) := dk_184 0 91 (dk_at dksX9_matched_0 2 rfl rfl)
theorem dX9_matched_5 : decode cX9_matched 5 = .ok (.iload_n 2, 1) := dk_28 (dk_at dksX9_matched_0 5 rfl rfl)
theorem dX9_matched_6 : decode cX9_matched 6 = .ok (.invokestatic 95, 3) := dk_184 0 95 (dk_at dksX9_matched_0 6 rfl rfl)
theorem dX9_matched_9 : decode cX9_matched 9 = .ok (.aload_n 0, 1) := dk_42 (dk_at dksX9_matched_0 9 rfl rfl)
theorem dX9_matched_10 : decode cX9_matched 10 = .ok (.iload_n 1, 1) := dk_27 (dk_at dksX9_matched_0 10 rfl rfl)
theorem dX9_matched_11 : decode cX9_matched 11 = .ok (.iconst 0, 1) := dk_3 (dk_at dksX9_matched_0 11 rfl rfl)
theorem dX9_matched_12 : decode cX9_matched 12 = .ok (.invokevirtual 98, 3) := dk_182 0 98 (dk_at dksX9_matched_0 12 rfl rfl)
theorem dX9_matched_15 : decode cX9_matched 15 = .ok (.aload_n 0, 1) := dk_42 (dk_at dksX9_matched_0 15 rfl rfl)
theorem dX9_matched_16 : decode cX9_matched 16 = .ok (.getfield 9, 3) := dk_180 0 9 (dk_at dksX9_matched_0 16 rfl rfl)
theorem dX9_matched_19 : decode cX9_matched 19 = .ok (.iconst 1, 1) := dk_4 (dk_at dksX9_matched_0 19 rfl rfl)
theorem dX9_matched_20 : decode cX9_matched 20 = .ok (.iaload, 1) := dk_46 (dk_at dksX9_matched_0 20 rfl rfl)
theorem dX9_matched_21 : decode cX9_matched 21 = .ok (.iload_n 2, 1) := dk_28 (dk_at dksX9_matched_0 21 rfl rfl)
theorem dX9_matched_22 : decode cX9_matched 22 = .ok (.isub, 1) := dk_100 (dk_at dksX9_matched_0 22 rfl rfl)
theorem dX9_matched_23 : decode cX9_matched 23 = .ok (.invokestatic 101, 3) := dk_184 0 101 (dk_at dksX9_matched_1 0 rfl rfl)
theorem dX9_matched_26 : decode cX9_matched 26 = .ok (.invokevirtual 83, 3) := dk_182 0 83 (dk_at dksX9_matched_1 3 rfl rfl)
theorem dX9_matched_29 : decode cX9_matched 29 = .ok (.ireturn, 1) := dk_172 (dk_at dksX9_matched_1 6 rfl rfl)
abbrev cX9_patternFrom : ByteArray := prog_29_method_11_code
def yX9_patternFrom : MethodName := ⟨RX9, "patternFrom", "(I)I"⟩
def dkwX9_patternFrom_0 : List UInt8 := [17, 0, 216, 16, 30, 26, 104, 96, 16, 10, 96, 172]
abbrev dktX9_patternFrom_0 : List UInt8 := dkwX9_patternFrom_0 ++ []
theorem dksX9_patternFrom_0 : cX9_patternFrom.data.toList.drop 0 = dktX9_patternFrom_0 := by decide +kernel
theorem dX9_patternFrom_0 : decode cX9_patternFrom 0 = .ok (.sipush 216, 3) := dk_17 0 216 (dk_at dksX9_patternFrom_0 0 rfl rfl)
theorem dX9_patternFrom_3 : decode cX9_patternFrom 3 = .ok (.bipush 30, 2) := dk_16 30 (dk_at dksX9_patternFrom_0 3 rfl rfl)
theorem dX9_patternFrom_5 : decode cX9_patternFrom 5 = .ok (.iload_n 0, 1) := dk_26 (dk_at dksX9_patternFrom_0 5 rfl rfl)
theorem dX9_patternFrom_6 : decode cX9_patternFrom 6 = .ok (.imul, 1) := dk_104 (dk_at dksX9_patternFrom_0 6 rfl rfl)
theorem dX9_patternFrom_7 : decode cX9_patternFrom 7 = .ok (.iadd, 1) := dk_96 (dk_at dksX9_patternFrom_0 7 rfl rfl)
theorem dX9_patternFrom_8 : decode cX9_patternFrom 8 = .ok (.bipush 10, 2) := dk_16 10 (dk_at dksX9_patternFrom_0 8 rfl rfl)
theorem dX9_patternFrom_10 : decode cX9_patternFrom 10 = .ok (.iadd, 1) := dk_96 (dk_at dksX9_patternFrom_0 10 rfl rfl)
theorem dX9_patternFrom_11 : decode cX9_patternFrom 11 = .ok (.ireturn, 1) := dk_172 (dk_at dksX9_patternFrom_0 11 rfl rfl)
abbrev cX9_textFrom : ByteArray := prog_29_method_10_code
def yX9_textFrom : MethodName := ⟨RX9, "textFrom", "(I)I"⟩
def dkwX9_textFrom_0 : List UInt8 := [16, 16, 26, 96, 172]
abbrev dktX9_textFrom_0 : List UInt8 := dkwX9_textFrom_0 ++ []
theorem dksX9_textFrom_0 : cX9_textFrom.data.toList.drop 0 = dktX9_textFrom_0 := by decide +kernel
theorem dX9_textFrom_0 : decode cX9_textFrom 0 = .ok (.bipush 16, 2) := dk_16 16 (dk_at dksX9_textFrom_0 0 rfl rfl)
theorem dX9_textFrom_2 : decode cX9_textFrom 2 = .ok (.iload_n 0, 1) := dk_26 (dk_at dksX9_textFrom_0 2 rfl rfl)
theorem dX9_textFrom_3 : decode cX9_textFrom 3 = .ok (.iadd, 1) := dk_96 (dk_at dksX9_textFrom_0 3 rfl rfl)
theorem dX9_textFrom_4 : decode cX9_textFrom 4 = .ok (.ireturn, 1) := dk_172 (dk_at dksX9_textFrom_0 4 rfl rfl)
abbrev cX9_of : ByteArray := prog_29_method_7_code
def yX9_of : MethodName := ⟨RX9, "of", "(II)I"⟩
def dkwX9_of_0 : List UInt8 := [42, 180, 0, 9, 17, 0, 216, 16, 30, 27, 104, 96, 28, 96, 46, 172]
abbrev dktX9_of_0 : List UInt8 := dkwX9_of_0 ++ []
theorem dksX9_of_0 : cX9_of.data.toList.drop 0 = dktX9_of_0 := by decide +kernel
theorem dX9_of_0 : decode cX9_of 0 = .ok (.aload_n 0, 1) := dk_42 (dk_at dksX9_of_0 0 rfl rfl)
theorem dX9_of_1 : decode cX9_of 1 = .ok (.getfield 9, 3) := dk_180 0 9 (dk_at dksX9_of_0 1 rfl rfl)
theorem dX9_of_4 : decode cX9_of 4 = .ok (.sipush 216, 3) := dk_17 0 216 (dk_at dksX9_of_0 4 rfl rfl)
theorem dX9_of_7 : decode cX9_of 7 = .ok (.bipush 30, 2) := dk_16 30 (dk_at dksX9_of_0 7 rfl rfl)
theorem dX9_of_9 : decode cX9_of 9 = .ok (.iload_n 1, 1) := dk_27 (dk_at dksX9_of_0 9 rfl rfl)
theorem dX9_of_10 : decode cX9_of 10 = .ok (.imul, 1) := dk_104 (dk_at dksX9_of_0 10 rfl rfl)
theorem dX9_of_11 : decode cX9_of 11 = .ok (.iadd, 1) := dk_96 (dk_at dksX9_of_0 11 rfl rfl)
theorem dX9_of_12 : decode cX9_of 12 = .ok (.iload_n 2, 1) := dk_28 (dk_at dksX9_of_0 12 rfl rfl)
theorem dX9_of_13 : decode cX9_of 13 = .ok (.iadd, 1) := dk_96 (dk_at dksX9_of_0 13 rfl rfl)
theorem dX9_of_14 : decode cX9_of 14 = .ok (.iaload, 1) := dk_46 (dk_at dksX9_of_0 14 rfl rfl)
theorem dX9_of_15 : decode cX9_of 15 = .ok (.ireturn, 1) := dk_172 (dk_at dksX9_of_0 15 rfl rfl)
abbrev cX9_alikeFrom : ByteArray := prog_29_method_15_code
def yX9_alikeFrom : MethodName := ⟨RX9, "alikeFrom", "(III)I"⟩
def dkwX9_alikeFrom_1 : List UInt8 := [160, 0, 9, 132, 4, 1, 167, 255, 230, 21, 4, 172]
abbrev dktX9_alikeFrom_1 : List UInt8 := dkwX9_alikeFrom_1 ++ []
def dkwX9_alikeFrom_0 : List UInt8 := [3, 54, 4, 21, 4, 29, 162, 0, 26, 42, 27, 21, 4, 182, 0, 80, 42, 28, 21, 4, 182, 0, 80]
abbrev dktX9_alikeFrom_0 : List UInt8 := dkwX9_alikeFrom_0 ++ dktX9_alikeFrom_1
theorem dksX9_alikeFrom_0 : cX9_alikeFrom.data.toList.drop 0 = dktX9_alikeFrom_0 := by decide +kernel
theorem dksX9_alikeFrom_1 : cX9_alikeFrom.data.toList.drop 23 = dktX9_alikeFrom_1 := dk_seg dksX9_alikeFrom_0 23 rfl rfl
theorem dX9_alikeFrom_0 : decode cX9_alikeFrom 0 = .ok (.iconst 0, 1) := dk_3 (dk_at dksX9_alikeFrom_0 0 rfl rfl)
theorem dX9_alikeFrom_1 : decode cX9_alikeFrom 1 = .ok (.istore 4, 2) := dk_54 4 (dk_at dksX9_alikeFrom_0 1 rfl rfl)
theorem dX9_alikeFrom_3 : decode cX9_alikeFrom 3 = .ok (.iload 4, 2) := dk_21 4 (dk_at dksX9_alikeFrom_0 3 rfl rfl)
theorem dX9_alikeFrom_5 : decode cX9_alikeFrom 5 = .ok (.iload_n 3, 1) := dk_29 (dk_at dksX9_alikeFrom_0 5 rfl rfl)
theorem dX9_alikeFrom_6 : decode cX9_alikeFrom 6 = .ok (.if_icmp .ge 26, 3) := dk_162 0 26 (dk_at dksX9_alikeFrom_0 6 rfl rfl)
theorem dX9_alikeFrom_9 : decode cX9_alikeFrom 9 = .ok (.aload_n 0, 1) := dk_42 (dk_at dksX9_alikeFrom_0 9 rfl rfl)
theorem dX9_alikeFrom_10 : decode cX9_alikeFrom 10 = .ok (.iload_n 1, 1) := dk_27 (dk_at dksX9_alikeFrom_0 10 rfl rfl)
theorem dX9_alikeFrom_11 : decode cX9_alikeFrom 11 = .ok (.iload 4, 2) := dk_21 4 (dk_at dksX9_alikeFrom_0 11 rfl rfl)
theorem dX9_alikeFrom_13 : decode cX9_alikeFrom 13 = .ok (.invokevirtual 80, 3) := dk_182 0 80 (dk_at dksX9_alikeFrom_0 13 rfl rfl)
theorem dX9_alikeFrom_16 : decode cX9_alikeFrom 16 = .ok (.aload_n 0, 1) := dk_42 (dk_at dksX9_alikeFrom_0 16 rfl rfl)
theorem dX9_alikeFrom_17 : decode cX9_alikeFrom 17 = .ok (.iload_n 2, 1) := dk_28 (dk_at dksX9_alikeFrom_0 17 rfl rfl)
theorem dX9_alikeFrom_18 : decode cX9_alikeFrom 18 = .ok (.iload 4, 2) := dk_21 4 (dk_at dksX9_alikeFrom_0 18 rfl rfl)
theorem dX9_alikeFrom_20 : decode cX9_alikeFrom 20 = .ok (.invokevirtual 80, 3) := dk_182 0 80 (dk_at dksX9_alikeFrom_0 20 rfl rfl)
theorem dX9_alikeFrom_23 : decode cX9_alikeFrom 23 = .ok (.if_icmp .ne 9, 3) := dk_160 0 9 (dk_at dksX9_alikeFrom_1 0 rfl rfl)
theorem dX9_alikeFrom_26 : decode cX9_alikeFrom 26 = .ok (.iinc 4 1, 3) := dk_132 4 1 (dk_at dksX9_alikeFrom_1 3 rfl rfl)
theorem dX9_alikeFrom_29 : decode cX9_alikeFrom 29 = .ok (.goto (-26), 3) := dk_167 255 230 (dk_at dksX9_alikeFrom_1 6 rfl rfl)
theorem dX9_alikeFrom_32 : decode cX9_alikeFrom 32 = .ok (.iload 4, 2) := dk_21 4 (dk_at dksX9_alikeFrom_1 9 rfl rfl)
theorem dX9_alikeFrom_34 : decode cX9_alikeFrom 34 = .ok (.ireturn, 1) := dk_172 (dk_at dksX9_alikeFrom_1 11 rfl rfl)
abbrev cX9_signOf : ByteArray := prog_29_method_14_code
def yX9_signOf : MethodName := ⟨RX9, "signOf", "(II)I"⟩
def dkwX9_signOf_1 : List UInt8 := [100, 167, 0, 9, 42, 27, 28, 182, 0, 76, 172]
abbrev dktX9_signOf_1 : List UInt8 := dkwX9_signOf_1 ++ []
def dkwX9_signOf_0 : List UInt8 := [42, 42, 180, 0, 9, 27, 28, 96, 46, 182, 0, 72, 153, 0, 16, 2, 42, 180, 0, 9, 27, 28, 96, 46]
abbrev dktX9_signOf_0 : List UInt8 := dkwX9_signOf_0 ++ dktX9_signOf_1
theorem dksX9_signOf_0 : cX9_signOf.data.toList.drop 0 = dktX9_signOf_0 := by decide +kernel
theorem dksX9_signOf_1 : cX9_signOf.data.toList.drop 24 = dktX9_signOf_1 := dk_seg dksX9_signOf_0 24 rfl rfl
theorem dX9_signOf_0 : decode cX9_signOf 0 = .ok (.aload_n 0, 1) := dk_42 (dk_at dksX9_signOf_0 0 rfl rfl)
theorem dX9_signOf_1 : decode cX9_signOf 1 = .ok (.aload_n 0, 1) := dk_42 (dk_at dksX9_signOf_0 1 rfl rfl)
theorem dX9_signOf_2 : decode cX9_signOf 2 = .ok (.getfield 9, 3) := dk_180 0 9 (dk_at dksX9_signOf_0 2 rfl rfl)
theorem dX9_signOf_5 : decode cX9_signOf 5 = .ok (.iload_n 1, 1) := dk_27 (dk_at dksX9_signOf_0 5 rfl rfl)
theorem dX9_signOf_6 : decode cX9_signOf 6 = .ok (.iload_n 2, 1) := dk_28 (dk_at dksX9_signOf_0 6 rfl rfl)
theorem dX9_signOf_7 : decode cX9_signOf 7 = .ok (.iadd, 1) := dk_96 (dk_at dksX9_signOf_0 7 rfl rfl)
theorem dX9_signOf_8 : decode cX9_signOf 8 = .ok (.iaload, 1) := dk_46 (dk_at dksX9_signOf_0 8 rfl rfl)
theorem dX9_signOf_9 : decode cX9_signOf 9 = .ok (.invokevirtual 72, 3) := dk_182 0 72 (dk_at dksX9_signOf_0 9 rfl rfl)
theorem dX9_signOf_12 : decode cX9_signOf 12 = .ok (.ifCond .eq 16, 3) := dk_153 0 16 (dk_at dksX9_signOf_0 12 rfl rfl)
theorem dX9_signOf_15 : decode cX9_signOf 15 = .ok (.iconst (-1), 1) := dk_2 (dk_at dksX9_signOf_0 15 rfl rfl)
theorem dX9_signOf_16 : decode cX9_signOf 16 = .ok (.aload_n 0, 1) := dk_42 (dk_at dksX9_signOf_0 16 rfl rfl)
theorem dX9_signOf_17 : decode cX9_signOf 17 = .ok (.getfield 9, 3) := dk_180 0 9 (dk_at dksX9_signOf_0 17 rfl rfl)
theorem dX9_signOf_20 : decode cX9_signOf 20 = .ok (.iload_n 1, 1) := dk_27 (dk_at dksX9_signOf_0 20 rfl rfl)
theorem dX9_signOf_21 : decode cX9_signOf 21 = .ok (.iload_n 2, 1) := dk_28 (dk_at dksX9_signOf_0 21 rfl rfl)
theorem dX9_signOf_22 : decode cX9_signOf 22 = .ok (.iadd, 1) := dk_96 (dk_at dksX9_signOf_0 22 rfl rfl)
theorem dX9_signOf_23 : decode cX9_signOf 23 = .ok (.iaload, 1) := dk_46 (dk_at dksX9_signOf_0 23 rfl rfl)
theorem dX9_signOf_24 : decode cX9_signOf 24 = .ok (.isub, 1) := dk_100 (dk_at dksX9_signOf_1 0 rfl rfl)
theorem dX9_signOf_25 : decode cX9_signOf 25 = .ok (.goto 9, 3) := dk_167 0 9 (dk_at dksX9_signOf_1 1 rfl rfl)
theorem dX9_signOf_28 : decode cX9_signOf 28 = .ok (.aload_n 0, 1) := dk_42 (dk_at dksX9_signOf_1 4 rfl rfl)
theorem dX9_signOf_29 : decode cX9_signOf 29 = .ok (.iload_n 1, 1) := dk_27 (dk_at dksX9_signOf_1 5 rfl rfl)
theorem dX9_signOf_30 : decode cX9_signOf 30 = .ok (.iload_n 2, 1) := dk_28 (dk_at dksX9_signOf_1 6 rfl rfl)
theorem dX9_signOf_31 : decode cX9_signOf 31 = .ok (.invokevirtual 76, 3) := dk_182 0 76 (dk_at dksX9_signOf_1 7 rfl rfl)
theorem dX9_signOf_34 : decode cX9_signOf 34 = .ok (.ireturn, 1) := dk_172 (dk_at dksX9_signOf_1 10 rfl rfl)
abbrev cX9_isFirm : ByteArray := prog_29_method_12_code
def yX9_isFirm : MethodName := ⟨RX9, "isFirm", "(I)Z"⟩
def dkwX9_isFirm_0 : List UInt8 := [27, 42, 180, 0, 9, 3, 46, 162, 0, 7, 4, 167, 0, 4, 3, 172]
abbrev dktX9_isFirm_0 : List UInt8 := dkwX9_isFirm_0 ++ []
theorem dksX9_isFirm_0 : cX9_isFirm.data.toList.drop 0 = dktX9_isFirm_0 := by decide +kernel
theorem dX9_isFirm_0 : decode cX9_isFirm 0 = .ok (.iload_n 1, 1) := dk_27 (dk_at dksX9_isFirm_0 0 rfl rfl)
theorem dX9_isFirm_1 : decode cX9_isFirm 1 = .ok (.aload_n 0, 1) := dk_42 (dk_at dksX9_isFirm_0 1 rfl rfl)
theorem dX9_isFirm_2 : decode cX9_isFirm 2 = .ok (.getfield 9, 3) := dk_180 0 9 (dk_at dksX9_isFirm_0 2 rfl rfl)
theorem dX9_isFirm_5 : decode cX9_isFirm 5 = .ok (.iconst 0, 1) := dk_3 (dk_at dksX9_isFirm_0 5 rfl rfl)
theorem dX9_isFirm_6 : decode cX9_isFirm 6 = .ok (.iaload, 1) := dk_46 (dk_at dksX9_isFirm_0 6 rfl rfl)
theorem dX9_isFirm_7 : decode cX9_isFirm 7 = .ok (.if_icmp .ge 7, 3) := dk_162 0 7 (dk_at dksX9_isFirm_0 7 rfl rfl)
theorem dX9_isFirm_10 : decode cX9_isFirm 10 = .ok (.iconst 1, 1) := dk_4 (dk_at dksX9_isFirm_0 10 rfl rfl)
theorem dX9_isFirm_11 : decode cX9_isFirm 11 = .ok (.goto 4, 3) := dk_167 0 4 (dk_at dksX9_isFirm_0 11 rfl rfl)
theorem dX9_isFirm_14 : decode cX9_isFirm 14 = .ok (.iconst 0, 1) := dk_3 (dk_at dksX9_isFirm_0 14 rfl rfl)
theorem dX9_isFirm_15 : decode cX9_isFirm 15 = .ok (.ireturn, 1) := dk_172 (dk_at dksX9_isFirm_0 15 rfl rfl)
abbrev cX9_backOf : ByteArray := prog_29_method_13_code
def yX9_backOf : MethodName := ⟨RX9, "backOf", "(II)I"⟩
def dkwX9_backOf_2 : List UInt8 := [132, 4, 1, 167, 255, 229, 3, 172]
abbrev dktX9_backOf_2 : List UInt8 := dkwX9_backOf_2 ++ []
def dkwX9_backOf_1 : List UInt8 := [28, 163, 0, 27, 42, 180, 0, 9, 27, 28, 96, 21, 4, 100, 46, 29, 160, 0, 6, 21, 4, 172]
abbrev dktX9_backOf_1 : List UInt8 := dkwX9_backOf_1 ++ dktX9_backOf_2
def dkwX9_backOf_0 : List UInt8 := [42, 180, 0, 9, 27, 28, 96, 46, 62, 42, 29, 182, 0, 72, 153, 0, 5, 3, 172, 4, 54, 4, 21, 4]
abbrev dktX9_backOf_0 : List UInt8 := dkwX9_backOf_0 ++ dktX9_backOf_1
theorem dksX9_backOf_0 : cX9_backOf.data.toList.drop 0 = dktX9_backOf_0 := by decide +kernel
theorem dksX9_backOf_1 : cX9_backOf.data.toList.drop 24 = dktX9_backOf_1 := dk_seg dksX9_backOf_0 24 rfl rfl
theorem dksX9_backOf_2 : cX9_backOf.data.toList.drop 46 = dktX9_backOf_2 := dk_seg dksX9_backOf_1 22 rfl rfl
theorem dX9_backOf_0 : decode cX9_backOf 0 = .ok (.aload_n 0, 1) := dk_42 (dk_at dksX9_backOf_0 0 rfl rfl)
theorem dX9_backOf_1 : decode cX9_backOf 1 = .ok (.getfield 9, 3) := dk_180 0 9 (dk_at dksX9_backOf_0 1 rfl rfl)
theorem dX9_backOf_4 : decode cX9_backOf 4 = .ok (.iload_n 1, 1) := dk_27 (dk_at dksX9_backOf_0 4 rfl rfl)
theorem dX9_backOf_5 : decode cX9_backOf 5 = .ok (.iload_n 2, 1) := dk_28 (dk_at dksX9_backOf_0 5 rfl rfl)
theorem dX9_backOf_6 : decode cX9_backOf 6 = .ok (.iadd, 1) := dk_96 (dk_at dksX9_backOf_0 6 rfl rfl)
theorem dX9_backOf_7 : decode cX9_backOf 7 = .ok (.iaload, 1) := dk_46 (dk_at dksX9_backOf_0 7 rfl rfl)
theorem dX9_backOf_8 : decode cX9_backOf 8 = .ok (.istore_n 3, 1) := dk_62 (dk_at dksX9_backOf_0 8 rfl rfl)
theorem dX9_backOf_9 : decode cX9_backOf 9 = .ok (.aload_n 0, 1) := dk_42 (dk_at dksX9_backOf_0 9 rfl rfl)
theorem dX9_backOf_10 : decode cX9_backOf 10 = .ok (.iload_n 3, 1) := dk_29 (dk_at dksX9_backOf_0 10 rfl rfl)
theorem dX9_backOf_11 : decode cX9_backOf 11 = .ok (.invokevirtual 72, 3) := dk_182 0 72 (dk_at dksX9_backOf_0 11 rfl rfl)
theorem dX9_backOf_14 : decode cX9_backOf 14 = .ok (.ifCond .eq 5, 3) := dk_153 0 5 (dk_at dksX9_backOf_0 14 rfl rfl)
theorem dX9_backOf_17 : decode cX9_backOf 17 = .ok (.iconst 0, 1) := dk_3 (dk_at dksX9_backOf_0 17 rfl rfl)
theorem dX9_backOf_18 : decode cX9_backOf 18 = .ok (.ireturn, 1) := dk_172 (dk_at dksX9_backOf_0 18 rfl rfl)
theorem dX9_backOf_19 : decode cX9_backOf 19 = .ok (.iconst 1, 1) := dk_4 (dk_at dksX9_backOf_0 19 rfl rfl)
theorem dX9_backOf_20 : decode cX9_backOf 20 = .ok (.istore 4, 2) := dk_54 4 (dk_at dksX9_backOf_0 20 rfl rfl)
theorem dX9_backOf_22 : decode cX9_backOf 22 = .ok (.iload 4, 2) := dk_21 4 (dk_at dksX9_backOf_0 22 rfl rfl)
theorem dX9_backOf_24 : decode cX9_backOf 24 = .ok (.iload_n 2, 1) := dk_28 (dk_at dksX9_backOf_1 0 rfl rfl)
theorem dX9_backOf_25 : decode cX9_backOf 25 = .ok (.if_icmp .gt 27, 3) := dk_163 0 27 (dk_at dksX9_backOf_1 1 rfl rfl)
theorem dX9_backOf_28 : decode cX9_backOf 28 = .ok (.aload_n 0, 1) := dk_42 (dk_at dksX9_backOf_1 4 rfl rfl)
theorem dX9_backOf_29 : decode cX9_backOf 29 = .ok (.getfield 9, 3) := dk_180 0 9 (dk_at dksX9_backOf_1 5 rfl rfl)
theorem dX9_backOf_32 : decode cX9_backOf 32 = .ok (.iload_n 1, 1) := dk_27 (dk_at dksX9_backOf_1 8 rfl rfl)
theorem dX9_backOf_33 : decode cX9_backOf 33 = .ok (.iload_n 2, 1) := dk_28 (dk_at dksX9_backOf_1 9 rfl rfl)
theorem dX9_backOf_34 : decode cX9_backOf 34 = .ok (.iadd, 1) := dk_96 (dk_at dksX9_backOf_1 10 rfl rfl)
theorem dX9_backOf_35 : decode cX9_backOf 35 = .ok (.iload 4, 2) := dk_21 4 (dk_at dksX9_backOf_1 11 rfl rfl)
theorem dX9_backOf_37 : decode cX9_backOf 37 = .ok (.isub, 1) := dk_100 (dk_at dksX9_backOf_1 13 rfl rfl)
theorem dX9_backOf_38 : decode cX9_backOf 38 = .ok (.iaload, 1) := dk_46 (dk_at dksX9_backOf_1 14 rfl rfl)
theorem dX9_backOf_39 : decode cX9_backOf 39 = .ok (.iload_n 3, 1) := dk_29 (dk_at dksX9_backOf_1 15 rfl rfl)
theorem dX9_backOf_40 : decode cX9_backOf 40 = .ok (.if_icmp .ne 6, 3) := dk_160 0 6 (dk_at dksX9_backOf_1 16 rfl rfl)
theorem dX9_backOf_43 : decode cX9_backOf 43 = .ok (.iload 4, 2) := dk_21 4 (dk_at dksX9_backOf_1 19 rfl rfl)
theorem dX9_backOf_45 : decode cX9_backOf 45 = .ok (.ireturn, 1) := dk_172 (dk_at dksX9_backOf_1 21 rfl rfl)
theorem dX9_backOf_46 : decode cX9_backOf 46 = .ok (.iinc 4 1, 3) := dk_132 4 1 (dk_at dksX9_backOf_2 0 rfl rfl)
theorem dX9_backOf_49 : decode cX9_backOf 49 = .ok (.goto (-27), 3) := dk_167 255 229 (dk_at dksX9_backOf_2 3 rfl rfl)
theorem dX9_backOf_52 : decode cX9_backOf 52 = .ok (.iconst 0, 1) := dk_3 (dk_at dksX9_backOf_2 6 rfl rfl)
theorem dX9_backOf_53 : decode cX9_backOf 53 = .ok (.ireturn, 1) := dk_172 (dk_at dksX9_backOf_2 7 rfl rfl)
abbrev cX9_markOf : ByteArray := prog_29_method_27_code
def yX9_markOf : MethodName := ⟨RX9, "markOf", "(III)I"⟩
def dkwX9_markOf_1 : List UInt8 := [182, 0, 127, 27, 160, 0, 6, 21, 4, 172, 132, 4, 1, 167, 255, 224, 2, 172]
abbrev dktX9_markOf_1 : List UInt8 := dkwX9_markOf_1 ++ []
def dkwX9_markOf_0 : List UInt8 := [3, 54, 4, 21, 4, 29, 162, 0, 32, 42, 21, 4, 182, 0, 124, 28, 160, 0, 16, 42, 21, 4]
abbrev dktX9_markOf_0 : List UInt8 := dkwX9_markOf_0 ++ dktX9_markOf_1
theorem dksX9_markOf_0 : cX9_markOf.data.toList.drop 0 = dktX9_markOf_0 := by decide +kernel
theorem dksX9_markOf_1 : cX9_markOf.data.toList.drop 22 = dktX9_markOf_1 := dk_seg dksX9_markOf_0 22 rfl rfl
theorem dX9_markOf_0 : decode cX9_markOf 0 = .ok (.iconst 0, 1) := dk_3 (dk_at dksX9_markOf_0 0 rfl rfl)
theorem dX9_markOf_1 : decode cX9_markOf 1 = .ok (.istore 4, 2) := dk_54 4 (dk_at dksX9_markOf_0 1 rfl rfl)
theorem dX9_markOf_3 : decode cX9_markOf 3 = .ok (.iload 4, 2) := dk_21 4 (dk_at dksX9_markOf_0 3 rfl rfl)
theorem dX9_markOf_5 : decode cX9_markOf 5 = .ok (.iload_n 3, 1) := dk_29 (dk_at dksX9_markOf_0 5 rfl rfl)
theorem dX9_markOf_6 : decode cX9_markOf 6 = .ok (.if_icmp .ge 32, 3) := dk_162 0 32 (dk_at dksX9_markOf_0 6 rfl rfl)
theorem dX9_markOf_9 : decode cX9_markOf 9 = .ok (.aload_n 0, 1) := dk_42 (dk_at dksX9_markOf_0 9 rfl rfl)
theorem dX9_markOf_10 : decode cX9_markOf 10 = .ok (.iload 4, 2) := dk_21 4 (dk_at dksX9_markOf_0 10 rfl rfl)
theorem dX9_markOf_12 : decode cX9_markOf 12 = .ok (.invokevirtual 124, 3) := dk_182 0 124 (dk_at dksX9_markOf_0 12 rfl rfl)
theorem dX9_markOf_15 : decode cX9_markOf 15 = .ok (.iload_n 2, 1) := dk_28 (dk_at dksX9_markOf_0 15 rfl rfl)
theorem dX9_markOf_16 : decode cX9_markOf 16 = .ok (.if_icmp .ne 16, 3) := dk_160 0 16 (dk_at dksX9_markOf_0 16 rfl rfl)
theorem dX9_markOf_19 : decode cX9_markOf 19 = .ok (.aload_n 0, 1) := dk_42 (dk_at dksX9_markOf_0 19 rfl rfl)
theorem dX9_markOf_20 : decode cX9_markOf 20 = .ok (.iload 4, 2) := dk_21 4 (dk_at dksX9_markOf_0 20 rfl rfl)
theorem dX9_markOf_22 : decode cX9_markOf 22 = .ok (.invokevirtual 127, 3) := dk_182 0 127 (dk_at dksX9_markOf_1 0 rfl rfl)
theorem dX9_markOf_25 : decode cX9_markOf 25 = .ok (.iload_n 1, 1) := dk_27 (dk_at dksX9_markOf_1 3 rfl rfl)
theorem dX9_markOf_26 : decode cX9_markOf 26 = .ok (.if_icmp .ne 6, 3) := dk_160 0 6 (dk_at dksX9_markOf_1 4 rfl rfl)
theorem dX9_markOf_29 : decode cX9_markOf 29 = .ok (.iload 4, 2) := dk_21 4 (dk_at dksX9_markOf_1 7 rfl rfl)
theorem dX9_markOf_31 : decode cX9_markOf 31 = .ok (.ireturn, 1) := dk_172 (dk_at dksX9_markOf_1 9 rfl rfl)
theorem dX9_markOf_32 : decode cX9_markOf 32 = .ok (.iinc 4 1, 3) := dk_132 4 1 (dk_at dksX9_markOf_1 10 rfl rfl)
theorem dX9_markOf_35 : decode cX9_markOf 35 = .ok (.goto (-32), 3) := dk_167 255 224 (dk_at dksX9_markOf_1 13 rfl rfl)
theorem dX9_markOf_38 : decode cX9_markOf 38 = .ok (.iconst (-1), 1) := dk_2 (dk_at dksX9_markOf_1 16 rfl rfl)
theorem dX9_markOf_39 : decode cX9_markOf 39 = .ok (.ireturn, 1) := dk_172 (dk_at dksX9_markOf_1 17 rfl rfl)
abbrev cX9_takesOut : ByteArray := prog_29_method_26_code
def yX9_takesOut : MethodName := ⟨RX9, "takesOut", "(I)V"⟩
def dkwX9_takesOut_2 : List UInt8 := [132, 2, 1, 167, 255, 223, 177]
abbrev dktX9_takesOut_2 : List UInt8 := dkwX9_takesOut_2 ++ []
def dkwX9_takesOut_1 : List UInt8 := [180, 0, 9, 6, 46, 104, 96, 162, 0, 23, 42, 180, 0, 9, 28, 42, 180, 0, 9, 28, 5, 96, 46, 79]
abbrev dktX9_takesOut_1 : List UInt8 := dkwX9_takesOut_1 ++ dktX9_takesOut_2
def dkwX9_takesOut_0 : List UInt8 := [42, 180, 0, 9, 6, 92, 46, 4, 100, 79, 17, 1, 200, 5, 27, 104, 96, 61, 28, 17, 1, 200, 5, 42]
abbrev dktX9_takesOut_0 : List UInt8 := dkwX9_takesOut_0 ++ dktX9_takesOut_1
theorem dksX9_takesOut_0 : cX9_takesOut.data.toList.drop 0 = dktX9_takesOut_0 := by decide +kernel
theorem dksX9_takesOut_1 : cX9_takesOut.data.toList.drop 24 = dktX9_takesOut_1 := dk_seg dksX9_takesOut_0 24 rfl rfl
theorem dksX9_takesOut_2 : cX9_takesOut.data.toList.drop 48 = dktX9_takesOut_2 := dk_seg dksX9_takesOut_1 24 rfl rfl
theorem dX9_takesOut_0 : decode cX9_takesOut 0 = .ok (.aload_n 0, 1) := dk_42 (dk_at dksX9_takesOut_0 0 rfl rfl)
theorem dX9_takesOut_1 : decode cX9_takesOut 1 = .ok (.getfield 9, 3) := dk_180 0 9 (dk_at dksX9_takesOut_0 1 rfl rfl)
theorem dX9_takesOut_4 : decode cX9_takesOut 4 = .ok (.iconst 3, 1) := dk_6 (dk_at dksX9_takesOut_0 4 rfl rfl)
theorem dX9_takesOut_5 : decode cX9_takesOut 5 = .ok (.dup2, 1) := dk_92 (dk_at dksX9_takesOut_0 5 rfl rfl)
theorem dX9_takesOut_6 : decode cX9_takesOut 6 = .ok (.iaload, 1) := dk_46 (dk_at dksX9_takesOut_0 6 rfl rfl)
theorem dX9_takesOut_7 : decode cX9_takesOut 7 = .ok (.iconst 1, 1) := dk_4 (dk_at dksX9_takesOut_0 7 rfl rfl)
theorem dX9_takesOut_8 : decode cX9_takesOut 8 = .ok (.isub, 1) := dk_100 (dk_at dksX9_takesOut_0 8 rfl rfl)
theorem dX9_takesOut_9 : decode cX9_takesOut 9 = .ok (.iastore, 1) := dk_79 (dk_at dksX9_takesOut_0 9 rfl rfl)
theorem dX9_takesOut_10 : decode cX9_takesOut 10 = .ok (.sipush 456, 3) := dk_17 1 200 (dk_at dksX9_takesOut_0 10 rfl rfl)
theorem dX9_takesOut_13 : decode cX9_takesOut 13 = .ok (.iconst 2, 1) := dk_5 (dk_at dksX9_takesOut_0 13 rfl rfl)
theorem dX9_takesOut_14 : decode cX9_takesOut 14 = .ok (.iload_n 1, 1) := dk_27 (dk_at dksX9_takesOut_0 14 rfl rfl)
theorem dX9_takesOut_15 : decode cX9_takesOut 15 = .ok (.imul, 1) := dk_104 (dk_at dksX9_takesOut_0 15 rfl rfl)
theorem dX9_takesOut_16 : decode cX9_takesOut 16 = .ok (.iadd, 1) := dk_96 (dk_at dksX9_takesOut_0 16 rfl rfl)
theorem dX9_takesOut_17 : decode cX9_takesOut 17 = .ok (.istore_n 2, 1) := dk_61 (dk_at dksX9_takesOut_0 17 rfl rfl)
theorem dX9_takesOut_18 : decode cX9_takesOut 18 = .ok (.iload_n 2, 1) := dk_28 (dk_at dksX9_takesOut_0 18 rfl rfl)
theorem dX9_takesOut_19 : decode cX9_takesOut 19 = .ok (.sipush 456, 3) := dk_17 1 200 (dk_at dksX9_takesOut_0 19 rfl rfl)
theorem dX9_takesOut_22 : decode cX9_takesOut 22 = .ok (.iconst 2, 1) := dk_5 (dk_at dksX9_takesOut_0 22 rfl rfl)
theorem dX9_takesOut_23 : decode cX9_takesOut 23 = .ok (.aload_n 0, 1) := dk_42 (dk_at dksX9_takesOut_0 23 rfl rfl)
theorem dX9_takesOut_24 : decode cX9_takesOut 24 = .ok (.getfield 9, 3) := dk_180 0 9 (dk_at dksX9_takesOut_1 0 rfl rfl)
theorem dX9_takesOut_27 : decode cX9_takesOut 27 = .ok (.iconst 3, 1) := dk_6 (dk_at dksX9_takesOut_1 3 rfl rfl)
theorem dX9_takesOut_28 : decode cX9_takesOut 28 = .ok (.iaload, 1) := dk_46 (dk_at dksX9_takesOut_1 4 rfl rfl)
theorem dX9_takesOut_29 : decode cX9_takesOut 29 = .ok (.imul, 1) := dk_104 (dk_at dksX9_takesOut_1 5 rfl rfl)
theorem dX9_takesOut_30 : decode cX9_takesOut 30 = .ok (.iadd, 1) := dk_96 (dk_at dksX9_takesOut_1 6 rfl rfl)
theorem dX9_takesOut_31 : decode cX9_takesOut 31 = .ok (.if_icmp .ge 23, 3) := dk_162 0 23 (dk_at dksX9_takesOut_1 7 rfl rfl)
theorem dX9_takesOut_34 : decode cX9_takesOut 34 = .ok (.aload_n 0, 1) := dk_42 (dk_at dksX9_takesOut_1 10 rfl rfl)
theorem dX9_takesOut_35 : decode cX9_takesOut 35 = .ok (.getfield 9, 3) := dk_180 0 9 (dk_at dksX9_takesOut_1 11 rfl rfl)
theorem dX9_takesOut_38 : decode cX9_takesOut 38 = .ok (.iload_n 2, 1) := dk_28 (dk_at dksX9_takesOut_1 14 rfl rfl)
theorem dX9_takesOut_39 : decode cX9_takesOut 39 = .ok (.aload_n 0, 1) := dk_42 (dk_at dksX9_takesOut_1 15 rfl rfl)
theorem dX9_takesOut_40 : decode cX9_takesOut 40 = .ok (.getfield 9, 3) := dk_180 0 9 (dk_at dksX9_takesOut_1 16 rfl rfl)
theorem dX9_takesOut_43 : decode cX9_takesOut 43 = .ok (.iload_n 2, 1) := dk_28 (dk_at dksX9_takesOut_1 19 rfl rfl)
theorem dX9_takesOut_44 : decode cX9_takesOut 44 = .ok (.iconst 2, 1) := dk_5 (dk_at dksX9_takesOut_1 20 rfl rfl)
theorem dX9_takesOut_45 : decode cX9_takesOut 45 = .ok (.iadd, 1) := dk_96 (dk_at dksX9_takesOut_1 21 rfl rfl)
theorem dX9_takesOut_46 : decode cX9_takesOut 46 = .ok (.iaload, 1) := dk_46 (dk_at dksX9_takesOut_1 22 rfl rfl)
theorem dX9_takesOut_47 : decode cX9_takesOut 47 = .ok (.iastore, 1) := dk_79 (dk_at dksX9_takesOut_1 23 rfl rfl)
theorem dX9_takesOut_48 : decode cX9_takesOut 48 = .ok (.iinc 2 1, 3) := dk_132 2 1 (dk_at dksX9_takesOut_2 0 rfl rfl)
theorem dX9_takesOut_51 : decode cX9_takesOut 51 = .ok (.goto (-33), 3) := dk_167 255 223 (dk_at dksX9_takesOut_2 3 rfl rfl)
theorem dX9_takesOut_54 : decode cX9_takesOut 54 = .ok (.return_, 1) := dk_177 (dk_at dksX9_takesOut_2 6 rfl rfl)
abbrev cX9_putNow : ByteArray := prog_29_method_106_code
def yX9_putNow : MethodName := ⟨RX9, "putNow", "(II)I"⟩
def dkwX9_putNow_1 : List UInt8 := [180, 0, 9, 16, 16, 27, 96, 28, 79, 42, 3, 4, 182, 0, 140, 42, 182, 1, 162, 29, 172]
abbrev dktX9_putNow_1 : List UInt8 := dkwX9_putNow_1 ++ []
def dkwX9_putNow_0 : List UInt8 := [27, 42, 180, 0, 9, 4, 46, 161, 0, 6, 16, 252, 172, 42, 180, 0, 9, 16, 16, 27, 96, 46, 62, 42]
abbrev dktX9_putNow_0 : List UInt8 := dkwX9_putNow_0 ++ dktX9_putNow_1
theorem dksX9_putNow_0 : cX9_putNow.data.toList.drop 0 = dktX9_putNow_0 := by decide +kernel
theorem dksX9_putNow_1 : cX9_putNow.data.toList.drop 24 = dktX9_putNow_1 := dk_seg dksX9_putNow_0 24 rfl rfl
theorem dX9_putNow_0 : decode cX9_putNow 0 = .ok (.iload_n 1, 1) := dk_27 (dk_at dksX9_putNow_0 0 rfl rfl)
theorem dX9_putNow_1 : decode cX9_putNow 1 = .ok (.aload_n 0, 1) := dk_42 (dk_at dksX9_putNow_0 1 rfl rfl)
theorem dX9_putNow_2 : decode cX9_putNow 2 = .ok (.getfield 9, 3) := dk_180 0 9 (dk_at dksX9_putNow_0 2 rfl rfl)
theorem dX9_putNow_5 : decode cX9_putNow 5 = .ok (.iconst 1, 1) := dk_4 (dk_at dksX9_putNow_0 5 rfl rfl)
theorem dX9_putNow_6 : decode cX9_putNow 6 = .ok (.iaload, 1) := dk_46 (dk_at dksX9_putNow_0 6 rfl rfl)
theorem dX9_putNow_7 : decode cX9_putNow 7 = .ok (.if_icmp .lt 6, 3) := dk_161 0 6 (dk_at dksX9_putNow_0 7 rfl rfl)
theorem dX9_putNow_10 : decode cX9_putNow 10 = .ok (.bipush (-4), 2) := dk_16 252 (dk_at dksX9_putNow_0 10 rfl rfl)
theorem dX9_putNow_12 : decode cX9_putNow 12 = .ok (.ireturn, 1) := dk_172 (dk_at dksX9_putNow_0 12 rfl rfl)
theorem dX9_putNow_13 : decode cX9_putNow 13 = .ok (.aload_n 0, 1) := dk_42 (dk_at dksX9_putNow_0 13 rfl rfl)
theorem dX9_putNow_14 : decode cX9_putNow 14 = .ok (.getfield 9, 3) := dk_180 0 9 (dk_at dksX9_putNow_0 14 rfl rfl)
theorem dX9_putNow_17 : decode cX9_putNow 17 = .ok (.bipush 16, 2) := dk_16 16 (dk_at dksX9_putNow_0 17 rfl rfl)
theorem dX9_putNow_19 : decode cX9_putNow 19 = .ok (.iload_n 1, 1) := dk_27 (dk_at dksX9_putNow_0 19 rfl rfl)
theorem dX9_putNow_20 : decode cX9_putNow 20 = .ok (.iadd, 1) := dk_96 (dk_at dksX9_putNow_0 20 rfl rfl)
theorem dX9_putNow_21 : decode cX9_putNow 21 = .ok (.iaload, 1) := dk_46 (dk_at dksX9_putNow_0 21 rfl rfl)
theorem dX9_putNow_22 : decode cX9_putNow 22 = .ok (.istore_n 3, 1) := dk_62 (dk_at dksX9_putNow_0 22 rfl rfl)
theorem dX9_putNow_23 : decode cX9_putNow 23 = .ok (.aload_n 0, 1) := dk_42 (dk_at dksX9_putNow_0 23 rfl rfl)
theorem dX9_putNow_24 : decode cX9_putNow 24 = .ok (.getfield 9, 3) := dk_180 0 9 (dk_at dksX9_putNow_1 0 rfl rfl)
theorem dX9_putNow_27 : decode cX9_putNow 27 = .ok (.bipush 16, 2) := dk_16 16 (dk_at dksX9_putNow_1 3 rfl rfl)
theorem dX9_putNow_29 : decode cX9_putNow 29 = .ok (.iload_n 1, 1) := dk_27 (dk_at dksX9_putNow_1 5 rfl rfl)
theorem dX9_putNow_30 : decode cX9_putNow 30 = .ok (.iadd, 1) := dk_96 (dk_at dksX9_putNow_1 6 rfl rfl)
theorem dX9_putNow_31 : decode cX9_putNow 31 = .ok (.iload_n 2, 1) := dk_28 (dk_at dksX9_putNow_1 7 rfl rfl)
theorem dX9_putNow_32 : decode cX9_putNow 32 = .ok (.iastore, 1) := dk_79 (dk_at dksX9_putNow_1 8 rfl rfl)
theorem dX9_putNow_33 : decode cX9_putNow 33 = .ok (.aload_n 0, 1) := dk_42 (dk_at dksX9_putNow_1 9 rfl rfl)
theorem dX9_putNow_34 : decode cX9_putNow 34 = .ok (.iconst 0, 1) := dk_3 (dk_at dksX9_putNow_1 10 rfl rfl)
theorem dX9_putNow_35 : decode cX9_putNow 35 = .ok (.iconst 1, 1) := dk_4 (dk_at dksX9_putNow_1 11 rfl rfl)
theorem dX9_putNow_36 : decode cX9_putNow 36 = .ok (.invokevirtual 140, 3) := dk_182 0 140 (dk_at dksX9_putNow_1 12 rfl rfl)
theorem dX9_putNow_39 : decode cX9_putNow 39 = .ok (.aload_n 0, 1) := dk_42 (dk_at dksX9_putNow_1 15 rfl rfl)
theorem dX9_putNow_40 : decode cX9_putNow 40 = .ok (.invokevirtual 418, 3) := dk_182 1 162 (dk_at dksX9_putNow_1 16 rfl rfl)
theorem dX9_putNow_43 : decode cX9_putNow 43 = .ok (.iload_n 3, 1) := dk_29 (dk_at dksX9_putNow_1 19 rfl rfl)
theorem dX9_putNow_44 : decode cX9_putNow 44 = .ok (.ireturn, 1) := dk_172 (dk_at dksX9_putNow_1 20 rfl rfl)
abbrev cX9_insertNow : ByteArray := prog_29_method_107_code
def yX9_insertNow : MethodName := ⟨RX9, "insertNow", "(II)I"⟩
def dkwX9_insertNow_4 : List UInt8 := [4, 182, 1, 165, 42, 182, 1, 162, 42, 180, 0, 9, 4, 46, 172]
abbrev dktX9_insertNow_4 : List UInt8 := dkwX9_insertNow_4 ++ []
def dkwX9_insertNow_3 : List UInt8 := [16, 16, 27, 96, 28, 79, 42, 180, 0, 9, 4, 92, 46, 4, 96, 79, 42, 4, 4, 182, 0, 140, 42, 27]
abbrev dktX9_insertNow_3 : List UInt8 := dkwX9_insertNow_3 ++ dktX9_insertNow_4
def dkwX9_insertNow_2 : List UInt8 := [29, 96, 42, 180, 0, 9, 16, 16, 29, 96, 4, 100, 46, 79, 132, 3, 255, 167, 255, 228, 42, 180, 0, 9]
abbrev dktX9_insertNow_2 : List UInt8 := dkwX9_insertNow_2 ++ dktX9_insertNow_3
def dkwX9_insertNow_1 : List UInt8 := [164, 0, 6, 16, 252, 172, 42, 180, 0, 9, 4, 46, 62, 29, 27, 164, 0, 29, 42, 180, 0, 9, 16, 16]
abbrev dktX9_insertNow_1 : List UInt8 := dkwX9_insertNow_1 ++ dktX9_insertNow_2
def dkwX9_insertNow_0 : List UInt8 := [42, 180, 0, 9, 4, 46, 17, 0, 200, 160, 0, 6, 16, 254, 172, 27, 42, 180, 0, 9, 4, 46]
abbrev dktX9_insertNow_0 : List UInt8 := dkwX9_insertNow_0 ++ dktX9_insertNow_1
theorem dksX9_insertNow_0 : cX9_insertNow.data.toList.drop 0 = dktX9_insertNow_0 := by decide +kernel
theorem dksX9_insertNow_1 : cX9_insertNow.data.toList.drop 22 = dktX9_insertNow_1 := dk_seg dksX9_insertNow_0 22 rfl rfl
theorem dksX9_insertNow_2 : cX9_insertNow.data.toList.drop 46 = dktX9_insertNow_2 := dk_seg dksX9_insertNow_1 24 rfl rfl
theorem dksX9_insertNow_3 : cX9_insertNow.data.toList.drop 70 = dktX9_insertNow_3 := dk_seg dksX9_insertNow_2 24 rfl rfl
theorem dksX9_insertNow_4 : cX9_insertNow.data.toList.drop 94 = dktX9_insertNow_4 := dk_seg dksX9_insertNow_3 24 rfl rfl
theorem dX9_insertNow_0 : decode cX9_insertNow 0 = .ok (.aload_n 0, 1) := dk_42 (dk_at dksX9_insertNow_0 0 rfl rfl)
theorem dX9_insertNow_1 : decode cX9_insertNow 1 = .ok (.getfield 9, 3) := dk_180 0 9 (dk_at dksX9_insertNow_0 1 rfl rfl)
theorem dX9_insertNow_4 : decode cX9_insertNow 4 = .ok (.iconst 1, 1) := dk_4 (dk_at dksX9_insertNow_0 4 rfl rfl)
theorem dX9_insertNow_5 : decode cX9_insertNow 5 = .ok (.iaload, 1) := dk_46 (dk_at dksX9_insertNow_0 5 rfl rfl)
theorem dX9_insertNow_6 : decode cX9_insertNow 6 = .ok (.sipush 200, 3) := dk_17 0 200 (dk_at dksX9_insertNow_0 6 rfl rfl)
theorem dX9_insertNow_9 : decode cX9_insertNow 9 = .ok (.if_icmp .ne 6, 3) := dk_160 0 6 (dk_at dksX9_insertNow_0 9 rfl rfl)
theorem dX9_insertNow_12 : decode cX9_insertNow 12 = .ok (.bipush (-2), 2) := dk_16 254 (dk_at dksX9_insertNow_0 12 rfl rfl)
theorem dX9_insertNow_14 : decode cX9_insertNow 14 = .ok (.ireturn, 1) := dk_172 (dk_at dksX9_insertNow_0 14 rfl rfl)
theorem dX9_insertNow_15 : decode cX9_insertNow 15 = .ok (.iload_n 1, 1) := dk_27 (dk_at dksX9_insertNow_0 15 rfl rfl)
theorem dX9_insertNow_16 : decode cX9_insertNow 16 = .ok (.aload_n 0, 1) := dk_42 (dk_at dksX9_insertNow_0 16 rfl rfl)
theorem dX9_insertNow_17 : decode cX9_insertNow 17 = .ok (.getfield 9, 3) := dk_180 0 9 (dk_at dksX9_insertNow_0 17 rfl rfl)
theorem dX9_insertNow_20 : decode cX9_insertNow 20 = .ok (.iconst 1, 1) := dk_4 (dk_at dksX9_insertNow_0 20 rfl rfl)
theorem dX9_insertNow_21 : decode cX9_insertNow 21 = .ok (.iaload, 1) := dk_46 (dk_at dksX9_insertNow_0 21 rfl rfl)
theorem dX9_insertNow_22 : decode cX9_insertNow 22 = .ok (.if_icmp .le 6, 3) := dk_164 0 6 (dk_at dksX9_insertNow_1 0 rfl rfl)
theorem dX9_insertNow_25 : decode cX9_insertNow 25 = .ok (.bipush (-4), 2) := dk_16 252 (dk_at dksX9_insertNow_1 3 rfl rfl)
theorem dX9_insertNow_27 : decode cX9_insertNow 27 = .ok (.ireturn, 1) := dk_172 (dk_at dksX9_insertNow_1 5 rfl rfl)
theorem dX9_insertNow_28 : decode cX9_insertNow 28 = .ok (.aload_n 0, 1) := dk_42 (dk_at dksX9_insertNow_1 6 rfl rfl)
theorem dX9_insertNow_29 : decode cX9_insertNow 29 = .ok (.getfield 9, 3) := dk_180 0 9 (dk_at dksX9_insertNow_1 7 rfl rfl)
theorem dX9_insertNow_32 : decode cX9_insertNow 32 = .ok (.iconst 1, 1) := dk_4 (dk_at dksX9_insertNow_1 10 rfl rfl)
theorem dX9_insertNow_33 : decode cX9_insertNow 33 = .ok (.iaload, 1) := dk_46 (dk_at dksX9_insertNow_1 11 rfl rfl)
theorem dX9_insertNow_34 : decode cX9_insertNow 34 = .ok (.istore_n 3, 1) := dk_62 (dk_at dksX9_insertNow_1 12 rfl rfl)
theorem dX9_insertNow_35 : decode cX9_insertNow 35 = .ok (.iload_n 3, 1) := dk_29 (dk_at dksX9_insertNow_1 13 rfl rfl)
theorem dX9_insertNow_36 : decode cX9_insertNow 36 = .ok (.iload_n 1, 1) := dk_27 (dk_at dksX9_insertNow_1 14 rfl rfl)
theorem dX9_insertNow_37 : decode cX9_insertNow 37 = .ok (.if_icmp .le 29, 3) := dk_164 0 29 (dk_at dksX9_insertNow_1 15 rfl rfl)
theorem dX9_insertNow_40 : decode cX9_insertNow 40 = .ok (.aload_n 0, 1) := dk_42 (dk_at dksX9_insertNow_1 18 rfl rfl)
theorem dX9_insertNow_41 : decode cX9_insertNow 41 = .ok (.getfield 9, 3) := dk_180 0 9 (dk_at dksX9_insertNow_1 19 rfl rfl)
theorem dX9_insertNow_44 : decode cX9_insertNow 44 = .ok (.bipush 16, 2) := dk_16 16 (dk_at dksX9_insertNow_1 22 rfl rfl)
theorem dX9_insertNow_46 : decode cX9_insertNow 46 = .ok (.iload_n 3, 1) := dk_29 (dk_at dksX9_insertNow_2 0 rfl rfl)
theorem dX9_insertNow_47 : decode cX9_insertNow 47 = .ok (.iadd, 1) := dk_96 (dk_at dksX9_insertNow_2 1 rfl rfl)
theorem dX9_insertNow_48 : decode cX9_insertNow 48 = .ok (.aload_n 0, 1) := dk_42 (dk_at dksX9_insertNow_2 2 rfl rfl)
theorem dX9_insertNow_49 : decode cX9_insertNow 49 = .ok (.getfield 9, 3) := dk_180 0 9 (dk_at dksX9_insertNow_2 3 rfl rfl)
theorem dX9_insertNow_52 : decode cX9_insertNow 52 = .ok (.bipush 16, 2) := dk_16 16 (dk_at dksX9_insertNow_2 6 rfl rfl)
theorem dX9_insertNow_54 : decode cX9_insertNow 54 = .ok (.iload_n 3, 1) := dk_29 (dk_at dksX9_insertNow_2 8 rfl rfl)
theorem dX9_insertNow_55 : decode cX9_insertNow 55 = .ok (.iadd, 1) := dk_96 (dk_at dksX9_insertNow_2 9 rfl rfl)
theorem dX9_insertNow_56 : decode cX9_insertNow 56 = .ok (.iconst 1, 1) := dk_4 (dk_at dksX9_insertNow_2 10 rfl rfl)
theorem dX9_insertNow_57 : decode cX9_insertNow 57 = .ok (.isub, 1) := dk_100 (dk_at dksX9_insertNow_2 11 rfl rfl)
theorem dX9_insertNow_58 : decode cX9_insertNow 58 = .ok (.iaload, 1) := dk_46 (dk_at dksX9_insertNow_2 12 rfl rfl)
theorem dX9_insertNow_59 : decode cX9_insertNow 59 = .ok (.iastore, 1) := dk_79 (dk_at dksX9_insertNow_2 13 rfl rfl)
theorem dX9_insertNow_60 : decode cX9_insertNow 60 = .ok (.iinc 3 (-1), 3) := dk_132 3 255 (dk_at dksX9_insertNow_2 14 rfl rfl)
theorem dX9_insertNow_63 : decode cX9_insertNow 63 = .ok (.goto (-28), 3) := dk_167 255 228 (dk_at dksX9_insertNow_2 17 rfl rfl)
theorem dX9_insertNow_66 : decode cX9_insertNow 66 = .ok (.aload_n 0, 1) := dk_42 (dk_at dksX9_insertNow_2 20 rfl rfl)
theorem dX9_insertNow_67 : decode cX9_insertNow 67 = .ok (.getfield 9, 3) := dk_180 0 9 (dk_at dksX9_insertNow_2 21 rfl rfl)
theorem dX9_insertNow_70 : decode cX9_insertNow 70 = .ok (.bipush 16, 2) := dk_16 16 (dk_at dksX9_insertNow_3 0 rfl rfl)
theorem dX9_insertNow_72 : decode cX9_insertNow 72 = .ok (.iload_n 1, 1) := dk_27 (dk_at dksX9_insertNow_3 2 rfl rfl)
theorem dX9_insertNow_73 : decode cX9_insertNow 73 = .ok (.iadd, 1) := dk_96 (dk_at dksX9_insertNow_3 3 rfl rfl)
theorem dX9_insertNow_74 : decode cX9_insertNow 74 = .ok (.iload_n 2, 1) := dk_28 (dk_at dksX9_insertNow_3 4 rfl rfl)
theorem dX9_insertNow_75 : decode cX9_insertNow 75 = .ok (.iastore, 1) := dk_79 (dk_at dksX9_insertNow_3 5 rfl rfl)
theorem dX9_insertNow_76 : decode cX9_insertNow 76 = .ok (.aload_n 0, 1) := dk_42 (dk_at dksX9_insertNow_3 6 rfl rfl)
theorem dX9_insertNow_77 : decode cX9_insertNow 77 = .ok (.getfield 9, 3) := dk_180 0 9 (dk_at dksX9_insertNow_3 7 rfl rfl)
theorem dX9_insertNow_80 : decode cX9_insertNow 80 = .ok (.iconst 1, 1) := dk_4 (dk_at dksX9_insertNow_3 10 rfl rfl)
theorem dX9_insertNow_81 : decode cX9_insertNow 81 = .ok (.dup2, 1) := dk_92 (dk_at dksX9_insertNow_3 11 rfl rfl)
theorem dX9_insertNow_82 : decode cX9_insertNow 82 = .ok (.iaload, 1) := dk_46 (dk_at dksX9_insertNow_3 12 rfl rfl)
theorem dX9_insertNow_83 : decode cX9_insertNow 83 = .ok (.iconst 1, 1) := dk_4 (dk_at dksX9_insertNow_3 13 rfl rfl)
theorem dX9_insertNow_84 : decode cX9_insertNow 84 = .ok (.iadd, 1) := dk_96 (dk_at dksX9_insertNow_3 14 rfl rfl)
theorem dX9_insertNow_85 : decode cX9_insertNow 85 = .ok (.iastore, 1) := dk_79 (dk_at dksX9_insertNow_3 15 rfl rfl)
theorem dX9_insertNow_86 : decode cX9_insertNow 86 = .ok (.aload_n 0, 1) := dk_42 (dk_at dksX9_insertNow_3 16 rfl rfl)
theorem dX9_insertNow_87 : decode cX9_insertNow 87 = .ok (.iconst 1, 1) := dk_4 (dk_at dksX9_insertNow_3 17 rfl rfl)
theorem dX9_insertNow_88 : decode cX9_insertNow 88 = .ok (.iconst 1, 1) := dk_4 (dk_at dksX9_insertNow_3 18 rfl rfl)
theorem dX9_insertNow_89 : decode cX9_insertNow 89 = .ok (.invokevirtual 140, 3) := dk_182 0 140 (dk_at dksX9_insertNow_3 19 rfl rfl)
theorem dX9_insertNow_92 : decode cX9_insertNow 92 = .ok (.aload_n 0, 1) := dk_42 (dk_at dksX9_insertNow_3 22 rfl rfl)
theorem dX9_insertNow_93 : decode cX9_insertNow 93 = .ok (.iload_n 1, 1) := dk_27 (dk_at dksX9_insertNow_3 23 rfl rfl)
theorem dX9_insertNow_94 : decode cX9_insertNow 94 = .ok (.iconst 1, 1) := dk_4 (dk_at dksX9_insertNow_4 0 rfl rfl)
theorem dX9_insertNow_95 : decode cX9_insertNow 95 = .ok (.invokevirtual 421, 3) := dk_182 1 165 (dk_at dksX9_insertNow_4 1 rfl rfl)
theorem dX9_insertNow_98 : decode cX9_insertNow 98 = .ok (.aload_n 0, 1) := dk_42 (dk_at dksX9_insertNow_4 4 rfl rfl)
theorem dX9_insertNow_99 : decode cX9_insertNow 99 = .ok (.invokevirtual 418, 3) := dk_182 1 162 (dk_at dksX9_insertNow_4 5 rfl rfl)
theorem dX9_insertNow_102 : decode cX9_insertNow 102 = .ok (.aload_n 0, 1) := dk_42 (dk_at dksX9_insertNow_4 8 rfl rfl)
theorem dX9_insertNow_103 : decode cX9_insertNow 103 = .ok (.getfield 9, 3) := dk_180 0 9 (dk_at dksX9_insertNow_4 9 rfl rfl)
theorem dX9_insertNow_106 : decode cX9_insertNow 106 = .ok (.iconst 1, 1) := dk_4 (dk_at dksX9_insertNow_4 12 rfl rfl)
theorem dX9_insertNow_107 : decode cX9_insertNow 107 = .ok (.iaload, 1) := dk_46 (dk_at dksX9_insertNow_4 13 rfl rfl)
theorem dX9_insertNow_108 : decode cX9_insertNow 108 = .ok (.ireturn, 1) := dk_172 (dk_at dksX9_insertNow_4 14 rfl rfl)
abbrev cX9_markNow : ByteArray := prog_29_method_109_code
def yX9_markNow : MethodName := ⟨RX9, "markNow", "(I)I"⟩
def dkwX9_markNow_5 : List UInt8 := [28, 172]
abbrev dktX9_markNow_5 : List UInt8 := dkwX9_markNow_5 ++ []
def dkwX9_markNow_4 : List UInt8 := [180, 0, 9, 6, 92, 46, 4, 96, 79, 132, 2, 1, 132, 3, 1, 167, 255, 153, 42, 6, 28, 182, 0, 140]
abbrev dktX9_markNow_4 : List UInt8 := dkwX9_markNow_4 ++ dktX9_markNow_5
def dkwX9_markNow_3 : List UInt8 := [79, 42, 180, 0, 9, 17, 1, 200, 5, 42, 180, 0, 9, 6, 46, 104, 96, 4, 96, 27, 79, 42]
abbrev dktX9_markNow_3 : List UInt8 := dkwX9_markNow_3 ++ dktX9_markNow_4
def dkwX9_markNow_2 : List UInt8 := [2, 159, 0, 6, 167, 0, 54, 42, 180, 0, 9, 17, 1, 200, 5, 42, 180, 0, 9, 6, 46, 104, 96, 29]
abbrev dktX9_markNow_2 : List UInt8 := dkwX9_markNow_2 ++ dktX9_markNow_3
def dkwX9_markNow_1 : List UInt8 := [162, 0, 88, 42, 27, 29, 182, 0, 109, 153, 0, 73, 42, 27, 29, 42, 180, 0, 9, 6, 46, 182, 0, 130]
abbrev dktX9_markNow_1 : List UInt8 := dkwX9_markNow_1 ++ dktX9_markNow_2
def dkwX9_markNow_0 : List UInt8 := [3, 61, 3, 62, 29, 42, 180, 0, 9, 4, 46, 162, 0, 99, 42, 180, 0, 9, 6, 46, 16, 60]
abbrev dktX9_markNow_0 : List UInt8 := dkwX9_markNow_0 ++ dktX9_markNow_1
theorem dksX9_markNow_0 : cX9_markNow.data.toList.drop 0 = dktX9_markNow_0 := by decide +kernel
theorem dksX9_markNow_1 : cX9_markNow.data.toList.drop 22 = dktX9_markNow_1 := dk_seg dksX9_markNow_0 22 rfl rfl
theorem dksX9_markNow_2 : cX9_markNow.data.toList.drop 46 = dktX9_markNow_2 := dk_seg dksX9_markNow_1 24 rfl rfl
theorem dksX9_markNow_3 : cX9_markNow.data.toList.drop 70 = dktX9_markNow_3 := dk_seg dksX9_markNow_2 24 rfl rfl
theorem dksX9_markNow_4 : cX9_markNow.data.toList.drop 92 = dktX9_markNow_4 := dk_seg dksX9_markNow_3 22 rfl rfl
theorem dksX9_markNow_5 : cX9_markNow.data.toList.drop 116 = dktX9_markNow_5 := dk_seg dksX9_markNow_4 24 rfl rfl
theorem dX9_markNow_0 : decode cX9_markNow 0 = .ok (.iconst 0, 1) := dk_3 (dk_at dksX9_markNow_0 0 rfl rfl)
theorem dX9_markNow_1 : decode cX9_markNow 1 = .ok (.istore_n 2, 1) := dk_61 (dk_at dksX9_markNow_0 1 rfl rfl)
theorem dX9_markNow_2 : decode cX9_markNow 2 = .ok (.iconst 0, 1) := dk_3 (dk_at dksX9_markNow_0 2 rfl rfl)
theorem dX9_markNow_3 : decode cX9_markNow 3 = .ok (.istore_n 3, 1) := dk_62 (dk_at dksX9_markNow_0 3 rfl rfl)
theorem dX9_markNow_4 : decode cX9_markNow 4 = .ok (.iload_n 3, 1) := dk_29 (dk_at dksX9_markNow_0 4 rfl rfl)
theorem dX9_markNow_5 : decode cX9_markNow 5 = .ok (.aload_n 0, 1) := dk_42 (dk_at dksX9_markNow_0 5 rfl rfl)
theorem dX9_markNow_6 : decode cX9_markNow 6 = .ok (.getfield 9, 3) := dk_180 0 9 (dk_at dksX9_markNow_0 6 rfl rfl)
theorem dX9_markNow_9 : decode cX9_markNow 9 = .ok (.iconst 1, 1) := dk_4 (dk_at dksX9_markNow_0 9 rfl rfl)
theorem dX9_markNow_10 : decode cX9_markNow 10 = .ok (.iaload, 1) := dk_46 (dk_at dksX9_markNow_0 10 rfl rfl)
theorem dX9_markNow_11 : decode cX9_markNow 11 = .ok (.if_icmp .ge 99, 3) := dk_162 0 99 (dk_at dksX9_markNow_0 11 rfl rfl)
theorem dX9_markNow_14 : decode cX9_markNow 14 = .ok (.aload_n 0, 1) := dk_42 (dk_at dksX9_markNow_0 14 rfl rfl)
theorem dX9_markNow_15 : decode cX9_markNow 15 = .ok (.getfield 9, 3) := dk_180 0 9 (dk_at dksX9_markNow_0 15 rfl rfl)
theorem dX9_markNow_18 : decode cX9_markNow 18 = .ok (.iconst 3, 1) := dk_6 (dk_at dksX9_markNow_0 18 rfl rfl)
theorem dX9_markNow_19 : decode cX9_markNow 19 = .ok (.iaload, 1) := dk_46 (dk_at dksX9_markNow_0 19 rfl rfl)
theorem dX9_markNow_20 : decode cX9_markNow 20 = .ok (.bipush 60, 2) := dk_16 60 (dk_at dksX9_markNow_0 20 rfl rfl)
theorem dX9_markNow_22 : decode cX9_markNow 22 = .ok (.if_icmp .ge 88, 3) := dk_162 0 88 (dk_at dksX9_markNow_1 0 rfl rfl)
theorem dX9_markNow_25 : decode cX9_markNow 25 = .ok (.aload_n 0, 1) := dk_42 (dk_at dksX9_markNow_1 3 rfl rfl)
theorem dX9_markNow_26 : decode cX9_markNow 26 = .ok (.iload_n 1, 1) := dk_27 (dk_at dksX9_markNow_1 4 rfl rfl)
theorem dX9_markNow_27 : decode cX9_markNow 27 = .ok (.iload_n 3, 1) := dk_29 (dk_at dksX9_markNow_1 5 rfl rfl)
theorem dX9_markNow_28 : decode cX9_markNow 28 = .ok (.invokevirtual 109, 3) := dk_182 0 109 (dk_at dksX9_markNow_1 6 rfl rfl)
theorem dX9_markNow_31 : decode cX9_markNow 31 = .ok (.ifCond .eq 73, 3) := dk_153 0 73 (dk_at dksX9_markNow_1 9 rfl rfl)
theorem dX9_markNow_34 : decode cX9_markNow 34 = .ok (.aload_n 0, 1) := dk_42 (dk_at dksX9_markNow_1 12 rfl rfl)
theorem dX9_markNow_35 : decode cX9_markNow 35 = .ok (.iload_n 1, 1) := dk_27 (dk_at dksX9_markNow_1 13 rfl rfl)
theorem dX9_markNow_36 : decode cX9_markNow 36 = .ok (.iload_n 3, 1) := dk_29 (dk_at dksX9_markNow_1 14 rfl rfl)
theorem dX9_markNow_37 : decode cX9_markNow 37 = .ok (.aload_n 0, 1) := dk_42 (dk_at dksX9_markNow_1 15 rfl rfl)
theorem dX9_markNow_38 : decode cX9_markNow 38 = .ok (.getfield 9, 3) := dk_180 0 9 (dk_at dksX9_markNow_1 16 rfl rfl)
theorem dX9_markNow_41 : decode cX9_markNow 41 = .ok (.iconst 3, 1) := dk_6 (dk_at dksX9_markNow_1 19 rfl rfl)
theorem dX9_markNow_42 : decode cX9_markNow 42 = .ok (.iaload, 1) := dk_46 (dk_at dksX9_markNow_1 20 rfl rfl)
theorem dX9_markNow_43 : decode cX9_markNow 43 = .ok (.invokevirtual 130, 3) := dk_182 0 130 (dk_at dksX9_markNow_1 21 rfl rfl)
theorem dX9_markNow_46 : decode cX9_markNow 46 = .ok (.iconst (-1), 1) := dk_2 (dk_at dksX9_markNow_2 0 rfl rfl)
theorem dX9_markNow_47 : decode cX9_markNow 47 = .ok (.if_icmp .eq 6, 3) := dk_159 0 6 (dk_at dksX9_markNow_2 1 rfl rfl)
theorem dX9_markNow_50 : decode cX9_markNow 50 = .ok (.goto 54, 3) := dk_167 0 54 (dk_at dksX9_markNow_2 4 rfl rfl)
theorem dX9_markNow_53 : decode cX9_markNow 53 = .ok (.aload_n 0, 1) := dk_42 (dk_at dksX9_markNow_2 7 rfl rfl)
theorem dX9_markNow_54 : decode cX9_markNow 54 = .ok (.getfield 9, 3) := dk_180 0 9 (dk_at dksX9_markNow_2 8 rfl rfl)
theorem dX9_markNow_57 : decode cX9_markNow 57 = .ok (.sipush 456, 3) := dk_17 1 200 (dk_at dksX9_markNow_2 11 rfl rfl)
theorem dX9_markNow_60 : decode cX9_markNow 60 = .ok (.iconst 2, 1) := dk_5 (dk_at dksX9_markNow_2 14 rfl rfl)
theorem dX9_markNow_61 : decode cX9_markNow 61 = .ok (.aload_n 0, 1) := dk_42 (dk_at dksX9_markNow_2 15 rfl rfl)
theorem dX9_markNow_62 : decode cX9_markNow 62 = .ok (.getfield 9, 3) := dk_180 0 9 (dk_at dksX9_markNow_2 16 rfl rfl)
theorem dX9_markNow_65 : decode cX9_markNow 65 = .ok (.iconst 3, 1) := dk_6 (dk_at dksX9_markNow_2 19 rfl rfl)
theorem dX9_markNow_66 : decode cX9_markNow 66 = .ok (.iaload, 1) := dk_46 (dk_at dksX9_markNow_2 20 rfl rfl)
theorem dX9_markNow_67 : decode cX9_markNow 67 = .ok (.imul, 1) := dk_104 (dk_at dksX9_markNow_2 21 rfl rfl)
theorem dX9_markNow_68 : decode cX9_markNow 68 = .ok (.iadd, 1) := dk_96 (dk_at dksX9_markNow_2 22 rfl rfl)
theorem dX9_markNow_69 : decode cX9_markNow 69 = .ok (.iload_n 3, 1) := dk_29 (dk_at dksX9_markNow_2 23 rfl rfl)
theorem dX9_markNow_70 : decode cX9_markNow 70 = .ok (.iastore, 1) := dk_79 (dk_at dksX9_markNow_3 0 rfl rfl)
theorem dX9_markNow_71 : decode cX9_markNow 71 = .ok (.aload_n 0, 1) := dk_42 (dk_at dksX9_markNow_3 1 rfl rfl)
theorem dX9_markNow_72 : decode cX9_markNow 72 = .ok (.getfield 9, 3) := dk_180 0 9 (dk_at dksX9_markNow_3 2 rfl rfl)
theorem dX9_markNow_75 : decode cX9_markNow 75 = .ok (.sipush 456, 3) := dk_17 1 200 (dk_at dksX9_markNow_3 5 rfl rfl)
theorem dX9_markNow_78 : decode cX9_markNow 78 = .ok (.iconst 2, 1) := dk_5 (dk_at dksX9_markNow_3 8 rfl rfl)
theorem dX9_markNow_79 : decode cX9_markNow 79 = .ok (.aload_n 0, 1) := dk_42 (dk_at dksX9_markNow_3 9 rfl rfl)
theorem dX9_markNow_80 : decode cX9_markNow 80 = .ok (.getfield 9, 3) := dk_180 0 9 (dk_at dksX9_markNow_3 10 rfl rfl)
theorem dX9_markNow_83 : decode cX9_markNow 83 = .ok (.iconst 3, 1) := dk_6 (dk_at dksX9_markNow_3 13 rfl rfl)
theorem dX9_markNow_84 : decode cX9_markNow 84 = .ok (.iaload, 1) := dk_46 (dk_at dksX9_markNow_3 14 rfl rfl)
theorem dX9_markNow_85 : decode cX9_markNow 85 = .ok (.imul, 1) := dk_104 (dk_at dksX9_markNow_3 15 rfl rfl)
theorem dX9_markNow_86 : decode cX9_markNow 86 = .ok (.iadd, 1) := dk_96 (dk_at dksX9_markNow_3 16 rfl rfl)
theorem dX9_markNow_87 : decode cX9_markNow 87 = .ok (.iconst 1, 1) := dk_4 (dk_at dksX9_markNow_3 17 rfl rfl)
theorem dX9_markNow_88 : decode cX9_markNow 88 = .ok (.iadd, 1) := dk_96 (dk_at dksX9_markNow_3 18 rfl rfl)
theorem dX9_markNow_89 : decode cX9_markNow 89 = .ok (.iload_n 1, 1) := dk_27 (dk_at dksX9_markNow_3 19 rfl rfl)
theorem dX9_markNow_90 : decode cX9_markNow 90 = .ok (.iastore, 1) := dk_79 (dk_at dksX9_markNow_3 20 rfl rfl)
theorem dX9_markNow_91 : decode cX9_markNow 91 = .ok (.aload_n 0, 1) := dk_42 (dk_at dksX9_markNow_3 21 rfl rfl)
theorem dX9_markNow_92 : decode cX9_markNow 92 = .ok (.getfield 9, 3) := dk_180 0 9 (dk_at dksX9_markNow_4 0 rfl rfl)
theorem dX9_markNow_95 : decode cX9_markNow 95 = .ok (.iconst 3, 1) := dk_6 (dk_at dksX9_markNow_4 3 rfl rfl)
theorem dX9_markNow_96 : decode cX9_markNow 96 = .ok (.dup2, 1) := dk_92 (dk_at dksX9_markNow_4 4 rfl rfl)
theorem dX9_markNow_97 : decode cX9_markNow 97 = .ok (.iaload, 1) := dk_46 (dk_at dksX9_markNow_4 5 rfl rfl)
theorem dX9_markNow_98 : decode cX9_markNow 98 = .ok (.iconst 1, 1) := dk_4 (dk_at dksX9_markNow_4 6 rfl rfl)
theorem dX9_markNow_99 : decode cX9_markNow 99 = .ok (.iadd, 1) := dk_96 (dk_at dksX9_markNow_4 7 rfl rfl)
theorem dX9_markNow_100 : decode cX9_markNow 100 = .ok (.iastore, 1) := dk_79 (dk_at dksX9_markNow_4 8 rfl rfl)
theorem dX9_markNow_101 : decode cX9_markNow 101 = .ok (.iinc 2 1, 3) := dk_132 2 1 (dk_at dksX9_markNow_4 9 rfl rfl)
theorem dX9_markNow_104 : decode cX9_markNow 104 = .ok (.iinc 3 1, 3) := dk_132 3 1 (dk_at dksX9_markNow_4 12 rfl rfl)
theorem dX9_markNow_107 : decode cX9_markNow 107 = .ok (.goto (-103), 3) := dk_167 255 153 (dk_at dksX9_markNow_4 15 rfl rfl)
theorem dX9_markNow_110 : decode cX9_markNow 110 = .ok (.aload_n 0, 1) := dk_42 (dk_at dksX9_markNow_4 18 rfl rfl)
theorem dX9_markNow_111 : decode cX9_markNow 111 = .ok (.iconst 3, 1) := dk_6 (dk_at dksX9_markNow_4 19 rfl rfl)
theorem dX9_markNow_112 : decode cX9_markNow 112 = .ok (.iload_n 2, 1) := dk_28 (dk_at dksX9_markNow_4 20 rfl rfl)
theorem dX9_markNow_113 : decode cX9_markNow 113 = .ok (.invokevirtual 140, 3) := dk_182 0 140 (dk_at dksX9_markNow_4 21 rfl rfl)
theorem dX9_markNow_116 : decode cX9_markNow 116 = .ok (.iload_n 2, 1) := dk_28 (dk_at dksX9_markNow_5 0 rfl rfl)
theorem dX9_markNow_117 : decode cX9_markNow 117 = .ok (.ireturn, 1) := dk_172 (dk_at dksX9_markNow_5 1 rfl rfl)
abbrev cX9_unmarkNow : ByteArray := prog_29_method_110_code
def yX9_unmarkNow : MethodName := ⟨RX9, "unmarkNow", "(I)I"⟩
def dkwX9_unmarkNow_1 : List UInt8 := [42, 180, 0, 9, 6, 46, 172]
abbrev dktX9_unmarkNow_1 : List UInt8 := dkwX9_unmarkNow_1 ++ []
def dkwX9_unmarkNow_0 : List UInt8 := [27, 42, 180, 0, 9, 6, 46, 161, 0, 6, 16, 251, 172, 42, 27, 182, 0, 136, 42, 8, 4, 182, 0, 140]
abbrev dktX9_unmarkNow_0 : List UInt8 := dkwX9_unmarkNow_0 ++ dktX9_unmarkNow_1
theorem dksX9_unmarkNow_0 : cX9_unmarkNow.data.toList.drop 0 = dktX9_unmarkNow_0 := by decide +kernel
theorem dksX9_unmarkNow_1 : cX9_unmarkNow.data.toList.drop 24 = dktX9_unmarkNow_1 := dk_seg dksX9_unmarkNow_0 24 rfl rfl
theorem dX9_unmarkNow_0 : decode cX9_unmarkNow 0 = .ok (.iload_n 1, 1) := dk_27 (dk_at dksX9_unmarkNow_0 0 rfl rfl)
theorem dX9_unmarkNow_1 : decode cX9_unmarkNow 1 = .ok (.aload_n 0, 1) := dk_42 (dk_at dksX9_unmarkNow_0 1 rfl rfl)
theorem dX9_unmarkNow_2 : decode cX9_unmarkNow 2 = .ok (.getfield 9, 3) := dk_180 0 9 (dk_at dksX9_unmarkNow_0 2 rfl rfl)
theorem dX9_unmarkNow_5 : decode cX9_unmarkNow 5 = .ok (.iconst 3, 1) := dk_6 (dk_at dksX9_unmarkNow_0 5 rfl rfl)
theorem dX9_unmarkNow_6 : decode cX9_unmarkNow 6 = .ok (.iaload, 1) := dk_46 (dk_at dksX9_unmarkNow_0 6 rfl rfl)
theorem dX9_unmarkNow_7 : decode cX9_unmarkNow 7 = .ok (.if_icmp .lt 6, 3) := dk_161 0 6 (dk_at dksX9_unmarkNow_0 7 rfl rfl)
theorem dX9_unmarkNow_10 : decode cX9_unmarkNow 10 = .ok (.bipush (-5), 2) := dk_16 251 (dk_at dksX9_unmarkNow_0 10 rfl rfl)
theorem dX9_unmarkNow_12 : decode cX9_unmarkNow 12 = .ok (.ireturn, 1) := dk_172 (dk_at dksX9_unmarkNow_0 12 rfl rfl)
theorem dX9_unmarkNow_13 : decode cX9_unmarkNow 13 = .ok (.aload_n 0, 1) := dk_42 (dk_at dksX9_unmarkNow_0 13 rfl rfl)
theorem dX9_unmarkNow_14 : decode cX9_unmarkNow 14 = .ok (.iload_n 1, 1) := dk_27 (dk_at dksX9_unmarkNow_0 14 rfl rfl)
theorem dX9_unmarkNow_15 : decode cX9_unmarkNow 15 = .ok (.invokevirtual 136, 3) := dk_182 0 136 (dk_at dksX9_unmarkNow_0 15 rfl rfl)
theorem dX9_unmarkNow_18 : decode cX9_unmarkNow 18 = .ok (.aload_n 0, 1) := dk_42 (dk_at dksX9_unmarkNow_0 18 rfl rfl)
theorem dX9_unmarkNow_19 : decode cX9_unmarkNow 19 = .ok (.iconst 5, 1) := dk_8 (dk_at dksX9_unmarkNow_0 19 rfl rfl)
theorem dX9_unmarkNow_20 : decode cX9_unmarkNow 20 = .ok (.iconst 1, 1) := dk_4 (dk_at dksX9_unmarkNow_0 20 rfl rfl)
theorem dX9_unmarkNow_21 : decode cX9_unmarkNow 21 = .ok (.invokevirtual 140, 3) := dk_182 0 140 (dk_at dksX9_unmarkNow_0 21 rfl rfl)
theorem dX9_unmarkNow_24 : decode cX9_unmarkNow 24 = .ok (.aload_n 0, 1) := dk_42 (dk_at dksX9_unmarkNow_1 0 rfl rfl)
theorem dX9_unmarkNow_25 : decode cX9_unmarkNow 25 = .ok (.getfield 9, 3) := dk_180 0 9 (dk_at dksX9_unmarkNow_1 1 rfl rfl)
theorem dX9_unmarkNow_28 : decode cX9_unmarkNow 28 = .ok (.iconst 3, 1) := dk_6 (dk_at dksX9_unmarkNow_1 4 rfl rfl)
theorem dX9_unmarkNow_29 : decode cX9_unmarkNow 29 = .ok (.iaload, 1) := dk_46 (dk_at dksX9_unmarkNow_1 5 rfl rfl)
theorem dX9_unmarkNow_30 : decode cX9_unmarkNow 30 = .ok (.ireturn, 1) := dk_172 (dk_at dksX9_unmarkNow_1 6 rfl rfl)
abbrev cX9_swapNow : ByteArray := prog_29_method_111_code
def yX9_swapNow : MethodName := ⟨RX9, "swapNow", "(IIII)I"⟩
def dkwX9_swapNow_5 : List UInt8 := [167, 255, 176, 42, 16, 6, 21, 5, 182, 0, 140, 42, 182, 1, 162, 21, 5, 172]
abbrev dktX9_swapNow_5 : List UInt8 := dkwX9_swapNow_5 ++ []
def dkwX9_swapNow_4 : List UInt8 := [159, 0, 10, 21, 7, 21, 4, 160, 0, 7, 4, 167, 0, 4, 3, 184, 0, 113, 96, 54, 5, 132, 6, 1]
abbrev dktX9_swapNow_4 : List UInt8 := dkwX9_swapNow_4 ++ dktX9_swapNow_5
def dkwX9_swapNow_3 : List UInt8 := [167, 0, 16, 21, 7, 21, 4, 160, 0, 7, 29, 167, 0, 5, 21, 7, 79, 21, 5, 21, 7, 29]
abbrev dktX9_swapNow_3 : List UInt8 := dkwX9_swapNow_3 ++ dktX9_swapNow_4
def dkwX9_swapNow_2 : List UInt8 := [180, 0, 9, 21, 6, 46, 54, 7, 42, 180, 0, 9, 21, 6, 21, 7, 29, 160, 0, 8, 21, 4]
abbrev dktX9_swapNow_2 : List UInt8 := dkwX9_swapNow_2 ++ dktX9_swapNow_3
def dkwX9_swapNow_1 : List UInt8 := [172, 3, 54, 5, 16, 16, 27, 96, 54, 6, 21, 6, 16, 16, 27, 96, 28, 96, 162, 0, 75, 42]
abbrev dktX9_swapNow_1 : List UInt8 := dkwX9_swapNow_1 ++ dktX9_swapNow_2
def dkwX9_swapNow_0 : List UInt8 := [27, 42, 180, 0, 9, 4, 46, 162, 0, 15, 27, 28, 96, 42, 180, 0, 9, 4, 46, 164, 0, 6, 16, 252]
abbrev dktX9_swapNow_0 : List UInt8 := dkwX9_swapNow_0 ++ dktX9_swapNow_1
theorem dksX9_swapNow_0 : cX9_swapNow.data.toList.drop 0 = dktX9_swapNow_0 := by decide +kernel
theorem dksX9_swapNow_1 : cX9_swapNow.data.toList.drop 24 = dktX9_swapNow_1 := dk_seg dksX9_swapNow_0 24 rfl rfl
theorem dksX9_swapNow_2 : cX9_swapNow.data.toList.drop 46 = dktX9_swapNow_2 := dk_seg dksX9_swapNow_1 22 rfl rfl
theorem dksX9_swapNow_3 : cX9_swapNow.data.toList.drop 68 = dktX9_swapNow_3 := dk_seg dksX9_swapNow_2 22 rfl rfl
theorem dksX9_swapNow_4 : cX9_swapNow.data.toList.drop 90 = dktX9_swapNow_4 := dk_seg dksX9_swapNow_3 22 rfl rfl
theorem dksX9_swapNow_5 : cX9_swapNow.data.toList.drop 114 = dktX9_swapNow_5 := dk_seg dksX9_swapNow_4 24 rfl rfl
theorem dX9_swapNow_0 : decode cX9_swapNow 0 = .ok (.iload_n 1, 1) := dk_27 (dk_at dksX9_swapNow_0 0 rfl rfl)
theorem dX9_swapNow_1 : decode cX9_swapNow 1 = .ok (.aload_n 0, 1) := dk_42 (dk_at dksX9_swapNow_0 1 rfl rfl)
theorem dX9_swapNow_2 : decode cX9_swapNow 2 = .ok (.getfield 9, 3) := dk_180 0 9 (dk_at dksX9_swapNow_0 2 rfl rfl)
theorem dX9_swapNow_5 : decode cX9_swapNow 5 = .ok (.iconst 1, 1) := dk_4 (dk_at dksX9_swapNow_0 5 rfl rfl)
theorem dX9_swapNow_6 : decode cX9_swapNow 6 = .ok (.iaload, 1) := dk_46 (dk_at dksX9_swapNow_0 6 rfl rfl)
theorem dX9_swapNow_7 : decode cX9_swapNow 7 = .ok (.if_icmp .ge 15, 3) := dk_162 0 15 (dk_at dksX9_swapNow_0 7 rfl rfl)
theorem dX9_swapNow_10 : decode cX9_swapNow 10 = .ok (.iload_n 1, 1) := dk_27 (dk_at dksX9_swapNow_0 10 rfl rfl)
theorem dX9_swapNow_11 : decode cX9_swapNow 11 = .ok (.iload_n 2, 1) := dk_28 (dk_at dksX9_swapNow_0 11 rfl rfl)
theorem dX9_swapNow_12 : decode cX9_swapNow 12 = .ok (.iadd, 1) := dk_96 (dk_at dksX9_swapNow_0 12 rfl rfl)
theorem dX9_swapNow_13 : decode cX9_swapNow 13 = .ok (.aload_n 0, 1) := dk_42 (dk_at dksX9_swapNow_0 13 rfl rfl)
theorem dX9_swapNow_14 : decode cX9_swapNow 14 = .ok (.getfield 9, 3) := dk_180 0 9 (dk_at dksX9_swapNow_0 14 rfl rfl)
theorem dX9_swapNow_17 : decode cX9_swapNow 17 = .ok (.iconst 1, 1) := dk_4 (dk_at dksX9_swapNow_0 17 rfl rfl)
theorem dX9_swapNow_18 : decode cX9_swapNow 18 = .ok (.iaload, 1) := dk_46 (dk_at dksX9_swapNow_0 18 rfl rfl)
theorem dX9_swapNow_19 : decode cX9_swapNow 19 = .ok (.if_icmp .le 6, 3) := dk_164 0 6 (dk_at dksX9_swapNow_0 19 rfl rfl)
theorem dX9_swapNow_22 : decode cX9_swapNow 22 = .ok (.bipush (-4), 2) := dk_16 252 (dk_at dksX9_swapNow_0 22 rfl rfl)
theorem dX9_swapNow_24 : decode cX9_swapNow 24 = .ok (.ireturn, 1) := dk_172 (dk_at dksX9_swapNow_1 0 rfl rfl)
theorem dX9_swapNow_25 : decode cX9_swapNow 25 = .ok (.iconst 0, 1) := dk_3 (dk_at dksX9_swapNow_1 1 rfl rfl)
theorem dX9_swapNow_26 : decode cX9_swapNow 26 = .ok (.istore 5, 2) := dk_54 5 (dk_at dksX9_swapNow_1 2 rfl rfl)
theorem dX9_swapNow_28 : decode cX9_swapNow 28 = .ok (.bipush 16, 2) := dk_16 16 (dk_at dksX9_swapNow_1 4 rfl rfl)
theorem dX9_swapNow_30 : decode cX9_swapNow 30 = .ok (.iload_n 1, 1) := dk_27 (dk_at dksX9_swapNow_1 6 rfl rfl)
theorem dX9_swapNow_31 : decode cX9_swapNow 31 = .ok (.iadd, 1) := dk_96 (dk_at dksX9_swapNow_1 7 rfl rfl)
theorem dX9_swapNow_32 : decode cX9_swapNow 32 = .ok (.istore 6, 2) := dk_54 6 (dk_at dksX9_swapNow_1 8 rfl rfl)
theorem dX9_swapNow_34 : decode cX9_swapNow 34 = .ok (.iload 6, 2) := dk_21 6 (dk_at dksX9_swapNow_1 10 rfl rfl)
theorem dX9_swapNow_36 : decode cX9_swapNow 36 = .ok (.bipush 16, 2) := dk_16 16 (dk_at dksX9_swapNow_1 12 rfl rfl)
theorem dX9_swapNow_38 : decode cX9_swapNow 38 = .ok (.iload_n 1, 1) := dk_27 (dk_at dksX9_swapNow_1 14 rfl rfl)
theorem dX9_swapNow_39 : decode cX9_swapNow 39 = .ok (.iadd, 1) := dk_96 (dk_at dksX9_swapNow_1 15 rfl rfl)
theorem dX9_swapNow_40 : decode cX9_swapNow 40 = .ok (.iload_n 2, 1) := dk_28 (dk_at dksX9_swapNow_1 16 rfl rfl)
theorem dX9_swapNow_41 : decode cX9_swapNow 41 = .ok (.iadd, 1) := dk_96 (dk_at dksX9_swapNow_1 17 rfl rfl)
theorem dX9_swapNow_42 : decode cX9_swapNow 42 = .ok (.if_icmp .ge 75, 3) := dk_162 0 75 (dk_at dksX9_swapNow_1 18 rfl rfl)
theorem dX9_swapNow_45 : decode cX9_swapNow 45 = .ok (.aload_n 0, 1) := dk_42 (dk_at dksX9_swapNow_1 21 rfl rfl)
theorem dX9_swapNow_46 : decode cX9_swapNow 46 = .ok (.getfield 9, 3) := dk_180 0 9 (dk_at dksX9_swapNow_2 0 rfl rfl)
theorem dX9_swapNow_49 : decode cX9_swapNow 49 = .ok (.iload 6, 2) := dk_21 6 (dk_at dksX9_swapNow_2 3 rfl rfl)
theorem dX9_swapNow_51 : decode cX9_swapNow 51 = .ok (.iaload, 1) := dk_46 (dk_at dksX9_swapNow_2 5 rfl rfl)
theorem dX9_swapNow_52 : decode cX9_swapNow 52 = .ok (.istore 7, 2) := dk_54 7 (dk_at dksX9_swapNow_2 6 rfl rfl)
theorem dX9_swapNow_54 : decode cX9_swapNow 54 = .ok (.aload_n 0, 1) := dk_42 (dk_at dksX9_swapNow_2 8 rfl rfl)
theorem dX9_swapNow_55 : decode cX9_swapNow 55 = .ok (.getfield 9, 3) := dk_180 0 9 (dk_at dksX9_swapNow_2 9 rfl rfl)
theorem dX9_swapNow_58 : decode cX9_swapNow 58 = .ok (.iload 6, 2) := dk_21 6 (dk_at dksX9_swapNow_2 12 rfl rfl)
theorem dX9_swapNow_60 : decode cX9_swapNow 60 = .ok (.iload 7, 2) := dk_21 7 (dk_at dksX9_swapNow_2 14 rfl rfl)
theorem dX9_swapNow_62 : decode cX9_swapNow 62 = .ok (.iload_n 3, 1) := dk_29 (dk_at dksX9_swapNow_2 16 rfl rfl)
theorem dX9_swapNow_63 : decode cX9_swapNow 63 = .ok (.if_icmp .ne 8, 3) := dk_160 0 8 (dk_at dksX9_swapNow_2 17 rfl rfl)
theorem dX9_swapNow_66 : decode cX9_swapNow 66 = .ok (.iload 4, 2) := dk_21 4 (dk_at dksX9_swapNow_2 20 rfl rfl)
theorem dX9_swapNow_68 : decode cX9_swapNow 68 = .ok (.goto 16, 3) := dk_167 0 16 (dk_at dksX9_swapNow_3 0 rfl rfl)
theorem dX9_swapNow_71 : decode cX9_swapNow 71 = .ok (.iload 7, 2) := dk_21 7 (dk_at dksX9_swapNow_3 3 rfl rfl)
theorem dX9_swapNow_73 : decode cX9_swapNow 73 = .ok (.iload 4, 2) := dk_21 4 (dk_at dksX9_swapNow_3 5 rfl rfl)
theorem dX9_swapNow_75 : decode cX9_swapNow 75 = .ok (.if_icmp .ne 7, 3) := dk_160 0 7 (dk_at dksX9_swapNow_3 7 rfl rfl)
theorem dX9_swapNow_78 : decode cX9_swapNow 78 = .ok (.iload_n 3, 1) := dk_29 (dk_at dksX9_swapNow_3 10 rfl rfl)
theorem dX9_swapNow_79 : decode cX9_swapNow 79 = .ok (.goto 5, 3) := dk_167 0 5 (dk_at dksX9_swapNow_3 11 rfl rfl)
theorem dX9_swapNow_82 : decode cX9_swapNow 82 = .ok (.iload 7, 2) := dk_21 7 (dk_at dksX9_swapNow_3 14 rfl rfl)
theorem dX9_swapNow_84 : decode cX9_swapNow 84 = .ok (.iastore, 1) := dk_79 (dk_at dksX9_swapNow_3 16 rfl rfl)
theorem dX9_swapNow_85 : decode cX9_swapNow 85 = .ok (.iload 5, 2) := dk_21 5 (dk_at dksX9_swapNow_3 17 rfl rfl)
theorem dX9_swapNow_87 : decode cX9_swapNow 87 = .ok (.iload 7, 2) := dk_21 7 (dk_at dksX9_swapNow_3 19 rfl rfl)
theorem dX9_swapNow_89 : decode cX9_swapNow 89 = .ok (.iload_n 3, 1) := dk_29 (dk_at dksX9_swapNow_3 21 rfl rfl)
theorem dX9_swapNow_90 : decode cX9_swapNow 90 = .ok (.if_icmp .eq 10, 3) := dk_159 0 10 (dk_at dksX9_swapNow_4 0 rfl rfl)
theorem dX9_swapNow_93 : decode cX9_swapNow 93 = .ok (.iload 7, 2) := dk_21 7 (dk_at dksX9_swapNow_4 3 rfl rfl)
theorem dX9_swapNow_95 : decode cX9_swapNow 95 = .ok (.iload 4, 2) := dk_21 4 (dk_at dksX9_swapNow_4 5 rfl rfl)
theorem dX9_swapNow_97 : decode cX9_swapNow 97 = .ok (.if_icmp .ne 7, 3) := dk_160 0 7 (dk_at dksX9_swapNow_4 7 rfl rfl)
theorem dX9_swapNow_100 : decode cX9_swapNow 100 = .ok (.iconst 1, 1) := dk_4 (dk_at dksX9_swapNow_4 10 rfl rfl)
theorem dX9_swapNow_101 : decode cX9_swapNow 101 = .ok (.goto 4, 3) := dk_167 0 4 (dk_at dksX9_swapNow_4 11 rfl rfl)
theorem dX9_swapNow_104 : decode cX9_swapNow 104 = .ok (.iconst 0, 1) := dk_3 (dk_at dksX9_swapNow_4 14 rfl rfl)
theorem dX9_swapNow_105 : decode cX9_swapNow 105 = .ok (.invokestatic 113, 3) := dk_184 0 113 (dk_at dksX9_swapNow_4 15 rfl rfl)
theorem dX9_swapNow_108 : decode cX9_swapNow 108 = .ok (.iadd, 1) := dk_96 (dk_at dksX9_swapNow_4 18 rfl rfl)
theorem dX9_swapNow_109 : decode cX9_swapNow 109 = .ok (.istore 5, 2) := dk_54 5 (dk_at dksX9_swapNow_4 19 rfl rfl)
theorem dX9_swapNow_111 : decode cX9_swapNow 111 = .ok (.iinc 6 1, 3) := dk_132 6 1 (dk_at dksX9_swapNow_4 21 rfl rfl)
theorem dX9_swapNow_114 : decode cX9_swapNow 114 = .ok (.goto (-80), 3) := dk_167 255 176 (dk_at dksX9_swapNow_5 0 rfl rfl)
theorem dX9_swapNow_117 : decode cX9_swapNow 117 = .ok (.aload_n 0, 1) := dk_42 (dk_at dksX9_swapNow_5 3 rfl rfl)
theorem dX9_swapNow_118 : decode cX9_swapNow 118 = .ok (.bipush 6, 2) := dk_16 6 (dk_at dksX9_swapNow_5 4 rfl rfl)
theorem dX9_swapNow_120 : decode cX9_swapNow 120 = .ok (.iload 5, 2) := dk_21 5 (dk_at dksX9_swapNow_5 6 rfl rfl)
theorem dX9_swapNow_122 : decode cX9_swapNow 122 = .ok (.invokevirtual 140, 3) := dk_182 0 140 (dk_at dksX9_swapNow_5 8 rfl rfl)
theorem dX9_swapNow_125 : decode cX9_swapNow 125 = .ok (.aload_n 0, 1) := dk_42 (dk_at dksX9_swapNow_5 11 rfl rfl)
theorem dX9_swapNow_126 : decode cX9_swapNow 126 = .ok (.invokevirtual 418, 3) := dk_182 1 162 (dk_at dksX9_swapNow_5 12 rfl rfl)
theorem dX9_swapNow_129 : decode cX9_swapNow 129 = .ok (.iload 5, 2) := dk_21 5 (dk_at dksX9_swapNow_5 15 rfl rfl)
theorem dX9_swapNow_131 : decode cX9_swapNow 131 = .ok (.ireturn, 1) := dk_172 (dk_at dksX9_swapNow_5 17 rfl rfl)
abbrev cX9_takeNow : ByteArray := prog_29_method_112_code
def yX9_takeNow : MethodName := ⟨RX9, "takeNow", "(III)I"⟩
def dkwX9_takeNow_3 : List UInt8 := [4, 182, 0, 140, 42, 182, 1, 162, 42, 27, 182, 1, 126, 172]
abbrev dktX9_takeNow_3 : List UInt8 := dkwX9_takeNow_3 ++ []
def dkwX9_takeNow_2 : List UInt8 := [42, 180, 0, 9, 16, 16, 28, 96, 21, 4, 96, 46, 182, 0, 219, 132, 4, 1, 167, 255, 225, 42, 16, 7]
abbrev dktX9_takeNow_2 : List UInt8 := dkwX9_takeNow_2 ++ dktX9_takeNow_3
def dkwX9_takeNow_1 : List UInt8 := [172, 42, 27, 3, 29, 182, 0, 219, 3, 54, 4, 21, 4, 29, 162, 0, 31, 42, 27, 16, 10, 21, 4, 96]
abbrev dktX9_takeNow_1 : List UInt8 := dkwX9_takeNow_1 ++ dktX9_takeNow_2
def dkwX9_takeNow_0 : List UInt8 := [28, 42, 180, 0, 9, 4, 46, 162, 0, 15, 28, 29, 96, 42, 180, 0, 9, 4, 46, 164, 0, 6, 16, 252]
abbrev dktX9_takeNow_0 : List UInt8 := dkwX9_takeNow_0 ++ dktX9_takeNow_1
theorem dksX9_takeNow_0 : cX9_takeNow.data.toList.drop 0 = dktX9_takeNow_0 := by decide +kernel
theorem dksX9_takeNow_1 : cX9_takeNow.data.toList.drop 24 = dktX9_takeNow_1 := dk_seg dksX9_takeNow_0 24 rfl rfl
theorem dksX9_takeNow_2 : cX9_takeNow.data.toList.drop 48 = dktX9_takeNow_2 := dk_seg dksX9_takeNow_1 24 rfl rfl
theorem dksX9_takeNow_3 : cX9_takeNow.data.toList.drop 72 = dktX9_takeNow_3 := dk_seg dksX9_takeNow_2 24 rfl rfl
theorem dX9_takeNow_0 : decode cX9_takeNow 0 = .ok (.iload_n 2, 1) := dk_28 (dk_at dksX9_takeNow_0 0 rfl rfl)
theorem dX9_takeNow_1 : decode cX9_takeNow 1 = .ok (.aload_n 0, 1) := dk_42 (dk_at dksX9_takeNow_0 1 rfl rfl)
theorem dX9_takeNow_2 : decode cX9_takeNow 2 = .ok (.getfield 9, 3) := dk_180 0 9 (dk_at dksX9_takeNow_0 2 rfl rfl)
theorem dX9_takeNow_5 : decode cX9_takeNow 5 = .ok (.iconst 1, 1) := dk_4 (dk_at dksX9_takeNow_0 5 rfl rfl)
theorem dX9_takeNow_6 : decode cX9_takeNow 6 = .ok (.iaload, 1) := dk_46 (dk_at dksX9_takeNow_0 6 rfl rfl)
theorem dX9_takeNow_7 : decode cX9_takeNow 7 = .ok (.if_icmp .ge 15, 3) := dk_162 0 15 (dk_at dksX9_takeNow_0 7 rfl rfl)
theorem dX9_takeNow_10 : decode cX9_takeNow 10 = .ok (.iload_n 2, 1) := dk_28 (dk_at dksX9_takeNow_0 10 rfl rfl)
theorem dX9_takeNow_11 : decode cX9_takeNow 11 = .ok (.iload_n 3, 1) := dk_29 (dk_at dksX9_takeNow_0 11 rfl rfl)
theorem dX9_takeNow_12 : decode cX9_takeNow 12 = .ok (.iadd, 1) := dk_96 (dk_at dksX9_takeNow_0 12 rfl rfl)
theorem dX9_takeNow_13 : decode cX9_takeNow 13 = .ok (.aload_n 0, 1) := dk_42 (dk_at dksX9_takeNow_0 13 rfl rfl)
theorem dX9_takeNow_14 : decode cX9_takeNow 14 = .ok (.getfield 9, 3) := dk_180 0 9 (dk_at dksX9_takeNow_0 14 rfl rfl)
theorem dX9_takeNow_17 : decode cX9_takeNow 17 = .ok (.iconst 1, 1) := dk_4 (dk_at dksX9_takeNow_0 17 rfl rfl)
theorem dX9_takeNow_18 : decode cX9_takeNow 18 = .ok (.iaload, 1) := dk_46 (dk_at dksX9_takeNow_0 18 rfl rfl)
theorem dX9_takeNow_19 : decode cX9_takeNow 19 = .ok (.if_icmp .le 6, 3) := dk_164 0 6 (dk_at dksX9_takeNow_0 19 rfl rfl)
theorem dX9_takeNow_22 : decode cX9_takeNow 22 = .ok (.bipush (-4), 2) := dk_16 252 (dk_at dksX9_takeNow_0 22 rfl rfl)
theorem dX9_takeNow_24 : decode cX9_takeNow 24 = .ok (.ireturn, 1) := dk_172 (dk_at dksX9_takeNow_1 0 rfl rfl)
theorem dX9_takeNow_25 : decode cX9_takeNow 25 = .ok (.aload_n 0, 1) := dk_42 (dk_at dksX9_takeNow_1 1 rfl rfl)
theorem dX9_takeNow_26 : decode cX9_takeNow 26 = .ok (.iload_n 1, 1) := dk_27 (dk_at dksX9_takeNow_1 2 rfl rfl)
theorem dX9_takeNow_27 : decode cX9_takeNow 27 = .ok (.iconst 0, 1) := dk_3 (dk_at dksX9_takeNow_1 3 rfl rfl)
theorem dX9_takeNow_28 : decode cX9_takeNow 28 = .ok (.iload_n 3, 1) := dk_29 (dk_at dksX9_takeNow_1 4 rfl rfl)
theorem dX9_takeNow_29 : decode cX9_takeNow 29 = .ok (.invokevirtual 219, 3) := dk_182 0 219 (dk_at dksX9_takeNow_1 5 rfl rfl)
theorem dX9_takeNow_32 : decode cX9_takeNow 32 = .ok (.iconst 0, 1) := dk_3 (dk_at dksX9_takeNow_1 8 rfl rfl)
theorem dX9_takeNow_33 : decode cX9_takeNow 33 = .ok (.istore 4, 2) := dk_54 4 (dk_at dksX9_takeNow_1 9 rfl rfl)
theorem dX9_takeNow_35 : decode cX9_takeNow 35 = .ok (.iload 4, 2) := dk_21 4 (dk_at dksX9_takeNow_1 11 rfl rfl)
theorem dX9_takeNow_37 : decode cX9_takeNow 37 = .ok (.iload_n 3, 1) := dk_29 (dk_at dksX9_takeNow_1 13 rfl rfl)
theorem dX9_takeNow_38 : decode cX9_takeNow 38 = .ok (.if_icmp .ge 31, 3) := dk_162 0 31 (dk_at dksX9_takeNow_1 14 rfl rfl)
theorem dX9_takeNow_41 : decode cX9_takeNow 41 = .ok (.aload_n 0, 1) := dk_42 (dk_at dksX9_takeNow_1 17 rfl rfl)
theorem dX9_takeNow_42 : decode cX9_takeNow 42 = .ok (.iload_n 1, 1) := dk_27 (dk_at dksX9_takeNow_1 18 rfl rfl)
theorem dX9_takeNow_43 : decode cX9_takeNow 43 = .ok (.bipush 10, 2) := dk_16 10 (dk_at dksX9_takeNow_1 19 rfl rfl)
theorem dX9_takeNow_45 : decode cX9_takeNow 45 = .ok (.iload 4, 2) := dk_21 4 (dk_at dksX9_takeNow_1 21 rfl rfl)
theorem dX9_takeNow_47 : decode cX9_takeNow 47 = .ok (.iadd, 1) := dk_96 (dk_at dksX9_takeNow_1 23 rfl rfl)
theorem dX9_takeNow_48 : decode cX9_takeNow 48 = .ok (.aload_n 0, 1) := dk_42 (dk_at dksX9_takeNow_2 0 rfl rfl)
theorem dX9_takeNow_49 : decode cX9_takeNow 49 = .ok (.getfield 9, 3) := dk_180 0 9 (dk_at dksX9_takeNow_2 1 rfl rfl)
theorem dX9_takeNow_52 : decode cX9_takeNow 52 = .ok (.bipush 16, 2) := dk_16 16 (dk_at dksX9_takeNow_2 4 rfl rfl)
theorem dX9_takeNow_54 : decode cX9_takeNow 54 = .ok (.iload_n 2, 1) := dk_28 (dk_at dksX9_takeNow_2 6 rfl rfl)
theorem dX9_takeNow_55 : decode cX9_takeNow 55 = .ok (.iadd, 1) := dk_96 (dk_at dksX9_takeNow_2 7 rfl rfl)
theorem dX9_takeNow_56 : decode cX9_takeNow 56 = .ok (.iload 4, 2) := dk_21 4 (dk_at dksX9_takeNow_2 8 rfl rfl)
theorem dX9_takeNow_58 : decode cX9_takeNow 58 = .ok (.iadd, 1) := dk_96 (dk_at dksX9_takeNow_2 10 rfl rfl)
theorem dX9_takeNow_59 : decode cX9_takeNow 59 = .ok (.iaload, 1) := dk_46 (dk_at dksX9_takeNow_2 11 rfl rfl)
theorem dX9_takeNow_60 : decode cX9_takeNow 60 = .ok (.invokevirtual 219, 3) := dk_182 0 219 (dk_at dksX9_takeNow_2 12 rfl rfl)
theorem dX9_takeNow_63 : decode cX9_takeNow 63 = .ok (.iinc 4 1, 3) := dk_132 4 1 (dk_at dksX9_takeNow_2 15 rfl rfl)
theorem dX9_takeNow_66 : decode cX9_takeNow 66 = .ok (.goto (-31), 3) := dk_167 255 225 (dk_at dksX9_takeNow_2 18 rfl rfl)
theorem dX9_takeNow_69 : decode cX9_takeNow 69 = .ok (.aload_n 0, 1) := dk_42 (dk_at dksX9_takeNow_2 21 rfl rfl)
theorem dX9_takeNow_70 : decode cX9_takeNow 70 = .ok (.bipush 7, 2) := dk_16 7 (dk_at dksX9_takeNow_2 22 rfl rfl)
theorem dX9_takeNow_72 : decode cX9_takeNow 72 = .ok (.iconst 1, 1) := dk_4 (dk_at dksX9_takeNow_3 0 rfl rfl)
theorem dX9_takeNow_73 : decode cX9_takeNow 73 = .ok (.invokevirtual 140, 3) := dk_182 0 140 (dk_at dksX9_takeNow_3 1 rfl rfl)
theorem dX9_takeNow_76 : decode cX9_takeNow 76 = .ok (.aload_n 0, 1) := dk_42 (dk_at dksX9_takeNow_3 4 rfl rfl)
theorem dX9_takeNow_77 : decode cX9_takeNow 77 = .ok (.invokevirtual 418, 3) := dk_182 1 162 (dk_at dksX9_takeNow_3 5 rfl rfl)
theorem dX9_takeNow_80 : decode cX9_takeNow 80 = .ok (.aload_n 0, 1) := dk_42 (dk_at dksX9_takeNow_3 8 rfl rfl)
theorem dX9_takeNow_81 : decode cX9_takeNow 81 = .ok (.iload_n 1, 1) := dk_27 (dk_at dksX9_takeNow_3 9 rfl rfl)
theorem dX9_takeNow_82 : decode cX9_takeNow 82 = .ok (.invokevirtual 382, 3) := dk_182 1 126 (dk_at dksX9_takeNow_3 10 rfl rfl)
theorem dX9_takeNow_85 : decode cX9_takeNow 85 = .ok (.ireturn, 1) := dk_172 (dk_at dksX9_takeNow_3 13 rfl rfl)
abbrev cX9_hits : ByteArray := prog_29_method_20_code
def yX9_hits : MethodName := ⟨RX9, "hits", "(I)I"⟩
def dkwX9_hits_1 : List UInt8 := [96, 61, 132, 3, 1, 167, 255, 231, 28, 172]
abbrev dktX9_hits_1 : List UInt8 := dkwX9_hits_1 ++ []
def dkwX9_hits_0 : List UInt8 := [3, 61, 3, 62, 29, 42, 180, 0, 9, 4, 46, 162, 0, 21, 28, 42, 27, 29, 182, 0, 109, 184, 0, 113]
abbrev dktX9_hits_0 : List UInt8 := dkwX9_hits_0 ++ dktX9_hits_1
theorem dksX9_hits_0 : cX9_hits.data.toList.drop 0 = dktX9_hits_0 := by decide +kernel
theorem dksX9_hits_1 : cX9_hits.data.toList.drop 24 = dktX9_hits_1 := dk_seg dksX9_hits_0 24 rfl rfl
theorem dX9_hits_0 : decode cX9_hits 0 = .ok (.iconst 0, 1) := dk_3 (dk_at dksX9_hits_0 0 rfl rfl)
theorem dX9_hits_1 : decode cX9_hits 1 = .ok (.istore_n 2, 1) := dk_61 (dk_at dksX9_hits_0 1 rfl rfl)
theorem dX9_hits_2 : decode cX9_hits 2 = .ok (.iconst 0, 1) := dk_3 (dk_at dksX9_hits_0 2 rfl rfl)
theorem dX9_hits_3 : decode cX9_hits 3 = .ok (.istore_n 3, 1) := dk_62 (dk_at dksX9_hits_0 3 rfl rfl)
theorem dX9_hits_4 : decode cX9_hits 4 = .ok (.iload_n 3, 1) := dk_29 (dk_at dksX9_hits_0 4 rfl rfl)
theorem dX9_hits_5 : decode cX9_hits 5 = .ok (.aload_n 0, 1) := dk_42 (dk_at dksX9_hits_0 5 rfl rfl)
theorem dX9_hits_6 : decode cX9_hits 6 = .ok (.getfield 9, 3) := dk_180 0 9 (dk_at dksX9_hits_0 6 rfl rfl)
theorem dX9_hits_9 : decode cX9_hits 9 = .ok (.iconst 1, 1) := dk_4 (dk_at dksX9_hits_0 9 rfl rfl)
theorem dX9_hits_10 : decode cX9_hits 10 = .ok (.iaload, 1) := dk_46 (dk_at dksX9_hits_0 10 rfl rfl)
theorem dX9_hits_11 : decode cX9_hits 11 = .ok (.if_icmp .ge 21, 3) := dk_162 0 21 (dk_at dksX9_hits_0 11 rfl rfl)
theorem dX9_hits_14 : decode cX9_hits 14 = .ok (.iload_n 2, 1) := dk_28 (dk_at dksX9_hits_0 14 rfl rfl)
theorem dX9_hits_15 : decode cX9_hits 15 = .ok (.aload_n 0, 1) := dk_42 (dk_at dksX9_hits_0 15 rfl rfl)
theorem dX9_hits_16 : decode cX9_hits 16 = .ok (.iload_n 1, 1) := dk_27 (dk_at dksX9_hits_0 16 rfl rfl)
theorem dX9_hits_17 : decode cX9_hits 17 = .ok (.iload_n 3, 1) := dk_29 (dk_at dksX9_hits_0 17 rfl rfl)
theorem dX9_hits_18 : decode cX9_hits 18 = .ok (.invokevirtual 109, 3) := dk_182 0 109 (dk_at dksX9_hits_0 18 rfl rfl)
theorem dX9_hits_21 : decode cX9_hits 21 = .ok (.invokestatic 113, 3) := dk_184 0 113 (dk_at dksX9_hits_0 21 rfl rfl)
theorem dX9_hits_24 : decode cX9_hits 24 = .ok (.iadd, 1) := dk_96 (dk_at dksX9_hits_1 0 rfl rfl)
theorem dX9_hits_25 : decode cX9_hits 25 = .ok (.istore_n 2, 1) := dk_61 (dk_at dksX9_hits_1 1 rfl rfl)
theorem dX9_hits_26 : decode cX9_hits 26 = .ok (.iinc 3 1, 3) := dk_132 3 1 (dk_at dksX9_hits_1 2 rfl rfl)
theorem dX9_hits_29 : decode cX9_hits 29 = .ok (.goto (-25), 3) := dk_167 255 231 (dk_at dksX9_hits_1 5 rfl rfl)
theorem dX9_hits_32 : decode cX9_hits 32 = .ok (.iload_n 2, 1) := dk_28 (dk_at dksX9_hits_1 8 rfl rfl)
theorem dX9_hits_33 : decode cX9_hits 33 = .ok (.ireturn, 1) := dk_172 (dk_at dksX9_hits_1 9 rfl rfl)
abbrev cX9_firmNow : ByteArray := prog_29_method_113_code
def yX9_firmNow : MethodName := ⟨RX9, "firmNow", "(I)I"⟩
def dkwX9_firmNow_0 : List UInt8 := [42, 180, 0, 9, 3, 46, 61, 42, 180, 0, 9, 3, 27, 79, 42, 182, 1, 162, 28, 172]
abbrev dktX9_firmNow_0 : List UInt8 := dkwX9_firmNow_0 ++ []
theorem dksX9_firmNow_0 : cX9_firmNow.data.toList.drop 0 = dktX9_firmNow_0 := by decide +kernel
theorem dX9_firmNow_0 : decode cX9_firmNow 0 = .ok (.aload_n 0, 1) := dk_42 (dk_at dksX9_firmNow_0 0 rfl rfl)
theorem dX9_firmNow_1 : decode cX9_firmNow 1 = .ok (.getfield 9, 3) := dk_180 0 9 (dk_at dksX9_firmNow_0 1 rfl rfl)
theorem dX9_firmNow_4 : decode cX9_firmNow 4 = .ok (.iconst 0, 1) := dk_3 (dk_at dksX9_firmNow_0 4 rfl rfl)
theorem dX9_firmNow_5 : decode cX9_firmNow 5 = .ok (.iaload, 1) := dk_46 (dk_at dksX9_firmNow_0 5 rfl rfl)
theorem dX9_firmNow_6 : decode cX9_firmNow 6 = .ok (.istore_n 2, 1) := dk_61 (dk_at dksX9_firmNow_0 6 rfl rfl)
theorem dX9_firmNow_7 : decode cX9_firmNow 7 = .ok (.aload_n 0, 1) := dk_42 (dk_at dksX9_firmNow_0 7 rfl rfl)
theorem dX9_firmNow_8 : decode cX9_firmNow 8 = .ok (.getfield 9, 3) := dk_180 0 9 (dk_at dksX9_firmNow_0 8 rfl rfl)
theorem dX9_firmNow_11 : decode cX9_firmNow 11 = .ok (.iconst 0, 1) := dk_3 (dk_at dksX9_firmNow_0 11 rfl rfl)
theorem dX9_firmNow_12 : decode cX9_firmNow 12 = .ok (.iload_n 1, 1) := dk_27 (dk_at dksX9_firmNow_0 12 rfl rfl)
theorem dX9_firmNow_13 : decode cX9_firmNow 13 = .ok (.iastore, 1) := dk_79 (dk_at dksX9_firmNow_0 13 rfl rfl)
theorem dX9_firmNow_14 : decode cX9_firmNow 14 = .ok (.aload_n 0, 1) := dk_42 (dk_at dksX9_firmNow_0 14 rfl rfl)
theorem dX9_firmNow_15 : decode cX9_firmNow 15 = .ok (.invokevirtual 418, 3) := dk_182 1 162 (dk_at dksX9_firmNow_0 15 rfl rfl)
theorem dX9_firmNow_18 : decode cX9_firmNow 18 = .ok (.iload_n 2, 1) := dk_28 (dk_at dksX9_firmNow_0 18 rfl rfl)
theorem dX9_firmNow_19 : decode cX9_firmNow 19 = .ok (.ireturn, 1) := dk_172 (dk_at dksX9_firmNow_0 19 rfl rfl)
abbrev cX9_size : ByteArray := prog_29_method_72_code
def yX9_size : MethodName := ⟨RX9, "size", "(I)I"⟩
def dkwX9_size_5 : List UInt8 := [180, 0, 9, 4, 46, 3, 182, 1, 107, 96, 172, 42, 182, 1, 111, 172, 42, 180, 1, 8, 172]
abbrev dktX9_size_5 : List UInt8 := dkwX9_size_5 ++ []
def dkwX9_size_4 : List UInt8 := [180, 0, 9, 6, 46, 172, 42, 16, 16, 42, 180, 0, 9, 4, 46, 4, 182, 1, 107, 42, 16, 16, 42]
abbrev dktX9_size_4 : List UInt8 := dkwX9_size_4 ++ dktX9_size_5
def dkwX9_size_3 : List UInt8 := [42, 180, 0, 9, 4, 46, 172, 42, 180, 0, 9, 5, 46, 172, 42, 180, 0, 9, 3, 46, 172, 42]
abbrev dktX9_size_3 : List UInt8 := dkwX9_size_3 ++ dktX9_size_4
def dkwX9_size_2 : List UInt8 := [170, 0, 0, 0, 98, 0, 0, 0, 0, 0, 0, 0, 5, 0, 0, 0, 37, 0, 0, 0, 44, 0, 0, 0, 51, 0, 0, 0, 58, 0, 0, 0, 65, 0, 0, 0, 93]
abbrev dktX9_size_2 : List UInt8 := dkwX9_size_2 ++ dktX9_size_3
def dkwX9_size_1 : List UInt8 := [182, 1, 104, 153, 0, 5, 3, 172, 27]
abbrev dktX9_size_1 : List UInt8 := dkwX9_size_1 ++ dktX9_size_2
def dkwX9_size_0 : List UInt8 := [42, 3, 181, 0, 69, 42, 27, 3, 16, 6, 184, 0, 160, 154, 0, 7, 4, 167, 0, 4, 3, 4]
abbrev dktX9_size_0 : List UInt8 := dkwX9_size_0 ++ dktX9_size_1
theorem dksX9_size_0 : cX9_size.data.toList.drop 0 = dktX9_size_0 := by decide +kernel
theorem dksX9_size_1 : cX9_size.data.toList.drop 22 = dktX9_size_1 := dk_seg dksX9_size_0 22 rfl rfl
theorem dksX9_size_2 : cX9_size.data.toList.drop 31 = dktX9_size_2 := dk_seg dksX9_size_1 9 rfl rfl
theorem dksX9_size_3 : cX9_size.data.toList.drop 68 = dktX9_size_3 := dk_seg dksX9_size_2 37 rfl rfl
theorem dksX9_size_4 : cX9_size.data.toList.drop 90 = dktX9_size_4 := dk_seg dksX9_size_3 22 rfl rfl
theorem dksX9_size_5 : cX9_size.data.toList.drop 113 = dktX9_size_5 := dk_seg dksX9_size_4 23 rfl rfl
theorem dX9_size_0 : decode cX9_size 0 = .ok (.aload_n 0, 1) := dk_42 (dk_at dksX9_size_0 0 rfl rfl)
theorem dX9_size_1 : decode cX9_size 1 = .ok (.iconst 0, 1) := dk_3 (dk_at dksX9_size_0 1 rfl rfl)
theorem dX9_size_2 : decode cX9_size 2 = .ok (.putfield 69, 3) := dk_181 0 69 (dk_at dksX9_size_0 2 rfl rfl)
theorem dX9_size_5 : decode cX9_size 5 = .ok (.aload_n 0, 1) := dk_42 (dk_at dksX9_size_0 5 rfl rfl)
theorem dX9_size_6 : decode cX9_size 6 = .ok (.iload_n 1, 1) := dk_27 (dk_at dksX9_size_0 6 rfl rfl)
theorem dX9_size_7 : decode cX9_size 7 = .ok (.iconst 0, 1) := dk_3 (dk_at dksX9_size_0 7 rfl rfl)
theorem dX9_size_8 : decode cX9_size 8 = .ok (.bipush 6, 2) := dk_16 6 (dk_at dksX9_size_0 8 rfl rfl)
theorem dX9_size_10 : decode cX9_size 10 = .ok (.invokestatic 160, 3) := dk_184 0 160 (dk_at dksX9_size_0 10 rfl rfl)
theorem dX9_size_13 : decode cX9_size 13 = .ok (.ifCond .ne 7, 3) := dk_154 0 7 (dk_at dksX9_size_0 13 rfl rfl)
theorem dX9_size_16 : decode cX9_size 16 = .ok (.iconst 1, 1) := dk_4 (dk_at dksX9_size_0 16 rfl rfl)
theorem dX9_size_17 : decode cX9_size 17 = .ok (.goto 4, 3) := dk_167 0 4 (dk_at dksX9_size_0 17 rfl rfl)
theorem dX9_size_20 : decode cX9_size 20 = .ok (.iconst 0, 1) := dk_3 (dk_at dksX9_size_0 20 rfl rfl)
theorem dX9_size_21 : decode cX9_size 21 = .ok (.iconst 1, 1) := dk_4 (dk_at dksX9_size_0 21 rfl rfl)
theorem dX9_size_22 : decode cX9_size 22 = .ok (.invokevirtual 360, 3) := dk_182 1 104 (dk_at dksX9_size_1 0 rfl rfl)
theorem dX9_size_25 : decode cX9_size 25 = .ok (.ifCond .eq 5, 3) := dk_153 0 5 (dk_at dksX9_size_1 3 rfl rfl)
theorem dX9_size_28 : decode cX9_size 28 = .ok (.iconst 0, 1) := dk_3 (dk_at dksX9_size_1 6 rfl rfl)
theorem dX9_size_29 : decode cX9_size 29 = .ok (.ireturn, 1) := dk_172 (dk_at dksX9_size_1 7 rfl rfl)
theorem dX9_size_30 : decode cX9_size 30 = .ok (.iload_n 1, 1) := dk_27 (dk_at dksX9_size_1 8 rfl rfl)
theorem dX9_size_31 : decode cX9_size 31 = .ok (.tableswitch 98 0 5 #[37, 44, 51, 58, 65, 93], 37) := by decide +kernel
theorem dX9_size_68 : decode cX9_size 68 = .ok (.aload_n 0, 1) := dk_42 (dk_at dksX9_size_3 0 rfl rfl)
theorem dX9_size_69 : decode cX9_size 69 = .ok (.getfield 9, 3) := dk_180 0 9 (dk_at dksX9_size_3 1 rfl rfl)
theorem dX9_size_72 : decode cX9_size 72 = .ok (.iconst 1, 1) := dk_4 (dk_at dksX9_size_3 4 rfl rfl)
theorem dX9_size_73 : decode cX9_size 73 = .ok (.iaload, 1) := dk_46 (dk_at dksX9_size_3 5 rfl rfl)
theorem dX9_size_74 : decode cX9_size 74 = .ok (.ireturn, 1) := dk_172 (dk_at dksX9_size_3 6 rfl rfl)
theorem dX9_size_75 : decode cX9_size 75 = .ok (.aload_n 0, 1) := dk_42 (dk_at dksX9_size_3 7 rfl rfl)
theorem dX9_size_76 : decode cX9_size 76 = .ok (.getfield 9, 3) := dk_180 0 9 (dk_at dksX9_size_3 8 rfl rfl)
theorem dX9_size_79 : decode cX9_size 79 = .ok (.iconst 2, 1) := dk_5 (dk_at dksX9_size_3 11 rfl rfl)
theorem dX9_size_80 : decode cX9_size 80 = .ok (.iaload, 1) := dk_46 (dk_at dksX9_size_3 12 rfl rfl)
theorem dX9_size_81 : decode cX9_size 81 = .ok (.ireturn, 1) := dk_172 (dk_at dksX9_size_3 13 rfl rfl)
theorem dX9_size_82 : decode cX9_size 82 = .ok (.aload_n 0, 1) := dk_42 (dk_at dksX9_size_3 14 rfl rfl)
theorem dX9_size_83 : decode cX9_size 83 = .ok (.getfield 9, 3) := dk_180 0 9 (dk_at dksX9_size_3 15 rfl rfl)
theorem dX9_size_86 : decode cX9_size 86 = .ok (.iconst 0, 1) := dk_3 (dk_at dksX9_size_3 18 rfl rfl)
theorem dX9_size_87 : decode cX9_size 87 = .ok (.iaload, 1) := dk_46 (dk_at dksX9_size_3 19 rfl rfl)
theorem dX9_size_88 : decode cX9_size 88 = .ok (.ireturn, 1) := dk_172 (dk_at dksX9_size_3 20 rfl rfl)
theorem dX9_size_89 : decode cX9_size 89 = .ok (.aload_n 0, 1) := dk_42 (dk_at dksX9_size_3 21 rfl rfl)
theorem dX9_size_90 : decode cX9_size 90 = .ok (.getfield 9, 3) := dk_180 0 9 (dk_at dksX9_size_4 0 rfl rfl)
theorem dX9_size_93 : decode cX9_size 93 = .ok (.iconst 3, 1) := dk_6 (dk_at dksX9_size_4 3 rfl rfl)
theorem dX9_size_94 : decode cX9_size 94 = .ok (.iaload, 1) := dk_46 (dk_at dksX9_size_4 4 rfl rfl)
theorem dX9_size_95 : decode cX9_size 95 = .ok (.ireturn, 1) := dk_172 (dk_at dksX9_size_4 5 rfl rfl)
theorem dX9_size_96 : decode cX9_size 96 = .ok (.aload_n 0, 1) := dk_42 (dk_at dksX9_size_4 6 rfl rfl)
theorem dX9_size_97 : decode cX9_size 97 = .ok (.bipush 16, 2) := dk_16 16 (dk_at dksX9_size_4 7 rfl rfl)
theorem dX9_size_99 : decode cX9_size 99 = .ok (.aload_n 0, 1) := dk_42 (dk_at dksX9_size_4 9 rfl rfl)
theorem dX9_size_100 : decode cX9_size 100 = .ok (.getfield 9, 3) := dk_180 0 9 (dk_at dksX9_size_4 10 rfl rfl)
theorem dX9_size_103 : decode cX9_size 103 = .ok (.iconst 1, 1) := dk_4 (dk_at dksX9_size_4 13 rfl rfl)
theorem dX9_size_104 : decode cX9_size 104 = .ok (.iaload, 1) := dk_46 (dk_at dksX9_size_4 14 rfl rfl)
theorem dX9_size_105 : decode cX9_size 105 = .ok (.iconst 1, 1) := dk_4 (dk_at dksX9_size_4 15 rfl rfl)
theorem dX9_size_106 : decode cX9_size 106 = .ok (.invokevirtual 363, 3) := dk_182 1 107 (dk_at dksX9_size_4 16 rfl rfl)
theorem dX9_size_109 : decode cX9_size 109 = .ok (.aload_n 0, 1) := dk_42 (dk_at dksX9_size_4 19 rfl rfl)
theorem dX9_size_110 : decode cX9_size 110 = .ok (.bipush 16, 2) := dk_16 16 (dk_at dksX9_size_4 20 rfl rfl)
theorem dX9_size_112 : decode cX9_size 112 = .ok (.aload_n 0, 1) := dk_42 (dk_at dksX9_size_4 22 rfl rfl)
theorem dX9_size_113 : decode cX9_size 113 = .ok (.getfield 9, 3) := dk_180 0 9 (dk_at dksX9_size_5 0 rfl rfl)
theorem dX9_size_116 : decode cX9_size 116 = .ok (.iconst 1, 1) := dk_4 (dk_at dksX9_size_5 3 rfl rfl)
theorem dX9_size_117 : decode cX9_size 117 = .ok (.iaload, 1) := dk_46 (dk_at dksX9_size_5 4 rfl rfl)
theorem dX9_size_118 : decode cX9_size 118 = .ok (.iconst 0, 1) := dk_3 (dk_at dksX9_size_5 5 rfl rfl)
theorem dX9_size_119 : decode cX9_size 119 = .ok (.invokevirtual 363, 3) := dk_182 1 107 (dk_at dksX9_size_5 6 rfl rfl)
theorem dX9_size_122 : decode cX9_size 122 = .ok (.iadd, 1) := dk_96 (dk_at dksX9_size_5 9 rfl rfl)
theorem dX9_size_123 : decode cX9_size 123 = .ok (.ireturn, 1) := dk_172 (dk_at dksX9_size_5 10 rfl rfl)
theorem dX9_size_124 : decode cX9_size 124 = .ok (.aload_n 0, 1) := dk_42 (dk_at dksX9_size_5 11 rfl rfl)
theorem dX9_size_125 : decode cX9_size 125 = .ok (.invokevirtual 367, 3) := dk_182 1 111 (dk_at dksX9_size_5 12 rfl rfl)
theorem dX9_size_128 : decode cX9_size 128 = .ok (.ireturn, 1) := dk_172 (dk_at dksX9_size_5 15 rfl rfl)
theorem dX9_size_129 : decode cX9_size 129 = .ok (.aload_n 0, 1) := dk_42 (dk_at dksX9_size_5 16 rfl rfl)
theorem dX9_size_130 : decode cX9_size 130 = .ok (.getfield 264, 3) := dk_180 1 8 (dk_at dksX9_size_5 17 rfl rfl)
theorem dX9_size_133 : decode cX9_size 133 = .ok (.ireturn, 1) := dk_172 (dk_at dksX9_size_5 20 rfl rfl)
abbrev cX9_fails : ByteArray := prog_29_method_5_code
def yX9_fails : MethodName := ⟨RX9, "fails", "(ZI)Z"⟩
def dkwX9_fails_1 : List UInt8 := [167, 0, 4, 3, 172]
abbrev dktX9_fails_1 : List UInt8 := dkwX9_fails_1 ++ []
def dkwX9_fails_0 : List UInt8 := [42, 180, 0, 69, 154, 0, 12, 27, 153, 0, 8, 42, 28, 181, 0, 69, 42, 180, 0, 69, 153, 0, 7, 4]
abbrev dktX9_fails_0 : List UInt8 := dkwX9_fails_0 ++ dktX9_fails_1
theorem dksX9_fails_0 : cX9_fails.data.toList.drop 0 = dktX9_fails_0 := by decide +kernel
theorem dksX9_fails_1 : cX9_fails.data.toList.drop 24 = dktX9_fails_1 := dk_seg dksX9_fails_0 24 rfl rfl
theorem dX9_fails_0 : decode cX9_fails 0 = .ok (.aload_n 0, 1) := dk_42 (dk_at dksX9_fails_0 0 rfl rfl)
theorem dX9_fails_1 : decode cX9_fails 1 = .ok (.getfield 69, 3) := dk_180 0 69 (dk_at dksX9_fails_0 1 rfl rfl)
theorem dX9_fails_4 : decode cX9_fails 4 = .ok (.ifCond .ne 12, 3) := dk_154 0 12 (dk_at dksX9_fails_0 4 rfl rfl)
theorem dX9_fails_7 : decode cX9_fails 7 = .ok (.iload_n 1, 1) := dk_27 (dk_at dksX9_fails_0 7 rfl rfl)
theorem dX9_fails_8 : decode cX9_fails 8 = .ok (.ifCond .eq 8, 3) := dk_153 0 8 (dk_at dksX9_fails_0 8 rfl rfl)
theorem dX9_fails_11 : decode cX9_fails 11 = .ok (.aload_n 0, 1) := dk_42 (dk_at dksX9_fails_0 11 rfl rfl)
theorem dX9_fails_12 : decode cX9_fails 12 = .ok (.iload_n 2, 1) := dk_28 (dk_at dksX9_fails_0 12 rfl rfl)
theorem dX9_fails_13 : decode cX9_fails 13 = .ok (.putfield 69, 3) := dk_181 0 69 (dk_at dksX9_fails_0 13 rfl rfl)
theorem dX9_fails_16 : decode cX9_fails 16 = .ok (.aload_n 0, 1) := dk_42 (dk_at dksX9_fails_0 16 rfl rfl)
theorem dX9_fails_17 : decode cX9_fails 17 = .ok (.getfield 69, 3) := dk_180 0 69 (dk_at dksX9_fails_0 17 rfl rfl)
theorem dX9_fails_20 : decode cX9_fails 20 = .ok (.ifCond .eq 7, 3) := dk_153 0 7 (dk_at dksX9_fails_0 20 rfl rfl)
theorem dX9_fails_23 : decode cX9_fails 23 = .ok (.iconst 1, 1) := dk_4 (dk_at dksX9_fails_0 23 rfl rfl)
theorem dX9_fails_24 : decode cX9_fails 24 = .ok (.goto 4, 3) := dk_167 0 4 (dk_at dksX9_fails_1 0 rfl rfl)
theorem dX9_fails_27 : decode cX9_fails 27 = .ok (.iconst 0, 1) := dk_3 (dk_at dksX9_fails_1 3 rfl rfl)
theorem dX9_fails_28 : decode cX9_fails 28 = .ok (.ireturn, 1) := dk_172 (dk_at dksX9_fails_1 4 rfl rfl)
abbrev cX9_unlike : ByteArray := prog_29_method_70_code
def yX9_unlike : MethodName := ⟨RX9, "unlike", "(IIZ)I"⟩
def dkwX9_unlike_2 : List UInt8 := [160, 0, 7, 4, 167, 0, 4, 3, 184, 0, 113, 96, 54, 4, 132, 5, 1, 167, 255, 213, 21, 4, 172]
abbrev dktX9_unlike_2 : List UInt8 := dkwX9_unlike_2 ++ []
def dkwX9_unlike_1 : List UInt8 := [162, 0, 42, 21, 4, 42, 180, 0, 29, 21, 5, 46, 158, 0, 17, 42, 21, 5, 182, 0, 72, 29]
abbrev dktX9_unlike_1 : List UInt8 := dkwX9_unlike_1 ++ dktX9_unlike_2
def dkwX9_unlike_0 : List UInt8 := [42, 180, 0, 29, 42, 180, 0, 9, 27, 28, 184, 0, 117, 3, 54, 4, 3, 54, 5, 21, 5, 16, 26]
abbrev dktX9_unlike_0 : List UInt8 := dkwX9_unlike_0 ++ dktX9_unlike_1
theorem dksX9_unlike_0 : cX9_unlike.data.toList.drop 0 = dktX9_unlike_0 := by decide +kernel
theorem dksX9_unlike_1 : cX9_unlike.data.toList.drop 23 = dktX9_unlike_1 := dk_seg dksX9_unlike_0 23 rfl rfl
theorem dksX9_unlike_2 : cX9_unlike.data.toList.drop 45 = dktX9_unlike_2 := dk_seg dksX9_unlike_1 22 rfl rfl
theorem dX9_unlike_0 : decode cX9_unlike 0 = .ok (.aload_n 0, 1) := dk_42 (dk_at dksX9_unlike_0 0 rfl rfl)
theorem dX9_unlike_1 : decode cX9_unlike 1 = .ok (.getfield 29, 3) := dk_180 0 29 (dk_at dksX9_unlike_0 1 rfl rfl)
theorem dX9_unlike_4 : decode cX9_unlike 4 = .ok (.aload_n 0, 1) := dk_42 (dk_at dksX9_unlike_0 4 rfl rfl)
theorem dX9_unlike_5 : decode cX9_unlike 5 = .ok (.getfield 9, 3) := dk_180 0 9 (dk_at dksX9_unlike_0 5 rfl rfl)
theorem dX9_unlike_8 : decode cX9_unlike 8 = .ok (.iload_n 1, 1) := dk_27 (dk_at dksX9_unlike_0 8 rfl rfl)
theorem dX9_unlike_9 : decode cX9_unlike 9 = .ok (.iload_n 2, 1) := dk_28 (dk_at dksX9_unlike_0 9 rfl rfl)
theorem dX9_unlike_10 : decode cX9_unlike 10 = .ok (.invokestatic 117, 3) := dk_184 0 117 (dk_at dksX9_unlike_0 10 rfl rfl)
theorem dX9_unlike_13 : decode cX9_unlike 13 = .ok (.iconst 0, 1) := dk_3 (dk_at dksX9_unlike_0 13 rfl rfl)
theorem dX9_unlike_14 : decode cX9_unlike 14 = .ok (.istore 4, 2) := dk_54 4 (dk_at dksX9_unlike_0 14 rfl rfl)
theorem dX9_unlike_16 : decode cX9_unlike 16 = .ok (.iconst 0, 1) := dk_3 (dk_at dksX9_unlike_0 16 rfl rfl)
theorem dX9_unlike_17 : decode cX9_unlike 17 = .ok (.istore 5, 2) := dk_54 5 (dk_at dksX9_unlike_0 17 rfl rfl)
theorem dX9_unlike_19 : decode cX9_unlike 19 = .ok (.iload 5, 2) := dk_21 5 (dk_at dksX9_unlike_0 19 rfl rfl)
theorem dX9_unlike_21 : decode cX9_unlike 21 = .ok (.bipush 26, 2) := dk_16 26 (dk_at dksX9_unlike_0 21 rfl rfl)
theorem dX9_unlike_23 : decode cX9_unlike 23 = .ok (.if_icmp .ge 42, 3) := dk_162 0 42 (dk_at dksX9_unlike_1 0 rfl rfl)
theorem dX9_unlike_26 : decode cX9_unlike 26 = .ok (.iload 4, 2) := dk_21 4 (dk_at dksX9_unlike_1 3 rfl rfl)
theorem dX9_unlike_28 : decode cX9_unlike 28 = .ok (.aload_n 0, 1) := dk_42 (dk_at dksX9_unlike_1 5 rfl rfl)
theorem dX9_unlike_29 : decode cX9_unlike 29 = .ok (.getfield 29, 3) := dk_180 0 29 (dk_at dksX9_unlike_1 6 rfl rfl)
theorem dX9_unlike_32 : decode cX9_unlike 32 = .ok (.iload 5, 2) := dk_21 5 (dk_at dksX9_unlike_1 9 rfl rfl)
theorem dX9_unlike_34 : decode cX9_unlike 34 = .ok (.iaload, 1) := dk_46 (dk_at dksX9_unlike_1 11 rfl rfl)
theorem dX9_unlike_35 : decode cX9_unlike 35 = .ok (.ifCond .le 17, 3) := dk_158 0 17 (dk_at dksX9_unlike_1 12 rfl rfl)
theorem dX9_unlike_38 : decode cX9_unlike 38 = .ok (.aload_n 0, 1) := dk_42 (dk_at dksX9_unlike_1 15 rfl rfl)
theorem dX9_unlike_39 : decode cX9_unlike 39 = .ok (.iload 5, 2) := dk_21 5 (dk_at dksX9_unlike_1 16 rfl rfl)
theorem dX9_unlike_41 : decode cX9_unlike 41 = .ok (.invokevirtual 72, 3) := dk_182 0 72 (dk_at dksX9_unlike_1 18 rfl rfl)
theorem dX9_unlike_44 : decode cX9_unlike 44 = .ok (.iload_n 3, 1) := dk_29 (dk_at dksX9_unlike_1 21 rfl rfl)
theorem dX9_unlike_45 : decode cX9_unlike 45 = .ok (.if_icmp .ne 7, 3) := dk_160 0 7 (dk_at dksX9_unlike_2 0 rfl rfl)
theorem dX9_unlike_48 : decode cX9_unlike 48 = .ok (.iconst 1, 1) := dk_4 (dk_at dksX9_unlike_2 3 rfl rfl)
theorem dX9_unlike_49 : decode cX9_unlike 49 = .ok (.goto 4, 3) := dk_167 0 4 (dk_at dksX9_unlike_2 4 rfl rfl)
theorem dX9_unlike_52 : decode cX9_unlike 52 = .ok (.iconst 0, 1) := dk_3 (dk_at dksX9_unlike_2 7 rfl rfl)
theorem dX9_unlike_53 : decode cX9_unlike 53 = .ok (.invokestatic 113, 3) := dk_184 0 113 (dk_at dksX9_unlike_2 8 rfl rfl)
theorem dX9_unlike_56 : decode cX9_unlike 56 = .ok (.iadd, 1) := dk_96 (dk_at dksX9_unlike_2 11 rfl rfl)
theorem dX9_unlike_57 : decode cX9_unlike 57 = .ok (.istore 4, 2) := dk_54 4 (dk_at dksX9_unlike_2 12 rfl rfl)
theorem dX9_unlike_59 : decode cX9_unlike 59 = .ok (.iinc 5 1, 3) := dk_132 5 1 (dk_at dksX9_unlike_2 14 rfl rfl)
theorem dX9_unlike_62 : decode cX9_unlike 62 = .ok (.goto (-43), 3) := dk_167 255 213 (dk_at dksX9_unlike_2 17 rfl rfl)
theorem dX9_unlike_65 : decode cX9_unlike 65 = .ok (.iload 4, 2) := dk_21 4 (dk_at dksX9_unlike_2 20 rfl rfl)
theorem dX9_unlike_67 : decode cX9_unlike 67 = .ok (.ireturn, 1) := dk_172 (dk_at dksX9_unlike_2 22 rfl rfl)
abbrev cX9_counts0 : ByteArray := prog_29_method_21_code
def yX9_counts0 : MethodName := ⟨RX9, "counts0", "([I[III)V"⟩
def dkwX9_counts0_2 : List UInt8 := [177]
abbrev dktX9_counts0_2 : List UInt8 := dkwX9_counts0_2 ++ []
def dkwX9_counts0_1 : List UInt8 := [21, 4, 29, 162, 0, 21, 42, 43, 28, 21, 4, 96, 46, 92, 46, 4, 96, 79, 132, 4, 1, 167, 255, 235]
abbrev dktX9_counts0_1 : List UInt8 := dkwX9_counts0_1 ++ dktX9_counts0_2
def dkwX9_counts0_0 : List UInt8 := [3, 54, 4, 21, 4, 16, 26, 162, 0, 14, 42, 21, 4, 3, 79, 132, 4, 1, 167, 255, 241, 3, 54, 4]
abbrev dktX9_counts0_0 : List UInt8 := dkwX9_counts0_0 ++ dktX9_counts0_1
theorem dksX9_counts0_0 : cX9_counts0.data.toList.drop 0 = dktX9_counts0_0 := by decide +kernel
theorem dksX9_counts0_1 : cX9_counts0.data.toList.drop 24 = dktX9_counts0_1 := dk_seg dksX9_counts0_0 24 rfl rfl
theorem dksX9_counts0_2 : cX9_counts0.data.toList.drop 48 = dktX9_counts0_2 := dk_seg dksX9_counts0_1 24 rfl rfl
theorem dX9_counts0_0 : decode cX9_counts0 0 = .ok (.iconst 0, 1) := dk_3 (dk_at dksX9_counts0_0 0 rfl rfl)
theorem dX9_counts0_1 : decode cX9_counts0 1 = .ok (.istore 4, 2) := dk_54 4 (dk_at dksX9_counts0_0 1 rfl rfl)
theorem dX9_counts0_3 : decode cX9_counts0 3 = .ok (.iload 4, 2) := dk_21 4 (dk_at dksX9_counts0_0 3 rfl rfl)
theorem dX9_counts0_5 : decode cX9_counts0 5 = .ok (.bipush 26, 2) := dk_16 26 (dk_at dksX9_counts0_0 5 rfl rfl)
theorem dX9_counts0_7 : decode cX9_counts0 7 = .ok (.if_icmp .ge 14, 3) := dk_162 0 14 (dk_at dksX9_counts0_0 7 rfl rfl)
theorem dX9_counts0_10 : decode cX9_counts0 10 = .ok (.aload_n 0, 1) := dk_42 (dk_at dksX9_counts0_0 10 rfl rfl)
theorem dX9_counts0_11 : decode cX9_counts0 11 = .ok (.iload 4, 2) := dk_21 4 (dk_at dksX9_counts0_0 11 rfl rfl)
theorem dX9_counts0_13 : decode cX9_counts0 13 = .ok (.iconst 0, 1) := dk_3 (dk_at dksX9_counts0_0 13 rfl rfl)
theorem dX9_counts0_14 : decode cX9_counts0 14 = .ok (.iastore, 1) := dk_79 (dk_at dksX9_counts0_0 14 rfl rfl)
theorem dX9_counts0_15 : decode cX9_counts0 15 = .ok (.iinc 4 1, 3) := dk_132 4 1 (dk_at dksX9_counts0_0 15 rfl rfl)
theorem dX9_counts0_18 : decode cX9_counts0 18 = .ok (.goto (-15), 3) := dk_167 255 241 (dk_at dksX9_counts0_0 18 rfl rfl)
theorem dX9_counts0_21 : decode cX9_counts0 21 = .ok (.iconst 0, 1) := dk_3 (dk_at dksX9_counts0_0 21 rfl rfl)
theorem dX9_counts0_22 : decode cX9_counts0 22 = .ok (.istore 4, 2) := dk_54 4 (dk_at dksX9_counts0_0 22 rfl rfl)
theorem dX9_counts0_24 : decode cX9_counts0 24 = .ok (.iload 4, 2) := dk_21 4 (dk_at dksX9_counts0_1 0 rfl rfl)
theorem dX9_counts0_26 : decode cX9_counts0 26 = .ok (.iload_n 3, 1) := dk_29 (dk_at dksX9_counts0_1 2 rfl rfl)
theorem dX9_counts0_27 : decode cX9_counts0 27 = .ok (.if_icmp .ge 21, 3) := dk_162 0 21 (dk_at dksX9_counts0_1 3 rfl rfl)
theorem dX9_counts0_30 : decode cX9_counts0 30 = .ok (.aload_n 0, 1) := dk_42 (dk_at dksX9_counts0_1 6 rfl rfl)
theorem dX9_counts0_31 : decode cX9_counts0 31 = .ok (.aload_n 1, 1) := dk_43 (dk_at dksX9_counts0_1 7 rfl rfl)
theorem dX9_counts0_32 : decode cX9_counts0 32 = .ok (.iload_n 2, 1) := dk_28 (dk_at dksX9_counts0_1 8 rfl rfl)
theorem dX9_counts0_33 : decode cX9_counts0 33 = .ok (.iload 4, 2) := dk_21 4 (dk_at dksX9_counts0_1 9 rfl rfl)
theorem dX9_counts0_35 : decode cX9_counts0 35 = .ok (.iadd, 1) := dk_96 (dk_at dksX9_counts0_1 11 rfl rfl)
theorem dX9_counts0_36 : decode cX9_counts0 36 = .ok (.iaload, 1) := dk_46 (dk_at dksX9_counts0_1 12 rfl rfl)
theorem dX9_counts0_37 : decode cX9_counts0 37 = .ok (.dup2, 1) := dk_92 (dk_at dksX9_counts0_1 13 rfl rfl)
theorem dX9_counts0_38 : decode cX9_counts0 38 = .ok (.iaload, 1) := dk_46 (dk_at dksX9_counts0_1 14 rfl rfl)
theorem dX9_counts0_39 : decode cX9_counts0 39 = .ok (.iconst 1, 1) := dk_4 (dk_at dksX9_counts0_1 15 rfl rfl)
theorem dX9_counts0_40 : decode cX9_counts0 40 = .ok (.iadd, 1) := dk_96 (dk_at dksX9_counts0_1 16 rfl rfl)
theorem dX9_counts0_41 : decode cX9_counts0 41 = .ok (.iastore, 1) := dk_79 (dk_at dksX9_counts0_1 17 rfl rfl)
theorem dX9_counts0_42 : decode cX9_counts0 42 = .ok (.iinc 4 1, 3) := dk_132 4 1 (dk_at dksX9_counts0_1 18 rfl rfl)
theorem dX9_counts0_45 : decode cX9_counts0 45 = .ok (.goto (-21), 3) := dk_167 255 235 (dk_at dksX9_counts0_1 21 rfl rfl)
theorem dX9_counts0_48 : decode cX9_counts0 48 = .ok (.return_, 1) := dk_177 (dk_at dksX9_counts0_2 0 rfl rfl)
abbrev cX9_loose : ByteArray := prog_29_method_71_code
def yX9_loose : MethodName := ⟨RX9, "loose", "()I"⟩
def dkwX9_loose_2 : List UInt8 := [172]
abbrev dktX9_loose_2 : List UInt8 := dkwX9_loose_2 ++ []
def dkwX9_loose_1 : List UInt8 := [46, 182, 0, 72, 154, 0, 7, 4, 167, 0, 4, 3, 184, 0, 113, 96, 60, 132, 2, 1, 167, 255, 216, 27]
abbrev dktX9_loose_1 : List UInt8 := dkwX9_loose_1 ++ dktX9_loose_2
def dkwX9_loose_0 : List UInt8 := [3, 60, 3, 61, 28, 42, 180, 0, 9, 4, 46, 162, 0, 36, 27, 42, 42, 180, 0, 9, 16, 16, 28, 96]
abbrev dktX9_loose_0 : List UInt8 := dkwX9_loose_0 ++ dktX9_loose_1
theorem dksX9_loose_0 : cX9_loose.data.toList.drop 0 = dktX9_loose_0 := by decide +kernel
theorem dksX9_loose_1 : cX9_loose.data.toList.drop 24 = dktX9_loose_1 := dk_seg dksX9_loose_0 24 rfl rfl
theorem dksX9_loose_2 : cX9_loose.data.toList.drop 48 = dktX9_loose_2 := dk_seg dksX9_loose_1 24 rfl rfl
theorem dX9_loose_0 : decode cX9_loose 0 = .ok (.iconst 0, 1) := dk_3 (dk_at dksX9_loose_0 0 rfl rfl)
theorem dX9_loose_1 : decode cX9_loose 1 = .ok (.istore_n 1, 1) := dk_60 (dk_at dksX9_loose_0 1 rfl rfl)
theorem dX9_loose_2 : decode cX9_loose 2 = .ok (.iconst 0, 1) := dk_3 (dk_at dksX9_loose_0 2 rfl rfl)
theorem dX9_loose_3 : decode cX9_loose 3 = .ok (.istore_n 2, 1) := dk_61 (dk_at dksX9_loose_0 3 rfl rfl)
theorem dX9_loose_4 : decode cX9_loose 4 = .ok (.iload_n 2, 1) := dk_28 (dk_at dksX9_loose_0 4 rfl rfl)
theorem dX9_loose_5 : decode cX9_loose 5 = .ok (.aload_n 0, 1) := dk_42 (dk_at dksX9_loose_0 5 rfl rfl)
theorem dX9_loose_6 : decode cX9_loose 6 = .ok (.getfield 9, 3) := dk_180 0 9 (dk_at dksX9_loose_0 6 rfl rfl)
theorem dX9_loose_9 : decode cX9_loose 9 = .ok (.iconst 1, 1) := dk_4 (dk_at dksX9_loose_0 9 rfl rfl)
theorem dX9_loose_10 : decode cX9_loose 10 = .ok (.iaload, 1) := dk_46 (dk_at dksX9_loose_0 10 rfl rfl)
theorem dX9_loose_11 : decode cX9_loose 11 = .ok (.if_icmp .ge 36, 3) := dk_162 0 36 (dk_at dksX9_loose_0 11 rfl rfl)
theorem dX9_loose_14 : decode cX9_loose 14 = .ok (.iload_n 1, 1) := dk_27 (dk_at dksX9_loose_0 14 rfl rfl)
theorem dX9_loose_15 : decode cX9_loose 15 = .ok (.aload_n 0, 1) := dk_42 (dk_at dksX9_loose_0 15 rfl rfl)
theorem dX9_loose_16 : decode cX9_loose 16 = .ok (.aload_n 0, 1) := dk_42 (dk_at dksX9_loose_0 16 rfl rfl)
theorem dX9_loose_17 : decode cX9_loose 17 = .ok (.getfield 9, 3) := dk_180 0 9 (dk_at dksX9_loose_0 17 rfl rfl)
theorem dX9_loose_20 : decode cX9_loose 20 = .ok (.bipush 16, 2) := dk_16 16 (dk_at dksX9_loose_0 20 rfl rfl)
theorem dX9_loose_22 : decode cX9_loose 22 = .ok (.iload_n 2, 1) := dk_28 (dk_at dksX9_loose_0 22 rfl rfl)
theorem dX9_loose_23 : decode cX9_loose 23 = .ok (.iadd, 1) := dk_96 (dk_at dksX9_loose_0 23 rfl rfl)
theorem dX9_loose_24 : decode cX9_loose 24 = .ok (.iaload, 1) := dk_46 (dk_at dksX9_loose_1 0 rfl rfl)
theorem dX9_loose_25 : decode cX9_loose 25 = .ok (.invokevirtual 72, 3) := dk_182 0 72 (dk_at dksX9_loose_1 1 rfl rfl)
theorem dX9_loose_28 : decode cX9_loose 28 = .ok (.ifCond .ne 7, 3) := dk_154 0 7 (dk_at dksX9_loose_1 4 rfl rfl)
theorem dX9_loose_31 : decode cX9_loose 31 = .ok (.iconst 1, 1) := dk_4 (dk_at dksX9_loose_1 7 rfl rfl)
theorem dX9_loose_32 : decode cX9_loose 32 = .ok (.goto 4, 3) := dk_167 0 4 (dk_at dksX9_loose_1 8 rfl rfl)
theorem dX9_loose_35 : decode cX9_loose 35 = .ok (.iconst 0, 1) := dk_3 (dk_at dksX9_loose_1 11 rfl rfl)
theorem dX9_loose_36 : decode cX9_loose 36 = .ok (.invokestatic 113, 3) := dk_184 0 113 (dk_at dksX9_loose_1 12 rfl rfl)
theorem dX9_loose_39 : decode cX9_loose 39 = .ok (.iadd, 1) := dk_96 (dk_at dksX9_loose_1 15 rfl rfl)
theorem dX9_loose_40 : decode cX9_loose 40 = .ok (.istore_n 1, 1) := dk_60 (dk_at dksX9_loose_1 16 rfl rfl)
theorem dX9_loose_41 : decode cX9_loose 41 = .ok (.iinc 2 1, 3) := dk_132 2 1 (dk_at dksX9_loose_1 17 rfl rfl)
theorem dX9_loose_44 : decode cX9_loose 44 = .ok (.goto (-40), 3) := dk_167 255 216 (dk_at dksX9_loose_1 20 rfl rfl)
theorem dX9_loose_47 : decode cX9_loose 47 = .ok (.iload_n 1, 1) := dk_27 (dk_at dksX9_loose_1 23 rfl rfl)
theorem dX9_loose_48 : decode cX9_loose 48 = .ok (.ireturn, 1) := dk_172 (dk_at dksX9_loose_2 0 rfl rfl)
abbrev cX9_textAt : ByteArray := prog_29_method_76_code
def yX9_textAt : MethodName := ⟨RX9, "textAt", "(I)I"⟩
def dkwX9_textAt_1 : List UInt8 := [96, 46, 172]
abbrev dktX9_textAt_1 : List UInt8 := dkwX9_textAt_1 ++ []
def dkwX9_textAt_0 : List UInt8 := [42, 3, 181, 0, 69, 42, 27, 182, 1, 114, 153, 0, 7, 3, 167, 0, 12, 42, 180, 0, 9, 16, 16, 27]
abbrev dktX9_textAt_0 : List UInt8 := dkwX9_textAt_0 ++ dktX9_textAt_1
theorem dksX9_textAt_0 : cX9_textAt.data.toList.drop 0 = dktX9_textAt_0 := by decide +kernel
theorem dksX9_textAt_1 : cX9_textAt.data.toList.drop 24 = dktX9_textAt_1 := dk_seg dksX9_textAt_0 24 rfl rfl
theorem dX9_textAt_0 : decode cX9_textAt 0 = .ok (.aload_n 0, 1) := dk_42 (dk_at dksX9_textAt_0 0 rfl rfl)
theorem dX9_textAt_1 : decode cX9_textAt 1 = .ok (.iconst 0, 1) := dk_3 (dk_at dksX9_textAt_0 1 rfl rfl)
theorem dX9_textAt_2 : decode cX9_textAt 2 = .ok (.putfield 69, 3) := dk_181 0 69 (dk_at dksX9_textAt_0 2 rfl rfl)
theorem dX9_textAt_5 : decode cX9_textAt 5 = .ok (.aload_n 0, 1) := dk_42 (dk_at dksX9_textAt_0 5 rfl rfl)
theorem dX9_textAt_6 : decode cX9_textAt 6 = .ok (.iload_n 1, 1) := dk_27 (dk_at dksX9_textAt_0 6 rfl rfl)
theorem dX9_textAt_7 : decode cX9_textAt 7 = .ok (.invokevirtual 370, 3) := dk_182 1 114 (dk_at dksX9_textAt_0 7 rfl rfl)
theorem dX9_textAt_10 : decode cX9_textAt 10 = .ok (.ifCond .eq 7, 3) := dk_153 0 7 (dk_at dksX9_textAt_0 10 rfl rfl)
theorem dX9_textAt_13 : decode cX9_textAt 13 = .ok (.iconst 0, 1) := dk_3 (dk_at dksX9_textAt_0 13 rfl rfl)
theorem dX9_textAt_14 : decode cX9_textAt 14 = .ok (.goto 12, 3) := dk_167 0 12 (dk_at dksX9_textAt_0 14 rfl rfl)
theorem dX9_textAt_17 : decode cX9_textAt 17 = .ok (.aload_n 0, 1) := dk_42 (dk_at dksX9_textAt_0 17 rfl rfl)
theorem dX9_textAt_18 : decode cX9_textAt 18 = .ok (.getfield 9, 3) := dk_180 0 9 (dk_at dksX9_textAt_0 18 rfl rfl)
theorem dX9_textAt_21 : decode cX9_textAt 21 = .ok (.bipush 16, 2) := dk_16 16 (dk_at dksX9_textAt_0 21 rfl rfl)
theorem dX9_textAt_23 : decode cX9_textAt 23 = .ok (.iload_n 1, 1) := dk_27 (dk_at dksX9_textAt_0 23 rfl rfl)
theorem dX9_textAt_24 : decode cX9_textAt 24 = .ok (.iadd, 1) := dk_96 (dk_at dksX9_textAt_1 0 rfl rfl)
theorem dX9_textAt_25 : decode cX9_textAt 25 = .ok (.iaload, 1) := dk_46 (dk_at dksX9_textAt_1 1 rfl rfl)
theorem dX9_textAt_26 : decode cX9_textAt 26 = .ok (.ireturn, 1) := dk_172 (dk_at dksX9_textAt_1 2 rfl rfl)
abbrev cX9_noPlace : ByteArray := prog_29_method_73_code
def yX9_noPlace : MethodName := ⟨RX9, "noPlace", "(I)Z"⟩
def dkwX9_noPlace_1 : List UInt8 := [182, 1, 104, 172]
abbrev dktX9_noPlace_1 : List UInt8 := dkwX9_noPlace_1 ++ []
def dkwX9_noPlace_0 : List UInt8 := [42, 27, 3, 42, 180, 0, 9, 4, 46, 4, 100, 184, 0, 160, 154, 0, 7, 4, 167, 0, 4, 3, 4]
abbrev dktX9_noPlace_0 : List UInt8 := dkwX9_noPlace_0 ++ dktX9_noPlace_1
theorem dksX9_noPlace_0 : cX9_noPlace.data.toList.drop 0 = dktX9_noPlace_0 := by decide +kernel
theorem dksX9_noPlace_1 : cX9_noPlace.data.toList.drop 23 = dktX9_noPlace_1 := dk_seg dksX9_noPlace_0 23 rfl rfl
theorem dX9_noPlace_0 : decode cX9_noPlace 0 = .ok (.aload_n 0, 1) := dk_42 (dk_at dksX9_noPlace_0 0 rfl rfl)
theorem dX9_noPlace_1 : decode cX9_noPlace 1 = .ok (.iload_n 1, 1) := dk_27 (dk_at dksX9_noPlace_0 1 rfl rfl)
theorem dX9_noPlace_2 : decode cX9_noPlace 2 = .ok (.iconst 0, 1) := dk_3 (dk_at dksX9_noPlace_0 2 rfl rfl)
theorem dX9_noPlace_3 : decode cX9_noPlace 3 = .ok (.aload_n 0, 1) := dk_42 (dk_at dksX9_noPlace_0 3 rfl rfl)
theorem dX9_noPlace_4 : decode cX9_noPlace 4 = .ok (.getfield 9, 3) := dk_180 0 9 (dk_at dksX9_noPlace_0 4 rfl rfl)
theorem dX9_noPlace_7 : decode cX9_noPlace 7 = .ok (.iconst 1, 1) := dk_4 (dk_at dksX9_noPlace_0 7 rfl rfl)
theorem dX9_noPlace_8 : decode cX9_noPlace 8 = .ok (.iaload, 1) := dk_46 (dk_at dksX9_noPlace_0 8 rfl rfl)
theorem dX9_noPlace_9 : decode cX9_noPlace 9 = .ok (.iconst 1, 1) := dk_4 (dk_at dksX9_noPlace_0 9 rfl rfl)
theorem dX9_noPlace_10 : decode cX9_noPlace 10 = .ok (.isub, 1) := dk_100 (dk_at dksX9_noPlace_0 10 rfl rfl)
theorem dX9_noPlace_11 : decode cX9_noPlace 11 = .ok (.invokestatic 160, 3) := dk_184 0 160 (dk_at dksX9_noPlace_0 11 rfl rfl)
theorem dX9_noPlace_14 : decode cX9_noPlace 14 = .ok (.ifCond .ne 7, 3) := dk_154 0 7 (dk_at dksX9_noPlace_0 14 rfl rfl)
theorem dX9_noPlace_17 : decode cX9_noPlace 17 = .ok (.iconst 1, 1) := dk_4 (dk_at dksX9_noPlace_0 17 rfl rfl)
theorem dX9_noPlace_18 : decode cX9_noPlace 18 = .ok (.goto 4, 3) := dk_167 0 4 (dk_at dksX9_noPlace_0 18 rfl rfl)
theorem dX9_noPlace_21 : decode cX9_noPlace 21 = .ok (.iconst 0, 1) := dk_3 (dk_at dksX9_noPlace_0 21 rfl rfl)
theorem dX9_noPlace_22 : decode cX9_noPlace 22 = .ok (.iconst 1, 1) := dk_4 (dk_at dksX9_noPlace_0 22 rfl rfl)
theorem dX9_noPlace_23 : decode cX9_noPlace 23 = .ok (.invokevirtual 360, 3) := dk_182 1 104 (dk_at dksX9_noPlace_1 0 rfl rfl)
theorem dX9_noPlace_26 : decode cX9_noPlace 26 = .ok (.ireturn, 1) := dk_172 (dk_at dksX9_noPlace_1 3 rfl rfl)
abbrev cX9_back : ByteArray := prog_29_method_77_code
def yX9_back : MethodName := ⟨RX9, "back", "(I)I"⟩
def dkwX9_back_1 : List UInt8 := [172]
abbrev dktX9_back_1 : List UInt8 := dkwX9_back_1 ++ []
def dkwX9_back_0 : List UInt8 := [42, 3, 181, 0, 69, 42, 27, 182, 1, 114, 153, 0, 7, 3, 167, 0, 10, 42, 16, 16, 27, 182, 0, 76]
abbrev dktX9_back_0 : List UInt8 := dkwX9_back_0 ++ dktX9_back_1
theorem dksX9_back_0 : cX9_back.data.toList.drop 0 = dktX9_back_0 := by decide +kernel
theorem dksX9_back_1 : cX9_back.data.toList.drop 24 = dktX9_back_1 := dk_seg dksX9_back_0 24 rfl rfl
theorem dX9_back_0 : decode cX9_back 0 = .ok (.aload_n 0, 1) := dk_42 (dk_at dksX9_back_0 0 rfl rfl)
theorem dX9_back_1 : decode cX9_back 1 = .ok (.iconst 0, 1) := dk_3 (dk_at dksX9_back_0 1 rfl rfl)
theorem dX9_back_2 : decode cX9_back 2 = .ok (.putfield 69, 3) := dk_181 0 69 (dk_at dksX9_back_0 2 rfl rfl)
theorem dX9_back_5 : decode cX9_back 5 = .ok (.aload_n 0, 1) := dk_42 (dk_at dksX9_back_0 5 rfl rfl)
theorem dX9_back_6 : decode cX9_back 6 = .ok (.iload_n 1, 1) := dk_27 (dk_at dksX9_back_0 6 rfl rfl)
theorem dX9_back_7 : decode cX9_back 7 = .ok (.invokevirtual 370, 3) := dk_182 1 114 (dk_at dksX9_back_0 7 rfl rfl)
theorem dX9_back_10 : decode cX9_back 10 = .ok (.ifCond .eq 7, 3) := dk_153 0 7 (dk_at dksX9_back_0 10 rfl rfl)
theorem dX9_back_13 : decode cX9_back 13 = .ok (.iconst 0, 1) := dk_3 (dk_at dksX9_back_0 13 rfl rfl)
theorem dX9_back_14 : decode cX9_back 14 = .ok (.goto 10, 3) := dk_167 0 10 (dk_at dksX9_back_0 14 rfl rfl)
theorem dX9_back_17 : decode cX9_back 17 = .ok (.aload_n 0, 1) := dk_42 (dk_at dksX9_back_0 17 rfl rfl)
theorem dX9_back_18 : decode cX9_back 18 = .ok (.bipush 16, 2) := dk_16 16 (dk_at dksX9_back_0 18 rfl rfl)
theorem dX9_back_20 : decode cX9_back 20 = .ok (.iload_n 1, 1) := dk_27 (dk_at dksX9_back_0 20 rfl rfl)
theorem dX9_back_21 : decode cX9_back 21 = .ok (.invokevirtual 76, 3) := dk_182 0 76 (dk_at dksX9_back_0 21 rfl rfl)
theorem dX9_back_24 : decode cX9_back 24 = .ok (.ireturn, 1) := dk_172 (dk_at dksX9_back_1 0 rfl rfl)
abbrev cX9_backIn : ByteArray := prog_29_method_78_code
def yX9_backIn : MethodName := ⟨RX9, "backIn", "(II)I"⟩
def dkwX9_backIn_2 : List UInt8 := [153, 0, 5, 3, 172, 42, 27, 184, 0, 95, 28, 4, 100, 182, 0, 76, 172]
abbrev dktX9_backIn_2 : List UInt8 := dkwX9_backIn_2 ++ []
def dkwX9_backIn_1 : List UInt8 := [153, 0, 15, 27, 28, 96, 42, 180, 0, 9, 4, 46, 164, 0, 7, 4, 167, 0, 4, 3, 5, 182, 1, 104]
abbrev dktX9_backIn_1 : List UInt8 := dkwX9_backIn_1 ++ dktX9_backIn_2
def dkwX9_backIn_0 : List UInt8 := [42, 3, 181, 0, 69, 42, 27, 182, 1, 114, 154, 0, 39, 42, 28, 4, 17, 0, 200, 184, 0, 160]
abbrev dktX9_backIn_0 : List UInt8 := dkwX9_backIn_0 ++ dktX9_backIn_1
theorem dksX9_backIn_0 : cX9_backIn.data.toList.drop 0 = dktX9_backIn_0 := by decide +kernel
theorem dksX9_backIn_1 : cX9_backIn.data.toList.drop 22 = dktX9_backIn_1 := dk_seg dksX9_backIn_0 22 rfl rfl
theorem dksX9_backIn_2 : cX9_backIn.data.toList.drop 46 = dktX9_backIn_2 := dk_seg dksX9_backIn_1 24 rfl rfl
theorem dX9_backIn_0 : decode cX9_backIn 0 = .ok (.aload_n 0, 1) := dk_42 (dk_at dksX9_backIn_0 0 rfl rfl)
theorem dX9_backIn_1 : decode cX9_backIn 1 = .ok (.iconst 0, 1) := dk_3 (dk_at dksX9_backIn_0 1 rfl rfl)
theorem dX9_backIn_2 : decode cX9_backIn 2 = .ok (.putfield 69, 3) := dk_181 0 69 (dk_at dksX9_backIn_0 2 rfl rfl)
theorem dX9_backIn_5 : decode cX9_backIn 5 = .ok (.aload_n 0, 1) := dk_42 (dk_at dksX9_backIn_0 5 rfl rfl)
theorem dX9_backIn_6 : decode cX9_backIn 6 = .ok (.iload_n 1, 1) := dk_27 (dk_at dksX9_backIn_0 6 rfl rfl)
theorem dX9_backIn_7 : decode cX9_backIn 7 = .ok (.invokevirtual 370, 3) := dk_182 1 114 (dk_at dksX9_backIn_0 7 rfl rfl)
theorem dX9_backIn_10 : decode cX9_backIn 10 = .ok (.ifCond .ne 39, 3) := dk_154 0 39 (dk_at dksX9_backIn_0 10 rfl rfl)
theorem dX9_backIn_13 : decode cX9_backIn 13 = .ok (.aload_n 0, 1) := dk_42 (dk_at dksX9_backIn_0 13 rfl rfl)
theorem dX9_backIn_14 : decode cX9_backIn 14 = .ok (.iload_n 2, 1) := dk_28 (dk_at dksX9_backIn_0 14 rfl rfl)
theorem dX9_backIn_15 : decode cX9_backIn 15 = .ok (.iconst 1, 1) := dk_4 (dk_at dksX9_backIn_0 15 rfl rfl)
theorem dX9_backIn_16 : decode cX9_backIn 16 = .ok (.sipush 200, 3) := dk_17 0 200 (dk_at dksX9_backIn_0 16 rfl rfl)
theorem dX9_backIn_19 : decode cX9_backIn 19 = .ok (.invokestatic 160, 3) := dk_184 0 160 (dk_at dksX9_backIn_0 19 rfl rfl)
theorem dX9_backIn_22 : decode cX9_backIn 22 = .ok (.ifCond .eq 15, 3) := dk_153 0 15 (dk_at dksX9_backIn_1 0 rfl rfl)
theorem dX9_backIn_25 : decode cX9_backIn 25 = .ok (.iload_n 1, 1) := dk_27 (dk_at dksX9_backIn_1 3 rfl rfl)
theorem dX9_backIn_26 : decode cX9_backIn 26 = .ok (.iload_n 2, 1) := dk_28 (dk_at dksX9_backIn_1 4 rfl rfl)
theorem dX9_backIn_27 : decode cX9_backIn 27 = .ok (.iadd, 1) := dk_96 (dk_at dksX9_backIn_1 5 rfl rfl)
theorem dX9_backIn_28 : decode cX9_backIn 28 = .ok (.aload_n 0, 1) := dk_42 (dk_at dksX9_backIn_1 6 rfl rfl)
theorem dX9_backIn_29 : decode cX9_backIn 29 = .ok (.getfield 9, 3) := dk_180 0 9 (dk_at dksX9_backIn_1 7 rfl rfl)
theorem dX9_backIn_32 : decode cX9_backIn 32 = .ok (.iconst 1, 1) := dk_4 (dk_at dksX9_backIn_1 10 rfl rfl)
theorem dX9_backIn_33 : decode cX9_backIn 33 = .ok (.iaload, 1) := dk_46 (dk_at dksX9_backIn_1 11 rfl rfl)
theorem dX9_backIn_34 : decode cX9_backIn 34 = .ok (.if_icmp .le 7, 3) := dk_164 0 7 (dk_at dksX9_backIn_1 12 rfl rfl)
theorem dX9_backIn_37 : decode cX9_backIn 37 = .ok (.iconst 1, 1) := dk_4 (dk_at dksX9_backIn_1 15 rfl rfl)
theorem dX9_backIn_38 : decode cX9_backIn 38 = .ok (.goto 4, 3) := dk_167 0 4 (dk_at dksX9_backIn_1 16 rfl rfl)
theorem dX9_backIn_41 : decode cX9_backIn 41 = .ok (.iconst 0, 1) := dk_3 (dk_at dksX9_backIn_1 19 rfl rfl)
theorem dX9_backIn_42 : decode cX9_backIn 42 = .ok (.iconst 2, 1) := dk_5 (dk_at dksX9_backIn_1 20 rfl rfl)
theorem dX9_backIn_43 : decode cX9_backIn 43 = .ok (.invokevirtual 360, 3) := dk_182 1 104 (dk_at dksX9_backIn_1 21 rfl rfl)
theorem dX9_backIn_46 : decode cX9_backIn 46 = .ok (.ifCond .eq 5, 3) := dk_153 0 5 (dk_at dksX9_backIn_2 0 rfl rfl)
theorem dX9_backIn_49 : decode cX9_backIn 49 = .ok (.iconst 0, 1) := dk_3 (dk_at dksX9_backIn_2 3 rfl rfl)
theorem dX9_backIn_50 : decode cX9_backIn 50 = .ok (.ireturn, 1) := dk_172 (dk_at dksX9_backIn_2 4 rfl rfl)
theorem dX9_backIn_51 : decode cX9_backIn 51 = .ok (.aload_n 0, 1) := dk_42 (dk_at dksX9_backIn_2 5 rfl rfl)
theorem dX9_backIn_52 : decode cX9_backIn 52 = .ok (.iload_n 1, 1) := dk_27 (dk_at dksX9_backIn_2 6 rfl rfl)
theorem dX9_backIn_53 : decode cX9_backIn 53 = .ok (.invokestatic 95, 3) := dk_184 0 95 (dk_at dksX9_backIn_2 7 rfl rfl)
theorem dX9_backIn_56 : decode cX9_backIn 56 = .ok (.iload_n 2, 1) := dk_28 (dk_at dksX9_backIn_2 10 rfl rfl)
theorem dX9_backIn_57 : decode cX9_backIn 57 = .ok (.iconst 1, 1) := dk_4 (dk_at dksX9_backIn_2 11 rfl rfl)
theorem dX9_backIn_58 : decode cX9_backIn 58 = .ok (.isub, 1) := dk_100 (dk_at dksX9_backIn_2 12 rfl rfl)
theorem dX9_backIn_59 : decode cX9_backIn 59 = .ok (.invokevirtual 76, 3) := dk_182 0 76 (dk_at dksX9_backIn_2 13 rfl rfl)
theorem dX9_backIn_62 : decode cX9_backIn 62 = .ok (.ireturn, 1) := dk_172 (dk_at dksX9_backIn_2 16 rfl rfl)
abbrev cX9_pattern : ByteArray := prog_29_method_79_code
def yX9_pattern : MethodName := ⟨RX9, "pattern", "(II)I"⟩
def dkwX9_pattern_5 : List UInt8 := [182, 1, 123, 172, 42, 27, 182, 1, 126, 172, 42, 27, 182, 1, 129, 172]
abbrev dktX9_pattern_5 : List UInt8 := dkwX9_pattern_5 ++ []
def dkwX9_pattern_4 : List UInt8 := [42, 27, 184, 0, 91, 29, 182, 1, 120, 172, 29, 42, 27, 184, 0, 91, 29, 182, 1, 120, 100, 172, 42, 27]
abbrev dktX9_pattern_4 : List UInt8 := dkwX9_pattern_4 ++ dktX9_pattern_5
def dkwX9_pattern_3 : List UInt8 := [29, 172, 42, 27, 184, 0, 91, 29, 3, 182, 1, 107, 172, 42, 27, 184, 0, 91, 29, 4, 182, 1, 107, 172]
abbrev dktX9_pattern_3 : List UInt8 := dkwX9_pattern_3 ++ dktX9_pattern_4
def dkwX9_pattern_2 : List UInt8 := [170, 0, 0, 0, 0, 100, 0, 0, 0, 0, 0, 0, 0, 6, 0, 0, 0, 42, 0, 0, 0, 44, 0, 0, 0, 55, 0, 0, 0, 66, 0, 0, 0, 76, 0, 0, 0, 88, 0, 0, 0, 94]
abbrev dktX9_pattern_2 : List UInt8 := dkwX9_pattern_2 ++ dktX9_pattern_3
def dkwX9_pattern_1 : List UInt8 := [4, 167, 0, 4, 3, 5, 182, 1, 104, 153, 0, 5, 3, 172, 42, 27, 3, 182, 0, 98, 62, 28]
abbrev dktX9_pattern_1 : List UInt8 := dkwX9_pattern_1 ++ dktX9_pattern_2
def dkwX9_pattern_0 : List UInt8 := [42, 3, 181, 0, 69, 42, 27, 182, 1, 117, 154, 0, 26, 42, 28, 3, 16, 7, 184, 0, 160, 154, 0, 7]
abbrev dktX9_pattern_0 : List UInt8 := dkwX9_pattern_0 ++ dktX9_pattern_1
theorem dksX9_pattern_0 : cX9_pattern.data.toList.drop 0 = dktX9_pattern_0 := by decide +kernel
theorem dksX9_pattern_1 : cX9_pattern.data.toList.drop 24 = dktX9_pattern_1 := dk_seg dksX9_pattern_0 24 rfl rfl
theorem dksX9_pattern_2 : cX9_pattern.data.toList.drop 46 = dktX9_pattern_2 := dk_seg dksX9_pattern_1 22 rfl rfl
theorem dksX9_pattern_3 : cX9_pattern.data.toList.drop 88 = dktX9_pattern_3 := dk_seg dksX9_pattern_2 42 rfl rfl
theorem dksX9_pattern_4 : cX9_pattern.data.toList.drop 112 = dktX9_pattern_4 := dk_seg dksX9_pattern_3 24 rfl rfl
theorem dksX9_pattern_5 : cX9_pattern.data.toList.drop 136 = dktX9_pattern_5 := dk_seg dksX9_pattern_4 24 rfl rfl
theorem dX9_pattern_0 : decode cX9_pattern 0 = .ok (.aload_n 0, 1) := dk_42 (dk_at dksX9_pattern_0 0 rfl rfl)
theorem dX9_pattern_1 : decode cX9_pattern 1 = .ok (.iconst 0, 1) := dk_3 (dk_at dksX9_pattern_0 1 rfl rfl)
theorem dX9_pattern_2 : decode cX9_pattern 2 = .ok (.putfield 69, 3) := dk_181 0 69 (dk_at dksX9_pattern_0 2 rfl rfl)
theorem dX9_pattern_5 : decode cX9_pattern 5 = .ok (.aload_n 0, 1) := dk_42 (dk_at dksX9_pattern_0 5 rfl rfl)
theorem dX9_pattern_6 : decode cX9_pattern 6 = .ok (.iload_n 1, 1) := dk_27 (dk_at dksX9_pattern_0 6 rfl rfl)
theorem dX9_pattern_7 : decode cX9_pattern 7 = .ok (.invokevirtual 373, 3) := dk_182 1 117 (dk_at dksX9_pattern_0 7 rfl rfl)
theorem dX9_pattern_10 : decode cX9_pattern 10 = .ok (.ifCond .ne 26, 3) := dk_154 0 26 (dk_at dksX9_pattern_0 10 rfl rfl)
theorem dX9_pattern_13 : decode cX9_pattern 13 = .ok (.aload_n 0, 1) := dk_42 (dk_at dksX9_pattern_0 13 rfl rfl)
theorem dX9_pattern_14 : decode cX9_pattern 14 = .ok (.iload_n 2, 1) := dk_28 (dk_at dksX9_pattern_0 14 rfl rfl)
theorem dX9_pattern_15 : decode cX9_pattern 15 = .ok (.iconst 0, 1) := dk_3 (dk_at dksX9_pattern_0 15 rfl rfl)
theorem dX9_pattern_16 : decode cX9_pattern 16 = .ok (.bipush 7, 2) := dk_16 7 (dk_at dksX9_pattern_0 16 rfl rfl)
theorem dX9_pattern_18 : decode cX9_pattern 18 = .ok (.invokestatic 160, 3) := dk_184 0 160 (dk_at dksX9_pattern_0 18 rfl rfl)
theorem dX9_pattern_21 : decode cX9_pattern 21 = .ok (.ifCond .ne 7, 3) := dk_154 0 7 (dk_at dksX9_pattern_0 21 rfl rfl)
theorem dX9_pattern_24 : decode cX9_pattern 24 = .ok (.iconst 1, 1) := dk_4 (dk_at dksX9_pattern_1 0 rfl rfl)
theorem dX9_pattern_25 : decode cX9_pattern 25 = .ok (.goto 4, 3) := dk_167 0 4 (dk_at dksX9_pattern_1 1 rfl rfl)
theorem dX9_pattern_28 : decode cX9_pattern 28 = .ok (.iconst 0, 1) := dk_3 (dk_at dksX9_pattern_1 4 rfl rfl)
theorem dX9_pattern_29 : decode cX9_pattern 29 = .ok (.iconst 2, 1) := dk_5 (dk_at dksX9_pattern_1 5 rfl rfl)
theorem dX9_pattern_30 : decode cX9_pattern 30 = .ok (.invokevirtual 360, 3) := dk_182 1 104 (dk_at dksX9_pattern_1 6 rfl rfl)
theorem dX9_pattern_33 : decode cX9_pattern 33 = .ok (.ifCond .eq 5, 3) := dk_153 0 5 (dk_at dksX9_pattern_1 9 rfl rfl)
theorem dX9_pattern_36 : decode cX9_pattern 36 = .ok (.iconst 0, 1) := dk_3 (dk_at dksX9_pattern_1 12 rfl rfl)
theorem dX9_pattern_37 : decode cX9_pattern 37 = .ok (.ireturn, 1) := dk_172 (dk_at dksX9_pattern_1 13 rfl rfl)
theorem dX9_pattern_38 : decode cX9_pattern 38 = .ok (.aload_n 0, 1) := dk_42 (dk_at dksX9_pattern_1 14 rfl rfl)
theorem dX9_pattern_39 : decode cX9_pattern 39 = .ok (.iload_n 1, 1) := dk_27 (dk_at dksX9_pattern_1 15 rfl rfl)
theorem dX9_pattern_40 : decode cX9_pattern 40 = .ok (.iconst 0, 1) := dk_3 (dk_at dksX9_pattern_1 16 rfl rfl)
theorem dX9_pattern_41 : decode cX9_pattern 41 = .ok (.invokevirtual 98, 3) := dk_182 0 98 (dk_at dksX9_pattern_1 17 rfl rfl)
theorem dX9_pattern_44 : decode cX9_pattern 44 = .ok (.istore_n 3, 1) := dk_62 (dk_at dksX9_pattern_1 20 rfl rfl)
theorem dX9_pattern_45 : decode cX9_pattern 45 = .ok (.iload_n 2, 1) := dk_28 (dk_at dksX9_pattern_1 21 rfl rfl)
theorem dX9_pattern_46 : decode cX9_pattern 46 = .ok (.tableswitch 100 0 6 #[42, 44, 55, 66, 76, 88, 94], 42) := by decide +kernel
theorem dX9_pattern_88 : decode cX9_pattern 88 = .ok (.iload_n 3, 1) := dk_29 (dk_at dksX9_pattern_3 0 rfl rfl)
theorem dX9_pattern_89 : decode cX9_pattern 89 = .ok (.ireturn, 1) := dk_172 (dk_at dksX9_pattern_3 1 rfl rfl)
theorem dX9_pattern_90 : decode cX9_pattern 90 = .ok (.aload_n 0, 1) := dk_42 (dk_at dksX9_pattern_3 2 rfl rfl)
theorem dX9_pattern_91 : decode cX9_pattern 91 = .ok (.iload_n 1, 1) := dk_27 (dk_at dksX9_pattern_3 3 rfl rfl)
theorem dX9_pattern_92 : decode cX9_pattern 92 = .ok (.invokestatic 91, 3) := dk_184 0 91 (dk_at dksX9_pattern_3 4 rfl rfl)
theorem dX9_pattern_95 : decode cX9_pattern 95 = .ok (.iload_n 3, 1) := dk_29 (dk_at dksX9_pattern_3 7 rfl rfl)
theorem dX9_pattern_96 : decode cX9_pattern 96 = .ok (.iconst 0, 1) := dk_3 (dk_at dksX9_pattern_3 8 rfl rfl)
theorem dX9_pattern_97 : decode cX9_pattern 97 = .ok (.invokevirtual 363, 3) := dk_182 1 107 (dk_at dksX9_pattern_3 9 rfl rfl)
theorem dX9_pattern_100 : decode cX9_pattern 100 = .ok (.ireturn, 1) := dk_172 (dk_at dksX9_pattern_3 12 rfl rfl)
theorem dX9_pattern_101 : decode cX9_pattern 101 = .ok (.aload_n 0, 1) := dk_42 (dk_at dksX9_pattern_3 13 rfl rfl)
theorem dX9_pattern_102 : decode cX9_pattern 102 = .ok (.iload_n 1, 1) := dk_27 (dk_at dksX9_pattern_3 14 rfl rfl)
theorem dX9_pattern_103 : decode cX9_pattern 103 = .ok (.invokestatic 91, 3) := dk_184 0 91 (dk_at dksX9_pattern_3 15 rfl rfl)
theorem dX9_pattern_106 : decode cX9_pattern 106 = .ok (.iload_n 3, 1) := dk_29 (dk_at dksX9_pattern_3 18 rfl rfl)
theorem dX9_pattern_107 : decode cX9_pattern 107 = .ok (.iconst 1, 1) := dk_4 (dk_at dksX9_pattern_3 19 rfl rfl)
theorem dX9_pattern_108 : decode cX9_pattern 108 = .ok (.invokevirtual 363, 3) := dk_182 1 107 (dk_at dksX9_pattern_3 20 rfl rfl)
theorem dX9_pattern_111 : decode cX9_pattern 111 = .ok (.ireturn, 1) := dk_172 (dk_at dksX9_pattern_3 23 rfl rfl)
theorem dX9_pattern_112 : decode cX9_pattern 112 = .ok (.aload_n 0, 1) := dk_42 (dk_at dksX9_pattern_4 0 rfl rfl)
theorem dX9_pattern_113 : decode cX9_pattern 113 = .ok (.iload_n 1, 1) := dk_27 (dk_at dksX9_pattern_4 1 rfl rfl)
theorem dX9_pattern_114 : decode cX9_pattern 114 = .ok (.invokestatic 91, 3) := dk_184 0 91 (dk_at dksX9_pattern_4 2 rfl rfl)
theorem dX9_pattern_117 : decode cX9_pattern 117 = .ok (.iload_n 3, 1) := dk_29 (dk_at dksX9_pattern_4 5 rfl rfl)
theorem dX9_pattern_118 : decode cX9_pattern 118 = .ok (.invokevirtual 376, 3) := dk_182 1 120 (dk_at dksX9_pattern_4 6 rfl rfl)
theorem dX9_pattern_121 : decode cX9_pattern 121 = .ok (.ireturn, 1) := dk_172 (dk_at dksX9_pattern_4 9 rfl rfl)
theorem dX9_pattern_122 : decode cX9_pattern 122 = .ok (.iload_n 3, 1) := dk_29 (dk_at dksX9_pattern_4 10 rfl rfl)
theorem dX9_pattern_123 : decode cX9_pattern 123 = .ok (.aload_n 0, 1) := dk_42 (dk_at dksX9_pattern_4 11 rfl rfl)
theorem dX9_pattern_124 : decode cX9_pattern 124 = .ok (.iload_n 1, 1) := dk_27 (dk_at dksX9_pattern_4 12 rfl rfl)
theorem dX9_pattern_125 : decode cX9_pattern 125 = .ok (.invokestatic 91, 3) := dk_184 0 91 (dk_at dksX9_pattern_4 13 rfl rfl)
theorem dX9_pattern_128 : decode cX9_pattern 128 = .ok (.iload_n 3, 1) := dk_29 (dk_at dksX9_pattern_4 16 rfl rfl)
theorem dX9_pattern_129 : decode cX9_pattern 129 = .ok (.invokevirtual 376, 3) := dk_182 1 120 (dk_at dksX9_pattern_4 17 rfl rfl)
theorem dX9_pattern_132 : decode cX9_pattern 132 = .ok (.isub, 1) := dk_100 (dk_at dksX9_pattern_4 20 rfl rfl)
theorem dX9_pattern_133 : decode cX9_pattern 133 = .ok (.ireturn, 1) := dk_172 (dk_at dksX9_pattern_4 21 rfl rfl)
theorem dX9_pattern_134 : decode cX9_pattern 134 = .ok (.aload_n 0, 1) := dk_42 (dk_at dksX9_pattern_4 22 rfl rfl)
theorem dX9_pattern_135 : decode cX9_pattern 135 = .ok (.iload_n 1, 1) := dk_27 (dk_at dksX9_pattern_4 23 rfl rfl)
theorem dX9_pattern_136 : decode cX9_pattern 136 = .ok (.invokevirtual 379, 3) := dk_182 1 123 (dk_at dksX9_pattern_5 0 rfl rfl)
theorem dX9_pattern_139 : decode cX9_pattern 139 = .ok (.ireturn, 1) := dk_172 (dk_at dksX9_pattern_5 3 rfl rfl)
theorem dX9_pattern_140 : decode cX9_pattern 140 = .ok (.aload_n 0, 1) := dk_42 (dk_at dksX9_pattern_5 4 rfl rfl)
theorem dX9_pattern_141 : decode cX9_pattern 141 = .ok (.iload_n 1, 1) := dk_27 (dk_at dksX9_pattern_5 5 rfl rfl)
theorem dX9_pattern_142 : decode cX9_pattern 142 = .ok (.invokevirtual 382, 3) := dk_182 1 126 (dk_at dksX9_pattern_5 6 rfl rfl)
theorem dX9_pattern_145 : decode cX9_pattern 145 = .ok (.ireturn, 1) := dk_172 (dk_at dksX9_pattern_5 9 rfl rfl)
theorem dX9_pattern_146 : decode cX9_pattern 146 = .ok (.aload_n 0, 1) := dk_42 (dk_at dksX9_pattern_5 10 rfl rfl)
theorem dX9_pattern_147 : decode cX9_pattern 147 = .ok (.iload_n 1, 1) := dk_27 (dk_at dksX9_pattern_5 11 rfl rfl)
theorem dX9_pattern_148 : decode cX9_pattern 148 = .ok (.invokevirtual 385, 3) := dk_182 1 129 (dk_at dksX9_pattern_5 12 rfl rfl)
theorem dX9_pattern_151 : decode cX9_pattern 151 = .ok (.ireturn, 1) := dk_172 (dk_at dksX9_pattern_5 15 rfl rfl)
abbrev cX9_noPattern : ByteArray := prog_29_method_74_code
def yX9_noPattern : MethodName := ⟨RX9, "noPattern", "(I)Z"⟩
def dkwX9_noPattern_1 : List UInt8 := [182, 1, 104, 172]
abbrev dktX9_noPattern_1 : List UInt8 := dkwX9_noPattern_1 ++ []
def dkwX9_noPattern_0 : List UInt8 := [42, 27, 3, 42, 180, 0, 9, 5, 46, 4, 100, 184, 0, 160, 154, 0, 7, 4, 167, 0, 4, 3, 4]
abbrev dktX9_noPattern_0 : List UInt8 := dkwX9_noPattern_0 ++ dktX9_noPattern_1
theorem dksX9_noPattern_0 : cX9_noPattern.data.toList.drop 0 = dktX9_noPattern_0 := by decide +kernel
theorem dksX9_noPattern_1 : cX9_noPattern.data.toList.drop 23 = dktX9_noPattern_1 := dk_seg dksX9_noPattern_0 23 rfl rfl
theorem dX9_noPattern_0 : decode cX9_noPattern 0 = .ok (.aload_n 0, 1) := dk_42 (dk_at dksX9_noPattern_0 0 rfl rfl)
theorem dX9_noPattern_1 : decode cX9_noPattern 1 = .ok (.iload_n 1, 1) := dk_27 (dk_at dksX9_noPattern_0 1 rfl rfl)
theorem dX9_noPattern_2 : decode cX9_noPattern 2 = .ok (.iconst 0, 1) := dk_3 (dk_at dksX9_noPattern_0 2 rfl rfl)
theorem dX9_noPattern_3 : decode cX9_noPattern 3 = .ok (.aload_n 0, 1) := dk_42 (dk_at dksX9_noPattern_0 3 rfl rfl)
theorem dX9_noPattern_4 : decode cX9_noPattern 4 = .ok (.getfield 9, 3) := dk_180 0 9 (dk_at dksX9_noPattern_0 4 rfl rfl)
theorem dX9_noPattern_7 : decode cX9_noPattern 7 = .ok (.iconst 2, 1) := dk_5 (dk_at dksX9_noPattern_0 7 rfl rfl)
theorem dX9_noPattern_8 : decode cX9_noPattern 8 = .ok (.iaload, 1) := dk_46 (dk_at dksX9_noPattern_0 8 rfl rfl)
theorem dX9_noPattern_9 : decode cX9_noPattern 9 = .ok (.iconst 1, 1) := dk_4 (dk_at dksX9_noPattern_0 9 rfl rfl)
theorem dX9_noPattern_10 : decode cX9_noPattern 10 = .ok (.isub, 1) := dk_100 (dk_at dksX9_noPattern_0 10 rfl rfl)
theorem dX9_noPattern_11 : decode cX9_noPattern 11 = .ok (.invokestatic 160, 3) := dk_184 0 160 (dk_at dksX9_noPattern_0 11 rfl rfl)
theorem dX9_noPattern_14 : decode cX9_noPattern 14 = .ok (.ifCond .ne 7, 3) := dk_154 0 7 (dk_at dksX9_noPattern_0 14 rfl rfl)
theorem dX9_noPattern_17 : decode cX9_noPattern 17 = .ok (.iconst 1, 1) := dk_4 (dk_at dksX9_noPattern_0 17 rfl rfl)
theorem dX9_noPattern_18 : decode cX9_noPattern 18 = .ok (.goto 4, 3) := dk_167 0 4 (dk_at dksX9_noPattern_0 18 rfl rfl)
theorem dX9_noPattern_21 : decode cX9_noPattern 21 = .ok (.iconst 0, 1) := dk_3 (dk_at dksX9_noPattern_0 21 rfl rfl)
theorem dX9_noPattern_22 : decode cX9_noPattern 22 = .ok (.iconst 1, 1) := dk_4 (dk_at dksX9_noPattern_0 22 rfl rfl)
theorem dX9_noPattern_23 : decode cX9_noPattern 23 = .ok (.invokevirtual 360, 3) := dk_182 1 104 (dk_at dksX9_noPattern_1 0 rfl rfl)
theorem dX9_noPattern_26 : decode cX9_noPattern 26 = .ok (.ireturn, 1) := dk_172 (dk_at dksX9_noPattern_1 3 rfl rfl)
abbrev cX9_borderOf : ByteArray := prog_29_method_17_code
def yX9_borderOf : MethodName := ⟨RX9, "borderOf", "(II)I"⟩
def dkwX9_borderOf_1 : List UInt8 := [29, 172]
abbrev dktX9_borderOf_1 : List UInt8 := dkwX9_borderOf_1 ++ []
def dkwX9_borderOf_0 : List UInt8 := [28, 4, 100, 62, 42, 27, 27, 28, 96, 29, 100, 29, 182, 0, 87, 154, 0, 9, 132, 3, 255, 167, 255, 239]
abbrev dktX9_borderOf_0 : List UInt8 := dkwX9_borderOf_0 ++ dktX9_borderOf_1
theorem dksX9_borderOf_0 : cX9_borderOf.data.toList.drop 0 = dktX9_borderOf_0 := by decide +kernel
theorem dksX9_borderOf_1 : cX9_borderOf.data.toList.drop 24 = dktX9_borderOf_1 := dk_seg dksX9_borderOf_0 24 rfl rfl
theorem dX9_borderOf_0 : decode cX9_borderOf 0 = .ok (.iload_n 2, 1) := dk_28 (dk_at dksX9_borderOf_0 0 rfl rfl)
theorem dX9_borderOf_1 : decode cX9_borderOf 1 = .ok (.iconst 1, 1) := dk_4 (dk_at dksX9_borderOf_0 1 rfl rfl)
theorem dX9_borderOf_2 : decode cX9_borderOf 2 = .ok (.isub, 1) := dk_100 (dk_at dksX9_borderOf_0 2 rfl rfl)
theorem dX9_borderOf_3 : decode cX9_borderOf 3 = .ok (.istore_n 3, 1) := dk_62 (dk_at dksX9_borderOf_0 3 rfl rfl)
theorem dX9_borderOf_4 : decode cX9_borderOf 4 = .ok (.aload_n 0, 1) := dk_42 (dk_at dksX9_borderOf_0 4 rfl rfl)
theorem dX9_borderOf_5 : decode cX9_borderOf 5 = .ok (.iload_n 1, 1) := dk_27 (dk_at dksX9_borderOf_0 5 rfl rfl)
theorem dX9_borderOf_6 : decode cX9_borderOf 6 = .ok (.iload_n 1, 1) := dk_27 (dk_at dksX9_borderOf_0 6 rfl rfl)
theorem dX9_borderOf_7 : decode cX9_borderOf 7 = .ok (.iload_n 2, 1) := dk_28 (dk_at dksX9_borderOf_0 7 rfl rfl)
theorem dX9_borderOf_8 : decode cX9_borderOf 8 = .ok (.iadd, 1) := dk_96 (dk_at dksX9_borderOf_0 8 rfl rfl)
theorem dX9_borderOf_9 : decode cX9_borderOf 9 = .ok (.iload_n 3, 1) := dk_29 (dk_at dksX9_borderOf_0 9 rfl rfl)
theorem dX9_borderOf_10 : decode cX9_borderOf 10 = .ok (.isub, 1) := dk_100 (dk_at dksX9_borderOf_0 10 rfl rfl)
theorem dX9_borderOf_11 : decode cX9_borderOf 11 = .ok (.iload_n 3, 1) := dk_29 (dk_at dksX9_borderOf_0 11 rfl rfl)
theorem dX9_borderOf_12 : decode cX9_borderOf 12 = .ok (.invokevirtual 87, 3) := dk_182 0 87 (dk_at dksX9_borderOf_0 12 rfl rfl)
theorem dX9_borderOf_15 : decode cX9_borderOf 15 = .ok (.ifCond .ne 9, 3) := dk_154 0 9 (dk_at dksX9_borderOf_0 15 rfl rfl)
theorem dX9_borderOf_18 : decode cX9_borderOf 18 = .ok (.iinc 3 (-1), 3) := dk_132 3 255 (dk_at dksX9_borderOf_0 18 rfl rfl)
theorem dX9_borderOf_21 : decode cX9_borderOf 21 = .ok (.goto (-17), 3) := dk_167 255 239 (dk_at dksX9_borderOf_0 21 rfl rfl)
theorem dX9_borderOf_24 : decode cX9_borderOf 24 = .ok (.iload_n 3, 1) := dk_29 (dk_at dksX9_borderOf_1 0 rfl rfl)
theorem dX9_borderOf_25 : decode cX9_borderOf 25 = .ok (.ireturn, 1) := dk_172 (dk_at dksX9_borderOf_1 1 rfl rfl)
abbrev cX9_areAlike : ByteArray := prog_29_method_16_code
def yX9_areAlike : MethodName := ⟨RX9, "areAlike", "(III)Z"⟩
def dkwX9_areAlike_0 : List UInt8 := [42, 27, 28, 29, 182, 0, 83, 29, 160, 0, 7, 4, 167, 0, 4, 3, 172]
abbrev dktX9_areAlike_0 : List UInt8 := dkwX9_areAlike_0 ++ []
theorem dksX9_areAlike_0 : cX9_areAlike.data.toList.drop 0 = dktX9_areAlike_0 := by decide +kernel
theorem dX9_areAlike_0 : decode cX9_areAlike 0 = .ok (.aload_n 0, 1) := dk_42 (dk_at dksX9_areAlike_0 0 rfl rfl)
theorem dX9_areAlike_1 : decode cX9_areAlike 1 = .ok (.iload_n 1, 1) := dk_27 (dk_at dksX9_areAlike_0 1 rfl rfl)
theorem dX9_areAlike_2 : decode cX9_areAlike 2 = .ok (.iload_n 2, 1) := dk_28 (dk_at dksX9_areAlike_0 2 rfl rfl)
theorem dX9_areAlike_3 : decode cX9_areAlike 3 = .ok (.iload_n 3, 1) := dk_29 (dk_at dksX9_areAlike_0 3 rfl rfl)
theorem dX9_areAlike_4 : decode cX9_areAlike 4 = .ok (.invokevirtual 83, 3) := dk_182 0 83 (dk_at dksX9_areAlike_0 4 rfl rfl)
theorem dX9_areAlike_7 : decode cX9_areAlike 7 = .ok (.iload_n 3, 1) := dk_29 (dk_at dksX9_areAlike_0 7 rfl rfl)
theorem dX9_areAlike_8 : decode cX9_areAlike 8 = .ok (.if_icmp .ne 7, 3) := dk_160 0 7 (dk_at dksX9_areAlike_0 8 rfl rfl)
theorem dX9_areAlike_11 : decode cX9_areAlike 11 = .ok (.iconst 1, 1) := dk_4 (dk_at dksX9_areAlike_0 11 rfl rfl)
theorem dX9_areAlike_12 : decode cX9_areAlike 12 = .ok (.goto 4, 3) := dk_167 0 4 (dk_at dksX9_areAlike_0 12 rfl rfl)
theorem dX9_areAlike_15 : decode cX9_areAlike 15 = .ok (.iconst 0, 1) := dk_3 (dk_at dksX9_areAlike_0 15 rfl rfl)
theorem dX9_areAlike_16 : decode cX9_areAlike 16 = .ok (.ireturn, 1) := dk_172 (dk_at dksX9_areAlike_0 16 rfl rfl)
abbrev cX9_marksOf : ByteArray := prog_29_method_31_code
def yX9_marksOf : MethodName := ⟨RX9, "marksOf", "(I)I"⟩
def dkwX9_marksOf_1 : List UInt8 := [4, 167, 0, 4, 3, 184, 0, 113, 96, 61, 132, 3, 1, 167, 255, 223, 28, 172]
abbrev dktX9_marksOf_1 : List UInt8 := dkwX9_marksOf_1 ++ []
def dkwX9_marksOf_0 : List UInt8 := [3, 61, 3, 62, 29, 42, 180, 0, 9, 6, 46, 162, 0, 29, 28, 42, 29, 182, 0, 127, 27, 160, 0, 7]
abbrev dktX9_marksOf_0 : List UInt8 := dkwX9_marksOf_0 ++ dktX9_marksOf_1
theorem dksX9_marksOf_0 : cX9_marksOf.data.toList.drop 0 = dktX9_marksOf_0 := by decide +kernel
theorem dksX9_marksOf_1 : cX9_marksOf.data.toList.drop 24 = dktX9_marksOf_1 := dk_seg dksX9_marksOf_0 24 rfl rfl
theorem dX9_marksOf_0 : decode cX9_marksOf 0 = .ok (.iconst 0, 1) := dk_3 (dk_at dksX9_marksOf_0 0 rfl rfl)
theorem dX9_marksOf_1 : decode cX9_marksOf 1 = .ok (.istore_n 2, 1) := dk_61 (dk_at dksX9_marksOf_0 1 rfl rfl)
theorem dX9_marksOf_2 : decode cX9_marksOf 2 = .ok (.iconst 0, 1) := dk_3 (dk_at dksX9_marksOf_0 2 rfl rfl)
theorem dX9_marksOf_3 : decode cX9_marksOf 3 = .ok (.istore_n 3, 1) := dk_62 (dk_at dksX9_marksOf_0 3 rfl rfl)
theorem dX9_marksOf_4 : decode cX9_marksOf 4 = .ok (.iload_n 3, 1) := dk_29 (dk_at dksX9_marksOf_0 4 rfl rfl)
theorem dX9_marksOf_5 : decode cX9_marksOf 5 = .ok (.aload_n 0, 1) := dk_42 (dk_at dksX9_marksOf_0 5 rfl rfl)
theorem dX9_marksOf_6 : decode cX9_marksOf 6 = .ok (.getfield 9, 3) := dk_180 0 9 (dk_at dksX9_marksOf_0 6 rfl rfl)
theorem dX9_marksOf_9 : decode cX9_marksOf 9 = .ok (.iconst 3, 1) := dk_6 (dk_at dksX9_marksOf_0 9 rfl rfl)
theorem dX9_marksOf_10 : decode cX9_marksOf 10 = .ok (.iaload, 1) := dk_46 (dk_at dksX9_marksOf_0 10 rfl rfl)
theorem dX9_marksOf_11 : decode cX9_marksOf 11 = .ok (.if_icmp .ge 29, 3) := dk_162 0 29 (dk_at dksX9_marksOf_0 11 rfl rfl)
theorem dX9_marksOf_14 : decode cX9_marksOf 14 = .ok (.iload_n 2, 1) := dk_28 (dk_at dksX9_marksOf_0 14 rfl rfl)
theorem dX9_marksOf_15 : decode cX9_marksOf 15 = .ok (.aload_n 0, 1) := dk_42 (dk_at dksX9_marksOf_0 15 rfl rfl)
theorem dX9_marksOf_16 : decode cX9_marksOf 16 = .ok (.iload_n 3, 1) := dk_29 (dk_at dksX9_marksOf_0 16 rfl rfl)
theorem dX9_marksOf_17 : decode cX9_marksOf 17 = .ok (.invokevirtual 127, 3) := dk_182 0 127 (dk_at dksX9_marksOf_0 17 rfl rfl)
theorem dX9_marksOf_20 : decode cX9_marksOf 20 = .ok (.iload_n 1, 1) := dk_27 (dk_at dksX9_marksOf_0 20 rfl rfl)
theorem dX9_marksOf_21 : decode cX9_marksOf 21 = .ok (.if_icmp .ne 7, 3) := dk_160 0 7 (dk_at dksX9_marksOf_0 21 rfl rfl)
theorem dX9_marksOf_24 : decode cX9_marksOf 24 = .ok (.iconst 1, 1) := dk_4 (dk_at dksX9_marksOf_1 0 rfl rfl)
theorem dX9_marksOf_25 : decode cX9_marksOf 25 = .ok (.goto 4, 3) := dk_167 0 4 (dk_at dksX9_marksOf_1 1 rfl rfl)
theorem dX9_marksOf_28 : decode cX9_marksOf 28 = .ok (.iconst 0, 1) := dk_3 (dk_at dksX9_marksOf_1 4 rfl rfl)
theorem dX9_marksOf_29 : decode cX9_marksOf 29 = .ok (.invokestatic 113, 3) := dk_184 0 113 (dk_at dksX9_marksOf_1 5 rfl rfl)
theorem dX9_marksOf_32 : decode cX9_marksOf 32 = .ok (.iadd, 1) := dk_96 (dk_at dksX9_marksOf_1 8 rfl rfl)
theorem dX9_marksOf_33 : decode cX9_marksOf 33 = .ok (.istore_n 2, 1) := dk_61 (dk_at dksX9_marksOf_1 9 rfl rfl)
theorem dX9_marksOf_34 : decode cX9_marksOf 34 = .ok (.iinc 3 1, 3) := dk_132 3 1 (dk_at dksX9_marksOf_1 10 rfl rfl)
theorem dX9_marksOf_37 : decode cX9_marksOf 37 = .ok (.goto (-33), 3) := dk_167 255 223 (dk_at dksX9_marksOf_1 13 rfl rfl)
theorem dX9_marksOf_40 : decode cX9_marksOf 40 = .ok (.iload_n 2, 1) := dk_28 (dk_at dksX9_marksOf_1 16 rfl rfl)
theorem dX9_marksOf_41 : decode cX9_marksOf 41 = .ok (.ireturn, 1) := dk_172 (dk_at dksX9_marksOf_1 17 rfl rfl)
abbrev cX9_candidates : ByteArray := prog_29_method_23_code
def yX9_candidates : MethodName := ⟨RX9, "candidates", "(I)I"⟩
def dkwX9_candidates_1 : List UInt8 := [96, 61, 132, 3, 1, 167, 255, 231, 28, 172]
abbrev dktX9_candidates_1 : List UInt8 := dkwX9_candidates_1 ++ []
def dkwX9_candidates_0 : List UInt8 := [3, 61, 3, 62, 29, 42, 180, 0, 9, 4, 46, 162, 0, 21, 28, 42, 27, 29, 182, 0, 121, 184, 0, 113]
abbrev dktX9_candidates_0 : List UInt8 := dkwX9_candidates_0 ++ dktX9_candidates_1
theorem dksX9_candidates_0 : cX9_candidates.data.toList.drop 0 = dktX9_candidates_0 := by decide +kernel
theorem dksX9_candidates_1 : cX9_candidates.data.toList.drop 24 = dktX9_candidates_1 := dk_seg dksX9_candidates_0 24 rfl rfl
theorem dX9_candidates_0 : decode cX9_candidates 0 = .ok (.iconst 0, 1) := dk_3 (dk_at dksX9_candidates_0 0 rfl rfl)
theorem dX9_candidates_1 : decode cX9_candidates 1 = .ok (.istore_n 2, 1) := dk_61 (dk_at dksX9_candidates_0 1 rfl rfl)
theorem dX9_candidates_2 : decode cX9_candidates 2 = .ok (.iconst 0, 1) := dk_3 (dk_at dksX9_candidates_0 2 rfl rfl)
theorem dX9_candidates_3 : decode cX9_candidates 3 = .ok (.istore_n 3, 1) := dk_62 (dk_at dksX9_candidates_0 3 rfl rfl)
theorem dX9_candidates_4 : decode cX9_candidates 4 = .ok (.iload_n 3, 1) := dk_29 (dk_at dksX9_candidates_0 4 rfl rfl)
theorem dX9_candidates_5 : decode cX9_candidates 5 = .ok (.aload_n 0, 1) := dk_42 (dk_at dksX9_candidates_0 5 rfl rfl)
theorem dX9_candidates_6 : decode cX9_candidates 6 = .ok (.getfield 9, 3) := dk_180 0 9 (dk_at dksX9_candidates_0 6 rfl rfl)
theorem dX9_candidates_9 : decode cX9_candidates 9 = .ok (.iconst 1, 1) := dk_4 (dk_at dksX9_candidates_0 9 rfl rfl)
theorem dX9_candidates_10 : decode cX9_candidates 10 = .ok (.iaload, 1) := dk_46 (dk_at dksX9_candidates_0 10 rfl rfl)
theorem dX9_candidates_11 : decode cX9_candidates 11 = .ok (.if_icmp .ge 21, 3) := dk_162 0 21 (dk_at dksX9_candidates_0 11 rfl rfl)
theorem dX9_candidates_14 : decode cX9_candidates 14 = .ok (.iload_n 2, 1) := dk_28 (dk_at dksX9_candidates_0 14 rfl rfl)
theorem dX9_candidates_15 : decode cX9_candidates 15 = .ok (.aload_n 0, 1) := dk_42 (dk_at dksX9_candidates_0 15 rfl rfl)
theorem dX9_candidates_16 : decode cX9_candidates 16 = .ok (.iload_n 1, 1) := dk_27 (dk_at dksX9_candidates_0 16 rfl rfl)
theorem dX9_candidates_17 : decode cX9_candidates 17 = .ok (.iload_n 3, 1) := dk_29 (dk_at dksX9_candidates_0 17 rfl rfl)
theorem dX9_candidates_18 : decode cX9_candidates 18 = .ok (.invokevirtual 121, 3) := dk_182 0 121 (dk_at dksX9_candidates_0 18 rfl rfl)
theorem dX9_candidates_21 : decode cX9_candidates 21 = .ok (.invokestatic 113, 3) := dk_184 0 113 (dk_at dksX9_candidates_0 21 rfl rfl)
theorem dX9_candidates_24 : decode cX9_candidates 24 = .ok (.iadd, 1) := dk_96 (dk_at dksX9_candidates_1 0 rfl rfl)
theorem dX9_candidates_25 : decode cX9_candidates 25 = .ok (.istore_n 2, 1) := dk_61 (dk_at dksX9_candidates_1 1 rfl rfl)
theorem dX9_candidates_26 : decode cX9_candidates 26 = .ok (.iinc 3 1, 3) := dk_132 3 1 (dk_at dksX9_candidates_1 2 rfl rfl)
theorem dX9_candidates_29 : decode cX9_candidates 29 = .ok (.goto (-25), 3) := dk_167 255 231 (dk_at dksX9_candidates_1 5 rfl rfl)
theorem dX9_candidates_32 : decode cX9_candidates 32 = .ok (.iload_n 2, 1) := dk_28 (dk_at dksX9_candidates_1 8 rfl rfl)
theorem dX9_candidates_33 : decode cX9_candidates 33 = .ok (.ireturn, 1) := dk_172 (dk_at dksX9_candidates_1 9 rfl rfl)
abbrev cX9_isCandidate : ByteArray := prog_29_method_22_code
def yX9_isCandidate : MethodName := ⟨RX9, "isCandidate", "(II)Z"⟩
def dkwX9_isCandidate_8 : List UInt8 := [172, 132, 4, 1, 167, 255, 234, 4, 172]
abbrev dktX9_isCandidate_8 : List UInt8 := dkwX9_isCandidate_8 ++ []
def dkwX9_isCandidate_7 : List UInt8 := [167, 255, 174, 3, 54, 4, 21, 4, 16, 20, 163, 0, 21, 42, 180, 0, 35, 21, 4, 46, 153, 0, 5, 3]
abbrev dktX9_isCandidate_7 : List UInt8 := dkwX9_isCandidate_7 ++ dktX9_isCandidate_8
def dkwX9_isCandidate_6 : List UInt8 := [4, 96, 79, 42, 180, 0, 35, 42, 180, 0, 32, 21, 4, 46, 92, 46, 4, 100, 79, 132, 4, 1]
abbrev dktX9_isCandidate_6 : List UInt8 := dkwX9_isCandidate_6 ++ dktX9_isCandidate_7
def dkwX9_isCandidate_5 : List UInt8 := [21, 4, 182, 0, 72, 153, 0, 6, 167, 0, 35, 42, 180, 0, 35, 42, 180, 0, 29, 21, 4, 46, 92, 46]
abbrev dktX9_isCandidate_5 : List UInt8 := dkwX9_isCandidate_5 ++ dktX9_isCandidate_6
def dkwX9_isCandidate_4 : List UInt8 := [153, 0, 22, 42, 180, 0, 29, 21, 4, 46, 42, 180, 0, 32, 21, 4, 46, 159, 0, 5, 3, 172, 42]
abbrev dktX9_isCandidate_4 : List UInt8 := dkwX9_isCandidate_4 ++ dktX9_isCandidate_5
def dkwX9_isCandidate_3 : List UInt8 := [79, 132, 4, 1, 167, 255, 238, 3, 54, 4, 21, 4, 16, 26, 162, 0, 81, 42, 21, 4, 182, 0, 72]
abbrev dktX9_isCandidate_3 : List UInt8 := dkwX9_isCandidate_3 ++ dktX9_isCandidate_4
def dkwX9_isCandidate_2 : List UInt8 := [184, 0, 95, 29, 184, 0, 117, 3, 54, 4, 21, 4, 16, 20, 163, 0, 17, 42, 180, 0, 35, 21, 4, 3]
abbrev dktX9_isCandidate_2 : List UInt8 := dkwX9_isCandidate_2 ++ dktX9_isCandidate_3
def dkwX9_isCandidate_1 : List UInt8 := [180, 0, 29, 42, 180, 0, 9, 27, 184, 0, 91, 29, 184, 0, 117, 42, 180, 0, 32, 42, 180, 0, 9, 28]
abbrev dktX9_isCandidate_1 : List UInt8 := dkwX9_isCandidate_1 ++ dktX9_isCandidate_2
def dkwX9_isCandidate_0 : List UInt8 := [42, 27, 3, 182, 0, 98, 62, 28, 29, 96, 42, 180, 0, 9, 4, 46, 164, 0, 5, 3, 172, 42]
abbrev dktX9_isCandidate_0 : List UInt8 := dkwX9_isCandidate_0 ++ dktX9_isCandidate_1
theorem dksX9_isCandidate_0 : cX9_isCandidate.data.toList.drop 0 = dktX9_isCandidate_0 := by decide +kernel
theorem dksX9_isCandidate_1 : cX9_isCandidate.data.toList.drop 22 = dktX9_isCandidate_1 := dk_seg dksX9_isCandidate_0 22 rfl rfl
theorem dksX9_isCandidate_2 : cX9_isCandidate.data.toList.drop 46 = dktX9_isCandidate_2 := dk_seg dksX9_isCandidate_1 24 rfl rfl
theorem dksX9_isCandidate_3 : cX9_isCandidate.data.toList.drop 70 = dktX9_isCandidate_3 := dk_seg dksX9_isCandidate_2 24 rfl rfl
theorem dksX9_isCandidate_4 : cX9_isCandidate.data.toList.drop 93 = dktX9_isCandidate_4 := dk_seg dksX9_isCandidate_3 23 rfl rfl
theorem dksX9_isCandidate_5 : cX9_isCandidate.data.toList.drop 116 = dktX9_isCandidate_5 := dk_seg dksX9_isCandidate_4 23 rfl rfl
theorem dksX9_isCandidate_6 : cX9_isCandidate.data.toList.drop 140 = dktX9_isCandidate_6 := dk_seg dksX9_isCandidate_5 24 rfl rfl
theorem dksX9_isCandidate_7 : cX9_isCandidate.data.toList.drop 162 = dktX9_isCandidate_7 := dk_seg dksX9_isCandidate_6 22 rfl rfl
theorem dksX9_isCandidate_8 : cX9_isCandidate.data.toList.drop 186 = dktX9_isCandidate_8 := dk_seg dksX9_isCandidate_7 24 rfl rfl
theorem dX9_isCandidate_0 : decode cX9_isCandidate 0 = .ok (.aload_n 0, 1) := dk_42 (dk_at dksX9_isCandidate_0 0 rfl rfl)
theorem dX9_isCandidate_1 : decode cX9_isCandidate 1 = .ok (.iload_n 1, 1) := dk_27 (dk_at dksX9_isCandidate_0 1 rfl rfl)
theorem dX9_isCandidate_2 : decode cX9_isCandidate 2 = .ok (.iconst 0, 1) := dk_3 (dk_at dksX9_isCandidate_0 2 rfl rfl)
theorem dX9_isCandidate_3 : decode cX9_isCandidate 3 = .ok (.invokevirtual 98, 3) := dk_182 0 98 (dk_at dksX9_isCandidate_0 3 rfl rfl)
theorem dX9_isCandidate_6 : decode cX9_isCandidate 6 = .ok (.istore_n 3, 1) := dk_62 (dk_at dksX9_isCandidate_0 6 rfl rfl)
theorem dX9_isCandidate_7 : decode cX9_isCandidate 7 = .ok (.iload_n 2, 1) := dk_28 (dk_at dksX9_isCandidate_0 7 rfl rfl)
theorem dX9_isCandidate_8 : decode cX9_isCandidate 8 = .ok (.iload_n 3, 1) := dk_29 (dk_at dksX9_isCandidate_0 8 rfl rfl)
theorem dX9_isCandidate_9 : decode cX9_isCandidate 9 = .ok (.iadd, 1) := dk_96 (dk_at dksX9_isCandidate_0 9 rfl rfl)
theorem dX9_isCandidate_10 : decode cX9_isCandidate 10 = .ok (.aload_n 0, 1) := dk_42 (dk_at dksX9_isCandidate_0 10 rfl rfl)
theorem dX9_isCandidate_11 : decode cX9_isCandidate 11 = .ok (.getfield 9, 3) := dk_180 0 9 (dk_at dksX9_isCandidate_0 11 rfl rfl)
theorem dX9_isCandidate_14 : decode cX9_isCandidate 14 = .ok (.iconst 1, 1) := dk_4 (dk_at dksX9_isCandidate_0 14 rfl rfl)
theorem dX9_isCandidate_15 : decode cX9_isCandidate 15 = .ok (.iaload, 1) := dk_46 (dk_at dksX9_isCandidate_0 15 rfl rfl)
theorem dX9_isCandidate_16 : decode cX9_isCandidate 16 = .ok (.if_icmp .le 5, 3) := dk_164 0 5 (dk_at dksX9_isCandidate_0 16 rfl rfl)
theorem dX9_isCandidate_19 : decode cX9_isCandidate 19 = .ok (.iconst 0, 1) := dk_3 (dk_at dksX9_isCandidate_0 19 rfl rfl)
theorem dX9_isCandidate_20 : decode cX9_isCandidate 20 = .ok (.ireturn, 1) := dk_172 (dk_at dksX9_isCandidate_0 20 rfl rfl)
theorem dX9_isCandidate_21 : decode cX9_isCandidate 21 = .ok (.aload_n 0, 1) := dk_42 (dk_at dksX9_isCandidate_0 21 rfl rfl)
theorem dX9_isCandidate_22 : decode cX9_isCandidate 22 = .ok (.getfield 29, 3) := dk_180 0 29 (dk_at dksX9_isCandidate_1 0 rfl rfl)
theorem dX9_isCandidate_25 : decode cX9_isCandidate 25 = .ok (.aload_n 0, 1) := dk_42 (dk_at dksX9_isCandidate_1 3 rfl rfl)
theorem dX9_isCandidate_26 : decode cX9_isCandidate 26 = .ok (.getfield 9, 3) := dk_180 0 9 (dk_at dksX9_isCandidate_1 4 rfl rfl)
theorem dX9_isCandidate_29 : decode cX9_isCandidate 29 = .ok (.iload_n 1, 1) := dk_27 (dk_at dksX9_isCandidate_1 7 rfl rfl)
theorem dX9_isCandidate_30 : decode cX9_isCandidate 30 = .ok (.invokestatic 91, 3) := dk_184 0 91 (dk_at dksX9_isCandidate_1 8 rfl rfl)
theorem dX9_isCandidate_33 : decode cX9_isCandidate 33 = .ok (.iload_n 3, 1) := dk_29 (dk_at dksX9_isCandidate_1 11 rfl rfl)
theorem dX9_isCandidate_34 : decode cX9_isCandidate 34 = .ok (.invokestatic 117, 3) := dk_184 0 117 (dk_at dksX9_isCandidate_1 12 rfl rfl)
theorem dX9_isCandidate_37 : decode cX9_isCandidate 37 = .ok (.aload_n 0, 1) := dk_42 (dk_at dksX9_isCandidate_1 15 rfl rfl)
theorem dX9_isCandidate_38 : decode cX9_isCandidate 38 = .ok (.getfield 32, 3) := dk_180 0 32 (dk_at dksX9_isCandidate_1 16 rfl rfl)
theorem dX9_isCandidate_41 : decode cX9_isCandidate 41 = .ok (.aload_n 0, 1) := dk_42 (dk_at dksX9_isCandidate_1 19 rfl rfl)
theorem dX9_isCandidate_42 : decode cX9_isCandidate 42 = .ok (.getfield 9, 3) := dk_180 0 9 (dk_at dksX9_isCandidate_1 20 rfl rfl)
theorem dX9_isCandidate_45 : decode cX9_isCandidate 45 = .ok (.iload_n 2, 1) := dk_28 (dk_at dksX9_isCandidate_1 23 rfl rfl)
theorem dX9_isCandidate_46 : decode cX9_isCandidate 46 = .ok (.invokestatic 95, 3) := dk_184 0 95 (dk_at dksX9_isCandidate_2 0 rfl rfl)
theorem dX9_isCandidate_49 : decode cX9_isCandidate 49 = .ok (.iload_n 3, 1) := dk_29 (dk_at dksX9_isCandidate_2 3 rfl rfl)
theorem dX9_isCandidate_50 : decode cX9_isCandidate 50 = .ok (.invokestatic 117, 3) := dk_184 0 117 (dk_at dksX9_isCandidate_2 4 rfl rfl)
theorem dX9_isCandidate_53 : decode cX9_isCandidate 53 = .ok (.iconst 0, 1) := dk_3 (dk_at dksX9_isCandidate_2 7 rfl rfl)
theorem dX9_isCandidate_54 : decode cX9_isCandidate 54 = .ok (.istore 4, 2) := dk_54 4 (dk_at dksX9_isCandidate_2 8 rfl rfl)
theorem dX9_isCandidate_56 : decode cX9_isCandidate 56 = .ok (.iload 4, 2) := dk_21 4 (dk_at dksX9_isCandidate_2 10 rfl rfl)
theorem dX9_isCandidate_58 : decode cX9_isCandidate 58 = .ok (.bipush 20, 2) := dk_16 20 (dk_at dksX9_isCandidate_2 12 rfl rfl)
theorem dX9_isCandidate_60 : decode cX9_isCandidate 60 = .ok (.if_icmp .gt 17, 3) := dk_163 0 17 (dk_at dksX9_isCandidate_2 14 rfl rfl)
theorem dX9_isCandidate_63 : decode cX9_isCandidate 63 = .ok (.aload_n 0, 1) := dk_42 (dk_at dksX9_isCandidate_2 17 rfl rfl)
theorem dX9_isCandidate_64 : decode cX9_isCandidate 64 = .ok (.getfield 35, 3) := dk_180 0 35 (dk_at dksX9_isCandidate_2 18 rfl rfl)
theorem dX9_isCandidate_67 : decode cX9_isCandidate 67 = .ok (.iload 4, 2) := dk_21 4 (dk_at dksX9_isCandidate_2 21 rfl rfl)
theorem dX9_isCandidate_69 : decode cX9_isCandidate 69 = .ok (.iconst 0, 1) := dk_3 (dk_at dksX9_isCandidate_2 23 rfl rfl)
theorem dX9_isCandidate_70 : decode cX9_isCandidate 70 = .ok (.iastore, 1) := dk_79 (dk_at dksX9_isCandidate_3 0 rfl rfl)
theorem dX9_isCandidate_71 : decode cX9_isCandidate 71 = .ok (.iinc 4 1, 3) := dk_132 4 1 (dk_at dksX9_isCandidate_3 1 rfl rfl)
theorem dX9_isCandidate_74 : decode cX9_isCandidate 74 = .ok (.goto (-18), 3) := dk_167 255 238 (dk_at dksX9_isCandidate_3 4 rfl rfl)
theorem dX9_isCandidate_77 : decode cX9_isCandidate 77 = .ok (.iconst 0, 1) := dk_3 (dk_at dksX9_isCandidate_3 7 rfl rfl)
theorem dX9_isCandidate_78 : decode cX9_isCandidate 78 = .ok (.istore 4, 2) := dk_54 4 (dk_at dksX9_isCandidate_3 8 rfl rfl)
theorem dX9_isCandidate_80 : decode cX9_isCandidate 80 = .ok (.iload 4, 2) := dk_21 4 (dk_at dksX9_isCandidate_3 10 rfl rfl)
theorem dX9_isCandidate_82 : decode cX9_isCandidate 82 = .ok (.bipush 26, 2) := dk_16 26 (dk_at dksX9_isCandidate_3 12 rfl rfl)
theorem dX9_isCandidate_84 : decode cX9_isCandidate 84 = .ok (.if_icmp .ge 81, 3) := dk_162 0 81 (dk_at dksX9_isCandidate_3 14 rfl rfl)
theorem dX9_isCandidate_87 : decode cX9_isCandidate 87 = .ok (.aload_n 0, 1) := dk_42 (dk_at dksX9_isCandidate_3 17 rfl rfl)
theorem dX9_isCandidate_88 : decode cX9_isCandidate 88 = .ok (.iload 4, 2) := dk_21 4 (dk_at dksX9_isCandidate_3 18 rfl rfl)
theorem dX9_isCandidate_90 : decode cX9_isCandidate 90 = .ok (.invokevirtual 72, 3) := dk_182 0 72 (dk_at dksX9_isCandidate_3 20 rfl rfl)
theorem dX9_isCandidate_93 : decode cX9_isCandidate 93 = .ok (.ifCond .eq 22, 3) := dk_153 0 22 (dk_at dksX9_isCandidate_4 0 rfl rfl)
theorem dX9_isCandidate_96 : decode cX9_isCandidate 96 = .ok (.aload_n 0, 1) := dk_42 (dk_at dksX9_isCandidate_4 3 rfl rfl)
theorem dX9_isCandidate_97 : decode cX9_isCandidate 97 = .ok (.getfield 29, 3) := dk_180 0 29 (dk_at dksX9_isCandidate_4 4 rfl rfl)
theorem dX9_isCandidate_100 : decode cX9_isCandidate 100 = .ok (.iload 4, 2) := dk_21 4 (dk_at dksX9_isCandidate_4 7 rfl rfl)
theorem dX9_isCandidate_102 : decode cX9_isCandidate 102 = .ok (.iaload, 1) := dk_46 (dk_at dksX9_isCandidate_4 9 rfl rfl)
theorem dX9_isCandidate_103 : decode cX9_isCandidate 103 = .ok (.aload_n 0, 1) := dk_42 (dk_at dksX9_isCandidate_4 10 rfl rfl)
theorem dX9_isCandidate_104 : decode cX9_isCandidate 104 = .ok (.getfield 32, 3) := dk_180 0 32 (dk_at dksX9_isCandidate_4 11 rfl rfl)
theorem dX9_isCandidate_107 : decode cX9_isCandidate 107 = .ok (.iload 4, 2) := dk_21 4 (dk_at dksX9_isCandidate_4 14 rfl rfl)
theorem dX9_isCandidate_109 : decode cX9_isCandidate 109 = .ok (.iaload, 1) := dk_46 (dk_at dksX9_isCandidate_4 16 rfl rfl)
theorem dX9_isCandidate_110 : decode cX9_isCandidate 110 = .ok (.if_icmp .eq 5, 3) := dk_159 0 5 (dk_at dksX9_isCandidate_4 17 rfl rfl)
theorem dX9_isCandidate_113 : decode cX9_isCandidate 113 = .ok (.iconst 0, 1) := dk_3 (dk_at dksX9_isCandidate_4 20 rfl rfl)
theorem dX9_isCandidate_114 : decode cX9_isCandidate 114 = .ok (.ireturn, 1) := dk_172 (dk_at dksX9_isCandidate_4 21 rfl rfl)
theorem dX9_isCandidate_115 : decode cX9_isCandidate 115 = .ok (.aload_n 0, 1) := dk_42 (dk_at dksX9_isCandidate_4 22 rfl rfl)
theorem dX9_isCandidate_116 : decode cX9_isCandidate 116 = .ok (.iload 4, 2) := dk_21 4 (dk_at dksX9_isCandidate_5 0 rfl rfl)
theorem dX9_isCandidate_118 : decode cX9_isCandidate 118 = .ok (.invokevirtual 72, 3) := dk_182 0 72 (dk_at dksX9_isCandidate_5 2 rfl rfl)
theorem dX9_isCandidate_121 : decode cX9_isCandidate 121 = .ok (.ifCond .eq 6, 3) := dk_153 0 6 (dk_at dksX9_isCandidate_5 5 rfl rfl)
theorem dX9_isCandidate_124 : decode cX9_isCandidate 124 = .ok (.goto 35, 3) := dk_167 0 35 (dk_at dksX9_isCandidate_5 8 rfl rfl)
theorem dX9_isCandidate_127 : decode cX9_isCandidate 127 = .ok (.aload_n 0, 1) := dk_42 (dk_at dksX9_isCandidate_5 11 rfl rfl)
theorem dX9_isCandidate_128 : decode cX9_isCandidate 128 = .ok (.getfield 35, 3) := dk_180 0 35 (dk_at dksX9_isCandidate_5 12 rfl rfl)
theorem dX9_isCandidate_131 : decode cX9_isCandidate 131 = .ok (.aload_n 0, 1) := dk_42 (dk_at dksX9_isCandidate_5 15 rfl rfl)
theorem dX9_isCandidate_132 : decode cX9_isCandidate 132 = .ok (.getfield 29, 3) := dk_180 0 29 (dk_at dksX9_isCandidate_5 16 rfl rfl)
theorem dX9_isCandidate_135 : decode cX9_isCandidate 135 = .ok (.iload 4, 2) := dk_21 4 (dk_at dksX9_isCandidate_5 19 rfl rfl)
theorem dX9_isCandidate_137 : decode cX9_isCandidate 137 = .ok (.iaload, 1) := dk_46 (dk_at dksX9_isCandidate_5 21 rfl rfl)
theorem dX9_isCandidate_138 : decode cX9_isCandidate 138 = .ok (.dup2, 1) := dk_92 (dk_at dksX9_isCandidate_5 22 rfl rfl)
theorem dX9_isCandidate_139 : decode cX9_isCandidate 139 = .ok (.iaload, 1) := dk_46 (dk_at dksX9_isCandidate_5 23 rfl rfl)
theorem dX9_isCandidate_140 : decode cX9_isCandidate 140 = .ok (.iconst 1, 1) := dk_4 (dk_at dksX9_isCandidate_6 0 rfl rfl)
theorem dX9_isCandidate_141 : decode cX9_isCandidate 141 = .ok (.iadd, 1) := dk_96 (dk_at dksX9_isCandidate_6 1 rfl rfl)
theorem dX9_isCandidate_142 : decode cX9_isCandidate 142 = .ok (.iastore, 1) := dk_79 (dk_at dksX9_isCandidate_6 2 rfl rfl)
theorem dX9_isCandidate_143 : decode cX9_isCandidate 143 = .ok (.aload_n 0, 1) := dk_42 (dk_at dksX9_isCandidate_6 3 rfl rfl)
theorem dX9_isCandidate_144 : decode cX9_isCandidate 144 = .ok (.getfield 35, 3) := dk_180 0 35 (dk_at dksX9_isCandidate_6 4 rfl rfl)
theorem dX9_isCandidate_147 : decode cX9_isCandidate 147 = .ok (.aload_n 0, 1) := dk_42 (dk_at dksX9_isCandidate_6 7 rfl rfl)
theorem dX9_isCandidate_148 : decode cX9_isCandidate 148 = .ok (.getfield 32, 3) := dk_180 0 32 (dk_at dksX9_isCandidate_6 8 rfl rfl)
theorem dX9_isCandidate_151 : decode cX9_isCandidate 151 = .ok (.iload 4, 2) := dk_21 4 (dk_at dksX9_isCandidate_6 11 rfl rfl)
theorem dX9_isCandidate_153 : decode cX9_isCandidate 153 = .ok (.iaload, 1) := dk_46 (dk_at dksX9_isCandidate_6 13 rfl rfl)
theorem dX9_isCandidate_154 : decode cX9_isCandidate 154 = .ok (.dup2, 1) := dk_92 (dk_at dksX9_isCandidate_6 14 rfl rfl)
theorem dX9_isCandidate_155 : decode cX9_isCandidate 155 = .ok (.iaload, 1) := dk_46 (dk_at dksX9_isCandidate_6 15 rfl rfl)
theorem dX9_isCandidate_156 : decode cX9_isCandidate 156 = .ok (.iconst 1, 1) := dk_4 (dk_at dksX9_isCandidate_6 16 rfl rfl)
theorem dX9_isCandidate_157 : decode cX9_isCandidate 157 = .ok (.isub, 1) := dk_100 (dk_at dksX9_isCandidate_6 17 rfl rfl)
theorem dX9_isCandidate_158 : decode cX9_isCandidate 158 = .ok (.iastore, 1) := dk_79 (dk_at dksX9_isCandidate_6 18 rfl rfl)
theorem dX9_isCandidate_159 : decode cX9_isCandidate 159 = .ok (.iinc 4 1, 3) := dk_132 4 1 (dk_at dksX9_isCandidate_6 19 rfl rfl)
theorem dX9_isCandidate_162 : decode cX9_isCandidate 162 = .ok (.goto (-82), 3) := dk_167 255 174 (dk_at dksX9_isCandidate_7 0 rfl rfl)
theorem dX9_isCandidate_165 : decode cX9_isCandidate 165 = .ok (.iconst 0, 1) := dk_3 (dk_at dksX9_isCandidate_7 3 rfl rfl)
theorem dX9_isCandidate_166 : decode cX9_isCandidate 166 = .ok (.istore 4, 2) := dk_54 4 (dk_at dksX9_isCandidate_7 4 rfl rfl)
theorem dX9_isCandidate_168 : decode cX9_isCandidate 168 = .ok (.iload 4, 2) := dk_21 4 (dk_at dksX9_isCandidate_7 6 rfl rfl)
theorem dX9_isCandidate_170 : decode cX9_isCandidate 170 = .ok (.bipush 20, 2) := dk_16 20 (dk_at dksX9_isCandidate_7 8 rfl rfl)
theorem dX9_isCandidate_172 : decode cX9_isCandidate 172 = .ok (.if_icmp .gt 21, 3) := dk_163 0 21 (dk_at dksX9_isCandidate_7 10 rfl rfl)
theorem dX9_isCandidate_175 : decode cX9_isCandidate 175 = .ok (.aload_n 0, 1) := dk_42 (dk_at dksX9_isCandidate_7 13 rfl rfl)
theorem dX9_isCandidate_176 : decode cX9_isCandidate 176 = .ok (.getfield 35, 3) := dk_180 0 35 (dk_at dksX9_isCandidate_7 14 rfl rfl)
theorem dX9_isCandidate_179 : decode cX9_isCandidate 179 = .ok (.iload 4, 2) := dk_21 4 (dk_at dksX9_isCandidate_7 17 rfl rfl)
theorem dX9_isCandidate_181 : decode cX9_isCandidate 181 = .ok (.iaload, 1) := dk_46 (dk_at dksX9_isCandidate_7 19 rfl rfl)
theorem dX9_isCandidate_182 : decode cX9_isCandidate 182 = .ok (.ifCond .eq 5, 3) := dk_153 0 5 (dk_at dksX9_isCandidate_7 20 rfl rfl)
theorem dX9_isCandidate_185 : decode cX9_isCandidate 185 = .ok (.iconst 0, 1) := dk_3 (dk_at dksX9_isCandidate_7 23 rfl rfl)
theorem dX9_isCandidate_186 : decode cX9_isCandidate 186 = .ok (.ireturn, 1) := dk_172 (dk_at dksX9_isCandidate_8 0 rfl rfl)
theorem dX9_isCandidate_187 : decode cX9_isCandidate 187 = .ok (.iinc 4 1, 3) := dk_132 4 1 (dk_at dksX9_isCandidate_8 1 rfl rfl)
theorem dX9_isCandidate_190 : decode cX9_isCandidate 190 = .ok (.goto (-22), 3) := dk_167 255 234 (dk_at dksX9_isCandidate_8 4 rfl rfl)
theorem dX9_isCandidate_193 : decode cX9_isCandidate 193 = .ok (.iconst 1, 1) := dk_4 (dk_at dksX9_isCandidate_8 7 rfl rfl)
theorem dX9_isCandidate_194 : decode cX9_isCandidate 194 = .ok (.ireturn, 1) := dk_172 (dk_at dksX9_isCandidate_8 8 rfl rfl)
abbrev cX9_patternAt : ByteArray := prog_29_method_80_code
def yX9_patternAt : MethodName := ⟨RX9, "patternAt", "(II)I"⟩
def dkwX9_patternAt_1 : List UInt8 := [100, 184, 0, 160, 153, 0, 15, 42, 27, 16, 10, 28, 96, 182, 0, 98, 167, 0, 4, 2, 172]
abbrev dktX9_patternAt_1 : List UInt8 := dkwX9_patternAt_1 ++ []
def dkwX9_patternAt_0 : List UInt8 := [42, 3, 181, 0, 69, 42, 27, 182, 1, 117, 153, 0, 5, 3, 172, 28, 3, 42, 27, 3, 182, 0, 98, 4]
abbrev dktX9_patternAt_0 : List UInt8 := dkwX9_patternAt_0 ++ dktX9_patternAt_1
theorem dksX9_patternAt_0 : cX9_patternAt.data.toList.drop 0 = dktX9_patternAt_0 := by decide +kernel
theorem dksX9_patternAt_1 : cX9_patternAt.data.toList.drop 24 = dktX9_patternAt_1 := dk_seg dksX9_patternAt_0 24 rfl rfl
theorem dX9_patternAt_0 : decode cX9_patternAt 0 = .ok (.aload_n 0, 1) := dk_42 (dk_at dksX9_patternAt_0 0 rfl rfl)
theorem dX9_patternAt_1 : decode cX9_patternAt 1 = .ok (.iconst 0, 1) := dk_3 (dk_at dksX9_patternAt_0 1 rfl rfl)
theorem dX9_patternAt_2 : decode cX9_patternAt 2 = .ok (.putfield 69, 3) := dk_181 0 69 (dk_at dksX9_patternAt_0 2 rfl rfl)
theorem dX9_patternAt_5 : decode cX9_patternAt 5 = .ok (.aload_n 0, 1) := dk_42 (dk_at dksX9_patternAt_0 5 rfl rfl)
theorem dX9_patternAt_6 : decode cX9_patternAt 6 = .ok (.iload_n 1, 1) := dk_27 (dk_at dksX9_patternAt_0 6 rfl rfl)
theorem dX9_patternAt_7 : decode cX9_patternAt 7 = .ok (.invokevirtual 373, 3) := dk_182 1 117 (dk_at dksX9_patternAt_0 7 rfl rfl)
theorem dX9_patternAt_10 : decode cX9_patternAt 10 = .ok (.ifCond .eq 5, 3) := dk_153 0 5 (dk_at dksX9_patternAt_0 10 rfl rfl)
theorem dX9_patternAt_13 : decode cX9_patternAt 13 = .ok (.iconst 0, 1) := dk_3 (dk_at dksX9_patternAt_0 13 rfl rfl)
theorem dX9_patternAt_14 : decode cX9_patternAt 14 = .ok (.ireturn, 1) := dk_172 (dk_at dksX9_patternAt_0 14 rfl rfl)
theorem dX9_patternAt_15 : decode cX9_patternAt 15 = .ok (.iload_n 2, 1) := dk_28 (dk_at dksX9_patternAt_0 15 rfl rfl)
theorem dX9_patternAt_16 : decode cX9_patternAt 16 = .ok (.iconst 0, 1) := dk_3 (dk_at dksX9_patternAt_0 16 rfl rfl)
theorem dX9_patternAt_17 : decode cX9_patternAt 17 = .ok (.aload_n 0, 1) := dk_42 (dk_at dksX9_patternAt_0 17 rfl rfl)
theorem dX9_patternAt_18 : decode cX9_patternAt 18 = .ok (.iload_n 1, 1) := dk_27 (dk_at dksX9_patternAt_0 18 rfl rfl)
theorem dX9_patternAt_19 : decode cX9_patternAt 19 = .ok (.iconst 0, 1) := dk_3 (dk_at dksX9_patternAt_0 19 rfl rfl)
theorem dX9_patternAt_20 : decode cX9_patternAt 20 = .ok (.invokevirtual 98, 3) := dk_182 0 98 (dk_at dksX9_patternAt_0 20 rfl rfl)
theorem dX9_patternAt_23 : decode cX9_patternAt 23 = .ok (.iconst 1, 1) := dk_4 (dk_at dksX9_patternAt_0 23 rfl rfl)
theorem dX9_patternAt_24 : decode cX9_patternAt 24 = .ok (.isub, 1) := dk_100 (dk_at dksX9_patternAt_1 0 rfl rfl)
theorem dX9_patternAt_25 : decode cX9_patternAt 25 = .ok (.invokestatic 160, 3) := dk_184 0 160 (dk_at dksX9_patternAt_1 1 rfl rfl)
theorem dX9_patternAt_28 : decode cX9_patternAt 28 = .ok (.ifCond .eq 15, 3) := dk_153 0 15 (dk_at dksX9_patternAt_1 4 rfl rfl)
theorem dX9_patternAt_31 : decode cX9_patternAt 31 = .ok (.aload_n 0, 1) := dk_42 (dk_at dksX9_patternAt_1 7 rfl rfl)
theorem dX9_patternAt_32 : decode cX9_patternAt 32 = .ok (.iload_n 1, 1) := dk_27 (dk_at dksX9_patternAt_1 8 rfl rfl)
theorem dX9_patternAt_33 : decode cX9_patternAt 33 = .ok (.bipush 10, 2) := dk_16 10 (dk_at dksX9_patternAt_1 9 rfl rfl)
theorem dX9_patternAt_35 : decode cX9_patternAt 35 = .ok (.iload_n 2, 1) := dk_28 (dk_at dksX9_patternAt_1 11 rfl rfl)
theorem dX9_patternAt_36 : decode cX9_patternAt 36 = .ok (.iadd, 1) := dk_96 (dk_at dksX9_patternAt_1 12 rfl rfl)
theorem dX9_patternAt_37 : decode cX9_patternAt 37 = .ok (.invokevirtual 98, 3) := dk_182 0 98 (dk_at dksX9_patternAt_1 13 rfl rfl)
theorem dX9_patternAt_40 : decode cX9_patternAt 40 = .ok (.goto 4, 3) := dk_167 0 4 (dk_at dksX9_patternAt_1 16 rfl rfl)
theorem dX9_patternAt_43 : decode cX9_patternAt 43 = .ok (.iconst (-1), 1) := dk_2 (dk_at dksX9_patternAt_1 19 rfl rfl)
theorem dX9_patternAt_44 : decode cX9_patternAt 44 = .ok (.ireturn, 1) := dk_172 (dk_at dksX9_patternAt_1 20 rfl rfl)
abbrev cX9_letter : ByteArray := prog_29_method_81_code
def yX9_letter : MethodName := ⟨RX9, "letter", "(II)I"⟩
def dkwX9_letter_1 : List UInt8 := [100, 184, 0, 160, 153, 0, 14, 42, 27, 5, 28, 96, 182, 0, 98, 167, 0, 4, 2, 172]
abbrev dktX9_letter_1 : List UInt8 := dkwX9_letter_1 ++ []
def dkwX9_letter_0 : List UInt8 := [42, 3, 181, 0, 69, 42, 27, 182, 1, 117, 153, 0, 5, 3, 172, 28, 3, 42, 27, 4, 182, 0, 98, 4]
abbrev dktX9_letter_0 : List UInt8 := dkwX9_letter_0 ++ dktX9_letter_1
theorem dksX9_letter_0 : cX9_letter.data.toList.drop 0 = dktX9_letter_0 := by decide +kernel
theorem dksX9_letter_1 : cX9_letter.data.toList.drop 24 = dktX9_letter_1 := dk_seg dksX9_letter_0 24 rfl rfl
theorem dX9_letter_0 : decode cX9_letter 0 = .ok (.aload_n 0, 1) := dk_42 (dk_at dksX9_letter_0 0 rfl rfl)
theorem dX9_letter_1 : decode cX9_letter 1 = .ok (.iconst 0, 1) := dk_3 (dk_at dksX9_letter_0 1 rfl rfl)
theorem dX9_letter_2 : decode cX9_letter 2 = .ok (.putfield 69, 3) := dk_181 0 69 (dk_at dksX9_letter_0 2 rfl rfl)
theorem dX9_letter_5 : decode cX9_letter 5 = .ok (.aload_n 0, 1) := dk_42 (dk_at dksX9_letter_0 5 rfl rfl)
theorem dX9_letter_6 : decode cX9_letter 6 = .ok (.iload_n 1, 1) := dk_27 (dk_at dksX9_letter_0 6 rfl rfl)
theorem dX9_letter_7 : decode cX9_letter 7 = .ok (.invokevirtual 373, 3) := dk_182 1 117 (dk_at dksX9_letter_0 7 rfl rfl)
theorem dX9_letter_10 : decode cX9_letter 10 = .ok (.ifCond .eq 5, 3) := dk_153 0 5 (dk_at dksX9_letter_0 10 rfl rfl)
theorem dX9_letter_13 : decode cX9_letter 13 = .ok (.iconst 0, 1) := dk_3 (dk_at dksX9_letter_0 13 rfl rfl)
theorem dX9_letter_14 : decode cX9_letter 14 = .ok (.ireturn, 1) := dk_172 (dk_at dksX9_letter_0 14 rfl rfl)
theorem dX9_letter_15 : decode cX9_letter 15 = .ok (.iload_n 2, 1) := dk_28 (dk_at dksX9_letter_0 15 rfl rfl)
theorem dX9_letter_16 : decode cX9_letter 16 = .ok (.iconst 0, 1) := dk_3 (dk_at dksX9_letter_0 16 rfl rfl)
theorem dX9_letter_17 : decode cX9_letter 17 = .ok (.aload_n 0, 1) := dk_42 (dk_at dksX9_letter_0 17 rfl rfl)
theorem dX9_letter_18 : decode cX9_letter 18 = .ok (.iload_n 1, 1) := dk_27 (dk_at dksX9_letter_0 18 rfl rfl)
theorem dX9_letter_19 : decode cX9_letter 19 = .ok (.iconst 1, 1) := dk_4 (dk_at dksX9_letter_0 19 rfl rfl)
theorem dX9_letter_20 : decode cX9_letter 20 = .ok (.invokevirtual 98, 3) := dk_182 0 98 (dk_at dksX9_letter_0 20 rfl rfl)
theorem dX9_letter_23 : decode cX9_letter 23 = .ok (.iconst 1, 1) := dk_4 (dk_at dksX9_letter_0 23 rfl rfl)
theorem dX9_letter_24 : decode cX9_letter 24 = .ok (.isub, 1) := dk_100 (dk_at dksX9_letter_1 0 rfl rfl)
theorem dX9_letter_25 : decode cX9_letter 25 = .ok (.invokestatic 160, 3) := dk_184 0 160 (dk_at dksX9_letter_1 1 rfl rfl)
theorem dX9_letter_28 : decode cX9_letter 28 = .ok (.ifCond .eq 14, 3) := dk_153 0 14 (dk_at dksX9_letter_1 4 rfl rfl)
theorem dX9_letter_31 : decode cX9_letter 31 = .ok (.aload_n 0, 1) := dk_42 (dk_at dksX9_letter_1 7 rfl rfl)
theorem dX9_letter_32 : decode cX9_letter 32 = .ok (.iload_n 1, 1) := dk_27 (dk_at dksX9_letter_1 8 rfl rfl)
theorem dX9_letter_33 : decode cX9_letter 33 = .ok (.iconst 2, 1) := dk_5 (dk_at dksX9_letter_1 9 rfl rfl)
theorem dX9_letter_34 : decode cX9_letter 34 = .ok (.iload_n 2, 1) := dk_28 (dk_at dksX9_letter_1 10 rfl rfl)
theorem dX9_letter_35 : decode cX9_letter 35 = .ok (.iadd, 1) := dk_96 (dk_at dksX9_letter_1 11 rfl rfl)
theorem dX9_letter_36 : decode cX9_letter 36 = .ok (.invokevirtual 98, 3) := dk_182 0 98 (dk_at dksX9_letter_1 12 rfl rfl)
theorem dX9_letter_39 : decode cX9_letter 39 = .ok (.goto 4, 3) := dk_167 0 4 (dk_at dksX9_letter_1 15 rfl rfl)
theorem dX9_letter_42 : decode cX9_letter 42 = .ok (.iconst (-1), 1) := dk_2 (dk_at dksX9_letter_1 18 rfl rfl)
theorem dX9_letter_43 : decode cX9_letter 43 = .ok (.ireturn, 1) := dk_172 (dk_at dksX9_letter_1 19 rfl rfl)
abbrev cX9_border : ByteArray := prog_29_method_82_code
def yX9_border : MethodName := ⟨RX9, "border", "(II)I"⟩
def dkwX9_border_2 : List UInt8 := [184, 0, 91, 28, 182, 1, 120, 172]
abbrev dktX9_border_2 : List UInt8 := dkwX9_border_2 ++ []
def dkwX9_border_1 : List UInt8 := [184, 0, 160, 154, 0, 7, 4, 167, 0, 4, 3, 5, 182, 1, 104, 153, 0, 7, 3, 167, 0, 12, 42, 27]
abbrev dktX9_border_1 : List UInt8 := dkwX9_border_1 ++ dktX9_border_2
def dkwX9_border_0 : List UInt8 := [42, 3, 181, 0, 69, 42, 27, 182, 1, 117, 154, 0, 30, 42, 28, 4, 42, 27, 3, 182, 0, 98]
abbrev dktX9_border_0 : List UInt8 := dkwX9_border_0 ++ dktX9_border_1
theorem dksX9_border_0 : cX9_border.data.toList.drop 0 = dktX9_border_0 := by decide +kernel
theorem dksX9_border_1 : cX9_border.data.toList.drop 22 = dktX9_border_1 := dk_seg dksX9_border_0 22 rfl rfl
theorem dksX9_border_2 : cX9_border.data.toList.drop 46 = dktX9_border_2 := dk_seg dksX9_border_1 24 rfl rfl
theorem dX9_border_0 : decode cX9_border 0 = .ok (.aload_n 0, 1) := dk_42 (dk_at dksX9_border_0 0 rfl rfl)
theorem dX9_border_1 : decode cX9_border 1 = .ok (.iconst 0, 1) := dk_3 (dk_at dksX9_border_0 1 rfl rfl)
theorem dX9_border_2 : decode cX9_border 2 = .ok (.putfield 69, 3) := dk_181 0 69 (dk_at dksX9_border_0 2 rfl rfl)
theorem dX9_border_5 : decode cX9_border 5 = .ok (.aload_n 0, 1) := dk_42 (dk_at dksX9_border_0 5 rfl rfl)
theorem dX9_border_6 : decode cX9_border 6 = .ok (.iload_n 1, 1) := dk_27 (dk_at dksX9_border_0 6 rfl rfl)
theorem dX9_border_7 : decode cX9_border 7 = .ok (.invokevirtual 373, 3) := dk_182 1 117 (dk_at dksX9_border_0 7 rfl rfl)
theorem dX9_border_10 : decode cX9_border 10 = .ok (.ifCond .ne 30, 3) := dk_154 0 30 (dk_at dksX9_border_0 10 rfl rfl)
theorem dX9_border_13 : decode cX9_border 13 = .ok (.aload_n 0, 1) := dk_42 (dk_at dksX9_border_0 13 rfl rfl)
theorem dX9_border_14 : decode cX9_border 14 = .ok (.iload_n 2, 1) := dk_28 (dk_at dksX9_border_0 14 rfl rfl)
theorem dX9_border_15 : decode cX9_border 15 = .ok (.iconst 1, 1) := dk_4 (dk_at dksX9_border_0 15 rfl rfl)
theorem dX9_border_16 : decode cX9_border 16 = .ok (.aload_n 0, 1) := dk_42 (dk_at dksX9_border_0 16 rfl rfl)
theorem dX9_border_17 : decode cX9_border 17 = .ok (.iload_n 1, 1) := dk_27 (dk_at dksX9_border_0 17 rfl rfl)
theorem dX9_border_18 : decode cX9_border 18 = .ok (.iconst 0, 1) := dk_3 (dk_at dksX9_border_0 18 rfl rfl)
theorem dX9_border_19 : decode cX9_border 19 = .ok (.invokevirtual 98, 3) := dk_182 0 98 (dk_at dksX9_border_0 19 rfl rfl)
theorem dX9_border_22 : decode cX9_border 22 = .ok (.invokestatic 160, 3) := dk_184 0 160 (dk_at dksX9_border_1 0 rfl rfl)
theorem dX9_border_25 : decode cX9_border 25 = .ok (.ifCond .ne 7, 3) := dk_154 0 7 (dk_at dksX9_border_1 3 rfl rfl)
theorem dX9_border_28 : decode cX9_border 28 = .ok (.iconst 1, 1) := dk_4 (dk_at dksX9_border_1 6 rfl rfl)
theorem dX9_border_29 : decode cX9_border 29 = .ok (.goto 4, 3) := dk_167 0 4 (dk_at dksX9_border_1 7 rfl rfl)
theorem dX9_border_32 : decode cX9_border 32 = .ok (.iconst 0, 1) := dk_3 (dk_at dksX9_border_1 10 rfl rfl)
theorem dX9_border_33 : decode cX9_border 33 = .ok (.iconst 2, 1) := dk_5 (dk_at dksX9_border_1 11 rfl rfl)
theorem dX9_border_34 : decode cX9_border 34 = .ok (.invokevirtual 360, 3) := dk_182 1 104 (dk_at dksX9_border_1 12 rfl rfl)
theorem dX9_border_37 : decode cX9_border 37 = .ok (.ifCond .eq 7, 3) := dk_153 0 7 (dk_at dksX9_border_1 15 rfl rfl)
theorem dX9_border_40 : decode cX9_border 40 = .ok (.iconst 0, 1) := dk_3 (dk_at dksX9_border_1 18 rfl rfl)
theorem dX9_border_41 : decode cX9_border 41 = .ok (.goto 12, 3) := dk_167 0 12 (dk_at dksX9_border_1 19 rfl rfl)
theorem dX9_border_44 : decode cX9_border 44 = .ok (.aload_n 0, 1) := dk_42 (dk_at dksX9_border_1 22 rfl rfl)
theorem dX9_border_45 : decode cX9_border 45 = .ok (.iload_n 1, 1) := dk_27 (dk_at dksX9_border_1 23 rfl rfl)
theorem dX9_border_46 : decode cX9_border 46 = .ok (.invokestatic 91, 3) := dk_184 0 91 (dk_at dksX9_border_2 0 rfl rfl)
theorem dX9_border_49 : decode cX9_border 49 = .ok (.iload_n 2, 1) := dk_28 (dk_at dksX9_border_2 3 rfl rfl)
theorem dX9_border_50 : decode cX9_border 50 = .ok (.invokevirtual 376, 3) := dk_182 1 120 (dk_at dksX9_border_2 4 rfl rfl)
theorem dX9_border_53 : decode cX9_border 53 = .ok (.ireturn, 1) := dk_172 (dk_at dksX9_border_2 7 rfl rfl)
abbrev cX9_markAt : ByteArray := prog_29_method_83_code
def yX9_markAt : MethodName := ⟨RX9, "markAt", "(I)I"⟩
def dkwX9_markAt_2 : List UInt8 := [27, 182, 0, 127, 96, 172]
abbrev dktX9_markAt_2 : List UInt8 := dkwX9_markAt_2 ++ []
def dkwX9_markAt_1 : List UInt8 := [167, 0, 4, 3, 4, 182, 1, 104, 153, 0, 7, 3, 167, 0, 17, 16, 10, 42, 27, 182, 0, 124, 104, 42]
abbrev dktX9_markAt_1 : List UInt8 := dkwX9_markAt_1 ++ dktX9_markAt_2
def dkwX9_markAt_0 : List UInt8 := [42, 3, 181, 0, 69, 42, 27, 3, 42, 180, 0, 9, 6, 46, 4, 100, 184, 0, 160, 154, 0, 7, 4]
abbrev dktX9_markAt_0 : List UInt8 := dkwX9_markAt_0 ++ dktX9_markAt_1
theorem dksX9_markAt_0 : cX9_markAt.data.toList.drop 0 = dktX9_markAt_0 := by decide +kernel
theorem dksX9_markAt_1 : cX9_markAt.data.toList.drop 23 = dktX9_markAt_1 := dk_seg dksX9_markAt_0 23 rfl rfl
theorem dksX9_markAt_2 : cX9_markAt.data.toList.drop 47 = dktX9_markAt_2 := dk_seg dksX9_markAt_1 24 rfl rfl
theorem dX9_markAt_0 : decode cX9_markAt 0 = .ok (.aload_n 0, 1) := dk_42 (dk_at dksX9_markAt_0 0 rfl rfl)
theorem dX9_markAt_1 : decode cX9_markAt 1 = .ok (.iconst 0, 1) := dk_3 (dk_at dksX9_markAt_0 1 rfl rfl)
theorem dX9_markAt_2 : decode cX9_markAt 2 = .ok (.putfield 69, 3) := dk_181 0 69 (dk_at dksX9_markAt_0 2 rfl rfl)
theorem dX9_markAt_5 : decode cX9_markAt 5 = .ok (.aload_n 0, 1) := dk_42 (dk_at dksX9_markAt_0 5 rfl rfl)
theorem dX9_markAt_6 : decode cX9_markAt 6 = .ok (.iload_n 1, 1) := dk_27 (dk_at dksX9_markAt_0 6 rfl rfl)
theorem dX9_markAt_7 : decode cX9_markAt 7 = .ok (.iconst 0, 1) := dk_3 (dk_at dksX9_markAt_0 7 rfl rfl)
theorem dX9_markAt_8 : decode cX9_markAt 8 = .ok (.aload_n 0, 1) := dk_42 (dk_at dksX9_markAt_0 8 rfl rfl)
theorem dX9_markAt_9 : decode cX9_markAt 9 = .ok (.getfield 9, 3) := dk_180 0 9 (dk_at dksX9_markAt_0 9 rfl rfl)
theorem dX9_markAt_12 : decode cX9_markAt 12 = .ok (.iconst 3, 1) := dk_6 (dk_at dksX9_markAt_0 12 rfl rfl)
theorem dX9_markAt_13 : decode cX9_markAt 13 = .ok (.iaload, 1) := dk_46 (dk_at dksX9_markAt_0 13 rfl rfl)
theorem dX9_markAt_14 : decode cX9_markAt 14 = .ok (.iconst 1, 1) := dk_4 (dk_at dksX9_markAt_0 14 rfl rfl)
theorem dX9_markAt_15 : decode cX9_markAt 15 = .ok (.isub, 1) := dk_100 (dk_at dksX9_markAt_0 15 rfl rfl)
theorem dX9_markAt_16 : decode cX9_markAt 16 = .ok (.invokestatic 160, 3) := dk_184 0 160 (dk_at dksX9_markAt_0 16 rfl rfl)
theorem dX9_markAt_19 : decode cX9_markAt 19 = .ok (.ifCond .ne 7, 3) := dk_154 0 7 (dk_at dksX9_markAt_0 19 rfl rfl)
theorem dX9_markAt_22 : decode cX9_markAt 22 = .ok (.iconst 1, 1) := dk_4 (dk_at dksX9_markAt_0 22 rfl rfl)
theorem dX9_markAt_23 : decode cX9_markAt 23 = .ok (.goto 4, 3) := dk_167 0 4 (dk_at dksX9_markAt_1 0 rfl rfl)
theorem dX9_markAt_26 : decode cX9_markAt 26 = .ok (.iconst 0, 1) := dk_3 (dk_at dksX9_markAt_1 3 rfl rfl)
theorem dX9_markAt_27 : decode cX9_markAt 27 = .ok (.iconst 1, 1) := dk_4 (dk_at dksX9_markAt_1 4 rfl rfl)
theorem dX9_markAt_28 : decode cX9_markAt 28 = .ok (.invokevirtual 360, 3) := dk_182 1 104 (dk_at dksX9_markAt_1 5 rfl rfl)
theorem dX9_markAt_31 : decode cX9_markAt 31 = .ok (.ifCond .eq 7, 3) := dk_153 0 7 (dk_at dksX9_markAt_1 8 rfl rfl)
theorem dX9_markAt_34 : decode cX9_markAt 34 = .ok (.iconst 0, 1) := dk_3 (dk_at dksX9_markAt_1 11 rfl rfl)
theorem dX9_markAt_35 : decode cX9_markAt 35 = .ok (.goto 17, 3) := dk_167 0 17 (dk_at dksX9_markAt_1 12 rfl rfl)
theorem dX9_markAt_38 : decode cX9_markAt 38 = .ok (.bipush 10, 2) := dk_16 10 (dk_at dksX9_markAt_1 15 rfl rfl)
theorem dX9_markAt_40 : decode cX9_markAt 40 = .ok (.aload_n 0, 1) := dk_42 (dk_at dksX9_markAt_1 17 rfl rfl)
theorem dX9_markAt_41 : decode cX9_markAt 41 = .ok (.iload_n 1, 1) := dk_27 (dk_at dksX9_markAt_1 18 rfl rfl)
theorem dX9_markAt_42 : decode cX9_markAt 42 = .ok (.invokevirtual 124, 3) := dk_182 0 124 (dk_at dksX9_markAt_1 19 rfl rfl)
theorem dX9_markAt_45 : decode cX9_markAt 45 = .ok (.imul, 1) := dk_104 (dk_at dksX9_markAt_1 22 rfl rfl)
theorem dX9_markAt_46 : decode cX9_markAt 46 = .ok (.aload_n 0, 1) := dk_42 (dk_at dksX9_markAt_1 23 rfl rfl)
theorem dX9_markAt_47 : decode cX9_markAt 47 = .ok (.iload_n 1, 1) := dk_27 (dk_at dksX9_markAt_2 0 rfl rfl)
theorem dX9_markAt_48 : decode cX9_markAt 48 = .ok (.invokevirtual 127, 3) := dk_182 0 127 (dk_at dksX9_markAt_2 1 rfl rfl)
theorem dX9_markAt_51 : decode cX9_markAt 51 = .ok (.iadd, 1) := dk_96 (dk_at dksX9_markAt_2 4 rfl rfl)
theorem dX9_markAt_52 : decode cX9_markAt 52 = .ok (.ireturn, 1) := dk_172 (dk_at dksX9_markAt_2 5 rfl rfl)
abbrev cX9_account : ByteArray := prog_29_method_84_code
def yX9_account : MethodName := ⟨RX9, "account", "(I)I"⟩
def dkwX9_account_1 : List UInt8 := [182, 1, 104, 153, 0, 7, 3, 167, 0, 11, 42, 180, 0, 9, 7, 27, 96, 46, 172]
abbrev dktX9_account_1 : List UInt8 := dkwX9_account_1 ++ []
def dkwX9_account_0 : List UInt8 := [42, 3, 181, 0, 69, 42, 27, 3, 16, 7, 184, 0, 160, 154, 0, 7, 4, 167, 0, 4, 3, 4]
abbrev dktX9_account_0 : List UInt8 := dkwX9_account_0 ++ dktX9_account_1
theorem dksX9_account_0 : cX9_account.data.toList.drop 0 = dktX9_account_0 := by decide +kernel
theorem dksX9_account_1 : cX9_account.data.toList.drop 22 = dktX9_account_1 := dk_seg dksX9_account_0 22 rfl rfl
theorem dX9_account_0 : decode cX9_account 0 = .ok (.aload_n 0, 1) := dk_42 (dk_at dksX9_account_0 0 rfl rfl)
theorem dX9_account_1 : decode cX9_account 1 = .ok (.iconst 0, 1) := dk_3 (dk_at dksX9_account_0 1 rfl rfl)
theorem dX9_account_2 : decode cX9_account 2 = .ok (.putfield 69, 3) := dk_181 0 69 (dk_at dksX9_account_0 2 rfl rfl)
theorem dX9_account_5 : decode cX9_account 5 = .ok (.aload_n 0, 1) := dk_42 (dk_at dksX9_account_0 5 rfl rfl)
theorem dX9_account_6 : decode cX9_account 6 = .ok (.iload_n 1, 1) := dk_27 (dk_at dksX9_account_0 6 rfl rfl)
theorem dX9_account_7 : decode cX9_account 7 = .ok (.iconst 0, 1) := dk_3 (dk_at dksX9_account_0 7 rfl rfl)
theorem dX9_account_8 : decode cX9_account 8 = .ok (.bipush 7, 2) := dk_16 7 (dk_at dksX9_account_0 8 rfl rfl)
theorem dX9_account_10 : decode cX9_account 10 = .ok (.invokestatic 160, 3) := dk_184 0 160 (dk_at dksX9_account_0 10 rfl rfl)
theorem dX9_account_13 : decode cX9_account 13 = .ok (.ifCond .ne 7, 3) := dk_154 0 7 (dk_at dksX9_account_0 13 rfl rfl)
theorem dX9_account_16 : decode cX9_account 16 = .ok (.iconst 1, 1) := dk_4 (dk_at dksX9_account_0 16 rfl rfl)
theorem dX9_account_17 : decode cX9_account 17 = .ok (.goto 4, 3) := dk_167 0 4 (dk_at dksX9_account_0 17 rfl rfl)
theorem dX9_account_20 : decode cX9_account 20 = .ok (.iconst 0, 1) := dk_3 (dk_at dksX9_account_0 20 rfl rfl)
theorem dX9_account_21 : decode cX9_account 21 = .ok (.iconst 1, 1) := dk_4 (dk_at dksX9_account_0 21 rfl rfl)
theorem dX9_account_22 : decode cX9_account 22 = .ok (.invokevirtual 360, 3) := dk_182 1 104 (dk_at dksX9_account_1 0 rfl rfl)
theorem dX9_account_25 : decode cX9_account 25 = .ok (.ifCond .eq 7, 3) := dk_153 0 7 (dk_at dksX9_account_1 3 rfl rfl)
theorem dX9_account_28 : decode cX9_account 28 = .ok (.iconst 0, 1) := dk_3 (dk_at dksX9_account_1 6 rfl rfl)
theorem dX9_account_29 : decode cX9_account 29 = .ok (.goto 11, 3) := dk_167 0 11 (dk_at dksX9_account_1 7 rfl rfl)
theorem dX9_account_32 : decode cX9_account 32 = .ok (.aload_n 0, 1) := dk_42 (dk_at dksX9_account_1 10 rfl rfl)
theorem dX9_account_33 : decode cX9_account 33 = .ok (.getfield 9, 3) := dk_180 0 9 (dk_at dksX9_account_1 11 rfl rfl)
theorem dX9_account_36 : decode cX9_account 36 = .ok (.iconst 4, 1) := dk_7 (dk_at dksX9_account_1 14 rfl rfl)
theorem dX9_account_37 : decode cX9_account 37 = .ok (.iload_n 1, 1) := dk_27 (dk_at dksX9_account_1 15 rfl rfl)
theorem dX9_account_38 : decode cX9_account 38 = .ok (.iadd, 1) := dk_96 (dk_at dksX9_account_1 16 rfl rfl)
theorem dX9_account_39 : decode cX9_account 39 = .ok (.iaload, 1) := dk_46 (dk_at dksX9_account_1 17 rfl rfl)
theorem dX9_account_40 : decode cX9_account 40 = .ok (.ireturn, 1) := dk_172 (dk_at dksX9_account_1 18 rfl rfl)
abbrev cX9_gap : ByteArray := prog_29_method_85_code
def yX9_gap : MethodName := ⟨RX9, "gap", "()I"⟩
def dkwX9_gap_3 : List UInt8 := [167, 0, 4, 3, 184, 0, 113, 96, 60, 132, 2, 1, 167, 255, 215, 27, 172]
abbrev dktX9_gap_3 : List UInt8 := dkwX9_gap_3 ++ []
def dkwX9_gap_2 : List UInt8 := [162, 0, 37, 27, 42, 42, 28, 182, 0, 127, 42, 28, 182, 0, 124, 182, 0, 109, 154, 0, 7, 4]
abbrev dktX9_gap_2 : List UInt8 := dkwX9_gap_2 ++ dktX9_gap_3
def dkwX9_gap_1 : List UInt8 := [16, 9, 46, 100, 42, 180, 0, 9, 6, 46, 100, 184, 1, 132, 60, 3, 61, 28, 42, 180, 0, 9, 6, 46]
abbrev dktX9_gap_1 : List UInt8 := dkwX9_gap_1 ++ dktX9_gap_2
def dkwX9_gap_0 : List UInt8 := [42, 3, 181, 0, 69, 42, 180, 0, 9, 16, 7, 46, 42, 180, 0, 9, 16, 8, 46, 100, 42, 180, 0, 9]
abbrev dktX9_gap_0 : List UInt8 := dkwX9_gap_0 ++ dktX9_gap_1
theorem dksX9_gap_0 : cX9_gap.data.toList.drop 0 = dktX9_gap_0 := by decide +kernel
theorem dksX9_gap_1 : cX9_gap.data.toList.drop 24 = dktX9_gap_1 := dk_seg dksX9_gap_0 24 rfl rfl
theorem dksX9_gap_2 : cX9_gap.data.toList.drop 48 = dktX9_gap_2 := dk_seg dksX9_gap_1 24 rfl rfl
theorem dksX9_gap_3 : cX9_gap.data.toList.drop 70 = dktX9_gap_3 := dk_seg dksX9_gap_2 22 rfl rfl
theorem dX9_gap_0 : decode cX9_gap 0 = .ok (.aload_n 0, 1) := dk_42 (dk_at dksX9_gap_0 0 rfl rfl)
theorem dX9_gap_1 : decode cX9_gap 1 = .ok (.iconst 0, 1) := dk_3 (dk_at dksX9_gap_0 1 rfl rfl)
theorem dX9_gap_2 : decode cX9_gap 2 = .ok (.putfield 69, 3) := dk_181 0 69 (dk_at dksX9_gap_0 2 rfl rfl)
theorem dX9_gap_5 : decode cX9_gap 5 = .ok (.aload_n 0, 1) := dk_42 (dk_at dksX9_gap_0 5 rfl rfl)
theorem dX9_gap_6 : decode cX9_gap 6 = .ok (.getfield 9, 3) := dk_180 0 9 (dk_at dksX9_gap_0 6 rfl rfl)
theorem dX9_gap_9 : decode cX9_gap 9 = .ok (.bipush 7, 2) := dk_16 7 (dk_at dksX9_gap_0 9 rfl rfl)
theorem dX9_gap_11 : decode cX9_gap 11 = .ok (.iaload, 1) := dk_46 (dk_at dksX9_gap_0 11 rfl rfl)
theorem dX9_gap_12 : decode cX9_gap 12 = .ok (.aload_n 0, 1) := dk_42 (dk_at dksX9_gap_0 12 rfl rfl)
theorem dX9_gap_13 : decode cX9_gap 13 = .ok (.getfield 9, 3) := dk_180 0 9 (dk_at dksX9_gap_0 13 rfl rfl)
theorem dX9_gap_16 : decode cX9_gap 16 = .ok (.bipush 8, 2) := dk_16 8 (dk_at dksX9_gap_0 16 rfl rfl)
theorem dX9_gap_18 : decode cX9_gap 18 = .ok (.iaload, 1) := dk_46 (dk_at dksX9_gap_0 18 rfl rfl)
theorem dX9_gap_19 : decode cX9_gap 19 = .ok (.isub, 1) := dk_100 (dk_at dksX9_gap_0 19 rfl rfl)
theorem dX9_gap_20 : decode cX9_gap 20 = .ok (.aload_n 0, 1) := dk_42 (dk_at dksX9_gap_0 20 rfl rfl)
theorem dX9_gap_21 : decode cX9_gap 21 = .ok (.getfield 9, 3) := dk_180 0 9 (dk_at dksX9_gap_0 21 rfl rfl)
theorem dX9_gap_24 : decode cX9_gap 24 = .ok (.bipush 9, 2) := dk_16 9 (dk_at dksX9_gap_1 0 rfl rfl)
theorem dX9_gap_26 : decode cX9_gap 26 = .ok (.iaload, 1) := dk_46 (dk_at dksX9_gap_1 2 rfl rfl)
theorem dX9_gap_27 : decode cX9_gap 27 = .ok (.isub, 1) := dk_100 (dk_at dksX9_gap_1 3 rfl rfl)
theorem dX9_gap_28 : decode cX9_gap 28 = .ok (.aload_n 0, 1) := dk_42 (dk_at dksX9_gap_1 4 rfl rfl)
theorem dX9_gap_29 : decode cX9_gap 29 = .ok (.getfield 9, 3) := dk_180 0 9 (dk_at dksX9_gap_1 5 rfl rfl)
theorem dX9_gap_32 : decode cX9_gap 32 = .ok (.iconst 3, 1) := dk_6 (dk_at dksX9_gap_1 8 rfl rfl)
theorem dX9_gap_33 : decode cX9_gap 33 = .ok (.iaload, 1) := dk_46 (dk_at dksX9_gap_1 9 rfl rfl)
theorem dX9_gap_34 : decode cX9_gap 34 = .ok (.isub, 1) := dk_100 (dk_at dksX9_gap_1 10 rfl rfl)
theorem dX9_gap_35 : decode cX9_gap 35 = .ok (.invokestatic 388, 3) := dk_184 1 132 (dk_at dksX9_gap_1 11 rfl rfl)
theorem dX9_gap_38 : decode cX9_gap 38 = .ok (.istore_n 1, 1) := dk_60 (dk_at dksX9_gap_1 14 rfl rfl)
theorem dX9_gap_39 : decode cX9_gap 39 = .ok (.iconst 0, 1) := dk_3 (dk_at dksX9_gap_1 15 rfl rfl)
theorem dX9_gap_40 : decode cX9_gap 40 = .ok (.istore_n 2, 1) := dk_61 (dk_at dksX9_gap_1 16 rfl rfl)
theorem dX9_gap_41 : decode cX9_gap 41 = .ok (.iload_n 2, 1) := dk_28 (dk_at dksX9_gap_1 17 rfl rfl)
theorem dX9_gap_42 : decode cX9_gap 42 = .ok (.aload_n 0, 1) := dk_42 (dk_at dksX9_gap_1 18 rfl rfl)
theorem dX9_gap_43 : decode cX9_gap 43 = .ok (.getfield 9, 3) := dk_180 0 9 (dk_at dksX9_gap_1 19 rfl rfl)
theorem dX9_gap_46 : decode cX9_gap 46 = .ok (.iconst 3, 1) := dk_6 (dk_at dksX9_gap_1 22 rfl rfl)
theorem dX9_gap_47 : decode cX9_gap 47 = .ok (.iaload, 1) := dk_46 (dk_at dksX9_gap_1 23 rfl rfl)
theorem dX9_gap_48 : decode cX9_gap 48 = .ok (.if_icmp .ge 37, 3) := dk_162 0 37 (dk_at dksX9_gap_2 0 rfl rfl)
theorem dX9_gap_51 : decode cX9_gap 51 = .ok (.iload_n 1, 1) := dk_27 (dk_at dksX9_gap_2 3 rfl rfl)
theorem dX9_gap_52 : decode cX9_gap 52 = .ok (.aload_n 0, 1) := dk_42 (dk_at dksX9_gap_2 4 rfl rfl)
theorem dX9_gap_53 : decode cX9_gap 53 = .ok (.aload_n 0, 1) := dk_42 (dk_at dksX9_gap_2 5 rfl rfl)
theorem dX9_gap_54 : decode cX9_gap 54 = .ok (.iload_n 2, 1) := dk_28 (dk_at dksX9_gap_2 6 rfl rfl)
theorem dX9_gap_55 : decode cX9_gap 55 = .ok (.invokevirtual 127, 3) := dk_182 0 127 (dk_at dksX9_gap_2 7 rfl rfl)
theorem dX9_gap_58 : decode cX9_gap 58 = .ok (.aload_n 0, 1) := dk_42 (dk_at dksX9_gap_2 10 rfl rfl)
theorem dX9_gap_59 : decode cX9_gap 59 = .ok (.iload_n 2, 1) := dk_28 (dk_at dksX9_gap_2 11 rfl rfl)
theorem dX9_gap_60 : decode cX9_gap 60 = .ok (.invokevirtual 124, 3) := dk_182 0 124 (dk_at dksX9_gap_2 12 rfl rfl)
theorem dX9_gap_63 : decode cX9_gap 63 = .ok (.invokevirtual 109, 3) := dk_182 0 109 (dk_at dksX9_gap_2 15 rfl rfl)
theorem dX9_gap_66 : decode cX9_gap 66 = .ok (.ifCond .ne 7, 3) := dk_154 0 7 (dk_at dksX9_gap_2 18 rfl rfl)
theorem dX9_gap_69 : decode cX9_gap 69 = .ok (.iconst 1, 1) := dk_4 (dk_at dksX9_gap_2 21 rfl rfl)
theorem dX9_gap_70 : decode cX9_gap 70 = .ok (.goto 4, 3) := dk_167 0 4 (dk_at dksX9_gap_3 0 rfl rfl)
theorem dX9_gap_73 : decode cX9_gap 73 = .ok (.iconst 0, 1) := dk_3 (dk_at dksX9_gap_3 3 rfl rfl)
theorem dX9_gap_74 : decode cX9_gap 74 = .ok (.invokestatic 113, 3) := dk_184 0 113 (dk_at dksX9_gap_3 4 rfl rfl)
theorem dX9_gap_77 : decode cX9_gap 77 = .ok (.iadd, 1) := dk_96 (dk_at dksX9_gap_3 7 rfl rfl)
theorem dX9_gap_78 : decode cX9_gap 78 = .ok (.istore_n 1, 1) := dk_60 (dk_at dksX9_gap_3 8 rfl rfl)
theorem dX9_gap_79 : decode cX9_gap 79 = .ok (.iinc 2 1, 3) := dk_132 2 1 (dk_at dksX9_gap_3 9 rfl rfl)
theorem dX9_gap_82 : decode cX9_gap 82 = .ok (.goto (-41), 3) := dk_167 255 215 (dk_at dksX9_gap_3 12 rfl rfl)
theorem dX9_gap_85 : decode cX9_gap 85 = .ok (.iload_n 1, 1) := dk_27 (dk_at dksX9_gap_3 15 rfl rfl)
theorem dX9_gap_86 : decode cX9_gap 86 = .ok (.ireturn, 1) := dk_172 (dk_at dksX9_gap_3 16 rfl rfl)
abbrev cX9_meanBack : ByteArray := prog_29_method_86_code
def yX9_meanBack : MethodName := ⟨RX9, "meanBack", "()D"⟩
def dkwX9_meanBack_3 : List UInt8 := [175]
abbrev dktX9_meanBack_3 : List UInt8 := dkwX9_meanBack_3 ++ []
def dkwX9_meanBack_2 : List UInt8 := [184, 0, 113, 96, 61, 132, 3, 1, 167, 255, 213, 28, 154, 0, 7, 14, 167, 0, 8, 27, 135, 28, 135, 111]
abbrev dktX9_meanBack_2 : List UInt8 := dkwX9_meanBack_2 ++ dktX9_meanBack_3
def dkwX9_meanBack_1 : List UInt8 := [29, 182, 0, 76, 54, 4, 27, 21, 4, 96, 60, 28, 21, 4, 158, 0, 7, 4, 167, 0, 4, 3]
abbrev dktX9_meanBack_1 : List UInt8 := dkwX9_meanBack_1 ++ dktX9_meanBack_2
def dkwX9_meanBack_0 : List UInt8 := [42, 3, 181, 0, 69, 3, 60, 3, 61, 3, 62, 29, 42, 180, 0, 9, 4, 46, 162, 0, 39, 42, 16, 16]
abbrev dktX9_meanBack_0 : List UInt8 := dkwX9_meanBack_0 ++ dktX9_meanBack_1
theorem dksX9_meanBack_0 : cX9_meanBack.data.toList.drop 0 = dktX9_meanBack_0 := by decide +kernel
theorem dksX9_meanBack_1 : cX9_meanBack.data.toList.drop 24 = dktX9_meanBack_1 := dk_seg dksX9_meanBack_0 24 rfl rfl
theorem dksX9_meanBack_2 : cX9_meanBack.data.toList.drop 46 = dktX9_meanBack_2 := dk_seg dksX9_meanBack_1 22 rfl rfl
theorem dksX9_meanBack_3 : cX9_meanBack.data.toList.drop 70 = dktX9_meanBack_3 := dk_seg dksX9_meanBack_2 24 rfl rfl
theorem dX9_meanBack_0 : decode cX9_meanBack 0 = .ok (.aload_n 0, 1) := dk_42 (dk_at dksX9_meanBack_0 0 rfl rfl)
theorem dX9_meanBack_1 : decode cX9_meanBack 1 = .ok (.iconst 0, 1) := dk_3 (dk_at dksX9_meanBack_0 1 rfl rfl)
theorem dX9_meanBack_2 : decode cX9_meanBack 2 = .ok (.putfield 69, 3) := dk_181 0 69 (dk_at dksX9_meanBack_0 2 rfl rfl)
theorem dX9_meanBack_5 : decode cX9_meanBack 5 = .ok (.iconst 0, 1) := dk_3 (dk_at dksX9_meanBack_0 5 rfl rfl)
theorem dX9_meanBack_6 : decode cX9_meanBack 6 = .ok (.istore_n 1, 1) := dk_60 (dk_at dksX9_meanBack_0 6 rfl rfl)
theorem dX9_meanBack_7 : decode cX9_meanBack 7 = .ok (.iconst 0, 1) := dk_3 (dk_at dksX9_meanBack_0 7 rfl rfl)
theorem dX9_meanBack_8 : decode cX9_meanBack 8 = .ok (.istore_n 2, 1) := dk_61 (dk_at dksX9_meanBack_0 8 rfl rfl)
theorem dX9_meanBack_9 : decode cX9_meanBack 9 = .ok (.iconst 0, 1) := dk_3 (dk_at dksX9_meanBack_0 9 rfl rfl)
theorem dX9_meanBack_10 : decode cX9_meanBack 10 = .ok (.istore_n 3, 1) := dk_62 (dk_at dksX9_meanBack_0 10 rfl rfl)
theorem dX9_meanBack_11 : decode cX9_meanBack 11 = .ok (.iload_n 3, 1) := dk_29 (dk_at dksX9_meanBack_0 11 rfl rfl)
theorem dX9_meanBack_12 : decode cX9_meanBack 12 = .ok (.aload_n 0, 1) := dk_42 (dk_at dksX9_meanBack_0 12 rfl rfl)
theorem dX9_meanBack_13 : decode cX9_meanBack 13 = .ok (.getfield 9, 3) := dk_180 0 9 (dk_at dksX9_meanBack_0 13 rfl rfl)
theorem dX9_meanBack_16 : decode cX9_meanBack 16 = .ok (.iconst 1, 1) := dk_4 (dk_at dksX9_meanBack_0 16 rfl rfl)
theorem dX9_meanBack_17 : decode cX9_meanBack 17 = .ok (.iaload, 1) := dk_46 (dk_at dksX9_meanBack_0 17 rfl rfl)
theorem dX9_meanBack_18 : decode cX9_meanBack 18 = .ok (.if_icmp .ge 39, 3) := dk_162 0 39 (dk_at dksX9_meanBack_0 18 rfl rfl)
theorem dX9_meanBack_21 : decode cX9_meanBack 21 = .ok (.aload_n 0, 1) := dk_42 (dk_at dksX9_meanBack_0 21 rfl rfl)
theorem dX9_meanBack_22 : decode cX9_meanBack 22 = .ok (.bipush 16, 2) := dk_16 16 (dk_at dksX9_meanBack_0 22 rfl rfl)
theorem dX9_meanBack_24 : decode cX9_meanBack 24 = .ok (.iload_n 3, 1) := dk_29 (dk_at dksX9_meanBack_1 0 rfl rfl)
theorem dX9_meanBack_25 : decode cX9_meanBack 25 = .ok (.invokevirtual 76, 3) := dk_182 0 76 (dk_at dksX9_meanBack_1 1 rfl rfl)
theorem dX9_meanBack_28 : decode cX9_meanBack 28 = .ok (.istore 4, 2) := dk_54 4 (dk_at dksX9_meanBack_1 4 rfl rfl)
theorem dX9_meanBack_30 : decode cX9_meanBack 30 = .ok (.iload_n 1, 1) := dk_27 (dk_at dksX9_meanBack_1 6 rfl rfl)
theorem dX9_meanBack_31 : decode cX9_meanBack 31 = .ok (.iload 4, 2) := dk_21 4 (dk_at dksX9_meanBack_1 7 rfl rfl)
theorem dX9_meanBack_33 : decode cX9_meanBack 33 = .ok (.iadd, 1) := dk_96 (dk_at dksX9_meanBack_1 9 rfl rfl)
theorem dX9_meanBack_34 : decode cX9_meanBack 34 = .ok (.istore_n 1, 1) := dk_60 (dk_at dksX9_meanBack_1 10 rfl rfl)
theorem dX9_meanBack_35 : decode cX9_meanBack 35 = .ok (.iload_n 2, 1) := dk_28 (dk_at dksX9_meanBack_1 11 rfl rfl)
theorem dX9_meanBack_36 : decode cX9_meanBack 36 = .ok (.iload 4, 2) := dk_21 4 (dk_at dksX9_meanBack_1 12 rfl rfl)
theorem dX9_meanBack_38 : decode cX9_meanBack 38 = .ok (.ifCond .le 7, 3) := dk_158 0 7 (dk_at dksX9_meanBack_1 14 rfl rfl)
theorem dX9_meanBack_41 : decode cX9_meanBack 41 = .ok (.iconst 1, 1) := dk_4 (dk_at dksX9_meanBack_1 17 rfl rfl)
theorem dX9_meanBack_42 : decode cX9_meanBack 42 = .ok (.goto 4, 3) := dk_167 0 4 (dk_at dksX9_meanBack_1 18 rfl rfl)
theorem dX9_meanBack_45 : decode cX9_meanBack 45 = .ok (.iconst 0, 1) := dk_3 (dk_at dksX9_meanBack_1 21 rfl rfl)
theorem dX9_meanBack_46 : decode cX9_meanBack 46 = .ok (.invokestatic 113, 3) := dk_184 0 113 (dk_at dksX9_meanBack_2 0 rfl rfl)
theorem dX9_meanBack_49 : decode cX9_meanBack 49 = .ok (.iadd, 1) := dk_96 (dk_at dksX9_meanBack_2 3 rfl rfl)
theorem dX9_meanBack_50 : decode cX9_meanBack 50 = .ok (.istore_n 2, 1) := dk_61 (dk_at dksX9_meanBack_2 4 rfl rfl)
theorem dX9_meanBack_51 : decode cX9_meanBack 51 = .ok (.iinc 3 1, 3) := dk_132 3 1 (dk_at dksX9_meanBack_2 5 rfl rfl)
theorem dX9_meanBack_54 : decode cX9_meanBack 54 = .ok (.goto (-43), 3) := dk_167 255 213 (dk_at dksX9_meanBack_2 8 rfl rfl)
theorem dX9_meanBack_57 : decode cX9_meanBack 57 = .ok (.iload_n 2, 1) := dk_28 (dk_at dksX9_meanBack_2 11 rfl rfl)
theorem dX9_meanBack_58 : decode cX9_meanBack 58 = .ok (.ifCond .ne 7, 3) := dk_154 0 7 (dk_at dksX9_meanBack_2 12 rfl rfl)
theorem dX9_meanBack_61 : decode cX9_meanBack 61 = .ok (.dconst 0, 1) := dk_14 (dk_at dksX9_meanBack_2 15 rfl rfl)
theorem dX9_meanBack_62 : decode cX9_meanBack 62 = .ok (.goto 8, 3) := dk_167 0 8 (dk_at dksX9_meanBack_2 16 rfl rfl)
theorem dX9_meanBack_65 : decode cX9_meanBack 65 = .ok (.iload_n 1, 1) := dk_27 (dk_at dksX9_meanBack_2 19 rfl rfl)
theorem dX9_meanBack_66 : decode cX9_meanBack 66 = .ok (.i2d, 1) := dk_135 (dk_at dksX9_meanBack_2 20 rfl rfl)
theorem dX9_meanBack_67 : decode cX9_meanBack 67 = .ok (.iload_n 2, 1) := dk_28 (dk_at dksX9_meanBack_2 21 rfl rfl)
theorem dX9_meanBack_68 : decode cX9_meanBack 68 = .ok (.i2d, 1) := dk_135 (dk_at dksX9_meanBack_2 22 rfl rfl)
theorem dX9_meanBack_69 : decode cX9_meanBack 69 = .ok (.ddiv, 1) := dk_111 (dk_at dksX9_meanBack_2 23 rfl rfl)
theorem dX9_meanBack_70 : decode cX9_meanBack 70 = .ok (.dreturn, 1) := dk_175 (dk_at dksX9_meanBack_3 0 rfl rfl)
abbrev cX9_coveredBits : ByteArray := prog_29_method_88_code
def yX9_coveredBits : MethodName := ⟨RX9, "coveredBits", "()I"⟩
def dkwX9_coveredBits_2 : List UInt8 := [184, 1, 138, 172]
abbrev dktX9_coveredBits_2 : List UInt8 := dkwX9_coveredBits_2 ++ []
def dkwX9_coveredBits_1 : List UInt8 := [182, 1, 135, 184, 0, 113, 96, 60, 132, 2, 1, 167, 255, 232, 27, 134, 42, 180, 0, 9, 4, 46, 134, 110]
abbrev dktX9_coveredBits_1 : List UInt8 := dkwX9_coveredBits_1 ++ dktX9_coveredBits_2
def dkwX9_coveredBits_0 : List UInt8 := [42, 3, 181, 0, 69, 3, 60, 3, 61, 28, 42, 180, 0, 9, 4, 46, 162, 0, 20, 27, 42, 28]
abbrev dktX9_coveredBits_0 : List UInt8 := dkwX9_coveredBits_0 ++ dktX9_coveredBits_1
theorem dksX9_coveredBits_0 : cX9_coveredBits.data.toList.drop 0 = dktX9_coveredBits_0 := by decide +kernel
theorem dksX9_coveredBits_1 : cX9_coveredBits.data.toList.drop 22 = dktX9_coveredBits_1 := dk_seg dksX9_coveredBits_0 22 rfl rfl
theorem dksX9_coveredBits_2 : cX9_coveredBits.data.toList.drop 46 = dktX9_coveredBits_2 := dk_seg dksX9_coveredBits_1 24 rfl rfl
theorem dX9_coveredBits_0 : decode cX9_coveredBits 0 = .ok (.aload_n 0, 1) := dk_42 (dk_at dksX9_coveredBits_0 0 rfl rfl)
theorem dX9_coveredBits_1 : decode cX9_coveredBits 1 = .ok (.iconst 0, 1) := dk_3 (dk_at dksX9_coveredBits_0 1 rfl rfl)
theorem dX9_coveredBits_2 : decode cX9_coveredBits 2 = .ok (.putfield 69, 3) := dk_181 0 69 (dk_at dksX9_coveredBits_0 2 rfl rfl)
theorem dX9_coveredBits_5 : decode cX9_coveredBits 5 = .ok (.iconst 0, 1) := dk_3 (dk_at dksX9_coveredBits_0 5 rfl rfl)
theorem dX9_coveredBits_6 : decode cX9_coveredBits 6 = .ok (.istore_n 1, 1) := dk_60 (dk_at dksX9_coveredBits_0 6 rfl rfl)
theorem dX9_coveredBits_7 : decode cX9_coveredBits 7 = .ok (.iconst 0, 1) := dk_3 (dk_at dksX9_coveredBits_0 7 rfl rfl)
theorem dX9_coveredBits_8 : decode cX9_coveredBits 8 = .ok (.istore_n 2, 1) := dk_61 (dk_at dksX9_coveredBits_0 8 rfl rfl)
theorem dX9_coveredBits_9 : decode cX9_coveredBits 9 = .ok (.iload_n 2, 1) := dk_28 (dk_at dksX9_coveredBits_0 9 rfl rfl)
theorem dX9_coveredBits_10 : decode cX9_coveredBits 10 = .ok (.aload_n 0, 1) := dk_42 (dk_at dksX9_coveredBits_0 10 rfl rfl)
theorem dX9_coveredBits_11 : decode cX9_coveredBits 11 = .ok (.getfield 9, 3) := dk_180 0 9 (dk_at dksX9_coveredBits_0 11 rfl rfl)
theorem dX9_coveredBits_14 : decode cX9_coveredBits 14 = .ok (.iconst 1, 1) := dk_4 (dk_at dksX9_coveredBits_0 14 rfl rfl)
theorem dX9_coveredBits_15 : decode cX9_coveredBits 15 = .ok (.iaload, 1) := dk_46 (dk_at dksX9_coveredBits_0 15 rfl rfl)
theorem dX9_coveredBits_16 : decode cX9_coveredBits 16 = .ok (.if_icmp .ge 20, 3) := dk_162 0 20 (dk_at dksX9_coveredBits_0 16 rfl rfl)
theorem dX9_coveredBits_19 : decode cX9_coveredBits 19 = .ok (.iload_n 1, 1) := dk_27 (dk_at dksX9_coveredBits_0 19 rfl rfl)
theorem dX9_coveredBits_20 : decode cX9_coveredBits 20 = .ok (.aload_n 0, 1) := dk_42 (dk_at dksX9_coveredBits_0 20 rfl rfl)
theorem dX9_coveredBits_21 : decode cX9_coveredBits 21 = .ok (.iload_n 2, 1) := dk_28 (dk_at dksX9_coveredBits_0 21 rfl rfl)
theorem dX9_coveredBits_22 : decode cX9_coveredBits 22 = .ok (.invokevirtual 391, 3) := dk_182 1 135 (dk_at dksX9_coveredBits_1 0 rfl rfl)
theorem dX9_coveredBits_25 : decode cX9_coveredBits 25 = .ok (.invokestatic 113, 3) := dk_184 0 113 (dk_at dksX9_coveredBits_1 3 rfl rfl)
theorem dX9_coveredBits_28 : decode cX9_coveredBits 28 = .ok (.iadd, 1) := dk_96 (dk_at dksX9_coveredBits_1 6 rfl rfl)
theorem dX9_coveredBits_29 : decode cX9_coveredBits 29 = .ok (.istore_n 1, 1) := dk_60 (dk_at dksX9_coveredBits_1 7 rfl rfl)
theorem dX9_coveredBits_30 : decode cX9_coveredBits 30 = .ok (.iinc 2 1, 3) := dk_132 2 1 (dk_at dksX9_coveredBits_1 8 rfl rfl)
theorem dX9_coveredBits_33 : decode cX9_coveredBits 33 = .ok (.goto (-24), 3) := dk_167 255 232 (dk_at dksX9_coveredBits_1 11 rfl rfl)
theorem dX9_coveredBits_36 : decode cX9_coveredBits 36 = .ok (.iload_n 1, 1) := dk_27 (dk_at dksX9_coveredBits_1 14 rfl rfl)
theorem dX9_coveredBits_37 : decode cX9_coveredBits 37 = .ok (.i2f, 1) := dk_134 (dk_at dksX9_coveredBits_1 15 rfl rfl)
theorem dX9_coveredBits_38 : decode cX9_coveredBits 38 = .ok (.aload_n 0, 1) := dk_42 (dk_at dksX9_coveredBits_1 16 rfl rfl)
theorem dX9_coveredBits_39 : decode cX9_coveredBits 39 = .ok (.getfield 9, 3) := dk_180 0 9 (dk_at dksX9_coveredBits_1 17 rfl rfl)
theorem dX9_coveredBits_42 : decode cX9_coveredBits 42 = .ok (.iconst 1, 1) := dk_4 (dk_at dksX9_coveredBits_1 20 rfl rfl)
theorem dX9_coveredBits_43 : decode cX9_coveredBits 43 = .ok (.iaload, 1) := dk_46 (dk_at dksX9_coveredBits_1 21 rfl rfl)
theorem dX9_coveredBits_44 : decode cX9_coveredBits 44 = .ok (.i2f, 1) := dk_134 (dk_at dksX9_coveredBits_1 22 rfl rfl)
theorem dX9_coveredBits_45 : decode cX9_coveredBits 45 = .ok (.fdiv, 1) := dk_110 (dk_at dksX9_coveredBits_1 23 rfl rfl)
theorem dX9_coveredBits_46 : decode cX9_coveredBits 46 = .ok (.invokestatic 394, 3) := dk_184 1 138 (dk_at dksX9_coveredBits_2 0 rfl rfl)
theorem dX9_coveredBits_49 : decode cX9_coveredBits 49 = .ok (.ireturn, 1) := dk_172 (dk_at dksX9_coveredBits_2 3 rfl rfl)
abbrev cX9_isCovered : ByteArray := prog_29_method_87_code
def yX9_isCovered : MethodName := ⟨RX9, "isCovered", "(I)Z"⟩
def dkwX9_isCovered_2 : List UInt8 := [167, 255, 211, 3, 172]
abbrev dktX9_isCovered_2 : List UInt8 := dkwX9_isCovered_2 ++ []
def dkwX9_isCovered_1 : List UInt8 := [42, 28, 182, 0, 127, 3, 182, 0, 98, 96, 4, 100, 184, 0, 160, 153, 0, 5, 4, 172, 132, 2, 1]
abbrev dktX9_isCovered_1 : List UInt8 := dkwX9_isCovered_1 ++ dktX9_isCovered_2
def dkwX9_isCovered_0 : List UInt8 := [3, 61, 28, 42, 180, 0, 9, 6, 46, 162, 0, 41, 27, 42, 28, 182, 0, 124, 42, 28, 182, 0, 124, 42]
abbrev dktX9_isCovered_0 : List UInt8 := dkwX9_isCovered_0 ++ dktX9_isCovered_1
theorem dksX9_isCovered_0 : cX9_isCovered.data.toList.drop 0 = dktX9_isCovered_0 := by decide +kernel
theorem dksX9_isCovered_1 : cX9_isCovered.data.toList.drop 24 = dktX9_isCovered_1 := dk_seg dksX9_isCovered_0 24 rfl rfl
theorem dksX9_isCovered_2 : cX9_isCovered.data.toList.drop 47 = dktX9_isCovered_2 := dk_seg dksX9_isCovered_1 23 rfl rfl
theorem dX9_isCovered_0 : decode cX9_isCovered 0 = .ok (.iconst 0, 1) := dk_3 (dk_at dksX9_isCovered_0 0 rfl rfl)
theorem dX9_isCovered_1 : decode cX9_isCovered 1 = .ok (.istore_n 2, 1) := dk_61 (dk_at dksX9_isCovered_0 1 rfl rfl)
theorem dX9_isCovered_2 : decode cX9_isCovered 2 = .ok (.iload_n 2, 1) := dk_28 (dk_at dksX9_isCovered_0 2 rfl rfl)
theorem dX9_isCovered_3 : decode cX9_isCovered 3 = .ok (.aload_n 0, 1) := dk_42 (dk_at dksX9_isCovered_0 3 rfl rfl)
theorem dX9_isCovered_4 : decode cX9_isCovered 4 = .ok (.getfield 9, 3) := dk_180 0 9 (dk_at dksX9_isCovered_0 4 rfl rfl)
theorem dX9_isCovered_7 : decode cX9_isCovered 7 = .ok (.iconst 3, 1) := dk_6 (dk_at dksX9_isCovered_0 7 rfl rfl)
theorem dX9_isCovered_8 : decode cX9_isCovered 8 = .ok (.iaload, 1) := dk_46 (dk_at dksX9_isCovered_0 8 rfl rfl)
theorem dX9_isCovered_9 : decode cX9_isCovered 9 = .ok (.if_icmp .ge 41, 3) := dk_162 0 41 (dk_at dksX9_isCovered_0 9 rfl rfl)
theorem dX9_isCovered_12 : decode cX9_isCovered 12 = .ok (.iload_n 1, 1) := dk_27 (dk_at dksX9_isCovered_0 12 rfl rfl)
theorem dX9_isCovered_13 : decode cX9_isCovered 13 = .ok (.aload_n 0, 1) := dk_42 (dk_at dksX9_isCovered_0 13 rfl rfl)
theorem dX9_isCovered_14 : decode cX9_isCovered 14 = .ok (.iload_n 2, 1) := dk_28 (dk_at dksX9_isCovered_0 14 rfl rfl)
theorem dX9_isCovered_15 : decode cX9_isCovered 15 = .ok (.invokevirtual 124, 3) := dk_182 0 124 (dk_at dksX9_isCovered_0 15 rfl rfl)
theorem dX9_isCovered_18 : decode cX9_isCovered 18 = .ok (.aload_n 0, 1) := dk_42 (dk_at dksX9_isCovered_0 18 rfl rfl)
theorem dX9_isCovered_19 : decode cX9_isCovered 19 = .ok (.iload_n 2, 1) := dk_28 (dk_at dksX9_isCovered_0 19 rfl rfl)
theorem dX9_isCovered_20 : decode cX9_isCovered 20 = .ok (.invokevirtual 124, 3) := dk_182 0 124 (dk_at dksX9_isCovered_0 20 rfl rfl)
theorem dX9_isCovered_23 : decode cX9_isCovered 23 = .ok (.aload_n 0, 1) := dk_42 (dk_at dksX9_isCovered_0 23 rfl rfl)
theorem dX9_isCovered_24 : decode cX9_isCovered 24 = .ok (.aload_n 0, 1) := dk_42 (dk_at dksX9_isCovered_1 0 rfl rfl)
theorem dX9_isCovered_25 : decode cX9_isCovered 25 = .ok (.iload_n 2, 1) := dk_28 (dk_at dksX9_isCovered_1 1 rfl rfl)
theorem dX9_isCovered_26 : decode cX9_isCovered 26 = .ok (.invokevirtual 127, 3) := dk_182 0 127 (dk_at dksX9_isCovered_1 2 rfl rfl)
theorem dX9_isCovered_29 : decode cX9_isCovered 29 = .ok (.iconst 0, 1) := dk_3 (dk_at dksX9_isCovered_1 5 rfl rfl)
theorem dX9_isCovered_30 : decode cX9_isCovered 30 = .ok (.invokevirtual 98, 3) := dk_182 0 98 (dk_at dksX9_isCovered_1 6 rfl rfl)
theorem dX9_isCovered_33 : decode cX9_isCovered 33 = .ok (.iadd, 1) := dk_96 (dk_at dksX9_isCovered_1 9 rfl rfl)
theorem dX9_isCovered_34 : decode cX9_isCovered 34 = .ok (.iconst 1, 1) := dk_4 (dk_at dksX9_isCovered_1 10 rfl rfl)
theorem dX9_isCovered_35 : decode cX9_isCovered 35 = .ok (.isub, 1) := dk_100 (dk_at dksX9_isCovered_1 11 rfl rfl)
theorem dX9_isCovered_36 : decode cX9_isCovered 36 = .ok (.invokestatic 160, 3) := dk_184 0 160 (dk_at dksX9_isCovered_1 12 rfl rfl)
theorem dX9_isCovered_39 : decode cX9_isCovered 39 = .ok (.ifCond .eq 5, 3) := dk_153 0 5 (dk_at dksX9_isCovered_1 15 rfl rfl)
theorem dX9_isCovered_42 : decode cX9_isCovered 42 = .ok (.iconst 1, 1) := dk_4 (dk_at dksX9_isCovered_1 18 rfl rfl)
theorem dX9_isCovered_43 : decode cX9_isCovered 43 = .ok (.ireturn, 1) := dk_172 (dk_at dksX9_isCovered_1 19 rfl rfl)
theorem dX9_isCovered_44 : decode cX9_isCovered 44 = .ok (.iinc 2 1, 3) := dk_132 2 1 (dk_at dksX9_isCovered_1 20 rfl rfl)
theorem dX9_isCovered_47 : decode cX9_isCovered 47 = .ok (.goto (-45), 3) := dk_167 255 211 (dk_at dksX9_isCovered_2 0 rfl rfl)
theorem dX9_isCovered_50 : decode cX9_isCovered 50 = .ok (.iconst 0, 1) := dk_3 (dk_at dksX9_isCovered_2 3 rfl rfl)
theorem dX9_isCovered_51 : decode cX9_isCovered 51 = .ok (.ireturn, 1) := dk_172 (dk_at dksX9_isCovered_2 4 rfl rfl)
abbrev cX9_isAt : ByteArray := prog_29_method_90_code
def yX9_isAt : MethodName := ⟨RX9, "isAt", "(II)Z"⟩
def dkwX9_isAt_1 : List UInt8 := [167, 0, 4, 3, 172]
abbrev dktX9_isAt_1 : List UInt8 := dkwX9_isAt_1 ++ []
def dkwX9_isAt_0 : List UInt8 := [42, 3, 181, 0, 69, 42, 27, 28, 182, 1, 144, 154, 0, 16, 42, 27, 28, 182, 0, 109, 153, 0, 7, 4]
abbrev dktX9_isAt_0 : List UInt8 := dkwX9_isAt_0 ++ dktX9_isAt_1
theorem dksX9_isAt_0 : cX9_isAt.data.toList.drop 0 = dktX9_isAt_0 := by decide +kernel
theorem dksX9_isAt_1 : cX9_isAt.data.toList.drop 24 = dktX9_isAt_1 := dk_seg dksX9_isAt_0 24 rfl rfl
theorem dX9_isAt_0 : decode cX9_isAt 0 = .ok (.aload_n 0, 1) := dk_42 (dk_at dksX9_isAt_0 0 rfl rfl)
theorem dX9_isAt_1 : decode cX9_isAt 1 = .ok (.iconst 0, 1) := dk_3 (dk_at dksX9_isAt_0 1 rfl rfl)
theorem dX9_isAt_2 : decode cX9_isAt 2 = .ok (.putfield 69, 3) := dk_181 0 69 (dk_at dksX9_isAt_0 2 rfl rfl)
theorem dX9_isAt_5 : decode cX9_isAt 5 = .ok (.aload_n 0, 1) := dk_42 (dk_at dksX9_isAt_0 5 rfl rfl)
theorem dX9_isAt_6 : decode cX9_isAt 6 = .ok (.iload_n 1, 1) := dk_27 (dk_at dksX9_isAt_0 6 rfl rfl)
theorem dX9_isAt_7 : decode cX9_isAt 7 = .ok (.iload_n 2, 1) := dk_28 (dk_at dksX9_isAt_0 7 rfl rfl)
theorem dX9_isAt_8 : decode cX9_isAt 8 = .ok (.invokevirtual 400, 3) := dk_182 1 144 (dk_at dksX9_isAt_0 8 rfl rfl)
theorem dX9_isAt_11 : decode cX9_isAt 11 = .ok (.ifCond .ne 16, 3) := dk_154 0 16 (dk_at dksX9_isAt_0 11 rfl rfl)
theorem dX9_isAt_14 : decode cX9_isAt 14 = .ok (.aload_n 0, 1) := dk_42 (dk_at dksX9_isAt_0 14 rfl rfl)
theorem dX9_isAt_15 : decode cX9_isAt 15 = .ok (.iload_n 1, 1) := dk_27 (dk_at dksX9_isAt_0 15 rfl rfl)
theorem dX9_isAt_16 : decode cX9_isAt 16 = .ok (.iload_n 2, 1) := dk_28 (dk_at dksX9_isAt_0 16 rfl rfl)
theorem dX9_isAt_17 : decode cX9_isAt 17 = .ok (.invokevirtual 109, 3) := dk_182 0 109 (dk_at dksX9_isAt_0 17 rfl rfl)
theorem dX9_isAt_20 : decode cX9_isAt 20 = .ok (.ifCond .eq 7, 3) := dk_153 0 7 (dk_at dksX9_isAt_0 20 rfl rfl)
theorem dX9_isAt_23 : decode cX9_isAt 23 = .ok (.iconst 1, 1) := dk_4 (dk_at dksX9_isAt_0 23 rfl rfl)
theorem dX9_isAt_24 : decode cX9_isAt 24 = .ok (.goto 4, 3) := dk_167 0 4 (dk_at dksX9_isAt_1 0 rfl rfl)
theorem dX9_isAt_27 : decode cX9_isAt 27 = .ok (.iconst 0, 1) := dk_3 (dk_at dksX9_isAt_1 3 rfl rfl)
theorem dX9_isAt_28 : decode cX9_isAt 28 = .ok (.ireturn, 1) := dk_172 (dk_at dksX9_isAt_1 4 rfl rfl)
abbrev cX9_noThere : ByteArray := prog_29_method_89_code
def yX9_noThere : MethodName := ⟨RX9, "noThere", "(II)Z"⟩
def dkwX9_noThere_0 : List UInt8 := [42, 27, 182, 1, 117, 154, 0, 11, 42, 28, 182, 1, 114, 153, 0, 7, 4, 167, 0, 4, 3, 172]
abbrev dktX9_noThere_0 : List UInt8 := dkwX9_noThere_0 ++ []
theorem dksX9_noThere_0 : cX9_noThere.data.toList.drop 0 = dktX9_noThere_0 := by decide +kernel
theorem dX9_noThere_0 : decode cX9_noThere 0 = .ok (.aload_n 0, 1) := dk_42 (dk_at dksX9_noThere_0 0 rfl rfl)
theorem dX9_noThere_1 : decode cX9_noThere 1 = .ok (.iload_n 1, 1) := dk_27 (dk_at dksX9_noThere_0 1 rfl rfl)
theorem dX9_noThere_2 : decode cX9_noThere 2 = .ok (.invokevirtual 373, 3) := dk_182 1 117 (dk_at dksX9_noThere_0 2 rfl rfl)
theorem dX9_noThere_5 : decode cX9_noThere 5 = .ok (.ifCond .ne 11, 3) := dk_154 0 11 (dk_at dksX9_noThere_0 5 rfl rfl)
theorem dX9_noThere_8 : decode cX9_noThere 8 = .ok (.aload_n 0, 1) := dk_42 (dk_at dksX9_noThere_0 8 rfl rfl)
theorem dX9_noThere_9 : decode cX9_noThere 9 = .ok (.iload_n 2, 1) := dk_28 (dk_at dksX9_noThere_0 9 rfl rfl)
theorem dX9_noThere_10 : decode cX9_noThere 10 = .ok (.invokevirtual 370, 3) := dk_182 1 114 (dk_at dksX9_noThere_0 10 rfl rfl)
theorem dX9_noThere_13 : decode cX9_noThere 13 = .ok (.ifCond .eq 7, 3) := dk_153 0 7 (dk_at dksX9_noThere_0 13 rfl rfl)
theorem dX9_noThere_16 : decode cX9_noThere 16 = .ok (.iconst 1, 1) := dk_4 (dk_at dksX9_noThere_0 16 rfl rfl)
theorem dX9_noThere_17 : decode cX9_noThere 17 = .ok (.goto 4, 3) := dk_167 0 4 (dk_at dksX9_noThere_0 17 rfl rfl)
theorem dX9_noThere_20 : decode cX9_noThere 20 = .ok (.iconst 0, 1) := dk_3 (dk_at dksX9_noThere_0 20 rfl rfl)
theorem dX9_noThere_21 : decode cX9_noThere 21 = .ok (.ireturn, 1) := dk_172 (dk_at dksX9_noThere_0 21 rfl rfl)
abbrev cX9_why : ByteArray := prog_29_method_91_code
def yX9_why : MethodName := ⟨RX9, "why", "(II)I"⟩
def dkwX9_why_4 : List UInt8 := [154, 0, 7, 7, 167, 0, 4, 8, 172]
abbrev dktX9_why_4 : List UInt8 := dkwX9_why_4 ++ []
def dkwX9_why_3 : List UInt8 := [21, 4, 155, 0, 8, 21, 5, 156, 0, 5, 5, 172, 21, 4, 154, 0, 7, 6, 167, 0, 13, 21, 5]
abbrev dktX9_why_3 : List UInt8 := dkwX9_why_3 ++ dktX9_why_4
def dkwX9_why_2 : List UInt8 := [172, 42, 27, 184, 0, 91, 29, 182, 0, 80, 54, 4, 42, 28, 184, 0, 95, 29, 182, 0, 80, 54, 5]
abbrev dktX9_why_2 : List UInt8 := dkwX9_why_2 ++ dktX9_why_3
def dkwX9_why_1 : List UInt8 := [42, 27, 3, 182, 0, 98, 160, 0, 5, 3, 172, 28, 29, 96, 42, 180, 0, 9, 4, 46, 160, 0, 5, 4]
abbrev dktX9_why_1 : List UInt8 := dkwX9_why_1 ++ dktX9_why_2
def dkwX9_why_0 : List UInt8 := [42, 3, 181, 0, 69, 42, 27, 28, 182, 1, 144, 153, 0, 5, 3, 172, 42, 27, 28, 182, 0, 106, 62, 29]
abbrev dktX9_why_0 : List UInt8 := dkwX9_why_0 ++ dktX9_why_1
theorem dksX9_why_0 : cX9_why.data.toList.drop 0 = dktX9_why_0 := by decide +kernel
theorem dksX9_why_1 : cX9_why.data.toList.drop 24 = dktX9_why_1 := dk_seg dksX9_why_0 24 rfl rfl
theorem dksX9_why_2 : cX9_why.data.toList.drop 48 = dktX9_why_2 := dk_seg dksX9_why_1 24 rfl rfl
theorem dksX9_why_3 : cX9_why.data.toList.drop 71 = dktX9_why_3 := dk_seg dksX9_why_2 23 rfl rfl
theorem dksX9_why_4 : cX9_why.data.toList.drop 94 = dktX9_why_4 := dk_seg dksX9_why_3 23 rfl rfl
theorem dX9_why_0 : decode cX9_why 0 = .ok (.aload_n 0, 1) := dk_42 (dk_at dksX9_why_0 0 rfl rfl)
theorem dX9_why_1 : decode cX9_why 1 = .ok (.iconst 0, 1) := dk_3 (dk_at dksX9_why_0 1 rfl rfl)
theorem dX9_why_2 : decode cX9_why 2 = .ok (.putfield 69, 3) := dk_181 0 69 (dk_at dksX9_why_0 2 rfl rfl)
theorem dX9_why_5 : decode cX9_why 5 = .ok (.aload_n 0, 1) := dk_42 (dk_at dksX9_why_0 5 rfl rfl)
theorem dX9_why_6 : decode cX9_why 6 = .ok (.iload_n 1, 1) := dk_27 (dk_at dksX9_why_0 6 rfl rfl)
theorem dX9_why_7 : decode cX9_why 7 = .ok (.iload_n 2, 1) := dk_28 (dk_at dksX9_why_0 7 rfl rfl)
theorem dX9_why_8 : decode cX9_why 8 = .ok (.invokevirtual 400, 3) := dk_182 1 144 (dk_at dksX9_why_0 8 rfl rfl)
theorem dX9_why_11 : decode cX9_why 11 = .ok (.ifCond .eq 5, 3) := dk_153 0 5 (dk_at dksX9_why_0 11 rfl rfl)
theorem dX9_why_14 : decode cX9_why 14 = .ok (.iconst 0, 1) := dk_3 (dk_at dksX9_why_0 14 rfl rfl)
theorem dX9_why_15 : decode cX9_why 15 = .ok (.ireturn, 1) := dk_172 (dk_at dksX9_why_0 15 rfl rfl)
theorem dX9_why_16 : decode cX9_why 16 = .ok (.aload_n 0, 1) := dk_42 (dk_at dksX9_why_0 16 rfl rfl)
theorem dX9_why_17 : decode cX9_why 17 = .ok (.iload_n 1, 1) := dk_27 (dk_at dksX9_why_0 17 rfl rfl)
theorem dX9_why_18 : decode cX9_why 18 = .ok (.iload_n 2, 1) := dk_28 (dk_at dksX9_why_0 18 rfl rfl)
theorem dX9_why_19 : decode cX9_why 19 = .ok (.invokevirtual 106, 3) := dk_182 0 106 (dk_at dksX9_why_0 19 rfl rfl)
theorem dX9_why_22 : decode cX9_why 22 = .ok (.istore_n 3, 1) := dk_62 (dk_at dksX9_why_0 22 rfl rfl)
theorem dX9_why_23 : decode cX9_why 23 = .ok (.iload_n 3, 1) := dk_29 (dk_at dksX9_why_0 23 rfl rfl)
theorem dX9_why_24 : decode cX9_why 24 = .ok (.aload_n 0, 1) := dk_42 (dk_at dksX9_why_1 0 rfl rfl)
theorem dX9_why_25 : decode cX9_why 25 = .ok (.iload_n 1, 1) := dk_27 (dk_at dksX9_why_1 1 rfl rfl)
theorem dX9_why_26 : decode cX9_why 26 = .ok (.iconst 0, 1) := dk_3 (dk_at dksX9_why_1 2 rfl rfl)
theorem dX9_why_27 : decode cX9_why 27 = .ok (.invokevirtual 98, 3) := dk_182 0 98 (dk_at dksX9_why_1 3 rfl rfl)
theorem dX9_why_30 : decode cX9_why 30 = .ok (.if_icmp .ne 5, 3) := dk_160 0 5 (dk_at dksX9_why_1 6 rfl rfl)
theorem dX9_why_33 : decode cX9_why 33 = .ok (.iconst 0, 1) := dk_3 (dk_at dksX9_why_1 9 rfl rfl)
theorem dX9_why_34 : decode cX9_why 34 = .ok (.ireturn, 1) := dk_172 (dk_at dksX9_why_1 10 rfl rfl)
theorem dX9_why_35 : decode cX9_why 35 = .ok (.iload_n 2, 1) := dk_28 (dk_at dksX9_why_1 11 rfl rfl)
theorem dX9_why_36 : decode cX9_why 36 = .ok (.iload_n 3, 1) := dk_29 (dk_at dksX9_why_1 12 rfl rfl)
theorem dX9_why_37 : decode cX9_why 37 = .ok (.iadd, 1) := dk_96 (dk_at dksX9_why_1 13 rfl rfl)
theorem dX9_why_38 : decode cX9_why 38 = .ok (.aload_n 0, 1) := dk_42 (dk_at dksX9_why_1 14 rfl rfl)
theorem dX9_why_39 : decode cX9_why 39 = .ok (.getfield 9, 3) := dk_180 0 9 (dk_at dksX9_why_1 15 rfl rfl)
theorem dX9_why_42 : decode cX9_why 42 = .ok (.iconst 1, 1) := dk_4 (dk_at dksX9_why_1 18 rfl rfl)
theorem dX9_why_43 : decode cX9_why 43 = .ok (.iaload, 1) := dk_46 (dk_at dksX9_why_1 19 rfl rfl)
theorem dX9_why_44 : decode cX9_why 44 = .ok (.if_icmp .ne 5, 3) := dk_160 0 5 (dk_at dksX9_why_1 20 rfl rfl)
theorem dX9_why_47 : decode cX9_why 47 = .ok (.iconst 1, 1) := dk_4 (dk_at dksX9_why_1 23 rfl rfl)
theorem dX9_why_48 : decode cX9_why 48 = .ok (.ireturn, 1) := dk_172 (dk_at dksX9_why_2 0 rfl rfl)
theorem dX9_why_49 : decode cX9_why 49 = .ok (.aload_n 0, 1) := dk_42 (dk_at dksX9_why_2 1 rfl rfl)
theorem dX9_why_50 : decode cX9_why 50 = .ok (.iload_n 1, 1) := dk_27 (dk_at dksX9_why_2 2 rfl rfl)
theorem dX9_why_51 : decode cX9_why 51 = .ok (.invokestatic 91, 3) := dk_184 0 91 (dk_at dksX9_why_2 3 rfl rfl)
theorem dX9_why_54 : decode cX9_why 54 = .ok (.iload_n 3, 1) := dk_29 (dk_at dksX9_why_2 6 rfl rfl)
theorem dX9_why_55 : decode cX9_why 55 = .ok (.invokevirtual 80, 3) := dk_182 0 80 (dk_at dksX9_why_2 7 rfl rfl)
theorem dX9_why_58 : decode cX9_why 58 = .ok (.istore 4, 2) := dk_54 4 (dk_at dksX9_why_2 10 rfl rfl)
theorem dX9_why_60 : decode cX9_why 60 = .ok (.aload_n 0, 1) := dk_42 (dk_at dksX9_why_2 12 rfl rfl)
theorem dX9_why_61 : decode cX9_why 61 = .ok (.iload_n 2, 1) := dk_28 (dk_at dksX9_why_2 13 rfl rfl)
theorem dX9_why_62 : decode cX9_why 62 = .ok (.invokestatic 95, 3) := dk_184 0 95 (dk_at dksX9_why_2 14 rfl rfl)
theorem dX9_why_65 : decode cX9_why 65 = .ok (.iload_n 3, 1) := dk_29 (dk_at dksX9_why_2 17 rfl rfl)
theorem dX9_why_66 : decode cX9_why 66 = .ok (.invokevirtual 80, 3) := dk_182 0 80 (dk_at dksX9_why_2 18 rfl rfl)
theorem dX9_why_69 : decode cX9_why 69 = .ok (.istore 5, 2) := dk_54 5 (dk_at dksX9_why_2 21 rfl rfl)
theorem dX9_why_71 : decode cX9_why 71 = .ok (.iload 4, 2) := dk_21 4 (dk_at dksX9_why_3 0 rfl rfl)
theorem dX9_why_73 : decode cX9_why 73 = .ok (.ifCond .lt 8, 3) := dk_155 0 8 (dk_at dksX9_why_3 2 rfl rfl)
theorem dX9_why_76 : decode cX9_why 76 = .ok (.iload 5, 2) := dk_21 5 (dk_at dksX9_why_3 5 rfl rfl)
theorem dX9_why_78 : decode cX9_why 78 = .ok (.ifCond .ge 5, 3) := dk_156 0 5 (dk_at dksX9_why_3 7 rfl rfl)
theorem dX9_why_81 : decode cX9_why 81 = .ok (.iconst 2, 1) := dk_5 (dk_at dksX9_why_3 10 rfl rfl)
theorem dX9_why_82 : decode cX9_why 82 = .ok (.ireturn, 1) := dk_172 (dk_at dksX9_why_3 11 rfl rfl)
theorem dX9_why_83 : decode cX9_why 83 = .ok (.iload 4, 2) := dk_21 4 (dk_at dksX9_why_3 12 rfl rfl)
theorem dX9_why_85 : decode cX9_why 85 = .ok (.ifCond .ne 7, 3) := dk_154 0 7 (dk_at dksX9_why_3 14 rfl rfl)
theorem dX9_why_88 : decode cX9_why 88 = .ok (.iconst 3, 1) := dk_6 (dk_at dksX9_why_3 17 rfl rfl)
theorem dX9_why_89 : decode cX9_why 89 = .ok (.goto 13, 3) := dk_167 0 13 (dk_at dksX9_why_3 18 rfl rfl)
theorem dX9_why_92 : decode cX9_why 92 = .ok (.iload 5, 2) := dk_21 5 (dk_at dksX9_why_3 21 rfl rfl)
theorem dX9_why_94 : decode cX9_why 94 = .ok (.ifCond .ne 7, 3) := dk_154 0 7 (dk_at dksX9_why_4 0 rfl rfl)
theorem dX9_why_97 : decode cX9_why 97 = .ok (.iconst 4, 1) := dk_7 (dk_at dksX9_why_4 3 rfl rfl)
theorem dX9_why_98 : decode cX9_why 98 = .ok (.goto 4, 3) := dk_167 0 4 (dk_at dksX9_why_4 4 rfl rfl)
theorem dX9_why_101 : decode cX9_why 101 = .ok (.iconst 5, 1) := dk_8 (dk_at dksX9_why_4 7 rfl rfl)
theorem dX9_why_102 : decode cX9_why 102 = .ok (.ireturn, 1) := dk_172 (dk_at dksX9_why_4 8 rfl rfl)
abbrev cX9_longest : ByteArray := prog_29_method_92_code
def yX9_longest : MethodName := ⟨RX9, "longest", "(II)I"⟩
def dkwX9_longest_1 : List UInt8 := [172]
abbrev dktX9_longest_1 : List UInt8 := dkwX9_longest_1 ++ []
def dkwX9_longest_0 : List UInt8 := [42, 3, 181, 0, 69, 42, 27, 28, 182, 1, 144, 153, 0, 7, 3, 167, 0, 9, 42, 27, 28, 182, 0, 106]
abbrev dktX9_longest_0 : List UInt8 := dkwX9_longest_0 ++ dktX9_longest_1
theorem dksX9_longest_0 : cX9_longest.data.toList.drop 0 = dktX9_longest_0 := by decide +kernel
theorem dksX9_longest_1 : cX9_longest.data.toList.drop 24 = dktX9_longest_1 := dk_seg dksX9_longest_0 24 rfl rfl
theorem dX9_longest_0 : decode cX9_longest 0 = .ok (.aload_n 0, 1) := dk_42 (dk_at dksX9_longest_0 0 rfl rfl)
theorem dX9_longest_1 : decode cX9_longest 1 = .ok (.iconst 0, 1) := dk_3 (dk_at dksX9_longest_0 1 rfl rfl)
theorem dX9_longest_2 : decode cX9_longest 2 = .ok (.putfield 69, 3) := dk_181 0 69 (dk_at dksX9_longest_0 2 rfl rfl)
theorem dX9_longest_5 : decode cX9_longest 5 = .ok (.aload_n 0, 1) := dk_42 (dk_at dksX9_longest_0 5 rfl rfl)
theorem dX9_longest_6 : decode cX9_longest 6 = .ok (.iload_n 1, 1) := dk_27 (dk_at dksX9_longest_0 6 rfl rfl)
theorem dX9_longest_7 : decode cX9_longest 7 = .ok (.iload_n 2, 1) := dk_28 (dk_at dksX9_longest_0 7 rfl rfl)
theorem dX9_longest_8 : decode cX9_longest 8 = .ok (.invokevirtual 400, 3) := dk_182 1 144 (dk_at dksX9_longest_0 8 rfl rfl)
theorem dX9_longest_11 : decode cX9_longest 11 = .ok (.ifCond .eq 7, 3) := dk_153 0 7 (dk_at dksX9_longest_0 11 rfl rfl)
theorem dX9_longest_14 : decode cX9_longest 14 = .ok (.iconst 0, 1) := dk_3 (dk_at dksX9_longest_0 14 rfl rfl)
theorem dX9_longest_15 : decode cX9_longest 15 = .ok (.goto 9, 3) := dk_167 0 9 (dk_at dksX9_longest_0 15 rfl rfl)
theorem dX9_longest_18 : decode cX9_longest 18 = .ok (.aload_n 0, 1) := dk_42 (dk_at dksX9_longest_0 18 rfl rfl)
theorem dX9_longest_19 : decode cX9_longest 19 = .ok (.iload_n 1, 1) := dk_27 (dk_at dksX9_longest_0 19 rfl rfl)
theorem dX9_longest_20 : decode cX9_longest 20 = .ok (.iload_n 2, 1) := dk_28 (dk_at dksX9_longest_0 20 rfl rfl)
theorem dX9_longest_21 : decode cX9_longest 21 = .ok (.invokevirtual 106, 3) := dk_182 0 106 (dk_at dksX9_longest_0 21 rfl rfl)
theorem dX9_longest_24 : decode cX9_longest 24 = .ok (.ireturn, 1) := dk_172 (dk_at dksX9_longest_1 0 rfl rfl)
abbrev cX9_renamed : ByteArray := prog_29_method_93_code
def yX9_renamed : MethodName := ⟨RX9, "renamed", "(III)I"⟩
def dkwX9_renamed_3 : List UInt8 := [160, 0, 16, 42, 180, 0, 9, 16, 16, 28, 96, 21, 4, 96, 46, 172, 132, 4, 1, 167, 255, 215, 2, 172]
abbrev dktX9_renamed_3 : List UInt8 := dkwX9_renamed_3 ++ []
def dkwX9_renamed_2 : List UInt8 := [54, 4, 21, 4, 42, 27, 3, 182, 0, 98, 162, 0, 36, 42, 27, 16, 10, 21, 4, 96, 182, 0, 98, 29]
abbrev dktX9_renamed_2 : List UInt8 := dkwX9_renamed_2 ++ dktX9_renamed_3
def dkwX9_renamed_1 : List UInt8 := [42, 27, 28, 182, 0, 109, 154, 0, 7, 4, 167, 0, 4, 3, 6, 182, 1, 104, 153, 0, 5, 3, 172, 3]
abbrev dktX9_renamed_1 : List UInt8 := dkwX9_renamed_1 ++ dktX9_renamed_2
def dkwX9_renamed_0 : List UInt8 := [42, 3, 181, 0, 69, 42, 27, 28, 182, 1, 144, 154, 0, 34, 42, 29, 5, 182, 1, 147, 154, 0, 25, 42]
abbrev dktX9_renamed_0 : List UInt8 := dkwX9_renamed_0 ++ dktX9_renamed_1
theorem dksX9_renamed_0 : cX9_renamed.data.toList.drop 0 = dktX9_renamed_0 := by decide +kernel
theorem dksX9_renamed_1 : cX9_renamed.data.toList.drop 24 = dktX9_renamed_1 := dk_seg dksX9_renamed_0 24 rfl rfl
theorem dksX9_renamed_2 : cX9_renamed.data.toList.drop 48 = dktX9_renamed_2 := dk_seg dksX9_renamed_1 24 rfl rfl
theorem dksX9_renamed_3 : cX9_renamed.data.toList.drop 72 = dktX9_renamed_3 := dk_seg dksX9_renamed_2 24 rfl rfl
theorem dX9_renamed_0 : decode cX9_renamed 0 = .ok (.aload_n 0, 1) := dk_42 (dk_at dksX9_renamed_0 0 rfl rfl)
theorem dX9_renamed_1 : decode cX9_renamed 1 = .ok (.iconst 0, 1) := dk_3 (dk_at dksX9_renamed_0 1 rfl rfl)
theorem dX9_renamed_2 : decode cX9_renamed 2 = .ok (.putfield 69, 3) := dk_181 0 69 (dk_at dksX9_renamed_0 2 rfl rfl)
theorem dX9_renamed_5 : decode cX9_renamed 5 = .ok (.aload_n 0, 1) := dk_42 (dk_at dksX9_renamed_0 5 rfl rfl)
theorem dX9_renamed_6 : decode cX9_renamed 6 = .ok (.iload_n 1, 1) := dk_27 (dk_at dksX9_renamed_0 6 rfl rfl)
theorem dX9_renamed_7 : decode cX9_renamed 7 = .ok (.iload_n 2, 1) := dk_28 (dk_at dksX9_renamed_0 7 rfl rfl)
theorem dX9_renamed_8 : decode cX9_renamed 8 = .ok (.invokevirtual 400, 3) := dk_182 1 144 (dk_at dksX9_renamed_0 8 rfl rfl)
theorem dX9_renamed_11 : decode cX9_renamed 11 = .ok (.ifCond .ne 34, 3) := dk_154 0 34 (dk_at dksX9_renamed_0 11 rfl rfl)
theorem dX9_renamed_14 : decode cX9_renamed 14 = .ok (.aload_n 0, 1) := dk_42 (dk_at dksX9_renamed_0 14 rfl rfl)
theorem dX9_renamed_15 : decode cX9_renamed 15 = .ok (.iload_n 3, 1) := dk_29 (dk_at dksX9_renamed_0 15 rfl rfl)
theorem dX9_renamed_16 : decode cX9_renamed 16 = .ok (.iconst 2, 1) := dk_5 (dk_at dksX9_renamed_0 16 rfl rfl)
theorem dX9_renamed_17 : decode cX9_renamed 17 = .ok (.invokevirtual 403, 3) := dk_182 1 147 (dk_at dksX9_renamed_0 17 rfl rfl)
theorem dX9_renamed_20 : decode cX9_renamed 20 = .ok (.ifCond .ne 25, 3) := dk_154 0 25 (dk_at dksX9_renamed_0 20 rfl rfl)
theorem dX9_renamed_23 : decode cX9_renamed 23 = .ok (.aload_n 0, 1) := dk_42 (dk_at dksX9_renamed_0 23 rfl rfl)
theorem dX9_renamed_24 : decode cX9_renamed 24 = .ok (.aload_n 0, 1) := dk_42 (dk_at dksX9_renamed_1 0 rfl rfl)
theorem dX9_renamed_25 : decode cX9_renamed 25 = .ok (.iload_n 1, 1) := dk_27 (dk_at dksX9_renamed_1 1 rfl rfl)
theorem dX9_renamed_26 : decode cX9_renamed 26 = .ok (.iload_n 2, 1) := dk_28 (dk_at dksX9_renamed_1 2 rfl rfl)
theorem dX9_renamed_27 : decode cX9_renamed 27 = .ok (.invokevirtual 109, 3) := dk_182 0 109 (dk_at dksX9_renamed_1 3 rfl rfl)
theorem dX9_renamed_30 : decode cX9_renamed 30 = .ok (.ifCond .ne 7, 3) := dk_154 0 7 (dk_at dksX9_renamed_1 6 rfl rfl)
theorem dX9_renamed_33 : decode cX9_renamed 33 = .ok (.iconst 1, 1) := dk_4 (dk_at dksX9_renamed_1 9 rfl rfl)
theorem dX9_renamed_34 : decode cX9_renamed 34 = .ok (.goto 4, 3) := dk_167 0 4 (dk_at dksX9_renamed_1 10 rfl rfl)
theorem dX9_renamed_37 : decode cX9_renamed 37 = .ok (.iconst 0, 1) := dk_3 (dk_at dksX9_renamed_1 13 rfl rfl)
theorem dX9_renamed_38 : decode cX9_renamed 38 = .ok (.iconst 3, 1) := dk_6 (dk_at dksX9_renamed_1 14 rfl rfl)
theorem dX9_renamed_39 : decode cX9_renamed 39 = .ok (.invokevirtual 360, 3) := dk_182 1 104 (dk_at dksX9_renamed_1 15 rfl rfl)
theorem dX9_renamed_42 : decode cX9_renamed 42 = .ok (.ifCond .eq 5, 3) := dk_153 0 5 (dk_at dksX9_renamed_1 18 rfl rfl)
theorem dX9_renamed_45 : decode cX9_renamed 45 = .ok (.iconst 0, 1) := dk_3 (dk_at dksX9_renamed_1 21 rfl rfl)
theorem dX9_renamed_46 : decode cX9_renamed 46 = .ok (.ireturn, 1) := dk_172 (dk_at dksX9_renamed_1 22 rfl rfl)
theorem dX9_renamed_47 : decode cX9_renamed 47 = .ok (.iconst 0, 1) := dk_3 (dk_at dksX9_renamed_1 23 rfl rfl)
theorem dX9_renamed_48 : decode cX9_renamed 48 = .ok (.istore 4, 2) := dk_54 4 (dk_at dksX9_renamed_2 0 rfl rfl)
theorem dX9_renamed_50 : decode cX9_renamed 50 = .ok (.iload 4, 2) := dk_21 4 (dk_at dksX9_renamed_2 2 rfl rfl)
theorem dX9_renamed_52 : decode cX9_renamed 52 = .ok (.aload_n 0, 1) := dk_42 (dk_at dksX9_renamed_2 4 rfl rfl)
theorem dX9_renamed_53 : decode cX9_renamed 53 = .ok (.iload_n 1, 1) := dk_27 (dk_at dksX9_renamed_2 5 rfl rfl)
theorem dX9_renamed_54 : decode cX9_renamed 54 = .ok (.iconst 0, 1) := dk_3 (dk_at dksX9_renamed_2 6 rfl rfl)
theorem dX9_renamed_55 : decode cX9_renamed 55 = .ok (.invokevirtual 98, 3) := dk_182 0 98 (dk_at dksX9_renamed_2 7 rfl rfl)
theorem dX9_renamed_58 : decode cX9_renamed 58 = .ok (.if_icmp .ge 36, 3) := dk_162 0 36 (dk_at dksX9_renamed_2 10 rfl rfl)
theorem dX9_renamed_61 : decode cX9_renamed 61 = .ok (.aload_n 0, 1) := dk_42 (dk_at dksX9_renamed_2 13 rfl rfl)
theorem dX9_renamed_62 : decode cX9_renamed 62 = .ok (.iload_n 1, 1) := dk_27 (dk_at dksX9_renamed_2 14 rfl rfl)
theorem dX9_renamed_63 : decode cX9_renamed 63 = .ok (.bipush 10, 2) := dk_16 10 (dk_at dksX9_renamed_2 15 rfl rfl)
theorem dX9_renamed_65 : decode cX9_renamed 65 = .ok (.iload 4, 2) := dk_21 4 (dk_at dksX9_renamed_2 17 rfl rfl)
theorem dX9_renamed_67 : decode cX9_renamed 67 = .ok (.iadd, 1) := dk_96 (dk_at dksX9_renamed_2 19 rfl rfl)
theorem dX9_renamed_68 : decode cX9_renamed 68 = .ok (.invokevirtual 98, 3) := dk_182 0 98 (dk_at dksX9_renamed_2 20 rfl rfl)
theorem dX9_renamed_71 : decode cX9_renamed 71 = .ok (.iload_n 3, 1) := dk_29 (dk_at dksX9_renamed_2 23 rfl rfl)
theorem dX9_renamed_72 : decode cX9_renamed 72 = .ok (.if_icmp .ne 16, 3) := dk_160 0 16 (dk_at dksX9_renamed_3 0 rfl rfl)
theorem dX9_renamed_75 : decode cX9_renamed 75 = .ok (.aload_n 0, 1) := dk_42 (dk_at dksX9_renamed_3 3 rfl rfl)
theorem dX9_renamed_76 : decode cX9_renamed 76 = .ok (.getfield 9, 3) := dk_180 0 9 (dk_at dksX9_renamed_3 4 rfl rfl)
theorem dX9_renamed_79 : decode cX9_renamed 79 = .ok (.bipush 16, 2) := dk_16 16 (dk_at dksX9_renamed_3 7 rfl rfl)
theorem dX9_renamed_81 : decode cX9_renamed 81 = .ok (.iload_n 2, 1) := dk_28 (dk_at dksX9_renamed_3 9 rfl rfl)
theorem dX9_renamed_82 : decode cX9_renamed 82 = .ok (.iadd, 1) := dk_96 (dk_at dksX9_renamed_3 10 rfl rfl)
theorem dX9_renamed_83 : decode cX9_renamed 83 = .ok (.iload 4, 2) := dk_21 4 (dk_at dksX9_renamed_3 11 rfl rfl)
theorem dX9_renamed_85 : decode cX9_renamed 85 = .ok (.iadd, 1) := dk_96 (dk_at dksX9_renamed_3 13 rfl rfl)
theorem dX9_renamed_86 : decode cX9_renamed 86 = .ok (.iaload, 1) := dk_46 (dk_at dksX9_renamed_3 14 rfl rfl)
theorem dX9_renamed_87 : decode cX9_renamed 87 = .ok (.ireturn, 1) := dk_172 (dk_at dksX9_renamed_3 15 rfl rfl)
theorem dX9_renamed_88 : decode cX9_renamed 88 = .ok (.iinc 4 1, 3) := dk_132 4 1 (dk_at dksX9_renamed_3 16 rfl rfl)
theorem dX9_renamed_91 : decode cX9_renamed 91 = .ok (.goto (-41), 3) := dk_167 255 215 (dk_at dksX9_renamed_3 19 rfl rfl)
theorem dX9_renamed_94 : decode cX9_renamed 94 = .ok (.iconst (-1), 1) := dk_2 (dk_at dksX9_renamed_3 22 rfl rfl)
theorem dX9_renamed_95 : decode cX9_renamed 95 = .ok (.ireturn, 1) := dk_172 (dk_at dksX9_renamed_3 23 rfl rfl)
abbrev cX9_noLetter : ByteArray := prog_29_method_75_code
def yX9_noLetter : MethodName := ⟨RX9, "noLetter", "(II)Z"⟩
def dkwX9_noLetter_0 : List UInt8 := [42, 27, 3, 16, 25, 184, 0, 160, 154, 0, 7, 4, 167, 0, 4, 3, 28, 182, 1, 104, 172]
abbrev dktX9_noLetter_0 : List UInt8 := dkwX9_noLetter_0 ++ []
theorem dksX9_noLetter_0 : cX9_noLetter.data.toList.drop 0 = dktX9_noLetter_0 := by decide +kernel
theorem dX9_noLetter_0 : decode cX9_noLetter 0 = .ok (.aload_n 0, 1) := dk_42 (dk_at dksX9_noLetter_0 0 rfl rfl)
theorem dX9_noLetter_1 : decode cX9_noLetter 1 = .ok (.iload_n 1, 1) := dk_27 (dk_at dksX9_noLetter_0 1 rfl rfl)
theorem dX9_noLetter_2 : decode cX9_noLetter 2 = .ok (.iconst 0, 1) := dk_3 (dk_at dksX9_noLetter_0 2 rfl rfl)
theorem dX9_noLetter_3 : decode cX9_noLetter 3 = .ok (.bipush 25, 2) := dk_16 25 (dk_at dksX9_noLetter_0 3 rfl rfl)
theorem dX9_noLetter_5 : decode cX9_noLetter 5 = .ok (.invokestatic 160, 3) := dk_184 0 160 (dk_at dksX9_noLetter_0 5 rfl rfl)
theorem dX9_noLetter_8 : decode cX9_noLetter 8 = .ok (.ifCond .ne 7, 3) := dk_154 0 7 (dk_at dksX9_noLetter_0 8 rfl rfl)
theorem dX9_noLetter_11 : decode cX9_noLetter 11 = .ok (.iconst 1, 1) := dk_4 (dk_at dksX9_noLetter_0 11 rfl rfl)
theorem dX9_noLetter_12 : decode cX9_noLetter 12 = .ok (.goto 4, 3) := dk_167 0 4 (dk_at dksX9_noLetter_0 12 rfl rfl)
theorem dX9_noLetter_15 : decode cX9_noLetter 15 = .ok (.iconst 0, 1) := dk_3 (dk_at dksX9_noLetter_0 15 rfl rfl)
theorem dX9_noLetter_16 : decode cX9_noLetter 16 = .ok (.iload_n 2, 1) := dk_28 (dk_at dksX9_noLetter_0 16 rfl rfl)
theorem dX9_noLetter_17 : decode cX9_noLetter 17 = .ok (.invokevirtual 360, 3) := dk_182 1 104 (dk_at dksX9_noLetter_0 17 rfl rfl)
theorem dX9_noLetter_20 : decode cX9_noLetter 20 = .ok (.ireturn, 1) := dk_172 (dk_at dksX9_noLetter_0 20 rfl rfl)
abbrev cX9_hit : ByteArray := prog_29_method_95_code
def yX9_hit : MethodName := ⟨RX9, "hit", "(II)I"⟩
def dkwX9_hit_1 : List UInt8 := [172]
abbrev dktX9_hit_1 : List UInt8 := dkwX9_hit_1 ++ []
def dkwX9_hit_0 : List UInt8 := [42, 3, 181, 0, 69, 42, 27, 182, 1, 117, 153, 0, 7, 3, 167, 0, 10, 42, 27, 28, 4, 182, 1, 150]
abbrev dktX9_hit_0 : List UInt8 := dkwX9_hit_0 ++ dktX9_hit_1
theorem dksX9_hit_0 : cX9_hit.data.toList.drop 0 = dktX9_hit_0 := by decide +kernel
theorem dksX9_hit_1 : cX9_hit.data.toList.drop 24 = dktX9_hit_1 := dk_seg dksX9_hit_0 24 rfl rfl
theorem dX9_hit_0 : decode cX9_hit 0 = .ok (.aload_n 0, 1) := dk_42 (dk_at dksX9_hit_0 0 rfl rfl)
theorem dX9_hit_1 : decode cX9_hit 1 = .ok (.iconst 0, 1) := dk_3 (dk_at dksX9_hit_0 1 rfl rfl)
theorem dX9_hit_2 : decode cX9_hit 2 = .ok (.putfield 69, 3) := dk_181 0 69 (dk_at dksX9_hit_0 2 rfl rfl)
theorem dX9_hit_5 : decode cX9_hit 5 = .ok (.aload_n 0, 1) := dk_42 (dk_at dksX9_hit_0 5 rfl rfl)
theorem dX9_hit_6 : decode cX9_hit 6 = .ok (.iload_n 1, 1) := dk_27 (dk_at dksX9_hit_0 6 rfl rfl)
theorem dX9_hit_7 : decode cX9_hit 7 = .ok (.invokevirtual 373, 3) := dk_182 1 117 (dk_at dksX9_hit_0 7 rfl rfl)
theorem dX9_hit_10 : decode cX9_hit 10 = .ok (.ifCond .eq 7, 3) := dk_153 0 7 (dk_at dksX9_hit_0 10 rfl rfl)
theorem dX9_hit_13 : decode cX9_hit 13 = .ok (.iconst 0, 1) := dk_3 (dk_at dksX9_hit_0 13 rfl rfl)
theorem dX9_hit_14 : decode cX9_hit 14 = .ok (.goto 10, 3) := dk_167 0 10 (dk_at dksX9_hit_0 14 rfl rfl)
theorem dX9_hit_17 : decode cX9_hit 17 = .ok (.aload_n 0, 1) := dk_42 (dk_at dksX9_hit_0 17 rfl rfl)
theorem dX9_hit_18 : decode cX9_hit 18 = .ok (.iload_n 1, 1) := dk_27 (dk_at dksX9_hit_0 18 rfl rfl)
theorem dX9_hit_19 : decode cX9_hit 19 = .ok (.iload_n 2, 1) := dk_28 (dk_at dksX9_hit_0 19 rfl rfl)
theorem dX9_hit_20 : decode cX9_hit 20 = .ok (.iconst 1, 1) := dk_4 (dk_at dksX9_hit_0 20 rfl rfl)
theorem dX9_hit_21 : decode cX9_hit 21 = .ok (.invokevirtual 406, 3) := dk_182 1 150 (dk_at dksX9_hit_0 21 rfl rfl)
theorem dX9_hit_24 : decode cX9_hit 24 = .ok (.ireturn, 1) := dk_172 (dk_at dksX9_hit_1 0 rfl rfl)
abbrev cX9_nth : ByteArray := prog_29_method_94_code
def yX9_nth : MethodName := ⟨RX9, "nth", "(IIZ)I"⟩
def dkwX9_nth_3 : List UInt8 := [172]
abbrev dktX9_nth_3 : List UInt8 := dkwX9_nth_3 ++ []
def dkwX9_nth_2 : List UInt8 := [154, 0, 6, 167, 0, 14, 21, 4, 154, 0, 6, 21, 5, 172, 132, 4, 255, 132, 5, 1, 167, 255, 197, 2]
abbrev dktX9_nth_2 : List UInt8 := dkwX9_nth_2 ++ dktX9_nth_3
def dkwX9_nth_1 : List UInt8 := [153, 0, 16, 42, 27, 21, 5, 182, 0, 109, 154, 0, 19, 167, 0, 27, 42, 27, 21, 5, 182, 0, 121]
abbrev dktX9_nth_1 : List UInt8 := dkwX9_nth_1 ++ dktX9_nth_2
def dkwX9_nth_0 : List UInt8 := [28, 54, 4, 3, 54, 5, 21, 5, 42, 180, 0, 9, 4, 46, 162, 0, 54, 28, 155, 0, 50, 29]
abbrev dktX9_nth_0 : List UInt8 := dkwX9_nth_0 ++ dktX9_nth_1
theorem dksX9_nth_0 : cX9_nth.data.toList.drop 0 = dktX9_nth_0 := by decide +kernel
theorem dksX9_nth_1 : cX9_nth.data.toList.drop 22 = dktX9_nth_1 := dk_seg dksX9_nth_0 22 rfl rfl
theorem dksX9_nth_2 : cX9_nth.data.toList.drop 45 = dktX9_nth_2 := dk_seg dksX9_nth_1 23 rfl rfl
theorem dksX9_nth_3 : cX9_nth.data.toList.drop 69 = dktX9_nth_3 := dk_seg dksX9_nth_2 24 rfl rfl
theorem dX9_nth_0 : decode cX9_nth 0 = .ok (.iload_n 2, 1) := dk_28 (dk_at dksX9_nth_0 0 rfl rfl)
theorem dX9_nth_1 : decode cX9_nth 1 = .ok (.istore 4, 2) := dk_54 4 (dk_at dksX9_nth_0 1 rfl rfl)
theorem dX9_nth_3 : decode cX9_nth 3 = .ok (.iconst 0, 1) := dk_3 (dk_at dksX9_nth_0 3 rfl rfl)
theorem dX9_nth_4 : decode cX9_nth 4 = .ok (.istore 5, 2) := dk_54 5 (dk_at dksX9_nth_0 4 rfl rfl)
theorem dX9_nth_6 : decode cX9_nth 6 = .ok (.iload 5, 2) := dk_21 5 (dk_at dksX9_nth_0 6 rfl rfl)
theorem dX9_nth_8 : decode cX9_nth 8 = .ok (.aload_n 0, 1) := dk_42 (dk_at dksX9_nth_0 8 rfl rfl)
theorem dX9_nth_9 : decode cX9_nth 9 = .ok (.getfield 9, 3) := dk_180 0 9 (dk_at dksX9_nth_0 9 rfl rfl)
theorem dX9_nth_12 : decode cX9_nth 12 = .ok (.iconst 1, 1) := dk_4 (dk_at dksX9_nth_0 12 rfl rfl)
theorem dX9_nth_13 : decode cX9_nth 13 = .ok (.iaload, 1) := dk_46 (dk_at dksX9_nth_0 13 rfl rfl)
theorem dX9_nth_14 : decode cX9_nth 14 = .ok (.if_icmp .ge 54, 3) := dk_162 0 54 (dk_at dksX9_nth_0 14 rfl rfl)
theorem dX9_nth_17 : decode cX9_nth 17 = .ok (.iload_n 2, 1) := dk_28 (dk_at dksX9_nth_0 17 rfl rfl)
theorem dX9_nth_18 : decode cX9_nth 18 = .ok (.ifCond .lt 50, 3) := dk_155 0 50 (dk_at dksX9_nth_0 18 rfl rfl)
theorem dX9_nth_21 : decode cX9_nth 21 = .ok (.iload_n 3, 1) := dk_29 (dk_at dksX9_nth_0 21 rfl rfl)
theorem dX9_nth_22 : decode cX9_nth 22 = .ok (.ifCond .eq 16, 3) := dk_153 0 16 (dk_at dksX9_nth_1 0 rfl rfl)
theorem dX9_nth_25 : decode cX9_nth 25 = .ok (.aload_n 0, 1) := dk_42 (dk_at dksX9_nth_1 3 rfl rfl)
theorem dX9_nth_26 : decode cX9_nth 26 = .ok (.iload_n 1, 1) := dk_27 (dk_at dksX9_nth_1 4 rfl rfl)
theorem dX9_nth_27 : decode cX9_nth 27 = .ok (.iload 5, 2) := dk_21 5 (dk_at dksX9_nth_1 5 rfl rfl)
theorem dX9_nth_29 : decode cX9_nth 29 = .ok (.invokevirtual 109, 3) := dk_182 0 109 (dk_at dksX9_nth_1 7 rfl rfl)
theorem dX9_nth_32 : decode cX9_nth 32 = .ok (.ifCond .ne 19, 3) := dk_154 0 19 (dk_at dksX9_nth_1 10 rfl rfl)
theorem dX9_nth_35 : decode cX9_nth 35 = .ok (.goto 27, 3) := dk_167 0 27 (dk_at dksX9_nth_1 13 rfl rfl)
theorem dX9_nth_38 : decode cX9_nth 38 = .ok (.aload_n 0, 1) := dk_42 (dk_at dksX9_nth_1 16 rfl rfl)
theorem dX9_nth_39 : decode cX9_nth 39 = .ok (.iload_n 1, 1) := dk_27 (dk_at dksX9_nth_1 17 rfl rfl)
theorem dX9_nth_40 : decode cX9_nth 40 = .ok (.iload 5, 2) := dk_21 5 (dk_at dksX9_nth_1 18 rfl rfl)
theorem dX9_nth_42 : decode cX9_nth 42 = .ok (.invokevirtual 121, 3) := dk_182 0 121 (dk_at dksX9_nth_1 20 rfl rfl)
theorem dX9_nth_45 : decode cX9_nth 45 = .ok (.ifCond .ne 6, 3) := dk_154 0 6 (dk_at dksX9_nth_2 0 rfl rfl)
theorem dX9_nth_48 : decode cX9_nth 48 = .ok (.goto 14, 3) := dk_167 0 14 (dk_at dksX9_nth_2 3 rfl rfl)
theorem dX9_nth_51 : decode cX9_nth 51 = .ok (.iload 4, 2) := dk_21 4 (dk_at dksX9_nth_2 6 rfl rfl)
theorem dX9_nth_53 : decode cX9_nth 53 = .ok (.ifCond .ne 6, 3) := dk_154 0 6 (dk_at dksX9_nth_2 8 rfl rfl)
theorem dX9_nth_56 : decode cX9_nth 56 = .ok (.iload 5, 2) := dk_21 5 (dk_at dksX9_nth_2 11 rfl rfl)
theorem dX9_nth_58 : decode cX9_nth 58 = .ok (.ireturn, 1) := dk_172 (dk_at dksX9_nth_2 13 rfl rfl)
theorem dX9_nth_59 : decode cX9_nth 59 = .ok (.iinc 4 (-1), 3) := dk_132 4 255 (dk_at dksX9_nth_2 14 rfl rfl)
theorem dX9_nth_62 : decode cX9_nth 62 = .ok (.iinc 5 1, 3) := dk_132 5 1 (dk_at dksX9_nth_2 17 rfl rfl)
theorem dX9_nth_65 : decode cX9_nth 65 = .ok (.goto (-59), 3) := dk_167 255 197 (dk_at dksX9_nth_2 20 rfl rfl)
theorem dX9_nth_68 : decode cX9_nth 68 = .ok (.iconst (-1), 1) := dk_2 (dk_at dksX9_nth_2 23 rfl rfl)
theorem dX9_nth_69 : decode cX9_nth 69 = .ok (.ireturn, 1) := dk_172 (dk_at dksX9_nth_3 0 rfl rfl)
abbrev cX9_candidate : ByteArray := prog_29_method_96_code
def yX9_candidate : MethodName := ⟨RX9, "candidate", "(II)I"⟩
def dkwX9_candidate_1 : List UInt8 := [172]
abbrev dktX9_candidate_1 : List UInt8 := dkwX9_candidate_1 ++ []
def dkwX9_candidate_0 : List UInt8 := [42, 3, 181, 0, 69, 42, 27, 182, 1, 117, 153, 0, 7, 3, 167, 0, 10, 42, 27, 28, 3, 182, 1, 150]
abbrev dktX9_candidate_0 : List UInt8 := dkwX9_candidate_0 ++ dktX9_candidate_1
theorem dksX9_candidate_0 : cX9_candidate.data.toList.drop 0 = dktX9_candidate_0 := by decide +kernel
theorem dksX9_candidate_1 : cX9_candidate.data.toList.drop 24 = dktX9_candidate_1 := dk_seg dksX9_candidate_0 24 rfl rfl
theorem dX9_candidate_0 : decode cX9_candidate 0 = .ok (.aload_n 0, 1) := dk_42 (dk_at dksX9_candidate_0 0 rfl rfl)
theorem dX9_candidate_1 : decode cX9_candidate 1 = .ok (.iconst 0, 1) := dk_3 (dk_at dksX9_candidate_0 1 rfl rfl)
theorem dX9_candidate_2 : decode cX9_candidate 2 = .ok (.putfield 69, 3) := dk_181 0 69 (dk_at dksX9_candidate_0 2 rfl rfl)
theorem dX9_candidate_5 : decode cX9_candidate 5 = .ok (.aload_n 0, 1) := dk_42 (dk_at dksX9_candidate_0 5 rfl rfl)
theorem dX9_candidate_6 : decode cX9_candidate 6 = .ok (.iload_n 1, 1) := dk_27 (dk_at dksX9_candidate_0 6 rfl rfl)
theorem dX9_candidate_7 : decode cX9_candidate 7 = .ok (.invokevirtual 373, 3) := dk_182 1 117 (dk_at dksX9_candidate_0 7 rfl rfl)
theorem dX9_candidate_10 : decode cX9_candidate 10 = .ok (.ifCond .eq 7, 3) := dk_153 0 7 (dk_at dksX9_candidate_0 10 rfl rfl)
theorem dX9_candidate_13 : decode cX9_candidate 13 = .ok (.iconst 0, 1) := dk_3 (dk_at dksX9_candidate_0 13 rfl rfl)
theorem dX9_candidate_14 : decode cX9_candidate 14 = .ok (.goto 10, 3) := dk_167 0 10 (dk_at dksX9_candidate_0 14 rfl rfl)
theorem dX9_candidate_17 : decode cX9_candidate 17 = .ok (.aload_n 0, 1) := dk_42 (dk_at dksX9_candidate_0 17 rfl rfl)
theorem dX9_candidate_18 : decode cX9_candidate 18 = .ok (.iload_n 1, 1) := dk_27 (dk_at dksX9_candidate_0 18 rfl rfl)
theorem dX9_candidate_19 : decode cX9_candidate 19 = .ok (.iload_n 2, 1) := dk_28 (dk_at dksX9_candidate_0 19 rfl rfl)
theorem dX9_candidate_20 : decode cX9_candidate 20 = .ok (.iconst 0, 1) := dk_3 (dk_at dksX9_candidate_0 20 rfl rfl)
theorem dX9_candidate_21 : decode cX9_candidate 21 = .ok (.invokevirtual 406, 3) := dk_182 1 150 (dk_at dksX9_candidate_0 21 rfl rfl)
theorem dX9_candidate_24 : decode cX9_candidate 24 = .ok (.ireturn, 1) := dk_172 (dk_at dksX9_candidate_1 0 rfl rfl)
abbrev cX9_alike : ByteArray := prog_29_method_97_code
def yX9_alike : MethodName := ⟨RX9, "alike", "(III)Z"⟩
def dkwX9_alike_3 : List UInt8 := [184, 0, 95, 29, 182, 0, 87, 172]
abbrev dktX9_alike_3 : List UInt8 := dkwX9_alike_3 ++ []
def dkwX9_alike_2 : List UInt8 := [164, 0, 7, 4, 167, 0, 4, 3, 5, 182, 1, 104, 153, 0, 5, 3, 172, 42, 27, 184, 0, 95, 28]
abbrev dktX9_alike_2 : List UInt8 := dkwX9_alike_2 ++ dktX9_alike_3
def dkwX9_alike_1 : List UInt8 := [17, 0, 200, 184, 0, 160, 153, 0, 19, 27, 28, 184, 1, 153, 29, 96, 42, 180, 0, 9, 4, 46]
abbrev dktX9_alike_1 : List UInt8 := dkwX9_alike_1 ++ dktX9_alike_2
def dkwX9_alike_0 : List UInt8 := [42, 3, 181, 0, 69, 42, 27, 182, 1, 114, 154, 0, 51, 42, 28, 182, 1, 114, 154, 0, 43, 42, 29, 4]
abbrev dktX9_alike_0 : List UInt8 := dkwX9_alike_0 ++ dktX9_alike_1
theorem dksX9_alike_0 : cX9_alike.data.toList.drop 0 = dktX9_alike_0 := by decide +kernel
theorem dksX9_alike_1 : cX9_alike.data.toList.drop 24 = dktX9_alike_1 := dk_seg dksX9_alike_0 24 rfl rfl
theorem dksX9_alike_2 : cX9_alike.data.toList.drop 46 = dktX9_alike_2 := dk_seg dksX9_alike_1 22 rfl rfl
theorem dksX9_alike_3 : cX9_alike.data.toList.drop 69 = dktX9_alike_3 := dk_seg dksX9_alike_2 23 rfl rfl
theorem dX9_alike_0 : decode cX9_alike 0 = .ok (.aload_n 0, 1) := dk_42 (dk_at dksX9_alike_0 0 rfl rfl)
theorem dX9_alike_1 : decode cX9_alike 1 = .ok (.iconst 0, 1) := dk_3 (dk_at dksX9_alike_0 1 rfl rfl)
theorem dX9_alike_2 : decode cX9_alike 2 = .ok (.putfield 69, 3) := dk_181 0 69 (dk_at dksX9_alike_0 2 rfl rfl)
theorem dX9_alike_5 : decode cX9_alike 5 = .ok (.aload_n 0, 1) := dk_42 (dk_at dksX9_alike_0 5 rfl rfl)
theorem dX9_alike_6 : decode cX9_alike 6 = .ok (.iload_n 1, 1) := dk_27 (dk_at dksX9_alike_0 6 rfl rfl)
theorem dX9_alike_7 : decode cX9_alike 7 = .ok (.invokevirtual 370, 3) := dk_182 1 114 (dk_at dksX9_alike_0 7 rfl rfl)
theorem dX9_alike_10 : decode cX9_alike 10 = .ok (.ifCond .ne 51, 3) := dk_154 0 51 (dk_at dksX9_alike_0 10 rfl rfl)
theorem dX9_alike_13 : decode cX9_alike 13 = .ok (.aload_n 0, 1) := dk_42 (dk_at dksX9_alike_0 13 rfl rfl)
theorem dX9_alike_14 : decode cX9_alike 14 = .ok (.iload_n 2, 1) := dk_28 (dk_at dksX9_alike_0 14 rfl rfl)
theorem dX9_alike_15 : decode cX9_alike 15 = .ok (.invokevirtual 370, 3) := dk_182 1 114 (dk_at dksX9_alike_0 15 rfl rfl)
theorem dX9_alike_18 : decode cX9_alike 18 = .ok (.ifCond .ne 43, 3) := dk_154 0 43 (dk_at dksX9_alike_0 18 rfl rfl)
theorem dX9_alike_21 : decode cX9_alike 21 = .ok (.aload_n 0, 1) := dk_42 (dk_at dksX9_alike_0 21 rfl rfl)
theorem dX9_alike_22 : decode cX9_alike 22 = .ok (.iload_n 3, 1) := dk_29 (dk_at dksX9_alike_0 22 rfl rfl)
theorem dX9_alike_23 : decode cX9_alike 23 = .ok (.iconst 1, 1) := dk_4 (dk_at dksX9_alike_0 23 rfl rfl)
theorem dX9_alike_24 : decode cX9_alike 24 = .ok (.sipush 200, 3) := dk_17 0 200 (dk_at dksX9_alike_1 0 rfl rfl)
theorem dX9_alike_27 : decode cX9_alike 27 = .ok (.invokestatic 160, 3) := dk_184 0 160 (dk_at dksX9_alike_1 3 rfl rfl)
theorem dX9_alike_30 : decode cX9_alike 30 = .ok (.ifCond .eq 19, 3) := dk_153 0 19 (dk_at dksX9_alike_1 6 rfl rfl)
theorem dX9_alike_33 : decode cX9_alike 33 = .ok (.iload_n 1, 1) := dk_27 (dk_at dksX9_alike_1 9 rfl rfl)
theorem dX9_alike_34 : decode cX9_alike 34 = .ok (.iload_n 2, 1) := dk_28 (dk_at dksX9_alike_1 10 rfl rfl)
theorem dX9_alike_35 : decode cX9_alike 35 = .ok (.invokestatic 409, 3) := dk_184 1 153 (dk_at dksX9_alike_1 11 rfl rfl)
theorem dX9_alike_38 : decode cX9_alike 38 = .ok (.iload_n 3, 1) := dk_29 (dk_at dksX9_alike_1 14 rfl rfl)
theorem dX9_alike_39 : decode cX9_alike 39 = .ok (.iadd, 1) := dk_96 (dk_at dksX9_alike_1 15 rfl rfl)
theorem dX9_alike_40 : decode cX9_alike 40 = .ok (.aload_n 0, 1) := dk_42 (dk_at dksX9_alike_1 16 rfl rfl)
theorem dX9_alike_41 : decode cX9_alike 41 = .ok (.getfield 9, 3) := dk_180 0 9 (dk_at dksX9_alike_1 17 rfl rfl)
theorem dX9_alike_44 : decode cX9_alike 44 = .ok (.iconst 1, 1) := dk_4 (dk_at dksX9_alike_1 20 rfl rfl)
theorem dX9_alike_45 : decode cX9_alike 45 = .ok (.iaload, 1) := dk_46 (dk_at dksX9_alike_1 21 rfl rfl)
theorem dX9_alike_46 : decode cX9_alike 46 = .ok (.if_icmp .le 7, 3) := dk_164 0 7 (dk_at dksX9_alike_2 0 rfl rfl)
theorem dX9_alike_49 : decode cX9_alike 49 = .ok (.iconst 1, 1) := dk_4 (dk_at dksX9_alike_2 3 rfl rfl)
theorem dX9_alike_50 : decode cX9_alike 50 = .ok (.goto 4, 3) := dk_167 0 4 (dk_at dksX9_alike_2 4 rfl rfl)
theorem dX9_alike_53 : decode cX9_alike 53 = .ok (.iconst 0, 1) := dk_3 (dk_at dksX9_alike_2 7 rfl rfl)
theorem dX9_alike_54 : decode cX9_alike 54 = .ok (.iconst 2, 1) := dk_5 (dk_at dksX9_alike_2 8 rfl rfl)
theorem dX9_alike_55 : decode cX9_alike 55 = .ok (.invokevirtual 360, 3) := dk_182 1 104 (dk_at dksX9_alike_2 9 rfl rfl)
theorem dX9_alike_58 : decode cX9_alike 58 = .ok (.ifCond .eq 5, 3) := dk_153 0 5 (dk_at dksX9_alike_2 12 rfl rfl)
theorem dX9_alike_61 : decode cX9_alike 61 = .ok (.iconst 0, 1) := dk_3 (dk_at dksX9_alike_2 15 rfl rfl)
theorem dX9_alike_62 : decode cX9_alike 62 = .ok (.ireturn, 1) := dk_172 (dk_at dksX9_alike_2 16 rfl rfl)
theorem dX9_alike_63 : decode cX9_alike 63 = .ok (.aload_n 0, 1) := dk_42 (dk_at dksX9_alike_2 17 rfl rfl)
theorem dX9_alike_64 : decode cX9_alike 64 = .ok (.iload_n 1, 1) := dk_27 (dk_at dksX9_alike_2 18 rfl rfl)
theorem dX9_alike_65 : decode cX9_alike 65 = .ok (.invokestatic 95, 3) := dk_184 0 95 (dk_at dksX9_alike_2 19 rfl rfl)
theorem dX9_alike_68 : decode cX9_alike 68 = .ok (.iload_n 2, 1) := dk_28 (dk_at dksX9_alike_2 22 rfl rfl)
theorem dX9_alike_69 : decode cX9_alike 69 = .ok (.invokestatic 95, 3) := dk_184 0 95 (dk_at dksX9_alike_3 0 rfl rfl)
theorem dX9_alike_72 : decode cX9_alike 72 = .ok (.iload_n 3, 1) := dk_29 (dk_at dksX9_alike_3 3 rfl rfl)
theorem dX9_alike_73 : decode cX9_alike 73 = .ok (.invokevirtual 87, 3) := dk_182 0 87 (dk_at dksX9_alike_3 4 rfl rfl)
theorem dX9_alike_76 : decode cX9_alike 76 = .ok (.ireturn, 1) := dk_172 (dk_at dksX9_alike_3 7 rfl rfl)
abbrev cX9_classes : ByteArray := prog_29_method_99_code
def yX9_classes : MethodName := ⟨RX9, "classes", "(I)I"⟩
def dkwX9_classes_2 : List UInt8 := [28, 42, 29, 27, 182, 1, 156, 184, 0, 113, 96, 61, 132, 3, 1, 167, 255, 229, 28, 172]
abbrev dktX9_classes_2 : List UInt8 := dkwX9_classes_2 ++ []
def dkwX9_classes_1 : List UInt8 := [182, 1, 104, 153, 0, 5, 3, 172, 3, 61, 3, 62, 29, 27, 96, 42, 180, 0, 9, 4, 46, 163, 0, 21]
abbrev dktX9_classes_1 : List UInt8 := dkwX9_classes_1 ++ dktX9_classes_2
def dkwX9_classes_0 : List UInt8 := [42, 3, 181, 0, 69, 42, 27, 4, 17, 0, 200, 184, 0, 160, 154, 0, 7, 4, 167, 0, 4, 3, 4]
abbrev dktX9_classes_0 : List UInt8 := dkwX9_classes_0 ++ dktX9_classes_1
theorem dksX9_classes_0 : cX9_classes.data.toList.drop 0 = dktX9_classes_0 := by decide +kernel
theorem dksX9_classes_1 : cX9_classes.data.toList.drop 23 = dktX9_classes_1 := dk_seg dksX9_classes_0 23 rfl rfl
theorem dksX9_classes_2 : cX9_classes.data.toList.drop 47 = dktX9_classes_2 := dk_seg dksX9_classes_1 24 rfl rfl
theorem dX9_classes_0 : decode cX9_classes 0 = .ok (.aload_n 0, 1) := dk_42 (dk_at dksX9_classes_0 0 rfl rfl)
theorem dX9_classes_1 : decode cX9_classes 1 = .ok (.iconst 0, 1) := dk_3 (dk_at dksX9_classes_0 1 rfl rfl)
theorem dX9_classes_2 : decode cX9_classes 2 = .ok (.putfield 69, 3) := dk_181 0 69 (dk_at dksX9_classes_0 2 rfl rfl)
theorem dX9_classes_5 : decode cX9_classes 5 = .ok (.aload_n 0, 1) := dk_42 (dk_at dksX9_classes_0 5 rfl rfl)
theorem dX9_classes_6 : decode cX9_classes 6 = .ok (.iload_n 1, 1) := dk_27 (dk_at dksX9_classes_0 6 rfl rfl)
theorem dX9_classes_7 : decode cX9_classes 7 = .ok (.iconst 1, 1) := dk_4 (dk_at dksX9_classes_0 7 rfl rfl)
theorem dX9_classes_8 : decode cX9_classes 8 = .ok (.sipush 200, 3) := dk_17 0 200 (dk_at dksX9_classes_0 8 rfl rfl)
theorem dX9_classes_11 : decode cX9_classes 11 = .ok (.invokestatic 160, 3) := dk_184 0 160 (dk_at dksX9_classes_0 11 rfl rfl)
theorem dX9_classes_14 : decode cX9_classes 14 = .ok (.ifCond .ne 7, 3) := dk_154 0 7 (dk_at dksX9_classes_0 14 rfl rfl)
theorem dX9_classes_17 : decode cX9_classes 17 = .ok (.iconst 1, 1) := dk_4 (dk_at dksX9_classes_0 17 rfl rfl)
theorem dX9_classes_18 : decode cX9_classes 18 = .ok (.goto 4, 3) := dk_167 0 4 (dk_at dksX9_classes_0 18 rfl rfl)
theorem dX9_classes_21 : decode cX9_classes 21 = .ok (.iconst 0, 1) := dk_3 (dk_at dksX9_classes_0 21 rfl rfl)
theorem dX9_classes_22 : decode cX9_classes 22 = .ok (.iconst 1, 1) := dk_4 (dk_at dksX9_classes_0 22 rfl rfl)
theorem dX9_classes_23 : decode cX9_classes 23 = .ok (.invokevirtual 360, 3) := dk_182 1 104 (dk_at dksX9_classes_1 0 rfl rfl)
theorem dX9_classes_26 : decode cX9_classes 26 = .ok (.ifCond .eq 5, 3) := dk_153 0 5 (dk_at dksX9_classes_1 3 rfl rfl)
theorem dX9_classes_29 : decode cX9_classes 29 = .ok (.iconst 0, 1) := dk_3 (dk_at dksX9_classes_1 6 rfl rfl)
theorem dX9_classes_30 : decode cX9_classes 30 = .ok (.ireturn, 1) := dk_172 (dk_at dksX9_classes_1 7 rfl rfl)
theorem dX9_classes_31 : decode cX9_classes 31 = .ok (.iconst 0, 1) := dk_3 (dk_at dksX9_classes_1 8 rfl rfl)
theorem dX9_classes_32 : decode cX9_classes 32 = .ok (.istore_n 2, 1) := dk_61 (dk_at dksX9_classes_1 9 rfl rfl)
theorem dX9_classes_33 : decode cX9_classes 33 = .ok (.iconst 0, 1) := dk_3 (dk_at dksX9_classes_1 10 rfl rfl)
theorem dX9_classes_34 : decode cX9_classes 34 = .ok (.istore_n 3, 1) := dk_62 (dk_at dksX9_classes_1 11 rfl rfl)
theorem dX9_classes_35 : decode cX9_classes 35 = .ok (.iload_n 3, 1) := dk_29 (dk_at dksX9_classes_1 12 rfl rfl)
theorem dX9_classes_36 : decode cX9_classes 36 = .ok (.iload_n 1, 1) := dk_27 (dk_at dksX9_classes_1 13 rfl rfl)
theorem dX9_classes_37 : decode cX9_classes 37 = .ok (.iadd, 1) := dk_96 (dk_at dksX9_classes_1 14 rfl rfl)
theorem dX9_classes_38 : decode cX9_classes 38 = .ok (.aload_n 0, 1) := dk_42 (dk_at dksX9_classes_1 15 rfl rfl)
theorem dX9_classes_39 : decode cX9_classes 39 = .ok (.getfield 9, 3) := dk_180 0 9 (dk_at dksX9_classes_1 16 rfl rfl)
theorem dX9_classes_42 : decode cX9_classes 42 = .ok (.iconst 1, 1) := dk_4 (dk_at dksX9_classes_1 19 rfl rfl)
theorem dX9_classes_43 : decode cX9_classes 43 = .ok (.iaload, 1) := dk_46 (dk_at dksX9_classes_1 20 rfl rfl)
theorem dX9_classes_44 : decode cX9_classes 44 = .ok (.if_icmp .gt 21, 3) := dk_163 0 21 (dk_at dksX9_classes_1 21 rfl rfl)
theorem dX9_classes_47 : decode cX9_classes 47 = .ok (.iload_n 2, 1) := dk_28 (dk_at dksX9_classes_2 0 rfl rfl)
theorem dX9_classes_48 : decode cX9_classes 48 = .ok (.aload_n 0, 1) := dk_42 (dk_at dksX9_classes_2 1 rfl rfl)
theorem dX9_classes_49 : decode cX9_classes 49 = .ok (.iload_n 3, 1) := dk_29 (dk_at dksX9_classes_2 2 rfl rfl)
theorem dX9_classes_50 : decode cX9_classes 50 = .ok (.iload_n 1, 1) := dk_27 (dk_at dksX9_classes_2 3 rfl rfl)
theorem dX9_classes_51 : decode cX9_classes 51 = .ok (.invokevirtual 412, 3) := dk_182 1 156 (dk_at dksX9_classes_2 4 rfl rfl)
theorem dX9_classes_54 : decode cX9_classes 54 = .ok (.invokestatic 113, 3) := dk_184 0 113 (dk_at dksX9_classes_2 7 rfl rfl)
theorem dX9_classes_57 : decode cX9_classes 57 = .ok (.iadd, 1) := dk_96 (dk_at dksX9_classes_2 10 rfl rfl)
theorem dX9_classes_58 : decode cX9_classes 58 = .ok (.istore_n 2, 1) := dk_61 (dk_at dksX9_classes_2 11 rfl rfl)
theorem dX9_classes_59 : decode cX9_classes 59 = .ok (.iinc 3 1, 3) := dk_132 3 1 (dk_at dksX9_classes_2 12 rfl rfl)
theorem dX9_classes_62 : decode cX9_classes 62 = .ok (.goto (-27), 3) := dk_167 255 229 (dk_at dksX9_classes_2 15 rfl rfl)
theorem dX9_classes_65 : decode cX9_classes 65 = .ok (.iload_n 2, 1) := dk_28 (dk_at dksX9_classes_2 18 rfl rfl)
theorem dX9_classes_66 : decode cX9_classes 66 = .ok (.ireturn, 1) := dk_172 (dk_at dksX9_classes_2 19 rfl rfl)
abbrev cX9_isNewWindow : ByteArray := prog_29_method_98_code
def yX9_isNewWindow : MethodName := ⟨RX9, "isNewWindow", "(II)Z"⟩
def dkwX9_isNewWindow_1 : List UInt8 := [172, 132, 3, 1, 167, 255, 230, 4, 172]
abbrev dktX9_isNewWindow_1 : List UInt8 := dkwX9_isNewWindow_1 ++ []
def dkwX9_isNewWindow_0 : List UInt8 := [3, 62, 29, 27, 162, 0, 27, 42, 29, 184, 0, 95, 27, 184, 0, 95, 28, 182, 0, 87, 153, 0, 5, 3]
abbrev dktX9_isNewWindow_0 : List UInt8 := dkwX9_isNewWindow_0 ++ dktX9_isNewWindow_1
theorem dksX9_isNewWindow_0 : cX9_isNewWindow.data.toList.drop 0 = dktX9_isNewWindow_0 := by decide +kernel
theorem dksX9_isNewWindow_1 : cX9_isNewWindow.data.toList.drop 24 = dktX9_isNewWindow_1 := dk_seg dksX9_isNewWindow_0 24 rfl rfl
theorem dX9_isNewWindow_0 : decode cX9_isNewWindow 0 = .ok (.iconst 0, 1) := dk_3 (dk_at dksX9_isNewWindow_0 0 rfl rfl)
theorem dX9_isNewWindow_1 : decode cX9_isNewWindow 1 = .ok (.istore_n 3, 1) := dk_62 (dk_at dksX9_isNewWindow_0 1 rfl rfl)
theorem dX9_isNewWindow_2 : decode cX9_isNewWindow 2 = .ok (.iload_n 3, 1) := dk_29 (dk_at dksX9_isNewWindow_0 2 rfl rfl)
theorem dX9_isNewWindow_3 : decode cX9_isNewWindow 3 = .ok (.iload_n 1, 1) := dk_27 (dk_at dksX9_isNewWindow_0 3 rfl rfl)
theorem dX9_isNewWindow_4 : decode cX9_isNewWindow 4 = .ok (.if_icmp .ge 27, 3) := dk_162 0 27 (dk_at dksX9_isNewWindow_0 4 rfl rfl)
theorem dX9_isNewWindow_7 : decode cX9_isNewWindow 7 = .ok (.aload_n 0, 1) := dk_42 (dk_at dksX9_isNewWindow_0 7 rfl rfl)
theorem dX9_isNewWindow_8 : decode cX9_isNewWindow 8 = .ok (.iload_n 3, 1) := dk_29 (dk_at dksX9_isNewWindow_0 8 rfl rfl)
theorem dX9_isNewWindow_9 : decode cX9_isNewWindow 9 = .ok (.invokestatic 95, 3) := dk_184 0 95 (dk_at dksX9_isNewWindow_0 9 rfl rfl)
theorem dX9_isNewWindow_12 : decode cX9_isNewWindow 12 = .ok (.iload_n 1, 1) := dk_27 (dk_at dksX9_isNewWindow_0 12 rfl rfl)
theorem dX9_isNewWindow_13 : decode cX9_isNewWindow 13 = .ok (.invokestatic 95, 3) := dk_184 0 95 (dk_at dksX9_isNewWindow_0 13 rfl rfl)
theorem dX9_isNewWindow_16 : decode cX9_isNewWindow 16 = .ok (.iload_n 2, 1) := dk_28 (dk_at dksX9_isNewWindow_0 16 rfl rfl)
theorem dX9_isNewWindow_17 : decode cX9_isNewWindow 17 = .ok (.invokevirtual 87, 3) := dk_182 0 87 (dk_at dksX9_isNewWindow_0 17 rfl rfl)
theorem dX9_isNewWindow_20 : decode cX9_isNewWindow 20 = .ok (.ifCond .eq 5, 3) := dk_153 0 5 (dk_at dksX9_isNewWindow_0 20 rfl rfl)
theorem dX9_isNewWindow_23 : decode cX9_isNewWindow 23 = .ok (.iconst 0, 1) := dk_3 (dk_at dksX9_isNewWindow_0 23 rfl rfl)
theorem dX9_isNewWindow_24 : decode cX9_isNewWindow 24 = .ok (.ireturn, 1) := dk_172 (dk_at dksX9_isNewWindow_1 0 rfl rfl)
theorem dX9_isNewWindow_25 : decode cX9_isNewWindow 25 = .ok (.iinc 3 1, 3) := dk_132 3 1 (dk_at dksX9_isNewWindow_1 1 rfl rfl)
theorem dX9_isNewWindow_28 : decode cX9_isNewWindow 28 = .ok (.goto (-26), 3) := dk_167 255 230 (dk_at dksX9_isNewWindow_1 4 rfl rfl)
theorem dX9_isNewWindow_31 : decode cX9_isNewWindow 31 = .ok (.iconst 1, 1) := dk_4 (dk_at dksX9_isNewWindow_1 7 rfl rfl)
theorem dX9_isNewWindow_32 : decode cX9_isNewWindow 32 = .ok (.ireturn, 1) := dk_172 (dk_at dksX9_isNewWindow_1 8 rfl rfl)
abbrev cX9_longestTwin : ByteArray := prog_29_method_100_code
def yX9_longestTwin : MethodName := ⟨RX9, "longestTwin", "()I"⟩
def dkwX9_longestTwin_2 : List UInt8 := [46, 29, 100, 182, 0, 83, 184, 1, 153, 60, 132, 3, 1, 167, 255, 218, 132, 2, 1, 167, 255, 198, 27, 172]
abbrev dktX9_longestTwin_2 : List UInt8 := dkwX9_longestTwin_2 ++ []
def dkwX9_longestTwin_1 : List UInt8 := [42, 180, 0, 9, 4, 46, 162, 0, 34, 27, 42, 28, 184, 0, 95, 29, 184, 0, 95, 42, 180, 0, 9, 4]
abbrev dktX9_longestTwin_1 : List UInt8 := dkwX9_longestTwin_1 ++ dktX9_longestTwin_2
def dkwX9_longestTwin_0 : List UInt8 := [42, 3, 181, 0, 69, 3, 60, 3, 61, 28, 42, 180, 0, 9, 4, 46, 162, 0, 54, 28, 4, 96, 62, 29]
abbrev dktX9_longestTwin_0 : List UInt8 := dkwX9_longestTwin_0 ++ dktX9_longestTwin_1
theorem dksX9_longestTwin_0 : cX9_longestTwin.data.toList.drop 0 = dktX9_longestTwin_0 := by decide +kernel
theorem dksX9_longestTwin_1 : cX9_longestTwin.data.toList.drop 24 = dktX9_longestTwin_1 := dk_seg dksX9_longestTwin_0 24 rfl rfl
theorem dksX9_longestTwin_2 : cX9_longestTwin.data.toList.drop 48 = dktX9_longestTwin_2 := dk_seg dksX9_longestTwin_1 24 rfl rfl
theorem dX9_longestTwin_0 : decode cX9_longestTwin 0 = .ok (.aload_n 0, 1) := dk_42 (dk_at dksX9_longestTwin_0 0 rfl rfl)
theorem dX9_longestTwin_1 : decode cX9_longestTwin 1 = .ok (.iconst 0, 1) := dk_3 (dk_at dksX9_longestTwin_0 1 rfl rfl)
theorem dX9_longestTwin_2 : decode cX9_longestTwin 2 = .ok (.putfield 69, 3) := dk_181 0 69 (dk_at dksX9_longestTwin_0 2 rfl rfl)
theorem dX9_longestTwin_5 : decode cX9_longestTwin 5 = .ok (.iconst 0, 1) := dk_3 (dk_at dksX9_longestTwin_0 5 rfl rfl)
theorem dX9_longestTwin_6 : decode cX9_longestTwin 6 = .ok (.istore_n 1, 1) := dk_60 (dk_at dksX9_longestTwin_0 6 rfl rfl)
theorem dX9_longestTwin_7 : decode cX9_longestTwin 7 = .ok (.iconst 0, 1) := dk_3 (dk_at dksX9_longestTwin_0 7 rfl rfl)
theorem dX9_longestTwin_8 : decode cX9_longestTwin 8 = .ok (.istore_n 2, 1) := dk_61 (dk_at dksX9_longestTwin_0 8 rfl rfl)
theorem dX9_longestTwin_9 : decode cX9_longestTwin 9 = .ok (.iload_n 2, 1) := dk_28 (dk_at dksX9_longestTwin_0 9 rfl rfl)
theorem dX9_longestTwin_10 : decode cX9_longestTwin 10 = .ok (.aload_n 0, 1) := dk_42 (dk_at dksX9_longestTwin_0 10 rfl rfl)
theorem dX9_longestTwin_11 : decode cX9_longestTwin 11 = .ok (.getfield 9, 3) := dk_180 0 9 (dk_at dksX9_longestTwin_0 11 rfl rfl)
theorem dX9_longestTwin_14 : decode cX9_longestTwin 14 = .ok (.iconst 1, 1) := dk_4 (dk_at dksX9_longestTwin_0 14 rfl rfl)
theorem dX9_longestTwin_15 : decode cX9_longestTwin 15 = .ok (.iaload, 1) := dk_46 (dk_at dksX9_longestTwin_0 15 rfl rfl)
theorem dX9_longestTwin_16 : decode cX9_longestTwin 16 = .ok (.if_icmp .ge 54, 3) := dk_162 0 54 (dk_at dksX9_longestTwin_0 16 rfl rfl)
theorem dX9_longestTwin_19 : decode cX9_longestTwin 19 = .ok (.iload_n 2, 1) := dk_28 (dk_at dksX9_longestTwin_0 19 rfl rfl)
theorem dX9_longestTwin_20 : decode cX9_longestTwin 20 = .ok (.iconst 1, 1) := dk_4 (dk_at dksX9_longestTwin_0 20 rfl rfl)
theorem dX9_longestTwin_21 : decode cX9_longestTwin 21 = .ok (.iadd, 1) := dk_96 (dk_at dksX9_longestTwin_0 21 rfl rfl)
theorem dX9_longestTwin_22 : decode cX9_longestTwin 22 = .ok (.istore_n 3, 1) := dk_62 (dk_at dksX9_longestTwin_0 22 rfl rfl)
theorem dX9_longestTwin_23 : decode cX9_longestTwin 23 = .ok (.iload_n 3, 1) := dk_29 (dk_at dksX9_longestTwin_0 23 rfl rfl)
theorem dX9_longestTwin_24 : decode cX9_longestTwin 24 = .ok (.aload_n 0, 1) := dk_42 (dk_at dksX9_longestTwin_1 0 rfl rfl)
theorem dX9_longestTwin_25 : decode cX9_longestTwin 25 = .ok (.getfield 9, 3) := dk_180 0 9 (dk_at dksX9_longestTwin_1 1 rfl rfl)
theorem dX9_longestTwin_28 : decode cX9_longestTwin 28 = .ok (.iconst 1, 1) := dk_4 (dk_at dksX9_longestTwin_1 4 rfl rfl)
theorem dX9_longestTwin_29 : decode cX9_longestTwin 29 = .ok (.iaload, 1) := dk_46 (dk_at dksX9_longestTwin_1 5 rfl rfl)
theorem dX9_longestTwin_30 : decode cX9_longestTwin 30 = .ok (.if_icmp .ge 34, 3) := dk_162 0 34 (dk_at dksX9_longestTwin_1 6 rfl rfl)
theorem dX9_longestTwin_33 : decode cX9_longestTwin 33 = .ok (.iload_n 1, 1) := dk_27 (dk_at dksX9_longestTwin_1 9 rfl rfl)
theorem dX9_longestTwin_34 : decode cX9_longestTwin 34 = .ok (.aload_n 0, 1) := dk_42 (dk_at dksX9_longestTwin_1 10 rfl rfl)
theorem dX9_longestTwin_35 : decode cX9_longestTwin 35 = .ok (.iload_n 2, 1) := dk_28 (dk_at dksX9_longestTwin_1 11 rfl rfl)
theorem dX9_longestTwin_36 : decode cX9_longestTwin 36 = .ok (.invokestatic 95, 3) := dk_184 0 95 (dk_at dksX9_longestTwin_1 12 rfl rfl)
theorem dX9_longestTwin_39 : decode cX9_longestTwin 39 = .ok (.iload_n 3, 1) := dk_29 (dk_at dksX9_longestTwin_1 15 rfl rfl)
theorem dX9_longestTwin_40 : decode cX9_longestTwin 40 = .ok (.invokestatic 95, 3) := dk_184 0 95 (dk_at dksX9_longestTwin_1 16 rfl rfl)
theorem dX9_longestTwin_43 : decode cX9_longestTwin 43 = .ok (.aload_n 0, 1) := dk_42 (dk_at dksX9_longestTwin_1 19 rfl rfl)
theorem dX9_longestTwin_44 : decode cX9_longestTwin 44 = .ok (.getfield 9, 3) := dk_180 0 9 (dk_at dksX9_longestTwin_1 20 rfl rfl)
theorem dX9_longestTwin_47 : decode cX9_longestTwin 47 = .ok (.iconst 1, 1) := dk_4 (dk_at dksX9_longestTwin_1 23 rfl rfl)
theorem dX9_longestTwin_48 : decode cX9_longestTwin 48 = .ok (.iaload, 1) := dk_46 (dk_at dksX9_longestTwin_2 0 rfl rfl)
theorem dX9_longestTwin_49 : decode cX9_longestTwin 49 = .ok (.iload_n 3, 1) := dk_29 (dk_at dksX9_longestTwin_2 1 rfl rfl)
theorem dX9_longestTwin_50 : decode cX9_longestTwin 50 = .ok (.isub, 1) := dk_100 (dk_at dksX9_longestTwin_2 2 rfl rfl)
theorem dX9_longestTwin_51 : decode cX9_longestTwin 51 = .ok (.invokevirtual 83, 3) := dk_182 0 83 (dk_at dksX9_longestTwin_2 3 rfl rfl)
theorem dX9_longestTwin_54 : decode cX9_longestTwin 54 = .ok (.invokestatic 409, 3) := dk_184 1 153 (dk_at dksX9_longestTwin_2 6 rfl rfl)
theorem dX9_longestTwin_57 : decode cX9_longestTwin 57 = .ok (.istore_n 1, 1) := dk_60 (dk_at dksX9_longestTwin_2 9 rfl rfl)
theorem dX9_longestTwin_58 : decode cX9_longestTwin 58 = .ok (.iinc 3 1, 3) := dk_132 3 1 (dk_at dksX9_longestTwin_2 10 rfl rfl)
theorem dX9_longestTwin_61 : decode cX9_longestTwin 61 = .ok (.goto (-38), 3) := dk_167 255 218 (dk_at dksX9_longestTwin_2 13 rfl rfl)
theorem dX9_longestTwin_64 : decode cX9_longestTwin 64 = .ok (.iinc 2 1, 3) := dk_132 2 1 (dk_at dksX9_longestTwin_2 16 rfl rfl)
theorem dX9_longestTwin_67 : decode cX9_longestTwin 67 = .ok (.goto (-58), 3) := dk_167 255 198 (dk_at dksX9_longestTwin_2 19 rfl rfl)
theorem dX9_longestTwin_70 : decode cX9_longestTwin 70 = .ok (.iload_n 1, 1) := dk_27 (dk_at dksX9_longestTwin_2 22 rfl rfl)
theorem dX9_longestTwin_71 : decode cX9_longestTwin 71 = .ok (.ireturn, 1) := dk_172 (dk_at dksX9_longestTwin_2 23 rfl rfl)
abbrev cX9_hitsIf : ByteArray := prog_29_method_102_code
def yX9_hitsIf : MethodName := ⟨RX9, "hitsIf", "(III)I"⟩
def dkwX9_hitsIf_1 : List UInt8 := [167, 0, 10, 42, 27, 28, 29, 182, 1, 159, 172]
abbrev dktX9_hitsIf_1 : List UInt8 := dkwX9_hitsIf_1 ++ []
def dkwX9_hitsIf_0 : List UInt8 := [42, 3, 181, 0, 69, 42, 27, 28, 182, 1, 144, 154, 0, 12, 42, 29, 5, 182, 1, 147, 153, 0, 7, 3]
abbrev dktX9_hitsIf_0 : List UInt8 := dkwX9_hitsIf_0 ++ dktX9_hitsIf_1
theorem dksX9_hitsIf_0 : cX9_hitsIf.data.toList.drop 0 = dktX9_hitsIf_0 := by decide +kernel
theorem dksX9_hitsIf_1 : cX9_hitsIf.data.toList.drop 24 = dktX9_hitsIf_1 := dk_seg dksX9_hitsIf_0 24 rfl rfl
theorem dX9_hitsIf_0 : decode cX9_hitsIf 0 = .ok (.aload_n 0, 1) := dk_42 (dk_at dksX9_hitsIf_0 0 rfl rfl)
theorem dX9_hitsIf_1 : decode cX9_hitsIf 1 = .ok (.iconst 0, 1) := dk_3 (dk_at dksX9_hitsIf_0 1 rfl rfl)
theorem dX9_hitsIf_2 : decode cX9_hitsIf 2 = .ok (.putfield 69, 3) := dk_181 0 69 (dk_at dksX9_hitsIf_0 2 rfl rfl)
theorem dX9_hitsIf_5 : decode cX9_hitsIf 5 = .ok (.aload_n 0, 1) := dk_42 (dk_at dksX9_hitsIf_0 5 rfl rfl)
theorem dX9_hitsIf_6 : decode cX9_hitsIf 6 = .ok (.iload_n 1, 1) := dk_27 (dk_at dksX9_hitsIf_0 6 rfl rfl)
theorem dX9_hitsIf_7 : decode cX9_hitsIf 7 = .ok (.iload_n 2, 1) := dk_28 (dk_at dksX9_hitsIf_0 7 rfl rfl)
theorem dX9_hitsIf_8 : decode cX9_hitsIf 8 = .ok (.invokevirtual 400, 3) := dk_182 1 144 (dk_at dksX9_hitsIf_0 8 rfl rfl)
theorem dX9_hitsIf_11 : decode cX9_hitsIf 11 = .ok (.ifCond .ne 12, 3) := dk_154 0 12 (dk_at dksX9_hitsIf_0 11 rfl rfl)
theorem dX9_hitsIf_14 : decode cX9_hitsIf 14 = .ok (.aload_n 0, 1) := dk_42 (dk_at dksX9_hitsIf_0 14 rfl rfl)
theorem dX9_hitsIf_15 : decode cX9_hitsIf 15 = .ok (.iload_n 3, 1) := dk_29 (dk_at dksX9_hitsIf_0 15 rfl rfl)
theorem dX9_hitsIf_16 : decode cX9_hitsIf 16 = .ok (.iconst 2, 1) := dk_5 (dk_at dksX9_hitsIf_0 16 rfl rfl)
theorem dX9_hitsIf_17 : decode cX9_hitsIf 17 = .ok (.invokevirtual 403, 3) := dk_182 1 147 (dk_at dksX9_hitsIf_0 17 rfl rfl)
theorem dX9_hitsIf_20 : decode cX9_hitsIf 20 = .ok (.ifCond .eq 7, 3) := dk_153 0 7 (dk_at dksX9_hitsIf_0 20 rfl rfl)
theorem dX9_hitsIf_23 : decode cX9_hitsIf 23 = .ok (.iconst 0, 1) := dk_3 (dk_at dksX9_hitsIf_0 23 rfl rfl)
theorem dX9_hitsIf_24 : decode cX9_hitsIf 24 = .ok (.goto 10, 3) := dk_167 0 10 (dk_at dksX9_hitsIf_1 0 rfl rfl)
theorem dX9_hitsIf_27 : decode cX9_hitsIf 27 = .ok (.aload_n 0, 1) := dk_42 (dk_at dksX9_hitsIf_1 3 rfl rfl)
theorem dX9_hitsIf_28 : decode cX9_hitsIf 28 = .ok (.iload_n 1, 1) := dk_27 (dk_at dksX9_hitsIf_1 4 rfl rfl)
theorem dX9_hitsIf_29 : decode cX9_hitsIf 29 = .ok (.iload_n 2, 1) := dk_28 (dk_at dksX9_hitsIf_1 5 rfl rfl)
theorem dX9_hitsIf_30 : decode cX9_hitsIf 30 = .ok (.iload_n 3, 1) := dk_29 (dk_at dksX9_hitsIf_1 6 rfl rfl)
theorem dX9_hitsIf_31 : decode cX9_hitsIf 31 = .ok (.invokevirtual 415, 3) := dk_182 1 159 (dk_at dksX9_hitsIf_1 7 rfl rfl)
theorem dX9_hitsIf_34 : decode cX9_hitsIf 34 = .ok (.ireturn, 1) := dk_172 (dk_at dksX9_hitsIf_1 10 rfl rfl)
abbrev cX9_hitsWith : ByteArray := prog_29_method_101_code
def yX9_hitsWith : MethodName := ⟨RX9, "hitsWith", "(III)I"⟩
def dkwX9_hitsWith_1 : List UInt8 := [182, 1, 126, 54, 5, 42, 180, 0, 9, 16, 16, 28, 96, 21, 4, 79, 21, 5, 172]
abbrev dktX9_hitsWith_1 : List UInt8 := dkwX9_hitsWith_1 ++ []
def dkwX9_hitsWith_0 : List UInt8 := [42, 180, 0, 9, 16, 16, 28, 96, 46, 54, 4, 42, 180, 0, 9, 16, 16, 28, 96, 29, 79, 42, 27]
abbrev dktX9_hitsWith_0 : List UInt8 := dkwX9_hitsWith_0 ++ dktX9_hitsWith_1
theorem dksX9_hitsWith_0 : cX9_hitsWith.data.toList.drop 0 = dktX9_hitsWith_0 := by decide +kernel
theorem dksX9_hitsWith_1 : cX9_hitsWith.data.toList.drop 23 = dktX9_hitsWith_1 := dk_seg dksX9_hitsWith_0 23 rfl rfl
theorem dX9_hitsWith_0 : decode cX9_hitsWith 0 = .ok (.aload_n 0, 1) := dk_42 (dk_at dksX9_hitsWith_0 0 rfl rfl)
theorem dX9_hitsWith_1 : decode cX9_hitsWith 1 = .ok (.getfield 9, 3) := dk_180 0 9 (dk_at dksX9_hitsWith_0 1 rfl rfl)
theorem dX9_hitsWith_4 : decode cX9_hitsWith 4 = .ok (.bipush 16, 2) := dk_16 16 (dk_at dksX9_hitsWith_0 4 rfl rfl)
theorem dX9_hitsWith_6 : decode cX9_hitsWith 6 = .ok (.iload_n 2, 1) := dk_28 (dk_at dksX9_hitsWith_0 6 rfl rfl)
theorem dX9_hitsWith_7 : decode cX9_hitsWith 7 = .ok (.iadd, 1) := dk_96 (dk_at dksX9_hitsWith_0 7 rfl rfl)
theorem dX9_hitsWith_8 : decode cX9_hitsWith 8 = .ok (.iaload, 1) := dk_46 (dk_at dksX9_hitsWith_0 8 rfl rfl)
theorem dX9_hitsWith_9 : decode cX9_hitsWith 9 = .ok (.istore 4, 2) := dk_54 4 (dk_at dksX9_hitsWith_0 9 rfl rfl)
theorem dX9_hitsWith_11 : decode cX9_hitsWith 11 = .ok (.aload_n 0, 1) := dk_42 (dk_at dksX9_hitsWith_0 11 rfl rfl)
theorem dX9_hitsWith_12 : decode cX9_hitsWith 12 = .ok (.getfield 9, 3) := dk_180 0 9 (dk_at dksX9_hitsWith_0 12 rfl rfl)
theorem dX9_hitsWith_15 : decode cX9_hitsWith 15 = .ok (.bipush 16, 2) := dk_16 16 (dk_at dksX9_hitsWith_0 15 rfl rfl)
theorem dX9_hitsWith_17 : decode cX9_hitsWith 17 = .ok (.iload_n 2, 1) := dk_28 (dk_at dksX9_hitsWith_0 17 rfl rfl)
theorem dX9_hitsWith_18 : decode cX9_hitsWith 18 = .ok (.iadd, 1) := dk_96 (dk_at dksX9_hitsWith_0 18 rfl rfl)
theorem dX9_hitsWith_19 : decode cX9_hitsWith 19 = .ok (.iload_n 3, 1) := dk_29 (dk_at dksX9_hitsWith_0 19 rfl rfl)
theorem dX9_hitsWith_20 : decode cX9_hitsWith 20 = .ok (.iastore, 1) := dk_79 (dk_at dksX9_hitsWith_0 20 rfl rfl)
theorem dX9_hitsWith_21 : decode cX9_hitsWith 21 = .ok (.aload_n 0, 1) := dk_42 (dk_at dksX9_hitsWith_0 21 rfl rfl)
theorem dX9_hitsWith_22 : decode cX9_hitsWith 22 = .ok (.iload_n 1, 1) := dk_27 (dk_at dksX9_hitsWith_0 22 rfl rfl)
theorem dX9_hitsWith_23 : decode cX9_hitsWith 23 = .ok (.invokevirtual 382, 3) := dk_182 1 126 (dk_at dksX9_hitsWith_1 0 rfl rfl)
theorem dX9_hitsWith_26 : decode cX9_hitsWith 26 = .ok (.istore 5, 2) := dk_54 5 (dk_at dksX9_hitsWith_1 3 rfl rfl)
theorem dX9_hitsWith_28 : decode cX9_hitsWith 28 = .ok (.aload_n 0, 1) := dk_42 (dk_at dksX9_hitsWith_1 5 rfl rfl)
theorem dX9_hitsWith_29 : decode cX9_hitsWith 29 = .ok (.getfield 9, 3) := dk_180 0 9 (dk_at dksX9_hitsWith_1 6 rfl rfl)
theorem dX9_hitsWith_32 : decode cX9_hitsWith 32 = .ok (.bipush 16, 2) := dk_16 16 (dk_at dksX9_hitsWith_1 9 rfl rfl)
theorem dX9_hitsWith_34 : decode cX9_hitsWith 34 = .ok (.iload_n 2, 1) := dk_28 (dk_at dksX9_hitsWith_1 11 rfl rfl)
theorem dX9_hitsWith_35 : decode cX9_hitsWith 35 = .ok (.iadd, 1) := dk_96 (dk_at dksX9_hitsWith_1 12 rfl rfl)
theorem dX9_hitsWith_36 : decode cX9_hitsWith 36 = .ok (.iload 4, 2) := dk_21 4 (dk_at dksX9_hitsWith_1 13 rfl rfl)
theorem dX9_hitsWith_38 : decode cX9_hitsWith 38 = .ok (.iastore, 1) := dk_79 (dk_at dksX9_hitsWith_1 15 rfl rfl)
theorem dX9_hitsWith_39 : decode cX9_hitsWith 39 = .ok (.iload 5, 2) := dk_21 5 (dk_at dksX9_hitsWith_1 16 rfl rfl)
theorem dX9_hitsWith_41 : decode cX9_hitsWith 41 = .ok (.ireturn, 1) := dk_172 (dk_at dksX9_hitsWith_1 18 rfl rfl)
abbrev cX9_bestPut : ByteArray := prog_29_method_103_code
def yX9_bestPut : MethodName := ⟨RX9, "bestPut", "(I)I"⟩
def dkwX9_bestPut_3 : List UInt8 := [167, 255, 207, 28, 172]
abbrev dktX9_bestPut_3 : List UInt8 := dkwX9_bestPut_3 ++ []
def dkwX9_bestPut_2 : List UInt8 := [182, 1, 159, 54, 5, 21, 5, 29, 163, 0, 6, 167, 0, 9, 21, 4, 61, 21, 5, 62, 132, 4, 1]
abbrev dktX9_bestPut_2 : List UInt8 := dkwX9_bestPut_2 ++ dktX9_bestPut_3
def dkwX9_bestPut_1 : List UInt8 := [16, 26, 42, 180, 0, 9, 4, 46, 104, 162, 0, 41, 42, 27, 21, 4, 16, 26, 108, 21, 4, 16, 26, 112]
abbrev dktX9_bestPut_1 : List UInt8 := dkwX9_bestPut_1 ++ dktX9_bestPut_2
def dkwX9_bestPut_0 : List UInt8 := [42, 3, 181, 0, 69, 42, 27, 182, 1, 117, 153, 0, 5, 3, 172, 3, 61, 2, 62, 3, 54, 4, 21, 4]
abbrev dktX9_bestPut_0 : List UInt8 := dkwX9_bestPut_0 ++ dktX9_bestPut_1
theorem dksX9_bestPut_0 : cX9_bestPut.data.toList.drop 0 = dktX9_bestPut_0 := by decide +kernel
theorem dksX9_bestPut_1 : cX9_bestPut.data.toList.drop 24 = dktX9_bestPut_1 := dk_seg dksX9_bestPut_0 24 rfl rfl
theorem dksX9_bestPut_2 : cX9_bestPut.data.toList.drop 48 = dktX9_bestPut_2 := dk_seg dksX9_bestPut_1 24 rfl rfl
theorem dksX9_bestPut_3 : cX9_bestPut.data.toList.drop 71 = dktX9_bestPut_3 := dk_seg dksX9_bestPut_2 23 rfl rfl
theorem dX9_bestPut_0 : decode cX9_bestPut 0 = .ok (.aload_n 0, 1) := dk_42 (dk_at dksX9_bestPut_0 0 rfl rfl)
theorem dX9_bestPut_1 : decode cX9_bestPut 1 = .ok (.iconst 0, 1) := dk_3 (dk_at dksX9_bestPut_0 1 rfl rfl)
theorem dX9_bestPut_2 : decode cX9_bestPut 2 = .ok (.putfield 69, 3) := dk_181 0 69 (dk_at dksX9_bestPut_0 2 rfl rfl)
theorem dX9_bestPut_5 : decode cX9_bestPut 5 = .ok (.aload_n 0, 1) := dk_42 (dk_at dksX9_bestPut_0 5 rfl rfl)
theorem dX9_bestPut_6 : decode cX9_bestPut 6 = .ok (.iload_n 1, 1) := dk_27 (dk_at dksX9_bestPut_0 6 rfl rfl)
theorem dX9_bestPut_7 : decode cX9_bestPut 7 = .ok (.invokevirtual 373, 3) := dk_182 1 117 (dk_at dksX9_bestPut_0 7 rfl rfl)
theorem dX9_bestPut_10 : decode cX9_bestPut 10 = .ok (.ifCond .eq 5, 3) := dk_153 0 5 (dk_at dksX9_bestPut_0 10 rfl rfl)
theorem dX9_bestPut_13 : decode cX9_bestPut 13 = .ok (.iconst 0, 1) := dk_3 (dk_at dksX9_bestPut_0 13 rfl rfl)
theorem dX9_bestPut_14 : decode cX9_bestPut 14 = .ok (.ireturn, 1) := dk_172 (dk_at dksX9_bestPut_0 14 rfl rfl)
theorem dX9_bestPut_15 : decode cX9_bestPut 15 = .ok (.iconst 0, 1) := dk_3 (dk_at dksX9_bestPut_0 15 rfl rfl)
theorem dX9_bestPut_16 : decode cX9_bestPut 16 = .ok (.istore_n 2, 1) := dk_61 (dk_at dksX9_bestPut_0 16 rfl rfl)
theorem dX9_bestPut_17 : decode cX9_bestPut 17 = .ok (.iconst (-1), 1) := dk_2 (dk_at dksX9_bestPut_0 17 rfl rfl)
theorem dX9_bestPut_18 : decode cX9_bestPut 18 = .ok (.istore_n 3, 1) := dk_62 (dk_at dksX9_bestPut_0 18 rfl rfl)
theorem dX9_bestPut_19 : decode cX9_bestPut 19 = .ok (.iconst 0, 1) := dk_3 (dk_at dksX9_bestPut_0 19 rfl rfl)
theorem dX9_bestPut_20 : decode cX9_bestPut 20 = .ok (.istore 4, 2) := dk_54 4 (dk_at dksX9_bestPut_0 20 rfl rfl)
theorem dX9_bestPut_22 : decode cX9_bestPut 22 = .ok (.iload 4, 2) := dk_21 4 (dk_at dksX9_bestPut_0 22 rfl rfl)
theorem dX9_bestPut_24 : decode cX9_bestPut 24 = .ok (.bipush 26, 2) := dk_16 26 (dk_at dksX9_bestPut_1 0 rfl rfl)
theorem dX9_bestPut_26 : decode cX9_bestPut 26 = .ok (.aload_n 0, 1) := dk_42 (dk_at dksX9_bestPut_1 2 rfl rfl)
theorem dX9_bestPut_27 : decode cX9_bestPut 27 = .ok (.getfield 9, 3) := dk_180 0 9 (dk_at dksX9_bestPut_1 3 rfl rfl)
theorem dX9_bestPut_30 : decode cX9_bestPut 30 = .ok (.iconst 1, 1) := dk_4 (dk_at dksX9_bestPut_1 6 rfl rfl)
theorem dX9_bestPut_31 : decode cX9_bestPut 31 = .ok (.iaload, 1) := dk_46 (dk_at dksX9_bestPut_1 7 rfl rfl)
theorem dX9_bestPut_32 : decode cX9_bestPut 32 = .ok (.imul, 1) := dk_104 (dk_at dksX9_bestPut_1 8 rfl rfl)
theorem dX9_bestPut_33 : decode cX9_bestPut 33 = .ok (.if_icmp .ge 41, 3) := dk_162 0 41 (dk_at dksX9_bestPut_1 9 rfl rfl)
theorem dX9_bestPut_36 : decode cX9_bestPut 36 = .ok (.aload_n 0, 1) := dk_42 (dk_at dksX9_bestPut_1 12 rfl rfl)
theorem dX9_bestPut_37 : decode cX9_bestPut 37 = .ok (.iload_n 1, 1) := dk_27 (dk_at dksX9_bestPut_1 13 rfl rfl)
theorem dX9_bestPut_38 : decode cX9_bestPut 38 = .ok (.iload 4, 2) := dk_21 4 (dk_at dksX9_bestPut_1 14 rfl rfl)
theorem dX9_bestPut_40 : decode cX9_bestPut 40 = .ok (.bipush 26, 2) := dk_16 26 (dk_at dksX9_bestPut_1 16 rfl rfl)
theorem dX9_bestPut_42 : decode cX9_bestPut 42 = .ok (.idiv, 1) := dk_108 (dk_at dksX9_bestPut_1 18 rfl rfl)
theorem dX9_bestPut_43 : decode cX9_bestPut 43 = .ok (.iload 4, 2) := dk_21 4 (dk_at dksX9_bestPut_1 19 rfl rfl)
theorem dX9_bestPut_45 : decode cX9_bestPut 45 = .ok (.bipush 26, 2) := dk_16 26 (dk_at dksX9_bestPut_1 21 rfl rfl)
theorem dX9_bestPut_47 : decode cX9_bestPut 47 = .ok (.irem, 1) := dk_112 (dk_at dksX9_bestPut_1 23 rfl rfl)
theorem dX9_bestPut_48 : decode cX9_bestPut 48 = .ok (.invokevirtual 415, 3) := dk_182 1 159 (dk_at dksX9_bestPut_2 0 rfl rfl)
theorem dX9_bestPut_51 : decode cX9_bestPut 51 = .ok (.istore 5, 2) := dk_54 5 (dk_at dksX9_bestPut_2 3 rfl rfl)
theorem dX9_bestPut_53 : decode cX9_bestPut 53 = .ok (.iload 5, 2) := dk_21 5 (dk_at dksX9_bestPut_2 5 rfl rfl)
theorem dX9_bestPut_55 : decode cX9_bestPut 55 = .ok (.iload_n 3, 1) := dk_29 (dk_at dksX9_bestPut_2 7 rfl rfl)
theorem dX9_bestPut_56 : decode cX9_bestPut 56 = .ok (.if_icmp .gt 6, 3) := dk_163 0 6 (dk_at dksX9_bestPut_2 8 rfl rfl)
theorem dX9_bestPut_59 : decode cX9_bestPut 59 = .ok (.goto 9, 3) := dk_167 0 9 (dk_at dksX9_bestPut_2 11 rfl rfl)
theorem dX9_bestPut_62 : decode cX9_bestPut 62 = .ok (.iload 4, 2) := dk_21 4 (dk_at dksX9_bestPut_2 14 rfl rfl)
theorem dX9_bestPut_64 : decode cX9_bestPut 64 = .ok (.istore_n 2, 1) := dk_61 (dk_at dksX9_bestPut_2 16 rfl rfl)
theorem dX9_bestPut_65 : decode cX9_bestPut 65 = .ok (.iload 5, 2) := dk_21 5 (dk_at dksX9_bestPut_2 17 rfl rfl)
theorem dX9_bestPut_67 : decode cX9_bestPut 67 = .ok (.istore_n 3, 1) := dk_62 (dk_at dksX9_bestPut_2 19 rfl rfl)
theorem dX9_bestPut_68 : decode cX9_bestPut 68 = .ok (.iinc 4 1, 3) := dk_132 4 1 (dk_at dksX9_bestPut_2 20 rfl rfl)
theorem dX9_bestPut_71 : decode cX9_bestPut 71 = .ok (.goto (-49), 3) := dk_167 255 207 (dk_at dksX9_bestPut_3 0 rfl rfl)
theorem dX9_bestPut_74 : decode cX9_bestPut 74 = .ok (.iload_n 2, 1) := dk_28 (dk_at dksX9_bestPut_3 3 rfl rfl)
theorem dX9_bestPut_75 : decode cX9_bestPut 75 = .ok (.ireturn, 1) := dk_172 (dk_at dksX9_bestPut_3 4 rfl rfl)
abbrev cX9_bestFirm : ByteArray := prog_29_method_104_code
def yX9_bestFirm : MethodName := ⟨RX9, "bestFirm", "(I)I"⟩
def dkwX9_bestFirm_3 : List UInt8 := [132, 5, 255, 167, 255, 216, 42, 180, 0, 9, 3, 28, 79, 29, 172]
abbrev dktX9_bestFirm_3 : List UInt8 := dkwX9_bestFirm_3 ++ []
def dkwX9_bestFirm_2 : List UInt8 := [182, 1, 126, 54, 6, 21, 6, 21, 4, 163, 0, 6, 167, 0, 10, 21, 5, 62, 21, 6, 54, 4]
abbrev dktX9_bestFirm_2 : List UInt8 := dkwX9_bestFirm_2 ++ dktX9_bestFirm_3
def dkwX9_bestFirm_1 : List UInt8 := [2, 54, 4, 16, 26, 54, 5, 21, 5, 155, 0, 41, 42, 180, 0, 9, 3, 21, 5, 79, 42, 27]
abbrev dktX9_bestFirm_1 : List UInt8 := dkwX9_bestFirm_1 ++ dktX9_bestFirm_2
def dkwX9_bestFirm_0 : List UInt8 := [42, 3, 181, 0, 69, 42, 27, 182, 1, 117, 153, 0, 5, 3, 172, 42, 180, 0, 9, 3, 46, 61, 3, 62]
abbrev dktX9_bestFirm_0 : List UInt8 := dkwX9_bestFirm_0 ++ dktX9_bestFirm_1
theorem dksX9_bestFirm_0 : cX9_bestFirm.data.toList.drop 0 = dktX9_bestFirm_0 := by decide +kernel
theorem dksX9_bestFirm_1 : cX9_bestFirm.data.toList.drop 24 = dktX9_bestFirm_1 := dk_seg dksX9_bestFirm_0 24 rfl rfl
theorem dksX9_bestFirm_2 : cX9_bestFirm.data.toList.drop 46 = dktX9_bestFirm_2 := dk_seg dksX9_bestFirm_1 22 rfl rfl
theorem dksX9_bestFirm_3 : cX9_bestFirm.data.toList.drop 68 = dktX9_bestFirm_3 := dk_seg dksX9_bestFirm_2 22 rfl rfl
theorem dX9_bestFirm_0 : decode cX9_bestFirm 0 = .ok (.aload_n 0, 1) := dk_42 (dk_at dksX9_bestFirm_0 0 rfl rfl)
theorem dX9_bestFirm_1 : decode cX9_bestFirm 1 = .ok (.iconst 0, 1) := dk_3 (dk_at dksX9_bestFirm_0 1 rfl rfl)
theorem dX9_bestFirm_2 : decode cX9_bestFirm 2 = .ok (.putfield 69, 3) := dk_181 0 69 (dk_at dksX9_bestFirm_0 2 rfl rfl)
theorem dX9_bestFirm_5 : decode cX9_bestFirm 5 = .ok (.aload_n 0, 1) := dk_42 (dk_at dksX9_bestFirm_0 5 rfl rfl)
theorem dX9_bestFirm_6 : decode cX9_bestFirm 6 = .ok (.iload_n 1, 1) := dk_27 (dk_at dksX9_bestFirm_0 6 rfl rfl)
theorem dX9_bestFirm_7 : decode cX9_bestFirm 7 = .ok (.invokevirtual 373, 3) := dk_182 1 117 (dk_at dksX9_bestFirm_0 7 rfl rfl)
theorem dX9_bestFirm_10 : decode cX9_bestFirm 10 = .ok (.ifCond .eq 5, 3) := dk_153 0 5 (dk_at dksX9_bestFirm_0 10 rfl rfl)
theorem dX9_bestFirm_13 : decode cX9_bestFirm 13 = .ok (.iconst 0, 1) := dk_3 (dk_at dksX9_bestFirm_0 13 rfl rfl)
theorem dX9_bestFirm_14 : decode cX9_bestFirm 14 = .ok (.ireturn, 1) := dk_172 (dk_at dksX9_bestFirm_0 14 rfl rfl)
theorem dX9_bestFirm_15 : decode cX9_bestFirm 15 = .ok (.aload_n 0, 1) := dk_42 (dk_at dksX9_bestFirm_0 15 rfl rfl)
theorem dX9_bestFirm_16 : decode cX9_bestFirm 16 = .ok (.getfield 9, 3) := dk_180 0 9 (dk_at dksX9_bestFirm_0 16 rfl rfl)
theorem dX9_bestFirm_19 : decode cX9_bestFirm 19 = .ok (.iconst 0, 1) := dk_3 (dk_at dksX9_bestFirm_0 19 rfl rfl)
theorem dX9_bestFirm_20 : decode cX9_bestFirm 20 = .ok (.iaload, 1) := dk_46 (dk_at dksX9_bestFirm_0 20 rfl rfl)
theorem dX9_bestFirm_21 : decode cX9_bestFirm 21 = .ok (.istore_n 2, 1) := dk_61 (dk_at dksX9_bestFirm_0 21 rfl rfl)
theorem dX9_bestFirm_22 : decode cX9_bestFirm 22 = .ok (.iconst 0, 1) := dk_3 (dk_at dksX9_bestFirm_0 22 rfl rfl)
theorem dX9_bestFirm_23 : decode cX9_bestFirm 23 = .ok (.istore_n 3, 1) := dk_62 (dk_at dksX9_bestFirm_0 23 rfl rfl)
theorem dX9_bestFirm_24 : decode cX9_bestFirm 24 = .ok (.iconst (-1), 1) := dk_2 (dk_at dksX9_bestFirm_1 0 rfl rfl)
theorem dX9_bestFirm_25 : decode cX9_bestFirm 25 = .ok (.istore 4, 2) := dk_54 4 (dk_at dksX9_bestFirm_1 1 rfl rfl)
theorem dX9_bestFirm_27 : decode cX9_bestFirm 27 = .ok (.bipush 26, 2) := dk_16 26 (dk_at dksX9_bestFirm_1 3 rfl rfl)
theorem dX9_bestFirm_29 : decode cX9_bestFirm 29 = .ok (.istore 5, 2) := dk_54 5 (dk_at dksX9_bestFirm_1 5 rfl rfl)
theorem dX9_bestFirm_31 : decode cX9_bestFirm 31 = .ok (.iload 5, 2) := dk_21 5 (dk_at dksX9_bestFirm_1 7 rfl rfl)
theorem dX9_bestFirm_33 : decode cX9_bestFirm 33 = .ok (.ifCond .lt 41, 3) := dk_155 0 41 (dk_at dksX9_bestFirm_1 9 rfl rfl)
theorem dX9_bestFirm_36 : decode cX9_bestFirm 36 = .ok (.aload_n 0, 1) := dk_42 (dk_at dksX9_bestFirm_1 12 rfl rfl)
theorem dX9_bestFirm_37 : decode cX9_bestFirm 37 = .ok (.getfield 9, 3) := dk_180 0 9 (dk_at dksX9_bestFirm_1 13 rfl rfl)
theorem dX9_bestFirm_40 : decode cX9_bestFirm 40 = .ok (.iconst 0, 1) := dk_3 (dk_at dksX9_bestFirm_1 16 rfl rfl)
theorem dX9_bestFirm_41 : decode cX9_bestFirm 41 = .ok (.iload 5, 2) := dk_21 5 (dk_at dksX9_bestFirm_1 17 rfl rfl)
theorem dX9_bestFirm_43 : decode cX9_bestFirm 43 = .ok (.iastore, 1) := dk_79 (dk_at dksX9_bestFirm_1 19 rfl rfl)
theorem dX9_bestFirm_44 : decode cX9_bestFirm 44 = .ok (.aload_n 0, 1) := dk_42 (dk_at dksX9_bestFirm_1 20 rfl rfl)
theorem dX9_bestFirm_45 : decode cX9_bestFirm 45 = .ok (.iload_n 1, 1) := dk_27 (dk_at dksX9_bestFirm_1 21 rfl rfl)
theorem dX9_bestFirm_46 : decode cX9_bestFirm 46 = .ok (.invokevirtual 382, 3) := dk_182 1 126 (dk_at dksX9_bestFirm_2 0 rfl rfl)
theorem dX9_bestFirm_49 : decode cX9_bestFirm 49 = .ok (.istore 6, 2) := dk_54 6 (dk_at dksX9_bestFirm_2 3 rfl rfl)
theorem dX9_bestFirm_51 : decode cX9_bestFirm 51 = .ok (.iload 6, 2) := dk_21 6 (dk_at dksX9_bestFirm_2 5 rfl rfl)
theorem dX9_bestFirm_53 : decode cX9_bestFirm 53 = .ok (.iload 4, 2) := dk_21 4 (dk_at dksX9_bestFirm_2 7 rfl rfl)
theorem dX9_bestFirm_55 : decode cX9_bestFirm 55 = .ok (.if_icmp .gt 6, 3) := dk_163 0 6 (dk_at dksX9_bestFirm_2 9 rfl rfl)
theorem dX9_bestFirm_58 : decode cX9_bestFirm 58 = .ok (.goto 10, 3) := dk_167 0 10 (dk_at dksX9_bestFirm_2 12 rfl rfl)
theorem dX9_bestFirm_61 : decode cX9_bestFirm 61 = .ok (.iload 5, 2) := dk_21 5 (dk_at dksX9_bestFirm_2 15 rfl rfl)
theorem dX9_bestFirm_63 : decode cX9_bestFirm 63 = .ok (.istore_n 3, 1) := dk_62 (dk_at dksX9_bestFirm_2 17 rfl rfl)
theorem dX9_bestFirm_64 : decode cX9_bestFirm 64 = .ok (.iload 6, 2) := dk_21 6 (dk_at dksX9_bestFirm_2 18 rfl rfl)
theorem dX9_bestFirm_66 : decode cX9_bestFirm 66 = .ok (.istore 4, 2) := dk_54 4 (dk_at dksX9_bestFirm_2 20 rfl rfl)
theorem dX9_bestFirm_68 : decode cX9_bestFirm 68 = .ok (.iinc 5 (-1), 3) := dk_132 5 255 (dk_at dksX9_bestFirm_3 0 rfl rfl)
theorem dX9_bestFirm_71 : decode cX9_bestFirm 71 = .ok (.goto (-40), 3) := dk_167 255 216 (dk_at dksX9_bestFirm_3 3 rfl rfl)
theorem dX9_bestFirm_74 : decode cX9_bestFirm 74 = .ok (.aload_n 0, 1) := dk_42 (dk_at dksX9_bestFirm_3 6 rfl rfl)
theorem dX9_bestFirm_75 : decode cX9_bestFirm 75 = .ok (.getfield 9, 3) := dk_180 0 9 (dk_at dksX9_bestFirm_3 7 rfl rfl)
theorem dX9_bestFirm_78 : decode cX9_bestFirm 78 = .ok (.iconst 0, 1) := dk_3 (dk_at dksX9_bestFirm_3 10 rfl rfl)
theorem dX9_bestFirm_79 : decode cX9_bestFirm 79 = .ok (.iload_n 2, 1) := dk_28 (dk_at dksX9_bestFirm_3 11 rfl rfl)
theorem dX9_bestFirm_80 : decode cX9_bestFirm 80 = .ok (.iastore, 1) := dk_79 (dk_at dksX9_bestFirm_3 12 rfl rfl)
theorem dX9_bestFirm_81 : decode cX9_bestFirm 81 = .ok (.iload_n 3, 1) := dk_29 (dk_at dksX9_bestFirm_3 13 rfl rfl)
theorem dX9_bestFirm_82 : decode cX9_bestFirm 82 = .ok (.ireturn, 1) := dk_172 (dk_at dksX9_bestFirm_3 14 rfl rfl)
abbrev cX9_lostIf : ByteArray := prog_29_method_105_code
def yX9_lostIf : MethodName := ⟨RX9, "lostIf", "(I)I"⟩
def dkwX9_lostIf_4 : List UInt8 := [167, 255, 212, 42, 180, 0, 9, 3, 28, 79, 29, 172]
abbrev dktX9_lostIf_4 : List UInt8 := dkwX9_lostIf_4 ++ []
def dkwX9_lostIf_3 : List UInt8 := [21, 4, 182, 0, 124, 182, 0, 109, 154, 0, 7, 4, 167, 0, 4, 3, 184, 0, 113, 96, 62, 132, 4, 1]
abbrev dktX9_lostIf_3 : List UInt8 := dkwX9_lostIf_3 ++ dktX9_lostIf_4
def dkwX9_lostIf_2 : List UInt8 := [3, 54, 4, 21, 4, 42, 180, 0, 9, 6, 46, 162, 0, 39, 29, 42, 42, 21, 4, 182, 0, 127, 42]
abbrev dktX9_lostIf_2 : List UInt8 := dkwX9_lostIf_2 ++ dktX9_lostIf_3
def dkwX9_lostIf_1 : List UInt8 := [182, 1, 104, 153, 0, 5, 3, 172, 42, 180, 0, 9, 3, 46, 61, 3, 62, 42, 180, 0, 9, 3, 27, 79]
abbrev dktX9_lostIf_1 : List UInt8 := dkwX9_lostIf_1 ++ dktX9_lostIf_2
def dkwX9_lostIf_0 : List UInt8 := [42, 3, 181, 0, 69, 42, 27, 3, 16, 26, 184, 0, 160, 154, 0, 7, 4, 167, 0, 4, 3, 4]
abbrev dktX9_lostIf_0 : List UInt8 := dkwX9_lostIf_0 ++ dktX9_lostIf_1
theorem dksX9_lostIf_0 : cX9_lostIf.data.toList.drop 0 = dktX9_lostIf_0 := by decide +kernel
theorem dksX9_lostIf_1 : cX9_lostIf.data.toList.drop 22 = dktX9_lostIf_1 := dk_seg dksX9_lostIf_0 22 rfl rfl
theorem dksX9_lostIf_2 : cX9_lostIf.data.toList.drop 46 = dktX9_lostIf_2 := dk_seg dksX9_lostIf_1 24 rfl rfl
theorem dksX9_lostIf_3 : cX9_lostIf.data.toList.drop 69 = dktX9_lostIf_3 := dk_seg dksX9_lostIf_2 23 rfl rfl
theorem dksX9_lostIf_4 : cX9_lostIf.data.toList.drop 93 = dktX9_lostIf_4 := dk_seg dksX9_lostIf_3 24 rfl rfl
theorem dX9_lostIf_0 : decode cX9_lostIf 0 = .ok (.aload_n 0, 1) := dk_42 (dk_at dksX9_lostIf_0 0 rfl rfl)
theorem dX9_lostIf_1 : decode cX9_lostIf 1 = .ok (.iconst 0, 1) := dk_3 (dk_at dksX9_lostIf_0 1 rfl rfl)
theorem dX9_lostIf_2 : decode cX9_lostIf 2 = .ok (.putfield 69, 3) := dk_181 0 69 (dk_at dksX9_lostIf_0 2 rfl rfl)
theorem dX9_lostIf_5 : decode cX9_lostIf 5 = .ok (.aload_n 0, 1) := dk_42 (dk_at dksX9_lostIf_0 5 rfl rfl)
theorem dX9_lostIf_6 : decode cX9_lostIf 6 = .ok (.iload_n 1, 1) := dk_27 (dk_at dksX9_lostIf_0 6 rfl rfl)
theorem dX9_lostIf_7 : decode cX9_lostIf 7 = .ok (.iconst 0, 1) := dk_3 (dk_at dksX9_lostIf_0 7 rfl rfl)
theorem dX9_lostIf_8 : decode cX9_lostIf 8 = .ok (.bipush 26, 2) := dk_16 26 (dk_at dksX9_lostIf_0 8 rfl rfl)
theorem dX9_lostIf_10 : decode cX9_lostIf 10 = .ok (.invokestatic 160, 3) := dk_184 0 160 (dk_at dksX9_lostIf_0 10 rfl rfl)
theorem dX9_lostIf_13 : decode cX9_lostIf 13 = .ok (.ifCond .ne 7, 3) := dk_154 0 7 (dk_at dksX9_lostIf_0 13 rfl rfl)
theorem dX9_lostIf_16 : decode cX9_lostIf 16 = .ok (.iconst 1, 1) := dk_4 (dk_at dksX9_lostIf_0 16 rfl rfl)
theorem dX9_lostIf_17 : decode cX9_lostIf 17 = .ok (.goto 4, 3) := dk_167 0 4 (dk_at dksX9_lostIf_0 17 rfl rfl)
theorem dX9_lostIf_20 : decode cX9_lostIf 20 = .ok (.iconst 0, 1) := dk_3 (dk_at dksX9_lostIf_0 20 rfl rfl)
theorem dX9_lostIf_21 : decode cX9_lostIf 21 = .ok (.iconst 1, 1) := dk_4 (dk_at dksX9_lostIf_0 21 rfl rfl)
theorem dX9_lostIf_22 : decode cX9_lostIf 22 = .ok (.invokevirtual 360, 3) := dk_182 1 104 (dk_at dksX9_lostIf_1 0 rfl rfl)
theorem dX9_lostIf_25 : decode cX9_lostIf 25 = .ok (.ifCond .eq 5, 3) := dk_153 0 5 (dk_at dksX9_lostIf_1 3 rfl rfl)
theorem dX9_lostIf_28 : decode cX9_lostIf 28 = .ok (.iconst 0, 1) := dk_3 (dk_at dksX9_lostIf_1 6 rfl rfl)
theorem dX9_lostIf_29 : decode cX9_lostIf 29 = .ok (.ireturn, 1) := dk_172 (dk_at dksX9_lostIf_1 7 rfl rfl)
theorem dX9_lostIf_30 : decode cX9_lostIf 30 = .ok (.aload_n 0, 1) := dk_42 (dk_at dksX9_lostIf_1 8 rfl rfl)
theorem dX9_lostIf_31 : decode cX9_lostIf 31 = .ok (.getfield 9, 3) := dk_180 0 9 (dk_at dksX9_lostIf_1 9 rfl rfl)
theorem dX9_lostIf_34 : decode cX9_lostIf 34 = .ok (.iconst 0, 1) := dk_3 (dk_at dksX9_lostIf_1 12 rfl rfl)
theorem dX9_lostIf_35 : decode cX9_lostIf 35 = .ok (.iaload, 1) := dk_46 (dk_at dksX9_lostIf_1 13 rfl rfl)
theorem dX9_lostIf_36 : decode cX9_lostIf 36 = .ok (.istore_n 2, 1) := dk_61 (dk_at dksX9_lostIf_1 14 rfl rfl)
theorem dX9_lostIf_37 : decode cX9_lostIf 37 = .ok (.iconst 0, 1) := dk_3 (dk_at dksX9_lostIf_1 15 rfl rfl)
theorem dX9_lostIf_38 : decode cX9_lostIf 38 = .ok (.istore_n 3, 1) := dk_62 (dk_at dksX9_lostIf_1 16 rfl rfl)
theorem dX9_lostIf_39 : decode cX9_lostIf 39 = .ok (.aload_n 0, 1) := dk_42 (dk_at dksX9_lostIf_1 17 rfl rfl)
theorem dX9_lostIf_40 : decode cX9_lostIf 40 = .ok (.getfield 9, 3) := dk_180 0 9 (dk_at dksX9_lostIf_1 18 rfl rfl)
theorem dX9_lostIf_43 : decode cX9_lostIf 43 = .ok (.iconst 0, 1) := dk_3 (dk_at dksX9_lostIf_1 21 rfl rfl)
theorem dX9_lostIf_44 : decode cX9_lostIf 44 = .ok (.iload_n 1, 1) := dk_27 (dk_at dksX9_lostIf_1 22 rfl rfl)
theorem dX9_lostIf_45 : decode cX9_lostIf 45 = .ok (.iastore, 1) := dk_79 (dk_at dksX9_lostIf_1 23 rfl rfl)
theorem dX9_lostIf_46 : decode cX9_lostIf 46 = .ok (.iconst 0, 1) := dk_3 (dk_at dksX9_lostIf_2 0 rfl rfl)
theorem dX9_lostIf_47 : decode cX9_lostIf 47 = .ok (.istore 4, 2) := dk_54 4 (dk_at dksX9_lostIf_2 1 rfl rfl)
theorem dX9_lostIf_49 : decode cX9_lostIf 49 = .ok (.iload 4, 2) := dk_21 4 (dk_at dksX9_lostIf_2 3 rfl rfl)
theorem dX9_lostIf_51 : decode cX9_lostIf 51 = .ok (.aload_n 0, 1) := dk_42 (dk_at dksX9_lostIf_2 5 rfl rfl)
theorem dX9_lostIf_52 : decode cX9_lostIf 52 = .ok (.getfield 9, 3) := dk_180 0 9 (dk_at dksX9_lostIf_2 6 rfl rfl)
theorem dX9_lostIf_55 : decode cX9_lostIf 55 = .ok (.iconst 3, 1) := dk_6 (dk_at dksX9_lostIf_2 9 rfl rfl)
theorem dX9_lostIf_56 : decode cX9_lostIf 56 = .ok (.iaload, 1) := dk_46 (dk_at dksX9_lostIf_2 10 rfl rfl)
theorem dX9_lostIf_57 : decode cX9_lostIf 57 = .ok (.if_icmp .ge 39, 3) := dk_162 0 39 (dk_at dksX9_lostIf_2 11 rfl rfl)
theorem dX9_lostIf_60 : decode cX9_lostIf 60 = .ok (.iload_n 3, 1) := dk_29 (dk_at dksX9_lostIf_2 14 rfl rfl)
theorem dX9_lostIf_61 : decode cX9_lostIf 61 = .ok (.aload_n 0, 1) := dk_42 (dk_at dksX9_lostIf_2 15 rfl rfl)
theorem dX9_lostIf_62 : decode cX9_lostIf 62 = .ok (.aload_n 0, 1) := dk_42 (dk_at dksX9_lostIf_2 16 rfl rfl)
theorem dX9_lostIf_63 : decode cX9_lostIf 63 = .ok (.iload 4, 2) := dk_21 4 (dk_at dksX9_lostIf_2 17 rfl rfl)
theorem dX9_lostIf_65 : decode cX9_lostIf 65 = .ok (.invokevirtual 127, 3) := dk_182 0 127 (dk_at dksX9_lostIf_2 19 rfl rfl)
theorem dX9_lostIf_68 : decode cX9_lostIf 68 = .ok (.aload_n 0, 1) := dk_42 (dk_at dksX9_lostIf_2 22 rfl rfl)
theorem dX9_lostIf_69 : decode cX9_lostIf 69 = .ok (.iload 4, 2) := dk_21 4 (dk_at dksX9_lostIf_3 0 rfl rfl)
theorem dX9_lostIf_71 : decode cX9_lostIf 71 = .ok (.invokevirtual 124, 3) := dk_182 0 124 (dk_at dksX9_lostIf_3 2 rfl rfl)
theorem dX9_lostIf_74 : decode cX9_lostIf 74 = .ok (.invokevirtual 109, 3) := dk_182 0 109 (dk_at dksX9_lostIf_3 5 rfl rfl)
theorem dX9_lostIf_77 : decode cX9_lostIf 77 = .ok (.ifCond .ne 7, 3) := dk_154 0 7 (dk_at dksX9_lostIf_3 8 rfl rfl)
theorem dX9_lostIf_80 : decode cX9_lostIf 80 = .ok (.iconst 1, 1) := dk_4 (dk_at dksX9_lostIf_3 11 rfl rfl)
theorem dX9_lostIf_81 : decode cX9_lostIf 81 = .ok (.goto 4, 3) := dk_167 0 4 (dk_at dksX9_lostIf_3 12 rfl rfl)
theorem dX9_lostIf_84 : decode cX9_lostIf 84 = .ok (.iconst 0, 1) := dk_3 (dk_at dksX9_lostIf_3 15 rfl rfl)
theorem dX9_lostIf_85 : decode cX9_lostIf 85 = .ok (.invokestatic 113, 3) := dk_184 0 113 (dk_at dksX9_lostIf_3 16 rfl rfl)
theorem dX9_lostIf_88 : decode cX9_lostIf 88 = .ok (.iadd, 1) := dk_96 (dk_at dksX9_lostIf_3 19 rfl rfl)
theorem dX9_lostIf_89 : decode cX9_lostIf 89 = .ok (.istore_n 3, 1) := dk_62 (dk_at dksX9_lostIf_3 20 rfl rfl)
theorem dX9_lostIf_90 : decode cX9_lostIf 90 = .ok (.iinc 4 1, 3) := dk_132 4 1 (dk_at dksX9_lostIf_3 21 rfl rfl)
theorem dX9_lostIf_93 : decode cX9_lostIf 93 = .ok (.goto (-44), 3) := dk_167 255 212 (dk_at dksX9_lostIf_4 0 rfl rfl)
theorem dX9_lostIf_96 : decode cX9_lostIf 96 = .ok (.aload_n 0, 1) := dk_42 (dk_at dksX9_lostIf_4 3 rfl rfl)
theorem dX9_lostIf_97 : decode cX9_lostIf 97 = .ok (.getfield 9, 3) := dk_180 0 9 (dk_at dksX9_lostIf_4 4 rfl rfl)
theorem dX9_lostIf_100 : decode cX9_lostIf 100 = .ok (.iconst 0, 1) := dk_3 (dk_at dksX9_lostIf_4 7 rfl rfl)
theorem dX9_lostIf_101 : decode cX9_lostIf 101 = .ok (.iload_n 2, 1) := dk_28 (dk_at dksX9_lostIf_4 8 rfl rfl)
theorem dX9_lostIf_102 : decode cX9_lostIf 102 = .ok (.iastore, 1) := dk_79 (dk_at dksX9_lostIf_4 9 rfl rfl)
theorem dX9_lostIf_103 : decode cX9_lostIf 103 = .ok (.iload_n 3, 1) := dk_29 (dk_at dksX9_lostIf_4 10 rfl rfl)
theorem dX9_lostIf_104 : decode cX9_lostIf 104 = .ok (.ireturn, 1) := dk_172 (dk_at dksX9_lostIf_4 11 rfl rfl)
abbrev cX9_put : ByteArray := prog_29_method_118_code
def yX9_put : MethodName := ⟨RX9, "put", "(II)I"⟩
def dkwX9_put_1 : List UInt8 := [172, 42, 182, 1, 171, 42, 42, 27, 28, 182, 1, 66, 182, 1, 174, 172]
abbrev dktX9_put_1 : List UInt8 := dkwX9_put_1 ++ []
def dkwX9_put_0 : List UInt8 := [42, 3, 181, 0, 69, 42, 27, 4, 182, 1, 168, 154, 0, 12, 42, 28, 4, 182, 1, 147, 153, 0, 5, 3]
abbrev dktX9_put_0 : List UInt8 := dkwX9_put_0 ++ dktX9_put_1
theorem dksX9_put_0 : cX9_put.data.toList.drop 0 = dktX9_put_0 := by decide +kernel
theorem dksX9_put_1 : cX9_put.data.toList.drop 24 = dktX9_put_1 := dk_seg dksX9_put_0 24 rfl rfl
theorem dX9_put_0 : decode cX9_put 0 = .ok (.aload_n 0, 1) := dk_42 (dk_at dksX9_put_0 0 rfl rfl)
theorem dX9_put_1 : decode cX9_put 1 = .ok (.iconst 0, 1) := dk_3 (dk_at dksX9_put_0 1 rfl rfl)
theorem dX9_put_2 : decode cX9_put 2 = .ok (.putfield 69, 3) := dk_181 0 69 (dk_at dksX9_put_0 2 rfl rfl)
theorem dX9_put_5 : decode cX9_put 5 = .ok (.aload_n 0, 1) := dk_42 (dk_at dksX9_put_0 5 rfl rfl)
theorem dX9_put_6 : decode cX9_put 6 = .ok (.iload_n 1, 1) := dk_27 (dk_at dksX9_put_0 6 rfl rfl)
theorem dX9_put_7 : decode cX9_put 7 = .ok (.iconst 1, 1) := dk_4 (dk_at dksX9_put_0 7 rfl rfl)
theorem dX9_put_8 : decode cX9_put 8 = .ok (.invokevirtual 424, 3) := dk_182 1 168 (dk_at dksX9_put_0 8 rfl rfl)
theorem dX9_put_11 : decode cX9_put 11 = .ok (.ifCond .ne 12, 3) := dk_154 0 12 (dk_at dksX9_put_0 11 rfl rfl)
theorem dX9_put_14 : decode cX9_put 14 = .ok (.aload_n 0, 1) := dk_42 (dk_at dksX9_put_0 14 rfl rfl)
theorem dX9_put_15 : decode cX9_put 15 = .ok (.iload_n 2, 1) := dk_28 (dk_at dksX9_put_0 15 rfl rfl)
theorem dX9_put_16 : decode cX9_put 16 = .ok (.iconst 1, 1) := dk_4 (dk_at dksX9_put_0 16 rfl rfl)
theorem dX9_put_17 : decode cX9_put 17 = .ok (.invokevirtual 403, 3) := dk_182 1 147 (dk_at dksX9_put_0 17 rfl rfl)
theorem dX9_put_20 : decode cX9_put 20 = .ok (.ifCond .eq 5, 3) := dk_153 0 5 (dk_at dksX9_put_0 20 rfl rfl)
theorem dX9_put_23 : decode cX9_put 23 = .ok (.iconst 0, 1) := dk_3 (dk_at dksX9_put_0 23 rfl rfl)
theorem dX9_put_24 : decode cX9_put 24 = .ok (.ireturn, 1) := dk_172 (dk_at dksX9_put_1 0 rfl rfl)
theorem dX9_put_25 : decode cX9_put 25 = .ok (.aload_n 0, 1) := dk_42 (dk_at dksX9_put_1 1 rfl rfl)
theorem dX9_put_26 : decode cX9_put 26 = .ok (.invokevirtual 427, 3) := dk_182 1 171 (dk_at dksX9_put_1 2 rfl rfl)
theorem dX9_put_29 : decode cX9_put 29 = .ok (.aload_n 0, 1) := dk_42 (dk_at dksX9_put_1 5 rfl rfl)
theorem dX9_put_30 : decode cX9_put 30 = .ok (.aload_n 0, 1) := dk_42 (dk_at dksX9_put_1 6 rfl rfl)
theorem dX9_put_31 : decode cX9_put 31 = .ok (.iload_n 1, 1) := dk_27 (dk_at dksX9_put_1 7 rfl rfl)
theorem dX9_put_32 : decode cX9_put 32 = .ok (.iload_n 2, 1) := dk_28 (dk_at dksX9_put_1 8 rfl rfl)
theorem dX9_put_33 : decode cX9_put 33 = .ok (.invokevirtual 322, 3) := dk_182 1 66 (dk_at dksX9_put_1 9 rfl rfl)
theorem dX9_put_36 : decode cX9_put 36 = .ok (.invokevirtual 430, 3) := dk_182 1 174 (dk_at dksX9_put_1 12 rfl rfl)
theorem dX9_put_39 : decode cX9_put 39 = .ok (.ireturn, 1) := dk_172 (dk_at dksX9_put_1 15 rfl rfl)
abbrev cX9_noOne : ByteArray := prog_29_method_117_code
def yX9_noOne : MethodName := ⟨RX9, "noOne", "(II)Z"⟩
def dkwX9_noOne_0 : List UInt8 := [42, 27, 3, 17, 0, 200, 184, 0, 160, 154, 0, 7, 4, 167, 0, 4, 3, 28, 182, 1, 104, 172]
abbrev dktX9_noOne_0 : List UInt8 := dkwX9_noOne_0 ++ []
theorem dksX9_noOne_0 : cX9_noOne.data.toList.drop 0 = dktX9_noOne_0 := by decide +kernel
theorem dX9_noOne_0 : decode cX9_noOne 0 = .ok (.aload_n 0, 1) := dk_42 (dk_at dksX9_noOne_0 0 rfl rfl)
theorem dX9_noOne_1 : decode cX9_noOne 1 = .ok (.iload_n 1, 1) := dk_27 (dk_at dksX9_noOne_0 1 rfl rfl)
theorem dX9_noOne_2 : decode cX9_noOne 2 = .ok (.iconst 0, 1) := dk_3 (dk_at dksX9_noOne_0 2 rfl rfl)
theorem dX9_noOne_3 : decode cX9_noOne 3 = .ok (.sipush 200, 3) := dk_17 0 200 (dk_at dksX9_noOne_0 3 rfl rfl)
theorem dX9_noOne_6 : decode cX9_noOne 6 = .ok (.invokestatic 160, 3) := dk_184 0 160 (dk_at dksX9_noOne_0 6 rfl rfl)
theorem dX9_noOne_9 : decode cX9_noOne 9 = .ok (.ifCond .ne 7, 3) := dk_154 0 7 (dk_at dksX9_noOne_0 9 rfl rfl)
theorem dX9_noOne_12 : decode cX9_noOne 12 = .ok (.iconst 1, 1) := dk_4 (dk_at dksX9_noOne_0 12 rfl rfl)
theorem dX9_noOne_13 : decode cX9_noOne 13 = .ok (.goto 4, 3) := dk_167 0 4 (dk_at dksX9_noOne_0 13 rfl rfl)
theorem dX9_noOne_16 : decode cX9_noOne 16 = .ok (.iconst 0, 1) := dk_3 (dk_at dksX9_noOne_0 16 rfl rfl)
theorem dX9_noOne_17 : decode cX9_noOne 17 = .ok (.iload_n 2, 1) := dk_28 (dk_at dksX9_noOne_0 17 rfl rfl)
theorem dX9_noOne_18 : decode cX9_noOne 18 = .ok (.invokevirtual 360, 3) := dk_182 1 104 (dk_at dksX9_noOne_0 18 rfl rfl)
theorem dX9_noOne_21 : decode cX9_noOne 21 = .ok (.ireturn, 1) := dk_172 (dk_at dksX9_noOne_0 21 rfl rfl)
abbrev cX9_holds : ByteArray := prog_29_method_115_code
def yX9_holds : MethodName := ⟨RX9, "holds", "()V"⟩
def dkwX9_holds_0 : List UInt8 := [42, 180, 0, 9, 3, 42, 180, 0, 16, 3, 184, 0, 144, 177]
abbrev dktX9_holds_0 : List UInt8 := dkwX9_holds_0 ++ []
theorem dksX9_holds_0 : cX9_holds.data.toList.drop 0 = dktX9_holds_0 := by decide +kernel
theorem dX9_holds_0 : decode cX9_holds 0 = .ok (.aload_n 0, 1) := dk_42 (dk_at dksX9_holds_0 0 rfl rfl)
theorem dX9_holds_1 : decode cX9_holds 1 = .ok (.getfield 9, 3) := dk_180 0 9 (dk_at dksX9_holds_0 1 rfl rfl)
theorem dX9_holds_4 : decode cX9_holds 4 = .ok (.iconst 0, 1) := dk_3 (dk_at dksX9_holds_0 4 rfl rfl)
theorem dX9_holds_5 : decode cX9_holds 5 = .ok (.aload_n 0, 1) := dk_42 (dk_at dksX9_holds_0 5 rfl rfl)
theorem dX9_holds_6 : decode cX9_holds 6 = .ok (.getfield 16, 3) := dk_180 0 16 (dk_at dksX9_holds_0 6 rfl rfl)
theorem dX9_holds_9 : decode cX9_holds 9 = .ok (.iconst 0, 1) := dk_3 (dk_at dksX9_holds_0 9 rfl rfl)
theorem dX9_holds_10 : decode cX9_holds 10 = .ok (.invokestatic 144, 3) := dk_184 0 144 (dk_at dksX9_holds_0 10 rfl rfl)
theorem dX9_holds_13 : decode cX9_holds 13 = .ok (.return_, 1) := dk_177 (dk_at dksX9_holds_0 13 rfl rfl)
abbrev cX9_recorded : ByteArray := prog_29_method_116_code
def yX9_recorded : MethodName := ⟨RX9, "recorded", "(I)I"⟩
def dkwX9_recorded_0 : List UInt8 := [27, 155, 0, 11, 42, 42, 180, 0, 16, 182, 1, 97, 27, 172]
abbrev dktX9_recorded_0 : List UInt8 := dkwX9_recorded_0 ++ []
theorem dksX9_recorded_0 : cX9_recorded.data.toList.drop 0 = dktX9_recorded_0 := by decide +kernel
theorem dX9_recorded_0 : decode cX9_recorded 0 = .ok (.iload_n 1, 1) := dk_27 (dk_at dksX9_recorded_0 0 rfl rfl)
theorem dX9_recorded_1 : decode cX9_recorded 1 = .ok (.ifCond .lt 11, 3) := dk_155 0 11 (dk_at dksX9_recorded_0 1 rfl rfl)
theorem dX9_recorded_4 : decode cX9_recorded 4 = .ok (.aload_n 0, 1) := dk_42 (dk_at dksX9_recorded_0 4 rfl rfl)
theorem dX9_recorded_5 : decode cX9_recorded 5 = .ok (.aload_n 0, 1) := dk_42 (dk_at dksX9_recorded_0 5 rfl rfl)
theorem dX9_recorded_6 : decode cX9_recorded 6 = .ok (.getfield 16, 3) := dk_180 0 16 (dk_at dksX9_recorded_0 6 rfl rfl)
theorem dX9_recorded_9 : decode cX9_recorded 9 = .ok (.invokevirtual 353, 3) := dk_182 1 97 (dk_at dksX9_recorded_0 9 rfl rfl)
theorem dX9_recorded_12 : decode cX9_recorded 12 = .ok (.iload_n 1, 1) := dk_27 (dk_at dksX9_recorded_0 12 rfl rfl)
theorem dX9_recorded_13 : decode cX9_recorded 13 = .ok (.ireturn, 1) := dk_172 (dk_at dksX9_recorded_0 13 rfl rfl)
abbrev cX9_insert : ByteArray := prog_29_method_119_code
def yX9_insert : MethodName := ⟨RX9, "insert", "(II)I"⟩
def dkwX9_insert_1 : List UInt8 := [172, 42, 182, 1, 171, 42, 42, 27, 28, 182, 1, 69, 182, 1, 174, 172]
abbrev dktX9_insert_1 : List UInt8 := dkwX9_insert_1 ++ []
def dkwX9_insert_0 : List UInt8 := [42, 3, 181, 0, 69, 42, 27, 4, 182, 1, 168, 154, 0, 12, 42, 28, 4, 182, 1, 147, 153, 0, 5, 3]
abbrev dktX9_insert_0 : List UInt8 := dkwX9_insert_0 ++ dktX9_insert_1
theorem dksX9_insert_0 : cX9_insert.data.toList.drop 0 = dktX9_insert_0 := by decide +kernel
theorem dksX9_insert_1 : cX9_insert.data.toList.drop 24 = dktX9_insert_1 := dk_seg dksX9_insert_0 24 rfl rfl
theorem dX9_insert_0 : decode cX9_insert 0 = .ok (.aload_n 0, 1) := dk_42 (dk_at dksX9_insert_0 0 rfl rfl)
theorem dX9_insert_1 : decode cX9_insert 1 = .ok (.iconst 0, 1) := dk_3 (dk_at dksX9_insert_0 1 rfl rfl)
theorem dX9_insert_2 : decode cX9_insert 2 = .ok (.putfield 69, 3) := dk_181 0 69 (dk_at dksX9_insert_0 2 rfl rfl)
theorem dX9_insert_5 : decode cX9_insert 5 = .ok (.aload_n 0, 1) := dk_42 (dk_at dksX9_insert_0 5 rfl rfl)
theorem dX9_insert_6 : decode cX9_insert 6 = .ok (.iload_n 1, 1) := dk_27 (dk_at dksX9_insert_0 6 rfl rfl)
theorem dX9_insert_7 : decode cX9_insert 7 = .ok (.iconst 1, 1) := dk_4 (dk_at dksX9_insert_0 7 rfl rfl)
theorem dX9_insert_8 : decode cX9_insert 8 = .ok (.invokevirtual 424, 3) := dk_182 1 168 (dk_at dksX9_insert_0 8 rfl rfl)
theorem dX9_insert_11 : decode cX9_insert 11 = .ok (.ifCond .ne 12, 3) := dk_154 0 12 (dk_at dksX9_insert_0 11 rfl rfl)
theorem dX9_insert_14 : decode cX9_insert 14 = .ok (.aload_n 0, 1) := dk_42 (dk_at dksX9_insert_0 14 rfl rfl)
theorem dX9_insert_15 : decode cX9_insert 15 = .ok (.iload_n 2, 1) := dk_28 (dk_at dksX9_insert_0 15 rfl rfl)
theorem dX9_insert_16 : decode cX9_insert 16 = .ok (.iconst 1, 1) := dk_4 (dk_at dksX9_insert_0 16 rfl rfl)
theorem dX9_insert_17 : decode cX9_insert 17 = .ok (.invokevirtual 403, 3) := dk_182 1 147 (dk_at dksX9_insert_0 17 rfl rfl)
theorem dX9_insert_20 : decode cX9_insert 20 = .ok (.ifCond .eq 5, 3) := dk_153 0 5 (dk_at dksX9_insert_0 20 rfl rfl)
theorem dX9_insert_23 : decode cX9_insert 23 = .ok (.iconst 0, 1) := dk_3 (dk_at dksX9_insert_0 23 rfl rfl)
theorem dX9_insert_24 : decode cX9_insert 24 = .ok (.ireturn, 1) := dk_172 (dk_at dksX9_insert_1 0 rfl rfl)
theorem dX9_insert_25 : decode cX9_insert 25 = .ok (.aload_n 0, 1) := dk_42 (dk_at dksX9_insert_1 1 rfl rfl)
theorem dX9_insert_26 : decode cX9_insert 26 = .ok (.invokevirtual 427, 3) := dk_182 1 171 (dk_at dksX9_insert_1 2 rfl rfl)
theorem dX9_insert_29 : decode cX9_insert 29 = .ok (.aload_n 0, 1) := dk_42 (dk_at dksX9_insert_1 5 rfl rfl)
theorem dX9_insert_30 : decode cX9_insert 30 = .ok (.aload_n 0, 1) := dk_42 (dk_at dksX9_insert_1 6 rfl rfl)
theorem dX9_insert_31 : decode cX9_insert 31 = .ok (.iload_n 1, 1) := dk_27 (dk_at dksX9_insert_1 7 rfl rfl)
theorem dX9_insert_32 : decode cX9_insert 32 = .ok (.iload_n 2, 1) := dk_28 (dk_at dksX9_insert_1 8 rfl rfl)
theorem dX9_insert_33 : decode cX9_insert 33 = .ok (.invokevirtual 325, 3) := dk_182 1 69 (dk_at dksX9_insert_1 9 rfl rfl)
theorem dX9_insert_36 : decode cX9_insert 36 = .ok (.invokevirtual 430, 3) := dk_182 1 174 (dk_at dksX9_insert_1 12 rfl rfl)
theorem dX9_insert_39 : decode cX9_insert 39 = .ok (.ireturn, 1) := dk_172 (dk_at dksX9_insert_1 15 rfl rfl)
abbrev cX9_erase : ByteArray := prog_29_method_120_code
def yX9_erase : MethodName := ⟨RX9, "erase", "(I)I"⟩
def dkwX9_erase_1 : List UInt8 := [182, 1, 63, 182, 1, 174, 172]
abbrev dktX9_erase_1 : List UInt8 := dkwX9_erase_1 ++ []
def dkwX9_erase_0 : List UInt8 := [42, 3, 181, 0, 69, 42, 27, 4, 182, 1, 168, 153, 0, 5, 3, 172, 42, 182, 1, 171, 42, 42, 27]
abbrev dktX9_erase_0 : List UInt8 := dkwX9_erase_0 ++ dktX9_erase_1
theorem dksX9_erase_0 : cX9_erase.data.toList.drop 0 = dktX9_erase_0 := by decide +kernel
theorem dksX9_erase_1 : cX9_erase.data.toList.drop 23 = dktX9_erase_1 := dk_seg dksX9_erase_0 23 rfl rfl
theorem dX9_erase_0 : decode cX9_erase 0 = .ok (.aload_n 0, 1) := dk_42 (dk_at dksX9_erase_0 0 rfl rfl)
theorem dX9_erase_1 : decode cX9_erase 1 = .ok (.iconst 0, 1) := dk_3 (dk_at dksX9_erase_0 1 rfl rfl)
theorem dX9_erase_2 : decode cX9_erase 2 = .ok (.putfield 69, 3) := dk_181 0 69 (dk_at dksX9_erase_0 2 rfl rfl)
theorem dX9_erase_5 : decode cX9_erase 5 = .ok (.aload_n 0, 1) := dk_42 (dk_at dksX9_erase_0 5 rfl rfl)
theorem dX9_erase_6 : decode cX9_erase 6 = .ok (.iload_n 1, 1) := dk_27 (dk_at dksX9_erase_0 6 rfl rfl)
theorem dX9_erase_7 : decode cX9_erase 7 = .ok (.iconst 1, 1) := dk_4 (dk_at dksX9_erase_0 7 rfl rfl)
theorem dX9_erase_8 : decode cX9_erase 8 = .ok (.invokevirtual 424, 3) := dk_182 1 168 (dk_at dksX9_erase_0 8 rfl rfl)
theorem dX9_erase_11 : decode cX9_erase 11 = .ok (.ifCond .eq 5, 3) := dk_153 0 5 (dk_at dksX9_erase_0 11 rfl rfl)
theorem dX9_erase_14 : decode cX9_erase 14 = .ok (.iconst 0, 1) := dk_3 (dk_at dksX9_erase_0 14 rfl rfl)
theorem dX9_erase_15 : decode cX9_erase 15 = .ok (.ireturn, 1) := dk_172 (dk_at dksX9_erase_0 15 rfl rfl)
theorem dX9_erase_16 : decode cX9_erase 16 = .ok (.aload_n 0, 1) := dk_42 (dk_at dksX9_erase_0 16 rfl rfl)
theorem dX9_erase_17 : decode cX9_erase 17 = .ok (.invokevirtual 427, 3) := dk_182 1 171 (dk_at dksX9_erase_0 17 rfl rfl)
theorem dX9_erase_20 : decode cX9_erase 20 = .ok (.aload_n 0, 1) := dk_42 (dk_at dksX9_erase_0 20 rfl rfl)
theorem dX9_erase_21 : decode cX9_erase 21 = .ok (.aload_n 0, 1) := dk_42 (dk_at dksX9_erase_0 21 rfl rfl)
theorem dX9_erase_22 : decode cX9_erase 22 = .ok (.iload_n 1, 1) := dk_27 (dk_at dksX9_erase_0 22 rfl rfl)
theorem dX9_erase_23 : decode cX9_erase 23 = .ok (.invokevirtual 319, 3) := dk_182 1 63 (dk_at dksX9_erase_1 0 rfl rfl)
theorem dX9_erase_26 : decode cX9_erase 26 = .ok (.invokevirtual 430, 3) := dk_182 1 174 (dk_at dksX9_erase_1 3 rfl rfl)
theorem dX9_erase_29 : decode cX9_erase 29 = .ok (.ireturn, 1) := dk_172 (dk_at dksX9_erase_1 6 rfl rfl)
abbrev cX9_mark : ByteArray := prog_29_method_121_code
def yX9_mark : MethodName := ⟨RX9, "mark", "(I)I"⟩
def dkwX9_mark_1 : List UInt8 := [182, 1, 76, 182, 1, 174, 172]
abbrev dktX9_mark_1 : List UInt8 := dkwX9_mark_1 ++ []
def dkwX9_mark_0 : List UInt8 := [42, 3, 181, 0, 69, 42, 27, 182, 1, 117, 153, 0, 5, 3, 172, 42, 182, 1, 171, 42, 42, 27]
abbrev dktX9_mark_0 : List UInt8 := dkwX9_mark_0 ++ dktX9_mark_1
theorem dksX9_mark_0 : cX9_mark.data.toList.drop 0 = dktX9_mark_0 := by decide +kernel
theorem dksX9_mark_1 : cX9_mark.data.toList.drop 22 = dktX9_mark_1 := dk_seg dksX9_mark_0 22 rfl rfl
theorem dX9_mark_0 : decode cX9_mark 0 = .ok (.aload_n 0, 1) := dk_42 (dk_at dksX9_mark_0 0 rfl rfl)
theorem dX9_mark_1 : decode cX9_mark 1 = .ok (.iconst 0, 1) := dk_3 (dk_at dksX9_mark_0 1 rfl rfl)
theorem dX9_mark_2 : decode cX9_mark 2 = .ok (.putfield 69, 3) := dk_181 0 69 (dk_at dksX9_mark_0 2 rfl rfl)
theorem dX9_mark_5 : decode cX9_mark 5 = .ok (.aload_n 0, 1) := dk_42 (dk_at dksX9_mark_0 5 rfl rfl)
theorem dX9_mark_6 : decode cX9_mark 6 = .ok (.iload_n 1, 1) := dk_27 (dk_at dksX9_mark_0 6 rfl rfl)
theorem dX9_mark_7 : decode cX9_mark 7 = .ok (.invokevirtual 373, 3) := dk_182 1 117 (dk_at dksX9_mark_0 7 rfl rfl)
theorem dX9_mark_10 : decode cX9_mark 10 = .ok (.ifCond .eq 5, 3) := dk_153 0 5 (dk_at dksX9_mark_0 10 rfl rfl)
theorem dX9_mark_13 : decode cX9_mark 13 = .ok (.iconst 0, 1) := dk_3 (dk_at dksX9_mark_0 13 rfl rfl)
theorem dX9_mark_14 : decode cX9_mark 14 = .ok (.ireturn, 1) := dk_172 (dk_at dksX9_mark_0 14 rfl rfl)
theorem dX9_mark_15 : decode cX9_mark 15 = .ok (.aload_n 0, 1) := dk_42 (dk_at dksX9_mark_0 15 rfl rfl)
theorem dX9_mark_16 : decode cX9_mark 16 = .ok (.invokevirtual 427, 3) := dk_182 1 171 (dk_at dksX9_mark_0 16 rfl rfl)
theorem dX9_mark_19 : decode cX9_mark 19 = .ok (.aload_n 0, 1) := dk_42 (dk_at dksX9_mark_0 19 rfl rfl)
theorem dX9_mark_20 : decode cX9_mark 20 = .ok (.aload_n 0, 1) := dk_42 (dk_at dksX9_mark_0 20 rfl rfl)
theorem dX9_mark_21 : decode cX9_mark 21 = .ok (.iload_n 1, 1) := dk_27 (dk_at dksX9_mark_0 21 rfl rfl)
theorem dX9_mark_22 : decode cX9_mark 22 = .ok (.invokevirtual 332, 3) := dk_182 1 76 (dk_at dksX9_mark_1 0 rfl rfl)
theorem dX9_mark_25 : decode cX9_mark 25 = .ok (.invokevirtual 430, 3) := dk_182 1 174 (dk_at dksX9_mark_1 3 rfl rfl)
theorem dX9_mark_28 : decode cX9_mark 28 = .ok (.ireturn, 1) := dk_172 (dk_at dksX9_mark_1 6 rfl rfl)
abbrev cX9_unmark : ByteArray := prog_29_method_122_code
def yX9_unmark : MethodName := ⟨RX9, "unmark", "(I)I"⟩
def dkwX9_unmark_1 : List UInt8 := [182, 1, 104, 153, 0, 5, 3, 172, 42, 182, 1, 171, 42, 42, 27, 182, 1, 79, 182, 1, 174, 172]
abbrev dktX9_unmark_1 : List UInt8 := dkwX9_unmark_1 ++ []
def dkwX9_unmark_0 : List UInt8 := [42, 3, 181, 0, 69, 42, 27, 3, 16, 59, 184, 0, 160, 154, 0, 7, 4, 167, 0, 4, 3, 4]
abbrev dktX9_unmark_0 : List UInt8 := dkwX9_unmark_0 ++ dktX9_unmark_1
theorem dksX9_unmark_0 : cX9_unmark.data.toList.drop 0 = dktX9_unmark_0 := by decide +kernel
theorem dksX9_unmark_1 : cX9_unmark.data.toList.drop 22 = dktX9_unmark_1 := dk_seg dksX9_unmark_0 22 rfl rfl
theorem dX9_unmark_0 : decode cX9_unmark 0 = .ok (.aload_n 0, 1) := dk_42 (dk_at dksX9_unmark_0 0 rfl rfl)
theorem dX9_unmark_1 : decode cX9_unmark 1 = .ok (.iconst 0, 1) := dk_3 (dk_at dksX9_unmark_0 1 rfl rfl)
theorem dX9_unmark_2 : decode cX9_unmark 2 = .ok (.putfield 69, 3) := dk_181 0 69 (dk_at dksX9_unmark_0 2 rfl rfl)
theorem dX9_unmark_5 : decode cX9_unmark 5 = .ok (.aload_n 0, 1) := dk_42 (dk_at dksX9_unmark_0 5 rfl rfl)
theorem dX9_unmark_6 : decode cX9_unmark 6 = .ok (.iload_n 1, 1) := dk_27 (dk_at dksX9_unmark_0 6 rfl rfl)
theorem dX9_unmark_7 : decode cX9_unmark 7 = .ok (.iconst 0, 1) := dk_3 (dk_at dksX9_unmark_0 7 rfl rfl)
theorem dX9_unmark_8 : decode cX9_unmark 8 = .ok (.bipush 59, 2) := dk_16 59 (dk_at dksX9_unmark_0 8 rfl rfl)
theorem dX9_unmark_10 : decode cX9_unmark 10 = .ok (.invokestatic 160, 3) := dk_184 0 160 (dk_at dksX9_unmark_0 10 rfl rfl)
theorem dX9_unmark_13 : decode cX9_unmark 13 = .ok (.ifCond .ne 7, 3) := dk_154 0 7 (dk_at dksX9_unmark_0 13 rfl rfl)
theorem dX9_unmark_16 : decode cX9_unmark 16 = .ok (.iconst 1, 1) := dk_4 (dk_at dksX9_unmark_0 16 rfl rfl)
theorem dX9_unmark_17 : decode cX9_unmark 17 = .ok (.goto 4, 3) := dk_167 0 4 (dk_at dksX9_unmark_0 17 rfl rfl)
theorem dX9_unmark_20 : decode cX9_unmark 20 = .ok (.iconst 0, 1) := dk_3 (dk_at dksX9_unmark_0 20 rfl rfl)
theorem dX9_unmark_21 : decode cX9_unmark 21 = .ok (.iconst 1, 1) := dk_4 (dk_at dksX9_unmark_0 21 rfl rfl)
theorem dX9_unmark_22 : decode cX9_unmark 22 = .ok (.invokevirtual 360, 3) := dk_182 1 104 (dk_at dksX9_unmark_1 0 rfl rfl)
theorem dX9_unmark_25 : decode cX9_unmark 25 = .ok (.ifCond .eq 5, 3) := dk_153 0 5 (dk_at dksX9_unmark_1 3 rfl rfl)
theorem dX9_unmark_28 : decode cX9_unmark 28 = .ok (.iconst 0, 1) := dk_3 (dk_at dksX9_unmark_1 6 rfl rfl)
theorem dX9_unmark_29 : decode cX9_unmark 29 = .ok (.ireturn, 1) := dk_172 (dk_at dksX9_unmark_1 7 rfl rfl)
theorem dX9_unmark_30 : decode cX9_unmark 30 = .ok (.aload_n 0, 1) := dk_42 (dk_at dksX9_unmark_1 8 rfl rfl)
theorem dX9_unmark_31 : decode cX9_unmark 31 = .ok (.invokevirtual 427, 3) := dk_182 1 171 (dk_at dksX9_unmark_1 9 rfl rfl)
theorem dX9_unmark_34 : decode cX9_unmark 34 = .ok (.aload_n 0, 1) := dk_42 (dk_at dksX9_unmark_1 12 rfl rfl)
theorem dX9_unmark_35 : decode cX9_unmark 35 = .ok (.aload_n 0, 1) := dk_42 (dk_at dksX9_unmark_1 13 rfl rfl)
theorem dX9_unmark_36 : decode cX9_unmark 36 = .ok (.iload_n 1, 1) := dk_27 (dk_at dksX9_unmark_1 14 rfl rfl)
theorem dX9_unmark_37 : decode cX9_unmark 37 = .ok (.invokevirtual 335, 3) := dk_182 1 79 (dk_at dksX9_unmark_1 15 rfl rfl)
theorem dX9_unmark_40 : decode cX9_unmark 40 = .ok (.invokevirtual 430, 3) := dk_182 1 174 (dk_at dksX9_unmark_1 18 rfl rfl)
theorem dX9_unmark_43 : decode cX9_unmark 43 = .ok (.ireturn, 1) := dk_172 (dk_at dksX9_unmark_1 21 rfl rfl)
abbrev cX9_swap : ByteArray := prog_29_method_123_code
def yX9_swap : MethodName := ⟨RX9, "swap", "(IIII)I"⟩
def dkwX9_swap_4 : List UInt8 := [182, 1, 174, 172]
abbrev dktX9_swap_4 : List UInt8 := dkwX9_swap_4 ++ []
def dkwX9_swap_3 : List UInt8 := [182, 1, 104, 153, 0, 5, 3, 172, 42, 182, 1, 171, 42, 42, 27, 28, 29, 21, 4, 182, 1, 82]
abbrev dktX9_swap_3 : List UInt8 := dkwX9_swap_3 ++ dktX9_swap_4
def dkwX9_swap_2 : List UInt8 := [42, 21, 4, 4, 182, 1, 147, 154, 0, 22, 42, 29, 21, 4, 160, 0, 7, 4, 167, 0, 4, 3, 4]
abbrev dktX9_swap_2 : List UInt8 := dkwX9_swap_2 ++ dktX9_swap_3
def dkwX9_swap_1 : List UInt8 := [154, 0, 7, 4, 167, 0, 4, 3, 4, 182, 1, 104, 154, 0, 41, 42, 29, 4, 182, 1, 147, 154, 0, 32]
abbrev dktX9_swap_1 : List UInt8 := dkwX9_swap_1 ++ dktX9_swap_2
def dkwX9_swap_0 : List UInt8 := [42, 3, 181, 0, 69, 42, 27, 4, 182, 1, 168, 154, 0, 65, 42, 28, 4, 17, 0, 200, 184, 0, 160]
abbrev dktX9_swap_0 : List UInt8 := dkwX9_swap_0 ++ dktX9_swap_1
theorem dksX9_swap_0 : cX9_swap.data.toList.drop 0 = dktX9_swap_0 := by decide +kernel
theorem dksX9_swap_1 : cX9_swap.data.toList.drop 23 = dktX9_swap_1 := dk_seg dksX9_swap_0 23 rfl rfl
theorem dksX9_swap_2 : cX9_swap.data.toList.drop 47 = dktX9_swap_2 := dk_seg dksX9_swap_1 24 rfl rfl
theorem dksX9_swap_3 : cX9_swap.data.toList.drop 70 = dktX9_swap_3 := dk_seg dksX9_swap_2 23 rfl rfl
theorem dksX9_swap_4 : cX9_swap.data.toList.drop 92 = dktX9_swap_4 := dk_seg dksX9_swap_3 22 rfl rfl
theorem dX9_swap_0 : decode cX9_swap 0 = .ok (.aload_n 0, 1) := dk_42 (dk_at dksX9_swap_0 0 rfl rfl)
theorem dX9_swap_1 : decode cX9_swap 1 = .ok (.iconst 0, 1) := dk_3 (dk_at dksX9_swap_0 1 rfl rfl)
theorem dX9_swap_2 : decode cX9_swap 2 = .ok (.putfield 69, 3) := dk_181 0 69 (dk_at dksX9_swap_0 2 rfl rfl)
theorem dX9_swap_5 : decode cX9_swap 5 = .ok (.aload_n 0, 1) := dk_42 (dk_at dksX9_swap_0 5 rfl rfl)
theorem dX9_swap_6 : decode cX9_swap 6 = .ok (.iload_n 1, 1) := dk_27 (dk_at dksX9_swap_0 6 rfl rfl)
theorem dX9_swap_7 : decode cX9_swap 7 = .ok (.iconst 1, 1) := dk_4 (dk_at dksX9_swap_0 7 rfl rfl)
theorem dX9_swap_8 : decode cX9_swap 8 = .ok (.invokevirtual 424, 3) := dk_182 1 168 (dk_at dksX9_swap_0 8 rfl rfl)
theorem dX9_swap_11 : decode cX9_swap 11 = .ok (.ifCond .ne 65, 3) := dk_154 0 65 (dk_at dksX9_swap_0 11 rfl rfl)
theorem dX9_swap_14 : decode cX9_swap 14 = .ok (.aload_n 0, 1) := dk_42 (dk_at dksX9_swap_0 14 rfl rfl)
theorem dX9_swap_15 : decode cX9_swap 15 = .ok (.iload_n 2, 1) := dk_28 (dk_at dksX9_swap_0 15 rfl rfl)
theorem dX9_swap_16 : decode cX9_swap 16 = .ok (.iconst 1, 1) := dk_4 (dk_at dksX9_swap_0 16 rfl rfl)
theorem dX9_swap_17 : decode cX9_swap 17 = .ok (.sipush 200, 3) := dk_17 0 200 (dk_at dksX9_swap_0 17 rfl rfl)
theorem dX9_swap_20 : decode cX9_swap 20 = .ok (.invokestatic 160, 3) := dk_184 0 160 (dk_at dksX9_swap_0 20 rfl rfl)
theorem dX9_swap_23 : decode cX9_swap 23 = .ok (.ifCond .ne 7, 3) := dk_154 0 7 (dk_at dksX9_swap_1 0 rfl rfl)
theorem dX9_swap_26 : decode cX9_swap 26 = .ok (.iconst 1, 1) := dk_4 (dk_at dksX9_swap_1 3 rfl rfl)
theorem dX9_swap_27 : decode cX9_swap 27 = .ok (.goto 4, 3) := dk_167 0 4 (dk_at dksX9_swap_1 4 rfl rfl)
theorem dX9_swap_30 : decode cX9_swap 30 = .ok (.iconst 0, 1) := dk_3 (dk_at dksX9_swap_1 7 rfl rfl)
theorem dX9_swap_31 : decode cX9_swap 31 = .ok (.iconst 1, 1) := dk_4 (dk_at dksX9_swap_1 8 rfl rfl)
theorem dX9_swap_32 : decode cX9_swap 32 = .ok (.invokevirtual 360, 3) := dk_182 1 104 (dk_at dksX9_swap_1 9 rfl rfl)
theorem dX9_swap_35 : decode cX9_swap 35 = .ok (.ifCond .ne 41, 3) := dk_154 0 41 (dk_at dksX9_swap_1 12 rfl rfl)
theorem dX9_swap_38 : decode cX9_swap 38 = .ok (.aload_n 0, 1) := dk_42 (dk_at dksX9_swap_1 15 rfl rfl)
theorem dX9_swap_39 : decode cX9_swap 39 = .ok (.iload_n 3, 1) := dk_29 (dk_at dksX9_swap_1 16 rfl rfl)
theorem dX9_swap_40 : decode cX9_swap 40 = .ok (.iconst 1, 1) := dk_4 (dk_at dksX9_swap_1 17 rfl rfl)
theorem dX9_swap_41 : decode cX9_swap 41 = .ok (.invokevirtual 403, 3) := dk_182 1 147 (dk_at dksX9_swap_1 18 rfl rfl)
theorem dX9_swap_44 : decode cX9_swap 44 = .ok (.ifCond .ne 32, 3) := dk_154 0 32 (dk_at dksX9_swap_1 21 rfl rfl)
theorem dX9_swap_47 : decode cX9_swap 47 = .ok (.aload_n 0, 1) := dk_42 (dk_at dksX9_swap_2 0 rfl rfl)
theorem dX9_swap_48 : decode cX9_swap 48 = .ok (.iload 4, 2) := dk_21 4 (dk_at dksX9_swap_2 1 rfl rfl)
theorem dX9_swap_50 : decode cX9_swap 50 = .ok (.iconst 1, 1) := dk_4 (dk_at dksX9_swap_2 3 rfl rfl)
theorem dX9_swap_51 : decode cX9_swap 51 = .ok (.invokevirtual 403, 3) := dk_182 1 147 (dk_at dksX9_swap_2 4 rfl rfl)
theorem dX9_swap_54 : decode cX9_swap 54 = .ok (.ifCond .ne 22, 3) := dk_154 0 22 (dk_at dksX9_swap_2 7 rfl rfl)
theorem dX9_swap_57 : decode cX9_swap 57 = .ok (.aload_n 0, 1) := dk_42 (dk_at dksX9_swap_2 10 rfl rfl)
theorem dX9_swap_58 : decode cX9_swap 58 = .ok (.iload_n 3, 1) := dk_29 (dk_at dksX9_swap_2 11 rfl rfl)
theorem dX9_swap_59 : decode cX9_swap 59 = .ok (.iload 4, 2) := dk_21 4 (dk_at dksX9_swap_2 12 rfl rfl)
theorem dX9_swap_61 : decode cX9_swap 61 = .ok (.if_icmp .ne 7, 3) := dk_160 0 7 (dk_at dksX9_swap_2 14 rfl rfl)
theorem dX9_swap_64 : decode cX9_swap 64 = .ok (.iconst 1, 1) := dk_4 (dk_at dksX9_swap_2 17 rfl rfl)
theorem dX9_swap_65 : decode cX9_swap 65 = .ok (.goto 4, 3) := dk_167 0 4 (dk_at dksX9_swap_2 18 rfl rfl)
theorem dX9_swap_68 : decode cX9_swap 68 = .ok (.iconst 0, 1) := dk_3 (dk_at dksX9_swap_2 21 rfl rfl)
theorem dX9_swap_69 : decode cX9_swap 69 = .ok (.iconst 1, 1) := dk_4 (dk_at dksX9_swap_2 22 rfl rfl)
theorem dX9_swap_70 : decode cX9_swap 70 = .ok (.invokevirtual 360, 3) := dk_182 1 104 (dk_at dksX9_swap_3 0 rfl rfl)
theorem dX9_swap_73 : decode cX9_swap 73 = .ok (.ifCond .eq 5, 3) := dk_153 0 5 (dk_at dksX9_swap_3 3 rfl rfl)
theorem dX9_swap_76 : decode cX9_swap 76 = .ok (.iconst 0, 1) := dk_3 (dk_at dksX9_swap_3 6 rfl rfl)
theorem dX9_swap_77 : decode cX9_swap 77 = .ok (.ireturn, 1) := dk_172 (dk_at dksX9_swap_3 7 rfl rfl)
theorem dX9_swap_78 : decode cX9_swap 78 = .ok (.aload_n 0, 1) := dk_42 (dk_at dksX9_swap_3 8 rfl rfl)
theorem dX9_swap_79 : decode cX9_swap 79 = .ok (.invokevirtual 427, 3) := dk_182 1 171 (dk_at dksX9_swap_3 9 rfl rfl)
theorem dX9_swap_82 : decode cX9_swap 82 = .ok (.aload_n 0, 1) := dk_42 (dk_at dksX9_swap_3 12 rfl rfl)
theorem dX9_swap_83 : decode cX9_swap 83 = .ok (.aload_n 0, 1) := dk_42 (dk_at dksX9_swap_3 13 rfl rfl)
theorem dX9_swap_84 : decode cX9_swap 84 = .ok (.iload_n 1, 1) := dk_27 (dk_at dksX9_swap_3 14 rfl rfl)
theorem dX9_swap_85 : decode cX9_swap 85 = .ok (.iload_n 2, 1) := dk_28 (dk_at dksX9_swap_3 15 rfl rfl)
theorem dX9_swap_86 : decode cX9_swap 86 = .ok (.iload_n 3, 1) := dk_29 (dk_at dksX9_swap_3 16 rfl rfl)
theorem dX9_swap_87 : decode cX9_swap 87 = .ok (.iload 4, 2) := dk_21 4 (dk_at dksX9_swap_3 17 rfl rfl)
theorem dX9_swap_89 : decode cX9_swap 89 = .ok (.invokevirtual 338, 3) := dk_182 1 82 (dk_at dksX9_swap_3 19 rfl rfl)
theorem dX9_swap_92 : decode cX9_swap 92 = .ok (.invokevirtual 430, 3) := dk_182 1 174 (dk_at dksX9_swap_4 0 rfl rfl)
theorem dX9_swap_95 : decode cX9_swap 95 = .ok (.ireturn, 1) := dk_172 (dk_at dksX9_swap_4 3 rfl rfl)
abbrev cX9_take : ByteArray := prog_29_method_124_code
def yX9_take : MethodName := ⟨RX9, "take", "(III)I"⟩
def dkwX9_take_2 : List UInt8 := [182, 1, 171, 42, 42, 27, 28, 29, 182, 1, 85, 182, 1, 174, 172]
abbrev dktX9_take_2 : List UInt8 := dkwX9_take_2 ++ []
def dkwX9_take_1 : List UInt8 := [4, 16, 20, 184, 0, 160, 154, 0, 7, 4, 167, 0, 4, 3, 5, 182, 1, 104, 153, 0, 5, 3, 172, 42]
abbrev dktX9_take_1 : List UInt8 := dkwX9_take_1 ++ dktX9_take_2
def dkwX9_take_0 : List UInt8 := [42, 3, 181, 0, 69, 42, 27, 182, 1, 117, 154, 0, 35, 42, 28, 5, 182, 1, 168, 154, 0, 26, 42, 29]
abbrev dktX9_take_0 : List UInt8 := dkwX9_take_0 ++ dktX9_take_1
theorem dksX9_take_0 : cX9_take.data.toList.drop 0 = dktX9_take_0 := by decide +kernel
theorem dksX9_take_1 : cX9_take.data.toList.drop 24 = dktX9_take_1 := dk_seg dksX9_take_0 24 rfl rfl
theorem dksX9_take_2 : cX9_take.data.toList.drop 48 = dktX9_take_2 := dk_seg dksX9_take_1 24 rfl rfl
theorem dX9_take_0 : decode cX9_take 0 = .ok (.aload_n 0, 1) := dk_42 (dk_at dksX9_take_0 0 rfl rfl)
theorem dX9_take_1 : decode cX9_take 1 = .ok (.iconst 0, 1) := dk_3 (dk_at dksX9_take_0 1 rfl rfl)
theorem dX9_take_2 : decode cX9_take 2 = .ok (.putfield 69, 3) := dk_181 0 69 (dk_at dksX9_take_0 2 rfl rfl)
theorem dX9_take_5 : decode cX9_take 5 = .ok (.aload_n 0, 1) := dk_42 (dk_at dksX9_take_0 5 rfl rfl)
theorem dX9_take_6 : decode cX9_take 6 = .ok (.iload_n 1, 1) := dk_27 (dk_at dksX9_take_0 6 rfl rfl)
theorem dX9_take_7 : decode cX9_take 7 = .ok (.invokevirtual 373, 3) := dk_182 1 117 (dk_at dksX9_take_0 7 rfl rfl)
theorem dX9_take_10 : decode cX9_take 10 = .ok (.ifCond .ne 35, 3) := dk_154 0 35 (dk_at dksX9_take_0 10 rfl rfl)
theorem dX9_take_13 : decode cX9_take 13 = .ok (.aload_n 0, 1) := dk_42 (dk_at dksX9_take_0 13 rfl rfl)
theorem dX9_take_14 : decode cX9_take 14 = .ok (.iload_n 2, 1) := dk_28 (dk_at dksX9_take_0 14 rfl rfl)
theorem dX9_take_15 : decode cX9_take 15 = .ok (.iconst 2, 1) := dk_5 (dk_at dksX9_take_0 15 rfl rfl)
theorem dX9_take_16 : decode cX9_take 16 = .ok (.invokevirtual 424, 3) := dk_182 1 168 (dk_at dksX9_take_0 16 rfl rfl)
theorem dX9_take_19 : decode cX9_take 19 = .ok (.ifCond .ne 26, 3) := dk_154 0 26 (dk_at dksX9_take_0 19 rfl rfl)
theorem dX9_take_22 : decode cX9_take 22 = .ok (.aload_n 0, 1) := dk_42 (dk_at dksX9_take_0 22 rfl rfl)
theorem dX9_take_23 : decode cX9_take 23 = .ok (.iload_n 3, 1) := dk_29 (dk_at dksX9_take_0 23 rfl rfl)
theorem dX9_take_24 : decode cX9_take 24 = .ok (.iconst 1, 1) := dk_4 (dk_at dksX9_take_1 0 rfl rfl)
theorem dX9_take_25 : decode cX9_take 25 = .ok (.bipush 20, 2) := dk_16 20 (dk_at dksX9_take_1 1 rfl rfl)
theorem dX9_take_27 : decode cX9_take 27 = .ok (.invokestatic 160, 3) := dk_184 0 160 (dk_at dksX9_take_1 3 rfl rfl)
theorem dX9_take_30 : decode cX9_take 30 = .ok (.ifCond .ne 7, 3) := dk_154 0 7 (dk_at dksX9_take_1 6 rfl rfl)
theorem dX9_take_33 : decode cX9_take 33 = .ok (.iconst 1, 1) := dk_4 (dk_at dksX9_take_1 9 rfl rfl)
theorem dX9_take_34 : decode cX9_take 34 = .ok (.goto 4, 3) := dk_167 0 4 (dk_at dksX9_take_1 10 rfl rfl)
theorem dX9_take_37 : decode cX9_take 37 = .ok (.iconst 0, 1) := dk_3 (dk_at dksX9_take_1 13 rfl rfl)
theorem dX9_take_38 : decode cX9_take 38 = .ok (.iconst 2, 1) := dk_5 (dk_at dksX9_take_1 14 rfl rfl)
theorem dX9_take_39 : decode cX9_take 39 = .ok (.invokevirtual 360, 3) := dk_182 1 104 (dk_at dksX9_take_1 15 rfl rfl)
theorem dX9_take_42 : decode cX9_take 42 = .ok (.ifCond .eq 5, 3) := dk_153 0 5 (dk_at dksX9_take_1 18 rfl rfl)
theorem dX9_take_45 : decode cX9_take 45 = .ok (.iconst 0, 1) := dk_3 (dk_at dksX9_take_1 21 rfl rfl)
theorem dX9_take_46 : decode cX9_take 46 = .ok (.ireturn, 1) := dk_172 (dk_at dksX9_take_1 22 rfl rfl)
theorem dX9_take_47 : decode cX9_take 47 = .ok (.aload_n 0, 1) := dk_42 (dk_at dksX9_take_1 23 rfl rfl)
theorem dX9_take_48 : decode cX9_take 48 = .ok (.invokevirtual 427, 3) := dk_182 1 171 (dk_at dksX9_take_2 0 rfl rfl)
theorem dX9_take_51 : decode cX9_take 51 = .ok (.aload_n 0, 1) := dk_42 (dk_at dksX9_take_2 3 rfl rfl)
theorem dX9_take_52 : decode cX9_take 52 = .ok (.aload_n 0, 1) := dk_42 (dk_at dksX9_take_2 4 rfl rfl)
theorem dX9_take_53 : decode cX9_take 53 = .ok (.iload_n 1, 1) := dk_27 (dk_at dksX9_take_2 5 rfl rfl)
theorem dX9_take_54 : decode cX9_take 54 = .ok (.iload_n 2, 1) := dk_28 (dk_at dksX9_take_2 6 rfl rfl)
theorem dX9_take_55 : decode cX9_take 55 = .ok (.iload_n 3, 1) := dk_29 (dk_at dksX9_take_2 7 rfl rfl)
theorem dX9_take_56 : decode cX9_take 56 = .ok (.invokevirtual 341, 3) := dk_182 1 85 (dk_at dksX9_take_2 8 rfl rfl)
theorem dX9_take_59 : decode cX9_take 59 = .ok (.invokevirtual 430, 3) := dk_182 1 174 (dk_at dksX9_take_2 11 rfl rfl)
theorem dX9_take_62 : decode cX9_take 62 = .ok (.ireturn, 1) := dk_172 (dk_at dksX9_take_2 14 rfl rfl)
abbrev cX9_setFirm : ByteArray := prog_29_method_125_code
def yX9_setFirm : MethodName := ⟨RX9, "setFirm", "(I)I"⟩
def dkwX9_setFirm_1 : List UInt8 := [182, 1, 104, 153, 0, 5, 3, 172, 42, 182, 1, 171, 42, 42, 27, 182, 1, 88, 182, 1, 174, 172]
abbrev dktX9_setFirm_1 : List UInt8 := dkwX9_setFirm_1 ++ []
def dkwX9_setFirm_0 : List UInt8 := [42, 3, 181, 0, 69, 42, 27, 3, 16, 26, 184, 0, 160, 154, 0, 7, 4, 167, 0, 4, 3, 4]
abbrev dktX9_setFirm_0 : List UInt8 := dkwX9_setFirm_0 ++ dktX9_setFirm_1
theorem dksX9_setFirm_0 : cX9_setFirm.data.toList.drop 0 = dktX9_setFirm_0 := by decide +kernel
theorem dksX9_setFirm_1 : cX9_setFirm.data.toList.drop 22 = dktX9_setFirm_1 := dk_seg dksX9_setFirm_0 22 rfl rfl
theorem dX9_setFirm_0 : decode cX9_setFirm 0 = .ok (.aload_n 0, 1) := dk_42 (dk_at dksX9_setFirm_0 0 rfl rfl)
theorem dX9_setFirm_1 : decode cX9_setFirm 1 = .ok (.iconst 0, 1) := dk_3 (dk_at dksX9_setFirm_0 1 rfl rfl)
theorem dX9_setFirm_2 : decode cX9_setFirm 2 = .ok (.putfield 69, 3) := dk_181 0 69 (dk_at dksX9_setFirm_0 2 rfl rfl)
theorem dX9_setFirm_5 : decode cX9_setFirm 5 = .ok (.aload_n 0, 1) := dk_42 (dk_at dksX9_setFirm_0 5 rfl rfl)
theorem dX9_setFirm_6 : decode cX9_setFirm 6 = .ok (.iload_n 1, 1) := dk_27 (dk_at dksX9_setFirm_0 6 rfl rfl)
theorem dX9_setFirm_7 : decode cX9_setFirm 7 = .ok (.iconst 0, 1) := dk_3 (dk_at dksX9_setFirm_0 7 rfl rfl)
theorem dX9_setFirm_8 : decode cX9_setFirm 8 = .ok (.bipush 26, 2) := dk_16 26 (dk_at dksX9_setFirm_0 8 rfl rfl)
theorem dX9_setFirm_10 : decode cX9_setFirm 10 = .ok (.invokestatic 160, 3) := dk_184 0 160 (dk_at dksX9_setFirm_0 10 rfl rfl)
theorem dX9_setFirm_13 : decode cX9_setFirm 13 = .ok (.ifCond .ne 7, 3) := dk_154 0 7 (dk_at dksX9_setFirm_0 13 rfl rfl)
theorem dX9_setFirm_16 : decode cX9_setFirm 16 = .ok (.iconst 1, 1) := dk_4 (dk_at dksX9_setFirm_0 16 rfl rfl)
theorem dX9_setFirm_17 : decode cX9_setFirm 17 = .ok (.goto 4, 3) := dk_167 0 4 (dk_at dksX9_setFirm_0 17 rfl rfl)
theorem dX9_setFirm_20 : decode cX9_setFirm 20 = .ok (.iconst 0, 1) := dk_3 (dk_at dksX9_setFirm_0 20 rfl rfl)
theorem dX9_setFirm_21 : decode cX9_setFirm 21 = .ok (.iconst 1, 1) := dk_4 (dk_at dksX9_setFirm_0 21 rfl rfl)
theorem dX9_setFirm_22 : decode cX9_setFirm 22 = .ok (.invokevirtual 360, 3) := dk_182 1 104 (dk_at dksX9_setFirm_1 0 rfl rfl)
theorem dX9_setFirm_25 : decode cX9_setFirm 25 = .ok (.ifCond .eq 5, 3) := dk_153 0 5 (dk_at dksX9_setFirm_1 3 rfl rfl)
theorem dX9_setFirm_28 : decode cX9_setFirm 28 = .ok (.iconst 0, 1) := dk_3 (dk_at dksX9_setFirm_1 6 rfl rfl)
theorem dX9_setFirm_29 : decode cX9_setFirm 29 = .ok (.ireturn, 1) := dk_172 (dk_at dksX9_setFirm_1 7 rfl rfl)
theorem dX9_setFirm_30 : decode cX9_setFirm 30 = .ok (.aload_n 0, 1) := dk_42 (dk_at dksX9_setFirm_1 8 rfl rfl)
theorem dX9_setFirm_31 : decode cX9_setFirm 31 = .ok (.invokevirtual 427, 3) := dk_182 1 171 (dk_at dksX9_setFirm_1 9 rfl rfl)
theorem dX9_setFirm_34 : decode cX9_setFirm 34 = .ok (.aload_n 0, 1) := dk_42 (dk_at dksX9_setFirm_1 12 rfl rfl)
theorem dX9_setFirm_35 : decode cX9_setFirm 35 = .ok (.aload_n 0, 1) := dk_42 (dk_at dksX9_setFirm_1 13 rfl rfl)
theorem dX9_setFirm_36 : decode cX9_setFirm 36 = .ok (.iload_n 1, 1) := dk_27 (dk_at dksX9_setFirm_1 14 rfl rfl)
theorem dX9_setFirm_37 : decode cX9_setFirm 37 = .ok (.invokevirtual 344, 3) := dk_182 1 88 (dk_at dksX9_setFirm_1 15 rfl rfl)
theorem dX9_setFirm_40 : decode cX9_setFirm 40 = .ok (.invokevirtual 430, 3) := dk_182 1 174 (dk_at dksX9_setFirm_1 18 rfl rfl)
theorem dX9_setFirm_43 : decode cX9_setFirm 43 = .ok (.ireturn, 1) := dk_172 (dk_at dksX9_setFirm_1 21 rfl rfl)
abbrev cX9_report : ByteArray := prog_29_method_128_code
def yX9_report : MethodName := ⟨RX9, "report", "()I"⟩
def dkwX9_report_6 : List UInt8 := [42, 180, 1, 177, 172]
abbrev dktX9_report_6 : List UInt8 := dkwX9_report_6 ++ []
def dkwX9_report_5 : List UInt8 := [182, 0, 127, 5, 28, 96, 182, 0, 98, 182, 1, 180, 132, 2, 1, 167, 255, 223, 132, 1, 1, 167, 255, 184]
abbrev dktX9_report_5 : List UInt8 := dkwX9_report_5 ++ dktX9_report_6
def dkwX9_report_4 : List UInt8 := [182, 1, 180, 3, 61, 28, 42, 42, 27, 182, 0, 127, 4, 182, 0, 98, 162, 0, 25, 42, 42, 42, 27]
abbrev dktX9_report_4 : List UInt8 := dkwX9_report_4 ++ dktX9_report_5
def dkwX9_report_3 : List UInt8 := [6, 46, 162, 0, 68, 42, 16, 32, 182, 1, 180, 42, 42, 27, 182, 0, 124, 182, 1, 183, 42, 16, 58]
abbrev dktX9_report_3 : List UInt8 := dkwX9_report_3 ++ dktX9_report_4
def dkwX9_report_2 : List UInt8 := [16, 97, 167, 0, 5, 16, 65, 96, 182, 1, 180, 132, 1, 1, 167, 255, 206, 3, 60, 27, 42, 180, 0, 9]
abbrev dktX9_report_2 : List UInt8 := dkwX9_report_2 ++ dktX9_report_3
def dkwX9_report_1 : List UInt8 := [180, 0, 9, 16, 16, 27, 96, 46, 42, 42, 180, 0, 9, 16, 16, 27, 96, 46, 182, 0, 72, 153, 0, 8]
abbrev dktX9_report_1 : List UInt8 := dkwX9_report_1 ++ dktX9_report_2
def dkwX9_report_0 : List UInt8 := [42, 3, 181, 0, 69, 42, 3, 181, 1, 177, 3, 60, 27, 42, 180, 0, 9, 4, 46, 162, 0, 46, 42, 42]
abbrev dktX9_report_0 : List UInt8 := dkwX9_report_0 ++ dktX9_report_1
theorem dksX9_report_0 : cX9_report.data.toList.drop 0 = dktX9_report_0 := by decide +kernel
theorem dksX9_report_1 : cX9_report.data.toList.drop 24 = dktX9_report_1 := dk_seg dksX9_report_0 24 rfl rfl
theorem dksX9_report_2 : cX9_report.data.toList.drop 48 = dktX9_report_2 := dk_seg dksX9_report_1 24 rfl rfl
theorem dksX9_report_3 : cX9_report.data.toList.drop 72 = dktX9_report_3 := dk_seg dksX9_report_2 24 rfl rfl
theorem dksX9_report_4 : cX9_report.data.toList.drop 95 = dktX9_report_4 := dk_seg dksX9_report_3 23 rfl rfl
theorem dksX9_report_5 : cX9_report.data.toList.drop 118 = dktX9_report_5 := dk_seg dksX9_report_4 23 rfl rfl
theorem dksX9_report_6 : cX9_report.data.toList.drop 142 = dktX9_report_6 := dk_seg dksX9_report_5 24 rfl rfl
theorem dX9_report_0 : decode cX9_report 0 = .ok (.aload_n 0, 1) := dk_42 (dk_at dksX9_report_0 0 rfl rfl)
theorem dX9_report_1 : decode cX9_report 1 = .ok (.iconst 0, 1) := dk_3 (dk_at dksX9_report_0 1 rfl rfl)
theorem dX9_report_2 : decode cX9_report 2 = .ok (.putfield 69, 3) := dk_181 0 69 (dk_at dksX9_report_0 2 rfl rfl)
theorem dX9_report_5 : decode cX9_report 5 = .ok (.aload_n 0, 1) := dk_42 (dk_at dksX9_report_0 5 rfl rfl)
theorem dX9_report_6 : decode cX9_report 6 = .ok (.iconst 0, 1) := dk_3 (dk_at dksX9_report_0 6 rfl rfl)
theorem dX9_report_7 : decode cX9_report 7 = .ok (.putfield 433, 3) := dk_181 1 177 (dk_at dksX9_report_0 7 rfl rfl)
theorem dX9_report_10 : decode cX9_report 10 = .ok (.iconst 0, 1) := dk_3 (dk_at dksX9_report_0 10 rfl rfl)
theorem dX9_report_11 : decode cX9_report 11 = .ok (.istore_n 1, 1) := dk_60 (dk_at dksX9_report_0 11 rfl rfl)
theorem dX9_report_12 : decode cX9_report 12 = .ok (.iload_n 1, 1) := dk_27 (dk_at dksX9_report_0 12 rfl rfl)
theorem dX9_report_13 : decode cX9_report 13 = .ok (.aload_n 0, 1) := dk_42 (dk_at dksX9_report_0 13 rfl rfl)
theorem dX9_report_14 : decode cX9_report 14 = .ok (.getfield 9, 3) := dk_180 0 9 (dk_at dksX9_report_0 14 rfl rfl)
theorem dX9_report_17 : decode cX9_report 17 = .ok (.iconst 1, 1) := dk_4 (dk_at dksX9_report_0 17 rfl rfl)
theorem dX9_report_18 : decode cX9_report 18 = .ok (.iaload, 1) := dk_46 (dk_at dksX9_report_0 18 rfl rfl)
theorem dX9_report_19 : decode cX9_report 19 = .ok (.if_icmp .ge 46, 3) := dk_162 0 46 (dk_at dksX9_report_0 19 rfl rfl)
theorem dX9_report_22 : decode cX9_report 22 = .ok (.aload_n 0, 1) := dk_42 (dk_at dksX9_report_0 22 rfl rfl)
theorem dX9_report_23 : decode cX9_report 23 = .ok (.aload_n 0, 1) := dk_42 (dk_at dksX9_report_0 23 rfl rfl)
theorem dX9_report_24 : decode cX9_report 24 = .ok (.getfield 9, 3) := dk_180 0 9 (dk_at dksX9_report_1 0 rfl rfl)
theorem dX9_report_27 : decode cX9_report 27 = .ok (.bipush 16, 2) := dk_16 16 (dk_at dksX9_report_1 3 rfl rfl)
theorem dX9_report_29 : decode cX9_report 29 = .ok (.iload_n 1, 1) := dk_27 (dk_at dksX9_report_1 5 rfl rfl)
theorem dX9_report_30 : decode cX9_report 30 = .ok (.iadd, 1) := dk_96 (dk_at dksX9_report_1 6 rfl rfl)
theorem dX9_report_31 : decode cX9_report 31 = .ok (.iaload, 1) := dk_46 (dk_at dksX9_report_1 7 rfl rfl)
theorem dX9_report_32 : decode cX9_report 32 = .ok (.aload_n 0, 1) := dk_42 (dk_at dksX9_report_1 8 rfl rfl)
theorem dX9_report_33 : decode cX9_report 33 = .ok (.aload_n 0, 1) := dk_42 (dk_at dksX9_report_1 9 rfl rfl)
theorem dX9_report_34 : decode cX9_report 34 = .ok (.getfield 9, 3) := dk_180 0 9 (dk_at dksX9_report_1 10 rfl rfl)
theorem dX9_report_37 : decode cX9_report 37 = .ok (.bipush 16, 2) := dk_16 16 (dk_at dksX9_report_1 13 rfl rfl)
theorem dX9_report_39 : decode cX9_report 39 = .ok (.iload_n 1, 1) := dk_27 (dk_at dksX9_report_1 15 rfl rfl)
theorem dX9_report_40 : decode cX9_report 40 = .ok (.iadd, 1) := dk_96 (dk_at dksX9_report_1 16 rfl rfl)
theorem dX9_report_41 : decode cX9_report 41 = .ok (.iaload, 1) := dk_46 (dk_at dksX9_report_1 17 rfl rfl)
theorem dX9_report_42 : decode cX9_report 42 = .ok (.invokevirtual 72, 3) := dk_182 0 72 (dk_at dksX9_report_1 18 rfl rfl)
theorem dX9_report_45 : decode cX9_report 45 = .ok (.ifCond .eq 8, 3) := dk_153 0 8 (dk_at dksX9_report_1 21 rfl rfl)
theorem dX9_report_48 : decode cX9_report 48 = .ok (.bipush 97, 2) := dk_16 97 (dk_at dksX9_report_2 0 rfl rfl)
theorem dX9_report_50 : decode cX9_report 50 = .ok (.goto 5, 3) := dk_167 0 5 (dk_at dksX9_report_2 2 rfl rfl)
theorem dX9_report_53 : decode cX9_report 53 = .ok (.bipush 65, 2) := dk_16 65 (dk_at dksX9_report_2 5 rfl rfl)
theorem dX9_report_55 : decode cX9_report 55 = .ok (.iadd, 1) := dk_96 (dk_at dksX9_report_2 7 rfl rfl)
theorem dX9_report_56 : decode cX9_report 56 = .ok (.invokevirtual 436, 3) := dk_182 1 180 (dk_at dksX9_report_2 8 rfl rfl)
theorem dX9_report_59 : decode cX9_report 59 = .ok (.iinc 1 1, 3) := dk_132 1 1 (dk_at dksX9_report_2 11 rfl rfl)
theorem dX9_report_62 : decode cX9_report 62 = .ok (.goto (-50), 3) := dk_167 255 206 (dk_at dksX9_report_2 14 rfl rfl)
theorem dX9_report_65 : decode cX9_report 65 = .ok (.iconst 0, 1) := dk_3 (dk_at dksX9_report_2 17 rfl rfl)
theorem dX9_report_66 : decode cX9_report 66 = .ok (.istore_n 1, 1) := dk_60 (dk_at dksX9_report_2 18 rfl rfl)
theorem dX9_report_67 : decode cX9_report 67 = .ok (.iload_n 1, 1) := dk_27 (dk_at dksX9_report_2 19 rfl rfl)
theorem dX9_report_68 : decode cX9_report 68 = .ok (.aload_n 0, 1) := dk_42 (dk_at dksX9_report_2 20 rfl rfl)
theorem dX9_report_69 : decode cX9_report 69 = .ok (.getfield 9, 3) := dk_180 0 9 (dk_at dksX9_report_2 21 rfl rfl)
theorem dX9_report_72 : decode cX9_report 72 = .ok (.iconst 3, 1) := dk_6 (dk_at dksX9_report_3 0 rfl rfl)
theorem dX9_report_73 : decode cX9_report 73 = .ok (.iaload, 1) := dk_46 (dk_at dksX9_report_3 1 rfl rfl)
theorem dX9_report_74 : decode cX9_report 74 = .ok (.if_icmp .ge 68, 3) := dk_162 0 68 (dk_at dksX9_report_3 2 rfl rfl)
theorem dX9_report_77 : decode cX9_report 77 = .ok (.aload_n 0, 1) := dk_42 (dk_at dksX9_report_3 5 rfl rfl)
theorem dX9_report_78 : decode cX9_report 78 = .ok (.bipush 32, 2) := dk_16 32 (dk_at dksX9_report_3 6 rfl rfl)
theorem dX9_report_80 : decode cX9_report 80 = .ok (.invokevirtual 436, 3) := dk_182 1 180 (dk_at dksX9_report_3 8 rfl rfl)
theorem dX9_report_83 : decode cX9_report 83 = .ok (.aload_n 0, 1) := dk_42 (dk_at dksX9_report_3 11 rfl rfl)
theorem dX9_report_84 : decode cX9_report 84 = .ok (.aload_n 0, 1) := dk_42 (dk_at dksX9_report_3 12 rfl rfl)
theorem dX9_report_85 : decode cX9_report 85 = .ok (.iload_n 1, 1) := dk_27 (dk_at dksX9_report_3 13 rfl rfl)
theorem dX9_report_86 : decode cX9_report 86 = .ok (.invokevirtual 124, 3) := dk_182 0 124 (dk_at dksX9_report_3 14 rfl rfl)
theorem dX9_report_89 : decode cX9_report 89 = .ok (.invokevirtual 439, 3) := dk_182 1 183 (dk_at dksX9_report_3 17 rfl rfl)
theorem dX9_report_92 : decode cX9_report 92 = .ok (.aload_n 0, 1) := dk_42 (dk_at dksX9_report_3 20 rfl rfl)
theorem dX9_report_93 : decode cX9_report 93 = .ok (.bipush 58, 2) := dk_16 58 (dk_at dksX9_report_3 21 rfl rfl)
theorem dX9_report_95 : decode cX9_report 95 = .ok (.invokevirtual 436, 3) := dk_182 1 180 (dk_at dksX9_report_4 0 rfl rfl)
theorem dX9_report_98 : decode cX9_report 98 = .ok (.iconst 0, 1) := dk_3 (dk_at dksX9_report_4 3 rfl rfl)
theorem dX9_report_99 : decode cX9_report 99 = .ok (.istore_n 2, 1) := dk_61 (dk_at dksX9_report_4 4 rfl rfl)
theorem dX9_report_100 : decode cX9_report 100 = .ok (.iload_n 2, 1) := dk_28 (dk_at dksX9_report_4 5 rfl rfl)
theorem dX9_report_101 : decode cX9_report 101 = .ok (.aload_n 0, 1) := dk_42 (dk_at dksX9_report_4 6 rfl rfl)
theorem dX9_report_102 : decode cX9_report 102 = .ok (.aload_n 0, 1) := dk_42 (dk_at dksX9_report_4 7 rfl rfl)
theorem dX9_report_103 : decode cX9_report 103 = .ok (.iload_n 1, 1) := dk_27 (dk_at dksX9_report_4 8 rfl rfl)
theorem dX9_report_104 : decode cX9_report 104 = .ok (.invokevirtual 127, 3) := dk_182 0 127 (dk_at dksX9_report_4 9 rfl rfl)
theorem dX9_report_107 : decode cX9_report 107 = .ok (.iconst 1, 1) := dk_4 (dk_at dksX9_report_4 12 rfl rfl)
theorem dX9_report_108 : decode cX9_report 108 = .ok (.invokevirtual 98, 3) := dk_182 0 98 (dk_at dksX9_report_4 13 rfl rfl)
theorem dX9_report_111 : decode cX9_report 111 = .ok (.if_icmp .ge 25, 3) := dk_162 0 25 (dk_at dksX9_report_4 16 rfl rfl)
theorem dX9_report_114 : decode cX9_report 114 = .ok (.aload_n 0, 1) := dk_42 (dk_at dksX9_report_4 19 rfl rfl)
theorem dX9_report_115 : decode cX9_report 115 = .ok (.aload_n 0, 1) := dk_42 (dk_at dksX9_report_4 20 rfl rfl)
theorem dX9_report_116 : decode cX9_report 116 = .ok (.aload_n 0, 1) := dk_42 (dk_at dksX9_report_4 21 rfl rfl)
theorem dX9_report_117 : decode cX9_report 117 = .ok (.iload_n 1, 1) := dk_27 (dk_at dksX9_report_4 22 rfl rfl)
theorem dX9_report_118 : decode cX9_report 118 = .ok (.invokevirtual 127, 3) := dk_182 0 127 (dk_at dksX9_report_5 0 rfl rfl)
theorem dX9_report_121 : decode cX9_report 121 = .ok (.iconst 2, 1) := dk_5 (dk_at dksX9_report_5 3 rfl rfl)
theorem dX9_report_122 : decode cX9_report 122 = .ok (.iload_n 2, 1) := dk_28 (dk_at dksX9_report_5 4 rfl rfl)
theorem dX9_report_123 : decode cX9_report 123 = .ok (.iadd, 1) := dk_96 (dk_at dksX9_report_5 5 rfl rfl)
theorem dX9_report_124 : decode cX9_report 124 = .ok (.invokevirtual 98, 3) := dk_182 0 98 (dk_at dksX9_report_5 6 rfl rfl)
theorem dX9_report_127 : decode cX9_report 127 = .ok (.invokevirtual 436, 3) := dk_182 1 180 (dk_at dksX9_report_5 9 rfl rfl)
theorem dX9_report_130 : decode cX9_report 130 = .ok (.iinc 2 1, 3) := dk_132 2 1 (dk_at dksX9_report_5 12 rfl rfl)
theorem dX9_report_133 : decode cX9_report 133 = .ok (.goto (-33), 3) := dk_167 255 223 (dk_at dksX9_report_5 15 rfl rfl)
theorem dX9_report_136 : decode cX9_report 136 = .ok (.iinc 1 1, 3) := dk_132 1 1 (dk_at dksX9_report_5 18 rfl rfl)
theorem dX9_report_139 : decode cX9_report 139 = .ok (.goto (-72), 3) := dk_167 255 184 (dk_at dksX9_report_5 21 rfl rfl)
theorem dX9_report_142 : decode cX9_report 142 = .ok (.aload_n 0, 1) := dk_42 (dk_at dksX9_report_6 0 rfl rfl)
theorem dX9_report_143 : decode cX9_report 143 = .ok (.getfield 433, 3) := dk_180 1 177 (dk_at dksX9_report_6 1 rfl rfl)
theorem dX9_report_146 : decode cX9_report 146 = .ok (.ireturn, 1) := dk_172 (dk_at dksX9_report_6 4 rfl rfl)
abbrev cX9_writes : ByteArray := prog_29_method_126_code
def yX9_writes : MethodName := ⟨RX9, "writes", "(I)V"⟩
def dkwX9_writes_0 : List UInt8 := [42, 180, 0, 66, 42, 180, 1, 177, 27, 79, 42, 89, 180, 1, 177, 4, 96, 181, 1, 177, 177]
abbrev dktX9_writes_0 : List UInt8 := dkwX9_writes_0 ++ []
theorem dksX9_writes_0 : cX9_writes.data.toList.drop 0 = dktX9_writes_0 := by decide +kernel
theorem dX9_writes_0 : decode cX9_writes 0 = .ok (.aload_n 0, 1) := dk_42 (dk_at dksX9_writes_0 0 rfl rfl)
theorem dX9_writes_1 : decode cX9_writes 1 = .ok (.getfield 66, 3) := dk_180 0 66 (dk_at dksX9_writes_0 1 rfl rfl)
theorem dX9_writes_4 : decode cX9_writes 4 = .ok (.aload_n 0, 1) := dk_42 (dk_at dksX9_writes_0 4 rfl rfl)
theorem dX9_writes_5 : decode cX9_writes 5 = .ok (.getfield 433, 3) := dk_180 1 177 (dk_at dksX9_writes_0 5 rfl rfl)
theorem dX9_writes_8 : decode cX9_writes 8 = .ok (.iload_n 1, 1) := dk_27 (dk_at dksX9_writes_0 8 rfl rfl)
theorem dX9_writes_9 : decode cX9_writes 9 = .ok (.iastore, 1) := dk_79 (dk_at dksX9_writes_0 9 rfl rfl)
theorem dX9_writes_10 : decode cX9_writes 10 = .ok (.aload_n 0, 1) := dk_42 (dk_at dksX9_writes_0 10 rfl rfl)
theorem dX9_writes_11 : decode cX9_writes 11 = .ok (.dup, 1) := dk_89 (dk_at dksX9_writes_0 11 rfl rfl)
theorem dX9_writes_12 : decode cX9_writes 12 = .ok (.getfield 433, 3) := dk_180 1 177 (dk_at dksX9_writes_0 12 rfl rfl)
theorem dX9_writes_15 : decode cX9_writes 15 = .ok (.iconst 1, 1) := dk_4 (dk_at dksX9_writes_0 15 rfl rfl)
theorem dX9_writes_16 : decode cX9_writes 16 = .ok (.iadd, 1) := dk_96 (dk_at dksX9_writes_0 16 rfl rfl)
theorem dX9_writes_17 : decode cX9_writes 17 = .ok (.putfield 433, 3) := dk_181 1 177 (dk_at dksX9_writes_0 17 rfl rfl)
theorem dX9_writes_20 : decode cX9_writes 20 = .ok (.return_, 1) := dk_177 (dk_at dksX9_writes_0 20 rfl rfl)
abbrev cX9_writesNumber : ByteArray := prog_29_method_127_code
def yX9_writesNumber : MethodName := ⟨RX9, "writesNumber", "(I)V"⟩
def dkwX9_writesNumber_1 : List UInt8 := [16, 48, 27, 28, 108, 16, 10, 112, 96, 182, 1, 180, 28, 16, 10, 108, 61, 167, 255, 234, 177]
abbrev dktX9_writesNumber_1 : List UInt8 := dkwX9_writesNumber_1 ++ []
def dkwX9_writesNumber_0 : List UInt8 := [4, 61, 27, 28, 108, 16, 9, 164, 0, 11, 28, 16, 10, 104, 61, 167, 255, 243, 28, 158, 0, 24, 42]
abbrev dktX9_writesNumber_0 : List UInt8 := dkwX9_writesNumber_0 ++ dktX9_writesNumber_1
theorem dksX9_writesNumber_0 : cX9_writesNumber.data.toList.drop 0 = dktX9_writesNumber_0 := by decide +kernel
theorem dksX9_writesNumber_1 : cX9_writesNumber.data.toList.drop 23 = dktX9_writesNumber_1 := dk_seg dksX9_writesNumber_0 23 rfl rfl
theorem dX9_writesNumber_0 : decode cX9_writesNumber 0 = .ok (.iconst 1, 1) := dk_4 (dk_at dksX9_writesNumber_0 0 rfl rfl)
theorem dX9_writesNumber_1 : decode cX9_writesNumber 1 = .ok (.istore_n 2, 1) := dk_61 (dk_at dksX9_writesNumber_0 1 rfl rfl)
theorem dX9_writesNumber_2 : decode cX9_writesNumber 2 = .ok (.iload_n 1, 1) := dk_27 (dk_at dksX9_writesNumber_0 2 rfl rfl)
theorem dX9_writesNumber_3 : decode cX9_writesNumber 3 = .ok (.iload_n 2, 1) := dk_28 (dk_at dksX9_writesNumber_0 3 rfl rfl)
theorem dX9_writesNumber_4 : decode cX9_writesNumber 4 = .ok (.idiv, 1) := dk_108 (dk_at dksX9_writesNumber_0 4 rfl rfl)
theorem dX9_writesNumber_5 : decode cX9_writesNumber 5 = .ok (.bipush 9, 2) := dk_16 9 (dk_at dksX9_writesNumber_0 5 rfl rfl)
theorem dX9_writesNumber_7 : decode cX9_writesNumber 7 = .ok (.if_icmp .le 11, 3) := dk_164 0 11 (dk_at dksX9_writesNumber_0 7 rfl rfl)
theorem dX9_writesNumber_10 : decode cX9_writesNumber 10 = .ok (.iload_n 2, 1) := dk_28 (dk_at dksX9_writesNumber_0 10 rfl rfl)
theorem dX9_writesNumber_11 : decode cX9_writesNumber 11 = .ok (.bipush 10, 2) := dk_16 10 (dk_at dksX9_writesNumber_0 11 rfl rfl)
theorem dX9_writesNumber_13 : decode cX9_writesNumber 13 = .ok (.imul, 1) := dk_104 (dk_at dksX9_writesNumber_0 13 rfl rfl)
theorem dX9_writesNumber_14 : decode cX9_writesNumber 14 = .ok (.istore_n 2, 1) := dk_61 (dk_at dksX9_writesNumber_0 14 rfl rfl)
theorem dX9_writesNumber_15 : decode cX9_writesNumber 15 = .ok (.goto (-13), 3) := dk_167 255 243 (dk_at dksX9_writesNumber_0 15 rfl rfl)
theorem dX9_writesNumber_18 : decode cX9_writesNumber 18 = .ok (.iload_n 2, 1) := dk_28 (dk_at dksX9_writesNumber_0 18 rfl rfl)
theorem dX9_writesNumber_19 : decode cX9_writesNumber 19 = .ok (.ifCond .le 24, 3) := dk_158 0 24 (dk_at dksX9_writesNumber_0 19 rfl rfl)
theorem dX9_writesNumber_22 : decode cX9_writesNumber 22 = .ok (.aload_n 0, 1) := dk_42 (dk_at dksX9_writesNumber_0 22 rfl rfl)
theorem dX9_writesNumber_23 : decode cX9_writesNumber 23 = .ok (.bipush 48, 2) := dk_16 48 (dk_at dksX9_writesNumber_1 0 rfl rfl)
theorem dX9_writesNumber_25 : decode cX9_writesNumber 25 = .ok (.iload_n 1, 1) := dk_27 (dk_at dksX9_writesNumber_1 2 rfl rfl)
theorem dX9_writesNumber_26 : decode cX9_writesNumber 26 = .ok (.iload_n 2, 1) := dk_28 (dk_at dksX9_writesNumber_1 3 rfl rfl)
theorem dX9_writesNumber_27 : decode cX9_writesNumber 27 = .ok (.idiv, 1) := dk_108 (dk_at dksX9_writesNumber_1 4 rfl rfl)
theorem dX9_writesNumber_28 : decode cX9_writesNumber 28 = .ok (.bipush 10, 2) := dk_16 10 (dk_at dksX9_writesNumber_1 5 rfl rfl)
theorem dX9_writesNumber_30 : decode cX9_writesNumber 30 = .ok (.irem, 1) := dk_112 (dk_at dksX9_writesNumber_1 7 rfl rfl)
theorem dX9_writesNumber_31 : decode cX9_writesNumber 31 = .ok (.iadd, 1) := dk_96 (dk_at dksX9_writesNumber_1 8 rfl rfl)
theorem dX9_writesNumber_32 : decode cX9_writesNumber 32 = .ok (.invokevirtual 436, 3) := dk_182 1 180 (dk_at dksX9_writesNumber_1 9 rfl rfl)
theorem dX9_writesNumber_35 : decode cX9_writesNumber 35 = .ok (.iload_n 2, 1) := dk_28 (dk_at dksX9_writesNumber_1 12 rfl rfl)
theorem dX9_writesNumber_36 : decode cX9_writesNumber 36 = .ok (.bipush 10, 2) := dk_16 10 (dk_at dksX9_writesNumber_1 13 rfl rfl)
theorem dX9_writesNumber_38 : decode cX9_writesNumber 38 = .ok (.idiv, 1) := dk_108 (dk_at dksX9_writesNumber_1 15 rfl rfl)
theorem dX9_writesNumber_39 : decode cX9_writesNumber 39 = .ok (.istore_n 2, 1) := dk_61 (dk_at dksX9_writesNumber_1 16 rfl rfl)
theorem dX9_writesNumber_40 : decode cX9_writesNumber 40 = .ok (.goto (-22), 3) := dk_167 255 234 (dk_at dksX9_writesNumber_1 17 rfl rfl)
theorem dX9_writesNumber_43 : decode cX9_writesNumber 43 = .ok (.return_, 1) := dk_177 (dk_at dksX9_writesNumber_1 20 rfl rfl)
abbrev cX9_reportByte : ByteArray := prog_29_method_129_code
def yX9_reportByte : MethodName := ⟨RX9, "reportByte", "(I)I"⟩
def dkwX9_reportByte_1 : List UInt8 := [46, 167, 0, 4, 2, 172]
abbrev dktX9_reportByte_1 : List UInt8 := dkwX9_reportByte_1 ++ []
def dkwX9_reportByte_0 : List UInt8 := [42, 3, 181, 0, 69, 27, 3, 42, 180, 1, 177, 4, 100, 184, 0, 160, 153, 0, 12, 42, 180, 0, 66, 27]
abbrev dktX9_reportByte_0 : List UInt8 := dkwX9_reportByte_0 ++ dktX9_reportByte_1
theorem dksX9_reportByte_0 : cX9_reportByte.data.toList.drop 0 = dktX9_reportByte_0 := by decide +kernel
theorem dksX9_reportByte_1 : cX9_reportByte.data.toList.drop 24 = dktX9_reportByte_1 := dk_seg dksX9_reportByte_0 24 rfl rfl
theorem dX9_reportByte_0 : decode cX9_reportByte 0 = .ok (.aload_n 0, 1) := dk_42 (dk_at dksX9_reportByte_0 0 rfl rfl)
theorem dX9_reportByte_1 : decode cX9_reportByte 1 = .ok (.iconst 0, 1) := dk_3 (dk_at dksX9_reportByte_0 1 rfl rfl)
theorem dX9_reportByte_2 : decode cX9_reportByte 2 = .ok (.putfield 69, 3) := dk_181 0 69 (dk_at dksX9_reportByte_0 2 rfl rfl)
theorem dX9_reportByte_5 : decode cX9_reportByte 5 = .ok (.iload_n 1, 1) := dk_27 (dk_at dksX9_reportByte_0 5 rfl rfl)
theorem dX9_reportByte_6 : decode cX9_reportByte 6 = .ok (.iconst 0, 1) := dk_3 (dk_at dksX9_reportByte_0 6 rfl rfl)
theorem dX9_reportByte_7 : decode cX9_reportByte 7 = .ok (.aload_n 0, 1) := dk_42 (dk_at dksX9_reportByte_0 7 rfl rfl)
theorem dX9_reportByte_8 : decode cX9_reportByte 8 = .ok (.getfield 433, 3) := dk_180 1 177 (dk_at dksX9_reportByte_0 8 rfl rfl)
theorem dX9_reportByte_11 : decode cX9_reportByte 11 = .ok (.iconst 1, 1) := dk_4 (dk_at dksX9_reportByte_0 11 rfl rfl)
theorem dX9_reportByte_12 : decode cX9_reportByte 12 = .ok (.isub, 1) := dk_100 (dk_at dksX9_reportByte_0 12 rfl rfl)
theorem dX9_reportByte_13 : decode cX9_reportByte 13 = .ok (.invokestatic 160, 3) := dk_184 0 160 (dk_at dksX9_reportByte_0 13 rfl rfl)
theorem dX9_reportByte_16 : decode cX9_reportByte 16 = .ok (.ifCond .eq 12, 3) := dk_153 0 12 (dk_at dksX9_reportByte_0 16 rfl rfl)
theorem dX9_reportByte_19 : decode cX9_reportByte 19 = .ok (.aload_n 0, 1) := dk_42 (dk_at dksX9_reportByte_0 19 rfl rfl)
theorem dX9_reportByte_20 : decode cX9_reportByte 20 = .ok (.getfield 66, 3) := dk_180 0 66 (dk_at dksX9_reportByte_0 20 rfl rfl)
theorem dX9_reportByte_23 : decode cX9_reportByte 23 = .ok (.iload_n 1, 1) := dk_27 (dk_at dksX9_reportByte_0 23 rfl rfl)
theorem dX9_reportByte_24 : decode cX9_reportByte 24 = .ok (.iaload, 1) := dk_46 (dk_at dksX9_reportByte_1 0 rfl rfl)
theorem dX9_reportByte_25 : decode cX9_reportByte 25 = .ok (.goto 4, 3) := dk_167 0 4 (dk_at dksX9_reportByte_1 1 rfl rfl)
theorem dX9_reportByte_28 : decode cX9_reportByte 28 = .ok (.iconst (-1), 1) := dk_2 (dk_at dksX9_reportByte_1 4 rfl rfl)
theorem dX9_reportByte_29 : decode cX9_reportByte 29 = .ok (.ireturn, 1) := dk_172 (dk_at dksX9_reportByte_1 5 rfl rfl)
abbrev cX9_undo : ByteArray := prog_29_method_130_code
def yX9_undo : MethodName := ⟨RX9, "undo", "()I"⟩
def dkwX9_undo_2 : List UInt8 := [172]
abbrev dktX9_undo_2 : List UInt8 := dkwX9_undo_2 ++ []
def dkwX9_undo_1 : List UInt8 := [42, 180, 0, 19, 17, 2, 64, 42, 180, 1, 8, 104, 42, 180, 0, 9, 3, 184, 0, 144, 42, 180, 1, 8]
abbrev dktX9_undo_1 : List UInt8 := dkwX9_undo_1 ++ dktX9_undo_2
def dkwX9_undo_0 : List UInt8 := [42, 3, 181, 0, 69, 42, 180, 1, 8, 154, 0, 5, 2, 172, 42, 89, 180, 1, 8, 4, 100, 181, 1, 8]
abbrev dktX9_undo_0 : List UInt8 := dkwX9_undo_0 ++ dktX9_undo_1
theorem dksX9_undo_0 : cX9_undo.data.toList.drop 0 = dktX9_undo_0 := by decide +kernel
theorem dksX9_undo_1 : cX9_undo.data.toList.drop 24 = dktX9_undo_1 := dk_seg dksX9_undo_0 24 rfl rfl
theorem dksX9_undo_2 : cX9_undo.data.toList.drop 48 = dktX9_undo_2 := dk_seg dksX9_undo_1 24 rfl rfl
theorem dX9_undo_0 : decode cX9_undo 0 = .ok (.aload_n 0, 1) := dk_42 (dk_at dksX9_undo_0 0 rfl rfl)
theorem dX9_undo_1 : decode cX9_undo 1 = .ok (.iconst 0, 1) := dk_3 (dk_at dksX9_undo_0 1 rfl rfl)
theorem dX9_undo_2 : decode cX9_undo 2 = .ok (.putfield 69, 3) := dk_181 0 69 (dk_at dksX9_undo_0 2 rfl rfl)
theorem dX9_undo_5 : decode cX9_undo 5 = .ok (.aload_n 0, 1) := dk_42 (dk_at dksX9_undo_0 5 rfl rfl)
theorem dX9_undo_6 : decode cX9_undo 6 = .ok (.getfield 264, 3) := dk_180 1 8 (dk_at dksX9_undo_0 6 rfl rfl)
theorem dX9_undo_9 : decode cX9_undo 9 = .ok (.ifCond .ne 5, 3) := dk_154 0 5 (dk_at dksX9_undo_0 9 rfl rfl)
theorem dX9_undo_12 : decode cX9_undo 12 = .ok (.iconst (-1), 1) := dk_2 (dk_at dksX9_undo_0 12 rfl rfl)
theorem dX9_undo_13 : decode cX9_undo 13 = .ok (.ireturn, 1) := dk_172 (dk_at dksX9_undo_0 13 rfl rfl)
theorem dX9_undo_14 : decode cX9_undo 14 = .ok (.aload_n 0, 1) := dk_42 (dk_at dksX9_undo_0 14 rfl rfl)
theorem dX9_undo_15 : decode cX9_undo 15 = .ok (.dup, 1) := dk_89 (dk_at dksX9_undo_0 15 rfl rfl)
theorem dX9_undo_16 : decode cX9_undo 16 = .ok (.getfield 264, 3) := dk_180 1 8 (dk_at dksX9_undo_0 16 rfl rfl)
theorem dX9_undo_19 : decode cX9_undo 19 = .ok (.iconst 1, 1) := dk_4 (dk_at dksX9_undo_0 19 rfl rfl)
theorem dX9_undo_20 : decode cX9_undo 20 = .ok (.isub, 1) := dk_100 (dk_at dksX9_undo_0 20 rfl rfl)
theorem dX9_undo_21 : decode cX9_undo 21 = .ok (.putfield 264, 3) := dk_181 1 8 (dk_at dksX9_undo_0 21 rfl rfl)
theorem dX9_undo_24 : decode cX9_undo 24 = .ok (.aload_n 0, 1) := dk_42 (dk_at dksX9_undo_1 0 rfl rfl)
theorem dX9_undo_25 : decode cX9_undo 25 = .ok (.getfield 19, 3) := dk_180 0 19 (dk_at dksX9_undo_1 1 rfl rfl)
theorem dX9_undo_28 : decode cX9_undo 28 = .ok (.sipush 576, 3) := dk_17 2 64 (dk_at dksX9_undo_1 4 rfl rfl)
theorem dX9_undo_31 : decode cX9_undo 31 = .ok (.aload_n 0, 1) := dk_42 (dk_at dksX9_undo_1 7 rfl rfl)
theorem dX9_undo_32 : decode cX9_undo 32 = .ok (.getfield 264, 3) := dk_180 1 8 (dk_at dksX9_undo_1 8 rfl rfl)
theorem dX9_undo_35 : decode cX9_undo 35 = .ok (.imul, 1) := dk_104 (dk_at dksX9_undo_1 11 rfl rfl)
theorem dX9_undo_36 : decode cX9_undo 36 = .ok (.aload_n 0, 1) := dk_42 (dk_at dksX9_undo_1 12 rfl rfl)
theorem dX9_undo_37 : decode cX9_undo 37 = .ok (.getfield 9, 3) := dk_180 0 9 (dk_at dksX9_undo_1 13 rfl rfl)
theorem dX9_undo_40 : decode cX9_undo 40 = .ok (.iconst 0, 1) := dk_3 (dk_at dksX9_undo_1 16 rfl rfl)
theorem dX9_undo_41 : decode cX9_undo 41 = .ok (.invokestatic 144, 3) := dk_184 0 144 (dk_at dksX9_undo_1 17 rfl rfl)
theorem dX9_undo_44 : decode cX9_undo 44 = .ok (.aload_n 0, 1) := dk_42 (dk_at dksX9_undo_1 20 rfl rfl)
theorem dX9_undo_45 : decode cX9_undo 45 = .ok (.getfield 264, 3) := dk_180 1 8 (dk_at dksX9_undo_1 21 rfl rfl)
theorem dX9_undo_48 : decode cX9_undo 48 = .ok (.ireturn, 1) := dk_172 (dk_at dksX9_undo_2 0 rfl rfl)
abbrev cX9_save : ByteArray := prog_29_method_132_code
def yX9_save : MethodName := ⟨RX9, "save", "(I)I"⟩
def dkwX9_save_1 : List UInt8 := [17, 2, 64, 27, 104, 184, 0, 144, 42, 180, 0, 25, 27, 4, 84, 42, 180, 0, 9, 4, 46, 172]
abbrev dktX9_save_1 : List UInt8 := dkwX9_save_1 ++ []
def dkwX9_save_0 : List UInt8 := [42, 3, 181, 0, 69, 42, 27, 182, 1, 186, 153, 0, 5, 3, 172, 42, 180, 0, 9, 3, 42, 180, 0, 22]
abbrev dktX9_save_0 : List UInt8 := dkwX9_save_0 ++ dktX9_save_1
theorem dksX9_save_0 : cX9_save.data.toList.drop 0 = dktX9_save_0 := by decide +kernel
theorem dksX9_save_1 : cX9_save.data.toList.drop 24 = dktX9_save_1 := dk_seg dksX9_save_0 24 rfl rfl
theorem dX9_save_0 : decode cX9_save 0 = .ok (.aload_n 0, 1) := dk_42 (dk_at dksX9_save_0 0 rfl rfl)
theorem dX9_save_1 : decode cX9_save 1 = .ok (.iconst 0, 1) := dk_3 (dk_at dksX9_save_0 1 rfl rfl)
theorem dX9_save_2 : decode cX9_save 2 = .ok (.putfield 69, 3) := dk_181 0 69 (dk_at dksX9_save_0 2 rfl rfl)
theorem dX9_save_5 : decode cX9_save 5 = .ok (.aload_n 0, 1) := dk_42 (dk_at dksX9_save_0 5 rfl rfl)
theorem dX9_save_6 : decode cX9_save 6 = .ok (.iload_n 1, 1) := dk_27 (dk_at dksX9_save_0 6 rfl rfl)
theorem dX9_save_7 : decode cX9_save 7 = .ok (.invokevirtual 442, 3) := dk_182 1 186 (dk_at dksX9_save_0 7 rfl rfl)
theorem dX9_save_10 : decode cX9_save 10 = .ok (.ifCond .eq 5, 3) := dk_153 0 5 (dk_at dksX9_save_0 10 rfl rfl)
theorem dX9_save_13 : decode cX9_save 13 = .ok (.iconst 0, 1) := dk_3 (dk_at dksX9_save_0 13 rfl rfl)
theorem dX9_save_14 : decode cX9_save 14 = .ok (.ireturn, 1) := dk_172 (dk_at dksX9_save_0 14 rfl rfl)
theorem dX9_save_15 : decode cX9_save 15 = .ok (.aload_n 0, 1) := dk_42 (dk_at dksX9_save_0 15 rfl rfl)
theorem dX9_save_16 : decode cX9_save 16 = .ok (.getfield 9, 3) := dk_180 0 9 (dk_at dksX9_save_0 16 rfl rfl)
theorem dX9_save_19 : decode cX9_save 19 = .ok (.iconst 0, 1) := dk_3 (dk_at dksX9_save_0 19 rfl rfl)
theorem dX9_save_20 : decode cX9_save 20 = .ok (.aload_n 0, 1) := dk_42 (dk_at dksX9_save_0 20 rfl rfl)
theorem dX9_save_21 : decode cX9_save 21 = .ok (.getfield 22, 3) := dk_180 0 22 (dk_at dksX9_save_0 21 rfl rfl)
theorem dX9_save_24 : decode cX9_save 24 = .ok (.sipush 576, 3) := dk_17 2 64 (dk_at dksX9_save_1 0 rfl rfl)
theorem dX9_save_27 : decode cX9_save 27 = .ok (.iload_n 1, 1) := dk_27 (dk_at dksX9_save_1 3 rfl rfl)
theorem dX9_save_28 : decode cX9_save 28 = .ok (.imul, 1) := dk_104 (dk_at dksX9_save_1 4 rfl rfl)
theorem dX9_save_29 : decode cX9_save 29 = .ok (.invokestatic 144, 3) := dk_184 0 144 (dk_at dksX9_save_1 5 rfl rfl)
theorem dX9_save_32 : decode cX9_save 32 = .ok (.aload_n 0, 1) := dk_42 (dk_at dksX9_save_1 8 rfl rfl)
theorem dX9_save_33 : decode cX9_save 33 = .ok (.getfield 25, 3) := dk_180 0 25 (dk_at dksX9_save_1 9 rfl rfl)
theorem dX9_save_36 : decode cX9_save 36 = .ok (.iload_n 1, 1) := dk_27 (dk_at dksX9_save_1 12 rfl rfl)
theorem dX9_save_37 : decode cX9_save 37 = .ok (.iconst 1, 1) := dk_4 (dk_at dksX9_save_1 13 rfl rfl)
theorem dX9_save_38 : decode cX9_save 38 = .ok (.bastore, 1) := dk_84 (dk_at dksX9_save_1 14 rfl rfl)
theorem dX9_save_39 : decode cX9_save 39 = .ok (.aload_n 0, 1) := dk_42 (dk_at dksX9_save_1 15 rfl rfl)
theorem dX9_save_40 : decode cX9_save 40 = .ok (.getfield 9, 3) := dk_180 0 9 (dk_at dksX9_save_1 16 rfl rfl)
theorem dX9_save_43 : decode cX9_save 43 = .ok (.iconst 1, 1) := dk_4 (dk_at dksX9_save_1 19 rfl rfl)
theorem dX9_save_44 : decode cX9_save 44 = .ok (.iaload, 1) := dk_46 (dk_at dksX9_save_1 20 rfl rfl)
theorem dX9_save_45 : decode cX9_save 45 = .ok (.ireturn, 1) := dk_172 (dk_at dksX9_save_1 21 rfl rfl)
abbrev cX9_noSlot : ByteArray := prog_29_method_131_code
def yX9_noSlot : MethodName := ⟨RX9, "noSlot", "(I)Z"⟩
def dkwX9_noSlot_0 : List UInt8 := [42, 27, 3, 4, 184, 0, 160, 154, 0, 7, 4, 167, 0, 4, 3, 4, 182, 1, 104, 172]
abbrev dktX9_noSlot_0 : List UInt8 := dkwX9_noSlot_0 ++ []
theorem dksX9_noSlot_0 : cX9_noSlot.data.toList.drop 0 = dktX9_noSlot_0 := by decide +kernel
theorem dX9_noSlot_0 : decode cX9_noSlot 0 = .ok (.aload_n 0, 1) := dk_42 (dk_at dksX9_noSlot_0 0 rfl rfl)
theorem dX9_noSlot_1 : decode cX9_noSlot 1 = .ok (.iload_n 1, 1) := dk_27 (dk_at dksX9_noSlot_0 1 rfl rfl)
theorem dX9_noSlot_2 : decode cX9_noSlot 2 = .ok (.iconst 0, 1) := dk_3 (dk_at dksX9_noSlot_0 2 rfl rfl)
theorem dX9_noSlot_3 : decode cX9_noSlot 3 = .ok (.iconst 1, 1) := dk_4 (dk_at dksX9_noSlot_0 3 rfl rfl)
theorem dX9_noSlot_4 : decode cX9_noSlot 4 = .ok (.invokestatic 160, 3) := dk_184 0 160 (dk_at dksX9_noSlot_0 4 rfl rfl)
theorem dX9_noSlot_7 : decode cX9_noSlot 7 = .ok (.ifCond .ne 7, 3) := dk_154 0 7 (dk_at dksX9_noSlot_0 7 rfl rfl)
theorem dX9_noSlot_10 : decode cX9_noSlot 10 = .ok (.iconst 1, 1) := dk_4 (dk_at dksX9_noSlot_0 10 rfl rfl)
theorem dX9_noSlot_11 : decode cX9_noSlot 11 = .ok (.goto 4, 3) := dk_167 0 4 (dk_at dksX9_noSlot_0 11 rfl rfl)
theorem dX9_noSlot_14 : decode cX9_noSlot 14 = .ok (.iconst 0, 1) := dk_3 (dk_at dksX9_noSlot_0 14 rfl rfl)
theorem dX9_noSlot_15 : decode cX9_noSlot 15 = .ok (.iconst 1, 1) := dk_4 (dk_at dksX9_noSlot_0 15 rfl rfl)
theorem dX9_noSlot_16 : decode cX9_noSlot 16 = .ok (.invokevirtual 360, 3) := dk_182 1 104 (dk_at dksX9_noSlot_0 16 rfl rfl)
theorem dX9_noSlot_19 : decode cX9_noSlot 19 = .ok (.ireturn, 1) := dk_172 (dk_at dksX9_noSlot_0 19 rfl rfl)
abbrev cX9_restore : ByteArray := prog_29_method_133_code
def yX9_restore : MethodName := ⟨RX9, "restore", "(I)I"⟩
def dkwX9_restore_2 : List UInt8 := [180, 0, 9, 3, 184, 0, 144, 42, 3, 181, 1, 8, 42, 180, 0, 9, 4, 46, 172]
abbrev dktX9_restore_2 : List UInt8 := dkwX9_restore_2 ++ []
def dkwX9_restore_1 : List UInt8 := [167, 0, 4, 3, 5, 182, 1, 104, 153, 0, 5, 3, 172, 42, 180, 0, 22, 17, 2, 64, 27, 104, 42]
abbrev dktX9_restore_1 : List UInt8 := dkwX9_restore_1 ++ dktX9_restore_2
def dkwX9_restore_0 : List UInt8 := [42, 3, 181, 0, 69, 42, 27, 182, 1, 186, 154, 0, 25, 42, 42, 180, 0, 25, 27, 51, 154, 0, 7, 4]
abbrev dktX9_restore_0 : List UInt8 := dkwX9_restore_0 ++ dktX9_restore_1
theorem dksX9_restore_0 : cX9_restore.data.toList.drop 0 = dktX9_restore_0 := by decide +kernel
theorem dksX9_restore_1 : cX9_restore.data.toList.drop 24 = dktX9_restore_1 := dk_seg dksX9_restore_0 24 rfl rfl
theorem dksX9_restore_2 : cX9_restore.data.toList.drop 47 = dktX9_restore_2 := dk_seg dksX9_restore_1 23 rfl rfl
theorem dX9_restore_0 : decode cX9_restore 0 = .ok (.aload_n 0, 1) := dk_42 (dk_at dksX9_restore_0 0 rfl rfl)
theorem dX9_restore_1 : decode cX9_restore 1 = .ok (.iconst 0, 1) := dk_3 (dk_at dksX9_restore_0 1 rfl rfl)
theorem dX9_restore_2 : decode cX9_restore 2 = .ok (.putfield 69, 3) := dk_181 0 69 (dk_at dksX9_restore_0 2 rfl rfl)
theorem dX9_restore_5 : decode cX9_restore 5 = .ok (.aload_n 0, 1) := dk_42 (dk_at dksX9_restore_0 5 rfl rfl)
theorem dX9_restore_6 : decode cX9_restore 6 = .ok (.iload_n 1, 1) := dk_27 (dk_at dksX9_restore_0 6 rfl rfl)
theorem dX9_restore_7 : decode cX9_restore 7 = .ok (.invokevirtual 442, 3) := dk_182 1 186 (dk_at dksX9_restore_0 7 rfl rfl)
theorem dX9_restore_10 : decode cX9_restore 10 = .ok (.ifCond .ne 25, 3) := dk_154 0 25 (dk_at dksX9_restore_0 10 rfl rfl)
theorem dX9_restore_13 : decode cX9_restore 13 = .ok (.aload_n 0, 1) := dk_42 (dk_at dksX9_restore_0 13 rfl rfl)
theorem dX9_restore_14 : decode cX9_restore 14 = .ok (.aload_n 0, 1) := dk_42 (dk_at dksX9_restore_0 14 rfl rfl)
theorem dX9_restore_15 : decode cX9_restore 15 = .ok (.getfield 25, 3) := dk_180 0 25 (dk_at dksX9_restore_0 15 rfl rfl)
theorem dX9_restore_18 : decode cX9_restore 18 = .ok (.iload_n 1, 1) := dk_27 (dk_at dksX9_restore_0 18 rfl rfl)
theorem dX9_restore_19 : decode cX9_restore 19 = .ok (.baload, 1) := dk_51 (dk_at dksX9_restore_0 19 rfl rfl)
theorem dX9_restore_20 : decode cX9_restore 20 = .ok (.ifCond .ne 7, 3) := dk_154 0 7 (dk_at dksX9_restore_0 20 rfl rfl)
theorem dX9_restore_23 : decode cX9_restore 23 = .ok (.iconst 1, 1) := dk_4 (dk_at dksX9_restore_0 23 rfl rfl)
theorem dX9_restore_24 : decode cX9_restore 24 = .ok (.goto 4, 3) := dk_167 0 4 (dk_at dksX9_restore_1 0 rfl rfl)
theorem dX9_restore_27 : decode cX9_restore 27 = .ok (.iconst 0, 1) := dk_3 (dk_at dksX9_restore_1 3 rfl rfl)
theorem dX9_restore_28 : decode cX9_restore 28 = .ok (.iconst 2, 1) := dk_5 (dk_at dksX9_restore_1 4 rfl rfl)
theorem dX9_restore_29 : decode cX9_restore 29 = .ok (.invokevirtual 360, 3) := dk_182 1 104 (dk_at dksX9_restore_1 5 rfl rfl)
theorem dX9_restore_32 : decode cX9_restore 32 = .ok (.ifCond .eq 5, 3) := dk_153 0 5 (dk_at dksX9_restore_1 8 rfl rfl)
theorem dX9_restore_35 : decode cX9_restore 35 = .ok (.iconst 0, 1) := dk_3 (dk_at dksX9_restore_1 11 rfl rfl)
theorem dX9_restore_36 : decode cX9_restore 36 = .ok (.ireturn, 1) := dk_172 (dk_at dksX9_restore_1 12 rfl rfl)
theorem dX9_restore_37 : decode cX9_restore 37 = .ok (.aload_n 0, 1) := dk_42 (dk_at dksX9_restore_1 13 rfl rfl)
theorem dX9_restore_38 : decode cX9_restore 38 = .ok (.getfield 22, 3) := dk_180 0 22 (dk_at dksX9_restore_1 14 rfl rfl)
theorem dX9_restore_41 : decode cX9_restore 41 = .ok (.sipush 576, 3) := dk_17 2 64 (dk_at dksX9_restore_1 17 rfl rfl)
theorem dX9_restore_44 : decode cX9_restore 44 = .ok (.iload_n 1, 1) := dk_27 (dk_at dksX9_restore_1 20 rfl rfl)
theorem dX9_restore_45 : decode cX9_restore 45 = .ok (.imul, 1) := dk_104 (dk_at dksX9_restore_1 21 rfl rfl)
theorem dX9_restore_46 : decode cX9_restore 46 = .ok (.aload_n 0, 1) := dk_42 (dk_at dksX9_restore_1 22 rfl rfl)
theorem dX9_restore_47 : decode cX9_restore 47 = .ok (.getfield 9, 3) := dk_180 0 9 (dk_at dksX9_restore_2 0 rfl rfl)
theorem dX9_restore_50 : decode cX9_restore 50 = .ok (.iconst 0, 1) := dk_3 (dk_at dksX9_restore_2 3 rfl rfl)
theorem dX9_restore_51 : decode cX9_restore 51 = .ok (.invokestatic 144, 3) := dk_184 0 144 (dk_at dksX9_restore_2 4 rfl rfl)
theorem dX9_restore_54 : decode cX9_restore 54 = .ok (.aload_n 0, 1) := dk_42 (dk_at dksX9_restore_2 7 rfl rfl)
theorem dX9_restore_55 : decode cX9_restore 55 = .ok (.iconst 0, 1) := dk_3 (dk_at dksX9_restore_2 8 rfl rfl)
theorem dX9_restore_56 : decode cX9_restore 56 = .ok (.putfield 264, 3) := dk_181 1 8 (dk_at dksX9_restore_2 9 rfl rfl)
theorem dX9_restore_59 : decode cX9_restore 59 = .ok (.aload_n 0, 1) := dk_42 (dk_at dksX9_restore_2 12 rfl rfl)
theorem dX9_restore_60 : decode cX9_restore 60 = .ok (.getfield 9, 3) := dk_180 0 9 (dk_at dksX9_restore_2 13 rfl rfl)
theorem dX9_restore_63 : decode cX9_restore 63 = .ok (.iconst 1, 1) := dk_4 (dk_at dksX9_restore_2 16 rfl rfl)
theorem dX9_restore_64 : decode cX9_restore 64 = .ok (.iaload, 1) := dk_46 (dk_at dksX9_restore_2 17 rfl rfl)
theorem dX9_restore_65 : decode cX9_restore 65 = .ok (.ireturn, 1) := dk_172 (dk_at dksX9_restore_2 18 rfl rfl)
theorem q164 : (Jvm.Cond.initialized "RenamedWordsModel") ∈ lw_all := lw_g (lw_at lw_m1 33 rfl) rfl
theorem q1207 : (Jvm.Cond.selects "RenamedWordsModel" ({ cls := "java/lang/Object", name := "hashCode", desc := "()I" } : Jvm.MethodName) ({ cls := "java/lang/Object", name := "hashCode", desc := "()I" } : Jvm.MethodName)) ∈ lw_all := lw_g (lw_at lw_m5 116 rfl) rfl
theorem q1256 : (Jvm.Cond.selects "RenamedWordsModel" ({ cls := "java/lang/Object", name := "equals", desc := "(Ljava/lang/Object;)Z" } : Jvm.MethodName) ({ cls := "java/lang/Object", name := "equals", desc := "(Ljava/lang/Object;)Z" } : Jvm.MethodName)) ∈ lw_all := lw_g (lw_at lw_m5 165 rfl) rfl
theorem q1318 : (Jvm.Cond.selects "RenamedWordsModel" ({ cls := "java/lang/Object", name := "getClass", desc := "()Ljava/lang/Class;" } : Jvm.MethodName) ({ cls := "java/lang/Object", name := "getClass", desc := "()Ljava/lang/Class;" } : Jvm.MethodName)) ∈ lw_all := lw_g (lw_at lw_m5 227 rfl) rfl
theorem q3439 : (Jvm.Cond.instantiable "RenamedWordsModel" (34 : Nat)) ∈ lw_all := lw_g (lw_at lw_m14 188 rfl) rfl
theorem q3441 : (Jvm.Cond.instanceMethod ({ cls := "RenamedWordsModel", name := "<init>", desc := "()V" } : Jvm.MethodName)) ∈ lw_all := lw_g (lw_at lw_m14 190 rfl) rfl
theorem q3442 : (Jvm.Cond.code ({ cls := "RenamedWordsModel", name := "<init>", desc := "()V" } : Jvm.MethodName) prog_29_method_1_code (1 : Nat) (Option.none : Option Jvm.ClassFile.FieldType)) ∈ lw_all := lw_g (lw_at lw_m14 191 rfl) rfl
theorem q3443 : (Jvm.Cond.methodLink "RenamedWordsModel" (1 : Nat) ({ cls := "java/lang/Object", name := "<init>", desc := "()V" } : Jvm.MethodName)) ∈ lw_all := lw_g (lw_at lw_m14 192 rfl) rfl
theorem q3444 : (Jvm.Cond.fieldLink "RenamedWordsModel" (9 : Nat) "RenamedWordsModel" "w" "[I") ∈ lw_all := lw_g (lw_at lw_m14 193 rfl) rfl
theorem q3445 : (Jvm.Cond.fieldLink "RenamedWordsModel" (13 : Nat) "RenamedWordsModel" "other" "[I") ∈ lw_all := lw_g (lw_at lw_m14 194 rfl) rfl
theorem q3446 : (Jvm.Cond.fieldLink "RenamedWordsModel" (16 : Nat) "RenamedWordsModel" "ahead" "[I") ∈ lw_all := lw_g (lw_at lw_m14 195 rfl) rfl
theorem q3447 : (Jvm.Cond.fieldLink "RenamedWordsModel" (19 : Nat) "RenamedWordsModel" "past" "[I") ∈ lw_all := lw_g (lw_at lw_m14 196 rfl) rfl
theorem q3448 : (Jvm.Cond.fieldLink "RenamedWordsModel" (22 : Nat) "RenamedWordsModel" "kept" "[I") ∈ lw_all := lw_g (lw_at lw_m14 197 rfl) rfl
theorem q3449 : (Jvm.Cond.fieldLink "RenamedWordsModel" (25 : Nat) "RenamedWordsModel" "isKept" "[Z") ∈ lw_all := lw_g (lw_at lw_m14 198 rfl) rfl
theorem q3450 : (Jvm.Cond.fieldLink "RenamedWordsModel" (264 : Nat) "RenamedWordsModel" "undos" "I") ∈ lw_all := lw_g (lw_at lw_m14 199 rfl) rfl
theorem q3451 : (Jvm.Cond.fieldLink "RenamedWordsModel" (69 : Nat) "RenamedWordsModel" "thrown" "I") ∈ lw_all := lw_g (lw_at lw_m14 200 rfl) rfl
theorem q3452 : (Jvm.Cond.fieldLink "RenamedWordsModel" (29 : Nat) "RenamedWordsModel" "often" "[I") ∈ lw_all := lw_g (lw_at lw_m14 201 rfl) rfl
theorem q3453 : (Jvm.Cond.fieldLink "RenamedWordsModel" (32 : Nat) "RenamedWordsModel" "oftenThen" "[I") ∈ lw_all := lw_g (lw_at lw_m14 202 rfl) rfl
theorem q3454 : (Jvm.Cond.fieldLink "RenamedWordsModel" (35 : Nat) "RenamedWordsModel" "soMany" "[I") ∈ lw_all := lw_g (lw_at lw_m14 203 rfl) rfl
theorem q3455 : (Jvm.Cond.fieldLink "RenamedWordsModel" (38 : Nat) "RenamedWordsModel" "buffer" "[I") ∈ lw_all := lw_g (lw_at lw_m14 204 rfl) rfl
theorem q3456 : (Jvm.Cond.fieldLink "RenamedWordsModel" (148 : Nat) "RenamedWordsModel" "filled" "I") ∈ lw_all := lw_g (lw_at lw_m14 205 rfl) rfl
theorem q3457 : (Jvm.Cond.fieldLink "RenamedWordsModel" (166 : Nat) "RenamedWordsModel" "begin" "I") ∈ lw_all := lw_g (lw_at lw_m14 206 rfl) rfl
theorem q3458 : (Jvm.Cond.fieldLink "RenamedWordsModel" (163 : Nat) "RenamedWordsModel" "next" "I") ∈ lw_all := lw_g (lw_at lw_m14 207 rfl) rfl
theorem q3459 : (Jvm.Cond.fieldLink "RenamedWordsModel" (172 : Nat) "RenamedWordsModel" "token" "I") ∈ lw_all := lw_g (lw_at lw_m14 208 rfl) rfl
theorem q3460 : (Jvm.Cond.fieldLink "RenamedWordsModel" (169 : Nat) "RenamedWordsModel" "value" "I") ∈ lw_all := lw_g (lw_at lw_m14 209 rfl) rfl
theorem q3461 : (Jvm.Cond.fieldLink "RenamedWordsModel" (182 : Nat) "RenamedWordsModel" "error" "I") ∈ lw_all := lw_g (lw_at lw_m14 210 rfl) rfl
theorem q3462 : (Jvm.Cond.fieldLink "RenamedWordsModel" (185 : Nat) "RenamedWordsModel" "errorAt" "I") ∈ lw_all := lw_g (lw_at lw_m14 211 rfl) rfl
theorem q3463 : (Jvm.Cond.fieldLink "RenamedWordsModel" (41 : Nat) "RenamedWordsModel" "lastError" "I") ∈ lw_all := lw_g (lw_at lw_m14 212 rfl) rfl
theorem q3464 : (Jvm.Cond.fieldLink "RenamedWordsModel" (223 : Nat) "RenamedWordsModel" "toldOnce" "I") ∈ lw_all := lw_g (lw_at lw_m14 213 rfl) rfl
theorem q3465 : (Jvm.Cond.fieldLink "RenamedWordsModel" (248 : Nat) "RenamedWordsModel" "ends" "Z") ∈ lw_all := lw_g (lw_at lw_m14 214 rfl) rfl
theorem q3466 : (Jvm.Cond.fieldLink "RenamedWordsModel" (45 : Nat) "RenamedWordsModel" "orders" "[I") ∈ lw_all := lw_g (lw_at lw_m14 215 rfl) rfl
theorem q3467 : (Jvm.Cond.fieldLink "RenamedWordsModel" (48 : Nat) "RenamedWordsModel" "first" "[I") ∈ lw_all := lw_g (lw_at lw_m14 216 rfl) rfl
theorem q3468 : (Jvm.Cond.fieldLink "RenamedWordsModel" (51 : Nat) "RenamedWordsModel" "second" "[I") ∈ lw_all := lw_g (lw_at lw_m14 217 rfl) rfl
theorem q3469 : (Jvm.Cond.fieldLink "RenamedWordsModel" (54 : Nat) "RenamedWordsModel" "third" "[I") ∈ lw_all := lw_g (lw_at lw_m14 218 rfl) rfl
theorem q3470 : (Jvm.Cond.fieldLink "RenamedWordsModel" (57 : Nat) "RenamedWordsModel" "closers" "[I") ∈ lw_all := lw_g (lw_at lw_m14 219 rfl) rfl
theorem q3471 : (Jvm.Cond.fieldLink "RenamedWordsModel" (60 : Nat) "RenamedWordsModel" "begun" "[I") ∈ lw_all := lw_g (lw_at lw_m14 220 rfl) rfl
theorem q3472 : (Jvm.Cond.fieldLink "RenamedWordsModel" (63 : Nat) "RenamedWordsModel" "left" "[I") ∈ lw_all := lw_g (lw_at lw_m14 221 rfl) rfl
theorem q3473 : (Jvm.Cond.fieldLink "RenamedWordsModel" (286 : Nat) "RenamedWordsModel" "lines" "I") ∈ lw_all := lw_g (lw_at lw_m14 222 rfl) rfl
theorem q3474 : (Jvm.Cond.fieldLink "RenamedWordsModel" (298 : Nat) "RenamedWordsModel" "told" "I") ∈ lw_all := lw_g (lw_at lw_m14 223 rfl) rfl
theorem q3475 : (Jvm.Cond.fieldLink "RenamedWordsModel" (310 : Nat) "RenamedWordsModel" "opened" "I") ∈ lw_all := lw_g (lw_at lw_m14 224 rfl) rfl
theorem q3476 : (Jvm.Cond.fieldLink "RenamedWordsModel" (66 : Nat) "RenamedWordsModel" "page" "[I") ∈ lw_all := lw_g (lw_at lw_m14 225 rfl) rfl
theorem q3477 : (Jvm.Cond.fieldLink "RenamedWordsModel" (433 : Nat) "RenamedWordsModel" "pageMany" "I") ∈ lw_all := lw_g (lw_at lw_m14 226 rfl) rfl
theorem q3478 : (Jvm.Cond.laysFinal "RenamedWordsModel" "RenamedWordsModel" "w" "[I") ∈ lw_all := lw_g (lw_at lw_m14 227 rfl) rfl
theorem q3479 : (Jvm.Cond.soleField "RenamedWordsModel" "w") ∈ lw_all := lw_g (lw_at lw_m14 228 rfl) rfl
theorem q3480 : (Jvm.Cond.laysFinal "RenamedWordsModel" "RenamedWordsModel" "other" "[I") ∈ lw_all := lw_g (lw_at lw_m14 229 rfl) rfl
theorem q3481 : (Jvm.Cond.soleField "RenamedWordsModel" "other") ∈ lw_all := lw_g (lw_at lw_m14 230 rfl) rfl
theorem q3482 : (Jvm.Cond.laysFinal "RenamedWordsModel" "RenamedWordsModel" "ahead" "[I") ∈ lw_all := lw_g (lw_at lw_m14 231 rfl) rfl
theorem q3483 : (Jvm.Cond.soleField "RenamedWordsModel" "ahead") ∈ lw_all := lw_g (lw_at lw_m14 232 rfl) rfl
theorem q3484 : (Jvm.Cond.laysFinal "RenamedWordsModel" "RenamedWordsModel" "past" "[I") ∈ lw_all := lw_g (lw_at lw_m14 233 rfl) rfl
theorem q3485 : (Jvm.Cond.soleField "RenamedWordsModel" "past") ∈ lw_all := lw_g (lw_at lw_m14 234 rfl) rfl
theorem q3486 : (Jvm.Cond.laysFinal "RenamedWordsModel" "RenamedWordsModel" "kept" "[I") ∈ lw_all := lw_g (lw_at lw_m14 235 rfl) rfl
theorem q3487 : (Jvm.Cond.soleField "RenamedWordsModel" "kept") ∈ lw_all := lw_g (lw_at lw_m14 236 rfl) rfl
theorem q3488 : (Jvm.Cond.laysFinal "RenamedWordsModel" "RenamedWordsModel" "isKept" "[Z") ∈ lw_all := lw_g (lw_at lw_m14 237 rfl) rfl
theorem q3489 : (Jvm.Cond.soleField "RenamedWordsModel" "isKept") ∈ lw_all := lw_g (lw_at lw_m14 238 rfl) rfl
theorem q3490 : (Jvm.Cond.lays "RenamedWordsModel" "RenamedWordsModel" "undos" "I") ∈ lw_all := lw_g (lw_at lw_m14 239 rfl) rfl
theorem q3491 : (Jvm.Cond.soleField "RenamedWordsModel" "undos") ∈ lw_all := lw_g (lw_at lw_m15 0 rfl) rfl
theorem q3492 : (Jvm.Cond.lays "RenamedWordsModel" "RenamedWordsModel" "thrown" "I") ∈ lw_all := lw_g (lw_at lw_m15 1 rfl) rfl
theorem q3493 : (Jvm.Cond.soleField "RenamedWordsModel" "thrown") ∈ lw_all := lw_g (lw_at lw_m15 2 rfl) rfl
theorem q3494 : (Jvm.Cond.laysFinal "RenamedWordsModel" "RenamedWordsModel" "often" "[I") ∈ lw_all := lw_g (lw_at lw_m15 3 rfl) rfl
theorem q3495 : (Jvm.Cond.soleField "RenamedWordsModel" "often") ∈ lw_all := lw_g (lw_at lw_m15 4 rfl) rfl
theorem q3496 : (Jvm.Cond.laysFinal "RenamedWordsModel" "RenamedWordsModel" "oftenThen" "[I") ∈ lw_all := lw_g (lw_at lw_m15 5 rfl) rfl
theorem q3497 : (Jvm.Cond.soleField "RenamedWordsModel" "oftenThen") ∈ lw_all := lw_g (lw_at lw_m15 6 rfl) rfl
theorem q3498 : (Jvm.Cond.laysFinal "RenamedWordsModel" "RenamedWordsModel" "soMany" "[I") ∈ lw_all := lw_g (lw_at lw_m15 7 rfl) rfl
theorem q3499 : (Jvm.Cond.soleField "RenamedWordsModel" "soMany") ∈ lw_all := lw_g (lw_at lw_m15 8 rfl) rfl
theorem q3500 : (Jvm.Cond.laysFinal "RenamedWordsModel" "RenamedWordsModel" "buffer" "[I") ∈ lw_all := lw_g (lw_at lw_m15 9 rfl) rfl
theorem q3501 : (Jvm.Cond.soleField "RenamedWordsModel" "buffer") ∈ lw_all := lw_g (lw_at lw_m15 10 rfl) rfl
theorem q3502 : (Jvm.Cond.lays "RenamedWordsModel" "RenamedWordsModel" "filled" "I") ∈ lw_all := lw_g (lw_at lw_m15 11 rfl) rfl
theorem q3503 : (Jvm.Cond.soleField "RenamedWordsModel" "filled") ∈ lw_all := lw_g (lw_at lw_m15 12 rfl) rfl
theorem q3504 : (Jvm.Cond.lays "RenamedWordsModel" "RenamedWordsModel" "begin" "I") ∈ lw_all := lw_g (lw_at lw_m15 13 rfl) rfl
theorem q3505 : (Jvm.Cond.soleField "RenamedWordsModel" "begin") ∈ lw_all := lw_g (lw_at lw_m15 14 rfl) rfl
theorem q3506 : (Jvm.Cond.lays "RenamedWordsModel" "RenamedWordsModel" "next" "I") ∈ lw_all := lw_g (lw_at lw_m15 15 rfl) rfl
theorem q3507 : (Jvm.Cond.soleField "RenamedWordsModel" "next") ∈ lw_all := lw_g (lw_at lw_m15 16 rfl) rfl
theorem q3508 : (Jvm.Cond.lays "RenamedWordsModel" "RenamedWordsModel" "token" "I") ∈ lw_all := lw_g (lw_at lw_m15 17 rfl) rfl
theorem q3509 : (Jvm.Cond.soleField "RenamedWordsModel" "token") ∈ lw_all := lw_g (lw_at lw_m15 18 rfl) rfl
theorem q3510 : (Jvm.Cond.lays "RenamedWordsModel" "RenamedWordsModel" "value" "I") ∈ lw_all := lw_g (lw_at lw_m15 19 rfl) rfl
theorem q3511 : (Jvm.Cond.soleField "RenamedWordsModel" "value") ∈ lw_all := lw_g (lw_at lw_m15 20 rfl) rfl
theorem q3512 : (Jvm.Cond.lays "RenamedWordsModel" "RenamedWordsModel" "error" "I") ∈ lw_all := lw_g (lw_at lw_m15 21 rfl) rfl
theorem q3513 : (Jvm.Cond.soleField "RenamedWordsModel" "error") ∈ lw_all := lw_g (lw_at lw_m15 22 rfl) rfl
theorem q3514 : (Jvm.Cond.lays "RenamedWordsModel" "RenamedWordsModel" "errorAt" "I") ∈ lw_all := lw_g (lw_at lw_m15 23 rfl) rfl
theorem q3515 : (Jvm.Cond.soleField "RenamedWordsModel" "errorAt") ∈ lw_all := lw_g (lw_at lw_m15 24 rfl) rfl
theorem q3516 : (Jvm.Cond.lays "RenamedWordsModel" "RenamedWordsModel" "lastError" "I") ∈ lw_all := lw_g (lw_at lw_m15 25 rfl) rfl
theorem q3517 : (Jvm.Cond.soleField "RenamedWordsModel" "lastError") ∈ lw_all := lw_g (lw_at lw_m15 26 rfl) rfl
theorem q3518 : (Jvm.Cond.lays "RenamedWordsModel" "RenamedWordsModel" "toldOnce" "I") ∈ lw_all := lw_g (lw_at lw_m15 27 rfl) rfl
theorem q3519 : (Jvm.Cond.soleField "RenamedWordsModel" "toldOnce") ∈ lw_all := lw_g (lw_at lw_m15 28 rfl) rfl
theorem q3520 : (Jvm.Cond.lays "RenamedWordsModel" "RenamedWordsModel" "ends" "Z") ∈ lw_all := lw_g (lw_at lw_m15 29 rfl) rfl
theorem q3521 : (Jvm.Cond.soleField "RenamedWordsModel" "ends") ∈ lw_all := lw_g (lw_at lw_m15 30 rfl) rfl
theorem q3522 : (Jvm.Cond.laysFinal "RenamedWordsModel" "RenamedWordsModel" "orders" "[I") ∈ lw_all := lw_g (lw_at lw_m15 31 rfl) rfl
theorem q3523 : (Jvm.Cond.soleField "RenamedWordsModel" "orders") ∈ lw_all := lw_g (lw_at lw_m15 32 rfl) rfl
theorem q3524 : (Jvm.Cond.laysFinal "RenamedWordsModel" "RenamedWordsModel" "first" "[I") ∈ lw_all := lw_g (lw_at lw_m15 33 rfl) rfl
theorem q3525 : (Jvm.Cond.soleField "RenamedWordsModel" "first") ∈ lw_all := lw_g (lw_at lw_m15 34 rfl) rfl
theorem q3526 : (Jvm.Cond.laysFinal "RenamedWordsModel" "RenamedWordsModel" "second" "[I") ∈ lw_all := lw_g (lw_at lw_m15 35 rfl) rfl
theorem q3527 : (Jvm.Cond.soleField "RenamedWordsModel" "second") ∈ lw_all := lw_g (lw_at lw_m15 36 rfl) rfl
theorem q3528 : (Jvm.Cond.laysFinal "RenamedWordsModel" "RenamedWordsModel" "third" "[I") ∈ lw_all := lw_g (lw_at lw_m15 37 rfl) rfl
theorem q3529 : (Jvm.Cond.soleField "RenamedWordsModel" "third") ∈ lw_all := lw_g (lw_at lw_m15 38 rfl) rfl
theorem q3530 : (Jvm.Cond.laysFinal "RenamedWordsModel" "RenamedWordsModel" "closers" "[I") ∈ lw_all := lw_g (lw_at lw_m15 39 rfl) rfl
theorem q3531 : (Jvm.Cond.soleField "RenamedWordsModel" "closers") ∈ lw_all := lw_g (lw_at lw_m15 40 rfl) rfl
theorem q3532 : (Jvm.Cond.laysFinal "RenamedWordsModel" "RenamedWordsModel" "begun" "[I") ∈ lw_all := lw_g (lw_at lw_m15 41 rfl) rfl
theorem q3533 : (Jvm.Cond.soleField "RenamedWordsModel" "begun") ∈ lw_all := lw_g (lw_at lw_m15 42 rfl) rfl
theorem q3534 : (Jvm.Cond.laysFinal "RenamedWordsModel" "RenamedWordsModel" "left" "[I") ∈ lw_all := lw_g (lw_at lw_m15 43 rfl) rfl
theorem q3535 : (Jvm.Cond.soleField "RenamedWordsModel" "left") ∈ lw_all := lw_g (lw_at lw_m15 44 rfl) rfl
theorem q3536 : (Jvm.Cond.lays "RenamedWordsModel" "RenamedWordsModel" "lines" "I") ∈ lw_all := lw_g (lw_at lw_m15 45 rfl) rfl
theorem q3537 : (Jvm.Cond.soleField "RenamedWordsModel" "lines") ∈ lw_all := lw_g (lw_at lw_m15 46 rfl) rfl
theorem q3538 : (Jvm.Cond.lays "RenamedWordsModel" "RenamedWordsModel" "told" "I") ∈ lw_all := lw_g (lw_at lw_m15 47 rfl) rfl
theorem q3539 : (Jvm.Cond.soleField "RenamedWordsModel" "told") ∈ lw_all := lw_g (lw_at lw_m15 48 rfl) rfl
theorem q3540 : (Jvm.Cond.lays "RenamedWordsModel" "RenamedWordsModel" "opened" "I") ∈ lw_all := lw_g (lw_at lw_m15 49 rfl) rfl
theorem q3541 : (Jvm.Cond.soleField "RenamedWordsModel" "opened") ∈ lw_all := lw_g (lw_at lw_m15 50 rfl) rfl
theorem q3542 : (Jvm.Cond.laysFinal "RenamedWordsModel" "RenamedWordsModel" "page" "[I") ∈ lw_all := lw_g (lw_at lw_m15 51 rfl) rfl
theorem q3543 : (Jvm.Cond.soleField "RenamedWordsModel" "page") ∈ lw_all := lw_g (lw_at lw_m15 52 rfl) rfl
theorem q3544 : (Jvm.Cond.lays "RenamedWordsModel" "RenamedWordsModel" "pageMany" "I") ∈ lw_all := lw_g (lw_at lw_m15 53 rfl) rfl
theorem q3545 : (Jvm.Cond.soleField "RenamedWordsModel" "pageMany") ∈ lw_all := lw_g (lw_at lw_m15 54 rfl) rfl
theorem q3546 : (Jvm.Cond.superclass "RenamedWordsModel" "java/lang/Object") ∈ lw_all := lw_g (lw_at lw_m15 55 rfl) rfl
theorem q3549 : (Jvm.Cond.instanceMethod ({ cls := "RenamedWordsModel", name := "thrown", desc := "()I" } : Jvm.MethodName)) ∈ lw_all := lw_g (lw_at lw_m15 58 rfl) rfl
theorem q3550 : (Jvm.Cond.selects "RenamedWordsModel" ({ cls := "RenamedWordsModel", name := "thrown", desc := "()I" } : Jvm.MethodName) ({ cls := "RenamedWordsModel", name := "thrown", desc := "()I" } : Jvm.MethodName)) ∈ lw_all := lw_g (lw_at lw_m15 59 rfl) rfl
theorem q3551 : (Jvm.Cond.code ({ cls := "RenamedWordsModel", name := "thrown", desc := "()I" } : Jvm.MethodName) prog_29_method_2_code (1 : Nat) (Option.some Jvm.ClassFile.FieldType.int)) ∈ lw_all := lw_g (lw_at lw_m15 60 rfl) rfl
theorem q3553 : (Jvm.Cond.instanceMethod ({ cls := "RenamedWordsModel", name := "feed", desc := "(IIIII)I" } : Jvm.MethodName)) ∈ lw_all := lw_g (lw_at lw_m15 62 rfl) rfl
theorem q3554 : (Jvm.Cond.selects "RenamedWordsModel" ({ cls := "RenamedWordsModel", name := "feed", desc := "(IIIII)I" } : Jvm.MethodName) ({ cls := "RenamedWordsModel", name := "feed", desc := "(IIIII)I" } : Jvm.MethodName)) ∈ lw_all := lw_g (lw_at lw_m15 63 rfl) rfl
theorem q3555 : (Jvm.Cond.code ({ cls := "RenamedWordsModel", name := "feed", desc := "(IIIII)I" } : Jvm.MethodName) prog_29_method_36_code (6 : Nat) (Option.some Jvm.ClassFile.FieldType.int)) ∈ lw_all := lw_g (lw_at lw_m15 64 rfl) rfl
theorem q3556 : (Jvm.Cond.methodLink "RenamedWordsModel" (151 : Nat) ({ cls := "RenamedWordsModel", name := "bytesIn", desc := "(I)I" } : Jvm.MethodName)) ∈ lw_all := lw_g (lw_at lw_m15 65 rfl) rfl
theorem q3557 : (Jvm.Cond.static ({ cls := "RenamedWordsModel", name := "bytesIn", desc := "(I)I" } : Jvm.MethodName)) ∈ lw_all := lw_g (lw_at lw_m15 66 rfl) rfl
theorem q3558 : (Jvm.Cond.code ({ cls := "RenamedWordsModel", name := "bytesIn", desc := "(I)I" } : Jvm.MethodName) prog_29_method_35_code (1 : Nat) (Option.some Jvm.ClassFile.FieldType.int)) ∈ lw_all := lw_g (lw_at lw_m15 67 rfl) rfl
theorem q3559 : (Jvm.Cond.methodLink "RenamedWordsModel" (113 : Nat) ({ cls := "RenamedWordsModel", name := "one", desc := "(Z)I" } : Jvm.MethodName)) ∈ lw_all := lw_g (lw_at lw_m15 68 rfl) rfl
theorem q3560 : (Jvm.Cond.static ({ cls := "RenamedWordsModel", name := "one", desc := "(Z)I" } : Jvm.MethodName)) ∈ lw_all := lw_g (lw_at lw_m15 69 rfl) rfl
theorem q3561 : (Jvm.Cond.code ({ cls := "RenamedWordsModel", name := "one", desc := "(Z)I" } : Jvm.MethodName) prog_29_method_4_code (1 : Nat) (Option.some Jvm.ClassFile.FieldType.int)) ∈ lw_all := lw_g (lw_at lw_m15 70 rfl) rfl
theorem q3562 : (Jvm.Cond.methodLink "RenamedWordsModel" (154 : Nat) ({ cls := "RenamedWordsModel", name := "feeds", desc := "(I)V" } : Jvm.MethodName)) ∈ lw_all := lw_g (lw_at lw_m15 71 rfl) rfl
theorem q3563 : (Jvm.Cond.privateMethod ({ cls := "RenamedWordsModel", name := "feeds", desc := "(I)V" } : Jvm.MethodName)) ∈ lw_tbl := lw_at lw_m15 72 rfl
theorem q3564 : (Jvm.Cond.instanceMethod ({ cls := "RenamedWordsModel", name := "feeds", desc := "(I)V" } : Jvm.MethodName)) ∈ lw_all := lw_g (lw_at lw_m15 73 rfl) rfl
theorem q3565 : (Jvm.Cond.code ({ cls := "RenamedWordsModel", name := "feeds", desc := "(I)V" } : Jvm.MethodName) prog_29_method_34_code (4 : Nat) (Option.none : Option Jvm.ClassFile.FieldType)) ∈ lw_all := lw_g (lw_at lw_m15 74 rfl) rfl
theorem q3567 : (Jvm.Cond.instanceMethod ({ cls := "RenamedWordsModel", name := "load", desc := "()I" } : Jvm.MethodName)) ∈ lw_all := lw_g (lw_at lw_m15 76 rfl) rfl
theorem q3568 : (Jvm.Cond.selects "RenamedWordsModel" ({ cls := "RenamedWordsModel", name := "load", desc := "()I" } : Jvm.MethodName) ({ cls := "RenamedWordsModel", name := "load", desc := "()I" } : Jvm.MethodName)) ∈ lw_all := lw_g (lw_at lw_m15 77 rfl) rfl
theorem q3569 : (Jvm.Cond.code ({ cls := "RenamedWordsModel", name := "load", desc := "()I" } : Jvm.MethodName) prog_29_method_56_code (2 : Nat) (Option.some Jvm.ClassFile.FieldType.int)) ∈ lw_all := lw_g (lw_at lw_m15 78 rfl) rfl
theorem q3570 : (Jvm.Cond.methodLink "RenamedWordsModel" (252 : Nat) ({ cls := "RenamedWordsModel", name := "aside", desc := "()V" } : Jvm.MethodName)) ∈ lw_all := lw_g (lw_at lw_m15 79 rfl) rfl
theorem q3571 : (Jvm.Cond.privateMethod ({ cls := "RenamedWordsModel", name := "aside", desc := "()V" } : Jvm.MethodName)) ∈ lw_tbl := lw_at lw_m15 80 rfl
theorem q3572 : (Jvm.Cond.instanceMethod ({ cls := "RenamedWordsModel", name := "aside", desc := "()V" } : Jvm.MethodName)) ∈ lw_all := lw_g (lw_at lw_m15 81 rfl) rfl
theorem q3573 : (Jvm.Cond.code ({ cls := "RenamedWordsModel", name := "aside", desc := "()V" } : Jvm.MethodName) prog_29_method_32_code (1 : Nat) (Option.none : Option Jvm.ClassFile.FieldType)) ∈ lw_all := lw_g (lw_at lw_m15 82 rfl) rfl
theorem q3574 : (Jvm.Cond.methodLink "RenamedWordsModel" (144 : Nat) ({ cls := "RenamedWordsModel", name := "lays", desc := "([II[II)V" } : Jvm.MethodName)) ∈ lw_all := lw_g (lw_at lw_m15 83 rfl) rfl
theorem q3575 : (Jvm.Cond.static ({ cls := "RenamedWordsModel", name := "lays", desc := "([II[II)V" } : Jvm.MethodName)) ∈ lw_all := lw_g (lw_at lw_m15 84 rfl) rfl
theorem q3576 : (Jvm.Cond.code ({ cls := "RenamedWordsModel", name := "lays", desc := "([II[II)V" } : Jvm.MethodName) prog_29_method_6_code (5 : Nat) (Option.none : Option Jvm.ClassFile.FieldType)) ∈ lw_all := lw_g (lw_at lw_m15 85 rfl) rfl
theorem q3577 : (Jvm.Cond.methodLink "RenamedWordsModel" (255 : Nat) ({ cls := "RenamedWordsModel", name := "setup", desc := "()V" } : Jvm.MethodName)) ∈ lw_all := lw_g (lw_at lw_m15 86 rfl) rfl
theorem q3578 : (Jvm.Cond.privateMethod ({ cls := "RenamedWordsModel", name := "setup", desc := "()V" } : Jvm.MethodName)) ∈ lw_tbl := lw_at lw_m15 87 rfl
theorem q3579 : (Jvm.Cond.instanceMethod ({ cls := "RenamedWordsModel", name := "setup", desc := "()V" } : Jvm.MethodName)) ∈ lw_all := lw_g (lw_at lw_m15 88 rfl) rfl
theorem q3580 : (Jvm.Cond.code ({ cls := "RenamedWordsModel", name := "setup", desc := "()V" } : Jvm.MethodName) prog_29_method_54_code (2 : Nat) (Option.none : Option Jvm.ClassFile.FieldType)) ∈ lw_all := lw_g (lw_at lw_m15 89 rfl) rfl
theorem q3581 : (Jvm.Cond.methodLink "RenamedWordsModel" (206 : Nat) ({ cls := "RenamedWordsModel", name := "advance", desc := "()V" } : Jvm.MethodName)) ∈ lw_all := lw_g (lw_at lw_m15 90 rfl) rfl
theorem q3582 : (Jvm.Cond.privateMethod ({ cls := "RenamedWordsModel", name := "advance", desc := "()V" } : Jvm.MethodName)) ∈ lw_tbl := lw_at lw_m15 91 rfl
theorem q3583 : (Jvm.Cond.instanceMethod ({ cls := "RenamedWordsModel", name := "advance", desc := "()V" } : Jvm.MethodName)) ∈ lw_all := lw_g (lw_at lw_m15 92 rfl) rfl
theorem q3584 : (Jvm.Cond.code ({ cls := "RenamedWordsModel", name := "advance", desc := "()V" } : Jvm.MethodName) prog_29_method_40_code (2 : Nat) (Option.none : Option Jvm.ClassFile.FieldType)) ∈ lw_all := lw_g (lw_at lw_m15 93 rfl) rfl
theorem q3585 : (Jvm.Cond.methodLink "RenamedWordsModel" (157 : Nat) ({ cls := "RenamedWordsModel", name := "byteAt", desc := "(I)I" } : Jvm.MethodName)) ∈ lw_all := lw_g (lw_at lw_m15 94 rfl) rfl
theorem q3586 : (Jvm.Cond.privateMethod ({ cls := "RenamedWordsModel", name := "byteAt", desc := "(I)I" } : Jvm.MethodName)) ∈ lw_tbl := lw_at lw_m15 95 rfl
theorem q3587 : (Jvm.Cond.instanceMethod ({ cls := "RenamedWordsModel", name := "byteAt", desc := "(I)I" } : Jvm.MethodName)) ∈ lw_all := lw_g (lw_at lw_m15 96 rfl) rfl
theorem q3588 : (Jvm.Cond.code ({ cls := "RenamedWordsModel", name := "byteAt", desc := "(I)I" } : Jvm.MethodName) prog_29_method_37_code (2 : Nat) (Option.some Jvm.ClassFile.FieldType.int)) ∈ lw_all := lw_g (lw_at lw_m15 97 rfl) rfl
theorem q3589 : (Jvm.Cond.methodLink "RenamedWordsModel" (175 : Nat) ({ cls := "RenamedWordsModel", name := "isLetterAt", desc := "(I)Z" } : Jvm.MethodName)) ∈ lw_all := lw_g (lw_at lw_m15 98 rfl) rfl
theorem q3590 : (Jvm.Cond.privateMethod ({ cls := "RenamedWordsModel", name := "isLetterAt", desc := "(I)Z" } : Jvm.MethodName)) ∈ lw_tbl := lw_at lw_m15 99 rfl
theorem q3591 : (Jvm.Cond.instanceMethod ({ cls := "RenamedWordsModel", name := "isLetterAt", desc := "(I)Z" } : Jvm.MethodName)) ∈ lw_all := lw_g (lw_at lw_m15 100 rfl) rfl
theorem q3592 : (Jvm.Cond.code ({ cls := "RenamedWordsModel", name := "isLetterAt", desc := "(I)Z" } : Jvm.MethodName) prog_29_method_38_code (2 : Nat) (Option.some Jvm.ClassFile.FieldType.boolean)) ∈ lw_all := lw_g (lw_at lw_m15 101 rfl) rfl
theorem q3593 : (Jvm.Cond.methodLink "RenamedWordsModel" (160 : Nat) ({ cls := "RenamedWordsModel", name := "in", desc := "(III)Z" } : Jvm.MethodName)) ∈ lw_all := lw_g (lw_at lw_m15 102 rfl) rfl
theorem q3594 : (Jvm.Cond.static ({ cls := "RenamedWordsModel", name := "in", desc := "(III)Z" } : Jvm.MethodName)) ∈ lw_all := lw_g (lw_at lw_m15 103 rfl) rfl
theorem q3595 : (Jvm.Cond.code ({ cls := "RenamedWordsModel", name := "in", desc := "(III)Z" } : Jvm.MethodName) prog_29_method_3_code (3 : Nat) (Option.some Jvm.ClassFile.FieldType.boolean)) ∈ lw_all := lw_g (lw_at lw_m15 104 rfl) rfl
theorem q3596 : (Jvm.Cond.methodLink "RenamedWordsModel" (178 : Nat) ({ cls := "RenamedWordsModel", name := "isDigitAt", desc := "(I)Z" } : Jvm.MethodName)) ∈ lw_all := lw_g (lw_at lw_m15 105 rfl) rfl
theorem q3597 : (Jvm.Cond.privateMethod ({ cls := "RenamedWordsModel", name := "isDigitAt", desc := "(I)Z" } : Jvm.MethodName)) ∈ lw_tbl := lw_at lw_m15 106 rfl
theorem q3598 : (Jvm.Cond.instanceMethod ({ cls := "RenamedWordsModel", name := "isDigitAt", desc := "(I)Z" } : Jvm.MethodName)) ∈ lw_all := lw_g (lw_at lw_m15 107 rfl) rfl
theorem q3599 : (Jvm.Cond.code ({ cls := "RenamedWordsModel", name := "isDigitAt", desc := "(I)Z" } : Jvm.MethodName) prog_29_method_39_code (2 : Nat) (Option.some Jvm.ClassFile.FieldType.boolean)) ∈ lw_all := lw_g (lw_at lw_m15 108 rfl) rfl
theorem q3600 : (Jvm.Cond.constant "RenamedWordsModel" (181 : Nat) (1000000 : Int32)) ∈ lw_all := lw_g (lw_at lw_m15 109 rfl) rfl
theorem q3601 : (Jvm.Cond.stringRef "RenamedWordsModel" (229 : Nat) "text") ∈ lw_tbl := lw_at lw_m15 110 rfl
theorem q3602 : (Jvm.Cond.methodLink "RenamedWordsModel" (231 : Nat) ({ cls := "RenamedWordsModel", name := "isKey", desc := "(Ljava/lang/String;)Z" } : Jvm.MethodName)) ∈ lw_all := lw_g (lw_at lw_m15 111 rfl) rfl
theorem q3603 : (Jvm.Cond.privateMethod ({ cls := "RenamedWordsModel", name := "isKey", desc := "(Ljava/lang/String;)Z" } : Jvm.MethodName)) ∈ lw_tbl := lw_at lw_m15 112 rfl
theorem q3604 : (Jvm.Cond.instanceMethod ({ cls := "RenamedWordsModel", name := "isKey", desc := "(Ljava/lang/String;)Z" } : Jvm.MethodName)) ∈ lw_all := lw_g (lw_at lw_m15 113 rfl) rfl
theorem q3605 : (Jvm.Cond.code ({ cls := "RenamedWordsModel", name := "isKey", desc := "(Ljava/lang/String;)Z" } : Jvm.MethodName) prog_29_method_43_code (3 : Nat) (Option.some Jvm.ClassFile.FieldType.boolean)) ∈ lw_all := lw_g (lw_at lw_m15 114 rfl) rfl
theorem q3606 : (Jvm.Cond.methodLink "RenamedWordsModel" (188 : Nat) ({ cls := "RenamedWordsModel", name := "length", desc := "()I" } : Jvm.MethodName)) ∈ lw_all := lw_g (lw_at lw_m15 115 rfl) rfl
theorem q3607 : (Jvm.Cond.privateMethod ({ cls := "RenamedWordsModel", name := "length", desc := "()I" } : Jvm.MethodName)) ∈ lw_tbl := lw_at lw_m15 116 rfl
theorem q3608 : (Jvm.Cond.instanceMethod ({ cls := "RenamedWordsModel", name := "length", desc := "()I" } : Jvm.MethodName)) ∈ lw_all := lw_g (lw_at lw_m15 117 rfl) rfl
theorem q3609 : (Jvm.Cond.code ({ cls := "RenamedWordsModel", name := "length", desc := "()I" } : Jvm.MethodName) prog_29_method_42_code (1 : Nat) (Option.some Jvm.ClassFile.FieldType.int)) ∈ lw_all := lw_g (lw_at lw_m15 118 rfl) rfl
theorem q3610 : (Jvm.Cond.methodLink "RenamedWordsModel" (192 : Nat) ({ cls := "java/lang/String", name := "length", desc := "()I" } : Jvm.MethodName)) ∈ lw_all := lw_g (lw_at lw_m15 119 rfl) rfl
theorem q3611 : (Jvm.Cond.methodLink "RenamedWordsModel" (195 : Nat) ({ cls := "java/lang/String", name := "charAt", desc := "(I)C" } : Jvm.MethodName)) ∈ lw_all := lw_g (lw_at lw_m15 120 rfl) rfl
theorem q3612 : (Jvm.Cond.methodLink "RenamedWordsModel" (202 : Nat) ({ cls := "RenamedWordsModel", name := "faulty", desc := "(ZI)Z" } : Jvm.MethodName)) ∈ lw_all := lw_g (lw_at lw_m15 121 rfl) rfl
theorem q3613 : (Jvm.Cond.privateMethod ({ cls := "RenamedWordsModel", name := "faulty", desc := "(ZI)Z" } : Jvm.MethodName)) ∈ lw_tbl := lw_at lw_m15 122 rfl
theorem q3614 : (Jvm.Cond.instanceMethod ({ cls := "RenamedWordsModel", name := "faulty", desc := "(ZI)Z" } : Jvm.MethodName)) ∈ lw_all := lw_g (lw_at lw_m15 123 rfl) rfl
theorem q3615 : (Jvm.Cond.code ({ cls := "RenamedWordsModel", name := "faulty", desc := "(ZI)Z" } : Jvm.MethodName) prog_29_method_41_code (3 : Nat) (Option.some Jvm.ClassFile.FieldType.boolean)) ∈ lw_all := lw_g (lw_at lw_m15 124 rfl) rfl
theorem q3616 : (Jvm.Cond.methodLink "RenamedWordsModel" (235 : Nat) ({ cls := "RenamedWordsModel", name := "textWord", desc := "()V" } : Jvm.MethodName)) ∈ lw_all := lw_g (lw_at lw_m15 125 rfl) rfl
theorem q3617 : (Jvm.Cond.privateMethod ({ cls := "RenamedWordsModel", name := "textWord", desc := "()V" } : Jvm.MethodName)) ∈ lw_tbl := lw_at lw_m15 126 rfl
theorem q3618 : (Jvm.Cond.instanceMethod ({ cls := "RenamedWordsModel", name := "textWord", desc := "()V" } : Jvm.MethodName)) ∈ lw_all := lw_g (lw_at lw_m15 127 rfl) rfl
theorem q3619 : (Jvm.Cond.code ({ cls := "RenamedWordsModel", name := "textWord", desc := "()V" } : Jvm.MethodName) prog_29_method_51_code (2 : Nat) (Option.none : Option Jvm.ClassFile.FieldType)) ∈ lw_all := lw_g (lw_at lw_m15 128 rfl) rfl
theorem q3620 : (Jvm.Cond.methodLink "RenamedWordsModel" (199 : Nat) ({ cls := "RenamedWordsModel", name := "isSign", desc := "(I)Z" } : Jvm.MethodName)) ∈ lw_all := lw_g (lw_at lw_m15 129 rfl) rfl
theorem q3621 : (Jvm.Cond.privateMethod ({ cls := "RenamedWordsModel", name := "isSign", desc := "(I)Z" } : Jvm.MethodName)) ∈ lw_tbl := lw_at lw_m15 130 rfl
theorem q3622 : (Jvm.Cond.instanceMethod ({ cls := "RenamedWordsModel", name := "isSign", desc := "(I)Z" } : Jvm.MethodName)) ∈ lw_all := lw_g (lw_at lw_m15 131 rfl) rfl
theorem q3623 : (Jvm.Cond.code ({ cls := "RenamedWordsModel", name := "isSign", desc := "(I)Z" } : Jvm.MethodName) prog_29_method_44_code (2 : Nat) (Option.some Jvm.ClassFile.FieldType.boolean)) ∈ lw_all := lw_g (lw_at lw_m15 132 rfl) rfl
theorem q3624 : (Jvm.Cond.stringRef "RenamedWordsModel" (238 : Nat) "pattern") ∈ lw_tbl := lw_at lw_m15 133 rfl
theorem q3625 : (Jvm.Cond.methodLink "RenamedWordsModel" (240 : Nat) ({ cls := "RenamedWordsModel", name := "newPattern", desc := "()V" } : Jvm.MethodName)) ∈ lw_all := lw_g (lw_at lw_m15 134 rfl) rfl
theorem q3626 : (Jvm.Cond.privateMethod ({ cls := "RenamedWordsModel", name := "newPattern", desc := "()V" } : Jvm.MethodName)) ∈ lw_tbl := lw_at lw_m15 135 rfl
theorem q3627 : (Jvm.Cond.instanceMethod ({ cls := "RenamedWordsModel", name := "newPattern", desc := "()V" } : Jvm.MethodName)) ∈ lw_all := lw_g (lw_at lw_m15 136 rfl) rfl
theorem q3628 : (Jvm.Cond.code ({ cls := "RenamedWordsModel", name := "newPattern", desc := "()V" } : Jvm.MethodName) prog_29_method_52_code (3 : Nat) (Option.none : Option Jvm.ClassFile.FieldType)) ∈ lw_all := lw_g (lw_at lw_m15 137 rfl) rfl
theorem q3629 : (Jvm.Cond.methodLink "RenamedWordsModel" (212 : Nat) ({ cls := "RenamedWordsModel", name := "noName", desc := "()Z" } : Jvm.MethodName)) ∈ lw_all := lw_g (lw_at lw_m15 138 rfl) rfl
theorem q3630 : (Jvm.Cond.privateMethod ({ cls := "RenamedWordsModel", name := "noName", desc := "()Z" } : Jvm.MethodName)) ∈ lw_tbl := lw_at lw_m15 139 rfl
theorem q3631 : (Jvm.Cond.instanceMethod ({ cls := "RenamedWordsModel", name := "noName", desc := "()Z" } : Jvm.MethodName)) ∈ lw_all := lw_g (lw_at lw_m15 140 rfl) rfl
theorem q3632 : (Jvm.Cond.code ({ cls := "RenamedWordsModel", name := "noName", desc := "()Z" } : Jvm.MethodName) prog_29_method_49_code (1 : Nat) (Option.some Jvm.ClassFile.FieldType.boolean)) ∈ lw_all := lw_g (lw_at lw_m15 141 rfl) rfl
theorem q3633 : (Jvm.Cond.methodLink "RenamedWordsModel" (216 : Nat) ({ cls := "RenamedWordsModel", name := "found", desc := "()I" } : Jvm.MethodName)) ∈ lw_all := lw_g (lw_at lw_m15 142 rfl) rfl
theorem q3634 : (Jvm.Cond.privateMethod ({ cls := "RenamedWordsModel", name := "found", desc := "()I" } : Jvm.MethodName)) ∈ lw_tbl := lw_at lw_m15 143 rfl
theorem q3635 : (Jvm.Cond.instanceMethod ({ cls := "RenamedWordsModel", name := "found", desc := "()I" } : Jvm.MethodName)) ∈ lw_all := lw_g (lw_at lw_m15 144 rfl) rfl
theorem q3636 : (Jvm.Cond.code ({ cls := "RenamedWordsModel", name := "found", desc := "()I" } : Jvm.MethodName) prog_29_method_48_code (2 : Nat) (Option.some Jvm.ClassFile.FieldType.int)) ∈ lw_all := lw_g (lw_at lw_m15 145 rfl) rfl
theorem q3637 : (Jvm.Cond.methodLink "RenamedWordsModel" (209 : Nat) ({ cls := "RenamedWordsModel", name := "isName", desc := "(I)Z" } : Jvm.MethodName)) ∈ lw_all := lw_g (lw_at lw_m15 146 rfl) rfl
theorem q3638 : (Jvm.Cond.privateMethod ({ cls := "RenamedWordsModel", name := "isName", desc := "(I)Z" } : Jvm.MethodName)) ∈ lw_tbl := lw_at lw_m15 147 rfl
theorem q3639 : (Jvm.Cond.instanceMethod ({ cls := "RenamedWordsModel", name := "isName", desc := "(I)Z" } : Jvm.MethodName)) ∈ lw_all := lw_g (lw_at lw_m15 148 rfl) rfl
theorem q3640 : (Jvm.Cond.code ({ cls := "RenamedWordsModel", name := "isName", desc := "(I)Z" } : Jvm.MethodName) prog_29_method_47_code (4 : Nat) (Option.some Jvm.ClassFile.FieldType.boolean)) ∈ lw_all := lw_g (lw_at lw_m15 149 rfl) rfl
theorem q3641 : (Jvm.Cond.methodLink "RenamedWordsModel" (219 : Nat) ({ cls := "RenamedWordsModel", name := "puts", desc := "(III)V" } : Jvm.MethodName)) ∈ lw_all := lw_g (lw_at lw_m15 150 rfl) rfl
theorem q3642 : (Jvm.Cond.privateMethod ({ cls := "RenamedWordsModel", name := "puts", desc := "(III)V" } : Jvm.MethodName)) ∈ lw_tbl := lw_at lw_m15 151 rfl
theorem q3643 : (Jvm.Cond.instanceMethod ({ cls := "RenamedWordsModel", name := "puts", desc := "(III)V" } : Jvm.MethodName)) ∈ lw_all := lw_g (lw_at lw_m15 152 rfl) rfl
theorem q3644 : (Jvm.Cond.code ({ cls := "RenamedWordsModel", name := "puts", desc := "(III)V" } : Jvm.MethodName) prog_29_method_8_code (4 : Nat) (Option.none : Option Jvm.ClassFile.FieldType)) ∈ lw_all := lw_g (lw_at lw_m15 153 rfl) rfl
theorem q3645 : (Jvm.Cond.stringRef "RenamedWordsModel" (243 : Nat) "firm") ∈ lw_tbl := lw_at lw_m15 154 rfl
theorem q3646 : (Jvm.Cond.methodLink "RenamedWordsModel" (245 : Nat) ({ cls := "RenamedWordsModel", name := "firm0", desc := "()V" } : Jvm.MethodName)) ∈ lw_all := lw_g (lw_at lw_m15 155 rfl) rfl
theorem q3647 : (Jvm.Cond.privateMethod ({ cls := "RenamedWordsModel", name := "firm0", desc := "()V" } : Jvm.MethodName)) ∈ lw_tbl := lw_at lw_m15 156 rfl
theorem q3648 : (Jvm.Cond.instanceMethod ({ cls := "RenamedWordsModel", name := "firm0", desc := "()V" } : Jvm.MethodName)) ∈ lw_all := lw_g (lw_at lw_m15 157 rfl) rfl
theorem q3649 : (Jvm.Cond.code ({ cls := "RenamedWordsModel", name := "firm0", desc := "()V" } : Jvm.MethodName) prog_29_method_53_code (1 : Nat) (Option.none : Option Jvm.ClassFile.FieldType)) ∈ lw_all := lw_g (lw_at lw_m15 158 rfl) rfl
theorem q3650 : (Jvm.Cond.methodLink "RenamedWordsModel" (226 : Nat) ({ cls := "RenamedWordsModel", name := "number", desc := "(II)I" } : Jvm.MethodName)) ∈ lw_all := lw_g (lw_at lw_m15 159 rfl) rfl
theorem q3651 : (Jvm.Cond.privateMethod ({ cls := "RenamedWordsModel", name := "number", desc := "(II)I" } : Jvm.MethodName)) ∈ lw_tbl := lw_at lw_m15 160 rfl
theorem q3652 : (Jvm.Cond.instanceMethod ({ cls := "RenamedWordsModel", name := "number", desc := "(II)I" } : Jvm.MethodName)) ∈ lw_all := lw_g (lw_at lw_m15 161 rfl) rfl
theorem q3653 : (Jvm.Cond.code ({ cls := "RenamedWordsModel", name := "number", desc := "(II)I" } : Jvm.MethodName) prog_29_method_46_code (4 : Nat) (Option.some Jvm.ClassFile.FieldType.int)) ∈ lw_all := lw_g (lw_at lw_m15 162 rfl) rfl
theorem q3654 : (Jvm.Cond.methodLink "RenamedWordsModel" (258 : Nat) ({ cls := "RenamedWordsModel", name := "ended", desc := "()I" } : Jvm.MethodName)) ∈ lw_all := lw_g (lw_at lw_m15 163 rfl) rfl
theorem q3655 : (Jvm.Cond.privateMethod ({ cls := "RenamedWordsModel", name := "ended", desc := "()I" } : Jvm.MethodName)) ∈ lw_tbl := lw_at lw_m15 164 rfl
theorem q3656 : (Jvm.Cond.instanceMethod ({ cls := "RenamedWordsModel", name := "ended", desc := "()I" } : Jvm.MethodName)) ∈ lw_all := lw_g (lw_at lw_m15 165 rfl) rfl
theorem q3657 : (Jvm.Cond.code ({ cls := "RenamedWordsModel", name := "ended", desc := "()I" } : Jvm.MethodName) prog_29_method_55_code (1 : Nat) (Option.some Jvm.ClassFile.FieldType.int)) ∈ lw_all := lw_g (lw_at lw_m15 166 rfl) rfl
theorem q3658 : (Jvm.Cond.methodLink "RenamedWordsModel" (261 : Nat) ({ cls := "RenamedWordsModel", name := "back0", desc := "(I)I" } : Jvm.MethodName)) ∈ lw_all := lw_g (lw_at lw_m15 167 rfl) rfl
theorem q3659 : (Jvm.Cond.privateMethod ({ cls := "RenamedWordsModel", name := "back0", desc := "(I)I" } : Jvm.MethodName)) ∈ lw_tbl := lw_at lw_m15 168 rfl
theorem q3660 : (Jvm.Cond.instanceMethod ({ cls := "RenamedWordsModel", name := "back0", desc := "(I)I" } : Jvm.MethodName)) ∈ lw_all := lw_g (lw_at lw_m15 169 rfl) rfl
theorem q3661 : (Jvm.Cond.code ({ cls := "RenamedWordsModel", name := "back0", desc := "(I)I" } : Jvm.MethodName) prog_29_method_33_code (2 : Nat) (Option.some Jvm.ClassFile.FieldType.int)) ∈ lw_all := lw_g (lw_at lw_m15 170 rfl) rfl
theorem q3663 : (Jvm.Cond.instanceMethod ({ cls := "RenamedWordsModel", name := "errorPosition", desc := "()I" } : Jvm.MethodName)) ∈ lw_all := lw_g (lw_at lw_m15 172 rfl) rfl
theorem q3664 : (Jvm.Cond.selects "RenamedWordsModel" ({ cls := "RenamedWordsModel", name := "errorPosition", desc := "()I" } : Jvm.MethodName) ({ cls := "RenamedWordsModel", name := "errorPosition", desc := "()I" } : Jvm.MethodName)) ∈ lw_all := lw_g (lw_at lw_m15 173 rfl) rfl
theorem q3665 : (Jvm.Cond.code ({ cls := "RenamedWordsModel", name := "errorPosition", desc := "()I" } : Jvm.MethodName) prog_29_method_57_code (1 : Nat) (Option.some Jvm.ClassFile.FieldType.int)) ∈ lw_all := lw_g (lw_at lw_m15 174 rfl) rfl
theorem q3667 : (Jvm.Cond.instanceMethod ({ cls := "RenamedWordsModel", name := "play", desc := "()I" } : Jvm.MethodName)) ∈ lw_all := lw_g (lw_at lw_m15 176 rfl) rfl
theorem q3668 : (Jvm.Cond.selects "RenamedWordsModel" ({ cls := "RenamedWordsModel", name := "play", desc := "()I" } : Jvm.MethodName) ({ cls := "RenamedWordsModel", name := "play", desc := "()I" } : Jvm.MethodName)) ∈ lw_all := lw_g (lw_at lw_m15 177 rfl) rfl
theorem q3669 : (Jvm.Cond.code ({ cls := "RenamedWordsModel", name := "play", desc := "()I" } : Jvm.MethodName) prog_29_method_69_code (2 : Nat) (Option.some Jvm.ClassFile.FieldType.int)) ∈ lw_all := lw_g (lw_at lw_m15 178 rfl) rfl
theorem q3670 : (Jvm.Cond.methodLink "RenamedWordsModel" (350 : Nat) ({ cls := "RenamedWordsModel", name := "script", desc := "()V" } : Jvm.MethodName)) ∈ lw_all := lw_g (lw_at lw_m15 179 rfl) rfl
theorem q3671 : (Jvm.Cond.privateMethod ({ cls := "RenamedWordsModel", name := "script", desc := "()V" } : Jvm.MethodName)) ∈ lw_tbl := lw_at lw_m15 180 rfl
theorem q3672 : (Jvm.Cond.instanceMethod ({ cls := "RenamedWordsModel", name := "script", desc := "()V" } : Jvm.MethodName)) ∈ lw_all := lw_g (lw_at lw_m15 181 rfl) rfl
theorem q3673 : (Jvm.Cond.code ({ cls := "RenamedWordsModel", name := "script", desc := "()V" } : Jvm.MethodName) prog_29_method_65_code (1 : Nat) (Option.none : Option Jvm.ClassFile.FieldType)) ∈ lw_all := lw_g (lw_at lw_m15 182 rfl) rfl
theorem q3674 : (Jvm.Cond.methodLink "RenamedWordsModel" (313 : Nat) ({ cls := "RenamedWordsModel", name := "readsOrder", desc := "()V" } : Jvm.MethodName)) ∈ lw_all := lw_g (lw_at lw_m15 183 rfl) rfl
theorem q3675 : (Jvm.Cond.privateMethod ({ cls := "RenamedWordsModel", name := "readsOrder", desc := "()V" } : Jvm.MethodName)) ∈ lw_tbl := lw_at lw_m15 184 rfl
theorem q3676 : (Jvm.Cond.instanceMethod ({ cls := "RenamedWordsModel", name := "readsOrder", desc := "()V" } : Jvm.MethodName)) ∈ lw_all := lw_g (lw_at lw_m15 185 rfl) rfl
theorem q3677 : (Jvm.Cond.code ({ cls := "RenamedWordsModel", name := "readsOrder", desc := "()V" } : Jvm.MethodName) prog_29_method_63_code (2 : Nat) (Option.none : Option Jvm.ClassFile.FieldType)) ∈ lw_all := lw_g (lw_at lw_m15 186 rfl) rfl
theorem q3678 : (Jvm.Cond.methodLink "RenamedWordsModel" (295 : Nat) ({ cls := "RenamedWordsModel", name := "orderHere", desc := "()I" } : Jvm.MethodName)) ∈ lw_all := lw_g (lw_at lw_m15 187 rfl) rfl
theorem q3679 : (Jvm.Cond.privateMethod ({ cls := "RenamedWordsModel", name := "orderHere", desc := "()I" } : Jvm.MethodName)) ∈ lw_tbl := lw_at lw_m15 188 rfl
theorem q3680 : (Jvm.Cond.instanceMethod ({ cls := "RenamedWordsModel", name := "orderHere", desc := "()I" } : Jvm.MethodName)) ∈ lw_all := lw_g (lw_at lw_m15 189 rfl) rfl
theorem q3681 : (Jvm.Cond.code ({ cls := "RenamedWordsModel", name := "orderHere", desc := "()I" } : Jvm.MethodName) prog_29_method_58_code (1 : Nat) (Option.some Jvm.ClassFile.FieldType.int)) ∈ lw_all := lw_g (lw_at lw_m15 190 rfl) rfl
theorem q3682 : (Jvm.Cond.stringRef "RenamedWordsModel" (267 : Nat) "put") ∈ lw_tbl := lw_at lw_m15 191 rfl
theorem q3683 : (Jvm.Cond.stringRef "RenamedWordsModel" (269 : Nat) "insert") ∈ lw_tbl := lw_at lw_m15 192 rfl
theorem q3684 : (Jvm.Cond.stringRef "RenamedWordsModel" (271 : Nat) "erase") ∈ lw_tbl := lw_at lw_m15 193 rfl
theorem q3685 : (Jvm.Cond.stringRef "RenamedWordsModel" (273 : Nat) "mark") ∈ lw_tbl := lw_at lw_m15 194 rfl
theorem q3686 : (Jvm.Cond.stringRef "RenamedWordsModel" (275 : Nat) "unmark") ∈ lw_tbl := lw_at lw_m15 195 rfl
theorem q3687 : (Jvm.Cond.stringRef "RenamedWordsModel" (277 : Nat) "swap") ∈ lw_tbl := lw_at lw_m15 196 rfl
theorem q3688 : (Jvm.Cond.stringRef "RenamedWordsModel" (279 : Nat) "take") ∈ lw_tbl := lw_at lw_m15 197 rfl
theorem q3689 : (Jvm.Cond.stringRef "RenamedWordsModel" (281 : Nat) "again") ∈ lw_tbl := lw_at lw_m15 198 rfl
theorem q3690 : (Jvm.Cond.methodLink "RenamedWordsModel" (301 : Nat) ({ cls := "RenamedWordsModel", name := "firstHere", desc := "(I)I" } : Jvm.MethodName)) ∈ lw_all := lw_g (lw_at lw_m15 199 rfl) rfl
theorem q3691 : (Jvm.Cond.privateMethod ({ cls := "RenamedWordsModel", name := "firstHere", desc := "(I)I" } : Jvm.MethodName)) ∈ lw_tbl := lw_at lw_m15 200 rfl
theorem q3692 : (Jvm.Cond.instanceMethod ({ cls := "RenamedWordsModel", name := "firstHere", desc := "(I)I" } : Jvm.MethodName)) ∈ lw_all := lw_g (lw_at lw_m15 201 rfl) rfl
theorem q3693 : (Jvm.Cond.code ({ cls := "RenamedWordsModel", name := "firstHere", desc := "(I)I" } : Jvm.MethodName) prog_29_method_59_code (2 : Nat) (Option.some Jvm.ClassFile.FieldType.int)) ∈ lw_all := lw_g (lw_at lw_m15 202 rfl) rfl
theorem q3694 : (Jvm.Cond.methodLink "RenamedWordsModel" (283 : Nat) ({ cls := "RenamedWordsModel", name := "named", desc := "()I" } : Jvm.MethodName)) ∈ lw_all := lw_g (lw_at lw_m15 203 rfl) rfl
theorem q3695 : (Jvm.Cond.privateMethod ({ cls := "RenamedWordsModel", name := "named", desc := "()I" } : Jvm.MethodName)) ∈ lw_tbl := lw_at lw_m15 204 rfl
theorem q3696 : (Jvm.Cond.instanceMethod ({ cls := "RenamedWordsModel", name := "named", desc := "()I" } : Jvm.MethodName)) ∈ lw_all := lw_g (lw_at lw_m15 205 rfl) rfl
theorem q3697 : (Jvm.Cond.code ({ cls := "RenamedWordsModel", name := "named", desc := "()I" } : Jvm.MethodName) prog_29_method_50_code (2 : Nat) (Option.some Jvm.ClassFile.FieldType.int)) ∈ lw_all := lw_g (lw_at lw_m15 206 rfl) rfl
theorem q3698 : (Jvm.Cond.methodLink "RenamedWordsModel" (304 : Nat) ({ cls := "RenamedWordsModel", name := "restHere", desc := "(I)V" } : Jvm.MethodName)) ∈ lw_all := lw_g (lw_at lw_m15 207 rfl) rfl
theorem q3699 : (Jvm.Cond.privateMethod ({ cls := "RenamedWordsModel", name := "restHere", desc := "(I)V" } : Jvm.MethodName)) ∈ lw_tbl := lw_at lw_m15 208 rfl
theorem q3700 : (Jvm.Cond.instanceMethod ({ cls := "RenamedWordsModel", name := "restHere", desc := "(I)V" } : Jvm.MethodName)) ∈ lw_all := lw_g (lw_at lw_m15 209 rfl) rfl
theorem q3701 : (Jvm.Cond.code ({ cls := "RenamedWordsModel", name := "restHere", desc := "(I)V" } : Jvm.MethodName) prog_29_method_62_code (2 : Nat) (Option.none : Option Jvm.ClassFile.FieldType)) ∈ lw_all := lw_g (lw_at lw_m15 210 rfl) rfl
theorem q3702 : (Jvm.Cond.methodLink "RenamedWordsModel" (289 : Nat) ({ cls := "RenamedWordsModel", name := "lettersHere", desc := "()I" } : Jvm.MethodName)) ∈ lw_all := lw_g (lw_at lw_m15 211 rfl) rfl
theorem q3703 : (Jvm.Cond.privateMethod ({ cls := "RenamedWordsModel", name := "lettersHere", desc := "()I" } : Jvm.MethodName)) ∈ lw_tbl := lw_at lw_m15 212 rfl
theorem q3704 : (Jvm.Cond.instanceMethod ({ cls := "RenamedWordsModel", name := "lettersHere", desc := "()I" } : Jvm.MethodName)) ∈ lw_all := lw_g (lw_at lw_m15 213 rfl) rfl
theorem q3705 : (Jvm.Cond.code ({ cls := "RenamedWordsModel", name := "lettersHere", desc := "()I" } : Jvm.MethodName) prog_29_method_60_code (2 : Nat) (Option.some Jvm.ClassFile.FieldType.int)) ∈ lw_all := lw_g (lw_at lw_m15 214 rfl) rfl
theorem q3706 : (Jvm.Cond.methodLink "RenamedWordsModel" (292 : Nat) ({ cls := "RenamedWordsModel", name := "twoHere", desc := "()I" } : Jvm.MethodName)) ∈ lw_all := lw_g (lw_at lw_m15 215 rfl) rfl
theorem q3707 : (Jvm.Cond.privateMethod ({ cls := "RenamedWordsModel", name := "twoHere", desc := "()I" } : Jvm.MethodName)) ∈ lw_tbl := lw_at lw_m15 216 rfl
theorem q3708 : (Jvm.Cond.instanceMethod ({ cls := "RenamedWordsModel", name := "twoHere", desc := "()I" } : Jvm.MethodName)) ∈ lw_all := lw_g (lw_at lw_m15 217 rfl) rfl
theorem q3709 : (Jvm.Cond.code ({ cls := "RenamedWordsModel", name := "twoHere", desc := "()I" } : Jvm.MethodName) prog_29_method_61_code (2 : Nat) (Option.some Jvm.ClassFile.FieldType.int)) ∈ lw_all := lw_g (lw_at lw_m15 218 rfl) rfl
theorem q3710 : (Jvm.Cond.methodLink "RenamedWordsModel" (307 : Nat) ({ cls := "RenamedWordsModel", name := "takesSign", desc := "(I)V" } : Jvm.MethodName)) ∈ lw_all := lw_g (lw_at lw_m15 219 rfl) rfl
theorem q3711 : (Jvm.Cond.privateMethod ({ cls := "RenamedWordsModel", name := "takesSign", desc := "(I)V" } : Jvm.MethodName)) ∈ lw_tbl := lw_at lw_m15 220 rfl
theorem q3712 : (Jvm.Cond.instanceMethod ({ cls := "RenamedWordsModel", name := "takesSign", desc := "(I)V" } : Jvm.MethodName)) ∈ lw_all := lw_g (lw_at lw_m15 221 rfl) rfl
theorem q3713 : (Jvm.Cond.code ({ cls := "RenamedWordsModel", name := "takesSign", desc := "(I)V" } : Jvm.MethodName) prog_29_method_45_code (2 : Nat) (Option.none : Option Jvm.ClassFile.FieldType)) ∈ lw_all := lw_g (lw_at lw_m15 222 rfl) rfl
theorem q3714 : (Jvm.Cond.methodLink "RenamedWordsModel" (101 : Nat) ({ cls := "java/lang/Math", name := "min", desc := "(II)I" } : Jvm.MethodName)) ∈ lw_all := lw_g (lw_at lw_m15 223 rfl) rfl
theorem q3715 : (Jvm.Cond.methodLink "RenamedWordsModel" (316 : Nat) ({ cls := "RenamedWordsModel", name := "closes", desc := "()V" } : Jvm.MethodName)) ∈ lw_all := lw_g (lw_at lw_m15 224 rfl) rfl
theorem q3716 : (Jvm.Cond.privateMethod ({ cls := "RenamedWordsModel", name := "closes", desc := "()V" } : Jvm.MethodName)) ∈ lw_tbl := lw_at lw_m15 225 rfl
theorem q3717 : (Jvm.Cond.instanceMethod ({ cls := "RenamedWordsModel", name := "closes", desc := "()V" } : Jvm.MethodName)) ∈ lw_all := lw_g (lw_at lw_m15 226 rfl) rfl
theorem q3718 : (Jvm.Cond.code ({ cls := "RenamedWordsModel", name := "closes", desc := "()V" } : Jvm.MethodName) prog_29_method_64_code (1 : Nat) (Option.none : Option Jvm.ClassFile.FieldType)) ∈ lw_all := lw_g (lw_at lw_m15 227 rfl) rfl
theorem q3719 : (Jvm.Cond.methodLink "RenamedWordsModel" (353 : Nat) ({ cls := "RenamedWordsModel", name := "remembers", desc := "([I)V" } : Jvm.MethodName)) ∈ lw_all := lw_g (lw_at lw_m15 228 rfl) rfl
theorem q3720 : (Jvm.Cond.privateMethod ({ cls := "RenamedWordsModel", name := "remembers", desc := "([I)V" } : Jvm.MethodName)) ∈ lw_tbl := lw_at lw_m15 229 rfl
theorem q3721 : (Jvm.Cond.instanceMethod ({ cls := "RenamedWordsModel", name := "remembers", desc := "([I)V" } : Jvm.MethodName)) ∈ lw_all := lw_g (lw_at lw_m15 230 rfl) rfl
theorem q3722 : (Jvm.Cond.code ({ cls := "RenamedWordsModel", name := "remembers", desc := "([I)V" } : Jvm.MethodName) prog_29_method_114_code (3 : Nat) (Option.none : Option Jvm.ClassFile.FieldType)) ∈ lw_all := lw_g (lw_at lw_m15 231 rfl) rfl
theorem q3723 : (Jvm.Cond.methodLink "RenamedWordsModel" (357 : Nat) ({ cls := "RenamedWordsModel", name := "plays", desc := "()I" } : Jvm.MethodName)) ∈ lw_all := lw_g (lw_at lw_m15 232 rfl) rfl
theorem q3724 : (Jvm.Cond.privateMethod ({ cls := "RenamedWordsModel", name := "plays", desc := "()I" } : Jvm.MethodName)) ∈ lw_tbl := lw_at lw_m15 233 rfl
theorem q3725 : (Jvm.Cond.instanceMethod ({ cls := "RenamedWordsModel", name := "plays", desc := "()I" } : Jvm.MethodName)) ∈ lw_all := lw_g (lw_at lw_m15 234 rfl) rfl
theorem q3726 : (Jvm.Cond.code ({ cls := "RenamedWordsModel", name := "plays", desc := "()I" } : Jvm.MethodName) prog_29_method_68_code (4 : Nat) (Option.some Jvm.ClassFile.FieldType.int)) ∈ lw_all := lw_g (lw_at lw_m15 235 rfl) rfl
theorem q3727 : (Jvm.Cond.methodLink "RenamedWordsModel" (347 : Nat) ({ cls := "RenamedWordsModel", name := "does", desc := "(I)I" } : Jvm.MethodName)) ∈ lw_all := lw_g (lw_at lw_m15 236 rfl) rfl
theorem q3728 : (Jvm.Cond.privateMethod ({ cls := "RenamedWordsModel", name := "does", desc := "(I)I" } : Jvm.MethodName)) ∈ lw_tbl := lw_at lw_m15 237 rfl
theorem q3729 : (Jvm.Cond.instanceMethod ({ cls := "RenamedWordsModel", name := "does", desc := "(I)I" } : Jvm.MethodName)) ∈ lw_all := lw_g (lw_at lw_m15 238 rfl) rfl
theorem q3730 : (Jvm.Cond.code ({ cls := "RenamedWordsModel", name := "does", desc := "(I)I" } : Jvm.MethodName) prog_29_method_67_code (5 : Nat) (Option.some Jvm.ClassFile.FieldType.int)) ∈ lw_all := lw_g (lw_at lw_m15 239 rfl) rfl
theorem q3731 : (Jvm.Cond.methodLink "RenamedWordsModel" (328 : Nat) ({ cls := "RenamedWordsModel", name := "doesMany", desc := "(IIII)I" } : Jvm.MethodName)) ∈ lw_all := lw_g (lw_at lw_m16 0 rfl) rfl
theorem q3732 : (Jvm.Cond.privateMethod ({ cls := "RenamedWordsModel", name := "doesMany", desc := "(IIII)I" } : Jvm.MethodName)) ∈ lw_tbl := lw_at lw_m16 1 rfl
theorem q3733 : (Jvm.Cond.instanceMethod ({ cls := "RenamedWordsModel", name := "doesMany", desc := "(IIII)I" } : Jvm.MethodName)) ∈ lw_all := lw_g (lw_at lw_m16 2 rfl) rfl
theorem q3734 : (Jvm.Cond.code ({ cls := "RenamedWordsModel", name := "doesMany", desc := "(IIII)I" } : Jvm.MethodName) prog_29_method_66_code (7 : Nat) (Option.some Jvm.ClassFile.FieldType.int)) ∈ lw_all := lw_g (lw_at lw_m16 3 rfl) rfl
theorem q3735 : (Jvm.Cond.methodLink "RenamedWordsModel" (319 : Nat) ({ cls := "RenamedWordsModel", name := "eraseNow", desc := "(I)I" } : Jvm.MethodName)) ∈ lw_all := lw_g (lw_at lw_m16 4 rfl) rfl
theorem q3736 : (Jvm.Cond.privateMethod ({ cls := "RenamedWordsModel", name := "eraseNow", desc := "(I)I" } : Jvm.MethodName)) ∈ lw_tbl := lw_at lw_m16 5 rfl
theorem q3737 : (Jvm.Cond.instanceMethod ({ cls := "RenamedWordsModel", name := "eraseNow", desc := "(I)I" } : Jvm.MethodName)) ∈ lw_all := lw_g (lw_at lw_m16 6 rfl) rfl
theorem q3738 : (Jvm.Cond.code ({ cls := "RenamedWordsModel", name := "eraseNow", desc := "(I)I" } : Jvm.MethodName) prog_29_method_108_code (3 : Nat) (Option.some Jvm.ClassFile.FieldType.int)) ∈ lw_all := lw_g (lw_at lw_m16 7 rfl) rfl
theorem q3739 : (Jvm.Cond.methodLink "RenamedWordsModel" (140 : Nat) ({ cls := "RenamedWordsModel", name := "counts", desc := "(II)V" } : Jvm.MethodName)) ∈ lw_all := lw_g (lw_at lw_m16 8 rfl) rfl
theorem q3740 : (Jvm.Cond.privateMethod ({ cls := "RenamedWordsModel", name := "counts", desc := "(II)V" } : Jvm.MethodName)) ∈ lw_tbl := lw_at lw_m16 9 rfl
theorem q3741 : (Jvm.Cond.instanceMethod ({ cls := "RenamedWordsModel", name := "counts", desc := "(II)V" } : Jvm.MethodName)) ∈ lw_all := lw_g (lw_at lw_m16 10 rfl) rfl
theorem q3742 : (Jvm.Cond.code ({ cls := "RenamedWordsModel", name := "counts", desc := "(II)V" } : Jvm.MethodName) prog_29_method_9_code (3 : Nat) (Option.none : Option Jvm.ClassFile.FieldType)) ∈ lw_all := lw_g (lw_at lw_m16 11 rfl) rfl
theorem q3743 : (Jvm.Cond.methodLink "RenamedWordsModel" (421 : Nat) ({ cls := "RenamedWordsModel", name := "shifts", desc := "(II)V" } : Jvm.MethodName)) ∈ lw_all := lw_g (lw_at lw_m16 12 rfl) rfl
theorem q3744 : (Jvm.Cond.privateMethod ({ cls := "RenamedWordsModel", name := "shifts", desc := "(II)V" } : Jvm.MethodName)) ∈ lw_tbl := lw_at lw_m16 13 rfl
theorem q3745 : (Jvm.Cond.instanceMethod ({ cls := "RenamedWordsModel", name := "shifts", desc := "(II)V" } : Jvm.MethodName)) ∈ lw_all := lw_g (lw_at lw_m16 14 rfl) rfl
theorem q3746 : (Jvm.Cond.code ({ cls := "RenamedWordsModel", name := "shifts", desc := "(II)V" } : Jvm.MethodName) prog_29_method_30_code (4 : Nat) (Option.none : Option Jvm.ClassFile.FieldType)) ∈ lw_all := lw_g (lw_at lw_m16 15 rfl) rfl
theorem q3747 : (Jvm.Cond.methodLink "RenamedWordsModel" (124 : Nat) ({ cls := "RenamedWordsModel", name := "markPlace", desc := "(I)I" } : Jvm.MethodName)) ∈ lw_all := lw_g (lw_at lw_m16 16 rfl) rfl
theorem q3748 : (Jvm.Cond.privateMethod ({ cls := "RenamedWordsModel", name := "markPlace", desc := "(I)I" } : Jvm.MethodName)) ∈ lw_tbl := lw_at lw_m16 17 rfl
theorem q3749 : (Jvm.Cond.instanceMethod ({ cls := "RenamedWordsModel", name := "markPlace", desc := "(I)I" } : Jvm.MethodName)) ∈ lw_all := lw_g (lw_at lw_m16 18 rfl) rfl
theorem q3750 : (Jvm.Cond.code ({ cls := "RenamedWordsModel", name := "markPlace", desc := "(I)I" } : Jvm.MethodName) prog_29_method_24_code (2 : Nat) (Option.some Jvm.ClassFile.FieldType.int)) ∈ lw_all := lw_g (lw_at lw_m16 19 rfl) rfl
theorem q3751 : (Jvm.Cond.methodLink "RenamedWordsModel" (418 : Nat) ({ cls := "RenamedWordsModel", name := "cleans", desc := "()V" } : Jvm.MethodName)) ∈ lw_all := lw_g (lw_at lw_m16 20 rfl) rfl
theorem q3752 : (Jvm.Cond.privateMethod ({ cls := "RenamedWordsModel", name := "cleans", desc := "()V" } : Jvm.MethodName)) ∈ lw_tbl := lw_at lw_m16 21 rfl
theorem q3753 : (Jvm.Cond.instanceMethod ({ cls := "RenamedWordsModel", name := "cleans", desc := "()V" } : Jvm.MethodName)) ∈ lw_all := lw_g (lw_at lw_m16 22 rfl) rfl
theorem q3754 : (Jvm.Cond.code ({ cls := "RenamedWordsModel", name := "cleans", desc := "()V" } : Jvm.MethodName) prog_29_method_29_code (3 : Nat) (Option.none : Option Jvm.ClassFile.FieldType)) ∈ lw_all := lw_g (lw_at lw_m16 23 rfl) rfl
theorem q3755 : (Jvm.Cond.methodLink "RenamedWordsModel" (133 : Nat) ({ cls := "RenamedWordsModel", name := "isRight", desc := "(I)Z" } : Jvm.MethodName)) ∈ lw_all := lw_g (lw_at lw_m16 24 rfl) rfl
theorem q3756 : (Jvm.Cond.privateMethod ({ cls := "RenamedWordsModel", name := "isRight", desc := "(I)Z" } : Jvm.MethodName)) ∈ lw_tbl := lw_at lw_m16 25 rfl
theorem q3757 : (Jvm.Cond.instanceMethod ({ cls := "RenamedWordsModel", name := "isRight", desc := "(I)Z" } : Jvm.MethodName)) ∈ lw_all := lw_g (lw_at lw_m16 26 rfl) rfl
theorem q3758 : (Jvm.Cond.code ({ cls := "RenamedWordsModel", name := "isRight", desc := "(I)Z" } : Jvm.MethodName) prog_29_method_28_code (2 : Nat) (Option.some Jvm.ClassFile.FieldType.boolean)) ∈ lw_all := lw_g (lw_at lw_m16 27 rfl) rfl
theorem q3759 : (Jvm.Cond.methodLink "RenamedWordsModel" (127 : Nat) ({ cls := "RenamedWordsModel", name := "markPattern", desc := "(I)I" } : Jvm.MethodName)) ∈ lw_all := lw_g (lw_at lw_m16 28 rfl) rfl
theorem q3760 : (Jvm.Cond.privateMethod ({ cls := "RenamedWordsModel", name := "markPattern", desc := "(I)I" } : Jvm.MethodName)) ∈ lw_tbl := lw_at lw_m16 29 rfl
theorem q3761 : (Jvm.Cond.instanceMethod ({ cls := "RenamedWordsModel", name := "markPattern", desc := "(I)I" } : Jvm.MethodName)) ∈ lw_all := lw_g (lw_at lw_m16 30 rfl) rfl
theorem q3762 : (Jvm.Cond.code ({ cls := "RenamedWordsModel", name := "markPattern", desc := "(I)I" } : Jvm.MethodName) prog_29_method_25_code (2 : Nat) (Option.some Jvm.ClassFile.FieldType.int)) ∈ lw_all := lw_g (lw_at lw_m16 31 rfl) rfl
theorem q3763 : (Jvm.Cond.methodLink "RenamedWordsModel" (109 : Nat) ({ cls := "RenamedWordsModel", name := "isThere", desc := "(II)Z" } : Jvm.MethodName)) ∈ lw_all := lw_g (lw_at lw_m16 32 rfl) rfl
theorem q3764 : (Jvm.Cond.privateMethod ({ cls := "RenamedWordsModel", name := "isThere", desc := "(II)Z" } : Jvm.MethodName)) ∈ lw_tbl := lw_at lw_m16 33 rfl
theorem q3765 : (Jvm.Cond.instanceMethod ({ cls := "RenamedWordsModel", name := "isThere", desc := "(II)Z" } : Jvm.MethodName)) ∈ lw_all := lw_g (lw_at lw_m16 34 rfl) rfl
theorem q3766 : (Jvm.Cond.code ({ cls := "RenamedWordsModel", name := "isThere", desc := "(II)Z" } : Jvm.MethodName) prog_29_method_19_code (3 : Nat) (Option.some Jvm.ClassFile.FieldType.boolean)) ∈ lw_all := lw_g (lw_at lw_m16 35 rfl) rfl
theorem q3767 : (Jvm.Cond.methodLink "RenamedWordsModel" (106 : Nat) ({ cls := "RenamedWordsModel", name := "matched", desc := "(II)I" } : Jvm.MethodName)) ∈ lw_all := lw_g (lw_at lw_m16 36 rfl) rfl
theorem q3768 : (Jvm.Cond.privateMethod ({ cls := "RenamedWordsModel", name := "matched", desc := "(II)I" } : Jvm.MethodName)) ∈ lw_tbl := lw_at lw_m16 37 rfl
theorem q3769 : (Jvm.Cond.instanceMethod ({ cls := "RenamedWordsModel", name := "matched", desc := "(II)I" } : Jvm.MethodName)) ∈ lw_all := lw_g (lw_at lw_m16 38 rfl) rfl
theorem q3770 : (Jvm.Cond.code ({ cls := "RenamedWordsModel", name := "matched", desc := "(II)I" } : Jvm.MethodName) prog_29_method_18_code (3 : Nat) (Option.some Jvm.ClassFile.FieldType.int)) ∈ lw_all := lw_g (lw_at lw_m16 39 rfl) rfl
theorem q3771 : (Jvm.Cond.methodLink "RenamedWordsModel" (91 : Nat) ({ cls := "RenamedWordsModel", name := "patternFrom", desc := "(I)I" } : Jvm.MethodName)) ∈ lw_all := lw_g (lw_at lw_m16 40 rfl) rfl
theorem q3772 : (Jvm.Cond.static ({ cls := "RenamedWordsModel", name := "patternFrom", desc := "(I)I" } : Jvm.MethodName)) ∈ lw_all := lw_g (lw_at lw_m16 41 rfl) rfl
theorem q3773 : (Jvm.Cond.code ({ cls := "RenamedWordsModel", name := "patternFrom", desc := "(I)I" } : Jvm.MethodName) prog_29_method_11_code (1 : Nat) (Option.some Jvm.ClassFile.FieldType.int)) ∈ lw_all := lw_g (lw_at lw_m16 42 rfl) rfl
theorem q3774 : (Jvm.Cond.methodLink "RenamedWordsModel" (95 : Nat) ({ cls := "RenamedWordsModel", name := "textFrom", desc := "(I)I" } : Jvm.MethodName)) ∈ lw_all := lw_g (lw_at lw_m16 43 rfl) rfl
theorem q3775 : (Jvm.Cond.static ({ cls := "RenamedWordsModel", name := "textFrom", desc := "(I)I" } : Jvm.MethodName)) ∈ lw_all := lw_g (lw_at lw_m16 44 rfl) rfl
theorem q3776 : (Jvm.Cond.code ({ cls := "RenamedWordsModel", name := "textFrom", desc := "(I)I" } : Jvm.MethodName) prog_29_method_10_code (1 : Nat) (Option.some Jvm.ClassFile.FieldType.int)) ∈ lw_all := lw_g (lw_at lw_m16 45 rfl) rfl
theorem q3777 : (Jvm.Cond.methodLink "RenamedWordsModel" (98 : Nat) ({ cls := "RenamedWordsModel", name := "of", desc := "(II)I" } : Jvm.MethodName)) ∈ lw_all := lw_g (lw_at lw_m16 46 rfl) rfl
theorem q3778 : (Jvm.Cond.privateMethod ({ cls := "RenamedWordsModel", name := "of", desc := "(II)I" } : Jvm.MethodName)) ∈ lw_tbl := lw_at lw_m16 47 rfl
theorem q3779 : (Jvm.Cond.instanceMethod ({ cls := "RenamedWordsModel", name := "of", desc := "(II)I" } : Jvm.MethodName)) ∈ lw_all := lw_g (lw_at lw_m16 48 rfl) rfl
theorem q3780 : (Jvm.Cond.code ({ cls := "RenamedWordsModel", name := "of", desc := "(II)I" } : Jvm.MethodName) prog_29_method_7_code (3 : Nat) (Option.some Jvm.ClassFile.FieldType.int)) ∈ lw_all := lw_g (lw_at lw_m16 49 rfl) rfl
theorem q3781 : (Jvm.Cond.methodLink "RenamedWordsModel" (83 : Nat) ({ cls := "RenamedWordsModel", name := "alikeFrom", desc := "(III)I" } : Jvm.MethodName)) ∈ lw_all := lw_g (lw_at lw_m16 50 rfl) rfl
theorem q3782 : (Jvm.Cond.privateMethod ({ cls := "RenamedWordsModel", name := "alikeFrom", desc := "(III)I" } : Jvm.MethodName)) ∈ lw_tbl := lw_at lw_m16 51 rfl
theorem q3783 : (Jvm.Cond.instanceMethod ({ cls := "RenamedWordsModel", name := "alikeFrom", desc := "(III)I" } : Jvm.MethodName)) ∈ lw_all := lw_g (lw_at lw_m16 52 rfl) rfl
theorem q3784 : (Jvm.Cond.code ({ cls := "RenamedWordsModel", name := "alikeFrom", desc := "(III)I" } : Jvm.MethodName) prog_29_method_15_code (5 : Nat) (Option.some Jvm.ClassFile.FieldType.int)) ∈ lw_all := lw_g (lw_at lw_m16 53 rfl) rfl
theorem q3785 : (Jvm.Cond.methodLink "RenamedWordsModel" (80 : Nat) ({ cls := "RenamedWordsModel", name := "signOf", desc := "(II)I" } : Jvm.MethodName)) ∈ lw_all := lw_g (lw_at lw_m16 54 rfl) rfl
theorem q3786 : (Jvm.Cond.privateMethod ({ cls := "RenamedWordsModel", name := "signOf", desc := "(II)I" } : Jvm.MethodName)) ∈ lw_tbl := lw_at lw_m16 55 rfl
theorem q3787 : (Jvm.Cond.instanceMethod ({ cls := "RenamedWordsModel", name := "signOf", desc := "(II)I" } : Jvm.MethodName)) ∈ lw_all := lw_g (lw_at lw_m16 56 rfl) rfl
theorem q3788 : (Jvm.Cond.code ({ cls := "RenamedWordsModel", name := "signOf", desc := "(II)I" } : Jvm.MethodName) prog_29_method_14_code (3 : Nat) (Option.some Jvm.ClassFile.FieldType.int)) ∈ lw_all := lw_g (lw_at lw_m16 57 rfl) rfl
theorem q3789 : (Jvm.Cond.methodLink "RenamedWordsModel" (72 : Nat) ({ cls := "RenamedWordsModel", name := "isFirm", desc := "(I)Z" } : Jvm.MethodName)) ∈ lw_all := lw_g (lw_at lw_m16 58 rfl) rfl
theorem q3790 : (Jvm.Cond.privateMethod ({ cls := "RenamedWordsModel", name := "isFirm", desc := "(I)Z" } : Jvm.MethodName)) ∈ lw_tbl := lw_at lw_m16 59 rfl
theorem q3791 : (Jvm.Cond.instanceMethod ({ cls := "RenamedWordsModel", name := "isFirm", desc := "(I)Z" } : Jvm.MethodName)) ∈ lw_all := lw_g (lw_at lw_m16 60 rfl) rfl
theorem q3792 : (Jvm.Cond.code ({ cls := "RenamedWordsModel", name := "isFirm", desc := "(I)Z" } : Jvm.MethodName) prog_29_method_12_code (2 : Nat) (Option.some Jvm.ClassFile.FieldType.boolean)) ∈ lw_all := lw_g (lw_at lw_m16 61 rfl) rfl
theorem q3793 : (Jvm.Cond.methodLink "RenamedWordsModel" (76 : Nat) ({ cls := "RenamedWordsModel", name := "backOf", desc := "(II)I" } : Jvm.MethodName)) ∈ lw_all := lw_g (lw_at lw_m16 62 rfl) rfl
theorem q3794 : (Jvm.Cond.privateMethod ({ cls := "RenamedWordsModel", name := "backOf", desc := "(II)I" } : Jvm.MethodName)) ∈ lw_tbl := lw_at lw_m16 63 rfl
theorem q3795 : (Jvm.Cond.instanceMethod ({ cls := "RenamedWordsModel", name := "backOf", desc := "(II)I" } : Jvm.MethodName)) ∈ lw_all := lw_g (lw_at lw_m16 64 rfl) rfl
theorem q3796 : (Jvm.Cond.code ({ cls := "RenamedWordsModel", name := "backOf", desc := "(II)I" } : Jvm.MethodName) prog_29_method_13_code (5 : Nat) (Option.some Jvm.ClassFile.FieldType.int)) ∈ lw_all := lw_g (lw_at lw_m16 65 rfl) rfl
theorem q3797 : (Jvm.Cond.methodLink "RenamedWordsModel" (130 : Nat) ({ cls := "RenamedWordsModel", name := "markOf", desc := "(III)I" } : Jvm.MethodName)) ∈ lw_all := lw_g (lw_at lw_m16 66 rfl) rfl
theorem q3798 : (Jvm.Cond.privateMethod ({ cls := "RenamedWordsModel", name := "markOf", desc := "(III)I" } : Jvm.MethodName)) ∈ lw_tbl := lw_at lw_m16 67 rfl
theorem q3799 : (Jvm.Cond.instanceMethod ({ cls := "RenamedWordsModel", name := "markOf", desc := "(III)I" } : Jvm.MethodName)) ∈ lw_all := lw_g (lw_at lw_m16 68 rfl) rfl
theorem q3800 : (Jvm.Cond.code ({ cls := "RenamedWordsModel", name := "markOf", desc := "(III)I" } : Jvm.MethodName) prog_29_method_27_code (5 : Nat) (Option.some Jvm.ClassFile.FieldType.int)) ∈ lw_all := lw_g (lw_at lw_m16 69 rfl) rfl
theorem q3801 : (Jvm.Cond.methodLink "RenamedWordsModel" (136 : Nat) ({ cls := "RenamedWordsModel", name := "takesOut", desc := "(I)V" } : Jvm.MethodName)) ∈ lw_all := lw_g (lw_at lw_m16 70 rfl) rfl
theorem q3802 : (Jvm.Cond.privateMethod ({ cls := "RenamedWordsModel", name := "takesOut", desc := "(I)V" } : Jvm.MethodName)) ∈ lw_tbl := lw_at lw_m16 71 rfl
theorem q3803 : (Jvm.Cond.instanceMethod ({ cls := "RenamedWordsModel", name := "takesOut", desc := "(I)V" } : Jvm.MethodName)) ∈ lw_all := lw_g (lw_at lw_m16 72 rfl) rfl
theorem q3804 : (Jvm.Cond.code ({ cls := "RenamedWordsModel", name := "takesOut", desc := "(I)V" } : Jvm.MethodName) prog_29_method_26_code (3 : Nat) (Option.none : Option Jvm.ClassFile.FieldType)) ∈ lw_all := lw_g (lw_at lw_m16 73 rfl) rfl
theorem q3805 : (Jvm.Cond.methodLink "RenamedWordsModel" (322 : Nat) ({ cls := "RenamedWordsModel", name := "putNow", desc := "(II)I" } : Jvm.MethodName)) ∈ lw_all := lw_g (lw_at lw_m16 74 rfl) rfl
theorem q3806 : (Jvm.Cond.privateMethod ({ cls := "RenamedWordsModel", name := "putNow", desc := "(II)I" } : Jvm.MethodName)) ∈ lw_tbl := lw_at lw_m16 75 rfl
theorem q3807 : (Jvm.Cond.instanceMethod ({ cls := "RenamedWordsModel", name := "putNow", desc := "(II)I" } : Jvm.MethodName)) ∈ lw_all := lw_g (lw_at lw_m16 76 rfl) rfl
theorem q3808 : (Jvm.Cond.code ({ cls := "RenamedWordsModel", name := "putNow", desc := "(II)I" } : Jvm.MethodName) prog_29_method_106_code (4 : Nat) (Option.some Jvm.ClassFile.FieldType.int)) ∈ lw_all := lw_g (lw_at lw_m16 77 rfl) rfl
theorem q3809 : (Jvm.Cond.methodLink "RenamedWordsModel" (325 : Nat) ({ cls := "RenamedWordsModel", name := "insertNow", desc := "(II)I" } : Jvm.MethodName)) ∈ lw_all := lw_g (lw_at lw_m16 78 rfl) rfl
theorem q3810 : (Jvm.Cond.privateMethod ({ cls := "RenamedWordsModel", name := "insertNow", desc := "(II)I" } : Jvm.MethodName)) ∈ lw_tbl := lw_at lw_m16 79 rfl
theorem q3811 : (Jvm.Cond.instanceMethod ({ cls := "RenamedWordsModel", name := "insertNow", desc := "(II)I" } : Jvm.MethodName)) ∈ lw_all := lw_g (lw_at lw_m16 80 rfl) rfl
theorem q3812 : (Jvm.Cond.code ({ cls := "RenamedWordsModel", name := "insertNow", desc := "(II)I" } : Jvm.MethodName) prog_29_method_107_code (4 : Nat) (Option.some Jvm.ClassFile.FieldType.int)) ∈ lw_all := lw_g (lw_at lw_m16 81 rfl) rfl
theorem q3813 : (Jvm.Cond.methodLink "RenamedWordsModel" (332 : Nat) ({ cls := "RenamedWordsModel", name := "markNow", desc := "(I)I" } : Jvm.MethodName)) ∈ lw_all := lw_g (lw_at lw_m16 82 rfl) rfl
theorem q3814 : (Jvm.Cond.privateMethod ({ cls := "RenamedWordsModel", name := "markNow", desc := "(I)I" } : Jvm.MethodName)) ∈ lw_tbl := lw_at lw_m16 83 rfl
theorem q3815 : (Jvm.Cond.instanceMethod ({ cls := "RenamedWordsModel", name := "markNow", desc := "(I)I" } : Jvm.MethodName)) ∈ lw_all := lw_g (lw_at lw_m16 84 rfl) rfl
theorem q3816 : (Jvm.Cond.code ({ cls := "RenamedWordsModel", name := "markNow", desc := "(I)I" } : Jvm.MethodName) prog_29_method_109_code (4 : Nat) (Option.some Jvm.ClassFile.FieldType.int)) ∈ lw_all := lw_g (lw_at lw_m16 85 rfl) rfl
theorem q3817 : (Jvm.Cond.methodLink "RenamedWordsModel" (335 : Nat) ({ cls := "RenamedWordsModel", name := "unmarkNow", desc := "(I)I" } : Jvm.MethodName)) ∈ lw_all := lw_g (lw_at lw_m16 86 rfl) rfl
theorem q3818 : (Jvm.Cond.privateMethod ({ cls := "RenamedWordsModel", name := "unmarkNow", desc := "(I)I" } : Jvm.MethodName)) ∈ lw_tbl := lw_at lw_m16 87 rfl
theorem q3819 : (Jvm.Cond.instanceMethod ({ cls := "RenamedWordsModel", name := "unmarkNow", desc := "(I)I" } : Jvm.MethodName)) ∈ lw_all := lw_g (lw_at lw_m16 88 rfl) rfl
theorem q3820 : (Jvm.Cond.code ({ cls := "RenamedWordsModel", name := "unmarkNow", desc := "(I)I" } : Jvm.MethodName) prog_29_method_110_code (2 : Nat) (Option.some Jvm.ClassFile.FieldType.int)) ∈ lw_all := lw_g (lw_at lw_m16 89 rfl) rfl
theorem q3821 : (Jvm.Cond.methodLink "RenamedWordsModel" (338 : Nat) ({ cls := "RenamedWordsModel", name := "swapNow", desc := "(IIII)I" } : Jvm.MethodName)) ∈ lw_all := lw_g (lw_at lw_m16 90 rfl) rfl
theorem q3822 : (Jvm.Cond.privateMethod ({ cls := "RenamedWordsModel", name := "swapNow", desc := "(IIII)I" } : Jvm.MethodName)) ∈ lw_tbl := lw_at lw_m16 91 rfl
theorem q3823 : (Jvm.Cond.instanceMethod ({ cls := "RenamedWordsModel", name := "swapNow", desc := "(IIII)I" } : Jvm.MethodName)) ∈ lw_all := lw_g (lw_at lw_m16 92 rfl) rfl
theorem q3824 : (Jvm.Cond.code ({ cls := "RenamedWordsModel", name := "swapNow", desc := "(IIII)I" } : Jvm.MethodName) prog_29_method_111_code (8 : Nat) (Option.some Jvm.ClassFile.FieldType.int)) ∈ lw_all := lw_g (lw_at lw_m16 93 rfl) rfl
theorem q3825 : (Jvm.Cond.methodLink "RenamedWordsModel" (341 : Nat) ({ cls := "RenamedWordsModel", name := "takeNow", desc := "(III)I" } : Jvm.MethodName)) ∈ lw_all := lw_g (lw_at lw_m16 94 rfl) rfl
theorem q3826 : (Jvm.Cond.privateMethod ({ cls := "RenamedWordsModel", name := "takeNow", desc := "(III)I" } : Jvm.MethodName)) ∈ lw_tbl := lw_at lw_m16 95 rfl
theorem q3827 : (Jvm.Cond.instanceMethod ({ cls := "RenamedWordsModel", name := "takeNow", desc := "(III)I" } : Jvm.MethodName)) ∈ lw_all := lw_g (lw_at lw_m16 96 rfl) rfl
theorem q3828 : (Jvm.Cond.code ({ cls := "RenamedWordsModel", name := "takeNow", desc := "(III)I" } : Jvm.MethodName) prog_29_method_112_code (5 : Nat) (Option.some Jvm.ClassFile.FieldType.int)) ∈ lw_all := lw_g (lw_at lw_m16 97 rfl) rfl
theorem q3829 : (Jvm.Cond.methodLink "RenamedWordsModel" (382 : Nat) ({ cls := "RenamedWordsModel", name := "hits", desc := "(I)I" } : Jvm.MethodName)) ∈ lw_all := lw_g (lw_at lw_m16 98 rfl) rfl
theorem q3830 : (Jvm.Cond.privateMethod ({ cls := "RenamedWordsModel", name := "hits", desc := "(I)I" } : Jvm.MethodName)) ∈ lw_tbl := lw_at lw_m16 99 rfl
theorem q3831 : (Jvm.Cond.instanceMethod ({ cls := "RenamedWordsModel", name := "hits", desc := "(I)I" } : Jvm.MethodName)) ∈ lw_all := lw_g (lw_at lw_m16 100 rfl) rfl
theorem q3832 : (Jvm.Cond.code ({ cls := "RenamedWordsModel", name := "hits", desc := "(I)I" } : Jvm.MethodName) prog_29_method_20_code (4 : Nat) (Option.some Jvm.ClassFile.FieldType.int)) ∈ lw_all := lw_g (lw_at lw_m16 101 rfl) rfl
theorem q3833 : (Jvm.Cond.methodLink "RenamedWordsModel" (344 : Nat) ({ cls := "RenamedWordsModel", name := "firmNow", desc := "(I)I" } : Jvm.MethodName)) ∈ lw_all := lw_g (lw_at lw_m16 102 rfl) rfl
theorem q3834 : (Jvm.Cond.privateMethod ({ cls := "RenamedWordsModel", name := "firmNow", desc := "(I)I" } : Jvm.MethodName)) ∈ lw_tbl := lw_at lw_m16 103 rfl
theorem q3835 : (Jvm.Cond.instanceMethod ({ cls := "RenamedWordsModel", name := "firmNow", desc := "(I)I" } : Jvm.MethodName)) ∈ lw_all := lw_g (lw_at lw_m16 104 rfl) rfl
theorem q3836 : (Jvm.Cond.code ({ cls := "RenamedWordsModel", name := "firmNow", desc := "(I)I" } : Jvm.MethodName) prog_29_method_113_code (3 : Nat) (Option.some Jvm.ClassFile.FieldType.int)) ∈ lw_all := lw_g (lw_at lw_m16 105 rfl) rfl
theorem q3838 : (Jvm.Cond.instanceMethod ({ cls := "RenamedWordsModel", name := "size", desc := "(I)I" } : Jvm.MethodName)) ∈ lw_all := lw_g (lw_at lw_m16 107 rfl) rfl
theorem q3839 : (Jvm.Cond.selects "RenamedWordsModel" ({ cls := "RenamedWordsModel", name := "size", desc := "(I)I" } : Jvm.MethodName) ({ cls := "RenamedWordsModel", name := "size", desc := "(I)I" } : Jvm.MethodName)) ∈ lw_all := lw_g (lw_at lw_m16 108 rfl) rfl
theorem q3840 : (Jvm.Cond.code ({ cls := "RenamedWordsModel", name := "size", desc := "(I)I" } : Jvm.MethodName) prog_29_method_72_code (2 : Nat) (Option.some Jvm.ClassFile.FieldType.int)) ∈ lw_all := lw_g (lw_at lw_m16 109 rfl) rfl
theorem q3841 : (Jvm.Cond.methodLink "RenamedWordsModel" (360 : Nat) ({ cls := "RenamedWordsModel", name := "fails", desc := "(ZI)Z" } : Jvm.MethodName)) ∈ lw_all := lw_g (lw_at lw_m16 110 rfl) rfl
theorem q3842 : (Jvm.Cond.privateMethod ({ cls := "RenamedWordsModel", name := "fails", desc := "(ZI)Z" } : Jvm.MethodName)) ∈ lw_tbl := lw_at lw_m16 111 rfl
theorem q3843 : (Jvm.Cond.instanceMethod ({ cls := "RenamedWordsModel", name := "fails", desc := "(ZI)Z" } : Jvm.MethodName)) ∈ lw_all := lw_g (lw_at lw_m16 112 rfl) rfl
theorem q3844 : (Jvm.Cond.code ({ cls := "RenamedWordsModel", name := "fails", desc := "(ZI)Z" } : Jvm.MethodName) prog_29_method_5_code (3 : Nat) (Option.some Jvm.ClassFile.FieldType.boolean)) ∈ lw_all := lw_g (lw_at lw_m16 113 rfl) rfl
theorem q3845 : (Jvm.Cond.methodLink "RenamedWordsModel" (363 : Nat) ({ cls := "RenamedWordsModel", name := "unlike", desc := "(IIZ)I" } : Jvm.MethodName)) ∈ lw_all := lw_g (lw_at lw_m16 114 rfl) rfl
theorem q3846 : (Jvm.Cond.privateMethod ({ cls := "RenamedWordsModel", name := "unlike", desc := "(IIZ)I" } : Jvm.MethodName)) ∈ lw_tbl := lw_at lw_m16 115 rfl
theorem q3847 : (Jvm.Cond.instanceMethod ({ cls := "RenamedWordsModel", name := "unlike", desc := "(IIZ)I" } : Jvm.MethodName)) ∈ lw_all := lw_g (lw_at lw_m16 116 rfl) rfl
theorem q3848 : (Jvm.Cond.code ({ cls := "RenamedWordsModel", name := "unlike", desc := "(IIZ)I" } : Jvm.MethodName) prog_29_method_70_code (6 : Nat) (Option.some Jvm.ClassFile.FieldType.int)) ∈ lw_all := lw_g (lw_at lw_m16 117 rfl) rfl
theorem q3849 : (Jvm.Cond.methodLink "RenamedWordsModel" (117 : Nat) ({ cls := "RenamedWordsModel", name := "counts0", desc := "([I[III)V" } : Jvm.MethodName)) ∈ lw_all := lw_g (lw_at lw_m16 118 rfl) rfl
theorem q3850 : (Jvm.Cond.static ({ cls := "RenamedWordsModel", name := "counts0", desc := "([I[III)V" } : Jvm.MethodName)) ∈ lw_all := lw_g (lw_at lw_m16 119 rfl) rfl
theorem q3851 : (Jvm.Cond.code ({ cls := "RenamedWordsModel", name := "counts0", desc := "([I[III)V" } : Jvm.MethodName) prog_29_method_21_code (5 : Nat) (Option.none : Option Jvm.ClassFile.FieldType)) ∈ lw_all := lw_g (lw_at lw_m16 120 rfl) rfl
theorem q3852 : (Jvm.Cond.methodLink "RenamedWordsModel" (367 : Nat) ({ cls := "RenamedWordsModel", name := "loose", desc := "()I" } : Jvm.MethodName)) ∈ lw_all := lw_g (lw_at lw_m16 121 rfl) rfl
theorem q3853 : (Jvm.Cond.privateMethod ({ cls := "RenamedWordsModel", name := "loose", desc := "()I" } : Jvm.MethodName)) ∈ lw_tbl := lw_at lw_m16 122 rfl
theorem q3854 : (Jvm.Cond.instanceMethod ({ cls := "RenamedWordsModel", name := "loose", desc := "()I" } : Jvm.MethodName)) ∈ lw_all := lw_g (lw_at lw_m16 123 rfl) rfl
theorem q3855 : (Jvm.Cond.code ({ cls := "RenamedWordsModel", name := "loose", desc := "()I" } : Jvm.MethodName) prog_29_method_71_code (3 : Nat) (Option.some Jvm.ClassFile.FieldType.int)) ∈ lw_all := lw_g (lw_at lw_m16 124 rfl) rfl
theorem q3857 : (Jvm.Cond.instanceMethod ({ cls := "RenamedWordsModel", name := "textAt", desc := "(I)I" } : Jvm.MethodName)) ∈ lw_all := lw_g (lw_at lw_m16 126 rfl) rfl
theorem q3858 : (Jvm.Cond.selects "RenamedWordsModel" ({ cls := "RenamedWordsModel", name := "textAt", desc := "(I)I" } : Jvm.MethodName) ({ cls := "RenamedWordsModel", name := "textAt", desc := "(I)I" } : Jvm.MethodName)) ∈ lw_all := lw_g (lw_at lw_m16 127 rfl) rfl
theorem q3859 : (Jvm.Cond.code ({ cls := "RenamedWordsModel", name := "textAt", desc := "(I)I" } : Jvm.MethodName) prog_29_method_76_code (2 : Nat) (Option.some Jvm.ClassFile.FieldType.int)) ∈ lw_all := lw_g (lw_at lw_m16 128 rfl) rfl
theorem q3860 : (Jvm.Cond.methodLink "RenamedWordsModel" (370 : Nat) ({ cls := "RenamedWordsModel", name := "noPlace", desc := "(I)Z" } : Jvm.MethodName)) ∈ lw_all := lw_g (lw_at lw_m16 129 rfl) rfl
theorem q3861 : (Jvm.Cond.privateMethod ({ cls := "RenamedWordsModel", name := "noPlace", desc := "(I)Z" } : Jvm.MethodName)) ∈ lw_tbl := lw_at lw_m16 130 rfl
theorem q3862 : (Jvm.Cond.instanceMethod ({ cls := "RenamedWordsModel", name := "noPlace", desc := "(I)Z" } : Jvm.MethodName)) ∈ lw_all := lw_g (lw_at lw_m16 131 rfl) rfl
theorem q3863 : (Jvm.Cond.code ({ cls := "RenamedWordsModel", name := "noPlace", desc := "(I)Z" } : Jvm.MethodName) prog_29_method_73_code (2 : Nat) (Option.some Jvm.ClassFile.FieldType.boolean)) ∈ lw_all := lw_g (lw_at lw_m16 132 rfl) rfl
theorem q3865 : (Jvm.Cond.instanceMethod ({ cls := "RenamedWordsModel", name := "back", desc := "(I)I" } : Jvm.MethodName)) ∈ lw_all := lw_g (lw_at lw_m16 134 rfl) rfl
theorem q3866 : (Jvm.Cond.selects "RenamedWordsModel" ({ cls := "RenamedWordsModel", name := "back", desc := "(I)I" } : Jvm.MethodName) ({ cls := "RenamedWordsModel", name := "back", desc := "(I)I" } : Jvm.MethodName)) ∈ lw_all := lw_g (lw_at lw_m16 135 rfl) rfl
theorem q3867 : (Jvm.Cond.code ({ cls := "RenamedWordsModel", name := "back", desc := "(I)I" } : Jvm.MethodName) prog_29_method_77_code (2 : Nat) (Option.some Jvm.ClassFile.FieldType.int)) ∈ lw_all := lw_g (lw_at lw_m16 136 rfl) rfl
theorem q3869 : (Jvm.Cond.instanceMethod ({ cls := "RenamedWordsModel", name := "backIn", desc := "(II)I" } : Jvm.MethodName)) ∈ lw_all := lw_g (lw_at lw_m16 138 rfl) rfl
theorem q3870 : (Jvm.Cond.selects "RenamedWordsModel" ({ cls := "RenamedWordsModel", name := "backIn", desc := "(II)I" } : Jvm.MethodName) ({ cls := "RenamedWordsModel", name := "backIn", desc := "(II)I" } : Jvm.MethodName)) ∈ lw_all := lw_g (lw_at lw_m16 139 rfl) rfl
theorem q3871 : (Jvm.Cond.code ({ cls := "RenamedWordsModel", name := "backIn", desc := "(II)I" } : Jvm.MethodName) prog_29_method_78_code (3 : Nat) (Option.some Jvm.ClassFile.FieldType.int)) ∈ lw_all := lw_g (lw_at lw_m16 140 rfl) rfl
theorem q3873 : (Jvm.Cond.instanceMethod ({ cls := "RenamedWordsModel", name := "pattern", desc := "(II)I" } : Jvm.MethodName)) ∈ lw_all := lw_g (lw_at lw_m16 142 rfl) rfl
theorem q3874 : (Jvm.Cond.selects "RenamedWordsModel" ({ cls := "RenamedWordsModel", name := "pattern", desc := "(II)I" } : Jvm.MethodName) ({ cls := "RenamedWordsModel", name := "pattern", desc := "(II)I" } : Jvm.MethodName)) ∈ lw_all := lw_g (lw_at lw_m16 143 rfl) rfl
theorem q3875 : (Jvm.Cond.code ({ cls := "RenamedWordsModel", name := "pattern", desc := "(II)I" } : Jvm.MethodName) prog_29_method_79_code (4 : Nat) (Option.some Jvm.ClassFile.FieldType.int)) ∈ lw_all := lw_g (lw_at lw_m16 144 rfl) rfl
theorem q3876 : (Jvm.Cond.methodLink "RenamedWordsModel" (373 : Nat) ({ cls := "RenamedWordsModel", name := "noPattern", desc := "(I)Z" } : Jvm.MethodName)) ∈ lw_all := lw_g (lw_at lw_m16 145 rfl) rfl
theorem q3877 : (Jvm.Cond.privateMethod ({ cls := "RenamedWordsModel", name := "noPattern", desc := "(I)Z" } : Jvm.MethodName)) ∈ lw_tbl := lw_at lw_m16 146 rfl
theorem q3878 : (Jvm.Cond.instanceMethod ({ cls := "RenamedWordsModel", name := "noPattern", desc := "(I)Z" } : Jvm.MethodName)) ∈ lw_all := lw_g (lw_at lw_m16 147 rfl) rfl
theorem q3879 : (Jvm.Cond.code ({ cls := "RenamedWordsModel", name := "noPattern", desc := "(I)Z" } : Jvm.MethodName) prog_29_method_74_code (2 : Nat) (Option.some Jvm.ClassFile.FieldType.boolean)) ∈ lw_all := lw_g (lw_at lw_m16 148 rfl) rfl
theorem q3880 : (Jvm.Cond.methodLink "RenamedWordsModel" (376 : Nat) ({ cls := "RenamedWordsModel", name := "borderOf", desc := "(II)I" } : Jvm.MethodName)) ∈ lw_all := lw_g (lw_at lw_m16 149 rfl) rfl
theorem q3881 : (Jvm.Cond.privateMethod ({ cls := "RenamedWordsModel", name := "borderOf", desc := "(II)I" } : Jvm.MethodName)) ∈ lw_tbl := lw_at lw_m16 150 rfl
theorem q3882 : (Jvm.Cond.instanceMethod ({ cls := "RenamedWordsModel", name := "borderOf", desc := "(II)I" } : Jvm.MethodName)) ∈ lw_all := lw_g (lw_at lw_m16 151 rfl) rfl
theorem q3883 : (Jvm.Cond.code ({ cls := "RenamedWordsModel", name := "borderOf", desc := "(II)I" } : Jvm.MethodName) prog_29_method_17_code (4 : Nat) (Option.some Jvm.ClassFile.FieldType.int)) ∈ lw_all := lw_g (lw_at lw_m16 152 rfl) rfl
theorem q3884 : (Jvm.Cond.methodLink "RenamedWordsModel" (87 : Nat) ({ cls := "RenamedWordsModel", name := "areAlike", desc := "(III)Z" } : Jvm.MethodName)) ∈ lw_all := lw_g (lw_at lw_m16 153 rfl) rfl
theorem q3885 : (Jvm.Cond.privateMethod ({ cls := "RenamedWordsModel", name := "areAlike", desc := "(III)Z" } : Jvm.MethodName)) ∈ lw_tbl := lw_at lw_m16 154 rfl
theorem q3886 : (Jvm.Cond.instanceMethod ({ cls := "RenamedWordsModel", name := "areAlike", desc := "(III)Z" } : Jvm.MethodName)) ∈ lw_all := lw_g (lw_at lw_m16 155 rfl) rfl
theorem q3887 : (Jvm.Cond.code ({ cls := "RenamedWordsModel", name := "areAlike", desc := "(III)Z" } : Jvm.MethodName) prog_29_method_16_code (4 : Nat) (Option.some Jvm.ClassFile.FieldType.boolean)) ∈ lw_all := lw_g (lw_at lw_m16 156 rfl) rfl
theorem q3888 : (Jvm.Cond.methodLink "RenamedWordsModel" (379 : Nat) ({ cls := "RenamedWordsModel", name := "marksOf", desc := "(I)I" } : Jvm.MethodName)) ∈ lw_all := lw_g (lw_at lw_m16 157 rfl) rfl
theorem q3889 : (Jvm.Cond.privateMethod ({ cls := "RenamedWordsModel", name := "marksOf", desc := "(I)I" } : Jvm.MethodName)) ∈ lw_tbl := lw_at lw_m16 158 rfl
theorem q3890 : (Jvm.Cond.instanceMethod ({ cls := "RenamedWordsModel", name := "marksOf", desc := "(I)I" } : Jvm.MethodName)) ∈ lw_all := lw_g (lw_at lw_m16 159 rfl) rfl
theorem q3891 : (Jvm.Cond.code ({ cls := "RenamedWordsModel", name := "marksOf", desc := "(I)I" } : Jvm.MethodName) prog_29_method_31_code (4 : Nat) (Option.some Jvm.ClassFile.FieldType.int)) ∈ lw_all := lw_g (lw_at lw_m16 160 rfl) rfl
theorem q3892 : (Jvm.Cond.methodLink "RenamedWordsModel" (385 : Nat) ({ cls := "RenamedWordsModel", name := "candidates", desc := "(I)I" } : Jvm.MethodName)) ∈ lw_all := lw_g (lw_at lw_m16 161 rfl) rfl
theorem q3893 : (Jvm.Cond.privateMethod ({ cls := "RenamedWordsModel", name := "candidates", desc := "(I)I" } : Jvm.MethodName)) ∈ lw_tbl := lw_at lw_m16 162 rfl
theorem q3894 : (Jvm.Cond.instanceMethod ({ cls := "RenamedWordsModel", name := "candidates", desc := "(I)I" } : Jvm.MethodName)) ∈ lw_all := lw_g (lw_at lw_m16 163 rfl) rfl
theorem q3895 : (Jvm.Cond.code ({ cls := "RenamedWordsModel", name := "candidates", desc := "(I)I" } : Jvm.MethodName) prog_29_method_23_code (4 : Nat) (Option.some Jvm.ClassFile.FieldType.int)) ∈ lw_all := lw_g (lw_at lw_m16 164 rfl) rfl
theorem q3896 : (Jvm.Cond.methodLink "RenamedWordsModel" (121 : Nat) ({ cls := "RenamedWordsModel", name := "isCandidate", desc := "(II)Z" } : Jvm.MethodName)) ∈ lw_all := lw_g (lw_at lw_m16 165 rfl) rfl
theorem q3897 : (Jvm.Cond.privateMethod ({ cls := "RenamedWordsModel", name := "isCandidate", desc := "(II)Z" } : Jvm.MethodName)) ∈ lw_tbl := lw_at lw_m16 166 rfl
theorem q3898 : (Jvm.Cond.instanceMethod ({ cls := "RenamedWordsModel", name := "isCandidate", desc := "(II)Z" } : Jvm.MethodName)) ∈ lw_all := lw_g (lw_at lw_m16 167 rfl) rfl
theorem q3899 : (Jvm.Cond.code ({ cls := "RenamedWordsModel", name := "isCandidate", desc := "(II)Z" } : Jvm.MethodName) prog_29_method_22_code (5 : Nat) (Option.some Jvm.ClassFile.FieldType.boolean)) ∈ lw_all := lw_g (lw_at lw_m16 168 rfl) rfl
theorem q3901 : (Jvm.Cond.instanceMethod ({ cls := "RenamedWordsModel", name := "patternAt", desc := "(II)I" } : Jvm.MethodName)) ∈ lw_all := lw_g (lw_at lw_m16 170 rfl) rfl
theorem q3902 : (Jvm.Cond.selects "RenamedWordsModel" ({ cls := "RenamedWordsModel", name := "patternAt", desc := "(II)I" } : Jvm.MethodName) ({ cls := "RenamedWordsModel", name := "patternAt", desc := "(II)I" } : Jvm.MethodName)) ∈ lw_all := lw_g (lw_at lw_m16 171 rfl) rfl
theorem q3903 : (Jvm.Cond.code ({ cls := "RenamedWordsModel", name := "patternAt", desc := "(II)I" } : Jvm.MethodName) prog_29_method_80_code (3 : Nat) (Option.some Jvm.ClassFile.FieldType.int)) ∈ lw_all := lw_g (lw_at lw_m16 172 rfl) rfl
theorem q3905 : (Jvm.Cond.instanceMethod ({ cls := "RenamedWordsModel", name := "letter", desc := "(II)I" } : Jvm.MethodName)) ∈ lw_all := lw_g (lw_at lw_m16 174 rfl) rfl
theorem q3906 : (Jvm.Cond.selects "RenamedWordsModel" ({ cls := "RenamedWordsModel", name := "letter", desc := "(II)I" } : Jvm.MethodName) ({ cls := "RenamedWordsModel", name := "letter", desc := "(II)I" } : Jvm.MethodName)) ∈ lw_all := lw_g (lw_at lw_m16 175 rfl) rfl
theorem q3907 : (Jvm.Cond.code ({ cls := "RenamedWordsModel", name := "letter", desc := "(II)I" } : Jvm.MethodName) prog_29_method_81_code (3 : Nat) (Option.some Jvm.ClassFile.FieldType.int)) ∈ lw_all := lw_g (lw_at lw_m16 176 rfl) rfl
theorem q3909 : (Jvm.Cond.instanceMethod ({ cls := "RenamedWordsModel", name := "border", desc := "(II)I" } : Jvm.MethodName)) ∈ lw_all := lw_g (lw_at lw_m16 178 rfl) rfl
theorem q3910 : (Jvm.Cond.selects "RenamedWordsModel" ({ cls := "RenamedWordsModel", name := "border", desc := "(II)I" } : Jvm.MethodName) ({ cls := "RenamedWordsModel", name := "border", desc := "(II)I" } : Jvm.MethodName)) ∈ lw_all := lw_g (lw_at lw_m16 179 rfl) rfl
theorem q3911 : (Jvm.Cond.code ({ cls := "RenamedWordsModel", name := "border", desc := "(II)I" } : Jvm.MethodName) prog_29_method_82_code (3 : Nat) (Option.some Jvm.ClassFile.FieldType.int)) ∈ lw_all := lw_g (lw_at lw_m16 180 rfl) rfl
theorem q3913 : (Jvm.Cond.instanceMethod ({ cls := "RenamedWordsModel", name := "markAt", desc := "(I)I" } : Jvm.MethodName)) ∈ lw_all := lw_g (lw_at lw_m16 182 rfl) rfl
theorem q3914 : (Jvm.Cond.selects "RenamedWordsModel" ({ cls := "RenamedWordsModel", name := "markAt", desc := "(I)I" } : Jvm.MethodName) ({ cls := "RenamedWordsModel", name := "markAt", desc := "(I)I" } : Jvm.MethodName)) ∈ lw_all := lw_g (lw_at lw_m16 183 rfl) rfl
theorem q3915 : (Jvm.Cond.code ({ cls := "RenamedWordsModel", name := "markAt", desc := "(I)I" } : Jvm.MethodName) prog_29_method_83_code (2 : Nat) (Option.some Jvm.ClassFile.FieldType.int)) ∈ lw_all := lw_g (lw_at lw_m16 184 rfl) rfl
theorem q3917 : (Jvm.Cond.instanceMethod ({ cls := "RenamedWordsModel", name := "account", desc := "(I)I" } : Jvm.MethodName)) ∈ lw_all := lw_g (lw_at lw_m16 186 rfl) rfl
theorem q3918 : (Jvm.Cond.selects "RenamedWordsModel" ({ cls := "RenamedWordsModel", name := "account", desc := "(I)I" } : Jvm.MethodName) ({ cls := "RenamedWordsModel", name := "account", desc := "(I)I" } : Jvm.MethodName)) ∈ lw_all := lw_g (lw_at lw_m16 187 rfl) rfl
theorem q3919 : (Jvm.Cond.code ({ cls := "RenamedWordsModel", name := "account", desc := "(I)I" } : Jvm.MethodName) prog_29_method_84_code (2 : Nat) (Option.some Jvm.ClassFile.FieldType.int)) ∈ lw_all := lw_g (lw_at lw_m16 188 rfl) rfl
theorem q3921 : (Jvm.Cond.instanceMethod ({ cls := "RenamedWordsModel", name := "gap", desc := "()I" } : Jvm.MethodName)) ∈ lw_all := lw_g (lw_at lw_m16 190 rfl) rfl
theorem q3922 : (Jvm.Cond.selects "RenamedWordsModel" ({ cls := "RenamedWordsModel", name := "gap", desc := "()I" } : Jvm.MethodName) ({ cls := "RenamedWordsModel", name := "gap", desc := "()I" } : Jvm.MethodName)) ∈ lw_all := lw_g (lw_at lw_m16 191 rfl) rfl
theorem q3923 : (Jvm.Cond.code ({ cls := "RenamedWordsModel", name := "gap", desc := "()I" } : Jvm.MethodName) prog_29_method_85_code (3 : Nat) (Option.some Jvm.ClassFile.FieldType.int)) ∈ lw_all := lw_g (lw_at lw_m16 192 rfl) rfl
theorem q3924 : (Jvm.Cond.methodLink "RenamedWordsModel" (388 : Nat) ({ cls := "java/lang/Math", name := "abs", desc := "(I)I" } : Jvm.MethodName)) ∈ lw_all := lw_g (lw_at lw_m16 193 rfl) rfl
theorem q3926 : (Jvm.Cond.instanceMethod ({ cls := "RenamedWordsModel", name := "meanBack", desc := "()D" } : Jvm.MethodName)) ∈ lw_all := lw_g (lw_at lw_m16 195 rfl) rfl
theorem q3927 : (Jvm.Cond.selects "RenamedWordsModel" ({ cls := "RenamedWordsModel", name := "meanBack", desc := "()D" } : Jvm.MethodName) ({ cls := "RenamedWordsModel", name := "meanBack", desc := "()D" } : Jvm.MethodName)) ∈ lw_all := lw_g (lw_at lw_m16 196 rfl) rfl
theorem q3928 : (Jvm.Cond.code ({ cls := "RenamedWordsModel", name := "meanBack", desc := "()D" } : Jvm.MethodName) prog_29_method_86_code (5 : Nat) (Option.some Jvm.ClassFile.FieldType.double)) ∈ lw_all := lw_g (lw_at lw_m16 197 rfl) rfl
theorem q3930 : (Jvm.Cond.instanceMethod ({ cls := "RenamedWordsModel", name := "coveredBits", desc := "()I" } : Jvm.MethodName)) ∈ lw_all := lw_g (lw_at lw_m16 199 rfl) rfl
theorem q3931 : (Jvm.Cond.selects "RenamedWordsModel" ({ cls := "RenamedWordsModel", name := "coveredBits", desc := "()I" } : Jvm.MethodName) ({ cls := "RenamedWordsModel", name := "coveredBits", desc := "()I" } : Jvm.MethodName)) ∈ lw_all := lw_g (lw_at lw_m16 200 rfl) rfl
theorem q3932 : (Jvm.Cond.code ({ cls := "RenamedWordsModel", name := "coveredBits", desc := "()I" } : Jvm.MethodName) prog_29_method_88_code (3 : Nat) (Option.some Jvm.ClassFile.FieldType.int)) ∈ lw_all := lw_g (lw_at lw_m16 201 rfl) rfl
theorem q3933 : (Jvm.Cond.methodLink "RenamedWordsModel" (391 : Nat) ({ cls := "RenamedWordsModel", name := "isCovered", desc := "(I)Z" } : Jvm.MethodName)) ∈ lw_all := lw_g (lw_at lw_m16 202 rfl) rfl
theorem q3934 : (Jvm.Cond.privateMethod ({ cls := "RenamedWordsModel", name := "isCovered", desc := "(I)Z" } : Jvm.MethodName)) ∈ lw_tbl := lw_at lw_m16 203 rfl
theorem q3935 : (Jvm.Cond.instanceMethod ({ cls := "RenamedWordsModel", name := "isCovered", desc := "(I)Z" } : Jvm.MethodName)) ∈ lw_all := lw_g (lw_at lw_m16 204 rfl) rfl
theorem q3936 : (Jvm.Cond.code ({ cls := "RenamedWordsModel", name := "isCovered", desc := "(I)Z" } : Jvm.MethodName) prog_29_method_87_code (3 : Nat) (Option.some Jvm.ClassFile.FieldType.boolean)) ∈ lw_all := lw_g (lw_at lw_m16 205 rfl) rfl
theorem q3937 : (Jvm.Cond.methodLink "RenamedWordsModel" (394 : Nat) ({ cls := "java/lang/Float", name := "floatToIntBits", desc := "(F)I" } : Jvm.MethodName)) ∈ lw_all := lw_g (lw_at lw_m16 206 rfl) rfl
theorem q3939 : (Jvm.Cond.instanceMethod ({ cls := "RenamedWordsModel", name := "isAt", desc := "(II)Z" } : Jvm.MethodName)) ∈ lw_all := lw_g (lw_at lw_m16 208 rfl) rfl
theorem q3940 : (Jvm.Cond.selects "RenamedWordsModel" ({ cls := "RenamedWordsModel", name := "isAt", desc := "(II)Z" } : Jvm.MethodName) ({ cls := "RenamedWordsModel", name := "isAt", desc := "(II)Z" } : Jvm.MethodName)) ∈ lw_all := lw_g (lw_at lw_m16 209 rfl) rfl
theorem q3941 : (Jvm.Cond.code ({ cls := "RenamedWordsModel", name := "isAt", desc := "(II)Z" } : Jvm.MethodName) prog_29_method_90_code (3 : Nat) (Option.some Jvm.ClassFile.FieldType.boolean)) ∈ lw_all := lw_g (lw_at lw_m16 210 rfl) rfl
theorem q3942 : (Jvm.Cond.methodLink "RenamedWordsModel" (400 : Nat) ({ cls := "RenamedWordsModel", name := "noThere", desc := "(II)Z" } : Jvm.MethodName)) ∈ lw_all := lw_g (lw_at lw_m16 211 rfl) rfl
theorem q3943 : (Jvm.Cond.privateMethod ({ cls := "RenamedWordsModel", name := "noThere", desc := "(II)Z" } : Jvm.MethodName)) ∈ lw_tbl := lw_at lw_m16 212 rfl
theorem q3944 : (Jvm.Cond.instanceMethod ({ cls := "RenamedWordsModel", name := "noThere", desc := "(II)Z" } : Jvm.MethodName)) ∈ lw_all := lw_g (lw_at lw_m16 213 rfl) rfl
theorem q3945 : (Jvm.Cond.code ({ cls := "RenamedWordsModel", name := "noThere", desc := "(II)Z" } : Jvm.MethodName) prog_29_method_89_code (3 : Nat) (Option.some Jvm.ClassFile.FieldType.boolean)) ∈ lw_all := lw_g (lw_at lw_m16 214 rfl) rfl
theorem q3947 : (Jvm.Cond.instanceMethod ({ cls := "RenamedWordsModel", name := "why", desc := "(II)I" } : Jvm.MethodName)) ∈ lw_all := lw_g (lw_at lw_m16 216 rfl) rfl
theorem q3948 : (Jvm.Cond.selects "RenamedWordsModel" ({ cls := "RenamedWordsModel", name := "why", desc := "(II)I" } : Jvm.MethodName) ({ cls := "RenamedWordsModel", name := "why", desc := "(II)I" } : Jvm.MethodName)) ∈ lw_all := lw_g (lw_at lw_m16 217 rfl) rfl
theorem q3949 : (Jvm.Cond.code ({ cls := "RenamedWordsModel", name := "why", desc := "(II)I" } : Jvm.MethodName) prog_29_method_91_code (6 : Nat) (Option.some Jvm.ClassFile.FieldType.int)) ∈ lw_all := lw_g (lw_at lw_m16 218 rfl) rfl
theorem q3951 : (Jvm.Cond.instanceMethod ({ cls := "RenamedWordsModel", name := "longest", desc := "(II)I" } : Jvm.MethodName)) ∈ lw_all := lw_g (lw_at lw_m16 220 rfl) rfl
theorem q3952 : (Jvm.Cond.selects "RenamedWordsModel" ({ cls := "RenamedWordsModel", name := "longest", desc := "(II)I" } : Jvm.MethodName) ({ cls := "RenamedWordsModel", name := "longest", desc := "(II)I" } : Jvm.MethodName)) ∈ lw_all := lw_g (lw_at lw_m16 221 rfl) rfl
theorem q3953 : (Jvm.Cond.code ({ cls := "RenamedWordsModel", name := "longest", desc := "(II)I" } : Jvm.MethodName) prog_29_method_92_code (3 : Nat) (Option.some Jvm.ClassFile.FieldType.int)) ∈ lw_all := lw_g (lw_at lw_m16 222 rfl) rfl
theorem q3955 : (Jvm.Cond.instanceMethod ({ cls := "RenamedWordsModel", name := "renamed", desc := "(III)I" } : Jvm.MethodName)) ∈ lw_all := lw_g (lw_at lw_m16 224 rfl) rfl
theorem q3956 : (Jvm.Cond.selects "RenamedWordsModel" ({ cls := "RenamedWordsModel", name := "renamed", desc := "(III)I" } : Jvm.MethodName) ({ cls := "RenamedWordsModel", name := "renamed", desc := "(III)I" } : Jvm.MethodName)) ∈ lw_all := lw_g (lw_at lw_m16 225 rfl) rfl
theorem q3957 : (Jvm.Cond.code ({ cls := "RenamedWordsModel", name := "renamed", desc := "(III)I" } : Jvm.MethodName) prog_29_method_93_code (5 : Nat) (Option.some Jvm.ClassFile.FieldType.int)) ∈ lw_all := lw_g (lw_at lw_m16 226 rfl) rfl
theorem q3958 : (Jvm.Cond.methodLink "RenamedWordsModel" (403 : Nat) ({ cls := "RenamedWordsModel", name := "noLetter", desc := "(II)Z" } : Jvm.MethodName)) ∈ lw_all := lw_g (lw_at lw_m16 227 rfl) rfl
theorem q3959 : (Jvm.Cond.privateMethod ({ cls := "RenamedWordsModel", name := "noLetter", desc := "(II)Z" } : Jvm.MethodName)) ∈ lw_tbl := lw_at lw_m16 228 rfl
theorem q3960 : (Jvm.Cond.instanceMethod ({ cls := "RenamedWordsModel", name := "noLetter", desc := "(II)Z" } : Jvm.MethodName)) ∈ lw_all := lw_g (lw_at lw_m16 229 rfl) rfl
theorem q3961 : (Jvm.Cond.code ({ cls := "RenamedWordsModel", name := "noLetter", desc := "(II)Z" } : Jvm.MethodName) prog_29_method_75_code (3 : Nat) (Option.some Jvm.ClassFile.FieldType.boolean)) ∈ lw_all := lw_g (lw_at lw_m16 230 rfl) rfl
theorem q3963 : (Jvm.Cond.instanceMethod ({ cls := "RenamedWordsModel", name := "hit", desc := "(II)I" } : Jvm.MethodName)) ∈ lw_all := lw_g (lw_at lw_m16 232 rfl) rfl
theorem q3964 : (Jvm.Cond.selects "RenamedWordsModel" ({ cls := "RenamedWordsModel", name := "hit", desc := "(II)I" } : Jvm.MethodName) ({ cls := "RenamedWordsModel", name := "hit", desc := "(II)I" } : Jvm.MethodName)) ∈ lw_all := lw_g (lw_at lw_m16 233 rfl) rfl
theorem q3965 : (Jvm.Cond.code ({ cls := "RenamedWordsModel", name := "hit", desc := "(II)I" } : Jvm.MethodName) prog_29_method_95_code (3 : Nat) (Option.some Jvm.ClassFile.FieldType.int)) ∈ lw_all := lw_g (lw_at lw_m16 234 rfl) rfl
theorem q3966 : (Jvm.Cond.methodLink "RenamedWordsModel" (406 : Nat) ({ cls := "RenamedWordsModel", name := "nth", desc := "(IIZ)I" } : Jvm.MethodName)) ∈ lw_all := lw_g (lw_at lw_m16 235 rfl) rfl
theorem q3967 : (Jvm.Cond.privateMethod ({ cls := "RenamedWordsModel", name := "nth", desc := "(IIZ)I" } : Jvm.MethodName)) ∈ lw_tbl := lw_at lw_m16 236 rfl
theorem q3968 : (Jvm.Cond.instanceMethod ({ cls := "RenamedWordsModel", name := "nth", desc := "(IIZ)I" } : Jvm.MethodName)) ∈ lw_all := lw_g (lw_at lw_m16 237 rfl) rfl
theorem q3969 : (Jvm.Cond.code ({ cls := "RenamedWordsModel", name := "nth", desc := "(IIZ)I" } : Jvm.MethodName) prog_29_method_94_code (6 : Nat) (Option.some Jvm.ClassFile.FieldType.int)) ∈ lw_all := lw_g (lw_at lw_m16 238 rfl) rfl
theorem q3971 : (Jvm.Cond.instanceMethod ({ cls := "RenamedWordsModel", name := "candidate", desc := "(II)I" } : Jvm.MethodName)) ∈ lw_all := lw_g (lw_at lw_m17 0 rfl) rfl
theorem q3972 : (Jvm.Cond.selects "RenamedWordsModel" ({ cls := "RenamedWordsModel", name := "candidate", desc := "(II)I" } : Jvm.MethodName) ({ cls := "RenamedWordsModel", name := "candidate", desc := "(II)I" } : Jvm.MethodName)) ∈ lw_all := lw_g (lw_at lw_m17 1 rfl) rfl
theorem q3973 : (Jvm.Cond.code ({ cls := "RenamedWordsModel", name := "candidate", desc := "(II)I" } : Jvm.MethodName) prog_29_method_96_code (3 : Nat) (Option.some Jvm.ClassFile.FieldType.int)) ∈ lw_all := lw_g (lw_at lw_m17 2 rfl) rfl
theorem q3975 : (Jvm.Cond.instanceMethod ({ cls := "RenamedWordsModel", name := "alike", desc := "(III)Z" } : Jvm.MethodName)) ∈ lw_all := lw_g (lw_at lw_m17 4 rfl) rfl
theorem q3976 : (Jvm.Cond.selects "RenamedWordsModel" ({ cls := "RenamedWordsModel", name := "alike", desc := "(III)Z" } : Jvm.MethodName) ({ cls := "RenamedWordsModel", name := "alike", desc := "(III)Z" } : Jvm.MethodName)) ∈ lw_all := lw_g (lw_at lw_m17 5 rfl) rfl
theorem q3977 : (Jvm.Cond.code ({ cls := "RenamedWordsModel", name := "alike", desc := "(III)Z" } : Jvm.MethodName) prog_29_method_97_code (4 : Nat) (Option.some Jvm.ClassFile.FieldType.boolean)) ∈ lw_all := lw_g (lw_at lw_m17 6 rfl) rfl
theorem q3978 : (Jvm.Cond.methodLink "RenamedWordsModel" (409 : Nat) ({ cls := "java/lang/Math", name := "max", desc := "(II)I" } : Jvm.MethodName)) ∈ lw_all := lw_g (lw_at lw_m17 7 rfl) rfl
theorem q3980 : (Jvm.Cond.instanceMethod ({ cls := "RenamedWordsModel", name := "classes", desc := "(I)I" } : Jvm.MethodName)) ∈ lw_all := lw_g (lw_at lw_m17 9 rfl) rfl
theorem q3981 : (Jvm.Cond.selects "RenamedWordsModel" ({ cls := "RenamedWordsModel", name := "classes", desc := "(I)I" } : Jvm.MethodName) ({ cls := "RenamedWordsModel", name := "classes", desc := "(I)I" } : Jvm.MethodName)) ∈ lw_all := lw_g (lw_at lw_m17 10 rfl) rfl
theorem q3982 : (Jvm.Cond.code ({ cls := "RenamedWordsModel", name := "classes", desc := "(I)I" } : Jvm.MethodName) prog_29_method_99_code (4 : Nat) (Option.some Jvm.ClassFile.FieldType.int)) ∈ lw_all := lw_g (lw_at lw_m17 11 rfl) rfl
theorem q3983 : (Jvm.Cond.methodLink "RenamedWordsModel" (412 : Nat) ({ cls := "RenamedWordsModel", name := "isNewWindow", desc := "(II)Z" } : Jvm.MethodName)) ∈ lw_all := lw_g (lw_at lw_m17 12 rfl) rfl
theorem q3984 : (Jvm.Cond.privateMethod ({ cls := "RenamedWordsModel", name := "isNewWindow", desc := "(II)Z" } : Jvm.MethodName)) ∈ lw_tbl := lw_at lw_m17 13 rfl
theorem q3985 : (Jvm.Cond.instanceMethod ({ cls := "RenamedWordsModel", name := "isNewWindow", desc := "(II)Z" } : Jvm.MethodName)) ∈ lw_all := lw_g (lw_at lw_m17 14 rfl) rfl
theorem q3986 : (Jvm.Cond.code ({ cls := "RenamedWordsModel", name := "isNewWindow", desc := "(II)Z" } : Jvm.MethodName) prog_29_method_98_code (4 : Nat) (Option.some Jvm.ClassFile.FieldType.boolean)) ∈ lw_all := lw_g (lw_at lw_m17 15 rfl) rfl
theorem q3988 : (Jvm.Cond.instanceMethod ({ cls := "RenamedWordsModel", name := "longestTwin", desc := "()I" } : Jvm.MethodName)) ∈ lw_all := lw_g (lw_at lw_m17 17 rfl) rfl
theorem q3989 : (Jvm.Cond.selects "RenamedWordsModel" ({ cls := "RenamedWordsModel", name := "longestTwin", desc := "()I" } : Jvm.MethodName) ({ cls := "RenamedWordsModel", name := "longestTwin", desc := "()I" } : Jvm.MethodName)) ∈ lw_all := lw_g (lw_at lw_m17 18 rfl) rfl
theorem q3990 : (Jvm.Cond.code ({ cls := "RenamedWordsModel", name := "longestTwin", desc := "()I" } : Jvm.MethodName) prog_29_method_100_code (4 : Nat) (Option.some Jvm.ClassFile.FieldType.int)) ∈ lw_all := lw_g (lw_at lw_m17 19 rfl) rfl
theorem q3992 : (Jvm.Cond.instanceMethod ({ cls := "RenamedWordsModel", name := "hitsIf", desc := "(III)I" } : Jvm.MethodName)) ∈ lw_all := lw_g (lw_at lw_m17 21 rfl) rfl
theorem q3993 : (Jvm.Cond.selects "RenamedWordsModel" ({ cls := "RenamedWordsModel", name := "hitsIf", desc := "(III)I" } : Jvm.MethodName) ({ cls := "RenamedWordsModel", name := "hitsIf", desc := "(III)I" } : Jvm.MethodName)) ∈ lw_all := lw_g (lw_at lw_m17 22 rfl) rfl
theorem q3994 : (Jvm.Cond.code ({ cls := "RenamedWordsModel", name := "hitsIf", desc := "(III)I" } : Jvm.MethodName) prog_29_method_102_code (4 : Nat) (Option.some Jvm.ClassFile.FieldType.int)) ∈ lw_all := lw_g (lw_at lw_m17 23 rfl) rfl
theorem q3995 : (Jvm.Cond.methodLink "RenamedWordsModel" (415 : Nat) ({ cls := "RenamedWordsModel", name := "hitsWith", desc := "(III)I" } : Jvm.MethodName)) ∈ lw_all := lw_g (lw_at lw_m17 24 rfl) rfl
theorem q3996 : (Jvm.Cond.privateMethod ({ cls := "RenamedWordsModel", name := "hitsWith", desc := "(III)I" } : Jvm.MethodName)) ∈ lw_tbl := lw_at lw_m17 25 rfl
theorem q3997 : (Jvm.Cond.instanceMethod ({ cls := "RenamedWordsModel", name := "hitsWith", desc := "(III)I" } : Jvm.MethodName)) ∈ lw_all := lw_g (lw_at lw_m17 26 rfl) rfl
theorem q3998 : (Jvm.Cond.code ({ cls := "RenamedWordsModel", name := "hitsWith", desc := "(III)I" } : Jvm.MethodName) prog_29_method_101_code (6 : Nat) (Option.some Jvm.ClassFile.FieldType.int)) ∈ lw_all := lw_g (lw_at lw_m17 27 rfl) rfl
theorem q4000 : (Jvm.Cond.instanceMethod ({ cls := "RenamedWordsModel", name := "bestPut", desc := "(I)I" } : Jvm.MethodName)) ∈ lw_all := lw_g (lw_at lw_m17 29 rfl) rfl
theorem q4001 : (Jvm.Cond.selects "RenamedWordsModel" ({ cls := "RenamedWordsModel", name := "bestPut", desc := "(I)I" } : Jvm.MethodName) ({ cls := "RenamedWordsModel", name := "bestPut", desc := "(I)I" } : Jvm.MethodName)) ∈ lw_all := lw_g (lw_at lw_m17 30 rfl) rfl
theorem q4002 : (Jvm.Cond.code ({ cls := "RenamedWordsModel", name := "bestPut", desc := "(I)I" } : Jvm.MethodName) prog_29_method_103_code (6 : Nat) (Option.some Jvm.ClassFile.FieldType.int)) ∈ lw_all := lw_g (lw_at lw_m17 31 rfl) rfl
theorem q4004 : (Jvm.Cond.instanceMethod ({ cls := "RenamedWordsModel", name := "bestFirm", desc := "(I)I" } : Jvm.MethodName)) ∈ lw_all := lw_g (lw_at lw_m17 33 rfl) rfl
theorem q4005 : (Jvm.Cond.selects "RenamedWordsModel" ({ cls := "RenamedWordsModel", name := "bestFirm", desc := "(I)I" } : Jvm.MethodName) ({ cls := "RenamedWordsModel", name := "bestFirm", desc := "(I)I" } : Jvm.MethodName)) ∈ lw_all := lw_g (lw_at lw_m17 34 rfl) rfl
theorem q4006 : (Jvm.Cond.code ({ cls := "RenamedWordsModel", name := "bestFirm", desc := "(I)I" } : Jvm.MethodName) prog_29_method_104_code (7 : Nat) (Option.some Jvm.ClassFile.FieldType.int)) ∈ lw_all := lw_g (lw_at lw_m17 35 rfl) rfl
theorem q4008 : (Jvm.Cond.instanceMethod ({ cls := "RenamedWordsModel", name := "lostIf", desc := "(I)I" } : Jvm.MethodName)) ∈ lw_all := lw_g (lw_at lw_m17 37 rfl) rfl
theorem q4009 : (Jvm.Cond.selects "RenamedWordsModel" ({ cls := "RenamedWordsModel", name := "lostIf", desc := "(I)I" } : Jvm.MethodName) ({ cls := "RenamedWordsModel", name := "lostIf", desc := "(I)I" } : Jvm.MethodName)) ∈ lw_all := lw_g (lw_at lw_m17 38 rfl) rfl
theorem q4010 : (Jvm.Cond.code ({ cls := "RenamedWordsModel", name := "lostIf", desc := "(I)I" } : Jvm.MethodName) prog_29_method_105_code (5 : Nat) (Option.some Jvm.ClassFile.FieldType.int)) ∈ lw_all := lw_g (lw_at lw_m17 39 rfl) rfl
theorem q4012 : (Jvm.Cond.instanceMethod ({ cls := "RenamedWordsModel", name := "put", desc := "(II)I" } : Jvm.MethodName)) ∈ lw_all := lw_g (lw_at lw_m17 41 rfl) rfl
theorem q4013 : (Jvm.Cond.selects "RenamedWordsModel" ({ cls := "RenamedWordsModel", name := "put", desc := "(II)I" } : Jvm.MethodName) ({ cls := "RenamedWordsModel", name := "put", desc := "(II)I" } : Jvm.MethodName)) ∈ lw_all := lw_g (lw_at lw_m17 42 rfl) rfl
theorem q4014 : (Jvm.Cond.code ({ cls := "RenamedWordsModel", name := "put", desc := "(II)I" } : Jvm.MethodName) prog_29_method_118_code (3 : Nat) (Option.some Jvm.ClassFile.FieldType.int)) ∈ lw_all := lw_g (lw_at lw_m17 43 rfl) rfl
theorem q4015 : (Jvm.Cond.methodLink "RenamedWordsModel" (424 : Nat) ({ cls := "RenamedWordsModel", name := "noOne", desc := "(II)Z" } : Jvm.MethodName)) ∈ lw_all := lw_g (lw_at lw_m17 44 rfl) rfl
theorem q4016 : (Jvm.Cond.privateMethod ({ cls := "RenamedWordsModel", name := "noOne", desc := "(II)Z" } : Jvm.MethodName)) ∈ lw_tbl := lw_at lw_m17 45 rfl
theorem q4017 : (Jvm.Cond.instanceMethod ({ cls := "RenamedWordsModel", name := "noOne", desc := "(II)Z" } : Jvm.MethodName)) ∈ lw_all := lw_g (lw_at lw_m17 46 rfl) rfl
theorem q4018 : (Jvm.Cond.code ({ cls := "RenamedWordsModel", name := "noOne", desc := "(II)Z" } : Jvm.MethodName) prog_29_method_117_code (3 : Nat) (Option.some Jvm.ClassFile.FieldType.boolean)) ∈ lw_all := lw_g (lw_at lw_m17 47 rfl) rfl
theorem q4019 : (Jvm.Cond.methodLink "RenamedWordsModel" (427 : Nat) ({ cls := "RenamedWordsModel", name := "holds", desc := "()V" } : Jvm.MethodName)) ∈ lw_all := lw_g (lw_at lw_m17 48 rfl) rfl
theorem q4020 : (Jvm.Cond.privateMethod ({ cls := "RenamedWordsModel", name := "holds", desc := "()V" } : Jvm.MethodName)) ∈ lw_tbl := lw_at lw_m17 49 rfl
theorem q4021 : (Jvm.Cond.instanceMethod ({ cls := "RenamedWordsModel", name := "holds", desc := "()V" } : Jvm.MethodName)) ∈ lw_all := lw_g (lw_at lw_m17 50 rfl) rfl
theorem q4022 : (Jvm.Cond.code ({ cls := "RenamedWordsModel", name := "holds", desc := "()V" } : Jvm.MethodName) prog_29_method_115_code (1 : Nat) (Option.none : Option Jvm.ClassFile.FieldType)) ∈ lw_all := lw_g (lw_at lw_m17 51 rfl) rfl
theorem q4023 : (Jvm.Cond.methodLink "RenamedWordsModel" (430 : Nat) ({ cls := "RenamedWordsModel", name := "recorded", desc := "(I)I" } : Jvm.MethodName)) ∈ lw_all := lw_g (lw_at lw_m17 52 rfl) rfl
theorem q4024 : (Jvm.Cond.privateMethod ({ cls := "RenamedWordsModel", name := "recorded", desc := "(I)I" } : Jvm.MethodName)) ∈ lw_tbl := lw_at lw_m17 53 rfl
theorem q4025 : (Jvm.Cond.instanceMethod ({ cls := "RenamedWordsModel", name := "recorded", desc := "(I)I" } : Jvm.MethodName)) ∈ lw_all := lw_g (lw_at lw_m17 54 rfl) rfl
theorem q4026 : (Jvm.Cond.code ({ cls := "RenamedWordsModel", name := "recorded", desc := "(I)I" } : Jvm.MethodName) prog_29_method_116_code (2 : Nat) (Option.some Jvm.ClassFile.FieldType.int)) ∈ lw_all := lw_g (lw_at lw_m17 55 rfl) rfl
theorem q4028 : (Jvm.Cond.instanceMethod ({ cls := "RenamedWordsModel", name := "insert", desc := "(II)I" } : Jvm.MethodName)) ∈ lw_all := lw_g (lw_at lw_m17 57 rfl) rfl
theorem q4029 : (Jvm.Cond.selects "RenamedWordsModel" ({ cls := "RenamedWordsModel", name := "insert", desc := "(II)I" } : Jvm.MethodName) ({ cls := "RenamedWordsModel", name := "insert", desc := "(II)I" } : Jvm.MethodName)) ∈ lw_all := lw_g (lw_at lw_m17 58 rfl) rfl
theorem q4030 : (Jvm.Cond.code ({ cls := "RenamedWordsModel", name := "insert", desc := "(II)I" } : Jvm.MethodName) prog_29_method_119_code (3 : Nat) (Option.some Jvm.ClassFile.FieldType.int)) ∈ lw_all := lw_g (lw_at lw_m17 59 rfl) rfl
theorem q4032 : (Jvm.Cond.instanceMethod ({ cls := "RenamedWordsModel", name := "erase", desc := "(I)I" } : Jvm.MethodName)) ∈ lw_all := lw_g (lw_at lw_m17 61 rfl) rfl
theorem q4033 : (Jvm.Cond.selects "RenamedWordsModel" ({ cls := "RenamedWordsModel", name := "erase", desc := "(I)I" } : Jvm.MethodName) ({ cls := "RenamedWordsModel", name := "erase", desc := "(I)I" } : Jvm.MethodName)) ∈ lw_all := lw_g (lw_at lw_m17 62 rfl) rfl
theorem q4034 : (Jvm.Cond.code ({ cls := "RenamedWordsModel", name := "erase", desc := "(I)I" } : Jvm.MethodName) prog_29_method_120_code (2 : Nat) (Option.some Jvm.ClassFile.FieldType.int)) ∈ lw_all := lw_g (lw_at lw_m17 63 rfl) rfl
theorem q4036 : (Jvm.Cond.instanceMethod ({ cls := "RenamedWordsModel", name := "mark", desc := "(I)I" } : Jvm.MethodName)) ∈ lw_all := lw_g (lw_at lw_m17 65 rfl) rfl
theorem q4037 : (Jvm.Cond.selects "RenamedWordsModel" ({ cls := "RenamedWordsModel", name := "mark", desc := "(I)I" } : Jvm.MethodName) ({ cls := "RenamedWordsModel", name := "mark", desc := "(I)I" } : Jvm.MethodName)) ∈ lw_all := lw_g (lw_at lw_m17 66 rfl) rfl
theorem q4038 : (Jvm.Cond.code ({ cls := "RenamedWordsModel", name := "mark", desc := "(I)I" } : Jvm.MethodName) prog_29_method_121_code (2 : Nat) (Option.some Jvm.ClassFile.FieldType.int)) ∈ lw_all := lw_g (lw_at lw_m17 67 rfl) rfl
theorem q4040 : (Jvm.Cond.instanceMethod ({ cls := "RenamedWordsModel", name := "unmark", desc := "(I)I" } : Jvm.MethodName)) ∈ lw_all := lw_g (lw_at lw_m17 69 rfl) rfl
theorem q4041 : (Jvm.Cond.selects "RenamedWordsModel" ({ cls := "RenamedWordsModel", name := "unmark", desc := "(I)I" } : Jvm.MethodName) ({ cls := "RenamedWordsModel", name := "unmark", desc := "(I)I" } : Jvm.MethodName)) ∈ lw_all := lw_g (lw_at lw_m17 70 rfl) rfl
theorem q4042 : (Jvm.Cond.code ({ cls := "RenamedWordsModel", name := "unmark", desc := "(I)I" } : Jvm.MethodName) prog_29_method_122_code (2 : Nat) (Option.some Jvm.ClassFile.FieldType.int)) ∈ lw_all := lw_g (lw_at lw_m17 71 rfl) rfl
theorem q4044 : (Jvm.Cond.instanceMethod ({ cls := "RenamedWordsModel", name := "swap", desc := "(IIII)I" } : Jvm.MethodName)) ∈ lw_all := lw_g (lw_at lw_m17 73 rfl) rfl
theorem q4045 : (Jvm.Cond.selects "RenamedWordsModel" ({ cls := "RenamedWordsModel", name := "swap", desc := "(IIII)I" } : Jvm.MethodName) ({ cls := "RenamedWordsModel", name := "swap", desc := "(IIII)I" } : Jvm.MethodName)) ∈ lw_all := lw_g (lw_at lw_m17 74 rfl) rfl
theorem q4046 : (Jvm.Cond.code ({ cls := "RenamedWordsModel", name := "swap", desc := "(IIII)I" } : Jvm.MethodName) prog_29_method_123_code (5 : Nat) (Option.some Jvm.ClassFile.FieldType.int)) ∈ lw_all := lw_g (lw_at lw_m17 75 rfl) rfl
theorem q4048 : (Jvm.Cond.instanceMethod ({ cls := "RenamedWordsModel", name := "take", desc := "(III)I" } : Jvm.MethodName)) ∈ lw_all := lw_g (lw_at lw_m17 77 rfl) rfl
theorem q4049 : (Jvm.Cond.selects "RenamedWordsModel" ({ cls := "RenamedWordsModel", name := "take", desc := "(III)I" } : Jvm.MethodName) ({ cls := "RenamedWordsModel", name := "take", desc := "(III)I" } : Jvm.MethodName)) ∈ lw_all := lw_g (lw_at lw_m17 78 rfl) rfl
theorem q4050 : (Jvm.Cond.code ({ cls := "RenamedWordsModel", name := "take", desc := "(III)I" } : Jvm.MethodName) prog_29_method_124_code (4 : Nat) (Option.some Jvm.ClassFile.FieldType.int)) ∈ lw_all := lw_g (lw_at lw_m17 79 rfl) rfl
theorem q4052 : (Jvm.Cond.instanceMethod ({ cls := "RenamedWordsModel", name := "setFirm", desc := "(I)I" } : Jvm.MethodName)) ∈ lw_all := lw_g (lw_at lw_m17 81 rfl) rfl
theorem q4053 : (Jvm.Cond.selects "RenamedWordsModel" ({ cls := "RenamedWordsModel", name := "setFirm", desc := "(I)I" } : Jvm.MethodName) ({ cls := "RenamedWordsModel", name := "setFirm", desc := "(I)I" } : Jvm.MethodName)) ∈ lw_all := lw_g (lw_at lw_m17 82 rfl) rfl
theorem q4054 : (Jvm.Cond.code ({ cls := "RenamedWordsModel", name := "setFirm", desc := "(I)I" } : Jvm.MethodName) prog_29_method_125_code (2 : Nat) (Option.some Jvm.ClassFile.FieldType.int)) ∈ lw_all := lw_g (lw_at lw_m17 83 rfl) rfl
theorem q4056 : (Jvm.Cond.instanceMethod ({ cls := "RenamedWordsModel", name := "report", desc := "()I" } : Jvm.MethodName)) ∈ lw_all := lw_g (lw_at lw_m17 85 rfl) rfl
theorem q4057 : (Jvm.Cond.selects "RenamedWordsModel" ({ cls := "RenamedWordsModel", name := "report", desc := "()I" } : Jvm.MethodName) ({ cls := "RenamedWordsModel", name := "report", desc := "()I" } : Jvm.MethodName)) ∈ lw_all := lw_g (lw_at lw_m17 86 rfl) rfl
theorem q4058 : (Jvm.Cond.code ({ cls := "RenamedWordsModel", name := "report", desc := "()I" } : Jvm.MethodName) prog_29_method_128_code (3 : Nat) (Option.some Jvm.ClassFile.FieldType.int)) ∈ lw_all := lw_g (lw_at lw_m17 87 rfl) rfl
theorem q4059 : (Jvm.Cond.methodLink "RenamedWordsModel" (436 : Nat) ({ cls := "RenamedWordsModel", name := "writes", desc := "(I)V" } : Jvm.MethodName)) ∈ lw_all := lw_g (lw_at lw_m17 88 rfl) rfl
theorem q4060 : (Jvm.Cond.privateMethod ({ cls := "RenamedWordsModel", name := "writes", desc := "(I)V" } : Jvm.MethodName)) ∈ lw_tbl := lw_at lw_m17 89 rfl
theorem q4061 : (Jvm.Cond.instanceMethod ({ cls := "RenamedWordsModel", name := "writes", desc := "(I)V" } : Jvm.MethodName)) ∈ lw_all := lw_g (lw_at lw_m17 90 rfl) rfl
theorem q4062 : (Jvm.Cond.code ({ cls := "RenamedWordsModel", name := "writes", desc := "(I)V" } : Jvm.MethodName) prog_29_method_126_code (2 : Nat) (Option.none : Option Jvm.ClassFile.FieldType)) ∈ lw_all := lw_g (lw_at lw_m17 91 rfl) rfl
theorem q4063 : (Jvm.Cond.methodLink "RenamedWordsModel" (439 : Nat) ({ cls := "RenamedWordsModel", name := "writesNumber", desc := "(I)V" } : Jvm.MethodName)) ∈ lw_all := lw_g (lw_at lw_m17 92 rfl) rfl
theorem q4064 : (Jvm.Cond.privateMethod ({ cls := "RenamedWordsModel", name := "writesNumber", desc := "(I)V" } : Jvm.MethodName)) ∈ lw_tbl := lw_at lw_m17 93 rfl
theorem q4065 : (Jvm.Cond.instanceMethod ({ cls := "RenamedWordsModel", name := "writesNumber", desc := "(I)V" } : Jvm.MethodName)) ∈ lw_all := lw_g (lw_at lw_m17 94 rfl) rfl
theorem q4066 : (Jvm.Cond.code ({ cls := "RenamedWordsModel", name := "writesNumber", desc := "(I)V" } : Jvm.MethodName) prog_29_method_127_code (3 : Nat) (Option.none : Option Jvm.ClassFile.FieldType)) ∈ lw_all := lw_g (lw_at lw_m17 95 rfl) rfl
theorem q4068 : (Jvm.Cond.instanceMethod ({ cls := "RenamedWordsModel", name := "reportByte", desc := "(I)I" } : Jvm.MethodName)) ∈ lw_all := lw_g (lw_at lw_m17 97 rfl) rfl
theorem q4069 : (Jvm.Cond.selects "RenamedWordsModel" ({ cls := "RenamedWordsModel", name := "reportByte", desc := "(I)I" } : Jvm.MethodName) ({ cls := "RenamedWordsModel", name := "reportByte", desc := "(I)I" } : Jvm.MethodName)) ∈ lw_all := lw_g (lw_at lw_m17 98 rfl) rfl
theorem q4070 : (Jvm.Cond.code ({ cls := "RenamedWordsModel", name := "reportByte", desc := "(I)I" } : Jvm.MethodName) prog_29_method_129_code (2 : Nat) (Option.some Jvm.ClassFile.FieldType.int)) ∈ lw_all := lw_g (lw_at lw_m17 99 rfl) rfl
theorem q4072 : (Jvm.Cond.instanceMethod ({ cls := "RenamedWordsModel", name := "undo", desc := "()I" } : Jvm.MethodName)) ∈ lw_all := lw_g (lw_at lw_m17 101 rfl) rfl
theorem q4073 : (Jvm.Cond.selects "RenamedWordsModel" ({ cls := "RenamedWordsModel", name := "undo", desc := "()I" } : Jvm.MethodName) ({ cls := "RenamedWordsModel", name := "undo", desc := "()I" } : Jvm.MethodName)) ∈ lw_all := lw_g (lw_at lw_m17 102 rfl) rfl
theorem q4074 : (Jvm.Cond.code ({ cls := "RenamedWordsModel", name := "undo", desc := "()I" } : Jvm.MethodName) prog_29_method_130_code (1 : Nat) (Option.some Jvm.ClassFile.FieldType.int)) ∈ lw_all := lw_g (lw_at lw_m17 103 rfl) rfl
theorem q4076 : (Jvm.Cond.instanceMethod ({ cls := "RenamedWordsModel", name := "save", desc := "(I)I" } : Jvm.MethodName)) ∈ lw_all := lw_g (lw_at lw_m17 105 rfl) rfl
theorem q4077 : (Jvm.Cond.selects "RenamedWordsModel" ({ cls := "RenamedWordsModel", name := "save", desc := "(I)I" } : Jvm.MethodName) ({ cls := "RenamedWordsModel", name := "save", desc := "(I)I" } : Jvm.MethodName)) ∈ lw_all := lw_g (lw_at lw_m17 106 rfl) rfl
theorem q4078 : (Jvm.Cond.code ({ cls := "RenamedWordsModel", name := "save", desc := "(I)I" } : Jvm.MethodName) prog_29_method_132_code (2 : Nat) (Option.some Jvm.ClassFile.FieldType.int)) ∈ lw_all := lw_g (lw_at lw_m17 107 rfl) rfl
theorem q4079 : (Jvm.Cond.methodLink "RenamedWordsModel" (442 : Nat) ({ cls := "RenamedWordsModel", name := "noSlot", desc := "(I)Z" } : Jvm.MethodName)) ∈ lw_all := lw_g (lw_at lw_m17 108 rfl) rfl
theorem q4080 : (Jvm.Cond.privateMethod ({ cls := "RenamedWordsModel", name := "noSlot", desc := "(I)Z" } : Jvm.MethodName)) ∈ lw_tbl := lw_at lw_m17 109 rfl
theorem q4081 : (Jvm.Cond.instanceMethod ({ cls := "RenamedWordsModel", name := "noSlot", desc := "(I)Z" } : Jvm.MethodName)) ∈ lw_all := lw_g (lw_at lw_m17 110 rfl) rfl
theorem q4082 : (Jvm.Cond.code ({ cls := "RenamedWordsModel", name := "noSlot", desc := "(I)Z" } : Jvm.MethodName) prog_29_method_131_code (2 : Nat) (Option.some Jvm.ClassFile.FieldType.boolean)) ∈ lw_all := lw_g (lw_at lw_m17 111 rfl) rfl
theorem q4084 : (Jvm.Cond.instanceMethod ({ cls := "RenamedWordsModel", name := "restore", desc := "(I)I" } : Jvm.MethodName)) ∈ lw_all := lw_g (lw_at lw_m17 113 rfl) rfl
theorem q4085 : (Jvm.Cond.selects "RenamedWordsModel" ({ cls := "RenamedWordsModel", name := "restore", desc := "(I)I" } : Jvm.MethodName) ({ cls := "RenamedWordsModel", name := "restore", desc := "(I)I" } : Jvm.MethodName)) ∈ lw_all := lw_g (lw_at lw_m17 114 rfl) rfl
theorem q4086 : (Jvm.Cond.code ({ cls := "RenamedWordsModel", name := "restore", desc := "(I)I" } : Jvm.MethodName) prog_29_method_133_code (2 : Nat) (Option.some Jvm.ClassFile.FieldType.int)) ∈ lw_all := lw_g (lw_at lw_m17 115 rfl) rfl
theorem q4147 : (Jvm.Cond.castable "RenamedWordsModel" "java/lang/Object") ∈ lw_tbl := lw_at lw_m17 176 rfl
theorem in_X9 : ∀ w ∈ wsX90, w ∈ lw_all := lw_in wsX90 [3478, 3480, 3482, 3484, 3486, 3488, 3490, 3492, 3494, 3496, 3498, 3500, 3502, 3504, 3506, 3508, 3510, 3512, 3514, 3516, 3518, 3520, 3522, 3524, 3526, 3528, 3530, 3532, 3534, 3536, 3538, 3540, 3542, 3544] (by decide +kernel) (by decide +kernel)
