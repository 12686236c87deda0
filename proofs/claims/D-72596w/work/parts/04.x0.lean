/-! BagPhrases -/
set_option maxRecDepth 100000
def RX0 : String := "BagPhrases"
def TX0 : u_T := fun k => match k with
  | 0 => ("BagPhrases", "words", "[LBagPhrases$Word;", true)
  | 1 => ("BagPhrases", "many", "I", false)
  | 2 => ("BagPhrases", "now", "LBagPhrases$Setting;", true)
  | 3 => ("BagPhrases", "trial", "LBagPhrases$Setting;", true)
  | 4 => ("BagPhrases", "open", "LBagPhrases$Setting;", false)
  | 5 => ("BagPhrases", "usable", "I", false)
  | 6 => ("BagPhrases", "base", "[I", true)
  | 7 => ("BagPhrases", "rest", "[I", true)
  | 8 => ("BagPhrases", "counts", "[J", true)
  | 9 => ("BagPhrases", "worths", "[I", true)
  | 10 => ("BagPhrases", "steps", "[I", true)
  | 11 => ("BagPhrases", "states", "I", false)
  | 12 => ("BagPhrases", "found", "[I", true)
  | 13 => ("BagPhrases", "foundMany", "I", false)
  | 14 => ("BagPhrases", "layer", "[J", false)
  | 15 => ("BagPhrases", "nextLayer", "[J", false)
  | 16 => ("BagPhrases", "text", "[I", true)
  | 17 => ("BagPhrases", "length", "I", false)
  | 18 => ("BagPhrases", "at", "I", false)
  | 19 => ("BagPhrases", "readMany", "I", false)
  | 20 => ("BagPhrases", "readWords", "[LBagPhrases$Word;", true)
  | 21 => ("BagPhrases", "read", "LBagPhrases$Setting;", true)
  | 22 => ("BagPhrases", "acts", "I", false)
  | 23 => ("BagPhrases", "next", "I", false)
  | 24 => ("BagPhrases", "before", "[LBagPhrases$Setting;", true)
  | 25 => ("BagPhrases", "row", "[I", true)
  | 26 => ("BagPhrases", "told", "I", false)
  | 27 => ("BagPhrases", "left", "[I", true)
  | 28 => ("BagPhrases", "seen", "I", false)
  | 29 => ("BagPhrases", "seenWhat", "[I", true)
  | 30 => ("BagPhrases", "seenOf", "[I", true)
  | 31 => ("BagPhrases", "seenWas", "[I", true)
  | 32 => ("BagPhrases", "worth", "[J", true)
  | 33 => ("BagPhrases", "seed", "J", false)
  | 34 => ("BagPhrases", "isKept", "[Z", true)
  | _ => ("BagPhrases", "kept", "[LBagPhrases$Setting;", true)
def tyX0 : Nat → FieldType := fun k => match k with
  | 0 => .array (.object "BagPhrases$Word")
  | 1 => .int
  | 2 => .object "BagPhrases$Setting"
  | 3 => .object "BagPhrases$Setting"
  | 4 => .object "BagPhrases$Setting"
  | 5 => .int
  | 6 => .array .int
  | 7 => .array .int
  | 8 => .array .long
  | 9 => .array .int
  | 10 => .array .int
  | 11 => .int
  | 12 => .array .int
  | 13 => .int
  | 14 => .array .long
  | 15 => .array .long
  | 16 => .array .int
  | 17 => .int
  | 18 => .int
  | 19 => .int
  | 20 => .array (.object "BagPhrases$Word")
  | 21 => .object "BagPhrases$Setting"
  | 22 => .int
  | 23 => .int
  | 24 => .array (.object "BagPhrases$Setting")
  | 25 => .array .int
  | 26 => .int
  | 27 => .array .int
  | 28 => .int
  | 29 => .array .int
  | 30 => .array .int
  | 31 => .array .int
  | 32 => .array .long
  | 33 => .long
  | 34 => .array .boolean
  | _ => .array (.object "BagPhrases$Setting")
abbrev wsX00 : List Cond := u_ws RX0 TX0 36
set_option maxRecDepth 100000 in
theorem nmX0 : ∀ a, a < 36 → ∀ b, b < 36 → a ≠ b → (TX0 a).2.1 ≠ (TX0 b).2.1 := by decide +kernel
set_option maxRecDepth 100000 in
theorem tyX0_ok : ∀ k, k < 36 → parseFieldDescriptor (TX0 k).2.2.1 = some (tyX0 k) := by decide +kernel
abbrev cX0_init : ByteArray := prog_1_method_3_code
def yX0_init : MethodName := ⟨RX0, "<init>", "()V"⟩
def dkwX0_init_10 : List UInt8 := [180, 0, 57, 27, 187, 0, 9, 89, 183, 0, 96, 83, 132, 1, 1, 167, 255, 221, 177]
abbrev dktX0_init_10 : List UInt8 := dkwX0_init_10 ++ []
def dkwX0_init_9 : List UInt8 := [3, 60, 27, 16, 10, 162, 0, 35, 42, 180, 0, 11, 27, 187, 0, 9, 89, 183, 0, 96, 83, 42]
abbrev dktX0_init_9 : List UInt8 := dkwX0_init_9 ++ dktX0_init_10
def dkwX0_init_8 : List UInt8 := [42, 17, 4, 0, 188, 11, 181, 0, 86, 42, 5, 188, 4, 181, 0, 89, 42, 5, 184, 0, 63, 181, 0, 93]
abbrev dktX0_init_8 : List UInt8 := dkwX0_init_8 ++ dktX0_init_9
def dkwX0_init_7 : List UInt8 := [42, 16, 6, 188, 10, 181, 0, 77, 42, 16, 6, 188, 10, 181, 0, 80, 42, 16, 6, 188, 10, 181, 0, 83]
abbrev dktX0_init_7 : List UInt8 := dkwX0_init_7 ++ dktX0_init_8
def dkwX0_init_6 : List UInt8 := [16, 14, 184, 0, 63, 181, 0, 67, 42, 16, 12, 188, 10, 181, 0, 71, 42, 16, 8, 188, 10, 181, 0, 74]
abbrev dktX0_init_6 : List UInt8 := dkwX0_init_6 ++ dktX0_init_7
def dkwX0_init_5 : List UInt8 := [181, 0, 54, 42, 16, 10, 189, 0, 9, 181, 0, 57, 42, 187, 0, 15, 89, 183, 0, 17, 181, 0, 60, 42]
abbrev dktX0_init_5 : List UInt8 := dkwX0_init_5 ++ dktX0_init_6
def dkwX0_init_4 : List UInt8 := [17, 31, 64, 188, 11, 181, 0, 48, 42, 17, 31, 64, 188, 11, 181, 0, 51, 42, 17, 0, 180, 188, 10]
abbrev dktX0_init_4 : List UInt8 := dkwX0_init_4 ++ dktX0_init_5
def dkwX0_init_3 : List UInt8 := [188, 10, 181, 0, 39, 42, 16, 10, 188, 10, 181, 0, 42, 42, 16, 13, 188, 10, 181, 0, 45, 42]
abbrev dktX0_init_3 : List UInt8 := dkwX0_init_3 ++ dktX0_init_4
def dkwX0_init_2 : List UInt8 := [181, 0, 28, 42, 16, 8, 188, 10, 181, 0, 32, 42, 17, 39, 16, 188, 11, 181, 0, 35, 42, 17, 39, 16]
abbrev dktX0_init_2 : List UInt8 := dkwX0_init_2 ++ dktX0_init_3
def dkwX0_init_1 : List UInt8 := [42, 187, 0, 15, 89, 183, 0, 17, 181, 0, 22, 42, 42, 180, 0, 18, 181, 0, 25, 42, 16, 8, 188, 10]
abbrev dktX0_init_1 : List UInt8 := dkwX0_init_1 ++ dktX0_init_2
def dkwX0_init_0 : List UInt8 := [42, 183, 0, 3, 42, 16, 10, 189, 0, 9, 181, 0, 11, 42, 187, 0, 15, 89, 183, 0, 17, 181, 0, 18]
abbrev dktX0_init_0 : List UInt8 := dkwX0_init_0 ++ dktX0_init_1
theorem dksX0_init_0 : cX0_init.data.toList.drop 0 = dktX0_init_0 := by decide +kernel
theorem dksX0_init_1 : cX0_init.data.toList.drop 24 = dktX0_init_1 := dk_seg dksX0_init_0 24 rfl rfl
theorem dksX0_init_2 : cX0_init.data.toList.drop 48 = dktX0_init_2 := dk_seg dksX0_init_1 24 rfl rfl
theorem dksX0_init_3 : cX0_init.data.toList.drop 72 = dktX0_init_3 := dk_seg dksX0_init_2 24 rfl rfl
theorem dksX0_init_4 : cX0_init.data.toList.drop 94 = dktX0_init_4 := dk_seg dksX0_init_3 22 rfl rfl
theorem dksX0_init_5 : cX0_init.data.toList.drop 117 = dktX0_init_5 := dk_seg dksX0_init_4 23 rfl rfl
theorem dksX0_init_6 : cX0_init.data.toList.drop 141 = dktX0_init_6 := dk_seg dksX0_init_5 24 rfl rfl
theorem dksX0_init_7 : cX0_init.data.toList.drop 165 = dktX0_init_7 := dk_seg dksX0_init_6 24 rfl rfl
theorem dksX0_init_8 : cX0_init.data.toList.drop 189 = dktX0_init_8 := dk_seg dksX0_init_7 24 rfl rfl
theorem dksX0_init_9 : cX0_init.data.toList.drop 213 = dktX0_init_9 := dk_seg dksX0_init_8 24 rfl rfl
theorem dksX0_init_10 : cX0_init.data.toList.drop 235 = dktX0_init_10 := dk_seg dksX0_init_9 22 rfl rfl
theorem dX0_init_0 : decode cX0_init 0 = .ok (.aload_n 0, 1) := dk_42 (dk_at dksX0_init_0 0 rfl rfl)
theorem dX0_init_1 : decode cX0_init 1 = .ok (.invokespecial 3, 3) := dk_183 0 3 (dk_at dksX0_init_0 1 rfl rfl)
theorem dX0_init_4 : decode cX0_init 4 = .ok (.aload_n 0, 1) := dk_42 (dk_at dksX0_init_0 4 rfl rfl)
theorem dX0_init_5 : decode cX0_init 5 = .ok (.bipush 10, 2) := dk_16 10 (dk_at dksX0_init_0 5 rfl rfl)
theorem dX0_init_7 : decode cX0_init 7 = .ok (.anewarray 9, 3) := dk_189 0 9 (dk_at dksX0_init_0 7 rfl rfl)
theorem dX0_init_10 : decode cX0_init 10 = .ok (.putfield 11, 3) := dk_181 0 11 (dk_at dksX0_init_0 10 rfl rfl)
theorem dX0_init_13 : decode cX0_init 13 = .ok (.aload_n 0, 1) := dk_42 (dk_at dksX0_init_0 13 rfl rfl)
theorem dX0_init_14 : decode cX0_init 14 = .ok (.new 15, 3) := dk_187 0 15 (dk_at dksX0_init_0 14 rfl rfl)
theorem dX0_init_17 : decode cX0_init 17 = .ok (.dup, 1) := dk_89 (dk_at dksX0_init_0 17 rfl rfl)
theorem dX0_init_18 : decode cX0_init 18 = .ok (.invokespecial 17, 3) := dk_183 0 17 (dk_at dksX0_init_0 18 rfl rfl)
theorem dX0_init_21 : decode cX0_init 21 = .ok (.putfield 18, 3) := dk_181 0 18 (dk_at dksX0_init_0 21 rfl rfl)
theorem dX0_init_24 : decode cX0_init 24 = .ok (.aload_n 0, 1) := dk_42 (dk_at dksX0_init_1 0 rfl rfl)
theorem dX0_init_25 : decode cX0_init 25 = .ok (.new 15, 3) := dk_187 0 15 (dk_at dksX0_init_1 1 rfl rfl)
theorem dX0_init_28 : decode cX0_init 28 = .ok (.dup, 1) := dk_89 (dk_at dksX0_init_1 4 rfl rfl)
theorem dX0_init_29 : decode cX0_init 29 = .ok (.invokespecial 17, 3) := dk_183 0 17 (dk_at dksX0_init_1 5 rfl rfl)
theorem dX0_init_32 : decode cX0_init 32 = .ok (.putfield 22, 3) := dk_181 0 22 (dk_at dksX0_init_1 8 rfl rfl)
theorem dX0_init_35 : decode cX0_init 35 = .ok (.aload_n 0, 1) := dk_42 (dk_at dksX0_init_1 11 rfl rfl)
theorem dX0_init_36 : decode cX0_init 36 = .ok (.aload_n 0, 1) := dk_42 (dk_at dksX0_init_1 12 rfl rfl)
theorem dX0_init_37 : decode cX0_init 37 = .ok (.getfield 18, 3) := dk_180 0 18 (dk_at dksX0_init_1 13 rfl rfl)
theorem dX0_init_40 : decode cX0_init 40 = .ok (.putfield 25, 3) := dk_181 0 25 (dk_at dksX0_init_1 16 rfl rfl)
theorem dX0_init_43 : decode cX0_init 43 = .ok (.aload_n 0, 1) := dk_42 (dk_at dksX0_init_1 19 rfl rfl)
theorem dX0_init_44 : decode cX0_init 44 = .ok (.bipush 8, 2) := dk_16 8 (dk_at dksX0_init_1 20 rfl rfl)
theorem dX0_init_46 : decode cX0_init 46 = .ok (.newarray .int, 2) := dk_188_10 (dk_at dksX0_init_1 22 rfl rfl)
theorem dX0_init_48 : decode cX0_init 48 = .ok (.putfield 28, 3) := dk_181 0 28 (dk_at dksX0_init_2 0 rfl rfl)
theorem dX0_init_51 : decode cX0_init 51 = .ok (.aload_n 0, 1) := dk_42 (dk_at dksX0_init_2 3 rfl rfl)
theorem dX0_init_52 : decode cX0_init 52 = .ok (.bipush 8, 2) := dk_16 8 (dk_at dksX0_init_2 4 rfl rfl)
theorem dX0_init_54 : decode cX0_init 54 = .ok (.newarray .int, 2) := dk_188_10 (dk_at dksX0_init_2 6 rfl rfl)
theorem dX0_init_56 : decode cX0_init 56 = .ok (.putfield 32, 3) := dk_181 0 32 (dk_at dksX0_init_2 8 rfl rfl)
theorem dX0_init_59 : decode cX0_init 59 = .ok (.aload_n 0, 1) := dk_42 (dk_at dksX0_init_2 11 rfl rfl)
theorem dX0_init_60 : decode cX0_init 60 = .ok (.sipush 10000, 3) := dk_17 39 16 (dk_at dksX0_init_2 12 rfl rfl)
theorem dX0_init_63 : decode cX0_init 63 = .ok (.newarray .long, 2) := dk_188_11 (dk_at dksX0_init_2 15 rfl rfl)
theorem dX0_init_65 : decode cX0_init 65 = .ok (.putfield 35, 3) := dk_181 0 35 (dk_at dksX0_init_2 17 rfl rfl)
theorem dX0_init_68 : decode cX0_init 68 = .ok (.aload_n 0, 1) := dk_42 (dk_at dksX0_init_2 20 rfl rfl)
theorem dX0_init_69 : decode cX0_init 69 = .ok (.sipush 10000, 3) := dk_17 39 16 (dk_at dksX0_init_2 21 rfl rfl)
theorem dX0_init_72 : decode cX0_init 72 = .ok (.newarray .int, 2) := dk_188_10 (dk_at dksX0_init_3 0 rfl rfl)
theorem dX0_init_74 : decode cX0_init 74 = .ok (.putfield 39, 3) := dk_181 0 39 (dk_at dksX0_init_3 2 rfl rfl)
theorem dX0_init_77 : decode cX0_init 77 = .ok (.aload_n 0, 1) := dk_42 (dk_at dksX0_init_3 5 rfl rfl)
theorem dX0_init_78 : decode cX0_init 78 = .ok (.bipush 10, 2) := dk_16 10 (dk_at dksX0_init_3 6 rfl rfl)
theorem dX0_init_80 : decode cX0_init 80 = .ok (.newarray .int, 2) := dk_188_10 (dk_at dksX0_init_3 8 rfl rfl)
theorem dX0_init_82 : decode cX0_init 82 = .ok (.putfield 42, 3) := dk_181 0 42 (dk_at dksX0_init_3 10 rfl rfl)
theorem dX0_init_85 : decode cX0_init 85 = .ok (.aload_n 0, 1) := dk_42 (dk_at dksX0_init_3 13 rfl rfl)
theorem dX0_init_86 : decode cX0_init 86 = .ok (.bipush 13, 2) := dk_16 13 (dk_at dksX0_init_3 14 rfl rfl)
theorem dX0_init_88 : decode cX0_init 88 = .ok (.newarray .int, 2) := dk_188_10 (dk_at dksX0_init_3 16 rfl rfl)
theorem dX0_init_90 : decode cX0_init 90 = .ok (.putfield 45, 3) := dk_181 0 45 (dk_at dksX0_init_3 18 rfl rfl)
theorem dX0_init_93 : decode cX0_init 93 = .ok (.aload_n 0, 1) := dk_42 (dk_at dksX0_init_3 21 rfl rfl)
theorem dX0_init_94 : decode cX0_init 94 = .ok (.sipush 8000, 3) := dk_17 31 64 (dk_at dksX0_init_4 0 rfl rfl)
theorem dX0_init_97 : decode cX0_init 97 = .ok (.newarray .long, 2) := dk_188_11 (dk_at dksX0_init_4 3 rfl rfl)
theorem dX0_init_99 : decode cX0_init 99 = .ok (.putfield 48, 3) := dk_181 0 48 (dk_at dksX0_init_4 5 rfl rfl)
theorem dX0_init_102 : decode cX0_init 102 = .ok (.aload_n 0, 1) := dk_42 (dk_at dksX0_init_4 8 rfl rfl)
theorem dX0_init_103 : decode cX0_init 103 = .ok (.sipush 8000, 3) := dk_17 31 64 (dk_at dksX0_init_4 9 rfl rfl)
theorem dX0_init_106 : decode cX0_init 106 = .ok (.newarray .long, 2) := dk_188_11 (dk_at dksX0_init_4 12 rfl rfl)
theorem dX0_init_108 : decode cX0_init 108 = .ok (.putfield 51, 3) := dk_181 0 51 (dk_at dksX0_init_4 14 rfl rfl)
theorem dX0_init_111 : decode cX0_init 111 = .ok (.aload_n 0, 1) := dk_42 (dk_at dksX0_init_4 17 rfl rfl)
theorem dX0_init_112 : decode cX0_init 112 = .ok (.sipush 180, 3) := dk_17 0 180 (dk_at dksX0_init_4 18 rfl rfl)
theorem dX0_init_115 : decode cX0_init 115 = .ok (.newarray .int, 2) := dk_188_10 (dk_at dksX0_init_4 21 rfl rfl)
theorem dX0_init_117 : decode cX0_init 117 = .ok (.putfield 54, 3) := dk_181 0 54 (dk_at dksX0_init_5 0 rfl rfl)
theorem dX0_init_120 : decode cX0_init 120 = .ok (.aload_n 0, 1) := dk_42 (dk_at dksX0_init_5 3 rfl rfl)
theorem dX0_init_121 : decode cX0_init 121 = .ok (.bipush 10, 2) := dk_16 10 (dk_at dksX0_init_5 4 rfl rfl)
theorem dX0_init_123 : decode cX0_init 123 = .ok (.anewarray 9, 3) := dk_189 0 9 (dk_at dksX0_init_5 6 rfl rfl)
theorem dX0_init_126 : decode cX0_init 126 = .ok (.putfield 57, 3) := dk_181 0 57 (dk_at dksX0_init_5 9 rfl rfl)
theorem dX0_init_129 : decode cX0_init 129 = .ok (.aload_n 0, 1) := dk_42 (dk_at dksX0_init_5 12 rfl rfl)
theorem dX0_init_130 : decode cX0_init 130 = .ok (.new 15, 3) := dk_187 0 15 (dk_at dksX0_init_5 13 rfl rfl)
theorem dX0_init_133 : decode cX0_init 133 = .ok (.dup, 1) := dk_89 (dk_at dksX0_init_5 16 rfl rfl)
theorem dX0_init_134 : decode cX0_init 134 = .ok (.invokespecial 17, 3) := dk_183 0 17 (dk_at dksX0_init_5 17 rfl rfl)
theorem dX0_init_137 : decode cX0_init 137 = .ok (.putfield 60, 3) := dk_181 0 60 (dk_at dksX0_init_5 20 rfl rfl)
theorem dX0_init_140 : decode cX0_init 140 = .ok (.aload_n 0, 1) := dk_42 (dk_at dksX0_init_5 23 rfl rfl)
theorem dX0_init_141 : decode cX0_init 141 = .ok (.bipush 14, 2) := dk_16 14 (dk_at dksX0_init_6 0 rfl rfl)
theorem dX0_init_143 : decode cX0_init 143 = .ok (.invokestatic 63, 3) := dk_184 0 63 (dk_at dksX0_init_6 2 rfl rfl)
theorem dX0_init_146 : decode cX0_init 146 = .ok (.putfield 67, 3) := dk_181 0 67 (dk_at dksX0_init_6 5 rfl rfl)
theorem dX0_init_149 : decode cX0_init 149 = .ok (.aload_n 0, 1) := dk_42 (dk_at dksX0_init_6 8 rfl rfl)
theorem dX0_init_150 : decode cX0_init 150 = .ok (.bipush 12, 2) := dk_16 12 (dk_at dksX0_init_6 9 rfl rfl)
theorem dX0_init_152 : decode cX0_init 152 = .ok (.newarray .int, 2) := dk_188_10 (dk_at dksX0_init_6 11 rfl rfl)
theorem dX0_init_154 : decode cX0_init 154 = .ok (.putfield 71, 3) := dk_181 0 71 (dk_at dksX0_init_6 13 rfl rfl)
theorem dX0_init_157 : decode cX0_init 157 = .ok (.aload_n 0, 1) := dk_42 (dk_at dksX0_init_6 16 rfl rfl)
theorem dX0_init_158 : decode cX0_init 158 = .ok (.bipush 8, 2) := dk_16 8 (dk_at dksX0_init_6 17 rfl rfl)
theorem dX0_init_160 : decode cX0_init 160 = .ok (.newarray .int, 2) := dk_188_10 (dk_at dksX0_init_6 19 rfl rfl)
theorem dX0_init_162 : decode cX0_init 162 = .ok (.putfield 74, 3) := dk_181 0 74 (dk_at dksX0_init_6 21 rfl rfl)
theorem dX0_init_165 : decode cX0_init 165 = .ok (.aload_n 0, 1) := dk_42 (dk_at dksX0_init_7 0 rfl rfl)
theorem dX0_init_166 : decode cX0_init 166 = .ok (.bipush 6, 2) := dk_16 6 (dk_at dksX0_init_7 1 rfl rfl)
theorem dX0_init_168 : decode cX0_init 168 = .ok (.newarray .int, 2) := dk_188_10 (dk_at dksX0_init_7 3 rfl rfl)
theorem dX0_init_170 : decode cX0_init 170 = .ok (.putfield 77, 3) := dk_181 0 77 (dk_at dksX0_init_7 5 rfl rfl)
theorem dX0_init_173 : decode cX0_init 173 = .ok (.aload_n 0, 1) := dk_42 (dk_at dksX0_init_7 8 rfl rfl)
theorem dX0_init_174 : decode cX0_init 174 = .ok (.bipush 6, 2) := dk_16 6 (dk_at dksX0_init_7 9 rfl rfl)
theorem dX0_init_176 : decode cX0_init 176 = .ok (.newarray .int, 2) := dk_188_10 (dk_at dksX0_init_7 11 rfl rfl)
theorem dX0_init_178 : decode cX0_init 178 = .ok (.putfield 80, 3) := dk_181 0 80 (dk_at dksX0_init_7 13 rfl rfl)
theorem dX0_init_181 : decode cX0_init 181 = .ok (.aload_n 0, 1) := dk_42 (dk_at dksX0_init_7 16 rfl rfl)
theorem dX0_init_182 : decode cX0_init 182 = .ok (.bipush 6, 2) := dk_16 6 (dk_at dksX0_init_7 17 rfl rfl)
theorem dX0_init_184 : decode cX0_init 184 = .ok (.newarray .int, 2) := dk_188_10 (dk_at dksX0_init_7 19 rfl rfl)
theorem dX0_init_186 : decode cX0_init 186 = .ok (.putfield 83, 3) := dk_181 0 83 (dk_at dksX0_init_7 21 rfl rfl)
theorem dX0_init_189 : decode cX0_init 189 = .ok (.aload_n 0, 1) := dk_42 (dk_at dksX0_init_8 0 rfl rfl)
theorem dX0_init_190 : decode cX0_init 190 = .ok (.sipush 1024, 3) := dk_17 4 0 (dk_at dksX0_init_8 1 rfl rfl)
theorem dX0_init_193 : decode cX0_init 193 = .ok (.newarray .long, 2) := dk_188_11 (dk_at dksX0_init_8 4 rfl rfl)
theorem dX0_init_195 : decode cX0_init 195 = .ok (.putfield 86, 3) := dk_181 0 86 (dk_at dksX0_init_8 6 rfl rfl)
theorem dX0_init_198 : decode cX0_init 198 = .ok (.aload_n 0, 1) := dk_42 (dk_at dksX0_init_8 9 rfl rfl)
theorem dX0_init_199 : decode cX0_init 199 = .ok (.iconst 2, 1) := dk_5 (dk_at dksX0_init_8 10 rfl rfl)
theorem dX0_init_200 : decode cX0_init 200 = .ok (.newarray .boolean, 2) := dk_188_4 (dk_at dksX0_init_8 11 rfl rfl)
theorem dX0_init_202 : decode cX0_init 202 = .ok (.putfield 89, 3) := dk_181 0 89 (dk_at dksX0_init_8 13 rfl rfl)
theorem dX0_init_205 : decode cX0_init 205 = .ok (.aload_n 0, 1) := dk_42 (dk_at dksX0_init_8 16 rfl rfl)
theorem dX0_init_206 : decode cX0_init 206 = .ok (.iconst 2, 1) := dk_5 (dk_at dksX0_init_8 17 rfl rfl)
theorem dX0_init_207 : decode cX0_init 207 = .ok (.invokestatic 63, 3) := dk_184 0 63 (dk_at dksX0_init_8 18 rfl rfl)
theorem dX0_init_210 : decode cX0_init 210 = .ok (.putfield 93, 3) := dk_181 0 93 (dk_at dksX0_init_8 21 rfl rfl)
theorem dX0_init_213 : decode cX0_init 213 = .ok (.iconst 0, 1) := dk_3 (dk_at dksX0_init_9 0 rfl rfl)
theorem dX0_init_214 : decode cX0_init 214 = .ok (.istore_n 1, 1) := dk_60 (dk_at dksX0_init_9 1 rfl rfl)
theorem dX0_init_215 : decode cX0_init 215 = .ok (.iload_n 1, 1) := dk_27 (dk_at dksX0_init_9 2 rfl rfl)
theorem dX0_init_216 : decode cX0_init 216 = .ok (.bipush 10, 2) := dk_16 10 (dk_at dksX0_init_9 3 rfl rfl)
theorem dX0_init_218 : decode cX0_init 218 = .ok (.if_icmp .ge 35, 3) := dk_162 0 35 (dk_at dksX0_init_9 5 rfl rfl)
theorem dX0_init_221 : decode cX0_init 221 = .ok (.aload_n 0, 1) := dk_42 (dk_at dksX0_init_9 8 rfl rfl)
theorem dX0_init_222 : decode cX0_init 222 = .ok (.getfield 11, 3) := dk_180 0 11 (dk_at dksX0_init_9 9 rfl rfl)
theorem dX0_init_225 : decode cX0_init 225 = .ok (.iload_n 1, 1) := dk_27 (dk_at dksX0_init_9 12 rfl rfl)
theorem dX0_init_226 : decode cX0_init 226 = .ok (.new 9, 3) := dk_187 0 9 (dk_at dksX0_init_9 13 rfl rfl)
theorem dX0_init_229 : decode cX0_init 229 = .ok (.dup, 1) := dk_89 (dk_at dksX0_init_9 16 rfl rfl)
theorem dX0_init_230 : decode cX0_init 230 = .ok (.invokespecial 96, 3) := dk_183 0 96 (dk_at dksX0_init_9 17 rfl rfl)
theorem dX0_init_233 : decode cX0_init 233 = .ok (.aastore, 1) := dk_83 (dk_at dksX0_init_9 20 rfl rfl)
theorem dX0_init_234 : decode cX0_init 234 = .ok (.aload_n 0, 1) := dk_42 (dk_at dksX0_init_9 21 rfl rfl)
theorem dX0_init_235 : decode cX0_init 235 = .ok (.getfield 57, 3) := dk_180 0 57 (dk_at dksX0_init_10 0 rfl rfl)
theorem dX0_init_238 : decode cX0_init 238 = .ok (.iload_n 1, 1) := dk_27 (dk_at dksX0_init_10 3 rfl rfl)
theorem dX0_init_239 : decode cX0_init 239 = .ok (.new 9, 3) := dk_187 0 9 (dk_at dksX0_init_10 4 rfl rfl)
theorem dX0_init_242 : decode cX0_init 242 = .ok (.dup, 1) := dk_89 (dk_at dksX0_init_10 7 rfl rfl)
theorem dX0_init_243 : decode cX0_init 243 = .ok (.invokespecial 96, 3) := dk_183 0 96 (dk_at dksX0_init_10 8 rfl rfl)
theorem dX0_init_246 : decode cX0_init 246 = .ok (.aastore, 1) := dk_83 (dk_at dksX0_init_10 11 rfl rfl)
theorem dX0_init_247 : decode cX0_init 247 = .ok (.iinc 1 1, 3) := dk_132 1 1 (dk_at dksX0_init_10 12 rfl rfl)
theorem dX0_init_250 : decode cX0_init 250 = .ok (.goto (-35), 3) := dk_167 255 221 (dk_at dksX0_init_10 15 rfl rfl)
theorem dX0_init_253 : decode cX0_init 253 = .ok (.return_, 1) := dk_177 (dk_at dksX0_init_10 18 rfl rfl)
abbrev cX0_settings : ByteArray := prog_1_method_47_code
def yX0_settings : MethodName := ⟨RX0, "settings", "(I)[LBagPhrases$Setting;"⟩
def dkwX0_settings_1 : List UInt8 := [132, 2, 1, 167, 255, 238, 43, 176]
abbrev dktX0_settings_1 : List UInt8 := dkwX0_settings_1 ++ []
def dkwX0_settings_0 : List UInt8 := [26, 189, 0, 15, 76, 3, 61, 28, 26, 162, 0, 19, 43, 28, 187, 0, 15, 89, 183, 0, 17, 83]
abbrev dktX0_settings_0 : List UInt8 := dkwX0_settings_0 ++ dktX0_settings_1
theorem dksX0_settings_0 : cX0_settings.data.toList.drop 0 = dktX0_settings_0 := by decide +kernel
theorem dksX0_settings_1 : cX0_settings.data.toList.drop 22 = dktX0_settings_1 := dk_seg dksX0_settings_0 22 rfl rfl
theorem dX0_settings_0 : decode cX0_settings 0 = .ok (.iload_n 0, 1) := dk_26 (dk_at dksX0_settings_0 0 rfl rfl)
theorem dX0_settings_1 : decode cX0_settings 1 = .ok (.anewarray 15, 3) := dk_189 0 15 (dk_at dksX0_settings_0 1 rfl rfl)
theorem dX0_settings_4 : decode cX0_settings 4 = .ok (.astore_n 1, 1) := dk_76 (dk_at dksX0_settings_0 4 rfl rfl)
theorem dX0_settings_5 : decode cX0_settings 5 = .ok (.iconst 0, 1) := dk_3 (dk_at dksX0_settings_0 5 rfl rfl)
theorem dX0_settings_6 : decode cX0_settings 6 = .ok (.istore_n 2, 1) := dk_61 (dk_at dksX0_settings_0 6 rfl rfl)
theorem dX0_settings_7 : decode cX0_settings 7 = .ok (.iload_n 2, 1) := dk_28 (dk_at dksX0_settings_0 7 rfl rfl)
theorem dX0_settings_8 : decode cX0_settings 8 = .ok (.iload_n 0, 1) := dk_26 (dk_at dksX0_settings_0 8 rfl rfl)
theorem dX0_settings_9 : decode cX0_settings 9 = .ok (.if_icmp .ge 19, 3) := dk_162 0 19 (dk_at dksX0_settings_0 9 rfl rfl)
theorem dX0_settings_12 : decode cX0_settings 12 = .ok (.aload_n 1, 1) := dk_43 (dk_at dksX0_settings_0 12 rfl rfl)
theorem dX0_settings_13 : decode cX0_settings 13 = .ok (.iload_n 2, 1) := dk_28 (dk_at dksX0_settings_0 13 rfl rfl)
theorem dX0_settings_14 : decode cX0_settings 14 = .ok (.new 15, 3) := dk_187 0 15 (dk_at dksX0_settings_0 14 rfl rfl)
theorem dX0_settings_17 : decode cX0_settings 17 = .ok (.dup, 1) := dk_89 (dk_at dksX0_settings_0 17 rfl rfl)
theorem dX0_settings_18 : decode cX0_settings 18 = .ok (.invokespecial 17, 3) := dk_183 0 17 (dk_at dksX0_settings_0 18 rfl rfl)
theorem dX0_settings_21 : decode cX0_settings 21 = .ok (.aastore, 1) := dk_83 (dk_at dksX0_settings_0 21 rfl rfl)
theorem dX0_settings_22 : decode cX0_settings 22 = .ok (.iinc 2 1, 3) := dk_132 2 1 (dk_at dksX0_settings_1 0 rfl rfl)
theorem dX0_settings_25 : decode cX0_settings 25 = .ok (.goto (-18), 3) := dk_167 255 238 (dk_at dksX0_settings_1 3 rfl rfl)
theorem dX0_settings_28 : decode cX0_settings 28 = .ok (.aload_n 1, 1) := dk_43 (dk_at dksX0_settings_1 6 rfl rfl)
theorem dX0_settings_29 : decode cX0_settings 29 = .ok (.areturn, 1) := dk_176 (dk_at dksX0_settings_1 7 rfl rfl)
abbrev cX0_write : ByteArray := prog_1_method_22_code
def yX0_write : MethodName := ⟨RX0, "write", "(I)I"⟩
def dkwX0_write_2 : List UInt8 := [181, 0, 194, 42, 180, 0, 194, 172]
abbrev dktX0_write_2 : List UInt8 := dkwX0_write_2 ++ []
def dkwX0_write_1 : List UInt8 := [160, 0, 6, 16, 252, 172, 42, 180, 0, 54, 42, 180, 0, 194, 27, 79, 42, 89, 180, 0, 194, 4, 96]
abbrev dktX0_write_1 : List UInt8 := dkwX0_write_1 ++ dktX0_write_2
def dkwX0_write_0 : List UInt8 := [27, 133, 9, 20, 0, 188, 184, 0, 190, 154, 0, 6, 16, 254, 172, 42, 180, 0, 194, 17, 0, 180]
abbrev dktX0_write_0 : List UInt8 := dkwX0_write_0 ++ dktX0_write_1
theorem dksX0_write_0 : cX0_write.data.toList.drop 0 = dktX0_write_0 := by decide +kernel
theorem dksX0_write_1 : cX0_write.data.toList.drop 22 = dktX0_write_1 := dk_seg dksX0_write_0 22 rfl rfl
theorem dksX0_write_2 : cX0_write.data.toList.drop 45 = dktX0_write_2 := dk_seg dksX0_write_1 23 rfl rfl
theorem dX0_write_0 : decode cX0_write 0 = .ok (.iload_n 1, 1) := dk_27 (dk_at dksX0_write_0 0 rfl rfl)
theorem dX0_write_1 : decode cX0_write 1 = .ok (.i2l, 1) := dk_133 (dk_at dksX0_write_0 1 rfl rfl)
theorem dX0_write_2 : decode cX0_write 2 = .ok (.lconst 0, 1) := dk_9 (dk_at dksX0_write_0 2 rfl rfl)
theorem dX0_write_3 : decode cX0_write 3 = .ok (.ldc2_w 188, 3) := dk_20 0 188 (dk_at dksX0_write_0 3 rfl rfl)
theorem dX0_write_6 : decode cX0_write 6 = .ok (.invokestatic 190, 3) := dk_184 0 190 (dk_at dksX0_write_0 6 rfl rfl)
theorem dX0_write_9 : decode cX0_write 9 = .ok (.ifCond .ne 6, 3) := dk_154 0 6 (dk_at dksX0_write_0 9 rfl rfl)
theorem dX0_write_12 : decode cX0_write 12 = .ok (.bipush (-2), 2) := dk_16 254 (dk_at dksX0_write_0 12 rfl rfl)
theorem dX0_write_14 : decode cX0_write 14 = .ok (.ireturn, 1) := dk_172 (dk_at dksX0_write_0 14 rfl rfl)
theorem dX0_write_15 : decode cX0_write 15 = .ok (.aload_n 0, 1) := dk_42 (dk_at dksX0_write_0 15 rfl rfl)
theorem dX0_write_16 : decode cX0_write 16 = .ok (.getfield 194, 3) := dk_180 0 194 (dk_at dksX0_write_0 16 rfl rfl)
theorem dX0_write_19 : decode cX0_write 19 = .ok (.sipush 180, 3) := dk_17 0 180 (dk_at dksX0_write_0 19 rfl rfl)
theorem dX0_write_22 : decode cX0_write 22 = .ok (.if_icmp .ne 6, 3) := dk_160 0 6 (dk_at dksX0_write_1 0 rfl rfl)
theorem dX0_write_25 : decode cX0_write 25 = .ok (.bipush (-4), 2) := dk_16 252 (dk_at dksX0_write_1 3 rfl rfl)
theorem dX0_write_27 : decode cX0_write 27 = .ok (.ireturn, 1) := dk_172 (dk_at dksX0_write_1 5 rfl rfl)
theorem dX0_write_28 : decode cX0_write 28 = .ok (.aload_n 0, 1) := dk_42 (dk_at dksX0_write_1 6 rfl rfl)
theorem dX0_write_29 : decode cX0_write 29 = .ok (.getfield 54, 3) := dk_180 0 54 (dk_at dksX0_write_1 7 rfl rfl)
theorem dX0_write_32 : decode cX0_write 32 = .ok (.aload_n 0, 1) := dk_42 (dk_at dksX0_write_1 10 rfl rfl)
theorem dX0_write_33 : decode cX0_write 33 = .ok (.getfield 194, 3) := dk_180 0 194 (dk_at dksX0_write_1 11 rfl rfl)
theorem dX0_write_36 : decode cX0_write 36 = .ok (.iload_n 1, 1) := dk_27 (dk_at dksX0_write_1 14 rfl rfl)
theorem dX0_write_37 : decode cX0_write 37 = .ok (.iastore, 1) := dk_79 (dk_at dksX0_write_1 15 rfl rfl)
theorem dX0_write_38 : decode cX0_write 38 = .ok (.aload_n 0, 1) := dk_42 (dk_at dksX0_write_1 16 rfl rfl)
theorem dX0_write_39 : decode cX0_write 39 = .ok (.dup, 1) := dk_89 (dk_at dksX0_write_1 17 rfl rfl)
theorem dX0_write_40 : decode cX0_write 40 = .ok (.getfield 194, 3) := dk_180 0 194 (dk_at dksX0_write_1 18 rfl rfl)
theorem dX0_write_43 : decode cX0_write 43 = .ok (.iconst 1, 1) := dk_4 (dk_at dksX0_write_1 21 rfl rfl)
theorem dX0_write_44 : decode cX0_write 44 = .ok (.iadd, 1) := dk_96 (dk_at dksX0_write_1 22 rfl rfl)
theorem dX0_write_45 : decode cX0_write 45 = .ok (.putfield 194, 3) := dk_181 0 194 (dk_at dksX0_write_2 0 rfl rfl)
theorem dX0_write_48 : decode cX0_write 48 = .ok (.aload_n 0, 1) := dk_42 (dk_at dksX0_write_2 3 rfl rfl)
theorem dX0_write_49 : decode cX0_write 49 = .ok (.getfield 194, 3) := dk_180 0 194 (dk_at dksX0_write_2 4 rfl rfl)
theorem dX0_write_52 : decode cX0_write 52 = .ok (.ireturn, 1) := dk_172 (dk_at dksX0_write_2 7 rfl rfl)
abbrev cX0_isIn : ByteArray := prog_1_method_1_code
def yX0_isIn : MethodName := ⟨RX0, "isIn", "(JJJ)Z"⟩
def dkwX0_isIn_0 : List UInt8 := [30, 32, 148, 155, 0, 14, 30, 22, 4, 148, 157, 0, 7, 4, 167, 0, 4, 3, 172]
abbrev dktX0_isIn_0 : List UInt8 := dkwX0_isIn_0 ++ []
theorem dksX0_isIn_0 : cX0_isIn.data.toList.drop 0 = dktX0_isIn_0 := by decide +kernel
theorem dX0_isIn_0 : decode cX0_isIn 0 = .ok (.lload_n 0, 1) := dk_30 (dk_at dksX0_isIn_0 0 rfl rfl)
theorem dX0_isIn_1 : decode cX0_isIn 1 = .ok (.lload_n 2, 1) := dk_32 (dk_at dksX0_isIn_0 1 rfl rfl)
theorem dX0_isIn_2 : decode cX0_isIn 2 = .ok (.lcmp, 1) := dk_148 (dk_at dksX0_isIn_0 2 rfl rfl)
theorem dX0_isIn_3 : decode cX0_isIn 3 = .ok (.ifCond .lt 14, 3) := dk_155 0 14 (dk_at dksX0_isIn_0 3 rfl rfl)
theorem dX0_isIn_6 : decode cX0_isIn 6 = .ok (.lload_n 0, 1) := dk_30 (dk_at dksX0_isIn_0 6 rfl rfl)
theorem dX0_isIn_7 : decode cX0_isIn 7 = .ok (.lload 4, 2) := dk_22 4 (dk_at dksX0_isIn_0 7 rfl rfl)
theorem dX0_isIn_9 : decode cX0_isIn 9 = .ok (.lcmp, 1) := dk_148 (dk_at dksX0_isIn_0 9 rfl rfl)
theorem dX0_isIn_10 : decode cX0_isIn 10 = .ok (.ifCond .gt 7, 3) := dk_157 0 7 (dk_at dksX0_isIn_0 10 rfl rfl)
theorem dX0_isIn_13 : decode cX0_isIn 13 = .ok (.iconst 1, 1) := dk_4 (dk_at dksX0_isIn_0 13 rfl rfl)
theorem dX0_isIn_14 : decode cX0_isIn 14 = .ok (.goto 4, 3) := dk_167 0 4 (dk_at dksX0_isIn_0 14 rfl rfl)
theorem dX0_isIn_17 : decode cX0_isIn 17 = .ok (.iconst 0, 1) := dk_3 (dk_at dksX0_isIn_0 17 rfl rfl)
theorem dX0_isIn_18 : decode cX0_isIn 18 = .ok (.ireturn, 1) := dk_172 (dk_at dksX0_isIn_0 18 rfl rfl)
abbrev cX0_wipe : ByteArray := prog_1_method_23_code
def yX0_wipe : MethodName := ⟨RX0, "wipe", "()I"⟩
def dkwX0_wipe_0 : List UInt8 := [42, 180, 0, 194, 60, 42, 3, 181, 0, 194, 27, 172]
abbrev dktX0_wipe_0 : List UInt8 := dkwX0_wipe_0 ++ []
theorem dksX0_wipe_0 : cX0_wipe.data.toList.drop 0 = dktX0_wipe_0 := by decide +kernel
theorem dX0_wipe_0 : decode cX0_wipe 0 = .ok (.aload_n 0, 1) := dk_42 (dk_at dksX0_wipe_0 0 rfl rfl)
theorem dX0_wipe_1 : decode cX0_wipe 1 = .ok (.getfield 194, 3) := dk_180 0 194 (dk_at dksX0_wipe_0 1 rfl rfl)
theorem dX0_wipe_4 : decode cX0_wipe 4 = .ok (.istore_n 1, 1) := dk_60 (dk_at dksX0_wipe_0 4 rfl rfl)
theorem dX0_wipe_5 : decode cX0_wipe 5 = .ok (.aload_n 0, 1) := dk_42 (dk_at dksX0_wipe_0 5 rfl rfl)
theorem dX0_wipe_6 : decode cX0_wipe 6 = .ok (.iconst 0, 1) := dk_3 (dk_at dksX0_wipe_0 6 rfl rfl)
theorem dX0_wipe_7 : decode cX0_wipe 7 = .ok (.putfield 194, 3) := dk_181 0 194 (dk_at dksX0_wipe_0 7 rfl rfl)
theorem dX0_wipe_10 : decode cX0_wipe 10 = .ok (.iload_n 1, 1) := dk_27 (dk_at dksX0_wipe_0 10 rfl rfl)
theorem dX0_wipe_11 : decode cX0_wipe 11 = .ok (.ireturn, 1) := dk_172 (dk_at dksX0_wipe_0 11 rfl rfl)
abbrev cX0_fault : ByteArray := prog_1_method_33_code
def yX0_fault : MethodName := ⟨RX0, "fault", "()I"⟩
theorem dX0_fault_0 : decode cX0_fault 0 = .ok (.aload_n 0, 1) := by decide +kernel
theorem dX0_fault_1 : decode cX0_fault 1 = .ok (.invokevirtual 245, 3) := by decide +kernel
theorem dX0_fault_4 : decode cX0_fault 4 = .ok (.ireturn, 1) := by decide +kernel
abbrev cX0_readHouse : ByteArray := prog_1_method_32_code
def yX0_readHouse : MethodName := ⟨RX0, "readHouse", "()I"⟩
def dkwX0_readHouse_2 : List UInt8 := [16, 247, 172]
abbrev dktX0_readHouse_2 : List UInt8 := dkwX0_readHouse_2 ++ []
def dkwX0_readHouse_1 : List UInt8 := [42, 180, 0, 197, 42, 180, 0, 194, 162, 0, 15, 42, 182, 0, 242, 154, 255, 241, 42, 180, 0, 197, 172]
abbrev dktX0_readHouse_1 : List UInt8 := dkwX0_readHouse_1 ++ dktX0_readHouse_2
def dkwX0_readHouse_0 : List UInt8 := [42, 3, 181, 0, 197, 42, 3, 181, 0, 200, 42, 180, 0, 60, 187, 0, 15, 89, 183, 0, 17, 182, 0, 238]
abbrev dktX0_readHouse_0 : List UInt8 := dkwX0_readHouse_0 ++ dktX0_readHouse_1
theorem dksX0_readHouse_0 : cX0_readHouse.data.toList.drop 0 = dktX0_readHouse_0 := by decide +kernel
theorem dksX0_readHouse_1 : cX0_readHouse.data.toList.drop 24 = dktX0_readHouse_1 := dk_seg dksX0_readHouse_0 24 rfl rfl
theorem dksX0_readHouse_2 : cX0_readHouse.data.toList.drop 47 = dktX0_readHouse_2 := dk_seg dksX0_readHouse_1 23 rfl rfl
theorem dX0_readHouse_0 : decode cX0_readHouse 0 = .ok (.aload_n 0, 1) := dk_42 (dk_at dksX0_readHouse_0 0 rfl rfl)
theorem dX0_readHouse_1 : decode cX0_readHouse 1 = .ok (.iconst 0, 1) := dk_3 (dk_at dksX0_readHouse_0 1 rfl rfl)
theorem dX0_readHouse_2 : decode cX0_readHouse 2 = .ok (.putfield 197, 3) := dk_181 0 197 (dk_at dksX0_readHouse_0 2 rfl rfl)
theorem dX0_readHouse_5 : decode cX0_readHouse 5 = .ok (.aload_n 0, 1) := dk_42 (dk_at dksX0_readHouse_0 5 rfl rfl)
theorem dX0_readHouse_6 : decode cX0_readHouse 6 = .ok (.iconst 0, 1) := dk_3 (dk_at dksX0_readHouse_0 6 rfl rfl)
theorem dX0_readHouse_7 : decode cX0_readHouse 7 = .ok (.putfield 200, 3) := dk_181 0 200 (dk_at dksX0_readHouse_0 7 rfl rfl)
theorem dX0_readHouse_10 : decode cX0_readHouse 10 = .ok (.aload_n 0, 1) := dk_42 (dk_at dksX0_readHouse_0 10 rfl rfl)
theorem dX0_readHouse_11 : decode cX0_readHouse 11 = .ok (.getfield 60, 3) := dk_180 0 60 (dk_at dksX0_readHouse_0 11 rfl rfl)
theorem dX0_readHouse_14 : decode cX0_readHouse 14 = .ok (.new 15, 3) := dk_187 0 15 (dk_at dksX0_readHouse_0 14 rfl rfl)
theorem dX0_readHouse_17 : decode cX0_readHouse 17 = .ok (.dup, 1) := dk_89 (dk_at dksX0_readHouse_0 17 rfl rfl)
theorem dX0_readHouse_18 : decode cX0_readHouse 18 = .ok (.invokespecial 17, 3) := dk_183 0 17 (dk_at dksX0_readHouse_0 18 rfl rfl)
theorem dX0_readHouse_21 : decode cX0_readHouse 21 = .ok (.invokevirtual 238, 3) := dk_182 0 238 (dk_at dksX0_readHouse_0 21 rfl rfl)
theorem dX0_readHouse_24 : decode cX0_readHouse 24 = .ok (.aload_n 0, 1) := dk_42 (dk_at dksX0_readHouse_1 0 rfl rfl)
theorem dX0_readHouse_25 : decode cX0_readHouse 25 = .ok (.getfield 197, 3) := dk_180 0 197 (dk_at dksX0_readHouse_1 1 rfl rfl)
theorem dX0_readHouse_28 : decode cX0_readHouse 28 = .ok (.aload_n 0, 1) := dk_42 (dk_at dksX0_readHouse_1 4 rfl rfl)
theorem dX0_readHouse_29 : decode cX0_readHouse 29 = .ok (.getfield 194, 3) := dk_180 0 194 (dk_at dksX0_readHouse_1 5 rfl rfl)
theorem dX0_readHouse_32 : decode cX0_readHouse 32 = .ok (.if_icmp .ge 15, 3) := dk_162 0 15 (dk_at dksX0_readHouse_1 8 rfl rfl)
theorem dX0_readHouse_35 : decode cX0_readHouse 35 = .ok (.aload_n 0, 1) := dk_42 (dk_at dksX0_readHouse_1 11 rfl rfl)
theorem dX0_readHouse_36 : decode cX0_readHouse 36 = .ok (.invokevirtual 242, 3) := dk_182 0 242 (dk_at dksX0_readHouse_1 12 rfl rfl)
theorem dX0_readHouse_39 : decode cX0_readHouse 39 = .ok (.ifCond .ne (-15), 3) := dk_154 255 241 (dk_at dksX0_readHouse_1 15 rfl rfl)
theorem dX0_readHouse_42 : decode cX0_readHouse 42 = .ok (.aload_n 0, 1) := dk_42 (dk_at dksX0_readHouse_1 18 rfl rfl)
theorem dX0_readHouse_43 : decode cX0_readHouse 43 = .ok (.getfield 197, 3) := dk_180 0 197 (dk_at dksX0_readHouse_1 19 rfl rfl)
theorem dX0_readHouse_46 : decode cX0_readHouse 46 = .ok (.ireturn, 1) := dk_172 (dk_at dksX0_readHouse_1 22 rfl rfl)
theorem dX0_readHouse_47 : decode cX0_readHouse 47 = .ok (.bipush (-9), 2) := dk_16 247 (dk_at dksX0_readHouse_2 0 rfl rfl)
theorem dX0_readHouse_49 : decode cX0_readHouse 49 = .ok (.ireturn, 1) := dk_172 (dk_at dksX0_readHouse_2 2 rfl rfl)
abbrev cX0_readPart : ByteArray := prog_1_method_31_code
def yX0_readPart : MethodName := ⟨RX0, "readPart", "()Z"⟩
def dkwX0_readPart_3 : List UInt8 := [42, 180, 0, 197, 46, 16, 58, 160, 0, 14, 42, 182, 0, 235, 153, 0, 7, 4, 167, 0, 4, 3, 172]
abbrev dktX0_readPart_3 : List UInt8 := dkwX0_readPart_3 ++ []
def dkwX0_readPart_2 : List UInt8 := [42, 182, 0, 222, 172, 42, 182, 0, 226, 172, 42, 182, 0, 229, 172, 42, 182, 0, 232, 172, 42, 180, 0, 54]
abbrev dktX0_readPart_2 : List UInt8 := dkwX0_readPart_2 ++ dktX0_readPart_3
def dkwX0_readPart_1 : List UInt8 := [171, 0, 0, 0, 0, 0, 63, 0, 0, 0, 4, 0, 0, 0, 43, 0, 0, 0, 48, 0, 0, 0, 46, 0, 0, 0, 58, 0, 0, 0, 94, 0, 0, 0, 53, 0, 0, 0, 119, 0, 0, 0, 43]
abbrev dktX0_readPart_1 : List UInt8 := dkwX0_readPart_1 ++ dktX0_readPart_2
def dkwX0_readPart_0 : List UInt8 := [42, 180, 0, 54, 42, 180, 0, 197, 46]
abbrev dktX0_readPart_0 : List UInt8 := dkwX0_readPart_0 ++ dktX0_readPart_1
theorem dksX0_readPart_0 : cX0_readPart.data.toList.drop 0 = dktX0_readPart_0 := by decide +kernel
theorem dksX0_readPart_1 : cX0_readPart.data.toList.drop 9 = dktX0_readPart_1 := dk_seg dksX0_readPart_0 9 rfl rfl
theorem dksX0_readPart_2 : cX0_readPart.data.toList.drop 52 = dktX0_readPart_2 := dk_seg dksX0_readPart_1 43 rfl rfl
theorem dksX0_readPart_3 : cX0_readPart.data.toList.drop 76 = dktX0_readPart_3 := dk_seg dksX0_readPart_2 24 rfl rfl
theorem dX0_readPart_0 : decode cX0_readPart 0 = .ok (.aload_n 0, 1) := dk_42 (dk_at dksX0_readPart_0 0 rfl rfl)
theorem dX0_readPart_1 : decode cX0_readPart 1 = .ok (.getfield 54, 3) := dk_180 0 54 (dk_at dksX0_readPart_0 1 rfl rfl)
theorem dX0_readPart_4 : decode cX0_readPart 4 = .ok (.aload_n 0, 1) := dk_42 (dk_at dksX0_readPart_0 4 rfl rfl)
theorem dX0_readPart_5 : decode cX0_readPart 5 = .ok (.getfield 197, 3) := dk_180 0 197 (dk_at dksX0_readPart_0 5 rfl rfl)
theorem dX0_readPart_8 : decode cX0_readPart 8 = .ok (.iaload, 1) := dk_46 (dk_at dksX0_readPart_0 8 rfl rfl)
theorem dX0_readPart_9 : decode cX0_readPart 9 = .ok (.lookupswitch 63 #[(43, 48), (46, 58), (94, 53), (119, 43)], 43) := by decide +kernel
theorem dX0_readPart_52 : decode cX0_readPart 52 = .ok (.aload_n 0, 1) := dk_42 (dk_at dksX0_readPart_2 0 rfl rfl)
theorem dX0_readPart_53 : decode cX0_readPart 53 = .ok (.invokevirtual 222, 3) := dk_182 0 222 (dk_at dksX0_readPart_2 1 rfl rfl)
theorem dX0_readPart_56 : decode cX0_readPart 56 = .ok (.ireturn, 1) := dk_172 (dk_at dksX0_readPart_2 4 rfl rfl)
theorem dX0_readPart_57 : decode cX0_readPart 57 = .ok (.aload_n 0, 1) := dk_42 (dk_at dksX0_readPart_2 5 rfl rfl)
theorem dX0_readPart_58 : decode cX0_readPart 58 = .ok (.invokevirtual 226, 3) := dk_182 0 226 (dk_at dksX0_readPart_2 6 rfl rfl)
theorem dX0_readPart_61 : decode cX0_readPart 61 = .ok (.ireturn, 1) := dk_172 (dk_at dksX0_readPart_2 9 rfl rfl)
theorem dX0_readPart_62 : decode cX0_readPart 62 = .ok (.aload_n 0, 1) := dk_42 (dk_at dksX0_readPart_2 10 rfl rfl)
theorem dX0_readPart_63 : decode cX0_readPart 63 = .ok (.invokevirtual 229, 3) := dk_182 0 229 (dk_at dksX0_readPart_2 11 rfl rfl)
theorem dX0_readPart_66 : decode cX0_readPart 66 = .ok (.ireturn, 1) := dk_172 (dk_at dksX0_readPart_2 14 rfl rfl)
theorem dX0_readPart_67 : decode cX0_readPart 67 = .ok (.aload_n 0, 1) := dk_42 (dk_at dksX0_readPart_2 15 rfl rfl)
theorem dX0_readPart_68 : decode cX0_readPart 68 = .ok (.invokevirtual 232, 3) := dk_182 0 232 (dk_at dksX0_readPart_2 16 rfl rfl)
theorem dX0_readPart_71 : decode cX0_readPart 71 = .ok (.ireturn, 1) := dk_172 (dk_at dksX0_readPart_2 19 rfl rfl)
theorem dX0_readPart_72 : decode cX0_readPart 72 = .ok (.aload_n 0, 1) := dk_42 (dk_at dksX0_readPart_2 20 rfl rfl)
theorem dX0_readPart_73 : decode cX0_readPart 73 = .ok (.getfield 54, 3) := dk_180 0 54 (dk_at dksX0_readPart_2 21 rfl rfl)
theorem dX0_readPart_76 : decode cX0_readPart 76 = .ok (.aload_n 0, 1) := dk_42 (dk_at dksX0_readPart_3 0 rfl rfl)
theorem dX0_readPart_77 : decode cX0_readPart 77 = .ok (.getfield 197, 3) := dk_180 0 197 (dk_at dksX0_readPart_3 1 rfl rfl)
theorem dX0_readPart_80 : decode cX0_readPart 80 = .ok (.iaload, 1) := dk_46 (dk_at dksX0_readPart_3 4 rfl rfl)
theorem dX0_readPart_81 : decode cX0_readPart 81 = .ok (.bipush 58, 2) := dk_16 58 (dk_at dksX0_readPart_3 5 rfl rfl)
theorem dX0_readPart_83 : decode cX0_readPart 83 = .ok (.if_icmp .ne 14, 3) := dk_160 0 14 (dk_at dksX0_readPart_3 7 rfl rfl)
theorem dX0_readPart_86 : decode cX0_readPart 86 = .ok (.aload_n 0, 1) := dk_42 (dk_at dksX0_readPart_3 10 rfl rfl)
theorem dX0_readPart_87 : decode cX0_readPart 87 = .ok (.invokevirtual 235, 3) := dk_182 0 235 (dk_at dksX0_readPart_3 11 rfl rfl)
theorem dX0_readPart_90 : decode cX0_readPart 90 = .ok (.ifCond .eq 7, 3) := dk_153 0 7 (dk_at dksX0_readPart_3 14 rfl rfl)
theorem dX0_readPart_93 : decode cX0_readPart 93 = .ok (.iconst 1, 1) := dk_4 (dk_at dksX0_readPart_3 17 rfl rfl)
theorem dX0_readPart_94 : decode cX0_readPart 94 = .ok (.goto 4, 3) := dk_167 0 4 (dk_at dksX0_readPart_3 18 rfl rfl)
theorem dX0_readPart_97 : decode cX0_readPart 97 = .ok (.iconst 0, 1) := dk_3 (dk_at dksX0_readPart_3 21 rfl rfl)
theorem dX0_readPart_98 : decode cX0_readPart 98 = .ok (.ireturn, 1) := dk_172 (dk_at dksX0_readPart_3 22 rfl rfl)
abbrev cX0_readWord : ByteArray := prog_1_method_25_code
def yX0_readWord : MethodName := ⟨RX0, "readWord", "()Z"⟩
def dkwX0_readWord_7 : List UInt8 := [180, 0, 200, 21, 4, 79, 42, 89, 180, 0, 200, 4, 96, 181, 0, 200, 4, 172]
abbrev dktX0_readWord_7 : List UInt8 := dkwX0_readWord_7 ++ []
def dkwX0_readWord_6 : List UInt8 := [160, 0, 5, 3, 172, 42, 89, 180, 0, 197, 4, 96, 181, 0, 197, 42, 180, 0, 60, 180, 0, 156, 42]
abbrev dktX0_readWord_6 : List UInt8 := dkwX0_readWord_6 ++ dktX0_readWord_7
def dkwX0_readWord_5 : List UInt8 := [181, 0, 197, 43, 29, 181, 0, 135, 42, 16, 48, 16, 10, 182, 0, 206, 54, 4, 21, 4, 16, 247]
abbrev dktX0_readWord_5 : List UInt8 := dkwX0_readWord_5 ++ dktX0_readWord_6
def dkwX0_readWord_4 : List UInt8 := [62, 43, 180, 0, 210, 153, 0, 9, 29, 16, 247, 160, 0, 5, 3, 172, 42, 89, 180, 0, 197, 4, 96]
abbrev dktX0_readWord_4 : List UInt8 := dkwX0_readWord_4 ++ dktX0_readWord_5
def dkwX0_readWord_3 : List UInt8 := [4, 96, 181, 0, 197, 42, 16, 97, 16, 8, 182, 0, 206, 61, 167, 255, 217, 42, 16, 65, 7, 182, 0, 206]
abbrev dktX0_readWord_3 : List UInt8 := dkwX0_readWord_3 ++ dktX0_readWord_4
def dkwX0_readWord_2 : List UInt8 := [16, 247, 159, 0, 39, 43, 180, 0, 210, 16, 6, 162, 0, 30, 43, 28, 182, 0, 211, 42, 89, 180, 0, 197]
abbrev dktX0_readWord_2 : List UInt8 := dkwX0_readWord_2 ++ dktX0_readWord_3
def dkwX0_readWord_1 : List UInt8 := [182, 0, 203, 42, 89, 180, 0, 197, 4, 96, 181, 0, 197, 42, 16, 97, 16, 8, 182, 0, 206, 61, 28]
abbrev dktX0_readWord_1 : List UInt8 := dkwX0_readWord_1 ++ dktX0_readWord_2
def dkwX0_readWord_0 : List UInt8 := [42, 180, 0, 200, 16, 10, 160, 0, 5, 3, 172, 42, 180, 0, 57, 42, 180, 0, 200, 50, 76, 43]
abbrev dktX0_readWord_0 : List UInt8 := dkwX0_readWord_0 ++ dktX0_readWord_1
theorem dksX0_readWord_0 : cX0_readWord.data.toList.drop 0 = dktX0_readWord_0 := by decide +kernel
theorem dksX0_readWord_1 : cX0_readWord.data.toList.drop 22 = dktX0_readWord_1 := dk_seg dksX0_readWord_0 22 rfl rfl
theorem dksX0_readWord_2 : cX0_readWord.data.toList.drop 45 = dktX0_readWord_2 := dk_seg dksX0_readWord_1 23 rfl rfl
theorem dksX0_readWord_3 : cX0_readWord.data.toList.drop 69 = dktX0_readWord_3 := dk_seg dksX0_readWord_2 24 rfl rfl
theorem dksX0_readWord_4 : cX0_readWord.data.toList.drop 93 = dktX0_readWord_4 := dk_seg dksX0_readWord_3 24 rfl rfl
theorem dksX0_readWord_5 : cX0_readWord.data.toList.drop 116 = dktX0_readWord_5 := dk_seg dksX0_readWord_4 23 rfl rfl
theorem dksX0_readWord_6 : cX0_readWord.data.toList.drop 138 = dktX0_readWord_6 := dk_seg dksX0_readWord_5 22 rfl rfl
theorem dksX0_readWord_7 : cX0_readWord.data.toList.drop 161 = dktX0_readWord_7 := dk_seg dksX0_readWord_6 23 rfl rfl
theorem dX0_readWord_0 : decode cX0_readWord 0 = .ok (.aload_n 0, 1) := dk_42 (dk_at dksX0_readWord_0 0 rfl rfl)
theorem dX0_readWord_1 : decode cX0_readWord 1 = .ok (.getfield 200, 3) := dk_180 0 200 (dk_at dksX0_readWord_0 1 rfl rfl)
theorem dX0_readWord_4 : decode cX0_readWord 4 = .ok (.bipush 10, 2) := dk_16 10 (dk_at dksX0_readWord_0 4 rfl rfl)
theorem dX0_readWord_6 : decode cX0_readWord 6 = .ok (.if_icmp .ne 5, 3) := dk_160 0 5 (dk_at dksX0_readWord_0 6 rfl rfl)
theorem dX0_readWord_9 : decode cX0_readWord 9 = .ok (.iconst 0, 1) := dk_3 (dk_at dksX0_readWord_0 9 rfl rfl)
theorem dX0_readWord_10 : decode cX0_readWord 10 = .ok (.ireturn, 1) := dk_172 (dk_at dksX0_readWord_0 10 rfl rfl)
theorem dX0_readWord_11 : decode cX0_readWord 11 = .ok (.aload_n 0, 1) := dk_42 (dk_at dksX0_readWord_0 11 rfl rfl)
theorem dX0_readWord_12 : decode cX0_readWord 12 = .ok (.getfield 57, 3) := dk_180 0 57 (dk_at dksX0_readWord_0 12 rfl rfl)
theorem dX0_readWord_15 : decode cX0_readWord 15 = .ok (.aload_n 0, 1) := dk_42 (dk_at dksX0_readWord_0 15 rfl rfl)
theorem dX0_readWord_16 : decode cX0_readWord 16 = .ok (.getfield 200, 3) := dk_180 0 200 (dk_at dksX0_readWord_0 16 rfl rfl)
theorem dX0_readWord_19 : decode cX0_readWord 19 = .ok (.aaload, 1) := dk_50 (dk_at dksX0_readWord_0 19 rfl rfl)
theorem dX0_readWord_20 : decode cX0_readWord 20 = .ok (.astore_n 1, 1) := dk_76 (dk_at dksX0_readWord_0 20 rfl rfl)
theorem dX0_readWord_21 : decode cX0_readWord 21 = .ok (.aload_n 1, 1) := dk_43 (dk_at dksX0_readWord_0 21 rfl rfl)
theorem dX0_readWord_22 : decode cX0_readWord 22 = .ok (.invokevirtual 203, 3) := dk_182 0 203 (dk_at dksX0_readWord_1 0 rfl rfl)
theorem dX0_readWord_25 : decode cX0_readWord 25 = .ok (.aload_n 0, 1) := dk_42 (dk_at dksX0_readWord_1 3 rfl rfl)
theorem dX0_readWord_26 : decode cX0_readWord 26 = .ok (.dup, 1) := dk_89 (dk_at dksX0_readWord_1 4 rfl rfl)
theorem dX0_readWord_27 : decode cX0_readWord 27 = .ok (.getfield 197, 3) := dk_180 0 197 (dk_at dksX0_readWord_1 5 rfl rfl)
theorem dX0_readWord_30 : decode cX0_readWord 30 = .ok (.iconst 1, 1) := dk_4 (dk_at dksX0_readWord_1 8 rfl rfl)
theorem dX0_readWord_31 : decode cX0_readWord 31 = .ok (.iadd, 1) := dk_96 (dk_at dksX0_readWord_1 9 rfl rfl)
theorem dX0_readWord_32 : decode cX0_readWord 32 = .ok (.putfield 197, 3) := dk_181 0 197 (dk_at dksX0_readWord_1 10 rfl rfl)
theorem dX0_readWord_35 : decode cX0_readWord 35 = .ok (.aload_n 0, 1) := dk_42 (dk_at dksX0_readWord_1 13 rfl rfl)
theorem dX0_readWord_36 : decode cX0_readWord 36 = .ok (.bipush 97, 2) := dk_16 97 (dk_at dksX0_readWord_1 14 rfl rfl)
theorem dX0_readWord_38 : decode cX0_readWord 38 = .ok (.bipush 8, 2) := dk_16 8 (dk_at dksX0_readWord_1 16 rfl rfl)
theorem dX0_readWord_40 : decode cX0_readWord 40 = .ok (.invokevirtual 206, 3) := dk_182 0 206 (dk_at dksX0_readWord_1 18 rfl rfl)
theorem dX0_readWord_43 : decode cX0_readWord 43 = .ok (.istore_n 2, 1) := dk_61 (dk_at dksX0_readWord_1 21 rfl rfl)
theorem dX0_readWord_44 : decode cX0_readWord 44 = .ok (.iload_n 2, 1) := dk_28 (dk_at dksX0_readWord_1 22 rfl rfl)
theorem dX0_readWord_45 : decode cX0_readWord 45 = .ok (.bipush (-9), 2) := dk_16 247 (dk_at dksX0_readWord_2 0 rfl rfl)
theorem dX0_readWord_47 : decode cX0_readWord 47 = .ok (.if_icmp .eq 39, 3) := dk_159 0 39 (dk_at dksX0_readWord_2 2 rfl rfl)
theorem dX0_readWord_50 : decode cX0_readWord 50 = .ok (.aload_n 1, 1) := dk_43 (dk_at dksX0_readWord_2 5 rfl rfl)
theorem dX0_readWord_51 : decode cX0_readWord 51 = .ok (.getfield 210, 3) := dk_180 0 210 (dk_at dksX0_readWord_2 6 rfl rfl)
theorem dX0_readWord_54 : decode cX0_readWord 54 = .ok (.bipush 6, 2) := dk_16 6 (dk_at dksX0_readWord_2 9 rfl rfl)
theorem dX0_readWord_56 : decode cX0_readWord 56 = .ok (.if_icmp .ge 30, 3) := dk_162 0 30 (dk_at dksX0_readWord_2 11 rfl rfl)
theorem dX0_readWord_59 : decode cX0_readWord 59 = .ok (.aload_n 1, 1) := dk_43 (dk_at dksX0_readWord_2 14 rfl rfl)
theorem dX0_readWord_60 : decode cX0_readWord 60 = .ok (.iload_n 2, 1) := dk_28 (dk_at dksX0_readWord_2 15 rfl rfl)
theorem dX0_readWord_61 : decode cX0_readWord 61 = .ok (.invokevirtual 211, 3) := dk_182 0 211 (dk_at dksX0_readWord_2 16 rfl rfl)
theorem dX0_readWord_64 : decode cX0_readWord 64 = .ok (.aload_n 0, 1) := dk_42 (dk_at dksX0_readWord_2 19 rfl rfl)
theorem dX0_readWord_65 : decode cX0_readWord 65 = .ok (.dup, 1) := dk_89 (dk_at dksX0_readWord_2 20 rfl rfl)
theorem dX0_readWord_66 : decode cX0_readWord 66 = .ok (.getfield 197, 3) := dk_180 0 197 (dk_at dksX0_readWord_2 21 rfl rfl)
theorem dX0_readWord_69 : decode cX0_readWord 69 = .ok (.iconst 1, 1) := dk_4 (dk_at dksX0_readWord_3 0 rfl rfl)
theorem dX0_readWord_70 : decode cX0_readWord 70 = .ok (.iadd, 1) := dk_96 (dk_at dksX0_readWord_3 1 rfl rfl)
theorem dX0_readWord_71 : decode cX0_readWord 71 = .ok (.putfield 197, 3) := dk_181 0 197 (dk_at dksX0_readWord_3 2 rfl rfl)
theorem dX0_readWord_74 : decode cX0_readWord 74 = .ok (.aload_n 0, 1) := dk_42 (dk_at dksX0_readWord_3 5 rfl rfl)
theorem dX0_readWord_75 : decode cX0_readWord 75 = .ok (.bipush 97, 2) := dk_16 97 (dk_at dksX0_readWord_3 6 rfl rfl)
theorem dX0_readWord_77 : decode cX0_readWord 77 = .ok (.bipush 8, 2) := dk_16 8 (dk_at dksX0_readWord_3 8 rfl rfl)
theorem dX0_readWord_79 : decode cX0_readWord 79 = .ok (.invokevirtual 206, 3) := dk_182 0 206 (dk_at dksX0_readWord_3 10 rfl rfl)
theorem dX0_readWord_82 : decode cX0_readWord 82 = .ok (.istore_n 2, 1) := dk_61 (dk_at dksX0_readWord_3 13 rfl rfl)
theorem dX0_readWord_83 : decode cX0_readWord 83 = .ok (.goto (-39), 3) := dk_167 255 217 (dk_at dksX0_readWord_3 14 rfl rfl)
theorem dX0_readWord_86 : decode cX0_readWord 86 = .ok (.aload_n 0, 1) := dk_42 (dk_at dksX0_readWord_3 17 rfl rfl)
theorem dX0_readWord_87 : decode cX0_readWord 87 = .ok (.bipush 65, 2) := dk_16 65 (dk_at dksX0_readWord_3 18 rfl rfl)
theorem dX0_readWord_89 : decode cX0_readWord 89 = .ok (.iconst 4, 1) := dk_7 (dk_at dksX0_readWord_3 20 rfl rfl)
theorem dX0_readWord_90 : decode cX0_readWord 90 = .ok (.invokevirtual 206, 3) := dk_182 0 206 (dk_at dksX0_readWord_3 21 rfl rfl)
theorem dX0_readWord_93 : decode cX0_readWord 93 = .ok (.istore_n 3, 1) := dk_62 (dk_at dksX0_readWord_4 0 rfl rfl)
theorem dX0_readWord_94 : decode cX0_readWord 94 = .ok (.aload_n 1, 1) := dk_43 (dk_at dksX0_readWord_4 1 rfl rfl)
theorem dX0_readWord_95 : decode cX0_readWord 95 = .ok (.getfield 210, 3) := dk_180 0 210 (dk_at dksX0_readWord_4 2 rfl rfl)
theorem dX0_readWord_98 : decode cX0_readWord 98 = .ok (.ifCond .eq 9, 3) := dk_153 0 9 (dk_at dksX0_readWord_4 5 rfl rfl)
theorem dX0_readWord_101 : decode cX0_readWord 101 = .ok (.iload_n 3, 1) := dk_29 (dk_at dksX0_readWord_4 8 rfl rfl)
theorem dX0_readWord_102 : decode cX0_readWord 102 = .ok (.bipush (-9), 2) := dk_16 247 (dk_at dksX0_readWord_4 9 rfl rfl)
theorem dX0_readWord_104 : decode cX0_readWord 104 = .ok (.if_icmp .ne 5, 3) := dk_160 0 5 (dk_at dksX0_readWord_4 11 rfl rfl)
theorem dX0_readWord_107 : decode cX0_readWord 107 = .ok (.iconst 0, 1) := dk_3 (dk_at dksX0_readWord_4 14 rfl rfl)
theorem dX0_readWord_108 : decode cX0_readWord 108 = .ok (.ireturn, 1) := dk_172 (dk_at dksX0_readWord_4 15 rfl rfl)
theorem dX0_readWord_109 : decode cX0_readWord 109 = .ok (.aload_n 0, 1) := dk_42 (dk_at dksX0_readWord_4 16 rfl rfl)
theorem dX0_readWord_110 : decode cX0_readWord 110 = .ok (.dup, 1) := dk_89 (dk_at dksX0_readWord_4 17 rfl rfl)
theorem dX0_readWord_111 : decode cX0_readWord 111 = .ok (.getfield 197, 3) := dk_180 0 197 (dk_at dksX0_readWord_4 18 rfl rfl)
theorem dX0_readWord_114 : decode cX0_readWord 114 = .ok (.iconst 1, 1) := dk_4 (dk_at dksX0_readWord_4 21 rfl rfl)
theorem dX0_readWord_115 : decode cX0_readWord 115 = .ok (.iadd, 1) := dk_96 (dk_at dksX0_readWord_4 22 rfl rfl)
theorem dX0_readWord_116 : decode cX0_readWord 116 = .ok (.putfield 197, 3) := dk_181 0 197 (dk_at dksX0_readWord_5 0 rfl rfl)
theorem dX0_readWord_119 : decode cX0_readWord 119 = .ok (.aload_n 1, 1) := dk_43 (dk_at dksX0_readWord_5 3 rfl rfl)
theorem dX0_readWord_120 : decode cX0_readWord 120 = .ok (.iload_n 3, 1) := dk_29 (dk_at dksX0_readWord_5 4 rfl rfl)
theorem dX0_readWord_121 : decode cX0_readWord 121 = .ok (.putfield 135, 3) := dk_181 0 135 (dk_at dksX0_readWord_5 5 rfl rfl)
theorem dX0_readWord_124 : decode cX0_readWord 124 = .ok (.aload_n 0, 1) := dk_42 (dk_at dksX0_readWord_5 8 rfl rfl)
theorem dX0_readWord_125 : decode cX0_readWord 125 = .ok (.bipush 48, 2) := dk_16 48 (dk_at dksX0_readWord_5 9 rfl rfl)
theorem dX0_readWord_127 : decode cX0_readWord 127 = .ok (.bipush 10, 2) := dk_16 10 (dk_at dksX0_readWord_5 11 rfl rfl)
theorem dX0_readWord_129 : decode cX0_readWord 129 = .ok (.invokevirtual 206, 3) := dk_182 0 206 (dk_at dksX0_readWord_5 13 rfl rfl)
theorem dX0_readWord_132 : decode cX0_readWord 132 = .ok (.istore 4, 2) := dk_54 4 (dk_at dksX0_readWord_5 16 rfl rfl)
theorem dX0_readWord_134 : decode cX0_readWord 134 = .ok (.iload 4, 2) := dk_21 4 (dk_at dksX0_readWord_5 18 rfl rfl)
theorem dX0_readWord_136 : decode cX0_readWord 136 = .ok (.bipush (-9), 2) := dk_16 247 (dk_at dksX0_readWord_5 20 rfl rfl)
theorem dX0_readWord_138 : decode cX0_readWord 138 = .ok (.if_icmp .ne 5, 3) := dk_160 0 5 (dk_at dksX0_readWord_6 0 rfl rfl)
theorem dX0_readWord_141 : decode cX0_readWord 141 = .ok (.iconst 0, 1) := dk_3 (dk_at dksX0_readWord_6 3 rfl rfl)
theorem dX0_readWord_142 : decode cX0_readWord 142 = .ok (.ireturn, 1) := dk_172 (dk_at dksX0_readWord_6 4 rfl rfl)
theorem dX0_readWord_143 : decode cX0_readWord 143 = .ok (.aload_n 0, 1) := dk_42 (dk_at dksX0_readWord_6 5 rfl rfl)
theorem dX0_readWord_144 : decode cX0_readWord 144 = .ok (.dup, 1) := dk_89 (dk_at dksX0_readWord_6 6 rfl rfl)
theorem dX0_readWord_145 : decode cX0_readWord 145 = .ok (.getfield 197, 3) := dk_180 0 197 (dk_at dksX0_readWord_6 7 rfl rfl)
theorem dX0_readWord_148 : decode cX0_readWord 148 = .ok (.iconst 1, 1) := dk_4 (dk_at dksX0_readWord_6 10 rfl rfl)
theorem dX0_readWord_149 : decode cX0_readWord 149 = .ok (.iadd, 1) := dk_96 (dk_at dksX0_readWord_6 11 rfl rfl)
theorem dX0_readWord_150 : decode cX0_readWord 150 = .ok (.putfield 197, 3) := dk_181 0 197 (dk_at dksX0_readWord_6 12 rfl rfl)
theorem dX0_readWord_153 : decode cX0_readWord 153 = .ok (.aload_n 0, 1) := dk_42 (dk_at dksX0_readWord_6 15 rfl rfl)
theorem dX0_readWord_154 : decode cX0_readWord 154 = .ok (.getfield 60, 3) := dk_180 0 60 (dk_at dksX0_readWord_6 16 rfl rfl)
theorem dX0_readWord_157 : decode cX0_readWord 157 = .ok (.getfield 156, 3) := dk_180 0 156 (dk_at dksX0_readWord_6 19 rfl rfl)
theorem dX0_readWord_160 : decode cX0_readWord 160 = .ok (.aload_n 0, 1) := dk_42 (dk_at dksX0_readWord_6 22 rfl rfl)
theorem dX0_readWord_161 : decode cX0_readWord 161 = .ok (.getfield 200, 3) := dk_180 0 200 (dk_at dksX0_readWord_7 0 rfl rfl)
theorem dX0_readWord_164 : decode cX0_readWord 164 = .ok (.iload 4, 2) := dk_21 4 (dk_at dksX0_readWord_7 3 rfl rfl)
theorem dX0_readWord_166 : decode cX0_readWord 166 = .ok (.iastore, 1) := dk_79 (dk_at dksX0_readWord_7 5 rfl rfl)
theorem dX0_readWord_167 : decode cX0_readWord 167 = .ok (.aload_n 0, 1) := dk_42 (dk_at dksX0_readWord_7 6 rfl rfl)
theorem dX0_readWord_168 : decode cX0_readWord 168 = .ok (.dup, 1) := dk_89 (dk_at dksX0_readWord_7 7 rfl rfl)
theorem dX0_readWord_169 : decode cX0_readWord 169 = .ok (.getfield 200, 3) := dk_180 0 200 (dk_at dksX0_readWord_7 8 rfl rfl)
theorem dX0_readWord_172 : decode cX0_readWord 172 = .ok (.iconst 1, 1) := dk_4 (dk_at dksX0_readWord_7 11 rfl rfl)
theorem dX0_readWord_173 : decode cX0_readWord 173 = .ok (.iadd, 1) := dk_96 (dk_at dksX0_readWord_7 12 rfl rfl)
theorem dX0_readWord_174 : decode cX0_readWord 174 = .ok (.putfield 200, 3) := dk_181 0 200 (dk_at dksX0_readWord_7 13 rfl rfl)
theorem dX0_readWord_177 : decode cX0_readWord 177 = .ok (.iconst 1, 1) := dk_4 (dk_at dksX0_readWord_7 16 rfl rfl)
theorem dX0_readWord_178 : decode cX0_readWord 178 = .ok (.ireturn, 1) := dk_172 (dk_at dksX0_readWord_7 17 rfl rfl)
abbrev cX0_next : ByteArray := prog_1_method_24_code
def yX0_next : MethodName := ⟨RX0, "next", "(CI)I"⟩
def dkwX0_next_2 : List UInt8 := [172]
abbrev dktX0_next_2 : List UInt8 := dkwX0_next_2 ++ []
def dkwX0_next_1 : List UInt8 := [167, 0, 4, 28, 62, 29, 133, 9, 28, 4, 100, 133, 184, 0, 190, 153, 0, 7, 29, 167, 0, 5, 16, 247]
abbrev dktX0_next_1 : List UInt8 := dkwX0_next_1 ++ dktX0_next_2
def dkwX0_next_0 : List UInt8 := [42, 180, 0, 197, 42, 180, 0, 194, 162, 0, 17, 42, 180, 0, 54, 42, 180, 0, 197, 46, 27, 100]
abbrev dktX0_next_0 : List UInt8 := dkwX0_next_0 ++ dktX0_next_1
theorem dksX0_next_0 : cX0_next.data.toList.drop 0 = dktX0_next_0 := by decide +kernel
theorem dksX0_next_1 : cX0_next.data.toList.drop 22 = dktX0_next_1 := dk_seg dksX0_next_0 22 rfl rfl
theorem dksX0_next_2 : cX0_next.data.toList.drop 46 = dktX0_next_2 := dk_seg dksX0_next_1 24 rfl rfl
theorem dX0_next_0 : decode cX0_next 0 = .ok (.aload_n 0, 1) := dk_42 (dk_at dksX0_next_0 0 rfl rfl)
theorem dX0_next_1 : decode cX0_next 1 = .ok (.getfield 197, 3) := dk_180 0 197 (dk_at dksX0_next_0 1 rfl rfl)
theorem dX0_next_4 : decode cX0_next 4 = .ok (.aload_n 0, 1) := dk_42 (dk_at dksX0_next_0 4 rfl rfl)
theorem dX0_next_5 : decode cX0_next 5 = .ok (.getfield 194, 3) := dk_180 0 194 (dk_at dksX0_next_0 5 rfl rfl)
theorem dX0_next_8 : decode cX0_next 8 = .ok (.if_icmp .ge 17, 3) := dk_162 0 17 (dk_at dksX0_next_0 8 rfl rfl)
theorem dX0_next_11 : decode cX0_next 11 = .ok (.aload_n 0, 1) := dk_42 (dk_at dksX0_next_0 11 rfl rfl)
theorem dX0_next_12 : decode cX0_next 12 = .ok (.getfield 54, 3) := dk_180 0 54 (dk_at dksX0_next_0 12 rfl rfl)
theorem dX0_next_15 : decode cX0_next 15 = .ok (.aload_n 0, 1) := dk_42 (dk_at dksX0_next_0 15 rfl rfl)
theorem dX0_next_16 : decode cX0_next 16 = .ok (.getfield 197, 3) := dk_180 0 197 (dk_at dksX0_next_0 16 rfl rfl)
theorem dX0_next_19 : decode cX0_next 19 = .ok (.iaload, 1) := dk_46 (dk_at dksX0_next_0 19 rfl rfl)
theorem dX0_next_20 : decode cX0_next 20 = .ok (.iload_n 1, 1) := dk_27 (dk_at dksX0_next_0 20 rfl rfl)
theorem dX0_next_21 : decode cX0_next 21 = .ok (.isub, 1) := dk_100 (dk_at dksX0_next_0 21 rfl rfl)
theorem dX0_next_22 : decode cX0_next 22 = .ok (.goto 4, 3) := dk_167 0 4 (dk_at dksX0_next_1 0 rfl rfl)
theorem dX0_next_25 : decode cX0_next 25 = .ok (.iload_n 2, 1) := dk_28 (dk_at dksX0_next_1 3 rfl rfl)
theorem dX0_next_26 : decode cX0_next 26 = .ok (.istore_n 3, 1) := dk_62 (dk_at dksX0_next_1 4 rfl rfl)
theorem dX0_next_27 : decode cX0_next 27 = .ok (.iload_n 3, 1) := dk_29 (dk_at dksX0_next_1 5 rfl rfl)
theorem dX0_next_28 : decode cX0_next 28 = .ok (.i2l, 1) := dk_133 (dk_at dksX0_next_1 6 rfl rfl)
theorem dX0_next_29 : decode cX0_next 29 = .ok (.lconst 0, 1) := dk_9 (dk_at dksX0_next_1 7 rfl rfl)
theorem dX0_next_30 : decode cX0_next 30 = .ok (.iload_n 2, 1) := dk_28 (dk_at dksX0_next_1 8 rfl rfl)
theorem dX0_next_31 : decode cX0_next 31 = .ok (.iconst 1, 1) := dk_4 (dk_at dksX0_next_1 9 rfl rfl)
theorem dX0_next_32 : decode cX0_next 32 = .ok (.isub, 1) := dk_100 (dk_at dksX0_next_1 10 rfl rfl)
theorem dX0_next_33 : decode cX0_next 33 = .ok (.i2l, 1) := dk_133 (dk_at dksX0_next_1 11 rfl rfl)
theorem dX0_next_34 : decode cX0_next 34 = .ok (.invokestatic 190, 3) := dk_184 0 190 (dk_at dksX0_next_1 12 rfl rfl)
theorem dX0_next_37 : decode cX0_next 37 = .ok (.ifCond .eq 7, 3) := dk_153 0 7 (dk_at dksX0_next_1 15 rfl rfl)
theorem dX0_next_40 : decode cX0_next 40 = .ok (.iload_n 3, 1) := dk_29 (dk_at dksX0_next_1 18 rfl rfl)
theorem dX0_next_41 : decode cX0_next 41 = .ok (.goto 5, 3) := dk_167 0 5 (dk_at dksX0_next_1 19 rfl rfl)
theorem dX0_next_44 : decode cX0_next 44 = .ok (.bipush (-9), 2) := dk_16 247 (dk_at dksX0_next_1 22 rfl rfl)
theorem dX0_next_46 : decode cX0_next 46 = .ok (.ireturn, 1) := dk_172 (dk_at dksX0_next_2 0 rfl rfl)
abbrev cX0_readLetter : ByteArray := prog_1_method_26_code
def yX0_readLetter : MethodName := ⟨RX0, "readLetter", "()Z"⟩
def dkwX0_readLetter_2 : List UInt8 := [181, 0, 197, 42, 180, 0, 60, 180, 0, 104, 27, 92, 46, 4, 96, 79, 4, 172]
abbrev dktX0_readLetter_2 : List UInt8 := dkwX0_readLetter_2 ++ []
def dkwX0_readLetter_1 : List UInt8 := [42, 16, 97, 16, 8, 182, 0, 206, 60, 27, 16, 247, 160, 0, 5, 3, 172, 42, 89, 180, 0, 197, 4, 96]
abbrev dktX0_readLetter_1 : List UInt8 := dkwX0_readLetter_1 ++ dktX0_readLetter_2
def dkwX0_readLetter_0 : List UInt8 := [42, 180, 0, 60, 182, 0, 215, 16, 12, 160, 0, 5, 3, 172, 42, 89, 180, 0, 197, 4, 96, 181, 0, 197]
abbrev dktX0_readLetter_0 : List UInt8 := dkwX0_readLetter_0 ++ dktX0_readLetter_1
theorem dksX0_readLetter_0 : cX0_readLetter.data.toList.drop 0 = dktX0_readLetter_0 := by decide +kernel
theorem dksX0_readLetter_1 : cX0_readLetter.data.toList.drop 24 = dktX0_readLetter_1 := dk_seg dksX0_readLetter_0 24 rfl rfl
theorem dksX0_readLetter_2 : cX0_readLetter.data.toList.drop 48 = dktX0_readLetter_2 := dk_seg dksX0_readLetter_1 24 rfl rfl
theorem dX0_readLetter_0 : decode cX0_readLetter 0 = .ok (.aload_n 0, 1) := dk_42 (dk_at dksX0_readLetter_0 0 rfl rfl)
theorem dX0_readLetter_1 : decode cX0_readLetter 1 = .ok (.getfield 60, 3) := dk_180 0 60 (dk_at dksX0_readLetter_0 1 rfl rfl)
theorem dX0_readLetter_4 : decode cX0_readLetter 4 = .ok (.invokevirtual 215, 3) := dk_182 0 215 (dk_at dksX0_readLetter_0 4 rfl rfl)
theorem dX0_readLetter_7 : decode cX0_readLetter 7 = .ok (.bipush 12, 2) := dk_16 12 (dk_at dksX0_readLetter_0 7 rfl rfl)
theorem dX0_readLetter_9 : decode cX0_readLetter 9 = .ok (.if_icmp .ne 5, 3) := dk_160 0 5 (dk_at dksX0_readLetter_0 9 rfl rfl)
theorem dX0_readLetter_12 : decode cX0_readLetter 12 = .ok (.iconst 0, 1) := dk_3 (dk_at dksX0_readLetter_0 12 rfl rfl)
theorem dX0_readLetter_13 : decode cX0_readLetter 13 = .ok (.ireturn, 1) := dk_172 (dk_at dksX0_readLetter_0 13 rfl rfl)
theorem dX0_readLetter_14 : decode cX0_readLetter 14 = .ok (.aload_n 0, 1) := dk_42 (dk_at dksX0_readLetter_0 14 rfl rfl)
theorem dX0_readLetter_15 : decode cX0_readLetter 15 = .ok (.dup, 1) := dk_89 (dk_at dksX0_readLetter_0 15 rfl rfl)
theorem dX0_readLetter_16 : decode cX0_readLetter 16 = .ok (.getfield 197, 3) := dk_180 0 197 (dk_at dksX0_readLetter_0 16 rfl rfl)
theorem dX0_readLetter_19 : decode cX0_readLetter 19 = .ok (.iconst 1, 1) := dk_4 (dk_at dksX0_readLetter_0 19 rfl rfl)
theorem dX0_readLetter_20 : decode cX0_readLetter 20 = .ok (.iadd, 1) := dk_96 (dk_at dksX0_readLetter_0 20 rfl rfl)
theorem dX0_readLetter_21 : decode cX0_readLetter 21 = .ok (.putfield 197, 3) := dk_181 0 197 (dk_at dksX0_readLetter_0 21 rfl rfl)
theorem dX0_readLetter_24 : decode cX0_readLetter 24 = .ok (.aload_n 0, 1) := dk_42 (dk_at dksX0_readLetter_1 0 rfl rfl)
theorem dX0_readLetter_25 : decode cX0_readLetter 25 = .ok (.bipush 97, 2) := dk_16 97 (dk_at dksX0_readLetter_1 1 rfl rfl)
theorem dX0_readLetter_27 : decode cX0_readLetter 27 = .ok (.bipush 8, 2) := dk_16 8 (dk_at dksX0_readLetter_1 3 rfl rfl)
theorem dX0_readLetter_29 : decode cX0_readLetter 29 = .ok (.invokevirtual 206, 3) := dk_182 0 206 (dk_at dksX0_readLetter_1 5 rfl rfl)
theorem dX0_readLetter_32 : decode cX0_readLetter 32 = .ok (.istore_n 1, 1) := dk_60 (dk_at dksX0_readLetter_1 8 rfl rfl)
theorem dX0_readLetter_33 : decode cX0_readLetter 33 = .ok (.iload_n 1, 1) := dk_27 (dk_at dksX0_readLetter_1 9 rfl rfl)
theorem dX0_readLetter_34 : decode cX0_readLetter 34 = .ok (.bipush (-9), 2) := dk_16 247 (dk_at dksX0_readLetter_1 10 rfl rfl)
theorem dX0_readLetter_36 : decode cX0_readLetter 36 = .ok (.if_icmp .ne 5, 3) := dk_160 0 5 (dk_at dksX0_readLetter_1 12 rfl rfl)
theorem dX0_readLetter_39 : decode cX0_readLetter 39 = .ok (.iconst 0, 1) := dk_3 (dk_at dksX0_readLetter_1 15 rfl rfl)
theorem dX0_readLetter_40 : decode cX0_readLetter 40 = .ok (.ireturn, 1) := dk_172 (dk_at dksX0_readLetter_1 16 rfl rfl)
theorem dX0_readLetter_41 : decode cX0_readLetter 41 = .ok (.aload_n 0, 1) := dk_42 (dk_at dksX0_readLetter_1 17 rfl rfl)
theorem dX0_readLetter_42 : decode cX0_readLetter 42 = .ok (.dup, 1) := dk_89 (dk_at dksX0_readLetter_1 18 rfl rfl)
theorem dX0_readLetter_43 : decode cX0_readLetter 43 = .ok (.getfield 197, 3) := dk_180 0 197 (dk_at dksX0_readLetter_1 19 rfl rfl)
theorem dX0_readLetter_46 : decode cX0_readLetter 46 = .ok (.iconst 1, 1) := dk_4 (dk_at dksX0_readLetter_1 22 rfl rfl)
theorem dX0_readLetter_47 : decode cX0_readLetter 47 = .ok (.iadd, 1) := dk_96 (dk_at dksX0_readLetter_1 23 rfl rfl)
theorem dX0_readLetter_48 : decode cX0_readLetter 48 = .ok (.putfield 197, 3) := dk_181 0 197 (dk_at dksX0_readLetter_2 0 rfl rfl)
theorem dX0_readLetter_51 : decode cX0_readLetter 51 = .ok (.aload_n 0, 1) := dk_42 (dk_at dksX0_readLetter_2 3 rfl rfl)
theorem dX0_readLetter_52 : decode cX0_readLetter 52 = .ok (.getfield 60, 3) := dk_180 0 60 (dk_at dksX0_readLetter_2 4 rfl rfl)
theorem dX0_readLetter_55 : decode cX0_readLetter 55 = .ok (.getfield 104, 3) := dk_180 0 104 (dk_at dksX0_readLetter_2 7 rfl rfl)
theorem dX0_readLetter_58 : decode cX0_readLetter 58 = .ok (.iload_n 1, 1) := dk_27 (dk_at dksX0_readLetter_2 10 rfl rfl)
theorem dX0_readLetter_59 : decode cX0_readLetter 59 = .ok (.dup2, 1) := dk_92 (dk_at dksX0_readLetter_2 11 rfl rfl)
theorem dX0_readLetter_60 : decode cX0_readLetter 60 = .ok (.iaload, 1) := dk_46 (dk_at dksX0_readLetter_2 12 rfl rfl)
theorem dX0_readLetter_61 : decode cX0_readLetter 61 = .ok (.iconst 1, 1) := dk_4 (dk_at dksX0_readLetter_2 13 rfl rfl)
theorem dX0_readLetter_62 : decode cX0_readLetter 62 = .ok (.iadd, 1) := dk_96 (dk_at dksX0_readLetter_2 14 rfl rfl)
theorem dX0_readLetter_63 : decode cX0_readLetter 63 = .ok (.iastore, 1) := dk_79 (dk_at dksX0_readLetter_2 15 rfl rfl)
theorem dX0_readLetter_64 : decode cX0_readLetter 64 = .ok (.iconst 1, 1) := dk_4 (dk_at dksX0_readLetter_2 16 rfl rfl)
theorem dX0_readLetter_65 : decode cX0_readLetter 65 = .ok (.ireturn, 1) := dk_172 (dk_at dksX0_readLetter_2 17 rfl rfl)
abbrev cX0_readBegin : ByteArray := prog_1_method_28_code
def yX0_readBegin : MethodName := ⟨RX0, "readBegin", "()Z"⟩
def dkwX0_readBegin_3 : List UInt8 := [3, 167, 0, 6, 4, 27, 120, 128, 181, 0, 129, 27, 16, 247, 159, 0, 7, 4, 167, 0, 4, 3, 172]
abbrev dktX0_readBegin_3 : List UInt8 := dkwX0_readBegin_3 ++ []
def dkwX0_readBegin_2 : List UInt8 := [180, 0, 60, 180, 0, 129, 182, 0, 218, 60, 42, 180, 0, 60, 89, 180, 0, 129, 27, 16, 247, 160, 0, 7]
abbrev dktX0_readBegin_2 : List UInt8 := dkwX0_readBegin_2 ++ dktX0_readBegin_3
def dkwX0_readBegin_1 : List UInt8 := [181, 0, 197, 42, 180, 0, 60, 180, 0, 129, 16, 15, 160, 0, 8, 16, 247, 167, 0, 14, 42, 42]
abbrev dktX0_readBegin_1 : List UInt8 := dkwX0_readBegin_1 ++ dktX0_readBegin_2
def dkwX0_readBegin_0 : List UInt8 := [42, 89, 180, 0, 197, 42, 180, 0, 60, 180, 0, 129, 16, 15, 160, 0, 7, 3, 167, 0, 4, 4, 96]
abbrev dktX0_readBegin_0 : List UInt8 := dkwX0_readBegin_0 ++ dktX0_readBegin_1
theorem dksX0_readBegin_0 : cX0_readBegin.data.toList.drop 0 = dktX0_readBegin_0 := by decide +kernel
theorem dksX0_readBegin_1 : cX0_readBegin.data.toList.drop 23 = dktX0_readBegin_1 := dk_seg dksX0_readBegin_0 23 rfl rfl
theorem dksX0_readBegin_2 : cX0_readBegin.data.toList.drop 45 = dktX0_readBegin_2 := dk_seg dksX0_readBegin_1 22 rfl rfl
theorem dksX0_readBegin_3 : cX0_readBegin.data.toList.drop 69 = dktX0_readBegin_3 := dk_seg dksX0_readBegin_2 24 rfl rfl
theorem dX0_readBegin_0 : decode cX0_readBegin 0 = .ok (.aload_n 0, 1) := dk_42 (dk_at dksX0_readBegin_0 0 rfl rfl)
theorem dX0_readBegin_1 : decode cX0_readBegin 1 = .ok (.dup, 1) := dk_89 (dk_at dksX0_readBegin_0 1 rfl rfl)
theorem dX0_readBegin_2 : decode cX0_readBegin 2 = .ok (.getfield 197, 3) := dk_180 0 197 (dk_at dksX0_readBegin_0 2 rfl rfl)
theorem dX0_readBegin_5 : decode cX0_readBegin 5 = .ok (.aload_n 0, 1) := dk_42 (dk_at dksX0_readBegin_0 5 rfl rfl)
theorem dX0_readBegin_6 : decode cX0_readBegin 6 = .ok (.getfield 60, 3) := dk_180 0 60 (dk_at dksX0_readBegin_0 6 rfl rfl)
theorem dX0_readBegin_9 : decode cX0_readBegin 9 = .ok (.getfield 129, 3) := dk_180 0 129 (dk_at dksX0_readBegin_0 9 rfl rfl)
theorem dX0_readBegin_12 : decode cX0_readBegin 12 = .ok (.bipush 15, 2) := dk_16 15 (dk_at dksX0_readBegin_0 12 rfl rfl)
theorem dX0_readBegin_14 : decode cX0_readBegin 14 = .ok (.if_icmp .ne 7, 3) := dk_160 0 7 (dk_at dksX0_readBegin_0 14 rfl rfl)
theorem dX0_readBegin_17 : decode cX0_readBegin 17 = .ok (.iconst 0, 1) := dk_3 (dk_at dksX0_readBegin_0 17 rfl rfl)
theorem dX0_readBegin_18 : decode cX0_readBegin 18 = .ok (.goto 4, 3) := dk_167 0 4 (dk_at dksX0_readBegin_0 18 rfl rfl)
theorem dX0_readBegin_21 : decode cX0_readBegin 21 = .ok (.iconst 1, 1) := dk_4 (dk_at dksX0_readBegin_0 21 rfl rfl)
theorem dX0_readBegin_22 : decode cX0_readBegin 22 = .ok (.iadd, 1) := dk_96 (dk_at dksX0_readBegin_0 22 rfl rfl)
theorem dX0_readBegin_23 : decode cX0_readBegin 23 = .ok (.putfield 197, 3) := dk_181 0 197 (dk_at dksX0_readBegin_1 0 rfl rfl)
theorem dX0_readBegin_26 : decode cX0_readBegin 26 = .ok (.aload_n 0, 1) := dk_42 (dk_at dksX0_readBegin_1 3 rfl rfl)
theorem dX0_readBegin_27 : decode cX0_readBegin 27 = .ok (.getfield 60, 3) := dk_180 0 60 (dk_at dksX0_readBegin_1 4 rfl rfl)
theorem dX0_readBegin_30 : decode cX0_readBegin 30 = .ok (.getfield 129, 3) := dk_180 0 129 (dk_at dksX0_readBegin_1 7 rfl rfl)
theorem dX0_readBegin_33 : decode cX0_readBegin 33 = .ok (.bipush 15, 2) := dk_16 15 (dk_at dksX0_readBegin_1 10 rfl rfl)
theorem dX0_readBegin_35 : decode cX0_readBegin 35 = .ok (.if_icmp .ne 8, 3) := dk_160 0 8 (dk_at dksX0_readBegin_1 12 rfl rfl)
theorem dX0_readBegin_38 : decode cX0_readBegin 38 = .ok (.bipush (-9), 2) := dk_16 247 (dk_at dksX0_readBegin_1 15 rfl rfl)
theorem dX0_readBegin_40 : decode cX0_readBegin 40 = .ok (.goto 14, 3) := dk_167 0 14 (dk_at dksX0_readBegin_1 17 rfl rfl)
theorem dX0_readBegin_43 : decode cX0_readBegin 43 = .ok (.aload_n 0, 1) := dk_42 (dk_at dksX0_readBegin_1 20 rfl rfl)
theorem dX0_readBegin_44 : decode cX0_readBegin 44 = .ok (.aload_n 0, 1) := dk_42 (dk_at dksX0_readBegin_1 21 rfl rfl)
theorem dX0_readBegin_45 : decode cX0_readBegin 45 = .ok (.getfield 60, 3) := dk_180 0 60 (dk_at dksX0_readBegin_2 0 rfl rfl)
theorem dX0_readBegin_48 : decode cX0_readBegin 48 = .ok (.getfield 129, 3) := dk_180 0 129 (dk_at dksX0_readBegin_2 3 rfl rfl)
theorem dX0_readBegin_51 : decode cX0_readBegin 51 = .ok (.invokevirtual 218, 3) := dk_182 0 218 (dk_at dksX0_readBegin_2 6 rfl rfl)
theorem dX0_readBegin_54 : decode cX0_readBegin 54 = .ok (.istore_n 1, 1) := dk_60 (dk_at dksX0_readBegin_2 9 rfl rfl)
theorem dX0_readBegin_55 : decode cX0_readBegin 55 = .ok (.aload_n 0, 1) := dk_42 (dk_at dksX0_readBegin_2 10 rfl rfl)
theorem dX0_readBegin_56 : decode cX0_readBegin 56 = .ok (.getfield 60, 3) := dk_180 0 60 (dk_at dksX0_readBegin_2 11 rfl rfl)
theorem dX0_readBegin_59 : decode cX0_readBegin 59 = .ok (.dup, 1) := dk_89 (dk_at dksX0_readBegin_2 14 rfl rfl)
theorem dX0_readBegin_60 : decode cX0_readBegin 60 = .ok (.getfield 129, 3) := dk_180 0 129 (dk_at dksX0_readBegin_2 15 rfl rfl)
theorem dX0_readBegin_63 : decode cX0_readBegin 63 = .ok (.iload_n 1, 1) := dk_27 (dk_at dksX0_readBegin_2 18 rfl rfl)
theorem dX0_readBegin_64 : decode cX0_readBegin 64 = .ok (.bipush (-9), 2) := dk_16 247 (dk_at dksX0_readBegin_2 19 rfl rfl)
theorem dX0_readBegin_66 : decode cX0_readBegin 66 = .ok (.if_icmp .ne 7, 3) := dk_160 0 7 (dk_at dksX0_readBegin_2 21 rfl rfl)
theorem dX0_readBegin_69 : decode cX0_readBegin 69 = .ok (.iconst 0, 1) := dk_3 (dk_at dksX0_readBegin_3 0 rfl rfl)
theorem dX0_readBegin_70 : decode cX0_readBegin 70 = .ok (.goto 6, 3) := dk_167 0 6 (dk_at dksX0_readBegin_3 1 rfl rfl)
theorem dX0_readBegin_73 : decode cX0_readBegin 73 = .ok (.iconst 1, 1) := dk_4 (dk_at dksX0_readBegin_3 4 rfl rfl)
theorem dX0_readBegin_74 : decode cX0_readBegin 74 = .ok (.iload_n 1, 1) := dk_27 (dk_at dksX0_readBegin_3 5 rfl rfl)
theorem dX0_readBegin_75 : decode cX0_readBegin 75 = .ok (.ishl, 1) := dk_120 (dk_at dksX0_readBegin_3 6 rfl rfl)
theorem dX0_readBegin_76 : decode cX0_readBegin 76 = .ok (.ior, 1) := dk_128 (dk_at dksX0_readBegin_3 7 rfl rfl)
theorem dX0_readBegin_77 : decode cX0_readBegin 77 = .ok (.putfield 129, 3) := dk_181 0 129 (dk_at dksX0_readBegin_3 8 rfl rfl)
theorem dX0_readBegin_80 : decode cX0_readBegin 80 = .ok (.iload_n 1, 1) := dk_27 (dk_at dksX0_readBegin_3 11 rfl rfl)
theorem dX0_readBegin_81 : decode cX0_readBegin 81 = .ok (.bipush (-9), 2) := dk_16 247 (dk_at dksX0_readBegin_3 12 rfl rfl)
theorem dX0_readBegin_83 : decode cX0_readBegin 83 = .ok (.if_icmp .eq 7, 3) := dk_159 0 7 (dk_at dksX0_readBegin_3 14 rfl rfl)
theorem dX0_readBegin_86 : decode cX0_readBegin 86 = .ok (.iconst 1, 1) := dk_4 (dk_at dksX0_readBegin_3 17 rfl rfl)
theorem dX0_readBegin_87 : decode cX0_readBegin 87 = .ok (.goto 4, 3) := dk_167 0 4 (dk_at dksX0_readBegin_3 18 rfl rfl)
theorem dX0_readBegin_90 : decode cX0_readBegin 90 = .ok (.iconst 0, 1) := dk_3 (dk_at dksX0_readBegin_3 21 rfl rfl)
theorem dX0_readBegin_91 : decode cX0_readBegin 91 = .ok (.ireturn, 1) := dk_172 (dk_at dksX0_readBegin_3 22 rfl rfl)
abbrev cX0_readKind : ByteArray := prog_1_method_27_code
def yX0_readKind : MethodName := ⟨RX0, "readKind", "(I)I"⟩
def dkwX0_readKind_1 : List UInt8 := [172, 42, 89, 180, 0, 197, 4, 96, 181, 0, 197, 28, 172]
abbrev dktX0_readKind_1 : List UInt8 := dkwX0_readKind_1 ++ []
def dkwX0_readKind_0 : List UInt8 := [42, 16, 65, 7, 182, 0, 206, 61, 28, 16, 247, 159, 0, 11, 27, 28, 184, 0, 126, 153, 0, 6, 16, 247]
abbrev dktX0_readKind_0 : List UInt8 := dkwX0_readKind_0 ++ dktX0_readKind_1
theorem dksX0_readKind_0 : cX0_readKind.data.toList.drop 0 = dktX0_readKind_0 := by decide +kernel
theorem dksX0_readKind_1 : cX0_readKind.data.toList.drop 24 = dktX0_readKind_1 := dk_seg dksX0_readKind_0 24 rfl rfl
theorem dX0_readKind_0 : decode cX0_readKind 0 = .ok (.aload_n 0, 1) := dk_42 (dk_at dksX0_readKind_0 0 rfl rfl)
theorem dX0_readKind_1 : decode cX0_readKind 1 = .ok (.bipush 65, 2) := dk_16 65 (dk_at dksX0_readKind_0 1 rfl rfl)
theorem dX0_readKind_3 : decode cX0_readKind 3 = .ok (.iconst 4, 1) := dk_7 (dk_at dksX0_readKind_0 3 rfl rfl)
theorem dX0_readKind_4 : decode cX0_readKind 4 = .ok (.invokevirtual 206, 3) := dk_182 0 206 (dk_at dksX0_readKind_0 4 rfl rfl)
theorem dX0_readKind_7 : decode cX0_readKind 7 = .ok (.istore_n 2, 1) := dk_61 (dk_at dksX0_readKind_0 7 rfl rfl)
theorem dX0_readKind_8 : decode cX0_readKind 8 = .ok (.iload_n 2, 1) := dk_28 (dk_at dksX0_readKind_0 8 rfl rfl)
theorem dX0_readKind_9 : decode cX0_readKind 9 = .ok (.bipush (-9), 2) := dk_16 247 (dk_at dksX0_readKind_0 9 rfl rfl)
theorem dX0_readKind_11 : decode cX0_readKind 11 = .ok (.if_icmp .eq 11, 3) := dk_159 0 11 (dk_at dksX0_readKind_0 11 rfl rfl)
theorem dX0_readKind_14 : decode cX0_readKind 14 = .ok (.iload_n 1, 1) := dk_27 (dk_at dksX0_readKind_0 14 rfl rfl)
theorem dX0_readKind_15 : decode cX0_readKind 15 = .ok (.iload_n 2, 1) := dk_28 (dk_at dksX0_readKind_0 15 rfl rfl)
theorem dX0_readKind_16 : decode cX0_readKind 16 = .ok (.invokestatic 126, 3) := dk_184 0 126 (dk_at dksX0_readKind_0 16 rfl rfl)
theorem dX0_readKind_19 : decode cX0_readKind 19 = .ok (.ifCond .eq 6, 3) := dk_153 0 6 (dk_at dksX0_readKind_0 19 rfl rfl)
theorem dX0_readKind_22 : decode cX0_readKind 22 = .ok (.bipush (-9), 2) := dk_16 247 (dk_at dksX0_readKind_0 22 rfl rfl)
theorem dX0_readKind_24 : decode cX0_readKind 24 = .ok (.ireturn, 1) := dk_172 (dk_at dksX0_readKind_1 0 rfl rfl)
theorem dX0_readKind_25 : decode cX0_readKind 25 = .ok (.aload_n 0, 1) := dk_42 (dk_at dksX0_readKind_1 1 rfl rfl)
theorem dX0_readKind_26 : decode cX0_readKind 26 = .ok (.dup, 1) := dk_89 (dk_at dksX0_readKind_1 2 rfl rfl)
theorem dX0_readKind_27 : decode cX0_readKind 27 = .ok (.getfield 197, 3) := dk_180 0 197 (dk_at dksX0_readKind_1 3 rfl rfl)
theorem dX0_readKind_30 : decode cX0_readKind 30 = .ok (.iconst 1, 1) := dk_4 (dk_at dksX0_readKind_1 6 rfl rfl)
theorem dX0_readKind_31 : decode cX0_readKind 31 = .ok (.iadd, 1) := dk_96 (dk_at dksX0_readKind_1 7 rfl rfl)
theorem dX0_readKind_32 : decode cX0_readKind 32 = .ok (.putfield 197, 3) := dk_181 0 197 (dk_at dksX0_readKind_1 8 rfl rfl)
theorem dX0_readKind_35 : decode cX0_readKind 35 = .ok (.iload_n 2, 1) := dk_28 (dk_at dksX0_readKind_1 11 rfl rfl)
theorem dX0_readKind_36 : decode cX0_readKind 36 = .ok (.ireturn, 1) := dk_172 (dk_at dksX0_readKind_1 12 rfl rfl)
abbrev cX0_has : ByteArray := prog_1_method_2_code
def yX0_has : MethodName := ⟨RX0, "has", "(II)Z"⟩
def dkwX0_has_0 : List UInt8 := [26, 27, 122, 4, 126, 4, 160, 0, 7, 4, 167, 0, 4, 3, 172]
abbrev dktX0_has_0 : List UInt8 := dkwX0_has_0 ++ []
theorem dksX0_has_0 : cX0_has.data.toList.drop 0 = dktX0_has_0 := by decide +kernel
theorem dX0_has_0 : decode cX0_has 0 = .ok (.iload_n 0, 1) := dk_26 (dk_at dksX0_has_0 0 rfl rfl)
theorem dX0_has_1 : decode cX0_has 1 = .ok (.iload_n 1, 1) := dk_27 (dk_at dksX0_has_0 1 rfl rfl)
theorem dX0_has_2 : decode cX0_has 2 = .ok (.ishr, 1) := dk_122 (dk_at dksX0_has_0 2 rfl rfl)
theorem dX0_has_3 : decode cX0_has 3 = .ok (.iconst 1, 1) := dk_4 (dk_at dksX0_has_0 3 rfl rfl)
theorem dX0_has_4 : decode cX0_has 4 = .ok (.iand, 1) := dk_126 (dk_at dksX0_has_0 4 rfl rfl)
theorem dX0_has_5 : decode cX0_has 5 = .ok (.iconst 1, 1) := dk_4 (dk_at dksX0_has_0 5 rfl rfl)
theorem dX0_has_6 : decode cX0_has 6 = .ok (.if_icmp .ne 7, 3) := dk_160 0 7 (dk_at dksX0_has_0 6 rfl rfl)
theorem dX0_has_9 : decode cX0_has 9 = .ok (.iconst 1, 1) := dk_4 (dk_at dksX0_has_0 9 rfl rfl)
theorem dX0_has_10 : decode cX0_has 10 = .ok (.goto 4, 3) := dk_167 0 4 (dk_at dksX0_has_0 10 rfl rfl)
theorem dX0_has_13 : decode cX0_has 13 = .ok (.iconst 0, 1) := dk_3 (dk_at dksX0_has_0 13 rfl rfl)
theorem dX0_has_14 : decode cX0_has 14 = .ok (.ireturn, 1) := dk_172 (dk_at dksX0_has_0 14 rfl rfl)
abbrev cX0_readEnd : ByteArray := prog_1_method_29_code
def yX0_readEnd : MethodName := ⟨RX0, "readEnd", "()Z"⟩
def dkwX0_readEnd_3 : List UInt8 := [3, 167, 0, 6, 4, 27, 120, 128, 181, 0, 138, 27, 16, 247, 159, 0, 7, 4, 167, 0, 4, 3, 172]
abbrev dktX0_readEnd_3 : List UInt8 := dkwX0_readEnd_3 ++ []
def dkwX0_readEnd_2 : List UInt8 := [180, 0, 60, 180, 0, 138, 182, 0, 218, 60, 42, 180, 0, 60, 89, 180, 0, 138, 27, 16, 247, 160, 0, 7]
abbrev dktX0_readEnd_2 : List UInt8 := dkwX0_readEnd_2 ++ dktX0_readEnd_3
def dkwX0_readEnd_1 : List UInt8 := [181, 0, 197, 42, 180, 0, 60, 180, 0, 138, 16, 15, 160, 0, 8, 16, 247, 167, 0, 14, 42, 42]
abbrev dktX0_readEnd_1 : List UInt8 := dkwX0_readEnd_1 ++ dktX0_readEnd_2
def dkwX0_readEnd_0 : List UInt8 := [42, 89, 180, 0, 197, 42, 180, 0, 60, 180, 0, 138, 16, 15, 160, 0, 7, 3, 167, 0, 4, 4, 96]
abbrev dktX0_readEnd_0 : List UInt8 := dkwX0_readEnd_0 ++ dktX0_readEnd_1
theorem dksX0_readEnd_0 : cX0_readEnd.data.toList.drop 0 = dktX0_readEnd_0 := by decide +kernel
theorem dksX0_readEnd_1 : cX0_readEnd.data.toList.drop 23 = dktX0_readEnd_1 := dk_seg dksX0_readEnd_0 23 rfl rfl
theorem dksX0_readEnd_2 : cX0_readEnd.data.toList.drop 45 = dktX0_readEnd_2 := dk_seg dksX0_readEnd_1 22 rfl rfl
theorem dksX0_readEnd_3 : cX0_readEnd.data.toList.drop 69 = dktX0_readEnd_3 := dk_seg dksX0_readEnd_2 24 rfl rfl
theorem dX0_readEnd_0 : decode cX0_readEnd 0 = .ok (.aload_n 0, 1) := dk_42 (dk_at dksX0_readEnd_0 0 rfl rfl)
theorem dX0_readEnd_1 : decode cX0_readEnd 1 = .ok (.dup, 1) := dk_89 (dk_at dksX0_readEnd_0 1 rfl rfl)
theorem dX0_readEnd_2 : decode cX0_readEnd 2 = .ok (.getfield 197, 3) := dk_180 0 197 (dk_at dksX0_readEnd_0 2 rfl rfl)
theorem dX0_readEnd_5 : decode cX0_readEnd 5 = .ok (.aload_n 0, 1) := dk_42 (dk_at dksX0_readEnd_0 5 rfl rfl)
theorem dX0_readEnd_6 : decode cX0_readEnd 6 = .ok (.getfield 60, 3) := dk_180 0 60 (dk_at dksX0_readEnd_0 6 rfl rfl)
theorem dX0_readEnd_9 : decode cX0_readEnd 9 = .ok (.getfield 138, 3) := dk_180 0 138 (dk_at dksX0_readEnd_0 9 rfl rfl)
theorem dX0_readEnd_12 : decode cX0_readEnd 12 = .ok (.bipush 15, 2) := dk_16 15 (dk_at dksX0_readEnd_0 12 rfl rfl)
theorem dX0_readEnd_14 : decode cX0_readEnd 14 = .ok (.if_icmp .ne 7, 3) := dk_160 0 7 (dk_at dksX0_readEnd_0 14 rfl rfl)
theorem dX0_readEnd_17 : decode cX0_readEnd 17 = .ok (.iconst 0, 1) := dk_3 (dk_at dksX0_readEnd_0 17 rfl rfl)
theorem dX0_readEnd_18 : decode cX0_readEnd 18 = .ok (.goto 4, 3) := dk_167 0 4 (dk_at dksX0_readEnd_0 18 rfl rfl)
theorem dX0_readEnd_21 : decode cX0_readEnd 21 = .ok (.iconst 1, 1) := dk_4 (dk_at dksX0_readEnd_0 21 rfl rfl)
theorem dX0_readEnd_22 : decode cX0_readEnd 22 = .ok (.iadd, 1) := dk_96 (dk_at dksX0_readEnd_0 22 rfl rfl)
theorem dX0_readEnd_23 : decode cX0_readEnd 23 = .ok (.putfield 197, 3) := dk_181 0 197 (dk_at dksX0_readEnd_1 0 rfl rfl)
theorem dX0_readEnd_26 : decode cX0_readEnd 26 = .ok (.aload_n 0, 1) := dk_42 (dk_at dksX0_readEnd_1 3 rfl rfl)
theorem dX0_readEnd_27 : decode cX0_readEnd 27 = .ok (.getfield 60, 3) := dk_180 0 60 (dk_at dksX0_readEnd_1 4 rfl rfl)
theorem dX0_readEnd_30 : decode cX0_readEnd 30 = .ok (.getfield 138, 3) := dk_180 0 138 (dk_at dksX0_readEnd_1 7 rfl rfl)
theorem dX0_readEnd_33 : decode cX0_readEnd 33 = .ok (.bipush 15, 2) := dk_16 15 (dk_at dksX0_readEnd_1 10 rfl rfl)
theorem dX0_readEnd_35 : decode cX0_readEnd 35 = .ok (.if_icmp .ne 8, 3) := dk_160 0 8 (dk_at dksX0_readEnd_1 12 rfl rfl)
theorem dX0_readEnd_38 : decode cX0_readEnd 38 = .ok (.bipush (-9), 2) := dk_16 247 (dk_at dksX0_readEnd_1 15 rfl rfl)
theorem dX0_readEnd_40 : decode cX0_readEnd 40 = .ok (.goto 14, 3) := dk_167 0 14 (dk_at dksX0_readEnd_1 17 rfl rfl)
theorem dX0_readEnd_43 : decode cX0_readEnd 43 = .ok (.aload_n 0, 1) := dk_42 (dk_at dksX0_readEnd_1 20 rfl rfl)
theorem dX0_readEnd_44 : decode cX0_readEnd 44 = .ok (.aload_n 0, 1) := dk_42 (dk_at dksX0_readEnd_1 21 rfl rfl)
theorem dX0_readEnd_45 : decode cX0_readEnd 45 = .ok (.getfield 60, 3) := dk_180 0 60 (dk_at dksX0_readEnd_2 0 rfl rfl)
theorem dX0_readEnd_48 : decode cX0_readEnd 48 = .ok (.getfield 138, 3) := dk_180 0 138 (dk_at dksX0_readEnd_2 3 rfl rfl)
theorem dX0_readEnd_51 : decode cX0_readEnd 51 = .ok (.invokevirtual 218, 3) := dk_182 0 218 (dk_at dksX0_readEnd_2 6 rfl rfl)
theorem dX0_readEnd_54 : decode cX0_readEnd 54 = .ok (.istore_n 1, 1) := dk_60 (dk_at dksX0_readEnd_2 9 rfl rfl)
theorem dX0_readEnd_55 : decode cX0_readEnd 55 = .ok (.aload_n 0, 1) := dk_42 (dk_at dksX0_readEnd_2 10 rfl rfl)
theorem dX0_readEnd_56 : decode cX0_readEnd 56 = .ok (.getfield 60, 3) := dk_180 0 60 (dk_at dksX0_readEnd_2 11 rfl rfl)
theorem dX0_readEnd_59 : decode cX0_readEnd 59 = .ok (.dup, 1) := dk_89 (dk_at dksX0_readEnd_2 14 rfl rfl)
theorem dX0_readEnd_60 : decode cX0_readEnd 60 = .ok (.getfield 138, 3) := dk_180 0 138 (dk_at dksX0_readEnd_2 15 rfl rfl)
theorem dX0_readEnd_63 : decode cX0_readEnd 63 = .ok (.iload_n 1, 1) := dk_27 (dk_at dksX0_readEnd_2 18 rfl rfl)
theorem dX0_readEnd_64 : decode cX0_readEnd 64 = .ok (.bipush (-9), 2) := dk_16 247 (dk_at dksX0_readEnd_2 19 rfl rfl)
theorem dX0_readEnd_66 : decode cX0_readEnd 66 = .ok (.if_icmp .ne 7, 3) := dk_160 0 7 (dk_at dksX0_readEnd_2 21 rfl rfl)
theorem dX0_readEnd_69 : decode cX0_readEnd 69 = .ok (.iconst 0, 1) := dk_3 (dk_at dksX0_readEnd_3 0 rfl rfl)
theorem dX0_readEnd_70 : decode cX0_readEnd 70 = .ok (.goto 6, 3) := dk_167 0 6 (dk_at dksX0_readEnd_3 1 rfl rfl)
theorem dX0_readEnd_73 : decode cX0_readEnd 73 = .ok (.iconst 1, 1) := dk_4 (dk_at dksX0_readEnd_3 4 rfl rfl)
theorem dX0_readEnd_74 : decode cX0_readEnd 74 = .ok (.iload_n 1, 1) := dk_27 (dk_at dksX0_readEnd_3 5 rfl rfl)
theorem dX0_readEnd_75 : decode cX0_readEnd 75 = .ok (.ishl, 1) := dk_120 (dk_at dksX0_readEnd_3 6 rfl rfl)
theorem dX0_readEnd_76 : decode cX0_readEnd 76 = .ok (.ior, 1) := dk_128 (dk_at dksX0_readEnd_3 7 rfl rfl)
theorem dX0_readEnd_77 : decode cX0_readEnd 77 = .ok (.putfield 138, 3) := dk_181 0 138 (dk_at dksX0_readEnd_3 8 rfl rfl)
theorem dX0_readEnd_80 : decode cX0_readEnd 80 = .ok (.iload_n 1, 1) := dk_27 (dk_at dksX0_readEnd_3 11 rfl rfl)
theorem dX0_readEnd_81 : decode cX0_readEnd 81 = .ok (.bipush (-9), 2) := dk_16 247 (dk_at dksX0_readEnd_3 12 rfl rfl)
theorem dX0_readEnd_83 : decode cX0_readEnd 83 = .ok (.if_icmp .eq 7, 3) := dk_159 0 7 (dk_at dksX0_readEnd_3 14 rfl rfl)
theorem dX0_readEnd_86 : decode cX0_readEnd 86 = .ok (.iconst 1, 1) := dk_4 (dk_at dksX0_readEnd_3 17 rfl rfl)
theorem dX0_readEnd_87 : decode cX0_readEnd 87 = .ok (.goto 4, 3) := dk_167 0 4 (dk_at dksX0_readEnd_3 18 rfl rfl)
theorem dX0_readEnd_90 : decode cX0_readEnd 90 = .ok (.iconst 0, 1) := dk_3 (dk_at dksX0_readEnd_3 21 rfl rfl)
theorem dX0_readEnd_91 : decode cX0_readEnd 91 = .ok (.ireturn, 1) := dk_172 (dk_at dksX0_readEnd_3 22 rfl rfl)
abbrev cX0_readPair : ByteArray := prog_1_method_30_code
def yX0_readPair : MethodName := ⟨RX0, "readPair", "()Z"⟩
def dkwX0_readPair_5 : List UInt8 := [3, 172]
abbrev dktX0_readPair_5 : List UInt8 := dkwX0_readPair_5 ++ []
def dkwX0_readPair_4 : List UInt8 := [180, 0, 60, 180, 0, 132, 28, 92, 46, 4, 29, 120, 128, 79, 29, 16, 247, 159, 0, 7, 4, 167, 0, 4]
abbrev dktX0_readPair_4 : List UInt8 := dkwX0_readPair_4 ++ dktX0_readPair_5
def dkwX0_readPair_3 : List UInt8 := [167, 0, 16, 42, 42, 180, 0, 60, 180, 0, 132, 28, 46, 182, 0, 218, 62, 29, 16, 247, 159, 0, 18, 42]
abbrev dktX0_readPair_3 : List UInt8 := dkwX0_readPair_3 ++ dktX0_readPair_4
def dkwX0_readPair_2 : List UInt8 := [89, 180, 0, 197, 4, 96, 181, 0, 197, 42, 27, 182, 0, 218, 61, 28, 16, 247, 160, 0, 8, 16, 247]
abbrev dktX0_readPair_2 : List UInt8 := dkwX0_readPair_2 ++ dktX0_readPair_3
def dkwX0_readPair_1 : List UInt8 := [4, 28, 120, 167, 0, 4, 3, 128, 60, 132, 2, 1, 167, 255, 224, 27, 16, 15, 160, 0, 5, 3, 172, 42]
abbrev dktX0_readPair_1 : List UInt8 := dkwX0_readPair_1 ++ dktX0_readPair_2
def dkwX0_readPair_0 : List UInt8 := [3, 60, 3, 61, 28, 7, 162, 0, 33, 27, 42, 180, 0, 60, 180, 0, 132, 28, 46, 16, 15, 160, 0, 9]
abbrev dktX0_readPair_0 : List UInt8 := dkwX0_readPair_0 ++ dktX0_readPair_1
theorem dksX0_readPair_0 : cX0_readPair.data.toList.drop 0 = dktX0_readPair_0 := by decide +kernel
theorem dksX0_readPair_1 : cX0_readPair.data.toList.drop 24 = dktX0_readPair_1 := dk_seg dksX0_readPair_0 24 rfl rfl
theorem dksX0_readPair_2 : cX0_readPair.data.toList.drop 48 = dktX0_readPair_2 := dk_seg dksX0_readPair_1 24 rfl rfl
theorem dksX0_readPair_3 : cX0_readPair.data.toList.drop 71 = dktX0_readPair_3 := dk_seg dksX0_readPair_2 23 rfl rfl
theorem dksX0_readPair_4 : cX0_readPair.data.toList.drop 95 = dktX0_readPair_4 := dk_seg dksX0_readPair_3 24 rfl rfl
theorem dksX0_readPair_5 : cX0_readPair.data.toList.drop 119 = dktX0_readPair_5 := dk_seg dksX0_readPair_4 24 rfl rfl
theorem dX0_readPair_0 : decode cX0_readPair 0 = .ok (.iconst 0, 1) := dk_3 (dk_at dksX0_readPair_0 0 rfl rfl)
theorem dX0_readPair_1 : decode cX0_readPair 1 = .ok (.istore_n 1, 1) := dk_60 (dk_at dksX0_readPair_0 1 rfl rfl)
theorem dX0_readPair_2 : decode cX0_readPair 2 = .ok (.iconst 0, 1) := dk_3 (dk_at dksX0_readPair_0 2 rfl rfl)
theorem dX0_readPair_3 : decode cX0_readPair 3 = .ok (.istore_n 2, 1) := dk_61 (dk_at dksX0_readPair_0 3 rfl rfl)
theorem dX0_readPair_4 : decode cX0_readPair 4 = .ok (.iload_n 2, 1) := dk_28 (dk_at dksX0_readPair_0 4 rfl rfl)
theorem dX0_readPair_5 : decode cX0_readPair 5 = .ok (.iconst 4, 1) := dk_7 (dk_at dksX0_readPair_0 5 rfl rfl)
theorem dX0_readPair_6 : decode cX0_readPair 6 = .ok (.if_icmp .ge 33, 3) := dk_162 0 33 (dk_at dksX0_readPair_0 6 rfl rfl)
theorem dX0_readPair_9 : decode cX0_readPair 9 = .ok (.iload_n 1, 1) := dk_27 (dk_at dksX0_readPair_0 9 rfl rfl)
theorem dX0_readPair_10 : decode cX0_readPair 10 = .ok (.aload_n 0, 1) := dk_42 (dk_at dksX0_readPair_0 10 rfl rfl)
theorem dX0_readPair_11 : decode cX0_readPair 11 = .ok (.getfield 60, 3) := dk_180 0 60 (dk_at dksX0_readPair_0 11 rfl rfl)
theorem dX0_readPair_14 : decode cX0_readPair 14 = .ok (.getfield 132, 3) := dk_180 0 132 (dk_at dksX0_readPair_0 14 rfl rfl)
theorem dX0_readPair_17 : decode cX0_readPair 17 = .ok (.iload_n 2, 1) := dk_28 (dk_at dksX0_readPair_0 17 rfl rfl)
theorem dX0_readPair_18 : decode cX0_readPair 18 = .ok (.iaload, 1) := dk_46 (dk_at dksX0_readPair_0 18 rfl rfl)
theorem dX0_readPair_19 : decode cX0_readPair 19 = .ok (.bipush 15, 2) := dk_16 15 (dk_at dksX0_readPair_0 19 rfl rfl)
theorem dX0_readPair_21 : decode cX0_readPair 21 = .ok (.if_icmp .ne 9, 3) := dk_160 0 9 (dk_at dksX0_readPair_0 21 rfl rfl)
theorem dX0_readPair_24 : decode cX0_readPair 24 = .ok (.iconst 1, 1) := dk_4 (dk_at dksX0_readPair_1 0 rfl rfl)
theorem dX0_readPair_25 : decode cX0_readPair 25 = .ok (.iload_n 2, 1) := dk_28 (dk_at dksX0_readPair_1 1 rfl rfl)
theorem dX0_readPair_26 : decode cX0_readPair 26 = .ok (.ishl, 1) := dk_120 (dk_at dksX0_readPair_1 2 rfl rfl)
theorem dX0_readPair_27 : decode cX0_readPair 27 = .ok (.goto 4, 3) := dk_167 0 4 (dk_at dksX0_readPair_1 3 rfl rfl)
theorem dX0_readPair_30 : decode cX0_readPair 30 = .ok (.iconst 0, 1) := dk_3 (dk_at dksX0_readPair_1 6 rfl rfl)
theorem dX0_readPair_31 : decode cX0_readPair 31 = .ok (.ior, 1) := dk_128 (dk_at dksX0_readPair_1 7 rfl rfl)
theorem dX0_readPair_32 : decode cX0_readPair 32 = .ok (.istore_n 1, 1) := dk_60 (dk_at dksX0_readPair_1 8 rfl rfl)
theorem dX0_readPair_33 : decode cX0_readPair 33 = .ok (.iinc 2 1, 3) := dk_132 2 1 (dk_at dksX0_readPair_1 9 rfl rfl)
theorem dX0_readPair_36 : decode cX0_readPair 36 = .ok (.goto (-32), 3) := dk_167 255 224 (dk_at dksX0_readPair_1 12 rfl rfl)
theorem dX0_readPair_39 : decode cX0_readPair 39 = .ok (.iload_n 1, 1) := dk_27 (dk_at dksX0_readPair_1 15 rfl rfl)
theorem dX0_readPair_40 : decode cX0_readPair 40 = .ok (.bipush 15, 2) := dk_16 15 (dk_at dksX0_readPair_1 16 rfl rfl)
theorem dX0_readPair_42 : decode cX0_readPair 42 = .ok (.if_icmp .ne 5, 3) := dk_160 0 5 (dk_at dksX0_readPair_1 18 rfl rfl)
theorem dX0_readPair_45 : decode cX0_readPair 45 = .ok (.iconst 0, 1) := dk_3 (dk_at dksX0_readPair_1 21 rfl rfl)
theorem dX0_readPair_46 : decode cX0_readPair 46 = .ok (.ireturn, 1) := dk_172 (dk_at dksX0_readPair_1 22 rfl rfl)
theorem dX0_readPair_47 : decode cX0_readPair 47 = .ok (.aload_n 0, 1) := dk_42 (dk_at dksX0_readPair_1 23 rfl rfl)
theorem dX0_readPair_48 : decode cX0_readPair 48 = .ok (.dup, 1) := dk_89 (dk_at dksX0_readPair_2 0 rfl rfl)
theorem dX0_readPair_49 : decode cX0_readPair 49 = .ok (.getfield 197, 3) := dk_180 0 197 (dk_at dksX0_readPair_2 1 rfl rfl)
theorem dX0_readPair_52 : decode cX0_readPair 52 = .ok (.iconst 1, 1) := dk_4 (dk_at dksX0_readPair_2 4 rfl rfl)
theorem dX0_readPair_53 : decode cX0_readPair 53 = .ok (.iadd, 1) := dk_96 (dk_at dksX0_readPair_2 5 rfl rfl)
theorem dX0_readPair_54 : decode cX0_readPair 54 = .ok (.putfield 197, 3) := dk_181 0 197 (dk_at dksX0_readPair_2 6 rfl rfl)
theorem dX0_readPair_57 : decode cX0_readPair 57 = .ok (.aload_n 0, 1) := dk_42 (dk_at dksX0_readPair_2 9 rfl rfl)
theorem dX0_readPair_58 : decode cX0_readPair 58 = .ok (.iload_n 1, 1) := dk_27 (dk_at dksX0_readPair_2 10 rfl rfl)
theorem dX0_readPair_59 : decode cX0_readPair 59 = .ok (.invokevirtual 218, 3) := dk_182 0 218 (dk_at dksX0_readPair_2 11 rfl rfl)
theorem dX0_readPair_62 : decode cX0_readPair 62 = .ok (.istore_n 2, 1) := dk_61 (dk_at dksX0_readPair_2 14 rfl rfl)
theorem dX0_readPair_63 : decode cX0_readPair 63 = .ok (.iload_n 2, 1) := dk_28 (dk_at dksX0_readPair_2 15 rfl rfl)
theorem dX0_readPair_64 : decode cX0_readPair 64 = .ok (.bipush (-9), 2) := dk_16 247 (dk_at dksX0_readPair_2 16 rfl rfl)
theorem dX0_readPair_66 : decode cX0_readPair 66 = .ok (.if_icmp .ne 8, 3) := dk_160 0 8 (dk_at dksX0_readPair_2 18 rfl rfl)
theorem dX0_readPair_69 : decode cX0_readPair 69 = .ok (.bipush (-9), 2) := dk_16 247 (dk_at dksX0_readPair_2 21 rfl rfl)
theorem dX0_readPair_71 : decode cX0_readPair 71 = .ok (.goto 16, 3) := dk_167 0 16 (dk_at dksX0_readPair_3 0 rfl rfl)
theorem dX0_readPair_74 : decode cX0_readPair 74 = .ok (.aload_n 0, 1) := dk_42 (dk_at dksX0_readPair_3 3 rfl rfl)
theorem dX0_readPair_75 : decode cX0_readPair 75 = .ok (.aload_n 0, 1) := dk_42 (dk_at dksX0_readPair_3 4 rfl rfl)
theorem dX0_readPair_76 : decode cX0_readPair 76 = .ok (.getfield 60, 3) := dk_180 0 60 (dk_at dksX0_readPair_3 5 rfl rfl)
theorem dX0_readPair_79 : decode cX0_readPair 79 = .ok (.getfield 132, 3) := dk_180 0 132 (dk_at dksX0_readPair_3 8 rfl rfl)
theorem dX0_readPair_82 : decode cX0_readPair 82 = .ok (.iload_n 2, 1) := dk_28 (dk_at dksX0_readPair_3 11 rfl rfl)
theorem dX0_readPair_83 : decode cX0_readPair 83 = .ok (.iaload, 1) := dk_46 (dk_at dksX0_readPair_3 12 rfl rfl)
theorem dX0_readPair_84 : decode cX0_readPair 84 = .ok (.invokevirtual 218, 3) := dk_182 0 218 (dk_at dksX0_readPair_3 13 rfl rfl)
theorem dX0_readPair_87 : decode cX0_readPair 87 = .ok (.istore_n 3, 1) := dk_62 (dk_at dksX0_readPair_3 16 rfl rfl)
theorem dX0_readPair_88 : decode cX0_readPair 88 = .ok (.iload_n 3, 1) := dk_29 (dk_at dksX0_readPair_3 17 rfl rfl)
theorem dX0_readPair_89 : decode cX0_readPair 89 = .ok (.bipush (-9), 2) := dk_16 247 (dk_at dksX0_readPair_3 18 rfl rfl)
theorem dX0_readPair_91 : decode cX0_readPair 91 = .ok (.if_icmp .eq 18, 3) := dk_159 0 18 (dk_at dksX0_readPair_3 20 rfl rfl)
theorem dX0_readPair_94 : decode cX0_readPair 94 = .ok (.aload_n 0, 1) := dk_42 (dk_at dksX0_readPair_3 23 rfl rfl)
theorem dX0_readPair_95 : decode cX0_readPair 95 = .ok (.getfield 60, 3) := dk_180 0 60 (dk_at dksX0_readPair_4 0 rfl rfl)
theorem dX0_readPair_98 : decode cX0_readPair 98 = .ok (.getfield 132, 3) := dk_180 0 132 (dk_at dksX0_readPair_4 3 rfl rfl)
theorem dX0_readPair_101 : decode cX0_readPair 101 = .ok (.iload_n 2, 1) := dk_28 (dk_at dksX0_readPair_4 6 rfl rfl)
theorem dX0_readPair_102 : decode cX0_readPair 102 = .ok (.dup2, 1) := dk_92 (dk_at dksX0_readPair_4 7 rfl rfl)
theorem dX0_readPair_103 : decode cX0_readPair 103 = .ok (.iaload, 1) := dk_46 (dk_at dksX0_readPair_4 8 rfl rfl)
theorem dX0_readPair_104 : decode cX0_readPair 104 = .ok (.iconst 1, 1) := dk_4 (dk_at dksX0_readPair_4 9 rfl rfl)
theorem dX0_readPair_105 : decode cX0_readPair 105 = .ok (.iload_n 3, 1) := dk_29 (dk_at dksX0_readPair_4 10 rfl rfl)
theorem dX0_readPair_106 : decode cX0_readPair 106 = .ok (.ishl, 1) := dk_120 (dk_at dksX0_readPair_4 11 rfl rfl)
theorem dX0_readPair_107 : decode cX0_readPair 107 = .ok (.ior, 1) := dk_128 (dk_at dksX0_readPair_4 12 rfl rfl)
theorem dX0_readPair_108 : decode cX0_readPair 108 = .ok (.iastore, 1) := dk_79 (dk_at dksX0_readPair_4 13 rfl rfl)
theorem dX0_readPair_109 : decode cX0_readPair 109 = .ok (.iload_n 3, 1) := dk_29 (dk_at dksX0_readPair_4 14 rfl rfl)
theorem dX0_readPair_110 : decode cX0_readPair 110 = .ok (.bipush (-9), 2) := dk_16 247 (dk_at dksX0_readPair_4 15 rfl rfl)
theorem dX0_readPair_112 : decode cX0_readPair 112 = .ok (.if_icmp .eq 7, 3) := dk_159 0 7 (dk_at dksX0_readPair_4 17 rfl rfl)
theorem dX0_readPair_115 : decode cX0_readPair 115 = .ok (.iconst 1, 1) := dk_4 (dk_at dksX0_readPair_4 20 rfl rfl)
theorem dX0_readPair_116 : decode cX0_readPair 116 = .ok (.goto 4, 3) := dk_167 0 4 (dk_at dksX0_readPair_4 21 rfl rfl)
theorem dX0_readPair_119 : decode cX0_readPair 119 = .ok (.iconst 0, 1) := dk_3 (dk_at dksX0_readPair_5 0 rfl rfl)
theorem dX0_readPair_120 : decode cX0_readPair 120 = .ok (.ireturn, 1) := dk_172 (dk_at dksX0_readPair_5 1 rfl rfl)
abbrev cX0_house : ByteArray := prog_1_method_34_code
def yX0_house : MethodName := ⟨RX0, "house", "()I"⟩
def dkwX0_house_3 : List UInt8 := [42, 180, 0, 89, 3, 3, 84, 42, 180, 0, 89, 4, 3, 84, 42, 180, 0, 109, 172]
abbrev dktX0_house_3 : List UInt8 := dkwX0_house_3 ++ []
def dkwX0_house_2 : List UInt8 := [167, 255, 230, 42, 180, 0, 18, 42, 180, 0, 60, 182, 0, 238, 42, 3, 181, 0, 251, 42, 3, 181, 0, 254]
abbrev dktX0_house_2 : List UInt8 := dkwX0_house_2 ++ dktX0_house_3
def dkwX0_house_1 : List UInt8 := [180, 0, 109, 162, 0, 24, 42, 180, 0, 11, 27, 50, 42, 180, 0, 57, 27, 50, 182, 0, 248, 132, 1, 1]
abbrev dktX0_house_1 : List UInt8 := dkwX0_house_1 ++ dktX0_house_2
def dkwX0_house_0 : List UInt8 := [42, 182, 0, 245, 16, 247, 159, 0, 6, 16, 253, 172, 42, 42, 180, 0, 200, 181, 0, 109, 3, 60, 27, 42]
abbrev dktX0_house_0 : List UInt8 := dkwX0_house_0 ++ dktX0_house_1
theorem dksX0_house_0 : cX0_house.data.toList.drop 0 = dktX0_house_0 := by decide +kernel
theorem dksX0_house_1 : cX0_house.data.toList.drop 24 = dktX0_house_1 := dk_seg dksX0_house_0 24 rfl rfl
theorem dksX0_house_2 : cX0_house.data.toList.drop 48 = dktX0_house_2 := dk_seg dksX0_house_1 24 rfl rfl
theorem dksX0_house_3 : cX0_house.data.toList.drop 72 = dktX0_house_3 := dk_seg dksX0_house_2 24 rfl rfl
theorem dX0_house_0 : decode cX0_house 0 = .ok (.aload_n 0, 1) := dk_42 (dk_at dksX0_house_0 0 rfl rfl)
theorem dX0_house_1 : decode cX0_house 1 = .ok (.invokevirtual 245, 3) := dk_182 0 245 (dk_at dksX0_house_0 1 rfl rfl)
theorem dX0_house_4 : decode cX0_house 4 = .ok (.bipush (-9), 2) := dk_16 247 (dk_at dksX0_house_0 4 rfl rfl)
theorem dX0_house_6 : decode cX0_house 6 = .ok (.if_icmp .eq 6, 3) := dk_159 0 6 (dk_at dksX0_house_0 6 rfl rfl)
theorem dX0_house_9 : decode cX0_house 9 = .ok (.bipush (-3), 2) := dk_16 253 (dk_at dksX0_house_0 9 rfl rfl)
theorem dX0_house_11 : decode cX0_house 11 = .ok (.ireturn, 1) := dk_172 (dk_at dksX0_house_0 11 rfl rfl)
theorem dX0_house_12 : decode cX0_house 12 = .ok (.aload_n 0, 1) := dk_42 (dk_at dksX0_house_0 12 rfl rfl)
theorem dX0_house_13 : decode cX0_house 13 = .ok (.aload_n 0, 1) := dk_42 (dk_at dksX0_house_0 13 rfl rfl)
theorem dX0_house_14 : decode cX0_house 14 = .ok (.getfield 200, 3) := dk_180 0 200 (dk_at dksX0_house_0 14 rfl rfl)
theorem dX0_house_17 : decode cX0_house 17 = .ok (.putfield 109, 3) := dk_181 0 109 (dk_at dksX0_house_0 17 rfl rfl)
theorem dX0_house_20 : decode cX0_house 20 = .ok (.iconst 0, 1) := dk_3 (dk_at dksX0_house_0 20 rfl rfl)
theorem dX0_house_21 : decode cX0_house 21 = .ok (.istore_n 1, 1) := dk_60 (dk_at dksX0_house_0 21 rfl rfl)
theorem dX0_house_22 : decode cX0_house 22 = .ok (.iload_n 1, 1) := dk_27 (dk_at dksX0_house_0 22 rfl rfl)
theorem dX0_house_23 : decode cX0_house 23 = .ok (.aload_n 0, 1) := dk_42 (dk_at dksX0_house_0 23 rfl rfl)
theorem dX0_house_24 : decode cX0_house 24 = .ok (.getfield 109, 3) := dk_180 0 109 (dk_at dksX0_house_1 0 rfl rfl)
theorem dX0_house_27 : decode cX0_house 27 = .ok (.if_icmp .ge 24, 3) := dk_162 0 24 (dk_at dksX0_house_1 3 rfl rfl)
theorem dX0_house_30 : decode cX0_house 30 = .ok (.aload_n 0, 1) := dk_42 (dk_at dksX0_house_1 6 rfl rfl)
theorem dX0_house_31 : decode cX0_house 31 = .ok (.getfield 11, 3) := dk_180 0 11 (dk_at dksX0_house_1 7 rfl rfl)
theorem dX0_house_34 : decode cX0_house 34 = .ok (.iload_n 1, 1) := dk_27 (dk_at dksX0_house_1 10 rfl rfl)
theorem dX0_house_35 : decode cX0_house 35 = .ok (.aaload, 1) := dk_50 (dk_at dksX0_house_1 11 rfl rfl)
theorem dX0_house_36 : decode cX0_house 36 = .ok (.aload_n 0, 1) := dk_42 (dk_at dksX0_house_1 12 rfl rfl)
theorem dX0_house_37 : decode cX0_house 37 = .ok (.getfield 57, 3) := dk_180 0 57 (dk_at dksX0_house_1 13 rfl rfl)
theorem dX0_house_40 : decode cX0_house 40 = .ok (.iload_n 1, 1) := dk_27 (dk_at dksX0_house_1 16 rfl rfl)
theorem dX0_house_41 : decode cX0_house 41 = .ok (.aaload, 1) := dk_50 (dk_at dksX0_house_1 17 rfl rfl)
theorem dX0_house_42 : decode cX0_house 42 = .ok (.invokevirtual 248, 3) := dk_182 0 248 (dk_at dksX0_house_1 18 rfl rfl)
theorem dX0_house_45 : decode cX0_house 45 = .ok (.iinc 1 1, 3) := dk_132 1 1 (dk_at dksX0_house_1 21 rfl rfl)
theorem dX0_house_48 : decode cX0_house 48 = .ok (.goto (-26), 3) := dk_167 255 230 (dk_at dksX0_house_2 0 rfl rfl)
theorem dX0_house_51 : decode cX0_house 51 = .ok (.aload_n 0, 1) := dk_42 (dk_at dksX0_house_2 3 rfl rfl)
theorem dX0_house_52 : decode cX0_house 52 = .ok (.getfield 18, 3) := dk_180 0 18 (dk_at dksX0_house_2 4 rfl rfl)
theorem dX0_house_55 : decode cX0_house 55 = .ok (.aload_n 0, 1) := dk_42 (dk_at dksX0_house_2 7 rfl rfl)
theorem dX0_house_56 : decode cX0_house 56 = .ok (.getfield 60, 3) := dk_180 0 60 (dk_at dksX0_house_2 8 rfl rfl)
theorem dX0_house_59 : decode cX0_house 59 = .ok (.invokevirtual 238, 3) := dk_182 0 238 (dk_at dksX0_house_2 11 rfl rfl)
theorem dX0_house_62 : decode cX0_house 62 = .ok (.aload_n 0, 1) := dk_42 (dk_at dksX0_house_2 14 rfl rfl)
theorem dX0_house_63 : decode cX0_house 63 = .ok (.iconst 0, 1) := dk_3 (dk_at dksX0_house_2 15 rfl rfl)
theorem dX0_house_64 : decode cX0_house 64 = .ok (.putfield 251, 3) := dk_181 0 251 (dk_at dksX0_house_2 16 rfl rfl)
theorem dX0_house_67 : decode cX0_house 67 = .ok (.aload_n 0, 1) := dk_42 (dk_at dksX0_house_2 19 rfl rfl)
theorem dX0_house_68 : decode cX0_house 68 = .ok (.iconst 0, 1) := dk_3 (dk_at dksX0_house_2 20 rfl rfl)
theorem dX0_house_69 : decode cX0_house 69 = .ok (.putfield 254, 3) := dk_181 0 254 (dk_at dksX0_house_2 21 rfl rfl)
theorem dX0_house_72 : decode cX0_house 72 = .ok (.aload_n 0, 1) := dk_42 (dk_at dksX0_house_3 0 rfl rfl)
theorem dX0_house_73 : decode cX0_house 73 = .ok (.getfield 89, 3) := dk_180 0 89 (dk_at dksX0_house_3 1 rfl rfl)
theorem dX0_house_76 : decode cX0_house 76 = .ok (.iconst 0, 1) := dk_3 (dk_at dksX0_house_3 4 rfl rfl)
theorem dX0_house_77 : decode cX0_house 77 = .ok (.iconst 0, 1) := dk_3 (dk_at dksX0_house_3 5 rfl rfl)
theorem dX0_house_78 : decode cX0_house 78 = .ok (.bastore, 1) := dk_84 (dk_at dksX0_house_3 6 rfl rfl)
theorem dX0_house_79 : decode cX0_house 79 = .ok (.aload_n 0, 1) := dk_42 (dk_at dksX0_house_3 7 rfl rfl)
theorem dX0_house_80 : decode cX0_house 80 = .ok (.getfield 89, 3) := dk_180 0 89 (dk_at dksX0_house_3 8 rfl rfl)
theorem dX0_house_83 : decode cX0_house 83 = .ok (.iconst 1, 1) := dk_4 (dk_at dksX0_house_3 11 rfl rfl)
theorem dX0_house_84 : decode cX0_house 84 = .ok (.iconst 0, 1) := dk_3 (dk_at dksX0_house_3 12 rfl rfl)
theorem dX0_house_85 : decode cX0_house 85 = .ok (.bastore, 1) := dk_84 (dk_at dksX0_house_3 13 rfl rfl)
theorem dX0_house_86 : decode cX0_house 86 = .ok (.aload_n 0, 1) := dk_42 (dk_at dksX0_house_3 14 rfl rfl)
theorem dX0_house_87 : decode cX0_house 87 = .ok (.getfield 109, 3) := dk_180 0 109 (dk_at dksX0_house_3 15 rfl rfl)
theorem dX0_house_90 : decode cX0_house 90 = .ok (.ireturn, 1) := dk_172 (dk_at dksX0_house_3 18 rfl rfl)
abbrev cX0_about : ByteArray := prog_1_method_40_code
def yX0_about : MethodName := ⟨RX0, "about", "(I)I"⟩
def dkwX0_about_5 : List UInt8 := [180, 0, 251, 172, 42, 180, 1, 24, 172, 42, 180, 0, 194, 172, 42, 180, 0, 254, 172, 16, 254, 172]
abbrev dktX0_about_5 : List UInt8 := dkwX0_about_5 ++ []
def dkwX0_about_4 : List UInt8 := [172, 42, 182, 1, 17, 172, 42, 27, 16, 9, 160, 0, 7, 4, 167, 0, 4, 3, 182, 1, 20, 172, 42]
abbrev dktX0_about_4 : List UInt8 := dkwX0_about_4 ++ dktX0_about_5
def dkwX0_about_3 : List UInt8 := [180, 0, 119, 172, 42, 180, 0, 18, 180, 0, 129, 172, 42, 180, 0, 18, 180, 0, 138, 172, 42, 182, 1, 14]
abbrev dktX0_about_3 : List UInt8 := dkwX0_about_3 ++ dktX0_about_4
def dkwX0_about_2 : List UInt8 := [42, 180, 0, 109, 172, 42, 180, 0, 18, 182, 0, 215, 172, 42, 182, 1, 11, 172, 42, 180, 0, 18]
abbrev dktX0_about_2 : List UInt8 := dkwX0_about_2 ++ dktX0_about_3
def dkwX0_about_1 : List UInt8 := [170, 0, 0, 0, 0, 0, 159, 0, 0, 0, 0, 0, 0, 0, 13, 0, 0, 0, 71, 0, 0, 0, 76, 0, 0, 0, 84, 0, 0, 0, 89, 0, 0, 0, 97, 0, 0, 0, 105, 0, 0, 0, 113, 0, 0, 0, 118, 0, 0, 0, 123, 0, 0, 0, 123, 0, 0, 0, 139, 0, 0, 0, 144, 0, 0, 0, 149, 0, 0, 0, 154]
abbrev dktX0_about_1 : List UInt8 := dkwX0_about_1 ++ dktX0_about_2
def dkwX0_about_0 : List UInt8 := [42, 182, 1, 9, 27]
abbrev dktX0_about_0 : List UInt8 := dkwX0_about_0 ++ dktX0_about_1
theorem dksX0_about_0 : cX0_about.data.toList.drop 0 = dktX0_about_0 := by decide +kernel
theorem dksX0_about_1 : cX0_about.data.toList.drop 5 = dktX0_about_1 := dk_seg dksX0_about_0 5 rfl rfl
theorem dksX0_about_2 : cX0_about.data.toList.drop 76 = dktX0_about_2 := dk_seg dksX0_about_1 71 rfl rfl
theorem dksX0_about_3 : cX0_about.data.toList.drop 98 = dktX0_about_3 := dk_seg dksX0_about_2 22 rfl rfl
theorem dksX0_about_4 : cX0_about.data.toList.drop 122 = dktX0_about_4 := dk_seg dksX0_about_3 24 rfl rfl
theorem dksX0_about_5 : cX0_about.data.toList.drop 145 = dktX0_about_5 := dk_seg dksX0_about_4 23 rfl rfl
theorem dX0_about_0 : decode cX0_about 0 = .ok (.aload_n 0, 1) := dk_42 (dk_at dksX0_about_0 0 rfl rfl)
theorem dX0_about_1 : decode cX0_about 1 = .ok (.invokevirtual 265, 3) := dk_182 1 9 (dk_at dksX0_about_0 1 rfl rfl)
theorem dX0_about_4 : decode cX0_about 4 = .ok (.iload_n 1, 1) := dk_27 (dk_at dksX0_about_0 4 rfl rfl)
theorem dX0_about_5 : decode cX0_about 5 = .ok (.tableswitch 159 0 13 #[71, 76, 84, 89, 97, 105, 113, 118, 123, 123, 139, 144, 149, 154], 71) := by decide +kernel
theorem dX0_about_76 : decode cX0_about 76 = .ok (.aload_n 0, 1) := dk_42 (dk_at dksX0_about_2 0 rfl rfl)
theorem dX0_about_77 : decode cX0_about 77 = .ok (.getfield 109, 3) := dk_180 0 109 (dk_at dksX0_about_2 1 rfl rfl)
theorem dX0_about_80 : decode cX0_about 80 = .ok (.ireturn, 1) := dk_172 (dk_at dksX0_about_2 4 rfl rfl)
theorem dX0_about_81 : decode cX0_about 81 = .ok (.aload_n 0, 1) := dk_42 (dk_at dksX0_about_2 5 rfl rfl)
theorem dX0_about_82 : decode cX0_about 82 = .ok (.getfield 18, 3) := dk_180 0 18 (dk_at dksX0_about_2 6 rfl rfl)
theorem dX0_about_85 : decode cX0_about 85 = .ok (.invokevirtual 215, 3) := dk_182 0 215 (dk_at dksX0_about_2 9 rfl rfl)
theorem dX0_about_88 : decode cX0_about 88 = .ok (.ireturn, 1) := dk_172 (dk_at dksX0_about_2 12 rfl rfl)
theorem dX0_about_89 : decode cX0_about 89 = .ok (.aload_n 0, 1) := dk_42 (dk_at dksX0_about_2 13 rfl rfl)
theorem dX0_about_90 : decode cX0_about 90 = .ok (.invokevirtual 267, 3) := dk_182 1 11 (dk_at dksX0_about_2 14 rfl rfl)
theorem dX0_about_93 : decode cX0_about 93 = .ok (.ireturn, 1) := dk_172 (dk_at dksX0_about_2 17 rfl rfl)
theorem dX0_about_94 : decode cX0_about 94 = .ok (.aload_n 0, 1) := dk_42 (dk_at dksX0_about_2 18 rfl rfl)
theorem dX0_about_95 : decode cX0_about 95 = .ok (.getfield 18, 3) := dk_180 0 18 (dk_at dksX0_about_2 19 rfl rfl)
theorem dX0_about_98 : decode cX0_about 98 = .ok (.getfield 119, 3) := dk_180 0 119 (dk_at dksX0_about_3 0 rfl rfl)
theorem dX0_about_101 : decode cX0_about 101 = .ok (.ireturn, 1) := dk_172 (dk_at dksX0_about_3 3 rfl rfl)
theorem dX0_about_102 : decode cX0_about 102 = .ok (.aload_n 0, 1) := dk_42 (dk_at dksX0_about_3 4 rfl rfl)
theorem dX0_about_103 : decode cX0_about 103 = .ok (.getfield 18, 3) := dk_180 0 18 (dk_at dksX0_about_3 5 rfl rfl)
theorem dX0_about_106 : decode cX0_about 106 = .ok (.getfield 129, 3) := dk_180 0 129 (dk_at dksX0_about_3 8 rfl rfl)
theorem dX0_about_109 : decode cX0_about 109 = .ok (.ireturn, 1) := dk_172 (dk_at dksX0_about_3 11 rfl rfl)
theorem dX0_about_110 : decode cX0_about 110 = .ok (.aload_n 0, 1) := dk_42 (dk_at dksX0_about_3 12 rfl rfl)
theorem dX0_about_111 : decode cX0_about 111 = .ok (.getfield 18, 3) := dk_180 0 18 (dk_at dksX0_about_3 13 rfl rfl)
theorem dX0_about_114 : decode cX0_about 114 = .ok (.getfield 138, 3) := dk_180 0 138 (dk_at dksX0_about_3 16 rfl rfl)
theorem dX0_about_117 : decode cX0_about 117 = .ok (.ireturn, 1) := dk_172 (dk_at dksX0_about_3 19 rfl rfl)
theorem dX0_about_118 : decode cX0_about 118 = .ok (.aload_n 0, 1) := dk_42 (dk_at dksX0_about_3 20 rfl rfl)
theorem dX0_about_119 : decode cX0_about 119 = .ok (.invokevirtual 270, 3) := dk_182 1 14 (dk_at dksX0_about_3 21 rfl rfl)
theorem dX0_about_122 : decode cX0_about 122 = .ok (.ireturn, 1) := dk_172 (dk_at dksX0_about_4 0 rfl rfl)
theorem dX0_about_123 : decode cX0_about 123 = .ok (.aload_n 0, 1) := dk_42 (dk_at dksX0_about_4 1 rfl rfl)
theorem dX0_about_124 : decode cX0_about 124 = .ok (.invokevirtual 273, 3) := dk_182 1 17 (dk_at dksX0_about_4 2 rfl rfl)
theorem dX0_about_127 : decode cX0_about 127 = .ok (.ireturn, 1) := dk_172 (dk_at dksX0_about_4 5 rfl rfl)
theorem dX0_about_128 : decode cX0_about 128 = .ok (.aload_n 0, 1) := dk_42 (dk_at dksX0_about_4 6 rfl rfl)
theorem dX0_about_129 : decode cX0_about 129 = .ok (.iload_n 1, 1) := dk_27 (dk_at dksX0_about_4 7 rfl rfl)
theorem dX0_about_130 : decode cX0_about 130 = .ok (.bipush 9, 2) := dk_16 9 (dk_at dksX0_about_4 8 rfl rfl)
theorem dX0_about_132 : decode cX0_about 132 = .ok (.if_icmp .ne 7, 3) := dk_160 0 7 (dk_at dksX0_about_4 10 rfl rfl)
theorem dX0_about_135 : decode cX0_about 135 = .ok (.iconst 1, 1) := dk_4 (dk_at dksX0_about_4 13 rfl rfl)
theorem dX0_about_136 : decode cX0_about 136 = .ok (.goto 4, 3) := dk_167 0 4 (dk_at dksX0_about_4 14 rfl rfl)
theorem dX0_about_139 : decode cX0_about 139 = .ok (.iconst 0, 1) := dk_3 (dk_at dksX0_about_4 17 rfl rfl)
theorem dX0_about_140 : decode cX0_about 140 = .ok (.invokevirtual 276, 3) := dk_182 1 20 (dk_at dksX0_about_4 18 rfl rfl)
theorem dX0_about_143 : decode cX0_about 143 = .ok (.ireturn, 1) := dk_172 (dk_at dksX0_about_4 21 rfl rfl)
theorem dX0_about_144 : decode cX0_about 144 = .ok (.aload_n 0, 1) := dk_42 (dk_at dksX0_about_4 22 rfl rfl)
theorem dX0_about_145 : decode cX0_about 145 = .ok (.getfield 251, 3) := dk_180 0 251 (dk_at dksX0_about_5 0 rfl rfl)
theorem dX0_about_148 : decode cX0_about 148 = .ok (.ireturn, 1) := dk_172 (dk_at dksX0_about_5 3 rfl rfl)
theorem dX0_about_149 : decode cX0_about 149 = .ok (.aload_n 0, 1) := dk_42 (dk_at dksX0_about_5 4 rfl rfl)
theorem dX0_about_150 : decode cX0_about 150 = .ok (.getfield 280, 3) := dk_180 1 24 (dk_at dksX0_about_5 5 rfl rfl)
theorem dX0_about_153 : decode cX0_about 153 = .ok (.ireturn, 1) := dk_172 (dk_at dksX0_about_5 8 rfl rfl)
theorem dX0_about_154 : decode cX0_about 154 = .ok (.aload_n 0, 1) := dk_42 (dk_at dksX0_about_5 9 rfl rfl)
theorem dX0_about_155 : decode cX0_about 155 = .ok (.getfield 194, 3) := dk_180 0 194 (dk_at dksX0_about_5 10 rfl rfl)
theorem dX0_about_158 : decode cX0_about 158 = .ok (.ireturn, 1) := dk_172 (dk_at dksX0_about_5 13 rfl rfl)
theorem dX0_about_159 : decode cX0_about 159 = .ok (.aload_n 0, 1) := dk_42 (dk_at dksX0_about_5 14 rfl rfl)
theorem dX0_about_160 : decode cX0_about 160 = .ok (.getfield 254, 3) := dk_180 0 254 (dk_at dksX0_about_5 15 rfl rfl)
theorem dX0_about_163 : decode cX0_about 163 = .ok (.ireturn, 1) := dk_172 (dk_at dksX0_about_5 18 rfl rfl)
theorem dX0_about_164 : decode cX0_about 164 = .ok (.bipush (-2), 2) := dk_16 254 (dk_at dksX0_about_5 19 rfl rfl)
theorem dX0_about_166 : decode cX0_about 166 = .ok (.ireturn, 1) := dk_172 (dk_at dksX0_about_5 21 rfl rfl)
abbrev cX0_look : ByteArray := prog_1_method_5_code
def yX0_look : MethodName := ⟨RX0, "look", "()V"⟩
def dkwX0_look_0 : List UInt8 := [42, 42, 180, 0, 18, 42, 182, 0, 115, 42, 180, 0, 18, 180, 0, 119, 2, 130, 126, 182, 0, 122, 177]
abbrev dktX0_look_0 : List UInt8 := dkwX0_look_0 ++ []
theorem dksX0_look_0 : cX0_look.data.toList.drop 0 = dktX0_look_0 := by decide +kernel
theorem dX0_look_0 : decode cX0_look 0 = .ok (.aload_n 0, 1) := dk_42 (dk_at dksX0_look_0 0 rfl rfl)
theorem dX0_look_1 : decode cX0_look 1 = .ok (.aload_n 0, 1) := dk_42 (dk_at dksX0_look_0 1 rfl rfl)
theorem dX0_look_2 : decode cX0_look 2 = .ok (.getfield 18, 3) := dk_180 0 18 (dk_at dksX0_look_0 2 rfl rfl)
theorem dX0_look_5 : decode cX0_look 5 = .ok (.aload_n 0, 1) := dk_42 (dk_at dksX0_look_0 5 rfl rfl)
theorem dX0_look_6 : decode cX0_look 6 = .ok (.invokevirtual 115, 3) := dk_182 0 115 (dk_at dksX0_look_0 6 rfl rfl)
theorem dX0_look_9 : decode cX0_look 9 = .ok (.aload_n 0, 1) := dk_42 (dk_at dksX0_look_0 9 rfl rfl)
theorem dX0_look_10 : decode cX0_look 10 = .ok (.getfield 18, 3) := dk_180 0 18 (dk_at dksX0_look_0 10 rfl rfl)
theorem dX0_look_13 : decode cX0_look 13 = .ok (.getfield 119, 3) := dk_180 0 119 (dk_at dksX0_look_0 13 rfl rfl)
theorem dX0_look_16 : decode cX0_look 16 = .ok (.iconst (-1), 1) := dk_2 (dk_at dksX0_look_0 16 rfl rfl)
theorem dX0_look_17 : decode cX0_look 17 = .ok (.ixor, 1) := dk_130 (dk_at dksX0_look_0 17 rfl rfl)
theorem dX0_look_18 : decode cX0_look 18 = .ok (.iand, 1) := dk_126 (dk_at dksX0_look_0 18 rfl rfl)
theorem dX0_look_19 : decode cX0_look 19 = .ok (.invokevirtual 122, 3) := dk_182 0 122 (dk_at dksX0_look_0 19 rfl rfl)
theorem dX0_look_22 : decode cX0_look 22 = .ok (.return_, 1) := dk_177 (dk_at dksX0_look_0 22 rfl rfl)
abbrev cX0_all : ByteArray := prog_1_method_6_code
def yX0_all : MethodName := ⟨RX0, "all", "()I"⟩
def dkwX0_all_0 : List UInt8 := [4, 42, 180, 0, 109, 120, 4, 100, 172]
abbrev dktX0_all_0 : List UInt8 := dkwX0_all_0 ++ []
theorem dksX0_all_0 : cX0_all.data.toList.drop 0 = dktX0_all_0 := by decide +kernel
theorem dX0_all_0 : decode cX0_all 0 = .ok (.iconst 1, 1) := dk_4 (dk_at dksX0_all_0 0 rfl rfl)
theorem dX0_all_1 : decode cX0_all 1 = .ok (.aload_n 0, 1) := dk_42 (dk_at dksX0_all_0 1 rfl rfl)
theorem dX0_all_2 : decode cX0_all 2 = .ok (.getfield 109, 3) := dk_180 0 109 (dk_at dksX0_all_0 2 rfl rfl)
theorem dX0_all_5 : decode cX0_all 5 = .ok (.ishl, 1) := dk_120 (dk_at dksX0_all_0 5 rfl rfl)
theorem dX0_all_6 : decode cX0_all 6 = .ok (.iconst 1, 1) := dk_4 (dk_at dksX0_all_0 6 rfl rfl)
theorem dX0_all_7 : decode cX0_all 7 = .ok (.isub, 1) := dk_100 (dk_at dksX0_all_0 7 rfl rfl)
theorem dX0_all_8 : decode cX0_all 8 = .ok (.ireturn, 1) := dk_172 (dk_at dksX0_all_0 8 rfl rfl)
abbrev cX0_look_2 : ByteArray := prog_1_method_4_code
def yX0_look_2 : MethodName := ⟨RX0, "look", "(LBagPhrases$Setting;I)V"⟩
def dkwX0_look_2_6 : List UInt8 := [180, 0, 112, 21, 4, 46, 104, 96, 79, 132, 4, 1, 167, 255, 217, 132, 3, 1, 167, 255, 193, 177]
abbrev dktX0_look_2_6 : List UInt8 := dkwX0_look_2_6 ++ []
def dkwX0_look_2_5 : List UInt8 := [162, 0, 38, 42, 180, 0, 42, 29, 92, 46, 42, 180, 0, 28, 21, 4, 46, 42, 180, 0, 11, 29, 50]
abbrev dktX0_look_2_5 : List UInt8 := dkwX0_look_2_5 ++ dktX0_look_2_6
def dkwX0_look_2_4 : List UInt8 := [29, 42, 180, 0, 109, 162, 0, 61, 42, 180, 0, 42, 29, 3, 79, 3, 54, 4, 21, 4, 16, 8]
abbrev dktX0_look_2_4 : List UInt8 := dkwX0_look_2_4 ++ dktX0_look_2_5
def dkwX0_look_2_3 : List UInt8 := [180, 0, 35, 29, 20, 0, 107, 80, 42, 180, 0, 39, 29, 16, 155, 79, 132, 3, 1, 167, 255, 226, 3, 62]
abbrev dktX0_look_2_3 : List UInt8 := dkwX0_look_2_3 ++ dktX0_look_2_4
def dkwX0_look_2_2 : List UInt8 := [181, 0, 101, 132, 3, 1, 167, 255, 220, 3, 62, 29, 42, 180, 0, 101, 8, 104, 162, 0, 26, 42]
abbrev dktX0_look_2_2 : List UInt8 := dkwX0_look_2_2 ++ dktX0_look_2_3
def dkwX0_look_2_1 : List UInt8 := [180, 0, 28, 29, 42, 180, 0, 101, 79, 42, 89, 180, 0, 101, 43, 180, 0, 104, 29, 46, 4, 96, 104]
abbrev dktX0_look_2_1 : List UInt8 := dkwX0_look_2_1 ++ dktX0_look_2_2
def dkwX0_look_2_0 : List UInt8 := [42, 43, 181, 0, 25, 42, 28, 181, 0, 97, 42, 4, 181, 0, 101, 3, 62, 29, 16, 8, 162, 0, 36, 42]
abbrev dktX0_look_2_0 : List UInt8 := dkwX0_look_2_0 ++ dktX0_look_2_1
theorem dksX0_look_2_0 : cX0_look_2.data.toList.drop 0 = dktX0_look_2_0 := by decide +kernel
theorem dksX0_look_2_1 : cX0_look_2.data.toList.drop 24 = dktX0_look_2_1 := dk_seg dksX0_look_2_0 24 rfl rfl
theorem dksX0_look_2_2 : cX0_look_2.data.toList.drop 47 = dktX0_look_2_2 := dk_seg dksX0_look_2_1 23 rfl rfl
theorem dksX0_look_2_3 : cX0_look_2.data.toList.drop 69 = dktX0_look_2_3 := dk_seg dksX0_look_2_2 22 rfl rfl
theorem dksX0_look_2_4 : cX0_look_2.data.toList.drop 93 = dktX0_look_2_4 := dk_seg dksX0_look_2_3 24 rfl rfl
theorem dksX0_look_2_5 : cX0_look_2.data.toList.drop 115 = dktX0_look_2_5 := dk_seg dksX0_look_2_4 22 rfl rfl
theorem dksX0_look_2_6 : cX0_look_2.data.toList.drop 138 = dktX0_look_2_6 := dk_seg dksX0_look_2_5 23 rfl rfl
theorem dX0_look_2_0 : decode cX0_look_2 0 = .ok (.aload_n 0, 1) := dk_42 (dk_at dksX0_look_2_0 0 rfl rfl)
theorem dX0_look_2_1 : decode cX0_look_2 1 = .ok (.aload_n 1, 1) := dk_43 (dk_at dksX0_look_2_0 1 rfl rfl)
theorem dX0_look_2_2 : decode cX0_look_2 2 = .ok (.putfield 25, 3) := dk_181 0 25 (dk_at dksX0_look_2_0 2 rfl rfl)
theorem dX0_look_2_5 : decode cX0_look_2 5 = .ok (.aload_n 0, 1) := dk_42 (dk_at dksX0_look_2_0 5 rfl rfl)
theorem dX0_look_2_6 : decode cX0_look_2 6 = .ok (.iload_n 2, 1) := dk_28 (dk_at dksX0_look_2_0 6 rfl rfl)
theorem dX0_look_2_7 : decode cX0_look_2 7 = .ok (.putfield 97, 3) := dk_181 0 97 (dk_at dksX0_look_2_0 7 rfl rfl)
theorem dX0_look_2_10 : decode cX0_look_2 10 = .ok (.aload_n 0, 1) := dk_42 (dk_at dksX0_look_2_0 10 rfl rfl)
theorem dX0_look_2_11 : decode cX0_look_2 11 = .ok (.iconst 1, 1) := dk_4 (dk_at dksX0_look_2_0 11 rfl rfl)
theorem dX0_look_2_12 : decode cX0_look_2 12 = .ok (.putfield 101, 3) := dk_181 0 101 (dk_at dksX0_look_2_0 12 rfl rfl)
theorem dX0_look_2_15 : decode cX0_look_2 15 = .ok (.iconst 0, 1) := dk_3 (dk_at dksX0_look_2_0 15 rfl rfl)
theorem dX0_look_2_16 : decode cX0_look_2 16 = .ok (.istore_n 3, 1) := dk_62 (dk_at dksX0_look_2_0 16 rfl rfl)
theorem dX0_look_2_17 : decode cX0_look_2 17 = .ok (.iload_n 3, 1) := dk_29 (dk_at dksX0_look_2_0 17 rfl rfl)
theorem dX0_look_2_18 : decode cX0_look_2 18 = .ok (.bipush 8, 2) := dk_16 8 (dk_at dksX0_look_2_0 18 rfl rfl)
theorem dX0_look_2_20 : decode cX0_look_2 20 = .ok (.if_icmp .ge 36, 3) := dk_162 0 36 (dk_at dksX0_look_2_0 20 rfl rfl)
theorem dX0_look_2_23 : decode cX0_look_2 23 = .ok (.aload_n 0, 1) := dk_42 (dk_at dksX0_look_2_0 23 rfl rfl)
theorem dX0_look_2_24 : decode cX0_look_2 24 = .ok (.getfield 28, 3) := dk_180 0 28 (dk_at dksX0_look_2_1 0 rfl rfl)
theorem dX0_look_2_27 : decode cX0_look_2 27 = .ok (.iload_n 3, 1) := dk_29 (dk_at dksX0_look_2_1 3 rfl rfl)
theorem dX0_look_2_28 : decode cX0_look_2 28 = .ok (.aload_n 0, 1) := dk_42 (dk_at dksX0_look_2_1 4 rfl rfl)
theorem dX0_look_2_29 : decode cX0_look_2 29 = .ok (.getfield 101, 3) := dk_180 0 101 (dk_at dksX0_look_2_1 5 rfl rfl)
theorem dX0_look_2_32 : decode cX0_look_2 32 = .ok (.iastore, 1) := dk_79 (dk_at dksX0_look_2_1 8 rfl rfl)
theorem dX0_look_2_33 : decode cX0_look_2 33 = .ok (.aload_n 0, 1) := dk_42 (dk_at dksX0_look_2_1 9 rfl rfl)
theorem dX0_look_2_34 : decode cX0_look_2 34 = .ok (.dup, 1) := dk_89 (dk_at dksX0_look_2_1 10 rfl rfl)
theorem dX0_look_2_35 : decode cX0_look_2 35 = .ok (.getfield 101, 3) := dk_180 0 101 (dk_at dksX0_look_2_1 11 rfl rfl)
theorem dX0_look_2_38 : decode cX0_look_2 38 = .ok (.aload_n 1, 1) := dk_43 (dk_at dksX0_look_2_1 14 rfl rfl)
theorem dX0_look_2_39 : decode cX0_look_2 39 = .ok (.getfield 104, 3) := dk_180 0 104 (dk_at dksX0_look_2_1 15 rfl rfl)
theorem dX0_look_2_42 : decode cX0_look_2 42 = .ok (.iload_n 3, 1) := dk_29 (dk_at dksX0_look_2_1 18 rfl rfl)
theorem dX0_look_2_43 : decode cX0_look_2 43 = .ok (.iaload, 1) := dk_46 (dk_at dksX0_look_2_1 19 rfl rfl)
theorem dX0_look_2_44 : decode cX0_look_2 44 = .ok (.iconst 1, 1) := dk_4 (dk_at dksX0_look_2_1 20 rfl rfl)
theorem dX0_look_2_45 : decode cX0_look_2 45 = .ok (.iadd, 1) := dk_96 (dk_at dksX0_look_2_1 21 rfl rfl)
theorem dX0_look_2_46 : decode cX0_look_2 46 = .ok (.imul, 1) := dk_104 (dk_at dksX0_look_2_1 22 rfl rfl)
theorem dX0_look_2_47 : decode cX0_look_2 47 = .ok (.putfield 101, 3) := dk_181 0 101 (dk_at dksX0_look_2_2 0 rfl rfl)
theorem dX0_look_2_50 : decode cX0_look_2 50 = .ok (.iinc 3 1, 3) := dk_132 3 1 (dk_at dksX0_look_2_2 3 rfl rfl)
theorem dX0_look_2_53 : decode cX0_look_2 53 = .ok (.goto (-36), 3) := dk_167 255 220 (dk_at dksX0_look_2_2 6 rfl rfl)
theorem dX0_look_2_56 : decode cX0_look_2 56 = .ok (.iconst 0, 1) := dk_3 (dk_at dksX0_look_2_2 9 rfl rfl)
theorem dX0_look_2_57 : decode cX0_look_2 57 = .ok (.istore_n 3, 1) := dk_62 (dk_at dksX0_look_2_2 10 rfl rfl)
theorem dX0_look_2_58 : decode cX0_look_2 58 = .ok (.iload_n 3, 1) := dk_29 (dk_at dksX0_look_2_2 11 rfl rfl)
theorem dX0_look_2_59 : decode cX0_look_2 59 = .ok (.aload_n 0, 1) := dk_42 (dk_at dksX0_look_2_2 12 rfl rfl)
theorem dX0_look_2_60 : decode cX0_look_2 60 = .ok (.getfield 101, 3) := dk_180 0 101 (dk_at dksX0_look_2_2 13 rfl rfl)
theorem dX0_look_2_63 : decode cX0_look_2 63 = .ok (.iconst 5, 1) := dk_8 (dk_at dksX0_look_2_2 16 rfl rfl)
theorem dX0_look_2_64 : decode cX0_look_2 64 = .ok (.imul, 1) := dk_104 (dk_at dksX0_look_2_2 17 rfl rfl)
theorem dX0_look_2_65 : decode cX0_look_2 65 = .ok (.if_icmp .ge 26, 3) := dk_162 0 26 (dk_at dksX0_look_2_2 18 rfl rfl)
theorem dX0_look_2_68 : decode cX0_look_2 68 = .ok (.aload_n 0, 1) := dk_42 (dk_at dksX0_look_2_2 21 rfl rfl)
theorem dX0_look_2_69 : decode cX0_look_2 69 = .ok (.getfield 35, 3) := dk_180 0 35 (dk_at dksX0_look_2_3 0 rfl rfl)
theorem dX0_look_2_72 : decode cX0_look_2 72 = .ok (.iload_n 3, 1) := dk_29 (dk_at dksX0_look_2_3 3 rfl rfl)
theorem dX0_look_2_73 : decode cX0_look_2 73 = .ok (.ldc2_w 107, 3) := dk_20 0 107 (dk_at dksX0_look_2_3 4 rfl rfl)
theorem dX0_look_2_76 : decode cX0_look_2 76 = .ok (.lastore, 1) := dk_80 (dk_at dksX0_look_2_3 7 rfl rfl)
theorem dX0_look_2_77 : decode cX0_look_2 77 = .ok (.aload_n 0, 1) := dk_42 (dk_at dksX0_look_2_3 8 rfl rfl)
theorem dX0_look_2_78 : decode cX0_look_2 78 = .ok (.getfield 39, 3) := dk_180 0 39 (dk_at dksX0_look_2_3 9 rfl rfl)
theorem dX0_look_2_81 : decode cX0_look_2 81 = .ok (.iload_n 3, 1) := dk_29 (dk_at dksX0_look_2_3 12 rfl rfl)
theorem dX0_look_2_82 : decode cX0_look_2 82 = .ok (.bipush (-101), 2) := dk_16 155 (dk_at dksX0_look_2_3 13 rfl rfl)
theorem dX0_look_2_84 : decode cX0_look_2 84 = .ok (.iastore, 1) := dk_79 (dk_at dksX0_look_2_3 15 rfl rfl)
theorem dX0_look_2_85 : decode cX0_look_2 85 = .ok (.iinc 3 1, 3) := dk_132 3 1 (dk_at dksX0_look_2_3 16 rfl rfl)
theorem dX0_look_2_88 : decode cX0_look_2 88 = .ok (.goto (-30), 3) := dk_167 255 226 (dk_at dksX0_look_2_3 19 rfl rfl)
theorem dX0_look_2_91 : decode cX0_look_2 91 = .ok (.iconst 0, 1) := dk_3 (dk_at dksX0_look_2_3 22 rfl rfl)
theorem dX0_look_2_92 : decode cX0_look_2 92 = .ok (.istore_n 3, 1) := dk_62 (dk_at dksX0_look_2_3 23 rfl rfl)
theorem dX0_look_2_93 : decode cX0_look_2 93 = .ok (.iload_n 3, 1) := dk_29 (dk_at dksX0_look_2_4 0 rfl rfl)
theorem dX0_look_2_94 : decode cX0_look_2 94 = .ok (.aload_n 0, 1) := dk_42 (dk_at dksX0_look_2_4 1 rfl rfl)
theorem dX0_look_2_95 : decode cX0_look_2 95 = .ok (.getfield 109, 3) := dk_180 0 109 (dk_at dksX0_look_2_4 2 rfl rfl)
theorem dX0_look_2_98 : decode cX0_look_2 98 = .ok (.if_icmp .ge 61, 3) := dk_162 0 61 (dk_at dksX0_look_2_4 5 rfl rfl)
theorem dX0_look_2_101 : decode cX0_look_2 101 = .ok (.aload_n 0, 1) := dk_42 (dk_at dksX0_look_2_4 8 rfl rfl)
theorem dX0_look_2_102 : decode cX0_look_2 102 = .ok (.getfield 42, 3) := dk_180 0 42 (dk_at dksX0_look_2_4 9 rfl rfl)
theorem dX0_look_2_105 : decode cX0_look_2 105 = .ok (.iload_n 3, 1) := dk_29 (dk_at dksX0_look_2_4 12 rfl rfl)
theorem dX0_look_2_106 : decode cX0_look_2 106 = .ok (.iconst 0, 1) := dk_3 (dk_at dksX0_look_2_4 13 rfl rfl)
theorem dX0_look_2_107 : decode cX0_look_2 107 = .ok (.iastore, 1) := dk_79 (dk_at dksX0_look_2_4 14 rfl rfl)
theorem dX0_look_2_108 : decode cX0_look_2 108 = .ok (.iconst 0, 1) := dk_3 (dk_at dksX0_look_2_4 15 rfl rfl)
theorem dX0_look_2_109 : decode cX0_look_2 109 = .ok (.istore 4, 2) := dk_54 4 (dk_at dksX0_look_2_4 16 rfl rfl)
theorem dX0_look_2_111 : decode cX0_look_2 111 = .ok (.iload 4, 2) := dk_21 4 (dk_at dksX0_look_2_4 18 rfl rfl)
theorem dX0_look_2_113 : decode cX0_look_2 113 = .ok (.bipush 8, 2) := dk_16 8 (dk_at dksX0_look_2_4 20 rfl rfl)
theorem dX0_look_2_115 : decode cX0_look_2 115 = .ok (.if_icmp .ge 38, 3) := dk_162 0 38 (dk_at dksX0_look_2_5 0 rfl rfl)
theorem dX0_look_2_118 : decode cX0_look_2 118 = .ok (.aload_n 0, 1) := dk_42 (dk_at dksX0_look_2_5 3 rfl rfl)
theorem dX0_look_2_119 : decode cX0_look_2 119 = .ok (.getfield 42, 3) := dk_180 0 42 (dk_at dksX0_look_2_5 4 rfl rfl)
theorem dX0_look_2_122 : decode cX0_look_2 122 = .ok (.iload_n 3, 1) := dk_29 (dk_at dksX0_look_2_5 7 rfl rfl)
theorem dX0_look_2_123 : decode cX0_look_2 123 = .ok (.dup2, 1) := dk_92 (dk_at dksX0_look_2_5 8 rfl rfl)
theorem dX0_look_2_124 : decode cX0_look_2 124 = .ok (.iaload, 1) := dk_46 (dk_at dksX0_look_2_5 9 rfl rfl)
theorem dX0_look_2_125 : decode cX0_look_2 125 = .ok (.aload_n 0, 1) := dk_42 (dk_at dksX0_look_2_5 10 rfl rfl)
theorem dX0_look_2_126 : decode cX0_look_2 126 = .ok (.getfield 28, 3) := dk_180 0 28 (dk_at dksX0_look_2_5 11 rfl rfl)
theorem dX0_look_2_129 : decode cX0_look_2 129 = .ok (.iload 4, 2) := dk_21 4 (dk_at dksX0_look_2_5 14 rfl rfl)
theorem dX0_look_2_131 : decode cX0_look_2 131 = .ok (.iaload, 1) := dk_46 (dk_at dksX0_look_2_5 16 rfl rfl)
theorem dX0_look_2_132 : decode cX0_look_2 132 = .ok (.aload_n 0, 1) := dk_42 (dk_at dksX0_look_2_5 17 rfl rfl)
theorem dX0_look_2_133 : decode cX0_look_2 133 = .ok (.getfield 11, 3) := dk_180 0 11 (dk_at dksX0_look_2_5 18 rfl rfl)
theorem dX0_look_2_136 : decode cX0_look_2 136 = .ok (.iload_n 3, 1) := dk_29 (dk_at dksX0_look_2_5 21 rfl rfl)
theorem dX0_look_2_137 : decode cX0_look_2 137 = .ok (.aaload, 1) := dk_50 (dk_at dksX0_look_2_5 22 rfl rfl)
theorem dX0_look_2_138 : decode cX0_look_2 138 = .ok (.getfield 112, 3) := dk_180 0 112 (dk_at dksX0_look_2_6 0 rfl rfl)
theorem dX0_look_2_141 : decode cX0_look_2 141 = .ok (.iload 4, 2) := dk_21 4 (dk_at dksX0_look_2_6 3 rfl rfl)
theorem dX0_look_2_143 : decode cX0_look_2 143 = .ok (.iaload, 1) := dk_46 (dk_at dksX0_look_2_6 5 rfl rfl)
theorem dX0_look_2_144 : decode cX0_look_2 144 = .ok (.imul, 1) := dk_104 (dk_at dksX0_look_2_6 6 rfl rfl)
theorem dX0_look_2_145 : decode cX0_look_2 145 = .ok (.iadd, 1) := dk_96 (dk_at dksX0_look_2_6 7 rfl rfl)
theorem dX0_look_2_146 : decode cX0_look_2 146 = .ok (.iastore, 1) := dk_79 (dk_at dksX0_look_2_6 8 rfl rfl)
theorem dX0_look_2_147 : decode cX0_look_2 147 = .ok (.iinc 4 1, 3) := dk_132 4 1 (dk_at dksX0_look_2_6 9 rfl rfl)
theorem dX0_look_2_150 : decode cX0_look_2 150 = .ok (.goto (-39), 3) := dk_167 255 217 (dk_at dksX0_look_2_6 12 rfl rfl)
theorem dX0_look_2_153 : decode cX0_look_2 153 = .ok (.iinc 3 1, 3) := dk_132 3 1 (dk_at dksX0_look_2_6 15 rfl rfl)
theorem dX0_look_2_156 : decode cX0_look_2 156 = .ok (.goto (-63), 3) := dk_167 255 193 (dk_at dksX0_look_2_6 18 rfl rfl)
theorem dX0_look_2_159 : decode cX0_look_2 159 = .ok (.return_, 1) := dk_177 (dk_at dksX0_look_2_6 21 rfl rfl)
abbrev cX0_unlike : ByteArray := prog_1_method_39_code
def yX0_unlike : MethodName := ⟨RX0, "unlike", "()I"⟩
def dkwX0_unlike_1 : List UInt8 := [167, 0, 4, 3, 96, 60, 132, 2, 1, 167, 255, 227, 27, 172]
abbrev dktX0_unlike_1 : List UInt8 := dkwX0_unlike_1 ++ []
def dkwX0_unlike_0 : List UInt8 := [3, 60, 3, 61, 28, 16, 8, 162, 0, 29, 27, 42, 180, 0, 18, 180, 0, 104, 28, 46, 158, 0, 7, 4]
abbrev dktX0_unlike_0 : List UInt8 := dkwX0_unlike_0 ++ dktX0_unlike_1
theorem dksX0_unlike_0 : cX0_unlike.data.toList.drop 0 = dktX0_unlike_0 := by decide +kernel
theorem dksX0_unlike_1 : cX0_unlike.data.toList.drop 24 = dktX0_unlike_1 := dk_seg dksX0_unlike_0 24 rfl rfl
theorem dX0_unlike_0 : decode cX0_unlike 0 = .ok (.iconst 0, 1) := dk_3 (dk_at dksX0_unlike_0 0 rfl rfl)
theorem dX0_unlike_1 : decode cX0_unlike 1 = .ok (.istore_n 1, 1) := dk_60 (dk_at dksX0_unlike_0 1 rfl rfl)
theorem dX0_unlike_2 : decode cX0_unlike 2 = .ok (.iconst 0, 1) := dk_3 (dk_at dksX0_unlike_0 2 rfl rfl)
theorem dX0_unlike_3 : decode cX0_unlike 3 = .ok (.istore_n 2, 1) := dk_61 (dk_at dksX0_unlike_0 3 rfl rfl)
theorem dX0_unlike_4 : decode cX0_unlike 4 = .ok (.iload_n 2, 1) := dk_28 (dk_at dksX0_unlike_0 4 rfl rfl)
theorem dX0_unlike_5 : decode cX0_unlike 5 = .ok (.bipush 8, 2) := dk_16 8 (dk_at dksX0_unlike_0 5 rfl rfl)
theorem dX0_unlike_7 : decode cX0_unlike 7 = .ok (.if_icmp .ge 29, 3) := dk_162 0 29 (dk_at dksX0_unlike_0 7 rfl rfl)
theorem dX0_unlike_10 : decode cX0_unlike 10 = .ok (.iload_n 1, 1) := dk_27 (dk_at dksX0_unlike_0 10 rfl rfl)
theorem dX0_unlike_11 : decode cX0_unlike 11 = .ok (.aload_n 0, 1) := dk_42 (dk_at dksX0_unlike_0 11 rfl rfl)
theorem dX0_unlike_12 : decode cX0_unlike 12 = .ok (.getfield 18, 3) := dk_180 0 18 (dk_at dksX0_unlike_0 12 rfl rfl)
theorem dX0_unlike_15 : decode cX0_unlike 15 = .ok (.getfield 104, 3) := dk_180 0 104 (dk_at dksX0_unlike_0 15 rfl rfl)
theorem dX0_unlike_18 : decode cX0_unlike 18 = .ok (.iload_n 2, 1) := dk_28 (dk_at dksX0_unlike_0 18 rfl rfl)
theorem dX0_unlike_19 : decode cX0_unlike 19 = .ok (.iaload, 1) := dk_46 (dk_at dksX0_unlike_0 19 rfl rfl)
theorem dX0_unlike_20 : decode cX0_unlike 20 = .ok (.ifCond .le 7, 3) := dk_158 0 7 (dk_at dksX0_unlike_0 20 rfl rfl)
theorem dX0_unlike_23 : decode cX0_unlike 23 = .ok (.iconst 1, 1) := dk_4 (dk_at dksX0_unlike_0 23 rfl rfl)
theorem dX0_unlike_24 : decode cX0_unlike 24 = .ok (.goto 4, 3) := dk_167 0 4 (dk_at dksX0_unlike_1 0 rfl rfl)
theorem dX0_unlike_27 : decode cX0_unlike 27 = .ok (.iconst 0, 1) := dk_3 (dk_at dksX0_unlike_1 3 rfl rfl)
theorem dX0_unlike_28 : decode cX0_unlike 28 = .ok (.iadd, 1) := dk_96 (dk_at dksX0_unlike_1 4 rfl rfl)
theorem dX0_unlike_29 : decode cX0_unlike 29 = .ok (.istore_n 1, 1) := dk_60 (dk_at dksX0_unlike_1 5 rfl rfl)
theorem dX0_unlike_30 : decode cX0_unlike 30 = .ok (.iinc 2 1, 3) := dk_132 2 1 (dk_at dksX0_unlike_1 6 rfl rfl)
theorem dX0_unlike_33 : decode cX0_unlike 33 = .ok (.goto (-29), 3) := dk_167 255 227 (dk_at dksX0_unlike_1 9 rfl rfl)
theorem dX0_unlike_36 : decode cX0_unlike 36 = .ok (.iload_n 1, 1) := dk_27 (dk_at dksX0_unlike_1 12 rfl rfl)
theorem dX0_unlike_37 : decode cX0_unlike 37 = .ok (.ireturn, 1) := dk_172 (dk_at dksX0_unlike_1 13 rfl rfl)
abbrev cX0_fitting : ByteArray := prog_1_method_38_code
def yX0_fitting : MethodName := ⟨RX0, "fitting", "()I"⟩
def dkwX0_fitting_2 : List UInt8 := [27, 172]
abbrev dktX0_fitting_2 : List UInt8 := dkwX0_fitting_2 ++ []
def dkwX0_fitting_1 : List UInt8 := [180, 0, 104, 182, 1, 5, 158, 0, 9, 4, 28, 120, 167, 0, 4, 3, 128, 60, 132, 2, 1, 167, 255, 216]
abbrev dktX0_fitting_1 : List UInt8 := dkwX0_fitting_1 ++ dktX0_fitting_2
def dkwX0_fitting_0 : List UInt8 := [3, 60, 3, 61, 28, 42, 180, 0, 109, 162, 0, 38, 27, 42, 180, 0, 11, 28, 50, 42, 180, 0, 18]
abbrev dktX0_fitting_0 : List UInt8 := dkwX0_fitting_0 ++ dktX0_fitting_1
theorem dksX0_fitting_0 : cX0_fitting.data.toList.drop 0 = dktX0_fitting_0 := by decide +kernel
theorem dksX0_fitting_1 : cX0_fitting.data.toList.drop 23 = dktX0_fitting_1 := dk_seg dksX0_fitting_0 23 rfl rfl
theorem dksX0_fitting_2 : cX0_fitting.data.toList.drop 47 = dktX0_fitting_2 := dk_seg dksX0_fitting_1 24 rfl rfl
theorem dX0_fitting_0 : decode cX0_fitting 0 = .ok (.iconst 0, 1) := dk_3 (dk_at dksX0_fitting_0 0 rfl rfl)
theorem dX0_fitting_1 : decode cX0_fitting 1 = .ok (.istore_n 1, 1) := dk_60 (dk_at dksX0_fitting_0 1 rfl rfl)
theorem dX0_fitting_2 : decode cX0_fitting 2 = .ok (.iconst 0, 1) := dk_3 (dk_at dksX0_fitting_0 2 rfl rfl)
theorem dX0_fitting_3 : decode cX0_fitting 3 = .ok (.istore_n 2, 1) := dk_61 (dk_at dksX0_fitting_0 3 rfl rfl)
theorem dX0_fitting_4 : decode cX0_fitting 4 = .ok (.iload_n 2, 1) := dk_28 (dk_at dksX0_fitting_0 4 rfl rfl)
theorem dX0_fitting_5 : decode cX0_fitting 5 = .ok (.aload_n 0, 1) := dk_42 (dk_at dksX0_fitting_0 5 rfl rfl)
theorem dX0_fitting_6 : decode cX0_fitting 6 = .ok (.getfield 109, 3) := dk_180 0 109 (dk_at dksX0_fitting_0 6 rfl rfl)
theorem dX0_fitting_9 : decode cX0_fitting 9 = .ok (.if_icmp .ge 38, 3) := dk_162 0 38 (dk_at dksX0_fitting_0 9 rfl rfl)
theorem dX0_fitting_12 : decode cX0_fitting 12 = .ok (.iload_n 1, 1) := dk_27 (dk_at dksX0_fitting_0 12 rfl rfl)
theorem dX0_fitting_13 : decode cX0_fitting 13 = .ok (.aload_n 0, 1) := dk_42 (dk_at dksX0_fitting_0 13 rfl rfl)
theorem dX0_fitting_14 : decode cX0_fitting 14 = .ok (.getfield 11, 3) := dk_180 0 11 (dk_at dksX0_fitting_0 14 rfl rfl)
theorem dX0_fitting_17 : decode cX0_fitting 17 = .ok (.iload_n 2, 1) := dk_28 (dk_at dksX0_fitting_0 17 rfl rfl)
theorem dX0_fitting_18 : decode cX0_fitting 18 = .ok (.aaload, 1) := dk_50 (dk_at dksX0_fitting_0 18 rfl rfl)
theorem dX0_fitting_19 : decode cX0_fitting 19 = .ok (.aload_n 0, 1) := dk_42 (dk_at dksX0_fitting_0 19 rfl rfl)
theorem dX0_fitting_20 : decode cX0_fitting 20 = .ok (.getfield 18, 3) := dk_180 0 18 (dk_at dksX0_fitting_0 20 rfl rfl)
theorem dX0_fitting_23 : decode cX0_fitting 23 = .ok (.getfield 104, 3) := dk_180 0 104 (dk_at dksX0_fitting_1 0 rfl rfl)
theorem dX0_fitting_26 : decode cX0_fitting 26 = .ok (.invokevirtual 261, 3) := dk_182 1 5 (dk_at dksX0_fitting_1 3 rfl rfl)
theorem dX0_fitting_29 : decode cX0_fitting 29 = .ok (.ifCond .le 9, 3) := dk_158 0 9 (dk_at dksX0_fitting_1 6 rfl rfl)
theorem dX0_fitting_32 : decode cX0_fitting 32 = .ok (.iconst 1, 1) := dk_4 (dk_at dksX0_fitting_1 9 rfl rfl)
theorem dX0_fitting_33 : decode cX0_fitting 33 = .ok (.iload_n 2, 1) := dk_28 (dk_at dksX0_fitting_1 10 rfl rfl)
theorem dX0_fitting_34 : decode cX0_fitting 34 = .ok (.ishl, 1) := dk_120 (dk_at dksX0_fitting_1 11 rfl rfl)
theorem dX0_fitting_35 : decode cX0_fitting 35 = .ok (.goto 4, 3) := dk_167 0 4 (dk_at dksX0_fitting_1 12 rfl rfl)
theorem dX0_fitting_38 : decode cX0_fitting 38 = .ok (.iconst 0, 1) := dk_3 (dk_at dksX0_fitting_1 15 rfl rfl)
theorem dX0_fitting_39 : decode cX0_fitting 39 = .ok (.ior, 1) := dk_128 (dk_at dksX0_fitting_1 16 rfl rfl)
theorem dX0_fitting_40 : decode cX0_fitting 40 = .ok (.istore_n 1, 1) := dk_60 (dk_at dksX0_fitting_1 17 rfl rfl)
theorem dX0_fitting_41 : decode cX0_fitting 41 = .ok (.iinc 2 1, 3) := dk_132 2 1 (dk_at dksX0_fitting_1 18 rfl rfl)
theorem dX0_fitting_44 : decode cX0_fitting 44 = .ok (.goto (-40), 3) := dk_167 255 216 (dk_at dksX0_fitting_1 21 rfl rfl)
theorem dX0_fitting_47 : decode cX0_fitting 47 = .ok (.iload_n 1, 1) := dk_27 (dk_at dksX0_fitting_2 0 rfl rfl)
theorem dX0_fitting_48 : decode cX0_fitting 48 = .ok (.ireturn, 1) := dk_172 (dk_at dksX0_fitting_2 1 rfl rfl)
abbrev cX0_inPhrases : ByteArray := prog_1_method_21_code
def yX0_inPhrases : MethodName := ⟨RX0, "inPhrases", "()I"⟩
def dkwX0_inPhrases_1 : List UInt8 := [167, 0, 4, 3, 128, 60, 132, 2, 1, 167, 255, 227, 27, 172]
abbrev dktX0_inPhrases_1 : List UInt8 := dkwX0_inPhrases_1 ++ []
def dkwX0_inPhrases_0 : List UInt8 := [3, 60, 3, 61, 28, 42, 180, 0, 109, 162, 0, 27, 27, 42, 28, 182, 0, 184, 153, 0, 9, 4, 28, 120]
abbrev dktX0_inPhrases_0 : List UInt8 := dkwX0_inPhrases_0 ++ dktX0_inPhrases_1
theorem dksX0_inPhrases_0 : cX0_inPhrases.data.toList.drop 0 = dktX0_inPhrases_0 := by decide +kernel
theorem dksX0_inPhrases_1 : cX0_inPhrases.data.toList.drop 24 = dktX0_inPhrases_1 := dk_seg dksX0_inPhrases_0 24 rfl rfl
theorem dX0_inPhrases_0 : decode cX0_inPhrases 0 = .ok (.iconst 0, 1) := dk_3 (dk_at dksX0_inPhrases_0 0 rfl rfl)
theorem dX0_inPhrases_1 : decode cX0_inPhrases 1 = .ok (.istore_n 1, 1) := dk_60 (dk_at dksX0_inPhrases_0 1 rfl rfl)
theorem dX0_inPhrases_2 : decode cX0_inPhrases 2 = .ok (.iconst 0, 1) := dk_3 (dk_at dksX0_inPhrases_0 2 rfl rfl)
theorem dX0_inPhrases_3 : decode cX0_inPhrases 3 = .ok (.istore_n 2, 1) := dk_61 (dk_at dksX0_inPhrases_0 3 rfl rfl)
theorem dX0_inPhrases_4 : decode cX0_inPhrases 4 = .ok (.iload_n 2, 1) := dk_28 (dk_at dksX0_inPhrases_0 4 rfl rfl)
theorem dX0_inPhrases_5 : decode cX0_inPhrases 5 = .ok (.aload_n 0, 1) := dk_42 (dk_at dksX0_inPhrases_0 5 rfl rfl)
theorem dX0_inPhrases_6 : decode cX0_inPhrases 6 = .ok (.getfield 109, 3) := dk_180 0 109 (dk_at dksX0_inPhrases_0 6 rfl rfl)
theorem dX0_inPhrases_9 : decode cX0_inPhrases 9 = .ok (.if_icmp .ge 27, 3) := dk_162 0 27 (dk_at dksX0_inPhrases_0 9 rfl rfl)
theorem dX0_inPhrases_12 : decode cX0_inPhrases 12 = .ok (.iload_n 1, 1) := dk_27 (dk_at dksX0_inPhrases_0 12 rfl rfl)
theorem dX0_inPhrases_13 : decode cX0_inPhrases 13 = .ok (.aload_n 0, 1) := dk_42 (dk_at dksX0_inPhrases_0 13 rfl rfl)
theorem dX0_inPhrases_14 : decode cX0_inPhrases 14 = .ok (.iload_n 2, 1) := dk_28 (dk_at dksX0_inPhrases_0 14 rfl rfl)
theorem dX0_inPhrases_15 : decode cX0_inPhrases 15 = .ok (.invokevirtual 184, 3) := dk_182 0 184 (dk_at dksX0_inPhrases_0 15 rfl rfl)
theorem dX0_inPhrases_18 : decode cX0_inPhrases 18 = .ok (.ifCond .eq 9, 3) := dk_153 0 9 (dk_at dksX0_inPhrases_0 18 rfl rfl)
theorem dX0_inPhrases_21 : decode cX0_inPhrases 21 = .ok (.iconst 1, 1) := dk_4 (dk_at dksX0_inPhrases_0 21 rfl rfl)
theorem dX0_inPhrases_22 : decode cX0_inPhrases 22 = .ok (.iload_n 2, 1) := dk_28 (dk_at dksX0_inPhrases_0 22 rfl rfl)
theorem dX0_inPhrases_23 : decode cX0_inPhrases 23 = .ok (.ishl, 1) := dk_120 (dk_at dksX0_inPhrases_0 23 rfl rfl)
theorem dX0_inPhrases_24 : decode cX0_inPhrases 24 = .ok (.goto 4, 3) := dk_167 0 4 (dk_at dksX0_inPhrases_1 0 rfl rfl)
theorem dX0_inPhrases_27 : decode cX0_inPhrases 27 = .ok (.iconst 0, 1) := dk_3 (dk_at dksX0_inPhrases_1 3 rfl rfl)
theorem dX0_inPhrases_28 : decode cX0_inPhrases 28 = .ok (.ior, 1) := dk_128 (dk_at dksX0_inPhrases_1 4 rfl rfl)
theorem dX0_inPhrases_29 : decode cX0_inPhrases 29 = .ok (.istore_n 1, 1) := dk_60 (dk_at dksX0_inPhrases_1 5 rfl rfl)
theorem dX0_inPhrases_30 : decode cX0_inPhrases 30 = .ok (.iinc 2 1, 3) := dk_132 2 1 (dk_at dksX0_inPhrases_1 6 rfl rfl)
theorem dX0_inPhrases_33 : decode cX0_inPhrases 33 = .ok (.goto (-29), 3) := dk_167 255 227 (dk_at dksX0_inPhrases_1 9 rfl rfl)
theorem dX0_inPhrases_36 : decode cX0_inPhrases 36 = .ok (.iload_n 1, 1) := dk_27 (dk_at dksX0_inPhrases_1 12 rfl rfl)
theorem dX0_inPhrases_37 : decode cX0_inPhrases 37 = .ok (.ireturn, 1) := dk_172 (dk_at dksX0_inPhrases_1 13 rfl rfl)
abbrev cX0_isUsed : ByteArray := prog_1_method_20_code
def yX0_isUsed : MethodName := ⟨RX0, "isUsed", "(I)Z"⟩
def dkwX0_isUsed_2 : List UInt8 := [27, 120, 2, 130, 126, 182, 0, 122, 42, 182, 0, 181, 32, 148, 156, 0, 7, 4, 167, 0, 4, 3, 172]
abbrev dktX0_isUsed_2 : List UInt8 := dkwX0_isUsed_2 ++ []
def dkwX0_isUsed_1 : List UInt8 := [182, 0, 181, 65, 42, 42, 180, 0, 18, 42, 182, 0, 115, 42, 180, 0, 18, 180, 0, 119, 2, 130, 126, 4]
abbrev dktX0_isUsed_1 : List UInt8 := dkwX0_isUsed_1 ++ dktX0_isUsed_2
def dkwX0_isUsed_0 : List UInt8 := [42, 42, 180, 0, 18, 42, 182, 0, 115, 42, 180, 0, 18, 180, 0, 119, 2, 130, 126, 182, 0, 122, 42]
abbrev dktX0_isUsed_0 : List UInt8 := dkwX0_isUsed_0 ++ dktX0_isUsed_1
theorem dksX0_isUsed_0 : cX0_isUsed.data.toList.drop 0 = dktX0_isUsed_0 := by decide +kernel
theorem dksX0_isUsed_1 : cX0_isUsed.data.toList.drop 23 = dktX0_isUsed_1 := dk_seg dksX0_isUsed_0 23 rfl rfl
theorem dksX0_isUsed_2 : cX0_isUsed.data.toList.drop 47 = dktX0_isUsed_2 := dk_seg dksX0_isUsed_1 24 rfl rfl
theorem dX0_isUsed_0 : decode cX0_isUsed 0 = .ok (.aload_n 0, 1) := dk_42 (dk_at dksX0_isUsed_0 0 rfl rfl)
theorem dX0_isUsed_1 : decode cX0_isUsed 1 = .ok (.aload_n 0, 1) := dk_42 (dk_at dksX0_isUsed_0 1 rfl rfl)
theorem dX0_isUsed_2 : decode cX0_isUsed 2 = .ok (.getfield 18, 3) := dk_180 0 18 (dk_at dksX0_isUsed_0 2 rfl rfl)
theorem dX0_isUsed_5 : decode cX0_isUsed 5 = .ok (.aload_n 0, 1) := dk_42 (dk_at dksX0_isUsed_0 5 rfl rfl)
theorem dX0_isUsed_6 : decode cX0_isUsed 6 = .ok (.invokevirtual 115, 3) := dk_182 0 115 (dk_at dksX0_isUsed_0 6 rfl rfl)
theorem dX0_isUsed_9 : decode cX0_isUsed 9 = .ok (.aload_n 0, 1) := dk_42 (dk_at dksX0_isUsed_0 9 rfl rfl)
theorem dX0_isUsed_10 : decode cX0_isUsed 10 = .ok (.getfield 18, 3) := dk_180 0 18 (dk_at dksX0_isUsed_0 10 rfl rfl)
theorem dX0_isUsed_13 : decode cX0_isUsed 13 = .ok (.getfield 119, 3) := dk_180 0 119 (dk_at dksX0_isUsed_0 13 rfl rfl)
theorem dX0_isUsed_16 : decode cX0_isUsed 16 = .ok (.iconst (-1), 1) := dk_2 (dk_at dksX0_isUsed_0 16 rfl rfl)
theorem dX0_isUsed_17 : decode cX0_isUsed 17 = .ok (.ixor, 1) := dk_130 (dk_at dksX0_isUsed_0 17 rfl rfl)
theorem dX0_isUsed_18 : decode cX0_isUsed 18 = .ok (.iand, 1) := dk_126 (dk_at dksX0_isUsed_0 18 rfl rfl)
theorem dX0_isUsed_19 : decode cX0_isUsed 19 = .ok (.invokevirtual 122, 3) := dk_182 0 122 (dk_at dksX0_isUsed_0 19 rfl rfl)
theorem dX0_isUsed_22 : decode cX0_isUsed 22 = .ok (.aload_n 0, 1) := dk_42 (dk_at dksX0_isUsed_0 22 rfl rfl)
theorem dX0_isUsed_23 : decode cX0_isUsed 23 = .ok (.invokevirtual 181, 3) := dk_182 0 181 (dk_at dksX0_isUsed_1 0 rfl rfl)
theorem dX0_isUsed_26 : decode cX0_isUsed 26 = .ok (.lstore_n 2, 1) := dk_65 (dk_at dksX0_isUsed_1 3 rfl rfl)
theorem dX0_isUsed_27 : decode cX0_isUsed 27 = .ok (.aload_n 0, 1) := dk_42 (dk_at dksX0_isUsed_1 4 rfl rfl)
theorem dX0_isUsed_28 : decode cX0_isUsed 28 = .ok (.aload_n 0, 1) := dk_42 (dk_at dksX0_isUsed_1 5 rfl rfl)
theorem dX0_isUsed_29 : decode cX0_isUsed 29 = .ok (.getfield 18, 3) := dk_180 0 18 (dk_at dksX0_isUsed_1 6 rfl rfl)
theorem dX0_isUsed_32 : decode cX0_isUsed 32 = .ok (.aload_n 0, 1) := dk_42 (dk_at dksX0_isUsed_1 9 rfl rfl)
theorem dX0_isUsed_33 : decode cX0_isUsed 33 = .ok (.invokevirtual 115, 3) := dk_182 0 115 (dk_at dksX0_isUsed_1 10 rfl rfl)
theorem dX0_isUsed_36 : decode cX0_isUsed 36 = .ok (.aload_n 0, 1) := dk_42 (dk_at dksX0_isUsed_1 13 rfl rfl)
theorem dX0_isUsed_37 : decode cX0_isUsed 37 = .ok (.getfield 18, 3) := dk_180 0 18 (dk_at dksX0_isUsed_1 14 rfl rfl)
theorem dX0_isUsed_40 : decode cX0_isUsed 40 = .ok (.getfield 119, 3) := dk_180 0 119 (dk_at dksX0_isUsed_1 17 rfl rfl)
theorem dX0_isUsed_43 : decode cX0_isUsed 43 = .ok (.iconst (-1), 1) := dk_2 (dk_at dksX0_isUsed_1 20 rfl rfl)
theorem dX0_isUsed_44 : decode cX0_isUsed 44 = .ok (.ixor, 1) := dk_130 (dk_at dksX0_isUsed_1 21 rfl rfl)
theorem dX0_isUsed_45 : decode cX0_isUsed 45 = .ok (.iand, 1) := dk_126 (dk_at dksX0_isUsed_1 22 rfl rfl)
theorem dX0_isUsed_46 : decode cX0_isUsed 46 = .ok (.iconst 1, 1) := dk_4 (dk_at dksX0_isUsed_1 23 rfl rfl)
theorem dX0_isUsed_47 : decode cX0_isUsed 47 = .ok (.iload_n 1, 1) := dk_27 (dk_at dksX0_isUsed_2 0 rfl rfl)
theorem dX0_isUsed_48 : decode cX0_isUsed 48 = .ok (.ishl, 1) := dk_120 (dk_at dksX0_isUsed_2 1 rfl rfl)
theorem dX0_isUsed_49 : decode cX0_isUsed 49 = .ok (.iconst (-1), 1) := dk_2 (dk_at dksX0_isUsed_2 2 rfl rfl)
theorem dX0_isUsed_50 : decode cX0_isUsed 50 = .ok (.ixor, 1) := dk_130 (dk_at dksX0_isUsed_2 3 rfl rfl)
theorem dX0_isUsed_51 : decode cX0_isUsed 51 = .ok (.iand, 1) := dk_126 (dk_at dksX0_isUsed_2 4 rfl rfl)
theorem dX0_isUsed_52 : decode cX0_isUsed 52 = .ok (.invokevirtual 122, 3) := dk_182 0 122 (dk_at dksX0_isUsed_2 5 rfl rfl)
theorem dX0_isUsed_55 : decode cX0_isUsed 55 = .ok (.aload_n 0, 1) := dk_42 (dk_at dksX0_isUsed_2 8 rfl rfl)
theorem dX0_isUsed_56 : decode cX0_isUsed 56 = .ok (.invokevirtual 181, 3) := dk_182 0 181 (dk_at dksX0_isUsed_2 9 rfl rfl)
theorem dX0_isUsed_59 : decode cX0_isUsed 59 = .ok (.lload_n 2, 1) := dk_32 (dk_at dksX0_isUsed_2 12 rfl rfl)
theorem dX0_isUsed_60 : decode cX0_isUsed 60 = .ok (.lcmp, 1) := dk_148 (dk_at dksX0_isUsed_2 13 rfl rfl)
theorem dX0_isUsed_61 : decode cX0_isUsed 61 = .ok (.ifCond .ge 7, 3) := dk_156 0 7 (dk_at dksX0_isUsed_2 14 rfl rfl)
theorem dX0_isUsed_64 : decode cX0_isUsed 64 = .ok (.iconst 1, 1) := dk_4 (dk_at dksX0_isUsed_2 17 rfl rfl)
theorem dX0_isUsed_65 : decode cX0_isUsed 65 = .ok (.goto 4, 3) := dk_167 0 4 (dk_at dksX0_isUsed_2 18 rfl rfl)
theorem dX0_isUsed_68 : decode cX0_isUsed 68 = .ok (.iconst 0, 1) := dk_3 (dk_at dksX0_isUsed_2 21 rfl rfl)
theorem dX0_isUsed_69 : decode cX0_isUsed 69 = .ok (.ireturn, 1) := dk_172 (dk_at dksX0_isUsed_2 22 rfl rfl)
abbrev cX0_countAll : ByteArray := prog_1_method_10_code
def yX0_countAll : MethodName := ⟨RX0, "countAll", "()J"⟩
def dkwX0_countAll_0 : List UInt8 := [42, 180, 0, 101, 4, 160, 0, 7, 9, 167, 0, 14, 42, 42, 180, 0, 101, 4, 100, 7, 182, 0, 148, 173]
abbrev dktX0_countAll_0 : List UInt8 := dkwX0_countAll_0 ++ []
theorem dksX0_countAll_0 : cX0_countAll.data.toList.drop 0 = dktX0_countAll_0 := by decide +kernel
theorem dX0_countAll_0 : decode cX0_countAll 0 = .ok (.aload_n 0, 1) := dk_42 (dk_at dksX0_countAll_0 0 rfl rfl)
theorem dX0_countAll_1 : decode cX0_countAll 1 = .ok (.getfield 101, 3) := dk_180 0 101 (dk_at dksX0_countAll_0 1 rfl rfl)
theorem dX0_countAll_4 : decode cX0_countAll 4 = .ok (.iconst 1, 1) := dk_4 (dk_at dksX0_countAll_0 4 rfl rfl)
theorem dX0_countAll_5 : decode cX0_countAll 5 = .ok (.if_icmp .ne 7, 3) := dk_160 0 7 (dk_at dksX0_countAll_0 5 rfl rfl)
theorem dX0_countAll_8 : decode cX0_countAll 8 = .ok (.lconst 0, 1) := dk_9 (dk_at dksX0_countAll_0 8 rfl rfl)
theorem dX0_countAll_9 : decode cX0_countAll 9 = .ok (.goto 14, 3) := dk_167 0 14 (dk_at dksX0_countAll_0 9 rfl rfl)
theorem dX0_countAll_12 : decode cX0_countAll 12 = .ok (.aload_n 0, 1) := dk_42 (dk_at dksX0_countAll_0 12 rfl rfl)
theorem dX0_countAll_13 : decode cX0_countAll 13 = .ok (.aload_n 0, 1) := dk_42 (dk_at dksX0_countAll_0 13 rfl rfl)
theorem dX0_countAll_14 : decode cX0_countAll 14 = .ok (.getfield 101, 3) := dk_180 0 101 (dk_at dksX0_countAll_0 14 rfl rfl)
theorem dX0_countAll_17 : decode cX0_countAll 17 = .ok (.iconst 1, 1) := dk_4 (dk_at dksX0_countAll_0 17 rfl rfl)
theorem dX0_countAll_18 : decode cX0_countAll 18 = .ok (.isub, 1) := dk_100 (dk_at dksX0_countAll_0 18 rfl rfl)
theorem dX0_countAll_19 : decode cX0_countAll 19 = .ok (.iconst 4, 1) := dk_7 (dk_at dksX0_countAll_0 19 rfl rfl)
theorem dX0_countAll_20 : decode cX0_countAll 20 = .ok (.invokevirtual 148, 3) := dk_182 0 148 (dk_at dksX0_countAll_0 20 rfl rfl)
theorem dX0_countAll_23 : decode cX0_countAll 23 = .ok (.lreturn, 1) := dk_173 (dk_at dksX0_countAll_0 23 rfl rfl)
abbrev cX0_countFrom : ByteArray := prog_1_method_9_code
def yX0_countFrom : MethodName := ⟨RX0, "countFrom", "(II)J"⟩
def dkwX0_countFrom_4 : List UInt8 := [97, 55, 4, 132, 6, 1, 167, 255, 197, 42, 180, 0, 35, 29, 22, 4, 80, 42, 180, 0, 35, 29, 47, 173]
abbrev dktX0_countFrom_4 : List UInt8 := dkwX0_countFrom_4 ++ []
def dkwX0_countFrom_3 : List UInt8 := [180, 0, 42, 21, 6, 46, 100, 42, 180, 0, 11, 21, 6, 50, 180, 0, 135, 182, 0, 148, 167, 0, 4, 9]
abbrev dktX0_countFrom_3 : List UInt8 := dkwX0_countFrom_3 ++ dktX0_countFrom_4
def dkwX0_countFrom_2 : List UInt8 := [162, 0, 56, 27, 158, 0, 52, 22, 4, 42, 21, 6, 27, 28, 182, 0, 144, 153, 0, 29, 42, 27, 42]
abbrev dktX0_countFrom_2 : List UInt8 := dkwX0_countFrom_2 ++ dktX0_countFrom_3
def dkwX0_countFrom_1 : List UInt8 := [182, 0, 141, 153, 0, 7, 10, 167, 0, 4, 9, 55, 4, 3, 54, 6, 21, 6, 42, 180, 0, 109]
abbrev dktX0_countFrom_1 : List UInt8 := dkwX0_countFrom_1 ++ dktX0_countFrom_2
def dkwX0_countFrom_0 : List UInt8 := [8, 27, 104, 28, 96, 62, 42, 180, 0, 35, 29, 47, 20, 0, 107, 148, 154, 0, 92, 42, 27, 28]
abbrev dktX0_countFrom_0 : List UInt8 := dkwX0_countFrom_0 ++ dktX0_countFrom_1
theorem dksX0_countFrom_0 : cX0_countFrom.data.toList.drop 0 = dktX0_countFrom_0 := by decide +kernel
theorem dksX0_countFrom_1 : cX0_countFrom.data.toList.drop 22 = dktX0_countFrom_1 := dk_seg dksX0_countFrom_0 22 rfl rfl
theorem dksX0_countFrom_2 : cX0_countFrom.data.toList.drop 44 = dktX0_countFrom_2 := dk_seg dksX0_countFrom_1 22 rfl rfl
theorem dksX0_countFrom_3 : cX0_countFrom.data.toList.drop 67 = dktX0_countFrom_3 := dk_seg dksX0_countFrom_2 23 rfl rfl
theorem dksX0_countFrom_4 : cX0_countFrom.data.toList.drop 91 = dktX0_countFrom_4 := dk_seg dksX0_countFrom_3 24 rfl rfl
theorem dX0_countFrom_0 : decode cX0_countFrom 0 = .ok (.iconst 5, 1) := dk_8 (dk_at dksX0_countFrom_0 0 rfl rfl)
theorem dX0_countFrom_1 : decode cX0_countFrom 1 = .ok (.iload_n 1, 1) := dk_27 (dk_at dksX0_countFrom_0 1 rfl rfl)
theorem dX0_countFrom_2 : decode cX0_countFrom 2 = .ok (.imul, 1) := dk_104 (dk_at dksX0_countFrom_0 2 rfl rfl)
theorem dX0_countFrom_3 : decode cX0_countFrom 3 = .ok (.iload_n 2, 1) := dk_28 (dk_at dksX0_countFrom_0 3 rfl rfl)
theorem dX0_countFrom_4 : decode cX0_countFrom 4 = .ok (.iadd, 1) := dk_96 (dk_at dksX0_countFrom_0 4 rfl rfl)
theorem dX0_countFrom_5 : decode cX0_countFrom 5 = .ok (.istore_n 3, 1) := dk_62 (dk_at dksX0_countFrom_0 5 rfl rfl)
theorem dX0_countFrom_6 : decode cX0_countFrom 6 = .ok (.aload_n 0, 1) := dk_42 (dk_at dksX0_countFrom_0 6 rfl rfl)
theorem dX0_countFrom_7 : decode cX0_countFrom 7 = .ok (.getfield 35, 3) := dk_180 0 35 (dk_at dksX0_countFrom_0 7 rfl rfl)
theorem dX0_countFrom_10 : decode cX0_countFrom 10 = .ok (.iload_n 3, 1) := dk_29 (dk_at dksX0_countFrom_0 10 rfl rfl)
theorem dX0_countFrom_11 : decode cX0_countFrom 11 = .ok (.laload, 1) := dk_47 (dk_at dksX0_countFrom_0 11 rfl rfl)
theorem dX0_countFrom_12 : decode cX0_countFrom 12 = .ok (.ldc2_w 107, 3) := dk_20 0 107 (dk_at dksX0_countFrom_0 12 rfl rfl)
theorem dX0_countFrom_15 : decode cX0_countFrom 15 = .ok (.lcmp, 1) := dk_148 (dk_at dksX0_countFrom_0 15 rfl rfl)
theorem dX0_countFrom_16 : decode cX0_countFrom 16 = .ok (.ifCond .ne 92, 3) := dk_154 0 92 (dk_at dksX0_countFrom_0 16 rfl rfl)
theorem dX0_countFrom_19 : decode cX0_countFrom 19 = .ok (.aload_n 0, 1) := dk_42 (dk_at dksX0_countFrom_0 19 rfl rfl)
theorem dX0_countFrom_20 : decode cX0_countFrom 20 = .ok (.iload_n 1, 1) := dk_27 (dk_at dksX0_countFrom_0 20 rfl rfl)
theorem dX0_countFrom_21 : decode cX0_countFrom 21 = .ok (.iload_n 2, 1) := dk_28 (dk_at dksX0_countFrom_0 21 rfl rfl)
theorem dX0_countFrom_22 : decode cX0_countFrom 22 = .ok (.invokevirtual 141, 3) := dk_182 0 141 (dk_at dksX0_countFrom_1 0 rfl rfl)
theorem dX0_countFrom_25 : decode cX0_countFrom 25 = .ok (.ifCond .eq 7, 3) := dk_153 0 7 (dk_at dksX0_countFrom_1 3 rfl rfl)
theorem dX0_countFrom_28 : decode cX0_countFrom 28 = .ok (.lconst 1, 1) := dk_10 (dk_at dksX0_countFrom_1 6 rfl rfl)
theorem dX0_countFrom_29 : decode cX0_countFrom 29 = .ok (.goto 4, 3) := dk_167 0 4 (dk_at dksX0_countFrom_1 7 rfl rfl)
theorem dX0_countFrom_32 : decode cX0_countFrom 32 = .ok (.lconst 0, 1) := dk_9 (dk_at dksX0_countFrom_1 10 rfl rfl)
theorem dX0_countFrom_33 : decode cX0_countFrom 33 = .ok (.lstore 4, 2) := dk_55 4 (dk_at dksX0_countFrom_1 11 rfl rfl)
theorem dX0_countFrom_35 : decode cX0_countFrom 35 = .ok (.iconst 0, 1) := dk_3 (dk_at dksX0_countFrom_1 13 rfl rfl)
theorem dX0_countFrom_36 : decode cX0_countFrom 36 = .ok (.istore 6, 2) := dk_54 6 (dk_at dksX0_countFrom_1 14 rfl rfl)
theorem dX0_countFrom_38 : decode cX0_countFrom 38 = .ok (.iload 6, 2) := dk_21 6 (dk_at dksX0_countFrom_1 16 rfl rfl)
theorem dX0_countFrom_40 : decode cX0_countFrom 40 = .ok (.aload_n 0, 1) := dk_42 (dk_at dksX0_countFrom_1 18 rfl rfl)
theorem dX0_countFrom_41 : decode cX0_countFrom 41 = .ok (.getfield 109, 3) := dk_180 0 109 (dk_at dksX0_countFrom_1 19 rfl rfl)
theorem dX0_countFrom_44 : decode cX0_countFrom 44 = .ok (.if_icmp .ge 56, 3) := dk_162 0 56 (dk_at dksX0_countFrom_2 0 rfl rfl)
theorem dX0_countFrom_47 : decode cX0_countFrom 47 = .ok (.iload_n 1, 1) := dk_27 (dk_at dksX0_countFrom_2 3 rfl rfl)
theorem dX0_countFrom_48 : decode cX0_countFrom 48 = .ok (.ifCond .le 52, 3) := dk_158 0 52 (dk_at dksX0_countFrom_2 4 rfl rfl)
theorem dX0_countFrom_51 : decode cX0_countFrom 51 = .ok (.lload 4, 2) := dk_22 4 (dk_at dksX0_countFrom_2 7 rfl rfl)
theorem dX0_countFrom_53 : decode cX0_countFrom 53 = .ok (.aload_n 0, 1) := dk_42 (dk_at dksX0_countFrom_2 9 rfl rfl)
theorem dX0_countFrom_54 : decode cX0_countFrom 54 = .ok (.iload 6, 2) := dk_21 6 (dk_at dksX0_countFrom_2 10 rfl rfl)
theorem dX0_countFrom_56 : decode cX0_countFrom 56 = .ok (.iload_n 1, 1) := dk_27 (dk_at dksX0_countFrom_2 12 rfl rfl)
theorem dX0_countFrom_57 : decode cX0_countFrom 57 = .ok (.iload_n 2, 1) := dk_28 (dk_at dksX0_countFrom_2 13 rfl rfl)
theorem dX0_countFrom_58 : decode cX0_countFrom 58 = .ok (.invokevirtual 144, 3) := dk_182 0 144 (dk_at dksX0_countFrom_2 14 rfl rfl)
theorem dX0_countFrom_61 : decode cX0_countFrom 61 = .ok (.ifCond .eq 29, 3) := dk_153 0 29 (dk_at dksX0_countFrom_2 17 rfl rfl)
theorem dX0_countFrom_64 : decode cX0_countFrom 64 = .ok (.aload_n 0, 1) := dk_42 (dk_at dksX0_countFrom_2 20 rfl rfl)
theorem dX0_countFrom_65 : decode cX0_countFrom 65 = .ok (.iload_n 1, 1) := dk_27 (dk_at dksX0_countFrom_2 21 rfl rfl)
theorem dX0_countFrom_66 : decode cX0_countFrom 66 = .ok (.aload_n 0, 1) := dk_42 (dk_at dksX0_countFrom_2 22 rfl rfl)
theorem dX0_countFrom_67 : decode cX0_countFrom 67 = .ok (.getfield 42, 3) := dk_180 0 42 (dk_at dksX0_countFrom_3 0 rfl rfl)
theorem dX0_countFrom_70 : decode cX0_countFrom 70 = .ok (.iload 6, 2) := dk_21 6 (dk_at dksX0_countFrom_3 3 rfl rfl)
theorem dX0_countFrom_72 : decode cX0_countFrom 72 = .ok (.iaload, 1) := dk_46 (dk_at dksX0_countFrom_3 5 rfl rfl)
theorem dX0_countFrom_73 : decode cX0_countFrom 73 = .ok (.isub, 1) := dk_100 (dk_at dksX0_countFrom_3 6 rfl rfl)
theorem dX0_countFrom_74 : decode cX0_countFrom 74 = .ok (.aload_n 0, 1) := dk_42 (dk_at dksX0_countFrom_3 7 rfl rfl)
theorem dX0_countFrom_75 : decode cX0_countFrom 75 = .ok (.getfield 11, 3) := dk_180 0 11 (dk_at dksX0_countFrom_3 8 rfl rfl)
theorem dX0_countFrom_78 : decode cX0_countFrom 78 = .ok (.iload 6, 2) := dk_21 6 (dk_at dksX0_countFrom_3 11 rfl rfl)
theorem dX0_countFrom_80 : decode cX0_countFrom 80 = .ok (.aaload, 1) := dk_50 (dk_at dksX0_countFrom_3 13 rfl rfl)
theorem dX0_countFrom_81 : decode cX0_countFrom 81 = .ok (.getfield 135, 3) := dk_180 0 135 (dk_at dksX0_countFrom_3 14 rfl rfl)
theorem dX0_countFrom_84 : decode cX0_countFrom 84 = .ok (.invokevirtual 148, 3) := dk_182 0 148 (dk_at dksX0_countFrom_3 17 rfl rfl)
theorem dX0_countFrom_87 : decode cX0_countFrom 87 = .ok (.goto 4, 3) := dk_167 0 4 (dk_at dksX0_countFrom_3 20 rfl rfl)
theorem dX0_countFrom_90 : decode cX0_countFrom 90 = .ok (.lconst 0, 1) := dk_9 (dk_at dksX0_countFrom_3 23 rfl rfl)
theorem dX0_countFrom_91 : decode cX0_countFrom 91 = .ok (.ladd, 1) := dk_97 (dk_at dksX0_countFrom_4 0 rfl rfl)
theorem dX0_countFrom_92 : decode cX0_countFrom 92 = .ok (.lstore 4, 2) := dk_55 4 (dk_at dksX0_countFrom_4 1 rfl rfl)
theorem dX0_countFrom_94 : decode cX0_countFrom 94 = .ok (.iinc 6 1, 3) := dk_132 6 1 (dk_at dksX0_countFrom_4 3 rfl rfl)
theorem dX0_countFrom_97 : decode cX0_countFrom 97 = .ok (.goto (-59), 3) := dk_167 255 197 (dk_at dksX0_countFrom_4 6 rfl rfl)
theorem dX0_countFrom_100 : decode cX0_countFrom 100 = .ok (.aload_n 0, 1) := dk_42 (dk_at dksX0_countFrom_4 9 rfl rfl)
theorem dX0_countFrom_101 : decode cX0_countFrom 101 = .ok (.getfield 35, 3) := dk_180 0 35 (dk_at dksX0_countFrom_4 10 rfl rfl)
theorem dX0_countFrom_104 : decode cX0_countFrom 104 = .ok (.iload_n 3, 1) := dk_29 (dk_at dksX0_countFrom_4 13 rfl rfl)
theorem dX0_countFrom_105 : decode cX0_countFrom 105 = .ok (.lload 4, 2) := dk_22 4 (dk_at dksX0_countFrom_4 14 rfl rfl)
theorem dX0_countFrom_107 : decode cX0_countFrom 107 = .ok (.lastore, 1) := dk_80 (dk_at dksX0_countFrom_4 16 rfl rfl)
theorem dX0_countFrom_108 : decode cX0_countFrom 108 = .ok (.aload_n 0, 1) := dk_42 (dk_at dksX0_countFrom_4 17 rfl rfl)
theorem dX0_countFrom_109 : decode cX0_countFrom 109 = .ok (.getfield 35, 3) := dk_180 0 35 (dk_at dksX0_countFrom_4 18 rfl rfl)
theorem dX0_countFrom_112 : decode cX0_countFrom 112 = .ok (.iload_n 3, 1) := dk_29 (dk_at dksX0_countFrom_4 21 rfl rfl)
theorem dX0_countFrom_113 : decode cX0_countFrom 113 = .ok (.laload, 1) := dk_47 (dk_at dksX0_countFrom_4 22 rfl rfl)
theorem dX0_countFrom_114 : decode cX0_countFrom 114 = .ok (.lreturn, 1) := dk_173 (dk_at dksX0_countFrom_4 23 rfl rfl)
abbrev cX0_mayEnd : ByteArray := prog_1_method_8_code
def yX0_mayEnd : MethodName := ⟨RX0, "mayEnd", "(II)Z"⟩
def dkwX0_mayEnd_1 : List UInt8 := [167, 0, 4, 3, 172]
abbrev dktX0_mayEnd_1 : List UInt8 := dkwX0_mayEnd_1 ++ []
def dkwX0_mayEnd_0 : List UInt8 := [27, 154, 0, 26, 28, 7, 162, 0, 21, 42, 180, 0, 25, 180, 0, 138, 28, 184, 0, 126, 153, 0, 7, 4]
abbrev dktX0_mayEnd_0 : List UInt8 := dkwX0_mayEnd_0 ++ dktX0_mayEnd_1
theorem dksX0_mayEnd_0 : cX0_mayEnd.data.toList.drop 0 = dktX0_mayEnd_0 := by decide +kernel
theorem dksX0_mayEnd_1 : cX0_mayEnd.data.toList.drop 24 = dktX0_mayEnd_1 := dk_seg dksX0_mayEnd_0 24 rfl rfl
theorem dX0_mayEnd_0 : decode cX0_mayEnd 0 = .ok (.iload_n 1, 1) := dk_27 (dk_at dksX0_mayEnd_0 0 rfl rfl)
theorem dX0_mayEnd_1 : decode cX0_mayEnd 1 = .ok (.ifCond .ne 26, 3) := dk_154 0 26 (dk_at dksX0_mayEnd_0 1 rfl rfl)
theorem dX0_mayEnd_4 : decode cX0_mayEnd 4 = .ok (.iload_n 2, 1) := dk_28 (dk_at dksX0_mayEnd_0 4 rfl rfl)
theorem dX0_mayEnd_5 : decode cX0_mayEnd 5 = .ok (.iconst 4, 1) := dk_7 (dk_at dksX0_mayEnd_0 5 rfl rfl)
theorem dX0_mayEnd_6 : decode cX0_mayEnd 6 = .ok (.if_icmp .ge 21, 3) := dk_162 0 21 (dk_at dksX0_mayEnd_0 6 rfl rfl)
theorem dX0_mayEnd_9 : decode cX0_mayEnd 9 = .ok (.aload_n 0, 1) := dk_42 (dk_at dksX0_mayEnd_0 9 rfl rfl)
theorem dX0_mayEnd_10 : decode cX0_mayEnd 10 = .ok (.getfield 25, 3) := dk_180 0 25 (dk_at dksX0_mayEnd_0 10 rfl rfl)
theorem dX0_mayEnd_13 : decode cX0_mayEnd 13 = .ok (.getfield 138, 3) := dk_180 0 138 (dk_at dksX0_mayEnd_0 13 rfl rfl)
theorem dX0_mayEnd_16 : decode cX0_mayEnd 16 = .ok (.iload_n 2, 1) := dk_28 (dk_at dksX0_mayEnd_0 16 rfl rfl)
theorem dX0_mayEnd_17 : decode cX0_mayEnd 17 = .ok (.invokestatic 126, 3) := dk_184 0 126 (dk_at dksX0_mayEnd_0 17 rfl rfl)
theorem dX0_mayEnd_20 : decode cX0_mayEnd 20 = .ok (.ifCond .eq 7, 3) := dk_153 0 7 (dk_at dksX0_mayEnd_0 20 rfl rfl)
theorem dX0_mayEnd_23 : decode cX0_mayEnd 23 = .ok (.iconst 1, 1) := dk_4 (dk_at dksX0_mayEnd_0 23 rfl rfl)
theorem dX0_mayEnd_24 : decode cX0_mayEnd 24 = .ok (.goto 4, 3) := dk_167 0 4 (dk_at dksX0_mayEnd_1 0 rfl rfl)
theorem dX0_mayEnd_27 : decode cX0_mayEnd 27 = .ok (.iconst 0, 1) := dk_3 (dk_at dksX0_mayEnd_1 3 rfl rfl)
theorem dX0_mayEnd_28 : decode cX0_mayEnd 28 = .ok (.ireturn, 1) := dk_172 (dk_at dksX0_mayEnd_1 4 rfl rfl)
abbrev cX0_mayCome : ByteArray := prog_1_method_7_code
def yX0_mayCome : MethodName := ⟨RX0, "mayCome", "(III)Z"⟩
def dkwX0_mayCome_5 : List UInt8 := [167, 255, 201, 21, 5, 172]
abbrev dktX0_mayCome_5 : List UInt8 := dkwX0_mayCome_5 ++ []
def dkwX0_mayCome_4 : List UInt8 := [4, 96, 112, 25, 4, 180, 0, 112, 21, 6, 46, 161, 0, 7, 4, 167, 0, 4, 3, 54, 5, 132, 6, 1]
abbrev dktX0_mayCome_4 : List UInt8 := dkwX0_mayCome_4 ++ dktX0_mayCome_5
def dkwX0_mayCome_3 : List UInt8 := [21, 5, 153, 0, 49, 28, 42, 180, 0, 28, 21, 6, 46, 108, 42, 180, 0, 25, 180, 0, 104, 21, 6, 46]
abbrev dktX0_mayCome_3 : List UInt8 := dkwX0_mayCome_3 ++ dktX0_mayCome_4
def dkwX0_mayCome_2 : List UInt8 := [184, 0, 126, 153, 0, 7, 4, 167, 0, 4, 3, 54, 5, 3, 54, 6, 21, 6, 16, 8, 162, 0, 54]
abbrev dktX0_mayCome_2 : List UInt8 := dkwX0_mayCome_2 ++ dktX0_mayCome_3
def dkwX0_mayCome_1 : List UInt8 := [42, 180, 0, 25, 180, 0, 129, 167, 0, 12, 42, 180, 0, 25, 180, 0, 132, 29, 46, 25, 4, 180, 0, 135]
abbrev dktX0_mayCome_1 : List UInt8 := dkwX0_mayCome_1 ++ dktX0_mayCome_2
def dkwX0_mayCome_0 : List UInt8 := [42, 180, 0, 11, 27, 50, 58, 4, 42, 180, 0, 97, 27, 184, 0, 126, 153, 0, 42, 29, 7, 160, 0, 13]
abbrev dktX0_mayCome_0 : List UInt8 := dkwX0_mayCome_0 ++ dktX0_mayCome_1
theorem dksX0_mayCome_0 : cX0_mayCome.data.toList.drop 0 = dktX0_mayCome_0 := by decide +kernel
theorem dksX0_mayCome_1 : cX0_mayCome.data.toList.drop 24 = dktX0_mayCome_1 := dk_seg dksX0_mayCome_0 24 rfl rfl
theorem dksX0_mayCome_2 : cX0_mayCome.data.toList.drop 48 = dktX0_mayCome_2 := dk_seg dksX0_mayCome_1 24 rfl rfl
theorem dksX0_mayCome_3 : cX0_mayCome.data.toList.drop 71 = dktX0_mayCome_3 := dk_seg dksX0_mayCome_2 23 rfl rfl
theorem dksX0_mayCome_4 : cX0_mayCome.data.toList.drop 95 = dktX0_mayCome_4 := dk_seg dksX0_mayCome_3 24 rfl rfl
theorem dksX0_mayCome_5 : cX0_mayCome.data.toList.drop 119 = dktX0_mayCome_5 := dk_seg dksX0_mayCome_4 24 rfl rfl
theorem dX0_mayCome_0 : decode cX0_mayCome 0 = .ok (.aload_n 0, 1) := dk_42 (dk_at dksX0_mayCome_0 0 rfl rfl)
theorem dX0_mayCome_1 : decode cX0_mayCome 1 = .ok (.getfield 11, 3) := dk_180 0 11 (dk_at dksX0_mayCome_0 1 rfl rfl)
theorem dX0_mayCome_4 : decode cX0_mayCome 4 = .ok (.iload_n 1, 1) := dk_27 (dk_at dksX0_mayCome_0 4 rfl rfl)
theorem dX0_mayCome_5 : decode cX0_mayCome 5 = .ok (.aaload, 1) := dk_50 (dk_at dksX0_mayCome_0 5 rfl rfl)
theorem dX0_mayCome_6 : decode cX0_mayCome 6 = .ok (.astore 4, 2) := dk_58 4 (dk_at dksX0_mayCome_0 6 rfl rfl)
theorem dX0_mayCome_8 : decode cX0_mayCome 8 = .ok (.aload_n 0, 1) := dk_42 (dk_at dksX0_mayCome_0 8 rfl rfl)
theorem dX0_mayCome_9 : decode cX0_mayCome 9 = .ok (.getfield 97, 3) := dk_180 0 97 (dk_at dksX0_mayCome_0 9 rfl rfl)
theorem dX0_mayCome_12 : decode cX0_mayCome 12 = .ok (.iload_n 1, 1) := dk_27 (dk_at dksX0_mayCome_0 12 rfl rfl)
theorem dX0_mayCome_13 : decode cX0_mayCome 13 = .ok (.invokestatic 126, 3) := dk_184 0 126 (dk_at dksX0_mayCome_0 13 rfl rfl)
theorem dX0_mayCome_16 : decode cX0_mayCome 16 = .ok (.ifCond .eq 42, 3) := dk_153 0 42 (dk_at dksX0_mayCome_0 16 rfl rfl)
theorem dX0_mayCome_19 : decode cX0_mayCome 19 = .ok (.iload_n 3, 1) := dk_29 (dk_at dksX0_mayCome_0 19 rfl rfl)
theorem dX0_mayCome_20 : decode cX0_mayCome 20 = .ok (.iconst 4, 1) := dk_7 (dk_at dksX0_mayCome_0 20 rfl rfl)
theorem dX0_mayCome_21 : decode cX0_mayCome 21 = .ok (.if_icmp .ne 13, 3) := dk_160 0 13 (dk_at dksX0_mayCome_0 21 rfl rfl)
theorem dX0_mayCome_24 : decode cX0_mayCome 24 = .ok (.aload_n 0, 1) := dk_42 (dk_at dksX0_mayCome_1 0 rfl rfl)
theorem dX0_mayCome_25 : decode cX0_mayCome 25 = .ok (.getfield 25, 3) := dk_180 0 25 (dk_at dksX0_mayCome_1 1 rfl rfl)
theorem dX0_mayCome_28 : decode cX0_mayCome 28 = .ok (.getfield 129, 3) := dk_180 0 129 (dk_at dksX0_mayCome_1 4 rfl rfl)
theorem dX0_mayCome_31 : decode cX0_mayCome 31 = .ok (.goto 12, 3) := dk_167 0 12 (dk_at dksX0_mayCome_1 7 rfl rfl)
theorem dX0_mayCome_34 : decode cX0_mayCome 34 = .ok (.aload_n 0, 1) := dk_42 (dk_at dksX0_mayCome_1 10 rfl rfl)
theorem dX0_mayCome_35 : decode cX0_mayCome 35 = .ok (.getfield 25, 3) := dk_180 0 25 (dk_at dksX0_mayCome_1 11 rfl rfl)
theorem dX0_mayCome_38 : decode cX0_mayCome 38 = .ok (.getfield 132, 3) := dk_180 0 132 (dk_at dksX0_mayCome_1 14 rfl rfl)
theorem dX0_mayCome_41 : decode cX0_mayCome 41 = .ok (.iload_n 3, 1) := dk_29 (dk_at dksX0_mayCome_1 17 rfl rfl)
theorem dX0_mayCome_42 : decode cX0_mayCome 42 = .ok (.iaload, 1) := dk_46 (dk_at dksX0_mayCome_1 18 rfl rfl)
theorem dX0_mayCome_43 : decode cX0_mayCome 43 = .ok (.aload 4, 2) := dk_25 4 (dk_at dksX0_mayCome_1 19 rfl rfl)
theorem dX0_mayCome_45 : decode cX0_mayCome 45 = .ok (.getfield 135, 3) := dk_180 0 135 (dk_at dksX0_mayCome_1 21 rfl rfl)
theorem dX0_mayCome_48 : decode cX0_mayCome 48 = .ok (.invokestatic 126, 3) := dk_184 0 126 (dk_at dksX0_mayCome_2 0 rfl rfl)
theorem dX0_mayCome_51 : decode cX0_mayCome 51 = .ok (.ifCond .eq 7, 3) := dk_153 0 7 (dk_at dksX0_mayCome_2 3 rfl rfl)
theorem dX0_mayCome_54 : decode cX0_mayCome 54 = .ok (.iconst 1, 1) := dk_4 (dk_at dksX0_mayCome_2 6 rfl rfl)
theorem dX0_mayCome_55 : decode cX0_mayCome 55 = .ok (.goto 4, 3) := dk_167 0 4 (dk_at dksX0_mayCome_2 7 rfl rfl)
theorem dX0_mayCome_58 : decode cX0_mayCome 58 = .ok (.iconst 0, 1) := dk_3 (dk_at dksX0_mayCome_2 10 rfl rfl)
theorem dX0_mayCome_59 : decode cX0_mayCome 59 = .ok (.istore 5, 2) := dk_54 5 (dk_at dksX0_mayCome_2 11 rfl rfl)
theorem dX0_mayCome_61 : decode cX0_mayCome 61 = .ok (.iconst 0, 1) := dk_3 (dk_at dksX0_mayCome_2 13 rfl rfl)
theorem dX0_mayCome_62 : decode cX0_mayCome 62 = .ok (.istore 6, 2) := dk_54 6 (dk_at dksX0_mayCome_2 14 rfl rfl)
theorem dX0_mayCome_64 : decode cX0_mayCome 64 = .ok (.iload 6, 2) := dk_21 6 (dk_at dksX0_mayCome_2 16 rfl rfl)
theorem dX0_mayCome_66 : decode cX0_mayCome 66 = .ok (.bipush 8, 2) := dk_16 8 (dk_at dksX0_mayCome_2 18 rfl rfl)
theorem dX0_mayCome_68 : decode cX0_mayCome 68 = .ok (.if_icmp .ge 54, 3) := dk_162 0 54 (dk_at dksX0_mayCome_2 20 rfl rfl)
theorem dX0_mayCome_71 : decode cX0_mayCome 71 = .ok (.iload 5, 2) := dk_21 5 (dk_at dksX0_mayCome_3 0 rfl rfl)
theorem dX0_mayCome_73 : decode cX0_mayCome 73 = .ok (.ifCond .eq 49, 3) := dk_153 0 49 (dk_at dksX0_mayCome_3 2 rfl rfl)
theorem dX0_mayCome_76 : decode cX0_mayCome 76 = .ok (.iload_n 2, 1) := dk_28 (dk_at dksX0_mayCome_3 5 rfl rfl)
theorem dX0_mayCome_77 : decode cX0_mayCome 77 = .ok (.aload_n 0, 1) := dk_42 (dk_at dksX0_mayCome_3 6 rfl rfl)
theorem dX0_mayCome_78 : decode cX0_mayCome 78 = .ok (.getfield 28, 3) := dk_180 0 28 (dk_at dksX0_mayCome_3 7 rfl rfl)
theorem dX0_mayCome_81 : decode cX0_mayCome 81 = .ok (.iload 6, 2) := dk_21 6 (dk_at dksX0_mayCome_3 10 rfl rfl)
theorem dX0_mayCome_83 : decode cX0_mayCome 83 = .ok (.iaload, 1) := dk_46 (dk_at dksX0_mayCome_3 12 rfl rfl)
theorem dX0_mayCome_84 : decode cX0_mayCome 84 = .ok (.idiv, 1) := dk_108 (dk_at dksX0_mayCome_3 13 rfl rfl)
theorem dX0_mayCome_85 : decode cX0_mayCome 85 = .ok (.aload_n 0, 1) := dk_42 (dk_at dksX0_mayCome_3 14 rfl rfl)
theorem dX0_mayCome_86 : decode cX0_mayCome 86 = .ok (.getfield 25, 3) := dk_180 0 25 (dk_at dksX0_mayCome_3 15 rfl rfl)
theorem dX0_mayCome_89 : decode cX0_mayCome 89 = .ok (.getfield 104, 3) := dk_180 0 104 (dk_at dksX0_mayCome_3 18 rfl rfl)
theorem dX0_mayCome_92 : decode cX0_mayCome 92 = .ok (.iload 6, 2) := dk_21 6 (dk_at dksX0_mayCome_3 21 rfl rfl)
theorem dX0_mayCome_94 : decode cX0_mayCome 94 = .ok (.iaload, 1) := dk_46 (dk_at dksX0_mayCome_3 23 rfl rfl)
theorem dX0_mayCome_95 : decode cX0_mayCome 95 = .ok (.iconst 1, 1) := dk_4 (dk_at dksX0_mayCome_4 0 rfl rfl)
theorem dX0_mayCome_96 : decode cX0_mayCome 96 = .ok (.iadd, 1) := dk_96 (dk_at dksX0_mayCome_4 1 rfl rfl)
theorem dX0_mayCome_97 : decode cX0_mayCome 97 = .ok (.irem, 1) := dk_112 (dk_at dksX0_mayCome_4 2 rfl rfl)
theorem dX0_mayCome_98 : decode cX0_mayCome 98 = .ok (.aload 4, 2) := dk_25 4 (dk_at dksX0_mayCome_4 3 rfl rfl)
theorem dX0_mayCome_100 : decode cX0_mayCome 100 = .ok (.getfield 112, 3) := dk_180 0 112 (dk_at dksX0_mayCome_4 5 rfl rfl)
theorem dX0_mayCome_103 : decode cX0_mayCome 103 = .ok (.iload 6, 2) := dk_21 6 (dk_at dksX0_mayCome_4 8 rfl rfl)
theorem dX0_mayCome_105 : decode cX0_mayCome 105 = .ok (.iaload, 1) := dk_46 (dk_at dksX0_mayCome_4 10 rfl rfl)
theorem dX0_mayCome_106 : decode cX0_mayCome 106 = .ok (.if_icmp .lt 7, 3) := dk_161 0 7 (dk_at dksX0_mayCome_4 11 rfl rfl)
theorem dX0_mayCome_109 : decode cX0_mayCome 109 = .ok (.iconst 1, 1) := dk_4 (dk_at dksX0_mayCome_4 14 rfl rfl)
theorem dX0_mayCome_110 : decode cX0_mayCome 110 = .ok (.goto 4, 3) := dk_167 0 4 (dk_at dksX0_mayCome_4 15 rfl rfl)
theorem dX0_mayCome_113 : decode cX0_mayCome 113 = .ok (.iconst 0, 1) := dk_3 (dk_at dksX0_mayCome_4 18 rfl rfl)
theorem dX0_mayCome_114 : decode cX0_mayCome 114 = .ok (.istore 5, 2) := dk_54 5 (dk_at dksX0_mayCome_4 19 rfl rfl)
theorem dX0_mayCome_116 : decode cX0_mayCome 116 = .ok (.iinc 6 1, 3) := dk_132 6 1 (dk_at dksX0_mayCome_4 21 rfl rfl)
theorem dX0_mayCome_119 : decode cX0_mayCome 119 = .ok (.goto (-55), 3) := dk_167 255 201 (dk_at dksX0_mayCome_5 0 rfl rfl)
theorem dX0_mayCome_122 : decode cX0_mayCome 122 = .ok (.iload 5, 2) := dk_21 5 (dk_at dksX0_mayCome_5 3 rfl rfl)
theorem dX0_mayCome_124 : decode cX0_mayCome 124 = .ok (.ireturn, 1) := dk_172 (dk_at dksX0_mayCome_5 5 rfl rfl)
abbrev cX0_lengthOf : ByteArray := prog_1_method_19_code
def yX0_lengthOf : MethodName := ⟨RX0, "lengthOf", "(Z)I"⟩
def dkwX0_lengthOf_2 : List UInt8 := [167, 255, 218, 28, 172]
abbrev dktX0_lengthOf_2 : List UInt8 := dkwX0_lengthOf_2 ++ []
def dkwX0_lengthOf_1 : List UInt8 := [27, 154, 0, 9, 28, 16, 247, 160, 0, 7, 29, 167, 0, 4, 28, 61, 42, 182, 0, 174, 132, 3, 1]
abbrev dktX0_lengthOf_1 : List UInt8 := dkwX0_lengthOf_1 ++ dktX0_lengthOf_2
def dkwX0_lengthOf_0 : List UInt8 := [16, 247, 61, 42, 182, 0, 171, 4, 62, 29, 16, 12, 163, 0, 38, 42, 182, 0, 177, 9, 148, 158, 0, 17]
abbrev dktX0_lengthOf_0 : List UInt8 := dkwX0_lengthOf_0 ++ dktX0_lengthOf_1
theorem dksX0_lengthOf_0 : cX0_lengthOf.data.toList.drop 0 = dktX0_lengthOf_0 := by decide +kernel
theorem dksX0_lengthOf_1 : cX0_lengthOf.data.toList.drop 24 = dktX0_lengthOf_1 := dk_seg dksX0_lengthOf_0 24 rfl rfl
theorem dksX0_lengthOf_2 : cX0_lengthOf.data.toList.drop 47 = dktX0_lengthOf_2 := dk_seg dksX0_lengthOf_1 23 rfl rfl
theorem dX0_lengthOf_0 : decode cX0_lengthOf 0 = .ok (.bipush (-9), 2) := dk_16 247 (dk_at dksX0_lengthOf_0 0 rfl rfl)
theorem dX0_lengthOf_2 : decode cX0_lengthOf 2 = .ok (.istore_n 2, 1) := dk_61 (dk_at dksX0_lengthOf_0 2 rfl rfl)
theorem dX0_lengthOf_3 : decode cX0_lengthOf 3 = .ok (.aload_n 0, 1) := dk_42 (dk_at dksX0_lengthOf_0 3 rfl rfl)
theorem dX0_lengthOf_4 : decode cX0_lengthOf 4 = .ok (.invokevirtual 171, 3) := dk_182 0 171 (dk_at dksX0_lengthOf_0 4 rfl rfl)
theorem dX0_lengthOf_7 : decode cX0_lengthOf 7 = .ok (.iconst 1, 1) := dk_4 (dk_at dksX0_lengthOf_0 7 rfl rfl)
theorem dX0_lengthOf_8 : decode cX0_lengthOf 8 = .ok (.istore_n 3, 1) := dk_62 (dk_at dksX0_lengthOf_0 8 rfl rfl)
theorem dX0_lengthOf_9 : decode cX0_lengthOf 9 = .ok (.iload_n 3, 1) := dk_29 (dk_at dksX0_lengthOf_0 9 rfl rfl)
theorem dX0_lengthOf_10 : decode cX0_lengthOf 10 = .ok (.bipush 12, 2) := dk_16 12 (dk_at dksX0_lengthOf_0 10 rfl rfl)
theorem dX0_lengthOf_12 : decode cX0_lengthOf 12 = .ok (.if_icmp .gt 38, 3) := dk_163 0 38 (dk_at dksX0_lengthOf_0 12 rfl rfl)
theorem dX0_lengthOf_15 : decode cX0_lengthOf 15 = .ok (.aload_n 0, 1) := dk_42 (dk_at dksX0_lengthOf_0 15 rfl rfl)
theorem dX0_lengthOf_16 : decode cX0_lengthOf 16 = .ok (.invokevirtual 177, 3) := dk_182 0 177 (dk_at dksX0_lengthOf_0 16 rfl rfl)
theorem dX0_lengthOf_19 : decode cX0_lengthOf 19 = .ok (.lconst 0, 1) := dk_9 (dk_at dksX0_lengthOf_0 19 rfl rfl)
theorem dX0_lengthOf_20 : decode cX0_lengthOf 20 = .ok (.lcmp, 1) := dk_148 (dk_at dksX0_lengthOf_0 20 rfl rfl)
theorem dX0_lengthOf_21 : decode cX0_lengthOf 21 = .ok (.ifCond .le 17, 3) := dk_158 0 17 (dk_at dksX0_lengthOf_0 21 rfl rfl)
theorem dX0_lengthOf_24 : decode cX0_lengthOf 24 = .ok (.iload_n 1, 1) := dk_27 (dk_at dksX0_lengthOf_1 0 rfl rfl)
theorem dX0_lengthOf_25 : decode cX0_lengthOf 25 = .ok (.ifCond .ne 9, 3) := dk_154 0 9 (dk_at dksX0_lengthOf_1 1 rfl rfl)
theorem dX0_lengthOf_28 : decode cX0_lengthOf 28 = .ok (.iload_n 2, 1) := dk_28 (dk_at dksX0_lengthOf_1 4 rfl rfl)
theorem dX0_lengthOf_29 : decode cX0_lengthOf 29 = .ok (.bipush (-9), 2) := dk_16 247 (dk_at dksX0_lengthOf_1 5 rfl rfl)
theorem dX0_lengthOf_31 : decode cX0_lengthOf 31 = .ok (.if_icmp .ne 7, 3) := dk_160 0 7 (dk_at dksX0_lengthOf_1 7 rfl rfl)
theorem dX0_lengthOf_34 : decode cX0_lengthOf 34 = .ok (.iload_n 3, 1) := dk_29 (dk_at dksX0_lengthOf_1 10 rfl rfl)
theorem dX0_lengthOf_35 : decode cX0_lengthOf 35 = .ok (.goto 4, 3) := dk_167 0 4 (dk_at dksX0_lengthOf_1 11 rfl rfl)
theorem dX0_lengthOf_38 : decode cX0_lengthOf 38 = .ok (.iload_n 2, 1) := dk_28 (dk_at dksX0_lengthOf_1 14 rfl rfl)
theorem dX0_lengthOf_39 : decode cX0_lengthOf 39 = .ok (.istore_n 2, 1) := dk_61 (dk_at dksX0_lengthOf_1 15 rfl rfl)
theorem dX0_lengthOf_40 : decode cX0_lengthOf 40 = .ok (.aload_n 0, 1) := dk_42 (dk_at dksX0_lengthOf_1 16 rfl rfl)
theorem dX0_lengthOf_41 : decode cX0_lengthOf 41 = .ok (.invokevirtual 174, 3) := dk_182 0 174 (dk_at dksX0_lengthOf_1 17 rfl rfl)
theorem dX0_lengthOf_44 : decode cX0_lengthOf 44 = .ok (.iinc 3 1, 3) := dk_132 3 1 (dk_at dksX0_lengthOf_1 20 rfl rfl)
theorem dX0_lengthOf_47 : decode cX0_lengthOf 47 = .ok (.goto (-38), 3) := dk_167 255 218 (dk_at dksX0_lengthOf_2 0 rfl rfl)
theorem dX0_lengthOf_50 : decode cX0_lengthOf 50 = .ok (.iload_n 2, 1) := dk_28 (dk_at dksX0_lengthOf_2 3 rfl rfl)
theorem dX0_lengthOf_51 : decode cX0_lengthOf 51 = .ok (.ireturn, 1) := dk_172 (dk_at dksX0_lengthOf_2 4 rfl rfl)
abbrev cX0_beginLayers : ByteArray := prog_1_method_15_code
def yX0_beginLayers : MethodName := ⟨RX0, "beginLayers", "()V"⟩
def dkwX0_beginLayers_4 : List UInt8 := [132, 1, 1, 167, 255, 188, 177]
abbrev dktX0_beginLayers_4 : List UInt8 := dkwX0_beginLayers_4 ++ []
def dkwX0_beginLayers_3 : List UInt8 := [180, 0, 42, 27, 46, 100, 104, 42, 180, 0, 11, 27, 50, 180, 0, 135, 96, 92, 47, 10, 97, 80]
abbrev dktX0_beginLayers_3 : List UInt8 := dkwX0_beginLayers_3 ++ dktX0_beginLayers_4
def dkwX0_beginLayers_2 : List UInt8 := [180, 0, 101, 4, 100, 7, 182, 0, 144, 153, 0, 37, 42, 180, 0, 48, 7, 42, 180, 0, 101, 4, 100, 42]
abbrev dktX0_beginLayers_2 : List UInt8 := dkwX0_beginLayers_2 ++ dktX0_beginLayers_3
def dkwX0_beginLayers_1 : List UInt8 := [167, 255, 236, 3, 60, 27, 42, 180, 0, 109, 162, 0, 66, 42, 180, 0, 101, 4, 164, 0, 58, 42, 27, 42]
abbrev dktX0_beginLayers_1 : List UInt8 := dkwX0_beginLayers_1 ++ dktX0_beginLayers_2
def dkwX0_beginLayers_0 : List UInt8 := [3, 60, 27, 42, 180, 0, 101, 7, 104, 162, 0, 16, 42, 180, 0, 48, 27, 9, 80, 132, 1, 1]
abbrev dktX0_beginLayers_0 : List UInt8 := dkwX0_beginLayers_0 ++ dktX0_beginLayers_1
theorem dksX0_beginLayers_0 : cX0_beginLayers.data.toList.drop 0 = dktX0_beginLayers_0 := by decide +kernel
theorem dksX0_beginLayers_1 : cX0_beginLayers.data.toList.drop 22 = dktX0_beginLayers_1 := dk_seg dksX0_beginLayers_0 22 rfl rfl
theorem dksX0_beginLayers_2 : cX0_beginLayers.data.toList.drop 46 = dktX0_beginLayers_2 := dk_seg dksX0_beginLayers_1 24 rfl rfl
theorem dksX0_beginLayers_3 : cX0_beginLayers.data.toList.drop 70 = dktX0_beginLayers_3 := dk_seg dksX0_beginLayers_2 24 rfl rfl
theorem dksX0_beginLayers_4 : cX0_beginLayers.data.toList.drop 92 = dktX0_beginLayers_4 := dk_seg dksX0_beginLayers_3 22 rfl rfl
theorem dX0_beginLayers_0 : decode cX0_beginLayers 0 = .ok (.iconst 0, 1) := dk_3 (dk_at dksX0_beginLayers_0 0 rfl rfl)
theorem dX0_beginLayers_1 : decode cX0_beginLayers 1 = .ok (.istore_n 1, 1) := dk_60 (dk_at dksX0_beginLayers_0 1 rfl rfl)
theorem dX0_beginLayers_2 : decode cX0_beginLayers 2 = .ok (.iload_n 1, 1) := dk_27 (dk_at dksX0_beginLayers_0 2 rfl rfl)
theorem dX0_beginLayers_3 : decode cX0_beginLayers 3 = .ok (.aload_n 0, 1) := dk_42 (dk_at dksX0_beginLayers_0 3 rfl rfl)
theorem dX0_beginLayers_4 : decode cX0_beginLayers 4 = .ok (.getfield 101, 3) := dk_180 0 101 (dk_at dksX0_beginLayers_0 4 rfl rfl)
theorem dX0_beginLayers_7 : decode cX0_beginLayers 7 = .ok (.iconst 4, 1) := dk_7 (dk_at dksX0_beginLayers_0 7 rfl rfl)
theorem dX0_beginLayers_8 : decode cX0_beginLayers 8 = .ok (.imul, 1) := dk_104 (dk_at dksX0_beginLayers_0 8 rfl rfl)
theorem dX0_beginLayers_9 : decode cX0_beginLayers 9 = .ok (.if_icmp .ge 16, 3) := dk_162 0 16 (dk_at dksX0_beginLayers_0 9 rfl rfl)
theorem dX0_beginLayers_12 : decode cX0_beginLayers 12 = .ok (.aload_n 0, 1) := dk_42 (dk_at dksX0_beginLayers_0 12 rfl rfl)
theorem dX0_beginLayers_13 : decode cX0_beginLayers 13 = .ok (.getfield 48, 3) := dk_180 0 48 (dk_at dksX0_beginLayers_0 13 rfl rfl)
theorem dX0_beginLayers_16 : decode cX0_beginLayers 16 = .ok (.iload_n 1, 1) := dk_27 (dk_at dksX0_beginLayers_0 16 rfl rfl)
theorem dX0_beginLayers_17 : decode cX0_beginLayers 17 = .ok (.lconst 0, 1) := dk_9 (dk_at dksX0_beginLayers_0 17 rfl rfl)
theorem dX0_beginLayers_18 : decode cX0_beginLayers 18 = .ok (.lastore, 1) := dk_80 (dk_at dksX0_beginLayers_0 18 rfl rfl)
theorem dX0_beginLayers_19 : decode cX0_beginLayers 19 = .ok (.iinc 1 1, 3) := dk_132 1 1 (dk_at dksX0_beginLayers_0 19 rfl rfl)
theorem dX0_beginLayers_22 : decode cX0_beginLayers 22 = .ok (.goto (-20), 3) := dk_167 255 236 (dk_at dksX0_beginLayers_1 0 rfl rfl)
theorem dX0_beginLayers_25 : decode cX0_beginLayers 25 = .ok (.iconst 0, 1) := dk_3 (dk_at dksX0_beginLayers_1 3 rfl rfl)
theorem dX0_beginLayers_26 : decode cX0_beginLayers 26 = .ok (.istore_n 1, 1) := dk_60 (dk_at dksX0_beginLayers_1 4 rfl rfl)
theorem dX0_beginLayers_27 : decode cX0_beginLayers 27 = .ok (.iload_n 1, 1) := dk_27 (dk_at dksX0_beginLayers_1 5 rfl rfl)
theorem dX0_beginLayers_28 : decode cX0_beginLayers 28 = .ok (.aload_n 0, 1) := dk_42 (dk_at dksX0_beginLayers_1 6 rfl rfl)
theorem dX0_beginLayers_29 : decode cX0_beginLayers 29 = .ok (.getfield 109, 3) := dk_180 0 109 (dk_at dksX0_beginLayers_1 7 rfl rfl)
theorem dX0_beginLayers_32 : decode cX0_beginLayers 32 = .ok (.if_icmp .ge 66, 3) := dk_162 0 66 (dk_at dksX0_beginLayers_1 10 rfl rfl)
theorem dX0_beginLayers_35 : decode cX0_beginLayers 35 = .ok (.aload_n 0, 1) := dk_42 (dk_at dksX0_beginLayers_1 13 rfl rfl)
theorem dX0_beginLayers_36 : decode cX0_beginLayers 36 = .ok (.getfield 101, 3) := dk_180 0 101 (dk_at dksX0_beginLayers_1 14 rfl rfl)
theorem dX0_beginLayers_39 : decode cX0_beginLayers 39 = .ok (.iconst 1, 1) := dk_4 (dk_at dksX0_beginLayers_1 17 rfl rfl)
theorem dX0_beginLayers_40 : decode cX0_beginLayers 40 = .ok (.if_icmp .le 58, 3) := dk_164 0 58 (dk_at dksX0_beginLayers_1 18 rfl rfl)
theorem dX0_beginLayers_43 : decode cX0_beginLayers 43 = .ok (.aload_n 0, 1) := dk_42 (dk_at dksX0_beginLayers_1 21 rfl rfl)
theorem dX0_beginLayers_44 : decode cX0_beginLayers 44 = .ok (.iload_n 1, 1) := dk_27 (dk_at dksX0_beginLayers_1 22 rfl rfl)
theorem dX0_beginLayers_45 : decode cX0_beginLayers 45 = .ok (.aload_n 0, 1) := dk_42 (dk_at dksX0_beginLayers_1 23 rfl rfl)
theorem dX0_beginLayers_46 : decode cX0_beginLayers 46 = .ok (.getfield 101, 3) := dk_180 0 101 (dk_at dksX0_beginLayers_2 0 rfl rfl)
theorem dX0_beginLayers_49 : decode cX0_beginLayers 49 = .ok (.iconst 1, 1) := dk_4 (dk_at dksX0_beginLayers_2 3 rfl rfl)
theorem dX0_beginLayers_50 : decode cX0_beginLayers 50 = .ok (.isub, 1) := dk_100 (dk_at dksX0_beginLayers_2 4 rfl rfl)
theorem dX0_beginLayers_51 : decode cX0_beginLayers 51 = .ok (.iconst 4, 1) := dk_7 (dk_at dksX0_beginLayers_2 5 rfl rfl)
theorem dX0_beginLayers_52 : decode cX0_beginLayers 52 = .ok (.invokevirtual 144, 3) := dk_182 0 144 (dk_at dksX0_beginLayers_2 6 rfl rfl)
theorem dX0_beginLayers_55 : decode cX0_beginLayers 55 = .ok (.ifCond .eq 37, 3) := dk_153 0 37 (dk_at dksX0_beginLayers_2 9 rfl rfl)
theorem dX0_beginLayers_58 : decode cX0_beginLayers 58 = .ok (.aload_n 0, 1) := dk_42 (dk_at dksX0_beginLayers_2 12 rfl rfl)
theorem dX0_beginLayers_59 : decode cX0_beginLayers 59 = .ok (.getfield 48, 3) := dk_180 0 48 (dk_at dksX0_beginLayers_2 13 rfl rfl)
theorem dX0_beginLayers_62 : decode cX0_beginLayers 62 = .ok (.iconst 4, 1) := dk_7 (dk_at dksX0_beginLayers_2 16 rfl rfl)
theorem dX0_beginLayers_63 : decode cX0_beginLayers 63 = .ok (.aload_n 0, 1) := dk_42 (dk_at dksX0_beginLayers_2 17 rfl rfl)
theorem dX0_beginLayers_64 : decode cX0_beginLayers 64 = .ok (.getfield 101, 3) := dk_180 0 101 (dk_at dksX0_beginLayers_2 18 rfl rfl)
theorem dX0_beginLayers_67 : decode cX0_beginLayers 67 = .ok (.iconst 1, 1) := dk_4 (dk_at dksX0_beginLayers_2 21 rfl rfl)
theorem dX0_beginLayers_68 : decode cX0_beginLayers 68 = .ok (.isub, 1) := dk_100 (dk_at dksX0_beginLayers_2 22 rfl rfl)
theorem dX0_beginLayers_69 : decode cX0_beginLayers 69 = .ok (.aload_n 0, 1) := dk_42 (dk_at dksX0_beginLayers_2 23 rfl rfl)
theorem dX0_beginLayers_70 : decode cX0_beginLayers 70 = .ok (.getfield 42, 3) := dk_180 0 42 (dk_at dksX0_beginLayers_3 0 rfl rfl)
theorem dX0_beginLayers_73 : decode cX0_beginLayers 73 = .ok (.iload_n 1, 1) := dk_27 (dk_at dksX0_beginLayers_3 3 rfl rfl)
theorem dX0_beginLayers_74 : decode cX0_beginLayers 74 = .ok (.iaload, 1) := dk_46 (dk_at dksX0_beginLayers_3 4 rfl rfl)
theorem dX0_beginLayers_75 : decode cX0_beginLayers 75 = .ok (.isub, 1) := dk_100 (dk_at dksX0_beginLayers_3 5 rfl rfl)
theorem dX0_beginLayers_76 : decode cX0_beginLayers 76 = .ok (.imul, 1) := dk_104 (dk_at dksX0_beginLayers_3 6 rfl rfl)
theorem dX0_beginLayers_77 : decode cX0_beginLayers 77 = .ok (.aload_n 0, 1) := dk_42 (dk_at dksX0_beginLayers_3 7 rfl rfl)
theorem dX0_beginLayers_78 : decode cX0_beginLayers 78 = .ok (.getfield 11, 3) := dk_180 0 11 (dk_at dksX0_beginLayers_3 8 rfl rfl)
theorem dX0_beginLayers_81 : decode cX0_beginLayers 81 = .ok (.iload_n 1, 1) := dk_27 (dk_at dksX0_beginLayers_3 11 rfl rfl)
theorem dX0_beginLayers_82 : decode cX0_beginLayers 82 = .ok (.aaload, 1) := dk_50 (dk_at dksX0_beginLayers_3 12 rfl rfl)
theorem dX0_beginLayers_83 : decode cX0_beginLayers 83 = .ok (.getfield 135, 3) := dk_180 0 135 (dk_at dksX0_beginLayers_3 13 rfl rfl)
theorem dX0_beginLayers_86 : decode cX0_beginLayers 86 = .ok (.iadd, 1) := dk_96 (dk_at dksX0_beginLayers_3 16 rfl rfl)
theorem dX0_beginLayers_87 : decode cX0_beginLayers 87 = .ok (.dup2, 1) := dk_92 (dk_at dksX0_beginLayers_3 17 rfl rfl)
theorem dX0_beginLayers_88 : decode cX0_beginLayers 88 = .ok (.laload, 1) := dk_47 (dk_at dksX0_beginLayers_3 18 rfl rfl)
theorem dX0_beginLayers_89 : decode cX0_beginLayers 89 = .ok (.lconst 1, 1) := dk_10 (dk_at dksX0_beginLayers_3 19 rfl rfl)
theorem dX0_beginLayers_90 : decode cX0_beginLayers 90 = .ok (.ladd, 1) := dk_97 (dk_at dksX0_beginLayers_3 20 rfl rfl)
theorem dX0_beginLayers_91 : decode cX0_beginLayers 91 = .ok (.lastore, 1) := dk_80 (dk_at dksX0_beginLayers_3 21 rfl rfl)
theorem dX0_beginLayers_92 : decode cX0_beginLayers 92 = .ok (.iinc 1 1, 3) := dk_132 1 1 (dk_at dksX0_beginLayers_4 0 rfl rfl)
theorem dX0_beginLayers_95 : decode cX0_beginLayers 95 = .ok (.goto (-68), 3) := dk_167 255 188 (dk_at dksX0_beginLayers_4 3 rfl rfl)
theorem dX0_beginLayers_98 : decode cX0_beginLayers 98 = .ok (.return_, 1) := dk_177 (dk_at dksX0_beginLayers_4 6 rfl rfl)
abbrev cX0_endedNow : ByteArray := prog_1_method_17_code
def yX0_endedNow : MethodName := ⟨RX0, "endedNow", "()J"⟩
def dkwX0_endedNow_1 : List UInt8 := [42, 180, 0, 48, 29, 47, 167, 0, 4, 9, 97, 64, 132, 3, 1, 167, 255, 221, 31, 173]
abbrev dktX0_endedNow_1 : List UInt8 := dkwX0_endedNow_1 ++ []
def dkwX0_endedNow_0 : List UInt8 := [9, 64, 3, 62, 29, 7, 162, 0, 36, 31, 42, 180, 0, 25, 180, 0, 138, 29, 184, 0, 126, 153, 0, 12]
abbrev dktX0_endedNow_0 : List UInt8 := dkwX0_endedNow_0 ++ dktX0_endedNow_1
theorem dksX0_endedNow_0 : cX0_endedNow.data.toList.drop 0 = dktX0_endedNow_0 := by decide +kernel
theorem dksX0_endedNow_1 : cX0_endedNow.data.toList.drop 24 = dktX0_endedNow_1 := dk_seg dksX0_endedNow_0 24 rfl rfl
theorem dX0_endedNow_0 : decode cX0_endedNow 0 = .ok (.lconst 0, 1) := dk_9 (dk_at dksX0_endedNow_0 0 rfl rfl)
theorem dX0_endedNow_1 : decode cX0_endedNow 1 = .ok (.lstore_n 1, 1) := dk_64 (dk_at dksX0_endedNow_0 1 rfl rfl)
theorem dX0_endedNow_2 : decode cX0_endedNow 2 = .ok (.iconst 0, 1) := dk_3 (dk_at dksX0_endedNow_0 2 rfl rfl)
theorem dX0_endedNow_3 : decode cX0_endedNow 3 = .ok (.istore_n 3, 1) := dk_62 (dk_at dksX0_endedNow_0 3 rfl rfl)
theorem dX0_endedNow_4 : decode cX0_endedNow 4 = .ok (.iload_n 3, 1) := dk_29 (dk_at dksX0_endedNow_0 4 rfl rfl)
theorem dX0_endedNow_5 : decode cX0_endedNow 5 = .ok (.iconst 4, 1) := dk_7 (dk_at dksX0_endedNow_0 5 rfl rfl)
theorem dX0_endedNow_6 : decode cX0_endedNow 6 = .ok (.if_icmp .ge 36, 3) := dk_162 0 36 (dk_at dksX0_endedNow_0 6 rfl rfl)
theorem dX0_endedNow_9 : decode cX0_endedNow 9 = .ok (.lload_n 1, 1) := dk_31 (dk_at dksX0_endedNow_0 9 rfl rfl)
theorem dX0_endedNow_10 : decode cX0_endedNow 10 = .ok (.aload_n 0, 1) := dk_42 (dk_at dksX0_endedNow_0 10 rfl rfl)
theorem dX0_endedNow_11 : decode cX0_endedNow 11 = .ok (.getfield 25, 3) := dk_180 0 25 (dk_at dksX0_endedNow_0 11 rfl rfl)
theorem dX0_endedNow_14 : decode cX0_endedNow 14 = .ok (.getfield 138, 3) := dk_180 0 138 (dk_at dksX0_endedNow_0 14 rfl rfl)
theorem dX0_endedNow_17 : decode cX0_endedNow 17 = .ok (.iload_n 3, 1) := dk_29 (dk_at dksX0_endedNow_0 17 rfl rfl)
theorem dX0_endedNow_18 : decode cX0_endedNow 18 = .ok (.invokestatic 126, 3) := dk_184 0 126 (dk_at dksX0_endedNow_0 18 rfl rfl)
theorem dX0_endedNow_21 : decode cX0_endedNow 21 = .ok (.ifCond .eq 12, 3) := dk_153 0 12 (dk_at dksX0_endedNow_0 21 rfl rfl)
theorem dX0_endedNow_24 : decode cX0_endedNow 24 = .ok (.aload_n 0, 1) := dk_42 (dk_at dksX0_endedNow_1 0 rfl rfl)
theorem dX0_endedNow_25 : decode cX0_endedNow 25 = .ok (.getfield 48, 3) := dk_180 0 48 (dk_at dksX0_endedNow_1 1 rfl rfl)
theorem dX0_endedNow_28 : decode cX0_endedNow 28 = .ok (.iload_n 3, 1) := dk_29 (dk_at dksX0_endedNow_1 4 rfl rfl)
theorem dX0_endedNow_29 : decode cX0_endedNow 29 = .ok (.laload, 1) := dk_47 (dk_at dksX0_endedNow_1 5 rfl rfl)
theorem dX0_endedNow_30 : decode cX0_endedNow 30 = .ok (.goto 4, 3) := dk_167 0 4 (dk_at dksX0_endedNow_1 6 rfl rfl)
theorem dX0_endedNow_33 : decode cX0_endedNow 33 = .ok (.lconst 0, 1) := dk_9 (dk_at dksX0_endedNow_1 9 rfl rfl)
theorem dX0_endedNow_34 : decode cX0_endedNow 34 = .ok (.ladd, 1) := dk_97 (dk_at dksX0_endedNow_1 10 rfl rfl)
theorem dX0_endedNow_35 : decode cX0_endedNow 35 = .ok (.lstore_n 1, 1) := dk_64 (dk_at dksX0_endedNow_1 11 rfl rfl)
theorem dX0_endedNow_36 : decode cX0_endedNow 36 = .ok (.iinc 3 1, 3) := dk_132 3 1 (dk_at dksX0_endedNow_1 12 rfl rfl)
theorem dX0_endedNow_39 : decode cX0_endedNow 39 = .ok (.goto (-35), 3) := dk_167 255 221 (dk_at dksX0_endedNow_1 15 rfl rfl)
theorem dX0_endedNow_42 : decode cX0_endedNow 42 = .ok (.lload_n 1, 1) := dk_31 (dk_at dksX0_endedNow_1 18 rfl rfl)
theorem dX0_endedNow_43 : decode cX0_endedNow 43 = .ok (.lreturn, 1) := dk_173 (dk_at dksX0_endedNow_1 19 rfl rfl)
abbrev cX0_goOnLayers : ByteArray := prog_1_method_16_code
def yX0_goOnLayers : MethodName := ⟨RX0, "goOnLayers", "()V"⟩
def dkwX0_goOnLayers_6 : List UInt8 := [181, 0, 51, 177]
abbrev dktX0_goOnLayers_6 : List UInt8 := dkwX0_goOnLayers_6 ++ []
def dkwX0_goOnLayers_5 : List UInt8 := [167, 255, 184, 132, 1, 1, 167, 255, 166, 42, 180, 0, 48, 76, 42, 42, 180, 0, 51, 181, 0, 48, 42, 43]
abbrev dktX0_goOnLayers_5 : List UInt8 := dkwX0_goOnLayers_5 ++ dktX0_goOnLayers_6
def dkwX0_goOnLayers_4 : List UInt8 := [180, 0, 11, 28, 50, 180, 0, 135, 96, 92, 47, 42, 180, 0, 48, 27, 47, 97, 80, 132, 2, 1]
abbrev dktX0_goOnLayers_4 : List UInt8 := dkwX0_goOnLayers_4 ++ dktX0_goOnLayers_5
def dkwX0_goOnLayers_3 : List UInt8 := [182, 0, 144, 153, 0, 39, 42, 180, 0, 51, 7, 27, 7, 108, 42, 180, 0, 42, 28, 46, 100, 104, 42]
abbrev dktX0_goOnLayers_3 : List UInt8 := dkwX0_goOnLayers_3 ++ dktX0_goOnLayers_4
def dkwX0_goOnLayers_2 : List UInt8 := [162, 0, 70, 42, 180, 0, 48, 27, 47, 9, 148, 158, 0, 59, 42, 28, 27, 7, 108, 27, 7, 112]
abbrev dktX0_goOnLayers_2 : List UInt8 := dkwX0_goOnLayers_2 ++ dktX0_goOnLayers_3
def dkwX0_goOnLayers_1 : List UInt8 := [167, 255, 236, 7, 60, 27, 42, 180, 0, 101, 7, 104, 162, 0, 86, 3, 61, 28, 42, 180, 0, 109]
abbrev dktX0_goOnLayers_1 : List UInt8 := dkwX0_goOnLayers_1 ++ dktX0_goOnLayers_2
def dkwX0_goOnLayers_0 : List UInt8 := [3, 60, 27, 42, 180, 0, 101, 7, 104, 162, 0, 16, 42, 180, 0, 51, 27, 9, 80, 132, 1, 1]
abbrev dktX0_goOnLayers_0 : List UInt8 := dkwX0_goOnLayers_0 ++ dktX0_goOnLayers_1
theorem dksX0_goOnLayers_0 : cX0_goOnLayers.data.toList.drop 0 = dktX0_goOnLayers_0 := by decide +kernel
theorem dksX0_goOnLayers_1 : cX0_goOnLayers.data.toList.drop 22 = dktX0_goOnLayers_1 := dk_seg dksX0_goOnLayers_0 22 rfl rfl
theorem dksX0_goOnLayers_2 : cX0_goOnLayers.data.toList.drop 44 = dktX0_goOnLayers_2 := dk_seg dksX0_goOnLayers_1 22 rfl rfl
theorem dksX0_goOnLayers_3 : cX0_goOnLayers.data.toList.drop 66 = dktX0_goOnLayers_3 := dk_seg dksX0_goOnLayers_2 22 rfl rfl
theorem dksX0_goOnLayers_4 : cX0_goOnLayers.data.toList.drop 89 = dktX0_goOnLayers_4 := dk_seg dksX0_goOnLayers_3 23 rfl rfl
theorem dksX0_goOnLayers_5 : cX0_goOnLayers.data.toList.drop 111 = dktX0_goOnLayers_5 := dk_seg dksX0_goOnLayers_4 22 rfl rfl
theorem dksX0_goOnLayers_6 : cX0_goOnLayers.data.toList.drop 135 = dktX0_goOnLayers_6 := dk_seg dksX0_goOnLayers_5 24 rfl rfl
theorem dX0_goOnLayers_0 : decode cX0_goOnLayers 0 = .ok (.iconst 0, 1) := dk_3 (dk_at dksX0_goOnLayers_0 0 rfl rfl)
theorem dX0_goOnLayers_1 : decode cX0_goOnLayers 1 = .ok (.istore_n 1, 1) := dk_60 (dk_at dksX0_goOnLayers_0 1 rfl rfl)
theorem dX0_goOnLayers_2 : decode cX0_goOnLayers 2 = .ok (.iload_n 1, 1) := dk_27 (dk_at dksX0_goOnLayers_0 2 rfl rfl)
theorem dX0_goOnLayers_3 : decode cX0_goOnLayers 3 = .ok (.aload_n 0, 1) := dk_42 (dk_at dksX0_goOnLayers_0 3 rfl rfl)
theorem dX0_goOnLayers_4 : decode cX0_goOnLayers 4 = .ok (.getfield 101, 3) := dk_180 0 101 (dk_at dksX0_goOnLayers_0 4 rfl rfl)
theorem dX0_goOnLayers_7 : decode cX0_goOnLayers 7 = .ok (.iconst 4, 1) := dk_7 (dk_at dksX0_goOnLayers_0 7 rfl rfl)
theorem dX0_goOnLayers_8 : decode cX0_goOnLayers 8 = .ok (.imul, 1) := dk_104 (dk_at dksX0_goOnLayers_0 8 rfl rfl)
theorem dX0_goOnLayers_9 : decode cX0_goOnLayers 9 = .ok (.if_icmp .ge 16, 3) := dk_162 0 16 (dk_at dksX0_goOnLayers_0 9 rfl rfl)
theorem dX0_goOnLayers_12 : decode cX0_goOnLayers 12 = .ok (.aload_n 0, 1) := dk_42 (dk_at dksX0_goOnLayers_0 12 rfl rfl)
theorem dX0_goOnLayers_13 : decode cX0_goOnLayers 13 = .ok (.getfield 51, 3) := dk_180 0 51 (dk_at dksX0_goOnLayers_0 13 rfl rfl)
theorem dX0_goOnLayers_16 : decode cX0_goOnLayers 16 = .ok (.iload_n 1, 1) := dk_27 (dk_at dksX0_goOnLayers_0 16 rfl rfl)
theorem dX0_goOnLayers_17 : decode cX0_goOnLayers 17 = .ok (.lconst 0, 1) := dk_9 (dk_at dksX0_goOnLayers_0 17 rfl rfl)
theorem dX0_goOnLayers_18 : decode cX0_goOnLayers 18 = .ok (.lastore, 1) := dk_80 (dk_at dksX0_goOnLayers_0 18 rfl rfl)
theorem dX0_goOnLayers_19 : decode cX0_goOnLayers 19 = .ok (.iinc 1 1, 3) := dk_132 1 1 (dk_at dksX0_goOnLayers_0 19 rfl rfl)
theorem dX0_goOnLayers_22 : decode cX0_goOnLayers 22 = .ok (.goto (-20), 3) := dk_167 255 236 (dk_at dksX0_goOnLayers_1 0 rfl rfl)
theorem dX0_goOnLayers_25 : decode cX0_goOnLayers 25 = .ok (.iconst 4, 1) := dk_7 (dk_at dksX0_goOnLayers_1 3 rfl rfl)
theorem dX0_goOnLayers_26 : decode cX0_goOnLayers 26 = .ok (.istore_n 1, 1) := dk_60 (dk_at dksX0_goOnLayers_1 4 rfl rfl)
theorem dX0_goOnLayers_27 : decode cX0_goOnLayers 27 = .ok (.iload_n 1, 1) := dk_27 (dk_at dksX0_goOnLayers_1 5 rfl rfl)
theorem dX0_goOnLayers_28 : decode cX0_goOnLayers 28 = .ok (.aload_n 0, 1) := dk_42 (dk_at dksX0_goOnLayers_1 6 rfl rfl)
theorem dX0_goOnLayers_29 : decode cX0_goOnLayers 29 = .ok (.getfield 101, 3) := dk_180 0 101 (dk_at dksX0_goOnLayers_1 7 rfl rfl)
theorem dX0_goOnLayers_32 : decode cX0_goOnLayers 32 = .ok (.iconst 4, 1) := dk_7 (dk_at dksX0_goOnLayers_1 10 rfl rfl)
theorem dX0_goOnLayers_33 : decode cX0_goOnLayers 33 = .ok (.imul, 1) := dk_104 (dk_at dksX0_goOnLayers_1 11 rfl rfl)
theorem dX0_goOnLayers_34 : decode cX0_goOnLayers 34 = .ok (.if_icmp .ge 86, 3) := dk_162 0 86 (dk_at dksX0_goOnLayers_1 12 rfl rfl)
theorem dX0_goOnLayers_37 : decode cX0_goOnLayers 37 = .ok (.iconst 0, 1) := dk_3 (dk_at dksX0_goOnLayers_1 15 rfl rfl)
theorem dX0_goOnLayers_38 : decode cX0_goOnLayers 38 = .ok (.istore_n 2, 1) := dk_61 (dk_at dksX0_goOnLayers_1 16 rfl rfl)
theorem dX0_goOnLayers_39 : decode cX0_goOnLayers 39 = .ok (.iload_n 2, 1) := dk_28 (dk_at dksX0_goOnLayers_1 17 rfl rfl)
theorem dX0_goOnLayers_40 : decode cX0_goOnLayers 40 = .ok (.aload_n 0, 1) := dk_42 (dk_at dksX0_goOnLayers_1 18 rfl rfl)
theorem dX0_goOnLayers_41 : decode cX0_goOnLayers 41 = .ok (.getfield 109, 3) := dk_180 0 109 (dk_at dksX0_goOnLayers_1 19 rfl rfl)
theorem dX0_goOnLayers_44 : decode cX0_goOnLayers 44 = .ok (.if_icmp .ge 70, 3) := dk_162 0 70 (dk_at dksX0_goOnLayers_2 0 rfl rfl)
theorem dX0_goOnLayers_47 : decode cX0_goOnLayers 47 = .ok (.aload_n 0, 1) := dk_42 (dk_at dksX0_goOnLayers_2 3 rfl rfl)
theorem dX0_goOnLayers_48 : decode cX0_goOnLayers 48 = .ok (.getfield 48, 3) := dk_180 0 48 (dk_at dksX0_goOnLayers_2 4 rfl rfl)
theorem dX0_goOnLayers_51 : decode cX0_goOnLayers 51 = .ok (.iload_n 1, 1) := dk_27 (dk_at dksX0_goOnLayers_2 7 rfl rfl)
theorem dX0_goOnLayers_52 : decode cX0_goOnLayers 52 = .ok (.laload, 1) := dk_47 (dk_at dksX0_goOnLayers_2 8 rfl rfl)
theorem dX0_goOnLayers_53 : decode cX0_goOnLayers 53 = .ok (.lconst 0, 1) := dk_9 (dk_at dksX0_goOnLayers_2 9 rfl rfl)
theorem dX0_goOnLayers_54 : decode cX0_goOnLayers 54 = .ok (.lcmp, 1) := dk_148 (dk_at dksX0_goOnLayers_2 10 rfl rfl)
theorem dX0_goOnLayers_55 : decode cX0_goOnLayers 55 = .ok (.ifCond .le 59, 3) := dk_158 0 59 (dk_at dksX0_goOnLayers_2 11 rfl rfl)
theorem dX0_goOnLayers_58 : decode cX0_goOnLayers 58 = .ok (.aload_n 0, 1) := dk_42 (dk_at dksX0_goOnLayers_2 14 rfl rfl)
theorem dX0_goOnLayers_59 : decode cX0_goOnLayers 59 = .ok (.iload_n 2, 1) := dk_28 (dk_at dksX0_goOnLayers_2 15 rfl rfl)
theorem dX0_goOnLayers_60 : decode cX0_goOnLayers 60 = .ok (.iload_n 1, 1) := dk_27 (dk_at dksX0_goOnLayers_2 16 rfl rfl)
theorem dX0_goOnLayers_61 : decode cX0_goOnLayers 61 = .ok (.iconst 4, 1) := dk_7 (dk_at dksX0_goOnLayers_2 17 rfl rfl)
theorem dX0_goOnLayers_62 : decode cX0_goOnLayers 62 = .ok (.idiv, 1) := dk_108 (dk_at dksX0_goOnLayers_2 18 rfl rfl)
theorem dX0_goOnLayers_63 : decode cX0_goOnLayers 63 = .ok (.iload_n 1, 1) := dk_27 (dk_at dksX0_goOnLayers_2 19 rfl rfl)
theorem dX0_goOnLayers_64 : decode cX0_goOnLayers 64 = .ok (.iconst 4, 1) := dk_7 (dk_at dksX0_goOnLayers_2 20 rfl rfl)
theorem dX0_goOnLayers_65 : decode cX0_goOnLayers 65 = .ok (.irem, 1) := dk_112 (dk_at dksX0_goOnLayers_2 21 rfl rfl)
theorem dX0_goOnLayers_66 : decode cX0_goOnLayers 66 = .ok (.invokevirtual 144, 3) := dk_182 0 144 (dk_at dksX0_goOnLayers_3 0 rfl rfl)
theorem dX0_goOnLayers_69 : decode cX0_goOnLayers 69 = .ok (.ifCond .eq 39, 3) := dk_153 0 39 (dk_at dksX0_goOnLayers_3 3 rfl rfl)
theorem dX0_goOnLayers_72 : decode cX0_goOnLayers 72 = .ok (.aload_n 0, 1) := dk_42 (dk_at dksX0_goOnLayers_3 6 rfl rfl)
theorem dX0_goOnLayers_73 : decode cX0_goOnLayers 73 = .ok (.getfield 51, 3) := dk_180 0 51 (dk_at dksX0_goOnLayers_3 7 rfl rfl)
theorem dX0_goOnLayers_76 : decode cX0_goOnLayers 76 = .ok (.iconst 4, 1) := dk_7 (dk_at dksX0_goOnLayers_3 10 rfl rfl)
theorem dX0_goOnLayers_77 : decode cX0_goOnLayers 77 = .ok (.iload_n 1, 1) := dk_27 (dk_at dksX0_goOnLayers_3 11 rfl rfl)
theorem dX0_goOnLayers_78 : decode cX0_goOnLayers 78 = .ok (.iconst 4, 1) := dk_7 (dk_at dksX0_goOnLayers_3 12 rfl rfl)
theorem dX0_goOnLayers_79 : decode cX0_goOnLayers 79 = .ok (.idiv, 1) := dk_108 (dk_at dksX0_goOnLayers_3 13 rfl rfl)
theorem dX0_goOnLayers_80 : decode cX0_goOnLayers 80 = .ok (.aload_n 0, 1) := dk_42 (dk_at dksX0_goOnLayers_3 14 rfl rfl)
theorem dX0_goOnLayers_81 : decode cX0_goOnLayers 81 = .ok (.getfield 42, 3) := dk_180 0 42 (dk_at dksX0_goOnLayers_3 15 rfl rfl)
theorem dX0_goOnLayers_84 : decode cX0_goOnLayers 84 = .ok (.iload_n 2, 1) := dk_28 (dk_at dksX0_goOnLayers_3 18 rfl rfl)
theorem dX0_goOnLayers_85 : decode cX0_goOnLayers 85 = .ok (.iaload, 1) := dk_46 (dk_at dksX0_goOnLayers_3 19 rfl rfl)
theorem dX0_goOnLayers_86 : decode cX0_goOnLayers 86 = .ok (.isub, 1) := dk_100 (dk_at dksX0_goOnLayers_3 20 rfl rfl)
theorem dX0_goOnLayers_87 : decode cX0_goOnLayers 87 = .ok (.imul, 1) := dk_104 (dk_at dksX0_goOnLayers_3 21 rfl rfl)
theorem dX0_goOnLayers_88 : decode cX0_goOnLayers 88 = .ok (.aload_n 0, 1) := dk_42 (dk_at dksX0_goOnLayers_3 22 rfl rfl)
theorem dX0_goOnLayers_89 : decode cX0_goOnLayers 89 = .ok (.getfield 11, 3) := dk_180 0 11 (dk_at dksX0_goOnLayers_4 0 rfl rfl)
theorem dX0_goOnLayers_92 : decode cX0_goOnLayers 92 = .ok (.iload_n 2, 1) := dk_28 (dk_at dksX0_goOnLayers_4 3 rfl rfl)
theorem dX0_goOnLayers_93 : decode cX0_goOnLayers 93 = .ok (.aaload, 1) := dk_50 (dk_at dksX0_goOnLayers_4 4 rfl rfl)
theorem dX0_goOnLayers_94 : decode cX0_goOnLayers 94 = .ok (.getfield 135, 3) := dk_180 0 135 (dk_at dksX0_goOnLayers_4 5 rfl rfl)
theorem dX0_goOnLayers_97 : decode cX0_goOnLayers 97 = .ok (.iadd, 1) := dk_96 (dk_at dksX0_goOnLayers_4 8 rfl rfl)
theorem dX0_goOnLayers_98 : decode cX0_goOnLayers 98 = .ok (.dup2, 1) := dk_92 (dk_at dksX0_goOnLayers_4 9 rfl rfl)
theorem dX0_goOnLayers_99 : decode cX0_goOnLayers 99 = .ok (.laload, 1) := dk_47 (dk_at dksX0_goOnLayers_4 10 rfl rfl)
theorem dX0_goOnLayers_100 : decode cX0_goOnLayers 100 = .ok (.aload_n 0, 1) := dk_42 (dk_at dksX0_goOnLayers_4 11 rfl rfl)
theorem dX0_goOnLayers_101 : decode cX0_goOnLayers 101 = .ok (.getfield 48, 3) := dk_180 0 48 (dk_at dksX0_goOnLayers_4 12 rfl rfl)
theorem dX0_goOnLayers_104 : decode cX0_goOnLayers 104 = .ok (.iload_n 1, 1) := dk_27 (dk_at dksX0_goOnLayers_4 15 rfl rfl)
theorem dX0_goOnLayers_105 : decode cX0_goOnLayers 105 = .ok (.laload, 1) := dk_47 (dk_at dksX0_goOnLayers_4 16 rfl rfl)
theorem dX0_goOnLayers_106 : decode cX0_goOnLayers 106 = .ok (.ladd, 1) := dk_97 (dk_at dksX0_goOnLayers_4 17 rfl rfl)
theorem dX0_goOnLayers_107 : decode cX0_goOnLayers 107 = .ok (.lastore, 1) := dk_80 (dk_at dksX0_goOnLayers_4 18 rfl rfl)
theorem dX0_goOnLayers_108 : decode cX0_goOnLayers 108 = .ok (.iinc 2 1, 3) := dk_132 2 1 (dk_at dksX0_goOnLayers_4 19 rfl rfl)
theorem dX0_goOnLayers_111 : decode cX0_goOnLayers 111 = .ok (.goto (-72), 3) := dk_167 255 184 (dk_at dksX0_goOnLayers_5 0 rfl rfl)
theorem dX0_goOnLayers_114 : decode cX0_goOnLayers 114 = .ok (.iinc 1 1, 3) := dk_132 1 1 (dk_at dksX0_goOnLayers_5 3 rfl rfl)
theorem dX0_goOnLayers_117 : decode cX0_goOnLayers 117 = .ok (.goto (-90), 3) := dk_167 255 166 (dk_at dksX0_goOnLayers_5 6 rfl rfl)
theorem dX0_goOnLayers_120 : decode cX0_goOnLayers 120 = .ok (.aload_n 0, 1) := dk_42 (dk_at dksX0_goOnLayers_5 9 rfl rfl)
theorem dX0_goOnLayers_121 : decode cX0_goOnLayers 121 = .ok (.getfield 48, 3) := dk_180 0 48 (dk_at dksX0_goOnLayers_5 10 rfl rfl)
theorem dX0_goOnLayers_124 : decode cX0_goOnLayers 124 = .ok (.astore_n 1, 1) := dk_76 (dk_at dksX0_goOnLayers_5 13 rfl rfl)
theorem dX0_goOnLayers_125 : decode cX0_goOnLayers 125 = .ok (.aload_n 0, 1) := dk_42 (dk_at dksX0_goOnLayers_5 14 rfl rfl)
theorem dX0_goOnLayers_126 : decode cX0_goOnLayers 126 = .ok (.aload_n 0, 1) := dk_42 (dk_at dksX0_goOnLayers_5 15 rfl rfl)
theorem dX0_goOnLayers_127 : decode cX0_goOnLayers 127 = .ok (.getfield 51, 3) := dk_180 0 51 (dk_at dksX0_goOnLayers_5 16 rfl rfl)
theorem dX0_goOnLayers_130 : decode cX0_goOnLayers 130 = .ok (.putfield 48, 3) := dk_181 0 48 (dk_at dksX0_goOnLayers_5 19 rfl rfl)
theorem dX0_goOnLayers_133 : decode cX0_goOnLayers 133 = .ok (.aload_n 0, 1) := dk_42 (dk_at dksX0_goOnLayers_5 22 rfl rfl)
theorem dX0_goOnLayers_134 : decode cX0_goOnLayers 134 = .ok (.aload_n 1, 1) := dk_43 (dk_at dksX0_goOnLayers_5 23 rfl rfl)
theorem dX0_goOnLayers_135 : decode cX0_goOnLayers 135 = .ok (.putfield 51, 3) := dk_181 0 51 (dk_at dksX0_goOnLayers_6 0 rfl rfl)
theorem dX0_goOnLayers_138 : decode cX0_goOnLayers 138 = .ok (.return_, 1) := dk_177 (dk_at dksX0_goOnLayers_6 3 rfl rfl)
abbrev cX0_word : ByteArray := prog_1_method_45_code
def yX0_word : MethodName := ⟨RX0, "word", "(II)I"⟩
def dkwX0_word_4 : List UInt8 := [180, 0, 18, 180, 0, 104, 182, 1, 5, 172, 45, 184, 1, 44, 172, 16, 254, 172]
abbrev dktX0_word_4 : List UInt8 := dkwX0_word_4 ++ []
def dkwX0_word_3 : List UInt8 := [180, 0, 119, 27, 122, 4, 126, 172, 42, 45, 182, 1, 37, 172, 42, 45, 182, 1, 41, 172, 45, 42]
abbrev dktX0_word_3 : List UInt8 := dkwX0_word_3 ++ dktX0_word_4
def dkwX0_word_2 : List UInt8 := [45, 180, 0, 210, 172, 45, 180, 0, 135, 172, 42, 180, 0, 18, 180, 0, 156, 27, 46, 172, 42, 180, 0, 18]
abbrev dktX0_word_2 : List UInt8 := dkwX0_word_2 ++ dktX0_word_3
def dkwX0_word_1 : List UInt8 := [170, 0, 0, 0, 0, 107, 0, 0, 0, 0, 0, 0, 0, 7, 0, 0, 0, 46, 0, 0, 0, 51, 0, 0, 0, 56, 0, 0, 0, 66, 0, 0, 0, 78, 0, 0, 0, 84, 0, 0, 0, 90, 0, 0, 0, 102]
abbrev dktX0_word_1 : List UInt8 := dkwX0_word_1 ++ dktX0_word_2
def dkwX0_word_0 : List UInt8 := [42, 27, 182, 1, 34, 154, 0, 5, 2, 172, 42, 180, 0, 11, 27, 50, 78, 28]
abbrev dktX0_word_0 : List UInt8 := dkwX0_word_0 ++ dktX0_word_1
theorem dksX0_word_0 : cX0_word.data.toList.drop 0 = dktX0_word_0 := by decide +kernel
theorem dksX0_word_1 : cX0_word.data.toList.drop 18 = dktX0_word_1 := dk_seg dksX0_word_0 18 rfl rfl
theorem dksX0_word_2 : cX0_word.data.toList.drop 64 = dktX0_word_2 := dk_seg dksX0_word_1 46 rfl rfl
theorem dksX0_word_3 : cX0_word.data.toList.drop 88 = dktX0_word_3 := dk_seg dksX0_word_2 24 rfl rfl
theorem dksX0_word_4 : cX0_word.data.toList.drop 110 = dktX0_word_4 := dk_seg dksX0_word_3 22 rfl rfl
theorem dX0_word_0 : decode cX0_word 0 = .ok (.aload_n 0, 1) := dk_42 (dk_at dksX0_word_0 0 rfl rfl)
theorem dX0_word_1 : decode cX0_word 1 = .ok (.iload_n 1, 1) := dk_27 (dk_at dksX0_word_0 1 rfl rfl)
theorem dX0_word_2 : decode cX0_word 2 = .ok (.invokevirtual 290, 3) := dk_182 1 34 (dk_at dksX0_word_0 2 rfl rfl)
theorem dX0_word_5 : decode cX0_word 5 = .ok (.ifCond .ne 5, 3) := dk_154 0 5 (dk_at dksX0_word_0 5 rfl rfl)
theorem dX0_word_8 : decode cX0_word 8 = .ok (.iconst (-1), 1) := dk_2 (dk_at dksX0_word_0 8 rfl rfl)
theorem dX0_word_9 : decode cX0_word 9 = .ok (.ireturn, 1) := dk_172 (dk_at dksX0_word_0 9 rfl rfl)
theorem dX0_word_10 : decode cX0_word 10 = .ok (.aload_n 0, 1) := dk_42 (dk_at dksX0_word_0 10 rfl rfl)
theorem dX0_word_11 : decode cX0_word 11 = .ok (.getfield 11, 3) := dk_180 0 11 (dk_at dksX0_word_0 11 rfl rfl)
theorem dX0_word_14 : decode cX0_word 14 = .ok (.iload_n 1, 1) := dk_27 (dk_at dksX0_word_0 14 rfl rfl)
theorem dX0_word_15 : decode cX0_word 15 = .ok (.aaload, 1) := dk_50 (dk_at dksX0_word_0 15 rfl rfl)
theorem dX0_word_16 : decode cX0_word 16 = .ok (.astore_n 3, 1) := dk_78 (dk_at dksX0_word_0 16 rfl rfl)
theorem dX0_word_17 : decode cX0_word 17 = .ok (.iload_n 2, 1) := dk_28 (dk_at dksX0_word_0 17 rfl rfl)
theorem dX0_word_18 : decode cX0_word 18 = .ok (.tableswitch 107 0 7 #[46, 51, 56, 66, 78, 84, 90, 102], 46) := by decide +kernel
theorem dX0_word_64 : decode cX0_word 64 = .ok (.aload_n 3, 1) := dk_45 (dk_at dksX0_word_2 0 rfl rfl)
theorem dX0_word_65 : decode cX0_word 65 = .ok (.getfield 210, 3) := dk_180 0 210 (dk_at dksX0_word_2 1 rfl rfl)
theorem dX0_word_68 : decode cX0_word 68 = .ok (.ireturn, 1) := dk_172 (dk_at dksX0_word_2 4 rfl rfl)
theorem dX0_word_69 : decode cX0_word 69 = .ok (.aload_n 3, 1) := dk_45 (dk_at dksX0_word_2 5 rfl rfl)
theorem dX0_word_70 : decode cX0_word 70 = .ok (.getfield 135, 3) := dk_180 0 135 (dk_at dksX0_word_2 6 rfl rfl)
theorem dX0_word_73 : decode cX0_word 73 = .ok (.ireturn, 1) := dk_172 (dk_at dksX0_word_2 9 rfl rfl)
theorem dX0_word_74 : decode cX0_word 74 = .ok (.aload_n 0, 1) := dk_42 (dk_at dksX0_word_2 10 rfl rfl)
theorem dX0_word_75 : decode cX0_word 75 = .ok (.getfield 18, 3) := dk_180 0 18 (dk_at dksX0_word_2 11 rfl rfl)
theorem dX0_word_78 : decode cX0_word 78 = .ok (.getfield 156, 3) := dk_180 0 156 (dk_at dksX0_word_2 14 rfl rfl)
theorem dX0_word_81 : decode cX0_word 81 = .ok (.iload_n 1, 1) := dk_27 (dk_at dksX0_word_2 17 rfl rfl)
theorem dX0_word_82 : decode cX0_word 82 = .ok (.iaload, 1) := dk_46 (dk_at dksX0_word_2 18 rfl rfl)
theorem dX0_word_83 : decode cX0_word 83 = .ok (.ireturn, 1) := dk_172 (dk_at dksX0_word_2 19 rfl rfl)
theorem dX0_word_84 : decode cX0_word 84 = .ok (.aload_n 0, 1) := dk_42 (dk_at dksX0_word_2 20 rfl rfl)
theorem dX0_word_85 : decode cX0_word 85 = .ok (.getfield 18, 3) := dk_180 0 18 (dk_at dksX0_word_2 21 rfl rfl)
theorem dX0_word_88 : decode cX0_word 88 = .ok (.getfield 119, 3) := dk_180 0 119 (dk_at dksX0_word_3 0 rfl rfl)
theorem dX0_word_91 : decode cX0_word 91 = .ok (.iload_n 1, 1) := dk_27 (dk_at dksX0_word_3 3 rfl rfl)
theorem dX0_word_92 : decode cX0_word 92 = .ok (.ishr, 1) := dk_122 (dk_at dksX0_word_3 4 rfl rfl)
theorem dX0_word_93 : decode cX0_word 93 = .ok (.iconst 1, 1) := dk_4 (dk_at dksX0_word_3 5 rfl rfl)
theorem dX0_word_94 : decode cX0_word 94 = .ok (.iand, 1) := dk_126 (dk_at dksX0_word_3 6 rfl rfl)
theorem dX0_word_95 : decode cX0_word 95 = .ok (.ireturn, 1) := dk_172 (dk_at dksX0_word_3 7 rfl rfl)
theorem dX0_word_96 : decode cX0_word 96 = .ok (.aload_n 0, 1) := dk_42 (dk_at dksX0_word_3 8 rfl rfl)
theorem dX0_word_97 : decode cX0_word 97 = .ok (.aload_n 3, 1) := dk_45 (dk_at dksX0_word_3 9 rfl rfl)
theorem dX0_word_98 : decode cX0_word 98 = .ok (.invokevirtual 293, 3) := dk_182 1 37 (dk_at dksX0_word_3 10 rfl rfl)
theorem dX0_word_101 : decode cX0_word 101 = .ok (.ireturn, 1) := dk_172 (dk_at dksX0_word_3 13 rfl rfl)
theorem dX0_word_102 : decode cX0_word 102 = .ok (.aload_n 0, 1) := dk_42 (dk_at dksX0_word_3 14 rfl rfl)
theorem dX0_word_103 : decode cX0_word 103 = .ok (.aload_n 3, 1) := dk_45 (dk_at dksX0_word_3 15 rfl rfl)
theorem dX0_word_104 : decode cX0_word 104 = .ok (.invokevirtual 297, 3) := dk_182 1 41 (dk_at dksX0_word_3 16 rfl rfl)
theorem dX0_word_107 : decode cX0_word 107 = .ok (.ireturn, 1) := dk_172 (dk_at dksX0_word_3 19 rfl rfl)
theorem dX0_word_108 : decode cX0_word 108 = .ok (.aload_n 3, 1) := dk_45 (dk_at dksX0_word_3 20 rfl rfl)
theorem dX0_word_109 : decode cX0_word 109 = .ok (.aload_n 0, 1) := dk_42 (dk_at dksX0_word_3 21 rfl rfl)
theorem dX0_word_110 : decode cX0_word 110 = .ok (.getfield 18, 3) := dk_180 0 18 (dk_at dksX0_word_4 0 rfl rfl)
theorem dX0_word_113 : decode cX0_word 113 = .ok (.getfield 104, 3) := dk_180 0 104 (dk_at dksX0_word_4 3 rfl rfl)
theorem dX0_word_116 : decode cX0_word 116 = .ok (.invokevirtual 261, 3) := dk_182 1 5 (dk_at dksX0_word_4 6 rfl rfl)
theorem dX0_word_119 : decode cX0_word 119 = .ok (.ireturn, 1) := dk_172 (dk_at dksX0_word_4 9 rfl rfl)
theorem dX0_word_120 : decode cX0_word 120 = .ok (.aload_n 3, 1) := dk_45 (dk_at dksX0_word_4 10 rfl rfl)
theorem dX0_word_121 : decode cX0_word 121 = .ok (.invokestatic 300, 3) := dk_184 1 44 (dk_at dksX0_word_4 11 rfl rfl)
theorem dX0_word_124 : decode cX0_word 124 = .ok (.ireturn, 1) := dk_172 (dk_at dksX0_word_4 14 rfl rfl)
theorem dX0_word_125 : decode cX0_word 125 = .ok (.bipush (-2), 2) := dk_16 254 (dk_at dksX0_word_4 15 rfl rfl)
theorem dX0_word_127 : decode cX0_word 127 = .ok (.ireturn, 1) := dk_172 (dk_at dksX0_word_4 17 rfl rfl)
abbrev cX0_isWord : ByteArray := prog_1_method_35_code
def yX0_isWord : MethodName := ⟨RX0, "isWord", "(I)Z"⟩
def dkwX0_isWord_0 : List UInt8 := [27, 133, 9, 42, 180, 0, 109, 4, 100, 133, 184, 0, 190, 172]
abbrev dktX0_isWord_0 : List UInt8 := dkwX0_isWord_0 ++ []
theorem dksX0_isWord_0 : cX0_isWord.data.toList.drop 0 = dktX0_isWord_0 := by decide +kernel
theorem dX0_isWord_0 : decode cX0_isWord 0 = .ok (.iload_n 1, 1) := dk_27 (dk_at dksX0_isWord_0 0 rfl rfl)
theorem dX0_isWord_1 : decode cX0_isWord 1 = .ok (.i2l, 1) := dk_133 (dk_at dksX0_isWord_0 1 rfl rfl)
theorem dX0_isWord_2 : decode cX0_isWord 2 = .ok (.lconst 0, 1) := dk_9 (dk_at dksX0_isWord_0 2 rfl rfl)
theorem dX0_isWord_3 : decode cX0_isWord 3 = .ok (.aload_n 0, 1) := dk_42 (dk_at dksX0_isWord_0 3 rfl rfl)
theorem dX0_isWord_4 : decode cX0_isWord 4 = .ok (.getfield 109, 3) := dk_180 0 109 (dk_at dksX0_isWord_0 4 rfl rfl)
theorem dX0_isWord_7 : decode cX0_isWord 7 = .ok (.iconst 1, 1) := dk_4 (dk_at dksX0_isWord_0 7 rfl rfl)
theorem dX0_isWord_8 : decode cX0_isWord 8 = .ok (.isub, 1) := dk_100 (dk_at dksX0_isWord_0 8 rfl rfl)
theorem dX0_isWord_9 : decode cX0_isWord 9 = .ok (.i2l, 1) := dk_133 (dk_at dksX0_isWord_0 9 rfl rfl)
theorem dX0_isWord_10 : decode cX0_isWord 10 = .ok (.invokestatic 190, 3) := dk_184 0 190 (dk_at dksX0_isWord_0 10 rfl rfl)
theorem dX0_isWord_13 : decode cX0_isWord 13 = .ok (.ireturn, 1) := dk_172 (dk_at dksX0_isWord_0 13 rfl rfl)
abbrev cX0_rarest : ByteArray := prog_1_method_42_code
def yX0_rarest : MethodName := ⟨RX0, "rarest", "(LBagPhrases$Word;)I"⟩
def dkwX0_rarest_2 : List UInt8 := [132, 3, 255, 167, 255, 215, 28, 172]
abbrev dktX0_rarest_2 : List UInt8 := dkwX0_rarest_2 ++ []
def dkwX0_rarest_1 : List UInt8 := [159, 0, 16, 42, 29, 182, 1, 27, 42, 28, 182, 1, 27, 163, 0, 7, 29, 167, 0, 4, 28, 61]
abbrev dktX0_rarest_1 : List UInt8 := dkwX0_rarest_1 ++ dktX0_rarest_2
def dkwX0_rarest_0 : List UInt8 := [16, 247, 61, 16, 7, 62, 29, 155, 0, 43, 43, 180, 0, 112, 29, 46, 158, 0, 26, 28, 16, 247]
abbrev dktX0_rarest_0 : List UInt8 := dkwX0_rarest_0 ++ dktX0_rarest_1
theorem dksX0_rarest_0 : cX0_rarest.data.toList.drop 0 = dktX0_rarest_0 := by decide +kernel
theorem dksX0_rarest_1 : cX0_rarest.data.toList.drop 22 = dktX0_rarest_1 := dk_seg dksX0_rarest_0 22 rfl rfl
theorem dksX0_rarest_2 : cX0_rarest.data.toList.drop 44 = dktX0_rarest_2 := dk_seg dksX0_rarest_1 22 rfl rfl
theorem dX0_rarest_0 : decode cX0_rarest 0 = .ok (.bipush (-9), 2) := dk_16 247 (dk_at dksX0_rarest_0 0 rfl rfl)
theorem dX0_rarest_2 : decode cX0_rarest 2 = .ok (.istore_n 2, 1) := dk_61 (dk_at dksX0_rarest_0 2 rfl rfl)
theorem dX0_rarest_3 : decode cX0_rarest 3 = .ok (.bipush 7, 2) := dk_16 7 (dk_at dksX0_rarest_0 3 rfl rfl)
theorem dX0_rarest_5 : decode cX0_rarest 5 = .ok (.istore_n 3, 1) := dk_62 (dk_at dksX0_rarest_0 5 rfl rfl)
theorem dX0_rarest_6 : decode cX0_rarest 6 = .ok (.iload_n 3, 1) := dk_29 (dk_at dksX0_rarest_0 6 rfl rfl)
theorem dX0_rarest_7 : decode cX0_rarest 7 = .ok (.ifCond .lt 43, 3) := dk_155 0 43 (dk_at dksX0_rarest_0 7 rfl rfl)
theorem dX0_rarest_10 : decode cX0_rarest 10 = .ok (.aload_n 1, 1) := dk_43 (dk_at dksX0_rarest_0 10 rfl rfl)
theorem dX0_rarest_11 : decode cX0_rarest 11 = .ok (.getfield 112, 3) := dk_180 0 112 (dk_at dksX0_rarest_0 11 rfl rfl)
theorem dX0_rarest_14 : decode cX0_rarest 14 = .ok (.iload_n 3, 1) := dk_29 (dk_at dksX0_rarest_0 14 rfl rfl)
theorem dX0_rarest_15 : decode cX0_rarest 15 = .ok (.iaload, 1) := dk_46 (dk_at dksX0_rarest_0 15 rfl rfl)
theorem dX0_rarest_16 : decode cX0_rarest 16 = .ok (.ifCond .le 26, 3) := dk_158 0 26 (dk_at dksX0_rarest_0 16 rfl rfl)
theorem dX0_rarest_19 : decode cX0_rarest 19 = .ok (.iload_n 2, 1) := dk_28 (dk_at dksX0_rarest_0 19 rfl rfl)
theorem dX0_rarest_20 : decode cX0_rarest 20 = .ok (.bipush (-9), 2) := dk_16 247 (dk_at dksX0_rarest_0 20 rfl rfl)
theorem dX0_rarest_22 : decode cX0_rarest 22 = .ok (.if_icmp .eq 16, 3) := dk_159 0 16 (dk_at dksX0_rarest_1 0 rfl rfl)
theorem dX0_rarest_25 : decode cX0_rarest 25 = .ok (.aload_n 0, 1) := dk_42 (dk_at dksX0_rarest_1 3 rfl rfl)
theorem dX0_rarest_26 : decode cX0_rarest 26 = .ok (.iload_n 3, 1) := dk_29 (dk_at dksX0_rarest_1 4 rfl rfl)
theorem dX0_rarest_27 : decode cX0_rarest 27 = .ok (.invokevirtual 283, 3) := dk_182 1 27 (dk_at dksX0_rarest_1 5 rfl rfl)
theorem dX0_rarest_30 : decode cX0_rarest 30 = .ok (.aload_n 0, 1) := dk_42 (dk_at dksX0_rarest_1 8 rfl rfl)
theorem dX0_rarest_31 : decode cX0_rarest 31 = .ok (.iload_n 2, 1) := dk_28 (dk_at dksX0_rarest_1 9 rfl rfl)
theorem dX0_rarest_32 : decode cX0_rarest 32 = .ok (.invokevirtual 283, 3) := dk_182 1 27 (dk_at dksX0_rarest_1 10 rfl rfl)
theorem dX0_rarest_35 : decode cX0_rarest 35 = .ok (.if_icmp .gt 7, 3) := dk_163 0 7 (dk_at dksX0_rarest_1 13 rfl rfl)
theorem dX0_rarest_38 : decode cX0_rarest 38 = .ok (.iload_n 3, 1) := dk_29 (dk_at dksX0_rarest_1 16 rfl rfl)
theorem dX0_rarest_39 : decode cX0_rarest 39 = .ok (.goto 4, 3) := dk_167 0 4 (dk_at dksX0_rarest_1 17 rfl rfl)
theorem dX0_rarest_42 : decode cX0_rarest 42 = .ok (.iload_n 2, 1) := dk_28 (dk_at dksX0_rarest_1 20 rfl rfl)
theorem dX0_rarest_43 : decode cX0_rarest 43 = .ok (.istore_n 2, 1) := dk_61 (dk_at dksX0_rarest_1 21 rfl rfl)
theorem dX0_rarest_44 : decode cX0_rarest 44 = .ok (.iinc 3 (-1), 3) := dk_132 3 255 (dk_at dksX0_rarest_2 0 rfl rfl)
theorem dX0_rarest_47 : decode cX0_rarest 47 = .ok (.goto (-41), 3) := dk_167 255 215 (dk_at dksX0_rarest_2 3 rfl rfl)
theorem dX0_rarest_50 : decode cX0_rarest 50 = .ok (.iload_n 2, 1) := dk_28 (dk_at dksX0_rarest_2 6 rfl rfl)
theorem dX0_rarest_51 : decode cX0_rarest 51 = .ok (.ireturn, 1) := dk_172 (dk_at dksX0_rarest_2 7 rfl rfl)
abbrev cX0_wordsWith : ByteArray := prog_1_method_41_code
def yX0_wordsWith : MethodName := ⟨RX0, "wordsWith", "(I)I"⟩
def dkwX0_wordsWith_1 : List UInt8 := [158, 0, 7, 4, 167, 0, 4, 3, 96, 61, 132, 3, 1, 167, 255, 223, 28, 172]
abbrev dktX0_wordsWith_1 : List UInt8 := dkwX0_wordsWith_1 ++ []
def dkwX0_wordsWith_0 : List UInt8 := [3, 61, 3, 62, 29, 42, 180, 0, 109, 162, 0, 31, 28, 42, 180, 0, 11, 29, 50, 180, 0, 112, 27, 46]
abbrev dktX0_wordsWith_0 : List UInt8 := dkwX0_wordsWith_0 ++ dktX0_wordsWith_1
theorem dksX0_wordsWith_0 : cX0_wordsWith.data.toList.drop 0 = dktX0_wordsWith_0 := by decide +kernel
theorem dksX0_wordsWith_1 : cX0_wordsWith.data.toList.drop 24 = dktX0_wordsWith_1 := dk_seg dksX0_wordsWith_0 24 rfl rfl
theorem dX0_wordsWith_0 : decode cX0_wordsWith 0 = .ok (.iconst 0, 1) := dk_3 (dk_at dksX0_wordsWith_0 0 rfl rfl)
theorem dX0_wordsWith_1 : decode cX0_wordsWith 1 = .ok (.istore_n 2, 1) := dk_61 (dk_at dksX0_wordsWith_0 1 rfl rfl)
theorem dX0_wordsWith_2 : decode cX0_wordsWith 2 = .ok (.iconst 0, 1) := dk_3 (dk_at dksX0_wordsWith_0 2 rfl rfl)
theorem dX0_wordsWith_3 : decode cX0_wordsWith 3 = .ok (.istore_n 3, 1) := dk_62 (dk_at dksX0_wordsWith_0 3 rfl rfl)
theorem dX0_wordsWith_4 : decode cX0_wordsWith 4 = .ok (.iload_n 3, 1) := dk_29 (dk_at dksX0_wordsWith_0 4 rfl rfl)
theorem dX0_wordsWith_5 : decode cX0_wordsWith 5 = .ok (.aload_n 0, 1) := dk_42 (dk_at dksX0_wordsWith_0 5 rfl rfl)
theorem dX0_wordsWith_6 : decode cX0_wordsWith 6 = .ok (.getfield 109, 3) := dk_180 0 109 (dk_at dksX0_wordsWith_0 6 rfl rfl)
theorem dX0_wordsWith_9 : decode cX0_wordsWith 9 = .ok (.if_icmp .ge 31, 3) := dk_162 0 31 (dk_at dksX0_wordsWith_0 9 rfl rfl)
theorem dX0_wordsWith_12 : decode cX0_wordsWith 12 = .ok (.iload_n 2, 1) := dk_28 (dk_at dksX0_wordsWith_0 12 rfl rfl)
theorem dX0_wordsWith_13 : decode cX0_wordsWith 13 = .ok (.aload_n 0, 1) := dk_42 (dk_at dksX0_wordsWith_0 13 rfl rfl)
theorem dX0_wordsWith_14 : decode cX0_wordsWith 14 = .ok (.getfield 11, 3) := dk_180 0 11 (dk_at dksX0_wordsWith_0 14 rfl rfl)
theorem dX0_wordsWith_17 : decode cX0_wordsWith 17 = .ok (.iload_n 3, 1) := dk_29 (dk_at dksX0_wordsWith_0 17 rfl rfl)
theorem dX0_wordsWith_18 : decode cX0_wordsWith 18 = .ok (.aaload, 1) := dk_50 (dk_at dksX0_wordsWith_0 18 rfl rfl)
theorem dX0_wordsWith_19 : decode cX0_wordsWith 19 = .ok (.getfield 112, 3) := dk_180 0 112 (dk_at dksX0_wordsWith_0 19 rfl rfl)
theorem dX0_wordsWith_22 : decode cX0_wordsWith 22 = .ok (.iload_n 1, 1) := dk_27 (dk_at dksX0_wordsWith_0 22 rfl rfl)
theorem dX0_wordsWith_23 : decode cX0_wordsWith 23 = .ok (.iaload, 1) := dk_46 (dk_at dksX0_wordsWith_0 23 rfl rfl)
theorem dX0_wordsWith_24 : decode cX0_wordsWith 24 = .ok (.ifCond .le 7, 3) := dk_158 0 7 (dk_at dksX0_wordsWith_1 0 rfl rfl)
theorem dX0_wordsWith_27 : decode cX0_wordsWith 27 = .ok (.iconst 1, 1) := dk_4 (dk_at dksX0_wordsWith_1 3 rfl rfl)
theorem dX0_wordsWith_28 : decode cX0_wordsWith 28 = .ok (.goto 4, 3) := dk_167 0 4 (dk_at dksX0_wordsWith_1 4 rfl rfl)
theorem dX0_wordsWith_31 : decode cX0_wordsWith 31 = .ok (.iconst 0, 1) := dk_3 (dk_at dksX0_wordsWith_1 7 rfl rfl)
theorem dX0_wordsWith_32 : decode cX0_wordsWith 32 = .ok (.iadd, 1) := dk_96 (dk_at dksX0_wordsWith_1 8 rfl rfl)
theorem dX0_wordsWith_33 : decode cX0_wordsWith 33 = .ok (.istore_n 2, 1) := dk_61 (dk_at dksX0_wordsWith_1 9 rfl rfl)
theorem dX0_wordsWith_34 : decode cX0_wordsWith 34 = .ok (.iinc 3 1, 3) := dk_132 3 1 (dk_at dksX0_wordsWith_1 10 rfl rfl)
theorem dX0_wordsWith_37 : decode cX0_wordsWith 37 = .ok (.goto (-33), 3) := dk_167 255 223 (dk_at dksX0_wordsWith_1 13 rfl rfl)
theorem dX0_wordsWith_40 : decode cX0_wordsWith 40 = .ok (.iload_n 2, 1) := dk_28 (dk_at dksX0_wordsWith_1 16 rfl rfl)
theorem dX0_wordsWith_41 : decode cX0_wordsWith 41 = .ok (.ireturn, 1) := dk_172 (dk_at dksX0_wordsWith_1 17 rfl rfl)
abbrev cX0_twins : ByteArray := prog_1_method_43_code
def yX0_twins : MethodName := ⟨RX0, "twins", "(LBagPhrases$Word;)I"⟩
def dkwX0_twins_1 : List UInt8 := [153, 0, 7, 4, 167, 0, 4, 3, 96, 61, 132, 3, 1, 167, 255, 224, 28, 172]
abbrev dktX0_twins_1 : List UInt8 := dkwX0_twins_1 ++ []
def dkwX0_twins_0 : List UInt8 := [3, 61, 3, 62, 29, 42, 180, 0, 109, 162, 0, 30, 28, 42, 180, 0, 11, 29, 50, 43, 182, 1, 30]
abbrev dktX0_twins_0 : List UInt8 := dkwX0_twins_0 ++ dktX0_twins_1
theorem dksX0_twins_0 : cX0_twins.data.toList.drop 0 = dktX0_twins_0 := by decide +kernel
theorem dksX0_twins_1 : cX0_twins.data.toList.drop 23 = dktX0_twins_1 := dk_seg dksX0_twins_0 23 rfl rfl
theorem dX0_twins_0 : decode cX0_twins 0 = .ok (.iconst 0, 1) := dk_3 (dk_at dksX0_twins_0 0 rfl rfl)
theorem dX0_twins_1 : decode cX0_twins 1 = .ok (.istore_n 2, 1) := dk_61 (dk_at dksX0_twins_0 1 rfl rfl)
theorem dX0_twins_2 : decode cX0_twins 2 = .ok (.iconst 0, 1) := dk_3 (dk_at dksX0_twins_0 2 rfl rfl)
theorem dX0_twins_3 : decode cX0_twins 3 = .ok (.istore_n 3, 1) := dk_62 (dk_at dksX0_twins_0 3 rfl rfl)
theorem dX0_twins_4 : decode cX0_twins 4 = .ok (.iload_n 3, 1) := dk_29 (dk_at dksX0_twins_0 4 rfl rfl)
theorem dX0_twins_5 : decode cX0_twins 5 = .ok (.aload_n 0, 1) := dk_42 (dk_at dksX0_twins_0 5 rfl rfl)
theorem dX0_twins_6 : decode cX0_twins 6 = .ok (.getfield 109, 3) := dk_180 0 109 (dk_at dksX0_twins_0 6 rfl rfl)
theorem dX0_twins_9 : decode cX0_twins 9 = .ok (.if_icmp .ge 30, 3) := dk_162 0 30 (dk_at dksX0_twins_0 9 rfl rfl)
theorem dX0_twins_12 : decode cX0_twins 12 = .ok (.iload_n 2, 1) := dk_28 (dk_at dksX0_twins_0 12 rfl rfl)
theorem dX0_twins_13 : decode cX0_twins 13 = .ok (.aload_n 0, 1) := dk_42 (dk_at dksX0_twins_0 13 rfl rfl)
theorem dX0_twins_14 : decode cX0_twins 14 = .ok (.getfield 11, 3) := dk_180 0 11 (dk_at dksX0_twins_0 14 rfl rfl)
theorem dX0_twins_17 : decode cX0_twins 17 = .ok (.iload_n 3, 1) := dk_29 (dk_at dksX0_twins_0 17 rfl rfl)
theorem dX0_twins_18 : decode cX0_twins 18 = .ok (.aaload, 1) := dk_50 (dk_at dksX0_twins_0 18 rfl rfl)
theorem dX0_twins_19 : decode cX0_twins 19 = .ok (.aload_n 1, 1) := dk_43 (dk_at dksX0_twins_0 19 rfl rfl)
theorem dX0_twins_20 : decode cX0_twins 20 = .ok (.invokevirtual 286, 3) := dk_182 1 30 (dk_at dksX0_twins_0 20 rfl rfl)
theorem dX0_twins_23 : decode cX0_twins 23 = .ok (.ifCond .eq 7, 3) := dk_153 0 7 (dk_at dksX0_twins_1 0 rfl rfl)
theorem dX0_twins_26 : decode cX0_twins 26 = .ok (.iconst 1, 1) := dk_4 (dk_at dksX0_twins_1 3 rfl rfl)
theorem dX0_twins_27 : decode cX0_twins 27 = .ok (.goto 4, 3) := dk_167 0 4 (dk_at dksX0_twins_1 4 rfl rfl)
theorem dX0_twins_30 : decode cX0_twins 30 = .ok (.iconst 0, 1) := dk_3 (dk_at dksX0_twins_1 7 rfl rfl)
theorem dX0_twins_31 : decode cX0_twins 31 = .ok (.iadd, 1) := dk_96 (dk_at dksX0_twins_1 8 rfl rfl)
theorem dX0_twins_32 : decode cX0_twins 32 = .ok (.istore_n 2, 1) := dk_61 (dk_at dksX0_twins_1 9 rfl rfl)
theorem dX0_twins_33 : decode cX0_twins 33 = .ok (.iinc 3 1, 3) := dk_132 3 1 (dk_at dksX0_twins_1 10 rfl rfl)
theorem dX0_twins_36 : decode cX0_twins 36 = .ok (.goto (-32), 3) := dk_167 255 224 (dk_at dksX0_twins_1 13 rfl rfl)
theorem dX0_twins_39 : decode cX0_twins 39 = .ok (.iload_n 2, 1) := dk_28 (dk_at dksX0_twins_1 16 rfl rfl)
theorem dX0_twins_40 : decode cX0_twins 40 = .ok (.ireturn, 1) := dk_172 (dk_at dksX0_twins_1 17 rfl rfl)
abbrev cX0_lettersOf : ByteArray := prog_1_method_44_code
def yX0_lettersOf : MethodName := ⟨RX0, "lettersOf", "(LBagPhrases$Word;)I"⟩
def dkwX0_lettersOf_1 : List UInt8 := [167, 0, 4, 3, 128, 60, 132, 2, 1, 167, 255, 228, 27, 172]
abbrev dktX0_lettersOf_1 : List UInt8 := dkwX0_lettersOf_1 ++ []
def dkwX0_lettersOf_0 : List UInt8 := [3, 60, 3, 61, 28, 16, 8, 162, 0, 28, 27, 42, 180, 0, 112, 28, 46, 158, 0, 9, 4, 28, 120]
abbrev dktX0_lettersOf_0 : List UInt8 := dkwX0_lettersOf_0 ++ dktX0_lettersOf_1
theorem dksX0_lettersOf_0 : cX0_lettersOf.data.toList.drop 0 = dktX0_lettersOf_0 := by decide +kernel
theorem dksX0_lettersOf_1 : cX0_lettersOf.data.toList.drop 23 = dktX0_lettersOf_1 := dk_seg dksX0_lettersOf_0 23 rfl rfl
theorem dX0_lettersOf_0 : decode cX0_lettersOf 0 = .ok (.iconst 0, 1) := dk_3 (dk_at dksX0_lettersOf_0 0 rfl rfl)
theorem dX0_lettersOf_1 : decode cX0_lettersOf 1 = .ok (.istore_n 1, 1) := dk_60 (dk_at dksX0_lettersOf_0 1 rfl rfl)
theorem dX0_lettersOf_2 : decode cX0_lettersOf 2 = .ok (.iconst 0, 1) := dk_3 (dk_at dksX0_lettersOf_0 2 rfl rfl)
theorem dX0_lettersOf_3 : decode cX0_lettersOf 3 = .ok (.istore_n 2, 1) := dk_61 (dk_at dksX0_lettersOf_0 3 rfl rfl)
theorem dX0_lettersOf_4 : decode cX0_lettersOf 4 = .ok (.iload_n 2, 1) := dk_28 (dk_at dksX0_lettersOf_0 4 rfl rfl)
theorem dX0_lettersOf_5 : decode cX0_lettersOf 5 = .ok (.bipush 8, 2) := dk_16 8 (dk_at dksX0_lettersOf_0 5 rfl rfl)
theorem dX0_lettersOf_7 : decode cX0_lettersOf 7 = .ok (.if_icmp .ge 28, 3) := dk_162 0 28 (dk_at dksX0_lettersOf_0 7 rfl rfl)
theorem dX0_lettersOf_10 : decode cX0_lettersOf 10 = .ok (.iload_n 1, 1) := dk_27 (dk_at dksX0_lettersOf_0 10 rfl rfl)
theorem dX0_lettersOf_11 : decode cX0_lettersOf 11 = .ok (.aload_n 0, 1) := dk_42 (dk_at dksX0_lettersOf_0 11 rfl rfl)
theorem dX0_lettersOf_12 : decode cX0_lettersOf 12 = .ok (.getfield 112, 3) := dk_180 0 112 (dk_at dksX0_lettersOf_0 12 rfl rfl)
theorem dX0_lettersOf_15 : decode cX0_lettersOf 15 = .ok (.iload_n 2, 1) := dk_28 (dk_at dksX0_lettersOf_0 15 rfl rfl)
theorem dX0_lettersOf_16 : decode cX0_lettersOf 16 = .ok (.iaload, 1) := dk_46 (dk_at dksX0_lettersOf_0 16 rfl rfl)
theorem dX0_lettersOf_17 : decode cX0_lettersOf 17 = .ok (.ifCond .le 9, 3) := dk_158 0 9 (dk_at dksX0_lettersOf_0 17 rfl rfl)
theorem dX0_lettersOf_20 : decode cX0_lettersOf 20 = .ok (.iconst 1, 1) := dk_4 (dk_at dksX0_lettersOf_0 20 rfl rfl)
theorem dX0_lettersOf_21 : decode cX0_lettersOf 21 = .ok (.iload_n 2, 1) := dk_28 (dk_at dksX0_lettersOf_0 21 rfl rfl)
theorem dX0_lettersOf_22 : decode cX0_lettersOf 22 = .ok (.ishl, 1) := dk_120 (dk_at dksX0_lettersOf_0 22 rfl rfl)
theorem dX0_lettersOf_23 : decode cX0_lettersOf 23 = .ok (.goto 4, 3) := dk_167 0 4 (dk_at dksX0_lettersOf_1 0 rfl rfl)
theorem dX0_lettersOf_26 : decode cX0_lettersOf 26 = .ok (.iconst 0, 1) := dk_3 (dk_at dksX0_lettersOf_1 3 rfl rfl)
theorem dX0_lettersOf_27 : decode cX0_lettersOf 27 = .ok (.ior, 1) := dk_128 (dk_at dksX0_lettersOf_1 4 rfl rfl)
theorem dX0_lettersOf_28 : decode cX0_lettersOf 28 = .ok (.istore_n 1, 1) := dk_60 (dk_at dksX0_lettersOf_1 5 rfl rfl)
theorem dX0_lettersOf_29 : decode cX0_lettersOf 29 = .ok (.iinc 2 1, 3) := dk_132 2 1 (dk_at dksX0_lettersOf_1 6 rfl rfl)
theorem dX0_lettersOf_32 : decode cX0_lettersOf 32 = .ok (.goto (-28), 3) := dk_167 255 228 (dk_at dksX0_lettersOf_1 9 rfl rfl)
theorem dX0_lettersOf_35 : decode cX0_lettersOf 35 = .ok (.iload_n 1, 1) := dk_27 (dk_at dksX0_lettersOf_1 12 rfl rfl)
theorem dX0_lettersOf_36 : decode cX0_lettersOf 36 = .ok (.ireturn, 1) := dk_172 (dk_at dksX0_lettersOf_1 13 rfl rfl)
abbrev cX0_letter : ByteArray := prog_1_method_46_code
def yX0_letter : MethodName := ⟨RX0, "letter", "(II)I"⟩
def dkwX0_letter_3 : List UInt8 := [46, 172, 16, 254, 172]
abbrev dktX0_letter_3 : List UInt8 := dkwX0_letter_3 ++ []
def dkwX0_letter_2 : List UInt8 := [42, 180, 0, 18, 180, 0, 104, 27, 46, 172, 42, 27, 182, 1, 27, 172, 42, 180, 0, 18, 180, 0, 132, 27]
abbrev dktX0_letter_2 : List UInt8 := dkwX0_letter_2 ++ dktX0_letter_3
def dkwX0_letter_1 : List UInt8 := [170, 0, 0, 0, 0, 52, 0, 0, 0, 0, 0, 0, 0, 2, 0, 0, 0, 26, 0, 0, 0, 36, 0, 0, 0, 42]
abbrev dktX0_letter_1 : List UInt8 := dkwX0_letter_1 ++ dktX0_letter_2
def dkwX0_letter_0 : List UInt8 := [27, 184, 1, 47, 153, 0, 15, 28, 5, 160, 0, 12, 27, 184, 1, 50, 154, 0, 5, 2, 172, 28]
abbrev dktX0_letter_0 : List UInt8 := dkwX0_letter_0 ++ dktX0_letter_1
theorem dksX0_letter_0 : cX0_letter.data.toList.drop 0 = dktX0_letter_0 := by decide +kernel
theorem dksX0_letter_1 : cX0_letter.data.toList.drop 22 = dktX0_letter_1 := dk_seg dksX0_letter_0 22 rfl rfl
theorem dksX0_letter_2 : cX0_letter.data.toList.drop 48 = dktX0_letter_2 := dk_seg dksX0_letter_1 26 rfl rfl
theorem dksX0_letter_3 : cX0_letter.data.toList.drop 72 = dktX0_letter_3 := dk_seg dksX0_letter_2 24 rfl rfl
theorem dX0_letter_0 : decode cX0_letter 0 = .ok (.iload_n 1, 1) := dk_27 (dk_at dksX0_letter_0 0 rfl rfl)
theorem dX0_letter_1 : decode cX0_letter 1 = .ok (.invokestatic 303, 3) := dk_184 1 47 (dk_at dksX0_letter_0 1 rfl rfl)
theorem dX0_letter_4 : decode cX0_letter 4 = .ok (.ifCond .eq 15, 3) := dk_153 0 15 (dk_at dksX0_letter_0 4 rfl rfl)
theorem dX0_letter_7 : decode cX0_letter 7 = .ok (.iload_n 2, 1) := dk_28 (dk_at dksX0_letter_0 7 rfl rfl)
theorem dX0_letter_8 : decode cX0_letter 8 = .ok (.iconst 2, 1) := dk_5 (dk_at dksX0_letter_0 8 rfl rfl)
theorem dX0_letter_9 : decode cX0_letter 9 = .ok (.if_icmp .ne 12, 3) := dk_160 0 12 (dk_at dksX0_letter_0 9 rfl rfl)
theorem dX0_letter_12 : decode cX0_letter 12 = .ok (.iload_n 1, 1) := dk_27 (dk_at dksX0_letter_0 12 rfl rfl)
theorem dX0_letter_13 : decode cX0_letter 13 = .ok (.invokestatic 306, 3) := dk_184 1 50 (dk_at dksX0_letter_0 13 rfl rfl)
theorem dX0_letter_16 : decode cX0_letter 16 = .ok (.ifCond .ne 5, 3) := dk_154 0 5 (dk_at dksX0_letter_0 16 rfl rfl)
theorem dX0_letter_19 : decode cX0_letter 19 = .ok (.iconst (-1), 1) := dk_2 (dk_at dksX0_letter_0 19 rfl rfl)
theorem dX0_letter_20 : decode cX0_letter 20 = .ok (.ireturn, 1) := dk_172 (dk_at dksX0_letter_0 20 rfl rfl)
theorem dX0_letter_21 : decode cX0_letter 21 = .ok (.iload_n 2, 1) := dk_28 (dk_at dksX0_letter_0 21 rfl rfl)
theorem dX0_letter_22 : decode cX0_letter 22 = .ok (.tableswitch 52 0 2 #[26, 36, 42], 26) := by decide +kernel
theorem dX0_letter_48 : decode cX0_letter 48 = .ok (.aload_n 0, 1) := dk_42 (dk_at dksX0_letter_2 0 rfl rfl)
theorem dX0_letter_49 : decode cX0_letter 49 = .ok (.getfield 18, 3) := dk_180 0 18 (dk_at dksX0_letter_2 1 rfl rfl)
theorem dX0_letter_52 : decode cX0_letter 52 = .ok (.getfield 104, 3) := dk_180 0 104 (dk_at dksX0_letter_2 4 rfl rfl)
theorem dX0_letter_55 : decode cX0_letter 55 = .ok (.iload_n 1, 1) := dk_27 (dk_at dksX0_letter_2 7 rfl rfl)
theorem dX0_letter_56 : decode cX0_letter 56 = .ok (.iaload, 1) := dk_46 (dk_at dksX0_letter_2 8 rfl rfl)
theorem dX0_letter_57 : decode cX0_letter 57 = .ok (.ireturn, 1) := dk_172 (dk_at dksX0_letter_2 9 rfl rfl)
theorem dX0_letter_58 : decode cX0_letter 58 = .ok (.aload_n 0, 1) := dk_42 (dk_at dksX0_letter_2 10 rfl rfl)
theorem dX0_letter_59 : decode cX0_letter 59 = .ok (.iload_n 1, 1) := dk_27 (dk_at dksX0_letter_2 11 rfl rfl)
theorem dX0_letter_60 : decode cX0_letter 60 = .ok (.invokevirtual 283, 3) := dk_182 1 27 (dk_at dksX0_letter_2 12 rfl rfl)
theorem dX0_letter_63 : decode cX0_letter 63 = .ok (.ireturn, 1) := dk_172 (dk_at dksX0_letter_2 15 rfl rfl)
theorem dX0_letter_64 : decode cX0_letter 64 = .ok (.aload_n 0, 1) := dk_42 (dk_at dksX0_letter_2 16 rfl rfl)
theorem dX0_letter_65 : decode cX0_letter 65 = .ok (.getfield 18, 3) := dk_180 0 18 (dk_at dksX0_letter_2 17 rfl rfl)
theorem dX0_letter_68 : decode cX0_letter 68 = .ok (.getfield 132, 3) := dk_180 0 132 (dk_at dksX0_letter_2 20 rfl rfl)
theorem dX0_letter_71 : decode cX0_letter 71 = .ok (.iload_n 1, 1) := dk_27 (dk_at dksX0_letter_2 23 rfl rfl)
theorem dX0_letter_72 : decode cX0_letter 72 = .ok (.iaload, 1) := dk_46 (dk_at dksX0_letter_3 0 rfl rfl)
theorem dX0_letter_73 : decode cX0_letter 73 = .ok (.ireturn, 1) := dk_172 (dk_at dksX0_letter_3 1 rfl rfl)
theorem dX0_letter_74 : decode cX0_letter 74 = .ok (.bipush (-2), 2) := dk_16 254 (dk_at dksX0_letter_3 2 rfl rfl)
theorem dX0_letter_76 : decode cX0_letter 76 = .ok (.ireturn, 1) := dk_172 (dk_at dksX0_letter_3 4 rfl rfl)
abbrev cX0_isLetter : ByteArray := prog_1_method_36_code
def yX0_isLetter : MethodName := ⟨RX0, "isLetter", "(I)Z"⟩
def dkwX0_isLetter_0 : List UInt8 := [26, 133, 9, 20, 1, 1, 184, 0, 190, 172]
abbrev dktX0_isLetter_0 : List UInt8 := dkwX0_isLetter_0 ++ []
theorem dksX0_isLetter_0 : cX0_isLetter.data.toList.drop 0 = dktX0_isLetter_0 := by decide +kernel
theorem dX0_isLetter_0 : decode cX0_isLetter 0 = .ok (.iload_n 0, 1) := dk_26 (dk_at dksX0_isLetter_0 0 rfl rfl)
theorem dX0_isLetter_1 : decode cX0_isLetter 1 = .ok (.i2l, 1) := dk_133 (dk_at dksX0_isLetter_0 1 rfl rfl)
theorem dX0_isLetter_2 : decode cX0_isLetter 2 = .ok (.lconst 0, 1) := dk_9 (dk_at dksX0_isLetter_0 2 rfl rfl)
theorem dX0_isLetter_3 : decode cX0_isLetter 3 = .ok (.ldc2_w 257, 3) := dk_20 1 1 (dk_at dksX0_isLetter_0 3 rfl rfl)
theorem dX0_isLetter_6 : decode cX0_isLetter 6 = .ok (.invokestatic 190, 3) := dk_184 0 190 (dk_at dksX0_isLetter_0 6 rfl rfl)
theorem dX0_isLetter_9 : decode cX0_isLetter 9 = .ok (.ireturn, 1) := dk_172 (dk_at dksX0_isLetter_0 9 rfl rfl)
abbrev cX0_isKind : ByteArray := prog_1_method_37_code
def yX0_isKind : MethodName := ⟨RX0, "isKind", "(I)Z"⟩
def dkwX0_isKind_0 : List UInt8 := [26, 133, 9, 20, 1, 3, 184, 0, 190, 172]
abbrev dktX0_isKind_0 : List UInt8 := dkwX0_isKind_0 ++ []
theorem dksX0_isKind_0 : cX0_isKind.data.toList.drop 0 = dktX0_isKind_0 := by decide +kernel
theorem dX0_isKind_0 : decode cX0_isKind 0 = .ok (.iload_n 0, 1) := dk_26 (dk_at dksX0_isKind_0 0 rfl rfl)
theorem dX0_isKind_1 : decode cX0_isKind 1 = .ok (.i2l, 1) := dk_133 (dk_at dksX0_isKind_0 1 rfl rfl)
theorem dX0_isKind_2 : decode cX0_isKind 2 = .ok (.lconst 0, 1) := dk_9 (dk_at dksX0_isKind_0 2 rfl rfl)
theorem dX0_isKind_3 : decode cX0_isKind 3 = .ok (.ldc2_w 259, 3) := dk_20 1 3 (dk_at dksX0_isKind_0 3 rfl rfl)
theorem dX0_isKind_6 : decode cX0_isKind 6 = .ok (.invokestatic 190, 3) := dk_184 0 190 (dk_at dksX0_isKind_0 6 rfl rfl)
theorem dX0_isKind_9 : decode cX0_isKind 9 = .ok (.ireturn, 1) := dk_172 (dk_at dksX0_isKind_0 9 rfl rfl)
abbrev cX0_put : ByteArray := prog_1_method_49_code
def yX0_put : MethodName := ⟨RX0, "put", "(I)I"⟩
def dkwX0_put_2 : List UInt8 := [172]
abbrev dktX0_put_2 : List UInt8 := dkwX0_put_2 ++ []
def dkwX0_put_1 : List UInt8 := [42, 182, 1, 58, 42, 180, 0, 18, 180, 0, 104, 27, 92, 46, 4, 96, 79, 42, 180, 0, 18, 182, 0, 215]
abbrev dktX0_put_1 : List UInt8 := dkwX0_put_1 ++ dktX0_put_2
def dkwX0_put_0 : List UInt8 := [27, 184, 1, 47, 154, 0, 5, 2, 172, 42, 180, 0, 18, 182, 0, 215, 16, 12, 160, 0, 6, 16, 252, 172]
abbrev dktX0_put_0 : List UInt8 := dkwX0_put_0 ++ dktX0_put_1
theorem dksX0_put_0 : cX0_put.data.toList.drop 0 = dktX0_put_0 := by decide +kernel
theorem dksX0_put_1 : cX0_put.data.toList.drop 24 = dktX0_put_1 := dk_seg dksX0_put_0 24 rfl rfl
theorem dksX0_put_2 : cX0_put.data.toList.drop 48 = dktX0_put_2 := dk_seg dksX0_put_1 24 rfl rfl
theorem dX0_put_0 : decode cX0_put 0 = .ok (.iload_n 1, 1) := dk_27 (dk_at dksX0_put_0 0 rfl rfl)
theorem dX0_put_1 : decode cX0_put 1 = .ok (.invokestatic 303, 3) := dk_184 1 47 (dk_at dksX0_put_0 1 rfl rfl)
theorem dX0_put_4 : decode cX0_put 4 = .ok (.ifCond .ne 5, 3) := dk_154 0 5 (dk_at dksX0_put_0 4 rfl rfl)
theorem dX0_put_7 : decode cX0_put 7 = .ok (.iconst (-1), 1) := dk_2 (dk_at dksX0_put_0 7 rfl rfl)
theorem dX0_put_8 : decode cX0_put 8 = .ok (.ireturn, 1) := dk_172 (dk_at dksX0_put_0 8 rfl rfl)
theorem dX0_put_9 : decode cX0_put 9 = .ok (.aload_n 0, 1) := dk_42 (dk_at dksX0_put_0 9 rfl rfl)
theorem dX0_put_10 : decode cX0_put 10 = .ok (.getfield 18, 3) := dk_180 0 18 (dk_at dksX0_put_0 10 rfl rfl)
theorem dX0_put_13 : decode cX0_put 13 = .ok (.invokevirtual 215, 3) := dk_182 0 215 (dk_at dksX0_put_0 13 rfl rfl)
theorem dX0_put_16 : decode cX0_put 16 = .ok (.bipush 12, 2) := dk_16 12 (dk_at dksX0_put_0 16 rfl rfl)
theorem dX0_put_18 : decode cX0_put 18 = .ok (.if_icmp .ne 6, 3) := dk_160 0 6 (dk_at dksX0_put_0 18 rfl rfl)
theorem dX0_put_21 : decode cX0_put 21 = .ok (.bipush (-4), 2) := dk_16 252 (dk_at dksX0_put_0 21 rfl rfl)
theorem dX0_put_23 : decode cX0_put 23 = .ok (.ireturn, 1) := dk_172 (dk_at dksX0_put_0 23 rfl rfl)
theorem dX0_put_24 : decode cX0_put 24 = .ok (.aload_n 0, 1) := dk_42 (dk_at dksX0_put_1 0 rfl rfl)
theorem dX0_put_25 : decode cX0_put 25 = .ok (.invokevirtual 314, 3) := dk_182 1 58 (dk_at dksX0_put_1 1 rfl rfl)
theorem dX0_put_28 : decode cX0_put 28 = .ok (.aload_n 0, 1) := dk_42 (dk_at dksX0_put_1 4 rfl rfl)
theorem dX0_put_29 : decode cX0_put 29 = .ok (.getfield 18, 3) := dk_180 0 18 (dk_at dksX0_put_1 5 rfl rfl)
theorem dX0_put_32 : decode cX0_put 32 = .ok (.getfield 104, 3) := dk_180 0 104 (dk_at dksX0_put_1 8 rfl rfl)
theorem dX0_put_35 : decode cX0_put 35 = .ok (.iload_n 1, 1) := dk_27 (dk_at dksX0_put_1 11 rfl rfl)
theorem dX0_put_36 : decode cX0_put 36 = .ok (.dup2, 1) := dk_92 (dk_at dksX0_put_1 12 rfl rfl)
theorem dX0_put_37 : decode cX0_put 37 = .ok (.iaload, 1) := dk_46 (dk_at dksX0_put_1 13 rfl rfl)
theorem dX0_put_38 : decode cX0_put 38 = .ok (.iconst 1, 1) := dk_4 (dk_at dksX0_put_1 14 rfl rfl)
theorem dX0_put_39 : decode cX0_put 39 = .ok (.iadd, 1) := dk_96 (dk_at dksX0_put_1 15 rfl rfl)
theorem dX0_put_40 : decode cX0_put 40 = .ok (.iastore, 1) := dk_79 (dk_at dksX0_put_1 16 rfl rfl)
theorem dX0_put_41 : decode cX0_put 41 = .ok (.aload_n 0, 1) := dk_42 (dk_at dksX0_put_1 17 rfl rfl)
theorem dX0_put_42 : decode cX0_put 42 = .ok (.getfield 18, 3) := dk_180 0 18 (dk_at dksX0_put_1 18 rfl rfl)
theorem dX0_put_45 : decode cX0_put 45 = .ok (.invokevirtual 215, 3) := dk_182 0 215 (dk_at dksX0_put_1 21 rfl rfl)
theorem dX0_put_48 : decode cX0_put 48 = .ok (.ireturn, 1) := dk_172 (dk_at dksX0_put_2 0 rfl rfl)
abbrev cX0_act : ByteArray := prog_1_method_48_code
def yX0_act : MethodName := ⟨RX0, "act", "()V"⟩
def dkwX0_act_1 : List UInt8 := [16, 14, 112, 181, 1, 53, 42, 16, 14, 42, 180, 0, 251, 4, 96, 184, 1, 55, 181, 0, 251, 177]
abbrev dktX0_act_1 : List UInt8 := dkwX0_act_1 ++ []
def dkwX0_act_0 : List UInt8 := [42, 180, 0, 67, 42, 180, 1, 53, 50, 42, 180, 0, 18, 182, 0, 238, 42, 42, 180, 1, 53, 4, 96]
abbrev dktX0_act_0 : List UInt8 := dkwX0_act_0 ++ dktX0_act_1
theorem dksX0_act_0 : cX0_act.data.toList.drop 0 = dktX0_act_0 := by decide +kernel
theorem dksX0_act_1 : cX0_act.data.toList.drop 23 = dktX0_act_1 := dk_seg dksX0_act_0 23 rfl rfl
theorem dX0_act_0 : decode cX0_act 0 = .ok (.aload_n 0, 1) := dk_42 (dk_at dksX0_act_0 0 rfl rfl)
theorem dX0_act_1 : decode cX0_act 1 = .ok (.getfield 67, 3) := dk_180 0 67 (dk_at dksX0_act_0 1 rfl rfl)
theorem dX0_act_4 : decode cX0_act 4 = .ok (.aload_n 0, 1) := dk_42 (dk_at dksX0_act_0 4 rfl rfl)
theorem dX0_act_5 : decode cX0_act 5 = .ok (.getfield 309, 3) := dk_180 1 53 (dk_at dksX0_act_0 5 rfl rfl)
theorem dX0_act_8 : decode cX0_act 8 = .ok (.aaload, 1) := dk_50 (dk_at dksX0_act_0 8 rfl rfl)
theorem dX0_act_9 : decode cX0_act 9 = .ok (.aload_n 0, 1) := dk_42 (dk_at dksX0_act_0 9 rfl rfl)
theorem dX0_act_10 : decode cX0_act 10 = .ok (.getfield 18, 3) := dk_180 0 18 (dk_at dksX0_act_0 10 rfl rfl)
theorem dX0_act_13 : decode cX0_act 13 = .ok (.invokevirtual 238, 3) := dk_182 0 238 (dk_at dksX0_act_0 13 rfl rfl)
theorem dX0_act_16 : decode cX0_act 16 = .ok (.aload_n 0, 1) := dk_42 (dk_at dksX0_act_0 16 rfl rfl)
theorem dX0_act_17 : decode cX0_act 17 = .ok (.aload_n 0, 1) := dk_42 (dk_at dksX0_act_0 17 rfl rfl)
theorem dX0_act_18 : decode cX0_act 18 = .ok (.getfield 309, 3) := dk_180 1 53 (dk_at dksX0_act_0 18 rfl rfl)
theorem dX0_act_21 : decode cX0_act 21 = .ok (.iconst 1, 1) := dk_4 (dk_at dksX0_act_0 21 rfl rfl)
theorem dX0_act_22 : decode cX0_act 22 = .ok (.iadd, 1) := dk_96 (dk_at dksX0_act_0 22 rfl rfl)
theorem dX0_act_23 : decode cX0_act 23 = .ok (.bipush 14, 2) := dk_16 14 (dk_at dksX0_act_1 0 rfl rfl)
theorem dX0_act_25 : decode cX0_act 25 = .ok (.irem, 1) := dk_112 (dk_at dksX0_act_1 2 rfl rfl)
theorem dX0_act_26 : decode cX0_act 26 = .ok (.putfield 309, 3) := dk_181 1 53 (dk_at dksX0_act_1 3 rfl rfl)
theorem dX0_act_29 : decode cX0_act 29 = .ok (.aload_n 0, 1) := dk_42 (dk_at dksX0_act_1 6 rfl rfl)
theorem dX0_act_30 : decode cX0_act 30 = .ok (.bipush 14, 2) := dk_16 14 (dk_at dksX0_act_1 7 rfl rfl)
theorem dX0_act_32 : decode cX0_act 32 = .ok (.aload_n 0, 1) := dk_42 (dk_at dksX0_act_1 9 rfl rfl)
theorem dX0_act_33 : decode cX0_act 33 = .ok (.getfield 251, 3) := dk_180 0 251 (dk_at dksX0_act_1 10 rfl rfl)
theorem dX0_act_36 : decode cX0_act 36 = .ok (.iconst 1, 1) := dk_4 (dk_at dksX0_act_1 13 rfl rfl)
theorem dX0_act_37 : decode cX0_act 37 = .ok (.iadd, 1) := dk_96 (dk_at dksX0_act_1 14 rfl rfl)
theorem dX0_act_38 : decode cX0_act 38 = .ok (.invokestatic 311, 3) := dk_184 1 55 (dk_at dksX0_act_1 15 rfl rfl)
theorem dX0_act_41 : decode cX0_act 41 = .ok (.putfield 251, 3) := dk_181 0 251 (dk_at dksX0_act_1 18 rfl rfl)
theorem dX0_act_44 : decode cX0_act 44 = .ok (.return_, 1) := dk_177 (dk_at dksX0_act_1 21 rfl rfl)
abbrev cX0_take : ByteArray := prog_1_method_50_code
def yX0_take : MethodName := ⟨RX0, "take", "(I)I"⟩
def dkwX0_take_2 : List UInt8 := [172]
abbrev dktX0_take_2 : List UInt8 := dkwX0_take_2 ++ []
def dkwX0_take_1 : List UInt8 := [42, 182, 1, 58, 42, 180, 0, 18, 180, 0, 104, 27, 92, 46, 4, 100, 79, 42, 180, 0, 18, 182, 0, 215]
abbrev dktX0_take_1 : List UInt8 := dkwX0_take_1 ++ dktX0_take_2
def dkwX0_take_0 : List UInt8 := [27, 184, 1, 47, 154, 0, 5, 2, 172, 42, 180, 0, 18, 180, 0, 104, 27, 46, 154, 0, 6, 16, 253, 172]
abbrev dktX0_take_0 : List UInt8 := dkwX0_take_0 ++ dktX0_take_1
theorem dksX0_take_0 : cX0_take.data.toList.drop 0 = dktX0_take_0 := by decide +kernel
theorem dksX0_take_1 : cX0_take.data.toList.drop 24 = dktX0_take_1 := dk_seg dksX0_take_0 24 rfl rfl
theorem dksX0_take_2 : cX0_take.data.toList.drop 48 = dktX0_take_2 := dk_seg dksX0_take_1 24 rfl rfl
theorem dX0_take_0 : decode cX0_take 0 = .ok (.iload_n 1, 1) := dk_27 (dk_at dksX0_take_0 0 rfl rfl)
theorem dX0_take_1 : decode cX0_take 1 = .ok (.invokestatic 303, 3) := dk_184 1 47 (dk_at dksX0_take_0 1 rfl rfl)
theorem dX0_take_4 : decode cX0_take 4 = .ok (.ifCond .ne 5, 3) := dk_154 0 5 (dk_at dksX0_take_0 4 rfl rfl)
theorem dX0_take_7 : decode cX0_take 7 = .ok (.iconst (-1), 1) := dk_2 (dk_at dksX0_take_0 7 rfl rfl)
theorem dX0_take_8 : decode cX0_take 8 = .ok (.ireturn, 1) := dk_172 (dk_at dksX0_take_0 8 rfl rfl)
theorem dX0_take_9 : decode cX0_take 9 = .ok (.aload_n 0, 1) := dk_42 (dk_at dksX0_take_0 9 rfl rfl)
theorem dX0_take_10 : decode cX0_take 10 = .ok (.getfield 18, 3) := dk_180 0 18 (dk_at dksX0_take_0 10 rfl rfl)
theorem dX0_take_13 : decode cX0_take 13 = .ok (.getfield 104, 3) := dk_180 0 104 (dk_at dksX0_take_0 13 rfl rfl)
theorem dX0_take_16 : decode cX0_take 16 = .ok (.iload_n 1, 1) := dk_27 (dk_at dksX0_take_0 16 rfl rfl)
theorem dX0_take_17 : decode cX0_take 17 = .ok (.iaload, 1) := dk_46 (dk_at dksX0_take_0 17 rfl rfl)
theorem dX0_take_18 : decode cX0_take 18 = .ok (.ifCond .ne 6, 3) := dk_154 0 6 (dk_at dksX0_take_0 18 rfl rfl)
theorem dX0_take_21 : decode cX0_take 21 = .ok (.bipush (-3), 2) := dk_16 253 (dk_at dksX0_take_0 21 rfl rfl)
theorem dX0_take_23 : decode cX0_take 23 = .ok (.ireturn, 1) := dk_172 (dk_at dksX0_take_0 23 rfl rfl)
theorem dX0_take_24 : decode cX0_take 24 = .ok (.aload_n 0, 1) := dk_42 (dk_at dksX0_take_1 0 rfl rfl)
theorem dX0_take_25 : decode cX0_take 25 = .ok (.invokevirtual 314, 3) := dk_182 1 58 (dk_at dksX0_take_1 1 rfl rfl)
theorem dX0_take_28 : decode cX0_take 28 = .ok (.aload_n 0, 1) := dk_42 (dk_at dksX0_take_1 4 rfl rfl)
theorem dX0_take_29 : decode cX0_take 29 = .ok (.getfield 18, 3) := dk_180 0 18 (dk_at dksX0_take_1 5 rfl rfl)
theorem dX0_take_32 : decode cX0_take 32 = .ok (.getfield 104, 3) := dk_180 0 104 (dk_at dksX0_take_1 8 rfl rfl)
theorem dX0_take_35 : decode cX0_take 35 = .ok (.iload_n 1, 1) := dk_27 (dk_at dksX0_take_1 11 rfl rfl)
theorem dX0_take_36 : decode cX0_take 36 = .ok (.dup2, 1) := dk_92 (dk_at dksX0_take_1 12 rfl rfl)
theorem dX0_take_37 : decode cX0_take 37 = .ok (.iaload, 1) := dk_46 (dk_at dksX0_take_1 13 rfl rfl)
theorem dX0_take_38 : decode cX0_take 38 = .ok (.iconst 1, 1) := dk_4 (dk_at dksX0_take_1 14 rfl rfl)
theorem dX0_take_39 : decode cX0_take 39 = .ok (.isub, 1) := dk_100 (dk_at dksX0_take_1 15 rfl rfl)
theorem dX0_take_40 : decode cX0_take 40 = .ok (.iastore, 1) := dk_79 (dk_at dksX0_take_1 16 rfl rfl)
theorem dX0_take_41 : decode cX0_take 41 = .ok (.aload_n 0, 1) := dk_42 (dk_at dksX0_take_1 17 rfl rfl)
theorem dX0_take_42 : decode cX0_take 42 = .ok (.getfield 18, 3) := dk_180 0 18 (dk_at dksX0_take_1 18 rfl rfl)
theorem dX0_take_45 : decode cX0_take 45 = .ok (.invokevirtual 215, 3) := dk_182 0 215 (dk_at dksX0_take_1 21 rfl rfl)
theorem dX0_take_48 : decode cX0_take 48 = .ok (.ireturn, 1) := dk_172 (dk_at dksX0_take_2 0 rfl rfl)
abbrev cX0_bar : ByteArray := prog_1_method_51_code
def yX0_bar : MethodName := ⟨RX0, "bar", "(I)I"⟩
def dkwX0_bar_1 : List UInt8 := [120, 130, 181, 0, 119, 42, 180, 0, 18, 180, 0, 119, 27, 122, 4, 126, 172]
abbrev dktX0_bar_1 : List UInt8 := dkwX0_bar_1 ++ []
def dkwX0_bar_0 : List UInt8 := [42, 27, 182, 1, 34, 154, 0, 5, 2, 172, 42, 182, 1, 58, 42, 180, 0, 18, 89, 180, 0, 119, 4, 27]
abbrev dktX0_bar_0 : List UInt8 := dkwX0_bar_0 ++ dktX0_bar_1
theorem dksX0_bar_0 : cX0_bar.data.toList.drop 0 = dktX0_bar_0 := by decide +kernel
theorem dksX0_bar_1 : cX0_bar.data.toList.drop 24 = dktX0_bar_1 := dk_seg dksX0_bar_0 24 rfl rfl
theorem dX0_bar_0 : decode cX0_bar 0 = .ok (.aload_n 0, 1) := dk_42 (dk_at dksX0_bar_0 0 rfl rfl)
theorem dX0_bar_1 : decode cX0_bar 1 = .ok (.iload_n 1, 1) := dk_27 (dk_at dksX0_bar_0 1 rfl rfl)
theorem dX0_bar_2 : decode cX0_bar 2 = .ok (.invokevirtual 290, 3) := dk_182 1 34 (dk_at dksX0_bar_0 2 rfl rfl)
theorem dX0_bar_5 : decode cX0_bar 5 = .ok (.ifCond .ne 5, 3) := dk_154 0 5 (dk_at dksX0_bar_0 5 rfl rfl)
theorem dX0_bar_8 : decode cX0_bar 8 = .ok (.iconst (-1), 1) := dk_2 (dk_at dksX0_bar_0 8 rfl rfl)
theorem dX0_bar_9 : decode cX0_bar 9 = .ok (.ireturn, 1) := dk_172 (dk_at dksX0_bar_0 9 rfl rfl)
theorem dX0_bar_10 : decode cX0_bar 10 = .ok (.aload_n 0, 1) := dk_42 (dk_at dksX0_bar_0 10 rfl rfl)
theorem dX0_bar_11 : decode cX0_bar 11 = .ok (.invokevirtual 314, 3) := dk_182 1 58 (dk_at dksX0_bar_0 11 rfl rfl)
theorem dX0_bar_14 : decode cX0_bar 14 = .ok (.aload_n 0, 1) := dk_42 (dk_at dksX0_bar_0 14 rfl rfl)
theorem dX0_bar_15 : decode cX0_bar 15 = .ok (.getfield 18, 3) := dk_180 0 18 (dk_at dksX0_bar_0 15 rfl rfl)
theorem dX0_bar_18 : decode cX0_bar 18 = .ok (.dup, 1) := dk_89 (dk_at dksX0_bar_0 18 rfl rfl)
theorem dX0_bar_19 : decode cX0_bar 19 = .ok (.getfield 119, 3) := dk_180 0 119 (dk_at dksX0_bar_0 19 rfl rfl)
theorem dX0_bar_22 : decode cX0_bar 22 = .ok (.iconst 1, 1) := dk_4 (dk_at dksX0_bar_0 22 rfl rfl)
theorem dX0_bar_23 : decode cX0_bar 23 = .ok (.iload_n 1, 1) := dk_27 (dk_at dksX0_bar_0 23 rfl rfl)
theorem dX0_bar_24 : decode cX0_bar 24 = .ok (.ishl, 1) := dk_120 (dk_at dksX0_bar_1 0 rfl rfl)
theorem dX0_bar_25 : decode cX0_bar 25 = .ok (.ixor, 1) := dk_130 (dk_at dksX0_bar_1 1 rfl rfl)
theorem dX0_bar_26 : decode cX0_bar 26 = .ok (.putfield 119, 3) := dk_181 0 119 (dk_at dksX0_bar_1 2 rfl rfl)
theorem dX0_bar_29 : decode cX0_bar 29 = .ok (.aload_n 0, 1) := dk_42 (dk_at dksX0_bar_1 5 rfl rfl)
theorem dX0_bar_30 : decode cX0_bar 30 = .ok (.getfield 18, 3) := dk_180 0 18 (dk_at dksX0_bar_1 6 rfl rfl)
theorem dX0_bar_33 : decode cX0_bar 33 = .ok (.getfield 119, 3) := dk_180 0 119 (dk_at dksX0_bar_1 9 rfl rfl)
theorem dX0_bar_36 : decode cX0_bar 36 = .ok (.iload_n 1, 1) := dk_27 (dk_at dksX0_bar_1 12 rfl rfl)
theorem dX0_bar_37 : decode cX0_bar 37 = .ok (.ishr, 1) := dk_122 (dk_at dksX0_bar_1 13 rfl rfl)
theorem dX0_bar_38 : decode cX0_bar 38 = .ok (.iconst 1, 1) := dk_4 (dk_at dksX0_bar_1 14 rfl rfl)
theorem dX0_bar_39 : decode cX0_bar 39 = .ok (.iand, 1) := dk_126 (dk_at dksX0_bar_1 15 rfl rfl)
theorem dX0_bar_40 : decode cX0_bar 40 = .ok (.ireturn, 1) := dk_172 (dk_at dksX0_bar_1 16 rfl rfl)
abbrev cX0_rank : ByteArray := prog_1_method_52_code
def yX0_rank : MethodName := ⟨RX0, "rank", "(II)I"⟩
def dkwX0_rank_2 : List UInt8 := [79, 29, 172]
abbrev dktX0_rank_2 : List UInt8 := dkwX0_rank_2 ++ []
def dkwX0_rank_1 : List UInt8 := [172, 42, 182, 1, 58, 42, 180, 0, 18, 180, 0, 156, 27, 46, 62, 42, 180, 0, 18, 180, 0, 156, 27, 28]
abbrev dktX0_rank_1 : List UInt8 := dkwX0_rank_1 ++ dktX0_rank_2
def dkwX0_rank_0 : List UInt8 := [42, 27, 182, 1, 34, 154, 0, 5, 2, 172, 28, 133, 9, 20, 1, 61, 184, 0, 190, 154, 0, 6, 16, 254]
abbrev dktX0_rank_0 : List UInt8 := dkwX0_rank_0 ++ dktX0_rank_1
theorem dksX0_rank_0 : cX0_rank.data.toList.drop 0 = dktX0_rank_0 := by decide +kernel
theorem dksX0_rank_1 : cX0_rank.data.toList.drop 24 = dktX0_rank_1 := dk_seg dksX0_rank_0 24 rfl rfl
theorem dksX0_rank_2 : cX0_rank.data.toList.drop 48 = dktX0_rank_2 := dk_seg dksX0_rank_1 24 rfl rfl
theorem dX0_rank_0 : decode cX0_rank 0 = .ok (.aload_n 0, 1) := dk_42 (dk_at dksX0_rank_0 0 rfl rfl)
theorem dX0_rank_1 : decode cX0_rank 1 = .ok (.iload_n 1, 1) := dk_27 (dk_at dksX0_rank_0 1 rfl rfl)
theorem dX0_rank_2 : decode cX0_rank 2 = .ok (.invokevirtual 290, 3) := dk_182 1 34 (dk_at dksX0_rank_0 2 rfl rfl)
theorem dX0_rank_5 : decode cX0_rank 5 = .ok (.ifCond .ne 5, 3) := dk_154 0 5 (dk_at dksX0_rank_0 5 rfl rfl)
theorem dX0_rank_8 : decode cX0_rank 8 = .ok (.iconst (-1), 1) := dk_2 (dk_at dksX0_rank_0 8 rfl rfl)
theorem dX0_rank_9 : decode cX0_rank 9 = .ok (.ireturn, 1) := dk_172 (dk_at dksX0_rank_0 9 rfl rfl)
theorem dX0_rank_10 : decode cX0_rank 10 = .ok (.iload_n 2, 1) := dk_28 (dk_at dksX0_rank_0 10 rfl rfl)
theorem dX0_rank_11 : decode cX0_rank 11 = .ok (.i2l, 1) := dk_133 (dk_at dksX0_rank_0 11 rfl rfl)
theorem dX0_rank_12 : decode cX0_rank 12 = .ok (.lconst 0, 1) := dk_9 (dk_at dksX0_rank_0 12 rfl rfl)
theorem dX0_rank_13 : decode cX0_rank 13 = .ok (.ldc2_w 317, 3) := dk_20 1 61 (dk_at dksX0_rank_0 13 rfl rfl)
theorem dX0_rank_16 : decode cX0_rank 16 = .ok (.invokestatic 190, 3) := dk_184 0 190 (dk_at dksX0_rank_0 16 rfl rfl)
theorem dX0_rank_19 : decode cX0_rank 19 = .ok (.ifCond .ne 6, 3) := dk_154 0 6 (dk_at dksX0_rank_0 19 rfl rfl)
theorem dX0_rank_22 : decode cX0_rank 22 = .ok (.bipush (-2), 2) := dk_16 254 (dk_at dksX0_rank_0 22 rfl rfl)
theorem dX0_rank_24 : decode cX0_rank 24 = .ok (.ireturn, 1) := dk_172 (dk_at dksX0_rank_1 0 rfl rfl)
theorem dX0_rank_25 : decode cX0_rank 25 = .ok (.aload_n 0, 1) := dk_42 (dk_at dksX0_rank_1 1 rfl rfl)
theorem dX0_rank_26 : decode cX0_rank 26 = .ok (.invokevirtual 314, 3) := dk_182 1 58 (dk_at dksX0_rank_1 2 rfl rfl)
theorem dX0_rank_29 : decode cX0_rank 29 = .ok (.aload_n 0, 1) := dk_42 (dk_at dksX0_rank_1 5 rfl rfl)
theorem dX0_rank_30 : decode cX0_rank 30 = .ok (.getfield 18, 3) := dk_180 0 18 (dk_at dksX0_rank_1 6 rfl rfl)
theorem dX0_rank_33 : decode cX0_rank 33 = .ok (.getfield 156, 3) := dk_180 0 156 (dk_at dksX0_rank_1 9 rfl rfl)
theorem dX0_rank_36 : decode cX0_rank 36 = .ok (.iload_n 1, 1) := dk_27 (dk_at dksX0_rank_1 12 rfl rfl)
theorem dX0_rank_37 : decode cX0_rank 37 = .ok (.iaload, 1) := dk_46 (dk_at dksX0_rank_1 13 rfl rfl)
theorem dX0_rank_38 : decode cX0_rank 38 = .ok (.istore_n 3, 1) := dk_62 (dk_at dksX0_rank_1 14 rfl rfl)
theorem dX0_rank_39 : decode cX0_rank 39 = .ok (.aload_n 0, 1) := dk_42 (dk_at dksX0_rank_1 15 rfl rfl)
theorem dX0_rank_40 : decode cX0_rank 40 = .ok (.getfield 18, 3) := dk_180 0 18 (dk_at dksX0_rank_1 16 rfl rfl)
theorem dX0_rank_43 : decode cX0_rank 43 = .ok (.getfield 156, 3) := dk_180 0 156 (dk_at dksX0_rank_1 19 rfl rfl)
theorem dX0_rank_46 : decode cX0_rank 46 = .ok (.iload_n 1, 1) := dk_27 (dk_at dksX0_rank_1 22 rfl rfl)
theorem dX0_rank_47 : decode cX0_rank 47 = .ok (.iload_n 2, 1) := dk_28 (dk_at dksX0_rank_1 23 rfl rfl)
theorem dX0_rank_48 : decode cX0_rank 48 = .ok (.iastore, 1) := dk_79 (dk_at dksX0_rank_2 0 rfl rfl)
theorem dX0_rank_49 : decode cX0_rank 49 = .ok (.iload_n 3, 1) := dk_29 (dk_at dksX0_rank_2 1 rfl rfl)
theorem dX0_rank_50 : decode cX0_rank 50 = .ok (.ireturn, 1) := dk_172 (dk_at dksX0_rank_2 2 rfl rfl)
abbrev cX0_allow : ByteArray := prog_1_method_53_code
def yX0_allow : MethodName := ⟨RX0, "allow", "(III)I"⟩
def dkwX0_allow_7 : List UInt8 := [126, 172]
abbrev dktX0_allow_7 : List UInt8 := dkwX0_allow_7 ++ []
def dkwX0_allow_6 : List UInt8 := [180, 0, 18, 180, 0, 132, 28, 46, 54, 4, 21, 4, 27, 5, 160, 0, 7, 29, 167, 0, 4, 28, 122, 4]
abbrev dktX0_allow_6 : List UInt8 := dkwX0_allow_6 ++ dktX0_allow_7
def dkwX0_allow_5 : List UInt8 := [180, 0, 129, 167, 0, 27, 27, 4, 160, 0, 13, 42, 180, 0, 18, 180, 0, 138, 167, 0, 12, 42]
abbrev dktX0_allow_5 : List UInt8 := dkwX0_allow_5 ++ dktX0_allow_6
def dkwX0_allow_4 : List UInt8 := [27, 5, 160, 0, 9, 4, 29, 120, 167, 0, 4, 3, 130, 79, 27, 154, 0, 13, 42, 180, 0, 18]
abbrev dktX0_allow_4 : List UInt8 := dkwX0_allow_4 ++ dktX0_allow_5
def dkwX0_allow_3 : List UInt8 := [160, 0, 9, 4, 28, 120, 167, 0, 4, 3, 130, 181, 0, 138, 42, 180, 0, 18, 180, 0, 132, 28, 92, 46]
abbrev dktX0_allow_3 : List UInt8 := dkwX0_allow_3 ++ dktX0_allow_4
def dkwX0_allow_2 : List UInt8 := [154, 0, 9, 4, 28, 120, 167, 0, 4, 3, 130, 181, 0, 129, 42, 180, 0, 18, 89, 180, 0, 138, 27, 4]
abbrev dktX0_allow_2 : List UInt8 := dkwX0_allow_2 ++ dktX0_allow_3
def dkwX0_allow_1 : List UInt8 := [184, 0, 190, 154, 0, 6, 16, 254, 172, 42, 182, 1, 58, 42, 180, 0, 18, 89, 180, 0, 129, 27]
abbrev dktX0_allow_1 : List UInt8 := dkwX0_allow_1 ++ dktX0_allow_2
def dkwX0_allow_0 : List UInt8 := [28, 184, 1, 50, 153, 0, 10, 29, 184, 1, 50, 154, 0, 5, 2, 172, 27, 133, 9, 20, 1, 63]
abbrev dktX0_allow_0 : List UInt8 := dkwX0_allow_0 ++ dktX0_allow_1
theorem dksX0_allow_0 : cX0_allow.data.toList.drop 0 = dktX0_allow_0 := by decide +kernel
theorem dksX0_allow_1 : cX0_allow.data.toList.drop 22 = dktX0_allow_1 := dk_seg dksX0_allow_0 22 rfl rfl
theorem dksX0_allow_2 : cX0_allow.data.toList.drop 44 = dktX0_allow_2 := dk_seg dksX0_allow_1 22 rfl rfl
theorem dksX0_allow_3 : cX0_allow.data.toList.drop 68 = dktX0_allow_3 := dk_seg dksX0_allow_2 24 rfl rfl
theorem dksX0_allow_4 : cX0_allow.data.toList.drop 92 = dktX0_allow_4 := dk_seg dksX0_allow_3 24 rfl rfl
theorem dksX0_allow_5 : cX0_allow.data.toList.drop 114 = dktX0_allow_5 := dk_seg dksX0_allow_4 22 rfl rfl
theorem dksX0_allow_6 : cX0_allow.data.toList.drop 136 = dktX0_allow_6 := dk_seg dksX0_allow_5 22 rfl rfl
theorem dksX0_allow_7 : cX0_allow.data.toList.drop 160 = dktX0_allow_7 := dk_seg dksX0_allow_6 24 rfl rfl
theorem dX0_allow_0 : decode cX0_allow 0 = .ok (.iload_n 2, 1) := dk_28 (dk_at dksX0_allow_0 0 rfl rfl)
theorem dX0_allow_1 : decode cX0_allow 1 = .ok (.invokestatic 306, 3) := dk_184 1 50 (dk_at dksX0_allow_0 1 rfl rfl)
theorem dX0_allow_4 : decode cX0_allow 4 = .ok (.ifCond .eq 10, 3) := dk_153 0 10 (dk_at dksX0_allow_0 4 rfl rfl)
theorem dX0_allow_7 : decode cX0_allow 7 = .ok (.iload_n 3, 1) := dk_29 (dk_at dksX0_allow_0 7 rfl rfl)
theorem dX0_allow_8 : decode cX0_allow 8 = .ok (.invokestatic 306, 3) := dk_184 1 50 (dk_at dksX0_allow_0 8 rfl rfl)
theorem dX0_allow_11 : decode cX0_allow 11 = .ok (.ifCond .ne 5, 3) := dk_154 0 5 (dk_at dksX0_allow_0 11 rfl rfl)
theorem dX0_allow_14 : decode cX0_allow 14 = .ok (.iconst (-1), 1) := dk_2 (dk_at dksX0_allow_0 14 rfl rfl)
theorem dX0_allow_15 : decode cX0_allow 15 = .ok (.ireturn, 1) := dk_172 (dk_at dksX0_allow_0 15 rfl rfl)
theorem dX0_allow_16 : decode cX0_allow 16 = .ok (.iload_n 1, 1) := dk_27 (dk_at dksX0_allow_0 16 rfl rfl)
theorem dX0_allow_17 : decode cX0_allow 17 = .ok (.i2l, 1) := dk_133 (dk_at dksX0_allow_0 17 rfl rfl)
theorem dX0_allow_18 : decode cX0_allow 18 = .ok (.lconst 0, 1) := dk_9 (dk_at dksX0_allow_0 18 rfl rfl)
theorem dX0_allow_19 : decode cX0_allow 19 = .ok (.ldc2_w 319, 3) := dk_20 1 63 (dk_at dksX0_allow_0 19 rfl rfl)
theorem dX0_allow_22 : decode cX0_allow 22 = .ok (.invokestatic 190, 3) := dk_184 0 190 (dk_at dksX0_allow_1 0 rfl rfl)
theorem dX0_allow_25 : decode cX0_allow 25 = .ok (.ifCond .ne 6, 3) := dk_154 0 6 (dk_at dksX0_allow_1 3 rfl rfl)
theorem dX0_allow_28 : decode cX0_allow 28 = .ok (.bipush (-2), 2) := dk_16 254 (dk_at dksX0_allow_1 6 rfl rfl)
theorem dX0_allow_30 : decode cX0_allow 30 = .ok (.ireturn, 1) := dk_172 (dk_at dksX0_allow_1 8 rfl rfl)
theorem dX0_allow_31 : decode cX0_allow 31 = .ok (.aload_n 0, 1) := dk_42 (dk_at dksX0_allow_1 9 rfl rfl)
theorem dX0_allow_32 : decode cX0_allow 32 = .ok (.invokevirtual 314, 3) := dk_182 1 58 (dk_at dksX0_allow_1 10 rfl rfl)
theorem dX0_allow_35 : decode cX0_allow 35 = .ok (.aload_n 0, 1) := dk_42 (dk_at dksX0_allow_1 13 rfl rfl)
theorem dX0_allow_36 : decode cX0_allow 36 = .ok (.getfield 18, 3) := dk_180 0 18 (dk_at dksX0_allow_1 14 rfl rfl)
theorem dX0_allow_39 : decode cX0_allow 39 = .ok (.dup, 1) := dk_89 (dk_at dksX0_allow_1 17 rfl rfl)
theorem dX0_allow_40 : decode cX0_allow 40 = .ok (.getfield 129, 3) := dk_180 0 129 (dk_at dksX0_allow_1 18 rfl rfl)
theorem dX0_allow_43 : decode cX0_allow 43 = .ok (.iload_n 1, 1) := dk_27 (dk_at dksX0_allow_1 21 rfl rfl)
theorem dX0_allow_44 : decode cX0_allow 44 = .ok (.ifCond .ne 9, 3) := dk_154 0 9 (dk_at dksX0_allow_2 0 rfl rfl)
theorem dX0_allow_47 : decode cX0_allow 47 = .ok (.iconst 1, 1) := dk_4 (dk_at dksX0_allow_2 3 rfl rfl)
theorem dX0_allow_48 : decode cX0_allow 48 = .ok (.iload_n 2, 1) := dk_28 (dk_at dksX0_allow_2 4 rfl rfl)
theorem dX0_allow_49 : decode cX0_allow 49 = .ok (.ishl, 1) := dk_120 (dk_at dksX0_allow_2 5 rfl rfl)
theorem dX0_allow_50 : decode cX0_allow 50 = .ok (.goto 4, 3) := dk_167 0 4 (dk_at dksX0_allow_2 6 rfl rfl)
theorem dX0_allow_53 : decode cX0_allow 53 = .ok (.iconst 0, 1) := dk_3 (dk_at dksX0_allow_2 9 rfl rfl)
theorem dX0_allow_54 : decode cX0_allow 54 = .ok (.ixor, 1) := dk_130 (dk_at dksX0_allow_2 10 rfl rfl)
theorem dX0_allow_55 : decode cX0_allow 55 = .ok (.putfield 129, 3) := dk_181 0 129 (dk_at dksX0_allow_2 11 rfl rfl)
theorem dX0_allow_58 : decode cX0_allow 58 = .ok (.aload_n 0, 1) := dk_42 (dk_at dksX0_allow_2 14 rfl rfl)
theorem dX0_allow_59 : decode cX0_allow 59 = .ok (.getfield 18, 3) := dk_180 0 18 (dk_at dksX0_allow_2 15 rfl rfl)
theorem dX0_allow_62 : decode cX0_allow 62 = .ok (.dup, 1) := dk_89 (dk_at dksX0_allow_2 18 rfl rfl)
theorem dX0_allow_63 : decode cX0_allow 63 = .ok (.getfield 138, 3) := dk_180 0 138 (dk_at dksX0_allow_2 19 rfl rfl)
theorem dX0_allow_66 : decode cX0_allow 66 = .ok (.iload_n 1, 1) := dk_27 (dk_at dksX0_allow_2 22 rfl rfl)
theorem dX0_allow_67 : decode cX0_allow 67 = .ok (.iconst 1, 1) := dk_4 (dk_at dksX0_allow_2 23 rfl rfl)
theorem dX0_allow_68 : decode cX0_allow 68 = .ok (.if_icmp .ne 9, 3) := dk_160 0 9 (dk_at dksX0_allow_3 0 rfl rfl)
theorem dX0_allow_71 : decode cX0_allow 71 = .ok (.iconst 1, 1) := dk_4 (dk_at dksX0_allow_3 3 rfl rfl)
theorem dX0_allow_72 : decode cX0_allow 72 = .ok (.iload_n 2, 1) := dk_28 (dk_at dksX0_allow_3 4 rfl rfl)
theorem dX0_allow_73 : decode cX0_allow 73 = .ok (.ishl, 1) := dk_120 (dk_at dksX0_allow_3 5 rfl rfl)
theorem dX0_allow_74 : decode cX0_allow 74 = .ok (.goto 4, 3) := dk_167 0 4 (dk_at dksX0_allow_3 6 rfl rfl)
theorem dX0_allow_77 : decode cX0_allow 77 = .ok (.iconst 0, 1) := dk_3 (dk_at dksX0_allow_3 9 rfl rfl)
theorem dX0_allow_78 : decode cX0_allow 78 = .ok (.ixor, 1) := dk_130 (dk_at dksX0_allow_3 10 rfl rfl)
theorem dX0_allow_79 : decode cX0_allow 79 = .ok (.putfield 138, 3) := dk_181 0 138 (dk_at dksX0_allow_3 11 rfl rfl)
theorem dX0_allow_82 : decode cX0_allow 82 = .ok (.aload_n 0, 1) := dk_42 (dk_at dksX0_allow_3 14 rfl rfl)
theorem dX0_allow_83 : decode cX0_allow 83 = .ok (.getfield 18, 3) := dk_180 0 18 (dk_at dksX0_allow_3 15 rfl rfl)
theorem dX0_allow_86 : decode cX0_allow 86 = .ok (.getfield 132, 3) := dk_180 0 132 (dk_at dksX0_allow_3 18 rfl rfl)
theorem dX0_allow_89 : decode cX0_allow 89 = .ok (.iload_n 2, 1) := dk_28 (dk_at dksX0_allow_3 21 rfl rfl)
theorem dX0_allow_90 : decode cX0_allow 90 = .ok (.dup2, 1) := dk_92 (dk_at dksX0_allow_3 22 rfl rfl)
theorem dX0_allow_91 : decode cX0_allow 91 = .ok (.iaload, 1) := dk_46 (dk_at dksX0_allow_3 23 rfl rfl)
theorem dX0_allow_92 : decode cX0_allow 92 = .ok (.iload_n 1, 1) := dk_27 (dk_at dksX0_allow_4 0 rfl rfl)
theorem dX0_allow_93 : decode cX0_allow 93 = .ok (.iconst 2, 1) := dk_5 (dk_at dksX0_allow_4 1 rfl rfl)
theorem dX0_allow_94 : decode cX0_allow 94 = .ok (.if_icmp .ne 9, 3) := dk_160 0 9 (dk_at dksX0_allow_4 2 rfl rfl)
theorem dX0_allow_97 : decode cX0_allow 97 = .ok (.iconst 1, 1) := dk_4 (dk_at dksX0_allow_4 5 rfl rfl)
theorem dX0_allow_98 : decode cX0_allow 98 = .ok (.iload_n 3, 1) := dk_29 (dk_at dksX0_allow_4 6 rfl rfl)
theorem dX0_allow_99 : decode cX0_allow 99 = .ok (.ishl, 1) := dk_120 (dk_at dksX0_allow_4 7 rfl rfl)
theorem dX0_allow_100 : decode cX0_allow 100 = .ok (.goto 4, 3) := dk_167 0 4 (dk_at dksX0_allow_4 8 rfl rfl)
theorem dX0_allow_103 : decode cX0_allow 103 = .ok (.iconst 0, 1) := dk_3 (dk_at dksX0_allow_4 11 rfl rfl)
theorem dX0_allow_104 : decode cX0_allow 104 = .ok (.ixor, 1) := dk_130 (dk_at dksX0_allow_4 12 rfl rfl)
theorem dX0_allow_105 : decode cX0_allow 105 = .ok (.iastore, 1) := dk_79 (dk_at dksX0_allow_4 13 rfl rfl)
theorem dX0_allow_106 : decode cX0_allow 106 = .ok (.iload_n 1, 1) := dk_27 (dk_at dksX0_allow_4 14 rfl rfl)
theorem dX0_allow_107 : decode cX0_allow 107 = .ok (.ifCond .ne 13, 3) := dk_154 0 13 (dk_at dksX0_allow_4 15 rfl rfl)
theorem dX0_allow_110 : decode cX0_allow 110 = .ok (.aload_n 0, 1) := dk_42 (dk_at dksX0_allow_4 18 rfl rfl)
theorem dX0_allow_111 : decode cX0_allow 111 = .ok (.getfield 18, 3) := dk_180 0 18 (dk_at dksX0_allow_4 19 rfl rfl)
theorem dX0_allow_114 : decode cX0_allow 114 = .ok (.getfield 129, 3) := dk_180 0 129 (dk_at dksX0_allow_5 0 rfl rfl)
theorem dX0_allow_117 : decode cX0_allow 117 = .ok (.goto 27, 3) := dk_167 0 27 (dk_at dksX0_allow_5 3 rfl rfl)
theorem dX0_allow_120 : decode cX0_allow 120 = .ok (.iload_n 1, 1) := dk_27 (dk_at dksX0_allow_5 6 rfl rfl)
theorem dX0_allow_121 : decode cX0_allow 121 = .ok (.iconst 1, 1) := dk_4 (dk_at dksX0_allow_5 7 rfl rfl)
theorem dX0_allow_122 : decode cX0_allow 122 = .ok (.if_icmp .ne 13, 3) := dk_160 0 13 (dk_at dksX0_allow_5 8 rfl rfl)
theorem dX0_allow_125 : decode cX0_allow 125 = .ok (.aload_n 0, 1) := dk_42 (dk_at dksX0_allow_5 11 rfl rfl)
theorem dX0_allow_126 : decode cX0_allow 126 = .ok (.getfield 18, 3) := dk_180 0 18 (dk_at dksX0_allow_5 12 rfl rfl)
theorem dX0_allow_129 : decode cX0_allow 129 = .ok (.getfield 138, 3) := dk_180 0 138 (dk_at dksX0_allow_5 15 rfl rfl)
theorem dX0_allow_132 : decode cX0_allow 132 = .ok (.goto 12, 3) := dk_167 0 12 (dk_at dksX0_allow_5 18 rfl rfl)
theorem dX0_allow_135 : decode cX0_allow 135 = .ok (.aload_n 0, 1) := dk_42 (dk_at dksX0_allow_5 21 rfl rfl)
theorem dX0_allow_136 : decode cX0_allow 136 = .ok (.getfield 18, 3) := dk_180 0 18 (dk_at dksX0_allow_6 0 rfl rfl)
theorem dX0_allow_139 : decode cX0_allow 139 = .ok (.getfield 132, 3) := dk_180 0 132 (dk_at dksX0_allow_6 3 rfl rfl)
theorem dX0_allow_142 : decode cX0_allow 142 = .ok (.iload_n 2, 1) := dk_28 (dk_at dksX0_allow_6 6 rfl rfl)
theorem dX0_allow_143 : decode cX0_allow 143 = .ok (.iaload, 1) := dk_46 (dk_at dksX0_allow_6 7 rfl rfl)
theorem dX0_allow_144 : decode cX0_allow 144 = .ok (.istore 4, 2) := dk_54 4 (dk_at dksX0_allow_6 8 rfl rfl)
theorem dX0_allow_146 : decode cX0_allow 146 = .ok (.iload 4, 2) := dk_21 4 (dk_at dksX0_allow_6 10 rfl rfl)
theorem dX0_allow_148 : decode cX0_allow 148 = .ok (.iload_n 1, 1) := dk_27 (dk_at dksX0_allow_6 12 rfl rfl)
theorem dX0_allow_149 : decode cX0_allow 149 = .ok (.iconst 2, 1) := dk_5 (dk_at dksX0_allow_6 13 rfl rfl)
theorem dX0_allow_150 : decode cX0_allow 150 = .ok (.if_icmp .ne 7, 3) := dk_160 0 7 (dk_at dksX0_allow_6 14 rfl rfl)
theorem dX0_allow_153 : decode cX0_allow 153 = .ok (.iload_n 3, 1) := dk_29 (dk_at dksX0_allow_6 17 rfl rfl)
theorem dX0_allow_154 : decode cX0_allow 154 = .ok (.goto 4, 3) := dk_167 0 4 (dk_at dksX0_allow_6 18 rfl rfl)
theorem dX0_allow_157 : decode cX0_allow 157 = .ok (.iload_n 2, 1) := dk_28 (dk_at dksX0_allow_6 21 rfl rfl)
theorem dX0_allow_158 : decode cX0_allow 158 = .ok (.ishr, 1) := dk_122 (dk_at dksX0_allow_6 22 rfl rfl)
theorem dX0_allow_159 : decode cX0_allow 159 = .ok (.iconst 1, 1) := dk_4 (dk_at dksX0_allow_6 23 rfl rfl)
theorem dX0_allow_160 : decode cX0_allow 160 = .ok (.iand, 1) := dk_126 (dk_at dksX0_allow_7 0 rfl rfl)
theorem dX0_allow_161 : decode cX0_allow 161 = .ok (.ireturn, 1) := dk_172 (dk_at dksX0_allow_7 1 rfl rfl)
abbrev cX0_undo : ByteArray := prog_1_method_54_code
def yX0_undo : MethodName := ⟨RX0, "undo", "()I"⟩
def dkwX0_undo_2 : List UInt8 := [180, 1, 53, 50, 182, 0, 238, 42, 180, 0, 251, 172]
abbrev dktX0_undo_2 : List UInt8 := dkwX0_undo_2 ++ []
def dkwX0_undo_1 : List UInt8 := [180, 1, 53, 16, 14, 96, 4, 100, 16, 14, 112, 181, 1, 53, 42, 180, 0, 18, 42, 180, 0, 67, 42]
abbrev dktX0_undo_1 : List UInt8 := dkwX0_undo_1 ++ dktX0_undo_2
def dkwX0_undo_0 : List UInt8 := [42, 180, 0, 251, 154, 0, 6, 16, 253, 172, 42, 89, 180, 0, 251, 4, 100, 181, 0, 251, 42, 42]
abbrev dktX0_undo_0 : List UInt8 := dkwX0_undo_0 ++ dktX0_undo_1
theorem dksX0_undo_0 : cX0_undo.data.toList.drop 0 = dktX0_undo_0 := by decide +kernel
theorem dksX0_undo_1 : cX0_undo.data.toList.drop 22 = dktX0_undo_1 := dk_seg dksX0_undo_0 22 rfl rfl
theorem dksX0_undo_2 : cX0_undo.data.toList.drop 45 = dktX0_undo_2 := dk_seg dksX0_undo_1 23 rfl rfl
theorem dX0_undo_0 : decode cX0_undo 0 = .ok (.aload_n 0, 1) := dk_42 (dk_at dksX0_undo_0 0 rfl rfl)
theorem dX0_undo_1 : decode cX0_undo 1 = .ok (.getfield 251, 3) := dk_180 0 251 (dk_at dksX0_undo_0 1 rfl rfl)
theorem dX0_undo_4 : decode cX0_undo 4 = .ok (.ifCond .ne 6, 3) := dk_154 0 6 (dk_at dksX0_undo_0 4 rfl rfl)
theorem dX0_undo_7 : decode cX0_undo 7 = .ok (.bipush (-3), 2) := dk_16 253 (dk_at dksX0_undo_0 7 rfl rfl)
theorem dX0_undo_9 : decode cX0_undo 9 = .ok (.ireturn, 1) := dk_172 (dk_at dksX0_undo_0 9 rfl rfl)
theorem dX0_undo_10 : decode cX0_undo 10 = .ok (.aload_n 0, 1) := dk_42 (dk_at dksX0_undo_0 10 rfl rfl)
theorem dX0_undo_11 : decode cX0_undo 11 = .ok (.dup, 1) := dk_89 (dk_at dksX0_undo_0 11 rfl rfl)
theorem dX0_undo_12 : decode cX0_undo 12 = .ok (.getfield 251, 3) := dk_180 0 251 (dk_at dksX0_undo_0 12 rfl rfl)
theorem dX0_undo_15 : decode cX0_undo 15 = .ok (.iconst 1, 1) := dk_4 (dk_at dksX0_undo_0 15 rfl rfl)
theorem dX0_undo_16 : decode cX0_undo 16 = .ok (.isub, 1) := dk_100 (dk_at dksX0_undo_0 16 rfl rfl)
theorem dX0_undo_17 : decode cX0_undo 17 = .ok (.putfield 251, 3) := dk_181 0 251 (dk_at dksX0_undo_0 17 rfl rfl)
theorem dX0_undo_20 : decode cX0_undo 20 = .ok (.aload_n 0, 1) := dk_42 (dk_at dksX0_undo_0 20 rfl rfl)
theorem dX0_undo_21 : decode cX0_undo 21 = .ok (.aload_n 0, 1) := dk_42 (dk_at dksX0_undo_0 21 rfl rfl)
theorem dX0_undo_22 : decode cX0_undo 22 = .ok (.getfield 309, 3) := dk_180 1 53 (dk_at dksX0_undo_1 0 rfl rfl)
theorem dX0_undo_25 : decode cX0_undo 25 = .ok (.bipush 14, 2) := dk_16 14 (dk_at dksX0_undo_1 3 rfl rfl)
theorem dX0_undo_27 : decode cX0_undo 27 = .ok (.iadd, 1) := dk_96 (dk_at dksX0_undo_1 5 rfl rfl)
theorem dX0_undo_28 : decode cX0_undo 28 = .ok (.iconst 1, 1) := dk_4 (dk_at dksX0_undo_1 6 rfl rfl)
theorem dX0_undo_29 : decode cX0_undo 29 = .ok (.isub, 1) := dk_100 (dk_at dksX0_undo_1 7 rfl rfl)
theorem dX0_undo_30 : decode cX0_undo 30 = .ok (.bipush 14, 2) := dk_16 14 (dk_at dksX0_undo_1 8 rfl rfl)
theorem dX0_undo_32 : decode cX0_undo 32 = .ok (.irem, 1) := dk_112 (dk_at dksX0_undo_1 10 rfl rfl)
theorem dX0_undo_33 : decode cX0_undo 33 = .ok (.putfield 309, 3) := dk_181 1 53 (dk_at dksX0_undo_1 11 rfl rfl)
theorem dX0_undo_36 : decode cX0_undo 36 = .ok (.aload_n 0, 1) := dk_42 (dk_at dksX0_undo_1 14 rfl rfl)
theorem dX0_undo_37 : decode cX0_undo 37 = .ok (.getfield 18, 3) := dk_180 0 18 (dk_at dksX0_undo_1 15 rfl rfl)
theorem dX0_undo_40 : decode cX0_undo 40 = .ok (.aload_n 0, 1) := dk_42 (dk_at dksX0_undo_1 18 rfl rfl)
theorem dX0_undo_41 : decode cX0_undo 41 = .ok (.getfield 67, 3) := dk_180 0 67 (dk_at dksX0_undo_1 19 rfl rfl)
theorem dX0_undo_44 : decode cX0_undo 44 = .ok (.aload_n 0, 1) := dk_42 (dk_at dksX0_undo_1 22 rfl rfl)
theorem dX0_undo_45 : decode cX0_undo 45 = .ok (.getfield 309, 3) := dk_180 1 53 (dk_at dksX0_undo_2 0 rfl rfl)
theorem dX0_undo_48 : decode cX0_undo 48 = .ok (.aaload, 1) := dk_50 (dk_at dksX0_undo_2 3 rfl rfl)
theorem dX0_undo_49 : decode cX0_undo 49 = .ok (.invokevirtual 238, 3) := dk_182 0 238 (dk_at dksX0_undo_2 4 rfl rfl)
theorem dX0_undo_52 : decode cX0_undo 52 = .ok (.aload_n 0, 1) := dk_42 (dk_at dksX0_undo_2 7 rfl rfl)
theorem dX0_undo_53 : decode cX0_undo 53 = .ok (.getfield 251, 3) := dk_180 0 251 (dk_at dksX0_undo_2 8 rfl rfl)
theorem dX0_undo_56 : decode cX0_undo 56 = .ok (.ireturn, 1) := dk_172 (dk_at dksX0_undo_2 11 rfl rfl)
abbrev cX0_many : ByteArray := prog_1_method_55_code
def yX0_many : MethodName := ⟨RX0, "many", "(I)J"⟩
def dkwX0_many_1 : List UInt8 := [42, 182, 0, 181, 167, 0, 8, 42, 27, 182, 1, 69, 173]
abbrev dktX0_many_1 : List UInt8 := dkwX0_many_1 ++ []
def dkwX0_many_0 : List UInt8 := [27, 133, 9, 20, 1, 65, 184, 0, 190, 154, 0, 7, 20, 1, 67, 173, 42, 182, 1, 9, 27, 154, 0, 10]
abbrev dktX0_many_0 : List UInt8 := dkwX0_many_0 ++ dktX0_many_1
theorem dksX0_many_0 : cX0_many.data.toList.drop 0 = dktX0_many_0 := by decide +kernel
theorem dksX0_many_1 : cX0_many.data.toList.drop 24 = dktX0_many_1 := dk_seg dksX0_many_0 24 rfl rfl
theorem dX0_many_0 : decode cX0_many 0 = .ok (.iload_n 1, 1) := dk_27 (dk_at dksX0_many_0 0 rfl rfl)
theorem dX0_many_1 : decode cX0_many 1 = .ok (.i2l, 1) := dk_133 (dk_at dksX0_many_0 1 rfl rfl)
theorem dX0_many_2 : decode cX0_many 2 = .ok (.lconst 0, 1) := dk_9 (dk_at dksX0_many_0 2 rfl rfl)
theorem dX0_many_3 : decode cX0_many 3 = .ok (.ldc2_w 321, 3) := dk_20 1 65 (dk_at dksX0_many_0 3 rfl rfl)
theorem dX0_many_6 : decode cX0_many 6 = .ok (.invokestatic 190, 3) := dk_184 0 190 (dk_at dksX0_many_0 6 rfl rfl)
theorem dX0_many_9 : decode cX0_many 9 = .ok (.ifCond .ne 7, 3) := dk_154 0 7 (dk_at dksX0_many_0 9 rfl rfl)
theorem dX0_many_12 : decode cX0_many 12 = .ok (.ldc2_w 323, 3) := dk_20 1 67 (dk_at dksX0_many_0 12 rfl rfl)
theorem dX0_many_15 : decode cX0_many 15 = .ok (.lreturn, 1) := dk_173 (dk_at dksX0_many_0 15 rfl rfl)
theorem dX0_many_16 : decode cX0_many 16 = .ok (.aload_n 0, 1) := dk_42 (dk_at dksX0_many_0 16 rfl rfl)
theorem dX0_many_17 : decode cX0_many 17 = .ok (.invokevirtual 265, 3) := dk_182 1 9 (dk_at dksX0_many_0 17 rfl rfl)
theorem dX0_many_20 : decode cX0_many 20 = .ok (.iload_n 1, 1) := dk_27 (dk_at dksX0_many_0 20 rfl rfl)
theorem dX0_many_21 : decode cX0_many 21 = .ok (.ifCond .ne 10, 3) := dk_154 0 10 (dk_at dksX0_many_0 21 rfl rfl)
theorem dX0_many_24 : decode cX0_many 24 = .ok (.aload_n 0, 1) := dk_42 (dk_at dksX0_many_1 0 rfl rfl)
theorem dX0_many_25 : decode cX0_many 25 = .ok (.invokevirtual 181, 3) := dk_182 0 181 (dk_at dksX0_many_1 1 rfl rfl)
theorem dX0_many_28 : decode cX0_many 28 = .ok (.goto 8, 3) := dk_167 0 8 (dk_at dksX0_many_1 4 rfl rfl)
theorem dX0_many_31 : decode cX0_many 31 = .ok (.aload_n 0, 1) := dk_42 (dk_at dksX0_many_1 7 rfl rfl)
theorem dX0_many_32 : decode cX0_many 32 = .ok (.iload_n 1, 1) := dk_27 (dk_at dksX0_many_1 8 rfl rfl)
theorem dX0_many_33 : decode cX0_many 33 = .ok (.invokevirtual 325, 3) := dk_182 1 69 (dk_at dksX0_many_1 9 rfl rfl)
theorem dX0_many_36 : decode cX0_many 36 = .ok (.lreturn, 1) := dk_173 (dk_at dksX0_many_1 12 rfl rfl)
abbrev cX0_countOf : ByteArray := prog_1_method_18_code
def yX0_countOf : MethodName := ⟨RX0, "countOf", "(I)J"⟩
def dkwX0_countOf_1 : List UInt8 := [182, 0, 177, 173]
abbrev dktX0_countOf_1 : List UInt8 := dkwX0_countOf_1 ++ []
def dkwX0_countOf_0 : List UInt8 := [42, 182, 0, 171, 4, 61, 28, 27, 162, 0, 13, 42, 182, 0, 174, 132, 2, 1, 167, 255, 244, 42]
abbrev dktX0_countOf_0 : List UInt8 := dkwX0_countOf_0 ++ dktX0_countOf_1
theorem dksX0_countOf_0 : cX0_countOf.data.toList.drop 0 = dktX0_countOf_0 := by decide +kernel
theorem dksX0_countOf_1 : cX0_countOf.data.toList.drop 22 = dktX0_countOf_1 := dk_seg dksX0_countOf_0 22 rfl rfl
theorem dX0_countOf_0 : decode cX0_countOf 0 = .ok (.aload_n 0, 1) := dk_42 (dk_at dksX0_countOf_0 0 rfl rfl)
theorem dX0_countOf_1 : decode cX0_countOf 1 = .ok (.invokevirtual 171, 3) := dk_182 0 171 (dk_at dksX0_countOf_0 1 rfl rfl)
theorem dX0_countOf_4 : decode cX0_countOf 4 = .ok (.iconst 1, 1) := dk_4 (dk_at dksX0_countOf_0 4 rfl rfl)
theorem dX0_countOf_5 : decode cX0_countOf 5 = .ok (.istore_n 2, 1) := dk_61 (dk_at dksX0_countOf_0 5 rfl rfl)
theorem dX0_countOf_6 : decode cX0_countOf 6 = .ok (.iload_n 2, 1) := dk_28 (dk_at dksX0_countOf_0 6 rfl rfl)
theorem dX0_countOf_7 : decode cX0_countOf 7 = .ok (.iload_n 1, 1) := dk_27 (dk_at dksX0_countOf_0 7 rfl rfl)
theorem dX0_countOf_8 : decode cX0_countOf 8 = .ok (.if_icmp .ge 13, 3) := dk_162 0 13 (dk_at dksX0_countOf_0 8 rfl rfl)
theorem dX0_countOf_11 : decode cX0_countOf 11 = .ok (.aload_n 0, 1) := dk_42 (dk_at dksX0_countOf_0 11 rfl rfl)
theorem dX0_countOf_12 : decode cX0_countOf 12 = .ok (.invokevirtual 174, 3) := dk_182 0 174 (dk_at dksX0_countOf_0 12 rfl rfl)
theorem dX0_countOf_15 : decode cX0_countOf 15 = .ok (.iinc 2 1, 3) := dk_132 2 1 (dk_at dksX0_countOf_0 15 rfl rfl)
theorem dX0_countOf_18 : decode cX0_countOf 18 = .ok (.goto (-12), 3) := dk_167 255 244 (dk_at dksX0_countOf_0 18 rfl rfl)
theorem dX0_countOf_21 : decode cX0_countOf 21 = .ok (.aload_n 0, 1) := dk_42 (dk_at dksX0_countOf_0 21 rfl rfl)
theorem dX0_countOf_22 : decode cX0_countOf 22 = .ok (.invokevirtual 177, 3) := dk_182 0 177 (dk_at dksX0_countOf_1 0 rfl rfl)
theorem dX0_countOf_25 : decode cX0_countOf 25 = .ok (.lreturn, 1) := dk_173 (dk_at dksX0_countOf_1 3 rfl rfl)
abbrev cX0_having : ByteArray := prog_1_method_56_code
def yX0_having : MethodName := ⟨RX0, "having", "(I)J"⟩
def dkwX0_having_2 : List UInt8 := [182, 0, 122, 32, 42, 182, 0, 181, 101, 173]
abbrev dktX0_having_2 : List UInt8 := dkwX0_having_2 ++ []
def dkwX0_having_1 : List UInt8 := [180, 0, 18, 42, 182, 0, 115, 42, 180, 0, 18, 180, 0, 119, 2, 130, 126, 4, 27, 120, 2, 130, 126]
abbrev dktX0_having_1 : List UInt8 := dkwX0_having_1 ++ dktX0_having_2
def dkwX0_having_0 : List UInt8 := [42, 27, 182, 1, 34, 154, 0, 7, 20, 1, 73, 173, 42, 182, 1, 9, 42, 182, 0, 181, 65, 42, 42]
abbrev dktX0_having_0 : List UInt8 := dkwX0_having_0 ++ dktX0_having_1
theorem dksX0_having_0 : cX0_having.data.toList.drop 0 = dktX0_having_0 := by decide +kernel
theorem dksX0_having_1 : cX0_having.data.toList.drop 23 = dktX0_having_1 := dk_seg dksX0_having_0 23 rfl rfl
theorem dksX0_having_2 : cX0_having.data.toList.drop 46 = dktX0_having_2 := dk_seg dksX0_having_1 23 rfl rfl
theorem dX0_having_0 : decode cX0_having 0 = .ok (.aload_n 0, 1) := dk_42 (dk_at dksX0_having_0 0 rfl rfl)
theorem dX0_having_1 : decode cX0_having 1 = .ok (.iload_n 1, 1) := dk_27 (dk_at dksX0_having_0 1 rfl rfl)
theorem dX0_having_2 : decode cX0_having 2 = .ok (.invokevirtual 290, 3) := dk_182 1 34 (dk_at dksX0_having_0 2 rfl rfl)
theorem dX0_having_5 : decode cX0_having 5 = .ok (.ifCond .ne 7, 3) := dk_154 0 7 (dk_at dksX0_having_0 5 rfl rfl)
theorem dX0_having_8 : decode cX0_having 8 = .ok (.ldc2_w 329, 3) := dk_20 1 73 (dk_at dksX0_having_0 8 rfl rfl)
theorem dX0_having_11 : decode cX0_having 11 = .ok (.lreturn, 1) := dk_173 (dk_at dksX0_having_0 11 rfl rfl)
theorem dX0_having_12 : decode cX0_having 12 = .ok (.aload_n 0, 1) := dk_42 (dk_at dksX0_having_0 12 rfl rfl)
theorem dX0_having_13 : decode cX0_having 13 = .ok (.invokevirtual 265, 3) := dk_182 1 9 (dk_at dksX0_having_0 13 rfl rfl)
theorem dX0_having_16 : decode cX0_having 16 = .ok (.aload_n 0, 1) := dk_42 (dk_at dksX0_having_0 16 rfl rfl)
theorem dX0_having_17 : decode cX0_having 17 = .ok (.invokevirtual 181, 3) := dk_182 0 181 (dk_at dksX0_having_0 17 rfl rfl)
theorem dX0_having_20 : decode cX0_having 20 = .ok (.lstore_n 2, 1) := dk_65 (dk_at dksX0_having_0 20 rfl rfl)
theorem dX0_having_21 : decode cX0_having 21 = .ok (.aload_n 0, 1) := dk_42 (dk_at dksX0_having_0 21 rfl rfl)
theorem dX0_having_22 : decode cX0_having 22 = .ok (.aload_n 0, 1) := dk_42 (dk_at dksX0_having_0 22 rfl rfl)
theorem dX0_having_23 : decode cX0_having 23 = .ok (.getfield 18, 3) := dk_180 0 18 (dk_at dksX0_having_1 0 rfl rfl)
theorem dX0_having_26 : decode cX0_having 26 = .ok (.aload_n 0, 1) := dk_42 (dk_at dksX0_having_1 3 rfl rfl)
theorem dX0_having_27 : decode cX0_having 27 = .ok (.invokevirtual 115, 3) := dk_182 0 115 (dk_at dksX0_having_1 4 rfl rfl)
theorem dX0_having_30 : decode cX0_having 30 = .ok (.aload_n 0, 1) := dk_42 (dk_at dksX0_having_1 7 rfl rfl)
theorem dX0_having_31 : decode cX0_having 31 = .ok (.getfield 18, 3) := dk_180 0 18 (dk_at dksX0_having_1 8 rfl rfl)
theorem dX0_having_34 : decode cX0_having 34 = .ok (.getfield 119, 3) := dk_180 0 119 (dk_at dksX0_having_1 11 rfl rfl)
theorem dX0_having_37 : decode cX0_having 37 = .ok (.iconst (-1), 1) := dk_2 (dk_at dksX0_having_1 14 rfl rfl)
theorem dX0_having_38 : decode cX0_having 38 = .ok (.ixor, 1) := dk_130 (dk_at dksX0_having_1 15 rfl rfl)
theorem dX0_having_39 : decode cX0_having 39 = .ok (.iand, 1) := dk_126 (dk_at dksX0_having_1 16 rfl rfl)
theorem dX0_having_40 : decode cX0_having 40 = .ok (.iconst 1, 1) := dk_4 (dk_at dksX0_having_1 17 rfl rfl)
theorem dX0_having_41 : decode cX0_having 41 = .ok (.iload_n 1, 1) := dk_27 (dk_at dksX0_having_1 18 rfl rfl)
theorem dX0_having_42 : decode cX0_having 42 = .ok (.ishl, 1) := dk_120 (dk_at dksX0_having_1 19 rfl rfl)
theorem dX0_having_43 : decode cX0_having 43 = .ok (.iconst (-1), 1) := dk_2 (dk_at dksX0_having_1 20 rfl rfl)
theorem dX0_having_44 : decode cX0_having 44 = .ok (.ixor, 1) := dk_130 (dk_at dksX0_having_1 21 rfl rfl)
theorem dX0_having_45 : decode cX0_having 45 = .ok (.iand, 1) := dk_126 (dk_at dksX0_having_1 22 rfl rfl)
theorem dX0_having_46 : decode cX0_having 46 = .ok (.invokevirtual 122, 3) := dk_182 0 122 (dk_at dksX0_having_2 0 rfl rfl)
theorem dX0_having_49 : decode cX0_having 49 = .ok (.lload_n 2, 1) := dk_32 (dk_at dksX0_having_2 3 rfl rfl)
theorem dX0_having_50 : decode cX0_having 50 = .ok (.aload_n 0, 1) := dk_42 (dk_at dksX0_having_2 4 rfl rfl)
theorem dX0_having_51 : decode cX0_having 51 = .ok (.invokevirtual 181, 3) := dk_182 0 181 (dk_at dksX0_having_2 5 rfl rfl)
theorem dX0_having_54 : decode cX0_having 54 = .ok (.lsub, 1) := dk_101 (dk_at dksX0_having_2 8 rfl rfl)
theorem dX0_having_55 : decode cX0_having 55 = .ok (.lreturn, 1) := dk_173 (dk_at dksX0_having_2 9 rfl rfl)
abbrev cX0_best : ByteArray := prog_1_method_57_code
def yX0_best : MethodName := ⟨RX0, "best", "(I)I"⟩
def dkwX0_best_2 : List UInt8 := [27, 5, 100, 42, 180, 0, 164, 162, 0, 14, 42, 180, 0, 45, 27, 5, 100, 46, 167, 0, 5, 16, 247, 172]
abbrev dktX0_best_2 : List UInt8 := dkwX0_best_2 ++ []
def dkwX0_best_1 : List UInt8 := [28, 16, 247, 159, 0, 7, 27, 154, 0, 5, 28, 172, 27, 4, 160, 0, 10, 42, 180, 0, 164, 167, 0, 26]
abbrev dktX0_best_1 : List UInt8 := dkwX0_best_1 ++ dktX0_best_2
def dkwX0_best_0 : List UInt8 := [27, 133, 9, 20, 1, 75, 184, 0, 190, 154, 0, 6, 16, 254, 172, 42, 182, 1, 9, 42, 182, 1, 77, 61]
abbrev dktX0_best_0 : List UInt8 := dkwX0_best_0 ++ dktX0_best_1
theorem dksX0_best_0 : cX0_best.data.toList.drop 0 = dktX0_best_0 := by decide +kernel
theorem dksX0_best_1 : cX0_best.data.toList.drop 24 = dktX0_best_1 := dk_seg dksX0_best_0 24 rfl rfl
theorem dksX0_best_2 : cX0_best.data.toList.drop 48 = dktX0_best_2 := dk_seg dksX0_best_1 24 rfl rfl
theorem dX0_best_0 : decode cX0_best 0 = .ok (.iload_n 1, 1) := dk_27 (dk_at dksX0_best_0 0 rfl rfl)
theorem dX0_best_1 : decode cX0_best 1 = .ok (.i2l, 1) := dk_133 (dk_at dksX0_best_0 1 rfl rfl)
theorem dX0_best_2 : decode cX0_best 2 = .ok (.lconst 0, 1) := dk_9 (dk_at dksX0_best_0 2 rfl rfl)
theorem dX0_best_3 : decode cX0_best 3 = .ok (.ldc2_w 331, 3) := dk_20 1 75 (dk_at dksX0_best_0 3 rfl rfl)
theorem dX0_best_6 : decode cX0_best 6 = .ok (.invokestatic 190, 3) := dk_184 0 190 (dk_at dksX0_best_0 6 rfl rfl)
theorem dX0_best_9 : decode cX0_best 9 = .ok (.ifCond .ne 6, 3) := dk_154 0 6 (dk_at dksX0_best_0 9 rfl rfl)
theorem dX0_best_12 : decode cX0_best 12 = .ok (.bipush (-2), 2) := dk_16 254 (dk_at dksX0_best_0 12 rfl rfl)
theorem dX0_best_14 : decode cX0_best 14 = .ok (.ireturn, 1) := dk_172 (dk_at dksX0_best_0 14 rfl rfl)
theorem dX0_best_15 : decode cX0_best 15 = .ok (.aload_n 0, 1) := dk_42 (dk_at dksX0_best_0 15 rfl rfl)
theorem dX0_best_16 : decode cX0_best 16 = .ok (.invokevirtual 265, 3) := dk_182 1 9 (dk_at dksX0_best_0 16 rfl rfl)
theorem dX0_best_19 : decode cX0_best 19 = .ok (.aload_n 0, 1) := dk_42 (dk_at dksX0_best_0 19 rfl rfl)
theorem dX0_best_20 : decode cX0_best 20 = .ok (.invokevirtual 333, 3) := dk_182 1 77 (dk_at dksX0_best_0 20 rfl rfl)
theorem dX0_best_23 : decode cX0_best 23 = .ok (.istore_n 2, 1) := dk_61 (dk_at dksX0_best_0 23 rfl rfl)
theorem dX0_best_24 : decode cX0_best 24 = .ok (.iload_n 2, 1) := dk_28 (dk_at dksX0_best_1 0 rfl rfl)
theorem dX0_best_25 : decode cX0_best 25 = .ok (.bipush (-9), 2) := dk_16 247 (dk_at dksX0_best_1 1 rfl rfl)
theorem dX0_best_27 : decode cX0_best 27 = .ok (.if_icmp .eq 7, 3) := dk_159 0 7 (dk_at dksX0_best_1 3 rfl rfl)
theorem dX0_best_30 : decode cX0_best 30 = .ok (.iload_n 1, 1) := dk_27 (dk_at dksX0_best_1 6 rfl rfl)
theorem dX0_best_31 : decode cX0_best 31 = .ok (.ifCond .ne 5, 3) := dk_154 0 5 (dk_at dksX0_best_1 7 rfl rfl)
theorem dX0_best_34 : decode cX0_best 34 = .ok (.iload_n 2, 1) := dk_28 (dk_at dksX0_best_1 10 rfl rfl)
theorem dX0_best_35 : decode cX0_best 35 = .ok (.ireturn, 1) := dk_172 (dk_at dksX0_best_1 11 rfl rfl)
theorem dX0_best_36 : decode cX0_best 36 = .ok (.iload_n 1, 1) := dk_27 (dk_at dksX0_best_1 12 rfl rfl)
theorem dX0_best_37 : decode cX0_best 37 = .ok (.iconst 1, 1) := dk_4 (dk_at dksX0_best_1 13 rfl rfl)
theorem dX0_best_38 : decode cX0_best 38 = .ok (.if_icmp .ne 10, 3) := dk_160 0 10 (dk_at dksX0_best_1 14 rfl rfl)
theorem dX0_best_41 : decode cX0_best 41 = .ok (.aload_n 0, 1) := dk_42 (dk_at dksX0_best_1 17 rfl rfl)
theorem dX0_best_42 : decode cX0_best 42 = .ok (.getfield 164, 3) := dk_180 0 164 (dk_at dksX0_best_1 18 rfl rfl)
theorem dX0_best_45 : decode cX0_best 45 = .ok (.goto 26, 3) := dk_167 0 26 (dk_at dksX0_best_1 21 rfl rfl)
theorem dX0_best_48 : decode cX0_best 48 = .ok (.iload_n 1, 1) := dk_27 (dk_at dksX0_best_2 0 rfl rfl)
theorem dX0_best_49 : decode cX0_best 49 = .ok (.iconst 2, 1) := dk_5 (dk_at dksX0_best_2 1 rfl rfl)
theorem dX0_best_50 : decode cX0_best 50 = .ok (.isub, 1) := dk_100 (dk_at dksX0_best_2 2 rfl rfl)
theorem dX0_best_51 : decode cX0_best 51 = .ok (.aload_n 0, 1) := dk_42 (dk_at dksX0_best_2 3 rfl rfl)
theorem dX0_best_52 : decode cX0_best 52 = .ok (.getfield 164, 3) := dk_180 0 164 (dk_at dksX0_best_2 4 rfl rfl)
theorem dX0_best_55 : decode cX0_best 55 = .ok (.if_icmp .ge 14, 3) := dk_162 0 14 (dk_at dksX0_best_2 7 rfl rfl)
theorem dX0_best_58 : decode cX0_best 58 = .ok (.aload_n 0, 1) := dk_42 (dk_at dksX0_best_2 10 rfl rfl)
theorem dX0_best_59 : decode cX0_best 59 = .ok (.getfield 45, 3) := dk_180 0 45 (dk_at dksX0_best_2 11 rfl rfl)
theorem dX0_best_62 : decode cX0_best 62 = .ok (.iload_n 1, 1) := dk_27 (dk_at dksX0_best_2 14 rfl rfl)
theorem dX0_best_63 : decode cX0_best 63 = .ok (.iconst 2, 1) := dk_5 (dk_at dksX0_best_2 15 rfl rfl)
theorem dX0_best_64 : decode cX0_best 64 = .ok (.isub, 1) := dk_100 (dk_at dksX0_best_2 16 rfl rfl)
theorem dX0_best_65 : decode cX0_best 65 = .ok (.iaload, 1) := dk_46 (dk_at dksX0_best_2 17 rfl rfl)
theorem dX0_best_66 : decode cX0_best 66 = .ok (.goto 5, 3) := dk_167 0 5 (dk_at dksX0_best_2 18 rfl rfl)
theorem dX0_best_69 : decode cX0_best 69 = .ok (.bipush (-9), 2) := dk_16 247 (dk_at dksX0_best_2 21 rfl rfl)
theorem dX0_best_71 : decode cX0_best 71 = .ok (.ireturn, 1) := dk_172 (dk_at dksX0_best_2 23 rfl rfl)
abbrev cX0_layBest : ByteArray := prog_1_method_13_code
def yX0_layBest : MethodName := ⟨RX0, "layBest", "()I"⟩
def dkwX0_layBest_5 : List UInt8 := [180, 0, 11, 21, 5, 50, 180, 0, 135, 54, 4, 167, 255, 168, 28, 172]
abbrev dktX0_layBest_5 : List UInt8 := dkwX0_layBest_5 ++ []
def dkwX0_layBest_4 : List UInt8 := [27, 42, 180, 0, 25, 180, 0, 156, 21, 5, 46, 100, 60, 29, 42, 180, 0, 42, 21, 5, 46, 100, 62, 42]
abbrev dktX0_layBest_4 : List UInt8 := dkwX0_layBest_4 ++ dktX0_layBest_5
def dkwX0_layBest_3 : List UInt8 := [167, 255, 240, 42, 180, 0, 45, 42, 180, 0, 164, 21, 5, 79, 42, 89, 180, 0, 164, 4, 96, 181, 0, 164]
abbrev dktX0_layBest_3 : List UInt8 := dkwX0_layBest_3 ++ dktX0_layBest_4
def dkwX0_layBest_2 : List UInt8 := [29, 158, 0, 84, 3, 54, 5, 42, 21, 5, 29, 21, 4, 27, 182, 0, 167, 154, 0, 9, 132, 5, 1]
abbrev dktX0_layBest_2 : List UInt8 := dkwX0_layBest_2 ++ dktX0_layBest_3
def dkwX0_layBest_1 : List UInt8 := [100, 7, 182, 0, 152, 60, 27, 61, 42, 180, 0, 101, 4, 100, 62, 7, 54, 4, 27, 16, 247, 159, 0, 88]
abbrev dktX0_layBest_1 : List UInt8 := dkwX0_layBest_1 ++ dktX0_layBest_2
def dkwX0_layBest_0 : List UInt8 := [42, 3, 181, 0, 164, 42, 180, 0, 101, 4, 160, 0, 8, 16, 247, 167, 0, 14, 42, 42, 180, 0, 101, 4]
abbrev dktX0_layBest_0 : List UInt8 := dkwX0_layBest_0 ++ dktX0_layBest_1
theorem dksX0_layBest_0 : cX0_layBest.data.toList.drop 0 = dktX0_layBest_0 := by decide +kernel
theorem dksX0_layBest_1 : cX0_layBest.data.toList.drop 24 = dktX0_layBest_1 := dk_seg dksX0_layBest_0 24 rfl rfl
theorem dksX0_layBest_2 : cX0_layBest.data.toList.drop 48 = dktX0_layBest_2 := dk_seg dksX0_layBest_1 24 rfl rfl
theorem dksX0_layBest_3 : cX0_layBest.data.toList.drop 71 = dktX0_layBest_3 := dk_seg dksX0_layBest_2 23 rfl rfl
theorem dksX0_layBest_4 : cX0_layBest.data.toList.drop 95 = dktX0_layBest_4 := dk_seg dksX0_layBest_3 24 rfl rfl
theorem dksX0_layBest_5 : cX0_layBest.data.toList.drop 119 = dktX0_layBest_5 := dk_seg dksX0_layBest_4 24 rfl rfl
theorem dX0_layBest_0 : decode cX0_layBest 0 = .ok (.aload_n 0, 1) := dk_42 (dk_at dksX0_layBest_0 0 rfl rfl)
theorem dX0_layBest_1 : decode cX0_layBest 1 = .ok (.iconst 0, 1) := dk_3 (dk_at dksX0_layBest_0 1 rfl rfl)
theorem dX0_layBest_2 : decode cX0_layBest 2 = .ok (.putfield 164, 3) := dk_181 0 164 (dk_at dksX0_layBest_0 2 rfl rfl)
theorem dX0_layBest_5 : decode cX0_layBest 5 = .ok (.aload_n 0, 1) := dk_42 (dk_at dksX0_layBest_0 5 rfl rfl)
theorem dX0_layBest_6 : decode cX0_layBest 6 = .ok (.getfield 101, 3) := dk_180 0 101 (dk_at dksX0_layBest_0 6 rfl rfl)
theorem dX0_layBest_9 : decode cX0_layBest 9 = .ok (.iconst 1, 1) := dk_4 (dk_at dksX0_layBest_0 9 rfl rfl)
theorem dX0_layBest_10 : decode cX0_layBest 10 = .ok (.if_icmp .ne 8, 3) := dk_160 0 8 (dk_at dksX0_layBest_0 10 rfl rfl)
theorem dX0_layBest_13 : decode cX0_layBest 13 = .ok (.bipush (-9), 2) := dk_16 247 (dk_at dksX0_layBest_0 13 rfl rfl)
theorem dX0_layBest_15 : decode cX0_layBest 15 = .ok (.goto 14, 3) := dk_167 0 14 (dk_at dksX0_layBest_0 15 rfl rfl)
theorem dX0_layBest_18 : decode cX0_layBest 18 = .ok (.aload_n 0, 1) := dk_42 (dk_at dksX0_layBest_0 18 rfl rfl)
theorem dX0_layBest_19 : decode cX0_layBest 19 = .ok (.aload_n 0, 1) := dk_42 (dk_at dksX0_layBest_0 19 rfl rfl)
theorem dX0_layBest_20 : decode cX0_layBest 20 = .ok (.getfield 101, 3) := dk_180 0 101 (dk_at dksX0_layBest_0 20 rfl rfl)
theorem dX0_layBest_23 : decode cX0_layBest 23 = .ok (.iconst 1, 1) := dk_4 (dk_at dksX0_layBest_0 23 rfl rfl)
theorem dX0_layBest_24 : decode cX0_layBest 24 = .ok (.isub, 1) := dk_100 (dk_at dksX0_layBest_1 0 rfl rfl)
theorem dX0_layBest_25 : decode cX0_layBest 25 = .ok (.iconst 4, 1) := dk_7 (dk_at dksX0_layBest_1 1 rfl rfl)
theorem dX0_layBest_26 : decode cX0_layBest 26 = .ok (.invokevirtual 152, 3) := dk_182 0 152 (dk_at dksX0_layBest_1 2 rfl rfl)
theorem dX0_layBest_29 : decode cX0_layBest 29 = .ok (.istore_n 1, 1) := dk_60 (dk_at dksX0_layBest_1 5 rfl rfl)
theorem dX0_layBest_30 : decode cX0_layBest 30 = .ok (.iload_n 1, 1) := dk_27 (dk_at dksX0_layBest_1 6 rfl rfl)
theorem dX0_layBest_31 : decode cX0_layBest 31 = .ok (.istore_n 2, 1) := dk_61 (dk_at dksX0_layBest_1 7 rfl rfl)
theorem dX0_layBest_32 : decode cX0_layBest 32 = .ok (.aload_n 0, 1) := dk_42 (dk_at dksX0_layBest_1 8 rfl rfl)
theorem dX0_layBest_33 : decode cX0_layBest 33 = .ok (.getfield 101, 3) := dk_180 0 101 (dk_at dksX0_layBest_1 9 rfl rfl)
theorem dX0_layBest_36 : decode cX0_layBest 36 = .ok (.iconst 1, 1) := dk_4 (dk_at dksX0_layBest_1 12 rfl rfl)
theorem dX0_layBest_37 : decode cX0_layBest 37 = .ok (.isub, 1) := dk_100 (dk_at dksX0_layBest_1 13 rfl rfl)
theorem dX0_layBest_38 : decode cX0_layBest 38 = .ok (.istore_n 3, 1) := dk_62 (dk_at dksX0_layBest_1 14 rfl rfl)
theorem dX0_layBest_39 : decode cX0_layBest 39 = .ok (.iconst 4, 1) := dk_7 (dk_at dksX0_layBest_1 15 rfl rfl)
theorem dX0_layBest_40 : decode cX0_layBest 40 = .ok (.istore 4, 2) := dk_54 4 (dk_at dksX0_layBest_1 16 rfl rfl)
theorem dX0_layBest_42 : decode cX0_layBest 42 = .ok (.iload_n 1, 1) := dk_27 (dk_at dksX0_layBest_1 18 rfl rfl)
theorem dX0_layBest_43 : decode cX0_layBest 43 = .ok (.bipush (-9), 2) := dk_16 247 (dk_at dksX0_layBest_1 19 rfl rfl)
theorem dX0_layBest_45 : decode cX0_layBest 45 = .ok (.if_icmp .eq 88, 3) := dk_159 0 88 (dk_at dksX0_layBest_1 21 rfl rfl)
theorem dX0_layBest_48 : decode cX0_layBest 48 = .ok (.iload_n 3, 1) := dk_29 (dk_at dksX0_layBest_2 0 rfl rfl)
theorem dX0_layBest_49 : decode cX0_layBest 49 = .ok (.ifCond .le 84, 3) := dk_158 0 84 (dk_at dksX0_layBest_2 1 rfl rfl)
theorem dX0_layBest_52 : decode cX0_layBest 52 = .ok (.iconst 0, 1) := dk_3 (dk_at dksX0_layBest_2 4 rfl rfl)
theorem dX0_layBest_53 : decode cX0_layBest 53 = .ok (.istore 5, 2) := dk_54 5 (dk_at dksX0_layBest_2 5 rfl rfl)
theorem dX0_layBest_55 : decode cX0_layBest 55 = .ok (.aload_n 0, 1) := dk_42 (dk_at dksX0_layBest_2 7 rfl rfl)
theorem dX0_layBest_56 : decode cX0_layBest 56 = .ok (.iload 5, 2) := dk_21 5 (dk_at dksX0_layBest_2 8 rfl rfl)
theorem dX0_layBest_58 : decode cX0_layBest 58 = .ok (.iload_n 3, 1) := dk_29 (dk_at dksX0_layBest_2 10 rfl rfl)
theorem dX0_layBest_59 : decode cX0_layBest 59 = .ok (.iload 4, 2) := dk_21 4 (dk_at dksX0_layBest_2 11 rfl rfl)
theorem dX0_layBest_61 : decode cX0_layBest 61 = .ok (.iload_n 1, 1) := dk_27 (dk_at dksX0_layBest_2 13 rfl rfl)
theorem dX0_layBest_62 : decode cX0_layBest 62 = .ok (.invokevirtual 167, 3) := dk_182 0 167 (dk_at dksX0_layBest_2 14 rfl rfl)
theorem dX0_layBest_65 : decode cX0_layBest 65 = .ok (.ifCond .ne 9, 3) := dk_154 0 9 (dk_at dksX0_layBest_2 17 rfl rfl)
theorem dX0_layBest_68 : decode cX0_layBest 68 = .ok (.iinc 5 1, 3) := dk_132 5 1 (dk_at dksX0_layBest_2 20 rfl rfl)
theorem dX0_layBest_71 : decode cX0_layBest 71 = .ok (.goto (-16), 3) := dk_167 255 240 (dk_at dksX0_layBest_3 0 rfl rfl)
theorem dX0_layBest_74 : decode cX0_layBest 74 = .ok (.aload_n 0, 1) := dk_42 (dk_at dksX0_layBest_3 3 rfl rfl)
theorem dX0_layBest_75 : decode cX0_layBest 75 = .ok (.getfield 45, 3) := dk_180 0 45 (dk_at dksX0_layBest_3 4 rfl rfl)
theorem dX0_layBest_78 : decode cX0_layBest 78 = .ok (.aload_n 0, 1) := dk_42 (dk_at dksX0_layBest_3 7 rfl rfl)
theorem dX0_layBest_79 : decode cX0_layBest 79 = .ok (.getfield 164, 3) := dk_180 0 164 (dk_at dksX0_layBest_3 8 rfl rfl)
theorem dX0_layBest_82 : decode cX0_layBest 82 = .ok (.iload 5, 2) := dk_21 5 (dk_at dksX0_layBest_3 11 rfl rfl)
theorem dX0_layBest_84 : decode cX0_layBest 84 = .ok (.iastore, 1) := dk_79 (dk_at dksX0_layBest_3 13 rfl rfl)
theorem dX0_layBest_85 : decode cX0_layBest 85 = .ok (.aload_n 0, 1) := dk_42 (dk_at dksX0_layBest_3 14 rfl rfl)
theorem dX0_layBest_86 : decode cX0_layBest 86 = .ok (.dup, 1) := dk_89 (dk_at dksX0_layBest_3 15 rfl rfl)
theorem dX0_layBest_87 : decode cX0_layBest 87 = .ok (.getfield 164, 3) := dk_180 0 164 (dk_at dksX0_layBest_3 16 rfl rfl)
theorem dX0_layBest_90 : decode cX0_layBest 90 = .ok (.iconst 1, 1) := dk_4 (dk_at dksX0_layBest_3 19 rfl rfl)
theorem dX0_layBest_91 : decode cX0_layBest 91 = .ok (.iadd, 1) := dk_96 (dk_at dksX0_layBest_3 20 rfl rfl)
theorem dX0_layBest_92 : decode cX0_layBest 92 = .ok (.putfield 164, 3) := dk_181 0 164 (dk_at dksX0_layBest_3 21 rfl rfl)
theorem dX0_layBest_95 : decode cX0_layBest 95 = .ok (.iload_n 1, 1) := dk_27 (dk_at dksX0_layBest_4 0 rfl rfl)
theorem dX0_layBest_96 : decode cX0_layBest 96 = .ok (.aload_n 0, 1) := dk_42 (dk_at dksX0_layBest_4 1 rfl rfl)
theorem dX0_layBest_97 : decode cX0_layBest 97 = .ok (.getfield 25, 3) := dk_180 0 25 (dk_at dksX0_layBest_4 2 rfl rfl)
theorem dX0_layBest_100 : decode cX0_layBest 100 = .ok (.getfield 156, 3) := dk_180 0 156 (dk_at dksX0_layBest_4 5 rfl rfl)
theorem dX0_layBest_103 : decode cX0_layBest 103 = .ok (.iload 5, 2) := dk_21 5 (dk_at dksX0_layBest_4 8 rfl rfl)
theorem dX0_layBest_105 : decode cX0_layBest 105 = .ok (.iaload, 1) := dk_46 (dk_at dksX0_layBest_4 10 rfl rfl)
theorem dX0_layBest_106 : decode cX0_layBest 106 = .ok (.isub, 1) := dk_100 (dk_at dksX0_layBest_4 11 rfl rfl)
theorem dX0_layBest_107 : decode cX0_layBest 107 = .ok (.istore_n 1, 1) := dk_60 (dk_at dksX0_layBest_4 12 rfl rfl)
theorem dX0_layBest_108 : decode cX0_layBest 108 = .ok (.iload_n 3, 1) := dk_29 (dk_at dksX0_layBest_4 13 rfl rfl)
theorem dX0_layBest_109 : decode cX0_layBest 109 = .ok (.aload_n 0, 1) := dk_42 (dk_at dksX0_layBest_4 14 rfl rfl)
theorem dX0_layBest_110 : decode cX0_layBest 110 = .ok (.getfield 42, 3) := dk_180 0 42 (dk_at dksX0_layBest_4 15 rfl rfl)
theorem dX0_layBest_113 : decode cX0_layBest 113 = .ok (.iload 5, 2) := dk_21 5 (dk_at dksX0_layBest_4 18 rfl rfl)
theorem dX0_layBest_115 : decode cX0_layBest 115 = .ok (.iaload, 1) := dk_46 (dk_at dksX0_layBest_4 20 rfl rfl)
theorem dX0_layBest_116 : decode cX0_layBest 116 = .ok (.isub, 1) := dk_100 (dk_at dksX0_layBest_4 21 rfl rfl)
theorem dX0_layBest_117 : decode cX0_layBest 117 = .ok (.istore_n 3, 1) := dk_62 (dk_at dksX0_layBest_4 22 rfl rfl)
theorem dX0_layBest_118 : decode cX0_layBest 118 = .ok (.aload_n 0, 1) := dk_42 (dk_at dksX0_layBest_4 23 rfl rfl)
theorem dX0_layBest_119 : decode cX0_layBest 119 = .ok (.getfield 11, 3) := dk_180 0 11 (dk_at dksX0_layBest_5 0 rfl rfl)
theorem dX0_layBest_122 : decode cX0_layBest 122 = .ok (.iload 5, 2) := dk_21 5 (dk_at dksX0_layBest_5 3 rfl rfl)
theorem dX0_layBest_124 : decode cX0_layBest 124 = .ok (.aaload, 1) := dk_50 (dk_at dksX0_layBest_5 5 rfl rfl)
theorem dX0_layBest_125 : decode cX0_layBest 125 = .ok (.getfield 135, 3) := dk_180 0 135 (dk_at dksX0_layBest_5 6 rfl rfl)
theorem dX0_layBest_128 : decode cX0_layBest 128 = .ok (.istore 4, 2) := dk_54 4 (dk_at dksX0_layBest_5 9 rfl rfl)
theorem dX0_layBest_130 : decode cX0_layBest 130 = .ok (.goto (-88), 3) := dk_167 255 168 (dk_at dksX0_layBest_5 11 rfl rfl)
theorem dX0_layBest_133 : decode cX0_layBest 133 = .ok (.iload_n 2, 1) := dk_28 (dk_at dksX0_layBest_5 14 rfl rfl)
theorem dX0_layBest_134 : decode cX0_layBest 134 = .ok (.ireturn, 1) := dk_172 (dk_at dksX0_layBest_5 15 rfl rfl)
abbrev cX0_worthFrom : ByteArray := prog_1_method_11_code
def yX0_worthFrom : MethodName := ⟨RX0, "worthFrom", "(II)I"⟩
def dkwX0_worthFrom_6 : List UInt8 := [46, 172]
abbrev dktX0_worthFrom_6 : List UInt8 := dkwX0_worthFrom_6 ++ []
def dkwX0_worthFrom_5 : List UInt8 := [184, 0, 159, 54, 4, 132, 5, 1, 167, 255, 167, 42, 180, 0, 39, 29, 21, 4, 79, 42, 180, 0, 39, 29]
abbrev dktX0_worthFrom_5 : List UInt8 := dkwX0_worthFrom_5 ++ dktX0_worthFrom_6
def dkwX0_worthFrom_4 : List UInt8 := [160, 0, 8, 21, 4, 167, 0, 21, 21, 4, 21, 6, 42, 180, 0, 25, 180, 0, 156, 21, 5, 46, 96]
abbrev dktX0_worthFrom_4 : List UInt8 := dkwX0_worthFrom_4 ++ dktX0_worthFrom_5
def dkwX0_worthFrom_3 : List UInt8 := [42, 180, 0, 11, 21, 5, 50, 180, 0, 135, 182, 0, 152, 167, 0, 5, 16, 247, 54, 6, 21, 6, 16, 247]
abbrev dktX0_worthFrom_3 : List UInt8 := dkwX0_worthFrom_3 ++ dktX0_worthFrom_4
def dkwX0_worthFrom_2 : List UInt8 := [158, 0, 82, 42, 21, 5, 27, 28, 182, 0, 144, 153, 0, 29, 42, 27, 42, 180, 0, 42, 21, 5, 46, 100]
abbrev dktX0_worthFrom_2 : List UInt8 := dkwX0_worthFrom_2 ++ dktX0_worthFrom_3
def dkwX0_worthFrom_1 : List UInt8 := [153, 0, 7, 3, 167, 0, 5, 16, 247, 54, 4, 3, 54, 5, 21, 5, 42, 180, 0, 109, 162, 0, 86, 27]
abbrev dktX0_worthFrom_1 : List UInt8 := dkwX0_worthFrom_1 ++ dktX0_worthFrom_2
def dkwX0_worthFrom_0 : List UInt8 := [8, 27, 104, 28, 96, 62, 42, 180, 0, 39, 29, 46, 16, 156, 162, 0, 123, 42, 27, 28, 182, 0, 141]
abbrev dktX0_worthFrom_0 : List UInt8 := dkwX0_worthFrom_0 ++ dktX0_worthFrom_1
theorem dksX0_worthFrom_0 : cX0_worthFrom.data.toList.drop 0 = dktX0_worthFrom_0 := by decide +kernel
theorem dksX0_worthFrom_1 : cX0_worthFrom.data.toList.drop 23 = dktX0_worthFrom_1 := dk_seg dksX0_worthFrom_0 23 rfl rfl
theorem dksX0_worthFrom_2 : cX0_worthFrom.data.toList.drop 47 = dktX0_worthFrom_2 := dk_seg dksX0_worthFrom_1 24 rfl rfl
theorem dksX0_worthFrom_3 : cX0_worthFrom.data.toList.drop 71 = dktX0_worthFrom_3 := dk_seg dksX0_worthFrom_2 24 rfl rfl
theorem dksX0_worthFrom_4 : cX0_worthFrom.data.toList.drop 95 = dktX0_worthFrom_4 := dk_seg dksX0_worthFrom_3 24 rfl rfl
theorem dksX0_worthFrom_5 : cX0_worthFrom.data.toList.drop 118 = dktX0_worthFrom_5 := dk_seg dksX0_worthFrom_4 23 rfl rfl
theorem dksX0_worthFrom_6 : cX0_worthFrom.data.toList.drop 142 = dktX0_worthFrom_6 := dk_seg dksX0_worthFrom_5 24 rfl rfl
theorem dX0_worthFrom_0 : decode cX0_worthFrom 0 = .ok (.iconst 5, 1) := dk_8 (dk_at dksX0_worthFrom_0 0 rfl rfl)
theorem dX0_worthFrom_1 : decode cX0_worthFrom 1 = .ok (.iload_n 1, 1) := dk_27 (dk_at dksX0_worthFrom_0 1 rfl rfl)
theorem dX0_worthFrom_2 : decode cX0_worthFrom 2 = .ok (.imul, 1) := dk_104 (dk_at dksX0_worthFrom_0 2 rfl rfl)
theorem dX0_worthFrom_3 : decode cX0_worthFrom 3 = .ok (.iload_n 2, 1) := dk_28 (dk_at dksX0_worthFrom_0 3 rfl rfl)
theorem dX0_worthFrom_4 : decode cX0_worthFrom 4 = .ok (.iadd, 1) := dk_96 (dk_at dksX0_worthFrom_0 4 rfl rfl)
theorem dX0_worthFrom_5 : decode cX0_worthFrom 5 = .ok (.istore_n 3, 1) := dk_62 (dk_at dksX0_worthFrom_0 5 rfl rfl)
theorem dX0_worthFrom_6 : decode cX0_worthFrom 6 = .ok (.aload_n 0, 1) := dk_42 (dk_at dksX0_worthFrom_0 6 rfl rfl)
theorem dX0_worthFrom_7 : decode cX0_worthFrom 7 = .ok (.getfield 39, 3) := dk_180 0 39 (dk_at dksX0_worthFrom_0 7 rfl rfl)
theorem dX0_worthFrom_10 : decode cX0_worthFrom 10 = .ok (.iload_n 3, 1) := dk_29 (dk_at dksX0_worthFrom_0 10 rfl rfl)
theorem dX0_worthFrom_11 : decode cX0_worthFrom 11 = .ok (.iaload, 1) := dk_46 (dk_at dksX0_worthFrom_0 11 rfl rfl)
theorem dX0_worthFrom_12 : decode cX0_worthFrom 12 = .ok (.bipush (-100), 2) := dk_16 156 (dk_at dksX0_worthFrom_0 12 rfl rfl)
theorem dX0_worthFrom_14 : decode cX0_worthFrom 14 = .ok (.if_icmp .ge 123, 3) := dk_162 0 123 (dk_at dksX0_worthFrom_0 14 rfl rfl)
theorem dX0_worthFrom_17 : decode cX0_worthFrom 17 = .ok (.aload_n 0, 1) := dk_42 (dk_at dksX0_worthFrom_0 17 rfl rfl)
theorem dX0_worthFrom_18 : decode cX0_worthFrom 18 = .ok (.iload_n 1, 1) := dk_27 (dk_at dksX0_worthFrom_0 18 rfl rfl)
theorem dX0_worthFrom_19 : decode cX0_worthFrom 19 = .ok (.iload_n 2, 1) := dk_28 (dk_at dksX0_worthFrom_0 19 rfl rfl)
theorem dX0_worthFrom_20 : decode cX0_worthFrom 20 = .ok (.invokevirtual 141, 3) := dk_182 0 141 (dk_at dksX0_worthFrom_0 20 rfl rfl)
theorem dX0_worthFrom_23 : decode cX0_worthFrom 23 = .ok (.ifCond .eq 7, 3) := dk_153 0 7 (dk_at dksX0_worthFrom_1 0 rfl rfl)
theorem dX0_worthFrom_26 : decode cX0_worthFrom 26 = .ok (.iconst 0, 1) := dk_3 (dk_at dksX0_worthFrom_1 3 rfl rfl)
theorem dX0_worthFrom_27 : decode cX0_worthFrom 27 = .ok (.goto 5, 3) := dk_167 0 5 (dk_at dksX0_worthFrom_1 4 rfl rfl)
theorem dX0_worthFrom_30 : decode cX0_worthFrom 30 = .ok (.bipush (-9), 2) := dk_16 247 (dk_at dksX0_worthFrom_1 7 rfl rfl)
theorem dX0_worthFrom_32 : decode cX0_worthFrom 32 = .ok (.istore 4, 2) := dk_54 4 (dk_at dksX0_worthFrom_1 9 rfl rfl)
theorem dX0_worthFrom_34 : decode cX0_worthFrom 34 = .ok (.iconst 0, 1) := dk_3 (dk_at dksX0_worthFrom_1 11 rfl rfl)
theorem dX0_worthFrom_35 : decode cX0_worthFrom 35 = .ok (.istore 5, 2) := dk_54 5 (dk_at dksX0_worthFrom_1 12 rfl rfl)
theorem dX0_worthFrom_37 : decode cX0_worthFrom 37 = .ok (.iload 5, 2) := dk_21 5 (dk_at dksX0_worthFrom_1 14 rfl rfl)
theorem dX0_worthFrom_39 : decode cX0_worthFrom 39 = .ok (.aload_n 0, 1) := dk_42 (dk_at dksX0_worthFrom_1 16 rfl rfl)
theorem dX0_worthFrom_40 : decode cX0_worthFrom 40 = .ok (.getfield 109, 3) := dk_180 0 109 (dk_at dksX0_worthFrom_1 17 rfl rfl)
theorem dX0_worthFrom_43 : decode cX0_worthFrom 43 = .ok (.if_icmp .ge 86, 3) := dk_162 0 86 (dk_at dksX0_worthFrom_1 20 rfl rfl)
theorem dX0_worthFrom_46 : decode cX0_worthFrom 46 = .ok (.iload_n 1, 1) := dk_27 (dk_at dksX0_worthFrom_1 23 rfl rfl)
theorem dX0_worthFrom_47 : decode cX0_worthFrom 47 = .ok (.ifCond .le 82, 3) := dk_158 0 82 (dk_at dksX0_worthFrom_2 0 rfl rfl)
theorem dX0_worthFrom_50 : decode cX0_worthFrom 50 = .ok (.aload_n 0, 1) := dk_42 (dk_at dksX0_worthFrom_2 3 rfl rfl)
theorem dX0_worthFrom_51 : decode cX0_worthFrom 51 = .ok (.iload 5, 2) := dk_21 5 (dk_at dksX0_worthFrom_2 4 rfl rfl)
theorem dX0_worthFrom_53 : decode cX0_worthFrom 53 = .ok (.iload_n 1, 1) := dk_27 (dk_at dksX0_worthFrom_2 6 rfl rfl)
theorem dX0_worthFrom_54 : decode cX0_worthFrom 54 = .ok (.iload_n 2, 1) := dk_28 (dk_at dksX0_worthFrom_2 7 rfl rfl)
theorem dX0_worthFrom_55 : decode cX0_worthFrom 55 = .ok (.invokevirtual 144, 3) := dk_182 0 144 (dk_at dksX0_worthFrom_2 8 rfl rfl)
theorem dX0_worthFrom_58 : decode cX0_worthFrom 58 = .ok (.ifCond .eq 29, 3) := dk_153 0 29 (dk_at dksX0_worthFrom_2 11 rfl rfl)
theorem dX0_worthFrom_61 : decode cX0_worthFrom 61 = .ok (.aload_n 0, 1) := dk_42 (dk_at dksX0_worthFrom_2 14 rfl rfl)
theorem dX0_worthFrom_62 : decode cX0_worthFrom 62 = .ok (.iload_n 1, 1) := dk_27 (dk_at dksX0_worthFrom_2 15 rfl rfl)
theorem dX0_worthFrom_63 : decode cX0_worthFrom 63 = .ok (.aload_n 0, 1) := dk_42 (dk_at dksX0_worthFrom_2 16 rfl rfl)
theorem dX0_worthFrom_64 : decode cX0_worthFrom 64 = .ok (.getfield 42, 3) := dk_180 0 42 (dk_at dksX0_worthFrom_2 17 rfl rfl)
theorem dX0_worthFrom_67 : decode cX0_worthFrom 67 = .ok (.iload 5, 2) := dk_21 5 (dk_at dksX0_worthFrom_2 20 rfl rfl)
theorem dX0_worthFrom_69 : decode cX0_worthFrom 69 = .ok (.iaload, 1) := dk_46 (dk_at dksX0_worthFrom_2 22 rfl rfl)
theorem dX0_worthFrom_70 : decode cX0_worthFrom 70 = .ok (.isub, 1) := dk_100 (dk_at dksX0_worthFrom_2 23 rfl rfl)
theorem dX0_worthFrom_71 : decode cX0_worthFrom 71 = .ok (.aload_n 0, 1) := dk_42 (dk_at dksX0_worthFrom_3 0 rfl rfl)
theorem dX0_worthFrom_72 : decode cX0_worthFrom 72 = .ok (.getfield 11, 3) := dk_180 0 11 (dk_at dksX0_worthFrom_3 1 rfl rfl)
theorem dX0_worthFrom_75 : decode cX0_worthFrom 75 = .ok (.iload 5, 2) := dk_21 5 (dk_at dksX0_worthFrom_3 4 rfl rfl)
theorem dX0_worthFrom_77 : decode cX0_worthFrom 77 = .ok (.aaload, 1) := dk_50 (dk_at dksX0_worthFrom_3 6 rfl rfl)
theorem dX0_worthFrom_78 : decode cX0_worthFrom 78 = .ok (.getfield 135, 3) := dk_180 0 135 (dk_at dksX0_worthFrom_3 7 rfl rfl)
theorem dX0_worthFrom_81 : decode cX0_worthFrom 81 = .ok (.invokevirtual 152, 3) := dk_182 0 152 (dk_at dksX0_worthFrom_3 10 rfl rfl)
theorem dX0_worthFrom_84 : decode cX0_worthFrom 84 = .ok (.goto 5, 3) := dk_167 0 5 (dk_at dksX0_worthFrom_3 13 rfl rfl)
theorem dX0_worthFrom_87 : decode cX0_worthFrom 87 = .ok (.bipush (-9), 2) := dk_16 247 (dk_at dksX0_worthFrom_3 16 rfl rfl)
theorem dX0_worthFrom_89 : decode cX0_worthFrom 89 = .ok (.istore 6, 2) := dk_54 6 (dk_at dksX0_worthFrom_3 18 rfl rfl)
theorem dX0_worthFrom_91 : decode cX0_worthFrom 91 = .ok (.iload 6, 2) := dk_21 6 (dk_at dksX0_worthFrom_3 20 rfl rfl)
theorem dX0_worthFrom_93 : decode cX0_worthFrom 93 = .ok (.bipush (-9), 2) := dk_16 247 (dk_at dksX0_worthFrom_3 22 rfl rfl)
theorem dX0_worthFrom_95 : decode cX0_worthFrom 95 = .ok (.if_icmp .ne 8, 3) := dk_160 0 8 (dk_at dksX0_worthFrom_4 0 rfl rfl)
theorem dX0_worthFrom_98 : decode cX0_worthFrom 98 = .ok (.iload 4, 2) := dk_21 4 (dk_at dksX0_worthFrom_4 3 rfl rfl)
theorem dX0_worthFrom_100 : decode cX0_worthFrom 100 = .ok (.goto 21, 3) := dk_167 0 21 (dk_at dksX0_worthFrom_4 5 rfl rfl)
theorem dX0_worthFrom_103 : decode cX0_worthFrom 103 = .ok (.iload 4, 2) := dk_21 4 (dk_at dksX0_worthFrom_4 8 rfl rfl)
theorem dX0_worthFrom_105 : decode cX0_worthFrom 105 = .ok (.iload 6, 2) := dk_21 6 (dk_at dksX0_worthFrom_4 10 rfl rfl)
theorem dX0_worthFrom_107 : decode cX0_worthFrom 107 = .ok (.aload_n 0, 1) := dk_42 (dk_at dksX0_worthFrom_4 12 rfl rfl)
theorem dX0_worthFrom_108 : decode cX0_worthFrom 108 = .ok (.getfield 25, 3) := dk_180 0 25 (dk_at dksX0_worthFrom_4 13 rfl rfl)
theorem dX0_worthFrom_111 : decode cX0_worthFrom 111 = .ok (.getfield 156, 3) := dk_180 0 156 (dk_at dksX0_worthFrom_4 16 rfl rfl)
theorem dX0_worthFrom_114 : decode cX0_worthFrom 114 = .ok (.iload 5, 2) := dk_21 5 (dk_at dksX0_worthFrom_4 19 rfl rfl)
theorem dX0_worthFrom_116 : decode cX0_worthFrom 116 = .ok (.iaload, 1) := dk_46 (dk_at dksX0_worthFrom_4 21 rfl rfl)
theorem dX0_worthFrom_117 : decode cX0_worthFrom 117 = .ok (.iadd, 1) := dk_96 (dk_at dksX0_worthFrom_4 22 rfl rfl)
theorem dX0_worthFrom_118 : decode cX0_worthFrom 118 = .ok (.invokestatic 159, 3) := dk_184 0 159 (dk_at dksX0_worthFrom_5 0 rfl rfl)
theorem dX0_worthFrom_121 : decode cX0_worthFrom 121 = .ok (.istore 4, 2) := dk_54 4 (dk_at dksX0_worthFrom_5 3 rfl rfl)
theorem dX0_worthFrom_123 : decode cX0_worthFrom 123 = .ok (.iinc 5 1, 3) := dk_132 5 1 (dk_at dksX0_worthFrom_5 5 rfl rfl)
theorem dX0_worthFrom_126 : decode cX0_worthFrom 126 = .ok (.goto (-89), 3) := dk_167 255 167 (dk_at dksX0_worthFrom_5 8 rfl rfl)
theorem dX0_worthFrom_129 : decode cX0_worthFrom 129 = .ok (.aload_n 0, 1) := dk_42 (dk_at dksX0_worthFrom_5 11 rfl rfl)
theorem dX0_worthFrom_130 : decode cX0_worthFrom 130 = .ok (.getfield 39, 3) := dk_180 0 39 (dk_at dksX0_worthFrom_5 12 rfl rfl)
theorem dX0_worthFrom_133 : decode cX0_worthFrom 133 = .ok (.iload_n 3, 1) := dk_29 (dk_at dksX0_worthFrom_5 15 rfl rfl)
theorem dX0_worthFrom_134 : decode cX0_worthFrom 134 = .ok (.iload 4, 2) := dk_21 4 (dk_at dksX0_worthFrom_5 16 rfl rfl)
theorem dX0_worthFrom_136 : decode cX0_worthFrom 136 = .ok (.iastore, 1) := dk_79 (dk_at dksX0_worthFrom_5 18 rfl rfl)
theorem dX0_worthFrom_137 : decode cX0_worthFrom 137 = .ok (.aload_n 0, 1) := dk_42 (dk_at dksX0_worthFrom_5 19 rfl rfl)
theorem dX0_worthFrom_138 : decode cX0_worthFrom 138 = .ok (.getfield 39, 3) := dk_180 0 39 (dk_at dksX0_worthFrom_5 20 rfl rfl)
theorem dX0_worthFrom_141 : decode cX0_worthFrom 141 = .ok (.iload_n 3, 1) := dk_29 (dk_at dksX0_worthFrom_5 23 rfl rfl)
theorem dX0_worthFrom_142 : decode cX0_worthFrom 142 = .ok (.iaload, 1) := dk_46 (dk_at dksX0_worthFrom_6 0 rfl rfl)
theorem dX0_worthFrom_143 : decode cX0_worthFrom 143 = .ok (.ireturn, 1) := dk_172 (dk_at dksX0_worthFrom_6 1 rfl rfl)
abbrev cX0_leads : ByteArray := prog_1_method_12_code
def yX0_leads : MethodName := ⟨RX0, "leads", "(IIII)Z"⟩
def dkwX0_leads_2 : List UInt8 := [42, 180, 0, 25, 180, 0, 156, 27, 46, 100, 160, 0, 7, 4, 167, 0, 4, 3, 172]
abbrev dktX0_leads_2 : List UInt8 := dkwX0_leads_2 ++ []
def dkwX0_leads_1 : List UInt8 := [180, 0, 11, 27, 50, 180, 0, 135, 182, 0, 152, 54, 5, 21, 5, 16, 247, 159, 0, 24, 21, 5, 21, 4]
abbrev dktX0_leads_1 : List UInt8 := dkwX0_leads_1 ++ dktX0_leads_2
def dkwX0_leads_0 : List UInt8 := [42, 27, 28, 29, 182, 0, 144, 154, 0, 5, 3, 172, 42, 28, 42, 180, 0, 42, 27, 46, 100, 42]
abbrev dktX0_leads_0 : List UInt8 := dkwX0_leads_0 ++ dktX0_leads_1
theorem dksX0_leads_0 : cX0_leads.data.toList.drop 0 = dktX0_leads_0 := by decide +kernel
theorem dksX0_leads_1 : cX0_leads.data.toList.drop 22 = dktX0_leads_1 := dk_seg dksX0_leads_0 22 rfl rfl
theorem dksX0_leads_2 : cX0_leads.data.toList.drop 46 = dktX0_leads_2 := dk_seg dksX0_leads_1 24 rfl rfl
theorem dX0_leads_0 : decode cX0_leads 0 = .ok (.aload_n 0, 1) := dk_42 (dk_at dksX0_leads_0 0 rfl rfl)
theorem dX0_leads_1 : decode cX0_leads 1 = .ok (.iload_n 1, 1) := dk_27 (dk_at dksX0_leads_0 1 rfl rfl)
theorem dX0_leads_2 : decode cX0_leads 2 = .ok (.iload_n 2, 1) := dk_28 (dk_at dksX0_leads_0 2 rfl rfl)
theorem dX0_leads_3 : decode cX0_leads 3 = .ok (.iload_n 3, 1) := dk_29 (dk_at dksX0_leads_0 3 rfl rfl)
theorem dX0_leads_4 : decode cX0_leads 4 = .ok (.invokevirtual 144, 3) := dk_182 0 144 (dk_at dksX0_leads_0 4 rfl rfl)
theorem dX0_leads_7 : decode cX0_leads 7 = .ok (.ifCond .ne 5, 3) := dk_154 0 5 (dk_at dksX0_leads_0 7 rfl rfl)
theorem dX0_leads_10 : decode cX0_leads 10 = .ok (.iconst 0, 1) := dk_3 (dk_at dksX0_leads_0 10 rfl rfl)
theorem dX0_leads_11 : decode cX0_leads 11 = .ok (.ireturn, 1) := dk_172 (dk_at dksX0_leads_0 11 rfl rfl)
theorem dX0_leads_12 : decode cX0_leads 12 = .ok (.aload_n 0, 1) := dk_42 (dk_at dksX0_leads_0 12 rfl rfl)
theorem dX0_leads_13 : decode cX0_leads 13 = .ok (.iload_n 2, 1) := dk_28 (dk_at dksX0_leads_0 13 rfl rfl)
theorem dX0_leads_14 : decode cX0_leads 14 = .ok (.aload_n 0, 1) := dk_42 (dk_at dksX0_leads_0 14 rfl rfl)
theorem dX0_leads_15 : decode cX0_leads 15 = .ok (.getfield 42, 3) := dk_180 0 42 (dk_at dksX0_leads_0 15 rfl rfl)
theorem dX0_leads_18 : decode cX0_leads 18 = .ok (.iload_n 1, 1) := dk_27 (dk_at dksX0_leads_0 18 rfl rfl)
theorem dX0_leads_19 : decode cX0_leads 19 = .ok (.iaload, 1) := dk_46 (dk_at dksX0_leads_0 19 rfl rfl)
theorem dX0_leads_20 : decode cX0_leads 20 = .ok (.isub, 1) := dk_100 (dk_at dksX0_leads_0 20 rfl rfl)
theorem dX0_leads_21 : decode cX0_leads 21 = .ok (.aload_n 0, 1) := dk_42 (dk_at dksX0_leads_0 21 rfl rfl)
theorem dX0_leads_22 : decode cX0_leads 22 = .ok (.getfield 11, 3) := dk_180 0 11 (dk_at dksX0_leads_1 0 rfl rfl)
theorem dX0_leads_25 : decode cX0_leads 25 = .ok (.iload_n 1, 1) := dk_27 (dk_at dksX0_leads_1 3 rfl rfl)
theorem dX0_leads_26 : decode cX0_leads 26 = .ok (.aaload, 1) := dk_50 (dk_at dksX0_leads_1 4 rfl rfl)
theorem dX0_leads_27 : decode cX0_leads 27 = .ok (.getfield 135, 3) := dk_180 0 135 (dk_at dksX0_leads_1 5 rfl rfl)
theorem dX0_leads_30 : decode cX0_leads 30 = .ok (.invokevirtual 152, 3) := dk_182 0 152 (dk_at dksX0_leads_1 8 rfl rfl)
theorem dX0_leads_33 : decode cX0_leads 33 = .ok (.istore 5, 2) := dk_54 5 (dk_at dksX0_leads_1 11 rfl rfl)
theorem dX0_leads_35 : decode cX0_leads 35 = .ok (.iload 5, 2) := dk_21 5 (dk_at dksX0_leads_1 13 rfl rfl)
theorem dX0_leads_37 : decode cX0_leads 37 = .ok (.bipush (-9), 2) := dk_16 247 (dk_at dksX0_leads_1 15 rfl rfl)
theorem dX0_leads_39 : decode cX0_leads 39 = .ok (.if_icmp .eq 24, 3) := dk_159 0 24 (dk_at dksX0_leads_1 17 rfl rfl)
theorem dX0_leads_42 : decode cX0_leads 42 = .ok (.iload 5, 2) := dk_21 5 (dk_at dksX0_leads_1 20 rfl rfl)
theorem dX0_leads_44 : decode cX0_leads 44 = .ok (.iload 4, 2) := dk_21 4 (dk_at dksX0_leads_1 22 rfl rfl)
theorem dX0_leads_46 : decode cX0_leads 46 = .ok (.aload_n 0, 1) := dk_42 (dk_at dksX0_leads_2 0 rfl rfl)
theorem dX0_leads_47 : decode cX0_leads 47 = .ok (.getfield 25, 3) := dk_180 0 25 (dk_at dksX0_leads_2 1 rfl rfl)
theorem dX0_leads_50 : decode cX0_leads 50 = .ok (.getfield 156, 3) := dk_180 0 156 (dk_at dksX0_leads_2 4 rfl rfl)
theorem dX0_leads_53 : decode cX0_leads 53 = .ok (.iload_n 1, 1) := dk_27 (dk_at dksX0_leads_2 7 rfl rfl)
theorem dX0_leads_54 : decode cX0_leads 54 = .ok (.iaload, 1) := dk_46 (dk_at dksX0_leads_2 8 rfl rfl)
theorem dX0_leads_55 : decode cX0_leads 55 = .ok (.isub, 1) := dk_100 (dk_at dksX0_leads_2 9 rfl rfl)
theorem dX0_leads_56 : decode cX0_leads 56 = .ok (.if_icmp .ne 7, 3) := dk_160 0 7 (dk_at dksX0_leads_2 10 rfl rfl)
theorem dX0_leads_59 : decode cX0_leads 59 = .ok (.iconst 1, 1) := dk_4 (dk_at dksX0_leads_2 13 rfl rfl)
theorem dX0_leads_60 : decode cX0_leads 60 = .ok (.goto 4, 3) := dk_167 0 4 (dk_at dksX0_leads_2 14 rfl rfl)
theorem dX0_leads_63 : decode cX0_leads 63 = .ok (.iconst 0, 1) := dk_3 (dk_at dksX0_leads_2 17 rfl rfl)
theorem dX0_leads_64 : decode cX0_leads 64 = .ok (.ireturn, 1) := dk_172 (dk_at dksX0_leads_2 18 rfl rfl)
abbrev cX0_phrase : ByteArray := prog_1_method_58_code
def yX0_phrase : MethodName := ⟨RX0, "phrase", "(JI)I"⟩
def dkwX0_phrase_3 : List UInt8 := [163, 0, 14, 42, 180, 0, 45, 29, 4, 100, 46, 167, 0, 5, 16, 247, 172]
abbrev dktX0_phrase_3 : List UInt8 := dkwX0_phrase_3 ++ []
def dkwX0_phrase_2 : List UInt8 := [180, 0, 164, 167, 0, 35, 29, 16, 12, 164, 0, 8, 21, 4, 167, 0, 24, 29, 42, 180, 0, 164]
abbrev dktX0_phrase_2 : List UInt8 := dkwX0_phrase_2 ++ dktX0_phrase_3
def dkwX0_phrase_1 : List UInt8 := [20, 1, 75, 184, 0, 190, 154, 0, 6, 16, 254, 172, 42, 31, 182, 1, 80, 54, 4, 29, 154, 0, 10, 42]
abbrev dktX0_phrase_1 : List UInt8 := dkwX0_phrase_1 ++ dktX0_phrase_2
def dkwX0_phrase_0 : List UInt8 := [42, 182, 1, 9, 31, 9, 42, 182, 0, 181, 10, 101, 184, 0, 190, 154, 0, 5, 2, 172, 29, 133, 9]
abbrev dktX0_phrase_0 : List UInt8 := dkwX0_phrase_0 ++ dktX0_phrase_1
theorem dksX0_phrase_0 : cX0_phrase.data.toList.drop 0 = dktX0_phrase_0 := by decide +kernel
theorem dksX0_phrase_1 : cX0_phrase.data.toList.drop 23 = dktX0_phrase_1 := dk_seg dksX0_phrase_0 23 rfl rfl
theorem dksX0_phrase_2 : cX0_phrase.data.toList.drop 47 = dktX0_phrase_2 := dk_seg dksX0_phrase_1 24 rfl rfl
theorem dksX0_phrase_3 : cX0_phrase.data.toList.drop 69 = dktX0_phrase_3 := dk_seg dksX0_phrase_2 22 rfl rfl
theorem dX0_phrase_0 : decode cX0_phrase 0 = .ok (.aload_n 0, 1) := dk_42 (dk_at dksX0_phrase_0 0 rfl rfl)
theorem dX0_phrase_1 : decode cX0_phrase 1 = .ok (.invokevirtual 265, 3) := dk_182 1 9 (dk_at dksX0_phrase_0 1 rfl rfl)
theorem dX0_phrase_4 : decode cX0_phrase 4 = .ok (.lload_n 1, 1) := dk_31 (dk_at dksX0_phrase_0 4 rfl rfl)
theorem dX0_phrase_5 : decode cX0_phrase 5 = .ok (.lconst 0, 1) := dk_9 (dk_at dksX0_phrase_0 5 rfl rfl)
theorem dX0_phrase_6 : decode cX0_phrase 6 = .ok (.aload_n 0, 1) := dk_42 (dk_at dksX0_phrase_0 6 rfl rfl)
theorem dX0_phrase_7 : decode cX0_phrase 7 = .ok (.invokevirtual 181, 3) := dk_182 0 181 (dk_at dksX0_phrase_0 7 rfl rfl)
theorem dX0_phrase_10 : decode cX0_phrase 10 = .ok (.lconst 1, 1) := dk_10 (dk_at dksX0_phrase_0 10 rfl rfl)
theorem dX0_phrase_11 : decode cX0_phrase 11 = .ok (.lsub, 1) := dk_101 (dk_at dksX0_phrase_0 11 rfl rfl)
theorem dX0_phrase_12 : decode cX0_phrase 12 = .ok (.invokestatic 190, 3) := dk_184 0 190 (dk_at dksX0_phrase_0 12 rfl rfl)
theorem dX0_phrase_15 : decode cX0_phrase 15 = .ok (.ifCond .ne 5, 3) := dk_154 0 5 (dk_at dksX0_phrase_0 15 rfl rfl)
theorem dX0_phrase_18 : decode cX0_phrase 18 = .ok (.iconst (-1), 1) := dk_2 (dk_at dksX0_phrase_0 18 rfl rfl)
theorem dX0_phrase_19 : decode cX0_phrase 19 = .ok (.ireturn, 1) := dk_172 (dk_at dksX0_phrase_0 19 rfl rfl)
theorem dX0_phrase_20 : decode cX0_phrase 20 = .ok (.iload_n 3, 1) := dk_29 (dk_at dksX0_phrase_0 20 rfl rfl)
theorem dX0_phrase_21 : decode cX0_phrase 21 = .ok (.i2l, 1) := dk_133 (dk_at dksX0_phrase_0 21 rfl rfl)
theorem dX0_phrase_22 : decode cX0_phrase 22 = .ok (.lconst 0, 1) := dk_9 (dk_at dksX0_phrase_0 22 rfl rfl)
theorem dX0_phrase_23 : decode cX0_phrase 23 = .ok (.ldc2_w 331, 3) := dk_20 1 75 (dk_at dksX0_phrase_1 0 rfl rfl)
theorem dX0_phrase_26 : decode cX0_phrase 26 = .ok (.invokestatic 190, 3) := dk_184 0 190 (dk_at dksX0_phrase_1 3 rfl rfl)
theorem dX0_phrase_29 : decode cX0_phrase 29 = .ok (.ifCond .ne 6, 3) := dk_154 0 6 (dk_at dksX0_phrase_1 6 rfl rfl)
theorem dX0_phrase_32 : decode cX0_phrase 32 = .ok (.bipush (-2), 2) := dk_16 254 (dk_at dksX0_phrase_1 9 rfl rfl)
theorem dX0_phrase_34 : decode cX0_phrase 34 = .ok (.ireturn, 1) := dk_172 (dk_at dksX0_phrase_1 11 rfl rfl)
theorem dX0_phrase_35 : decode cX0_phrase 35 = .ok (.aload_n 0, 1) := dk_42 (dk_at dksX0_phrase_1 12 rfl rfl)
theorem dX0_phrase_36 : decode cX0_phrase 36 = .ok (.lload_n 1, 1) := dk_31 (dk_at dksX0_phrase_1 13 rfl rfl)
theorem dX0_phrase_37 : decode cX0_phrase 37 = .ok (.invokevirtual 336, 3) := dk_182 1 80 (dk_at dksX0_phrase_1 14 rfl rfl)
theorem dX0_phrase_40 : decode cX0_phrase 40 = .ok (.istore 4, 2) := dk_54 4 (dk_at dksX0_phrase_1 17 rfl rfl)
theorem dX0_phrase_42 : decode cX0_phrase 42 = .ok (.iload_n 3, 1) := dk_29 (dk_at dksX0_phrase_1 19 rfl rfl)
theorem dX0_phrase_43 : decode cX0_phrase 43 = .ok (.ifCond .ne 10, 3) := dk_154 0 10 (dk_at dksX0_phrase_1 20 rfl rfl)
theorem dX0_phrase_46 : decode cX0_phrase 46 = .ok (.aload_n 0, 1) := dk_42 (dk_at dksX0_phrase_1 23 rfl rfl)
theorem dX0_phrase_47 : decode cX0_phrase 47 = .ok (.getfield 164, 3) := dk_180 0 164 (dk_at dksX0_phrase_2 0 rfl rfl)
theorem dX0_phrase_50 : decode cX0_phrase 50 = .ok (.goto 35, 3) := dk_167 0 35 (dk_at dksX0_phrase_2 3 rfl rfl)
theorem dX0_phrase_53 : decode cX0_phrase 53 = .ok (.iload_n 3, 1) := dk_29 (dk_at dksX0_phrase_2 6 rfl rfl)
theorem dX0_phrase_54 : decode cX0_phrase 54 = .ok (.bipush 12, 2) := dk_16 12 (dk_at dksX0_phrase_2 7 rfl rfl)
theorem dX0_phrase_56 : decode cX0_phrase 56 = .ok (.if_icmp .le 8, 3) := dk_164 0 8 (dk_at dksX0_phrase_2 9 rfl rfl)
theorem dX0_phrase_59 : decode cX0_phrase 59 = .ok (.iload 4, 2) := dk_21 4 (dk_at dksX0_phrase_2 12 rfl rfl)
theorem dX0_phrase_61 : decode cX0_phrase 61 = .ok (.goto 24, 3) := dk_167 0 24 (dk_at dksX0_phrase_2 14 rfl rfl)
theorem dX0_phrase_64 : decode cX0_phrase 64 = .ok (.iload_n 3, 1) := dk_29 (dk_at dksX0_phrase_2 17 rfl rfl)
theorem dX0_phrase_65 : decode cX0_phrase 65 = .ok (.aload_n 0, 1) := dk_42 (dk_at dksX0_phrase_2 18 rfl rfl)
theorem dX0_phrase_66 : decode cX0_phrase 66 = .ok (.getfield 164, 3) := dk_180 0 164 (dk_at dksX0_phrase_2 19 rfl rfl)
theorem dX0_phrase_69 : decode cX0_phrase 69 = .ok (.if_icmp .gt 14, 3) := dk_163 0 14 (dk_at dksX0_phrase_3 0 rfl rfl)
theorem dX0_phrase_72 : decode cX0_phrase 72 = .ok (.aload_n 0, 1) := dk_42 (dk_at dksX0_phrase_3 3 rfl rfl)
theorem dX0_phrase_73 : decode cX0_phrase 73 = .ok (.getfield 45, 3) := dk_180 0 45 (dk_at dksX0_phrase_3 4 rfl rfl)
theorem dX0_phrase_76 : decode cX0_phrase 76 = .ok (.iload_n 3, 1) := dk_29 (dk_at dksX0_phrase_3 7 rfl rfl)
theorem dX0_phrase_77 : decode cX0_phrase 77 = .ok (.iconst 1, 1) := dk_4 (dk_at dksX0_phrase_3 8 rfl rfl)
theorem dX0_phrase_78 : decode cX0_phrase 78 = .ok (.isub, 1) := dk_100 (dk_at dksX0_phrase_3 9 rfl rfl)
theorem dX0_phrase_79 : decode cX0_phrase 79 = .ok (.iaload, 1) := dk_46 (dk_at dksX0_phrase_3 10 rfl rfl)
theorem dX0_phrase_80 : decode cX0_phrase 80 = .ok (.goto 5, 3) := dk_167 0 5 (dk_at dksX0_phrase_3 11 rfl rfl)
theorem dX0_phrase_83 : decode cX0_phrase 83 = .ok (.bipush (-9), 2) := dk_16 247 (dk_at dksX0_phrase_3 14 rfl rfl)
theorem dX0_phrase_85 : decode cX0_phrase 85 = .ok (.ireturn, 1) := dk_172 (dk_at dksX0_phrase_3 16 rfl rfl)
abbrev cX0_layNumber : ByteArray := prog_1_method_14_code
def yX0_layNumber : MethodName := ⟨RX0, "layNumber", "(J)I"⟩
def dkwX0_layNumber_8 : List UInt8 := [180, 0, 135, 54, 7, 167, 255, 84, 21, 5, 172]
abbrev dktX0_layNumber_8 : List UInt8 := dkwX0_layNumber_8 ++ []
def dkwX0_layNumber_7 : List UInt8 := [46, 96, 54, 5, 21, 6, 42, 180, 0, 42, 21, 8, 46, 100, 54, 6, 42, 180, 0, 11, 21, 8, 50]
abbrev dktX0_layNumber_7 : List UInt8 := dkwX0_layNumber_7 ++ dktX0_layNumber_8
def dkwX0_layNumber_6 : List UInt8 := [21, 8, 79, 42, 89, 180, 0, 164, 4, 96, 181, 0, 164, 21, 5, 42, 180, 0, 25, 180, 0, 156, 21, 8]
abbrev dktX0_layNumber_6 : List UInt8 := dkwX0_layNumber_6 ++ dktX0_layNumber_7
def dkwX0_layNumber_5 : List UInt8 := [180, 0, 135, 182, 0, 148, 167, 0, 4, 9, 55, 9, 167, 255, 198, 42, 180, 0, 45, 42, 180, 0, 164]
abbrev dktX0_layNumber_5 : List UInt8 := dkwX0_layNumber_5 ++ dktX0_layNumber_6
def dkwX0_layNumber_4 : List UInt8 := [182, 0, 144, 153, 0, 30, 42, 21, 6, 42, 180, 0, 42, 21, 8, 46, 100, 42, 180, 0, 11, 21, 8, 50]
abbrev dktX0_layNumber_4 : List UInt8 := dkwX0_layNumber_4 ++ dktX0_layNumber_5
def dkwX0_layNumber_3 : List UInt8 := [55, 9, 22, 9, 33, 148, 157, 0, 57, 33, 22, 9, 101, 66, 132, 8, 1, 42, 21, 8, 21, 6, 21, 7]
abbrev dktX0_layNumber_3 : List UInt8 := dkwX0_layNumber_3 ++ dktX0_layNumber_4
def dkwX0_layNumber_2 : List UInt8 := [180, 0, 42, 21, 8, 46, 100, 42, 180, 0, 11, 21, 8, 50, 180, 0, 135, 182, 0, 148, 167, 0, 4, 9]
abbrev dktX0_layNumber_2 : List UInt8 := dkwX0_layNumber_2 ++ dktX0_layNumber_3
def dkwX0_layNumber_1 : List UInt8 := [158, 0, 173, 3, 54, 8, 42, 21, 8, 21, 6, 21, 7, 182, 0, 144, 153, 0, 30, 42, 21, 6, 42]
abbrev dktX0_layNumber_1 : List UInt8 := dkwX0_layNumber_1 ++ dktX0_layNumber_2
def dkwX0_layNumber_0 : List UInt8 := [42, 3, 181, 0, 164, 31, 66, 3, 54, 5, 42, 180, 0, 101, 4, 100, 54, 6, 7, 54, 7, 21, 6]
abbrev dktX0_layNumber_0 : List UInt8 := dkwX0_layNumber_0 ++ dktX0_layNumber_1
theorem dksX0_layNumber_0 : cX0_layNumber.data.toList.drop 0 = dktX0_layNumber_0 := by decide +kernel
theorem dksX0_layNumber_1 : cX0_layNumber.data.toList.drop 23 = dktX0_layNumber_1 := dk_seg dksX0_layNumber_0 23 rfl rfl
theorem dksX0_layNumber_2 : cX0_layNumber.data.toList.drop 46 = dktX0_layNumber_2 := dk_seg dksX0_layNumber_1 23 rfl rfl
theorem dksX0_layNumber_3 : cX0_layNumber.data.toList.drop 70 = dktX0_layNumber_3 := dk_seg dksX0_layNumber_2 24 rfl rfl
theorem dksX0_layNumber_4 : cX0_layNumber.data.toList.drop 94 = dktX0_layNumber_4 := dk_seg dksX0_layNumber_3 24 rfl rfl
theorem dksX0_layNumber_5 : cX0_layNumber.data.toList.drop 118 = dktX0_layNumber_5 := dk_seg dksX0_layNumber_4 24 rfl rfl
theorem dksX0_layNumber_6 : cX0_layNumber.data.toList.drop 141 = dktX0_layNumber_6 := dk_seg dksX0_layNumber_5 23 rfl rfl
theorem dksX0_layNumber_7 : cX0_layNumber.data.toList.drop 165 = dktX0_layNumber_7 := dk_seg dksX0_layNumber_6 24 rfl rfl
theorem dksX0_layNumber_8 : cX0_layNumber.data.toList.drop 188 = dktX0_layNumber_8 := dk_seg dksX0_layNumber_7 23 rfl rfl
theorem dX0_layNumber_0 : decode cX0_layNumber 0 = .ok (.aload_n 0, 1) := dk_42 (dk_at dksX0_layNumber_0 0 rfl rfl)
theorem dX0_layNumber_1 : decode cX0_layNumber 1 = .ok (.iconst 0, 1) := dk_3 (dk_at dksX0_layNumber_0 1 rfl rfl)
theorem dX0_layNumber_2 : decode cX0_layNumber 2 = .ok (.putfield 164, 3) := dk_181 0 164 (dk_at dksX0_layNumber_0 2 rfl rfl)
theorem dX0_layNumber_5 : decode cX0_layNumber 5 = .ok (.lload_n 1, 1) := dk_31 (dk_at dksX0_layNumber_0 5 rfl rfl)
theorem dX0_layNumber_6 : decode cX0_layNumber 6 = .ok (.lstore_n 3, 1) := dk_66 (dk_at dksX0_layNumber_0 6 rfl rfl)
theorem dX0_layNumber_7 : decode cX0_layNumber 7 = .ok (.iconst 0, 1) := dk_3 (dk_at dksX0_layNumber_0 7 rfl rfl)
theorem dX0_layNumber_8 : decode cX0_layNumber 8 = .ok (.istore 5, 2) := dk_54 5 (dk_at dksX0_layNumber_0 8 rfl rfl)
theorem dX0_layNumber_10 : decode cX0_layNumber 10 = .ok (.aload_n 0, 1) := dk_42 (dk_at dksX0_layNumber_0 10 rfl rfl)
theorem dX0_layNumber_11 : decode cX0_layNumber 11 = .ok (.getfield 101, 3) := dk_180 0 101 (dk_at dksX0_layNumber_0 11 rfl rfl)
theorem dX0_layNumber_14 : decode cX0_layNumber 14 = .ok (.iconst 1, 1) := dk_4 (dk_at dksX0_layNumber_0 14 rfl rfl)
theorem dX0_layNumber_15 : decode cX0_layNumber 15 = .ok (.isub, 1) := dk_100 (dk_at dksX0_layNumber_0 15 rfl rfl)
theorem dX0_layNumber_16 : decode cX0_layNumber 16 = .ok (.istore 6, 2) := dk_54 6 (dk_at dksX0_layNumber_0 16 rfl rfl)
theorem dX0_layNumber_18 : decode cX0_layNumber 18 = .ok (.iconst 4, 1) := dk_7 (dk_at dksX0_layNumber_0 18 rfl rfl)
theorem dX0_layNumber_19 : decode cX0_layNumber 19 = .ok (.istore 7, 2) := dk_54 7 (dk_at dksX0_layNumber_0 19 rfl rfl)
theorem dX0_layNumber_21 : decode cX0_layNumber 21 = .ok (.iload 6, 2) := dk_21 6 (dk_at dksX0_layNumber_0 21 rfl rfl)
theorem dX0_layNumber_23 : decode cX0_layNumber 23 = .ok (.ifCond .le 173, 3) := dk_158 0 173 (dk_at dksX0_layNumber_1 0 rfl rfl)
theorem dX0_layNumber_26 : decode cX0_layNumber 26 = .ok (.iconst 0, 1) := dk_3 (dk_at dksX0_layNumber_1 3 rfl rfl)
theorem dX0_layNumber_27 : decode cX0_layNumber 27 = .ok (.istore 8, 2) := dk_54 8 (dk_at dksX0_layNumber_1 4 rfl rfl)
theorem dX0_layNumber_29 : decode cX0_layNumber 29 = .ok (.aload_n 0, 1) := dk_42 (dk_at dksX0_layNumber_1 6 rfl rfl)
theorem dX0_layNumber_30 : decode cX0_layNumber 30 = .ok (.iload 8, 2) := dk_21 8 (dk_at dksX0_layNumber_1 7 rfl rfl)
theorem dX0_layNumber_32 : decode cX0_layNumber 32 = .ok (.iload 6, 2) := dk_21 6 (dk_at dksX0_layNumber_1 9 rfl rfl)
theorem dX0_layNumber_34 : decode cX0_layNumber 34 = .ok (.iload 7, 2) := dk_21 7 (dk_at dksX0_layNumber_1 11 rfl rfl)
theorem dX0_layNumber_36 : decode cX0_layNumber 36 = .ok (.invokevirtual 144, 3) := dk_182 0 144 (dk_at dksX0_layNumber_1 13 rfl rfl)
theorem dX0_layNumber_39 : decode cX0_layNumber 39 = .ok (.ifCond .eq 30, 3) := dk_153 0 30 (dk_at dksX0_layNumber_1 16 rfl rfl)
theorem dX0_layNumber_42 : decode cX0_layNumber 42 = .ok (.aload_n 0, 1) := dk_42 (dk_at dksX0_layNumber_1 19 rfl rfl)
theorem dX0_layNumber_43 : decode cX0_layNumber 43 = .ok (.iload 6, 2) := dk_21 6 (dk_at dksX0_layNumber_1 20 rfl rfl)
theorem dX0_layNumber_45 : decode cX0_layNumber 45 = .ok (.aload_n 0, 1) := dk_42 (dk_at dksX0_layNumber_1 22 rfl rfl)
theorem dX0_layNumber_46 : decode cX0_layNumber 46 = .ok (.getfield 42, 3) := dk_180 0 42 (dk_at dksX0_layNumber_2 0 rfl rfl)
theorem dX0_layNumber_49 : decode cX0_layNumber 49 = .ok (.iload 8, 2) := dk_21 8 (dk_at dksX0_layNumber_2 3 rfl rfl)
theorem dX0_layNumber_51 : decode cX0_layNumber 51 = .ok (.iaload, 1) := dk_46 (dk_at dksX0_layNumber_2 5 rfl rfl)
theorem dX0_layNumber_52 : decode cX0_layNumber 52 = .ok (.isub, 1) := dk_100 (dk_at dksX0_layNumber_2 6 rfl rfl)
theorem dX0_layNumber_53 : decode cX0_layNumber 53 = .ok (.aload_n 0, 1) := dk_42 (dk_at dksX0_layNumber_2 7 rfl rfl)
theorem dX0_layNumber_54 : decode cX0_layNumber 54 = .ok (.getfield 11, 3) := dk_180 0 11 (dk_at dksX0_layNumber_2 8 rfl rfl)
theorem dX0_layNumber_57 : decode cX0_layNumber 57 = .ok (.iload 8, 2) := dk_21 8 (dk_at dksX0_layNumber_2 11 rfl rfl)
theorem dX0_layNumber_59 : decode cX0_layNumber 59 = .ok (.aaload, 1) := dk_50 (dk_at dksX0_layNumber_2 13 rfl rfl)
theorem dX0_layNumber_60 : decode cX0_layNumber 60 = .ok (.getfield 135, 3) := dk_180 0 135 (dk_at dksX0_layNumber_2 14 rfl rfl)
theorem dX0_layNumber_63 : decode cX0_layNumber 63 = .ok (.invokevirtual 148, 3) := dk_182 0 148 (dk_at dksX0_layNumber_2 17 rfl rfl)
theorem dX0_layNumber_66 : decode cX0_layNumber 66 = .ok (.goto 4, 3) := dk_167 0 4 (dk_at dksX0_layNumber_2 20 rfl rfl)
theorem dX0_layNumber_69 : decode cX0_layNumber 69 = .ok (.lconst 0, 1) := dk_9 (dk_at dksX0_layNumber_2 23 rfl rfl)
theorem dX0_layNumber_70 : decode cX0_layNumber 70 = .ok (.lstore 9, 2) := dk_55 9 (dk_at dksX0_layNumber_3 0 rfl rfl)
theorem dX0_layNumber_72 : decode cX0_layNumber 72 = .ok (.lload 9, 2) := dk_22 9 (dk_at dksX0_layNumber_3 2 rfl rfl)
theorem dX0_layNumber_74 : decode cX0_layNumber 74 = .ok (.lload_n 3, 1) := dk_33 (dk_at dksX0_layNumber_3 4 rfl rfl)
theorem dX0_layNumber_75 : decode cX0_layNumber 75 = .ok (.lcmp, 1) := dk_148 (dk_at dksX0_layNumber_3 5 rfl rfl)
theorem dX0_layNumber_76 : decode cX0_layNumber 76 = .ok (.ifCond .gt 57, 3) := dk_157 0 57 (dk_at dksX0_layNumber_3 6 rfl rfl)
theorem dX0_layNumber_79 : decode cX0_layNumber 79 = .ok (.lload_n 3, 1) := dk_33 (dk_at dksX0_layNumber_3 9 rfl rfl)
theorem dX0_layNumber_80 : decode cX0_layNumber 80 = .ok (.lload 9, 2) := dk_22 9 (dk_at dksX0_layNumber_3 10 rfl rfl)
theorem dX0_layNumber_82 : decode cX0_layNumber 82 = .ok (.lsub, 1) := dk_101 (dk_at dksX0_layNumber_3 12 rfl rfl)
theorem dX0_layNumber_83 : decode cX0_layNumber 83 = .ok (.lstore_n 3, 1) := dk_66 (dk_at dksX0_layNumber_3 13 rfl rfl)
theorem dX0_layNumber_84 : decode cX0_layNumber 84 = .ok (.iinc 8 1, 3) := dk_132 8 1 (dk_at dksX0_layNumber_3 14 rfl rfl)
theorem dX0_layNumber_87 : decode cX0_layNumber 87 = .ok (.aload_n 0, 1) := dk_42 (dk_at dksX0_layNumber_3 17 rfl rfl)
theorem dX0_layNumber_88 : decode cX0_layNumber 88 = .ok (.iload 8, 2) := dk_21 8 (dk_at dksX0_layNumber_3 18 rfl rfl)
theorem dX0_layNumber_90 : decode cX0_layNumber 90 = .ok (.iload 6, 2) := dk_21 6 (dk_at dksX0_layNumber_3 20 rfl rfl)
theorem dX0_layNumber_92 : decode cX0_layNumber 92 = .ok (.iload 7, 2) := dk_21 7 (dk_at dksX0_layNumber_3 22 rfl rfl)
theorem dX0_layNumber_94 : decode cX0_layNumber 94 = .ok (.invokevirtual 144, 3) := dk_182 0 144 (dk_at dksX0_layNumber_4 0 rfl rfl)
theorem dX0_layNumber_97 : decode cX0_layNumber 97 = .ok (.ifCond .eq 30, 3) := dk_153 0 30 (dk_at dksX0_layNumber_4 3 rfl rfl)
theorem dX0_layNumber_100 : decode cX0_layNumber 100 = .ok (.aload_n 0, 1) := dk_42 (dk_at dksX0_layNumber_4 6 rfl rfl)
theorem dX0_layNumber_101 : decode cX0_layNumber 101 = .ok (.iload 6, 2) := dk_21 6 (dk_at dksX0_layNumber_4 7 rfl rfl)
theorem dX0_layNumber_103 : decode cX0_layNumber 103 = .ok (.aload_n 0, 1) := dk_42 (dk_at dksX0_layNumber_4 9 rfl rfl)
theorem dX0_layNumber_104 : decode cX0_layNumber 104 = .ok (.getfield 42, 3) := dk_180 0 42 (dk_at dksX0_layNumber_4 10 rfl rfl)
theorem dX0_layNumber_107 : decode cX0_layNumber 107 = .ok (.iload 8, 2) := dk_21 8 (dk_at dksX0_layNumber_4 13 rfl rfl)
theorem dX0_layNumber_109 : decode cX0_layNumber 109 = .ok (.iaload, 1) := dk_46 (dk_at dksX0_layNumber_4 15 rfl rfl)
theorem dX0_layNumber_110 : decode cX0_layNumber 110 = .ok (.isub, 1) := dk_100 (dk_at dksX0_layNumber_4 16 rfl rfl)
theorem dX0_layNumber_111 : decode cX0_layNumber 111 = .ok (.aload_n 0, 1) := dk_42 (dk_at dksX0_layNumber_4 17 rfl rfl)
theorem dX0_layNumber_112 : decode cX0_layNumber 112 = .ok (.getfield 11, 3) := dk_180 0 11 (dk_at dksX0_layNumber_4 18 rfl rfl)
theorem dX0_layNumber_115 : decode cX0_layNumber 115 = .ok (.iload 8, 2) := dk_21 8 (dk_at dksX0_layNumber_4 21 rfl rfl)
theorem dX0_layNumber_117 : decode cX0_layNumber 117 = .ok (.aaload, 1) := dk_50 (dk_at dksX0_layNumber_4 23 rfl rfl)
theorem dX0_layNumber_118 : decode cX0_layNumber 118 = .ok (.getfield 135, 3) := dk_180 0 135 (dk_at dksX0_layNumber_5 0 rfl rfl)
theorem dX0_layNumber_121 : decode cX0_layNumber 121 = .ok (.invokevirtual 148, 3) := dk_182 0 148 (dk_at dksX0_layNumber_5 3 rfl rfl)
theorem dX0_layNumber_124 : decode cX0_layNumber 124 = .ok (.goto 4, 3) := dk_167 0 4 (dk_at dksX0_layNumber_5 6 rfl rfl)
theorem dX0_layNumber_127 : decode cX0_layNumber 127 = .ok (.lconst 0, 1) := dk_9 (dk_at dksX0_layNumber_5 9 rfl rfl)
theorem dX0_layNumber_128 : decode cX0_layNumber 128 = .ok (.lstore 9, 2) := dk_55 9 (dk_at dksX0_layNumber_5 10 rfl rfl)
theorem dX0_layNumber_130 : decode cX0_layNumber 130 = .ok (.goto (-58), 3) := dk_167 255 198 (dk_at dksX0_layNumber_5 12 rfl rfl)
theorem dX0_layNumber_133 : decode cX0_layNumber 133 = .ok (.aload_n 0, 1) := dk_42 (dk_at dksX0_layNumber_5 15 rfl rfl)
theorem dX0_layNumber_134 : decode cX0_layNumber 134 = .ok (.getfield 45, 3) := dk_180 0 45 (dk_at dksX0_layNumber_5 16 rfl rfl)
theorem dX0_layNumber_137 : decode cX0_layNumber 137 = .ok (.aload_n 0, 1) := dk_42 (dk_at dksX0_layNumber_5 19 rfl rfl)
theorem dX0_layNumber_138 : decode cX0_layNumber 138 = .ok (.getfield 164, 3) := dk_180 0 164 (dk_at dksX0_layNumber_5 20 rfl rfl)
theorem dX0_layNumber_141 : decode cX0_layNumber 141 = .ok (.iload 8, 2) := dk_21 8 (dk_at dksX0_layNumber_6 0 rfl rfl)
theorem dX0_layNumber_143 : decode cX0_layNumber 143 = .ok (.iastore, 1) := dk_79 (dk_at dksX0_layNumber_6 2 rfl rfl)
theorem dX0_layNumber_144 : decode cX0_layNumber 144 = .ok (.aload_n 0, 1) := dk_42 (dk_at dksX0_layNumber_6 3 rfl rfl)
theorem dX0_layNumber_145 : decode cX0_layNumber 145 = .ok (.dup, 1) := dk_89 (dk_at dksX0_layNumber_6 4 rfl rfl)
theorem dX0_layNumber_146 : decode cX0_layNumber 146 = .ok (.getfield 164, 3) := dk_180 0 164 (dk_at dksX0_layNumber_6 5 rfl rfl)
theorem dX0_layNumber_149 : decode cX0_layNumber 149 = .ok (.iconst 1, 1) := dk_4 (dk_at dksX0_layNumber_6 8 rfl rfl)
theorem dX0_layNumber_150 : decode cX0_layNumber 150 = .ok (.iadd, 1) := dk_96 (dk_at dksX0_layNumber_6 9 rfl rfl)
theorem dX0_layNumber_151 : decode cX0_layNumber 151 = .ok (.putfield 164, 3) := dk_181 0 164 (dk_at dksX0_layNumber_6 10 rfl rfl)
theorem dX0_layNumber_154 : decode cX0_layNumber 154 = .ok (.iload 5, 2) := dk_21 5 (dk_at dksX0_layNumber_6 13 rfl rfl)
theorem dX0_layNumber_156 : decode cX0_layNumber 156 = .ok (.aload_n 0, 1) := dk_42 (dk_at dksX0_layNumber_6 15 rfl rfl)
theorem dX0_layNumber_157 : decode cX0_layNumber 157 = .ok (.getfield 25, 3) := dk_180 0 25 (dk_at dksX0_layNumber_6 16 rfl rfl)
theorem dX0_layNumber_160 : decode cX0_layNumber 160 = .ok (.getfield 156, 3) := dk_180 0 156 (dk_at dksX0_layNumber_6 19 rfl rfl)
theorem dX0_layNumber_163 : decode cX0_layNumber 163 = .ok (.iload 8, 2) := dk_21 8 (dk_at dksX0_layNumber_6 22 rfl rfl)
theorem dX0_layNumber_165 : decode cX0_layNumber 165 = .ok (.iaload, 1) := dk_46 (dk_at dksX0_layNumber_7 0 rfl rfl)
theorem dX0_layNumber_166 : decode cX0_layNumber 166 = .ok (.iadd, 1) := dk_96 (dk_at dksX0_layNumber_7 1 rfl rfl)
theorem dX0_layNumber_167 : decode cX0_layNumber 167 = .ok (.istore 5, 2) := dk_54 5 (dk_at dksX0_layNumber_7 2 rfl rfl)
theorem dX0_layNumber_169 : decode cX0_layNumber 169 = .ok (.iload 6, 2) := dk_21 6 (dk_at dksX0_layNumber_7 4 rfl rfl)
theorem dX0_layNumber_171 : decode cX0_layNumber 171 = .ok (.aload_n 0, 1) := dk_42 (dk_at dksX0_layNumber_7 6 rfl rfl)
theorem dX0_layNumber_172 : decode cX0_layNumber 172 = .ok (.getfield 42, 3) := dk_180 0 42 (dk_at dksX0_layNumber_7 7 rfl rfl)
theorem dX0_layNumber_175 : decode cX0_layNumber 175 = .ok (.iload 8, 2) := dk_21 8 (dk_at dksX0_layNumber_7 10 rfl rfl)
theorem dX0_layNumber_177 : decode cX0_layNumber 177 = .ok (.iaload, 1) := dk_46 (dk_at dksX0_layNumber_7 12 rfl rfl)
theorem dX0_layNumber_178 : decode cX0_layNumber 178 = .ok (.isub, 1) := dk_100 (dk_at dksX0_layNumber_7 13 rfl rfl)
theorem dX0_layNumber_179 : decode cX0_layNumber 179 = .ok (.istore 6, 2) := dk_54 6 (dk_at dksX0_layNumber_7 14 rfl rfl)
theorem dX0_layNumber_181 : decode cX0_layNumber 181 = .ok (.aload_n 0, 1) := dk_42 (dk_at dksX0_layNumber_7 16 rfl rfl)
theorem dX0_layNumber_182 : decode cX0_layNumber 182 = .ok (.getfield 11, 3) := dk_180 0 11 (dk_at dksX0_layNumber_7 17 rfl rfl)
theorem dX0_layNumber_185 : decode cX0_layNumber 185 = .ok (.iload 8, 2) := dk_21 8 (dk_at dksX0_layNumber_7 20 rfl rfl)
theorem dX0_layNumber_187 : decode cX0_layNumber 187 = .ok (.aaload, 1) := dk_50 (dk_at dksX0_layNumber_7 22 rfl rfl)
theorem dX0_layNumber_188 : decode cX0_layNumber 188 = .ok (.getfield 135, 3) := dk_180 0 135 (dk_at dksX0_layNumber_8 0 rfl rfl)
theorem dX0_layNumber_191 : decode cX0_layNumber 191 = .ok (.istore 7, 2) := dk_54 7 (dk_at dksX0_layNumber_8 3 rfl rfl)
theorem dX0_layNumber_193 : decode cX0_layNumber 193 = .ok (.goto (-172), 3) := dk_167 255 84 (dk_at dksX0_layNumber_8 5 rfl rfl)
theorem dX0_layNumber_196 : decode cX0_layNumber 196 = .ok (.iload 5, 2) := dk_21 5 (dk_at dksX0_layNumber_8 8 rfl rfl)
theorem dX0_layNumber_198 : decode cX0_layNumber 198 = .ok (.ireturn, 1) := dk_172 (dk_at dksX0_layNumber_8 10 rfl rfl)
abbrev cX0_tell : ByteArray := prog_1_method_59_code
def yX0_tell : MethodName := ⟨RX0, "tell", "(I)I"⟩
def dkwX0_tell_1 : List UInt8 := [180, 0, 71, 42, 180, 0, 254, 27, 79, 42, 89, 180, 0, 254, 4, 96, 181, 0, 254, 42, 180, 0, 254, 172]
abbrev dktX0_tell_1 : List UInt8 := dkwX0_tell_1 ++ []
def dkwX0_tell_0 : List UInt8 := [42, 27, 182, 1, 34, 154, 0, 5, 2, 172, 42, 180, 0, 254, 16, 12, 160, 0, 6, 16, 252, 172, 42]
abbrev dktX0_tell_0 : List UInt8 := dkwX0_tell_0 ++ dktX0_tell_1
theorem dksX0_tell_0 : cX0_tell.data.toList.drop 0 = dktX0_tell_0 := by decide +kernel
theorem dksX0_tell_1 : cX0_tell.data.toList.drop 23 = dktX0_tell_1 := dk_seg dksX0_tell_0 23 rfl rfl
theorem dX0_tell_0 : decode cX0_tell 0 = .ok (.aload_n 0, 1) := dk_42 (dk_at dksX0_tell_0 0 rfl rfl)
theorem dX0_tell_1 : decode cX0_tell 1 = .ok (.iload_n 1, 1) := dk_27 (dk_at dksX0_tell_0 1 rfl rfl)
theorem dX0_tell_2 : decode cX0_tell 2 = .ok (.invokevirtual 290, 3) := dk_182 1 34 (dk_at dksX0_tell_0 2 rfl rfl)
theorem dX0_tell_5 : decode cX0_tell 5 = .ok (.ifCond .ne 5, 3) := dk_154 0 5 (dk_at dksX0_tell_0 5 rfl rfl)
theorem dX0_tell_8 : decode cX0_tell 8 = .ok (.iconst (-1), 1) := dk_2 (dk_at dksX0_tell_0 8 rfl rfl)
theorem dX0_tell_9 : decode cX0_tell 9 = .ok (.ireturn, 1) := dk_172 (dk_at dksX0_tell_0 9 rfl rfl)
theorem dX0_tell_10 : decode cX0_tell 10 = .ok (.aload_n 0, 1) := dk_42 (dk_at dksX0_tell_0 10 rfl rfl)
theorem dX0_tell_11 : decode cX0_tell 11 = .ok (.getfield 254, 3) := dk_180 0 254 (dk_at dksX0_tell_0 11 rfl rfl)
theorem dX0_tell_14 : decode cX0_tell 14 = .ok (.bipush 12, 2) := dk_16 12 (dk_at dksX0_tell_0 14 rfl rfl)
theorem dX0_tell_16 : decode cX0_tell 16 = .ok (.if_icmp .ne 6, 3) := dk_160 0 6 (dk_at dksX0_tell_0 16 rfl rfl)
theorem dX0_tell_19 : decode cX0_tell 19 = .ok (.bipush (-4), 2) := dk_16 252 (dk_at dksX0_tell_0 19 rfl rfl)
theorem dX0_tell_21 : decode cX0_tell 21 = .ok (.ireturn, 1) := dk_172 (dk_at dksX0_tell_0 21 rfl rfl)
theorem dX0_tell_22 : decode cX0_tell 22 = .ok (.aload_n 0, 1) := dk_42 (dk_at dksX0_tell_0 22 rfl rfl)
theorem dX0_tell_23 : decode cX0_tell 23 = .ok (.getfield 71, 3) := dk_180 0 71 (dk_at dksX0_tell_1 0 rfl rfl)
theorem dX0_tell_26 : decode cX0_tell 26 = .ok (.aload_n 0, 1) := dk_42 (dk_at dksX0_tell_1 3 rfl rfl)
theorem dX0_tell_27 : decode cX0_tell 27 = .ok (.getfield 254, 3) := dk_180 0 254 (dk_at dksX0_tell_1 4 rfl rfl)
theorem dX0_tell_30 : decode cX0_tell 30 = .ok (.iload_n 1, 1) := dk_27 (dk_at dksX0_tell_1 7 rfl rfl)
theorem dX0_tell_31 : decode cX0_tell 31 = .ok (.iastore, 1) := dk_79 (dk_at dksX0_tell_1 8 rfl rfl)
theorem dX0_tell_32 : decode cX0_tell 32 = .ok (.aload_n 0, 1) := dk_42 (dk_at dksX0_tell_1 9 rfl rfl)
theorem dX0_tell_33 : decode cX0_tell 33 = .ok (.dup, 1) := dk_89 (dk_at dksX0_tell_1 10 rfl rfl)
theorem dX0_tell_34 : decode cX0_tell 34 = .ok (.getfield 254, 3) := dk_180 0 254 (dk_at dksX0_tell_1 11 rfl rfl)
theorem dX0_tell_37 : decode cX0_tell 37 = .ok (.iconst 1, 1) := dk_4 (dk_at dksX0_tell_1 14 rfl rfl)
theorem dX0_tell_38 : decode cX0_tell 38 = .ok (.iadd, 1) := dk_96 (dk_at dksX0_tell_1 15 rfl rfl)
theorem dX0_tell_39 : decode cX0_tell 39 = .ok (.putfield 254, 3) := dk_181 0 254 (dk_at dksX0_tell_1 16 rfl rfl)
theorem dX0_tell_42 : decode cX0_tell 42 = .ok (.aload_n 0, 1) := dk_42 (dk_at dksX0_tell_1 19 rfl rfl)
theorem dX0_tell_43 : decode cX0_tell 43 = .ok (.getfield 254, 3) := dk_180 0 254 (dk_at dksX0_tell_1 20 rfl rfl)
theorem dX0_tell_46 : decode cX0_tell 46 = .ok (.ireturn, 1) := dk_172 (dk_at dksX0_tell_1 23 rfl rfl)
abbrev cX0_clear : ByteArray := prog_1_method_60_code
def yX0_clear : MethodName := ⟨RX0, "clear", "()I"⟩
def dkwX0_clear_0 : List UInt8 := [42, 180, 0, 254, 60, 42, 3, 181, 0, 254, 27, 172]
abbrev dktX0_clear_0 : List UInt8 := dkwX0_clear_0 ++ []
theorem dksX0_clear_0 : cX0_clear.data.toList.drop 0 = dktX0_clear_0 := by decide +kernel
theorem dX0_clear_0 : decode cX0_clear 0 = .ok (.aload_n 0, 1) := dk_42 (dk_at dksX0_clear_0 0 rfl rfl)
theorem dX0_clear_1 : decode cX0_clear 1 = .ok (.getfield 254, 3) := dk_180 0 254 (dk_at dksX0_clear_0 1 rfl rfl)
theorem dX0_clear_4 : decode cX0_clear 4 = .ok (.istore_n 1, 1) := dk_60 (dk_at dksX0_clear_0 4 rfl rfl)
theorem dX0_clear_5 : decode cX0_clear 5 = .ok (.aload_n 0, 1) := dk_42 (dk_at dksX0_clear_0 5 rfl rfl)
theorem dX0_clear_6 : decode cX0_clear 6 = .ok (.iconst 0, 1) := dk_3 (dk_at dksX0_clear_0 6 rfl rfl)
theorem dX0_clear_7 : decode cX0_clear 7 = .ok (.putfield 254, 3) := dk_181 0 254 (dk_at dksX0_clear_0 7 rfl rfl)
theorem dX0_clear_10 : decode cX0_clear 10 = .ok (.iload_n 1, 1) := dk_27 (dk_at dksX0_clear_0 10 rfl rfl)
theorem dX0_clear_11 : decode cX0_clear 11 = .ok (.ireturn, 1) := dk_172 (dk_at dksX0_clear_0 11 rfl rfl)
abbrev cX0_why : ByteArray := prog_1_method_66_code
def yX0_why : MethodName := ⟨RX0, "why", "(I)I"⟩
def dkwX0_why_2 : List UInt8 := [167, 0, 4, 3, 172]
abbrev dktX0_why_2 : List UInt8 := dkwX0_why_2 ++ []
def dkwX0_why_1 : List UInt8 := [27, 184, 1, 147, 172, 77, 44, 27, 184, 1, 147, 172, 27, 4, 159, 0, 8, 27, 5, 160, 0, 8, 16, 247]
abbrev dktX0_why_1 : List UInt8 := dkwX0_why_1 ++ dktX0_why_2
def dkwX0_why_0 : List UInt8 := [27, 133, 9, 20, 1, 3, 184, 0, 190, 154, 0, 6, 16, 254, 172, 42, 182, 1, 144, 167, 0, 17, 77, 44]
abbrev dktX0_why_0 : List UInt8 := dkwX0_why_0 ++ dktX0_why_1
theorem dksX0_why_0 : cX0_why.data.toList.drop 0 = dktX0_why_0 := by decide +kernel
theorem dksX0_why_1 : cX0_why.data.toList.drop 24 = dktX0_why_1 := dk_seg dksX0_why_0 24 rfl rfl
theorem dksX0_why_2 : cX0_why.data.toList.drop 48 = dktX0_why_2 := dk_seg dksX0_why_1 24 rfl rfl
theorem dX0_why_0 : decode cX0_why 0 = .ok (.iload_n 1, 1) := dk_27 (dk_at dksX0_why_0 0 rfl rfl)
theorem dX0_why_1 : decode cX0_why 1 = .ok (.i2l, 1) := dk_133 (dk_at dksX0_why_0 1 rfl rfl)
theorem dX0_why_2 : decode cX0_why 2 = .ok (.lconst 0, 1) := dk_9 (dk_at dksX0_why_0 2 rfl rfl)
theorem dX0_why_3 : decode cX0_why 3 = .ok (.ldc2_w 259, 3) := dk_20 1 3 (dk_at dksX0_why_0 3 rfl rfl)
theorem dX0_why_6 : decode cX0_why 6 = .ok (.invokestatic 190, 3) := dk_184 0 190 (dk_at dksX0_why_0 6 rfl rfl)
theorem dX0_why_9 : decode cX0_why 9 = .ok (.ifCond .ne 6, 3) := dk_154 0 6 (dk_at dksX0_why_0 9 rfl rfl)
theorem dX0_why_12 : decode cX0_why 12 = .ok (.bipush (-2), 2) := dk_16 254 (dk_at dksX0_why_0 12 rfl rfl)
theorem dX0_why_14 : decode cX0_why 14 = .ok (.ireturn, 1) := dk_172 (dk_at dksX0_why_0 14 rfl rfl)
theorem dX0_why_15 : decode cX0_why 15 = .ok (.aload_n 0, 1) := dk_42 (dk_at dksX0_why_0 15 rfl rfl)
theorem dX0_why_16 : decode cX0_why 16 = .ok (.invokevirtual 400, 3) := dk_182 1 144 (dk_at dksX0_why_0 16 rfl rfl)
theorem dX0_why_19 : decode cX0_why 19 = .ok (.goto 17, 3) := dk_167 0 17 (dk_at dksX0_why_0 19 rfl rfl)
theorem dX0_why_22 : decode cX0_why 22 = .ok (.astore_n 2, 1) := dk_77 (dk_at dksX0_why_0 22 rfl rfl)
theorem dX0_why_23 : decode cX0_why 23 = .ok (.aload_n 2, 1) := dk_44 (dk_at dksX0_why_0 23 rfl rfl)
theorem dX0_why_24 : decode cX0_why 24 = .ok (.iload_n 1, 1) := dk_27 (dk_at dksX0_why_1 0 rfl rfl)
theorem dX0_why_25 : decode cX0_why 25 = .ok (.invokestatic 403, 3) := dk_184 1 147 (dk_at dksX0_why_1 1 rfl rfl)
theorem dX0_why_28 : decode cX0_why 28 = .ok (.ireturn, 1) := dk_172 (dk_at dksX0_why_1 4 rfl rfl)
theorem dX0_why_29 : decode cX0_why 29 = .ok (.astore_n 2, 1) := dk_77 (dk_at dksX0_why_1 5 rfl rfl)
theorem dX0_why_30 : decode cX0_why 30 = .ok (.aload_n 2, 1) := dk_44 (dk_at dksX0_why_1 6 rfl rfl)
theorem dX0_why_31 : decode cX0_why 31 = .ok (.iload_n 1, 1) := dk_27 (dk_at dksX0_why_1 7 rfl rfl)
theorem dX0_why_32 : decode cX0_why 32 = .ok (.invokestatic 403, 3) := dk_184 1 147 (dk_at dksX0_why_1 8 rfl rfl)
theorem dX0_why_35 : decode cX0_why 35 = .ok (.ireturn, 1) := dk_172 (dk_at dksX0_why_1 11 rfl rfl)
theorem dX0_why_36 : decode cX0_why 36 = .ok (.iload_n 1, 1) := dk_27 (dk_at dksX0_why_1 12 rfl rfl)
theorem dX0_why_37 : decode cX0_why 37 = .ok (.iconst 1, 1) := dk_4 (dk_at dksX0_why_1 13 rfl rfl)
theorem dX0_why_38 : decode cX0_why 38 = .ok (.if_icmp .eq 8, 3) := dk_159 0 8 (dk_at dksX0_why_1 14 rfl rfl)
theorem dX0_why_41 : decode cX0_why 41 = .ok (.iload_n 1, 1) := dk_27 (dk_at dksX0_why_1 17 rfl rfl)
theorem dX0_why_42 : decode cX0_why 42 = .ok (.iconst 2, 1) := dk_5 (dk_at dksX0_why_1 18 rfl rfl)
theorem dX0_why_43 : decode cX0_why 43 = .ok (.if_icmp .ne 8, 3) := dk_160 0 8 (dk_at dksX0_why_1 19 rfl rfl)
theorem dX0_why_46 : decode cX0_why 46 = .ok (.bipush (-9), 2) := dk_16 247 (dk_at dksX0_why_1 22 rfl rfl)
theorem dX0_why_48 : decode cX0_why 48 = .ok (.goto 4, 3) := dk_167 0 4 (dk_at dksX0_why_2 0 rfl rfl)
theorem dX0_why_51 : decode cX0_why 51 = .ok (.iconst 0, 1) := dk_3 (dk_at dksX0_why_2 3 rfl rfl)
theorem dX0_why_52 : decode cX0_why 52 = .ok (.ireturn, 1) := dk_172 (dk_at dksX0_why_2 4 rfl rfl)
abbrev cX0_check : ByteArray := prog_1_method_64_code
def yX0_check : MethodName := ⟨RX0, "check", "()V"⟩
def dkwX0_check_5 : List UInt8 := [191, 177]
abbrev dktX0_check_5 : List UInt8 := dkwX0_check_5 ++ []
def dkwX0_check_4 : List UInt8 := [4, 100, 46, 50, 180, 0, 135, 184, 0, 126, 154, 0, 15, 187, 1, 125, 89, 42, 180, 0, 254, 183, 1, 127]
abbrev dktX0_check_4 : List UInt8 := dkwX0_check_4 ++ dktX0_check_5
def dkwX0_check_3 : List UInt8 := [43, 183, 1, 124, 191, 42, 180, 0, 18, 180, 0, 138, 42, 180, 0, 11, 42, 180, 0, 71, 42, 180, 0, 254]
abbrev dktX0_check_3 : List UInt8 := dkwX0_check_3 ++ dktX0_check_4
def dkwX0_check_2 : List UInt8 := [187, 1, 116, 89, 183, 1, 118, 191, 42, 182, 1, 119, 167, 0, 17, 76, 187, 1, 122, 89, 42, 180, 0, 254]
abbrev dktX0_check_2 : List UInt8 := dkwX0_check_2 ++ dktX0_check_3
def dkwX0_check_1 : List UInt8 := [180, 0, 254, 162, 0, 14, 42, 27, 182, 1, 113, 132, 1, 1, 167, 255, 240, 42, 180, 0, 254, 154, 0, 11]
abbrev dktX0_check_1 : List UInt8 := dkwX0_check_1 ++ dktX0_check_2
def dkwX0_check_0 : List UInt8 := [42, 180, 0, 18, 180, 0, 104, 3, 42, 180, 0, 74, 3, 16, 8, 184, 1, 107, 3, 60, 27, 42]
abbrev dktX0_check_0 : List UInt8 := dkwX0_check_0 ++ dktX0_check_1
theorem dksX0_check_0 : cX0_check.data.toList.drop 0 = dktX0_check_0 := by decide +kernel
theorem dksX0_check_1 : cX0_check.data.toList.drop 22 = dktX0_check_1 := dk_seg dksX0_check_0 22 rfl rfl
theorem dksX0_check_2 : cX0_check.data.toList.drop 46 = dktX0_check_2 := dk_seg dksX0_check_1 24 rfl rfl
theorem dksX0_check_3 : cX0_check.data.toList.drop 70 = dktX0_check_3 := dk_seg dksX0_check_2 24 rfl rfl
theorem dksX0_check_4 : cX0_check.data.toList.drop 94 = dktX0_check_4 := dk_seg dksX0_check_3 24 rfl rfl
theorem dksX0_check_5 : cX0_check.data.toList.drop 118 = dktX0_check_5 := dk_seg dksX0_check_4 24 rfl rfl
theorem dX0_check_0 : decode cX0_check 0 = .ok (.aload_n 0, 1) := dk_42 (dk_at dksX0_check_0 0 rfl rfl)
theorem dX0_check_1 : decode cX0_check 1 = .ok (.getfield 18, 3) := dk_180 0 18 (dk_at dksX0_check_0 1 rfl rfl)
theorem dX0_check_4 : decode cX0_check 4 = .ok (.getfield 104, 3) := dk_180 0 104 (dk_at dksX0_check_0 4 rfl rfl)
theorem dX0_check_7 : decode cX0_check 7 = .ok (.iconst 0, 1) := dk_3 (dk_at dksX0_check_0 7 rfl rfl)
theorem dX0_check_8 : decode cX0_check 8 = .ok (.aload_n 0, 1) := dk_42 (dk_at dksX0_check_0 8 rfl rfl)
theorem dX0_check_9 : decode cX0_check 9 = .ok (.getfield 74, 3) := dk_180 0 74 (dk_at dksX0_check_0 9 rfl rfl)
theorem dX0_check_12 : decode cX0_check 12 = .ok (.iconst 0, 1) := dk_3 (dk_at dksX0_check_0 12 rfl rfl)
theorem dX0_check_13 : decode cX0_check 13 = .ok (.bipush 8, 2) := dk_16 8 (dk_at dksX0_check_0 13 rfl rfl)
theorem dX0_check_15 : decode cX0_check 15 = .ok (.invokestatic 363, 3) := dk_184 1 107 (dk_at dksX0_check_0 15 rfl rfl)
theorem dX0_check_18 : decode cX0_check 18 = .ok (.iconst 0, 1) := dk_3 (dk_at dksX0_check_0 18 rfl rfl)
theorem dX0_check_19 : decode cX0_check 19 = .ok (.istore_n 1, 1) := dk_60 (dk_at dksX0_check_0 19 rfl rfl)
theorem dX0_check_20 : decode cX0_check 20 = .ok (.iload_n 1, 1) := dk_27 (dk_at dksX0_check_0 20 rfl rfl)
theorem dX0_check_21 : decode cX0_check 21 = .ok (.aload_n 0, 1) := dk_42 (dk_at dksX0_check_0 21 rfl rfl)
theorem dX0_check_22 : decode cX0_check 22 = .ok (.getfield 254, 3) := dk_180 0 254 (dk_at dksX0_check_1 0 rfl rfl)
theorem dX0_check_25 : decode cX0_check 25 = .ok (.if_icmp .ge 14, 3) := dk_162 0 14 (dk_at dksX0_check_1 3 rfl rfl)
theorem dX0_check_28 : decode cX0_check 28 = .ok (.aload_n 0, 1) := dk_42 (dk_at dksX0_check_1 6 rfl rfl)
theorem dX0_check_29 : decode cX0_check 29 = .ok (.iload_n 1, 1) := dk_27 (dk_at dksX0_check_1 7 rfl rfl)
theorem dX0_check_30 : decode cX0_check 30 = .ok (.invokevirtual 369, 3) := dk_182 1 113 (dk_at dksX0_check_1 8 rfl rfl)
theorem dX0_check_33 : decode cX0_check 33 = .ok (.iinc 1 1, 3) := dk_132 1 1 (dk_at dksX0_check_1 11 rfl rfl)
theorem dX0_check_36 : decode cX0_check 36 = .ok (.goto (-16), 3) := dk_167 255 240 (dk_at dksX0_check_1 14 rfl rfl)
theorem dX0_check_39 : decode cX0_check 39 = .ok (.aload_n 0, 1) := dk_42 (dk_at dksX0_check_1 17 rfl rfl)
theorem dX0_check_40 : decode cX0_check 40 = .ok (.getfield 254, 3) := dk_180 0 254 (dk_at dksX0_check_1 18 rfl rfl)
theorem dX0_check_43 : decode cX0_check 43 = .ok (.ifCond .ne 11, 3) := dk_154 0 11 (dk_at dksX0_check_1 21 rfl rfl)
theorem dX0_check_46 : decode cX0_check 46 = .ok (.new 372, 3) := dk_187 1 116 (dk_at dksX0_check_2 0 rfl rfl)
theorem dX0_check_49 : decode cX0_check 49 = .ok (.dup, 1) := dk_89 (dk_at dksX0_check_2 3 rfl rfl)
theorem dX0_check_50 : decode cX0_check 50 = .ok (.invokespecial 374, 3) := dk_183 1 118 (dk_at dksX0_check_2 4 rfl rfl)
theorem dX0_check_53 : decode cX0_check 53 = .ok (.athrow, 1) := dk_191 (dk_at dksX0_check_2 7 rfl rfl)
theorem dX0_check_54 : decode cX0_check 54 = .ok (.aload_n 0, 1) := dk_42 (dk_at dksX0_check_2 8 rfl rfl)
theorem dX0_check_55 : decode cX0_check 55 = .ok (.invokevirtual 375, 3) := dk_182 1 119 (dk_at dksX0_check_2 9 rfl rfl)
theorem dX0_check_58 : decode cX0_check 58 = .ok (.goto 17, 3) := dk_167 0 17 (dk_at dksX0_check_2 12 rfl rfl)
theorem dX0_check_61 : decode cX0_check 61 = .ok (.astore_n 1, 1) := dk_76 (dk_at dksX0_check_2 15 rfl rfl)
theorem dX0_check_62 : decode cX0_check 62 = .ok (.new 378, 3) := dk_187 1 122 (dk_at dksX0_check_2 16 rfl rfl)
theorem dX0_check_65 : decode cX0_check 65 = .ok (.dup, 1) := dk_89 (dk_at dksX0_check_2 19 rfl rfl)
theorem dX0_check_66 : decode cX0_check 66 = .ok (.aload_n 0, 1) := dk_42 (dk_at dksX0_check_2 20 rfl rfl)
theorem dX0_check_67 : decode cX0_check 67 = .ok (.getfield 254, 3) := dk_180 0 254 (dk_at dksX0_check_2 21 rfl rfl)
theorem dX0_check_70 : decode cX0_check 70 = .ok (.aload_n 1, 1) := dk_43 (dk_at dksX0_check_3 0 rfl rfl)
theorem dX0_check_71 : decode cX0_check 71 = .ok (.invokespecial 380, 3) := dk_183 1 124 (dk_at dksX0_check_3 1 rfl rfl)
theorem dX0_check_74 : decode cX0_check 74 = .ok (.athrow, 1) := dk_191 (dk_at dksX0_check_3 4 rfl rfl)
theorem dX0_check_75 : decode cX0_check 75 = .ok (.aload_n 0, 1) := dk_42 (dk_at dksX0_check_3 5 rfl rfl)
theorem dX0_check_76 : decode cX0_check 76 = .ok (.getfield 18, 3) := dk_180 0 18 (dk_at dksX0_check_3 6 rfl rfl)
theorem dX0_check_79 : decode cX0_check 79 = .ok (.getfield 138, 3) := dk_180 0 138 (dk_at dksX0_check_3 9 rfl rfl)
theorem dX0_check_82 : decode cX0_check 82 = .ok (.aload_n 0, 1) := dk_42 (dk_at dksX0_check_3 12 rfl rfl)
theorem dX0_check_83 : decode cX0_check 83 = .ok (.getfield 11, 3) := dk_180 0 11 (dk_at dksX0_check_3 13 rfl rfl)
theorem dX0_check_86 : decode cX0_check 86 = .ok (.aload_n 0, 1) := dk_42 (dk_at dksX0_check_3 16 rfl rfl)
theorem dX0_check_87 : decode cX0_check 87 = .ok (.getfield 71, 3) := dk_180 0 71 (dk_at dksX0_check_3 17 rfl rfl)
theorem dX0_check_90 : decode cX0_check 90 = .ok (.aload_n 0, 1) := dk_42 (dk_at dksX0_check_3 20 rfl rfl)
theorem dX0_check_91 : decode cX0_check 91 = .ok (.getfield 254, 3) := dk_180 0 254 (dk_at dksX0_check_3 21 rfl rfl)
theorem dX0_check_94 : decode cX0_check 94 = .ok (.iconst 1, 1) := dk_4 (dk_at dksX0_check_4 0 rfl rfl)
theorem dX0_check_95 : decode cX0_check 95 = .ok (.isub, 1) := dk_100 (dk_at dksX0_check_4 1 rfl rfl)
theorem dX0_check_96 : decode cX0_check 96 = .ok (.iaload, 1) := dk_46 (dk_at dksX0_check_4 2 rfl rfl)
theorem dX0_check_97 : decode cX0_check 97 = .ok (.aaload, 1) := dk_50 (dk_at dksX0_check_4 3 rfl rfl)
theorem dX0_check_98 : decode cX0_check 98 = .ok (.getfield 135, 3) := dk_180 0 135 (dk_at dksX0_check_4 4 rfl rfl)
theorem dX0_check_101 : decode cX0_check 101 = .ok (.invokestatic 126, 3) := dk_184 0 126 (dk_at dksX0_check_4 7 rfl rfl)
theorem dX0_check_104 : decode cX0_check 104 = .ok (.ifCond .ne 15, 3) := dk_154 0 15 (dk_at dksX0_check_4 10 rfl rfl)
theorem dX0_check_107 : decode cX0_check 107 = .ok (.new 381, 3) := dk_187 1 125 (dk_at dksX0_check_4 13 rfl rfl)
theorem dX0_check_110 : decode cX0_check 110 = .ok (.dup, 1) := dk_89 (dk_at dksX0_check_4 16 rfl rfl)
theorem dX0_check_111 : decode cX0_check 111 = .ok (.aload_n 0, 1) := dk_42 (dk_at dksX0_check_4 17 rfl rfl)
theorem dX0_check_112 : decode cX0_check 112 = .ok (.getfield 254, 3) := dk_180 0 254 (dk_at dksX0_check_4 18 rfl rfl)
theorem dX0_check_115 : decode cX0_check 115 = .ok (.invokespecial 383, 3) := dk_183 1 127 (dk_at dksX0_check_4 21 rfl rfl)
theorem dX0_check_118 : decode cX0_check 118 = .ok (.athrow, 1) := dk_191 (dk_at dksX0_check_5 0 rfl rfl)
theorem dX0_check_119 : decode cX0_check 119 = .ok (.return_, 1) := dk_177 (dk_at dksX0_check_5 1 rfl rfl)
abbrev cX0_takeWord : ByteArray := prog_1_method_62_code
def yX0_takeWord : MethodName := ⟨RX0, "takeWord", "(I)V"⟩
def dkwX0_takeWord_4 : List UInt8 := [180, 0, 11, 28, 50, 182, 1, 99, 167, 0, 14, 78, 187, 1, 102, 89, 27, 45, 183, 1, 104, 191, 177]
abbrev dktX0_takeWord_4 : List UInt8 := dkwX0_takeWord_4 ++ []
def dkwX0_takeWord_3 : List UInt8 := [28, 50, 180, 0, 135, 184, 0, 126, 154, 0, 12, 187, 1, 96, 89, 27, 183, 1, 98, 191, 42, 42]
abbrev dktX0_takeWord_3 : List UInt8 := dkwX0_takeWord_3 ++ dktX0_takeWord_4
def dkwX0_takeWord_2 : List UInt8 := [180, 0, 132, 42, 180, 0, 11, 42, 180, 0, 71, 27, 4, 100, 46, 50, 180, 0, 135, 46, 42, 180, 0, 11]
abbrev dktX0_takeWord_2 : List UInt8 := dkwX0_takeWord_2 ++ dktX0_takeWord_3
def dkwX0_takeWord_1 : List UInt8 := [89, 27, 183, 1, 94, 191, 27, 154, 0, 13, 42, 180, 0, 18, 180, 0, 129, 167, 0, 27, 42, 180, 0, 18]
abbrev dktX0_takeWord_1 : List UInt8 := dkwX0_takeWord_1 ++ dktX0_takeWord_2
def dkwX0_takeWord_0 : List UInt8 := [42, 180, 0, 71, 27, 46, 61, 42, 180, 0, 18, 180, 0, 119, 28, 184, 0, 126, 153, 0, 12, 187, 1, 92]
abbrev dktX0_takeWord_0 : List UInt8 := dkwX0_takeWord_0 ++ dktX0_takeWord_1
theorem dksX0_takeWord_0 : cX0_takeWord.data.toList.drop 0 = dktX0_takeWord_0 := by decide +kernel
theorem dksX0_takeWord_1 : cX0_takeWord.data.toList.drop 24 = dktX0_takeWord_1 := dk_seg dksX0_takeWord_0 24 rfl rfl
theorem dksX0_takeWord_2 : cX0_takeWord.data.toList.drop 48 = dktX0_takeWord_2 := dk_seg dksX0_takeWord_1 24 rfl rfl
theorem dksX0_takeWord_3 : cX0_takeWord.data.toList.drop 72 = dktX0_takeWord_3 := dk_seg dksX0_takeWord_2 24 rfl rfl
theorem dksX0_takeWord_4 : cX0_takeWord.data.toList.drop 94 = dktX0_takeWord_4 := dk_seg dksX0_takeWord_3 22 rfl rfl
theorem dX0_takeWord_0 : decode cX0_takeWord 0 = .ok (.aload_n 0, 1) := dk_42 (dk_at dksX0_takeWord_0 0 rfl rfl)
theorem dX0_takeWord_1 : decode cX0_takeWord 1 = .ok (.getfield 71, 3) := dk_180 0 71 (dk_at dksX0_takeWord_0 1 rfl rfl)
theorem dX0_takeWord_4 : decode cX0_takeWord 4 = .ok (.iload_n 1, 1) := dk_27 (dk_at dksX0_takeWord_0 4 rfl rfl)
theorem dX0_takeWord_5 : decode cX0_takeWord 5 = .ok (.iaload, 1) := dk_46 (dk_at dksX0_takeWord_0 5 rfl rfl)
theorem dX0_takeWord_6 : decode cX0_takeWord 6 = .ok (.istore_n 2, 1) := dk_61 (dk_at dksX0_takeWord_0 6 rfl rfl)
theorem dX0_takeWord_7 : decode cX0_takeWord 7 = .ok (.aload_n 0, 1) := dk_42 (dk_at dksX0_takeWord_0 7 rfl rfl)
theorem dX0_takeWord_8 : decode cX0_takeWord 8 = .ok (.getfield 18, 3) := dk_180 0 18 (dk_at dksX0_takeWord_0 8 rfl rfl)
theorem dX0_takeWord_11 : decode cX0_takeWord 11 = .ok (.getfield 119, 3) := dk_180 0 119 (dk_at dksX0_takeWord_0 11 rfl rfl)
theorem dX0_takeWord_14 : decode cX0_takeWord 14 = .ok (.iload_n 2, 1) := dk_28 (dk_at dksX0_takeWord_0 14 rfl rfl)
theorem dX0_takeWord_15 : decode cX0_takeWord 15 = .ok (.invokestatic 126, 3) := dk_184 0 126 (dk_at dksX0_takeWord_0 15 rfl rfl)
theorem dX0_takeWord_18 : decode cX0_takeWord 18 = .ok (.ifCond .eq 12, 3) := dk_153 0 12 (dk_at dksX0_takeWord_0 18 rfl rfl)
theorem dX0_takeWord_21 : decode cX0_takeWord 21 = .ok (.new 348, 3) := dk_187 1 92 (dk_at dksX0_takeWord_0 21 rfl rfl)
theorem dX0_takeWord_24 : decode cX0_takeWord 24 = .ok (.dup, 1) := dk_89 (dk_at dksX0_takeWord_1 0 rfl rfl)
theorem dX0_takeWord_25 : decode cX0_takeWord 25 = .ok (.iload_n 1, 1) := dk_27 (dk_at dksX0_takeWord_1 1 rfl rfl)
theorem dX0_takeWord_26 : decode cX0_takeWord 26 = .ok (.invokespecial 350, 3) := dk_183 1 94 (dk_at dksX0_takeWord_1 2 rfl rfl)
theorem dX0_takeWord_29 : decode cX0_takeWord 29 = .ok (.athrow, 1) := dk_191 (dk_at dksX0_takeWord_1 5 rfl rfl)
theorem dX0_takeWord_30 : decode cX0_takeWord 30 = .ok (.iload_n 1, 1) := dk_27 (dk_at dksX0_takeWord_1 6 rfl rfl)
theorem dX0_takeWord_31 : decode cX0_takeWord 31 = .ok (.ifCond .ne 13, 3) := dk_154 0 13 (dk_at dksX0_takeWord_1 7 rfl rfl)
theorem dX0_takeWord_34 : decode cX0_takeWord 34 = .ok (.aload_n 0, 1) := dk_42 (dk_at dksX0_takeWord_1 10 rfl rfl)
theorem dX0_takeWord_35 : decode cX0_takeWord 35 = .ok (.getfield 18, 3) := dk_180 0 18 (dk_at dksX0_takeWord_1 11 rfl rfl)
theorem dX0_takeWord_38 : decode cX0_takeWord 38 = .ok (.getfield 129, 3) := dk_180 0 129 (dk_at dksX0_takeWord_1 14 rfl rfl)
theorem dX0_takeWord_41 : decode cX0_takeWord 41 = .ok (.goto 27, 3) := dk_167 0 27 (dk_at dksX0_takeWord_1 17 rfl rfl)
theorem dX0_takeWord_44 : decode cX0_takeWord 44 = .ok (.aload_n 0, 1) := dk_42 (dk_at dksX0_takeWord_1 20 rfl rfl)
theorem dX0_takeWord_45 : decode cX0_takeWord 45 = .ok (.getfield 18, 3) := dk_180 0 18 (dk_at dksX0_takeWord_1 21 rfl rfl)
theorem dX0_takeWord_48 : decode cX0_takeWord 48 = .ok (.getfield 132, 3) := dk_180 0 132 (dk_at dksX0_takeWord_2 0 rfl rfl)
theorem dX0_takeWord_51 : decode cX0_takeWord 51 = .ok (.aload_n 0, 1) := dk_42 (dk_at dksX0_takeWord_2 3 rfl rfl)
theorem dX0_takeWord_52 : decode cX0_takeWord 52 = .ok (.getfield 11, 3) := dk_180 0 11 (dk_at dksX0_takeWord_2 4 rfl rfl)
theorem dX0_takeWord_55 : decode cX0_takeWord 55 = .ok (.aload_n 0, 1) := dk_42 (dk_at dksX0_takeWord_2 7 rfl rfl)
theorem dX0_takeWord_56 : decode cX0_takeWord 56 = .ok (.getfield 71, 3) := dk_180 0 71 (dk_at dksX0_takeWord_2 8 rfl rfl)
theorem dX0_takeWord_59 : decode cX0_takeWord 59 = .ok (.iload_n 1, 1) := dk_27 (dk_at dksX0_takeWord_2 11 rfl rfl)
theorem dX0_takeWord_60 : decode cX0_takeWord 60 = .ok (.iconst 1, 1) := dk_4 (dk_at dksX0_takeWord_2 12 rfl rfl)
theorem dX0_takeWord_61 : decode cX0_takeWord 61 = .ok (.isub, 1) := dk_100 (dk_at dksX0_takeWord_2 13 rfl rfl)
theorem dX0_takeWord_62 : decode cX0_takeWord 62 = .ok (.iaload, 1) := dk_46 (dk_at dksX0_takeWord_2 14 rfl rfl)
theorem dX0_takeWord_63 : decode cX0_takeWord 63 = .ok (.aaload, 1) := dk_50 (dk_at dksX0_takeWord_2 15 rfl rfl)
theorem dX0_takeWord_64 : decode cX0_takeWord 64 = .ok (.getfield 135, 3) := dk_180 0 135 (dk_at dksX0_takeWord_2 16 rfl rfl)
theorem dX0_takeWord_67 : decode cX0_takeWord 67 = .ok (.iaload, 1) := dk_46 (dk_at dksX0_takeWord_2 19 rfl rfl)
theorem dX0_takeWord_68 : decode cX0_takeWord 68 = .ok (.aload_n 0, 1) := dk_42 (dk_at dksX0_takeWord_2 20 rfl rfl)
theorem dX0_takeWord_69 : decode cX0_takeWord 69 = .ok (.getfield 11, 3) := dk_180 0 11 (dk_at dksX0_takeWord_2 21 rfl rfl)
theorem dX0_takeWord_72 : decode cX0_takeWord 72 = .ok (.iload_n 2, 1) := dk_28 (dk_at dksX0_takeWord_3 0 rfl rfl)
theorem dX0_takeWord_73 : decode cX0_takeWord 73 = .ok (.aaload, 1) := dk_50 (dk_at dksX0_takeWord_3 1 rfl rfl)
theorem dX0_takeWord_74 : decode cX0_takeWord 74 = .ok (.getfield 135, 3) := dk_180 0 135 (dk_at dksX0_takeWord_3 2 rfl rfl)
theorem dX0_takeWord_77 : decode cX0_takeWord 77 = .ok (.invokestatic 126, 3) := dk_184 0 126 (dk_at dksX0_takeWord_3 5 rfl rfl)
theorem dX0_takeWord_80 : decode cX0_takeWord 80 = .ok (.ifCond .ne 12, 3) := dk_154 0 12 (dk_at dksX0_takeWord_3 8 rfl rfl)
theorem dX0_takeWord_83 : decode cX0_takeWord 83 = .ok (.new 352, 3) := dk_187 1 96 (dk_at dksX0_takeWord_3 11 rfl rfl)
theorem dX0_takeWord_86 : decode cX0_takeWord 86 = .ok (.dup, 1) := dk_89 (dk_at dksX0_takeWord_3 14 rfl rfl)
theorem dX0_takeWord_87 : decode cX0_takeWord 87 = .ok (.iload_n 1, 1) := dk_27 (dk_at dksX0_takeWord_3 15 rfl rfl)
theorem dX0_takeWord_88 : decode cX0_takeWord 88 = .ok (.invokespecial 354, 3) := dk_183 1 98 (dk_at dksX0_takeWord_3 16 rfl rfl)
theorem dX0_takeWord_91 : decode cX0_takeWord 91 = .ok (.athrow, 1) := dk_191 (dk_at dksX0_takeWord_3 19 rfl rfl)
theorem dX0_takeWord_92 : decode cX0_takeWord 92 = .ok (.aload_n 0, 1) := dk_42 (dk_at dksX0_takeWord_3 20 rfl rfl)
theorem dX0_takeWord_93 : decode cX0_takeWord 93 = .ok (.aload_n 0, 1) := dk_42 (dk_at dksX0_takeWord_3 21 rfl rfl)
theorem dX0_takeWord_94 : decode cX0_takeWord 94 = .ok (.getfield 11, 3) := dk_180 0 11 (dk_at dksX0_takeWord_4 0 rfl rfl)
theorem dX0_takeWord_97 : decode cX0_takeWord 97 = .ok (.iload_n 2, 1) := dk_28 (dk_at dksX0_takeWord_4 3 rfl rfl)
theorem dX0_takeWord_98 : decode cX0_takeWord 98 = .ok (.aaload, 1) := dk_50 (dk_at dksX0_takeWord_4 4 rfl rfl)
theorem dX0_takeWord_99 : decode cX0_takeWord 99 = .ok (.invokevirtual 355, 3) := dk_182 1 99 (dk_at dksX0_takeWord_4 5 rfl rfl)
theorem dX0_takeWord_102 : decode cX0_takeWord 102 = .ok (.goto 14, 3) := dk_167 0 14 (dk_at dksX0_takeWord_4 8 rfl rfl)
theorem dX0_takeWord_105 : decode cX0_takeWord 105 = .ok (.astore_n 3, 1) := dk_78 (dk_at dksX0_takeWord_4 11 rfl rfl)
theorem dX0_takeWord_106 : decode cX0_takeWord 106 = .ok (.new 358, 3) := dk_187 1 102 (dk_at dksX0_takeWord_4 12 rfl rfl)
theorem dX0_takeWord_109 : decode cX0_takeWord 109 = .ok (.dup, 1) := dk_89 (dk_at dksX0_takeWord_4 15 rfl rfl)
theorem dX0_takeWord_110 : decode cX0_takeWord 110 = .ok (.iload_n 1, 1) := dk_27 (dk_at dksX0_takeWord_4 16 rfl rfl)
theorem dX0_takeWord_111 : decode cX0_takeWord 111 = .ok (.aload_n 3, 1) := dk_45 (dk_at dksX0_takeWord_4 17 rfl rfl)
theorem dX0_takeWord_112 : decode cX0_takeWord 112 = .ok (.invokespecial 360, 3) := dk_183 1 104 (dk_at dksX0_takeWord_4 18 rfl rfl)
theorem dX0_takeWord_115 : decode cX0_takeWord 115 = .ok (.athrow, 1) := dk_191 (dk_at dksX0_takeWord_4 21 rfl rfl)
theorem dX0_takeWord_116 : decode cX0_takeWord 116 = .ok (.return_, 1) := dk_177 (dk_at dksX0_takeWord_4 22 rfl rfl)
abbrev cX0_takeLetters : ByteArray := prog_1_method_61_code
def yX0_takeLetters : MethodName := ⟨RX0, "takeLetters", "(LBagPhrases$Word;)V"⟩
def dkwX0_takeLetters_3 : List UInt8 := [28, 92, 46, 43, 180, 0, 112, 28, 46, 100, 79, 132, 2, 1, 167, 255, 232, 177]
abbrev dktX0_takeLetters_3 : List UInt8 := dkwX0_takeLetters_3 ++ []
def dkwX0_takeLetters_2 : List UInt8 := [46, 100, 183, 1, 89, 191, 132, 2, 1, 167, 255, 201, 3, 61, 28, 16, 8, 162, 0, 24, 42, 180, 0, 74]
abbrev dktX0_takeLetters_2 : List UInt8 := dkwX0_takeLetters_2 ++ dktX0_takeLetters_3
def dkwX0_takeLetters_1 : List UInt8 := [180, 0, 112, 29, 46, 162, 0, 25, 187, 1, 87, 89, 29, 43, 180, 0, 112, 29, 46, 42, 180, 0, 74, 29]
abbrev dktX0_takeLetters_1 : List UInt8 := dkwX0_takeLetters_1 ++ dktX0_takeLetters_2
def dkwX0_takeLetters_0 : List UInt8 := [3, 61, 28, 43, 180, 0, 210, 162, 0, 53, 43, 180, 1, 84, 28, 46, 62, 42, 180, 0, 74, 29, 46, 43]
abbrev dktX0_takeLetters_0 : List UInt8 := dkwX0_takeLetters_0 ++ dktX0_takeLetters_1
theorem dksX0_takeLetters_0 : cX0_takeLetters.data.toList.drop 0 = dktX0_takeLetters_0 := by decide +kernel
theorem dksX0_takeLetters_1 : cX0_takeLetters.data.toList.drop 24 = dktX0_takeLetters_1 := dk_seg dksX0_takeLetters_0 24 rfl rfl
theorem dksX0_takeLetters_2 : cX0_takeLetters.data.toList.drop 48 = dktX0_takeLetters_2 := dk_seg dksX0_takeLetters_1 24 rfl rfl
theorem dksX0_takeLetters_3 : cX0_takeLetters.data.toList.drop 72 = dktX0_takeLetters_3 := dk_seg dksX0_takeLetters_2 24 rfl rfl
theorem dX0_takeLetters_0 : decode cX0_takeLetters 0 = .ok (.iconst 0, 1) := dk_3 (dk_at dksX0_takeLetters_0 0 rfl rfl)
theorem dX0_takeLetters_1 : decode cX0_takeLetters 1 = .ok (.istore_n 2, 1) := dk_61 (dk_at dksX0_takeLetters_0 1 rfl rfl)
theorem dX0_takeLetters_2 : decode cX0_takeLetters 2 = .ok (.iload_n 2, 1) := dk_28 (dk_at dksX0_takeLetters_0 2 rfl rfl)
theorem dX0_takeLetters_3 : decode cX0_takeLetters 3 = .ok (.aload_n 1, 1) := dk_43 (dk_at dksX0_takeLetters_0 3 rfl rfl)
theorem dX0_takeLetters_4 : decode cX0_takeLetters 4 = .ok (.getfield 210, 3) := dk_180 0 210 (dk_at dksX0_takeLetters_0 4 rfl rfl)
theorem dX0_takeLetters_7 : decode cX0_takeLetters 7 = .ok (.if_icmp .ge 53, 3) := dk_162 0 53 (dk_at dksX0_takeLetters_0 7 rfl rfl)
theorem dX0_takeLetters_10 : decode cX0_takeLetters 10 = .ok (.aload_n 1, 1) := dk_43 (dk_at dksX0_takeLetters_0 10 rfl rfl)
theorem dX0_takeLetters_11 : decode cX0_takeLetters 11 = .ok (.getfield 340, 3) := dk_180 1 84 (dk_at dksX0_takeLetters_0 11 rfl rfl)
theorem dX0_takeLetters_14 : decode cX0_takeLetters 14 = .ok (.iload_n 2, 1) := dk_28 (dk_at dksX0_takeLetters_0 14 rfl rfl)
theorem dX0_takeLetters_15 : decode cX0_takeLetters 15 = .ok (.iaload, 1) := dk_46 (dk_at dksX0_takeLetters_0 15 rfl rfl)
theorem dX0_takeLetters_16 : decode cX0_takeLetters 16 = .ok (.istore_n 3, 1) := dk_62 (dk_at dksX0_takeLetters_0 16 rfl rfl)
theorem dX0_takeLetters_17 : decode cX0_takeLetters 17 = .ok (.aload_n 0, 1) := dk_42 (dk_at dksX0_takeLetters_0 17 rfl rfl)
theorem dX0_takeLetters_18 : decode cX0_takeLetters 18 = .ok (.getfield 74, 3) := dk_180 0 74 (dk_at dksX0_takeLetters_0 18 rfl rfl)
theorem dX0_takeLetters_21 : decode cX0_takeLetters 21 = .ok (.iload_n 3, 1) := dk_29 (dk_at dksX0_takeLetters_0 21 rfl rfl)
theorem dX0_takeLetters_22 : decode cX0_takeLetters 22 = .ok (.iaload, 1) := dk_46 (dk_at dksX0_takeLetters_0 22 rfl rfl)
theorem dX0_takeLetters_23 : decode cX0_takeLetters 23 = .ok (.aload_n 1, 1) := dk_43 (dk_at dksX0_takeLetters_0 23 rfl rfl)
theorem dX0_takeLetters_24 : decode cX0_takeLetters 24 = .ok (.getfield 112, 3) := dk_180 0 112 (dk_at dksX0_takeLetters_1 0 rfl rfl)
theorem dX0_takeLetters_27 : decode cX0_takeLetters 27 = .ok (.iload_n 3, 1) := dk_29 (dk_at dksX0_takeLetters_1 3 rfl rfl)
theorem dX0_takeLetters_28 : decode cX0_takeLetters 28 = .ok (.iaload, 1) := dk_46 (dk_at dksX0_takeLetters_1 4 rfl rfl)
theorem dX0_takeLetters_29 : decode cX0_takeLetters 29 = .ok (.if_icmp .ge 25, 3) := dk_162 0 25 (dk_at dksX0_takeLetters_1 5 rfl rfl)
theorem dX0_takeLetters_32 : decode cX0_takeLetters 32 = .ok (.new 343, 3) := dk_187 1 87 (dk_at dksX0_takeLetters_1 8 rfl rfl)
theorem dX0_takeLetters_35 : decode cX0_takeLetters 35 = .ok (.dup, 1) := dk_89 (dk_at dksX0_takeLetters_1 11 rfl rfl)
theorem dX0_takeLetters_36 : decode cX0_takeLetters 36 = .ok (.iload_n 3, 1) := dk_29 (dk_at dksX0_takeLetters_1 12 rfl rfl)
theorem dX0_takeLetters_37 : decode cX0_takeLetters 37 = .ok (.aload_n 1, 1) := dk_43 (dk_at dksX0_takeLetters_1 13 rfl rfl)
theorem dX0_takeLetters_38 : decode cX0_takeLetters 38 = .ok (.getfield 112, 3) := dk_180 0 112 (dk_at dksX0_takeLetters_1 14 rfl rfl)
theorem dX0_takeLetters_41 : decode cX0_takeLetters 41 = .ok (.iload_n 3, 1) := dk_29 (dk_at dksX0_takeLetters_1 17 rfl rfl)
theorem dX0_takeLetters_42 : decode cX0_takeLetters 42 = .ok (.iaload, 1) := dk_46 (dk_at dksX0_takeLetters_1 18 rfl rfl)
theorem dX0_takeLetters_43 : decode cX0_takeLetters 43 = .ok (.aload_n 0, 1) := dk_42 (dk_at dksX0_takeLetters_1 19 rfl rfl)
theorem dX0_takeLetters_44 : decode cX0_takeLetters 44 = .ok (.getfield 74, 3) := dk_180 0 74 (dk_at dksX0_takeLetters_1 20 rfl rfl)
theorem dX0_takeLetters_47 : decode cX0_takeLetters 47 = .ok (.iload_n 3, 1) := dk_29 (dk_at dksX0_takeLetters_1 23 rfl rfl)
theorem dX0_takeLetters_48 : decode cX0_takeLetters 48 = .ok (.iaload, 1) := dk_46 (dk_at dksX0_takeLetters_2 0 rfl rfl)
theorem dX0_takeLetters_49 : decode cX0_takeLetters 49 = .ok (.isub, 1) := dk_100 (dk_at dksX0_takeLetters_2 1 rfl rfl)
theorem dX0_takeLetters_50 : decode cX0_takeLetters 50 = .ok (.invokespecial 345, 3) := dk_183 1 89 (dk_at dksX0_takeLetters_2 2 rfl rfl)
theorem dX0_takeLetters_53 : decode cX0_takeLetters 53 = .ok (.athrow, 1) := dk_191 (dk_at dksX0_takeLetters_2 5 rfl rfl)
theorem dX0_takeLetters_54 : decode cX0_takeLetters 54 = .ok (.iinc 2 1, 3) := dk_132 2 1 (dk_at dksX0_takeLetters_2 6 rfl rfl)
theorem dX0_takeLetters_57 : decode cX0_takeLetters 57 = .ok (.goto (-55), 3) := dk_167 255 201 (dk_at dksX0_takeLetters_2 9 rfl rfl)
theorem dX0_takeLetters_60 : decode cX0_takeLetters 60 = .ok (.iconst 0, 1) := dk_3 (dk_at dksX0_takeLetters_2 12 rfl rfl)
theorem dX0_takeLetters_61 : decode cX0_takeLetters 61 = .ok (.istore_n 2, 1) := dk_61 (dk_at dksX0_takeLetters_2 13 rfl rfl)
theorem dX0_takeLetters_62 : decode cX0_takeLetters 62 = .ok (.iload_n 2, 1) := dk_28 (dk_at dksX0_takeLetters_2 14 rfl rfl)
theorem dX0_takeLetters_63 : decode cX0_takeLetters 63 = .ok (.bipush 8, 2) := dk_16 8 (dk_at dksX0_takeLetters_2 15 rfl rfl)
theorem dX0_takeLetters_65 : decode cX0_takeLetters 65 = .ok (.if_icmp .ge 24, 3) := dk_162 0 24 (dk_at dksX0_takeLetters_2 17 rfl rfl)
theorem dX0_takeLetters_68 : decode cX0_takeLetters 68 = .ok (.aload_n 0, 1) := dk_42 (dk_at dksX0_takeLetters_2 20 rfl rfl)
theorem dX0_takeLetters_69 : decode cX0_takeLetters 69 = .ok (.getfield 74, 3) := dk_180 0 74 (dk_at dksX0_takeLetters_2 21 rfl rfl)
theorem dX0_takeLetters_72 : decode cX0_takeLetters 72 = .ok (.iload_n 2, 1) := dk_28 (dk_at dksX0_takeLetters_3 0 rfl rfl)
theorem dX0_takeLetters_73 : decode cX0_takeLetters 73 = .ok (.dup2, 1) := dk_92 (dk_at dksX0_takeLetters_3 1 rfl rfl)
theorem dX0_takeLetters_74 : decode cX0_takeLetters 74 = .ok (.iaload, 1) := dk_46 (dk_at dksX0_takeLetters_3 2 rfl rfl)
theorem dX0_takeLetters_75 : decode cX0_takeLetters 75 = .ok (.aload_n 1, 1) := dk_43 (dk_at dksX0_takeLetters_3 3 rfl rfl)
theorem dX0_takeLetters_76 : decode cX0_takeLetters 76 = .ok (.getfield 112, 3) := dk_180 0 112 (dk_at dksX0_takeLetters_3 4 rfl rfl)
theorem dX0_takeLetters_79 : decode cX0_takeLetters 79 = .ok (.iload_n 2, 1) := dk_28 (dk_at dksX0_takeLetters_3 7 rfl rfl)
theorem dX0_takeLetters_80 : decode cX0_takeLetters 80 = .ok (.iaload, 1) := dk_46 (dk_at dksX0_takeLetters_3 8 rfl rfl)
theorem dX0_takeLetters_81 : decode cX0_takeLetters 81 = .ok (.isub, 1) := dk_100 (dk_at dksX0_takeLetters_3 9 rfl rfl)
theorem dX0_takeLetters_82 : decode cX0_takeLetters 82 = .ok (.iastore, 1) := dk_79 (dk_at dksX0_takeLetters_3 10 rfl rfl)
theorem dX0_takeLetters_83 : decode cX0_takeLetters 83 = .ok (.iinc 2 1, 3) := dk_132 2 1 (dk_at dksX0_takeLetters_3 11 rfl rfl)
theorem dX0_takeLetters_86 : decode cX0_takeLetters 86 = .ok (.goto (-24), 3) := dk_167 255 232 (dk_at dksX0_takeLetters_3 14 rfl rfl)
theorem dX0_takeLetters_89 : decode cX0_takeLetters 89 = .ok (.return_, 1) := dk_177 (dk_at dksX0_takeLetters_3 17 rfl rfl)
abbrev cX0_seeLeft : ByteArray := prog_1_method_63_code
def yX0_seeLeft : MethodName := ⟨RX0, "seeLeft", "()V"⟩
def dkwX0_seeLeft_1 : List UInt8 := [180, 0, 74, 27, 46, 183, 1, 89, 191, 132, 1, 1, 167, 255, 223, 177]
abbrev dktX0_seeLeft_1 : List UInt8 := dkwX0_seeLeft_1 ++ []
def dkwX0_seeLeft_0 : List UInt8 := [3, 60, 27, 16, 8, 162, 0, 33, 42, 180, 0, 74, 27, 46, 158, 0, 18, 187, 1, 87, 89, 27, 42]
abbrev dktX0_seeLeft_0 : List UInt8 := dkwX0_seeLeft_0 ++ dktX0_seeLeft_1
theorem dksX0_seeLeft_0 : cX0_seeLeft.data.toList.drop 0 = dktX0_seeLeft_0 := by decide +kernel
theorem dksX0_seeLeft_1 : cX0_seeLeft.data.toList.drop 23 = dktX0_seeLeft_1 := dk_seg dksX0_seeLeft_0 23 rfl rfl
theorem dX0_seeLeft_0 : decode cX0_seeLeft 0 = .ok (.iconst 0, 1) := dk_3 (dk_at dksX0_seeLeft_0 0 rfl rfl)
theorem dX0_seeLeft_1 : decode cX0_seeLeft 1 = .ok (.istore_n 1, 1) := dk_60 (dk_at dksX0_seeLeft_0 1 rfl rfl)
theorem dX0_seeLeft_2 : decode cX0_seeLeft 2 = .ok (.iload_n 1, 1) := dk_27 (dk_at dksX0_seeLeft_0 2 rfl rfl)
theorem dX0_seeLeft_3 : decode cX0_seeLeft 3 = .ok (.bipush 8, 2) := dk_16 8 (dk_at dksX0_seeLeft_0 3 rfl rfl)
theorem dX0_seeLeft_5 : decode cX0_seeLeft 5 = .ok (.if_icmp .ge 33, 3) := dk_162 0 33 (dk_at dksX0_seeLeft_0 5 rfl rfl)
theorem dX0_seeLeft_8 : decode cX0_seeLeft 8 = .ok (.aload_n 0, 1) := dk_42 (dk_at dksX0_seeLeft_0 8 rfl rfl)
theorem dX0_seeLeft_9 : decode cX0_seeLeft 9 = .ok (.getfield 74, 3) := dk_180 0 74 (dk_at dksX0_seeLeft_0 9 rfl rfl)
theorem dX0_seeLeft_12 : decode cX0_seeLeft 12 = .ok (.iload_n 1, 1) := dk_27 (dk_at dksX0_seeLeft_0 12 rfl rfl)
theorem dX0_seeLeft_13 : decode cX0_seeLeft 13 = .ok (.iaload, 1) := dk_46 (dk_at dksX0_seeLeft_0 13 rfl rfl)
theorem dX0_seeLeft_14 : decode cX0_seeLeft 14 = .ok (.ifCond .le 18, 3) := dk_158 0 18 (dk_at dksX0_seeLeft_0 14 rfl rfl)
theorem dX0_seeLeft_17 : decode cX0_seeLeft 17 = .ok (.new 343, 3) := dk_187 1 87 (dk_at dksX0_seeLeft_0 17 rfl rfl)
theorem dX0_seeLeft_20 : decode cX0_seeLeft 20 = .ok (.dup, 1) := dk_89 (dk_at dksX0_seeLeft_0 20 rfl rfl)
theorem dX0_seeLeft_21 : decode cX0_seeLeft 21 = .ok (.iload_n 1, 1) := dk_27 (dk_at dksX0_seeLeft_0 21 rfl rfl)
theorem dX0_seeLeft_22 : decode cX0_seeLeft 22 = .ok (.aload_n 0, 1) := dk_42 (dk_at dksX0_seeLeft_0 22 rfl rfl)
theorem dX0_seeLeft_23 : decode cX0_seeLeft 23 = .ok (.getfield 74, 3) := dk_180 0 74 (dk_at dksX0_seeLeft_1 0 rfl rfl)
theorem dX0_seeLeft_26 : decode cX0_seeLeft 26 = .ok (.iload_n 1, 1) := dk_27 (dk_at dksX0_seeLeft_1 3 rfl rfl)
theorem dX0_seeLeft_27 : decode cX0_seeLeft 27 = .ok (.iaload, 1) := dk_46 (dk_at dksX0_seeLeft_1 4 rfl rfl)
theorem dX0_seeLeft_28 : decode cX0_seeLeft 28 = .ok (.invokespecial 345, 3) := dk_183 1 89 (dk_at dksX0_seeLeft_1 5 rfl rfl)
theorem dX0_seeLeft_31 : decode cX0_seeLeft 31 = .ok (.athrow, 1) := dk_191 (dk_at dksX0_seeLeft_1 8 rfl rfl)
theorem dX0_seeLeft_32 : decode cX0_seeLeft 32 = .ok (.iinc 1 1, 3) := dk_132 1 1 (dk_at dksX0_seeLeft_1 9 rfl rfl)
theorem dX0_seeLeft_35 : decode cX0_seeLeft 35 = .ok (.goto (-33), 3) := dk_167 255 223 (dk_at dksX0_seeLeft_1 12 rfl rfl)
theorem dX0_seeLeft_38 : decode cX0_seeLeft 38 = .ok (.return_, 1) := dk_177 (dk_at dksX0_seeLeft_1 15 rfl rfl)
abbrev cX0_tellMisfit : ByteArray := prog_1_method_65_code
def yX0_tellMisfit : MethodName := ⟨RX0, "tellMisfit", "(LBagPhrases$Misfit;I)I"⟩
def dkwX0_tellMisfit_4 : List UInt8 := [153, 0, 15, 45, 192, 1, 87, 77, 44, 180, 1, 143, 167, 0, 4, 3, 172]
abbrev dktX0_tellMisfit_4 : List UInt8 := dkwX0_tellMisfit_4 ++ []
def dkwX0_tellMisfit_3 : List UInt8 := [192, 1, 87, 77, 44, 180, 1, 140, 167, 0, 5, 16, 247, 172, 42, 182, 1, 136, 78, 45, 193, 1, 87]
abbrev dktX0_tellMisfit_3 : List UInt8 := dkwX0_tellMisfit_3 ++ dktX0_tellMisfit_4
def dkwX0_tellMisfit_2 : List UInt8 := [42, 182, 1, 128, 172, 42, 182, 1, 133, 172, 42, 182, 1, 136, 78, 45, 193, 1, 87, 153, 0, 15, 45]
abbrev dktX0_tellMisfit_2 : List UInt8 := dkwX0_tellMisfit_2 ++ dktX0_tellMisfit_3
def dkwX0_tellMisfit_1 : List UInt8 := [170, 0, 0, 0, 0, 0, 64, 0, 0, 0, 0, 0, 0, 0, 2, 0, 0, 0, 27, 0, 0, 0, 32, 0, 0, 0, 37]
abbrev dktX0_tellMisfit_1 : List UInt8 := dkwX0_tellMisfit_1 ++ dktX0_tellMisfit_2
def dkwX0_tellMisfit_0 : List UInt8 := [27]
abbrev dktX0_tellMisfit_0 : List UInt8 := dkwX0_tellMisfit_0 ++ dktX0_tellMisfit_1
theorem dksX0_tellMisfit_0 : cX0_tellMisfit.data.toList.drop 0 = dktX0_tellMisfit_0 := by decide +kernel
theorem dksX0_tellMisfit_1 : cX0_tellMisfit.data.toList.drop 1 = dktX0_tellMisfit_1 := dk_seg dksX0_tellMisfit_0 1 rfl rfl
theorem dksX0_tellMisfit_2 : cX0_tellMisfit.data.toList.drop 28 = dktX0_tellMisfit_2 := dk_seg dksX0_tellMisfit_1 27 rfl rfl
theorem dksX0_tellMisfit_3 : cX0_tellMisfit.data.toList.drop 51 = dktX0_tellMisfit_3 := dk_seg dksX0_tellMisfit_2 23 rfl rfl
theorem dksX0_tellMisfit_4 : cX0_tellMisfit.data.toList.drop 74 = dktX0_tellMisfit_4 := dk_seg dksX0_tellMisfit_3 23 rfl rfl
theorem dX0_tellMisfit_0 : decode cX0_tellMisfit 0 = .ok (.iload_n 1, 1) := dk_27 (dk_at dksX0_tellMisfit_0 0 rfl rfl)
theorem dX0_tellMisfit_1 : decode cX0_tellMisfit 1 = .ok (.tableswitch 64 0 2 #[27, 32, 37], 27) := by decide +kernel
theorem dX0_tellMisfit_28 : decode cX0_tellMisfit 28 = .ok (.aload_n 0, 1) := dk_42 (dk_at dksX0_tellMisfit_2 0 rfl rfl)
theorem dX0_tellMisfit_29 : decode cX0_tellMisfit 29 = .ok (.invokevirtual 384, 3) := dk_182 1 128 (dk_at dksX0_tellMisfit_2 1 rfl rfl)
theorem dX0_tellMisfit_32 : decode cX0_tellMisfit 32 = .ok (.ireturn, 1) := dk_172 (dk_at dksX0_tellMisfit_2 4 rfl rfl)
theorem dX0_tellMisfit_33 : decode cX0_tellMisfit 33 = .ok (.aload_n 0, 1) := dk_42 (dk_at dksX0_tellMisfit_2 5 rfl rfl)
theorem dX0_tellMisfit_34 : decode cX0_tellMisfit 34 = .ok (.invokevirtual 389, 3) := dk_182 1 133 (dk_at dksX0_tellMisfit_2 6 rfl rfl)
theorem dX0_tellMisfit_37 : decode cX0_tellMisfit 37 = .ok (.ireturn, 1) := dk_172 (dk_at dksX0_tellMisfit_2 9 rfl rfl)
theorem dX0_tellMisfit_38 : decode cX0_tellMisfit 38 = .ok (.aload_n 0, 1) := dk_42 (dk_at dksX0_tellMisfit_2 10 rfl rfl)
theorem dX0_tellMisfit_39 : decode cX0_tellMisfit 39 = .ok (.invokevirtual 392, 3) := dk_182 1 136 (dk_at dksX0_tellMisfit_2 11 rfl rfl)
theorem dX0_tellMisfit_42 : decode cX0_tellMisfit 42 = .ok (.astore_n 3, 1) := dk_78 (dk_at dksX0_tellMisfit_2 14 rfl rfl)
theorem dX0_tellMisfit_43 : decode cX0_tellMisfit 43 = .ok (.aload_n 3, 1) := dk_45 (dk_at dksX0_tellMisfit_2 15 rfl rfl)
theorem dX0_tellMisfit_44 : decode cX0_tellMisfit 44 = .ok (.instanceof 343, 3) := dk_193 1 87 (dk_at dksX0_tellMisfit_2 16 rfl rfl)
theorem dX0_tellMisfit_47 : decode cX0_tellMisfit 47 = .ok (.ifCond .eq 15, 3) := dk_153 0 15 (dk_at dksX0_tellMisfit_2 19 rfl rfl)
theorem dX0_tellMisfit_50 : decode cX0_tellMisfit 50 = .ok (.aload_n 3, 1) := dk_45 (dk_at dksX0_tellMisfit_2 22 rfl rfl)
theorem dX0_tellMisfit_51 : decode cX0_tellMisfit 51 = .ok (.checkcast 343, 3) := dk_192 1 87 (dk_at dksX0_tellMisfit_3 0 rfl rfl)
theorem dX0_tellMisfit_54 : decode cX0_tellMisfit 54 = .ok (.astore_n 2, 1) := dk_77 (dk_at dksX0_tellMisfit_3 3 rfl rfl)
theorem dX0_tellMisfit_55 : decode cX0_tellMisfit 55 = .ok (.aload_n 2, 1) := dk_44 (dk_at dksX0_tellMisfit_3 4 rfl rfl)
theorem dX0_tellMisfit_56 : decode cX0_tellMisfit 56 = .ok (.getfield 396, 3) := dk_180 1 140 (dk_at dksX0_tellMisfit_3 5 rfl rfl)
theorem dX0_tellMisfit_59 : decode cX0_tellMisfit 59 = .ok (.goto 5, 3) := dk_167 0 5 (dk_at dksX0_tellMisfit_3 8 rfl rfl)
theorem dX0_tellMisfit_62 : decode cX0_tellMisfit 62 = .ok (.bipush (-9), 2) := dk_16 247 (dk_at dksX0_tellMisfit_3 11 rfl rfl)
theorem dX0_tellMisfit_64 : decode cX0_tellMisfit 64 = .ok (.ireturn, 1) := dk_172 (dk_at dksX0_tellMisfit_3 13 rfl rfl)
theorem dX0_tellMisfit_65 : decode cX0_tellMisfit 65 = .ok (.aload_n 0, 1) := dk_42 (dk_at dksX0_tellMisfit_3 14 rfl rfl)
theorem dX0_tellMisfit_66 : decode cX0_tellMisfit 66 = .ok (.invokevirtual 392, 3) := dk_182 1 136 (dk_at dksX0_tellMisfit_3 15 rfl rfl)
theorem dX0_tellMisfit_69 : decode cX0_tellMisfit 69 = .ok (.astore_n 3, 1) := dk_78 (dk_at dksX0_tellMisfit_3 18 rfl rfl)
theorem dX0_tellMisfit_70 : decode cX0_tellMisfit 70 = .ok (.aload_n 3, 1) := dk_45 (dk_at dksX0_tellMisfit_3 19 rfl rfl)
theorem dX0_tellMisfit_71 : decode cX0_tellMisfit 71 = .ok (.instanceof 343, 3) := dk_193 1 87 (dk_at dksX0_tellMisfit_3 20 rfl rfl)
theorem dX0_tellMisfit_74 : decode cX0_tellMisfit 74 = .ok (.ifCond .eq 15, 3) := dk_153 0 15 (dk_at dksX0_tellMisfit_4 0 rfl rfl)
theorem dX0_tellMisfit_77 : decode cX0_tellMisfit 77 = .ok (.aload_n 3, 1) := dk_45 (dk_at dksX0_tellMisfit_4 3 rfl rfl)
theorem dX0_tellMisfit_78 : decode cX0_tellMisfit 78 = .ok (.checkcast 343, 3) := dk_192 1 87 (dk_at dksX0_tellMisfit_4 4 rfl rfl)
theorem dX0_tellMisfit_81 : decode cX0_tellMisfit 81 = .ok (.astore_n 2, 1) := dk_77 (dk_at dksX0_tellMisfit_4 7 rfl rfl)
theorem dX0_tellMisfit_82 : decode cX0_tellMisfit 82 = .ok (.aload_n 2, 1) := dk_44 (dk_at dksX0_tellMisfit_4 8 rfl rfl)
theorem dX0_tellMisfit_83 : decode cX0_tellMisfit 83 = .ok (.getfield 399, 3) := dk_180 1 143 (dk_at dksX0_tellMisfit_4 9 rfl rfl)
theorem dX0_tellMisfit_86 : decode cX0_tellMisfit 86 = .ok (.goto 4, 3) := dk_167 0 4 (dk_at dksX0_tellMisfit_4 12 rfl rfl)
theorem dX0_tellMisfit_89 : decode cX0_tellMisfit 89 = .ok (.iconst 0, 1) := dk_3 (dk_at dksX0_tellMisfit_4 15 rfl rfl)
theorem dX0_tellMisfit_90 : decode cX0_tellMisfit 90 = .ok (.ireturn, 1) := dk_172 (dk_at dksX0_tellMisfit_4 16 rfl rfl)
abbrev cX0_number : ByteArray := prog_1_method_68_code
def yX0_number : MethodName := ⟨RX0, "number", "()J"⟩
def dkwX0_number_5 : List UInt8 := [180, 0, 11, 42, 180, 0, 71, 21, 5, 46, 50, 180, 0, 135, 54, 4, 132, 5, 1, 167, 255, 149, 31, 173]
abbrev dktX0_number_5 : List UInt8 := dkwX0_number_5 ++ []
def dkwX0_number_4 : List UInt8 := [97, 64, 132, 6, 1, 167, 255, 199, 29, 42, 180, 0, 42, 42, 180, 0, 71, 21, 5, 46, 46, 100, 62, 42]
abbrev dktX0_number_4 : List UInt8 := dkwX0_number_4 ++ dktX0_number_5
def dkwX0_number_3 : List UInt8 := [180, 0, 42, 21, 6, 46, 100, 42, 180, 0, 11, 21, 6, 50, 180, 0, 135, 182, 0, 148, 167, 0, 4, 9]
abbrev dktX0_number_3 : List UInt8 := dkwX0_number_3 ++ dktX0_number_4
def dkwX0_number_2 : List UInt8 := [21, 5, 46, 162, 0, 51, 31, 42, 21, 6, 29, 21, 4, 182, 0, 144, 153, 0, 29, 42, 29, 42]
abbrev dktX0_number_2 : List UInt8 := dkwX0_number_2 ++ dktX0_number_3
def dkwX0_number_1 : List UInt8 := [7, 54, 4, 3, 54, 5, 21, 5, 42, 180, 0, 254, 162, 0, 104, 3, 54, 6, 21, 6, 42, 180, 0, 71]
abbrev dktX0_number_1 : List UInt8 := dkwX0_number_1 ++ dktX0_number_2
def dkwX0_number_0 : List UInt8 := [42, 182, 1, 151, 154, 0, 7, 20, 0, 107, 173, 42, 182, 1, 9, 9, 64, 42, 180, 0, 101, 4, 100, 62]
abbrev dktX0_number_0 : List UInt8 := dkwX0_number_0 ++ dktX0_number_1
theorem dksX0_number_0 : cX0_number.data.toList.drop 0 = dktX0_number_0 := by decide +kernel
theorem dksX0_number_1 : cX0_number.data.toList.drop 24 = dktX0_number_1 := dk_seg dksX0_number_0 24 rfl rfl
theorem dksX0_number_2 : cX0_number.data.toList.drop 48 = dktX0_number_2 := dk_seg dksX0_number_1 24 rfl rfl
theorem dksX0_number_3 : cX0_number.data.toList.drop 70 = dktX0_number_3 := dk_seg dksX0_number_2 22 rfl rfl
theorem dksX0_number_4 : cX0_number.data.toList.drop 94 = dktX0_number_4 := dk_seg dksX0_number_3 24 rfl rfl
theorem dksX0_number_5 : cX0_number.data.toList.drop 118 = dktX0_number_5 := dk_seg dksX0_number_4 24 rfl rfl
theorem dX0_number_0 : decode cX0_number 0 = .ok (.aload_n 0, 1) := dk_42 (dk_at dksX0_number_0 0 rfl rfl)
theorem dX0_number_1 : decode cX0_number 1 = .ok (.invokevirtual 407, 3) := dk_182 1 151 (dk_at dksX0_number_0 1 rfl rfl)
theorem dX0_number_4 : decode cX0_number 4 = .ok (.ifCond .ne 7, 3) := dk_154 0 7 (dk_at dksX0_number_0 4 rfl rfl)
theorem dX0_number_7 : decode cX0_number 7 = .ok (.ldc2_w 107, 3) := dk_20 0 107 (dk_at dksX0_number_0 7 rfl rfl)
theorem dX0_number_10 : decode cX0_number 10 = .ok (.lreturn, 1) := dk_173 (dk_at dksX0_number_0 10 rfl rfl)
theorem dX0_number_11 : decode cX0_number 11 = .ok (.aload_n 0, 1) := dk_42 (dk_at dksX0_number_0 11 rfl rfl)
theorem dX0_number_12 : decode cX0_number 12 = .ok (.invokevirtual 265, 3) := dk_182 1 9 (dk_at dksX0_number_0 12 rfl rfl)
theorem dX0_number_15 : decode cX0_number 15 = .ok (.lconst 0, 1) := dk_9 (dk_at dksX0_number_0 15 rfl rfl)
theorem dX0_number_16 : decode cX0_number 16 = .ok (.lstore_n 1, 1) := dk_64 (dk_at dksX0_number_0 16 rfl rfl)
theorem dX0_number_17 : decode cX0_number 17 = .ok (.aload_n 0, 1) := dk_42 (dk_at dksX0_number_0 17 rfl rfl)
theorem dX0_number_18 : decode cX0_number 18 = .ok (.getfield 101, 3) := dk_180 0 101 (dk_at dksX0_number_0 18 rfl rfl)
theorem dX0_number_21 : decode cX0_number 21 = .ok (.iconst 1, 1) := dk_4 (dk_at dksX0_number_0 21 rfl rfl)
theorem dX0_number_22 : decode cX0_number 22 = .ok (.isub, 1) := dk_100 (dk_at dksX0_number_0 22 rfl rfl)
theorem dX0_number_23 : decode cX0_number 23 = .ok (.istore_n 3, 1) := dk_62 (dk_at dksX0_number_0 23 rfl rfl)
theorem dX0_number_24 : decode cX0_number 24 = .ok (.iconst 4, 1) := dk_7 (dk_at dksX0_number_1 0 rfl rfl)
theorem dX0_number_25 : decode cX0_number 25 = .ok (.istore 4, 2) := dk_54 4 (dk_at dksX0_number_1 1 rfl rfl)
theorem dX0_number_27 : decode cX0_number 27 = .ok (.iconst 0, 1) := dk_3 (dk_at dksX0_number_1 3 rfl rfl)
theorem dX0_number_28 : decode cX0_number 28 = .ok (.istore 5, 2) := dk_54 5 (dk_at dksX0_number_1 4 rfl rfl)
theorem dX0_number_30 : decode cX0_number 30 = .ok (.iload 5, 2) := dk_21 5 (dk_at dksX0_number_1 6 rfl rfl)
theorem dX0_number_32 : decode cX0_number 32 = .ok (.aload_n 0, 1) := dk_42 (dk_at dksX0_number_1 8 rfl rfl)
theorem dX0_number_33 : decode cX0_number 33 = .ok (.getfield 254, 3) := dk_180 0 254 (dk_at dksX0_number_1 9 rfl rfl)
theorem dX0_number_36 : decode cX0_number 36 = .ok (.if_icmp .ge 104, 3) := dk_162 0 104 (dk_at dksX0_number_1 12 rfl rfl)
theorem dX0_number_39 : decode cX0_number 39 = .ok (.iconst 0, 1) := dk_3 (dk_at dksX0_number_1 15 rfl rfl)
theorem dX0_number_40 : decode cX0_number 40 = .ok (.istore 6, 2) := dk_54 6 (dk_at dksX0_number_1 16 rfl rfl)
theorem dX0_number_42 : decode cX0_number 42 = .ok (.iload 6, 2) := dk_21 6 (dk_at dksX0_number_1 18 rfl rfl)
theorem dX0_number_44 : decode cX0_number 44 = .ok (.aload_n 0, 1) := dk_42 (dk_at dksX0_number_1 20 rfl rfl)
theorem dX0_number_45 : decode cX0_number 45 = .ok (.getfield 71, 3) := dk_180 0 71 (dk_at dksX0_number_1 21 rfl rfl)
theorem dX0_number_48 : decode cX0_number 48 = .ok (.iload 5, 2) := dk_21 5 (dk_at dksX0_number_2 0 rfl rfl)
theorem dX0_number_50 : decode cX0_number 50 = .ok (.iaload, 1) := dk_46 (dk_at dksX0_number_2 2 rfl rfl)
theorem dX0_number_51 : decode cX0_number 51 = .ok (.if_icmp .ge 51, 3) := dk_162 0 51 (dk_at dksX0_number_2 3 rfl rfl)
theorem dX0_number_54 : decode cX0_number 54 = .ok (.lload_n 1, 1) := dk_31 (dk_at dksX0_number_2 6 rfl rfl)
theorem dX0_number_55 : decode cX0_number 55 = .ok (.aload_n 0, 1) := dk_42 (dk_at dksX0_number_2 7 rfl rfl)
theorem dX0_number_56 : decode cX0_number 56 = .ok (.iload 6, 2) := dk_21 6 (dk_at dksX0_number_2 8 rfl rfl)
theorem dX0_number_58 : decode cX0_number 58 = .ok (.iload_n 3, 1) := dk_29 (dk_at dksX0_number_2 10 rfl rfl)
theorem dX0_number_59 : decode cX0_number 59 = .ok (.iload 4, 2) := dk_21 4 (dk_at dksX0_number_2 11 rfl rfl)
theorem dX0_number_61 : decode cX0_number 61 = .ok (.invokevirtual 144, 3) := dk_182 0 144 (dk_at dksX0_number_2 13 rfl rfl)
theorem dX0_number_64 : decode cX0_number 64 = .ok (.ifCond .eq 29, 3) := dk_153 0 29 (dk_at dksX0_number_2 16 rfl rfl)
theorem dX0_number_67 : decode cX0_number 67 = .ok (.aload_n 0, 1) := dk_42 (dk_at dksX0_number_2 19 rfl rfl)
theorem dX0_number_68 : decode cX0_number 68 = .ok (.iload_n 3, 1) := dk_29 (dk_at dksX0_number_2 20 rfl rfl)
theorem dX0_number_69 : decode cX0_number 69 = .ok (.aload_n 0, 1) := dk_42 (dk_at dksX0_number_2 21 rfl rfl)
theorem dX0_number_70 : decode cX0_number 70 = .ok (.getfield 42, 3) := dk_180 0 42 (dk_at dksX0_number_3 0 rfl rfl)
theorem dX0_number_73 : decode cX0_number 73 = .ok (.iload 6, 2) := dk_21 6 (dk_at dksX0_number_3 3 rfl rfl)
theorem dX0_number_75 : decode cX0_number 75 = .ok (.iaload, 1) := dk_46 (dk_at dksX0_number_3 5 rfl rfl)
theorem dX0_number_76 : decode cX0_number 76 = .ok (.isub, 1) := dk_100 (dk_at dksX0_number_3 6 rfl rfl)
theorem dX0_number_77 : decode cX0_number 77 = .ok (.aload_n 0, 1) := dk_42 (dk_at dksX0_number_3 7 rfl rfl)
theorem dX0_number_78 : decode cX0_number 78 = .ok (.getfield 11, 3) := dk_180 0 11 (dk_at dksX0_number_3 8 rfl rfl)
theorem dX0_number_81 : decode cX0_number 81 = .ok (.iload 6, 2) := dk_21 6 (dk_at dksX0_number_3 11 rfl rfl)
theorem dX0_number_83 : decode cX0_number 83 = .ok (.aaload, 1) := dk_50 (dk_at dksX0_number_3 13 rfl rfl)
theorem dX0_number_84 : decode cX0_number 84 = .ok (.getfield 135, 3) := dk_180 0 135 (dk_at dksX0_number_3 14 rfl rfl)
theorem dX0_number_87 : decode cX0_number 87 = .ok (.invokevirtual 148, 3) := dk_182 0 148 (dk_at dksX0_number_3 17 rfl rfl)
theorem dX0_number_90 : decode cX0_number 90 = .ok (.goto 4, 3) := dk_167 0 4 (dk_at dksX0_number_3 20 rfl rfl)
theorem dX0_number_93 : decode cX0_number 93 = .ok (.lconst 0, 1) := dk_9 (dk_at dksX0_number_3 23 rfl rfl)
theorem dX0_number_94 : decode cX0_number 94 = .ok (.ladd, 1) := dk_97 (dk_at dksX0_number_4 0 rfl rfl)
theorem dX0_number_95 : decode cX0_number 95 = .ok (.lstore_n 1, 1) := dk_64 (dk_at dksX0_number_4 1 rfl rfl)
theorem dX0_number_96 : decode cX0_number 96 = .ok (.iinc 6 1, 3) := dk_132 6 1 (dk_at dksX0_number_4 2 rfl rfl)
theorem dX0_number_99 : decode cX0_number 99 = .ok (.goto (-57), 3) := dk_167 255 199 (dk_at dksX0_number_4 5 rfl rfl)
theorem dX0_number_102 : decode cX0_number 102 = .ok (.iload_n 3, 1) := dk_29 (dk_at dksX0_number_4 8 rfl rfl)
theorem dX0_number_103 : decode cX0_number 103 = .ok (.aload_n 0, 1) := dk_42 (dk_at dksX0_number_4 9 rfl rfl)
theorem dX0_number_104 : decode cX0_number 104 = .ok (.getfield 42, 3) := dk_180 0 42 (dk_at dksX0_number_4 10 rfl rfl)
theorem dX0_number_107 : decode cX0_number 107 = .ok (.aload_n 0, 1) := dk_42 (dk_at dksX0_number_4 13 rfl rfl)
theorem dX0_number_108 : decode cX0_number 108 = .ok (.getfield 71, 3) := dk_180 0 71 (dk_at dksX0_number_4 14 rfl rfl)
theorem dX0_number_111 : decode cX0_number 111 = .ok (.iload 5, 2) := dk_21 5 (dk_at dksX0_number_4 17 rfl rfl)
theorem dX0_number_113 : decode cX0_number 113 = .ok (.iaload, 1) := dk_46 (dk_at dksX0_number_4 19 rfl rfl)
theorem dX0_number_114 : decode cX0_number 114 = .ok (.iaload, 1) := dk_46 (dk_at dksX0_number_4 20 rfl rfl)
theorem dX0_number_115 : decode cX0_number 115 = .ok (.isub, 1) := dk_100 (dk_at dksX0_number_4 21 rfl rfl)
theorem dX0_number_116 : decode cX0_number 116 = .ok (.istore_n 3, 1) := dk_62 (dk_at dksX0_number_4 22 rfl rfl)
theorem dX0_number_117 : decode cX0_number 117 = .ok (.aload_n 0, 1) := dk_42 (dk_at dksX0_number_4 23 rfl rfl)
theorem dX0_number_118 : decode cX0_number 118 = .ok (.getfield 11, 3) := dk_180 0 11 (dk_at dksX0_number_5 0 rfl rfl)
theorem dX0_number_121 : decode cX0_number 121 = .ok (.aload_n 0, 1) := dk_42 (dk_at dksX0_number_5 3 rfl rfl)
theorem dX0_number_122 : decode cX0_number 122 = .ok (.getfield 71, 3) := dk_180 0 71 (dk_at dksX0_number_5 4 rfl rfl)
theorem dX0_number_125 : decode cX0_number 125 = .ok (.iload 5, 2) := dk_21 5 (dk_at dksX0_number_5 7 rfl rfl)
theorem dX0_number_127 : decode cX0_number 127 = .ok (.iaload, 1) := dk_46 (dk_at dksX0_number_5 9 rfl rfl)
theorem dX0_number_128 : decode cX0_number 128 = .ok (.aaload, 1) := dk_50 (dk_at dksX0_number_5 10 rfl rfl)
theorem dX0_number_129 : decode cX0_number 129 = .ok (.getfield 135, 3) := dk_180 0 135 (dk_at dksX0_number_5 11 rfl rfl)
theorem dX0_number_132 : decode cX0_number 132 = .ok (.istore 4, 2) := dk_54 4 (dk_at dksX0_number_5 14 rfl rfl)
theorem dX0_number_134 : decode cX0_number 134 = .ok (.iinc 5 1, 3) := dk_132 5 1 (dk_at dksX0_number_5 16 rfl rfl)
theorem dX0_number_137 : decode cX0_number 137 = .ok (.goto (-107), 3) := dk_167 255 149 (dk_at dksX0_number_5 19 rfl rfl)
theorem dX0_number_140 : decode cX0_number 140 = .ok (.lload_n 1, 1) := dk_31 (dk_at dksX0_number_5 22 rfl rfl)
theorem dX0_number_141 : decode cX0_number 141 = .ok (.lreturn, 1) := dk_173 (dk_at dksX0_number_5 23 rfl rfl)
abbrev cX0_isPhrase : ByteArray := prog_1_method_67_code
def yX0_isPhrase : MethodName := ⟨RX0, "isPhrase", "()Z"⟩
def dkwX0_isPhrase_0 : List UInt8 := [42, 182, 1, 144, 4, 172, 76, 3, 172]
abbrev dktX0_isPhrase_0 : List UInt8 := dkwX0_isPhrase_0 ++ []
theorem dksX0_isPhrase_0 : cX0_isPhrase.data.toList.drop 0 = dktX0_isPhrase_0 := by decide +kernel
theorem dX0_isPhrase_0 : decode cX0_isPhrase 0 = .ok (.aload_n 0, 1) := dk_42 (dk_at dksX0_isPhrase_0 0 rfl rfl)
theorem dX0_isPhrase_1 : decode cX0_isPhrase 1 = .ok (.invokevirtual 400, 3) := dk_182 1 144 (dk_at dksX0_isPhrase_0 1 rfl rfl)
theorem dX0_isPhrase_4 : decode cX0_isPhrase 4 = .ok (.iconst 1, 1) := dk_4 (dk_at dksX0_isPhrase_0 4 rfl rfl)
theorem dX0_isPhrase_5 : decode cX0_isPhrase 5 = .ok (.ireturn, 1) := dk_172 (dk_at dksX0_isPhrase_0 5 rfl rfl)
theorem dX0_isPhrase_6 : decode cX0_isPhrase 6 = .ok (.astore_n 1, 1) := dk_76 (dk_at dksX0_isPhrase_0 6 rfl rfl)
theorem dX0_isPhrase_7 : decode cX0_isPhrase 7 = .ok (.iconst 0, 1) := dk_3 (dk_at dksX0_isPhrase_0 7 rfl rfl)
theorem dX0_isPhrase_8 : decode cX0_isPhrase 8 = .ok (.ireturn, 1) := dk_172 (dk_at dksX0_isPhrase_0 8 rfl rfl)
abbrev cX0_nearly : ByteArray := prog_1_method_69_code
def yX0_nearly : MethodName := ⟨RX0, "nearly", "(I)I"⟩
def dkwX0_nearly_4 : List UInt8 := [158, 0, 9, 4, 29, 120, 167, 0, 4, 3, 128, 61, 132, 3, 1, 167, 255, 162, 28, 172]
abbrev dktX0_nearly_4 : List UInt8 := dkwX0_nearly_4 ++ []
def dkwX0_nearly_3 : List UInt8 := [42, 182, 0, 115, 42, 180, 0, 18, 180, 0, 119, 2, 130, 126, 182, 0, 122, 28, 42, 182, 0, 181, 9, 148]
abbrev dktX0_nearly_3 : List UInt8 := dkwX0_nearly_3 ++ dktX0_nearly_4
def dkwX0_nearly_2 : List UInt8 := [4, 167, 0, 4, 2, 96, 79, 42, 180, 0, 22, 180, 0, 104, 29, 46, 155, 0, 44, 42, 42, 180, 0, 22]
abbrev dktX0_nearly_2 : List UInt8 := dkwX0_nearly_2 ++ dktX0_nearly_3
def dkwX0_nearly_1 : List UInt8 := [180, 0, 22, 42, 180, 0, 18, 182, 0, 238, 42, 180, 0, 22, 180, 0, 104, 29, 92, 46, 27, 154, 0, 7]
abbrev dktX0_nearly_1 : List UInt8 := dkwX0_nearly_1 ++ dktX0_nearly_2
def dkwX0_nearly_0 : List UInt8 := [27, 133, 9, 10, 184, 0, 190, 154, 0, 6, 16, 254, 172, 3, 61, 3, 62, 29, 16, 8, 162, 0, 94, 42]
abbrev dktX0_nearly_0 : List UInt8 := dkwX0_nearly_0 ++ dktX0_nearly_1
theorem dksX0_nearly_0 : cX0_nearly.data.toList.drop 0 = dktX0_nearly_0 := by decide +kernel
theorem dksX0_nearly_1 : cX0_nearly.data.toList.drop 24 = dktX0_nearly_1 := dk_seg dksX0_nearly_0 24 rfl rfl
theorem dksX0_nearly_2 : cX0_nearly.data.toList.drop 48 = dktX0_nearly_2 := dk_seg dksX0_nearly_1 24 rfl rfl
theorem dksX0_nearly_3 : cX0_nearly.data.toList.drop 72 = dktX0_nearly_3 := dk_seg dksX0_nearly_2 24 rfl rfl
theorem dksX0_nearly_4 : cX0_nearly.data.toList.drop 96 = dktX0_nearly_4 := dk_seg dksX0_nearly_3 24 rfl rfl
theorem dX0_nearly_0 : decode cX0_nearly 0 = .ok (.iload_n 1, 1) := dk_27 (dk_at dksX0_nearly_0 0 rfl rfl)
theorem dX0_nearly_1 : decode cX0_nearly 1 = .ok (.i2l, 1) := dk_133 (dk_at dksX0_nearly_0 1 rfl rfl)
theorem dX0_nearly_2 : decode cX0_nearly 2 = .ok (.lconst 0, 1) := dk_9 (dk_at dksX0_nearly_0 2 rfl rfl)
theorem dX0_nearly_3 : decode cX0_nearly 3 = .ok (.lconst 1, 1) := dk_10 (dk_at dksX0_nearly_0 3 rfl rfl)
theorem dX0_nearly_4 : decode cX0_nearly 4 = .ok (.invokestatic 190, 3) := dk_184 0 190 (dk_at dksX0_nearly_0 4 rfl rfl)
theorem dX0_nearly_7 : decode cX0_nearly 7 = .ok (.ifCond .ne 6, 3) := dk_154 0 6 (dk_at dksX0_nearly_0 7 rfl rfl)
theorem dX0_nearly_10 : decode cX0_nearly 10 = .ok (.bipush (-2), 2) := dk_16 254 (dk_at dksX0_nearly_0 10 rfl rfl)
theorem dX0_nearly_12 : decode cX0_nearly 12 = .ok (.ireturn, 1) := dk_172 (dk_at dksX0_nearly_0 12 rfl rfl)
theorem dX0_nearly_13 : decode cX0_nearly 13 = .ok (.iconst 0, 1) := dk_3 (dk_at dksX0_nearly_0 13 rfl rfl)
theorem dX0_nearly_14 : decode cX0_nearly 14 = .ok (.istore_n 2, 1) := dk_61 (dk_at dksX0_nearly_0 14 rfl rfl)
theorem dX0_nearly_15 : decode cX0_nearly 15 = .ok (.iconst 0, 1) := dk_3 (dk_at dksX0_nearly_0 15 rfl rfl)
theorem dX0_nearly_16 : decode cX0_nearly 16 = .ok (.istore_n 3, 1) := dk_62 (dk_at dksX0_nearly_0 16 rfl rfl)
theorem dX0_nearly_17 : decode cX0_nearly 17 = .ok (.iload_n 3, 1) := dk_29 (dk_at dksX0_nearly_0 17 rfl rfl)
theorem dX0_nearly_18 : decode cX0_nearly 18 = .ok (.bipush 8, 2) := dk_16 8 (dk_at dksX0_nearly_0 18 rfl rfl)
theorem dX0_nearly_20 : decode cX0_nearly 20 = .ok (.if_icmp .ge 94, 3) := dk_162 0 94 (dk_at dksX0_nearly_0 20 rfl rfl)
theorem dX0_nearly_23 : decode cX0_nearly 23 = .ok (.aload_n 0, 1) := dk_42 (dk_at dksX0_nearly_0 23 rfl rfl)
theorem dX0_nearly_24 : decode cX0_nearly 24 = .ok (.getfield 22, 3) := dk_180 0 22 (dk_at dksX0_nearly_1 0 rfl rfl)
theorem dX0_nearly_27 : decode cX0_nearly 27 = .ok (.aload_n 0, 1) := dk_42 (dk_at dksX0_nearly_1 3 rfl rfl)
theorem dX0_nearly_28 : decode cX0_nearly 28 = .ok (.getfield 18, 3) := dk_180 0 18 (dk_at dksX0_nearly_1 4 rfl rfl)
theorem dX0_nearly_31 : decode cX0_nearly 31 = .ok (.invokevirtual 238, 3) := dk_182 0 238 (dk_at dksX0_nearly_1 7 rfl rfl)
theorem dX0_nearly_34 : decode cX0_nearly 34 = .ok (.aload_n 0, 1) := dk_42 (dk_at dksX0_nearly_1 10 rfl rfl)
theorem dX0_nearly_35 : decode cX0_nearly 35 = .ok (.getfield 22, 3) := dk_180 0 22 (dk_at dksX0_nearly_1 11 rfl rfl)
theorem dX0_nearly_38 : decode cX0_nearly 38 = .ok (.getfield 104, 3) := dk_180 0 104 (dk_at dksX0_nearly_1 14 rfl rfl)
theorem dX0_nearly_41 : decode cX0_nearly 41 = .ok (.iload_n 3, 1) := dk_29 (dk_at dksX0_nearly_1 17 rfl rfl)
theorem dX0_nearly_42 : decode cX0_nearly 42 = .ok (.dup2, 1) := dk_92 (dk_at dksX0_nearly_1 18 rfl rfl)
theorem dX0_nearly_43 : decode cX0_nearly 43 = .ok (.iaload, 1) := dk_46 (dk_at dksX0_nearly_1 19 rfl rfl)
theorem dX0_nearly_44 : decode cX0_nearly 44 = .ok (.iload_n 1, 1) := dk_27 (dk_at dksX0_nearly_1 20 rfl rfl)
theorem dX0_nearly_45 : decode cX0_nearly 45 = .ok (.ifCond .ne 7, 3) := dk_154 0 7 (dk_at dksX0_nearly_1 21 rfl rfl)
theorem dX0_nearly_48 : decode cX0_nearly 48 = .ok (.iconst 1, 1) := dk_4 (dk_at dksX0_nearly_2 0 rfl rfl)
theorem dX0_nearly_49 : decode cX0_nearly 49 = .ok (.goto 4, 3) := dk_167 0 4 (dk_at dksX0_nearly_2 1 rfl rfl)
theorem dX0_nearly_52 : decode cX0_nearly 52 = .ok (.iconst (-1), 1) := dk_2 (dk_at dksX0_nearly_2 4 rfl rfl)
theorem dX0_nearly_53 : decode cX0_nearly 53 = .ok (.iadd, 1) := dk_96 (dk_at dksX0_nearly_2 5 rfl rfl)
theorem dX0_nearly_54 : decode cX0_nearly 54 = .ok (.iastore, 1) := dk_79 (dk_at dksX0_nearly_2 6 rfl rfl)
theorem dX0_nearly_55 : decode cX0_nearly 55 = .ok (.aload_n 0, 1) := dk_42 (dk_at dksX0_nearly_2 7 rfl rfl)
theorem dX0_nearly_56 : decode cX0_nearly 56 = .ok (.getfield 22, 3) := dk_180 0 22 (dk_at dksX0_nearly_2 8 rfl rfl)
theorem dX0_nearly_59 : decode cX0_nearly 59 = .ok (.getfield 104, 3) := dk_180 0 104 (dk_at dksX0_nearly_2 11 rfl rfl)
theorem dX0_nearly_62 : decode cX0_nearly 62 = .ok (.iload_n 3, 1) := dk_29 (dk_at dksX0_nearly_2 14 rfl rfl)
theorem dX0_nearly_63 : decode cX0_nearly 63 = .ok (.iaload, 1) := dk_46 (dk_at dksX0_nearly_2 15 rfl rfl)
theorem dX0_nearly_64 : decode cX0_nearly 64 = .ok (.ifCond .lt 44, 3) := dk_155 0 44 (dk_at dksX0_nearly_2 16 rfl rfl)
theorem dX0_nearly_67 : decode cX0_nearly 67 = .ok (.aload_n 0, 1) := dk_42 (dk_at dksX0_nearly_2 19 rfl rfl)
theorem dX0_nearly_68 : decode cX0_nearly 68 = .ok (.aload_n 0, 1) := dk_42 (dk_at dksX0_nearly_2 20 rfl rfl)
theorem dX0_nearly_69 : decode cX0_nearly 69 = .ok (.getfield 22, 3) := dk_180 0 22 (dk_at dksX0_nearly_2 21 rfl rfl)
theorem dX0_nearly_72 : decode cX0_nearly 72 = .ok (.aload_n 0, 1) := dk_42 (dk_at dksX0_nearly_3 0 rfl rfl)
theorem dX0_nearly_73 : decode cX0_nearly 73 = .ok (.invokevirtual 115, 3) := dk_182 0 115 (dk_at dksX0_nearly_3 1 rfl rfl)
theorem dX0_nearly_76 : decode cX0_nearly 76 = .ok (.aload_n 0, 1) := dk_42 (dk_at dksX0_nearly_3 4 rfl rfl)
theorem dX0_nearly_77 : decode cX0_nearly 77 = .ok (.getfield 18, 3) := dk_180 0 18 (dk_at dksX0_nearly_3 5 rfl rfl)
theorem dX0_nearly_80 : decode cX0_nearly 80 = .ok (.getfield 119, 3) := dk_180 0 119 (dk_at dksX0_nearly_3 8 rfl rfl)
theorem dX0_nearly_83 : decode cX0_nearly 83 = .ok (.iconst (-1), 1) := dk_2 (dk_at dksX0_nearly_3 11 rfl rfl)
theorem dX0_nearly_84 : decode cX0_nearly 84 = .ok (.ixor, 1) := dk_130 (dk_at dksX0_nearly_3 12 rfl rfl)
theorem dX0_nearly_85 : decode cX0_nearly 85 = .ok (.iand, 1) := dk_126 (dk_at dksX0_nearly_3 13 rfl rfl)
theorem dX0_nearly_86 : decode cX0_nearly 86 = .ok (.invokevirtual 122, 3) := dk_182 0 122 (dk_at dksX0_nearly_3 14 rfl rfl)
theorem dX0_nearly_89 : decode cX0_nearly 89 = .ok (.iload_n 2, 1) := dk_28 (dk_at dksX0_nearly_3 17 rfl rfl)
theorem dX0_nearly_90 : decode cX0_nearly 90 = .ok (.aload_n 0, 1) := dk_42 (dk_at dksX0_nearly_3 18 rfl rfl)
theorem dX0_nearly_91 : decode cX0_nearly 91 = .ok (.invokevirtual 181, 3) := dk_182 0 181 (dk_at dksX0_nearly_3 19 rfl rfl)
theorem dX0_nearly_94 : decode cX0_nearly 94 = .ok (.lconst 0, 1) := dk_9 (dk_at dksX0_nearly_3 22 rfl rfl)
theorem dX0_nearly_95 : decode cX0_nearly 95 = .ok (.lcmp, 1) := dk_148 (dk_at dksX0_nearly_3 23 rfl rfl)
theorem dX0_nearly_96 : decode cX0_nearly 96 = .ok (.ifCond .le 9, 3) := dk_158 0 9 (dk_at dksX0_nearly_4 0 rfl rfl)
theorem dX0_nearly_99 : decode cX0_nearly 99 = .ok (.iconst 1, 1) := dk_4 (dk_at dksX0_nearly_4 3 rfl rfl)
theorem dX0_nearly_100 : decode cX0_nearly 100 = .ok (.iload_n 3, 1) := dk_29 (dk_at dksX0_nearly_4 4 rfl rfl)
theorem dX0_nearly_101 : decode cX0_nearly 101 = .ok (.ishl, 1) := dk_120 (dk_at dksX0_nearly_4 5 rfl rfl)
theorem dX0_nearly_102 : decode cX0_nearly 102 = .ok (.goto 4, 3) := dk_167 0 4 (dk_at dksX0_nearly_4 6 rfl rfl)
theorem dX0_nearly_105 : decode cX0_nearly 105 = .ok (.iconst 0, 1) := dk_3 (dk_at dksX0_nearly_4 9 rfl rfl)
theorem dX0_nearly_106 : decode cX0_nearly 106 = .ok (.ior, 1) := dk_128 (dk_at dksX0_nearly_4 10 rfl rfl)
theorem dX0_nearly_107 : decode cX0_nearly 107 = .ok (.istore_n 2, 1) := dk_61 (dk_at dksX0_nearly_4 11 rfl rfl)
theorem dX0_nearly_108 : decode cX0_nearly 108 = .ok (.iinc 3 1, 3) := dk_132 3 1 (dk_at dksX0_nearly_4 12 rfl rfl)
theorem dX0_nearly_111 : decode cX0_nearly 111 = .ok (.goto (-94), 3) := dk_167 255 162 (dk_at dksX0_nearly_4 15 rfl rfl)
theorem dX0_nearly_114 : decode cX0_nearly 114 = .ok (.iload_n 2, 1) := dk_28 (dk_at dksX0_nearly_4 18 rfl rfl)
theorem dX0_nearly_115 : decode cX0_nearly 115 = .ok (.ireturn, 1) := dk_172 (dk_at dksX0_nearly_4 19 rfl rfl)
abbrev cX0_judge : ByteArray := prog_1_method_73_code
def yX0_judge : MethodName := ⟨RX0, "judge", "(IJ)I"⟩
def dkwX0_judge_4 : List UInt8 := [21, 5, 16, 10, 112, 182, 1, 164, 154, 0, 6, 21, 4, 172, 132, 4, 1, 167, 255, 189, 16, 247, 172]
abbrev dktX0_judge_4 : List UInt8 := dkwX0_judge_4 ++ []
def dkwX0_judge_3 : List UInt8 := [21, 5, 16, 100, 108, 16, 10, 108, 21, 5, 16, 100, 108, 16, 10, 112, 21, 5, 16, 10, 108, 16, 10, 112]
abbrev dktX0_judge_3 : List UInt8 := dkwX0_judge_3 ++ dktX0_judge_4
def dkwX0_judge_2 : List UInt8 := [162, 0, 67, 32, 27, 4, 100, 21, 4, 100, 184, 1, 161, 109, 4, 184, 1, 161, 113, 136, 54, 5, 42]
abbrev dktX0_judge_2 : List UInt8 := dkwX0_judge_2 ++ dktX0_judge_3
def dkwX0_judge_1 : List UInt8 := [154, 0, 6, 16, 254, 172, 42, 180, 0, 22, 42, 180, 0, 18, 182, 0, 238, 3, 54, 4, 21, 4, 27]
abbrev dktX0_judge_1 : List UInt8 := dkwX0_judge_1 ++ dktX0_judge_2
def dkwX0_judge_0 : List UInt8 := [27, 133, 10, 20, 1, 159, 184, 0, 190, 153, 0, 17, 32, 9, 27, 184, 1, 161, 10, 101, 184, 0, 190]
abbrev dktX0_judge_0 : List UInt8 := dkwX0_judge_0 ++ dktX0_judge_1
theorem dksX0_judge_0 : cX0_judge.data.toList.drop 0 = dktX0_judge_0 := by decide +kernel
theorem dksX0_judge_1 : cX0_judge.data.toList.drop 23 = dktX0_judge_1 := dk_seg dksX0_judge_0 23 rfl rfl
theorem dksX0_judge_2 : cX0_judge.data.toList.drop 46 = dktX0_judge_2 := dk_seg dksX0_judge_1 23 rfl rfl
theorem dksX0_judge_3 : cX0_judge.data.toList.drop 69 = dktX0_judge_3 := dk_seg dksX0_judge_2 23 rfl rfl
theorem dksX0_judge_4 : cX0_judge.data.toList.drop 93 = dktX0_judge_4 := dk_seg dksX0_judge_3 24 rfl rfl
theorem dX0_judge_0 : decode cX0_judge 0 = .ok (.iload_n 1, 1) := dk_27 (dk_at dksX0_judge_0 0 rfl rfl)
theorem dX0_judge_1 : decode cX0_judge 1 = .ok (.i2l, 1) := dk_133 (dk_at dksX0_judge_0 1 rfl rfl)
theorem dX0_judge_2 : decode cX0_judge 2 = .ok (.lconst 1, 1) := dk_10 (dk_at dksX0_judge_0 2 rfl rfl)
theorem dX0_judge_3 : decode cX0_judge 3 = .ok (.ldc2_w 415, 3) := dk_20 1 159 (dk_at dksX0_judge_0 3 rfl rfl)
theorem dX0_judge_6 : decode cX0_judge 6 = .ok (.invokestatic 190, 3) := dk_184 0 190 (dk_at dksX0_judge_0 6 rfl rfl)
theorem dX0_judge_9 : decode cX0_judge 9 = .ok (.ifCond .eq 17, 3) := dk_153 0 17 (dk_at dksX0_judge_0 9 rfl rfl)
theorem dX0_judge_12 : decode cX0_judge 12 = .ok (.lload_n 2, 1) := dk_32 (dk_at dksX0_judge_0 12 rfl rfl)
theorem dX0_judge_13 : decode cX0_judge 13 = .ok (.lconst 0, 1) := dk_9 (dk_at dksX0_judge_0 13 rfl rfl)
theorem dX0_judge_14 : decode cX0_judge 14 = .ok (.iload_n 1, 1) := dk_27 (dk_at dksX0_judge_0 14 rfl rfl)
theorem dX0_judge_15 : decode cX0_judge 15 = .ok (.invokestatic 417, 3) := dk_184 1 161 (dk_at dksX0_judge_0 15 rfl rfl)
theorem dX0_judge_18 : decode cX0_judge 18 = .ok (.lconst 1, 1) := dk_10 (dk_at dksX0_judge_0 18 rfl rfl)
theorem dX0_judge_19 : decode cX0_judge 19 = .ok (.lsub, 1) := dk_101 (dk_at dksX0_judge_0 19 rfl rfl)
theorem dX0_judge_20 : decode cX0_judge 20 = .ok (.invokestatic 190, 3) := dk_184 0 190 (dk_at dksX0_judge_0 20 rfl rfl)
theorem dX0_judge_23 : decode cX0_judge 23 = .ok (.ifCond .ne 6, 3) := dk_154 0 6 (dk_at dksX0_judge_1 0 rfl rfl)
theorem dX0_judge_26 : decode cX0_judge 26 = .ok (.bipush (-2), 2) := dk_16 254 (dk_at dksX0_judge_1 3 rfl rfl)
theorem dX0_judge_28 : decode cX0_judge 28 = .ok (.ireturn, 1) := dk_172 (dk_at dksX0_judge_1 5 rfl rfl)
theorem dX0_judge_29 : decode cX0_judge 29 = .ok (.aload_n 0, 1) := dk_42 (dk_at dksX0_judge_1 6 rfl rfl)
theorem dX0_judge_30 : decode cX0_judge 30 = .ok (.getfield 22, 3) := dk_180 0 22 (dk_at dksX0_judge_1 7 rfl rfl)
theorem dX0_judge_33 : decode cX0_judge 33 = .ok (.aload_n 0, 1) := dk_42 (dk_at dksX0_judge_1 10 rfl rfl)
theorem dX0_judge_34 : decode cX0_judge 34 = .ok (.getfield 18, 3) := dk_180 0 18 (dk_at dksX0_judge_1 11 rfl rfl)
theorem dX0_judge_37 : decode cX0_judge 37 = .ok (.invokevirtual 238, 3) := dk_182 0 238 (dk_at dksX0_judge_1 14 rfl rfl)
theorem dX0_judge_40 : decode cX0_judge 40 = .ok (.iconst 0, 1) := dk_3 (dk_at dksX0_judge_1 17 rfl rfl)
theorem dX0_judge_41 : decode cX0_judge 41 = .ok (.istore 4, 2) := dk_54 4 (dk_at dksX0_judge_1 18 rfl rfl)
theorem dX0_judge_43 : decode cX0_judge 43 = .ok (.iload 4, 2) := dk_21 4 (dk_at dksX0_judge_1 20 rfl rfl)
theorem dX0_judge_45 : decode cX0_judge 45 = .ok (.iload_n 1, 1) := dk_27 (dk_at dksX0_judge_1 22 rfl rfl)
theorem dX0_judge_46 : decode cX0_judge 46 = .ok (.if_icmp .ge 67, 3) := dk_162 0 67 (dk_at dksX0_judge_2 0 rfl rfl)
theorem dX0_judge_49 : decode cX0_judge 49 = .ok (.lload_n 2, 1) := dk_32 (dk_at dksX0_judge_2 3 rfl rfl)
theorem dX0_judge_50 : decode cX0_judge 50 = .ok (.iload_n 1, 1) := dk_27 (dk_at dksX0_judge_2 4 rfl rfl)
theorem dX0_judge_51 : decode cX0_judge 51 = .ok (.iconst 1, 1) := dk_4 (dk_at dksX0_judge_2 5 rfl rfl)
theorem dX0_judge_52 : decode cX0_judge 52 = .ok (.isub, 1) := dk_100 (dk_at dksX0_judge_2 6 rfl rfl)
theorem dX0_judge_53 : decode cX0_judge 53 = .ok (.iload 4, 2) := dk_21 4 (dk_at dksX0_judge_2 7 rfl rfl)
theorem dX0_judge_55 : decode cX0_judge 55 = .ok (.isub, 1) := dk_100 (dk_at dksX0_judge_2 9 rfl rfl)
theorem dX0_judge_56 : decode cX0_judge 56 = .ok (.invokestatic 417, 3) := dk_184 1 161 (dk_at dksX0_judge_2 10 rfl rfl)
theorem dX0_judge_59 : decode cX0_judge 59 = .ok (.ldiv, 1) := dk_109 (dk_at dksX0_judge_2 13 rfl rfl)
theorem dX0_judge_60 : decode cX0_judge 60 = .ok (.iconst 1, 1) := dk_4 (dk_at dksX0_judge_2 14 rfl rfl)
theorem dX0_judge_61 : decode cX0_judge 61 = .ok (.invokestatic 417, 3) := dk_184 1 161 (dk_at dksX0_judge_2 15 rfl rfl)
theorem dX0_judge_64 : decode cX0_judge 64 = .ok (.lrem, 1) := dk_113 (dk_at dksX0_judge_2 18 rfl rfl)
theorem dX0_judge_65 : decode cX0_judge 65 = .ok (.l2i, 1) := dk_136 (dk_at dksX0_judge_2 19 rfl rfl)
theorem dX0_judge_66 : decode cX0_judge 66 = .ok (.istore 5, 2) := dk_54 5 (dk_at dksX0_judge_2 20 rfl rfl)
theorem dX0_judge_68 : decode cX0_judge 68 = .ok (.aload_n 0, 1) := dk_42 (dk_at dksX0_judge_2 22 rfl rfl)
theorem dX0_judge_69 : decode cX0_judge 69 = .ok (.iload 5, 2) := dk_21 5 (dk_at dksX0_judge_3 0 rfl rfl)
theorem dX0_judge_71 : decode cX0_judge 71 = .ok (.bipush 100, 2) := dk_16 100 (dk_at dksX0_judge_3 2 rfl rfl)
theorem dX0_judge_73 : decode cX0_judge 73 = .ok (.idiv, 1) := dk_108 (dk_at dksX0_judge_3 4 rfl rfl)
theorem dX0_judge_74 : decode cX0_judge 74 = .ok (.bipush 10, 2) := dk_16 10 (dk_at dksX0_judge_3 5 rfl rfl)
theorem dX0_judge_76 : decode cX0_judge 76 = .ok (.idiv, 1) := dk_108 (dk_at dksX0_judge_3 7 rfl rfl)
theorem dX0_judge_77 : decode cX0_judge 77 = .ok (.iload 5, 2) := dk_21 5 (dk_at dksX0_judge_3 8 rfl rfl)
theorem dX0_judge_79 : decode cX0_judge 79 = .ok (.bipush 100, 2) := dk_16 100 (dk_at dksX0_judge_3 10 rfl rfl)
theorem dX0_judge_81 : decode cX0_judge 81 = .ok (.idiv, 1) := dk_108 (dk_at dksX0_judge_3 12 rfl rfl)
theorem dX0_judge_82 : decode cX0_judge 82 = .ok (.bipush 10, 2) := dk_16 10 (dk_at dksX0_judge_3 13 rfl rfl)
theorem dX0_judge_84 : decode cX0_judge 84 = .ok (.irem, 1) := dk_112 (dk_at dksX0_judge_3 15 rfl rfl)
theorem dX0_judge_85 : decode cX0_judge 85 = .ok (.iload 5, 2) := dk_21 5 (dk_at dksX0_judge_3 16 rfl rfl)
theorem dX0_judge_87 : decode cX0_judge 87 = .ok (.bipush 10, 2) := dk_16 10 (dk_at dksX0_judge_3 18 rfl rfl)
theorem dX0_judge_89 : decode cX0_judge 89 = .ok (.idiv, 1) := dk_108 (dk_at dksX0_judge_3 20 rfl rfl)
theorem dX0_judge_90 : decode cX0_judge 90 = .ok (.bipush 10, 2) := dk_16 10 (dk_at dksX0_judge_3 21 rfl rfl)
theorem dX0_judge_92 : decode cX0_judge 92 = .ok (.irem, 1) := dk_112 (dk_at dksX0_judge_3 23 rfl rfl)
theorem dX0_judge_93 : decode cX0_judge 93 = .ok (.iload 5, 2) := dk_21 5 (dk_at dksX0_judge_4 0 rfl rfl)
theorem dX0_judge_95 : decode cX0_judge 95 = .ok (.bipush 10, 2) := dk_16 10 (dk_at dksX0_judge_4 2 rfl rfl)
theorem dX0_judge_97 : decode cX0_judge 97 = .ok (.irem, 1) := dk_112 (dk_at dksX0_judge_4 4 rfl rfl)
theorem dX0_judge_98 : decode cX0_judge 98 = .ok (.invokevirtual 420, 3) := dk_182 1 164 (dk_at dksX0_judge_4 5 rfl rfl)
theorem dX0_judge_101 : decode cX0_judge 101 = .ok (.ifCond .ne 6, 3) := dk_154 0 6 (dk_at dksX0_judge_4 8 rfl rfl)
theorem dX0_judge_104 : decode cX0_judge 104 = .ok (.iload 4, 2) := dk_21 4 (dk_at dksX0_judge_4 11 rfl rfl)
theorem dX0_judge_106 : decode cX0_judge 106 = .ok (.ireturn, 1) := dk_172 (dk_at dksX0_judge_4 13 rfl rfl)
theorem dX0_judge_107 : decode cX0_judge 107 = .ok (.iinc 4 1, 3) := dk_132 4 1 (dk_at dksX0_judge_4 14 rfl rfl)
theorem dX0_judge_110 : decode cX0_judge 110 = .ok (.goto (-67), 3) := dk_167 255 189 (dk_at dksX0_judge_4 17 rfl rfl)
theorem dX0_judge_113 : decode cX0_judge 113 = .ok (.bipush (-9), 2) := dk_16 247 (dk_at dksX0_judge_4 20 rfl rfl)
theorem dX0_judge_115 : decode cX0_judge 115 = .ok (.ireturn, 1) := dk_172 (dk_at dksX0_judge_4 22 rfl rfl)
abbrev cX0_tenThousandTo : ByteArray := prog_1_method_72_code
def yX0_tenThousandTo : MethodName := ⟨RX0, "tenThousandTo", "(I)J"⟩
def dkwX0_tenThousandTo_0 : List UInt8 := [10, 64, 3, 62, 29, 26, 162, 0, 15, 31, 20, 1, 157, 105, 64, 132, 3, 1, 167, 255, 242, 31, 173]
abbrev dktX0_tenThousandTo_0 : List UInt8 := dkwX0_tenThousandTo_0 ++ []
theorem dksX0_tenThousandTo_0 : cX0_tenThousandTo.data.toList.drop 0 = dktX0_tenThousandTo_0 := by decide +kernel
theorem dX0_tenThousandTo_0 : decode cX0_tenThousandTo 0 = .ok (.lconst 1, 1) := dk_10 (dk_at dksX0_tenThousandTo_0 0 rfl rfl)
theorem dX0_tenThousandTo_1 : decode cX0_tenThousandTo 1 = .ok (.lstore_n 1, 1) := dk_64 (dk_at dksX0_tenThousandTo_0 1 rfl rfl)
theorem dX0_tenThousandTo_2 : decode cX0_tenThousandTo 2 = .ok (.iconst 0, 1) := dk_3 (dk_at dksX0_tenThousandTo_0 2 rfl rfl)
theorem dX0_tenThousandTo_3 : decode cX0_tenThousandTo 3 = .ok (.istore_n 3, 1) := dk_62 (dk_at dksX0_tenThousandTo_0 3 rfl rfl)
theorem dX0_tenThousandTo_4 : decode cX0_tenThousandTo 4 = .ok (.iload_n 3, 1) := dk_29 (dk_at dksX0_tenThousandTo_0 4 rfl rfl)
theorem dX0_tenThousandTo_5 : decode cX0_tenThousandTo 5 = .ok (.iload_n 0, 1) := dk_26 (dk_at dksX0_tenThousandTo_0 5 rfl rfl)
theorem dX0_tenThousandTo_6 : decode cX0_tenThousandTo 6 = .ok (.if_icmp .ge 15, 3) := dk_162 0 15 (dk_at dksX0_tenThousandTo_0 6 rfl rfl)
theorem dX0_tenThousandTo_9 : decode cX0_tenThousandTo 9 = .ok (.lload_n 1, 1) := dk_31 (dk_at dksX0_tenThousandTo_0 9 rfl rfl)
theorem dX0_tenThousandTo_10 : decode cX0_tenThousandTo 10 = .ok (.ldc2_w 413, 3) := dk_20 1 157 (dk_at dksX0_tenThousandTo_0 10 rfl rfl)
theorem dX0_tenThousandTo_13 : decode cX0_tenThousandTo 13 = .ok (.lmul, 1) := dk_105 (dk_at dksX0_tenThousandTo_0 13 rfl rfl)
theorem dX0_tenThousandTo_14 : decode cX0_tenThousandTo 14 = .ok (.lstore_n 1, 1) := dk_64 (dk_at dksX0_tenThousandTo_0 14 rfl rfl)
theorem dX0_tenThousandTo_15 : decode cX0_tenThousandTo 15 = .ok (.iinc 3 1, 3) := dk_132 3 1 (dk_at dksX0_tenThousandTo_0 15 rfl rfl)
theorem dX0_tenThousandTo_18 : decode cX0_tenThousandTo 18 = .ok (.goto (-14), 3) := dk_167 255 242 (dk_at dksX0_tenThousandTo_0 18 rfl rfl)
theorem dX0_tenThousandTo_21 : decode cX0_tenThousandTo 21 = .ok (.lload_n 1, 1) := dk_31 (dk_at dksX0_tenThousandTo_0 21 rfl rfl)
theorem dX0_tenThousandTo_22 : decode cX0_tenThousandTo 22 = .ok (.lreturn, 1) := dk_173 (dk_at dksX0_tenThousandTo_0 22 rfl rfl)
abbrev cX0_doThing : ByteArray := prog_1_method_71_code
def yX0_doThing : MethodName := ⟨RX0, "doThing", "(IIII)Z"⟩
def dkwX0_doThing_18 : List UInt8 := [104, 21, 4, 96, 160, 0, 7, 4, 167, 0, 4, 3, 172, 3, 172]
abbrev dktX0_doThing_18 : List UInt8 := dkwX0_doThing_18 ++ []
def dkwX0_doThing_17 : List UInt8 := [167, 0, 4, 3, 130, 79, 21, 11, 172, 42, 182, 1, 154, 28, 154, 0, 21, 42, 182, 1, 77, 16, 10, 29]
abbrev dktX0_doThing_17 : List UInt8 := dkwX0_doThing_17 ++ dktX0_doThing_18
def dkwX0_doThing_16 : List UInt8 := [180, 0, 132, 21, 11, 153, 0, 7, 28, 167, 0, 4, 3, 92, 46, 21, 11, 153, 0, 9, 4, 29, 120]
abbrev dktX0_doThing_16 : List UInt8 := dkwX0_doThing_16 ++ dktX0_doThing_17
def dkwX0_doThing_15 : List UInt8 := [29, 184, 1, 50, 153, 0, 12, 21, 4, 154, 0, 7, 4, 167, 0, 4, 3, 54, 11, 42, 180, 0, 22]
abbrev dktX0_doThing_15 : List UInt8 := dkwX0_doThing_15 ++ dktX0_doThing_16
def dkwX0_doThing_14 : List UInt8 := [160, 0, 7, 4, 167, 0, 4, 3, 160, 0, 7, 4, 167, 0, 4, 3, 172, 28, 184, 1, 50, 153, 0, 19]
abbrev dktX0_doThing_14 : List UInt8 := dkwX0_doThing_14 ++ dktX0_doThing_15
def dkwX0_doThing_13 : List UInt8 := [2, 130, 126, 182, 0, 122, 42, 182, 0, 181, 22, 9, 148, 156, 0, 7, 4, 167, 0, 4, 3, 21, 4, 4]
abbrev dktX0_doThing_13 : List UInt8 := dkwX0_doThing_13 ++ dktX0_doThing_14
def dkwX0_doThing_12 : List UInt8 := [55, 9, 42, 42, 180, 0, 22, 42, 182, 0, 115, 42, 180, 0, 22, 180, 0, 119, 2, 130, 126, 4, 28, 120]
abbrev dktX0_doThing_12 : List UInt8 := dkwX0_doThing_12 ++ dktX0_doThing_13
def dkwX0_doThing_11 : List UInt8 := [153, 0, 13, 29, 154, 0, 9, 21, 4, 4, 164, 0, 5, 3, 172, 42, 182, 1, 154, 42, 182, 0, 181]
abbrev dktX0_doThing_11 : List UInt8 := dkwX0_doThing_11 ++ dktX0_doThing_12
def dkwX0_doThing_10 : List UInt8 := [16, 10, 29, 104, 21, 4, 96, 133, 148, 154, 0, 7, 4, 167, 0, 4, 3, 172, 42, 28, 182, 1, 34]
abbrev dktX0_doThing_10 : List UInt8 := dkwX0_doThing_10 ++ dktX0_doThing_11
def dkwX0_doThing_9 : List UInt8 := [167, 0, 4, 3, 130, 181, 0, 119, 21, 8, 172, 42, 182, 1, 154, 28, 154, 0, 23, 42, 182, 0, 181]
abbrev dktX0_doThing_9 : List UInt8 := dkwX0_doThing_9 ++ dktX0_doThing_10
def dkwX0_doThing_8 : List UInt8 := [167, 0, 4, 3, 54, 8, 42, 180, 0, 22, 89, 180, 0, 119, 21, 8, 153, 0, 9, 4, 28, 120]
abbrev dktX0_doThing_8 : List UInt8 := dkwX0_doThing_8 ++ dktX0_doThing_9
def dkwX0_doThing_7 : List UInt8 := [4, 167, 0, 4, 3, 100, 79, 21, 7, 172, 42, 28, 182, 1, 34, 153, 0, 12, 21, 5, 153, 0, 7, 4]
abbrev dktX0_doThing_7 : List UInt8 := dkwX0_doThing_7 ++ dktX0_doThing_8
def dkwX0_doThing_6 : List UInt8 := [42, 180, 0, 22, 180, 0, 104, 21, 7, 153, 0, 7, 28, 167, 0, 4, 3, 92, 46, 21, 7, 153, 0, 7]
abbrev dktX0_doThing_6 : List UInt8 := dkwX0_doThing_6 ++ dktX0_doThing_7
def dkwX0_doThing_5 : List UInt8 := [21, 5, 153, 0, 19, 42, 180, 0, 22, 180, 0, 104, 28, 46, 158, 0, 7, 4, 167, 0, 4, 3, 54, 7]
abbrev dktX0_doThing_5 : List UInt8 := dkwX0_doThing_5 ++ dktX0_doThing_6
def dkwX0_doThing_4 : List UInt8 := [92, 46, 21, 6, 153, 0, 7, 4, 167, 0, 4, 3, 96, 79, 21, 6, 172, 28, 184, 1, 47, 153, 0, 24]
abbrev dktX0_doThing_4 : List UInt8 := dkwX0_doThing_4 ++ dktX0_doThing_5
def dkwX0_doThing_3 : List UInt8 := [4, 167, 0, 4, 3, 54, 6, 42, 180, 0, 22, 180, 0, 104, 21, 6, 153, 0, 7, 28, 167, 0, 4, 3]
abbrev dktX0_doThing_3 : List UInt8 := dkwX0_doThing_3 ++ dktX0_doThing_4
def dkwX0_doThing_2 : List UInt8 := [28, 184, 1, 47, 153, 0, 24, 21, 5, 153, 0, 19, 42, 180, 0, 22, 182, 0, 215, 16, 12, 162, 0, 7]
abbrev dktX0_doThing_2 : List UInt8 := dkwX0_doThing_2 ++ dktX0_doThing_3
def dkwX0_doThing_1 : List UInt8 := [170, 0, 0, 0, 0, 1, 177, 0, 0, 0, 1, 0, 0, 0, 7, 0, 0, 0, 43, 0, 0, 0, 108, 0, 0, 0, 173, 0, 0, 0, 220, 0, 0, 0, 250, 0, 0, 1, 87, 0, 0, 1, 149]
abbrev dktX0_doThing_1 : List UInt8 := dkwX0_doThing_1 ++ dktX0_doThing_2
def dkwX0_doThing_0 : List UInt8 := [29, 154, 0, 12, 21, 4, 154, 0, 7, 4, 167, 0, 4, 3, 54, 5, 27]
abbrev dktX0_doThing_0 : List UInt8 := dkwX0_doThing_0 ++ dktX0_doThing_1
theorem dksX0_doThing_0 : cX0_doThing.data.toList.drop 0 = dktX0_doThing_0 := by decide +kernel
theorem dksX0_doThing_1 : cX0_doThing.data.toList.drop 17 = dktX0_doThing_1 := dk_seg dksX0_doThing_0 17 rfl rfl
theorem dksX0_doThing_2 : cX0_doThing.data.toList.drop 60 = dktX0_doThing_2 := dk_seg dksX0_doThing_1 43 rfl rfl
theorem dksX0_doThing_3 : cX0_doThing.data.toList.drop 84 = dktX0_doThing_3 := dk_seg dksX0_doThing_2 24 rfl rfl
theorem dksX0_doThing_4 : cX0_doThing.data.toList.drop 108 = dktX0_doThing_4 := dk_seg dksX0_doThing_3 24 rfl rfl
theorem dksX0_doThing_5 : cX0_doThing.data.toList.drop 132 = dktX0_doThing_5 := dk_seg dksX0_doThing_4 24 rfl rfl
theorem dksX0_doThing_6 : cX0_doThing.data.toList.drop 156 = dktX0_doThing_6 := dk_seg dksX0_doThing_5 24 rfl rfl
theorem dksX0_doThing_7 : cX0_doThing.data.toList.drop 180 = dktX0_doThing_7 := dk_seg dksX0_doThing_6 24 rfl rfl
theorem dksX0_doThing_8 : cX0_doThing.data.toList.drop 204 = dktX0_doThing_8 := dk_seg dksX0_doThing_7 24 rfl rfl
theorem dksX0_doThing_9 : cX0_doThing.data.toList.drop 226 = dktX0_doThing_9 := dk_seg dksX0_doThing_8 22 rfl rfl
theorem dksX0_doThing_10 : cX0_doThing.data.toList.drop 249 = dktX0_doThing_10 := dk_seg dksX0_doThing_9 23 rfl rfl
theorem dksX0_doThing_11 : cX0_doThing.data.toList.drop 272 = dktX0_doThing_11 := dk_seg dksX0_doThing_10 23 rfl rfl
theorem dksX0_doThing_12 : cX0_doThing.data.toList.drop 295 = dktX0_doThing_12 := dk_seg dksX0_doThing_11 23 rfl rfl
theorem dksX0_doThing_13 : cX0_doThing.data.toList.drop 319 = dktX0_doThing_13 := dk_seg dksX0_doThing_12 24 rfl rfl
theorem dksX0_doThing_14 : cX0_doThing.data.toList.drop 343 = dktX0_doThing_14 := dk_seg dksX0_doThing_13 24 rfl rfl
theorem dksX0_doThing_15 : cX0_doThing.data.toList.drop 367 = dktX0_doThing_15 := dk_seg dksX0_doThing_14 24 rfl rfl
theorem dksX0_doThing_16 : cX0_doThing.data.toList.drop 390 = dktX0_doThing_16 := dk_seg dksX0_doThing_15 23 rfl rfl
theorem dksX0_doThing_17 : cX0_doThing.data.toList.drop 413 = dktX0_doThing_17 := dk_seg dksX0_doThing_16 23 rfl rfl
theorem dksX0_doThing_18 : cX0_doThing.data.toList.drop 437 = dktX0_doThing_18 := dk_seg dksX0_doThing_17 24 rfl rfl
theorem dX0_doThing_0 : decode cX0_doThing 0 = .ok (.iload_n 3, 1) := dk_29 (dk_at dksX0_doThing_0 0 rfl rfl)
theorem dX0_doThing_1 : decode cX0_doThing 1 = .ok (.ifCond .ne 12, 3) := dk_154 0 12 (dk_at dksX0_doThing_0 1 rfl rfl)
theorem dX0_doThing_4 : decode cX0_doThing 4 = .ok (.iload 4, 2) := dk_21 4 (dk_at dksX0_doThing_0 4 rfl rfl)
theorem dX0_doThing_6 : decode cX0_doThing 6 = .ok (.ifCond .ne 7, 3) := dk_154 0 7 (dk_at dksX0_doThing_0 6 rfl rfl)
theorem dX0_doThing_9 : decode cX0_doThing 9 = .ok (.iconst 1, 1) := dk_4 (dk_at dksX0_doThing_0 9 rfl rfl)
theorem dX0_doThing_10 : decode cX0_doThing 10 = .ok (.goto 4, 3) := dk_167 0 4 (dk_at dksX0_doThing_0 10 rfl rfl)
theorem dX0_doThing_13 : decode cX0_doThing 13 = .ok (.iconst 0, 1) := dk_3 (dk_at dksX0_doThing_0 13 rfl rfl)
theorem dX0_doThing_14 : decode cX0_doThing 14 = .ok (.istore 5, 2) := dk_54 5 (dk_at dksX0_doThing_0 14 rfl rfl)
theorem dX0_doThing_16 : decode cX0_doThing 16 = .ok (.iload_n 1, 1) := dk_27 (dk_at dksX0_doThing_0 16 rfl rfl)
theorem dX0_doThing_17 : decode cX0_doThing 17 = .ok (.tableswitch 433 1 7 #[43, 108, 173, 220, 250, 343, 405], 43) := by decide +kernel
theorem dX0_doThing_60 : decode cX0_doThing 60 = .ok (.iload_n 2, 1) := dk_28 (dk_at dksX0_doThing_2 0 rfl rfl)
theorem dX0_doThing_61 : decode cX0_doThing 61 = .ok (.invokestatic 303, 3) := dk_184 1 47 (dk_at dksX0_doThing_2 1 rfl rfl)
theorem dX0_doThing_64 : decode cX0_doThing 64 = .ok (.ifCond .eq 24, 3) := dk_153 0 24 (dk_at dksX0_doThing_2 4 rfl rfl)
theorem dX0_doThing_67 : decode cX0_doThing 67 = .ok (.iload 5, 2) := dk_21 5 (dk_at dksX0_doThing_2 7 rfl rfl)
theorem dX0_doThing_69 : decode cX0_doThing 69 = .ok (.ifCond .eq 19, 3) := dk_153 0 19 (dk_at dksX0_doThing_2 9 rfl rfl)
theorem dX0_doThing_72 : decode cX0_doThing 72 = .ok (.aload_n 0, 1) := dk_42 (dk_at dksX0_doThing_2 12 rfl rfl)
theorem dX0_doThing_73 : decode cX0_doThing 73 = .ok (.getfield 22, 3) := dk_180 0 22 (dk_at dksX0_doThing_2 13 rfl rfl)
theorem dX0_doThing_76 : decode cX0_doThing 76 = .ok (.invokevirtual 215, 3) := dk_182 0 215 (dk_at dksX0_doThing_2 16 rfl rfl)
theorem dX0_doThing_79 : decode cX0_doThing 79 = .ok (.bipush 12, 2) := dk_16 12 (dk_at dksX0_doThing_2 19 rfl rfl)
theorem dX0_doThing_81 : decode cX0_doThing 81 = .ok (.if_icmp .ge 7, 3) := dk_162 0 7 (dk_at dksX0_doThing_2 21 rfl rfl)
theorem dX0_doThing_84 : decode cX0_doThing 84 = .ok (.iconst 1, 1) := dk_4 (dk_at dksX0_doThing_3 0 rfl rfl)
theorem dX0_doThing_85 : decode cX0_doThing 85 = .ok (.goto 4, 3) := dk_167 0 4 (dk_at dksX0_doThing_3 1 rfl rfl)
theorem dX0_doThing_88 : decode cX0_doThing 88 = .ok (.iconst 0, 1) := dk_3 (dk_at dksX0_doThing_3 4 rfl rfl)
theorem dX0_doThing_89 : decode cX0_doThing 89 = .ok (.istore 6, 2) := dk_54 6 (dk_at dksX0_doThing_3 5 rfl rfl)
theorem dX0_doThing_91 : decode cX0_doThing 91 = .ok (.aload_n 0, 1) := dk_42 (dk_at dksX0_doThing_3 7 rfl rfl)
theorem dX0_doThing_92 : decode cX0_doThing 92 = .ok (.getfield 22, 3) := dk_180 0 22 (dk_at dksX0_doThing_3 8 rfl rfl)
theorem dX0_doThing_95 : decode cX0_doThing 95 = .ok (.getfield 104, 3) := dk_180 0 104 (dk_at dksX0_doThing_3 11 rfl rfl)
theorem dX0_doThing_98 : decode cX0_doThing 98 = .ok (.iload 6, 2) := dk_21 6 (dk_at dksX0_doThing_3 14 rfl rfl)
theorem dX0_doThing_100 : decode cX0_doThing 100 = .ok (.ifCond .eq 7, 3) := dk_153 0 7 (dk_at dksX0_doThing_3 16 rfl rfl)
theorem dX0_doThing_103 : decode cX0_doThing 103 = .ok (.iload_n 2, 1) := dk_28 (dk_at dksX0_doThing_3 19 rfl rfl)
theorem dX0_doThing_104 : decode cX0_doThing 104 = .ok (.goto 4, 3) := dk_167 0 4 (dk_at dksX0_doThing_3 20 rfl rfl)
theorem dX0_doThing_107 : decode cX0_doThing 107 = .ok (.iconst 0, 1) := dk_3 (dk_at dksX0_doThing_3 23 rfl rfl)
theorem dX0_doThing_108 : decode cX0_doThing 108 = .ok (.dup2, 1) := dk_92 (dk_at dksX0_doThing_4 0 rfl rfl)
theorem dX0_doThing_109 : decode cX0_doThing 109 = .ok (.iaload, 1) := dk_46 (dk_at dksX0_doThing_4 1 rfl rfl)
theorem dX0_doThing_110 : decode cX0_doThing 110 = .ok (.iload 6, 2) := dk_21 6 (dk_at dksX0_doThing_4 2 rfl rfl)
theorem dX0_doThing_112 : decode cX0_doThing 112 = .ok (.ifCond .eq 7, 3) := dk_153 0 7 (dk_at dksX0_doThing_4 4 rfl rfl)
theorem dX0_doThing_115 : decode cX0_doThing 115 = .ok (.iconst 1, 1) := dk_4 (dk_at dksX0_doThing_4 7 rfl rfl)
theorem dX0_doThing_116 : decode cX0_doThing 116 = .ok (.goto 4, 3) := dk_167 0 4 (dk_at dksX0_doThing_4 8 rfl rfl)
theorem dX0_doThing_119 : decode cX0_doThing 119 = .ok (.iconst 0, 1) := dk_3 (dk_at dksX0_doThing_4 11 rfl rfl)
theorem dX0_doThing_120 : decode cX0_doThing 120 = .ok (.iadd, 1) := dk_96 (dk_at dksX0_doThing_4 12 rfl rfl)
theorem dX0_doThing_121 : decode cX0_doThing 121 = .ok (.iastore, 1) := dk_79 (dk_at dksX0_doThing_4 13 rfl rfl)
theorem dX0_doThing_122 : decode cX0_doThing 122 = .ok (.iload 6, 2) := dk_21 6 (dk_at dksX0_doThing_4 14 rfl rfl)
theorem dX0_doThing_124 : decode cX0_doThing 124 = .ok (.ireturn, 1) := dk_172 (dk_at dksX0_doThing_4 16 rfl rfl)
theorem dX0_doThing_125 : decode cX0_doThing 125 = .ok (.iload_n 2, 1) := dk_28 (dk_at dksX0_doThing_4 17 rfl rfl)
theorem dX0_doThing_126 : decode cX0_doThing 126 = .ok (.invokestatic 303, 3) := dk_184 1 47 (dk_at dksX0_doThing_4 18 rfl rfl)
theorem dX0_doThing_129 : decode cX0_doThing 129 = .ok (.ifCond .eq 24, 3) := dk_153 0 24 (dk_at dksX0_doThing_4 21 rfl rfl)
theorem dX0_doThing_132 : decode cX0_doThing 132 = .ok (.iload 5, 2) := dk_21 5 (dk_at dksX0_doThing_5 0 rfl rfl)
theorem dX0_doThing_134 : decode cX0_doThing 134 = .ok (.ifCond .eq 19, 3) := dk_153 0 19 (dk_at dksX0_doThing_5 2 rfl rfl)
theorem dX0_doThing_137 : decode cX0_doThing 137 = .ok (.aload_n 0, 1) := dk_42 (dk_at dksX0_doThing_5 5 rfl rfl)
theorem dX0_doThing_138 : decode cX0_doThing 138 = .ok (.getfield 22, 3) := dk_180 0 22 (dk_at dksX0_doThing_5 6 rfl rfl)
theorem dX0_doThing_141 : decode cX0_doThing 141 = .ok (.getfield 104, 3) := dk_180 0 104 (dk_at dksX0_doThing_5 9 rfl rfl)
theorem dX0_doThing_144 : decode cX0_doThing 144 = .ok (.iload_n 2, 1) := dk_28 (dk_at dksX0_doThing_5 12 rfl rfl)
theorem dX0_doThing_145 : decode cX0_doThing 145 = .ok (.iaload, 1) := dk_46 (dk_at dksX0_doThing_5 13 rfl rfl)
theorem dX0_doThing_146 : decode cX0_doThing 146 = .ok (.ifCond .le 7, 3) := dk_158 0 7 (dk_at dksX0_doThing_5 14 rfl rfl)
theorem dX0_doThing_149 : decode cX0_doThing 149 = .ok (.iconst 1, 1) := dk_4 (dk_at dksX0_doThing_5 17 rfl rfl)
theorem dX0_doThing_150 : decode cX0_doThing 150 = .ok (.goto 4, 3) := dk_167 0 4 (dk_at dksX0_doThing_5 18 rfl rfl)
theorem dX0_doThing_153 : decode cX0_doThing 153 = .ok (.iconst 0, 1) := dk_3 (dk_at dksX0_doThing_5 21 rfl rfl)
theorem dX0_doThing_154 : decode cX0_doThing 154 = .ok (.istore 7, 2) := dk_54 7 (dk_at dksX0_doThing_5 22 rfl rfl)
theorem dX0_doThing_156 : decode cX0_doThing 156 = .ok (.aload_n 0, 1) := dk_42 (dk_at dksX0_doThing_6 0 rfl rfl)
theorem dX0_doThing_157 : decode cX0_doThing 157 = .ok (.getfield 22, 3) := dk_180 0 22 (dk_at dksX0_doThing_6 1 rfl rfl)
theorem dX0_doThing_160 : decode cX0_doThing 160 = .ok (.getfield 104, 3) := dk_180 0 104 (dk_at dksX0_doThing_6 4 rfl rfl)
theorem dX0_doThing_163 : decode cX0_doThing 163 = .ok (.iload 7, 2) := dk_21 7 (dk_at dksX0_doThing_6 7 rfl rfl)
theorem dX0_doThing_165 : decode cX0_doThing 165 = .ok (.ifCond .eq 7, 3) := dk_153 0 7 (dk_at dksX0_doThing_6 9 rfl rfl)
theorem dX0_doThing_168 : decode cX0_doThing 168 = .ok (.iload_n 2, 1) := dk_28 (dk_at dksX0_doThing_6 12 rfl rfl)
theorem dX0_doThing_169 : decode cX0_doThing 169 = .ok (.goto 4, 3) := dk_167 0 4 (dk_at dksX0_doThing_6 13 rfl rfl)
theorem dX0_doThing_172 : decode cX0_doThing 172 = .ok (.iconst 0, 1) := dk_3 (dk_at dksX0_doThing_6 16 rfl rfl)
theorem dX0_doThing_173 : decode cX0_doThing 173 = .ok (.dup2, 1) := dk_92 (dk_at dksX0_doThing_6 17 rfl rfl)
theorem dX0_doThing_174 : decode cX0_doThing 174 = .ok (.iaload, 1) := dk_46 (dk_at dksX0_doThing_6 18 rfl rfl)
theorem dX0_doThing_175 : decode cX0_doThing 175 = .ok (.iload 7, 2) := dk_21 7 (dk_at dksX0_doThing_6 19 rfl rfl)
theorem dX0_doThing_177 : decode cX0_doThing 177 = .ok (.ifCond .eq 7, 3) := dk_153 0 7 (dk_at dksX0_doThing_6 21 rfl rfl)
theorem dX0_doThing_180 : decode cX0_doThing 180 = .ok (.iconst 1, 1) := dk_4 (dk_at dksX0_doThing_7 0 rfl rfl)
theorem dX0_doThing_181 : decode cX0_doThing 181 = .ok (.goto 4, 3) := dk_167 0 4 (dk_at dksX0_doThing_7 1 rfl rfl)
theorem dX0_doThing_184 : decode cX0_doThing 184 = .ok (.iconst 0, 1) := dk_3 (dk_at dksX0_doThing_7 4 rfl rfl)
theorem dX0_doThing_185 : decode cX0_doThing 185 = .ok (.isub, 1) := dk_100 (dk_at dksX0_doThing_7 5 rfl rfl)
theorem dX0_doThing_186 : decode cX0_doThing 186 = .ok (.iastore, 1) := dk_79 (dk_at dksX0_doThing_7 6 rfl rfl)
theorem dX0_doThing_187 : decode cX0_doThing 187 = .ok (.iload 7, 2) := dk_21 7 (dk_at dksX0_doThing_7 7 rfl rfl)
theorem dX0_doThing_189 : decode cX0_doThing 189 = .ok (.ireturn, 1) := dk_172 (dk_at dksX0_doThing_7 9 rfl rfl)
theorem dX0_doThing_190 : decode cX0_doThing 190 = .ok (.aload_n 0, 1) := dk_42 (dk_at dksX0_doThing_7 10 rfl rfl)
theorem dX0_doThing_191 : decode cX0_doThing 191 = .ok (.iload_n 2, 1) := dk_28 (dk_at dksX0_doThing_7 11 rfl rfl)
theorem dX0_doThing_192 : decode cX0_doThing 192 = .ok (.invokevirtual 290, 3) := dk_182 1 34 (dk_at dksX0_doThing_7 12 rfl rfl)
theorem dX0_doThing_195 : decode cX0_doThing 195 = .ok (.ifCond .eq 12, 3) := dk_153 0 12 (dk_at dksX0_doThing_7 15 rfl rfl)
theorem dX0_doThing_198 : decode cX0_doThing 198 = .ok (.iload 5, 2) := dk_21 5 (dk_at dksX0_doThing_7 18 rfl rfl)
theorem dX0_doThing_200 : decode cX0_doThing 200 = .ok (.ifCond .eq 7, 3) := dk_153 0 7 (dk_at dksX0_doThing_7 20 rfl rfl)
theorem dX0_doThing_203 : decode cX0_doThing 203 = .ok (.iconst 1, 1) := dk_4 (dk_at dksX0_doThing_7 23 rfl rfl)
theorem dX0_doThing_204 : decode cX0_doThing 204 = .ok (.goto 4, 3) := dk_167 0 4 (dk_at dksX0_doThing_8 0 rfl rfl)
theorem dX0_doThing_207 : decode cX0_doThing 207 = .ok (.iconst 0, 1) := dk_3 (dk_at dksX0_doThing_8 3 rfl rfl)
theorem dX0_doThing_208 : decode cX0_doThing 208 = .ok (.istore 8, 2) := dk_54 8 (dk_at dksX0_doThing_8 4 rfl rfl)
theorem dX0_doThing_210 : decode cX0_doThing 210 = .ok (.aload_n 0, 1) := dk_42 (dk_at dksX0_doThing_8 6 rfl rfl)
theorem dX0_doThing_211 : decode cX0_doThing 211 = .ok (.getfield 22, 3) := dk_180 0 22 (dk_at dksX0_doThing_8 7 rfl rfl)
theorem dX0_doThing_214 : decode cX0_doThing 214 = .ok (.dup, 1) := dk_89 (dk_at dksX0_doThing_8 10 rfl rfl)
theorem dX0_doThing_215 : decode cX0_doThing 215 = .ok (.getfield 119, 3) := dk_180 0 119 (dk_at dksX0_doThing_8 11 rfl rfl)
theorem dX0_doThing_218 : decode cX0_doThing 218 = .ok (.iload 8, 2) := dk_21 8 (dk_at dksX0_doThing_8 14 rfl rfl)
theorem dX0_doThing_220 : decode cX0_doThing 220 = .ok (.ifCond .eq 9, 3) := dk_153 0 9 (dk_at dksX0_doThing_8 16 rfl rfl)
theorem dX0_doThing_223 : decode cX0_doThing 223 = .ok (.iconst 1, 1) := dk_4 (dk_at dksX0_doThing_8 19 rfl rfl)
theorem dX0_doThing_224 : decode cX0_doThing 224 = .ok (.iload_n 2, 1) := dk_28 (dk_at dksX0_doThing_8 20 rfl rfl)
theorem dX0_doThing_225 : decode cX0_doThing 225 = .ok (.ishl, 1) := dk_120 (dk_at dksX0_doThing_8 21 rfl rfl)
theorem dX0_doThing_226 : decode cX0_doThing 226 = .ok (.goto 4, 3) := dk_167 0 4 (dk_at dksX0_doThing_9 0 rfl rfl)
theorem dX0_doThing_229 : decode cX0_doThing 229 = .ok (.iconst 0, 1) := dk_3 (dk_at dksX0_doThing_9 3 rfl rfl)
theorem dX0_doThing_230 : decode cX0_doThing 230 = .ok (.ixor, 1) := dk_130 (dk_at dksX0_doThing_9 4 rfl rfl)
theorem dX0_doThing_231 : decode cX0_doThing 231 = .ok (.putfield 119, 3) := dk_181 0 119 (dk_at dksX0_doThing_9 5 rfl rfl)
theorem dX0_doThing_234 : decode cX0_doThing 234 = .ok (.iload 8, 2) := dk_21 8 (dk_at dksX0_doThing_9 8 rfl rfl)
theorem dX0_doThing_236 : decode cX0_doThing 236 = .ok (.ireturn, 1) := dk_172 (dk_at dksX0_doThing_9 10 rfl rfl)
theorem dX0_doThing_237 : decode cX0_doThing 237 = .ok (.aload_n 0, 1) := dk_42 (dk_at dksX0_doThing_9 11 rfl rfl)
theorem dX0_doThing_238 : decode cX0_doThing 238 = .ok (.invokevirtual 410, 3) := dk_182 1 154 (dk_at dksX0_doThing_9 12 rfl rfl)
theorem dX0_doThing_241 : decode cX0_doThing 241 = .ok (.iload_n 2, 1) := dk_28 (dk_at dksX0_doThing_9 15 rfl rfl)
theorem dX0_doThing_242 : decode cX0_doThing 242 = .ok (.ifCond .ne 23, 3) := dk_154 0 23 (dk_at dksX0_doThing_9 16 rfl rfl)
theorem dX0_doThing_245 : decode cX0_doThing 245 = .ok (.aload_n 0, 1) := dk_42 (dk_at dksX0_doThing_9 19 rfl rfl)
theorem dX0_doThing_246 : decode cX0_doThing 246 = .ok (.invokevirtual 181, 3) := dk_182 0 181 (dk_at dksX0_doThing_9 20 rfl rfl)
theorem dX0_doThing_249 : decode cX0_doThing 249 = .ok (.bipush 10, 2) := dk_16 10 (dk_at dksX0_doThing_10 0 rfl rfl)
theorem dX0_doThing_251 : decode cX0_doThing 251 = .ok (.iload_n 3, 1) := dk_29 (dk_at dksX0_doThing_10 2 rfl rfl)
theorem dX0_doThing_252 : decode cX0_doThing 252 = .ok (.imul, 1) := dk_104 (dk_at dksX0_doThing_10 3 rfl rfl)
theorem dX0_doThing_253 : decode cX0_doThing 253 = .ok (.iload 4, 2) := dk_21 4 (dk_at dksX0_doThing_10 4 rfl rfl)
theorem dX0_doThing_255 : decode cX0_doThing 255 = .ok (.iadd, 1) := dk_96 (dk_at dksX0_doThing_10 6 rfl rfl)
theorem dX0_doThing_256 : decode cX0_doThing 256 = .ok (.i2l, 1) := dk_133 (dk_at dksX0_doThing_10 7 rfl rfl)
theorem dX0_doThing_257 : decode cX0_doThing 257 = .ok (.lcmp, 1) := dk_148 (dk_at dksX0_doThing_10 8 rfl rfl)
theorem dX0_doThing_258 : decode cX0_doThing 258 = .ok (.ifCond .ne 7, 3) := dk_154 0 7 (dk_at dksX0_doThing_10 9 rfl rfl)
theorem dX0_doThing_261 : decode cX0_doThing 261 = .ok (.iconst 1, 1) := dk_4 (dk_at dksX0_doThing_10 12 rfl rfl)
theorem dX0_doThing_262 : decode cX0_doThing 262 = .ok (.goto 4, 3) := dk_167 0 4 (dk_at dksX0_doThing_10 13 rfl rfl)
theorem dX0_doThing_265 : decode cX0_doThing 265 = .ok (.iconst 0, 1) := dk_3 (dk_at dksX0_doThing_10 16 rfl rfl)
theorem dX0_doThing_266 : decode cX0_doThing 266 = .ok (.ireturn, 1) := dk_172 (dk_at dksX0_doThing_10 17 rfl rfl)
theorem dX0_doThing_267 : decode cX0_doThing 267 = .ok (.aload_n 0, 1) := dk_42 (dk_at dksX0_doThing_10 18 rfl rfl)
theorem dX0_doThing_268 : decode cX0_doThing 268 = .ok (.iload_n 2, 1) := dk_28 (dk_at dksX0_doThing_10 19 rfl rfl)
theorem dX0_doThing_269 : decode cX0_doThing 269 = .ok (.invokevirtual 290, 3) := dk_182 1 34 (dk_at dksX0_doThing_10 20 rfl rfl)
theorem dX0_doThing_272 : decode cX0_doThing 272 = .ok (.ifCond .eq 13, 3) := dk_153 0 13 (dk_at dksX0_doThing_11 0 rfl rfl)
theorem dX0_doThing_275 : decode cX0_doThing 275 = .ok (.iload_n 3, 1) := dk_29 (dk_at dksX0_doThing_11 3 rfl rfl)
theorem dX0_doThing_276 : decode cX0_doThing 276 = .ok (.ifCond .ne 9, 3) := dk_154 0 9 (dk_at dksX0_doThing_11 4 rfl rfl)
theorem dX0_doThing_279 : decode cX0_doThing 279 = .ok (.iload 4, 2) := dk_21 4 (dk_at dksX0_doThing_11 7 rfl rfl)
theorem dX0_doThing_281 : decode cX0_doThing 281 = .ok (.iconst 1, 1) := dk_4 (dk_at dksX0_doThing_11 9 rfl rfl)
theorem dX0_doThing_282 : decode cX0_doThing 282 = .ok (.if_icmp .le 5, 3) := dk_164 0 5 (dk_at dksX0_doThing_11 10 rfl rfl)
theorem dX0_doThing_285 : decode cX0_doThing 285 = .ok (.iconst 0, 1) := dk_3 (dk_at dksX0_doThing_11 13 rfl rfl)
theorem dX0_doThing_286 : decode cX0_doThing 286 = .ok (.ireturn, 1) := dk_172 (dk_at dksX0_doThing_11 14 rfl rfl)
theorem dX0_doThing_287 : decode cX0_doThing 287 = .ok (.aload_n 0, 1) := dk_42 (dk_at dksX0_doThing_11 15 rfl rfl)
theorem dX0_doThing_288 : decode cX0_doThing 288 = .ok (.invokevirtual 410, 3) := dk_182 1 154 (dk_at dksX0_doThing_11 16 rfl rfl)
theorem dX0_doThing_291 : decode cX0_doThing 291 = .ok (.aload_n 0, 1) := dk_42 (dk_at dksX0_doThing_11 19 rfl rfl)
theorem dX0_doThing_292 : decode cX0_doThing 292 = .ok (.invokevirtual 181, 3) := dk_182 0 181 (dk_at dksX0_doThing_11 20 rfl rfl)
theorem dX0_doThing_295 : decode cX0_doThing 295 = .ok (.lstore 9, 2) := dk_55 9 (dk_at dksX0_doThing_12 0 rfl rfl)
theorem dX0_doThing_297 : decode cX0_doThing 297 = .ok (.aload_n 0, 1) := dk_42 (dk_at dksX0_doThing_12 2 rfl rfl)
theorem dX0_doThing_298 : decode cX0_doThing 298 = .ok (.aload_n 0, 1) := dk_42 (dk_at dksX0_doThing_12 3 rfl rfl)
theorem dX0_doThing_299 : decode cX0_doThing 299 = .ok (.getfield 22, 3) := dk_180 0 22 (dk_at dksX0_doThing_12 4 rfl rfl)
theorem dX0_doThing_302 : decode cX0_doThing 302 = .ok (.aload_n 0, 1) := dk_42 (dk_at dksX0_doThing_12 7 rfl rfl)
theorem dX0_doThing_303 : decode cX0_doThing 303 = .ok (.invokevirtual 115, 3) := dk_182 0 115 (dk_at dksX0_doThing_12 8 rfl rfl)
theorem dX0_doThing_306 : decode cX0_doThing 306 = .ok (.aload_n 0, 1) := dk_42 (dk_at dksX0_doThing_12 11 rfl rfl)
theorem dX0_doThing_307 : decode cX0_doThing 307 = .ok (.getfield 22, 3) := dk_180 0 22 (dk_at dksX0_doThing_12 12 rfl rfl)
theorem dX0_doThing_310 : decode cX0_doThing 310 = .ok (.getfield 119, 3) := dk_180 0 119 (dk_at dksX0_doThing_12 15 rfl rfl)
theorem dX0_doThing_313 : decode cX0_doThing 313 = .ok (.iconst (-1), 1) := dk_2 (dk_at dksX0_doThing_12 18 rfl rfl)
theorem dX0_doThing_314 : decode cX0_doThing 314 = .ok (.ixor, 1) := dk_130 (dk_at dksX0_doThing_12 19 rfl rfl)
theorem dX0_doThing_315 : decode cX0_doThing 315 = .ok (.iand, 1) := dk_126 (dk_at dksX0_doThing_12 20 rfl rfl)
theorem dX0_doThing_316 : decode cX0_doThing 316 = .ok (.iconst 1, 1) := dk_4 (dk_at dksX0_doThing_12 21 rfl rfl)
theorem dX0_doThing_317 : decode cX0_doThing 317 = .ok (.iload_n 2, 1) := dk_28 (dk_at dksX0_doThing_12 22 rfl rfl)
theorem dX0_doThing_318 : decode cX0_doThing 318 = .ok (.ishl, 1) := dk_120 (dk_at dksX0_doThing_12 23 rfl rfl)
theorem dX0_doThing_319 : decode cX0_doThing 319 = .ok (.iconst (-1), 1) := dk_2 (dk_at dksX0_doThing_13 0 rfl rfl)
theorem dX0_doThing_320 : decode cX0_doThing 320 = .ok (.ixor, 1) := dk_130 (dk_at dksX0_doThing_13 1 rfl rfl)
theorem dX0_doThing_321 : decode cX0_doThing 321 = .ok (.iand, 1) := dk_126 (dk_at dksX0_doThing_13 2 rfl rfl)
theorem dX0_doThing_322 : decode cX0_doThing 322 = .ok (.invokevirtual 122, 3) := dk_182 0 122 (dk_at dksX0_doThing_13 3 rfl rfl)
theorem dX0_doThing_325 : decode cX0_doThing 325 = .ok (.aload_n 0, 1) := dk_42 (dk_at dksX0_doThing_13 6 rfl rfl)
theorem dX0_doThing_326 : decode cX0_doThing 326 = .ok (.invokevirtual 181, 3) := dk_182 0 181 (dk_at dksX0_doThing_13 7 rfl rfl)
theorem dX0_doThing_329 : decode cX0_doThing 329 = .ok (.lload 9, 2) := dk_22 9 (dk_at dksX0_doThing_13 10 rfl rfl)
theorem dX0_doThing_331 : decode cX0_doThing 331 = .ok (.lcmp, 1) := dk_148 (dk_at dksX0_doThing_13 12 rfl rfl)
theorem dX0_doThing_332 : decode cX0_doThing 332 = .ok (.ifCond .ge 7, 3) := dk_156 0 7 (dk_at dksX0_doThing_13 13 rfl rfl)
theorem dX0_doThing_335 : decode cX0_doThing 335 = .ok (.iconst 1, 1) := dk_4 (dk_at dksX0_doThing_13 16 rfl rfl)
theorem dX0_doThing_336 : decode cX0_doThing 336 = .ok (.goto 4, 3) := dk_167 0 4 (dk_at dksX0_doThing_13 17 rfl rfl)
theorem dX0_doThing_339 : decode cX0_doThing 339 = .ok (.iconst 0, 1) := dk_3 (dk_at dksX0_doThing_13 20 rfl rfl)
theorem dX0_doThing_340 : decode cX0_doThing 340 = .ok (.iload 4, 2) := dk_21 4 (dk_at dksX0_doThing_13 21 rfl rfl)
theorem dX0_doThing_342 : decode cX0_doThing 342 = .ok (.iconst 1, 1) := dk_4 (dk_at dksX0_doThing_13 23 rfl rfl)
theorem dX0_doThing_343 : decode cX0_doThing 343 = .ok (.if_icmp .ne 7, 3) := dk_160 0 7 (dk_at dksX0_doThing_14 0 rfl rfl)
theorem dX0_doThing_346 : decode cX0_doThing 346 = .ok (.iconst 1, 1) := dk_4 (dk_at dksX0_doThing_14 3 rfl rfl)
theorem dX0_doThing_347 : decode cX0_doThing 347 = .ok (.goto 4, 3) := dk_167 0 4 (dk_at dksX0_doThing_14 4 rfl rfl)
theorem dX0_doThing_350 : decode cX0_doThing 350 = .ok (.iconst 0, 1) := dk_3 (dk_at dksX0_doThing_14 7 rfl rfl)
theorem dX0_doThing_351 : decode cX0_doThing 351 = .ok (.if_icmp .ne 7, 3) := dk_160 0 7 (dk_at dksX0_doThing_14 8 rfl rfl)
theorem dX0_doThing_354 : decode cX0_doThing 354 = .ok (.iconst 1, 1) := dk_4 (dk_at dksX0_doThing_14 11 rfl rfl)
theorem dX0_doThing_355 : decode cX0_doThing 355 = .ok (.goto 4, 3) := dk_167 0 4 (dk_at dksX0_doThing_14 12 rfl rfl)
theorem dX0_doThing_358 : decode cX0_doThing 358 = .ok (.iconst 0, 1) := dk_3 (dk_at dksX0_doThing_14 15 rfl rfl)
theorem dX0_doThing_359 : decode cX0_doThing 359 = .ok (.ireturn, 1) := dk_172 (dk_at dksX0_doThing_14 16 rfl rfl)
theorem dX0_doThing_360 : decode cX0_doThing 360 = .ok (.iload_n 2, 1) := dk_28 (dk_at dksX0_doThing_14 17 rfl rfl)
theorem dX0_doThing_361 : decode cX0_doThing 361 = .ok (.invokestatic 306, 3) := dk_184 1 50 (dk_at dksX0_doThing_14 18 rfl rfl)
theorem dX0_doThing_364 : decode cX0_doThing 364 = .ok (.ifCond .eq 19, 3) := dk_153 0 19 (dk_at dksX0_doThing_14 21 rfl rfl)
theorem dX0_doThing_367 : decode cX0_doThing 367 = .ok (.iload_n 3, 1) := dk_29 (dk_at dksX0_doThing_15 0 rfl rfl)
theorem dX0_doThing_368 : decode cX0_doThing 368 = .ok (.invokestatic 306, 3) := dk_184 1 50 (dk_at dksX0_doThing_15 1 rfl rfl)
theorem dX0_doThing_371 : decode cX0_doThing 371 = .ok (.ifCond .eq 12, 3) := dk_153 0 12 (dk_at dksX0_doThing_15 4 rfl rfl)
theorem dX0_doThing_374 : decode cX0_doThing 374 = .ok (.iload 4, 2) := dk_21 4 (dk_at dksX0_doThing_15 7 rfl rfl)
theorem dX0_doThing_376 : decode cX0_doThing 376 = .ok (.ifCond .ne 7, 3) := dk_154 0 7 (dk_at dksX0_doThing_15 9 rfl rfl)
theorem dX0_doThing_379 : decode cX0_doThing 379 = .ok (.iconst 1, 1) := dk_4 (dk_at dksX0_doThing_15 12 rfl rfl)
theorem dX0_doThing_380 : decode cX0_doThing 380 = .ok (.goto 4, 3) := dk_167 0 4 (dk_at dksX0_doThing_15 13 rfl rfl)
theorem dX0_doThing_383 : decode cX0_doThing 383 = .ok (.iconst 0, 1) := dk_3 (dk_at dksX0_doThing_15 16 rfl rfl)
theorem dX0_doThing_384 : decode cX0_doThing 384 = .ok (.istore 11, 2) := dk_54 11 (dk_at dksX0_doThing_15 17 rfl rfl)
theorem dX0_doThing_386 : decode cX0_doThing 386 = .ok (.aload_n 0, 1) := dk_42 (dk_at dksX0_doThing_15 19 rfl rfl)
theorem dX0_doThing_387 : decode cX0_doThing 387 = .ok (.getfield 22, 3) := dk_180 0 22 (dk_at dksX0_doThing_15 20 rfl rfl)
theorem dX0_doThing_390 : decode cX0_doThing 390 = .ok (.getfield 132, 3) := dk_180 0 132 (dk_at dksX0_doThing_16 0 rfl rfl)
theorem dX0_doThing_393 : decode cX0_doThing 393 = .ok (.iload 11, 2) := dk_21 11 (dk_at dksX0_doThing_16 3 rfl rfl)
theorem dX0_doThing_395 : decode cX0_doThing 395 = .ok (.ifCond .eq 7, 3) := dk_153 0 7 (dk_at dksX0_doThing_16 5 rfl rfl)
theorem dX0_doThing_398 : decode cX0_doThing 398 = .ok (.iload_n 2, 1) := dk_28 (dk_at dksX0_doThing_16 8 rfl rfl)
theorem dX0_doThing_399 : decode cX0_doThing 399 = .ok (.goto 4, 3) := dk_167 0 4 (dk_at dksX0_doThing_16 9 rfl rfl)
theorem dX0_doThing_402 : decode cX0_doThing 402 = .ok (.iconst 0, 1) := dk_3 (dk_at dksX0_doThing_16 12 rfl rfl)
theorem dX0_doThing_403 : decode cX0_doThing 403 = .ok (.dup2, 1) := dk_92 (dk_at dksX0_doThing_16 13 rfl rfl)
theorem dX0_doThing_404 : decode cX0_doThing 404 = .ok (.iaload, 1) := dk_46 (dk_at dksX0_doThing_16 14 rfl rfl)
theorem dX0_doThing_405 : decode cX0_doThing 405 = .ok (.iload 11, 2) := dk_21 11 (dk_at dksX0_doThing_16 15 rfl rfl)
theorem dX0_doThing_407 : decode cX0_doThing 407 = .ok (.ifCond .eq 9, 3) := dk_153 0 9 (dk_at dksX0_doThing_16 17 rfl rfl)
theorem dX0_doThing_410 : decode cX0_doThing 410 = .ok (.iconst 1, 1) := dk_4 (dk_at dksX0_doThing_16 20 rfl rfl)
theorem dX0_doThing_411 : decode cX0_doThing 411 = .ok (.iload_n 3, 1) := dk_29 (dk_at dksX0_doThing_16 21 rfl rfl)
theorem dX0_doThing_412 : decode cX0_doThing 412 = .ok (.ishl, 1) := dk_120 (dk_at dksX0_doThing_16 22 rfl rfl)
theorem dX0_doThing_413 : decode cX0_doThing 413 = .ok (.goto 4, 3) := dk_167 0 4 (dk_at dksX0_doThing_17 0 rfl rfl)
theorem dX0_doThing_416 : decode cX0_doThing 416 = .ok (.iconst 0, 1) := dk_3 (dk_at dksX0_doThing_17 3 rfl rfl)
theorem dX0_doThing_417 : decode cX0_doThing 417 = .ok (.ixor, 1) := dk_130 (dk_at dksX0_doThing_17 4 rfl rfl)
theorem dX0_doThing_418 : decode cX0_doThing 418 = .ok (.iastore, 1) := dk_79 (dk_at dksX0_doThing_17 5 rfl rfl)
theorem dX0_doThing_419 : decode cX0_doThing 419 = .ok (.iload 11, 2) := dk_21 11 (dk_at dksX0_doThing_17 6 rfl rfl)
theorem dX0_doThing_421 : decode cX0_doThing 421 = .ok (.ireturn, 1) := dk_172 (dk_at dksX0_doThing_17 8 rfl rfl)
theorem dX0_doThing_422 : decode cX0_doThing 422 = .ok (.aload_n 0, 1) := dk_42 (dk_at dksX0_doThing_17 9 rfl rfl)
theorem dX0_doThing_423 : decode cX0_doThing 423 = .ok (.invokevirtual 410, 3) := dk_182 1 154 (dk_at dksX0_doThing_17 10 rfl rfl)
theorem dX0_doThing_426 : decode cX0_doThing 426 = .ok (.iload_n 2, 1) := dk_28 (dk_at dksX0_doThing_17 13 rfl rfl)
theorem dX0_doThing_427 : decode cX0_doThing 427 = .ok (.ifCond .ne 21, 3) := dk_154 0 21 (dk_at dksX0_doThing_17 14 rfl rfl)
theorem dX0_doThing_430 : decode cX0_doThing 430 = .ok (.aload_n 0, 1) := dk_42 (dk_at dksX0_doThing_17 17 rfl rfl)
theorem dX0_doThing_431 : decode cX0_doThing 431 = .ok (.invokevirtual 333, 3) := dk_182 1 77 (dk_at dksX0_doThing_17 18 rfl rfl)
theorem dX0_doThing_434 : decode cX0_doThing 434 = .ok (.bipush 10, 2) := dk_16 10 (dk_at dksX0_doThing_17 21 rfl rfl)
theorem dX0_doThing_436 : decode cX0_doThing 436 = .ok (.iload_n 3, 1) := dk_29 (dk_at dksX0_doThing_17 23 rfl rfl)
theorem dX0_doThing_437 : decode cX0_doThing 437 = .ok (.imul, 1) := dk_104 (dk_at dksX0_doThing_18 0 rfl rfl)
theorem dX0_doThing_438 : decode cX0_doThing 438 = .ok (.iload 4, 2) := dk_21 4 (dk_at dksX0_doThing_18 1 rfl rfl)
theorem dX0_doThing_440 : decode cX0_doThing 440 = .ok (.iadd, 1) := dk_96 (dk_at dksX0_doThing_18 3 rfl rfl)
theorem dX0_doThing_441 : decode cX0_doThing 441 = .ok (.if_icmp .ne 7, 3) := dk_160 0 7 (dk_at dksX0_doThing_18 4 rfl rfl)
theorem dX0_doThing_444 : decode cX0_doThing 444 = .ok (.iconst 1, 1) := dk_4 (dk_at dksX0_doThing_18 7 rfl rfl)
theorem dX0_doThing_445 : decode cX0_doThing 445 = .ok (.goto 4, 3) := dk_167 0 4 (dk_at dksX0_doThing_18 8 rfl rfl)
theorem dX0_doThing_448 : decode cX0_doThing 448 = .ok (.iconst 0, 1) := dk_3 (dk_at dksX0_doThing_18 11 rfl rfl)
theorem dX0_doThing_449 : decode cX0_doThing 449 = .ok (.ireturn, 1) := dk_172 (dk_at dksX0_doThing_18 12 rfl rfl)
theorem dX0_doThing_450 : decode cX0_doThing 450 = .ok (.iconst 0, 1) := dk_3 (dk_at dksX0_doThing_18 13 rfl rfl)
theorem dX0_doThing_451 : decode cX0_doThing 451 = .ok (.ireturn, 1) := dk_172 (dk_at dksX0_doThing_18 14 rfl rfl)
abbrev cX0_lookTrial : ByteArray := prog_1_method_70_code
def yX0_lookTrial : MethodName := ⟨RX0, "lookTrial", "()V"⟩
def dkwX0_lookTrial_0 : List UInt8 := [42, 42, 180, 0, 22, 42, 182, 0, 115, 42, 180, 0, 22, 180, 0, 119, 2, 130, 126, 182, 0, 122, 177]
abbrev dktX0_lookTrial_0 : List UInt8 := dkwX0_lookTrial_0 ++ []
theorem dksX0_lookTrial_0 : cX0_lookTrial.data.toList.drop 0 = dktX0_lookTrial_0 := by decide +kernel
theorem dX0_lookTrial_0 : decode cX0_lookTrial 0 = .ok (.aload_n 0, 1) := dk_42 (dk_at dksX0_lookTrial_0 0 rfl rfl)
theorem dX0_lookTrial_1 : decode cX0_lookTrial 1 = .ok (.aload_n 0, 1) := dk_42 (dk_at dksX0_lookTrial_0 1 rfl rfl)
theorem dX0_lookTrial_2 : decode cX0_lookTrial 2 = .ok (.getfield 22, 3) := dk_180 0 22 (dk_at dksX0_lookTrial_0 2 rfl rfl)
theorem dX0_lookTrial_5 : decode cX0_lookTrial 5 = .ok (.aload_n 0, 1) := dk_42 (dk_at dksX0_lookTrial_0 5 rfl rfl)
theorem dX0_lookTrial_6 : decode cX0_lookTrial 6 = .ok (.invokevirtual 115, 3) := dk_182 0 115 (dk_at dksX0_lookTrial_0 6 rfl rfl)
theorem dX0_lookTrial_9 : decode cX0_lookTrial 9 = .ok (.aload_n 0, 1) := dk_42 (dk_at dksX0_lookTrial_0 9 rfl rfl)
theorem dX0_lookTrial_10 : decode cX0_lookTrial 10 = .ok (.getfield 22, 3) := dk_180 0 22 (dk_at dksX0_lookTrial_0 10 rfl rfl)
theorem dX0_lookTrial_13 : decode cX0_lookTrial 13 = .ok (.getfield 119, 3) := dk_180 0 119 (dk_at dksX0_lookTrial_0 13 rfl rfl)
theorem dX0_lookTrial_16 : decode cX0_lookTrial 16 = .ok (.iconst (-1), 1) := dk_2 (dk_at dksX0_lookTrial_0 16 rfl rfl)
theorem dX0_lookTrial_17 : decode cX0_lookTrial 17 = .ok (.ixor, 1) := dk_130 (dk_at dksX0_lookTrial_0 17 rfl rfl)
theorem dX0_lookTrial_18 : decode cX0_lookTrial 18 = .ok (.iand, 1) := dk_126 (dk_at dksX0_lookTrial_0 18 rfl rfl)
theorem dX0_lookTrial_19 : decode cX0_lookTrial 19 = .ok (.invokevirtual 122, 3) := dk_182 0 122 (dk_at dksX0_lookTrial_0 19 rfl rfl)
theorem dX0_lookTrial_22 : decode cX0_lookTrial 22 = .ok (.return_, 1) := dk_177 (dk_at dksX0_lookTrial_0 22 rfl rfl)
abbrev cX0_see : ByteArray := prog_1_method_74_code
def yX0_see : MethodName := ⟨RX0, "see", "(III)I"⟩
def dkwX0_see_3 : List UInt8 := [180, 0, 83, 42, 180, 1, 24, 29, 79, 42, 89, 180, 1, 24, 4, 96, 181, 1, 24, 42, 180, 1, 24, 172]
abbrev dktX0_see_3 : List UInt8 := dkwX0_see_3 ++ []
def dkwX0_see_2 : List UInt8 := [172, 42, 180, 0, 77, 42, 180, 1, 24, 27, 79, 42, 180, 0, 80, 42, 180, 1, 24, 28, 79, 42]
abbrev dktX0_see_2 : List UInt8 := dkwX0_see_2 ++ dktX0_see_3
def dkwX0_see_1 : List UInt8 := [29, 133, 9, 10, 184, 0, 190, 154, 0, 6, 16, 254, 172, 42, 180, 1, 24, 16, 6, 160, 0, 6, 16, 252]
abbrev dktX0_see_1 : List UInt8 := dkwX0_see_1 ++ dktX0_see_2
def dkwX0_see_0 : List UInt8 := [27, 133, 9, 20, 1, 3, 184, 0, 190, 153, 0, 25, 28, 133, 9, 20, 1, 65, 184, 0, 190, 153, 0, 13]
abbrev dktX0_see_0 : List UInt8 := dkwX0_see_0 ++ dktX0_see_1
theorem dksX0_see_0 : cX0_see.data.toList.drop 0 = dktX0_see_0 := by decide +kernel
theorem dksX0_see_1 : cX0_see.data.toList.drop 24 = dktX0_see_1 := dk_seg dksX0_see_0 24 rfl rfl
theorem dksX0_see_2 : cX0_see.data.toList.drop 48 = dktX0_see_2 := dk_seg dksX0_see_1 24 rfl rfl
theorem dksX0_see_3 : cX0_see.data.toList.drop 70 = dktX0_see_3 := dk_seg dksX0_see_2 22 rfl rfl
theorem dX0_see_0 : decode cX0_see 0 = .ok (.iload_n 1, 1) := dk_27 (dk_at dksX0_see_0 0 rfl rfl)
theorem dX0_see_1 : decode cX0_see 1 = .ok (.i2l, 1) := dk_133 (dk_at dksX0_see_0 1 rfl rfl)
theorem dX0_see_2 : decode cX0_see 2 = .ok (.lconst 0, 1) := dk_9 (dk_at dksX0_see_0 2 rfl rfl)
theorem dX0_see_3 : decode cX0_see 3 = .ok (.ldc2_w 259, 3) := dk_20 1 3 (dk_at dksX0_see_0 3 rfl rfl)
theorem dX0_see_6 : decode cX0_see 6 = .ok (.invokestatic 190, 3) := dk_184 0 190 (dk_at dksX0_see_0 6 rfl rfl)
theorem dX0_see_9 : decode cX0_see 9 = .ok (.ifCond .eq 25, 3) := dk_153 0 25 (dk_at dksX0_see_0 9 rfl rfl)
theorem dX0_see_12 : decode cX0_see 12 = .ok (.iload_n 2, 1) := dk_28 (dk_at dksX0_see_0 12 rfl rfl)
theorem dX0_see_13 : decode cX0_see 13 = .ok (.i2l, 1) := dk_133 (dk_at dksX0_see_0 13 rfl rfl)
theorem dX0_see_14 : decode cX0_see 14 = .ok (.lconst 0, 1) := dk_9 (dk_at dksX0_see_0 14 rfl rfl)
theorem dX0_see_15 : decode cX0_see 15 = .ok (.ldc2_w 321, 3) := dk_20 1 65 (dk_at dksX0_see_0 15 rfl rfl)
theorem dX0_see_18 : decode cX0_see 18 = .ok (.invokestatic 190, 3) := dk_184 0 190 (dk_at dksX0_see_0 18 rfl rfl)
theorem dX0_see_21 : decode cX0_see 21 = .ok (.ifCond .eq 13, 3) := dk_153 0 13 (dk_at dksX0_see_0 21 rfl rfl)
theorem dX0_see_24 : decode cX0_see 24 = .ok (.iload_n 3, 1) := dk_29 (dk_at dksX0_see_1 0 rfl rfl)
theorem dX0_see_25 : decode cX0_see 25 = .ok (.i2l, 1) := dk_133 (dk_at dksX0_see_1 1 rfl rfl)
theorem dX0_see_26 : decode cX0_see 26 = .ok (.lconst 0, 1) := dk_9 (dk_at dksX0_see_1 2 rfl rfl)
theorem dX0_see_27 : decode cX0_see 27 = .ok (.lconst 1, 1) := dk_10 (dk_at dksX0_see_1 3 rfl rfl)
theorem dX0_see_28 : decode cX0_see 28 = .ok (.invokestatic 190, 3) := dk_184 0 190 (dk_at dksX0_see_1 4 rfl rfl)
theorem dX0_see_31 : decode cX0_see 31 = .ok (.ifCond .ne 6, 3) := dk_154 0 6 (dk_at dksX0_see_1 7 rfl rfl)
theorem dX0_see_34 : decode cX0_see 34 = .ok (.bipush (-2), 2) := dk_16 254 (dk_at dksX0_see_1 10 rfl rfl)
theorem dX0_see_36 : decode cX0_see 36 = .ok (.ireturn, 1) := dk_172 (dk_at dksX0_see_1 12 rfl rfl)
theorem dX0_see_37 : decode cX0_see 37 = .ok (.aload_n 0, 1) := dk_42 (dk_at dksX0_see_1 13 rfl rfl)
theorem dX0_see_38 : decode cX0_see 38 = .ok (.getfield 280, 3) := dk_180 1 24 (dk_at dksX0_see_1 14 rfl rfl)
theorem dX0_see_41 : decode cX0_see 41 = .ok (.bipush 6, 2) := dk_16 6 (dk_at dksX0_see_1 17 rfl rfl)
theorem dX0_see_43 : decode cX0_see 43 = .ok (.if_icmp .ne 6, 3) := dk_160 0 6 (dk_at dksX0_see_1 19 rfl rfl)
theorem dX0_see_46 : decode cX0_see 46 = .ok (.bipush (-4), 2) := dk_16 252 (dk_at dksX0_see_1 22 rfl rfl)
theorem dX0_see_48 : decode cX0_see 48 = .ok (.ireturn, 1) := dk_172 (dk_at dksX0_see_2 0 rfl rfl)
theorem dX0_see_49 : decode cX0_see 49 = .ok (.aload_n 0, 1) := dk_42 (dk_at dksX0_see_2 1 rfl rfl)
theorem dX0_see_50 : decode cX0_see 50 = .ok (.getfield 77, 3) := dk_180 0 77 (dk_at dksX0_see_2 2 rfl rfl)
theorem dX0_see_53 : decode cX0_see 53 = .ok (.aload_n 0, 1) := dk_42 (dk_at dksX0_see_2 5 rfl rfl)
theorem dX0_see_54 : decode cX0_see 54 = .ok (.getfield 280, 3) := dk_180 1 24 (dk_at dksX0_see_2 6 rfl rfl)
theorem dX0_see_57 : decode cX0_see 57 = .ok (.iload_n 1, 1) := dk_27 (dk_at dksX0_see_2 9 rfl rfl)
theorem dX0_see_58 : decode cX0_see 58 = .ok (.iastore, 1) := dk_79 (dk_at dksX0_see_2 10 rfl rfl)
theorem dX0_see_59 : decode cX0_see 59 = .ok (.aload_n 0, 1) := dk_42 (dk_at dksX0_see_2 11 rfl rfl)
theorem dX0_see_60 : decode cX0_see 60 = .ok (.getfield 80, 3) := dk_180 0 80 (dk_at dksX0_see_2 12 rfl rfl)
theorem dX0_see_63 : decode cX0_see 63 = .ok (.aload_n 0, 1) := dk_42 (dk_at dksX0_see_2 15 rfl rfl)
theorem dX0_see_64 : decode cX0_see 64 = .ok (.getfield 280, 3) := dk_180 1 24 (dk_at dksX0_see_2 16 rfl rfl)
theorem dX0_see_67 : decode cX0_see 67 = .ok (.iload_n 2, 1) := dk_28 (dk_at dksX0_see_2 19 rfl rfl)
theorem dX0_see_68 : decode cX0_see 68 = .ok (.iastore, 1) := dk_79 (dk_at dksX0_see_2 20 rfl rfl)
theorem dX0_see_69 : decode cX0_see 69 = .ok (.aload_n 0, 1) := dk_42 (dk_at dksX0_see_2 21 rfl rfl)
theorem dX0_see_70 : decode cX0_see 70 = .ok (.getfield 83, 3) := dk_180 0 83 (dk_at dksX0_see_3 0 rfl rfl)
theorem dX0_see_73 : decode cX0_see 73 = .ok (.aload_n 0, 1) := dk_42 (dk_at dksX0_see_3 3 rfl rfl)
theorem dX0_see_74 : decode cX0_see 74 = .ok (.getfield 280, 3) := dk_180 1 24 (dk_at dksX0_see_3 4 rfl rfl)
theorem dX0_see_77 : decode cX0_see 77 = .ok (.iload_n 3, 1) := dk_29 (dk_at dksX0_see_3 7 rfl rfl)
theorem dX0_see_78 : decode cX0_see 78 = .ok (.iastore, 1) := dk_79 (dk_at dksX0_see_3 8 rfl rfl)
theorem dX0_see_79 : decode cX0_see 79 = .ok (.aload_n 0, 1) := dk_42 (dk_at dksX0_see_3 9 rfl rfl)
theorem dX0_see_80 : decode cX0_see 80 = .ok (.dup, 1) := dk_89 (dk_at dksX0_see_3 10 rfl rfl)
theorem dX0_see_81 : decode cX0_see 81 = .ok (.getfield 280, 3) := dk_180 1 24 (dk_at dksX0_see_3 11 rfl rfl)
theorem dX0_see_84 : decode cX0_see 84 = .ok (.iconst 1, 1) := dk_4 (dk_at dksX0_see_3 14 rfl rfl)
theorem dX0_see_85 : decode cX0_see 85 = .ok (.iadd, 1) := dk_96 (dk_at dksX0_see_3 15 rfl rfl)
theorem dX0_see_86 : decode cX0_see 86 = .ok (.putfield 280, 3) := dk_181 1 24 (dk_at dksX0_see_3 16 rfl rfl)
theorem dX0_see_89 : decode cX0_see 89 = .ok (.aload_n 0, 1) := dk_42 (dk_at dksX0_see_3 19 rfl rfl)
theorem dX0_see_90 : decode cX0_see 90 = .ok (.getfield 280, 3) := dk_180 1 24 (dk_at dksX0_see_3 20 rfl rfl)
theorem dX0_see_93 : decode cX0_see 93 = .ok (.ireturn, 1) := dk_172 (dk_at dksX0_see_3 23 rfl rfl)
abbrev cX0_unsee : ByteArray := prog_1_method_75_code
def yX0_unsee : MethodName := ⟨RX0, "unsee", "()I"⟩
def dkwX0_unsee_0 : List UInt8 := [42, 180, 1, 24, 60, 42, 3, 181, 1, 24, 27, 172]
abbrev dktX0_unsee_0 : List UInt8 := dkwX0_unsee_0 ++ []
theorem dksX0_unsee_0 : cX0_unsee.data.toList.drop 0 = dktX0_unsee_0 := by decide +kernel
theorem dX0_unsee_0 : decode cX0_unsee 0 = .ok (.aload_n 0, 1) := dk_42 (dk_at dksX0_unsee_0 0 rfl rfl)
theorem dX0_unsee_1 : decode cX0_unsee 1 = .ok (.getfield 280, 3) := dk_180 1 24 (dk_at dksX0_unsee_0 1 rfl rfl)
theorem dX0_unsee_4 : decode cX0_unsee 4 = .ok (.istore_n 1, 1) := dk_60 (dk_at dksX0_unsee_0 4 rfl rfl)
theorem dX0_unsee_5 : decode cX0_unsee 5 = .ok (.aload_n 0, 1) := dk_42 (dk_at dksX0_unsee_0 5 rfl rfl)
theorem dX0_unsee_6 : decode cX0_unsee 6 = .ok (.iconst 0, 1) := dk_3 (dk_at dksX0_unsee_0 6 rfl rfl)
theorem dX0_unsee_7 : decode cX0_unsee 7 = .ok (.putfield 280, 3) := dk_181 1 24 (dk_at dksX0_unsee_0 7 rfl rfl)
theorem dX0_unsee_10 : decode cX0_unsee 10 = .ok (.iload_n 1, 1) := dk_27 (dk_at dksX0_unsee_0 10 rfl rfl)
theorem dX0_unsee_11 : decode cX0_unsee 11 = .ok (.ireturn, 1) := dk_172 (dk_at dksX0_unsee_0 11 rfl rfl)
abbrev cX0_left : ByteArray := prog_1_method_78_code
def yX0_left : MethodName := ⟨RX0, "left", "(I)I"⟩
def dkwX0_left_4 : List UInt8 := [132, 6, 255, 167, 255, 207, 27, 154, 0, 8, 21, 4, 167, 0, 5, 21, 5, 172]
abbrev dktX0_left_4 : List UInt8 := dkwX0_left_4 ++ []
def dkwX0_left_3 : List UInt8 := [167, 0, 4, 3, 96, 54, 4, 42, 182, 1, 172, 153, 0, 8, 21, 6, 167, 0, 5, 21, 5, 54, 5]
abbrev dktX0_left_3 : List UInt8 := dkwX0_left_3 ++ dktX0_left_4
def dkwX0_left_2 : List UInt8 := [21, 6, 155, 0, 50, 42, 21, 6, 133, 182, 1, 80, 87, 21, 4, 42, 182, 1, 172, 153, 0, 7, 4]
abbrev dktX0_left_2 : List UInt8 := dkwX0_left_2 ++ dktX0_left_3
def dkwX0_left_1 : List UInt8 := [20, 1, 170, 148, 158, 0, 6, 16, 253, 172, 3, 54, 4, 16, 247, 54, 5, 32, 136, 4, 100, 54, 6]
abbrev dktX0_left_1 : List UInt8 := dkwX0_left_1 ++ dktX0_left_2
def dkwX0_left_0 : List UInt8 := [27, 133, 9, 10, 184, 0, 190, 154, 0, 6, 16, 254, 172, 42, 182, 1, 9, 42, 182, 0, 181, 65, 32]
abbrev dktX0_left_0 : List UInt8 := dkwX0_left_0 ++ dktX0_left_1
theorem dksX0_left_0 : cX0_left.data.toList.drop 0 = dktX0_left_0 := by decide +kernel
theorem dksX0_left_1 : cX0_left.data.toList.drop 23 = dktX0_left_1 := dk_seg dksX0_left_0 23 rfl rfl
theorem dksX0_left_2 : cX0_left.data.toList.drop 46 = dktX0_left_2 := dk_seg dksX0_left_1 23 rfl rfl
theorem dksX0_left_3 : cX0_left.data.toList.drop 69 = dktX0_left_3 := dk_seg dksX0_left_2 23 rfl rfl
theorem dksX0_left_4 : cX0_left.data.toList.drop 92 = dktX0_left_4 := dk_seg dksX0_left_3 23 rfl rfl
theorem dX0_left_0 : decode cX0_left 0 = .ok (.iload_n 1, 1) := dk_27 (dk_at dksX0_left_0 0 rfl rfl)
theorem dX0_left_1 : decode cX0_left 1 = .ok (.i2l, 1) := dk_133 (dk_at dksX0_left_0 1 rfl rfl)
theorem dX0_left_2 : decode cX0_left 2 = .ok (.lconst 0, 1) := dk_9 (dk_at dksX0_left_0 2 rfl rfl)
theorem dX0_left_3 : decode cX0_left 3 = .ok (.lconst 1, 1) := dk_10 (dk_at dksX0_left_0 3 rfl rfl)
theorem dX0_left_4 : decode cX0_left 4 = .ok (.invokestatic 190, 3) := dk_184 0 190 (dk_at dksX0_left_0 4 rfl rfl)
theorem dX0_left_7 : decode cX0_left 7 = .ok (.ifCond .ne 6, 3) := dk_154 0 6 (dk_at dksX0_left_0 7 rfl rfl)
theorem dX0_left_10 : decode cX0_left 10 = .ok (.bipush (-2), 2) := dk_16 254 (dk_at dksX0_left_0 10 rfl rfl)
theorem dX0_left_12 : decode cX0_left 12 = .ok (.ireturn, 1) := dk_172 (dk_at dksX0_left_0 12 rfl rfl)
theorem dX0_left_13 : decode cX0_left 13 = .ok (.aload_n 0, 1) := dk_42 (dk_at dksX0_left_0 13 rfl rfl)
theorem dX0_left_14 : decode cX0_left 14 = .ok (.invokevirtual 265, 3) := dk_182 1 9 (dk_at dksX0_left_0 14 rfl rfl)
theorem dX0_left_17 : decode cX0_left 17 = .ok (.aload_n 0, 1) := dk_42 (dk_at dksX0_left_0 17 rfl rfl)
theorem dX0_left_18 : decode cX0_left 18 = .ok (.invokevirtual 181, 3) := dk_182 0 181 (dk_at dksX0_left_0 18 rfl rfl)
theorem dX0_left_21 : decode cX0_left 21 = .ok (.lstore_n 2, 1) := dk_65 (dk_at dksX0_left_0 21 rfl rfl)
theorem dX0_left_22 : decode cX0_left 22 = .ok (.lload_n 2, 1) := dk_32 (dk_at dksX0_left_0 22 rfl rfl)
theorem dX0_left_23 : decode cX0_left 23 = .ok (.ldc2_w 426, 3) := dk_20 1 170 (dk_at dksX0_left_1 0 rfl rfl)
theorem dX0_left_26 : decode cX0_left 26 = .ok (.lcmp, 1) := dk_148 (dk_at dksX0_left_1 3 rfl rfl)
theorem dX0_left_27 : decode cX0_left 27 = .ok (.ifCond .le 6, 3) := dk_158 0 6 (dk_at dksX0_left_1 4 rfl rfl)
theorem dX0_left_30 : decode cX0_left 30 = .ok (.bipush (-3), 2) := dk_16 253 (dk_at dksX0_left_1 7 rfl rfl)
theorem dX0_left_32 : decode cX0_left 32 = .ok (.ireturn, 1) := dk_172 (dk_at dksX0_left_1 9 rfl rfl)
theorem dX0_left_33 : decode cX0_left 33 = .ok (.iconst 0, 1) := dk_3 (dk_at dksX0_left_1 10 rfl rfl)
theorem dX0_left_34 : decode cX0_left 34 = .ok (.istore 4, 2) := dk_54 4 (dk_at dksX0_left_1 11 rfl rfl)
theorem dX0_left_36 : decode cX0_left 36 = .ok (.bipush (-9), 2) := dk_16 247 (dk_at dksX0_left_1 13 rfl rfl)
theorem dX0_left_38 : decode cX0_left 38 = .ok (.istore 5, 2) := dk_54 5 (dk_at dksX0_left_1 15 rfl rfl)
theorem dX0_left_40 : decode cX0_left 40 = .ok (.lload_n 2, 1) := dk_32 (dk_at dksX0_left_1 17 rfl rfl)
theorem dX0_left_41 : decode cX0_left 41 = .ok (.l2i, 1) := dk_136 (dk_at dksX0_left_1 18 rfl rfl)
theorem dX0_left_42 : decode cX0_left 42 = .ok (.iconst 1, 1) := dk_4 (dk_at dksX0_left_1 19 rfl rfl)
theorem dX0_left_43 : decode cX0_left 43 = .ok (.isub, 1) := dk_100 (dk_at dksX0_left_1 20 rfl rfl)
theorem dX0_left_44 : decode cX0_left 44 = .ok (.istore 6, 2) := dk_54 6 (dk_at dksX0_left_1 21 rfl rfl)
theorem dX0_left_46 : decode cX0_left 46 = .ok (.iload 6, 2) := dk_21 6 (dk_at dksX0_left_2 0 rfl rfl)
theorem dX0_left_48 : decode cX0_left 48 = .ok (.ifCond .lt 50, 3) := dk_155 0 50 (dk_at dksX0_left_2 2 rfl rfl)
theorem dX0_left_51 : decode cX0_left 51 = .ok (.aload_n 0, 1) := dk_42 (dk_at dksX0_left_2 5 rfl rfl)
theorem dX0_left_52 : decode cX0_left 52 = .ok (.iload 6, 2) := dk_21 6 (dk_at dksX0_left_2 6 rfl rfl)
theorem dX0_left_54 : decode cX0_left 54 = .ok (.i2l, 1) := dk_133 (dk_at dksX0_left_2 8 rfl rfl)
theorem dX0_left_55 : decode cX0_left 55 = .ok (.invokevirtual 336, 3) := dk_182 1 80 (dk_at dksX0_left_2 9 rfl rfl)
theorem dX0_left_58 : decode cX0_left 58 = .ok (.pop, 1) := dk_87 (dk_at dksX0_left_2 12 rfl rfl)
theorem dX0_left_59 : decode cX0_left 59 = .ok (.iload 4, 2) := dk_21 4 (dk_at dksX0_left_2 13 rfl rfl)
theorem dX0_left_61 : decode cX0_left 61 = .ok (.aload_n 0, 1) := dk_42 (dk_at dksX0_left_2 15 rfl rfl)
theorem dX0_left_62 : decode cX0_left 62 = .ok (.invokevirtual 428, 3) := dk_182 1 172 (dk_at dksX0_left_2 16 rfl rfl)
theorem dX0_left_65 : decode cX0_left 65 = .ok (.ifCond .eq 7, 3) := dk_153 0 7 (dk_at dksX0_left_2 19 rfl rfl)
theorem dX0_left_68 : decode cX0_left 68 = .ok (.iconst 1, 1) := dk_4 (dk_at dksX0_left_2 22 rfl rfl)
theorem dX0_left_69 : decode cX0_left 69 = .ok (.goto 4, 3) := dk_167 0 4 (dk_at dksX0_left_3 0 rfl rfl)
theorem dX0_left_72 : decode cX0_left 72 = .ok (.iconst 0, 1) := dk_3 (dk_at dksX0_left_3 3 rfl rfl)
theorem dX0_left_73 : decode cX0_left 73 = .ok (.iadd, 1) := dk_96 (dk_at dksX0_left_3 4 rfl rfl)
theorem dX0_left_74 : decode cX0_left 74 = .ok (.istore 4, 2) := dk_54 4 (dk_at dksX0_left_3 5 rfl rfl)
theorem dX0_left_76 : decode cX0_left 76 = .ok (.aload_n 0, 1) := dk_42 (dk_at dksX0_left_3 7 rfl rfl)
theorem dX0_left_77 : decode cX0_left 77 = .ok (.invokevirtual 428, 3) := dk_182 1 172 (dk_at dksX0_left_3 8 rfl rfl)
theorem dX0_left_80 : decode cX0_left 80 = .ok (.ifCond .eq 8, 3) := dk_153 0 8 (dk_at dksX0_left_3 11 rfl rfl)
theorem dX0_left_83 : decode cX0_left 83 = .ok (.iload 6, 2) := dk_21 6 (dk_at dksX0_left_3 14 rfl rfl)
theorem dX0_left_85 : decode cX0_left 85 = .ok (.goto 5, 3) := dk_167 0 5 (dk_at dksX0_left_3 16 rfl rfl)
theorem dX0_left_88 : decode cX0_left 88 = .ok (.iload 5, 2) := dk_21 5 (dk_at dksX0_left_3 19 rfl rfl)
theorem dX0_left_90 : decode cX0_left 90 = .ok (.istore 5, 2) := dk_54 5 (dk_at dksX0_left_3 21 rfl rfl)
theorem dX0_left_92 : decode cX0_left 92 = .ok (.iinc 6 (-1), 3) := dk_132 6 255 (dk_at dksX0_left_4 0 rfl rfl)
theorem dX0_left_95 : decode cX0_left 95 = .ok (.goto (-49), 3) := dk_167 255 207 (dk_at dksX0_left_4 3 rfl rfl)
theorem dX0_left_98 : decode cX0_left 98 = .ok (.iload_n 1, 1) := dk_27 (dk_at dksX0_left_4 6 rfl rfl)
theorem dX0_left_99 : decode cX0_left 99 = .ok (.ifCond .ne 8, 3) := dk_154 0 8 (dk_at dksX0_left_4 7 rfl rfl)
theorem dX0_left_102 : decode cX0_left 102 = .ok (.iload 4, 2) := dk_21 4 (dk_at dksX0_left_4 10 rfl rfl)
theorem dX0_left_104 : decode cX0_left 104 = .ok (.goto 5, 3) := dk_167 0 5 (dk_at dksX0_left_4 12 rfl rfl)
theorem dX0_left_107 : decode cX0_left 107 = .ok (.iload 5, 2) := dk_21 5 (dk_at dksX0_left_4 15 rfl rfl)
theorem dX0_left_109 : decode cX0_left 109 = .ok (.ireturn, 1) := dk_172 (dk_at dksX0_left_4 17 rfl rfl)
abbrev cX0_agrees : ByteArray := prog_1_method_77_code
def yX0_agrees : MethodName := ⟨RX0, "agrees", "()Z"⟩
def dkwX0_agrees_2 : List UInt8 := [160, 0, 7, 4, 167, 0, 4, 3, 60, 132, 2, 1, 167, 255, 201, 27, 172]
abbrev dktX0_agrees_2 : List UInt8 := dkwX0_agrees_2 ++ []
def dkwX0_agrees_1 : List UInt8 := [180, 0, 80, 28, 46, 182, 1, 167, 42, 180, 0, 83, 28, 46, 4, 160, 0, 7, 4, 167, 0, 4, 3]
abbrev dktX0_agrees_1 : List UInt8 := dkwX0_agrees_1 ++ dktX0_agrees_2
def dkwX0_agrees_0 : List UInt8 := [4, 60, 3, 61, 28, 42, 180, 1, 24, 162, 0, 53, 27, 153, 0, 41, 42, 42, 180, 0, 77, 28, 46, 42]
abbrev dktX0_agrees_0 : List UInt8 := dkwX0_agrees_0 ++ dktX0_agrees_1
theorem dksX0_agrees_0 : cX0_agrees.data.toList.drop 0 = dktX0_agrees_0 := by decide +kernel
theorem dksX0_agrees_1 : cX0_agrees.data.toList.drop 24 = dktX0_agrees_1 := dk_seg dksX0_agrees_0 24 rfl rfl
theorem dksX0_agrees_2 : cX0_agrees.data.toList.drop 47 = dktX0_agrees_2 := dk_seg dksX0_agrees_1 23 rfl rfl
theorem dX0_agrees_0 : decode cX0_agrees 0 = .ok (.iconst 1, 1) := dk_4 (dk_at dksX0_agrees_0 0 rfl rfl)
theorem dX0_agrees_1 : decode cX0_agrees 1 = .ok (.istore_n 1, 1) := dk_60 (dk_at dksX0_agrees_0 1 rfl rfl)
theorem dX0_agrees_2 : decode cX0_agrees 2 = .ok (.iconst 0, 1) := dk_3 (dk_at dksX0_agrees_0 2 rfl rfl)
theorem dX0_agrees_3 : decode cX0_agrees 3 = .ok (.istore_n 2, 1) := dk_61 (dk_at dksX0_agrees_0 3 rfl rfl)
theorem dX0_agrees_4 : decode cX0_agrees 4 = .ok (.iload_n 2, 1) := dk_28 (dk_at dksX0_agrees_0 4 rfl rfl)
theorem dX0_agrees_5 : decode cX0_agrees 5 = .ok (.aload_n 0, 1) := dk_42 (dk_at dksX0_agrees_0 5 rfl rfl)
theorem dX0_agrees_6 : decode cX0_agrees 6 = .ok (.getfield 280, 3) := dk_180 1 24 (dk_at dksX0_agrees_0 6 rfl rfl)
theorem dX0_agrees_9 : decode cX0_agrees 9 = .ok (.if_icmp .ge 53, 3) := dk_162 0 53 (dk_at dksX0_agrees_0 9 rfl rfl)
theorem dX0_agrees_12 : decode cX0_agrees 12 = .ok (.iload_n 1, 1) := dk_27 (dk_at dksX0_agrees_0 12 rfl rfl)
theorem dX0_agrees_13 : decode cX0_agrees 13 = .ok (.ifCond .eq 41, 3) := dk_153 0 41 (dk_at dksX0_agrees_0 13 rfl rfl)
theorem dX0_agrees_16 : decode cX0_agrees 16 = .ok (.aload_n 0, 1) := dk_42 (dk_at dksX0_agrees_0 16 rfl rfl)
theorem dX0_agrees_17 : decode cX0_agrees 17 = .ok (.aload_n 0, 1) := dk_42 (dk_at dksX0_agrees_0 17 rfl rfl)
theorem dX0_agrees_18 : decode cX0_agrees 18 = .ok (.getfield 77, 3) := dk_180 0 77 (dk_at dksX0_agrees_0 18 rfl rfl)
theorem dX0_agrees_21 : decode cX0_agrees 21 = .ok (.iload_n 2, 1) := dk_28 (dk_at dksX0_agrees_0 21 rfl rfl)
theorem dX0_agrees_22 : decode cX0_agrees 22 = .ok (.iaload, 1) := dk_46 (dk_at dksX0_agrees_0 22 rfl rfl)
theorem dX0_agrees_23 : decode cX0_agrees 23 = .ok (.aload_n 0, 1) := dk_42 (dk_at dksX0_agrees_0 23 rfl rfl)
theorem dX0_agrees_24 : decode cX0_agrees 24 = .ok (.getfield 80, 3) := dk_180 0 80 (dk_at dksX0_agrees_1 0 rfl rfl)
theorem dX0_agrees_27 : decode cX0_agrees 27 = .ok (.iload_n 2, 1) := dk_28 (dk_at dksX0_agrees_1 3 rfl rfl)
theorem dX0_agrees_28 : decode cX0_agrees 28 = .ok (.iaload, 1) := dk_46 (dk_at dksX0_agrees_1 4 rfl rfl)
theorem dX0_agrees_29 : decode cX0_agrees 29 = .ok (.invokevirtual 423, 3) := dk_182 1 167 (dk_at dksX0_agrees_1 5 rfl rfl)
theorem dX0_agrees_32 : decode cX0_agrees 32 = .ok (.aload_n 0, 1) := dk_42 (dk_at dksX0_agrees_1 8 rfl rfl)
theorem dX0_agrees_33 : decode cX0_agrees 33 = .ok (.getfield 83, 3) := dk_180 0 83 (dk_at dksX0_agrees_1 9 rfl rfl)
theorem dX0_agrees_36 : decode cX0_agrees 36 = .ok (.iload_n 2, 1) := dk_28 (dk_at dksX0_agrees_1 12 rfl rfl)
theorem dX0_agrees_37 : decode cX0_agrees 37 = .ok (.iaload, 1) := dk_46 (dk_at dksX0_agrees_1 13 rfl rfl)
theorem dX0_agrees_38 : decode cX0_agrees 38 = .ok (.iconst 1, 1) := dk_4 (dk_at dksX0_agrees_1 14 rfl rfl)
theorem dX0_agrees_39 : decode cX0_agrees 39 = .ok (.if_icmp .ne 7, 3) := dk_160 0 7 (dk_at dksX0_agrees_1 15 rfl rfl)
theorem dX0_agrees_42 : decode cX0_agrees 42 = .ok (.iconst 1, 1) := dk_4 (dk_at dksX0_agrees_1 18 rfl rfl)
theorem dX0_agrees_43 : decode cX0_agrees 43 = .ok (.goto 4, 3) := dk_167 0 4 (dk_at dksX0_agrees_1 19 rfl rfl)
theorem dX0_agrees_46 : decode cX0_agrees 46 = .ok (.iconst 0, 1) := dk_3 (dk_at dksX0_agrees_1 22 rfl rfl)
theorem dX0_agrees_47 : decode cX0_agrees 47 = .ok (.if_icmp .ne 7, 3) := dk_160 0 7 (dk_at dksX0_agrees_2 0 rfl rfl)
theorem dX0_agrees_50 : decode cX0_agrees 50 = .ok (.iconst 1, 1) := dk_4 (dk_at dksX0_agrees_2 3 rfl rfl)
theorem dX0_agrees_51 : decode cX0_agrees 51 = .ok (.goto 4, 3) := dk_167 0 4 (dk_at dksX0_agrees_2 4 rfl rfl)
theorem dX0_agrees_54 : decode cX0_agrees 54 = .ok (.iconst 0, 1) := dk_3 (dk_at dksX0_agrees_2 7 rfl rfl)
theorem dX0_agrees_55 : decode cX0_agrees 55 = .ok (.istore_n 1, 1) := dk_60 (dk_at dksX0_agrees_2 8 rfl rfl)
theorem dX0_agrees_56 : decode cX0_agrees 56 = .ok (.iinc 2 1, 3) := dk_132 2 1 (dk_at dksX0_agrees_2 9 rfl rfl)
theorem dX0_agrees_59 : decode cX0_agrees 59 = .ok (.goto (-55), 3) := dk_167 255 201 (dk_at dksX0_agrees_2 12 rfl rfl)
theorem dX0_agrees_62 : decode cX0_agrees 62 = .ok (.iload_n 1, 1) := dk_27 (dk_at dksX0_agrees_2 15 rfl rfl)
theorem dX0_agrees_63 : decode cX0_agrees 63 = .ok (.ireturn, 1) := dk_172 (dk_at dksX0_agrees_2 16 rfl rfl)
abbrev cX0_isSo : ByteArray := prog_1_method_76_code
def yX0_isSo : MethodName := ⟨RX0, "isSo", "(II)Z"⟩
def dkwX0_isSo_4 : List UInt8 := [167, 0, 4, 3, 172]
abbrev dktX0_isSo_4 : List UInt8 := dkwX0_isSo_4 ++ []
def dkwX0_isSo_3 : List UInt8 := [180, 0, 45, 27, 5, 160, 0, 7, 3, 167, 0, 9, 42, 180, 0, 164, 4, 100, 46, 28, 160, 0, 7, 4]
abbrev dktX0_isSo_3 : List UInt8 := dkwX0_isSo_3 ++ dktX0_isSo_4
def dkwX0_isSo_2 : List UInt8 := [27, 4, 160, 0, 19, 42, 180, 0, 164, 28, 160, 0, 7, 4, 167, 0, 36, 3, 167, 0, 32, 42]
abbrev dktX0_isSo_2 : List UInt8 := dkwX0_isSo_2 ++ dktX0_isSo_3
def dkwX0_isSo_1 : List UInt8 := [160, 0, 7, 4, 167, 0, 4, 3, 128, 62, 132, 4, 1, 167, 255, 225, 27, 154, 0, 7, 29, 167, 0, 53]
abbrev dktX0_isSo_1 : List UInt8 := dkwX0_isSo_1 ++ dktX0_isSo_2
def dkwX0_isSo_0 : List UInt8 := [3, 62, 3, 54, 4, 21, 4, 42, 180, 0, 164, 162, 0, 28, 29, 42, 180, 0, 45, 21, 4, 46, 28]
abbrev dktX0_isSo_0 : List UInt8 := dkwX0_isSo_0 ++ dktX0_isSo_1
theorem dksX0_isSo_0 : cX0_isSo.data.toList.drop 0 = dktX0_isSo_0 := by decide +kernel
theorem dksX0_isSo_1 : cX0_isSo.data.toList.drop 23 = dktX0_isSo_1 := dk_seg dksX0_isSo_0 23 rfl rfl
theorem dksX0_isSo_2 : cX0_isSo.data.toList.drop 47 = dktX0_isSo_2 := dk_seg dksX0_isSo_1 24 rfl rfl
theorem dksX0_isSo_3 : cX0_isSo.data.toList.drop 69 = dktX0_isSo_3 := dk_seg dksX0_isSo_2 22 rfl rfl
theorem dksX0_isSo_4 : cX0_isSo.data.toList.drop 93 = dktX0_isSo_4 := dk_seg dksX0_isSo_3 24 rfl rfl
theorem dX0_isSo_0 : decode cX0_isSo 0 = .ok (.iconst 0, 1) := dk_3 (dk_at dksX0_isSo_0 0 rfl rfl)
theorem dX0_isSo_1 : decode cX0_isSo 1 = .ok (.istore_n 3, 1) := dk_62 (dk_at dksX0_isSo_0 1 rfl rfl)
theorem dX0_isSo_2 : decode cX0_isSo 2 = .ok (.iconst 0, 1) := dk_3 (dk_at dksX0_isSo_0 2 rfl rfl)
theorem dX0_isSo_3 : decode cX0_isSo 3 = .ok (.istore 4, 2) := dk_54 4 (dk_at dksX0_isSo_0 3 rfl rfl)
theorem dX0_isSo_5 : decode cX0_isSo 5 = .ok (.iload 4, 2) := dk_21 4 (dk_at dksX0_isSo_0 5 rfl rfl)
theorem dX0_isSo_7 : decode cX0_isSo 7 = .ok (.aload_n 0, 1) := dk_42 (dk_at dksX0_isSo_0 7 rfl rfl)
theorem dX0_isSo_8 : decode cX0_isSo 8 = .ok (.getfield 164, 3) := dk_180 0 164 (dk_at dksX0_isSo_0 8 rfl rfl)
theorem dX0_isSo_11 : decode cX0_isSo 11 = .ok (.if_icmp .ge 28, 3) := dk_162 0 28 (dk_at dksX0_isSo_0 11 rfl rfl)
theorem dX0_isSo_14 : decode cX0_isSo 14 = .ok (.iload_n 3, 1) := dk_29 (dk_at dksX0_isSo_0 14 rfl rfl)
theorem dX0_isSo_15 : decode cX0_isSo 15 = .ok (.aload_n 0, 1) := dk_42 (dk_at dksX0_isSo_0 15 rfl rfl)
theorem dX0_isSo_16 : decode cX0_isSo 16 = .ok (.getfield 45, 3) := dk_180 0 45 (dk_at dksX0_isSo_0 16 rfl rfl)
theorem dX0_isSo_19 : decode cX0_isSo 19 = .ok (.iload 4, 2) := dk_21 4 (dk_at dksX0_isSo_0 19 rfl rfl)
theorem dX0_isSo_21 : decode cX0_isSo 21 = .ok (.iaload, 1) := dk_46 (dk_at dksX0_isSo_0 21 rfl rfl)
theorem dX0_isSo_22 : decode cX0_isSo 22 = .ok (.iload_n 2, 1) := dk_28 (dk_at dksX0_isSo_0 22 rfl rfl)
theorem dX0_isSo_23 : decode cX0_isSo 23 = .ok (.if_icmp .ne 7, 3) := dk_160 0 7 (dk_at dksX0_isSo_1 0 rfl rfl)
theorem dX0_isSo_26 : decode cX0_isSo 26 = .ok (.iconst 1, 1) := dk_4 (dk_at dksX0_isSo_1 3 rfl rfl)
theorem dX0_isSo_27 : decode cX0_isSo 27 = .ok (.goto 4, 3) := dk_167 0 4 (dk_at dksX0_isSo_1 4 rfl rfl)
theorem dX0_isSo_30 : decode cX0_isSo 30 = .ok (.iconst 0, 1) := dk_3 (dk_at dksX0_isSo_1 7 rfl rfl)
theorem dX0_isSo_31 : decode cX0_isSo 31 = .ok (.ior, 1) := dk_128 (dk_at dksX0_isSo_1 8 rfl rfl)
theorem dX0_isSo_32 : decode cX0_isSo 32 = .ok (.istore_n 3, 1) := dk_62 (dk_at dksX0_isSo_1 9 rfl rfl)
theorem dX0_isSo_33 : decode cX0_isSo 33 = .ok (.iinc 4 1, 3) := dk_132 4 1 (dk_at dksX0_isSo_1 10 rfl rfl)
theorem dX0_isSo_36 : decode cX0_isSo 36 = .ok (.goto (-31), 3) := dk_167 255 225 (dk_at dksX0_isSo_1 13 rfl rfl)
theorem dX0_isSo_39 : decode cX0_isSo 39 = .ok (.iload_n 1, 1) := dk_27 (dk_at dksX0_isSo_1 16 rfl rfl)
theorem dX0_isSo_40 : decode cX0_isSo 40 = .ok (.ifCond .ne 7, 3) := dk_154 0 7 (dk_at dksX0_isSo_1 17 rfl rfl)
theorem dX0_isSo_43 : decode cX0_isSo 43 = .ok (.iload_n 3, 1) := dk_29 (dk_at dksX0_isSo_1 20 rfl rfl)
theorem dX0_isSo_44 : decode cX0_isSo 44 = .ok (.goto 53, 3) := dk_167 0 53 (dk_at dksX0_isSo_1 21 rfl rfl)
theorem dX0_isSo_47 : decode cX0_isSo 47 = .ok (.iload_n 1, 1) := dk_27 (dk_at dksX0_isSo_2 0 rfl rfl)
theorem dX0_isSo_48 : decode cX0_isSo 48 = .ok (.iconst 1, 1) := dk_4 (dk_at dksX0_isSo_2 1 rfl rfl)
theorem dX0_isSo_49 : decode cX0_isSo 49 = .ok (.if_icmp .ne 19, 3) := dk_160 0 19 (dk_at dksX0_isSo_2 2 rfl rfl)
theorem dX0_isSo_52 : decode cX0_isSo 52 = .ok (.aload_n 0, 1) := dk_42 (dk_at dksX0_isSo_2 5 rfl rfl)
theorem dX0_isSo_53 : decode cX0_isSo 53 = .ok (.getfield 164, 3) := dk_180 0 164 (dk_at dksX0_isSo_2 6 rfl rfl)
theorem dX0_isSo_56 : decode cX0_isSo 56 = .ok (.iload_n 2, 1) := dk_28 (dk_at dksX0_isSo_2 9 rfl rfl)
theorem dX0_isSo_57 : decode cX0_isSo 57 = .ok (.if_icmp .ne 7, 3) := dk_160 0 7 (dk_at dksX0_isSo_2 10 rfl rfl)
theorem dX0_isSo_60 : decode cX0_isSo 60 = .ok (.iconst 1, 1) := dk_4 (dk_at dksX0_isSo_2 13 rfl rfl)
theorem dX0_isSo_61 : decode cX0_isSo 61 = .ok (.goto 36, 3) := dk_167 0 36 (dk_at dksX0_isSo_2 14 rfl rfl)
theorem dX0_isSo_64 : decode cX0_isSo 64 = .ok (.iconst 0, 1) := dk_3 (dk_at dksX0_isSo_2 17 rfl rfl)
theorem dX0_isSo_65 : decode cX0_isSo 65 = .ok (.goto 32, 3) := dk_167 0 32 (dk_at dksX0_isSo_2 18 rfl rfl)
theorem dX0_isSo_68 : decode cX0_isSo 68 = .ok (.aload_n 0, 1) := dk_42 (dk_at dksX0_isSo_2 21 rfl rfl)
theorem dX0_isSo_69 : decode cX0_isSo 69 = .ok (.getfield 45, 3) := dk_180 0 45 (dk_at dksX0_isSo_3 0 rfl rfl)
theorem dX0_isSo_72 : decode cX0_isSo 72 = .ok (.iload_n 1, 1) := dk_27 (dk_at dksX0_isSo_3 3 rfl rfl)
theorem dX0_isSo_73 : decode cX0_isSo 73 = .ok (.iconst 2, 1) := dk_5 (dk_at dksX0_isSo_3 4 rfl rfl)
theorem dX0_isSo_74 : decode cX0_isSo 74 = .ok (.if_icmp .ne 7, 3) := dk_160 0 7 (dk_at dksX0_isSo_3 5 rfl rfl)
theorem dX0_isSo_77 : decode cX0_isSo 77 = .ok (.iconst 0, 1) := dk_3 (dk_at dksX0_isSo_3 8 rfl rfl)
theorem dX0_isSo_78 : decode cX0_isSo 78 = .ok (.goto 9, 3) := dk_167 0 9 (dk_at dksX0_isSo_3 9 rfl rfl)
theorem dX0_isSo_81 : decode cX0_isSo 81 = .ok (.aload_n 0, 1) := dk_42 (dk_at dksX0_isSo_3 12 rfl rfl)
theorem dX0_isSo_82 : decode cX0_isSo 82 = .ok (.getfield 164, 3) := dk_180 0 164 (dk_at dksX0_isSo_3 13 rfl rfl)
theorem dX0_isSo_85 : decode cX0_isSo 85 = .ok (.iconst 1, 1) := dk_4 (dk_at dksX0_isSo_3 16 rfl rfl)
theorem dX0_isSo_86 : decode cX0_isSo 86 = .ok (.isub, 1) := dk_100 (dk_at dksX0_isSo_3 17 rfl rfl)
theorem dX0_isSo_87 : decode cX0_isSo 87 = .ok (.iaload, 1) := dk_46 (dk_at dksX0_isSo_3 18 rfl rfl)
theorem dX0_isSo_88 : decode cX0_isSo 88 = .ok (.iload_n 2, 1) := dk_28 (dk_at dksX0_isSo_3 19 rfl rfl)
theorem dX0_isSo_89 : decode cX0_isSo 89 = .ok (.if_icmp .ne 7, 3) := dk_160 0 7 (dk_at dksX0_isSo_3 20 rfl rfl)
theorem dX0_isSo_92 : decode cX0_isSo 92 = .ok (.iconst 1, 1) := dk_4 (dk_at dksX0_isSo_3 23 rfl rfl)
theorem dX0_isSo_93 : decode cX0_isSo 93 = .ok (.goto 4, 3) := dk_167 0 4 (dk_at dksX0_isSo_4 0 rfl rfl)
theorem dX0_isSo_96 : decode cX0_isSo 96 = .ok (.iconst 0, 1) := dk_3 (dk_at dksX0_isSo_4 3 rfl rfl)
theorem dX0_isSo_97 : decode cX0_isSo 97 = .ok (.ireturn, 1) := dk_172 (dk_at dksX0_isSo_4 4 rfl rfl)
abbrev cX0_share : ByteArray := prog_1_method_82_code
def yX0_share : MethodName := ⟨RX0, "share", "(IZ)J"⟩
def dkwX0_share_7 : List UInt8 := [167, 0, 12, 21, 4, 184, 1, 189, 133, 22, 7, 109, 173]
abbrev dktX0_share_7 : List UInt8 := dkwX0_share_7 ++ []
def dkwX0_share_6 : List UInt8 := [22, 5, 21, 4, 184, 1, 189, 133, 184, 1, 192, 55, 7, 28, 153, 0, 11, 22, 5, 22, 7, 109]
abbrev dktX0_share_6 : List UInt8 := dkwX0_share_6 ++ dktX0_share_7
def dkwX0_share_5 : List UInt8 := [4, 27, 120, 128, 47, 42, 180, 0, 86, 21, 7, 47, 101, 105, 97, 55, 5, 132, 7, 1, 167, 255, 179]
abbrev dktX0_share_5 : List UInt8 := dkwX0_share_5 ++ dktX0_share_6
def dkwX0_share_4 : List UInt8 := [21, 8, 184, 1, 189, 133, 21, 4, 4, 100, 21, 8, 100, 184, 1, 189, 133, 105, 42, 180, 0, 86, 21, 7]
abbrev dktX0_share_4 : List UInt8 := dkwX0_share_4 ++ dktX0_share_5
def dkwX0_share_3 : List UInt8 := [2, 130, 126, 154, 0, 62, 21, 7, 27, 184, 0, 126, 154, 0, 53, 21, 7, 184, 1, 179, 54, 8, 22, 5]
abbrev dktX0_share_3 : List UInt8 := dkwX0_share_3 ++ dktX0_share_4
def dkwX0_share_2 : List UInt8 := [20, 1, 184, 173, 42, 29, 182, 1, 186, 9, 55, 5, 3, 54, 7, 21, 7, 29, 163, 0, 77, 21, 7, 29]
abbrev dktX0_share_2 : List UInt8 := dkwX0_share_2 ++ dktX0_share_3
def dkwX0_share_1 : List UInt8 := [130, 126, 62, 29, 184, 1, 179, 54, 4, 29, 27, 184, 0, 126, 153, 0, 10, 21, 4, 16, 8, 164, 0, 7]
abbrev dktX0_share_1 : List UInt8 := dkwX0_share_1 ++ dktX0_share_2
def dkwX0_share_0 : List UInt8 := [42, 27, 182, 1, 34, 154, 0, 7, 20, 1, 73, 173, 42, 182, 0, 115, 42, 180, 0, 18, 180, 0, 119, 2]
abbrev dktX0_share_0 : List UInt8 := dkwX0_share_0 ++ dktX0_share_1
theorem dksX0_share_0 : cX0_share.data.toList.drop 0 = dktX0_share_0 := by decide +kernel
theorem dksX0_share_1 : cX0_share.data.toList.drop 24 = dktX0_share_1 := dk_seg dksX0_share_0 24 rfl rfl
theorem dksX0_share_2 : cX0_share.data.toList.drop 48 = dktX0_share_2 := dk_seg dksX0_share_1 24 rfl rfl
theorem dksX0_share_3 : cX0_share.data.toList.drop 72 = dktX0_share_3 := dk_seg dksX0_share_2 24 rfl rfl
theorem dksX0_share_4 : cX0_share.data.toList.drop 96 = dktX0_share_4 := dk_seg dksX0_share_3 24 rfl rfl
theorem dksX0_share_5 : cX0_share.data.toList.drop 120 = dktX0_share_5 := dk_seg dksX0_share_4 24 rfl rfl
theorem dksX0_share_6 : cX0_share.data.toList.drop 143 = dktX0_share_6 := dk_seg dksX0_share_5 23 rfl rfl
theorem dksX0_share_7 : cX0_share.data.toList.drop 165 = dktX0_share_7 := dk_seg dksX0_share_6 22 rfl rfl
theorem dX0_share_0 : decode cX0_share 0 = .ok (.aload_n 0, 1) := dk_42 (dk_at dksX0_share_0 0 rfl rfl)
theorem dX0_share_1 : decode cX0_share 1 = .ok (.iload_n 1, 1) := dk_27 (dk_at dksX0_share_0 1 rfl rfl)
theorem dX0_share_2 : decode cX0_share 2 = .ok (.invokevirtual 290, 3) := dk_182 1 34 (dk_at dksX0_share_0 2 rfl rfl)
theorem dX0_share_5 : decode cX0_share 5 = .ok (.ifCond .ne 7, 3) := dk_154 0 7 (dk_at dksX0_share_0 5 rfl rfl)
theorem dX0_share_8 : decode cX0_share 8 = .ok (.ldc2_w 329, 3) := dk_20 1 73 (dk_at dksX0_share_0 8 rfl rfl)
theorem dX0_share_11 : decode cX0_share 11 = .ok (.lreturn, 1) := dk_173 (dk_at dksX0_share_0 11 rfl rfl)
theorem dX0_share_12 : decode cX0_share 12 = .ok (.aload_n 0, 1) := dk_42 (dk_at dksX0_share_0 12 rfl rfl)
theorem dX0_share_13 : decode cX0_share 13 = .ok (.invokevirtual 115, 3) := dk_182 0 115 (dk_at dksX0_share_0 13 rfl rfl)
theorem dX0_share_16 : decode cX0_share 16 = .ok (.aload_n 0, 1) := dk_42 (dk_at dksX0_share_0 16 rfl rfl)
theorem dX0_share_17 : decode cX0_share 17 = .ok (.getfield 18, 3) := dk_180 0 18 (dk_at dksX0_share_0 17 rfl rfl)
theorem dX0_share_20 : decode cX0_share 20 = .ok (.getfield 119, 3) := dk_180 0 119 (dk_at dksX0_share_0 20 rfl rfl)
theorem dX0_share_23 : decode cX0_share 23 = .ok (.iconst (-1), 1) := dk_2 (dk_at dksX0_share_0 23 rfl rfl)
theorem dX0_share_24 : decode cX0_share 24 = .ok (.ixor, 1) := dk_130 (dk_at dksX0_share_1 0 rfl rfl)
theorem dX0_share_25 : decode cX0_share 25 = .ok (.iand, 1) := dk_126 (dk_at dksX0_share_1 1 rfl rfl)
theorem dX0_share_26 : decode cX0_share 26 = .ok (.istore_n 3, 1) := dk_62 (dk_at dksX0_share_1 2 rfl rfl)
theorem dX0_share_27 : decode cX0_share 27 = .ok (.iload_n 3, 1) := dk_29 (dk_at dksX0_share_1 3 rfl rfl)
theorem dX0_share_28 : decode cX0_share 28 = .ok (.invokestatic 435, 3) := dk_184 1 179 (dk_at dksX0_share_1 4 rfl rfl)
theorem dX0_share_31 : decode cX0_share 31 = .ok (.istore 4, 2) := dk_54 4 (dk_at dksX0_share_1 7 rfl rfl)
theorem dX0_share_33 : decode cX0_share 33 = .ok (.iload_n 3, 1) := dk_29 (dk_at dksX0_share_1 9 rfl rfl)
theorem dX0_share_34 : decode cX0_share 34 = .ok (.iload_n 1, 1) := dk_27 (dk_at dksX0_share_1 10 rfl rfl)
theorem dX0_share_35 : decode cX0_share 35 = .ok (.invokestatic 126, 3) := dk_184 0 126 (dk_at dksX0_share_1 11 rfl rfl)
theorem dX0_share_38 : decode cX0_share 38 = .ok (.ifCond .eq 10, 3) := dk_153 0 10 (dk_at dksX0_share_1 14 rfl rfl)
theorem dX0_share_41 : decode cX0_share 41 = .ok (.iload 4, 2) := dk_21 4 (dk_at dksX0_share_1 17 rfl rfl)
theorem dX0_share_43 : decode cX0_share 43 = .ok (.bipush 8, 2) := dk_16 8 (dk_at dksX0_share_1 19 rfl rfl)
theorem dX0_share_45 : decode cX0_share 45 = .ok (.if_icmp .le 7, 3) := dk_164 0 7 (dk_at dksX0_share_1 21 rfl rfl)
theorem dX0_share_48 : decode cX0_share 48 = .ok (.ldc2_w 440, 3) := dk_20 1 184 (dk_at dksX0_share_2 0 rfl rfl)
theorem dX0_share_51 : decode cX0_share 51 = .ok (.lreturn, 1) := dk_173 (dk_at dksX0_share_2 3 rfl rfl)
theorem dX0_share_52 : decode cX0_share 52 = .ok (.aload_n 0, 1) := dk_42 (dk_at dksX0_share_2 4 rfl rfl)
theorem dX0_share_53 : decode cX0_share 53 = .ok (.iload_n 3, 1) := dk_29 (dk_at dksX0_share_2 5 rfl rfl)
theorem dX0_share_54 : decode cX0_share 54 = .ok (.invokevirtual 442, 3) := dk_182 1 186 (dk_at dksX0_share_2 6 rfl rfl)
theorem dX0_share_57 : decode cX0_share 57 = .ok (.lconst 0, 1) := dk_9 (dk_at dksX0_share_2 9 rfl rfl)
theorem dX0_share_58 : decode cX0_share 58 = .ok (.lstore 5, 2) := dk_55 5 (dk_at dksX0_share_2 10 rfl rfl)
theorem dX0_share_60 : decode cX0_share 60 = .ok (.iconst 0, 1) := dk_3 (dk_at dksX0_share_2 12 rfl rfl)
theorem dX0_share_61 : decode cX0_share 61 = .ok (.istore 7, 2) := dk_54 7 (dk_at dksX0_share_2 13 rfl rfl)
theorem dX0_share_63 : decode cX0_share 63 = .ok (.iload 7, 2) := dk_21 7 (dk_at dksX0_share_2 15 rfl rfl)
theorem dX0_share_65 : decode cX0_share 65 = .ok (.iload_n 3, 1) := dk_29 (dk_at dksX0_share_2 17 rfl rfl)
theorem dX0_share_66 : decode cX0_share 66 = .ok (.if_icmp .gt 77, 3) := dk_163 0 77 (dk_at dksX0_share_2 18 rfl rfl)
theorem dX0_share_69 : decode cX0_share 69 = .ok (.iload 7, 2) := dk_21 7 (dk_at dksX0_share_2 21 rfl rfl)
theorem dX0_share_71 : decode cX0_share 71 = .ok (.iload_n 3, 1) := dk_29 (dk_at dksX0_share_2 23 rfl rfl)
theorem dX0_share_72 : decode cX0_share 72 = .ok (.iconst (-1), 1) := dk_2 (dk_at dksX0_share_3 0 rfl rfl)
theorem dX0_share_73 : decode cX0_share 73 = .ok (.ixor, 1) := dk_130 (dk_at dksX0_share_3 1 rfl rfl)
theorem dX0_share_74 : decode cX0_share 74 = .ok (.iand, 1) := dk_126 (dk_at dksX0_share_3 2 rfl rfl)
theorem dX0_share_75 : decode cX0_share 75 = .ok (.ifCond .ne 62, 3) := dk_154 0 62 (dk_at dksX0_share_3 3 rfl rfl)
theorem dX0_share_78 : decode cX0_share 78 = .ok (.iload 7, 2) := dk_21 7 (dk_at dksX0_share_3 6 rfl rfl)
theorem dX0_share_80 : decode cX0_share 80 = .ok (.iload_n 1, 1) := dk_27 (dk_at dksX0_share_3 8 rfl rfl)
theorem dX0_share_81 : decode cX0_share 81 = .ok (.invokestatic 126, 3) := dk_184 0 126 (dk_at dksX0_share_3 9 rfl rfl)
theorem dX0_share_84 : decode cX0_share 84 = .ok (.ifCond .ne 53, 3) := dk_154 0 53 (dk_at dksX0_share_3 12 rfl rfl)
theorem dX0_share_87 : decode cX0_share 87 = .ok (.iload 7, 2) := dk_21 7 (dk_at dksX0_share_3 15 rfl rfl)
theorem dX0_share_89 : decode cX0_share 89 = .ok (.invokestatic 435, 3) := dk_184 1 179 (dk_at dksX0_share_3 17 rfl rfl)
theorem dX0_share_92 : decode cX0_share 92 = .ok (.istore 8, 2) := dk_54 8 (dk_at dksX0_share_3 20 rfl rfl)
theorem dX0_share_94 : decode cX0_share 94 = .ok (.lload 5, 2) := dk_22 5 (dk_at dksX0_share_3 22 rfl rfl)
theorem dX0_share_96 : decode cX0_share 96 = .ok (.iload 8, 2) := dk_21 8 (dk_at dksX0_share_4 0 rfl rfl)
theorem dX0_share_98 : decode cX0_share 98 = .ok (.invokestatic 445, 3) := dk_184 1 189 (dk_at dksX0_share_4 2 rfl rfl)
theorem dX0_share_101 : decode cX0_share 101 = .ok (.i2l, 1) := dk_133 (dk_at dksX0_share_4 5 rfl rfl)
theorem dX0_share_102 : decode cX0_share 102 = .ok (.iload 4, 2) := dk_21 4 (dk_at dksX0_share_4 6 rfl rfl)
theorem dX0_share_104 : decode cX0_share 104 = .ok (.iconst 1, 1) := dk_4 (dk_at dksX0_share_4 8 rfl rfl)
theorem dX0_share_105 : decode cX0_share 105 = .ok (.isub, 1) := dk_100 (dk_at dksX0_share_4 9 rfl rfl)
theorem dX0_share_106 : decode cX0_share 106 = .ok (.iload 8, 2) := dk_21 8 (dk_at dksX0_share_4 10 rfl rfl)
theorem dX0_share_108 : decode cX0_share 108 = .ok (.isub, 1) := dk_100 (dk_at dksX0_share_4 12 rfl rfl)
theorem dX0_share_109 : decode cX0_share 109 = .ok (.invokestatic 445, 3) := dk_184 1 189 (dk_at dksX0_share_4 13 rfl rfl)
theorem dX0_share_112 : decode cX0_share 112 = .ok (.i2l, 1) := dk_133 (dk_at dksX0_share_4 16 rfl rfl)
theorem dX0_share_113 : decode cX0_share 113 = .ok (.lmul, 1) := dk_105 (dk_at dksX0_share_4 17 rfl rfl)
theorem dX0_share_114 : decode cX0_share 114 = .ok (.aload_n 0, 1) := dk_42 (dk_at dksX0_share_4 18 rfl rfl)
theorem dX0_share_115 : decode cX0_share 115 = .ok (.getfield 86, 3) := dk_180 0 86 (dk_at dksX0_share_4 19 rfl rfl)
theorem dX0_share_118 : decode cX0_share 118 = .ok (.iload 7, 2) := dk_21 7 (dk_at dksX0_share_4 22 rfl rfl)
theorem dX0_share_120 : decode cX0_share 120 = .ok (.iconst 1, 1) := dk_4 (dk_at dksX0_share_5 0 rfl rfl)
theorem dX0_share_121 : decode cX0_share 121 = .ok (.iload_n 1, 1) := dk_27 (dk_at dksX0_share_5 1 rfl rfl)
theorem dX0_share_122 : decode cX0_share 122 = .ok (.ishl, 1) := dk_120 (dk_at dksX0_share_5 2 rfl rfl)
theorem dX0_share_123 : decode cX0_share 123 = .ok (.ior, 1) := dk_128 (dk_at dksX0_share_5 3 rfl rfl)
theorem dX0_share_124 : decode cX0_share 124 = .ok (.laload, 1) := dk_47 (dk_at dksX0_share_5 4 rfl rfl)
theorem dX0_share_125 : decode cX0_share 125 = .ok (.aload_n 0, 1) := dk_42 (dk_at dksX0_share_5 5 rfl rfl)
theorem dX0_share_126 : decode cX0_share 126 = .ok (.getfield 86, 3) := dk_180 0 86 (dk_at dksX0_share_5 6 rfl rfl)
theorem dX0_share_129 : decode cX0_share 129 = .ok (.iload 7, 2) := dk_21 7 (dk_at dksX0_share_5 9 rfl rfl)
theorem dX0_share_131 : decode cX0_share 131 = .ok (.laload, 1) := dk_47 (dk_at dksX0_share_5 11 rfl rfl)
theorem dX0_share_132 : decode cX0_share 132 = .ok (.lsub, 1) := dk_101 (dk_at dksX0_share_5 12 rfl rfl)
theorem dX0_share_133 : decode cX0_share 133 = .ok (.lmul, 1) := dk_105 (dk_at dksX0_share_5 13 rfl rfl)
theorem dX0_share_134 : decode cX0_share 134 = .ok (.ladd, 1) := dk_97 (dk_at dksX0_share_5 14 rfl rfl)
theorem dX0_share_135 : decode cX0_share 135 = .ok (.lstore 5, 2) := dk_55 5 (dk_at dksX0_share_5 15 rfl rfl)
theorem dX0_share_137 : decode cX0_share 137 = .ok (.iinc 7 1, 3) := dk_132 7 1 (dk_at dksX0_share_5 17 rfl rfl)
theorem dX0_share_140 : decode cX0_share 140 = .ok (.goto (-77), 3) := dk_167 255 179 (dk_at dksX0_share_5 20 rfl rfl)
theorem dX0_share_143 : decode cX0_share 143 = .ok (.lload 5, 2) := dk_22 5 (dk_at dksX0_share_6 0 rfl rfl)
theorem dX0_share_145 : decode cX0_share 145 = .ok (.iload 4, 2) := dk_21 4 (dk_at dksX0_share_6 2 rfl rfl)
theorem dX0_share_147 : decode cX0_share 147 = .ok (.invokestatic 445, 3) := dk_184 1 189 (dk_at dksX0_share_6 4 rfl rfl)
theorem dX0_share_150 : decode cX0_share 150 = .ok (.i2l, 1) := dk_133 (dk_at dksX0_share_6 7 rfl rfl)
theorem dX0_share_151 : decode cX0_share 151 = .ok (.invokestatic 448, 3) := dk_184 1 192 (dk_at dksX0_share_6 8 rfl rfl)
theorem dX0_share_154 : decode cX0_share 154 = .ok (.lstore 7, 2) := dk_55 7 (dk_at dksX0_share_6 11 rfl rfl)
theorem dX0_share_156 : decode cX0_share 156 = .ok (.iload_n 2, 1) := dk_28 (dk_at dksX0_share_6 13 rfl rfl)
theorem dX0_share_157 : decode cX0_share 157 = .ok (.ifCond .eq 11, 3) := dk_153 0 11 (dk_at dksX0_share_6 14 rfl rfl)
theorem dX0_share_160 : decode cX0_share 160 = .ok (.lload 5, 2) := dk_22 5 (dk_at dksX0_share_6 17 rfl rfl)
theorem dX0_share_162 : decode cX0_share 162 = .ok (.lload 7, 2) := dk_22 7 (dk_at dksX0_share_6 19 rfl rfl)
theorem dX0_share_164 : decode cX0_share 164 = .ok (.ldiv, 1) := dk_109 (dk_at dksX0_share_6 21 rfl rfl)
theorem dX0_share_165 : decode cX0_share 165 = .ok (.goto 12, 3) := dk_167 0 12 (dk_at dksX0_share_7 0 rfl rfl)
theorem dX0_share_168 : decode cX0_share 168 = .ok (.iload 4, 2) := dk_21 4 (dk_at dksX0_share_7 3 rfl rfl)
theorem dX0_share_170 : decode cX0_share 170 = .ok (.invokestatic 445, 3) := dk_184 1 189 (dk_at dksX0_share_7 5 rfl rfl)
theorem dX0_share_173 : decode cX0_share 173 = .ok (.i2l, 1) := dk_133 (dk_at dksX0_share_7 8 rfl rfl)
theorem dX0_share_174 : decode cX0_share 174 = .ok (.lload 7, 2) := dk_22 7 (dk_at dksX0_share_7 9 rfl rfl)
theorem dX0_share_176 : decode cX0_share 176 = .ok (.ldiv, 1) := dk_109 (dk_at dksX0_share_7 11 rfl rfl)
theorem dX0_share_177 : decode cX0_share 177 = .ok (.lreturn, 1) := dk_173 (dk_at dksX0_share_7 12 rfl rfl)
abbrev cX0_layWorth : ByteArray := prog_1_method_81_code
def yX0_layWorth : MethodName := ⟨RX0, "layWorth", "(I)V"⟩
def dkwX0_layWorth_1 : List UInt8 := [42, 180, 0, 86, 28, 42, 182, 0, 181, 80, 132, 2, 1, 167, 255, 221, 177]
abbrev dktX0_layWorth_1 : List UInt8 := dkwX0_layWorth_1 ++ []
def dkwX0_layWorth_0 : List UInt8 := [3, 61, 28, 27, 163, 0, 36, 28, 27, 2, 130, 126, 154, 0, 22, 42, 42, 180, 0, 18, 28, 182, 0, 122]
abbrev dktX0_layWorth_0 : List UInt8 := dkwX0_layWorth_0 ++ dktX0_layWorth_1
theorem dksX0_layWorth_0 : cX0_layWorth.data.toList.drop 0 = dktX0_layWorth_0 := by decide +kernel
theorem dksX0_layWorth_1 : cX0_layWorth.data.toList.drop 24 = dktX0_layWorth_1 := dk_seg dksX0_layWorth_0 24 rfl rfl
theorem dX0_layWorth_0 : decode cX0_layWorth 0 = .ok (.iconst 0, 1) := dk_3 (dk_at dksX0_layWorth_0 0 rfl rfl)
theorem dX0_layWorth_1 : decode cX0_layWorth 1 = .ok (.istore_n 2, 1) := dk_61 (dk_at dksX0_layWorth_0 1 rfl rfl)
theorem dX0_layWorth_2 : decode cX0_layWorth 2 = .ok (.iload_n 2, 1) := dk_28 (dk_at dksX0_layWorth_0 2 rfl rfl)
theorem dX0_layWorth_3 : decode cX0_layWorth 3 = .ok (.iload_n 1, 1) := dk_27 (dk_at dksX0_layWorth_0 3 rfl rfl)
theorem dX0_layWorth_4 : decode cX0_layWorth 4 = .ok (.if_icmp .gt 36, 3) := dk_163 0 36 (dk_at dksX0_layWorth_0 4 rfl rfl)
theorem dX0_layWorth_7 : decode cX0_layWorth 7 = .ok (.iload_n 2, 1) := dk_28 (dk_at dksX0_layWorth_0 7 rfl rfl)
theorem dX0_layWorth_8 : decode cX0_layWorth 8 = .ok (.iload_n 1, 1) := dk_27 (dk_at dksX0_layWorth_0 8 rfl rfl)
theorem dX0_layWorth_9 : decode cX0_layWorth 9 = .ok (.iconst (-1), 1) := dk_2 (dk_at dksX0_layWorth_0 9 rfl rfl)
theorem dX0_layWorth_10 : decode cX0_layWorth 10 = .ok (.ixor, 1) := dk_130 (dk_at dksX0_layWorth_0 10 rfl rfl)
theorem dX0_layWorth_11 : decode cX0_layWorth 11 = .ok (.iand, 1) := dk_126 (dk_at dksX0_layWorth_0 11 rfl rfl)
theorem dX0_layWorth_12 : decode cX0_layWorth 12 = .ok (.ifCond .ne 22, 3) := dk_154 0 22 (dk_at dksX0_layWorth_0 12 rfl rfl)
theorem dX0_layWorth_15 : decode cX0_layWorth 15 = .ok (.aload_n 0, 1) := dk_42 (dk_at dksX0_layWorth_0 15 rfl rfl)
theorem dX0_layWorth_16 : decode cX0_layWorth 16 = .ok (.aload_n 0, 1) := dk_42 (dk_at dksX0_layWorth_0 16 rfl rfl)
theorem dX0_layWorth_17 : decode cX0_layWorth 17 = .ok (.getfield 18, 3) := dk_180 0 18 (dk_at dksX0_layWorth_0 17 rfl rfl)
theorem dX0_layWorth_20 : decode cX0_layWorth 20 = .ok (.iload_n 2, 1) := dk_28 (dk_at dksX0_layWorth_0 20 rfl rfl)
theorem dX0_layWorth_21 : decode cX0_layWorth 21 = .ok (.invokevirtual 122, 3) := dk_182 0 122 (dk_at dksX0_layWorth_0 21 rfl rfl)
theorem dX0_layWorth_24 : decode cX0_layWorth 24 = .ok (.aload_n 0, 1) := dk_42 (dk_at dksX0_layWorth_1 0 rfl rfl)
theorem dX0_layWorth_25 : decode cX0_layWorth 25 = .ok (.getfield 86, 3) := dk_180 0 86 (dk_at dksX0_layWorth_1 1 rfl rfl)
theorem dX0_layWorth_28 : decode cX0_layWorth 28 = .ok (.iload_n 2, 1) := dk_28 (dk_at dksX0_layWorth_1 4 rfl rfl)
theorem dX0_layWorth_29 : decode cX0_layWorth 29 = .ok (.aload_n 0, 1) := dk_42 (dk_at dksX0_layWorth_1 5 rfl rfl)
theorem dX0_layWorth_30 : decode cX0_layWorth 30 = .ok (.invokevirtual 181, 3) := dk_182 0 181 (dk_at dksX0_layWorth_1 6 rfl rfl)
theorem dX0_layWorth_33 : decode cX0_layWorth 33 = .ok (.lastore, 1) := dk_80 (dk_at dksX0_layWorth_1 9 rfl rfl)
theorem dX0_layWorth_34 : decode cX0_layWorth 34 = .ok (.iinc 2 1, 3) := dk_132 2 1 (dk_at dksX0_layWorth_1 10 rfl rfl)
theorem dX0_layWorth_37 : decode cX0_layWorth 37 = .ok (.goto (-35), 3) := dk_167 255 221 (dk_at dksX0_layWorth_1 13 rfl rfl)
theorem dX0_layWorth_40 : decode cX0_layWorth 40 = .ok (.return_, 1) := dk_177 (dk_at dksX0_layWorth_1 16 rfl rfl)
abbrev cX0_factorial : ByteArray := prog_1_method_80_code
def yX0_factorial : MethodName := ⟨RX0, "factorial", "(I)I"⟩
def dkwX0_factorial_0 : List UInt8 := [4, 60, 5, 61, 28, 26, 163, 0, 13, 27, 28, 104, 60, 132, 2, 1, 167, 255, 244, 27, 172]
abbrev dktX0_factorial_0 : List UInt8 := dkwX0_factorial_0 ++ []
theorem dksX0_factorial_0 : cX0_factorial.data.toList.drop 0 = dktX0_factorial_0 := by decide +kernel
theorem dX0_factorial_0 : decode cX0_factorial 0 = .ok (.iconst 1, 1) := dk_4 (dk_at dksX0_factorial_0 0 rfl rfl)
theorem dX0_factorial_1 : decode cX0_factorial 1 = .ok (.istore_n 1, 1) := dk_60 (dk_at dksX0_factorial_0 1 rfl rfl)
theorem dX0_factorial_2 : decode cX0_factorial 2 = .ok (.iconst 2, 1) := dk_5 (dk_at dksX0_factorial_0 2 rfl rfl)
theorem dX0_factorial_3 : decode cX0_factorial 3 = .ok (.istore_n 2, 1) := dk_61 (dk_at dksX0_factorial_0 3 rfl rfl)
theorem dX0_factorial_4 : decode cX0_factorial 4 = .ok (.iload_n 2, 1) := dk_28 (dk_at dksX0_factorial_0 4 rfl rfl)
theorem dX0_factorial_5 : decode cX0_factorial 5 = .ok (.iload_n 0, 1) := dk_26 (dk_at dksX0_factorial_0 5 rfl rfl)
theorem dX0_factorial_6 : decode cX0_factorial 6 = .ok (.if_icmp .gt 13, 3) := dk_163 0 13 (dk_at dksX0_factorial_0 6 rfl rfl)
theorem dX0_factorial_9 : decode cX0_factorial 9 = .ok (.iload_n 1, 1) := dk_27 (dk_at dksX0_factorial_0 9 rfl rfl)
theorem dX0_factorial_10 : decode cX0_factorial 10 = .ok (.iload_n 2, 1) := dk_28 (dk_at dksX0_factorial_0 10 rfl rfl)
theorem dX0_factorial_11 : decode cX0_factorial 11 = .ok (.imul, 1) := dk_104 (dk_at dksX0_factorial_0 11 rfl rfl)
theorem dX0_factorial_12 : decode cX0_factorial 12 = .ok (.istore_n 1, 1) := dk_60 (dk_at dksX0_factorial_0 12 rfl rfl)
theorem dX0_factorial_13 : decode cX0_factorial 13 = .ok (.iinc 2 1, 3) := dk_132 2 1 (dk_at dksX0_factorial_0 13 rfl rfl)
theorem dX0_factorial_16 : decode cX0_factorial 16 = .ok (.goto (-12), 3) := dk_167 255 244 (dk_at dksX0_factorial_0 16 rfl rfl)
theorem dX0_factorial_19 : decode cX0_factorial 19 = .ok (.iload_n 1, 1) := dk_27 (dk_at dksX0_factorial_0 19 rfl rfl)
theorem dX0_factorial_20 : decode cX0_factorial 20 = .ok (.ireturn, 1) := dk_172 (dk_at dksX0_factorial_0 20 rfl rfl)
abbrev cX0_common : ByteArray := prog_1_method_79_code
def yX0_common : MethodName := ⟨RX0, "common", "(JJ)J"⟩
def dkwX0_common_1 : List UInt8 := [22, 6, 55, 4, 22, 8, 55, 6, 167, 255, 234, 22, 4, 173]
abbrev dktX0_common_1 : List UInt8 := dkwX0_common_1 ++ []
def dkwX0_common_0 : List UInt8 := [30, 184, 1, 175, 55, 4, 32, 55, 6, 22, 6, 9, 148, 153, 0, 21, 22, 4, 22, 6, 113, 55, 8]
abbrev dktX0_common_0 : List UInt8 := dkwX0_common_0 ++ dktX0_common_1
theorem dksX0_common_0 : cX0_common.data.toList.drop 0 = dktX0_common_0 := by decide +kernel
theorem dksX0_common_1 : cX0_common.data.toList.drop 23 = dktX0_common_1 := dk_seg dksX0_common_0 23 rfl rfl
theorem dX0_common_0 : decode cX0_common 0 = .ok (.lload_n 0, 1) := dk_30 (dk_at dksX0_common_0 0 rfl rfl)
theorem dX0_common_1 : decode cX0_common 1 = .ok (.invokestatic 431, 3) := dk_184 1 175 (dk_at dksX0_common_0 1 rfl rfl)
theorem dX0_common_4 : decode cX0_common 4 = .ok (.lstore 4, 2) := dk_55 4 (dk_at dksX0_common_0 4 rfl rfl)
theorem dX0_common_6 : decode cX0_common 6 = .ok (.lload_n 2, 1) := dk_32 (dk_at dksX0_common_0 6 rfl rfl)
theorem dX0_common_7 : decode cX0_common 7 = .ok (.lstore 6, 2) := dk_55 6 (dk_at dksX0_common_0 7 rfl rfl)
theorem dX0_common_9 : decode cX0_common 9 = .ok (.lload 6, 2) := dk_22 6 (dk_at dksX0_common_0 9 rfl rfl)
theorem dX0_common_11 : decode cX0_common 11 = .ok (.lconst 0, 1) := dk_9 (dk_at dksX0_common_0 11 rfl rfl)
theorem dX0_common_12 : decode cX0_common 12 = .ok (.lcmp, 1) := dk_148 (dk_at dksX0_common_0 12 rfl rfl)
theorem dX0_common_13 : decode cX0_common 13 = .ok (.ifCond .eq 21, 3) := dk_153 0 21 (dk_at dksX0_common_0 13 rfl rfl)
theorem dX0_common_16 : decode cX0_common 16 = .ok (.lload 4, 2) := dk_22 4 (dk_at dksX0_common_0 16 rfl rfl)
theorem dX0_common_18 : decode cX0_common 18 = .ok (.lload 6, 2) := dk_22 6 (dk_at dksX0_common_0 18 rfl rfl)
theorem dX0_common_20 : decode cX0_common 20 = .ok (.lrem, 1) := dk_113 (dk_at dksX0_common_0 20 rfl rfl)
theorem dX0_common_21 : decode cX0_common 21 = .ok (.lstore 8, 2) := dk_55 8 (dk_at dksX0_common_0 21 rfl rfl)
theorem dX0_common_23 : decode cX0_common 23 = .ok (.lload 6, 2) := dk_22 6 (dk_at dksX0_common_1 0 rfl rfl)
theorem dX0_common_25 : decode cX0_common 25 = .ok (.lstore 4, 2) := dk_55 4 (dk_at dksX0_common_1 2 rfl rfl)
theorem dX0_common_27 : decode cX0_common 27 = .ok (.lload 8, 2) := dk_22 8 (dk_at dksX0_common_1 4 rfl rfl)
theorem dX0_common_29 : decode cX0_common 29 = .ok (.lstore 6, 2) := dk_55 6 (dk_at dksX0_common_1 6 rfl rfl)
theorem dX0_common_31 : decode cX0_common 31 = .ok (.goto (-22), 3) := dk_167 255 234 (dk_at dksX0_common_1 8 rfl rfl)
theorem dX0_common_34 : decode cX0_common 34 = .ok (.lload 4, 2) := dk_22 4 (dk_at dksX0_common_1 11 rfl rfl)
theorem dX0_common_36 : decode cX0_common 36 = .ok (.lreturn, 1) := dk_173 (dk_at dksX0_common_1 13 rfl rfl)
abbrev cX0_hope : ByteArray := prog_1_method_84_code
def yX0_hope : MethodName := ⟨RX0, "hope", "(IZ)I"⟩
def dkwX0_hope_7 : List UInt8 := [172]
abbrev dktX0_hope_7 : List UInt8 := dkwX0_hope_7 ++ []
def dkwX0_hope_6 : List UInt8 := [54, 6, 28, 153, 0, 11, 21, 5, 21, 6, 108, 167, 0, 13, 16, 10, 21, 4, 184, 1, 198, 21, 6, 108]
abbrev dktX0_hope_6 : List UInt8 := dkwX0_hope_6 ++ dktX0_hope_7
def dkwX0_hope_5 : List UInt8 := [54, 5, 132, 6, 1, 167, 255, 191, 21, 5, 133, 16, 10, 21, 4, 184, 1, 198, 133, 184, 1, 192, 136]
abbrev dktX0_hope_5 : List UInt8 := dkwX0_hope_5 ++ dktX0_hope_6
def dkwX0_hope_4 : List UInt8 := [16, 10, 27, 100, 21, 7, 184, 1, 198, 27, 21, 4, 21, 7, 100, 184, 1, 198, 104, 167, 0, 4, 3, 96]
abbrev dktX0_hope_4 : List UInt8 := dkwX0_hope_4 ++ dktX0_hope_5
def dkwX0_hope_3 : List UInt8 := [21, 5, 21, 6, 29, 2, 130, 126, 154, 0, 37, 42, 180, 0, 86, 21, 6, 47, 9, 148, 158, 0, 25]
abbrev dktX0_hope_3 : List UInt8 := dkwX0_hope_3 ++ dktX0_hope_4
def dkwX0_hope_2 : List UInt8 := [29, 182, 1, 186, 3, 54, 5, 3, 54, 6, 21, 6, 29, 163, 0, 65, 21, 6, 184, 1, 179, 54, 7]
abbrev dktX0_hope_2 : List UInt8 := dkwX0_hope_2 ++ dktX0_hope_3
def dkwX0_hope_1 : List UInt8 := [180, 0, 119, 2, 130, 126, 62, 29, 184, 1, 179, 54, 4, 21, 4, 16, 8, 164, 0, 6, 16, 253, 172, 42]
abbrev dktX0_hope_1 : List UInt8 := dkwX0_hope_1 ++ dktX0_hope_2
def dkwX0_hope_0 : List UInt8 := [27, 133, 9, 20, 1, 196, 184, 0, 190, 154, 0, 6, 16, 254, 172, 42, 182, 0, 115, 42, 180, 0, 18]
abbrev dktX0_hope_0 : List UInt8 := dkwX0_hope_0 ++ dktX0_hope_1
theorem dksX0_hope_0 : cX0_hope.data.toList.drop 0 = dktX0_hope_0 := by decide +kernel
theorem dksX0_hope_1 : cX0_hope.data.toList.drop 23 = dktX0_hope_1 := dk_seg dksX0_hope_0 23 rfl rfl
theorem dksX0_hope_2 : cX0_hope.data.toList.drop 47 = dktX0_hope_2 := dk_seg dksX0_hope_1 24 rfl rfl
theorem dksX0_hope_3 : cX0_hope.data.toList.drop 70 = dktX0_hope_3 := dk_seg dksX0_hope_2 23 rfl rfl
theorem dksX0_hope_4 : cX0_hope.data.toList.drop 93 = dktX0_hope_4 := dk_seg dksX0_hope_3 23 rfl rfl
theorem dksX0_hope_5 : cX0_hope.data.toList.drop 117 = dktX0_hope_5 := dk_seg dksX0_hope_4 24 rfl rfl
theorem dksX0_hope_6 : cX0_hope.data.toList.drop 140 = dktX0_hope_6 := dk_seg dksX0_hope_5 23 rfl rfl
theorem dksX0_hope_7 : cX0_hope.data.toList.drop 164 = dktX0_hope_7 := dk_seg dksX0_hope_6 24 rfl rfl
theorem dX0_hope_0 : decode cX0_hope 0 = .ok (.iload_n 1, 1) := dk_27 (dk_at dksX0_hope_0 0 rfl rfl)
theorem dX0_hope_1 : decode cX0_hope 1 = .ok (.i2l, 1) := dk_133 (dk_at dksX0_hope_0 1 rfl rfl)
theorem dX0_hope_2 : decode cX0_hope 2 = .ok (.lconst 0, 1) := dk_9 (dk_at dksX0_hope_0 2 rfl rfl)
theorem dX0_hope_3 : decode cX0_hope 3 = .ok (.ldc2_w 452, 3) := dk_20 1 196 (dk_at dksX0_hope_0 3 rfl rfl)
theorem dX0_hope_6 : decode cX0_hope 6 = .ok (.invokestatic 190, 3) := dk_184 0 190 (dk_at dksX0_hope_0 6 rfl rfl)
theorem dX0_hope_9 : decode cX0_hope 9 = .ok (.ifCond .ne 6, 3) := dk_154 0 6 (dk_at dksX0_hope_0 9 rfl rfl)
theorem dX0_hope_12 : decode cX0_hope 12 = .ok (.bipush (-2), 2) := dk_16 254 (dk_at dksX0_hope_0 12 rfl rfl)
theorem dX0_hope_14 : decode cX0_hope 14 = .ok (.ireturn, 1) := dk_172 (dk_at dksX0_hope_0 14 rfl rfl)
theorem dX0_hope_15 : decode cX0_hope 15 = .ok (.aload_n 0, 1) := dk_42 (dk_at dksX0_hope_0 15 rfl rfl)
theorem dX0_hope_16 : decode cX0_hope 16 = .ok (.invokevirtual 115, 3) := dk_182 0 115 (dk_at dksX0_hope_0 16 rfl rfl)
theorem dX0_hope_19 : decode cX0_hope 19 = .ok (.aload_n 0, 1) := dk_42 (dk_at dksX0_hope_0 19 rfl rfl)
theorem dX0_hope_20 : decode cX0_hope 20 = .ok (.getfield 18, 3) := dk_180 0 18 (dk_at dksX0_hope_0 20 rfl rfl)
theorem dX0_hope_23 : decode cX0_hope 23 = .ok (.getfield 119, 3) := dk_180 0 119 (dk_at dksX0_hope_1 0 rfl rfl)
theorem dX0_hope_26 : decode cX0_hope 26 = .ok (.iconst (-1), 1) := dk_2 (dk_at dksX0_hope_1 3 rfl rfl)
theorem dX0_hope_27 : decode cX0_hope 27 = .ok (.ixor, 1) := dk_130 (dk_at dksX0_hope_1 4 rfl rfl)
theorem dX0_hope_28 : decode cX0_hope 28 = .ok (.iand, 1) := dk_126 (dk_at dksX0_hope_1 5 rfl rfl)
theorem dX0_hope_29 : decode cX0_hope 29 = .ok (.istore_n 3, 1) := dk_62 (dk_at dksX0_hope_1 6 rfl rfl)
theorem dX0_hope_30 : decode cX0_hope 30 = .ok (.iload_n 3, 1) := dk_29 (dk_at dksX0_hope_1 7 rfl rfl)
theorem dX0_hope_31 : decode cX0_hope 31 = .ok (.invokestatic 435, 3) := dk_184 1 179 (dk_at dksX0_hope_1 8 rfl rfl)
theorem dX0_hope_34 : decode cX0_hope 34 = .ok (.istore 4, 2) := dk_54 4 (dk_at dksX0_hope_1 11 rfl rfl)
theorem dX0_hope_36 : decode cX0_hope 36 = .ok (.iload 4, 2) := dk_21 4 (dk_at dksX0_hope_1 13 rfl rfl)
theorem dX0_hope_38 : decode cX0_hope 38 = .ok (.bipush 8, 2) := dk_16 8 (dk_at dksX0_hope_1 15 rfl rfl)
theorem dX0_hope_40 : decode cX0_hope 40 = .ok (.if_icmp .le 6, 3) := dk_164 0 6 (dk_at dksX0_hope_1 17 rfl rfl)
theorem dX0_hope_43 : decode cX0_hope 43 = .ok (.bipush (-3), 2) := dk_16 253 (dk_at dksX0_hope_1 20 rfl rfl)
theorem dX0_hope_45 : decode cX0_hope 45 = .ok (.ireturn, 1) := dk_172 (dk_at dksX0_hope_1 22 rfl rfl)
theorem dX0_hope_46 : decode cX0_hope 46 = .ok (.aload_n 0, 1) := dk_42 (dk_at dksX0_hope_1 23 rfl rfl)
theorem dX0_hope_47 : decode cX0_hope 47 = .ok (.iload_n 3, 1) := dk_29 (dk_at dksX0_hope_2 0 rfl rfl)
theorem dX0_hope_48 : decode cX0_hope 48 = .ok (.invokevirtual 442, 3) := dk_182 1 186 (dk_at dksX0_hope_2 1 rfl rfl)
theorem dX0_hope_51 : decode cX0_hope 51 = .ok (.iconst 0, 1) := dk_3 (dk_at dksX0_hope_2 4 rfl rfl)
theorem dX0_hope_52 : decode cX0_hope 52 = .ok (.istore 5, 2) := dk_54 5 (dk_at dksX0_hope_2 5 rfl rfl)
theorem dX0_hope_54 : decode cX0_hope 54 = .ok (.iconst 0, 1) := dk_3 (dk_at dksX0_hope_2 7 rfl rfl)
theorem dX0_hope_55 : decode cX0_hope 55 = .ok (.istore 6, 2) := dk_54 6 (dk_at dksX0_hope_2 8 rfl rfl)
theorem dX0_hope_57 : decode cX0_hope 57 = .ok (.iload 6, 2) := dk_21 6 (dk_at dksX0_hope_2 10 rfl rfl)
theorem dX0_hope_59 : decode cX0_hope 59 = .ok (.iload_n 3, 1) := dk_29 (dk_at dksX0_hope_2 12 rfl rfl)
theorem dX0_hope_60 : decode cX0_hope 60 = .ok (.if_icmp .gt 65, 3) := dk_163 0 65 (dk_at dksX0_hope_2 13 rfl rfl)
theorem dX0_hope_63 : decode cX0_hope 63 = .ok (.iload 6, 2) := dk_21 6 (dk_at dksX0_hope_2 16 rfl rfl)
theorem dX0_hope_65 : decode cX0_hope 65 = .ok (.invokestatic 435, 3) := dk_184 1 179 (dk_at dksX0_hope_2 18 rfl rfl)
theorem dX0_hope_68 : decode cX0_hope 68 = .ok (.istore 7, 2) := dk_54 7 (dk_at dksX0_hope_2 21 rfl rfl)
theorem dX0_hope_70 : decode cX0_hope 70 = .ok (.iload 5, 2) := dk_21 5 (dk_at dksX0_hope_3 0 rfl rfl)
theorem dX0_hope_72 : decode cX0_hope 72 = .ok (.iload 6, 2) := dk_21 6 (dk_at dksX0_hope_3 2 rfl rfl)
theorem dX0_hope_74 : decode cX0_hope 74 = .ok (.iload_n 3, 1) := dk_29 (dk_at dksX0_hope_3 4 rfl rfl)
theorem dX0_hope_75 : decode cX0_hope 75 = .ok (.iconst (-1), 1) := dk_2 (dk_at dksX0_hope_3 5 rfl rfl)
theorem dX0_hope_76 : decode cX0_hope 76 = .ok (.ixor, 1) := dk_130 (dk_at dksX0_hope_3 6 rfl rfl)
theorem dX0_hope_77 : decode cX0_hope 77 = .ok (.iand, 1) := dk_126 (dk_at dksX0_hope_3 7 rfl rfl)
theorem dX0_hope_78 : decode cX0_hope 78 = .ok (.ifCond .ne 37, 3) := dk_154 0 37 (dk_at dksX0_hope_3 8 rfl rfl)
theorem dX0_hope_81 : decode cX0_hope 81 = .ok (.aload_n 0, 1) := dk_42 (dk_at dksX0_hope_3 11 rfl rfl)
theorem dX0_hope_82 : decode cX0_hope 82 = .ok (.getfield 86, 3) := dk_180 0 86 (dk_at dksX0_hope_3 12 rfl rfl)
theorem dX0_hope_85 : decode cX0_hope 85 = .ok (.iload 6, 2) := dk_21 6 (dk_at dksX0_hope_3 15 rfl rfl)
theorem dX0_hope_87 : decode cX0_hope 87 = .ok (.laload, 1) := dk_47 (dk_at dksX0_hope_3 17 rfl rfl)
theorem dX0_hope_88 : decode cX0_hope 88 = .ok (.lconst 0, 1) := dk_9 (dk_at dksX0_hope_3 18 rfl rfl)
theorem dX0_hope_89 : decode cX0_hope 89 = .ok (.lcmp, 1) := dk_148 (dk_at dksX0_hope_3 19 rfl rfl)
theorem dX0_hope_90 : decode cX0_hope 90 = .ok (.ifCond .le 25, 3) := dk_158 0 25 (dk_at dksX0_hope_3 20 rfl rfl)
theorem dX0_hope_93 : decode cX0_hope 93 = .ok (.bipush 10, 2) := dk_16 10 (dk_at dksX0_hope_4 0 rfl rfl)
theorem dX0_hope_95 : decode cX0_hope 95 = .ok (.iload_n 1, 1) := dk_27 (dk_at dksX0_hope_4 2 rfl rfl)
theorem dX0_hope_96 : decode cX0_hope 96 = .ok (.isub, 1) := dk_100 (dk_at dksX0_hope_4 3 rfl rfl)
theorem dX0_hope_97 : decode cX0_hope 97 = .ok (.iload 7, 2) := dk_21 7 (dk_at dksX0_hope_4 4 rfl rfl)
theorem dX0_hope_99 : decode cX0_hope 99 = .ok (.invokestatic 454, 3) := dk_184 1 198 (dk_at dksX0_hope_4 6 rfl rfl)
theorem dX0_hope_102 : decode cX0_hope 102 = .ok (.iload_n 1, 1) := dk_27 (dk_at dksX0_hope_4 9 rfl rfl)
theorem dX0_hope_103 : decode cX0_hope 103 = .ok (.iload 4, 2) := dk_21 4 (dk_at dksX0_hope_4 10 rfl rfl)
theorem dX0_hope_105 : decode cX0_hope 105 = .ok (.iload 7, 2) := dk_21 7 (dk_at dksX0_hope_4 12 rfl rfl)
theorem dX0_hope_107 : decode cX0_hope 107 = .ok (.isub, 1) := dk_100 (dk_at dksX0_hope_4 14 rfl rfl)
theorem dX0_hope_108 : decode cX0_hope 108 = .ok (.invokestatic 454, 3) := dk_184 1 198 (dk_at dksX0_hope_4 15 rfl rfl)
theorem dX0_hope_111 : decode cX0_hope 111 = .ok (.imul, 1) := dk_104 (dk_at dksX0_hope_4 18 rfl rfl)
theorem dX0_hope_112 : decode cX0_hope 112 = .ok (.goto 4, 3) := dk_167 0 4 (dk_at dksX0_hope_4 19 rfl rfl)
theorem dX0_hope_115 : decode cX0_hope 115 = .ok (.iconst 0, 1) := dk_3 (dk_at dksX0_hope_4 22 rfl rfl)
theorem dX0_hope_116 : decode cX0_hope 116 = .ok (.iadd, 1) := dk_96 (dk_at dksX0_hope_4 23 rfl rfl)
theorem dX0_hope_117 : decode cX0_hope 117 = .ok (.istore 5, 2) := dk_54 5 (dk_at dksX0_hope_5 0 rfl rfl)
theorem dX0_hope_119 : decode cX0_hope 119 = .ok (.iinc 6 1, 3) := dk_132 6 1 (dk_at dksX0_hope_5 2 rfl rfl)
theorem dX0_hope_122 : decode cX0_hope 122 = .ok (.goto (-65), 3) := dk_167 255 191 (dk_at dksX0_hope_5 5 rfl rfl)
theorem dX0_hope_125 : decode cX0_hope 125 = .ok (.iload 5, 2) := dk_21 5 (dk_at dksX0_hope_5 8 rfl rfl)
theorem dX0_hope_127 : decode cX0_hope 127 = .ok (.i2l, 1) := dk_133 (dk_at dksX0_hope_5 10 rfl rfl)
theorem dX0_hope_128 : decode cX0_hope 128 = .ok (.bipush 10, 2) := dk_16 10 (dk_at dksX0_hope_5 11 rfl rfl)
theorem dX0_hope_130 : decode cX0_hope 130 = .ok (.iload 4, 2) := dk_21 4 (dk_at dksX0_hope_5 13 rfl rfl)
theorem dX0_hope_132 : decode cX0_hope 132 = .ok (.invokestatic 454, 3) := dk_184 1 198 (dk_at dksX0_hope_5 15 rfl rfl)
theorem dX0_hope_135 : decode cX0_hope 135 = .ok (.i2l, 1) := dk_133 (dk_at dksX0_hope_5 18 rfl rfl)
theorem dX0_hope_136 : decode cX0_hope 136 = .ok (.invokestatic 448, 3) := dk_184 1 192 (dk_at dksX0_hope_5 19 rfl rfl)
theorem dX0_hope_139 : decode cX0_hope 139 = .ok (.l2i, 1) := dk_136 (dk_at dksX0_hope_5 22 rfl rfl)
theorem dX0_hope_140 : decode cX0_hope 140 = .ok (.istore 6, 2) := dk_54 6 (dk_at dksX0_hope_6 0 rfl rfl)
theorem dX0_hope_142 : decode cX0_hope 142 = .ok (.iload_n 2, 1) := dk_28 (dk_at dksX0_hope_6 2 rfl rfl)
theorem dX0_hope_143 : decode cX0_hope 143 = .ok (.ifCond .eq 11, 3) := dk_153 0 11 (dk_at dksX0_hope_6 3 rfl rfl)
theorem dX0_hope_146 : decode cX0_hope 146 = .ok (.iload 5, 2) := dk_21 5 (dk_at dksX0_hope_6 6 rfl rfl)
theorem dX0_hope_148 : decode cX0_hope 148 = .ok (.iload 6, 2) := dk_21 6 (dk_at dksX0_hope_6 8 rfl rfl)
theorem dX0_hope_150 : decode cX0_hope 150 = .ok (.idiv, 1) := dk_108 (dk_at dksX0_hope_6 10 rfl rfl)
theorem dX0_hope_151 : decode cX0_hope 151 = .ok (.goto 13, 3) := dk_167 0 13 (dk_at dksX0_hope_6 11 rfl rfl)
theorem dX0_hope_154 : decode cX0_hope 154 = .ok (.bipush 10, 2) := dk_16 10 (dk_at dksX0_hope_6 14 rfl rfl)
theorem dX0_hope_156 : decode cX0_hope 156 = .ok (.iload 4, 2) := dk_21 4 (dk_at dksX0_hope_6 16 rfl rfl)
theorem dX0_hope_158 : decode cX0_hope 158 = .ok (.invokestatic 454, 3) := dk_184 1 198 (dk_at dksX0_hope_6 18 rfl rfl)
theorem dX0_hope_161 : decode cX0_hope 161 = .ok (.iload 6, 2) := dk_21 6 (dk_at dksX0_hope_6 21 rfl rfl)
theorem dX0_hope_163 : decode cX0_hope 163 = .ok (.idiv, 1) := dk_108 (dk_at dksX0_hope_6 23 rfl rfl)
theorem dX0_hope_164 : decode cX0_hope 164 = .ok (.ireturn, 1) := dk_172 (dk_at dksX0_hope_7 0 rfl rfl)
abbrev cX0_whole : ByteArray := prog_1_method_83_code
def yX0_whole : MethodName := ⟨RX0, "whole", "(II)I"⟩
def dkwX0_whole_0 : List UInt8 := [4, 61, 3, 62, 29, 27, 162, 0, 13, 28, 26, 104, 61, 132, 3, 1, 167, 255, 244, 28, 172]
abbrev dktX0_whole_0 : List UInt8 := dkwX0_whole_0 ++ []
theorem dksX0_whole_0 : cX0_whole.data.toList.drop 0 = dktX0_whole_0 := by decide +kernel
theorem dX0_whole_0 : decode cX0_whole 0 = .ok (.iconst 1, 1) := dk_4 (dk_at dksX0_whole_0 0 rfl rfl)
theorem dX0_whole_1 : decode cX0_whole 1 = .ok (.istore_n 2, 1) := dk_61 (dk_at dksX0_whole_0 1 rfl rfl)
theorem dX0_whole_2 : decode cX0_whole 2 = .ok (.iconst 0, 1) := dk_3 (dk_at dksX0_whole_0 2 rfl rfl)
theorem dX0_whole_3 : decode cX0_whole 3 = .ok (.istore_n 3, 1) := dk_62 (dk_at dksX0_whole_0 3 rfl rfl)
theorem dX0_whole_4 : decode cX0_whole 4 = .ok (.iload_n 3, 1) := dk_29 (dk_at dksX0_whole_0 4 rfl rfl)
theorem dX0_whole_5 : decode cX0_whole 5 = .ok (.iload_n 1, 1) := dk_27 (dk_at dksX0_whole_0 5 rfl rfl)
theorem dX0_whole_6 : decode cX0_whole 6 = .ok (.if_icmp .ge 13, 3) := dk_162 0 13 (dk_at dksX0_whole_0 6 rfl rfl)
theorem dX0_whole_9 : decode cX0_whole 9 = .ok (.iload_n 2, 1) := dk_28 (dk_at dksX0_whole_0 9 rfl rfl)
theorem dX0_whole_10 : decode cX0_whole 10 = .ok (.iload_n 0, 1) := dk_26 (dk_at dksX0_whole_0 10 rfl rfl)
theorem dX0_whole_11 : decode cX0_whole 11 = .ok (.imul, 1) := dk_104 (dk_at dksX0_whole_0 11 rfl rfl)
theorem dX0_whole_12 : decode cX0_whole 12 = .ok (.istore_n 2, 1) := dk_61 (dk_at dksX0_whole_0 12 rfl rfl)
theorem dX0_whole_13 : decode cX0_whole 13 = .ok (.iinc 3 1, 3) := dk_132 3 1 (dk_at dksX0_whole_0 13 rfl rfl)
theorem dX0_whole_16 : decode cX0_whole 16 = .ok (.goto (-12), 3) := dk_167 255 244 (dk_at dksX0_whole_0 16 rfl rfl)
theorem dX0_whole_19 : decode cX0_whole 19 = .ok (.iload_n 2, 1) := dk_28 (dk_at dksX0_whole_0 19 rfl rfl)
theorem dX0_whole_20 : decode cX0_whole 20 = .ok (.ireturn, 1) := dk_172 (dk_at dksX0_whole_0 20 rfl rfl)
abbrev cX0_seed : ByteArray := prog_1_method_85_code
def yX0_seed : MethodName := ⟨RX0, "seed", "(J)J"⟩
def dkwX0_seed_0 : List UInt8 := [42, 180, 1, 201, 66, 42, 31, 181, 1, 201, 33, 173]
abbrev dktX0_seed_0 : List UInt8 := dkwX0_seed_0 ++ []
theorem dksX0_seed_0 : cX0_seed.data.toList.drop 0 = dktX0_seed_0 := by decide +kernel
theorem dX0_seed_0 : decode cX0_seed 0 = .ok (.aload_n 0, 1) := dk_42 (dk_at dksX0_seed_0 0 rfl rfl)
theorem dX0_seed_1 : decode cX0_seed 1 = .ok (.getfield 457, 3) := dk_180 1 201 (dk_at dksX0_seed_0 1 rfl rfl)
theorem dX0_seed_4 : decode cX0_seed 4 = .ok (.lstore_n 3, 1) := dk_66 (dk_at dksX0_seed_0 4 rfl rfl)
theorem dX0_seed_5 : decode cX0_seed 5 = .ok (.aload_n 0, 1) := dk_42 (dk_at dksX0_seed_0 5 rfl rfl)
theorem dX0_seed_6 : decode cX0_seed 6 = .ok (.lload_n 1, 1) := dk_31 (dk_at dksX0_seed_0 6 rfl rfl)
theorem dX0_seed_7 : decode cX0_seed 7 = .ok (.putfield 457, 3) := dk_181 1 201 (dk_at dksX0_seed_0 7 rfl rfl)
theorem dX0_seed_10 : decode cX0_seed 10 = .ok (.lload_n 3, 1) := dk_33 (dk_at dksX0_seed_0 10 rfl rfl)
theorem dX0_seed_11 : decode cX0_seed 11 = .ok (.lreturn, 1) := dk_173 (dk_at dksX0_seed_0 11 rfl rfl)
abbrev cX0_drawn : ByteArray := prog_1_method_86_code
def yX0_drawn : MethodName := ⟨RX0, "drawn", "(I)I"⟩
def dkwX0_drawn_3 : List UInt8 := [32, 113, 182, 1, 80, 96, 54, 4, 132, 5, 1, 167, 255, 203, 21, 4, 172]
abbrev dktX0_drawn_3 : List UInt8 := dkwX0_drawn_3 ++ []
def dkwX0_drawn_2 : List UInt8 := [97, 181, 1, 201, 21, 4, 32, 9, 148, 154, 0, 7, 3, 167, 0, 16, 42, 42, 180, 1, 201, 16, 33, 125]
abbrev dktX0_drawn_2 : List UInt8 := dkwX0_drawn_2 ++ dktX0_drawn_3
def dkwX0_drawn_1 : List UInt8 := [3, 54, 4, 3, 54, 5, 21, 5, 27, 162, 0, 53, 42, 42, 180, 1, 201, 20, 1, 207, 105, 20, 1, 209]
abbrev dktX0_drawn_1 : List UInt8 := dkwX0_drawn_1 ++ dktX0_drawn_2
def dkwX0_drawn_0 : List UInt8 := [27, 133, 10, 20, 1, 205, 184, 0, 190, 154, 0, 6, 16, 254, 172, 42, 182, 1, 9, 42, 182, 0, 181, 65]
abbrev dktX0_drawn_0 : List UInt8 := dkwX0_drawn_0 ++ dktX0_drawn_1
theorem dksX0_drawn_0 : cX0_drawn.data.toList.drop 0 = dktX0_drawn_0 := by decide +kernel
theorem dksX0_drawn_1 : cX0_drawn.data.toList.drop 24 = dktX0_drawn_1 := dk_seg dksX0_drawn_0 24 rfl rfl
theorem dksX0_drawn_2 : cX0_drawn.data.toList.drop 48 = dktX0_drawn_2 := dk_seg dksX0_drawn_1 24 rfl rfl
theorem dksX0_drawn_3 : cX0_drawn.data.toList.drop 72 = dktX0_drawn_3 := dk_seg dksX0_drawn_2 24 rfl rfl
theorem dX0_drawn_0 : decode cX0_drawn 0 = .ok (.iload_n 1, 1) := dk_27 (dk_at dksX0_drawn_0 0 rfl rfl)
theorem dX0_drawn_1 : decode cX0_drawn 1 = .ok (.i2l, 1) := dk_133 (dk_at dksX0_drawn_0 1 rfl rfl)
theorem dX0_drawn_2 : decode cX0_drawn 2 = .ok (.lconst 1, 1) := dk_10 (dk_at dksX0_drawn_0 2 rfl rfl)
theorem dX0_drawn_3 : decode cX0_drawn 3 = .ok (.ldc2_w 461, 3) := dk_20 1 205 (dk_at dksX0_drawn_0 3 rfl rfl)
theorem dX0_drawn_6 : decode cX0_drawn 6 = .ok (.invokestatic 190, 3) := dk_184 0 190 (dk_at dksX0_drawn_0 6 rfl rfl)
theorem dX0_drawn_9 : decode cX0_drawn 9 = .ok (.ifCond .ne 6, 3) := dk_154 0 6 (dk_at dksX0_drawn_0 9 rfl rfl)
theorem dX0_drawn_12 : decode cX0_drawn 12 = .ok (.bipush (-2), 2) := dk_16 254 (dk_at dksX0_drawn_0 12 rfl rfl)
theorem dX0_drawn_14 : decode cX0_drawn 14 = .ok (.ireturn, 1) := dk_172 (dk_at dksX0_drawn_0 14 rfl rfl)
theorem dX0_drawn_15 : decode cX0_drawn 15 = .ok (.aload_n 0, 1) := dk_42 (dk_at dksX0_drawn_0 15 rfl rfl)
theorem dX0_drawn_16 : decode cX0_drawn 16 = .ok (.invokevirtual 265, 3) := dk_182 1 9 (dk_at dksX0_drawn_0 16 rfl rfl)
theorem dX0_drawn_19 : decode cX0_drawn 19 = .ok (.aload_n 0, 1) := dk_42 (dk_at dksX0_drawn_0 19 rfl rfl)
theorem dX0_drawn_20 : decode cX0_drawn 20 = .ok (.invokevirtual 181, 3) := dk_182 0 181 (dk_at dksX0_drawn_0 20 rfl rfl)
theorem dX0_drawn_23 : decode cX0_drawn 23 = .ok (.lstore_n 2, 1) := dk_65 (dk_at dksX0_drawn_0 23 rfl rfl)
theorem dX0_drawn_24 : decode cX0_drawn 24 = .ok (.iconst 0, 1) := dk_3 (dk_at dksX0_drawn_1 0 rfl rfl)
theorem dX0_drawn_25 : decode cX0_drawn 25 = .ok (.istore 4, 2) := dk_54 4 (dk_at dksX0_drawn_1 1 rfl rfl)
theorem dX0_drawn_27 : decode cX0_drawn 27 = .ok (.iconst 0, 1) := dk_3 (dk_at dksX0_drawn_1 3 rfl rfl)
theorem dX0_drawn_28 : decode cX0_drawn 28 = .ok (.istore 5, 2) := dk_54 5 (dk_at dksX0_drawn_1 4 rfl rfl)
theorem dX0_drawn_30 : decode cX0_drawn 30 = .ok (.iload 5, 2) := dk_21 5 (dk_at dksX0_drawn_1 6 rfl rfl)
theorem dX0_drawn_32 : decode cX0_drawn 32 = .ok (.iload_n 1, 1) := dk_27 (dk_at dksX0_drawn_1 8 rfl rfl)
theorem dX0_drawn_33 : decode cX0_drawn 33 = .ok (.if_icmp .ge 53, 3) := dk_162 0 53 (dk_at dksX0_drawn_1 9 rfl rfl)
theorem dX0_drawn_36 : decode cX0_drawn 36 = .ok (.aload_n 0, 1) := dk_42 (dk_at dksX0_drawn_1 12 rfl rfl)
theorem dX0_drawn_37 : decode cX0_drawn 37 = .ok (.aload_n 0, 1) := dk_42 (dk_at dksX0_drawn_1 13 rfl rfl)
theorem dX0_drawn_38 : decode cX0_drawn 38 = .ok (.getfield 457, 3) := dk_180 1 201 (dk_at dksX0_drawn_1 14 rfl rfl)
theorem dX0_drawn_41 : decode cX0_drawn 41 = .ok (.ldc2_w 463, 3) := dk_20 1 207 (dk_at dksX0_drawn_1 17 rfl rfl)
theorem dX0_drawn_44 : decode cX0_drawn 44 = .ok (.lmul, 1) := dk_105 (dk_at dksX0_drawn_1 20 rfl rfl)
theorem dX0_drawn_45 : decode cX0_drawn 45 = .ok (.ldc2_w 465, 3) := dk_20 1 209 (dk_at dksX0_drawn_1 21 rfl rfl)
theorem dX0_drawn_48 : decode cX0_drawn 48 = .ok (.ladd, 1) := dk_97 (dk_at dksX0_drawn_2 0 rfl rfl)
theorem dX0_drawn_49 : decode cX0_drawn 49 = .ok (.putfield 457, 3) := dk_181 1 201 (dk_at dksX0_drawn_2 1 rfl rfl)
theorem dX0_drawn_52 : decode cX0_drawn 52 = .ok (.iload 4, 2) := dk_21 4 (dk_at dksX0_drawn_2 4 rfl rfl)
theorem dX0_drawn_54 : decode cX0_drawn 54 = .ok (.lload_n 2, 1) := dk_32 (dk_at dksX0_drawn_2 6 rfl rfl)
theorem dX0_drawn_55 : decode cX0_drawn 55 = .ok (.lconst 0, 1) := dk_9 (dk_at dksX0_drawn_2 7 rfl rfl)
theorem dX0_drawn_56 : decode cX0_drawn 56 = .ok (.lcmp, 1) := dk_148 (dk_at dksX0_drawn_2 8 rfl rfl)
theorem dX0_drawn_57 : decode cX0_drawn 57 = .ok (.ifCond .ne 7, 3) := dk_154 0 7 (dk_at dksX0_drawn_2 9 rfl rfl)
theorem dX0_drawn_60 : decode cX0_drawn 60 = .ok (.iconst 0, 1) := dk_3 (dk_at dksX0_drawn_2 12 rfl rfl)
theorem dX0_drawn_61 : decode cX0_drawn 61 = .ok (.goto 16, 3) := dk_167 0 16 (dk_at dksX0_drawn_2 13 rfl rfl)
theorem dX0_drawn_64 : decode cX0_drawn 64 = .ok (.aload_n 0, 1) := dk_42 (dk_at dksX0_drawn_2 16 rfl rfl)
theorem dX0_drawn_65 : decode cX0_drawn 65 = .ok (.aload_n 0, 1) := dk_42 (dk_at dksX0_drawn_2 17 rfl rfl)
theorem dX0_drawn_66 : decode cX0_drawn 66 = .ok (.getfield 457, 3) := dk_180 1 201 (dk_at dksX0_drawn_2 18 rfl rfl)
theorem dX0_drawn_69 : decode cX0_drawn 69 = .ok (.bipush 33, 2) := dk_16 33 (dk_at dksX0_drawn_2 21 rfl rfl)
theorem dX0_drawn_71 : decode cX0_drawn 71 = .ok (.lushr, 1) := dk_125 (dk_at dksX0_drawn_2 23 rfl rfl)
theorem dX0_drawn_72 : decode cX0_drawn 72 = .ok (.lload_n 2, 1) := dk_32 (dk_at dksX0_drawn_3 0 rfl rfl)
theorem dX0_drawn_73 : decode cX0_drawn 73 = .ok (.lrem, 1) := dk_113 (dk_at dksX0_drawn_3 1 rfl rfl)
theorem dX0_drawn_74 : decode cX0_drawn 74 = .ok (.invokevirtual 336, 3) := dk_182 1 80 (dk_at dksX0_drawn_3 2 rfl rfl)
theorem dX0_drawn_77 : decode cX0_drawn 77 = .ok (.iadd, 1) := dk_96 (dk_at dksX0_drawn_3 5 rfl rfl)
theorem dX0_drawn_78 : decode cX0_drawn 78 = .ok (.istore 4, 2) := dk_54 4 (dk_at dksX0_drawn_3 6 rfl rfl)
theorem dX0_drawn_80 : decode cX0_drawn 80 = .ok (.iinc 5 1, 3) := dk_132 5 1 (dk_at dksX0_drawn_3 8 rfl rfl)
theorem dX0_drawn_83 : decode cX0_drawn 83 = .ok (.goto (-53), 3) := dk_167 255 203 (dk_at dksX0_drawn_3 11 rfl rfl)
theorem dX0_drawn_86 : decode cX0_drawn 86 = .ok (.iload 4, 2) := dk_21 4 (dk_at dksX0_drawn_3 14 rfl rfl)
theorem dX0_drawn_88 : decode cX0_drawn 88 = .ok (.ireturn, 1) := dk_172 (dk_at dksX0_drawn_3 16 rfl rfl)
abbrev cX0_keep : ByteArray := prog_1_method_87_code
def yX0_keep : MethodName := ⟨RX0, "keep", "(I)I"⟩
def dkwX0_keep_1 : List UInt8 := [50, 42, 180, 0, 18, 182, 0, 238, 42, 180, 0, 109, 172]
abbrev dktX0_keep_1 : List UInt8 := dkwX0_keep_1 ++ []
def dkwX0_keep_0 : List UInt8 := [27, 133, 9, 10, 184, 0, 190, 154, 0, 5, 2, 172, 42, 180, 0, 89, 27, 4, 84, 42, 180, 0, 93, 27]
abbrev dktX0_keep_0 : List UInt8 := dkwX0_keep_0 ++ dktX0_keep_1
theorem dksX0_keep_0 : cX0_keep.data.toList.drop 0 = dktX0_keep_0 := by decide +kernel
theorem dksX0_keep_1 : cX0_keep.data.toList.drop 24 = dktX0_keep_1 := dk_seg dksX0_keep_0 24 rfl rfl
theorem dX0_keep_0 : decode cX0_keep 0 = .ok (.iload_n 1, 1) := dk_27 (dk_at dksX0_keep_0 0 rfl rfl)
theorem dX0_keep_1 : decode cX0_keep 1 = .ok (.i2l, 1) := dk_133 (dk_at dksX0_keep_0 1 rfl rfl)
theorem dX0_keep_2 : decode cX0_keep 2 = .ok (.lconst 0, 1) := dk_9 (dk_at dksX0_keep_0 2 rfl rfl)
theorem dX0_keep_3 : decode cX0_keep 3 = .ok (.lconst 1, 1) := dk_10 (dk_at dksX0_keep_0 3 rfl rfl)
theorem dX0_keep_4 : decode cX0_keep 4 = .ok (.invokestatic 190, 3) := dk_184 0 190 (dk_at dksX0_keep_0 4 rfl rfl)
theorem dX0_keep_7 : decode cX0_keep 7 = .ok (.ifCond .ne 5, 3) := dk_154 0 5 (dk_at dksX0_keep_0 7 rfl rfl)
theorem dX0_keep_10 : decode cX0_keep 10 = .ok (.iconst (-1), 1) := dk_2 (dk_at dksX0_keep_0 10 rfl rfl)
theorem dX0_keep_11 : decode cX0_keep 11 = .ok (.ireturn, 1) := dk_172 (dk_at dksX0_keep_0 11 rfl rfl)
theorem dX0_keep_12 : decode cX0_keep 12 = .ok (.aload_n 0, 1) := dk_42 (dk_at dksX0_keep_0 12 rfl rfl)
theorem dX0_keep_13 : decode cX0_keep 13 = .ok (.getfield 89, 3) := dk_180 0 89 (dk_at dksX0_keep_0 13 rfl rfl)
theorem dX0_keep_16 : decode cX0_keep 16 = .ok (.iload_n 1, 1) := dk_27 (dk_at dksX0_keep_0 16 rfl rfl)
theorem dX0_keep_17 : decode cX0_keep 17 = .ok (.iconst 1, 1) := dk_4 (dk_at dksX0_keep_0 17 rfl rfl)
theorem dX0_keep_18 : decode cX0_keep 18 = .ok (.bastore, 1) := dk_84 (dk_at dksX0_keep_0 18 rfl rfl)
theorem dX0_keep_19 : decode cX0_keep 19 = .ok (.aload_n 0, 1) := dk_42 (dk_at dksX0_keep_0 19 rfl rfl)
theorem dX0_keep_20 : decode cX0_keep 20 = .ok (.getfield 93, 3) := dk_180 0 93 (dk_at dksX0_keep_0 20 rfl rfl)
theorem dX0_keep_23 : decode cX0_keep 23 = .ok (.iload_n 1, 1) := dk_27 (dk_at dksX0_keep_0 23 rfl rfl)
theorem dX0_keep_24 : decode cX0_keep 24 = .ok (.aaload, 1) := dk_50 (dk_at dksX0_keep_1 0 rfl rfl)
theorem dX0_keep_25 : decode cX0_keep 25 = .ok (.aload_n 0, 1) := dk_42 (dk_at dksX0_keep_1 1 rfl rfl)
theorem dX0_keep_26 : decode cX0_keep 26 = .ok (.getfield 18, 3) := dk_180 0 18 (dk_at dksX0_keep_1 2 rfl rfl)
theorem dX0_keep_29 : decode cX0_keep 29 = .ok (.invokevirtual 238, 3) := dk_182 0 238 (dk_at dksX0_keep_1 5 rfl rfl)
theorem dX0_keep_32 : decode cX0_keep 32 = .ok (.aload_n 0, 1) := dk_42 (dk_at dksX0_keep_1 8 rfl rfl)
theorem dX0_keep_33 : decode cX0_keep 33 = .ok (.getfield 109, 3) := dk_180 0 109 (dk_at dksX0_keep_1 9 rfl rfl)
theorem dX0_keep_36 : decode cX0_keep 36 = .ok (.ireturn, 1) := dk_172 (dk_at dksX0_keep_1 12 rfl rfl)
abbrev cX0_again : ByteArray := prog_1_method_88_code
def yX0_again : MethodName := ⟨RX0, "again", "(I)I"⟩
def dkwX0_again_1 : List UInt8 := [42, 180, 0, 18, 42, 180, 0, 93, 27, 50, 182, 0, 238, 42, 3, 181, 0, 251, 42, 180, 0, 109, 172]
abbrev dktX0_again_1 : List UInt8 := dkwX0_again_1 ++ []
def dkwX0_again_0 : List UInt8 := [27, 133, 9, 10, 184, 0, 190, 154, 0, 5, 2, 172, 42, 180, 0, 89, 27, 51, 154, 0, 6, 16, 253, 172]
abbrev dktX0_again_0 : List UInt8 := dkwX0_again_0 ++ dktX0_again_1
theorem dksX0_again_0 : cX0_again.data.toList.drop 0 = dktX0_again_0 := by decide +kernel
theorem dksX0_again_1 : cX0_again.data.toList.drop 24 = dktX0_again_1 := dk_seg dksX0_again_0 24 rfl rfl
theorem dX0_again_0 : decode cX0_again 0 = .ok (.iload_n 1, 1) := dk_27 (dk_at dksX0_again_0 0 rfl rfl)
theorem dX0_again_1 : decode cX0_again 1 = .ok (.i2l, 1) := dk_133 (dk_at dksX0_again_0 1 rfl rfl)
theorem dX0_again_2 : decode cX0_again 2 = .ok (.lconst 0, 1) := dk_9 (dk_at dksX0_again_0 2 rfl rfl)
theorem dX0_again_3 : decode cX0_again 3 = .ok (.lconst 1, 1) := dk_10 (dk_at dksX0_again_0 3 rfl rfl)
theorem dX0_again_4 : decode cX0_again 4 = .ok (.invokestatic 190, 3) := dk_184 0 190 (dk_at dksX0_again_0 4 rfl rfl)
theorem dX0_again_7 : decode cX0_again 7 = .ok (.ifCond .ne 5, 3) := dk_154 0 5 (dk_at dksX0_again_0 7 rfl rfl)
theorem dX0_again_10 : decode cX0_again 10 = .ok (.iconst (-1), 1) := dk_2 (dk_at dksX0_again_0 10 rfl rfl)
theorem dX0_again_11 : decode cX0_again 11 = .ok (.ireturn, 1) := dk_172 (dk_at dksX0_again_0 11 rfl rfl)
theorem dX0_again_12 : decode cX0_again 12 = .ok (.aload_n 0, 1) := dk_42 (dk_at dksX0_again_0 12 rfl rfl)
theorem dX0_again_13 : decode cX0_again 13 = .ok (.getfield 89, 3) := dk_180 0 89 (dk_at dksX0_again_0 13 rfl rfl)
theorem dX0_again_16 : decode cX0_again 16 = .ok (.iload_n 1, 1) := dk_27 (dk_at dksX0_again_0 16 rfl rfl)
theorem dX0_again_17 : decode cX0_again 17 = .ok (.baload, 1) := dk_51 (dk_at dksX0_again_0 17 rfl rfl)
theorem dX0_again_18 : decode cX0_again 18 = .ok (.ifCond .ne 6, 3) := dk_154 0 6 (dk_at dksX0_again_0 18 rfl rfl)
theorem dX0_again_21 : decode cX0_again 21 = .ok (.bipush (-3), 2) := dk_16 253 (dk_at dksX0_again_0 21 rfl rfl)
theorem dX0_again_23 : decode cX0_again 23 = .ok (.ireturn, 1) := dk_172 (dk_at dksX0_again_0 23 rfl rfl)
theorem dX0_again_24 : decode cX0_again 24 = .ok (.aload_n 0, 1) := dk_42 (dk_at dksX0_again_1 0 rfl rfl)
theorem dX0_again_25 : decode cX0_again 25 = .ok (.getfield 18, 3) := dk_180 0 18 (dk_at dksX0_again_1 1 rfl rfl)
theorem dX0_again_28 : decode cX0_again 28 = .ok (.aload_n 0, 1) := dk_42 (dk_at dksX0_again_1 4 rfl rfl)
theorem dX0_again_29 : decode cX0_again 29 = .ok (.getfield 93, 3) := dk_180 0 93 (dk_at dksX0_again_1 5 rfl rfl)
theorem dX0_again_32 : decode cX0_again 32 = .ok (.iload_n 1, 1) := dk_27 (dk_at dksX0_again_1 8 rfl rfl)
theorem dX0_again_33 : decode cX0_again 33 = .ok (.aaload, 1) := dk_50 (dk_at dksX0_again_1 9 rfl rfl)
theorem dX0_again_34 : decode cX0_again 34 = .ok (.invokevirtual 238, 3) := dk_182 0 238 (dk_at dksX0_again_1 10 rfl rfl)
theorem dX0_again_37 : decode cX0_again 37 = .ok (.aload_n 0, 1) := dk_42 (dk_at dksX0_again_1 13 rfl rfl)
theorem dX0_again_38 : decode cX0_again 38 = .ok (.iconst 0, 1) := dk_3 (dk_at dksX0_again_1 14 rfl rfl)
theorem dX0_again_39 : decode cX0_again 39 = .ok (.putfield 251, 3) := dk_181 0 251 (dk_at dksX0_again_1 15 rfl rfl)
theorem dX0_again_42 : decode cX0_again 42 = .ok (.aload_n 0, 1) := dk_42 (dk_at dksX0_again_1 18 rfl rfl)
theorem dX0_again_43 : decode cX0_again 43 = .ok (.getfield 109, 3) := dk_180 0 109 (dk_at dksX0_again_1 19 rfl rfl)
theorem dX0_again_46 : decode cX0_again 46 = .ok (.ireturn, 1) := dk_172 (dk_at dksX0_again_1 22 rfl rfl)
theorem q85 : (Jvm.Cond.initialized "BagPhrases") ∈ lw_all := lw_g (lw_at lw_m1 1 rfl) rfl
theorem q103 : (Jvm.Cond.instantiable "BagPhrases" (36 : Nat)) ∈ lw_all := lw_g (lw_at lw_m1 19 rfl) rfl
theorem q105 : (Jvm.Cond.instanceMethod ({ cls := "BagPhrases", name := "<init>", desc := "()V" } : Jvm.MethodName)) ∈ lw_all := lw_g (lw_at lw_m1 21 rfl) rfl
theorem q106 : (Jvm.Cond.code ({ cls := "BagPhrases", name := "<init>", desc := "()V" } : Jvm.MethodName) prog_1_method_3_code (2 : Nat) (Option.none : Option Jvm.ClassFile.FieldType)) ∈ lw_all := lw_g (lw_at lw_m1 22 rfl) rfl
theorem q107 : (Jvm.Cond.methodLink "BagPhrases" (3 : Nat) ({ cls := "java/lang/Object", name := "<init>", desc := "()V" } : Jvm.MethodName)) ∈ lw_all := lw_g (lw_at lw_m1 23 rfl) rfl
theorem q110 : (Jvm.Cond.classLink "BagPhrases" (9 : Nat) "BagPhrases$Word") ∈ lw_all := lw_g (lw_at lw_m1 26 rfl) rfl
theorem q112 : (Jvm.Cond.classLink "BagPhrases" (15 : Nat) "BagPhrases$Setting") ∈ lw_all := lw_g (lw_at lw_m1 28 rfl) rfl
theorem q114 : (Jvm.Cond.methodLinkNest "BagPhrases" (17 : Nat) ({ cls := "BagPhrases$Setting", name := "<init>", desc := "()V" } : Jvm.MethodName) "BagPhrases") ∈ lw_tbl := lw_at lw_m1 30 rfl
theorem q119 : (Jvm.Cond.fieldLinkNest "BagPhrases" (104 : Nat) "BagPhrases$Setting" "bag" "[I" "BagPhrases") ∈ lw_tbl := lw_at lw_m1 35 rfl
theorem q121 : (Jvm.Cond.fieldLinkNest "BagPhrases" (119 : Nat) "BagPhrases$Setting" "barred" "I" "BagPhrases") ∈ lw_tbl := lw_at lw_m1 37 rfl
theorem q123 : (Jvm.Cond.fieldLinkNest "BagPhrases" (156 : Nat) "BagPhrases$Setting" "ranks" "[I" "BagPhrases") ∈ lw_tbl := lw_at lw_m1 39 rfl
theorem q125 : (Jvm.Cond.fieldLinkNest "BagPhrases" (129 : Nat) "BagPhrases$Setting" "begins" "I" "BagPhrases") ∈ lw_tbl := lw_at lw_m1 41 rfl
theorem q127 : (Jvm.Cond.fieldLinkNest "BagPhrases" (138 : Nat) "BagPhrases$Setting" "ends" "I" "BagPhrases") ∈ lw_tbl := lw_at lw_m1 43 rfl
theorem q129 : (Jvm.Cond.fieldLinkNest "BagPhrases" (132 : Nat) "BagPhrases$Setting" "follows" "[I" "BagPhrases") ∈ lw_tbl := lw_at lw_m1 45 rfl
theorem q144 : (Jvm.Cond.methodLink "BagPhrases" (63 : Nat) ({ cls := "BagPhrases", name := "settings", desc := "(I)[LBagPhrases$Setting;" } : Jvm.MethodName)) ∈ lw_all := lw_g (lw_at lw_m1 60 rfl) rfl
theorem q145 : (Jvm.Cond.static ({ cls := "BagPhrases", name := "settings", desc := "(I)[LBagPhrases$Setting;" } : Jvm.MethodName)) ∈ lw_all := lw_g (lw_at lw_m1 61 rfl) rfl
theorem q146 : (Jvm.Cond.code ({ cls := "BagPhrases", name := "settings", desc := "(I)[LBagPhrases$Setting;" } : Jvm.MethodName) prog_1_method_47_code (3 : Nat) (Option.some (Jvm.ClassFile.FieldType.array (Jvm.ClassFile.FieldType.object "BagPhrases$Setting")))) ∈ lw_all := lw_g (lw_at lw_m1 62 rfl) rfl
theorem q149 : (Jvm.Cond.methodLinkNest "BagPhrases" (96 : Nat) ({ cls := "BagPhrases$Word", name := "<init>", desc := "()V" } : Jvm.MethodName) "BagPhrases") ∈ lw_tbl := lw_at lw_m1 65 rfl
theorem q154 : (Jvm.Cond.fieldLinkNest "BagPhrases" (340 : Nat) "BagPhrases$Word" "spelt" "[I" "BagPhrases") ∈ lw_tbl := lw_at lw_m1 70 rfl
theorem q156 : (Jvm.Cond.fieldLinkNest "BagPhrases" (210 : Nat) "BagPhrases$Word" "length" "I" "BagPhrases") ∈ lw_tbl := lw_at lw_m1 72 rfl
theorem q158 : (Jvm.Cond.fieldLinkNest "BagPhrases" (135 : Nat) "BagPhrases$Word" "kind" "I" "BagPhrases") ∈ lw_tbl := lw_at lw_m1 74 rfl
theorem q160 : (Jvm.Cond.fieldLinkNest "BagPhrases" (112 : Nat) "BagPhrases$Word" "has" "[I" "BagPhrases") ∈ lw_tbl := lw_at lw_m1 76 rfl
theorem q172 : (Jvm.Cond.fieldLink "BagPhrases" (11 : Nat) "BagPhrases" "words" "[LBagPhrases$Word;") ∈ lw_all := lw_g (lw_at lw_m1 88 rfl) rfl
theorem q173 : (Jvm.Cond.fieldLink "BagPhrases" (109 : Nat) "BagPhrases" "many" "I") ∈ lw_all := lw_g (lw_at lw_m1 89 rfl) rfl
theorem q174 : (Jvm.Cond.fieldLink "BagPhrases" (18 : Nat) "BagPhrases" "now" "LBagPhrases$Setting;") ∈ lw_all := lw_g (lw_at lw_m1 90 rfl) rfl
theorem q175 : (Jvm.Cond.fieldLink "BagPhrases" (22 : Nat) "BagPhrases" "trial" "LBagPhrases$Setting;") ∈ lw_all := lw_g (lw_at lw_m1 91 rfl) rfl
theorem q176 : (Jvm.Cond.fieldLink "BagPhrases" (25 : Nat) "BagPhrases" "open" "LBagPhrases$Setting;") ∈ lw_all := lw_g (lw_at lw_m1 92 rfl) rfl
theorem q177 : (Jvm.Cond.fieldLink "BagPhrases" (97 : Nat) "BagPhrases" "usable" "I") ∈ lw_all := lw_g (lw_at lw_m1 93 rfl) rfl
theorem q178 : (Jvm.Cond.fieldLink "BagPhrases" (28 : Nat) "BagPhrases" "base" "[I") ∈ lw_all := lw_g (lw_at lw_m1 94 rfl) rfl
theorem q179 : (Jvm.Cond.fieldLink "BagPhrases" (32 : Nat) "BagPhrases" "rest" "[I") ∈ lw_all := lw_g (lw_at lw_m1 95 rfl) rfl
theorem q180 : (Jvm.Cond.fieldLink "BagPhrases" (35 : Nat) "BagPhrases" "counts" "[J") ∈ lw_all := lw_g (lw_at lw_m1 96 rfl) rfl
theorem q181 : (Jvm.Cond.fieldLink "BagPhrases" (39 : Nat) "BagPhrases" "worths" "[I") ∈ lw_all := lw_g (lw_at lw_m1 97 rfl) rfl
theorem q182 : (Jvm.Cond.fieldLink "BagPhrases" (42 : Nat) "BagPhrases" "steps" "[I") ∈ lw_all := lw_g (lw_at lw_m1 98 rfl) rfl
theorem q183 : (Jvm.Cond.fieldLink "BagPhrases" (101 : Nat) "BagPhrases" "states" "I") ∈ lw_all := lw_g (lw_at lw_m1 99 rfl) rfl
theorem q184 : (Jvm.Cond.fieldLink "BagPhrases" (45 : Nat) "BagPhrases" "found" "[I") ∈ lw_all := lw_g (lw_at lw_m1 100 rfl) rfl
theorem q185 : (Jvm.Cond.fieldLink "BagPhrases" (164 : Nat) "BagPhrases" "foundMany" "I") ∈ lw_all := lw_g (lw_at lw_m1 101 rfl) rfl
theorem q186 : (Jvm.Cond.fieldLink "BagPhrases" (48 : Nat) "BagPhrases" "layer" "[J") ∈ lw_all := lw_g (lw_at lw_m1 102 rfl) rfl
theorem q187 : (Jvm.Cond.fieldLink "BagPhrases" (51 : Nat) "BagPhrases" "nextLayer" "[J") ∈ lw_all := lw_g (lw_at lw_m1 103 rfl) rfl
theorem q188 : (Jvm.Cond.fieldLink "BagPhrases" (54 : Nat) "BagPhrases" "text" "[I") ∈ lw_all := lw_g (lw_at lw_m1 104 rfl) rfl
theorem q189 : (Jvm.Cond.fieldLink "BagPhrases" (194 : Nat) "BagPhrases" "length" "I") ∈ lw_all := lw_g (lw_at lw_m1 105 rfl) rfl
theorem q190 : (Jvm.Cond.fieldLink "BagPhrases" (197 : Nat) "BagPhrases" "at" "I") ∈ lw_all := lw_g (lw_at lw_m1 106 rfl) rfl
theorem q191 : (Jvm.Cond.fieldLink "BagPhrases" (200 : Nat) "BagPhrases" "readMany" "I") ∈ lw_all := lw_g (lw_at lw_m1 107 rfl) rfl
theorem q192 : (Jvm.Cond.fieldLink "BagPhrases" (57 : Nat) "BagPhrases" "readWords" "[LBagPhrases$Word;") ∈ lw_all := lw_g (lw_at lw_m1 108 rfl) rfl
theorem q193 : (Jvm.Cond.fieldLink "BagPhrases" (60 : Nat) "BagPhrases" "read" "LBagPhrases$Setting;") ∈ lw_all := lw_g (lw_at lw_m1 109 rfl) rfl
theorem q194 : (Jvm.Cond.fieldLink "BagPhrases" (251 : Nat) "BagPhrases" "acts" "I") ∈ lw_all := lw_g (lw_at lw_m1 110 rfl) rfl
theorem q195 : (Jvm.Cond.fieldLink "BagPhrases" (309 : Nat) "BagPhrases" "next" "I") ∈ lw_all := lw_g (lw_at lw_m1 111 rfl) rfl
theorem q196 : (Jvm.Cond.fieldLink "BagPhrases" (67 : Nat) "BagPhrases" "before" "[LBagPhrases$Setting;") ∈ lw_all := lw_g (lw_at lw_m1 112 rfl) rfl
theorem q197 : (Jvm.Cond.fieldLink "BagPhrases" (71 : Nat) "BagPhrases" "row" "[I") ∈ lw_all := lw_g (lw_at lw_m1 113 rfl) rfl
theorem q198 : (Jvm.Cond.fieldLink "BagPhrases" (254 : Nat) "BagPhrases" "told" "I") ∈ lw_all := lw_g (lw_at lw_m1 114 rfl) rfl
theorem q199 : (Jvm.Cond.fieldLink "BagPhrases" (74 : Nat) "BagPhrases" "left" "[I") ∈ lw_all := lw_g (lw_at lw_m1 115 rfl) rfl
theorem q200 : (Jvm.Cond.fieldLink "BagPhrases" (280 : Nat) "BagPhrases" "seen" "I") ∈ lw_all := lw_g (lw_at lw_m1 116 rfl) rfl
theorem q201 : (Jvm.Cond.fieldLink "BagPhrases" (77 : Nat) "BagPhrases" "seenWhat" "[I") ∈ lw_all := lw_g (lw_at lw_m1 117 rfl) rfl
theorem q202 : (Jvm.Cond.fieldLink "BagPhrases" (80 : Nat) "BagPhrases" "seenOf" "[I") ∈ lw_all := lw_g (lw_at lw_m1 118 rfl) rfl
theorem q203 : (Jvm.Cond.fieldLink "BagPhrases" (83 : Nat) "BagPhrases" "seenWas" "[I") ∈ lw_all := lw_g (lw_at lw_m1 119 rfl) rfl
theorem q204 : (Jvm.Cond.fieldLink "BagPhrases" (86 : Nat) "BagPhrases" "worth" "[J") ∈ lw_all := lw_g (lw_at lw_m1 120 rfl) rfl
theorem q205 : (Jvm.Cond.fieldLink "BagPhrases" (457 : Nat) "BagPhrases" "seed" "J") ∈ lw_all := lw_g (lw_at lw_m1 121 rfl) rfl
theorem q206 : (Jvm.Cond.fieldLink "BagPhrases" (89 : Nat) "BagPhrases" "isKept" "[Z") ∈ lw_all := lw_g (lw_at lw_m1 122 rfl) rfl
theorem q207 : (Jvm.Cond.fieldLink "BagPhrases" (93 : Nat) "BagPhrases" "kept" "[LBagPhrases$Setting;") ∈ lw_all := lw_g (lw_at lw_m1 123 rfl) rfl
theorem q208 : (Jvm.Cond.laysFinal "BagPhrases" "BagPhrases" "words" "[LBagPhrases$Word;") ∈ lw_all := lw_g (lw_at lw_m1 124 rfl) rfl
theorem q209 : (Jvm.Cond.soleField "BagPhrases" "words") ∈ lw_all := lw_g (lw_at lw_m1 125 rfl) rfl
theorem q210 : (Jvm.Cond.lays "BagPhrases" "BagPhrases" "many" "I") ∈ lw_all := lw_g (lw_at lw_m1 126 rfl) rfl
theorem q211 : (Jvm.Cond.soleField "BagPhrases" "many") ∈ lw_all := lw_g (lw_at lw_m1 127 rfl) rfl
theorem q212 : (Jvm.Cond.laysFinal "BagPhrases" "BagPhrases" "now" "LBagPhrases$Setting;") ∈ lw_all := lw_g (lw_at lw_m1 128 rfl) rfl
theorem q213 : (Jvm.Cond.soleField "BagPhrases" "now") ∈ lw_all := lw_g (lw_at lw_m1 129 rfl) rfl
theorem q214 : (Jvm.Cond.laysFinal "BagPhrases" "BagPhrases" "trial" "LBagPhrases$Setting;") ∈ lw_all := lw_g (lw_at lw_m1 130 rfl) rfl
theorem q215 : (Jvm.Cond.soleField "BagPhrases" "trial") ∈ lw_all := lw_g (lw_at lw_m1 131 rfl) rfl
theorem q216 : (Jvm.Cond.lays "BagPhrases" "BagPhrases" "open" "LBagPhrases$Setting;") ∈ lw_all := lw_g (lw_at lw_m1 132 rfl) rfl
theorem q217 : (Jvm.Cond.soleField "BagPhrases" "open") ∈ lw_all := lw_g (lw_at lw_m1 133 rfl) rfl
theorem q218 : (Jvm.Cond.lays "BagPhrases" "BagPhrases" "usable" "I") ∈ lw_all := lw_g (lw_at lw_m1 134 rfl) rfl
theorem q219 : (Jvm.Cond.soleField "BagPhrases" "usable") ∈ lw_all := lw_g (lw_at lw_m1 135 rfl) rfl
theorem q220 : (Jvm.Cond.laysFinal "BagPhrases" "BagPhrases" "base" "[I") ∈ lw_all := lw_g (lw_at lw_m1 136 rfl) rfl
theorem q221 : (Jvm.Cond.soleField "BagPhrases" "base") ∈ lw_all := lw_g (lw_at lw_m1 137 rfl) rfl
theorem q222 : (Jvm.Cond.laysFinal "BagPhrases" "BagPhrases" "rest" "[I") ∈ lw_all := lw_g (lw_at lw_m1 138 rfl) rfl
theorem q223 : (Jvm.Cond.soleField "BagPhrases" "rest") ∈ lw_all := lw_g (lw_at lw_m1 139 rfl) rfl
theorem q224 : (Jvm.Cond.laysFinal "BagPhrases" "BagPhrases" "counts" "[J") ∈ lw_all := lw_g (lw_at lw_m1 140 rfl) rfl
theorem q225 : (Jvm.Cond.soleField "BagPhrases" "counts") ∈ lw_all := lw_g (lw_at lw_m1 141 rfl) rfl
theorem q226 : (Jvm.Cond.laysFinal "BagPhrases" "BagPhrases" "worths" "[I") ∈ lw_all := lw_g (lw_at lw_m1 142 rfl) rfl
theorem q227 : (Jvm.Cond.soleField "BagPhrases" "worths") ∈ lw_all := lw_g (lw_at lw_m1 143 rfl) rfl
theorem q228 : (Jvm.Cond.laysFinal "BagPhrases" "BagPhrases" "steps" "[I") ∈ lw_all := lw_g (lw_at lw_m1 144 rfl) rfl
theorem q229 : (Jvm.Cond.soleField "BagPhrases" "steps") ∈ lw_all := lw_g (lw_at lw_m1 145 rfl) rfl
theorem q230 : (Jvm.Cond.lays "BagPhrases" "BagPhrases" "states" "I") ∈ lw_all := lw_g (lw_at lw_m1 146 rfl) rfl
theorem q231 : (Jvm.Cond.soleField "BagPhrases" "states") ∈ lw_all := lw_g (lw_at lw_m1 147 rfl) rfl
theorem q232 : (Jvm.Cond.laysFinal "BagPhrases" "BagPhrases" "found" "[I") ∈ lw_all := lw_g (lw_at lw_m1 148 rfl) rfl
theorem q233 : (Jvm.Cond.soleField "BagPhrases" "found") ∈ lw_all := lw_g (lw_at lw_m1 149 rfl) rfl
theorem q234 : (Jvm.Cond.lays "BagPhrases" "BagPhrases" "foundMany" "I") ∈ lw_all := lw_g (lw_at lw_m1 150 rfl) rfl
theorem q235 : (Jvm.Cond.soleField "BagPhrases" "foundMany") ∈ lw_all := lw_g (lw_at lw_m1 151 rfl) rfl
theorem q236 : (Jvm.Cond.lays "BagPhrases" "BagPhrases" "layer" "[J") ∈ lw_all := lw_g (lw_at lw_m1 152 rfl) rfl
theorem q237 : (Jvm.Cond.soleField "BagPhrases" "layer") ∈ lw_all := lw_g (lw_at lw_m1 153 rfl) rfl
theorem q238 : (Jvm.Cond.lays "BagPhrases" "BagPhrases" "nextLayer" "[J") ∈ lw_all := lw_g (lw_at lw_m1 154 rfl) rfl
theorem q239 : (Jvm.Cond.soleField "BagPhrases" "nextLayer") ∈ lw_all := lw_g (lw_at lw_m1 155 rfl) rfl
theorem q240 : (Jvm.Cond.laysFinal "BagPhrases" "BagPhrases" "text" "[I") ∈ lw_all := lw_g (lw_at lw_m1 156 rfl) rfl
theorem q241 : (Jvm.Cond.soleField "BagPhrases" "text") ∈ lw_all := lw_g (lw_at lw_m1 157 rfl) rfl
theorem q242 : (Jvm.Cond.lays "BagPhrases" "BagPhrases" "length" "I") ∈ lw_all := lw_g (lw_at lw_m1 158 rfl) rfl
theorem q243 : (Jvm.Cond.soleField "BagPhrases" "length") ∈ lw_all := lw_g (lw_at lw_m1 159 rfl) rfl
theorem q244 : (Jvm.Cond.lays "BagPhrases" "BagPhrases" "at" "I") ∈ lw_all := lw_g (lw_at lw_m1 160 rfl) rfl
theorem q245 : (Jvm.Cond.soleField "BagPhrases" "at") ∈ lw_all := lw_g (lw_at lw_m1 161 rfl) rfl
theorem q246 : (Jvm.Cond.lays "BagPhrases" "BagPhrases" "readMany" "I") ∈ lw_all := lw_g (lw_at lw_m1 162 rfl) rfl
theorem q247 : (Jvm.Cond.soleField "BagPhrases" "readMany") ∈ lw_all := lw_g (lw_at lw_m1 163 rfl) rfl
theorem q248 : (Jvm.Cond.laysFinal "BagPhrases" "BagPhrases" "readWords" "[LBagPhrases$Word;") ∈ lw_all := lw_g (lw_at lw_m1 164 rfl) rfl
theorem q249 : (Jvm.Cond.soleField "BagPhrases" "readWords") ∈ lw_all := lw_g (lw_at lw_m1 165 rfl) rfl
theorem q250 : (Jvm.Cond.laysFinal "BagPhrases" "BagPhrases" "read" "LBagPhrases$Setting;") ∈ lw_all := lw_g (lw_at lw_m1 166 rfl) rfl
theorem q251 : (Jvm.Cond.soleField "BagPhrases" "read") ∈ lw_all := lw_g (lw_at lw_m1 167 rfl) rfl
theorem q252 : (Jvm.Cond.lays "BagPhrases" "BagPhrases" "acts" "I") ∈ lw_all := lw_g (lw_at lw_m1 168 rfl) rfl
theorem q253 : (Jvm.Cond.soleField "BagPhrases" "acts") ∈ lw_all := lw_g (lw_at lw_m1 169 rfl) rfl
theorem q254 : (Jvm.Cond.lays "BagPhrases" "BagPhrases" "next" "I") ∈ lw_all := lw_g (lw_at lw_m1 170 rfl) rfl
theorem q255 : (Jvm.Cond.soleField "BagPhrases" "next") ∈ lw_all := lw_g (lw_at lw_m1 171 rfl) rfl
theorem q256 : (Jvm.Cond.laysFinal "BagPhrases" "BagPhrases" "before" "[LBagPhrases$Setting;") ∈ lw_all := lw_g (lw_at lw_m1 172 rfl) rfl
theorem q257 : (Jvm.Cond.soleField "BagPhrases" "before") ∈ lw_all := lw_g (lw_at lw_m1 173 rfl) rfl
theorem q258 : (Jvm.Cond.laysFinal "BagPhrases" "BagPhrases" "row" "[I") ∈ lw_all := lw_g (lw_at lw_m1 174 rfl) rfl
theorem q259 : (Jvm.Cond.soleField "BagPhrases" "row") ∈ lw_all := lw_g (lw_at lw_m1 175 rfl) rfl
theorem q260 : (Jvm.Cond.lays "BagPhrases" "BagPhrases" "told" "I") ∈ lw_all := lw_g (lw_at lw_m1 176 rfl) rfl
theorem q261 : (Jvm.Cond.soleField "BagPhrases" "told") ∈ lw_all := lw_g (lw_at lw_m1 177 rfl) rfl
theorem q262 : (Jvm.Cond.laysFinal "BagPhrases" "BagPhrases" "left" "[I") ∈ lw_all := lw_g (lw_at lw_m1 178 rfl) rfl
theorem q263 : (Jvm.Cond.soleField "BagPhrases" "left") ∈ lw_all := lw_g (lw_at lw_m1 179 rfl) rfl
theorem q264 : (Jvm.Cond.lays "BagPhrases" "BagPhrases" "seen" "I") ∈ lw_all := lw_g (lw_at lw_m1 180 rfl) rfl
theorem q265 : (Jvm.Cond.soleField "BagPhrases" "seen") ∈ lw_all := lw_g (lw_at lw_m1 181 rfl) rfl
theorem q266 : (Jvm.Cond.laysFinal "BagPhrases" "BagPhrases" "seenWhat" "[I") ∈ lw_all := lw_g (lw_at lw_m1 182 rfl) rfl
theorem q267 : (Jvm.Cond.soleField "BagPhrases" "seenWhat") ∈ lw_all := lw_g (lw_at lw_m1 183 rfl) rfl
theorem q268 : (Jvm.Cond.laysFinal "BagPhrases" "BagPhrases" "seenOf" "[I") ∈ lw_all := lw_g (lw_at lw_m1 184 rfl) rfl
theorem q269 : (Jvm.Cond.soleField "BagPhrases" "seenOf") ∈ lw_all := lw_g (lw_at lw_m1 185 rfl) rfl
theorem q270 : (Jvm.Cond.laysFinal "BagPhrases" "BagPhrases" "seenWas" "[I") ∈ lw_all := lw_g (lw_at lw_m1 186 rfl) rfl
theorem q271 : (Jvm.Cond.soleField "BagPhrases" "seenWas") ∈ lw_all := lw_g (lw_at lw_m1 187 rfl) rfl
theorem q272 : (Jvm.Cond.laysFinal "BagPhrases" "BagPhrases" "worth" "[J") ∈ lw_all := lw_g (lw_at lw_m1 188 rfl) rfl
theorem q273 : (Jvm.Cond.soleField "BagPhrases" "worth") ∈ lw_all := lw_g (lw_at lw_m1 189 rfl) rfl
theorem q274 : (Jvm.Cond.lays "BagPhrases" "BagPhrases" "seed" "J") ∈ lw_all := lw_g (lw_at lw_m1 190 rfl) rfl
theorem q275 : (Jvm.Cond.soleField "BagPhrases" "seed") ∈ lw_all := lw_g (lw_at lw_m1 191 rfl) rfl
theorem q276 : (Jvm.Cond.laysFinal "BagPhrases" "BagPhrases" "isKept" "[Z") ∈ lw_all := lw_g (lw_at lw_m1 192 rfl) rfl
theorem q277 : (Jvm.Cond.soleField "BagPhrases" "isKept") ∈ lw_all := lw_g (lw_at lw_m1 193 rfl) rfl
theorem q278 : (Jvm.Cond.laysFinal "BagPhrases" "BagPhrases" "kept" "[LBagPhrases$Setting;") ∈ lw_all := lw_g (lw_at lw_m1 194 rfl) rfl
theorem q279 : (Jvm.Cond.soleField "BagPhrases" "kept") ∈ lw_all := lw_g (lw_at lw_m1 195 rfl) rfl
theorem q280 : (Jvm.Cond.superclass "BagPhrases" "java/lang/Object") ∈ lw_all := lw_g (lw_at lw_m1 196 rfl) rfl
theorem q282 : (Jvm.Cond.instanceMethod ({ cls := "BagPhrases", name := "write", desc := "(I)I" } : Jvm.MethodName)) ∈ lw_all := lw_g (lw_at lw_m1 198 rfl) rfl
theorem q283 : (Jvm.Cond.selects "BagPhrases" ({ cls := "BagPhrases", name := "write", desc := "(I)I" } : Jvm.MethodName) ({ cls := "BagPhrases", name := "write", desc := "(I)I" } : Jvm.MethodName)) ∈ lw_all := lw_g (lw_at lw_m1 199 rfl) rfl
theorem q284 : (Jvm.Cond.code ({ cls := "BagPhrases", name := "write", desc := "(I)I" } : Jvm.MethodName) prog_1_method_22_code (2 : Nat) (Option.some Jvm.ClassFile.FieldType.int)) ∈ lw_all := lw_g (lw_at lw_m1 200 rfl) rfl
theorem q285 : (Jvm.Cond.constantLong "BagPhrases" (188 : Nat) (255 : Int64)) ∈ lw_all := lw_g (lw_at lw_m1 201 rfl) rfl
theorem q286 : (Jvm.Cond.methodLink "BagPhrases" (190 : Nat) ({ cls := "BagPhrases", name := "isIn", desc := "(JJJ)Z" } : Jvm.MethodName)) ∈ lw_all := lw_g (lw_at lw_m1 202 rfl) rfl
theorem q287 : (Jvm.Cond.static ({ cls := "BagPhrases", name := "isIn", desc := "(JJJ)Z" } : Jvm.MethodName)) ∈ lw_all := lw_g (lw_at lw_m1 203 rfl) rfl
theorem q288 : (Jvm.Cond.code ({ cls := "BagPhrases", name := "isIn", desc := "(JJJ)Z" } : Jvm.MethodName) prog_1_method_1_code (6 : Nat) (Option.some Jvm.ClassFile.FieldType.boolean)) ∈ lw_all := lw_g (lw_at lw_m1 204 rfl) rfl
theorem q290 : (Jvm.Cond.instanceMethod ({ cls := "BagPhrases", name := "wipe", desc := "()I" } : Jvm.MethodName)) ∈ lw_all := lw_g (lw_at lw_m1 206 rfl) rfl
theorem q291 : (Jvm.Cond.selects "BagPhrases" ({ cls := "BagPhrases", name := "wipe", desc := "()I" } : Jvm.MethodName) ({ cls := "BagPhrases", name := "wipe", desc := "()I" } : Jvm.MethodName)) ∈ lw_all := lw_g (lw_at lw_m1 207 rfl) rfl
theorem q292 : (Jvm.Cond.code ({ cls := "BagPhrases", name := "wipe", desc := "()I" } : Jvm.MethodName) prog_1_method_23_code (2 : Nat) (Option.some Jvm.ClassFile.FieldType.int)) ∈ lw_all := lw_g (lw_at lw_m1 208 rfl) rfl
theorem q294 : (Jvm.Cond.instanceMethod ({ cls := "BagPhrases", name := "fault", desc := "()I" } : Jvm.MethodName)) ∈ lw_all := lw_g (lw_at lw_m1 210 rfl) rfl
theorem q295 : (Jvm.Cond.selects "BagPhrases" ({ cls := "BagPhrases", name := "fault", desc := "()I" } : Jvm.MethodName) ({ cls := "BagPhrases", name := "fault", desc := "()I" } : Jvm.MethodName)) ∈ lw_all := lw_g (lw_at lw_m1 211 rfl) rfl
theorem q296 : (Jvm.Cond.code ({ cls := "BagPhrases", name := "fault", desc := "()I" } : Jvm.MethodName) prog_1_method_33_code (1 : Nat) (Option.some Jvm.ClassFile.FieldType.int)) ∈ lw_all := lw_g (lw_at lw_m1 212 rfl) rfl
theorem q297 : (Jvm.Cond.methodLink "BagPhrases" (245 : Nat) ({ cls := "BagPhrases", name := "readHouse", desc := "()I" } : Jvm.MethodName)) ∈ lw_all := lw_g (lw_at lw_m1 213 rfl) rfl
theorem q298 : (Jvm.Cond.privateMethod ({ cls := "BagPhrases", name := "readHouse", desc := "()I" } : Jvm.MethodName)) ∈ lw_tbl := lw_at lw_m1 214 rfl
theorem q299 : (Jvm.Cond.instanceMethod ({ cls := "BagPhrases", name := "readHouse", desc := "()I" } : Jvm.MethodName)) ∈ lw_all := lw_g (lw_at lw_m1 215 rfl) rfl
theorem q300 : (Jvm.Cond.code ({ cls := "BagPhrases", name := "readHouse", desc := "()I" } : Jvm.MethodName) prog_1_method_32_code (1 : Nat) (Option.some Jvm.ClassFile.FieldType.int)) ∈ lw_all := lw_g (lw_at lw_m1 216 rfl) rfl
theorem q301 : (Jvm.Cond.methodLink "BagPhrases" (238 : Nat) ({ cls := "BagPhrases$Setting", name := "copy", desc := "(LBagPhrases$Setting;)V" } : Jvm.MethodName)) ∈ lw_all := lw_g (lw_at lw_m1 217 rfl) rfl
theorem q308 : (Jvm.Cond.methodLink "BagPhrases" (242 : Nat) ({ cls := "BagPhrases", name := "readPart", desc := "()Z" } : Jvm.MethodName)) ∈ lw_all := lw_g (lw_at lw_m1 224 rfl) rfl
theorem q309 : (Jvm.Cond.privateMethod ({ cls := "BagPhrases", name := "readPart", desc := "()Z" } : Jvm.MethodName)) ∈ lw_tbl := lw_at lw_m1 225 rfl
theorem q310 : (Jvm.Cond.instanceMethod ({ cls := "BagPhrases", name := "readPart", desc := "()Z" } : Jvm.MethodName)) ∈ lw_all := lw_g (lw_at lw_m1 226 rfl) rfl
theorem q311 : (Jvm.Cond.code ({ cls := "BagPhrases", name := "readPart", desc := "()Z" } : Jvm.MethodName) prog_1_method_31_code (1 : Nat) (Option.some Jvm.ClassFile.FieldType.boolean)) ∈ lw_all := lw_g (lw_at lw_m1 227 rfl) rfl
theorem q312 : (Jvm.Cond.methodLink "BagPhrases" (222 : Nat) ({ cls := "BagPhrases", name := "readWord", desc := "()Z" } : Jvm.MethodName)) ∈ lw_all := lw_g (lw_at lw_m1 228 rfl) rfl
theorem q313 : (Jvm.Cond.privateMethod ({ cls := "BagPhrases", name := "readWord", desc := "()Z" } : Jvm.MethodName)) ∈ lw_tbl := lw_at lw_m1 229 rfl
theorem q314 : (Jvm.Cond.instanceMethod ({ cls := "BagPhrases", name := "readWord", desc := "()Z" } : Jvm.MethodName)) ∈ lw_all := lw_g (lw_at lw_m1 230 rfl) rfl
theorem q315 : (Jvm.Cond.code ({ cls := "BagPhrases", name := "readWord", desc := "()Z" } : Jvm.MethodName) prog_1_method_25_code (5 : Nat) (Option.some Jvm.ClassFile.FieldType.boolean)) ∈ lw_all := lw_g (lw_at lw_m1 231 rfl) rfl
theorem q316 : (Jvm.Cond.methodLink "BagPhrases" (203 : Nat) ({ cls := "BagPhrases$Word", name := "begin", desc := "()V" } : Jvm.MethodName)) ∈ lw_all := lw_g (lw_at lw_m1 232 rfl) rfl
theorem q320 : (Jvm.Cond.methodLink "BagPhrases" (206 : Nat) ({ cls := "BagPhrases", name := "next", desc := "(CI)I" } : Jvm.MethodName)) ∈ lw_all := lw_g (lw_at lw_m1 236 rfl) rfl
theorem q321 : (Jvm.Cond.privateMethod ({ cls := "BagPhrases", name := "next", desc := "(CI)I" } : Jvm.MethodName)) ∈ lw_tbl := lw_at lw_m1 237 rfl
theorem q322 : (Jvm.Cond.instanceMethod ({ cls := "BagPhrases", name := "next", desc := "(CI)I" } : Jvm.MethodName)) ∈ lw_all := lw_g (lw_at lw_m1 238 rfl) rfl
theorem q323 : (Jvm.Cond.code ({ cls := "BagPhrases", name := "next", desc := "(CI)I" } : Jvm.MethodName) prog_1_method_24_code (4 : Nat) (Option.some Jvm.ClassFile.FieldType.int)) ∈ lw_all := lw_g (lw_at lw_m1 239 rfl) rfl
theorem q324 : (Jvm.Cond.methodLink "BagPhrases" (211 : Nat) ({ cls := "BagPhrases$Word", name := "add", desc := "(I)V" } : Jvm.MethodName)) ∈ lw_all := lw_g (lw_at lw_m2 0 rfl) rfl
theorem q328 : (Jvm.Cond.methodLink "BagPhrases" (226 : Nat) ({ cls := "BagPhrases", name := "readLetter", desc := "()Z" } : Jvm.MethodName)) ∈ lw_all := lw_g (lw_at lw_m2 4 rfl) rfl
theorem q329 : (Jvm.Cond.privateMethod ({ cls := "BagPhrases", name := "readLetter", desc := "()Z" } : Jvm.MethodName)) ∈ lw_tbl := lw_at lw_m2 5 rfl
theorem q330 : (Jvm.Cond.instanceMethod ({ cls := "BagPhrases", name := "readLetter", desc := "()Z" } : Jvm.MethodName)) ∈ lw_all := lw_g (lw_at lw_m2 6 rfl) rfl
theorem q331 : (Jvm.Cond.code ({ cls := "BagPhrases", name := "readLetter", desc := "()Z" } : Jvm.MethodName) prog_1_method_26_code (2 : Nat) (Option.some Jvm.ClassFile.FieldType.boolean)) ∈ lw_all := lw_g (lw_at lw_m2 7 rfl) rfl
theorem q332 : (Jvm.Cond.methodLink "BagPhrases" (215 : Nat) ({ cls := "BagPhrases$Setting", name := "size", desc := "()I" } : Jvm.MethodName)) ∈ lw_all := lw_g (lw_at lw_m2 8 rfl) rfl
theorem q336 : (Jvm.Cond.methodLink "BagPhrases" (229 : Nat) ({ cls := "BagPhrases", name := "readBegin", desc := "()Z" } : Jvm.MethodName)) ∈ lw_all := lw_g (lw_at lw_m2 12 rfl) rfl
theorem q337 : (Jvm.Cond.privateMethod ({ cls := "BagPhrases", name := "readBegin", desc := "()Z" } : Jvm.MethodName)) ∈ lw_tbl := lw_at lw_m2 13 rfl
theorem q338 : (Jvm.Cond.instanceMethod ({ cls := "BagPhrases", name := "readBegin", desc := "()Z" } : Jvm.MethodName)) ∈ lw_all := lw_g (lw_at lw_m2 14 rfl) rfl
theorem q339 : (Jvm.Cond.code ({ cls := "BagPhrases", name := "readBegin", desc := "()Z" } : Jvm.MethodName) prog_1_method_28_code (2 : Nat) (Option.some Jvm.ClassFile.FieldType.boolean)) ∈ lw_all := lw_g (lw_at lw_m2 15 rfl) rfl
theorem q340 : (Jvm.Cond.methodLink "BagPhrases" (218 : Nat) ({ cls := "BagPhrases", name := "readKind", desc := "(I)I" } : Jvm.MethodName)) ∈ lw_all := lw_g (lw_at lw_m2 16 rfl) rfl
theorem q341 : (Jvm.Cond.privateMethod ({ cls := "BagPhrases", name := "readKind", desc := "(I)I" } : Jvm.MethodName)) ∈ lw_tbl := lw_at lw_m2 17 rfl
theorem q342 : (Jvm.Cond.instanceMethod ({ cls := "BagPhrases", name := "readKind", desc := "(I)I" } : Jvm.MethodName)) ∈ lw_all := lw_g (lw_at lw_m2 18 rfl) rfl
theorem q343 : (Jvm.Cond.code ({ cls := "BagPhrases", name := "readKind", desc := "(I)I" } : Jvm.MethodName) prog_1_method_27_code (3 : Nat) (Option.some Jvm.ClassFile.FieldType.int)) ∈ lw_all := lw_g (lw_at lw_m2 19 rfl) rfl
theorem q344 : (Jvm.Cond.methodLink "BagPhrases" (126 : Nat) ({ cls := "BagPhrases", name := "has", desc := "(II)Z" } : Jvm.MethodName)) ∈ lw_all := lw_g (lw_at lw_m2 20 rfl) rfl
theorem q345 : (Jvm.Cond.static ({ cls := "BagPhrases", name := "has", desc := "(II)Z" } : Jvm.MethodName)) ∈ lw_all := lw_g (lw_at lw_m2 21 rfl) rfl
theorem q346 : (Jvm.Cond.code ({ cls := "BagPhrases", name := "has", desc := "(II)Z" } : Jvm.MethodName) prog_1_method_2_code (2 : Nat) (Option.some Jvm.ClassFile.FieldType.boolean)) ∈ lw_all := lw_g (lw_at lw_m2 22 rfl) rfl
theorem q347 : (Jvm.Cond.methodLink "BagPhrases" (232 : Nat) ({ cls := "BagPhrases", name := "readEnd", desc := "()Z" } : Jvm.MethodName)) ∈ lw_all := lw_g (lw_at lw_m2 23 rfl) rfl
theorem q348 : (Jvm.Cond.privateMethod ({ cls := "BagPhrases", name := "readEnd", desc := "()Z" } : Jvm.MethodName)) ∈ lw_tbl := lw_at lw_m2 24 rfl
theorem q349 : (Jvm.Cond.instanceMethod ({ cls := "BagPhrases", name := "readEnd", desc := "()Z" } : Jvm.MethodName)) ∈ lw_all := lw_g (lw_at lw_m2 25 rfl) rfl
theorem q350 : (Jvm.Cond.code ({ cls := "BagPhrases", name := "readEnd", desc := "()Z" } : Jvm.MethodName) prog_1_method_29_code (2 : Nat) (Option.some Jvm.ClassFile.FieldType.boolean)) ∈ lw_all := lw_g (lw_at lw_m2 26 rfl) rfl
theorem q351 : (Jvm.Cond.methodLink "BagPhrases" (235 : Nat) ({ cls := "BagPhrases", name := "readPair", desc := "()Z" } : Jvm.MethodName)) ∈ lw_all := lw_g (lw_at lw_m2 27 rfl) rfl
theorem q352 : (Jvm.Cond.privateMethod ({ cls := "BagPhrases", name := "readPair", desc := "()Z" } : Jvm.MethodName)) ∈ lw_tbl := lw_at lw_m2 28 rfl
theorem q353 : (Jvm.Cond.instanceMethod ({ cls := "BagPhrases", name := "readPair", desc := "()Z" } : Jvm.MethodName)) ∈ lw_all := lw_g (lw_at lw_m2 29 rfl) rfl
theorem q354 : (Jvm.Cond.code ({ cls := "BagPhrases", name := "readPair", desc := "()Z" } : Jvm.MethodName) prog_1_method_30_code (4 : Nat) (Option.some Jvm.ClassFile.FieldType.boolean)) ∈ lw_all := lw_g (lw_at lw_m2 30 rfl) rfl
theorem q356 : (Jvm.Cond.instanceMethod ({ cls := "BagPhrases", name := "house", desc := "()I" } : Jvm.MethodName)) ∈ lw_all := lw_g (lw_at lw_m2 32 rfl) rfl
theorem q357 : (Jvm.Cond.selects "BagPhrases" ({ cls := "BagPhrases", name := "house", desc := "()I" } : Jvm.MethodName) ({ cls := "BagPhrases", name := "house", desc := "()I" } : Jvm.MethodName)) ∈ lw_all := lw_g (lw_at lw_m2 33 rfl) rfl
theorem q358 : (Jvm.Cond.code ({ cls := "BagPhrases", name := "house", desc := "()I" } : Jvm.MethodName) prog_1_method_34_code (2 : Nat) (Option.some Jvm.ClassFile.FieldType.int)) ∈ lw_all := lw_g (lw_at lw_m2 34 rfl) rfl
theorem q359 : (Jvm.Cond.methodLink "BagPhrases" (248 : Nat) ({ cls := "BagPhrases$Word", name := "copy", desc := "(LBagPhrases$Word;)V" } : Jvm.MethodName)) ∈ lw_all := lw_g (lw_at lw_m2 35 rfl) rfl
theorem q365 : (Jvm.Cond.instanceMethod ({ cls := "BagPhrases", name := "about", desc := "(I)I" } : Jvm.MethodName)) ∈ lw_all := lw_g (lw_at lw_m2 41 rfl) rfl
theorem q366 : (Jvm.Cond.selects "BagPhrases" ({ cls := "BagPhrases", name := "about", desc := "(I)I" } : Jvm.MethodName) ({ cls := "BagPhrases", name := "about", desc := "(I)I" } : Jvm.MethodName)) ∈ lw_all := lw_g (lw_at lw_m2 42 rfl) rfl
theorem q367 : (Jvm.Cond.code ({ cls := "BagPhrases", name := "about", desc := "(I)I" } : Jvm.MethodName) prog_1_method_40_code (2 : Nat) (Option.some Jvm.ClassFile.FieldType.int)) ∈ lw_all := lw_g (lw_at lw_m2 43 rfl) rfl
theorem q368 : (Jvm.Cond.methodLink "BagPhrases" (265 : Nat) ({ cls := "BagPhrases", name := "look", desc := "()V" } : Jvm.MethodName)) ∈ lw_all := lw_g (lw_at lw_m2 44 rfl) rfl
theorem q369 : (Jvm.Cond.privateMethod ({ cls := "BagPhrases", name := "look", desc := "()V" } : Jvm.MethodName)) ∈ lw_tbl := lw_at lw_m2 45 rfl
theorem q370 : (Jvm.Cond.instanceMethod ({ cls := "BagPhrases", name := "look", desc := "()V" } : Jvm.MethodName)) ∈ lw_all := lw_g (lw_at lw_m2 46 rfl) rfl
theorem q371 : (Jvm.Cond.code ({ cls := "BagPhrases", name := "look", desc := "()V" } : Jvm.MethodName) prog_1_method_5_code (1 : Nat) (Option.none : Option Jvm.ClassFile.FieldType)) ∈ lw_all := lw_g (lw_at lw_m2 47 rfl) rfl
theorem q372 : (Jvm.Cond.methodLink "BagPhrases" (115 : Nat) ({ cls := "BagPhrases", name := "all", desc := "()I" } : Jvm.MethodName)) ∈ lw_all := lw_g (lw_at lw_m2 48 rfl) rfl
theorem q373 : (Jvm.Cond.privateMethod ({ cls := "BagPhrases", name := "all", desc := "()I" } : Jvm.MethodName)) ∈ lw_tbl := lw_at lw_m2 49 rfl
theorem q374 : (Jvm.Cond.instanceMethod ({ cls := "BagPhrases", name := "all", desc := "()I" } : Jvm.MethodName)) ∈ lw_all := lw_g (lw_at lw_m2 50 rfl) rfl
theorem q375 : (Jvm.Cond.code ({ cls := "BagPhrases", name := "all", desc := "()I" } : Jvm.MethodName) prog_1_method_6_code (1 : Nat) (Option.some Jvm.ClassFile.FieldType.int)) ∈ lw_all := lw_g (lw_at lw_m2 51 rfl) rfl
theorem q376 : (Jvm.Cond.methodLink "BagPhrases" (122 : Nat) ({ cls := "BagPhrases", name := "look", desc := "(LBagPhrases$Setting;I)V" } : Jvm.MethodName)) ∈ lw_all := lw_g (lw_at lw_m2 52 rfl) rfl
theorem q377 : (Jvm.Cond.privateMethod ({ cls := "BagPhrases", name := "look", desc := "(LBagPhrases$Setting;I)V" } : Jvm.MethodName)) ∈ lw_tbl := lw_at lw_m2 53 rfl
theorem q378 : (Jvm.Cond.instanceMethod ({ cls := "BagPhrases", name := "look", desc := "(LBagPhrases$Setting;I)V" } : Jvm.MethodName)) ∈ lw_all := lw_g (lw_at lw_m2 54 rfl) rfl
theorem q379 : (Jvm.Cond.code ({ cls := "BagPhrases", name := "look", desc := "(LBagPhrases$Setting;I)V" } : Jvm.MethodName) prog_1_method_4_code (5 : Nat) (Option.none : Option Jvm.ClassFile.FieldType)) ∈ lw_all := lw_g (lw_at lw_m2 55 rfl) rfl
theorem q380 : (Jvm.Cond.constantLong "BagPhrases" (107 : Nat) (-9 : Int64)) ∈ lw_all := lw_g (lw_at lw_m2 56 rfl) rfl
theorem q381 : (Jvm.Cond.methodLink "BagPhrases" (267 : Nat) ({ cls := "BagPhrases", name := "unlike", desc := "()I" } : Jvm.MethodName)) ∈ lw_all := lw_g (lw_at lw_m2 57 rfl) rfl
theorem q382 : (Jvm.Cond.privateMethod ({ cls := "BagPhrases", name := "unlike", desc := "()I" } : Jvm.MethodName)) ∈ lw_tbl := lw_at lw_m2 58 rfl
theorem q383 : (Jvm.Cond.instanceMethod ({ cls := "BagPhrases", name := "unlike", desc := "()I" } : Jvm.MethodName)) ∈ lw_all := lw_g (lw_at lw_m2 59 rfl) rfl
theorem q384 : (Jvm.Cond.code ({ cls := "BagPhrases", name := "unlike", desc := "()I" } : Jvm.MethodName) prog_1_method_39_code (3 : Nat) (Option.some Jvm.ClassFile.FieldType.int)) ∈ lw_all := lw_g (lw_at lw_m2 60 rfl) rfl
theorem q385 : (Jvm.Cond.methodLink "BagPhrases" (270 : Nat) ({ cls := "BagPhrases", name := "fitting", desc := "()I" } : Jvm.MethodName)) ∈ lw_all := lw_g (lw_at lw_m2 61 rfl) rfl
theorem q386 : (Jvm.Cond.privateMethod ({ cls := "BagPhrases", name := "fitting", desc := "()I" } : Jvm.MethodName)) ∈ lw_tbl := lw_at lw_m2 62 rfl
theorem q387 : (Jvm.Cond.instanceMethod ({ cls := "BagPhrases", name := "fitting", desc := "()I" } : Jvm.MethodName)) ∈ lw_all := lw_g (lw_at lw_m2 63 rfl) rfl
theorem q388 : (Jvm.Cond.code ({ cls := "BagPhrases", name := "fitting", desc := "()I" } : Jvm.MethodName) prog_1_method_38_code (3 : Nat) (Option.some Jvm.ClassFile.FieldType.int)) ∈ lw_all := lw_g (lw_at lw_m2 64 rfl) rfl
theorem q389 : (Jvm.Cond.methodLink "BagPhrases" (261 : Nat) ({ cls := "BagPhrases$Word", name := "times", desc := "([I)I" } : Jvm.MethodName)) ∈ lw_all := lw_g (lw_at lw_m2 65 rfl) rfl
theorem q396 : (Jvm.Cond.methodLink "BagPhrases" (273 : Nat) ({ cls := "BagPhrases", name := "inPhrases", desc := "()I" } : Jvm.MethodName)) ∈ lw_all := lw_g (lw_at lw_m2 72 rfl) rfl
theorem q397 : (Jvm.Cond.privateMethod ({ cls := "BagPhrases", name := "inPhrases", desc := "()I" } : Jvm.MethodName)) ∈ lw_tbl := lw_at lw_m2 73 rfl
theorem q398 : (Jvm.Cond.instanceMethod ({ cls := "BagPhrases", name := "inPhrases", desc := "()I" } : Jvm.MethodName)) ∈ lw_all := lw_g (lw_at lw_m2 74 rfl) rfl
theorem q399 : (Jvm.Cond.code ({ cls := "BagPhrases", name := "inPhrases", desc := "()I" } : Jvm.MethodName) prog_1_method_21_code (3 : Nat) (Option.some Jvm.ClassFile.FieldType.int)) ∈ lw_all := lw_g (lw_at lw_m2 75 rfl) rfl
theorem q400 : (Jvm.Cond.methodLink "BagPhrases" (184 : Nat) ({ cls := "BagPhrases", name := "isUsed", desc := "(I)Z" } : Jvm.MethodName)) ∈ lw_all := lw_g (lw_at lw_m2 76 rfl) rfl
theorem q401 : (Jvm.Cond.privateMethod ({ cls := "BagPhrases", name := "isUsed", desc := "(I)Z" } : Jvm.MethodName)) ∈ lw_tbl := lw_at lw_m2 77 rfl
theorem q402 : (Jvm.Cond.instanceMethod ({ cls := "BagPhrases", name := "isUsed", desc := "(I)Z" } : Jvm.MethodName)) ∈ lw_all := lw_g (lw_at lw_m2 78 rfl) rfl
theorem q403 : (Jvm.Cond.code ({ cls := "BagPhrases", name := "isUsed", desc := "(I)Z" } : Jvm.MethodName) prog_1_method_20_code (4 : Nat) (Option.some Jvm.ClassFile.FieldType.boolean)) ∈ lw_all := lw_g (lw_at lw_m2 79 rfl) rfl
theorem q404 : (Jvm.Cond.methodLink "BagPhrases" (181 : Nat) ({ cls := "BagPhrases", name := "countAll", desc := "()J" } : Jvm.MethodName)) ∈ lw_all := lw_g (lw_at lw_m2 80 rfl) rfl
theorem q405 : (Jvm.Cond.privateMethod ({ cls := "BagPhrases", name := "countAll", desc := "()J" } : Jvm.MethodName)) ∈ lw_tbl := lw_at lw_m2 81 rfl
theorem q406 : (Jvm.Cond.instanceMethod ({ cls := "BagPhrases", name := "countAll", desc := "()J" } : Jvm.MethodName)) ∈ lw_all := lw_g (lw_at lw_m2 82 rfl) rfl
theorem q407 : (Jvm.Cond.code ({ cls := "BagPhrases", name := "countAll", desc := "()J" } : Jvm.MethodName) prog_1_method_10_code (1 : Nat) (Option.some Jvm.ClassFile.FieldType.long)) ∈ lw_all := lw_g (lw_at lw_m2 83 rfl) rfl
theorem q408 : (Jvm.Cond.methodLink "BagPhrases" (148 : Nat) ({ cls := "BagPhrases", name := "countFrom", desc := "(II)J" } : Jvm.MethodName)) ∈ lw_all := lw_g (lw_at lw_m2 84 rfl) rfl
theorem q409 : (Jvm.Cond.privateMethod ({ cls := "BagPhrases", name := "countFrom", desc := "(II)J" } : Jvm.MethodName)) ∈ lw_tbl := lw_at lw_m2 85 rfl
theorem q410 : (Jvm.Cond.instanceMethod ({ cls := "BagPhrases", name := "countFrom", desc := "(II)J" } : Jvm.MethodName)) ∈ lw_all := lw_g (lw_at lw_m2 86 rfl) rfl
theorem q411 : (Jvm.Cond.code ({ cls := "BagPhrases", name := "countFrom", desc := "(II)J" } : Jvm.MethodName) prog_1_method_9_code (7 : Nat) (Option.some Jvm.ClassFile.FieldType.long)) ∈ lw_all := lw_g (lw_at lw_m2 87 rfl) rfl
theorem q412 : (Jvm.Cond.methodLink "BagPhrases" (141 : Nat) ({ cls := "BagPhrases", name := "mayEnd", desc := "(II)Z" } : Jvm.MethodName)) ∈ lw_all := lw_g (lw_at lw_m2 88 rfl) rfl
theorem q413 : (Jvm.Cond.privateMethod ({ cls := "BagPhrases", name := "mayEnd", desc := "(II)Z" } : Jvm.MethodName)) ∈ lw_tbl := lw_at lw_m2 89 rfl
theorem q414 : (Jvm.Cond.instanceMethod ({ cls := "BagPhrases", name := "mayEnd", desc := "(II)Z" } : Jvm.MethodName)) ∈ lw_all := lw_g (lw_at lw_m2 90 rfl) rfl
theorem q415 : (Jvm.Cond.code ({ cls := "BagPhrases", name := "mayEnd", desc := "(II)Z" } : Jvm.MethodName) prog_1_method_8_code (3 : Nat) (Option.some Jvm.ClassFile.FieldType.boolean)) ∈ lw_all := lw_g (lw_at lw_m2 91 rfl) rfl
theorem q416 : (Jvm.Cond.methodLink "BagPhrases" (144 : Nat) ({ cls := "BagPhrases", name := "mayCome", desc := "(III)Z" } : Jvm.MethodName)) ∈ lw_all := lw_g (lw_at lw_m2 92 rfl) rfl
theorem q417 : (Jvm.Cond.privateMethod ({ cls := "BagPhrases", name := "mayCome", desc := "(III)Z" } : Jvm.MethodName)) ∈ lw_tbl := lw_at lw_m2 93 rfl
theorem q418 : (Jvm.Cond.instanceMethod ({ cls := "BagPhrases", name := "mayCome", desc := "(III)Z" } : Jvm.MethodName)) ∈ lw_all := lw_g (lw_at lw_m2 94 rfl) rfl
theorem q419 : (Jvm.Cond.code ({ cls := "BagPhrases", name := "mayCome", desc := "(III)Z" } : Jvm.MethodName) prog_1_method_7_code (7 : Nat) (Option.some Jvm.ClassFile.FieldType.boolean)) ∈ lw_all := lw_g (lw_at lw_m2 95 rfl) rfl
theorem q420 : (Jvm.Cond.methodLink "BagPhrases" (276 : Nat) ({ cls := "BagPhrases", name := "lengthOf", desc := "(Z)I" } : Jvm.MethodName)) ∈ lw_all := lw_g (lw_at lw_m2 96 rfl) rfl
theorem q421 : (Jvm.Cond.privateMethod ({ cls := "BagPhrases", name := "lengthOf", desc := "(Z)I" } : Jvm.MethodName)) ∈ lw_tbl := lw_at lw_m2 97 rfl
theorem q422 : (Jvm.Cond.instanceMethod ({ cls := "BagPhrases", name := "lengthOf", desc := "(Z)I" } : Jvm.MethodName)) ∈ lw_all := lw_g (lw_at lw_m2 98 rfl) rfl
theorem q423 : (Jvm.Cond.code ({ cls := "BagPhrases", name := "lengthOf", desc := "(Z)I" } : Jvm.MethodName) prog_1_method_19_code (4 : Nat) (Option.some Jvm.ClassFile.FieldType.int)) ∈ lw_all := lw_g (lw_at lw_m2 99 rfl) rfl
theorem q424 : (Jvm.Cond.methodLink "BagPhrases" (171 : Nat) ({ cls := "BagPhrases", name := "beginLayers", desc := "()V" } : Jvm.MethodName)) ∈ lw_all := lw_g (lw_at lw_m2 100 rfl) rfl
theorem q425 : (Jvm.Cond.privateMethod ({ cls := "BagPhrases", name := "beginLayers", desc := "()V" } : Jvm.MethodName)) ∈ lw_tbl := lw_at lw_m2 101 rfl
theorem q426 : (Jvm.Cond.instanceMethod ({ cls := "BagPhrases", name := "beginLayers", desc := "()V" } : Jvm.MethodName)) ∈ lw_all := lw_g (lw_at lw_m2 102 rfl) rfl
theorem q427 : (Jvm.Cond.code ({ cls := "BagPhrases", name := "beginLayers", desc := "()V" } : Jvm.MethodName) prog_1_method_15_code (2 : Nat) (Option.none : Option Jvm.ClassFile.FieldType)) ∈ lw_all := lw_g (lw_at lw_m2 103 rfl) rfl
theorem q428 : (Jvm.Cond.methodLink "BagPhrases" (177 : Nat) ({ cls := "BagPhrases", name := "endedNow", desc := "()J" } : Jvm.MethodName)) ∈ lw_all := lw_g (lw_at lw_m2 104 rfl) rfl
theorem q429 : (Jvm.Cond.privateMethod ({ cls := "BagPhrases", name := "endedNow", desc := "()J" } : Jvm.MethodName)) ∈ lw_tbl := lw_at lw_m2 105 rfl
theorem q430 : (Jvm.Cond.instanceMethod ({ cls := "BagPhrases", name := "endedNow", desc := "()J" } : Jvm.MethodName)) ∈ lw_all := lw_g (lw_at lw_m2 106 rfl) rfl
theorem q431 : (Jvm.Cond.code ({ cls := "BagPhrases", name := "endedNow", desc := "()J" } : Jvm.MethodName) prog_1_method_17_code (4 : Nat) (Option.some Jvm.ClassFile.FieldType.long)) ∈ lw_all := lw_g (lw_at lw_m2 107 rfl) rfl
theorem q432 : (Jvm.Cond.methodLink "BagPhrases" (174 : Nat) ({ cls := "BagPhrases", name := "goOnLayers", desc := "()V" } : Jvm.MethodName)) ∈ lw_all := lw_g (lw_at lw_m2 108 rfl) rfl
theorem q433 : (Jvm.Cond.privateMethod ({ cls := "BagPhrases", name := "goOnLayers", desc := "()V" } : Jvm.MethodName)) ∈ lw_tbl := lw_at lw_m2 109 rfl
theorem q434 : (Jvm.Cond.instanceMethod ({ cls := "BagPhrases", name := "goOnLayers", desc := "()V" } : Jvm.MethodName)) ∈ lw_all := lw_g (lw_at lw_m2 110 rfl) rfl
theorem q435 : (Jvm.Cond.code ({ cls := "BagPhrases", name := "goOnLayers", desc := "()V" } : Jvm.MethodName) prog_1_method_16_code (3 : Nat) (Option.none : Option Jvm.ClassFile.FieldType)) ∈ lw_all := lw_g (lw_at lw_m2 111 rfl) rfl
theorem q437 : (Jvm.Cond.instanceMethod ({ cls := "BagPhrases", name := "word", desc := "(II)I" } : Jvm.MethodName)) ∈ lw_all := lw_g (lw_at lw_m2 113 rfl) rfl
theorem q438 : (Jvm.Cond.selects "BagPhrases" ({ cls := "BagPhrases", name := "word", desc := "(II)I" } : Jvm.MethodName) ({ cls := "BagPhrases", name := "word", desc := "(II)I" } : Jvm.MethodName)) ∈ lw_all := lw_g (lw_at lw_m2 114 rfl) rfl
theorem q439 : (Jvm.Cond.code ({ cls := "BagPhrases", name := "word", desc := "(II)I" } : Jvm.MethodName) prog_1_method_45_code (4 : Nat) (Option.some Jvm.ClassFile.FieldType.int)) ∈ lw_all := lw_g (lw_at lw_m2 115 rfl) rfl
theorem q440 : (Jvm.Cond.methodLink "BagPhrases" (290 : Nat) ({ cls := "BagPhrases", name := "isWord", desc := "(I)Z" } : Jvm.MethodName)) ∈ lw_all := lw_g (lw_at lw_m2 116 rfl) rfl
theorem q441 : (Jvm.Cond.privateMethod ({ cls := "BagPhrases", name := "isWord", desc := "(I)Z" } : Jvm.MethodName)) ∈ lw_tbl := lw_at lw_m2 117 rfl
theorem q442 : (Jvm.Cond.instanceMethod ({ cls := "BagPhrases", name := "isWord", desc := "(I)Z" } : Jvm.MethodName)) ∈ lw_all := lw_g (lw_at lw_m2 118 rfl) rfl
theorem q443 : (Jvm.Cond.code ({ cls := "BagPhrases", name := "isWord", desc := "(I)Z" } : Jvm.MethodName) prog_1_method_35_code (2 : Nat) (Option.some Jvm.ClassFile.FieldType.boolean)) ∈ lw_all := lw_g (lw_at lw_m2 119 rfl) rfl
theorem q444 : (Jvm.Cond.methodLink "BagPhrases" (293 : Nat) ({ cls := "BagPhrases", name := "rarest", desc := "(LBagPhrases$Word;)I" } : Jvm.MethodName)) ∈ lw_all := lw_g (lw_at lw_m2 120 rfl) rfl
theorem q445 : (Jvm.Cond.privateMethod ({ cls := "BagPhrases", name := "rarest", desc := "(LBagPhrases$Word;)I" } : Jvm.MethodName)) ∈ lw_tbl := lw_at lw_m2 121 rfl
theorem q446 : (Jvm.Cond.instanceMethod ({ cls := "BagPhrases", name := "rarest", desc := "(LBagPhrases$Word;)I" } : Jvm.MethodName)) ∈ lw_all := lw_g (lw_at lw_m2 122 rfl) rfl
theorem q447 : (Jvm.Cond.code ({ cls := "BagPhrases", name := "rarest", desc := "(LBagPhrases$Word;)I" } : Jvm.MethodName) prog_1_method_42_code (4 : Nat) (Option.some Jvm.ClassFile.FieldType.int)) ∈ lw_all := lw_g (lw_at lw_m2 123 rfl) rfl
theorem q448 : (Jvm.Cond.methodLink "BagPhrases" (283 : Nat) ({ cls := "BagPhrases", name := "wordsWith", desc := "(I)I" } : Jvm.MethodName)) ∈ lw_all := lw_g (lw_at lw_m2 124 rfl) rfl
theorem q449 : (Jvm.Cond.privateMethod ({ cls := "BagPhrases", name := "wordsWith", desc := "(I)I" } : Jvm.MethodName)) ∈ lw_tbl := lw_at lw_m2 125 rfl
theorem q450 : (Jvm.Cond.instanceMethod ({ cls := "BagPhrases", name := "wordsWith", desc := "(I)I" } : Jvm.MethodName)) ∈ lw_all := lw_g (lw_at lw_m2 126 rfl) rfl
theorem q451 : (Jvm.Cond.code ({ cls := "BagPhrases", name := "wordsWith", desc := "(I)I" } : Jvm.MethodName) prog_1_method_41_code (4 : Nat) (Option.some Jvm.ClassFile.FieldType.int)) ∈ lw_all := lw_g (lw_at lw_m2 127 rfl) rfl
theorem q452 : (Jvm.Cond.methodLink "BagPhrases" (297 : Nat) ({ cls := "BagPhrases", name := "twins", desc := "(LBagPhrases$Word;)I" } : Jvm.MethodName)) ∈ lw_all := lw_g (lw_at lw_m2 128 rfl) rfl
theorem q453 : (Jvm.Cond.privateMethod ({ cls := "BagPhrases", name := "twins", desc := "(LBagPhrases$Word;)I" } : Jvm.MethodName)) ∈ lw_tbl := lw_at lw_m2 129 rfl
theorem q454 : (Jvm.Cond.instanceMethod ({ cls := "BagPhrases", name := "twins", desc := "(LBagPhrases$Word;)I" } : Jvm.MethodName)) ∈ lw_all := lw_g (lw_at lw_m2 130 rfl) rfl
theorem q455 : (Jvm.Cond.code ({ cls := "BagPhrases", name := "twins", desc := "(LBagPhrases$Word;)I" } : Jvm.MethodName) prog_1_method_43_code (4 : Nat) (Option.some Jvm.ClassFile.FieldType.int)) ∈ lw_all := lw_g (lw_at lw_m2 131 rfl) rfl
theorem q456 : (Jvm.Cond.methodLink "BagPhrases" (286 : Nat) ({ cls := "BagPhrases$Word", name := "isTwin", desc := "(LBagPhrases$Word;)Z" } : Jvm.MethodName)) ∈ lw_all := lw_g (lw_at lw_m2 132 rfl) rfl
theorem q460 : (Jvm.Cond.methodLink "BagPhrases" (300 : Nat) ({ cls := "BagPhrases", name := "lettersOf", desc := "(LBagPhrases$Word;)I" } : Jvm.MethodName)) ∈ lw_all := lw_g (lw_at lw_m2 136 rfl) rfl
theorem q461 : (Jvm.Cond.static ({ cls := "BagPhrases", name := "lettersOf", desc := "(LBagPhrases$Word;)I" } : Jvm.MethodName)) ∈ lw_all := lw_g (lw_at lw_m2 137 rfl) rfl
theorem q462 : (Jvm.Cond.code ({ cls := "BagPhrases", name := "lettersOf", desc := "(LBagPhrases$Word;)I" } : Jvm.MethodName) prog_1_method_44_code (3 : Nat) (Option.some Jvm.ClassFile.FieldType.int)) ∈ lw_all := lw_g (lw_at lw_m2 138 rfl) rfl
theorem q464 : (Jvm.Cond.instanceMethod ({ cls := "BagPhrases", name := "letter", desc := "(II)I" } : Jvm.MethodName)) ∈ lw_all := lw_g (lw_at lw_m2 140 rfl) rfl
theorem q465 : (Jvm.Cond.selects "BagPhrases" ({ cls := "BagPhrases", name := "letter", desc := "(II)I" } : Jvm.MethodName) ({ cls := "BagPhrases", name := "letter", desc := "(II)I" } : Jvm.MethodName)) ∈ lw_all := lw_g (lw_at lw_m2 141 rfl) rfl
theorem q466 : (Jvm.Cond.code ({ cls := "BagPhrases", name := "letter", desc := "(II)I" } : Jvm.MethodName) prog_1_method_46_code (3 : Nat) (Option.some Jvm.ClassFile.FieldType.int)) ∈ lw_all := lw_g (lw_at lw_m2 142 rfl) rfl
theorem q467 : (Jvm.Cond.methodLink "BagPhrases" (303 : Nat) ({ cls := "BagPhrases", name := "isLetter", desc := "(I)Z" } : Jvm.MethodName)) ∈ lw_all := lw_g (lw_at lw_m2 143 rfl) rfl
theorem q468 : (Jvm.Cond.static ({ cls := "BagPhrases", name := "isLetter", desc := "(I)Z" } : Jvm.MethodName)) ∈ lw_all := lw_g (lw_at lw_m2 144 rfl) rfl
theorem q469 : (Jvm.Cond.code ({ cls := "BagPhrases", name := "isLetter", desc := "(I)Z" } : Jvm.MethodName) prog_1_method_36_code (1 : Nat) (Option.some Jvm.ClassFile.FieldType.boolean)) ∈ lw_all := lw_g (lw_at lw_m2 145 rfl) rfl
theorem q470 : (Jvm.Cond.constantLong "BagPhrases" (257 : Nat) (7 : Int64)) ∈ lw_all := lw_g (lw_at lw_m2 146 rfl) rfl
theorem q471 : (Jvm.Cond.methodLink "BagPhrases" (306 : Nat) ({ cls := "BagPhrases", name := "isKind", desc := "(I)Z" } : Jvm.MethodName)) ∈ lw_all := lw_g (lw_at lw_m2 147 rfl) rfl
theorem q472 : (Jvm.Cond.static ({ cls := "BagPhrases", name := "isKind", desc := "(I)Z" } : Jvm.MethodName)) ∈ lw_all := lw_g (lw_at lw_m2 148 rfl) rfl
theorem q473 : (Jvm.Cond.code ({ cls := "BagPhrases", name := "isKind", desc := "(I)Z" } : Jvm.MethodName) prog_1_method_37_code (1 : Nat) (Option.some Jvm.ClassFile.FieldType.boolean)) ∈ lw_all := lw_g (lw_at lw_m2 149 rfl) rfl
theorem q474 : (Jvm.Cond.constantLong "BagPhrases" (259 : Nat) (3 : Int64)) ∈ lw_all := lw_g (lw_at lw_m2 150 rfl) rfl
theorem q476 : (Jvm.Cond.instanceMethod ({ cls := "BagPhrases", name := "put", desc := "(I)I" } : Jvm.MethodName)) ∈ lw_all := lw_g (lw_at lw_m2 152 rfl) rfl
theorem q477 : (Jvm.Cond.selects "BagPhrases" ({ cls := "BagPhrases", name := "put", desc := "(I)I" } : Jvm.MethodName) ({ cls := "BagPhrases", name := "put", desc := "(I)I" } : Jvm.MethodName)) ∈ lw_all := lw_g (lw_at lw_m2 153 rfl) rfl
theorem q478 : (Jvm.Cond.code ({ cls := "BagPhrases", name := "put", desc := "(I)I" } : Jvm.MethodName) prog_1_method_49_code (2 : Nat) (Option.some Jvm.ClassFile.FieldType.int)) ∈ lw_all := lw_g (lw_at lw_m2 154 rfl) rfl
theorem q479 : (Jvm.Cond.methodLink "BagPhrases" (314 : Nat) ({ cls := "BagPhrases", name := "act", desc := "()V" } : Jvm.MethodName)) ∈ lw_all := lw_g (lw_at lw_m2 155 rfl) rfl
theorem q480 : (Jvm.Cond.privateMethod ({ cls := "BagPhrases", name := "act", desc := "()V" } : Jvm.MethodName)) ∈ lw_tbl := lw_at lw_m2 156 rfl
theorem q481 : (Jvm.Cond.instanceMethod ({ cls := "BagPhrases", name := "act", desc := "()V" } : Jvm.MethodName)) ∈ lw_all := lw_g (lw_at lw_m2 157 rfl) rfl
theorem q482 : (Jvm.Cond.code ({ cls := "BagPhrases", name := "act", desc := "()V" } : Jvm.MethodName) prog_1_method_48_code (1 : Nat) (Option.none : Option Jvm.ClassFile.FieldType)) ∈ lw_all := lw_g (lw_at lw_m2 158 rfl) rfl
theorem q483 : (Jvm.Cond.methodLink "BagPhrases" (311 : Nat) ({ cls := "java/lang/Math", name := "min", desc := "(II)I" } : Jvm.MethodName)) ∈ lw_all := lw_g (lw_at lw_m2 159 rfl) rfl
theorem q485 : (Jvm.Cond.instanceMethod ({ cls := "BagPhrases", name := "take", desc := "(I)I" } : Jvm.MethodName)) ∈ lw_all := lw_g (lw_at lw_m2 161 rfl) rfl
theorem q486 : (Jvm.Cond.selects "BagPhrases" ({ cls := "BagPhrases", name := "take", desc := "(I)I" } : Jvm.MethodName) ({ cls := "BagPhrases", name := "take", desc := "(I)I" } : Jvm.MethodName)) ∈ lw_all := lw_g (lw_at lw_m2 162 rfl) rfl
theorem q487 : (Jvm.Cond.code ({ cls := "BagPhrases", name := "take", desc := "(I)I" } : Jvm.MethodName) prog_1_method_50_code (2 : Nat) (Option.some Jvm.ClassFile.FieldType.int)) ∈ lw_all := lw_g (lw_at lw_m2 163 rfl) rfl
theorem q489 : (Jvm.Cond.instanceMethod ({ cls := "BagPhrases", name := "bar", desc := "(I)I" } : Jvm.MethodName)) ∈ lw_all := lw_g (lw_at lw_m2 165 rfl) rfl
theorem q490 : (Jvm.Cond.selects "BagPhrases" ({ cls := "BagPhrases", name := "bar", desc := "(I)I" } : Jvm.MethodName) ({ cls := "BagPhrases", name := "bar", desc := "(I)I" } : Jvm.MethodName)) ∈ lw_all := lw_g (lw_at lw_m2 166 rfl) rfl
theorem q491 : (Jvm.Cond.code ({ cls := "BagPhrases", name := "bar", desc := "(I)I" } : Jvm.MethodName) prog_1_method_51_code (2 : Nat) (Option.some Jvm.ClassFile.FieldType.int)) ∈ lw_all := lw_g (lw_at lw_m2 167 rfl) rfl
theorem q493 : (Jvm.Cond.instanceMethod ({ cls := "BagPhrases", name := "rank", desc := "(II)I" } : Jvm.MethodName)) ∈ lw_all := lw_g (lw_at lw_m2 169 rfl) rfl
theorem q494 : (Jvm.Cond.selects "BagPhrases" ({ cls := "BagPhrases", name := "rank", desc := "(II)I" } : Jvm.MethodName) ({ cls := "BagPhrases", name := "rank", desc := "(II)I" } : Jvm.MethodName)) ∈ lw_all := lw_g (lw_at lw_m2 170 rfl) rfl
theorem q495 : (Jvm.Cond.code ({ cls := "BagPhrases", name := "rank", desc := "(II)I" } : Jvm.MethodName) prog_1_method_52_code (4 : Nat) (Option.some Jvm.ClassFile.FieldType.int)) ∈ lw_all := lw_g (lw_at lw_m2 171 rfl) rfl
theorem q496 : (Jvm.Cond.constantLong "BagPhrases" (317 : Nat) (9 : Int64)) ∈ lw_all := lw_g (lw_at lw_m2 172 rfl) rfl
theorem q498 : (Jvm.Cond.instanceMethod ({ cls := "BagPhrases", name := "allow", desc := "(III)I" } : Jvm.MethodName)) ∈ lw_all := lw_g (lw_at lw_m2 174 rfl) rfl
theorem q499 : (Jvm.Cond.selects "BagPhrases" ({ cls := "BagPhrases", name := "allow", desc := "(III)I" } : Jvm.MethodName) ({ cls := "BagPhrases", name := "allow", desc := "(III)I" } : Jvm.MethodName)) ∈ lw_all := lw_g (lw_at lw_m2 175 rfl) rfl
theorem q500 : (Jvm.Cond.code ({ cls := "BagPhrases", name := "allow", desc := "(III)I" } : Jvm.MethodName) prog_1_method_53_code (5 : Nat) (Option.some Jvm.ClassFile.FieldType.int)) ∈ lw_all := lw_g (lw_at lw_m2 176 rfl) rfl
theorem q501 : (Jvm.Cond.constantLong "BagPhrases" (319 : Nat) (2 : Int64)) ∈ lw_all := lw_g (lw_at lw_m2 177 rfl) rfl
theorem q503 : (Jvm.Cond.instanceMethod ({ cls := "BagPhrases", name := "undo", desc := "()I" } : Jvm.MethodName)) ∈ lw_all := lw_g (lw_at lw_m2 179 rfl) rfl
theorem q504 : (Jvm.Cond.selects "BagPhrases" ({ cls := "BagPhrases", name := "undo", desc := "()I" } : Jvm.MethodName) ({ cls := "BagPhrases", name := "undo", desc := "()I" } : Jvm.MethodName)) ∈ lw_all := lw_g (lw_at lw_m2 180 rfl) rfl
theorem q505 : (Jvm.Cond.code ({ cls := "BagPhrases", name := "undo", desc := "()I" } : Jvm.MethodName) prog_1_method_54_code (1 : Nat) (Option.some Jvm.ClassFile.FieldType.int)) ∈ lw_all := lw_g (lw_at lw_m2 181 rfl) rfl
theorem q507 : (Jvm.Cond.instanceMethod ({ cls := "BagPhrases", name := "many", desc := "(I)J" } : Jvm.MethodName)) ∈ lw_all := lw_g (lw_at lw_m2 183 rfl) rfl
theorem q508 : (Jvm.Cond.selects "BagPhrases" ({ cls := "BagPhrases", name := "many", desc := "(I)J" } : Jvm.MethodName) ({ cls := "BagPhrases", name := "many", desc := "(I)J" } : Jvm.MethodName)) ∈ lw_all := lw_g (lw_at lw_m2 184 rfl) rfl
theorem q509 : (Jvm.Cond.code ({ cls := "BagPhrases", name := "many", desc := "(I)J" } : Jvm.MethodName) prog_1_method_55_code (2 : Nat) (Option.some Jvm.ClassFile.FieldType.long)) ∈ lw_all := lw_g (lw_at lw_m2 185 rfl) rfl
theorem q510 : (Jvm.Cond.constantLong "BagPhrases" (321 : Nat) (12 : Int64)) ∈ lw_all := lw_g (lw_at lw_m2 186 rfl) rfl
theorem q511 : (Jvm.Cond.constantLong "BagPhrases" (323 : Nat) (-2 : Int64)) ∈ lw_all := lw_g (lw_at lw_m2 187 rfl) rfl
theorem q512 : (Jvm.Cond.methodLink "BagPhrases" (325 : Nat) ({ cls := "BagPhrases", name := "countOf", desc := "(I)J" } : Jvm.MethodName)) ∈ lw_all := lw_g (lw_at lw_m2 188 rfl) rfl
theorem q513 : (Jvm.Cond.privateMethod ({ cls := "BagPhrases", name := "countOf", desc := "(I)J" } : Jvm.MethodName)) ∈ lw_tbl := lw_at lw_m2 189 rfl
theorem q514 : (Jvm.Cond.instanceMethod ({ cls := "BagPhrases", name := "countOf", desc := "(I)J" } : Jvm.MethodName)) ∈ lw_all := lw_g (lw_at lw_m2 190 rfl) rfl
theorem q515 : (Jvm.Cond.code ({ cls := "BagPhrases", name := "countOf", desc := "(I)J" } : Jvm.MethodName) prog_1_method_18_code (3 : Nat) (Option.some Jvm.ClassFile.FieldType.long)) ∈ lw_all := lw_g (lw_at lw_m2 191 rfl) rfl
theorem q517 : (Jvm.Cond.instanceMethod ({ cls := "BagPhrases", name := "having", desc := "(I)J" } : Jvm.MethodName)) ∈ lw_all := lw_g (lw_at lw_m2 193 rfl) rfl
theorem q518 : (Jvm.Cond.selects "BagPhrases" ({ cls := "BagPhrases", name := "having", desc := "(I)J" } : Jvm.MethodName) ({ cls := "BagPhrases", name := "having", desc := "(I)J" } : Jvm.MethodName)) ∈ lw_all := lw_g (lw_at lw_m2 194 rfl) rfl
theorem q519 : (Jvm.Cond.code ({ cls := "BagPhrases", name := "having", desc := "(I)J" } : Jvm.MethodName) prog_1_method_56_code (4 : Nat) (Option.some Jvm.ClassFile.FieldType.long)) ∈ lw_all := lw_g (lw_at lw_m2 195 rfl) rfl
theorem q520 : (Jvm.Cond.constantLong "BagPhrases" (329 : Nat) (-1 : Int64)) ∈ lw_all := lw_g (lw_at lw_m2 196 rfl) rfl
theorem q522 : (Jvm.Cond.instanceMethod ({ cls := "BagPhrases", name := "best", desc := "(I)I" } : Jvm.MethodName)) ∈ lw_all := lw_g (lw_at lw_m2 198 rfl) rfl
theorem q523 : (Jvm.Cond.selects "BagPhrases" ({ cls := "BagPhrases", name := "best", desc := "(I)I" } : Jvm.MethodName) ({ cls := "BagPhrases", name := "best", desc := "(I)I" } : Jvm.MethodName)) ∈ lw_all := lw_g (lw_at lw_m2 199 rfl) rfl
theorem q524 : (Jvm.Cond.code ({ cls := "BagPhrases", name := "best", desc := "(I)I" } : Jvm.MethodName) prog_1_method_57_code (3 : Nat) (Option.some Jvm.ClassFile.FieldType.int)) ∈ lw_all := lw_g (lw_at lw_m2 200 rfl) rfl
theorem q525 : (Jvm.Cond.constantLong "BagPhrases" (331 : Nat) (13 : Int64)) ∈ lw_all := lw_g (lw_at lw_m2 201 rfl) rfl
theorem q526 : (Jvm.Cond.methodLink "BagPhrases" (333 : Nat) ({ cls := "BagPhrases", name := "layBest", desc := "()I" } : Jvm.MethodName)) ∈ lw_all := lw_g (lw_at lw_m2 202 rfl) rfl
theorem q527 : (Jvm.Cond.privateMethod ({ cls := "BagPhrases", name := "layBest", desc := "()I" } : Jvm.MethodName)) ∈ lw_tbl := lw_at lw_m2 203 rfl
theorem q528 : (Jvm.Cond.instanceMethod ({ cls := "BagPhrases", name := "layBest", desc := "()I" } : Jvm.MethodName)) ∈ lw_all := lw_g (lw_at lw_m2 204 rfl) rfl
theorem q529 : (Jvm.Cond.code ({ cls := "BagPhrases", name := "layBest", desc := "()I" } : Jvm.MethodName) prog_1_method_13_code (6 : Nat) (Option.some Jvm.ClassFile.FieldType.int)) ∈ lw_all := lw_g (lw_at lw_m2 205 rfl) rfl
theorem q530 : (Jvm.Cond.methodLink "BagPhrases" (152 : Nat) ({ cls := "BagPhrases", name := "worthFrom", desc := "(II)I" } : Jvm.MethodName)) ∈ lw_all := lw_g (lw_at lw_m2 206 rfl) rfl
theorem q531 : (Jvm.Cond.privateMethod ({ cls := "BagPhrases", name := "worthFrom", desc := "(II)I" } : Jvm.MethodName)) ∈ lw_tbl := lw_at lw_m2 207 rfl
theorem q532 : (Jvm.Cond.instanceMethod ({ cls := "BagPhrases", name := "worthFrom", desc := "(II)I" } : Jvm.MethodName)) ∈ lw_all := lw_g (lw_at lw_m2 208 rfl) rfl
theorem q533 : (Jvm.Cond.code ({ cls := "BagPhrases", name := "worthFrom", desc := "(II)I" } : Jvm.MethodName) prog_1_method_11_code (7 : Nat) (Option.some Jvm.ClassFile.FieldType.int)) ∈ lw_all := lw_g (lw_at lw_m2 209 rfl) rfl
theorem q534 : (Jvm.Cond.methodLink "BagPhrases" (159 : Nat) ({ cls := "java/lang/Math", name := "max", desc := "(II)I" } : Jvm.MethodName)) ∈ lw_all := lw_g (lw_at lw_m2 210 rfl) rfl
theorem q537 : (Jvm.Cond.methodLink "BagPhrases" (167 : Nat) ({ cls := "BagPhrases", name := "leads", desc := "(IIII)Z" } : Jvm.MethodName)) ∈ lw_all := lw_g (lw_at lw_m2 213 rfl) rfl
theorem q538 : (Jvm.Cond.privateMethod ({ cls := "BagPhrases", name := "leads", desc := "(IIII)Z" } : Jvm.MethodName)) ∈ lw_tbl := lw_at lw_m2 214 rfl
theorem q539 : (Jvm.Cond.instanceMethod ({ cls := "BagPhrases", name := "leads", desc := "(IIII)Z" } : Jvm.MethodName)) ∈ lw_all := lw_g (lw_at lw_m2 215 rfl) rfl
theorem q540 : (Jvm.Cond.code ({ cls := "BagPhrases", name := "leads", desc := "(IIII)Z" } : Jvm.MethodName) prog_1_method_12_code (6 : Nat) (Option.some Jvm.ClassFile.FieldType.boolean)) ∈ lw_all := lw_g (lw_at lw_m2 216 rfl) rfl
theorem q542 : (Jvm.Cond.instanceMethod ({ cls := "BagPhrases", name := "phrase", desc := "(JI)I" } : Jvm.MethodName)) ∈ lw_all := lw_g (lw_at lw_m2 218 rfl) rfl
theorem q543 : (Jvm.Cond.selects "BagPhrases" ({ cls := "BagPhrases", name := "phrase", desc := "(JI)I" } : Jvm.MethodName) ({ cls := "BagPhrases", name := "phrase", desc := "(JI)I" } : Jvm.MethodName)) ∈ lw_all := lw_g (lw_at lw_m2 219 rfl) rfl
theorem q544 : (Jvm.Cond.code ({ cls := "BagPhrases", name := "phrase", desc := "(JI)I" } : Jvm.MethodName) prog_1_method_58_code (5 : Nat) (Option.some Jvm.ClassFile.FieldType.int)) ∈ lw_all := lw_g (lw_at lw_m2 220 rfl) rfl
theorem q545 : (Jvm.Cond.methodLink "BagPhrases" (336 : Nat) ({ cls := "BagPhrases", name := "layNumber", desc := "(J)I" } : Jvm.MethodName)) ∈ lw_all := lw_g (lw_at lw_m2 221 rfl) rfl
theorem q546 : (Jvm.Cond.privateMethod ({ cls := "BagPhrases", name := "layNumber", desc := "(J)I" } : Jvm.MethodName)) ∈ lw_tbl := lw_at lw_m2 222 rfl
theorem q547 : (Jvm.Cond.instanceMethod ({ cls := "BagPhrases", name := "layNumber", desc := "(J)I" } : Jvm.MethodName)) ∈ lw_all := lw_g (lw_at lw_m2 223 rfl) rfl
theorem q548 : (Jvm.Cond.code ({ cls := "BagPhrases", name := "layNumber", desc := "(J)I" } : Jvm.MethodName) prog_1_method_14_code (11 : Nat) (Option.some Jvm.ClassFile.FieldType.int)) ∈ lw_all := lw_g (lw_at lw_m2 224 rfl) rfl
theorem q550 : (Jvm.Cond.instanceMethod ({ cls := "BagPhrases", name := "tell", desc := "(I)I" } : Jvm.MethodName)) ∈ lw_all := lw_g (lw_at lw_m2 226 rfl) rfl
theorem q551 : (Jvm.Cond.selects "BagPhrases" ({ cls := "BagPhrases", name := "tell", desc := "(I)I" } : Jvm.MethodName) ({ cls := "BagPhrases", name := "tell", desc := "(I)I" } : Jvm.MethodName)) ∈ lw_all := lw_g (lw_at lw_m2 227 rfl) rfl
theorem q552 : (Jvm.Cond.code ({ cls := "BagPhrases", name := "tell", desc := "(I)I" } : Jvm.MethodName) prog_1_method_59_code (2 : Nat) (Option.some Jvm.ClassFile.FieldType.int)) ∈ lw_all := lw_g (lw_at lw_m2 228 rfl) rfl
theorem q554 : (Jvm.Cond.instanceMethod ({ cls := "BagPhrases", name := "clear", desc := "()I" } : Jvm.MethodName)) ∈ lw_all := lw_g (lw_at lw_m2 230 rfl) rfl
theorem q555 : (Jvm.Cond.selects "BagPhrases" ({ cls := "BagPhrases", name := "clear", desc := "()I" } : Jvm.MethodName) ({ cls := "BagPhrases", name := "clear", desc := "()I" } : Jvm.MethodName)) ∈ lw_all := lw_g (lw_at lw_m2 231 rfl) rfl
theorem q556 : (Jvm.Cond.code ({ cls := "BagPhrases", name := "clear", desc := "()I" } : Jvm.MethodName) prog_1_method_60_code (2 : Nat) (Option.some Jvm.ClassFile.FieldType.int)) ∈ lw_all := lw_g (lw_at lw_m2 232 rfl) rfl
theorem q558 : (Jvm.Cond.instanceMethod ({ cls := "BagPhrases", name := "why", desc := "(I)I" } : Jvm.MethodName)) ∈ lw_all := lw_g (lw_at lw_m2 234 rfl) rfl
theorem q559 : (Jvm.Cond.selects "BagPhrases" ({ cls := "BagPhrases", name := "why", desc := "(I)I" } : Jvm.MethodName) ({ cls := "BagPhrases", name := "why", desc := "(I)I" } : Jvm.MethodName)) ∈ lw_all := lw_g (lw_at lw_m2 235 rfl) rfl
theorem q560 : (Jvm.Cond.codeWith ({ cls := "BagPhrases", name := "why", desc := "(I)I" } : Jvm.MethodName) prog_1_method_66_code (3 : Nat) (Option.some Jvm.ClassFile.FieldType.int) [((15 : Nat), (19 : Nat), (22 : Nat), (348 : Nat)), ((15 : Nat), (19 : Nat), (22 : Nat), (352 : Nat)), ((15 : Nat), (19 : Nat), (22 : Nat), (372 : Nat)), ((15 : Nat), (19 : Nat), (29 : Nat), (385 : Nat))]) ∈ lw_all := lw_g (lw_at lw_m2 236 rfl) rfl
theorem q561 : (Jvm.Cond.classLink "BagPhrases" (348 : Nat) "BagPhrases$Banned") ∈ lw_all := lw_g (lw_at lw_m2 237 rfl) rfl
theorem q562 : (Jvm.Cond.classLink "BagPhrases" (352 : Nat) "BagPhrases$Unlet") ∈ lw_all := lw_g (lw_at lw_m2 238 rfl) rfl
theorem q563 : (Jvm.Cond.classLink "BagPhrases" (372 : Nat) "BagPhrases$Wordless") ∈ lw_all := lw_g (lw_at lw_m2 239 rfl) rfl
theorem q564 : (Jvm.Cond.classLink "BagPhrases" (385 : Nat) "BagPhrases$Misfit") ∈ lw_all := lw_g (lw_at lw_m3 0 rfl) rfl
theorem q565 : (Jvm.Cond.methodLink "BagPhrases" (400 : Nat) ({ cls := "BagPhrases", name := "check", desc := "()V" } : Jvm.MethodName)) ∈ lw_all := lw_g (lw_at lw_m3 1 rfl) rfl
theorem q566 : (Jvm.Cond.privateMethod ({ cls := "BagPhrases", name := "check", desc := "()V" } : Jvm.MethodName)) ∈ lw_tbl := lw_at lw_m3 2 rfl
theorem q567 : (Jvm.Cond.instanceMethod ({ cls := "BagPhrases", name := "check", desc := "()V" } : Jvm.MethodName)) ∈ lw_all := lw_g (lw_at lw_m3 3 rfl) rfl
theorem q568 : (Jvm.Cond.codeWith ({ cls := "BagPhrases", name := "check", desc := "()V" } : Jvm.MethodName) prog_1_method_64_code (2 : Nat) (Option.none : Option Jvm.ClassFile.FieldType) [((54 : Nat), (58 : Nat), (61 : Nat), (343 : Nat))]) ∈ lw_all := lw_g (lw_at lw_m3 4 rfl) rfl
theorem q569 : (Jvm.Cond.classLink "BagPhrases" (343 : Nat) "BagPhrases$Amiss") ∈ lw_all := lw_g (lw_at lw_m3 5 rfl) rfl
theorem q570 : (Jvm.Cond.methodLink "BagPhrases" (363 : Nat) ({ cls := "java/lang/System", name := "arraycopy", desc := "(Ljava/lang/Object;ILjava/lang/Object;II)V" } : Jvm.MethodName)) ∈ lw_all := lw_g (lw_at lw_m3 6 rfl) rfl
theorem q571 : (Jvm.Cond.methodLink "BagPhrases" (369 : Nat) ({ cls := "BagPhrases", name := "takeWord", desc := "(I)V" } : Jvm.MethodName)) ∈ lw_all := lw_g (lw_at lw_m3 7 rfl) rfl
theorem q572 : (Jvm.Cond.privateMethod ({ cls := "BagPhrases", name := "takeWord", desc := "(I)V" } : Jvm.MethodName)) ∈ lw_tbl := lw_at lw_m3 8 rfl
theorem q573 : (Jvm.Cond.instanceMethod ({ cls := "BagPhrases", name := "takeWord", desc := "(I)V" } : Jvm.MethodName)) ∈ lw_all := lw_g (lw_at lw_m3 9 rfl) rfl
theorem q574 : (Jvm.Cond.codeWith ({ cls := "BagPhrases", name := "takeWord", desc := "(I)V" } : Jvm.MethodName) prog_1_method_62_code (4 : Nat) (Option.none : Option Jvm.ClassFile.FieldType) [((92 : Nat), (102 : Nat), (105 : Nat), (343 : Nat))]) ∈ lw_all := lw_g (lw_at lw_m3 10 rfl) rfl
theorem q617 : (Jvm.Cond.methodLink "BagPhrases" (350 : Nat) ({ cls := "BagPhrases$Banned", name := "<init>", desc := "(I)V" } : Jvm.MethodName)) ∈ lw_all := lw_g (lw_at lw_m3 53 rfl) rfl
theorem q653 : (Jvm.Cond.methodLink "BagPhrases" (354 : Nat) ({ cls := "BagPhrases$Unlet", name := "<init>", desc := "(I)V" } : Jvm.MethodName)) ∈ lw_all := lw_g (lw_at lw_m3 89 rfl) rfl
theorem q660 : (Jvm.Cond.methodLink "BagPhrases" (355 : Nat) ({ cls := "BagPhrases", name := "takeLetters", desc := "(LBagPhrases$Word;)V" } : Jvm.MethodName)) ∈ lw_all := lw_g (lw_at lw_m3 96 rfl) rfl
theorem q661 : (Jvm.Cond.privateMethod ({ cls := "BagPhrases", name := "takeLetters", desc := "(LBagPhrases$Word;)V" } : Jvm.MethodName)) ∈ lw_tbl := lw_at lw_m3 97 rfl
theorem q662 : (Jvm.Cond.instanceMethod ({ cls := "BagPhrases", name := "takeLetters", desc := "(LBagPhrases$Word;)V" } : Jvm.MethodName)) ∈ lw_all := lw_g (lw_at lw_m3 98 rfl) rfl
theorem q663 : (Jvm.Cond.code ({ cls := "BagPhrases", name := "takeLetters", desc := "(LBagPhrases$Word;)V" } : Jvm.MethodName) prog_1_method_61_code (4 : Nat) (Option.none : Option Jvm.ClassFile.FieldType)) ∈ lw_all := lw_g (lw_at lw_m3 99 rfl) rfl
theorem q672 : (Jvm.Cond.methodLink "BagPhrases" (345 : Nat) ({ cls := "BagPhrases$Amiss", name := "<init>", desc := "(II)V" } : Jvm.MethodName)) ∈ lw_all := lw_g (lw_at lw_m3 108 rfl) rfl
theorem q680 : (Jvm.Cond.fieldLinkNest "BagPhrases" (396 : Nat) "BagPhrases$Amiss" "letter" "I" "BagPhrases") ∈ lw_tbl := lw_at lw_m3 116 rfl
theorem q682 : (Jvm.Cond.fieldLinkNest "BagPhrases" (399 : Nat) "BagPhrases$Amiss" "many" "I" "BagPhrases") ∈ lw_tbl := lw_at lw_m3 118 rfl
theorem q689 : (Jvm.Cond.classLink "BagPhrases" (358 : Nat) "BagPhrases$Short") ∈ lw_all := lw_g (lw_at lw_m3 125 rfl) rfl
theorem q698 : (Jvm.Cond.methodLink "BagPhrases" (360 : Nat) ({ cls := "BagPhrases$Short", name := "<init>", desc := "(ILBagPhrases$Amiss;)V" } : Jvm.MethodName)) ∈ lw_all := lw_g (lw_at lw_m3 134 rfl) rfl
theorem q713 : (Jvm.Cond.methodLink "BagPhrases" (374 : Nat) ({ cls := "BagPhrases$Wordless", name := "<init>", desc := "()V" } : Jvm.MethodName)) ∈ lw_all := lw_g (lw_at lw_m3 149 rfl) rfl
theorem q720 : (Jvm.Cond.methodLink "BagPhrases" (375 : Nat) ({ cls := "BagPhrases", name := "seeLeft", desc := "()V" } : Jvm.MethodName)) ∈ lw_all := lw_g (lw_at lw_m3 156 rfl) rfl
theorem q721 : (Jvm.Cond.privateMethod ({ cls := "BagPhrases", name := "seeLeft", desc := "()V" } : Jvm.MethodName)) ∈ lw_tbl := lw_at lw_m3 157 rfl
theorem q722 : (Jvm.Cond.instanceMethod ({ cls := "BagPhrases", name := "seeLeft", desc := "()V" } : Jvm.MethodName)) ∈ lw_all := lw_g (lw_at lw_m3 158 rfl) rfl
theorem q723 : (Jvm.Cond.code ({ cls := "BagPhrases", name := "seeLeft", desc := "()V" } : Jvm.MethodName) prog_1_method_63_code (2 : Nat) (Option.none : Option Jvm.ClassFile.FieldType)) ∈ lw_all := lw_g (lw_at lw_m3 159 rfl) rfl
theorem q724 : (Jvm.Cond.classLink "BagPhrases" (378 : Nat) "BagPhrases$Over") ∈ lw_all := lw_g (lw_at lw_m3 160 rfl) rfl
theorem q733 : (Jvm.Cond.methodLink "BagPhrases" (380 : Nat) ({ cls := "BagPhrases$Over", name := "<init>", desc := "(ILBagPhrases$Amiss;)V" } : Jvm.MethodName)) ∈ lw_all := lw_g (lw_at lw_m3 169 rfl) rfl
theorem q740 : (Jvm.Cond.classLink "BagPhrases" (381 : Nat) "BagPhrases$Unended") ∈ lw_all := lw_g (lw_at lw_m3 176 rfl) rfl
theorem q749 : (Jvm.Cond.methodLink "BagPhrases" (383 : Nat) ({ cls := "BagPhrases$Unended", name := "<init>", desc := "(I)V" } : Jvm.MethodName)) ∈ lw_all := lw_g (lw_at lw_m3 185 rfl) rfl
theorem q756 : (Jvm.Cond.methodLink "BagPhrases" (403 : Nat) ({ cls := "BagPhrases", name := "tellMisfit", desc := "(LBagPhrases$Misfit;I)I" } : Jvm.MethodName)) ∈ lw_all := lw_g (lw_at lw_m3 192 rfl) rfl
theorem q757 : (Jvm.Cond.static ({ cls := "BagPhrases", name := "tellMisfit", desc := "(LBagPhrases$Misfit;I)I" } : Jvm.MethodName)) ∈ lw_all := lw_g (lw_at lw_m3 193 rfl) rfl
theorem q758 : (Jvm.Cond.code ({ cls := "BagPhrases", name := "tellMisfit", desc := "(LBagPhrases$Misfit;I)I" } : Jvm.MethodName) prog_1_method_65_code (4 : Nat) (Option.some Jvm.ClassFile.FieldType.int)) ∈ lw_all := lw_g (lw_at lw_m3 194 rfl) rfl
theorem q759 : (Jvm.Cond.methodLink "BagPhrases" (384 : Nat) ({ cls := "BagPhrases$Misfit", name := "reason", desc := "()I" } : Jvm.MethodName)) ∈ lw_all := lw_g (lw_at lw_m3 195 rfl) rfl
theorem q780 : (Jvm.Cond.methodLink "BagPhrases" (389 : Nat) ({ cls := "BagPhrases$Misfit", name := "place", desc := "()I" } : Jvm.MethodName)) ∈ lw_all := lw_g (lw_at lw_m3 216 rfl) rfl
theorem q790 : (Jvm.Cond.methodLink "BagPhrases" (392 : Nat) ({ cls := "BagPhrases$Misfit", name := "getCause", desc := "()Ljava/lang/Throwable;" } : Jvm.MethodName)) ∈ lw_all := lw_g (lw_at lw_m3 226 rfl) rfl
theorem q802 : (Jvm.Cond.instanceMethod ({ cls := "BagPhrases", name := "number", desc := "()J" } : Jvm.MethodName)) ∈ lw_all := lw_g (lw_at lw_m3 238 rfl) rfl
theorem q803 : (Jvm.Cond.selects "BagPhrases" ({ cls := "BagPhrases", name := "number", desc := "()J" } : Jvm.MethodName) ({ cls := "BagPhrases", name := "number", desc := "()J" } : Jvm.MethodName)) ∈ lw_all := lw_g (lw_at lw_m3 239 rfl) rfl
theorem q804 : (Jvm.Cond.code ({ cls := "BagPhrases", name := "number", desc := "()J" } : Jvm.MethodName) prog_1_method_68_code (7 : Nat) (Option.some Jvm.ClassFile.FieldType.long)) ∈ lw_all := lw_g (lw_at lw_m4 0 rfl) rfl
theorem q805 : (Jvm.Cond.methodLink "BagPhrases" (407 : Nat) ({ cls := "BagPhrases", name := "isPhrase", desc := "()Z" } : Jvm.MethodName)) ∈ lw_all := lw_g (lw_at lw_m4 1 rfl) rfl
theorem q806 : (Jvm.Cond.privateMethod ({ cls := "BagPhrases", name := "isPhrase", desc := "()Z" } : Jvm.MethodName)) ∈ lw_tbl := lw_at lw_m4 2 rfl
theorem q807 : (Jvm.Cond.instanceMethod ({ cls := "BagPhrases", name := "isPhrase", desc := "()Z" } : Jvm.MethodName)) ∈ lw_all := lw_g (lw_at lw_m4 3 rfl) rfl
theorem q808 : (Jvm.Cond.codeWith ({ cls := "BagPhrases", name := "isPhrase", desc := "()Z" } : Jvm.MethodName) prog_1_method_67_code (2 : Nat) (Option.some Jvm.ClassFile.FieldType.boolean) [((0 : Nat), (5 : Nat), (6 : Nat), (385 : Nat))]) ∈ lw_all := lw_g (lw_at lw_m4 4 rfl) rfl
theorem q810 : (Jvm.Cond.instanceMethod ({ cls := "BagPhrases", name := "nearly", desc := "(I)I" } : Jvm.MethodName)) ∈ lw_all := lw_g (lw_at lw_m4 6 rfl) rfl
theorem q811 : (Jvm.Cond.selects "BagPhrases" ({ cls := "BagPhrases", name := "nearly", desc := "(I)I" } : Jvm.MethodName) ({ cls := "BagPhrases", name := "nearly", desc := "(I)I" } : Jvm.MethodName)) ∈ lw_all := lw_g (lw_at lw_m4 7 rfl) rfl
theorem q812 : (Jvm.Cond.code ({ cls := "BagPhrases", name := "nearly", desc := "(I)I" } : Jvm.MethodName) prog_1_method_69_code (4 : Nat) (Option.some Jvm.ClassFile.FieldType.int)) ∈ lw_all := lw_g (lw_at lw_m4 8 rfl) rfl
theorem q814 : (Jvm.Cond.instanceMethod ({ cls := "BagPhrases", name := "judge", desc := "(IJ)I" } : Jvm.MethodName)) ∈ lw_all := lw_g (lw_at lw_m4 10 rfl) rfl
theorem q815 : (Jvm.Cond.selects "BagPhrases" ({ cls := "BagPhrases", name := "judge", desc := "(IJ)I" } : Jvm.MethodName) ({ cls := "BagPhrases", name := "judge", desc := "(IJ)I" } : Jvm.MethodName)) ∈ lw_all := lw_g (lw_at lw_m4 11 rfl) rfl
theorem q816 : (Jvm.Cond.code ({ cls := "BagPhrases", name := "judge", desc := "(IJ)I" } : Jvm.MethodName) prog_1_method_73_code (6 : Nat) (Option.some Jvm.ClassFile.FieldType.int)) ∈ lw_all := lw_g (lw_at lw_m4 12 rfl) rfl
theorem q817 : (Jvm.Cond.constantLong "BagPhrases" (415 : Nat) (4 : Int64)) ∈ lw_all := lw_g (lw_at lw_m4 13 rfl) rfl
theorem q818 : (Jvm.Cond.methodLink "BagPhrases" (417 : Nat) ({ cls := "BagPhrases", name := "tenThousandTo", desc := "(I)J" } : Jvm.MethodName)) ∈ lw_all := lw_g (lw_at lw_m4 14 rfl) rfl
theorem q819 : (Jvm.Cond.static ({ cls := "BagPhrases", name := "tenThousandTo", desc := "(I)J" } : Jvm.MethodName)) ∈ lw_all := lw_g (lw_at lw_m4 15 rfl) rfl
theorem q820 : (Jvm.Cond.code ({ cls := "BagPhrases", name := "tenThousandTo", desc := "(I)J" } : Jvm.MethodName) prog_1_method_72_code (4 : Nat) (Option.some Jvm.ClassFile.FieldType.long)) ∈ lw_all := lw_g (lw_at lw_m4 16 rfl) rfl
theorem q821 : (Jvm.Cond.constantLong "BagPhrases" (413 : Nat) (10000 : Int64)) ∈ lw_all := lw_g (lw_at lw_m4 17 rfl) rfl
theorem q822 : (Jvm.Cond.methodLink "BagPhrases" (420 : Nat) ({ cls := "BagPhrases", name := "doThing", desc := "(IIII)Z" } : Jvm.MethodName)) ∈ lw_all := lw_g (lw_at lw_m4 18 rfl) rfl
theorem q823 : (Jvm.Cond.privateMethod ({ cls := "BagPhrases", name := "doThing", desc := "(IIII)Z" } : Jvm.MethodName)) ∈ lw_tbl := lw_at lw_m4 19 rfl
theorem q824 : (Jvm.Cond.instanceMethod ({ cls := "BagPhrases", name := "doThing", desc := "(IIII)Z" } : Jvm.MethodName)) ∈ lw_all := lw_g (lw_at lw_m4 20 rfl) rfl
theorem q825 : (Jvm.Cond.code ({ cls := "BagPhrases", name := "doThing", desc := "(IIII)Z" } : Jvm.MethodName) prog_1_method_71_code (12 : Nat) (Option.some Jvm.ClassFile.FieldType.boolean)) ∈ lw_all := lw_g (lw_at lw_m4 21 rfl) rfl
theorem q826 : (Jvm.Cond.methodLink "BagPhrases" (410 : Nat) ({ cls := "BagPhrases", name := "lookTrial", desc := "()V" } : Jvm.MethodName)) ∈ lw_all := lw_g (lw_at lw_m4 22 rfl) rfl
theorem q827 : (Jvm.Cond.privateMethod ({ cls := "BagPhrases", name := "lookTrial", desc := "()V" } : Jvm.MethodName)) ∈ lw_tbl := lw_at lw_m4 23 rfl
theorem q828 : (Jvm.Cond.instanceMethod ({ cls := "BagPhrases", name := "lookTrial", desc := "()V" } : Jvm.MethodName)) ∈ lw_all := lw_g (lw_at lw_m4 24 rfl) rfl
theorem q829 : (Jvm.Cond.code ({ cls := "BagPhrases", name := "lookTrial", desc := "()V" } : Jvm.MethodName) prog_1_method_70_code (1 : Nat) (Option.none : Option Jvm.ClassFile.FieldType)) ∈ lw_all := lw_g (lw_at lw_m4 25 rfl) rfl
theorem q831 : (Jvm.Cond.instanceMethod ({ cls := "BagPhrases", name := "see", desc := "(III)I" } : Jvm.MethodName)) ∈ lw_all := lw_g (lw_at lw_m4 27 rfl) rfl
theorem q832 : (Jvm.Cond.selects "BagPhrases" ({ cls := "BagPhrases", name := "see", desc := "(III)I" } : Jvm.MethodName) ({ cls := "BagPhrases", name := "see", desc := "(III)I" } : Jvm.MethodName)) ∈ lw_all := lw_g (lw_at lw_m4 28 rfl) rfl
theorem q833 : (Jvm.Cond.code ({ cls := "BagPhrases", name := "see", desc := "(III)I" } : Jvm.MethodName) prog_1_method_74_code (4 : Nat) (Option.some Jvm.ClassFile.FieldType.int)) ∈ lw_all := lw_g (lw_at lw_m4 29 rfl) rfl
theorem q835 : (Jvm.Cond.instanceMethod ({ cls := "BagPhrases", name := "unsee", desc := "()I" } : Jvm.MethodName)) ∈ lw_all := lw_g (lw_at lw_m4 31 rfl) rfl
theorem q836 : (Jvm.Cond.selects "BagPhrases" ({ cls := "BagPhrases", name := "unsee", desc := "()I" } : Jvm.MethodName) ({ cls := "BagPhrases", name := "unsee", desc := "()I" } : Jvm.MethodName)) ∈ lw_all := lw_g (lw_at lw_m4 32 rfl) rfl
theorem q837 : (Jvm.Cond.code ({ cls := "BagPhrases", name := "unsee", desc := "()I" } : Jvm.MethodName) prog_1_method_75_code (2 : Nat) (Option.some Jvm.ClassFile.FieldType.int)) ∈ lw_all := lw_g (lw_at lw_m4 33 rfl) rfl
theorem q839 : (Jvm.Cond.instanceMethod ({ cls := "BagPhrases", name := "left", desc := "(I)I" } : Jvm.MethodName)) ∈ lw_all := lw_g (lw_at lw_m4 35 rfl) rfl
theorem q840 : (Jvm.Cond.selects "BagPhrases" ({ cls := "BagPhrases", name := "left", desc := "(I)I" } : Jvm.MethodName) ({ cls := "BagPhrases", name := "left", desc := "(I)I" } : Jvm.MethodName)) ∈ lw_all := lw_g (lw_at lw_m4 36 rfl) rfl
theorem q841 : (Jvm.Cond.code ({ cls := "BagPhrases", name := "left", desc := "(I)I" } : Jvm.MethodName) prog_1_method_78_code (7 : Nat) (Option.some Jvm.ClassFile.FieldType.int)) ∈ lw_all := lw_g (lw_at lw_m4 37 rfl) rfl
theorem q842 : (Jvm.Cond.constantLong "BagPhrases" (426 : Nat) (2000 : Int64)) ∈ lw_all := lw_g (lw_at lw_m4 38 rfl) rfl
theorem q843 : (Jvm.Cond.methodLink "BagPhrases" (428 : Nat) ({ cls := "BagPhrases", name := "agrees", desc := "()Z" } : Jvm.MethodName)) ∈ lw_all := lw_g (lw_at lw_m4 39 rfl) rfl
theorem q844 : (Jvm.Cond.privateMethod ({ cls := "BagPhrases", name := "agrees", desc := "()Z" } : Jvm.MethodName)) ∈ lw_tbl := lw_at lw_m4 40 rfl
theorem q845 : (Jvm.Cond.instanceMethod ({ cls := "BagPhrases", name := "agrees", desc := "()Z" } : Jvm.MethodName)) ∈ lw_all := lw_g (lw_at lw_m4 41 rfl) rfl
theorem q846 : (Jvm.Cond.code ({ cls := "BagPhrases", name := "agrees", desc := "()Z" } : Jvm.MethodName) prog_1_method_77_code (3 : Nat) (Option.some Jvm.ClassFile.FieldType.boolean)) ∈ lw_all := lw_g (lw_at lw_m4 42 rfl) rfl
theorem q847 : (Jvm.Cond.methodLink "BagPhrases" (423 : Nat) ({ cls := "BagPhrases", name := "isSo", desc := "(II)Z" } : Jvm.MethodName)) ∈ lw_all := lw_g (lw_at lw_m4 43 rfl) rfl
theorem q848 : (Jvm.Cond.privateMethod ({ cls := "BagPhrases", name := "isSo", desc := "(II)Z" } : Jvm.MethodName)) ∈ lw_tbl := lw_at lw_m4 44 rfl
theorem q849 : (Jvm.Cond.instanceMethod ({ cls := "BagPhrases", name := "isSo", desc := "(II)Z" } : Jvm.MethodName)) ∈ lw_all := lw_g (lw_at lw_m4 45 rfl) rfl
theorem q850 : (Jvm.Cond.code ({ cls := "BagPhrases", name := "isSo", desc := "(II)Z" } : Jvm.MethodName) prog_1_method_76_code (5 : Nat) (Option.some Jvm.ClassFile.FieldType.boolean)) ∈ lw_all := lw_g (lw_at lw_m4 46 rfl) rfl
theorem q852 : (Jvm.Cond.instanceMethod ({ cls := "BagPhrases", name := "share", desc := "(IZ)J" } : Jvm.MethodName)) ∈ lw_all := lw_g (lw_at lw_m4 48 rfl) rfl
theorem q853 : (Jvm.Cond.selects "BagPhrases" ({ cls := "BagPhrases", name := "share", desc := "(IZ)J" } : Jvm.MethodName) ({ cls := "BagPhrases", name := "share", desc := "(IZ)J" } : Jvm.MethodName)) ∈ lw_all := lw_g (lw_at lw_m4 49 rfl) rfl
theorem q854 : (Jvm.Cond.code ({ cls := "BagPhrases", name := "share", desc := "(IZ)J" } : Jvm.MethodName) prog_1_method_82_code (9 : Nat) (Option.some Jvm.ClassFile.FieldType.long)) ∈ lw_all := lw_g (lw_at lw_m4 50 rfl) rfl
theorem q855 : (Jvm.Cond.methodLink "BagPhrases" (435 : Nat) ({ cls := "java/lang/Integer", name := "bitCount", desc := "(I)I" } : Jvm.MethodName)) ∈ lw_all := lw_g (lw_at lw_m4 51 rfl) rfl
theorem q861 : (Jvm.Cond.constantLong "BagPhrases" (440 : Nat) (-3 : Int64)) ∈ lw_all := lw_g (lw_at lw_m4 57 rfl) rfl
theorem q862 : (Jvm.Cond.methodLink "BagPhrases" (442 : Nat) ({ cls := "BagPhrases", name := "layWorth", desc := "(I)V" } : Jvm.MethodName)) ∈ lw_all := lw_g (lw_at lw_m4 58 rfl) rfl
theorem q863 : (Jvm.Cond.privateMethod ({ cls := "BagPhrases", name := "layWorth", desc := "(I)V" } : Jvm.MethodName)) ∈ lw_tbl := lw_at lw_m4 59 rfl
theorem q864 : (Jvm.Cond.instanceMethod ({ cls := "BagPhrases", name := "layWorth", desc := "(I)V" } : Jvm.MethodName)) ∈ lw_all := lw_g (lw_at lw_m4 60 rfl) rfl
theorem q865 : (Jvm.Cond.code ({ cls := "BagPhrases", name := "layWorth", desc := "(I)V" } : Jvm.MethodName) prog_1_method_81_code (3 : Nat) (Option.none : Option Jvm.ClassFile.FieldType)) ∈ lw_all := lw_g (lw_at lw_m4 61 rfl) rfl
theorem q866 : (Jvm.Cond.methodLink "BagPhrases" (445 : Nat) ({ cls := "BagPhrases", name := "factorial", desc := "(I)I" } : Jvm.MethodName)) ∈ lw_all := lw_g (lw_at lw_m4 62 rfl) rfl
theorem q867 : (Jvm.Cond.static ({ cls := "BagPhrases", name := "factorial", desc := "(I)I" } : Jvm.MethodName)) ∈ lw_all := lw_g (lw_at lw_m4 63 rfl) rfl
theorem q868 : (Jvm.Cond.code ({ cls := "BagPhrases", name := "factorial", desc := "(I)I" } : Jvm.MethodName) prog_1_method_80_code (3 : Nat) (Option.some Jvm.ClassFile.FieldType.int)) ∈ lw_all := lw_g (lw_at lw_m4 64 rfl) rfl
theorem q869 : (Jvm.Cond.methodLink "BagPhrases" (448 : Nat) ({ cls := "BagPhrases", name := "common", desc := "(JJ)J" } : Jvm.MethodName)) ∈ lw_all := lw_g (lw_at lw_m4 65 rfl) rfl
theorem q870 : (Jvm.Cond.static ({ cls := "BagPhrases", name := "common", desc := "(JJ)J" } : Jvm.MethodName)) ∈ lw_all := lw_g (lw_at lw_m4 66 rfl) rfl
theorem q871 : (Jvm.Cond.code ({ cls := "BagPhrases", name := "common", desc := "(JJ)J" } : Jvm.MethodName) prog_1_method_79_code (10 : Nat) (Option.some Jvm.ClassFile.FieldType.long)) ∈ lw_all := lw_g (lw_at lw_m4 67 rfl) rfl
theorem q872 : (Jvm.Cond.methodLink "BagPhrases" (431 : Nat) ({ cls := "java/lang/Math", name := "abs", desc := "(J)J" } : Jvm.MethodName)) ∈ lw_all := lw_g (lw_at lw_m4 68 rfl) rfl
theorem q876 : (Jvm.Cond.instanceMethod ({ cls := "BagPhrases", name := "hope", desc := "(IZ)I" } : Jvm.MethodName)) ∈ lw_all := lw_g (lw_at lw_m4 72 rfl) rfl
theorem q877 : (Jvm.Cond.selects "BagPhrases" ({ cls := "BagPhrases", name := "hope", desc := "(IZ)I" } : Jvm.MethodName) ({ cls := "BagPhrases", name := "hope", desc := "(IZ)I" } : Jvm.MethodName)) ∈ lw_all := lw_g (lw_at lw_m4 73 rfl) rfl
theorem q878 : (Jvm.Cond.code ({ cls := "BagPhrases", name := "hope", desc := "(IZ)I" } : Jvm.MethodName) prog_1_method_84_code (8 : Nat) (Option.some Jvm.ClassFile.FieldType.int)) ∈ lw_all := lw_g (lw_at lw_m4 74 rfl) rfl
theorem q879 : (Jvm.Cond.constantLong "BagPhrases" (452 : Nat) (10 : Int64)) ∈ lw_all := lw_g (lw_at lw_m4 75 rfl) rfl
theorem q880 : (Jvm.Cond.methodLink "BagPhrases" (454 : Nat) ({ cls := "BagPhrases", name := "whole", desc := "(II)I" } : Jvm.MethodName)) ∈ lw_all := lw_g (lw_at lw_m4 76 rfl) rfl
theorem q881 : (Jvm.Cond.static ({ cls := "BagPhrases", name := "whole", desc := "(II)I" } : Jvm.MethodName)) ∈ lw_all := lw_g (lw_at lw_m4 77 rfl) rfl
theorem q882 : (Jvm.Cond.code ({ cls := "BagPhrases", name := "whole", desc := "(II)I" } : Jvm.MethodName) prog_1_method_83_code (4 : Nat) (Option.some Jvm.ClassFile.FieldType.int)) ∈ lw_all := lw_g (lw_at lw_m4 78 rfl) rfl
theorem q884 : (Jvm.Cond.instanceMethod ({ cls := "BagPhrases", name := "seed", desc := "(J)J" } : Jvm.MethodName)) ∈ lw_all := lw_g (lw_at lw_m4 80 rfl) rfl
theorem q885 : (Jvm.Cond.selects "BagPhrases" ({ cls := "BagPhrases", name := "seed", desc := "(J)J" } : Jvm.MethodName) ({ cls := "BagPhrases", name := "seed", desc := "(J)J" } : Jvm.MethodName)) ∈ lw_all := lw_g (lw_at lw_m4 81 rfl) rfl
theorem q886 : (Jvm.Cond.code ({ cls := "BagPhrases", name := "seed", desc := "(J)J" } : Jvm.MethodName) prog_1_method_85_code (5 : Nat) (Option.some Jvm.ClassFile.FieldType.long)) ∈ lw_all := lw_g (lw_at lw_m4 82 rfl) rfl
theorem q888 : (Jvm.Cond.instanceMethod ({ cls := "BagPhrases", name := "drawn", desc := "(I)I" } : Jvm.MethodName)) ∈ lw_all := lw_g (lw_at lw_m4 84 rfl) rfl
theorem q889 : (Jvm.Cond.selects "BagPhrases" ({ cls := "BagPhrases", name := "drawn", desc := "(I)I" } : Jvm.MethodName) ({ cls := "BagPhrases", name := "drawn", desc := "(I)I" } : Jvm.MethodName)) ∈ lw_all := lw_g (lw_at lw_m4 85 rfl) rfl
theorem q890 : (Jvm.Cond.code ({ cls := "BagPhrases", name := "drawn", desc := "(I)I" } : Jvm.MethodName) prog_1_method_86_code (6 : Nat) (Option.some Jvm.ClassFile.FieldType.int)) ∈ lw_all := lw_g (lw_at lw_m4 86 rfl) rfl
theorem q891 : (Jvm.Cond.constantLong "BagPhrases" (461 : Nat) (20 : Int64)) ∈ lw_all := lw_g (lw_at lw_m4 87 rfl) rfl
theorem q892 : (Jvm.Cond.constantLong "BagPhrases" (463 : Nat) (6364136223846793005 : Int64)) ∈ lw_all := lw_g (lw_at lw_m4 88 rfl) rfl
theorem q893 : (Jvm.Cond.constantLong "BagPhrases" (465 : Nat) (1442695040888963407 : Int64)) ∈ lw_all := lw_g (lw_at lw_m4 89 rfl) rfl
theorem q895 : (Jvm.Cond.instanceMethod ({ cls := "BagPhrases", name := "keep", desc := "(I)I" } : Jvm.MethodName)) ∈ lw_all := lw_g (lw_at lw_m4 91 rfl) rfl
theorem q896 : (Jvm.Cond.selects "BagPhrases" ({ cls := "BagPhrases", name := "keep", desc := "(I)I" } : Jvm.MethodName) ({ cls := "BagPhrases", name := "keep", desc := "(I)I" } : Jvm.MethodName)) ∈ lw_all := lw_g (lw_at lw_m4 92 rfl) rfl
theorem q897 : (Jvm.Cond.code ({ cls := "BagPhrases", name := "keep", desc := "(I)I" } : Jvm.MethodName) prog_1_method_87_code (2 : Nat) (Option.some Jvm.ClassFile.FieldType.int)) ∈ lw_all := lw_g (lw_at lw_m4 93 rfl) rfl
theorem q899 : (Jvm.Cond.instanceMethod ({ cls := "BagPhrases", name := "again", desc := "(I)I" } : Jvm.MethodName)) ∈ lw_all := lw_g (lw_at lw_m4 95 rfl) rfl
theorem q900 : (Jvm.Cond.selects "BagPhrases" ({ cls := "BagPhrases", name := "again", desc := "(I)I" } : Jvm.MethodName) ({ cls := "BagPhrases", name := "again", desc := "(I)I" } : Jvm.MethodName)) ∈ lw_all := lw_g (lw_at lw_m4 96 rfl) rfl
theorem q901 : (Jvm.Cond.code ({ cls := "BagPhrases", name := "again", desc := "(I)I" } : Jvm.MethodName) prog_1_method_88_code (2 : Nat) (Option.some Jvm.ClassFile.FieldType.int)) ∈ lw_all := lw_g (lw_at lw_m4 97 rfl) rfl
theorem in_X0 : ∀ w ∈ wsX00, w ∈ lw_all := lw_in wsX00 [208, 210, 212, 214, 216, 218, 220, 222, 224, 226, 228, 230, 232, 234, 236, 238, 240, 242, 244, 246, 248, 250, 252, 254, 256, 258, 260, 262, 264, 266, 268, 270, 272, 274, 276, 278] (by decide +kernel) (by decide +kernel)
